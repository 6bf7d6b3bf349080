/-! ARRAYLIST: what its methods compute, its contracts, walked (printed by a program of wip/D-56275w/gen) -/
theorem df_J14 : ∀ j, j < 4 → defaultValue (tyJ14 j) = vp_V [.int (nI 0), .int (nI 0), .int (nI 0), .null] j := by decide
def w_J0_init (post : Prop)  : Prop :=
  post 
def rm_J0_init : Room := { frames := 1, cells := 0, slots := 0, locals := 20 }
set_option maxHeartbeats 4000000 in
set_option maxRecDepth 100000 in
theorem met_J0_init (l : Launch) (D : va_G) (dA : Nat → ClassId) (cx : CXt) (q_x0 : Nat) (x0_modCount : Int32) (x0_size : Int32) (post : Prop) (hw : w_J0_init post ) : Met l yJ0_init (ws_ yJ0_init cJ0_init 1 none) rm_J0_init (va_Pc [.ref q_x0] (rdC D dA cx [(q_x0, .inr (9, [.int x0_modCount, .null, .int x0_size]))])) (va_Sv (fun _ => post)) 0 0 (fun _ => False) := by
  refine Met.ofW (cc := cJ0_init) (maxL := 1) (ret := none) (by decide) rfl ?_
  intro p e s m args below meth c s₁ B hml hv
  obtain ⟨rfl, hP, hK, hC⟩ := hv
  have hx := B.exec
  have hb := B.bytes
  have hr := B.returns
  have hts := atoms_spec (ws := (ws_ yJ0_init cJ0_init 1 none)) B.pre
  have hts : ∀ w ∈ lw_all, w.before _ s = true := fun w h => hts w (List.mem_cons_of_mem _ h)
  have hown : s.vm.findClass RJ0 = some m.cls := findClass_of_methodNamed B.named
  have hlocks := B.notSynchronized
  have hSx : CallFix p m c cJ0_init 1 s _ lw_all RJ0 := ⟨hx, hb, hml, hown, hts⟩
  have hin : meth.name = "<init>" := (name_of_methodNamed B.named B.method).1
  have hNW := hC.1
  have hl := lv_entry ([.ref q_x0]) (n := 1) (Nat.le_of_ble_eq_true rfl)
  rw [lg_entry_eq]
  generalize (lg_sl ([.ref q_x0]) ++ List.replicate (1 - (lg_sl ([.ref q_x0])).length) Slot.unset).toArray = ls at hl ⊢
  have hl : lv_has ls 1 [(0, .ref q_x0)] := hl
  refine lv_aload_n hx hb dJ0_init_0 rfl (lv_at hl 0 rfl) ?_
  refine W.objInit hx hb hown (hts _ q130) (hts _ q111) (hts _ q112) rfl (by rw [hml]; exact hl.1) rfl dJ0_init_1 (Nat.le_of_ble_eq_true rfl) (Nat.le_of_ble_eq_true rfl) ?_
  refine W.eq (g2 := F0 m 4 ls []) rfl ?_
  exact W.vret hx hb hr (fun t ht hW => ⟨rfl, hw, ht⟩) (fun _ h => by cases h) dJ0_init_4
def w_J1_init (post : Prop)  : Prop :=
  w_J0_init (post ) 
theorem hd_J0_init : yJ0_init.cls ≠ "java/lang/invoke/MethodHandle" ∧ yJ0_init.cls ≠ "java/lang/invoke/VarHandle" ∧ (parseMethodDescriptor yJ0_init.desc).map (fun d => d.parameters.length) = some 0 := by decide +kernel
def rm_J1_init : Room := { frames := 2, cells := 0, slots := 0, locals := 40 }
set_option maxHeartbeats 4000000 in
set_option maxRecDepth 100000 in
theorem met_J1_init (l : Launch) (D : va_G) (dA : Nat → ClassId) (cx : CXt) (sz : Nat) (q_x0 : Nat) (x0_modCount : Int32) (x0_size : Int32) (post : Prop) (hw : w_J1_init post ) : Met l yJ1_init (ws_ yJ1_init cJ1_init 1 none) rm_J1_init (va_Pc [.ref q_x0] (wrC D dA cx sz [(q_x0, .inr (9, [.int x0_modCount, .null, .int x0_size]))])) (va_Qv (fun (u : Unit) => post ) (fun (u : Unit) t => wrQ D dA (va_A [(q_x0, .inr (9, [.int x0_modCount, .null, .int x0_size]))] sz) [(q_x0, .inr (9, [.int (nI 0), .null, .int x0_size]))] t) (va_A [(q_x0, .inr (9, [.int x0_modCount, .null, .int x0_size]))] sz)) 0 0 (va_A [(q_x0, .inr (9, [.int x0_modCount, .null, .int x0_size]))] sz) := by
  refine Met.ofW (cc := cJ1_init) (maxL := 1) (ret := none) (by decide) rfl ?_
  intro p e s m args below meth c s₁ B hml hv
  obtain ⟨rfl, hsz, hP, hK, hD0, hC⟩ := hv
  have hx := B.exec
  have hb := B.bytes
  have hr := B.returns
  have hts := atoms_spec (ws := (ws_ yJ1_init cJ1_init 1 none)) B.pre
  have hts : ∀ w ∈ lw_all, w.before _ s = true := fun w h => hts w (List.mem_cons_of_mem _ h)
  have hown : s.vm.findClass RJ1 = some m.cls := findClass_of_methodNamed B.named
  have hlocks := B.notSynchronized
  have hSx : CallFix p m c cJ1_init 1 s _ lw_all RJ1 := ⟨hx, hb, hml, hown, hts⟩
  have hin : meth.name = "<init>" := (name_of_methodNamed B.named B.method).1
  subst hsz
  have hD := hD0.self (sz := s.heap.size)
  generalize hAe : va_A [(q_x0, .inr (9, [.int x0_modCount, .null, .int x0_size]))] s.heap.size = A at hD hC ⊢
  have hA : ∀ q : Nat, s.heap.size ≤ q → A q := fun q h => by rw [← hAe]; exact Or.inr h
  have hS : va_S A s.heap s.heap [] := va_S.rf
  have hNW := hC.1
  have hl := lv_entry ([.ref q_x0]) (n := 1) (Nat.le_of_ble_eq_true rfl)
  rw [lg_entry_eq]
  generalize (lg_sl ([.ref q_x0]) ++ List.replicate (1 - (lg_sl ([.ref q_x0])).length) Slot.unset).toArray = ls at hl ⊢
  have hl : lv_has ls 1 [(0, .ref q_x0)] := hl
  refine lv_aload_n hx hb dJ1_init_0 rfl (lv_at hl 0 rfl) ?_
  refine k_rv (kc_rI (As := []) (rest := []) hSx (met_J0_init l D dA cx q_x0 x0_modCount x0_size _ hw) q127 q128 q69 q129 rfl hd_J0_init ⟨Nat.le_of_ble_eq_true rfl, Nat.le_of_ble_eq_true rfl⟩ rfl rfl hP hK (hC.kept hS.2.1) [0] rfl rfl hl.1 (Nat.le_of_ble_eq_true rfl) rfl dJ1_init_1 ⟨Nat.le_refl 0, Nat.le_refl 0⟩) (fun hw => ?_)
  refine lv_aload_n hx hb dJ1_init_4 rfl (lv_at hl 0 rfl) ?_
  refine lv_iconst (v := (nI 0)) hx hb dJ1_init_5 (by decide) ?_
  refine va_put (D := D) (ci := 9) (v := .int (nI 0)) (ty := (.int)) (C := RJ2) (T := TJ2) (N := 3) hx hb hts in_J2 tyJ2 tyJ2_ok nmJ2 hown hK hP hD hS 0 rfl rfl 0 (by decide) (hts _ q137) (fun _ h9 => h9) rfl (by decide +kernel) rfl rfl (Nat.le_of_ble_eq_true rfl) dJ1_init_6 (fun H locs hP hD hS => ?_)
  have hP : va_P D vwCl [(q_x0, .inr (9, [.int (nI 0), .null, .int x0_size]))] H := hP
  have hD : va_D A [(q_x0, .inr (9, [.int (nI 0), .null, .int x0_size]))] := hD
  exact W.vret hx hb hr (fun t ht hW => ⟨⟨(), rfl, hw, by rw [ht]; exact hP.sub [0] rfl, va_K.moved hW.alike hK, hD.sub [0] (by decide) rfl⟩, hS.F ht⟩) hS.2.2 dJ1_init_9
def w_J2_init (post : Prop)  : Prop :=
  w_J1_init (post ) 
theorem hd_J1_init : yJ1_init.cls ≠ "java/lang/invoke/MethodHandle" ∧ yJ1_init.cls ≠ "java/lang/invoke/VarHandle" ∧ (parseMethodDescriptor yJ1_init.desc).map (fun d => d.parameters.length) = some 0 := by decide +kernel
def rm_J2_init : Room := { frames := 3, cells := 0, slots := 0, locals := 60 }
set_option maxHeartbeats 4000000 in
set_option maxRecDepth 100000 in
theorem met_J2_init (l : Launch) (D : va_G) (dA : Nat → ClassId) (cx : CXt) (sz : Nat) (q_x0 : Nat) (x0_modCount : Int32) (x0_size : Int32) (post : Prop) (hw : w_J2_init post ) : Met l yJ2_init (ws_ yJ2_init cJ2_init 1 none) rm_J2_init (va_Pc [.ref q_x0] (wrC D dA cx sz [(q_x0, .inr (9, [.int x0_modCount, .null, .int x0_size]))])) (va_Qv (fun (u : Unit) => post ) (fun (u : Unit) t => wrQ D dA (va_A [(q_x0, .inr (9, [.int x0_modCount, .null, .int x0_size]))] sz) [(q_x0, .inr (9, [.int (nI 0), .ref (cxE cx), .int x0_size]))] t) (va_A [(q_x0, .inr (9, [.int x0_modCount, .null, .int x0_size]))] sz)) 0 0 (va_A [(q_x0, .inr (9, [.int x0_modCount, .null, .int x0_size]))] sz) := by
  refine Met.ofW (cc := cJ2_init) (maxL := 1) (ret := none) (by decide) rfl ?_
  intro p e s m args below meth c s₁ B hml hv
  obtain ⟨rfl, hsz, hP, hK, hD0, hC⟩ := hv
  have hx := B.exec
  have hb := B.bytes
  have hr := B.returns
  have hts := atoms_spec (ws := (ws_ yJ2_init cJ2_init 1 none)) B.pre
  have hts : ∀ w ∈ lw_all, w.before _ s = true := fun w h => hts w (List.mem_cons_of_mem _ h)
  have hown : s.vm.findClass RJ2 = some m.cls := findClass_of_methodNamed B.named
  have hlocks := B.notSynchronized
  have hSx : CallFix p m c cJ2_init 1 s _ lw_all RJ2 := ⟨hx, hb, hml, hown, hts⟩
  have hin : meth.name = "<init>" := (name_of_methodNamed B.named B.method).1
  subst hsz
  have hD := hD0.self (sz := s.heap.size)
  generalize hAe : va_A [(q_x0, .inr (9, [.int x0_modCount, .null, .int x0_size]))] s.heap.size = A at hD hC ⊢
  have hA : ∀ q : Nat, s.heap.size ≤ q → A q := fun q h => by rw [← hAe]; exact Or.inr h
  have hS : va_S A s.heap s.heap [] := va_S.rf
  have hNW := hC.1
  have hl := lv_entry ([.ref q_x0]) (n := 1) (Nat.le_of_ble_eq_true rfl)
  rw [lg_entry_eq]
  generalize (lg_sl ([.ref q_x0]) ++ List.replicate (1 - (lg_sl ([.ref q_x0])).length) Slot.unset).toArray = ls at hl ⊢
  have hl : lv_has ls 1 [(0, .ref q_x0)] := hl
  refine lv_aload_n hx hb dJ2_init_0 rfl (lv_at hl 0 rfl) ?_
  refine k_wv (wn := fun (u : Unit) => [(q_x0, .inr (9, [.int (nI 0), .null, .int x0_size]))]) (wr := []) (kc_wI (As := []) (rest := []) hSx (met_J1_init l D dA cx _ q_x0 x0_modCount x0_size _ hw) q124 q125 q70 q126 rfl hd_J1_init ⟨Nat.le_of_ble_eq_true rfl, Nat.le_of_ble_eq_true rfl⟩ rfl rfl hP hK hD hS hA (hC.kept hS.2.1) [0] rfl (by decide) rfl rfl hl.1 (Nat.le_of_ble_eq_true rfl) rfl dJ2_init_1 ⟨Nat.le_refl 0, Nat.le_refl 0⟩) hP hD hS hA [0] [] [0] rfl rfl (by decide) (by decide) (by decide) (fun _ => rfl) (fun _ => rfl) (fun u H locs hw _ hP hD hS => ?_)
  have hP : va_P D vwCl [(q_x0, .inr (9, [.int (nI 0), .null, .int x0_size]))] H := hP
  have hD : va_D A [(q_x0, .inr (9, [.int (nI 0), .null, .int x0_size]))] := hD
  refine lv_aload_n hx hb dJ2_init_4 rfl (lv_at hl 0 rfl) ?_
  refine va_gets (v := .ref (cxE cx)) hx hb hC.de hS hown (hts _ q131) (fun _ h9 => h9) dJ2_init_5 ?_
  refine va_put (D := D) (ci := 9) (v := .ref (cxE cx)) (ty := (.array (.object "java/lang/Object"))) (C := RJ2) (T := TJ2) (N := 3) hx hb hts in_J2 tyJ2 tyJ2_ok nmJ2 hown hK hP hD hS 0 rfl rfl 1 (by decide) (hts _ q133) (fun _ h9 => h9) rfl (by decide +kernel) rfl rfl (Nat.le_of_ble_eq_true rfl) dJ2_init_8 (fun H locs hP hD hS => ?_)
  have hP : va_P D vwCl [(q_x0, .inr (9, [.int (nI 0), .ref (cxE cx), .int x0_size]))] H := hP
  have hD : va_D A [(q_x0, .inr (9, [.int (nI 0), .ref (cxE cx), .int x0_size]))] := hD
  exact W.vret hx hb hr (fun t ht hW => ⟨⟨(), rfl, hw, by rw [ht]; exact hP.sub [0] rfl, va_K.moved hW.alike hK, hD.sub [0] (by decide) rfl⟩, hS.F ht⟩) hS.2.2 dJ2_init_11
def w_J24_checkIndex (post : Int32 → Prop) (x0 : Int32) (x1 : Int32) : Prop :=
  w_J21_checkIndex_n (fun r2 => post r2) x0 x1
theorem gJ24_105 : GoodIn lw_all (va_wsS RJ24 105 yJ21_checkIndex (ws_ yJ21_checkIndex cJ21_checkIndex 3 (some .int))) := lw_S q1038 q795 q92 q796
def rm_J24_checkIndex : Room := { frames := 1, cells := 0, slots := 0, locals := 22 }
set_option maxHeartbeats 4000000 in
set_option maxRecDepth 100000 in
theorem met_J24_checkIndex (l : Launch) (x0 : Int32) (x1 : Int32) (post : Int32 → Prop) (hw : w_J24_checkIndex post x0 x1) : Met l yJ24_checkIndex (ws_ yJ24_checkIndex cJ24_checkIndex 2 (some .int)) rm_J24_checkIndex (va_Pc [.int x0, .int x1] (fun _ => True)) (vp_Si (fun r => post r)) 0 0 (fun _ => False) := by
  refine Met.ofW (cc := cJ24_checkIndex) (maxL := 2) (ret := (some .int)) (by decide) rfl ?_
  intro p e s m args below meth c s₁ B hml hv
  obtain ⟨rfl, -⟩ := hv
  have hx := B.exec
  have hb := B.bytes
  have hr := B.returns
  have hts := atoms_spec (ws := (ws_ yJ24_checkIndex cJ24_checkIndex 2 (some .int))) B.pre
  have hts : ∀ w ∈ lw_all, w.before _ s = true := fun w h => hts w (List.mem_cons_of_mem _ h)
  have hown : s.vm.findClass RJ24 = some m.cls := findClass_of_methodNamed B.named
  have hlocks := B.notSynchronized
  have hSx : CallFix p m c cJ24_checkIndex 2 s _ lw_all RJ24 := ⟨hx, hb, hml, hown, hts⟩
  have hl := lv_entry ([.int x0, .int x1]) (n := 2) (Nat.le_of_ble_eq_true rfl)
  rw [lg_entry_eq]
  generalize (lg_sl ([.int x0, .int x1]) ++ List.replicate (2 - (lg_sl ([.int x0, .int x1])).length) Slot.unset).toArray = ls at hl ⊢
  have hl : lv_has ls 2 [(0, .int x0), (1, .int x1)] := hl
  refine lv_iload_n hx hb dJ24_checkIndex_0 rfl (lv_at hl 0 rfl) ?_
  refine lv_iload_n hx hb dJ24_checkIndex_1 rfl (lv_at hl 1 rfl) ?_
  refine lv_null hx hb dJ24_checkIndex_2 ?_
  refine k_ri (k_pS (As := [.int x0, .int x1, .null]) (rest := []) hSx (met_J21_checkIndex_n l x0 x1 _ hw) gJ24_105 hd_J21_checkIndex ⟨Nat.le_of_ble_eq_true rfl, Nat.le_of_ble_eq_true rfl⟩ rfl rfl rfl hl.1 (Nat.le_of_ble_eq_true rfl) rfl dJ24_checkIndex_3 ⟨Nat.le_refl 0, Nat.le_refl 0⟩) (fun r2 hw => ?_)
  exact W.iret (v := r2) hx hb hr (fun t ht hW => ⟨r2, rfl, hw, ht⟩) (fun _ h => by cases h) dJ24_checkIndex_6
def w_J2_size (post : Int32 → Prop) (x0_size : Int32) : Prop :=
  post x0_size
def rm_J2_size : Room := { frames := 0, cells := 0, slots := 0, locals := 0 }
set_option maxHeartbeats 4000000 in
set_option maxRecDepth 100000 in
theorem met_J2_size (l : Launch) (D : va_G) (dA : Nat → ClassId) (cx : CXt) (q_x0 : Nat) (x0_modCount : Int32) (q_x0_elementData : Nat) (n_x0_elementData : Nat) (a_x0_elementData : (Nat → Option Nat)) (x0_size : Int32) (post : Int32 → Prop) (hw : w_J2_size post x0_size) : Met l yJ2_size (ws_ yJ2_size cJ2_size 1 (some .int)) rm_J2_size (va_Pc [.ref q_x0] (rdC D dA cx [(q_x0, .inr (9, [.int x0_modCount, .ref q_x0_elementData, .int x0_size])), (q_x0_elementData, .inl (dA 4, n_x0_elementData, .inr (.inr (.inr (.inr a_x0_elementData)))))])) (vp_Si (fun r => post r)) 0 0 (fun _ => False) := by
  refine Met.ofW (cc := cJ2_size) (maxL := 1) (ret := (some .int)) (by decide) rfl ?_
  intro p e s m args below meth c s₁ B hml hv
  obtain ⟨rfl, hP, hK, hC⟩ := hv
  have hx := B.exec
  have hb := B.bytes
  have hr := B.returns
  have hts := atoms_spec (ws := (ws_ yJ2_size cJ2_size 1 (some .int))) B.pre
  have hts : ∀ w ∈ lw_all, w.before _ s = true := fun w h => hts w (List.mem_cons_of_mem _ h)
  have hown : s.vm.findClass RJ2 = some m.cls := findClass_of_methodNamed B.named
  have hlocks := B.notSynchronized
  have hSx : CallFix p m c cJ2_size 1 s _ lw_all RJ2 := ⟨hx, hb, hml, hown, hts⟩
  have hNW := hC.1
  have hl := lv_entry ([.ref q_x0]) (n := 1) (Nat.le_of_ble_eq_true rfl)
  rw [lg_entry_eq]
  generalize (lg_sl ([.ref q_x0]) ++ List.replicate (1 - (lg_sl ([.ref q_x0])).length) Slot.unset).toArray = ls at hl ⊢
  have hl : lv_has ls 1 [(0, .ref q_x0)] := hl
  refine lv_aload_n hx hb dJ2_size_0 rfl (lv_at hl 0 rfl) ?_
  refine va_get (D := D) (ci := 9) (v := .int x0_size) (C := RJ2) (T := TJ2) (N := 3) hx hb hts in_J2 hown hK hP 0 rfl rfl 2 (by decide) (hts _ q136) (fun _ h9 => h9) rfl dJ2_size_1 ?_
  exact W.iret (v := x0_size) hx hb hr (fun t ht hW => ⟨x0_size, rfl, hw, ht⟩) (fun _ h => by cases h) dJ2_size_4
def w_J2_elementData (post : Nat → Prop) (n_x0_elementData : Nat) (a_x0_elementData : (Nat → Option Nat)) (x1 : Int32) : Prop :=
  (vp_in x1 n_x0_elementData ∧ (∃ y5 : Nat, a_x0_elementData (x1.toNatClampNeg) = some y5 ∧ post y5))
def rm_J2_elementData : Room := { frames := 0, cells := 0, slots := 0, locals := 0 }
set_option maxHeartbeats 4000000 in
set_option maxRecDepth 100000 in
theorem met_J2_elementData (l : Launch) (D : va_G) (dA : Nat → ClassId) (cx : CXt) (sz : Nat) (q_x0 : Nat) (x0_modCount : Int32) (q_x0_elementData : Nat) (n_x0_elementData : Nat) (a_x0_elementData : (Nat → Option Nat)) (x0_size : Int32) (x1 : Int32) (post : Nat → Prop) (hw : w_J2_elementData post n_x0_elementData a_x0_elementData x1) : Met l yJ2_elementData (ws_ yJ2_elementData cJ2_elementData 2 (some (.object "java/lang/Object"))) rm_J2_elementData (va_Pc [.ref q_x0, .int x1] (wrC D dA cx sz [(q_x0, .inr (9, [.int x0_modCount, .ref q_x0_elementData, .int x0_size])), (q_x0_elementData, .inl (dA 4, n_x0_elementData, .inr (.inr (.inr (.inr a_x0_elementData)))))])) (va_Qr (fun (u : Nat) => post u) (fun (u : Nat) a9 t => a9 = u ∧ wrQ D dA (va_A [(q_x0, .inr (9, [.int x0_modCount, .ref q_x0_elementData, .int x0_size])), (q_x0_elementData, .inl (dA 4, n_x0_elementData, .inr (.inr (.inr (.inr a_x0_elementData)))))] sz) [(q_x0, .inr (9, [.int x0_modCount, .ref q_x0_elementData, .int x0_size])), (q_x0_elementData, .inl (dA 4, n_x0_elementData, .inr (.inr (.inr (.inr a_x0_elementData)))))] t) (va_A [(q_x0, .inr (9, [.int x0_modCount, .ref q_x0_elementData, .int x0_size])), (q_x0_elementData, .inl (dA 4, n_x0_elementData, .inr (.inr (.inr (.inr a_x0_elementData)))))] sz)) 0 0 (va_A [(q_x0, .inr (9, [.int x0_modCount, .ref q_x0_elementData, .int x0_size])), (q_x0_elementData, .inl (dA 4, n_x0_elementData, .inr (.inr (.inr (.inr a_x0_elementData)))))] sz) := by
  refine Met.ofW (cc := cJ2_elementData) (maxL := 2) (ret := (some (.object "java/lang/Object"))) (by decide) rfl ?_
  intro p e s m args below meth c s₁ B hml hv
  obtain ⟨rfl, hsz, hP, hK, hD0, hC⟩ := hv
  have hx := B.exec
  have hb := B.bytes
  have hr := B.returns
  have hts := atoms_spec (ws := (ws_ yJ2_elementData cJ2_elementData 2 (some (.object "java/lang/Object")))) B.pre
  have hts : ∀ w ∈ lw_all, w.before _ s = true := fun w h => hts w (List.mem_cons_of_mem _ h)
  have hown : s.vm.findClass RJ2 = some m.cls := findClass_of_methodNamed B.named
  have hlocks := B.notSynchronized
  have hSx : CallFix p m c cJ2_elementData 2 s _ lw_all RJ2 := ⟨hx, hb, hml, hown, hts⟩
  subst hsz
  have hD := hD0.self (sz := s.heap.size)
  generalize hAe : va_A [(q_x0, .inr (9, [.int x0_modCount, .ref q_x0_elementData, .int x0_size])), (q_x0_elementData, .inl (dA 4, n_x0_elementData, .inr (.inr (.inr (.inr a_x0_elementData)))))] s.heap.size = A at hD hC ⊢
  have hA : ∀ q : Nat, s.heap.size ≤ q → A q := fun q h => by rw [← hAe]; exact Or.inr h
  have hS : va_S A s.heap s.heap [] := va_S.rf
  have hNW := hC.1
  have hl := lv_entry ([.ref q_x0, .int x1]) (n := 2) (Nat.le_of_ble_eq_true rfl)
  rw [lg_entry_eq]
  generalize (lg_sl ([.ref q_x0, .int x1]) ++ List.replicate (2 - (lg_sl ([.ref q_x0, .int x1])).length) Slot.unset).toArray = ls at hl ⊢
  have hl : lv_has ls 2 [(0, .ref q_x0), (1, .int x1)] := hl
  refine lv_aload_n hx hb dJ2_elementData_0 rfl (lv_at hl 0 rfl) ?_
  refine va_get (D := D) (ci := 9) (v := .ref q_x0_elementData) (C := RJ2) (T := TJ2) (N := 3) hx hb hts in_J2 hown hK hP 0 rfl rfl 1 (by decide) (hts _ q133) (fun _ h9 => h9) rfl dJ2_elementData_1 ?_
  refine lv_iload_n hx hb dJ2_elementData_4 rfl (lv_at hl 1 rfl) ?_
  obtain ⟨h4, hw⟩ := hw
  obtain ⟨y5, h6, hw⟩ := hw
  refine k_aldq (k := x1.toNatClampNeg) hx hb hK hP 1 4 rfl rfl rfl h6 h4 dJ2_elementData_5 ?_
  exact W.aret (v := .ref y5) hx hb hr (Or.inl ⟨_, rfl⟩) (Or.inr ⟨_, rfl⟩) (fun t ht hW => ⟨⟨y5, _, rfl, hw, rfl, by rw [ht]; exact hP.sub [0, 1] rfl, va_K.moved hW.alike hK, hD.sub [0, 1] (by decide) rfl⟩, hS.F ht⟩) hS.2.2 dJ2_elementData_6
def w_J2_get (post : Nat → Prop) (n_x0_elementData : Nat) (a_x0_elementData : (Nat → Option Nat)) (x0_size : Int32) (x1 : Int32) : Prop :=
  w_J24_checkIndex (fun r3 => w_J2_elementData (fun o4 => post o4) n_x0_elementData a_x0_elementData x1) x1 x0_size
theorem hd_J24_checkIndex : yJ24_checkIndex.cls ≠ "java/lang/invoke/MethodHandle" ∧ yJ24_checkIndex.cls ≠ "java/lang/invoke/VarHandle" ∧ (parseMethodDescriptor yJ24_checkIndex.desc).map (fun d => d.parameters.length) = some 2 := by decide +kernel
theorem gJ2_118 : GoodIn lw_all (va_wsS RJ2 118 yJ24_checkIndex (ws_ yJ24_checkIndex cJ24_checkIndex 2 (some .int))) := lw_S q1035 q1036 q101 q1037
theorem hd_J2_elementData : yJ2_elementData.cls ≠ "java/lang/invoke/MethodHandle" ∧ yJ2_elementData.cls ≠ "java/lang/invoke/VarHandle" ∧ (parseMethodDescriptor yJ2_elementData.desc).map (fun d => d.parameters.length) = some 1 := by decide +kernel
theorem gJ2_123 : GoodIn lw_all (wsV RJ2 123 RJ2 yJ2_elementData (ws_ yJ2_elementData cJ2_elementData 2 (some (.object "java/lang/Object")))) := lw_V q1039 q1040 q1041 q71 q1042
def rm_J2_get : Room := { frames := 2, cells := 0, slots := 0, locals := 43 }
set_option maxHeartbeats 4000000 in
set_option maxRecDepth 100000 in
theorem met_J2_get (l : Launch) (D : va_G) (dA : Nat → ClassId) (cx : CXt) (sz : Nat) (q_x0 : Nat) (x0_modCount : Int32) (q_x0_elementData : Nat) (n_x0_elementData : Nat) (a_x0_elementData : (Nat → Option Nat)) (x0_size : Int32) (x1 : Int32) (post : Nat → Prop) (hw : w_J2_get post n_x0_elementData a_x0_elementData x0_size x1) : Met l yJ2_get (ws_ yJ2_get cJ2_get 2 (some (.object "java/lang/Object"))) rm_J2_get (va_Pc [.ref q_x0, .int x1] (wrC D dA cx sz [(q_x0, .inr (9, [.int x0_modCount, .ref q_x0_elementData, .int x0_size])), (q_x0_elementData, .inl (dA 4, n_x0_elementData, .inr (.inr (.inr (.inr a_x0_elementData)))))])) (va_Qr (fun (u : Nat) => post u) (fun (u : Nat) a9 t => a9 = u ∧ wrQ D dA (va_A [(q_x0, .inr (9, [.int x0_modCount, .ref q_x0_elementData, .int x0_size])), (q_x0_elementData, .inl (dA 4, n_x0_elementData, .inr (.inr (.inr (.inr a_x0_elementData)))))] sz) [(q_x0, .inr (9, [.int x0_modCount, .ref q_x0_elementData, .int x0_size])), (q_x0_elementData, .inl (dA 4, n_x0_elementData, .inr (.inr (.inr (.inr a_x0_elementData)))))] t) (va_A [(q_x0, .inr (9, [.int x0_modCount, .ref q_x0_elementData, .int x0_size])), (q_x0_elementData, .inl (dA 4, n_x0_elementData, .inr (.inr (.inr (.inr a_x0_elementData)))))] sz)) 0 0 (va_A [(q_x0, .inr (9, [.int x0_modCount, .ref q_x0_elementData, .int x0_size])), (q_x0_elementData, .inl (dA 4, n_x0_elementData, .inr (.inr (.inr (.inr a_x0_elementData)))))] sz) := by
  refine Met.ofW (cc := cJ2_get) (maxL := 2) (ret := (some (.object "java/lang/Object"))) (by decide) rfl ?_
  intro p e s m args below meth c s₁ B hml hv
  obtain ⟨rfl, hsz, hP, hK, hD0, hC⟩ := hv
  have hx := B.exec
  have hb := B.bytes
  have hr := B.returns
  have hts := atoms_spec (ws := (ws_ yJ2_get cJ2_get 2 (some (.object "java/lang/Object")))) B.pre
  have hts : ∀ w ∈ lw_all, w.before _ s = true := fun w h => hts w (List.mem_cons_of_mem _ h)
  have hown : s.vm.findClass RJ2 = some m.cls := findClass_of_methodNamed B.named
  have hlocks := B.notSynchronized
  have hSx : CallFix p m c cJ2_get 2 s _ lw_all RJ2 := ⟨hx, hb, hml, hown, hts⟩
  subst hsz
  have hD := hD0.self (sz := s.heap.size)
  generalize hAe : va_A [(q_x0, .inr (9, [.int x0_modCount, .ref q_x0_elementData, .int x0_size])), (q_x0_elementData, .inl (dA 4, n_x0_elementData, .inr (.inr (.inr (.inr a_x0_elementData)))))] s.heap.size = A at hD hC ⊢
  have hA : ∀ q : Nat, s.heap.size ≤ q → A q := fun q h => by rw [← hAe]; exact Or.inr h
  have hS : va_S A s.heap s.heap [] := va_S.rf
  have hNW := hC.1
  have hl := lv_entry ([.ref q_x0, .int x1]) (n := 2) (Nat.le_of_ble_eq_true rfl)
  rw [lg_entry_eq]
  generalize (lg_sl ([.ref q_x0, .int x1]) ++ List.replicate (2 - (lg_sl ([.ref q_x0, .int x1])).length) Slot.unset).toArray = ls at hl ⊢
  have hl : lv_has ls 2 [(0, .ref q_x0), (1, .int x1)] := hl
  refine lv_iload_n hx hb dJ2_get_0 rfl (lv_at hl 1 rfl) ?_
  refine lv_aload_n hx hb dJ2_get_1 rfl (lv_at hl 0 rfl) ?_
  refine va_get (D := D) (ci := 9) (v := .int x0_size) (C := RJ2) (T := TJ2) (N := 3) hx hb hts in_J2 hown hK hP 0 rfl rfl 2 (by decide) (hts _ q136) (fun _ h9 => h9) rfl dJ2_get_2 ?_
  refine k_ri (k_pS (As := [.int x1, .int x0_size]) (rest := []) hSx (met_J24_checkIndex l x1 x0_size _ hw) gJ2_118 hd_J24_checkIndex ⟨Nat.le_of_ble_eq_true rfl, Nat.le_of_ble_eq_true rfl⟩ rfl rfl rfl hl.1 (Nat.le_of_ble_eq_true rfl) rfl dJ2_get_5 ⟨Nat.le_refl 0, Nat.le_refl 0⟩) (fun r3 hw => ?_)
  refine lv_pop hx hb dJ2_get_8 rfl ?_
  refine lv_aload_n hx hb dJ2_get_9 rfl (lv_at hl 0 rfl) ?_
  refine lv_iload_n hx hb dJ2_get_10 rfl (lv_at hl 1 rfl) ?_
  refine k_wr (wn := fun (u : Nat) => [(q_x0, .inr (9, [.int x0_modCount, .ref q_x0_elementData, .int x0_size])), (q_x0_elementData, .inl (dA 4, n_x0_elementData, .inr (.inr (.inr (.inr a_x0_elementData)))))]) (wr := []) (ra := fun (u : Nat) => u) (kc_wV (As := [.int x1]) (rest := []) hSx (met_J2_elementData l D dA cx _ q_x0 x0_modCount q_x0_elementData n_x0_elementData a_x0_elementData x0_size x1 _ hw) gJ2_123 ⟨rfl, hd_J2_elementData⟩ ⟨Nat.le_of_ble_eq_true rfl, Nat.le_of_ble_eq_true rfl⟩ rfl rfl hP hK hD hS hA (hC.kept hS.2.1) [0, 1] rfl (by decide) rfl 0 rfl rfl rfl rfl hl.1 (Nat.le_of_ble_eq_true rfl) rfl dJ2_get_11 ⟨Nat.le_refl 0, Nat.le_refl 0⟩) hP hD hS hA [0, 1] [] [0, 1] rfl rfl (by decide) (by decide) (by decide) (fun _ => rfl) (fun _ => rfl) (fun u H locs hw _ hP hD hS => ?_)
  obtain ⟨o4, rfl⟩ : ∃ z, z = u := ⟨_, rfl⟩
  have hP : va_P D vwCl [(q_x0, .inr (9, [.int x0_modCount, .ref q_x0_elementData, .int x0_size])), (q_x0_elementData, .inl (dA 4, n_x0_elementData, .inr (.inr (.inr (.inr a_x0_elementData)))))] H := hP
  have hD : va_D A [(q_x0, .inr (9, [.int x0_modCount, .ref q_x0_elementData, .int x0_size])), (q_x0_elementData, .inl (dA 4, n_x0_elementData, .inr (.inr (.inr (.inr a_x0_elementData)))))] := hD
  exact W.aret (v := .ref o4) hx hb hr (Or.inl ⟨_, rfl⟩) (Or.inr ⟨_, rfl⟩) (fun t ht hW => ⟨⟨o4, _, rfl, hw, rfl, by rw [ht]; exact hP.sub [0, 1] rfl, va_K.moved hW.alike hK, hD.sub [0, 1] (by decide) rfl⟩, hS.F ht⟩) hS.2.2 dJ2_get_14
def w_J2_clear_27 (post : (Nat → Option Nat) → Prop) (n_x0_elementData : Nat) (x0_size : Int32) (k27 : Int32 → (Nat → Option Nat) → Prop) (v3 : Int32) (a1 : (Nat → Option Nat)) : Prop :=
  ((x0_size ≤ v3 → post a1) ∧ (¬ x0_size ≤ v3 → (vp_in v3 n_x0_elementData ∧ k27 (v3 + (nI 1)) (va_up a1 v3.toNatClampNeg none))))
def w_J2_clear (post : (Nat → Option Nat) → Prop) (n_x0_elementData : Nat) (a_x0_elementData : (Nat → Option Nat)) (x0_size : Int32) : Prop :=
  (∃ n : Nat, lpF (fun _ _ => False) (w_J2_clear_27 post n_x0_elementData x0_size) n (nI 0) a_x0_elementData)
def rm_J2_clear : Room := { frames := 0, cells := 0, slots := 0, locals := 0 }
set_option maxHeartbeats 4000000 in
set_option maxRecDepth 100000 in
theorem met_J2_clear (l : Launch) (D : va_G) (dA : Nat → ClassId) (cx : CXt) (sz : Nat) (q_x0 : Nat) (x0_modCount : Int32) (q_x0_elementData : Nat) (n_x0_elementData : Nat) (a_x0_elementData : (Nat → Option Nat)) (x0_size : Int32) (post : (Nat → Option Nat) → Prop) (hw : w_J2_clear post n_x0_elementData a_x0_elementData x0_size) : Met l yJ2_clear (ws_ yJ2_clear cJ2_clear 4 none) rm_J2_clear (va_Pc [.ref q_x0] (wrC D dA cx sz [(q_x0, .inr (9, [.int x0_modCount, .ref q_x0_elementData, .int x0_size])), (q_x0_elementData, .inl (dA 4, n_x0_elementData, .inr (.inr (.inr (.inr a_x0_elementData)))))])) (va_Qv (fun (u : (Nat → Option Nat)) => post u) (fun (u : (Nat → Option Nat)) t => wrQ D dA (va_A [(q_x0, .inr (9, [.int x0_modCount, .ref q_x0_elementData, .int x0_size])), (q_x0_elementData, .inl (dA 4, n_x0_elementData, .inr (.inr (.inr (.inr a_x0_elementData)))))] sz) [(q_x0, .inr (9, [.int (x0_modCount + (nI 1)), .ref q_x0_elementData, .int (nI 0)])), (q_x0_elementData, .inl (dA 4, n_x0_elementData, .inr (.inr (.inr (.inr u)))))] t) (va_A [(q_x0, .inr (9, [.int x0_modCount, .ref q_x0_elementData, .int x0_size])), (q_x0_elementData, .inl (dA 4, n_x0_elementData, .inr (.inr (.inr (.inr a_x0_elementData)))))] sz)) 0 0 (va_A [(q_x0, .inr (9, [.int x0_modCount, .ref q_x0_elementData, .int x0_size])), (q_x0_elementData, .inl (dA 4, n_x0_elementData, .inr (.inr (.inr (.inr a_x0_elementData)))))] sz) := by
  refine Met.ofW (cc := cJ2_clear) (maxL := 4) (ret := none) (by decide) rfl ?_
  intro p e s m args below meth c s₁ B hml hv
  obtain ⟨rfl, hsz, hP, hK, hD0, hC⟩ := hv
  have hx := B.exec
  have hb := B.bytes
  have hr := B.returns
  have hts := atoms_spec (ws := (ws_ yJ2_clear cJ2_clear 4 none)) B.pre
  have hts : ∀ w ∈ lw_all, w.before _ s = true := fun w h => hts w (List.mem_cons_of_mem _ h)
  have hown : s.vm.findClass RJ2 = some m.cls := findClass_of_methodNamed B.named
  have hlocks := B.notSynchronized
  have hSx : CallFix p m c cJ2_clear 4 s _ lw_all RJ2 := ⟨hx, hb, hml, hown, hts⟩
  subst hsz
  have hD := hD0.self (sz := s.heap.size)
  generalize hAe : va_A [(q_x0, .inr (9, [.int x0_modCount, .ref q_x0_elementData, .int x0_size])), (q_x0_elementData, .inl (dA 4, n_x0_elementData, .inr (.inr (.inr (.inr a_x0_elementData)))))] s.heap.size = A at hD hC ⊢
  have hA : ∀ q : Nat, s.heap.size ≤ q → A q := fun q h => by rw [← hAe]; exact Or.inr h
  have hS : va_S A s.heap s.heap [] := va_S.rf
  have hNW := hC.1
  have hl := lv_entry ([.ref q_x0]) (n := 4) (Nat.le_of_ble_eq_true rfl)
  rw [lg_entry_eq]
  generalize (lg_sl ([.ref q_x0]) ++ List.replicate (4 - (lg_sl ([.ref q_x0])).length) Slot.unset).toArray = ls at hl ⊢
  have hl : lv_has ls 4 [(0, .ref q_x0)] := hl
  have hL27 : ∀  (n : Nat) (v3 : Int32) (a1 : (Nat → Option Nat)) (H : Heap) (locs : List Loc) (ls : Array Slot), va_P D vwCl [(q_x0, .inr (9, [.int (x0_modCount + (nI 1)), .ref q_x0_elementData, .int (nI 0)])), (q_x0_elementData, .inl (dA 4, n_x0_elementData, .inr (.inr (.inr (.inr a1)))))] H → va_D A [(q_x0, .inr (9, [.int (x0_modCount + (nI 1)), .ref q_x0_elementData, .int (nI 0)])), (q_x0_elementData, .inl (dA 4, n_x0_elementData, .inr (.inr (.inr (.inr a1)))))] → va_S A s.heap H locs → lv_has ls 4 [(1, .ref q_x0_elementData), (2, .int x0_size), (3, .int v3)] → lpF (fun _ _ => False) (w_J2_clear_27 post n_x0_elementData x0_size) n v3 a1 → W p l e (headSpec (ws_ yJ2_clear cJ2_clear 4 none) (rm_J2_clear)).room s m ([.ref q_x0] : List Value).toArray below meth c H locs 0 0 (MQ below (va_Qv (fun (u : (Nat → Option Nat)) => post u) (fun (u : (Nat → Option Nat)) t => wrQ D dA A [(q_x0, .inr (9, [.int (x0_modCount + (nI 1)), .ref q_x0_elementData, .int (nI 0)])), (q_x0_elementData, .inl (dA 4, n_x0_elementData, .inr (.inr (.inr (.inr u)))))] t) A) ([.ref q_x0] : List Value).toArray s 0 0 A) (F0 m 27 ls []) := by
    intro  n
    induction n with
    | zero => intro v3 a1 H locs ls hP hD hS hl hw; exact absurd hw id
    | succ n hk27 =>
      intro v3 a1 H locs ls hP hD hS hl hw
      generalize hk9 : lpF (fun _ _ => False) (w_J2_clear_27 post n_x0_elementData x0_size) n = k27 at hk27
      have hw : (w_J2_clear_27 post n_x0_elementData x0_size) k27 v3 a1 := hk9 ▸ hw
      refine lv_iload_n hx hb dJ2_clear_27 rfl (lv_at hl 2 rfl) ?_
      refine lv_iload_n hx hb dJ2_clear_28 rfl (lv_at hl 1 rfl) ?_
      refine lv_icmp_ge (tgt := 42) hx hb dJ2_clear_29 (by decide) (fun c5 => ?_) (fun c5 => ?_)
      · have hw := hw.1 c5
        exact W.vret hx hb hr (fun t ht hW => ⟨⟨a1, rfl, hw, by rw [ht]; exact hP.sub [0, 1] rfl, va_K.moved hW.alike hK, hD.sub [0, 1] (by decide) rfl⟩, hS.F ht⟩) hS.2.2 dJ2_clear_42
      · have hw := hw.2 c5
        refine lv_aload_n hx hb dJ2_clear_32 rfl (lv_at hl 0 rfl) ?_
        refine lv_iload_n hx hb dJ2_clear_33 rfl (lv_at hl 2 rfl) ?_
        refine lv_null hx hb dJ2_clear_34 ?_
        obtain ⟨h6, hw⟩ := hw
        refine k_astqN (k := v3.toNatClampNeg) hx hb hK hP hD hS 1 4 rfl rfl rfl h6 dJ2_clear_35 (fun H locs hP hD hS => ?_)
        have hP : va_P D vwCl [(q_x0, .inr (9, [.int (x0_modCount + (nI 1)), .ref q_x0_elementData, .int (nI 0)])), (q_x0_elementData, .inl (dA 4, n_x0_elementData, .inr (.inr (.inr (.inr (va_up a1 v3.toNatClampNeg none))))))] H := hP
        have hD : va_D A [(q_x0, .inr (9, [.int (x0_modCount + (nI 1)), .ref q_x0_elementData, .int (nI 0)])), (q_x0_elementData, .inl (dA 4, n_x0_elementData, .inr (.inr (.inr (.inr (va_up a1 v3.toNatClampNeg none))))))] := hD
        refine lv_iinc (v := (v3 + (nI 1))) (lv' := [(3, .int (v3 + (nI 1))), (1, .ref q_x0_elementData), (2, .int x0_size)]) hx hb dJ2_clear_36 hl (k := 2) rfl (congrArg (fun z => v3 + z) (by decide : Int32.ofInt (1) = (nI 1))) (by decide) rfl (fun ls hl => ?_)
        refine lv_goto (tgt := 27) hx hb dJ2_clear_39 (by decide) ?_
        exact hk27 (v3 + (nI 1)) (va_up a1 v3.toNatClampNeg none) _ _ _ (hP.sub [0, 1] rfl) (hD.sub [0, 1] (by decide) rfl) hS (lv_sub hl [1, 2, 0] rfl) hw
  refine lv_aload_n hx hb dJ2_clear_0 rfl (lv_at hl 0 rfl) ?_
  refine lv_dup hx hb dJ2_clear_1 rfl ?_
  refine va_get (D := D) (ci := 9) (v := .int x0_modCount) (C := RJ2) (T := TJ2) (N := 3) hx hb hts in_J2 hown hK hP 0 rfl rfl 0 (by decide) (hts _ q140) (u_same (hts _ q139)) rfl dJ2_clear_2 ?_
  refine lv_iconst (v := (nI 1)) hx hb dJ2_clear_5 (by decide) ?_
  refine lv_iadd hx hb dJ2_clear_6 ?_
  refine va_put (D := D) (ci := 9) (v := .int (x0_modCount + (nI 1))) (ty := (.int)) (C := RJ2) (T := TJ2) (N := 3) hx hb hts in_J2 tyJ2 tyJ2_ok nmJ2 hown hK hP hD hS 0 rfl rfl 0 (by decide) (hts _ q140) (u_same (hts _ q139)) rfl (by decide +kernel) rfl rfl (Nat.le_of_ble_eq_true rfl) dJ2_clear_7 (fun H locs hP hD hS => ?_)
  have hP : va_P D vwCl [(q_x0, .inr (9, [.int (x0_modCount + (nI 1)), .ref q_x0_elementData, .int x0_size])), (q_x0_elementData, .inl (dA 4, n_x0_elementData, .inr (.inr (.inr (.inr a_x0_elementData)))))] H := hP
  have hD : va_D A [(q_x0, .inr (9, [.int (x0_modCount + (nI 1)), .ref q_x0_elementData, .int x0_size])), (q_x0_elementData, .inl (dA 4, n_x0_elementData, .inr (.inr (.inr (.inr a_x0_elementData)))))] := hD
  refine lv_aload_n hx hb dJ2_clear_10 rfl (lv_at hl 0 rfl) ?_
  refine va_get (D := D) (ci := 9) (v := .ref q_x0_elementData) (C := RJ2) (T := TJ2) (N := 3) hx hb hts in_J2 hown hK hP 0 rfl rfl 1 (by decide) (hts _ q133) (fun _ h9 => h9) rfl dJ2_clear_11 ?_
  refine lv_astore_n (lv' := [(1, .ref q_x0_elementData), (0, .ref q_x0)]) hx hb dJ2_clear_14 rfl hl (by decide) rfl (fun ls hl => ?_)
  refine lv_aload_n hx hb dJ2_clear_15 rfl (lv_at hl 1 rfl) ?_
  refine va_get (D := D) (ci := 9) (v := .int x0_size) (C := RJ2) (T := TJ2) (N := 3) hx hb hts in_J2 hown hK hP 0 rfl rfl 2 (by decide) (hts _ q136) (fun _ h9 => h9) rfl dJ2_clear_16 ?_
  refine lv_istore_n (lv' := [(2, .int x0_size), (1, .ref q_x0_elementData), (0, .ref q_x0)]) hx hb dJ2_clear_19 rfl hl (by decide) rfl (fun ls hl => ?_)
  refine lv_aload_n hx hb dJ2_clear_20 rfl (lv_at hl 2 rfl) ?_
  refine lv_iconst (v := (nI 0)) hx hb dJ2_clear_21 (by decide) ?_
  refine lv_dup_x1 hx hb dJ2_clear_22 rfl rfl ?_
  refine va_put (D := D) (ci := 9) (v := .int (nI 0)) (ty := (.int)) (C := RJ2) (T := TJ2) (N := 3) hx hb hts in_J2 tyJ2 tyJ2_ok nmJ2 hown hK hP hD hS 0 rfl rfl 2 (by decide) (hts _ q136) (fun _ h9 => h9) rfl (by decide +kernel) rfl rfl (Nat.le_of_ble_eq_true rfl) dJ2_clear_23 (fun H locs hP hD hS => ?_)
  have hP : va_P D vwCl [(q_x0, .inr (9, [.int (x0_modCount + (nI 1)), .ref q_x0_elementData, .int (nI 0)])), (q_x0_elementData, .inl (dA 4, n_x0_elementData, .inr (.inr (.inr (.inr a_x0_elementData)))))] H := hP
  have hD : va_D A [(q_x0, .inr (9, [.int (x0_modCount + (nI 1)), .ref q_x0_elementData, .int (nI 0)])), (q_x0_elementData, .inl (dA 4, n_x0_elementData, .inr (.inr (.inr (.inr a_x0_elementData)))))] := hD
  refine lv_istore_n (lv' := [(3, .int (nI 0)), (2, .int x0_size), (1, .ref q_x0_elementData), (0, .ref q_x0)]) hx hb dJ2_clear_26 rfl hl (by decide) rfl (fun ls hl => ?_)
  obtain ⟨n, hw⟩ := hw
  exact hL27  n (nI 0) a_x0_elementData _ _ _ (hP.sub [0, 1] rfl) (hD.sub [0, 1] (by decide) rfl) hS (lv_sub hl [2, 1, 0] rfl) hw
def w_J2_size_e (post : Int32 → Prop) (x0_size : Int32) : Prop :=
  post x0_size
def rm_J2_size_e : Room := { frames := 0, cells := 0, slots := 0, locals := 0 }
set_option maxHeartbeats 4000000 in
set_option maxRecDepth 100000 in
theorem met_J2_size_e (l : Launch) (D : va_G) (dA : Nat → ClassId) (cx : CXt) (q_x0 : Nat) (x0_modCount : Int32) (x0_size : Int32) (post : Int32 → Prop) (hw : w_J2_size_e post x0_size) : Met l yJ2_size (ws_ yJ2_size cJ2_size 1 (some .int)) rm_J2_size_e (va_Pc [.ref q_x0] (rdC D dA cx [(q_x0, .inr (9, [.int x0_modCount, .ref (cxE cx), .int x0_size]))])) (vp_Si (fun r => post r)) 0 0 (fun _ => False) := by
  refine Met.ofW (cc := cJ2_size) (maxL := 1) (ret := (some .int)) (by decide) rfl ?_
  intro p e s m args below meth c s₁ B hml hv
  obtain ⟨rfl, hP, hK, hC⟩ := hv
  have hx := B.exec
  have hb := B.bytes
  have hr := B.returns
  have hts := atoms_spec (ws := (ws_ yJ2_size cJ2_size 1 (some .int))) B.pre
  have hts : ∀ w ∈ lw_all, w.before _ s = true := fun w h => hts w (List.mem_cons_of_mem _ h)
  have hown : s.vm.findClass RJ2 = some m.cls := findClass_of_methodNamed B.named
  have hlocks := B.notSynchronized
  have hSx : CallFix p m c cJ2_size 1 s _ lw_all RJ2 := ⟨hx, hb, hml, hown, hts⟩
  have hNW := hC.1
  have hl := lv_entry ([.ref q_x0]) (n := 1) (Nat.le_of_ble_eq_true rfl)
  rw [lg_entry_eq]
  generalize (lg_sl ([.ref q_x0]) ++ List.replicate (1 - (lg_sl ([.ref q_x0])).length) Slot.unset).toArray = ls at hl ⊢
  have hl : lv_has ls 1 [(0, .ref q_x0)] := hl
  refine lv_aload_n hx hb dJ2_size_0 rfl (lv_at hl 0 rfl) ?_
  refine va_get (D := D) (ci := 9) (v := .int x0_size) (C := RJ2) (T := TJ2) (N := 3) hx hb hts in_J2 hown hK hP 0 rfl rfl 2 (by decide) (hts _ q136) (fun _ h9 => h9) rfl dJ2_size_1 ?_
  exact W.iret (v := x0_size) hx hb hr (fun t ht hW => ⟨x0_size, rfl, hw, ht⟩) (fun _ h => by cases h) dJ2_size_4
def w_J2_elementData_e (post : Nat → Prop) (x1 : Int32) : Prop :=
  (vp_in x1 0 ∧ (∃ y5 : Nat, (fun _ => none) (x1.toNatClampNeg) = some y5 ∧ post y5))
def rm_J2_elementData_e : Room := { frames := 0, cells := 0, slots := 0, locals := 0 }
set_option maxHeartbeats 4000000 in
set_option maxRecDepth 100000 in
theorem met_J2_elementData_e (l : Launch) (D : va_G) (dA : Nat → ClassId) (cx : CXt) (sz : Nat) (q_x0 : Nat) (x0_modCount : Int32) (x0_size : Int32) (x1 : Int32) (post : Nat → Prop) (hw : w_J2_elementData_e post x1) : Met l yJ2_elementData (ws_ yJ2_elementData cJ2_elementData 2 (some (.object "java/lang/Object"))) rm_J2_elementData_e (va_Pc [.ref q_x0, .int x1] (wrC D dA cx sz [(q_x0, .inr (9, [.int x0_modCount, .ref (cxE cx), .int x0_size]))])) (va_Qr (fun (u : Nat) => post u) (fun (u : Nat) a9 t => a9 = u ∧ wrQ D dA (va_A [(q_x0, .inr (9, [.int x0_modCount, .ref (cxE cx), .int x0_size]))] sz) [(q_x0, .inr (9, [.int x0_modCount, .ref (cxE cx), .int x0_size]))] t) (va_A [(q_x0, .inr (9, [.int x0_modCount, .ref (cxE cx), .int x0_size]))] sz)) 0 0 (va_A [(q_x0, .inr (9, [.int x0_modCount, .ref (cxE cx), .int x0_size]))] sz) := by
  refine Met.ofW (cc := cJ2_elementData) (maxL := 2) (ret := (some (.object "java/lang/Object"))) (by decide) rfl ?_
  intro p e s m args below meth c s₁ B hml hv
  obtain ⟨rfl, hsz, hP, hK, hD0, hC⟩ := hv
  have hx := B.exec
  have hb := B.bytes
  have hr := B.returns
  have hts := atoms_spec (ws := (ws_ yJ2_elementData cJ2_elementData 2 (some (.object "java/lang/Object")))) B.pre
  have hts : ∀ w ∈ lw_all, w.before _ s = true := fun w h => hts w (List.mem_cons_of_mem _ h)
  have hown : s.vm.findClass RJ2 = some m.cls := findClass_of_methodNamed B.named
  have hlocks := B.notSynchronized
  have hSx : CallFix p m c cJ2_elementData 2 s _ lw_all RJ2 := ⟨hx, hb, hml, hown, hts⟩
  subst hsz
  have hD := hD0.self (sz := s.heap.size)
  generalize hAe : va_A [(q_x0, .inr (9, [.int x0_modCount, .ref (cxE cx), .int x0_size]))] s.heap.size = A at hD hC ⊢
  have hA : ∀ q : Nat, s.heap.size ≤ q → A q := fun q h => by rw [← hAe]; exact Or.inr h
  have hS : va_S A s.heap s.heap [] := va_S.rf
  have hNW := hC.1
  have hl := lv_entry ([.ref q_x0, .int x1]) (n := 2) (Nat.le_of_ble_eq_true rfl)
  rw [lg_entry_eq]
  generalize (lg_sl ([.ref q_x0, .int x1]) ++ List.replicate (2 - (lg_sl ([.ref q_x0, .int x1])).length) Slot.unset).toArray = ls at hl ⊢
  have hl : lv_has ls 2 [(0, .ref q_x0), (1, .int x1)] := hl
  refine lv_aload_n hx hb dJ2_elementData_0 rfl (lv_at hl 0 rfl) ?_
  refine va_get (D := D) (ci := 9) (v := .ref (cxE cx)) (C := RJ2) (T := TJ2) (N := 3) hx hb hts in_J2 hown hK hP 0 rfl rfl 1 (by decide) (hts _ q133) (fun _ h9 => h9) rfl dJ2_elementData_1 ?_
  refine lv_iload_n hx hb dJ2_elementData_4 rfl (lv_at hl 1 rfl) ?_
  obtain ⟨h4, hw⟩ := hw
  obtain ⟨y5, h6, hw⟩ := hw
  refine k_aldq (k := x1.toNatClampNeg) hx hb hK (hC.kept hS.2.1).em.1 0 4 rfl rfl rfl h6 h4 dJ2_elementData_5 ?_
  exact W.aret (v := .ref y5) hx hb hr (Or.inl ⟨_, rfl⟩) (Or.inr ⟨_, rfl⟩) (fun t ht hW => ⟨⟨y5, _, rfl, hw, rfl, by rw [ht]; exact hP.sub [0] rfl, va_K.moved hW.alike hK, hD.sub [0] (by decide) rfl⟩, hS.F ht⟩) hS.2.2 dJ2_elementData_6
def w_J2_get_e (post : Nat → Prop) (x0_size : Int32) (x1 : Int32) : Prop :=
  w_J24_checkIndex (fun r3 => w_J2_elementData_e (fun o4 => post o4) x1) x1 x0_size
def rm_J2_get_e : Room := { frames := 2, cells := 0, slots := 0, locals := 43 }
set_option maxHeartbeats 4000000 in
set_option maxRecDepth 100000 in
theorem met_J2_get_e (l : Launch) (D : va_G) (dA : Nat → ClassId) (cx : CXt) (sz : Nat) (q_x0 : Nat) (x0_modCount : Int32) (x0_size : Int32) (x1 : Int32) (post : Nat → Prop) (hw : w_J2_get_e post x0_size x1) : Met l yJ2_get (ws_ yJ2_get cJ2_get 2 (some (.object "java/lang/Object"))) rm_J2_get_e (va_Pc [.ref q_x0, .int x1] (wrC D dA cx sz [(q_x0, .inr (9, [.int x0_modCount, .ref (cxE cx), .int x0_size]))])) (va_Qr (fun (u : Nat) => post u) (fun (u : Nat) a9 t => a9 = u ∧ wrQ D dA (va_A [(q_x0, .inr (9, [.int x0_modCount, .ref (cxE cx), .int x0_size]))] sz) [(q_x0, .inr (9, [.int x0_modCount, .ref (cxE cx), .int x0_size]))] t) (va_A [(q_x0, .inr (9, [.int x0_modCount, .ref (cxE cx), .int x0_size]))] sz)) 0 0 (va_A [(q_x0, .inr (9, [.int x0_modCount, .ref (cxE cx), .int x0_size]))] sz) := by
  refine Met.ofW (cc := cJ2_get) (maxL := 2) (ret := (some (.object "java/lang/Object"))) (by decide) rfl ?_
  intro p e s m args below meth c s₁ B hml hv
  obtain ⟨rfl, hsz, hP, hK, hD0, hC⟩ := hv
  have hx := B.exec
  have hb := B.bytes
  have hr := B.returns
  have hts := atoms_spec (ws := (ws_ yJ2_get cJ2_get 2 (some (.object "java/lang/Object")))) B.pre
  have hts : ∀ w ∈ lw_all, w.before _ s = true := fun w h => hts w (List.mem_cons_of_mem _ h)
  have hown : s.vm.findClass RJ2 = some m.cls := findClass_of_methodNamed B.named
  have hlocks := B.notSynchronized
  have hSx : CallFix p m c cJ2_get 2 s _ lw_all RJ2 := ⟨hx, hb, hml, hown, hts⟩
  subst hsz
  have hD := hD0.self (sz := s.heap.size)
  generalize hAe : va_A [(q_x0, .inr (9, [.int x0_modCount, .ref (cxE cx), .int x0_size]))] s.heap.size = A at hD hC ⊢
  have hA : ∀ q : Nat, s.heap.size ≤ q → A q := fun q h => by rw [← hAe]; exact Or.inr h
  have hS : va_S A s.heap s.heap [] := va_S.rf
  have hNW := hC.1
  have hl := lv_entry ([.ref q_x0, .int x1]) (n := 2) (Nat.le_of_ble_eq_true rfl)
  rw [lg_entry_eq]
  generalize (lg_sl ([.ref q_x0, .int x1]) ++ List.replicate (2 - (lg_sl ([.ref q_x0, .int x1])).length) Slot.unset).toArray = ls at hl ⊢
  have hl : lv_has ls 2 [(0, .ref q_x0), (1, .int x1)] := hl
  refine lv_iload_n hx hb dJ2_get_0 rfl (lv_at hl 1 rfl) ?_
  refine lv_aload_n hx hb dJ2_get_1 rfl (lv_at hl 0 rfl) ?_
  refine va_get (D := D) (ci := 9) (v := .int x0_size) (C := RJ2) (T := TJ2) (N := 3) hx hb hts in_J2 hown hK hP 0 rfl rfl 2 (by decide) (hts _ q136) (fun _ h9 => h9) rfl dJ2_get_2 ?_
  refine k_ri (k_pS (As := [.int x1, .int x0_size]) (rest := []) hSx (met_J24_checkIndex l x1 x0_size _ hw) gJ2_118 hd_J24_checkIndex ⟨Nat.le_of_ble_eq_true rfl, Nat.le_of_ble_eq_true rfl⟩ rfl rfl rfl hl.1 (Nat.le_of_ble_eq_true rfl) rfl dJ2_get_5 ⟨Nat.le_refl 0, Nat.le_refl 0⟩) (fun r3 hw => ?_)
  refine lv_pop hx hb dJ2_get_8 rfl ?_
  refine lv_aload_n hx hb dJ2_get_9 rfl (lv_at hl 0 rfl) ?_
  refine lv_iload_n hx hb dJ2_get_10 rfl (lv_at hl 1 rfl) ?_
  refine k_wr (wn := fun (u : Nat) => [(q_x0, .inr (9, [.int x0_modCount, .ref (cxE cx), .int x0_size]))]) (wr := []) (ra := fun (u : Nat) => u) (kc_wV (As := [.int x1]) (rest := []) hSx (met_J2_elementData_e l D dA cx _ q_x0 x0_modCount x0_size x1 _ hw) gJ2_123 ⟨rfl, hd_J2_elementData⟩ ⟨Nat.le_of_ble_eq_true rfl, Nat.le_of_ble_eq_true rfl⟩ rfl rfl hP hK hD hS hA (hC.kept hS.2.1) [0] rfl (by decide) rfl 0 rfl rfl rfl rfl hl.1 (Nat.le_of_ble_eq_true rfl) rfl dJ2_get_11 ⟨Nat.le_refl 0, Nat.le_refl 0⟩) hP hD hS hA [0] [] [0] rfl rfl (by decide) (by decide) (by decide) (fun _ => rfl) (fun _ => rfl) (fun u H locs hw _ hP hD hS => ?_)
  obtain ⟨o4, rfl⟩ : ∃ z, z = u := ⟨_, rfl⟩
  have hP : va_P D vwCl [(q_x0, .inr (9, [.int x0_modCount, .ref (cxE cx), .int x0_size]))] H := hP
  have hD : va_D A [(q_x0, .inr (9, [.int x0_modCount, .ref (cxE cx), .int x0_size]))] := hD
  exact W.aret (v := .ref o4) hx hb hr (Or.inl ⟨_, rfl⟩) (Or.inr ⟨_, rfl⟩) (fun t ht hW => ⟨⟨o4, _, rfl, hw, rfl, by rw [ht]; exact hP.sub [0] rfl, va_K.moved hW.alike hK, hD.sub [0] (by decide) rfl⟩, hS.F ht⟩) hS.2.2 dJ2_get_14
def w_J2_clear_e_27 (post : Prop) (x0_size : Int32)   : Prop :=
  ((x0_size ≤ (nI 0) → post ) ∧ (¬ x0_size ≤ (nI 0) → False))
def w_J2_clear_e (post : Prop) (x0_size : Int32) : Prop :=
  (w_J2_clear_e_27 post x0_size) 
def rm_J2_clear_e : Room := { frames := 0, cells := 0, slots := 0, locals := 0 }
set_option maxHeartbeats 4000000 in
set_option maxRecDepth 100000 in
theorem met_J2_clear_e (l : Launch) (D : va_G) (dA : Nat → ClassId) (cx : CXt) (sz : Nat) (q_x0 : Nat) (x0_modCount : Int32) (x0_size : Int32) (post : Prop) (hw : w_J2_clear_e post x0_size) : Met l yJ2_clear (ws_ yJ2_clear cJ2_clear 4 none) rm_J2_clear_e (va_Pc [.ref q_x0] (wrC D dA cx sz [(q_x0, .inr (9, [.int x0_modCount, .ref (cxE cx), .int x0_size]))])) (va_Qv (fun (u : Unit) => post ) (fun (u : Unit) t => wrQ D dA (va_A [(q_x0, .inr (9, [.int x0_modCount, .ref (cxE cx), .int x0_size]))] sz) [(q_x0, .inr (9, [.int (x0_modCount + (nI 1)), .ref (cxE cx), .int (nI 0)]))] t) (va_A [(q_x0, .inr (9, [.int x0_modCount, .ref (cxE cx), .int x0_size]))] sz)) 0 0 (va_A [(q_x0, .inr (9, [.int x0_modCount, .ref (cxE cx), .int x0_size]))] sz) := by
  refine Met.ofW (cc := cJ2_clear) (maxL := 4) (ret := none) (by decide) rfl ?_
  intro p e s m args below meth c s₁ B hml hv
  obtain ⟨rfl, hsz, hP, hK, hD0, hC⟩ := hv
  have hx := B.exec
  have hb := B.bytes
  have hr := B.returns
  have hts := atoms_spec (ws := (ws_ yJ2_clear cJ2_clear 4 none)) B.pre
  have hts : ∀ w ∈ lw_all, w.before _ s = true := fun w h => hts w (List.mem_cons_of_mem _ h)
  have hown : s.vm.findClass RJ2 = some m.cls := findClass_of_methodNamed B.named
  have hlocks := B.notSynchronized
  have hSx : CallFix p m c cJ2_clear 4 s _ lw_all RJ2 := ⟨hx, hb, hml, hown, hts⟩
  subst hsz
  have hD := hD0.self (sz := s.heap.size)
  generalize hAe : va_A [(q_x0, .inr (9, [.int x0_modCount, .ref (cxE cx), .int x0_size]))] s.heap.size = A at hD hC ⊢
  have hA : ∀ q : Nat, s.heap.size ≤ q → A q := fun q h => by rw [← hAe]; exact Or.inr h
  have hS : va_S A s.heap s.heap [] := va_S.rf
  have hNW := hC.1
  have hl := lv_entry ([.ref q_x0]) (n := 4) (Nat.le_of_ble_eq_true rfl)
  rw [lg_entry_eq]
  generalize (lg_sl ([.ref q_x0]) ++ List.replicate (4 - (lg_sl ([.ref q_x0])).length) Slot.unset).toArray = ls at hl ⊢
  have hl : lv_has ls 4 [(0, .ref q_x0)] := hl
  have hL27 : ∀   (H : Heap) (locs : List Loc) (ls : Array Slot), va_P D vwCl [(q_x0, .inr (9, [.int (x0_modCount + (nI 1)), .ref (cxE cx), .int (nI 0)]))] H → va_D A [(q_x0, .inr (9, [.int (x0_modCount + (nI 1)), .ref (cxE cx), .int (nI 0)]))] → va_S A s.heap H locs → lv_has ls 4 [(1, .ref (cxE cx)), (2, .int x0_size), (3, .int (nI 0))] → (w_J2_clear_e_27 post x0_size)  → W p l e (headSpec (ws_ yJ2_clear cJ2_clear 4 none) (rm_J2_clear_e)).room s m ([.ref q_x0] : List Value).toArray below meth c H locs 0 0 (MQ below (va_Qv (fun (u : Unit) => post ) (fun (u : Unit) t => wrQ D dA A [(q_x0, .inr (9, [.int (x0_modCount + (nI 1)), .ref (cxE cx), .int (nI 0)]))] t) A) ([.ref q_x0] : List Value).toArray s 0 0 A) (F0 m 27 ls []) := by
      intro   H locs ls hP hD hS hl hw
      refine lv_iload_n hx hb dJ2_clear_27 rfl (lv_at hl 2 rfl) ?_
      refine lv_iload_n hx hb dJ2_clear_28 rfl (lv_at hl 1 rfl) ?_
      refine lv_icmp_ge (tgt := 42) hx hb dJ2_clear_29 (by decide) (fun c3 => ?_) (fun c3 => ?_)
      · have hw := hw.1 c3
        exact W.vret hx hb hr (fun t ht hW => ⟨⟨(), rfl, hw, by rw [ht]; exact hP.sub [0] rfl, va_K.moved hW.alike hK, hD.sub [0] (by decide) rfl⟩, hS.F ht⟩) hS.2.2 dJ2_clear_42
      · have hw := hw.2 c3
        refine lv_aload_n hx hb dJ2_clear_32 rfl (lv_at hl 0 rfl) ?_
        refine lv_iload_n hx hb dJ2_clear_33 rfl (lv_at hl 2 rfl) ?_
        refine lv_null hx hb dJ2_clear_34 ?_
        exact (show False from hw).elim
  refine lv_aload_n hx hb dJ2_clear_0 rfl (lv_at hl 0 rfl) ?_
  refine lv_dup hx hb dJ2_clear_1 rfl ?_
  refine va_get (D := D) (ci := 9) (v := .int x0_modCount) (C := RJ2) (T := TJ2) (N := 3) hx hb hts in_J2 hown hK hP 0 rfl rfl 0 (by decide) (hts _ q140) (u_same (hts _ q139)) rfl dJ2_clear_2 ?_
  refine lv_iconst (v := (nI 1)) hx hb dJ2_clear_5 (by decide) ?_
  refine lv_iadd hx hb dJ2_clear_6 ?_
  refine va_put (D := D) (ci := 9) (v := .int (x0_modCount + (nI 1))) (ty := (.int)) (C := RJ2) (T := TJ2) (N := 3) hx hb hts in_J2 tyJ2 tyJ2_ok nmJ2 hown hK hP hD hS 0 rfl rfl 0 (by decide) (hts _ q140) (u_same (hts _ q139)) rfl (by decide +kernel) rfl rfl (Nat.le_of_ble_eq_true rfl) dJ2_clear_7 (fun H locs hP hD hS => ?_)
  have hP : va_P D vwCl [(q_x0, .inr (9, [.int (x0_modCount + (nI 1)), .ref (cxE cx), .int x0_size]))] H := hP
  have hD : va_D A [(q_x0, .inr (9, [.int (x0_modCount + (nI 1)), .ref (cxE cx), .int x0_size]))] := hD
  refine lv_aload_n hx hb dJ2_clear_10 rfl (lv_at hl 0 rfl) ?_
  refine va_get (D := D) (ci := 9) (v := .ref (cxE cx)) (C := RJ2) (T := TJ2) (N := 3) hx hb hts in_J2 hown hK hP 0 rfl rfl 1 (by decide) (hts _ q133) (fun _ h9 => h9) rfl dJ2_clear_11 ?_
  refine lv_astore_n (lv' := [(1, .ref (cxE cx)), (0, .ref q_x0)]) hx hb dJ2_clear_14 rfl hl (by decide) rfl (fun ls hl => ?_)
  refine lv_aload_n hx hb dJ2_clear_15 rfl (lv_at hl 1 rfl) ?_
  refine va_get (D := D) (ci := 9) (v := .int x0_size) (C := RJ2) (T := TJ2) (N := 3) hx hb hts in_J2 hown hK hP 0 rfl rfl 2 (by decide) (hts _ q136) (fun _ h9 => h9) rfl dJ2_clear_16 ?_
  refine lv_istore_n (lv' := [(2, .int x0_size), (1, .ref (cxE cx)), (0, .ref q_x0)]) hx hb dJ2_clear_19 rfl hl (by decide) rfl (fun ls hl => ?_)
  refine lv_aload_n hx hb dJ2_clear_20 rfl (lv_at hl 2 rfl) ?_
  refine lv_iconst (v := (nI 0)) hx hb dJ2_clear_21 (by decide) ?_
  refine lv_dup_x1 hx hb dJ2_clear_22 rfl rfl ?_
  refine va_put (D := D) (ci := 9) (v := .int (nI 0)) (ty := (.int)) (C := RJ2) (T := TJ2) (N := 3) hx hb hts in_J2 tyJ2 tyJ2_ok nmJ2 hown hK hP hD hS 0 rfl rfl 2 (by decide) (hts _ q136) (fun _ h9 => h9) rfl (by decide +kernel) rfl rfl (Nat.le_of_ble_eq_true rfl) dJ2_clear_23 (fun H locs hP hD hS => ?_)
  have hP : va_P D vwCl [(q_x0, .inr (9, [.int (x0_modCount + (nI 1)), .ref (cxE cx), .int (nI 0)]))] H := hP
  have hD : va_D A [(q_x0, .inr (9, [.int (x0_modCount + (nI 1)), .ref (cxE cx), .int (nI 0)]))] := hD
  refine lv_istore_n (lv' := [(3, .int (nI 0)), (2, .int x0_size), (1, .ref (cxE cx)), (0, .ref q_x0)]) hx hb dJ2_clear_26 rfl hl (by decide) rfl (fun ls hl => ?_)
  exact hL27   _ _ _ (hP.sub [0] rfl) (hD.sub [0] (by decide) rfl) hS (lv_sub hl [2, 1, 0] rfl) hw
def w_J2_grow_2 (post : Nat → (Nat → Option Nat) → Prop) (bc bs : Nat) (x1 : Int32) : Prop :=
  (∃ N10 : Nat, (mxI (nI 10) x1) = nI N10 ∧ N10 * 8 ≤ 536870912 ∧ (1 ≤ bc ∧ N10 ≤ bs ∧ post N10 (fun _ => none)))
def rm_J2_grow_2 (bc0 bs0 : Nat) : Room := { frames := 1, cells := bc0, slots := bs0, locals := 21 }
set_option maxHeartbeats 4000000 in
set_option maxRecDepth 100000 in
theorem met_J2_grow_2 (l : Launch) (D : va_G) (dA : Nat → ClassId) (cx : CXt) (sz : Nat) (bc0 bs0 : Nat) (q_x0 : Nat) (x0_modCount : Int32) (x0_size : Int32) (x1 : Int32) (post : Nat → (Nat → Option Nat) → Prop) (hw : w_J2_grow_2 post bc0 bs0 x1) : Met l yJ2_grow_2 (ws_ yJ2_grow_2 cJ2_grow_2 4 (some (.array (.object "java/lang/Object")))) (rm_J2_grow_2 bc0 bs0) (va_Pc [.ref q_x0, .int x1] (wrC D dA cx sz [(q_x0, .inr (9, [.int x0_modCount, .ref (cxE cx), .int x0_size]))])) (va_Qr (fun (u : Nat × Nat × (Nat → Option Nat)) => post u.2.1 u.2.2) (fun (u : Nat × Nat × (Nat → Option Nat)) a9 t => a9 = u.1 ∧ wrQ D dA (va_A [(q_x0, .inr (9, [.int x0_modCount, .ref (cxE cx), .int x0_size]))] sz) [(q_x0, .inr (9, [.int x0_modCount, .ref u.1, .int x0_size])), (u.1, .inl (dA 4, u.2.1, .inr (.inr (.inr (.inr u.2.2)))))] t) (va_A [(q_x0, .inr (9, [.int x0_modCount, .ref (cxE cx), .int x0_size]))] sz)) bc0 bs0 (va_A [(q_x0, .inr (9, [.int x0_modCount, .ref (cxE cx), .int x0_size]))] sz) := by
  refine Met.ofW (cc := cJ2_grow_2) (maxL := 4) (ret := (some (.array (.object "java/lang/Object")))) (by decide) rfl ?_
  intro p e s m args below meth c s₁ B hml hv
  obtain ⟨rfl, hsz, hP, hK, hD0, hC⟩ := hv
  have hx := B.exec
  have hb := B.bytes
  have hr := B.returns
  have hts := atoms_spec (ws := (ws_ yJ2_grow_2 cJ2_grow_2 4 (some (.array (.object "java/lang/Object"))))) B.pre
  have hts : ∀ w ∈ lw_all, w.before _ s = true := fun w h => hts w (List.mem_cons_of_mem _ h)
  have hown : s.vm.findClass RJ2 = some m.cls := findClass_of_methodNamed B.named
  have hlocks := B.notSynchronized
  have hSx : CallFix p m c cJ2_grow_2 4 s _ lw_all RJ2 := ⟨hx, hb, hml, hown, hts⟩
  subst hsz
  have hD := hD0.self (sz := s.heap.size)
  generalize hAe : va_A [(q_x0, .inr (9, [.int x0_modCount, .ref (cxE cx), .int x0_size]))] s.heap.size = A at hD hC ⊢
  have hA : ∀ q : Nat, s.heap.size ≤ q → A q := fun q h => by rw [← hAe]; exact Or.inr h
  have hS : va_S A s.heap s.heap [] := va_S.rf
  have hbud : 0 + bc0 ≤ bc0 ∧ 0 + bs0 ≤ bs0 := by omega
  have hNW := hC.1
  have hl := lv_entry ([.ref q_x0, .int x1]) (n := 4) (Nat.le_of_ble_eq_true rfl)
  rw [lg_entry_eq]
  generalize (lg_sl ([.ref q_x0, .int x1]) ++ List.replicate (4 - (lg_sl ([.ref q_x0, .int x1])).length) Slot.unset).toArray = ls at hl ⊢
  have hl : lv_has ls 4 [(0, .ref q_x0), (1, .int x1)] := hl
  refine lv_aload_n hx hb dJ2_grow_2_0 rfl (lv_at hl 0 rfl) ?_
  refine va_get (D := D) (ci := 9) (v := .ref (cxE cx)) (C := RJ2) (T := TJ2) (N := 3) hx hb hts in_J2 hown hK hP 0 rfl rfl 1 (by decide) (hts _ q133) (fun _ h9 => h9) rfl dJ2_grow_2_1 ?_
  refine va_alen (v := (nI 0)) hx hb hK (hC.kept hS.2.1).em.1 0 4 rfl rfl rfl dJ2_grow_2_4 ?_
  refine lv_istore_n (lv' := [(2, .int (nI 0)), (0, .ref q_x0), (1, .int x1)]) hx hb dJ2_grow_2_5 rfl hl (by decide) rfl (fun ls hl => ?_)
  refine lv_iload_n hx hb dJ2_grow_2_6 rfl (lv_at hl 0 rfl) ?_
  refine lv_if_gt (tgt := 20) hx hb dJ2_grow_2_7 (by decide) (fun c8 => absurd c8 (by decide)) (fun _ => ?_)
  refine lv_aload_n hx hb dJ2_grow_2_10 rfl (lv_at hl 1 rfl) ?_
  refine va_get (D := D) (ci := 9) (v := .ref (cxE cx)) (C := RJ2) (T := TJ2) (N := 3) hx hb hts in_J2 hown hK hP 0 rfl rfl 1 (by decide) (hts _ q133) (fun _ h9 => h9) rfl dJ2_grow_2_11 ?_
  refine va_gets (v := .ref (cxE cx)) hx hb hC.de hS hown (hts _ q131) (fun _ h9 => h9) dJ2_grow_2_14 ?_
  refine lv_acmp_eq (rx := some (cxE cx)) (ry := some (cxE cx)) (tgt := 45) hx hb dJ2_grow_2_17 (by decide) (fun _ => ?_) (fun h9 => absurd rfl h9)
  refine lv_aload_n hx hb dJ2_grow_2_45 rfl (lv_at hl 1 rfl) ?_
  refine lv_bipush (v := (nI 10)) hx hb dJ2_grow_2_46 (by decide) ?_
  refine lv_iload_n hx hb dJ2_grow_2_48 rfl (lv_at hl 2 rfl) ?_
  refine k_mmax hSx hl.1 q1124 q491 q82 q492 (Nat.le_of_ble_eq_true rfl) (Nat.le_of_ble_eq_true rfl) (show 0 ≤ bc0 by omega) (show 0 ≤ bs0 by omega) dJ2_grow_2_49 ?_
  refine lv_topi (fun z9 ez9 => ?_)
  obtain rfl : z9 = (mxI (nI 10) x1) := ez9
  obtain ⟨N10, h11, h12, hw⟩ := hw
  obtain ⟨h13, h14, hw⟩ := hw
  refine k_newq hx hb hown (hts _ q1125) hC.ao 4 rfl hK hP hD hS hA (by rw [h11]; exact nI_pos (by omega)) (by rw [h11]; exact clK N10 (by omega)) (by first | omega | (dsimp only [componentBytes]; omega)) (show 0 + 1 ≤ bc0 by omega) (show 0 + N10 ≤ bs0 by omega) dJ2_grow_2_52 (fun q9 H hP hD hS => ?_)
  have hP : va_P D vwCl [(q_x0, .inr (9, [.int x0_modCount, .ref (cxE cx), .int x0_size])), (q9, .inl (dA 4, N10, .inr (.inr (.inr (.inr (fun _ => none))))))] H := hP
  have hD : va_D A [(q_x0, .inr (9, [.int x0_modCount, .ref (cxE cx), .int x0_size])), (q9, .inl (dA 4, N10, .inr (.inr (.inr (.inr (fun _ => none))))))] := hD
  have hbud : (0 + 1) + (bc0 - 1) ≤ bc0 ∧ (0 + N10) + (bs0 - N10) ≤ bs0 := by omega
  refine lv_dup_x1 hx hb dJ2_grow_2_55 rfl rfl ?_
  refine va_put (D := D) (ci := 9) (v := .ref q9) (ty := (.array (.object "java/lang/Object"))) (C := RJ2) (T := TJ2) (N := 3) hx hb hts in_J2 tyJ2 tyJ2_ok nmJ2 hown hK hP hD hS 0 rfl rfl 1 (by decide) (hts _ q133) (fun _ h9 => h9) rfl (by decide +kernel) rfl rfl (Nat.le_of_ble_eq_true rfl) dJ2_grow_2_56 (fun H locs hP hD hS => ?_)
  have hP : va_P D vwCl [(q_x0, .inr (9, [.int x0_modCount, .ref q9, .int x0_size])), (q9, .inl (dA 4, N10, .inr (.inr (.inr (.inr (fun _ => none))))))] H := hP
  have hD : va_D A [(q_x0, .inr (9, [.int x0_modCount, .ref q9, .int x0_size])), (q9, .inl (dA 4, N10, .inr (.inr (.inr (.inr (fun _ => none))))))] := hD
  refine W.widen (k := bc0) (n := bs0) (by omega) (by omega) ?_
  exact W.aret (v := .ref q9) hx hb hr (Or.inr ⟨_, rfl⟩) (Or.inr ⟨_, rfl⟩) (fun t ht hW => ⟨⟨(q9, N10, (fun _ => none)), _, rfl, hw, rfl, by rw [ht]; exact hP.sub [0, 1] rfl, va_K.moved hW.alike hK, hD.sub [0, 1] (by decide) rfl⟩, hS.F ht⟩) hS.2.2 dJ2_grow_2_59
def w_J2_grow (post : Nat → (Nat → Option Nat) → Prop) (bc bs : Nat) (x0_size : Int32) : Prop :=
  (∃ b11 b12 : Nat, b11 ≤ bc ∧ b12 ≤ bs ∧ w_J2_grow_2 (fun o9 o10 => post o9 o10) b11 b12 (x0_size + (nI 1)))
theorem hd_J2_grow_2 : yJ2_grow_2.cls ≠ "java/lang/invoke/MethodHandle" ∧ yJ2_grow_2.cls ≠ "java/lang/invoke/VarHandle" ∧ (parseMethodDescriptor yJ2_grow_2.desc).map (fun d => d.parameters.length) = some 1 := by decide +kernel
theorem gJ2_69 : GoodIn lw_all (wsV RJ2 69 RJ2 yJ2_grow_2 (ws_ yJ2_grow_2 cJ2_grow_2 4 (some (.array (.object "java/lang/Object"))))) := lw_V q1118 q1120 qs21 q71 q1121
def rm_J2_grow (bc0 bs0 : Nat) : Room := { frames := 2, cells := bc0, slots := bs0, locals := 44 }
set_option maxHeartbeats 4000000 in
set_option maxRecDepth 100000 in
theorem met_J2_grow (l : Launch) (D : va_G) (dA : Nat → ClassId) (cx : CXt) (sz : Nat) (bc0 bs0 : Nat) (q_x0 : Nat) (x0_modCount : Int32) (x0_size : Int32) (post : Nat → (Nat → Option Nat) → Prop) (hw : w_J2_grow post bc0 bs0 x0_size) : Met l yJ2_grow (ws_ yJ2_grow cJ2_grow 1 (some (.array (.object "java/lang/Object")))) (rm_J2_grow bc0 bs0) (va_Pc [.ref q_x0] (wrC D dA cx sz [(q_x0, .inr (9, [.int x0_modCount, .ref (cxE cx), .int x0_size]))])) (va_Qr (fun (u : Nat × Nat × (Nat → Option Nat)) => post u.2.1 u.2.2) (fun (u : Nat × Nat × (Nat → Option Nat)) a9 t => a9 = u.1 ∧ wrQ D dA (va_A [(q_x0, .inr (9, [.int x0_modCount, .ref (cxE cx), .int x0_size]))] sz) [(q_x0, .inr (9, [.int x0_modCount, .ref u.1, .int x0_size])), (u.1, .inl (dA 4, u.2.1, .inr (.inr (.inr (.inr u.2.2)))))] t) (va_A [(q_x0, .inr (9, [.int x0_modCount, .ref (cxE cx), .int x0_size]))] sz)) bc0 bs0 (va_A [(q_x0, .inr (9, [.int x0_modCount, .ref (cxE cx), .int x0_size]))] sz) := by
  refine Met.ofW (cc := cJ2_grow) (maxL := 1) (ret := (some (.array (.object "java/lang/Object")))) (by decide) rfl ?_
  intro p e s m args below meth c s₁ B hml hv
  obtain ⟨rfl, hsz, hP, hK, hD0, hC⟩ := hv
  have hx := B.exec
  have hb := B.bytes
  have hr := B.returns
  have hts := atoms_spec (ws := (ws_ yJ2_grow cJ2_grow 1 (some (.array (.object "java/lang/Object"))))) B.pre
  have hts : ∀ w ∈ lw_all, w.before _ s = true := fun w h => hts w (List.mem_cons_of_mem _ h)
  have hown : s.vm.findClass RJ2 = some m.cls := findClass_of_methodNamed B.named
  have hlocks := B.notSynchronized
  have hSx : CallFix p m c cJ2_grow 1 s _ lw_all RJ2 := ⟨hx, hb, hml, hown, hts⟩
  subst hsz
  have hD := hD0.self (sz := s.heap.size)
  generalize hAe : va_A [(q_x0, .inr (9, [.int x0_modCount, .ref (cxE cx), .int x0_size]))] s.heap.size = A at hD hC ⊢
  have hA : ∀ q : Nat, s.heap.size ≤ q → A q := fun q h => by rw [← hAe]; exact Or.inr h
  have hS : va_S A s.heap s.heap [] := va_S.rf
  have hbud : 0 + bc0 ≤ bc0 ∧ 0 + bs0 ≤ bs0 := by omega
  have hNW := hC.1
  have hl := lv_entry ([.ref q_x0]) (n := 1) (Nat.le_of_ble_eq_true rfl)
  rw [lg_entry_eq]
  generalize (lg_sl ([.ref q_x0]) ++ List.replicate (1 - (lg_sl ([.ref q_x0])).length) Slot.unset).toArray = ls at hl ⊢
  have hl : lv_has ls 1 [(0, .ref q_x0)] := hl
  refine lv_aload_n hx hb dJ2_grow_0 rfl (lv_at hl 0 rfl) ?_
  refine lv_aload_n hx hb dJ2_grow_1 rfl (lv_at hl 0 rfl) ?_
  refine va_get (D := D) (ci := 9) (v := .int x0_size) (C := RJ2) (T := TJ2) (N := 3) hx hb hts in_J2 hown hK hP 0 rfl rfl 2 (by decide) (hts _ q136) (fun _ h9 => h9) rfl dJ2_grow_2 ?_
  refine lv_iconst (v := (nI 1)) hx hb dJ2_grow_5 (by decide) ?_
  refine lv_iadd hx hb dJ2_grow_6 ?_
  obtain ⟨b11, b12, h13, h14, hw⟩ := hw
  refine k_wr (wn := fun (u : Nat × Nat × (Nat → Option Nat)) => [(q_x0, .inr (9, [.int x0_modCount, .ref u.1, .int x0_size])), (u.1, .inl (dA 4, u.2.1, .inr (.inr (.inr (.inr u.2.2)))))]) (wr := []) (ra := fun (u : Nat × Nat × (Nat → Option Nat)) => u.1) (kc_wV (As := [.int (x0_size + (nI 1))]) (rest := []) hSx (met_J2_grow_2 l D dA cx _ b11 b12 q_x0 x0_modCount x0_size (x0_size + (nI 1)) _ hw) gJ2_69 ⟨rfl, hd_J2_grow_2⟩ ⟨Nat.le_of_ble_eq_true rfl, Nat.le_of_ble_eq_true rfl⟩ rfl rfl hP hK hD hS hA (hC.kept hS.2.1) [0] rfl (by decide) rfl 0 rfl rfl rfl rfl hl.1 (Nat.le_of_ble_eq_true rfl) rfl dJ2_grow_7 ⟨(show 0 + b11 ≤ bc0 by omega), (show 0 + b12 ≤ bs0 by omega)⟩) hP hD hS hA [0] [] [0, 1] rfl rfl (by decide) (by decide) (by decide) (fun _ => rfl) (fun _ => rfl) (fun u H locs hw _ hP hD hS => ?_)
  obtain ⟨q8, o9, o10⟩ := u
  have hP : va_P D vwCl [(q_x0, .inr (9, [.int x0_modCount, .ref q8, .int x0_size])), (q8, .inl (dA 4, o9, .inr (.inr (.inr (.inr o10)))))] H := hP
  have hD : va_D A [(q_x0, .inr (9, [.int x0_modCount, .ref q8, .int x0_size])), (q8, .inl (dA 4, o9, .inr (.inr (.inr (.inr o10)))))] := hD
  have hbud : (0 + b11) + (bc0 - b11) ≤ bc0 ∧ (0 + b12) + (bs0 - b12) ≤ bs0 := by omega
  refine W.widen (k := bc0) (n := bs0) (by omega) (by omega) ?_
  exact W.aret (v := .ref q8) hx hb hr (Or.inr ⟨_, rfl⟩) (Or.inr ⟨_, rfl⟩) (fun t ht hW => ⟨⟨(q8, o9, o10), _, rfl, hw, rfl, by rw [ht]; exact hP.sub [0, 1] rfl, va_K.moved hW.alike hK, hD.sub [0, 1] (by decide) rfl⟩, hS.F ht⟩) hS.2.2 dJ2_grow_10
def w_J2_add_2n_11 (post : (Nat → Option Nat) → Prop) (n_x0_elementData : Nat) (a_x0_elementData : (Nat → Option Nat)) (q_x1 : Nat) (x3 : Int32)   : Prop :=
  (vp_in x3 n_x0_elementData ∧ post (va_up a_x0_elementData x3.toNatClampNeg (some q_x1)))
def w_J2_add_2n (post : (Nat → Option Nat) → Prop) (n_x0_elementData : Nat) (a_x0_elementData : (Nat → Option Nat)) (q_x1 : Nat) (x3 : Int32) : Prop :=
  ((x3 = (nI n_x0_elementData) → False) ∧ (¬ x3 = (nI n_x0_elementData) → (w_J2_add_2n_11 post n_x0_elementData a_x0_elementData q_x1 x3) ))
def rm_J2_add_2n : Room := { frames := 0, cells := 0, slots := 0, locals := 0 }
set_option maxHeartbeats 4000000 in
set_option maxRecDepth 100000 in
theorem met_J2_add_2n (l : Launch) (D : va_G) (dA : Nat → ClassId) (cx : CXt) (sz : Nat) (q_x0 : Nat) (x0_modCount : Int32) (q_x0_elementData : Nat) (n_x0_elementData : Nat) (a_x0_elementData : (Nat → Option Nat)) (x0_size : Int32) (q_x1 : Nat) (x1_courtier : Int32) (q_x1_symbols : Nat) (n_x1_symbols : Nat) (a_x1_symbols : (Nat → Int32)) (x1_value : Int32) (x1_depth : Int32) (x3 : Int32) (post : (Nat → Option Nat) → Prop) (hw : w_J2_add_2n post n_x0_elementData a_x0_elementData q_x1 x3) : Met l yJ2_add_2 (ws_ yJ2_add_2 cJ2_add_2 4 none) rm_J2_add_2n (va_Pc [.ref q_x0, .ref q_x1, .ref q_x0_elementData, .int x3] (wrC D dA cx sz [(q_x0, .inr (9, [.int x0_modCount, .ref q_x0_elementData, .int x0_size])), (q_x0_elementData, .inl (dA 4, n_x0_elementData, .inr (.inr (.inr (.inr a_x0_elementData))))), (q_x1, .inr (7, [.int x1_courtier, .ref q_x1_symbols, .int x1_value, .int x1_depth])), (q_x1_symbols, .inl (dA 1, n_x1_symbols, .inl a_x1_symbols))])) (va_Qv (fun (u : (Nat → Option Nat)) => post u) (fun (u : (Nat → Option Nat)) t => wrQ D dA (va_A [(q_x0, .inr (9, [.int x0_modCount, .ref q_x0_elementData, .int x0_size])), (q_x0_elementData, .inl (dA 4, n_x0_elementData, .inr (.inr (.inr (.inr a_x0_elementData))))), (q_x1, .inr (7, [.int x1_courtier, .ref q_x1_symbols, .int x1_value, .int x1_depth])), (q_x1_symbols, .inl (dA 1, n_x1_symbols, .inl a_x1_symbols))] sz) [(q_x0, .inr (9, [.int x0_modCount, .ref q_x0_elementData, .int (x3 + (nI 1))])), (q_x1, .inr (7, [.int x1_courtier, .ref q_x1_symbols, .int x1_value, .int x1_depth])), (q_x0_elementData, .inl (dA 4, n_x0_elementData, .inr (.inr (.inr (.inr u))))), (q_x1_symbols, .inl (dA 1, n_x1_symbols, .inl a_x1_symbols))] t) (va_A [(q_x0, .inr (9, [.int x0_modCount, .ref q_x0_elementData, .int x0_size])), (q_x0_elementData, .inl (dA 4, n_x0_elementData, .inr (.inr (.inr (.inr a_x0_elementData))))), (q_x1, .inr (7, [.int x1_courtier, .ref q_x1_symbols, .int x1_value, .int x1_depth])), (q_x1_symbols, .inl (dA 1, n_x1_symbols, .inl a_x1_symbols))] sz)) 0 0 (va_A [(q_x0, .inr (9, [.int x0_modCount, .ref q_x0_elementData, .int x0_size])), (q_x0_elementData, .inl (dA 4, n_x0_elementData, .inr (.inr (.inr (.inr a_x0_elementData))))), (q_x1, .inr (7, [.int x1_courtier, .ref q_x1_symbols, .int x1_value, .int x1_depth])), (q_x1_symbols, .inl (dA 1, n_x1_symbols, .inl a_x1_symbols))] sz) := by
  refine Met.ofW (cc := cJ2_add_2) (maxL := 4) (ret := none) (by decide) rfl ?_
  intro p e s m args below meth c s₁ B hml hv
  obtain ⟨rfl, hsz, hP, hK, hD0, hC⟩ := hv
  have hx := B.exec
  have hb := B.bytes
  have hr := B.returns
  have hts := atoms_spec (ws := (ws_ yJ2_add_2 cJ2_add_2 4 none)) B.pre
  have hts : ∀ w ∈ lw_all, w.before _ s = true := fun w h => hts w (List.mem_cons_of_mem _ h)
  have hown : s.vm.findClass RJ2 = some m.cls := findClass_of_methodNamed B.named
  have hlocks := B.notSynchronized
  have hSx : CallFix p m c cJ2_add_2 4 s _ lw_all RJ2 := ⟨hx, hb, hml, hown, hts⟩
  subst hsz
  have hD := hD0.self (sz := s.heap.size)
  generalize hAe : va_A [(q_x0, .inr (9, [.int x0_modCount, .ref q_x0_elementData, .int x0_size])), (q_x0_elementData, .inl (dA 4, n_x0_elementData, .inr (.inr (.inr (.inr a_x0_elementData))))), (q_x1, .inr (7, [.int x1_courtier, .ref q_x1_symbols, .int x1_value, .int x1_depth])), (q_x1_symbols, .inl (dA 1, n_x1_symbols, .inl a_x1_symbols))] s.heap.size = A at hD hC ⊢
  have hA : ∀ q : Nat, s.heap.size ≤ q → A q := fun q h => by rw [← hAe]; exact Or.inr h
  have hS : va_S A s.heap s.heap [] := va_S.rf
  have hNW := hC.1
  have hl := lv_entry ([.ref q_x0, .ref q_x1, .ref q_x0_elementData, .int x3]) (n := 4) (Nat.le_of_ble_eq_true rfl)
  rw [lg_entry_eq]
  generalize (lg_sl ([.ref q_x0, .ref q_x1, .ref q_x0_elementData, .int x3]) ++ List.replicate (4 - (lg_sl ([.ref q_x0, .ref q_x1, .ref q_x0_elementData, .int x3])).length) Slot.unset).toArray = ls at hl ⊢
  have hl : lv_has ls 4 [(0, .ref q_x0), (1, .ref q_x1), (2, .ref q_x0_elementData), (3, .int x3)] := hl
  have hL11 : ∀   (H : Heap) (locs : List Loc) (ls : Array Slot), va_P D vwCl [(q_x0, .inr (9, [.int x0_modCount, .ref q_x0_elementData, .int x0_size])), (q_x1, .inr (7, [.int x1_courtier, .ref q_x1_symbols, .int x1_value, .int x1_depth])), (q_x0_elementData, .inl (dA 4, n_x0_elementData, .inr (.inr (.inr (.inr a_x0_elementData))))), (q_x1_symbols, .inl (dA 1, n_x1_symbols, .inl a_x1_symbols))] H → va_D A [(q_x0, .inr (9, [.int x0_modCount, .ref q_x0_elementData, .int x0_size])), (q_x1, .inr (7, [.int x1_courtier, .ref q_x1_symbols, .int x1_value, .int x1_depth])), (q_x0_elementData, .inl (dA 4, n_x0_elementData, .inr (.inr (.inr (.inr a_x0_elementData))))), (q_x1_symbols, .inl (dA 1, n_x1_symbols, .inl a_x1_symbols))] → va_S A s.heap H locs → lv_has ls 4 [(0, .ref q_x0), (1, .ref q_x1), (2, .ref q_x0_elementData), (3, .int x3)] → (w_J2_add_2n_11 post n_x0_elementData a_x0_elementData q_x1 x3)  → W p l e (headSpec (ws_ yJ2_add_2 cJ2_add_2 4 none) (rm_J2_add_2n)).room s m ([.ref q_x0, .ref q_x1, .ref q_x0_elementData, .int x3] : List Value).toArray below meth c H locs 0 0 (MQ below (va_Qv (fun (u : (Nat → Option Nat)) => post u) (fun (u : (Nat → Option Nat)) t => wrQ D dA A [(q_x0, .inr (9, [.int x0_modCount, .ref q_x0_elementData, .int (x3 + (nI 1))])), (q_x1, .inr (7, [.int x1_courtier, .ref q_x1_symbols, .int x1_value, .int x1_depth])), (q_x0_elementData, .inl (dA 4, n_x0_elementData, .inr (.inr (.inr (.inr u))))), (q_x1_symbols, .inl (dA 1, n_x1_symbols, .inl a_x1_symbols))] t) A) ([.ref q_x0, .ref q_x1, .ref q_x0_elementData, .int x3] : List Value).toArray s 0 0 A) (F0 m 11 ls []) := by
      intro   H locs ls hP hD hS hl hw
      refine lv_aload_n hx hb dJ2_add_2_11 rfl (lv_at hl 2 rfl) ?_
      refine lv_iload_n hx hb dJ2_add_2_12 rfl (lv_at hl 3 rfl) ?_
      refine lv_aload_n hx hb dJ2_add_2_13 rfl (lv_at hl 1 rfl) ?_
      obtain ⟨h5, hw⟩ := hw
      refine k_astqO (k := x3.toNatClampNeg) hx hb hK hP hD hS hNW 2 4 1 7 rfl rfl q2206 rfl rfl rfl h5 dJ2_add_2_14 (fun H locs hP hD hS => ?_)
      have hP : va_P D vwCl [(q_x0, .inr (9, [.int x0_modCount, .ref q_x0_elementData, .int x0_size])), (q_x1, .inr (7, [.int x1_courtier, .ref q_x1_symbols, .int x1_value, .int x1_depth])), (q_x0_elementData, .inl (dA 4, n_x0_elementData, .inr (.inr (.inr (.inr (va_up a_x0_elementData x3.toNatClampNeg (some q_x1))))))), (q_x1_symbols, .inl (dA 1, n_x1_symbols, .inl a_x1_symbols))] H := hP
      have hD : va_D A [(q_x0, .inr (9, [.int x0_modCount, .ref q_x0_elementData, .int x0_size])), (q_x1, .inr (7, [.int x1_courtier, .ref q_x1_symbols, .int x1_value, .int x1_depth])), (q_x0_elementData, .inl (dA 4, n_x0_elementData, .inr (.inr (.inr (.inr (va_up a_x0_elementData x3.toNatClampNeg (some q_x1))))))), (q_x1_symbols, .inl (dA 1, n_x1_symbols, .inl a_x1_symbols))] := hD
      refine lv_aload_n hx hb dJ2_add_2_15 rfl (lv_at hl 0 rfl) ?_
      refine lv_iload_n hx hb dJ2_add_2_16 rfl (lv_at hl 3 rfl) ?_
      refine lv_iconst (v := (nI 1)) hx hb dJ2_add_2_17 (by decide) ?_
      refine lv_iadd hx hb dJ2_add_2_18 ?_
      refine va_put (D := D) (ci := 9) (v := .int (x3 + (nI 1))) (ty := (.int)) (C := RJ2) (T := TJ2) (N := 3) hx hb hts in_J2 tyJ2 tyJ2_ok nmJ2 hown hK hP hD hS 0 rfl rfl 2 (by decide) (hts _ q136) (fun _ h9 => h9) rfl (by decide +kernel) rfl rfl (Nat.le_of_ble_eq_true rfl) dJ2_add_2_19 (fun H locs hP hD hS => ?_)
      have hP : va_P D vwCl [(q_x0, .inr (9, [.int x0_modCount, .ref q_x0_elementData, .int (x3 + (nI 1))])), (q_x1, .inr (7, [.int x1_courtier, .ref q_x1_symbols, .int x1_value, .int x1_depth])), (q_x0_elementData, .inl (dA 4, n_x0_elementData, .inr (.inr (.inr (.inr (va_up a_x0_elementData x3.toNatClampNeg (some q_x1))))))), (q_x1_symbols, .inl (dA 1, n_x1_symbols, .inl a_x1_symbols))] H := hP
      have hD : va_D A [(q_x0, .inr (9, [.int x0_modCount, .ref q_x0_elementData, .int (x3 + (nI 1))])), (q_x1, .inr (7, [.int x1_courtier, .ref q_x1_symbols, .int x1_value, .int x1_depth])), (q_x0_elementData, .inl (dA 4, n_x0_elementData, .inr (.inr (.inr (.inr (va_up a_x0_elementData x3.toNatClampNeg (some q_x1))))))), (q_x1_symbols, .inl (dA 1, n_x1_symbols, .inl a_x1_symbols))] := hD
      exact W.vret hx hb hr (fun t ht hW => ⟨⟨(va_up a_x0_elementData x3.toNatClampNeg (some q_x1)), rfl, hw, by rw [ht]; exact hP.sub [0, 1, 2, 3] rfl, va_K.moved hW.alike hK, hD.sub [0, 1, 2, 3] (by decide) rfl⟩, hS.F ht⟩) hS.2.2 dJ2_add_2_22
  refine lv_iload_n hx hb dJ2_add_2_0 rfl (lv_at hl 3 rfl) ?_
  refine lv_aload_n hx hb dJ2_add_2_1 rfl (lv_at hl 2 rfl) ?_
  refine va_alen (v := (nI n_x0_elementData)) hx hb hK hP 1 4 rfl rfl rfl dJ2_add_2_2 ?_
  refine lv_icmp_ne (tgt := 11) hx hb dJ2_add_2_3 (by decide) (fun c6 => ?_) (fun c6 => ?_)
  · have hw := hw.2 c6
    exact hL11   _ _ _ (hP.sub [0, 2, 1, 3] rfl) (hD.sub [0, 2, 1, 3] (by decide) rfl) hS (lv_sub hl [0, 1, 2, 3] rfl) hw
  · have hw := hw.1 c6
    refine lv_aload_n hx hb dJ2_add_2_6 rfl (lv_at hl 0 rfl) ?_
    exact (show False from hw).elim
def w_J2_add_2en_11a (post : Nat → (Nat → Option Nat) → Prop)   (bc bs : Nat)  : Prop :=
  False
def w_J2_add_2en_11b (post : Nat → (Nat → Option Nat) → Prop) (q_x1 : Nat) (x3 : Int32)  (bc bs : Nat) (n2 : Nat) (a2 : (Nat → Option Nat)) : Prop :=
  (vp_in x3 n2 ∧ post n2 (va_up a2 x3.toNatClampNeg (some q_x1)))
def w_J2_add_2en (post : Nat → (Nat → Option Nat) → Prop) (bc bs : Nat) (x0_size : Int32) (q_x1 : Nat) (x3 : Int32) : Prop :=
  ((x3 = (nI 0) → (∃ b24 b25 : Nat, b24 ≤ bc ∧ b25 ≤ bs ∧ w_J2_grow (fun o22 o23 => (w_J2_add_2en_11b post q_x1 x3) (bc - b24) (bs - b25) o22 o23) b24 b25 x0_size)) ∧ (¬ x3 = (nI 0) → (w_J2_add_2en_11a post) bc bs ))
theorem hd_J2_grow : yJ2_grow.cls ≠ "java/lang/invoke/MethodHandle" ∧ yJ2_grow.cls ≠ "java/lang/invoke/VarHandle" ∧ (parseMethodDescriptor yJ2_grow.desc).map (fun d => d.parameters.length) = some 0 := by decide +kernel
theorem gJ2_129 : GoodIn lw_all (wsV RJ2 129 RJ2 yJ2_grow (ws_ yJ2_grow cJ2_grow 1 (some (.array (.object "java/lang/Object"))))) := lw_V q1114 q1116 qs20 q71 q1117
def rm_J2_add_2en (bc0 bs0 : Nat) : Room := { frames := 3, cells := bc0, slots := bs0, locals := 64 }
set_option maxHeartbeats 4000000 in
set_option maxRecDepth 100000 in
theorem met_J2_add_2en (l : Launch) (D : va_G) (dA : Nat → ClassId) (cx : CXt) (sz : Nat) (bc0 bs0 : Nat) (q_x0 : Nat) (x0_modCount : Int32) (x0_size : Int32) (q_x1 : Nat) (x1_courtier : Int32) (q_x1_symbols : Nat) (n_x1_symbols : Nat) (a_x1_symbols : (Nat → Int32)) (x1_value : Int32) (x1_depth : Int32) (x3 : Int32) (post : Nat → (Nat → Option Nat) → Prop) (hw : w_J2_add_2en post bc0 bs0 x0_size q_x1 x3) : Met l yJ2_add_2 (ws_ yJ2_add_2 cJ2_add_2 4 none) (rm_J2_add_2en bc0 bs0) (va_Pc [.ref q_x0, .ref q_x1, .ref (cxE cx), .int x3] (wrC D dA cx sz [(q_x0, .inr (9, [.int x0_modCount, .ref (cxE cx), .int x0_size])), (q_x1, .inr (7, [.int x1_courtier, .ref q_x1_symbols, .int x1_value, .int x1_depth])), (q_x1_symbols, .inl (dA 1, n_x1_symbols, .inl a_x1_symbols))])) (va_Qv (fun (u : Nat × Nat × (Nat → Option Nat)) => post u.2.1 u.2.2) (fun (u : Nat × Nat × (Nat → Option Nat)) t => wrQ D dA (va_A [(q_x0, .inr (9, [.int x0_modCount, .ref (cxE cx), .int x0_size])), (q_x1, .inr (7, [.int x1_courtier, .ref q_x1_symbols, .int x1_value, .int x1_depth])), (q_x1_symbols, .inl (dA 1, n_x1_symbols, .inl a_x1_symbols))] sz) [(q_x0, .inr (9, [.int x0_modCount, .ref u.1, .int (x3 + (nI 1))])), (q_x1, .inr (7, [.int x1_courtier, .ref q_x1_symbols, .int x1_value, .int x1_depth])), (u.1, .inl (dA 4, u.2.1, .inr (.inr (.inr (.inr u.2.2))))), (q_x1_symbols, .inl (dA 1, n_x1_symbols, .inl a_x1_symbols))] t) (va_A [(q_x0, .inr (9, [.int x0_modCount, .ref (cxE cx), .int x0_size])), (q_x1, .inr (7, [.int x1_courtier, .ref q_x1_symbols, .int x1_value, .int x1_depth])), (q_x1_symbols, .inl (dA 1, n_x1_symbols, .inl a_x1_symbols))] sz)) bc0 bs0 (va_A [(q_x0, .inr (9, [.int x0_modCount, .ref (cxE cx), .int x0_size])), (q_x1, .inr (7, [.int x1_courtier, .ref q_x1_symbols, .int x1_value, .int x1_depth])), (q_x1_symbols, .inl (dA 1, n_x1_symbols, .inl a_x1_symbols))] sz) := by
  refine Met.ofW (cc := cJ2_add_2) (maxL := 4) (ret := none) (by decide) rfl ?_
  intro p e s m args below meth c s₁ B hml hv
  obtain ⟨rfl, hsz, hP, hK, hD0, hC⟩ := hv
  have hx := B.exec
  have hb := B.bytes
  have hr := B.returns
  have hts := atoms_spec (ws := (ws_ yJ2_add_2 cJ2_add_2 4 none)) B.pre
  have hts : ∀ w ∈ lw_all, w.before _ s = true := fun w h => hts w (List.mem_cons_of_mem _ h)
  have hown : s.vm.findClass RJ2 = some m.cls := findClass_of_methodNamed B.named
  have hlocks := B.notSynchronized
  have hSx : CallFix p m c cJ2_add_2 4 s _ lw_all RJ2 := ⟨hx, hb, hml, hown, hts⟩
  subst hsz
  have hD := hD0.self (sz := s.heap.size)
  generalize hAe : va_A [(q_x0, .inr (9, [.int x0_modCount, .ref (cxE cx), .int x0_size])), (q_x1, .inr (7, [.int x1_courtier, .ref q_x1_symbols, .int x1_value, .int x1_depth])), (q_x1_symbols, .inl (dA 1, n_x1_symbols, .inl a_x1_symbols))] s.heap.size = A at hD hC ⊢
  have hA : ∀ q : Nat, s.heap.size ≤ q → A q := fun q h => by rw [← hAe]; exact Or.inr h
  have hS : va_S A s.heap s.heap [] := va_S.rf
  have hbud : 0 + bc0 ≤ bc0 ∧ 0 + bs0 ≤ bs0 := by omega
  have hNW := hC.1
  have hl := lv_entry ([.ref q_x0, .ref q_x1, .ref (cxE cx), .int x3]) (n := 4) (Nat.le_of_ble_eq_true rfl)
  rw [lg_entry_eq]
  generalize (lg_sl ([.ref q_x0, .ref q_x1, .ref (cxE cx), .int x3]) ++ List.replicate (4 - (lg_sl ([.ref q_x0, .ref q_x1, .ref (cxE cx), .int x3])).length) Slot.unset).toArray = ls at hl ⊢
  have hl : lv_has ls 4 [(0, .ref q_x0), (1, .ref q_x1), (2, .ref (cxE cx)), (3, .int x3)] := hl
  have hL11a : ∀  (bc bs kc ks : Nat)  (H : Heap) (locs : List Loc) (ls : Array Slot), kc + bc ≤ bc0 ∧ ks + bs ≤ bs0 → va_P D vwCl [(q_x0, .inr (9, [.int x0_modCount, .ref (cxE cx), .int x0_size])), (q_x1, .inr (7, [.int x1_courtier, .ref q_x1_symbols, .int x1_value, .int x1_depth])), (q_x1_symbols, .inl (dA 1, n_x1_symbols, .inl a_x1_symbols))] H → va_D A [(q_x0, .inr (9, [.int x0_modCount, .ref (cxE cx), .int x0_size])), (q_x1, .inr (7, [.int x1_courtier, .ref q_x1_symbols, .int x1_value, .int x1_depth])), (q_x1_symbols, .inl (dA 1, n_x1_symbols, .inl a_x1_symbols))] → va_S A s.heap H locs → lv_has ls 4 [(0, .ref q_x0), (1, .ref q_x1), (2, .ref (cxE cx)), (3, .int x3)] → (w_J2_add_2en_11a post) bc bs  → W p l e (headSpec (ws_ yJ2_add_2 cJ2_add_2 4 none) (rm_J2_add_2en bc0 bs0)).room s m ([.ref q_x0, .ref q_x1, .ref (cxE cx), .int x3] : List Value).toArray below meth c H locs kc ks (MQ below (va_Qv (fun (u : Nat × Nat × (Nat → Option Nat)) => post u.2.1 u.2.2) (fun (u : Nat × Nat × (Nat → Option Nat)) t => wrQ D dA A [(q_x0, .inr (9, [.int x0_modCount, .ref u.1, .int (x3 + (nI 1))])), (q_x1, .inr (7, [.int x1_courtier, .ref q_x1_symbols, .int x1_value, .int x1_depth])), (u.1, .inl (dA 4, u.2.1, .inr (.inr (.inr (.inr u.2.2))))), (q_x1_symbols, .inl (dA 1, n_x1_symbols, .inl a_x1_symbols))] t) A) ([.ref q_x0, .ref q_x1, .ref (cxE cx), .int x3] : List Value).toArray s bc0 bs0 A) (F0 m 11 ls []) := by
      intro  bc bs kc ks  H locs ls hbud hP hD hS hl hw
      refine lv_aload_n hx hb dJ2_add_2_11 rfl (lv_at hl 2 rfl) ?_
      refine lv_iload_n hx hb dJ2_add_2_12 rfl (lv_at hl 3 rfl) ?_
      refine lv_aload_n hx hb dJ2_add_2_13 rfl (lv_at hl 1 rfl) ?_
      exact (show False from hw).elim
  have hL11b : ∀  (bc bs kc ks : Nat) (ad2 : Nat) (n2 : Nat) (a2 : (Nat → Option Nat)) (H : Heap) (locs : List Loc) (ls : Array Slot), kc + bc ≤ bc0 ∧ ks + bs ≤ bs0 → va_P D vwCl [(q_x0, .inr (9, [.int x0_modCount, .ref ad2, .int x0_size])), (q_x1, .inr (7, [.int x1_courtier, .ref q_x1_symbols, .int x1_value, .int x1_depth])), (ad2, .inl (dA 4, n2, .inr (.inr (.inr (.inr a2))))), (q_x1_symbols, .inl (dA 1, n_x1_symbols, .inl a_x1_symbols))] H → va_D A [(q_x0, .inr (9, [.int x0_modCount, .ref ad2, .int x0_size])), (q_x1, .inr (7, [.int x1_courtier, .ref q_x1_symbols, .int x1_value, .int x1_depth])), (ad2, .inl (dA 4, n2, .inr (.inr (.inr (.inr a2))))), (q_x1_symbols, .inl (dA 1, n_x1_symbols, .inl a_x1_symbols))] → va_S A s.heap H locs → lv_has ls 4 [(0, .ref q_x0), (1, .ref q_x1), (2, .ref ad2), (3, .int x3)] → (w_J2_add_2en_11b post q_x1 x3) bc bs n2 a2 → W p l e (headSpec (ws_ yJ2_add_2 cJ2_add_2 4 none) (rm_J2_add_2en bc0 bs0)).room s m ([.ref q_x0, .ref q_x1, .ref (cxE cx), .int x3] : List Value).toArray below meth c H locs kc ks (MQ below (va_Qv (fun (u : Nat × Nat × (Nat → Option Nat)) => post u.2.1 u.2.2) (fun (u : Nat × Nat × (Nat → Option Nat)) t => wrQ D dA A [(q_x0, .inr (9, [.int x0_modCount, .ref u.1, .int (x3 + (nI 1))])), (q_x1, .inr (7, [.int x1_courtier, .ref q_x1_symbols, .int x1_value, .int x1_depth])), (u.1, .inl (dA 4, u.2.1, .inr (.inr (.inr (.inr u.2.2))))), (q_x1_symbols, .inl (dA 1, n_x1_symbols, .inl a_x1_symbols))] t) A) ([.ref q_x0, .ref q_x1, .ref (cxE cx), .int x3] : List Value).toArray s bc0 bs0 A) (F0 m 11 ls []) := by
      intro  bc bs kc ks ad2 n2 a2 H locs ls hbud hP hD hS hl hw
      refine lv_aload_n hx hb dJ2_add_2_11 rfl (lv_at hl 2 rfl) ?_
      refine lv_iload_n hx hb dJ2_add_2_12 rfl (lv_at hl 3 rfl) ?_
      refine lv_aload_n hx hb dJ2_add_2_13 rfl (lv_at hl 1 rfl) ?_
      obtain ⟨h19, hw⟩ := hw
      refine k_astqO (k := x3.toNatClampNeg) hx hb hK hP hD hS hNW 2 4 1 7 rfl rfl q2206 rfl rfl rfl h19 dJ2_add_2_14 (fun H locs hP hD hS => ?_)
      have hP : va_P D vwCl [(q_x0, .inr (9, [.int x0_modCount, .ref ad2, .int x0_size])), (q_x1, .inr (7, [.int x1_courtier, .ref q_x1_symbols, .int x1_value, .int x1_depth])), (ad2, .inl (dA 4, n2, .inr (.inr (.inr (.inr (va_up a2 x3.toNatClampNeg (some q_x1))))))), (q_x1_symbols, .inl (dA 1, n_x1_symbols, .inl a_x1_symbols))] H := hP
      have hD : va_D A [(q_x0, .inr (9, [.int x0_modCount, .ref ad2, .int x0_size])), (q_x1, .inr (7, [.int x1_courtier, .ref q_x1_symbols, .int x1_value, .int x1_depth])), (ad2, .inl (dA 4, n2, .inr (.inr (.inr (.inr (va_up a2 x3.toNatClampNeg (some q_x1))))))), (q_x1_symbols, .inl (dA 1, n_x1_symbols, .inl a_x1_symbols))] := hD
      refine lv_aload_n hx hb dJ2_add_2_15 rfl (lv_at hl 0 rfl) ?_
      refine lv_iload_n hx hb dJ2_add_2_16 rfl (lv_at hl 3 rfl) ?_
      refine lv_iconst (v := (nI 1)) hx hb dJ2_add_2_17 (by decide) ?_
      refine lv_iadd hx hb dJ2_add_2_18 ?_
      refine va_put (D := D) (ci := 9) (v := .int (x3 + (nI 1))) (ty := (.int)) (C := RJ2) (T := TJ2) (N := 3) hx hb hts in_J2 tyJ2 tyJ2_ok nmJ2 hown hK hP hD hS 0 rfl rfl 2 (by decide) (hts _ q136) (fun _ h9 => h9) rfl (by decide +kernel) rfl rfl (Nat.le_of_ble_eq_true rfl) dJ2_add_2_19 (fun H locs hP hD hS => ?_)
      have hP : va_P D vwCl [(q_x0, .inr (9, [.int x0_modCount, .ref ad2, .int (x3 + (nI 1))])), (q_x1, .inr (7, [.int x1_courtier, .ref q_x1_symbols, .int x1_value, .int x1_depth])), (ad2, .inl (dA 4, n2, .inr (.inr (.inr (.inr (va_up a2 x3.toNatClampNeg (some q_x1))))))), (q_x1_symbols, .inl (dA 1, n_x1_symbols, .inl a_x1_symbols))] H := hP
      have hD : va_D A [(q_x0, .inr (9, [.int x0_modCount, .ref ad2, .int (x3 + (nI 1))])), (q_x1, .inr (7, [.int x1_courtier, .ref q_x1_symbols, .int x1_value, .int x1_depth])), (ad2, .inl (dA 4, n2, .inr (.inr (.inr (.inr (va_up a2 x3.toNatClampNeg (some q_x1))))))), (q_x1_symbols, .inl (dA 1, n_x1_symbols, .inl a_x1_symbols))] := hD
      refine W.widen (k := bc0) (n := bs0) (by omega) (by omega) ?_
      exact W.vret hx hb hr (fun t ht hW => ⟨⟨(ad2, n2, (va_up a2 x3.toNatClampNeg (some q_x1))), rfl, hw, by rw [ht]; exact hP.sub [0, 1, 2, 3] rfl, va_K.moved hW.alike hK, hD.sub [0, 1, 2, 3] (by decide) rfl⟩, hS.F ht⟩) hS.2.2 dJ2_add_2_22
  refine lv_iload_n hx hb dJ2_add_2_0 rfl (lv_at hl 3 rfl) ?_
  refine lv_aload_n hx hb dJ2_add_2_1 rfl (lv_at hl 2 rfl) ?_
  refine va_alen (v := (nI 0)) hx hb hK (hC.kept hS.2.1).em.1 0 4 rfl rfl rfl dJ2_add_2_2 ?_
  refine lv_icmp_ne (tgt := 11) hx hb dJ2_add_2_3 (by decide) (fun c20 => ?_) (fun c20 => ?_)
  · have hw := hw.2 c20
    exact hL11a  bc0 bs0 0 0  _ _ _ hbud (hP.sub [0, 1, 2] rfl) (hD.sub [0, 1, 2] (by decide) rfl) hS (lv_sub hl [0, 1, 2, 3] rfl) hw
  · have hw := hw.1 c20
    refine lv_aload_n hx hb dJ2_add_2_6 rfl (lv_at hl 0 rfl) ?_
    obtain ⟨b24, b25, h26, h27, hw⟩ := hw
    refine k_wr (wn := fun (u : Nat × Nat × (Nat → Option Nat)) => [(q_x1, .inr (7, [.int x1_courtier, .ref q_x1_symbols, .int x1_value, .int x1_depth])), (q_x1_symbols, .inl (dA 1, n_x1_symbols, .inl a_x1_symbols)), (q_x0, .inr (9, [.int x0_modCount, .ref u.1, .int x0_size])), (u.1, .inl (dA 4, u.2.1, .inr (.inr (.inr (.inr u.2.2)))))]) (wr := [(q_x1, .inr (7, [.int x1_courtier, .ref q_x1_symbols, .int x1_value, .int x1_depth])), (q_x1_symbols, .inl (dA 1, n_x1_symbols, .inl a_x1_symbols))]) (ra := fun (u : Nat × Nat × (Nat → Option Nat)) => u.1) (kc_wV (As := []) (rest := []) hSx (met_J2_grow l D dA cx _ b24 b25 q_x0 x0_modCount x0_size _ hw) gJ2_129 ⟨rfl, hd_J2_grow⟩ ⟨Nat.le_of_ble_eq_true rfl, Nat.le_of_ble_eq_true rfl⟩ rfl rfl hP hK hD hS hA (hC.kept hS.2.1) [0] rfl (by decide) rfl 0 rfl rfl rfl rfl hl.1 (Nat.le_of_ble_eq_true rfl) rfl dJ2_add_2_7 ⟨(show 0 + b24 ≤ bc0 by omega), (show 0 + b25 ≤ bs0 by omega)⟩) hP hD hS hA [0] [1, 2] [0, 1, 2, 3] rfl rfl (by decide) (by decide) (by decide) (fun _ => rfl) (fun _ => rfl) (fun u H locs hw _ hP hD hS => ?_)
    obtain ⟨q21, o22, o23⟩ := u
    have hP : va_P D vwCl [(q_x1, .inr (7, [.int x1_courtier, .ref q_x1_symbols, .int x1_value, .int x1_depth])), (q_x1_symbols, .inl (dA 1, n_x1_symbols, .inl a_x1_symbols)), (q_x0, .inr (9, [.int x0_modCount, .ref q21, .int x0_size])), (q21, .inl (dA 4, o22, .inr (.inr (.inr (.inr o23)))))] H := hP
    have hD : va_D A [(q_x1, .inr (7, [.int x1_courtier, .ref q_x1_symbols, .int x1_value, .int x1_depth])), (q_x1_symbols, .inl (dA 1, n_x1_symbols, .inl a_x1_symbols)), (q_x0, .inr (9, [.int x0_modCount, .ref q21, .int x0_size])), (q21, .inl (dA 4, o22, .inr (.inr (.inr (.inr o23)))))] := hD
    have hbud : (0 + b24) + (bc0 - b24) ≤ bc0 ∧ (0 + b25) + (bs0 - b25) ≤ bs0 := by omega
    refine lv_astore_n (lv' := [(2, .ref q21), (0, .ref q_x0), (1, .ref q_x1), (3, .int x3)]) hx hb dJ2_add_2_10 rfl hl (by decide) rfl (fun ls hl => ?_)
    exact hL11b  (bc0 - b24) (bs0 - b25) (0 + b24) (0 + b25) q21 o22 o23 _ _ _ hbud (hP.sub [2, 0, 3, 1] rfl) (hD.sub [2, 0, 3, 1] (by decide) rfl) hS (lv_sub hl [1, 2, 0, 3] rfl) hw
def w_J2_add_2_11 (post : (Nat → Option Nat) → Prop) (cx : CXt) (n_x0_elementData : Nat) (a_x0_elementData : (Nat → Option Nat)) (x1 : Nat) (x3 : Int32)   : Prop :=
  (vp_in x3 n_x0_elementData ∧ (x1 ∈ cxL cx ∧ post (va_up a_x0_elementData x3.toNatClampNeg (some x1))))
def w_J2_add_2 (post : (Nat → Option Nat) → Prop) (cx : CXt) (n_x0_elementData : Nat) (a_x0_elementData : (Nat → Option Nat)) (x1 : Nat) (x3 : Int32) : Prop :=
  ((x3 = (nI n_x0_elementData) → False) ∧ (¬ x3 = (nI n_x0_elementData) → (w_J2_add_2_11 post cx n_x0_elementData a_x0_elementData x1 x3) ))
def rm_J2_add_2 : Room := { frames := 0, cells := 0, slots := 0, locals := 0 }
set_option maxHeartbeats 4000000 in
set_option maxRecDepth 100000 in
theorem met_J2_add_2 (l : Launch) (D : va_G) (dA : Nat → ClassId) (cx : CXt) (sz : Nat) (q_x0 : Nat) (x0_modCount : Int32) (q_x0_elementData : Nat) (n_x0_elementData : Nat) (a_x0_elementData : (Nat → Option Nat)) (x0_size : Int32) (x1 : Nat) (x3 : Int32) (post : (Nat → Option Nat) → Prop) (hw : w_J2_add_2 post cx n_x0_elementData a_x0_elementData x1 x3) : Met l yJ2_add_2 (ws_ yJ2_add_2 cJ2_add_2 4 none) rm_J2_add_2 (va_Pc [.ref q_x0, .ref x1, .ref q_x0_elementData, .int x3] (wrC D dA cx sz [(q_x0, .inr (9, [.int x0_modCount, .ref q_x0_elementData, .int x0_size])), (q_x0_elementData, .inl (dA 4, n_x0_elementData, .inr (.inr (.inr (.inr a_x0_elementData)))))])) (va_Qv (fun (u : (Nat → Option Nat)) => post u) (fun (u : (Nat → Option Nat)) t => wrQ D dA (va_A [(q_x0, .inr (9, [.int x0_modCount, .ref q_x0_elementData, .int x0_size])), (q_x0_elementData, .inl (dA 4, n_x0_elementData, .inr (.inr (.inr (.inr a_x0_elementData)))))] sz) [(q_x0, .inr (9, [.int x0_modCount, .ref q_x0_elementData, .int (x3 + (nI 1))])), (q_x0_elementData, .inl (dA 4, n_x0_elementData, .inr (.inr (.inr (.inr u)))))] t) (va_A [(q_x0, .inr (9, [.int x0_modCount, .ref q_x0_elementData, .int x0_size])), (q_x0_elementData, .inl (dA 4, n_x0_elementData, .inr (.inr (.inr (.inr a_x0_elementData)))))] sz)) 0 0 (va_A [(q_x0, .inr (9, [.int x0_modCount, .ref q_x0_elementData, .int x0_size])), (q_x0_elementData, .inl (dA 4, n_x0_elementData, .inr (.inr (.inr (.inr a_x0_elementData)))))] sz) := by
  refine Met.ofW (cc := cJ2_add_2) (maxL := 4) (ret := none) (by decide) rfl ?_
  intro p e s m args below meth c s₁ B hml hv
  obtain ⟨rfl, hsz, hP, hK, hD0, hC⟩ := hv
  have hx := B.exec
  have hb := B.bytes
  have hr := B.returns
  have hts := atoms_spec (ws := (ws_ yJ2_add_2 cJ2_add_2 4 none)) B.pre
  have hts : ∀ w ∈ lw_all, w.before _ s = true := fun w h => hts w (List.mem_cons_of_mem _ h)
  have hown : s.vm.findClass RJ2 = some m.cls := findClass_of_methodNamed B.named
  have hlocks := B.notSynchronized
  have hSx : CallFix p m c cJ2_add_2 4 s _ lw_all RJ2 := ⟨hx, hb, hml, hown, hts⟩
  subst hsz
  have hD := hD0.self (sz := s.heap.size)
  generalize hAe : va_A [(q_x0, .inr (9, [.int x0_modCount, .ref q_x0_elementData, .int x0_size])), (q_x0_elementData, .inl (dA 4, n_x0_elementData, .inr (.inr (.inr (.inr a_x0_elementData)))))] s.heap.size = A at hD hC ⊢
  have hA : ∀ q : Nat, s.heap.size ≤ q → A q := fun q h => by rw [← hAe]; exact Or.inr h
  have hS : va_S A s.heap s.heap [] := va_S.rf
  have hNW := hC.1
  have hl := lv_entry ([.ref q_x0, .ref x1, .ref q_x0_elementData, .int x3]) (n := 4) (Nat.le_of_ble_eq_true rfl)
  rw [lg_entry_eq]
  generalize (lg_sl ([.ref q_x0, .ref x1, .ref q_x0_elementData, .int x3]) ++ List.replicate (4 - (lg_sl ([.ref q_x0, .ref x1, .ref q_x0_elementData, .int x3])).length) Slot.unset).toArray = ls at hl ⊢
  have hl : lv_has ls 4 [(0, .ref q_x0), (1, .ref x1), (2, .ref q_x0_elementData), (3, .int x3)] := hl
  have hL11 : ∀   (H : Heap) (locs : List Loc) (ls : Array Slot), va_P D vwCl [(q_x0, .inr (9, [.int x0_modCount, .ref q_x0_elementData, .int x0_size])), (q_x0_elementData, .inl (dA 4, n_x0_elementData, .inr (.inr (.inr (.inr a_x0_elementData)))))] H → va_D A [(q_x0, .inr (9, [.int x0_modCount, .ref q_x0_elementData, .int x0_size])), (q_x0_elementData, .inl (dA 4, n_x0_elementData, .inr (.inr (.inr (.inr a_x0_elementData)))))] → va_S A s.heap H locs → lv_has ls 4 [(0, .ref q_x0), (1, .ref x1), (2, .ref q_x0_elementData), (3, .int x3)] → (w_J2_add_2_11 post cx n_x0_elementData a_x0_elementData x1 x3)  → W p l e (headSpec (ws_ yJ2_add_2 cJ2_add_2 4 none) (rm_J2_add_2)).room s m ([.ref q_x0, .ref x1, .ref q_x0_elementData, .int x3] : List Value).toArray below meth c H locs 0 0 (MQ below (va_Qv (fun (u : (Nat → Option Nat)) => post u) (fun (u : (Nat → Option Nat)) t => wrQ D dA A [(q_x0, .inr (9, [.int x0_modCount, .ref q_x0_elementData, .int (x3 + (nI 1))])), (q_x0_elementData, .inl (dA 4, n_x0_elementData, .inr (.inr (.inr (.inr u)))))] t) A) ([.ref q_x0, .ref x1, .ref q_x0_elementData, .int x3] : List Value).toArray s 0 0 A) (F0 m 11 ls []) := by
      intro   H locs ls hP hD hS hl hw
      refine lv_aload_n hx hb dJ2_add_2_11 rfl (lv_at hl 2 rfl) ?_
      refine lv_iload_n hx hb dJ2_add_2_12 rfl (lv_at hl 3 rfl) ?_
      refine lv_aload_n hx hb dJ2_add_2_13 rfl (lv_at hl 1 rfl) ?_
      obtain ⟨h7, hw⟩ := hw
      obtain ⟨h8, hw⟩ := hw
      refine k_astqM (k := x3.toNatClampNeg) hx hb hK hP hD hS (hC.kept hS.2.1) 1 4 rfl rfl h8 rfl h7 dJ2_add_2_14 (fun H locs hP hD hS => ?_)
      have hP : va_P D vwCl [(q_x0, .inr (9, [.int x0_modCount, .ref q_x0_elementData, .int x0_size])), (q_x0_elementData, .inl (dA 4, n_x0_elementData, .inr (.inr (.inr (.inr (va_up a_x0_elementData x3.toNatClampNeg (some x1)))))))] H := hP
      have hD : va_D A [(q_x0, .inr (9, [.int x0_modCount, .ref q_x0_elementData, .int x0_size])), (q_x0_elementData, .inl (dA 4, n_x0_elementData, .inr (.inr (.inr (.inr (va_up a_x0_elementData x3.toNatClampNeg (some x1)))))))] := hD
      refine lv_aload_n hx hb dJ2_add_2_15 rfl (lv_at hl 0 rfl) ?_
      refine lv_iload_n hx hb dJ2_add_2_16 rfl (lv_at hl 3 rfl) ?_
      refine lv_iconst (v := (nI 1)) hx hb dJ2_add_2_17 (by decide) ?_
      refine lv_iadd hx hb dJ2_add_2_18 ?_
      refine va_put (D := D) (ci := 9) (v := .int (x3 + (nI 1))) (ty := (.int)) (C := RJ2) (T := TJ2) (N := 3) hx hb hts in_J2 tyJ2 tyJ2_ok nmJ2 hown hK hP hD hS 0 rfl rfl 2 (by decide) (hts _ q136) (fun _ h9 => h9) rfl (by decide +kernel) rfl rfl (Nat.le_of_ble_eq_true rfl) dJ2_add_2_19 (fun H locs hP hD hS => ?_)
      have hP : va_P D vwCl [(q_x0, .inr (9, [.int x0_modCount, .ref q_x0_elementData, .int (x3 + (nI 1))])), (q_x0_elementData, .inl (dA 4, n_x0_elementData, .inr (.inr (.inr (.inr (va_up a_x0_elementData x3.toNatClampNeg (some x1)))))))] H := hP
      have hD : va_D A [(q_x0, .inr (9, [.int x0_modCount, .ref q_x0_elementData, .int (x3 + (nI 1))])), (q_x0_elementData, .inl (dA 4, n_x0_elementData, .inr (.inr (.inr (.inr (va_up a_x0_elementData x3.toNatClampNeg (some x1)))))))] := hD
      exact W.vret hx hb hr (fun t ht hW => ⟨⟨(va_up a_x0_elementData x3.toNatClampNeg (some x1)), rfl, hw, by rw [ht]; exact hP.sub [0, 1] rfl, va_K.moved hW.alike hK, hD.sub [0, 1] (by decide) rfl⟩, hS.F ht⟩) hS.2.2 dJ2_add_2_22
  refine lv_iload_n hx hb dJ2_add_2_0 rfl (lv_at hl 3 rfl) ?_
  refine lv_aload_n hx hb dJ2_add_2_1 rfl (lv_at hl 2 rfl) ?_
  refine va_alen (v := (nI n_x0_elementData)) hx hb hK hP 1 4 rfl rfl rfl dJ2_add_2_2 ?_
  refine lv_icmp_ne (tgt := 11) hx hb dJ2_add_2_3 (by decide) (fun c9 => ?_) (fun c9 => ?_)
  · have hw := hw.2 c9
    exact hL11   _ _ _ (hP.sub [0, 1] rfl) (hD.sub [0, 1] (by decide) rfl) hS (lv_sub hl [0, 1, 2, 3] rfl) hw
  · have hw := hw.1 c9
    refine lv_aload_n hx hb dJ2_add_2_6 rfl (lv_at hl 0 rfl) ?_
    exact (show False from hw).elim
def w_J2_add_2e_11a (post : Nat → (Nat → Option Nat) → Prop)   (bc bs : Nat)  : Prop :=
  False
def w_J2_add_2e_11b (post : Nat → (Nat → Option Nat) → Prop) (cx : CXt) (x1 : Nat) (x3 : Int32)  (bc bs : Nat) (n1 : Nat) (a1 : (Nat → Option Nat)) : Prop :=
  (vp_in x3 n1 ∧ (x1 ∈ cxL cx ∧ post n1 (va_up a1 x3.toNatClampNeg (some x1))))
def w_J2_add_2e (post : Nat → (Nat → Option Nat) → Prop) (bc bs : Nat) (cx : CXt) (x0_size : Int32) (x1 : Nat) (x3 : Int32) : Prop :=
  ((x3 = (nI 0) → (∃ b27 b28 : Nat, b27 ≤ bc ∧ b28 ≤ bs ∧ w_J2_grow (fun o25 o26 => (w_J2_add_2e_11b post cx x1 x3) (bc - b27) (bs - b28) o25 o26) b27 b28 x0_size)) ∧ (¬ x3 = (nI 0) → (w_J2_add_2e_11a post) bc bs ))
def rm_J2_add_2e (bc0 bs0 : Nat) : Room := { frames := 3, cells := bc0, slots := bs0, locals := 64 }
set_option maxHeartbeats 4000000 in
set_option maxRecDepth 100000 in
theorem met_J2_add_2e (l : Launch) (D : va_G) (dA : Nat → ClassId) (cx : CXt) (sz : Nat) (bc0 bs0 : Nat) (q_x0 : Nat) (x0_modCount : Int32) (x0_size : Int32) (x1 : Nat) (x3 : Int32) (post : Nat → (Nat → Option Nat) → Prop) (hw : w_J2_add_2e post bc0 bs0 cx x0_size x1 x3) : Met l yJ2_add_2 (ws_ yJ2_add_2 cJ2_add_2 4 none) (rm_J2_add_2e bc0 bs0) (va_Pc [.ref q_x0, .ref x1, .ref (cxE cx), .int x3] (wrC D dA cx sz [(q_x0, .inr (9, [.int x0_modCount, .ref (cxE cx), .int x0_size]))])) (va_Qv (fun (u : Nat × Nat × (Nat → Option Nat)) => post u.2.1 u.2.2) (fun (u : Nat × Nat × (Nat → Option Nat)) t => wrQ D dA (va_A [(q_x0, .inr (9, [.int x0_modCount, .ref (cxE cx), .int x0_size]))] sz) [(q_x0, .inr (9, [.int x0_modCount, .ref u.1, .int (x3 + (nI 1))])), (u.1, .inl (dA 4, u.2.1, .inr (.inr (.inr (.inr u.2.2)))))] t) (va_A [(q_x0, .inr (9, [.int x0_modCount, .ref (cxE cx), .int x0_size]))] sz)) bc0 bs0 (va_A [(q_x0, .inr (9, [.int x0_modCount, .ref (cxE cx), .int x0_size]))] sz) := by
  refine Met.ofW (cc := cJ2_add_2) (maxL := 4) (ret := none) (by decide) rfl ?_
  intro p e s m args below meth c s₁ B hml hv
  obtain ⟨rfl, hsz, hP, hK, hD0, hC⟩ := hv
  have hx := B.exec
  have hb := B.bytes
  have hr := B.returns
  have hts := atoms_spec (ws := (ws_ yJ2_add_2 cJ2_add_2 4 none)) B.pre
  have hts : ∀ w ∈ lw_all, w.before _ s = true := fun w h => hts w (List.mem_cons_of_mem _ h)
  have hown : s.vm.findClass RJ2 = some m.cls := findClass_of_methodNamed B.named
  have hlocks := B.notSynchronized
  have hSx : CallFix p m c cJ2_add_2 4 s _ lw_all RJ2 := ⟨hx, hb, hml, hown, hts⟩
  subst hsz
  have hD := hD0.self (sz := s.heap.size)
  generalize hAe : va_A [(q_x0, .inr (9, [.int x0_modCount, .ref (cxE cx), .int x0_size]))] s.heap.size = A at hD hC ⊢
  have hA : ∀ q : Nat, s.heap.size ≤ q → A q := fun q h => by rw [← hAe]; exact Or.inr h
  have hS : va_S A s.heap s.heap [] := va_S.rf
  have hbud : 0 + bc0 ≤ bc0 ∧ 0 + bs0 ≤ bs0 := by omega
  have hNW := hC.1
  have hl := lv_entry ([.ref q_x0, .ref x1, .ref (cxE cx), .int x3]) (n := 4) (Nat.le_of_ble_eq_true rfl)
  rw [lg_entry_eq]
  generalize (lg_sl ([.ref q_x0, .ref x1, .ref (cxE cx), .int x3]) ++ List.replicate (4 - (lg_sl ([.ref q_x0, .ref x1, .ref (cxE cx), .int x3])).length) Slot.unset).toArray = ls at hl ⊢
  have hl : lv_has ls 4 [(0, .ref q_x0), (1, .ref x1), (2, .ref (cxE cx)), (3, .int x3)] := hl
  have hL11a : ∀  (bc bs kc ks : Nat)  (H : Heap) (locs : List Loc) (ls : Array Slot), kc + bc ≤ bc0 ∧ ks + bs ≤ bs0 → va_P D vwCl [(q_x0, .inr (9, [.int x0_modCount, .ref (cxE cx), .int x0_size]))] H → va_D A [(q_x0, .inr (9, [.int x0_modCount, .ref (cxE cx), .int x0_size]))] → va_S A s.heap H locs → lv_has ls 4 [(0, .ref q_x0), (1, .ref x1), (2, .ref (cxE cx)), (3, .int x3)] → (w_J2_add_2e_11a post) bc bs  → W p l e (headSpec (ws_ yJ2_add_2 cJ2_add_2 4 none) (rm_J2_add_2e bc0 bs0)).room s m ([.ref q_x0, .ref x1, .ref (cxE cx), .int x3] : List Value).toArray below meth c H locs kc ks (MQ below (va_Qv (fun (u : Nat × Nat × (Nat → Option Nat)) => post u.2.1 u.2.2) (fun (u : Nat × Nat × (Nat → Option Nat)) t => wrQ D dA A [(q_x0, .inr (9, [.int x0_modCount, .ref u.1, .int (x3 + (nI 1))])), (u.1, .inl (dA 4, u.2.1, .inr (.inr (.inr (.inr u.2.2)))))] t) A) ([.ref q_x0, .ref x1, .ref (cxE cx), .int x3] : List Value).toArray s bc0 bs0 A) (F0 m 11 ls []) := by
      intro  bc bs kc ks  H locs ls hbud hP hD hS hl hw
      refine lv_aload_n hx hb dJ2_add_2_11 rfl (lv_at hl 2 rfl) ?_
      refine lv_iload_n hx hb dJ2_add_2_12 rfl (lv_at hl 3 rfl) ?_
      refine lv_aload_n hx hb dJ2_add_2_13 rfl (lv_at hl 1 rfl) ?_
      exact (show False from hw).elim
  have hL11b : ∀  (bc bs kc ks : Nat) (ad1 : Nat) (n1 : Nat) (a1 : (Nat → Option Nat)) (H : Heap) (locs : List Loc) (ls : Array Slot), kc + bc ≤ bc0 ∧ ks + bs ≤ bs0 → va_P D vwCl [(q_x0, .inr (9, [.int x0_modCount, .ref ad1, .int x0_size])), (ad1, .inl (dA 4, n1, .inr (.inr (.inr (.inr a1)))))] H → va_D A [(q_x0, .inr (9, [.int x0_modCount, .ref ad1, .int x0_size])), (ad1, .inl (dA 4, n1, .inr (.inr (.inr (.inr a1)))))] → va_S A s.heap H locs → lv_has ls 4 [(0, .ref q_x0), (1, .ref x1), (2, .ref ad1), (3, .int x3)] → (w_J2_add_2e_11b post cx x1 x3) bc bs n1 a1 → W p l e (headSpec (ws_ yJ2_add_2 cJ2_add_2 4 none) (rm_J2_add_2e bc0 bs0)).room s m ([.ref q_x0, .ref x1, .ref (cxE cx), .int x3] : List Value).toArray below meth c H locs kc ks (MQ below (va_Qv (fun (u : Nat × Nat × (Nat → Option Nat)) => post u.2.1 u.2.2) (fun (u : Nat × Nat × (Nat → Option Nat)) t => wrQ D dA A [(q_x0, .inr (9, [.int x0_modCount, .ref u.1, .int (x3 + (nI 1))])), (u.1, .inl (dA 4, u.2.1, .inr (.inr (.inr (.inr u.2.2)))))] t) A) ([.ref q_x0, .ref x1, .ref (cxE cx), .int x3] : List Value).toArray s bc0 bs0 A) (F0 m 11 ls []) := by
      intro  bc bs kc ks ad1 n1 a1 H locs ls hbud hP hD hS hl hw
      refine lv_aload_n hx hb dJ2_add_2_11 rfl (lv_at hl 2 rfl) ?_
      refine lv_iload_n hx hb dJ2_add_2_12 rfl (lv_at hl 3 rfl) ?_
      refine lv_aload_n hx hb dJ2_add_2_13 rfl (lv_at hl 1 rfl) ?_
      obtain ⟨h21, hw⟩ := hw
      obtain ⟨h22, hw⟩ := hw
      refine k_astqM (k := x3.toNatClampNeg) hx hb hK hP hD hS (hC.kept hS.2.1) 1 4 rfl rfl h22 rfl h21 dJ2_add_2_14 (fun H locs hP hD hS => ?_)
      have hP : va_P D vwCl [(q_x0, .inr (9, [.int x0_modCount, .ref ad1, .int x0_size])), (ad1, .inl (dA 4, n1, .inr (.inr (.inr (.inr (va_up a1 x3.toNatClampNeg (some x1)))))))] H := hP
      have hD : va_D A [(q_x0, .inr (9, [.int x0_modCount, .ref ad1, .int x0_size])), (ad1, .inl (dA 4, n1, .inr (.inr (.inr (.inr (va_up a1 x3.toNatClampNeg (some x1)))))))] := hD
      refine lv_aload_n hx hb dJ2_add_2_15 rfl (lv_at hl 0 rfl) ?_
      refine lv_iload_n hx hb dJ2_add_2_16 rfl (lv_at hl 3 rfl) ?_
      refine lv_iconst (v := (nI 1)) hx hb dJ2_add_2_17 (by decide) ?_
      refine lv_iadd hx hb dJ2_add_2_18 ?_
      refine va_put (D := D) (ci := 9) (v := .int (x3 + (nI 1))) (ty := (.int)) (C := RJ2) (T := TJ2) (N := 3) hx hb hts in_J2 tyJ2 tyJ2_ok nmJ2 hown hK hP hD hS 0 rfl rfl 2 (by decide) (hts _ q136) (fun _ h9 => h9) rfl (by decide +kernel) rfl rfl (Nat.le_of_ble_eq_true rfl) dJ2_add_2_19 (fun H locs hP hD hS => ?_)
      have hP : va_P D vwCl [(q_x0, .inr (9, [.int x0_modCount, .ref ad1, .int (x3 + (nI 1))])), (ad1, .inl (dA 4, n1, .inr (.inr (.inr (.inr (va_up a1 x3.toNatClampNeg (some x1)))))))] H := hP
      have hD : va_D A [(q_x0, .inr (9, [.int x0_modCount, .ref ad1, .int (x3 + (nI 1))])), (ad1, .inl (dA 4, n1, .inr (.inr (.inr (.inr (va_up a1 x3.toNatClampNeg (some x1)))))))] := hD
      refine W.widen (k := bc0) (n := bs0) (by omega) (by omega) ?_
      exact W.vret hx hb hr (fun t ht hW => ⟨⟨(ad1, n1, (va_up a1 x3.toNatClampNeg (some x1))), rfl, hw, by rw [ht]; exact hP.sub [0, 1] rfl, va_K.moved hW.alike hK, hD.sub [0, 1] (by decide) rfl⟩, hS.F ht⟩) hS.2.2 dJ2_add_2_22
  refine lv_iload_n hx hb dJ2_add_2_0 rfl (lv_at hl 3 rfl) ?_
  refine lv_aload_n hx hb dJ2_add_2_1 rfl (lv_at hl 2 rfl) ?_
  refine va_alen (v := (nI 0)) hx hb hK (hC.kept hS.2.1).em.1 0 4 rfl rfl rfl dJ2_add_2_2 ?_
  refine lv_icmp_ne (tgt := 11) hx hb dJ2_add_2_3 (by decide) (fun c23 => ?_) (fun c23 => ?_)
  · have hw := hw.2 c23
    exact hL11a  bc0 bs0 0 0  _ _ _ hbud (hP.sub [0] rfl) (hD.sub [0] (by decide) rfl) hS (lv_sub hl [0, 1, 2, 3] rfl) hw
  · have hw := hw.1 c23
    refine lv_aload_n hx hb dJ2_add_2_6 rfl (lv_at hl 0 rfl) ?_
    obtain ⟨b27, b28, h29, h30, hw⟩ := hw
    refine k_wr (wn := fun (u : Nat × Nat × (Nat → Option Nat)) => [(q_x0, .inr (9, [.int x0_modCount, .ref u.1, .int x0_size])), (u.1, .inl (dA 4, u.2.1, .inr (.inr (.inr (.inr u.2.2)))))]) (wr := []) (ra := fun (u : Nat × Nat × (Nat → Option Nat)) => u.1) (kc_wV (As := []) (rest := []) hSx (met_J2_grow l D dA cx _ b27 b28 q_x0 x0_modCount x0_size _ hw) gJ2_129 ⟨rfl, hd_J2_grow⟩ ⟨Nat.le_of_ble_eq_true rfl, Nat.le_of_ble_eq_true rfl⟩ rfl rfl hP hK hD hS hA (hC.kept hS.2.1) [0] rfl (by decide) rfl 0 rfl rfl rfl rfl hl.1 (Nat.le_of_ble_eq_true rfl) rfl dJ2_add_2_7 ⟨(show 0 + b27 ≤ bc0 by omega), (show 0 + b28 ≤ bs0 by omega)⟩) hP hD hS hA [0] [] [0, 1] rfl rfl (by decide) (by decide) (by decide) (fun _ => rfl) (fun _ => rfl) (fun u H locs hw _ hP hD hS => ?_)
    obtain ⟨q24, o25, o26⟩ := u
    have hP : va_P D vwCl [(q_x0, .inr (9, [.int x0_modCount, .ref q24, .int x0_size])), (q24, .inl (dA 4, o25, .inr (.inr (.inr (.inr o26)))))] H := hP
    have hD : va_D A [(q_x0, .inr (9, [.int x0_modCount, .ref q24, .int x0_size])), (q24, .inl (dA 4, o25, .inr (.inr (.inr (.inr o26)))))] := hD
    have hbud : (0 + b27) + (bc0 - b27) ≤ bc0 ∧ (0 + b28) + (bs0 - b28) ≤ bs0 := by omega
    refine lv_astore_n (lv' := [(2, .ref q24), (0, .ref q_x0), (1, .ref x1), (3, .int x3)]) hx hb dJ2_add_2_10 rfl hl (by decide) rfl (fun ls hl => ?_)
    exact hL11b  (bc0 - b27) (bs0 - b28) (0 + b27) (0 + b28) q24 o25 o26 _ _ _ hbud (hP.sub [0, 1] rfl) (hD.sub [0, 1] (by decide) rfl) hS (lv_sub hl [1, 2, 0, 3] rfl) hw
def w_J2_addn (post : Int32 → (Nat → Option Nat) → Prop) (n_x0_elementData : Nat) (a_x0_elementData : (Nat → Option Nat)) (x0_size : Int32) (q_x1 : Nat) : Prop :=
  w_J2_add_2n (fun o2 => post (nI 1) o2) n_x0_elementData a_x0_elementData q_x1 x0_size
theorem hd_J2_add_2 : yJ2_add_2.cls ≠ "java/lang/invoke/MethodHandle" ∧ yJ2_add_2.cls ≠ "java/lang/invoke/VarHandle" ∧ (parseMethodDescriptor yJ2_add_2.desc).map (fun d => d.parameters.length) = some 3 := by decide +kernel
theorem gJ2_131 : GoodIn lw_all (wsV RJ2 131 RJ2 yJ2_add_2 (ws_ yJ2_add_2 cJ2_add_2 4 none)) := lw_V q1110 q1112 qs19 q71 q1113
def rm_J2_addn : Room := { frames := 1, cells := 0, slots := 0, locals := 23 }
set_option maxHeartbeats 4000000 in
set_option maxRecDepth 100000 in
theorem met_J2_addn (l : Launch) (D : va_G) (dA : Nat → ClassId) (cx : CXt) (sz : Nat) (q_x0 : Nat) (x0_modCount : Int32) (q_x0_elementData : Nat) (n_x0_elementData : Nat) (a_x0_elementData : (Nat → Option Nat)) (x0_size : Int32) (q_x1 : Nat) (x1_courtier : Int32) (q_x1_symbols : Nat) (n_x1_symbols : Nat) (a_x1_symbols : (Nat → Int32)) (x1_value : Int32) (x1_depth : Int32) (post : Int32 → (Nat → Option Nat) → Prop) (hw : w_J2_addn post n_x0_elementData a_x0_elementData x0_size q_x1) : Met l yJ2_add (ws_ yJ2_add cJ2_add 2 (some .boolean)) rm_J2_addn (va_Pc [.ref q_x0, .ref q_x1] (wrC D dA cx sz [(q_x0, .inr (9, [.int x0_modCount, .ref q_x0_elementData, .int x0_size])), (q_x0_elementData, .inl (dA 4, n_x0_elementData, .inr (.inr (.inr (.inr a_x0_elementData))))), (q_x1, .inr (7, [.int x1_courtier, .ref q_x1_symbols, .int x1_value, .int x1_depth])), (q_x1_symbols, .inl (dA 1, n_x1_symbols, .inl a_x1_symbols))])) (va_Qi (fun (r : Int32) (u : (Nat → Option Nat)) => post r u) (fun (u : (Nat → Option Nat)) t => wrQ D dA (va_A [(q_x0, .inr (9, [.int x0_modCount, .ref q_x0_elementData, .int x0_size])), (q_x0_elementData, .inl (dA 4, n_x0_elementData, .inr (.inr (.inr (.inr a_x0_elementData))))), (q_x1, .inr (7, [.int x1_courtier, .ref q_x1_symbols, .int x1_value, .int x1_depth])), (q_x1_symbols, .inl (dA 1, n_x1_symbols, .inl a_x1_symbols))] sz) [(q_x0, .inr (9, [.int (x0_modCount + (nI 1)), .ref q_x0_elementData, .int (x0_size + (nI 1))])), (q_x1, .inr (7, [.int x1_courtier, .ref q_x1_symbols, .int x1_value, .int x1_depth])), (q_x0_elementData, .inl (dA 4, n_x0_elementData, .inr (.inr (.inr (.inr u))))), (q_x1_symbols, .inl (dA 1, n_x1_symbols, .inl a_x1_symbols))] t) (va_A [(q_x0, .inr (9, [.int x0_modCount, .ref q_x0_elementData, .int x0_size])), (q_x0_elementData, .inl (dA 4, n_x0_elementData, .inr (.inr (.inr (.inr a_x0_elementData))))), (q_x1, .inr (7, [.int x1_courtier, .ref q_x1_symbols, .int x1_value, .int x1_depth])), (q_x1_symbols, .inl (dA 1, n_x1_symbols, .inl a_x1_symbols))] sz)) 0 0 (va_A [(q_x0, .inr (9, [.int x0_modCount, .ref q_x0_elementData, .int x0_size])), (q_x0_elementData, .inl (dA 4, n_x0_elementData, .inr (.inr (.inr (.inr a_x0_elementData))))), (q_x1, .inr (7, [.int x1_courtier, .ref q_x1_symbols, .int x1_value, .int x1_depth])), (q_x1_symbols, .inl (dA 1, n_x1_symbols, .inl a_x1_symbols))] sz) := by
  refine Met.ofW (cc := cJ2_add) (maxL := 2) (ret := (some .boolean)) (by decide) rfl ?_
  intro p e s m args below meth c s₁ B hml hv
  obtain ⟨rfl, hsz, hP, hK, hD0, hC⟩ := hv
  have hx := B.exec
  have hb := B.bytes
  have hr := B.returns
  have hts := atoms_spec (ws := (ws_ yJ2_add cJ2_add 2 (some .boolean))) B.pre
  have hts : ∀ w ∈ lw_all, w.before _ s = true := fun w h => hts w (List.mem_cons_of_mem _ h)
  have hown : s.vm.findClass RJ2 = some m.cls := findClass_of_methodNamed B.named
  have hlocks := B.notSynchronized
  have hSx : CallFix p m c cJ2_add 2 s _ lw_all RJ2 := ⟨hx, hb, hml, hown, hts⟩
  subst hsz
  have hD := hD0.self (sz := s.heap.size)
  generalize hAe : va_A [(q_x0, .inr (9, [.int x0_modCount, .ref q_x0_elementData, .int x0_size])), (q_x0_elementData, .inl (dA 4, n_x0_elementData, .inr (.inr (.inr (.inr a_x0_elementData))))), (q_x1, .inr (7, [.int x1_courtier, .ref q_x1_symbols, .int x1_value, .int x1_depth])), (q_x1_symbols, .inl (dA 1, n_x1_symbols, .inl a_x1_symbols))] s.heap.size = A at hD hC ⊢
  have hA : ∀ q : Nat, s.heap.size ≤ q → A q := fun q h => by rw [← hAe]; exact Or.inr h
  have hS : va_S A s.heap s.heap [] := va_S.rf
  have hNW := hC.1
  have hl := lv_entry ([.ref q_x0, .ref q_x1]) (n := 2) (Nat.le_of_ble_eq_true rfl)
  rw [lg_entry_eq]
  generalize (lg_sl ([.ref q_x0, .ref q_x1]) ++ List.replicate (2 - (lg_sl ([.ref q_x0, .ref q_x1])).length) Slot.unset).toArray = ls at hl ⊢
  have hl : lv_has ls 2 [(0, .ref q_x0), (1, .ref q_x1)] := hl
  refine lv_aload_n hx hb dJ2_add_0 rfl (lv_at hl 0 rfl) ?_
  refine lv_dup hx hb dJ2_add_1 rfl ?_
  refine va_get (D := D) (ci := 9) (v := .int x0_modCount) (C := RJ2) (T := TJ2) (N := 3) hx hb hts in_J2 hown hK hP 0 rfl rfl 0 (by decide) (hts _ q140) (u_same (hts _ q139)) rfl dJ2_add_2 ?_
  refine lv_iconst (v := (nI 1)) hx hb dJ2_add_5 (by decide) ?_
  refine lv_iadd hx hb dJ2_add_6 ?_
  refine va_put (D := D) (ci := 9) (v := .int (x0_modCount + (nI 1))) (ty := (.int)) (C := RJ2) (T := TJ2) (N := 3) hx hb hts in_J2 tyJ2 tyJ2_ok nmJ2 hown hK hP hD hS 0 rfl rfl 0 (by decide) (hts _ q140) (u_same (hts _ q139)) rfl (by decide +kernel) rfl rfl (Nat.le_of_ble_eq_true rfl) dJ2_add_7 (fun H locs hP hD hS => ?_)
  have hP : va_P D vwCl [(q_x0, .inr (9, [.int (x0_modCount + (nI 1)), .ref q_x0_elementData, .int x0_size])), (q_x0_elementData, .inl (dA 4, n_x0_elementData, .inr (.inr (.inr (.inr a_x0_elementData))))), (q_x1, .inr (7, [.int x1_courtier, .ref q_x1_symbols, .int x1_value, .int x1_depth])), (q_x1_symbols, .inl (dA 1, n_x1_symbols, .inl a_x1_symbols))] H := hP
  have hD : va_D A [(q_x0, .inr (9, [.int (x0_modCount + (nI 1)), .ref q_x0_elementData, .int x0_size])), (q_x0_elementData, .inl (dA 4, n_x0_elementData, .inr (.inr (.inr (.inr a_x0_elementData))))), (q_x1, .inr (7, [.int x1_courtier, .ref q_x1_symbols, .int x1_value, .int x1_depth])), (q_x1_symbols, .inl (dA 1, n_x1_symbols, .inl a_x1_symbols))] := hD
  refine lv_aload_n hx hb dJ2_add_10 rfl (lv_at hl 0 rfl) ?_
  refine lv_aload_n hx hb dJ2_add_11 rfl (lv_at hl 1 rfl) ?_
  refine lv_aload_n hx hb dJ2_add_12 rfl (lv_at hl 0 rfl) ?_
  refine va_get (D := D) (ci := 9) (v := .ref q_x0_elementData) (C := RJ2) (T := TJ2) (N := 3) hx hb hts in_J2 hown hK hP 0 rfl rfl 1 (by decide) (hts _ q133) (fun _ h9 => h9) rfl dJ2_add_13 ?_
  refine lv_aload_n hx hb dJ2_add_16 rfl (lv_at hl 0 rfl) ?_
  refine va_get (D := D) (ci := 9) (v := .int x0_size) (C := RJ2) (T := TJ2) (N := 3) hx hb hts in_J2 hown hK hP 0 rfl rfl 2 (by decide) (hts _ q136) (fun _ h9 => h9) rfl dJ2_add_17 ?_
  refine k_wv (wn := fun (u : (Nat → Option Nat)) => [(q_x0, .inr (9, [.int (x0_modCount + (nI 1)), .ref q_x0_elementData, .int (x0_size + (nI 1))])), (q_x1, .inr (7, [.int x1_courtier, .ref q_x1_symbols, .int x1_value, .int x1_depth])), (q_x0_elementData, .inl (dA 4, n_x0_elementData, .inr (.inr (.inr (.inr u))))), (q_x1_symbols, .inl (dA 1, n_x1_symbols, .inl a_x1_symbols))]) (wr := []) (kc_wV (As := [.ref q_x1, .ref q_x0_elementData, .int x0_size]) (rest := []) hSx (met_J2_add_2n l D dA cx _ q_x0 (x0_modCount + (nI 1)) q_x0_elementData n_x0_elementData a_x0_elementData x0_size q_x1 x1_courtier q_x1_symbols n_x1_symbols a_x1_symbols x1_value x1_depth x0_size _ hw) gJ2_131 ⟨rfl, hd_J2_add_2⟩ ⟨Nat.le_of_ble_eq_true rfl, Nat.le_of_ble_eq_true rfl⟩ rfl rfl hP hK hD hS hA (hC.kept hS.2.1) [0, 1, 2, 3] rfl (by decide) rfl 0 rfl rfl rfl rfl hl.1 (Nat.le_of_ble_eq_true rfl) rfl dJ2_add_20 ⟨Nat.le_refl 0, Nat.le_refl 0⟩) hP hD hS hA [0, 1, 2, 3] [] [0, 1, 2, 3] rfl rfl (by decide) (by decide) (by decide) (fun _ => rfl) (fun _ => rfl) (fun u H locs hw _ hP hD hS => ?_)
  obtain ⟨o2, rfl⟩ : ∃ z, z = u := ⟨_, rfl⟩
  have hP : va_P D vwCl [(q_x0, .inr (9, [.int (x0_modCount + (nI 1)), .ref q_x0_elementData, .int (x0_size + (nI 1))])), (q_x1, .inr (7, [.int x1_courtier, .ref q_x1_symbols, .int x1_value, .int x1_depth])), (q_x0_elementData, .inl (dA 4, n_x0_elementData, .inr (.inr (.inr (.inr o2))))), (q_x1_symbols, .inl (dA 1, n_x1_symbols, .inl a_x1_symbols))] H := hP
  have hD : va_D A [(q_x0, .inr (9, [.int (x0_modCount + (nI 1)), .ref q_x0_elementData, .int (x0_size + (nI 1))])), (q_x1, .inr (7, [.int x1_courtier, .ref q_x1_symbols, .int x1_value, .int x1_depth])), (q_x0_elementData, .inl (dA 4, n_x0_elementData, .inr (.inr (.inr (.inr o2))))), (q_x1_symbols, .inl (dA 1, n_x1_symbols, .inl a_x1_symbols))] := hD
  refine lv_iconst (v := (nI 1)) hx hb dJ2_add_23 (by decide) ?_
  exact W.zret (v := (nI 1)) hx hb hr rfl (fun t ht hW => ⟨⟨(nI 1), o2, rfl, hw, by rw [ht]; exact hP.sub [0, 1, 2, 3] rfl, va_K.moved hW.alike hK, hD.sub [0, 1, 2, 3] (by decide) rfl⟩, hS.F ht⟩) hS.2.2 dJ2_add_24
def w_J2_adden (post : Int32 → Nat → (Nat → Option Nat) → Prop) (bc bs : Nat) (x0_size : Int32) (q_x1 : Nat) : Prop :=
  (∃ b11 b12 : Nat, b11 ≤ bc ∧ b12 ≤ bs ∧ w_J2_add_2en (fun o9 o10 => post (nI 1) o9 o10) b11 b12 x0_size q_x1 x0_size)
def rm_J2_adden (bc0 bs0 : Nat) : Room := { frames := 4, cells := bc0, slots := bs0, locals := 87 }
set_option maxHeartbeats 4000000 in
set_option maxRecDepth 100000 in
theorem met_J2_adden (l : Launch) (D : va_G) (dA : Nat → ClassId) (cx : CXt) (sz : Nat) (bc0 bs0 : Nat) (q_x0 : Nat) (x0_modCount : Int32) (x0_size : Int32) (q_x1 : Nat) (x1_courtier : Int32) (q_x1_symbols : Nat) (n_x1_symbols : Nat) (a_x1_symbols : (Nat → Int32)) (x1_value : Int32) (x1_depth : Int32) (post : Int32 → Nat → (Nat → Option Nat) → Prop) (hw : w_J2_adden post bc0 bs0 x0_size q_x1) : Met l yJ2_add (ws_ yJ2_add cJ2_add 2 (some .boolean)) (rm_J2_adden bc0 bs0) (va_Pc [.ref q_x0, .ref q_x1] (wrC D dA cx sz [(q_x0, .inr (9, [.int x0_modCount, .ref (cxE cx), .int x0_size])), (q_x1, .inr (7, [.int x1_courtier, .ref q_x1_symbols, .int x1_value, .int x1_depth])), (q_x1_symbols, .inl (dA 1, n_x1_symbols, .inl a_x1_symbols))])) (va_Qi (fun (r : Int32) (u : Nat × Nat × (Nat → Option Nat)) => post r u.2.1 u.2.2) (fun (u : Nat × Nat × (Nat → Option Nat)) t => wrQ D dA (va_A [(q_x0, .inr (9, [.int x0_modCount, .ref (cxE cx), .int x0_size])), (q_x1, .inr (7, [.int x1_courtier, .ref q_x1_symbols, .int x1_value, .int x1_depth])), (q_x1_symbols, .inl (dA 1, n_x1_symbols, .inl a_x1_symbols))] sz) [(q_x0, .inr (9, [.int (x0_modCount + (nI 1)), .ref u.1, .int (x0_size + (nI 1))])), (q_x1, .inr (7, [.int x1_courtier, .ref q_x1_symbols, .int x1_value, .int x1_depth])), (u.1, .inl (dA 4, u.2.1, .inr (.inr (.inr (.inr u.2.2))))), (q_x1_symbols, .inl (dA 1, n_x1_symbols, .inl a_x1_symbols))] t) (va_A [(q_x0, .inr (9, [.int x0_modCount, .ref (cxE cx), .int x0_size])), (q_x1, .inr (7, [.int x1_courtier, .ref q_x1_symbols, .int x1_value, .int x1_depth])), (q_x1_symbols, .inl (dA 1, n_x1_symbols, .inl a_x1_symbols))] sz)) bc0 bs0 (va_A [(q_x0, .inr (9, [.int x0_modCount, .ref (cxE cx), .int x0_size])), (q_x1, .inr (7, [.int x1_courtier, .ref q_x1_symbols, .int x1_value, .int x1_depth])), (q_x1_symbols, .inl (dA 1, n_x1_symbols, .inl a_x1_symbols))] sz) := by
  refine Met.ofW (cc := cJ2_add) (maxL := 2) (ret := (some .boolean)) (by decide) rfl ?_
  intro p e s m args below meth c s₁ B hml hv
  obtain ⟨rfl, hsz, hP, hK, hD0, hC⟩ := hv
  have hx := B.exec
  have hb := B.bytes
  have hr := B.returns
  have hts := atoms_spec (ws := (ws_ yJ2_add cJ2_add 2 (some .boolean))) B.pre
  have hts : ∀ w ∈ lw_all, w.before _ s = true := fun w h => hts w (List.mem_cons_of_mem _ h)
  have hown : s.vm.findClass RJ2 = some m.cls := findClass_of_methodNamed B.named
  have hlocks := B.notSynchronized
  have hSx : CallFix p m c cJ2_add 2 s _ lw_all RJ2 := ⟨hx, hb, hml, hown, hts⟩
  subst hsz
  have hD := hD0.self (sz := s.heap.size)
  generalize hAe : va_A [(q_x0, .inr (9, [.int x0_modCount, .ref (cxE cx), .int x0_size])), (q_x1, .inr (7, [.int x1_courtier, .ref q_x1_symbols, .int x1_value, .int x1_depth])), (q_x1_symbols, .inl (dA 1, n_x1_symbols, .inl a_x1_symbols))] s.heap.size = A at hD hC ⊢
  have hA : ∀ q : Nat, s.heap.size ≤ q → A q := fun q h => by rw [← hAe]; exact Or.inr h
  have hS : va_S A s.heap s.heap [] := va_S.rf
  have hbud : 0 + bc0 ≤ bc0 ∧ 0 + bs0 ≤ bs0 := by omega
  have hNW := hC.1
  have hl := lv_entry ([.ref q_x0, .ref q_x1]) (n := 2) (Nat.le_of_ble_eq_true rfl)
  rw [lg_entry_eq]
  generalize (lg_sl ([.ref q_x0, .ref q_x1]) ++ List.replicate (2 - (lg_sl ([.ref q_x0, .ref q_x1])).length) Slot.unset).toArray = ls at hl ⊢
  have hl : lv_has ls 2 [(0, .ref q_x0), (1, .ref q_x1)] := hl
  refine lv_aload_n hx hb dJ2_add_0 rfl (lv_at hl 0 rfl) ?_
  refine lv_dup hx hb dJ2_add_1 rfl ?_
  refine va_get (D := D) (ci := 9) (v := .int x0_modCount) (C := RJ2) (T := TJ2) (N := 3) hx hb hts in_J2 hown hK hP 0 rfl rfl 0 (by decide) (hts _ q140) (u_same (hts _ q139)) rfl dJ2_add_2 ?_
  refine lv_iconst (v := (nI 1)) hx hb dJ2_add_5 (by decide) ?_
  refine lv_iadd hx hb dJ2_add_6 ?_
  refine va_put (D := D) (ci := 9) (v := .int (x0_modCount + (nI 1))) (ty := (.int)) (C := RJ2) (T := TJ2) (N := 3) hx hb hts in_J2 tyJ2 tyJ2_ok nmJ2 hown hK hP hD hS 0 rfl rfl 0 (by decide) (hts _ q140) (u_same (hts _ q139)) rfl (by decide +kernel) rfl rfl (Nat.le_of_ble_eq_true rfl) dJ2_add_7 (fun H locs hP hD hS => ?_)
  have hP : va_P D vwCl [(q_x0, .inr (9, [.int (x0_modCount + (nI 1)), .ref (cxE cx), .int x0_size])), (q_x1, .inr (7, [.int x1_courtier, .ref q_x1_symbols, .int x1_value, .int x1_depth])), (q_x1_symbols, .inl (dA 1, n_x1_symbols, .inl a_x1_symbols))] H := hP
  have hD : va_D A [(q_x0, .inr (9, [.int (x0_modCount + (nI 1)), .ref (cxE cx), .int x0_size])), (q_x1, .inr (7, [.int x1_courtier, .ref q_x1_symbols, .int x1_value, .int x1_depth])), (q_x1_symbols, .inl (dA 1, n_x1_symbols, .inl a_x1_symbols))] := hD
  refine lv_aload_n hx hb dJ2_add_10 rfl (lv_at hl 0 rfl) ?_
  refine lv_aload_n hx hb dJ2_add_11 rfl (lv_at hl 1 rfl) ?_
  refine lv_aload_n hx hb dJ2_add_12 rfl (lv_at hl 0 rfl) ?_
  refine va_get (D := D) (ci := 9) (v := .ref (cxE cx)) (C := RJ2) (T := TJ2) (N := 3) hx hb hts in_J2 hown hK hP 0 rfl rfl 1 (by decide) (hts _ q133) (fun _ h9 => h9) rfl dJ2_add_13 ?_
  refine lv_aload_n hx hb dJ2_add_16 rfl (lv_at hl 0 rfl) ?_
  refine va_get (D := D) (ci := 9) (v := .int x0_size) (C := RJ2) (T := TJ2) (N := 3) hx hb hts in_J2 hown hK hP 0 rfl rfl 2 (by decide) (hts _ q136) (fun _ h9 => h9) rfl dJ2_add_17 ?_
  obtain ⟨b11, b12, h13, h14, hw⟩ := hw
  refine k_wv (wn := fun (u : Nat × Nat × (Nat → Option Nat)) => [(q_x0, .inr (9, [.int (x0_modCount + (nI 1)), .ref u.1, .int (x0_size + (nI 1))])), (q_x1, .inr (7, [.int x1_courtier, .ref q_x1_symbols, .int x1_value, .int x1_depth])), (u.1, .inl (dA 4, u.2.1, .inr (.inr (.inr (.inr u.2.2))))), (q_x1_symbols, .inl (dA 1, n_x1_symbols, .inl a_x1_symbols))]) (wr := []) (kc_wV (As := [.ref q_x1, .ref (cxE cx), .int x0_size]) (rest := []) hSx (met_J2_add_2en l D dA cx _ b11 b12 q_x0 (x0_modCount + (nI 1)) x0_size q_x1 x1_courtier q_x1_symbols n_x1_symbols a_x1_symbols x1_value x1_depth x0_size _ hw) gJ2_131 ⟨rfl, hd_J2_add_2⟩ ⟨Nat.le_of_ble_eq_true rfl, Nat.le_of_ble_eq_true rfl⟩ rfl rfl hP hK hD hS hA (hC.kept hS.2.1) [0, 1, 2] rfl (by decide) rfl 0 rfl rfl rfl rfl hl.1 (Nat.le_of_ble_eq_true rfl) rfl dJ2_add_20 ⟨(show 0 + b11 ≤ bc0 by omega), (show 0 + b12 ≤ bs0 by omega)⟩) hP hD hS hA [0, 1, 2] [] [0, 1, 2, 3] rfl rfl (by decide) (by decide) (by decide) (fun _ => rfl) (fun _ => rfl) (fun u H locs hw _ hP hD hS => ?_)
  obtain ⟨q8, o9, o10⟩ := u
  have hP : va_P D vwCl [(q_x0, .inr (9, [.int (x0_modCount + (nI 1)), .ref q8, .int (x0_size + (nI 1))])), (q_x1, .inr (7, [.int x1_courtier, .ref q_x1_symbols, .int x1_value, .int x1_depth])), (q8, .inl (dA 4, o9, .inr (.inr (.inr (.inr o10))))), (q_x1_symbols, .inl (dA 1, n_x1_symbols, .inl a_x1_symbols))] H := hP
  have hD : va_D A [(q_x0, .inr (9, [.int (x0_modCount + (nI 1)), .ref q8, .int (x0_size + (nI 1))])), (q_x1, .inr (7, [.int x1_courtier, .ref q_x1_symbols, .int x1_value, .int x1_depth])), (q8, .inl (dA 4, o9, .inr (.inr (.inr (.inr o10))))), (q_x1_symbols, .inl (dA 1, n_x1_symbols, .inl a_x1_symbols))] := hD
  have hbud : (0 + b11) + (bc0 - b11) ≤ bc0 ∧ (0 + b12) + (bs0 - b12) ≤ bs0 := by omega
  refine lv_iconst (v := (nI 1)) hx hb dJ2_add_23 (by decide) ?_
  refine W.widen (k := bc0) (n := bs0) (by omega) (by omega) ?_
  exact W.zret (v := (nI 1)) hx hb hr rfl (fun t ht hW => ⟨⟨(nI 1), (q8, o9, o10), rfl, hw, by rw [ht]; exact hP.sub [0, 1, 2, 3] rfl, va_K.moved hW.alike hK, hD.sub [0, 1, 2, 3] (by decide) rfl⟩, hS.F ht⟩) hS.2.2 dJ2_add_24
def w_J2_add (post : Int32 → (Nat → Option Nat) → Prop) (cx : CXt) (n_x0_elementData : Nat) (a_x0_elementData : (Nat → Option Nat)) (x0_size : Int32) (x1 : Nat) : Prop :=
  w_J2_add_2 (fun o2 => post (nI 1) o2) cx n_x0_elementData a_x0_elementData x1 x0_size
def rm_J2_add : Room := { frames := 1, cells := 0, slots := 0, locals := 23 }
set_option maxHeartbeats 4000000 in
set_option maxRecDepth 100000 in
theorem met_J2_add (l : Launch) (D : va_G) (dA : Nat → ClassId) (cx : CXt) (sz : Nat) (q_x0 : Nat) (x0_modCount : Int32) (q_x0_elementData : Nat) (n_x0_elementData : Nat) (a_x0_elementData : (Nat → Option Nat)) (x0_size : Int32) (x1 : Nat) (post : Int32 → (Nat → Option Nat) → Prop) (hw : w_J2_add post cx n_x0_elementData a_x0_elementData x0_size x1) : Met l yJ2_add (ws_ yJ2_add cJ2_add 2 (some .boolean)) rm_J2_add (va_Pc [.ref q_x0, .ref x1] (wrC D dA cx sz [(q_x0, .inr (9, [.int x0_modCount, .ref q_x0_elementData, .int x0_size])), (q_x0_elementData, .inl (dA 4, n_x0_elementData, .inr (.inr (.inr (.inr a_x0_elementData)))))])) (va_Qi (fun (r : Int32) (u : (Nat → Option Nat)) => post r u) (fun (u : (Nat → Option Nat)) t => wrQ D dA (va_A [(q_x0, .inr (9, [.int x0_modCount, .ref q_x0_elementData, .int x0_size])), (q_x0_elementData, .inl (dA 4, n_x0_elementData, .inr (.inr (.inr (.inr a_x0_elementData)))))] sz) [(q_x0, .inr (9, [.int (x0_modCount + (nI 1)), .ref q_x0_elementData, .int (x0_size + (nI 1))])), (q_x0_elementData, .inl (dA 4, n_x0_elementData, .inr (.inr (.inr (.inr u)))))] t) (va_A [(q_x0, .inr (9, [.int x0_modCount, .ref q_x0_elementData, .int x0_size])), (q_x0_elementData, .inl (dA 4, n_x0_elementData, .inr (.inr (.inr (.inr a_x0_elementData)))))] sz)) 0 0 (va_A [(q_x0, .inr (9, [.int x0_modCount, .ref q_x0_elementData, .int x0_size])), (q_x0_elementData, .inl (dA 4, n_x0_elementData, .inr (.inr (.inr (.inr a_x0_elementData)))))] sz) := by
  refine Met.ofW (cc := cJ2_add) (maxL := 2) (ret := (some .boolean)) (by decide) rfl ?_
  intro p e s m args below meth c s₁ B hml hv
  obtain ⟨rfl, hsz, hP, hK, hD0, hC⟩ := hv
  have hx := B.exec
  have hb := B.bytes
  have hr := B.returns
  have hts := atoms_spec (ws := (ws_ yJ2_add cJ2_add 2 (some .boolean))) B.pre
  have hts : ∀ w ∈ lw_all, w.before _ s = true := fun w h => hts w (List.mem_cons_of_mem _ h)
  have hown : s.vm.findClass RJ2 = some m.cls := findClass_of_methodNamed B.named
  have hlocks := B.notSynchronized
  have hSx : CallFix p m c cJ2_add 2 s _ lw_all RJ2 := ⟨hx, hb, hml, hown, hts⟩
  subst hsz
  have hD := hD0.self (sz := s.heap.size)
  generalize hAe : va_A [(q_x0, .inr (9, [.int x0_modCount, .ref q_x0_elementData, .int x0_size])), (q_x0_elementData, .inl (dA 4, n_x0_elementData, .inr (.inr (.inr (.inr a_x0_elementData)))))] s.heap.size = A at hD hC ⊢
  have hA : ∀ q : Nat, s.heap.size ≤ q → A q := fun q h => by rw [← hAe]; exact Or.inr h
  have hS : va_S A s.heap s.heap [] := va_S.rf
  have hNW := hC.1
  have hl := lv_entry ([.ref q_x0, .ref x1]) (n := 2) (Nat.le_of_ble_eq_true rfl)
  rw [lg_entry_eq]
  generalize (lg_sl ([.ref q_x0, .ref x1]) ++ List.replicate (2 - (lg_sl ([.ref q_x0, .ref x1])).length) Slot.unset).toArray = ls at hl ⊢
  have hl : lv_has ls 2 [(0, .ref q_x0), (1, .ref x1)] := hl
  refine lv_aload_n hx hb dJ2_add_0 rfl (lv_at hl 0 rfl) ?_
  refine lv_dup hx hb dJ2_add_1 rfl ?_
  refine va_get (D := D) (ci := 9) (v := .int x0_modCount) (C := RJ2) (T := TJ2) (N := 3) hx hb hts in_J2 hown hK hP 0 rfl rfl 0 (by decide) (hts _ q140) (u_same (hts _ q139)) rfl dJ2_add_2 ?_
  refine lv_iconst (v := (nI 1)) hx hb dJ2_add_5 (by decide) ?_
  refine lv_iadd hx hb dJ2_add_6 ?_
  refine va_put (D := D) (ci := 9) (v := .int (x0_modCount + (nI 1))) (ty := (.int)) (C := RJ2) (T := TJ2) (N := 3) hx hb hts in_J2 tyJ2 tyJ2_ok nmJ2 hown hK hP hD hS 0 rfl rfl 0 (by decide) (hts _ q140) (u_same (hts _ q139)) rfl (by decide +kernel) rfl rfl (Nat.le_of_ble_eq_true rfl) dJ2_add_7 (fun H locs hP hD hS => ?_)
  have hP : va_P D vwCl [(q_x0, .inr (9, [.int (x0_modCount + (nI 1)), .ref q_x0_elementData, .int x0_size])), (q_x0_elementData, .inl (dA 4, n_x0_elementData, .inr (.inr (.inr (.inr a_x0_elementData)))))] H := hP
  have hD : va_D A [(q_x0, .inr (9, [.int (x0_modCount + (nI 1)), .ref q_x0_elementData, .int x0_size])), (q_x0_elementData, .inl (dA 4, n_x0_elementData, .inr (.inr (.inr (.inr a_x0_elementData)))))] := hD
  refine lv_aload_n hx hb dJ2_add_10 rfl (lv_at hl 0 rfl) ?_
  refine lv_aload_n hx hb dJ2_add_11 rfl (lv_at hl 1 rfl) ?_
  refine lv_aload_n hx hb dJ2_add_12 rfl (lv_at hl 0 rfl) ?_
  refine va_get (D := D) (ci := 9) (v := .ref q_x0_elementData) (C := RJ2) (T := TJ2) (N := 3) hx hb hts in_J2 hown hK hP 0 rfl rfl 1 (by decide) (hts _ q133) (fun _ h9 => h9) rfl dJ2_add_13 ?_
  refine lv_aload_n hx hb dJ2_add_16 rfl (lv_at hl 0 rfl) ?_
  refine va_get (D := D) (ci := 9) (v := .int x0_size) (C := RJ2) (T := TJ2) (N := 3) hx hb hts in_J2 hown hK hP 0 rfl rfl 2 (by decide) (hts _ q136) (fun _ h9 => h9) rfl dJ2_add_17 ?_
  refine k_wv (wn := fun (u : (Nat → Option Nat)) => [(q_x0, .inr (9, [.int (x0_modCount + (nI 1)), .ref q_x0_elementData, .int (x0_size + (nI 1))])), (q_x0_elementData, .inl (dA 4, n_x0_elementData, .inr (.inr (.inr (.inr u)))))]) (wr := []) (kc_wV (As := [.ref x1, .ref q_x0_elementData, .int x0_size]) (rest := []) hSx (met_J2_add_2 l D dA cx _ q_x0 (x0_modCount + (nI 1)) q_x0_elementData n_x0_elementData a_x0_elementData x0_size x1 x0_size _ hw) gJ2_131 ⟨rfl, hd_J2_add_2⟩ ⟨Nat.le_of_ble_eq_true rfl, Nat.le_of_ble_eq_true rfl⟩ rfl rfl hP hK hD hS hA (hC.kept hS.2.1) [0, 1] rfl (by decide) rfl 0 rfl rfl rfl rfl hl.1 (Nat.le_of_ble_eq_true rfl) rfl dJ2_add_20 ⟨Nat.le_refl 0, Nat.le_refl 0⟩) hP hD hS hA [0, 1] [] [0, 1] rfl rfl (by decide) (by decide) (by decide) (fun _ => rfl) (fun _ => rfl) (fun u H locs hw _ hP hD hS => ?_)
  obtain ⟨o2, rfl⟩ : ∃ z, z = u := ⟨_, rfl⟩
  have hP : va_P D vwCl [(q_x0, .inr (9, [.int (x0_modCount + (nI 1)), .ref q_x0_elementData, .int (x0_size + (nI 1))])), (q_x0_elementData, .inl (dA 4, n_x0_elementData, .inr (.inr (.inr (.inr o2)))))] H := hP
  have hD : va_D A [(q_x0, .inr (9, [.int (x0_modCount + (nI 1)), .ref q_x0_elementData, .int (x0_size + (nI 1))])), (q_x0_elementData, .inl (dA 4, n_x0_elementData, .inr (.inr (.inr (.inr o2)))))] := hD
  refine lv_iconst (v := (nI 1)) hx hb dJ2_add_23 (by decide) ?_
  exact W.zret (v := (nI 1)) hx hb hr rfl (fun t ht hW => ⟨⟨(nI 1), o2, rfl, hw, by rw [ht]; exact hP.sub [0, 1] rfl, va_K.moved hW.alike hK, hD.sub [0, 1] (by decide) rfl⟩, hS.F ht⟩) hS.2.2 dJ2_add_24
def w_J2_adde (post : Int32 → Nat → (Nat → Option Nat) → Prop) (bc bs : Nat) (cx : CXt) (x0_size : Int32) (x1 : Nat) : Prop :=
  (∃ b11 b12 : Nat, b11 ≤ bc ∧ b12 ≤ bs ∧ w_J2_add_2e (fun o9 o10 => post (nI 1) o9 o10) b11 b12 cx x0_size x1 x0_size)
def rm_J2_adde (bc0 bs0 : Nat) : Room := { frames := 4, cells := bc0, slots := bs0, locals := 87 }
set_option maxHeartbeats 4000000 in
set_option maxRecDepth 100000 in
theorem met_J2_adde (l : Launch) (D : va_G) (dA : Nat → ClassId) (cx : CXt) (sz : Nat) (bc0 bs0 : Nat) (q_x0 : Nat) (x0_modCount : Int32) (x0_size : Int32) (x1 : Nat) (post : Int32 → Nat → (Nat → Option Nat) → Prop) (hw : w_J2_adde post bc0 bs0 cx x0_size x1) : Met l yJ2_add (ws_ yJ2_add cJ2_add 2 (some .boolean)) (rm_J2_adde bc0 bs0) (va_Pc [.ref q_x0, .ref x1] (wrC D dA cx sz [(q_x0, .inr (9, [.int x0_modCount, .ref (cxE cx), .int x0_size]))])) (va_Qi (fun (r : Int32) (u : Nat × Nat × (Nat → Option Nat)) => post r u.2.1 u.2.2) (fun (u : Nat × Nat × (Nat → Option Nat)) t => wrQ D dA (va_A [(q_x0, .inr (9, [.int x0_modCount, .ref (cxE cx), .int x0_size]))] sz) [(q_x0, .inr (9, [.int (x0_modCount + (nI 1)), .ref u.1, .int (x0_size + (nI 1))])), (u.1, .inl (dA 4, u.2.1, .inr (.inr (.inr (.inr u.2.2)))))] t) (va_A [(q_x0, .inr (9, [.int x0_modCount, .ref (cxE cx), .int x0_size]))] sz)) bc0 bs0 (va_A [(q_x0, .inr (9, [.int x0_modCount, .ref (cxE cx), .int x0_size]))] sz) := by
  refine Met.ofW (cc := cJ2_add) (maxL := 2) (ret := (some .boolean)) (by decide) rfl ?_
  intro p e s m args below meth c s₁ B hml hv
  obtain ⟨rfl, hsz, hP, hK, hD0, hC⟩ := hv
  have hx := B.exec
  have hb := B.bytes
  have hr := B.returns
  have hts := atoms_spec (ws := (ws_ yJ2_add cJ2_add 2 (some .boolean))) B.pre
  have hts : ∀ w ∈ lw_all, w.before _ s = true := fun w h => hts w (List.mem_cons_of_mem _ h)
  have hown : s.vm.findClass RJ2 = some m.cls := findClass_of_methodNamed B.named
  have hlocks := B.notSynchronized
  have hSx : CallFix p m c cJ2_add 2 s _ lw_all RJ2 := ⟨hx, hb, hml, hown, hts⟩
  subst hsz
  have hD := hD0.self (sz := s.heap.size)
  generalize hAe : va_A [(q_x0, .inr (9, [.int x0_modCount, .ref (cxE cx), .int x0_size]))] s.heap.size = A at hD hC ⊢
  have hA : ∀ q : Nat, s.heap.size ≤ q → A q := fun q h => by rw [← hAe]; exact Or.inr h
  have hS : va_S A s.heap s.heap [] := va_S.rf
  have hbud : 0 + bc0 ≤ bc0 ∧ 0 + bs0 ≤ bs0 := by omega
  have hNW := hC.1
  have hl := lv_entry ([.ref q_x0, .ref x1]) (n := 2) (Nat.le_of_ble_eq_true rfl)
  rw [lg_entry_eq]
  generalize (lg_sl ([.ref q_x0, .ref x1]) ++ List.replicate (2 - (lg_sl ([.ref q_x0, .ref x1])).length) Slot.unset).toArray = ls at hl ⊢
  have hl : lv_has ls 2 [(0, .ref q_x0), (1, .ref x1)] := hl
  refine lv_aload_n hx hb dJ2_add_0 rfl (lv_at hl 0 rfl) ?_
  refine lv_dup hx hb dJ2_add_1 rfl ?_
  refine va_get (D := D) (ci := 9) (v := .int x0_modCount) (C := RJ2) (T := TJ2) (N := 3) hx hb hts in_J2 hown hK hP 0 rfl rfl 0 (by decide) (hts _ q140) (u_same (hts _ q139)) rfl dJ2_add_2 ?_
  refine lv_iconst (v := (nI 1)) hx hb dJ2_add_5 (by decide) ?_
  refine lv_iadd hx hb dJ2_add_6 ?_
  refine va_put (D := D) (ci := 9) (v := .int (x0_modCount + (nI 1))) (ty := (.int)) (C := RJ2) (T := TJ2) (N := 3) hx hb hts in_J2 tyJ2 tyJ2_ok nmJ2 hown hK hP hD hS 0 rfl rfl 0 (by decide) (hts _ q140) (u_same (hts _ q139)) rfl (by decide +kernel) rfl rfl (Nat.le_of_ble_eq_true rfl) dJ2_add_7 (fun H locs hP hD hS => ?_)
  have hP : va_P D vwCl [(q_x0, .inr (9, [.int (x0_modCount + (nI 1)), .ref (cxE cx), .int x0_size]))] H := hP
  have hD : va_D A [(q_x0, .inr (9, [.int (x0_modCount + (nI 1)), .ref (cxE cx), .int x0_size]))] := hD
  refine lv_aload_n hx hb dJ2_add_10 rfl (lv_at hl 0 rfl) ?_
  refine lv_aload_n hx hb dJ2_add_11 rfl (lv_at hl 1 rfl) ?_
  refine lv_aload_n hx hb dJ2_add_12 rfl (lv_at hl 0 rfl) ?_
  refine va_get (D := D) (ci := 9) (v := .ref (cxE cx)) (C := RJ2) (T := TJ2) (N := 3) hx hb hts in_J2 hown hK hP 0 rfl rfl 1 (by decide) (hts _ q133) (fun _ h9 => h9) rfl dJ2_add_13 ?_
  refine lv_aload_n hx hb dJ2_add_16 rfl (lv_at hl 0 rfl) ?_
  refine va_get (D := D) (ci := 9) (v := .int x0_size) (C := RJ2) (T := TJ2) (N := 3) hx hb hts in_J2 hown hK hP 0 rfl rfl 2 (by decide) (hts _ q136) (fun _ h9 => h9) rfl dJ2_add_17 ?_
  obtain ⟨b11, b12, h13, h14, hw⟩ := hw
  refine k_wv (wn := fun (u : Nat × Nat × (Nat → Option Nat)) => [(q_x0, .inr (9, [.int (x0_modCount + (nI 1)), .ref u.1, .int (x0_size + (nI 1))])), (u.1, .inl (dA 4, u.2.1, .inr (.inr (.inr (.inr u.2.2)))))]) (wr := []) (kc_wV (As := [.ref x1, .ref (cxE cx), .int x0_size]) (rest := []) hSx (met_J2_add_2e l D dA cx _ b11 b12 q_x0 (x0_modCount + (nI 1)) x0_size x1 x0_size _ hw) gJ2_131 ⟨rfl, hd_J2_add_2⟩ ⟨Nat.le_of_ble_eq_true rfl, Nat.le_of_ble_eq_true rfl⟩ rfl rfl hP hK hD hS hA (hC.kept hS.2.1) [0] rfl (by decide) rfl 0 rfl rfl rfl rfl hl.1 (Nat.le_of_ble_eq_true rfl) rfl dJ2_add_20 ⟨(show 0 + b11 ≤ bc0 by omega), (show 0 + b12 ≤ bs0 by omega)⟩) hP hD hS hA [0] [] [0, 1] rfl rfl (by decide) (by decide) (by decide) (fun _ => rfl) (fun _ => rfl) (fun u H locs hw _ hP hD hS => ?_)
  obtain ⟨q8, o9, o10⟩ := u
  have hP : va_P D vwCl [(q_x0, .inr (9, [.int (x0_modCount + (nI 1)), .ref q8, .int (x0_size + (nI 1))])), (q8, .inl (dA 4, o9, .inr (.inr (.inr (.inr o10)))))] H := hP
  have hD : va_D A [(q_x0, .inr (9, [.int (x0_modCount + (nI 1)), .ref q8, .int (x0_size + (nI 1))])), (q8, .inl (dA 4, o9, .inr (.inr (.inr (.inr o10)))))] := hD
  have hbud : (0 + b11) + (bc0 - b11) ≤ bc0 ∧ (0 + b12) + (bs0 - b12) ≤ bs0 := by omega
  refine lv_iconst (v := (nI 1)) hx hb dJ2_add_23 (by decide) ?_
  refine W.widen (k := bc0) (n := bs0) (by omega) (by omega) ?_
  exact W.zret (v := (nI 1)) hx hb hr rfl (fun t ht hW => ⟨⟨(nI 1), (q8, o9, o10), rfl, hw, by rw [ht]; exact hP.sub [0, 1] rfl, va_K.moved hW.alike hK, hD.sub [0, 1] (by decide) rfl⟩, hS.F ht⟩) hS.2.2 dJ2_add_24
def w_J2_fastRemove_34 (post : (Nat → Option Nat) → Prop) (n_x0_elementData : Nat) (x0_size : Int32)  (a1 : (Nat → Option Nat)) : Prop :=
  (vp_in (x0_size - (nI 1)) n_x0_elementData ∧ post (va_up a1 (x0_size - (nI 1)).toNatClampNeg none))
def w_J2_fastRemove (post : (Nat → Option Nat) → Prop) (cx : CXt) (n_x0_elementData : Nat) (a_x0_elementData : (Nat → Option Nat)) (x0_size : Int32) (x2 : Int32) : Prop :=
  (((x0_size - (nI 1)) ≤ x2 → (w_J2_fastRemove_34 post n_x0_elementData x0_size) a_x0_elementData) ∧ (¬ (x0_size - (nI 1)) ≤ x2 → ((¬ (x2 + (nI 1)) < 0) ∧ ((¬ x2 < 0) ∧ ((¬ ((x0_size - (nI 1)) - x2) < 0) ∧ ((x2 + (nI 1)).toNatClampNeg + ((x0_size - (nI 1)) - x2).toNatClampNeg ≤ n_x0_elementData ∧ (x2.toNatClampNeg + ((x0_size - (nI 1)) - x2).toNatClampNeg ≤ n_x0_elementData ∧ ((∀ i : Nat, i < ((x0_size - (nI 1)) - x2).toNatClampNeg → ∀ y : Nat, a_x0_elementData ((x2 + (nI 1)).toNatClampNeg + i) = some y → y ∈ cxL cx) ∧ (w_J2_fastRemove_34 post n_x0_elementData x0_size) (va_cpy a_x0_elementData a_x0_elementData (x2 + (nI 1)).toNatClampNeg x2.toNatClampNeg ((x0_size - (nI 1)) - x2).toNatClampNeg)))))))))
def rm_J2_fastRemove : Room := { frames := 1, cells := 0, slots := 0, locals := 68 }
set_option maxHeartbeats 4000000 in
set_option maxRecDepth 100000 in
theorem met_J2_fastRemove (l : Launch) (D : va_G) (dA : Nat → ClassId) (cx : CXt) (sz : Nat) (q_x0 : Nat) (x0_modCount : Int32) (q_x0_elementData : Nat) (n_x0_elementData : Nat) (a_x0_elementData : (Nat → Option Nat)) (x0_size : Int32) (x2 : Int32) (post : (Nat → Option Nat) → Prop) (hw : w_J2_fastRemove post cx n_x0_elementData a_x0_elementData x0_size x2) : Met l yJ2_fastRemove (ws_ yJ2_fastRemove cJ2_fastRemove 4 none) rm_J2_fastRemove (va_Pc [.ref q_x0, .ref q_x0_elementData, .int x2] (wrC D dA cx sz [(q_x0, .inr (9, [.int x0_modCount, .ref q_x0_elementData, .int x0_size])), (q_x0_elementData, .inl (dA 4, n_x0_elementData, .inr (.inr (.inr (.inr a_x0_elementData)))))])) (va_Qv (fun (u : (Nat → Option Nat)) => post u) (fun (u : (Nat → Option Nat)) t => wrQ D dA (va_A [(q_x0, .inr (9, [.int x0_modCount, .ref q_x0_elementData, .int x0_size])), (q_x0_elementData, .inl (dA 4, n_x0_elementData, .inr (.inr (.inr (.inr a_x0_elementData)))))] sz) [(q_x0, .inr (9, [.int (x0_modCount + (nI 1)), .ref q_x0_elementData, .int (x0_size - (nI 1))])), (q_x0_elementData, .inl (dA 4, n_x0_elementData, .inr (.inr (.inr (.inr u)))))] t) (va_A [(q_x0, .inr (9, [.int x0_modCount, .ref q_x0_elementData, .int x0_size])), (q_x0_elementData, .inl (dA 4, n_x0_elementData, .inr (.inr (.inr (.inr a_x0_elementData)))))] sz)) 0 0 (va_A [(q_x0, .inr (9, [.int x0_modCount, .ref q_x0_elementData, .int x0_size])), (q_x0_elementData, .inl (dA 4, n_x0_elementData, .inr (.inr (.inr (.inr a_x0_elementData)))))] sz) := by
  refine Met.ofW (cc := cJ2_fastRemove) (maxL := 4) (ret := none) (by decide) rfl ?_
  intro p e s m args below meth c s₁ B hml hv
  obtain ⟨rfl, hsz, hP, hK, hD0, hC⟩ := hv
  have hx := B.exec
  have hb := B.bytes
  have hr := B.returns
  have hts := atoms_spec (ws := (ws_ yJ2_fastRemove cJ2_fastRemove 4 none)) B.pre
  have hts : ∀ w ∈ lw_all, w.before _ s = true := fun w h => hts w (List.mem_cons_of_mem _ h)
  have hown : s.vm.findClass RJ2 = some m.cls := findClass_of_methodNamed B.named
  have hlocks := B.notSynchronized
  have hSx : CallFix p m c cJ2_fastRemove 4 s _ lw_all RJ2 := ⟨hx, hb, hml, hown, hts⟩
  subst hsz
  have hD := hD0.self (sz := s.heap.size)
  generalize hAe : va_A [(q_x0, .inr (9, [.int x0_modCount, .ref q_x0_elementData, .int x0_size])), (q_x0_elementData, .inl (dA 4, n_x0_elementData, .inr (.inr (.inr (.inr a_x0_elementData)))))] s.heap.size = A at hD hC ⊢
  have hA : ∀ q : Nat, s.heap.size ≤ q → A q := fun q h => by rw [← hAe]; exact Or.inr h
  have hS : va_S A s.heap s.heap [] := va_S.rf
  have hNW := hC.1
  have hl := lv_entry ([.ref q_x0, .ref q_x0_elementData, .int x2]) (n := 4) (Nat.le_of_ble_eq_true rfl)
  rw [lg_entry_eq]
  generalize (lg_sl ([.ref q_x0, .ref q_x0_elementData, .int x2]) ++ List.replicate (4 - (lg_sl ([.ref q_x0, .ref q_x0_elementData, .int x2])).length) Slot.unset).toArray = ls at hl ⊢
  have hl : lv_has ls 4 [(0, .ref q_x0), (1, .ref q_x0_elementData), (2, .int x2)] := hl
  have hL34 : ∀  (a1 : (Nat → Option Nat)) (H : Heap) (locs : List Loc) (ls : Array Slot), va_P D vwCl [(q_x0, .inr (9, [.int (x0_modCount + (nI 1)), .ref q_x0_elementData, .int x0_size])), (q_x0_elementData, .inl (dA 4, n_x0_elementData, .inr (.inr (.inr (.inr a1)))))] H → va_D A [(q_x0, .inr (9, [.int (x0_modCount + (nI 1)), .ref q_x0_elementData, .int x0_size])), (q_x0_elementData, .inl (dA 4, n_x0_elementData, .inr (.inr (.inr (.inr a1)))))] → va_S A s.heap H locs → lv_has ls 4 [(0, .ref q_x0), (1, .ref q_x0_elementData), (3, .int (x0_size - (nI 1)))] → (w_J2_fastRemove_34 post n_x0_elementData x0_size) a1 → W p l e (headSpec (ws_ yJ2_fastRemove cJ2_fastRemove 4 none) (rm_J2_fastRemove)).room s m ([.ref q_x0, .ref q_x0_elementData, .int x2] : List Value).toArray below meth c H locs 0 0 (MQ below (va_Qv (fun (u : (Nat → Option Nat)) => post u) (fun (u : (Nat → Option Nat)) t => wrQ D dA A [(q_x0, .inr (9, [.int (x0_modCount + (nI 1)), .ref q_x0_elementData, .int (x0_size - (nI 1))])), (q_x0_elementData, .inl (dA 4, n_x0_elementData, .inr (.inr (.inr (.inr u)))))] t) A) ([.ref q_x0, .ref q_x0_elementData, .int x2] : List Value).toArray s 0 0 A) (F0 m 34 ls []) := by
      intro  a1 H locs ls hP hD hS hl hw
      refine lv_aload_n hx hb dJ2_fastRemove_34 rfl (lv_at hl 1 rfl) ?_
      refine lv_aload_n hx hb dJ2_fastRemove_35 rfl (lv_at hl 0 rfl) ?_
      refine lv_iload_n hx hb dJ2_fastRemove_36 rfl (lv_at hl 2 rfl) ?_
      refine lv_dup_x1 hx hb dJ2_fastRemove_37 rfl rfl ?_
      refine va_put (D := D) (ci := 9) (v := .int (x0_size - (nI 1))) (ty := (.int)) (C := RJ2) (T := TJ2) (N := 3) hx hb hts in_J2 tyJ2 tyJ2_ok nmJ2 hown hK hP hD hS 0 rfl rfl 2 (by decide) (hts _ q136) (fun _ h9 => h9) rfl (by decide +kernel) rfl rfl (Nat.le_of_ble_eq_true rfl) dJ2_fastRemove_38 (fun H locs hP hD hS => ?_)
      have hP : va_P D vwCl [(q_x0, .inr (9, [.int (x0_modCount + (nI 1)), .ref q_x0_elementData, .int (x0_size - (nI 1))])), (q_x0_elementData, .inl (dA 4, n_x0_elementData, .inr (.inr (.inr (.inr a1)))))] H := hP
      have hD : va_D A [(q_x0, .inr (9, [.int (x0_modCount + (nI 1)), .ref q_x0_elementData, .int (x0_size - (nI 1))])), (q_x0_elementData, .inl (dA 4, n_x0_elementData, .inr (.inr (.inr (.inr a1)))))] := hD
      refine lv_null hx hb dJ2_fastRemove_41 ?_
      obtain ⟨h17, hw⟩ := hw
      refine k_astqN (k := (x0_size - (nI 1)).toNatClampNeg) hx hb hK hP hD hS 1 4 rfl rfl rfl h17 dJ2_fastRemove_42 (fun H locs hP hD hS => ?_)
      have hP : va_P D vwCl [(q_x0, .inr (9, [.int (x0_modCount + (nI 1)), .ref q_x0_elementData, .int (x0_size - (nI 1))])), (q_x0_elementData, .inl (dA 4, n_x0_elementData, .inr (.inr (.inr (.inr (va_up a1 (x0_size - (nI 1)).toNatClampNeg none))))))] H := hP
      have hD : va_D A [(q_x0, .inr (9, [.int (x0_modCount + (nI 1)), .ref q_x0_elementData, .int (x0_size - (nI 1))])), (q_x0_elementData, .inl (dA 4, n_x0_elementData, .inr (.inr (.inr (.inr (va_up a1 (x0_size - (nI 1)).toNatClampNeg none))))))] := hD
      exact W.vret hx hb hr (fun t ht hW => ⟨⟨(va_up a1 (x0_size - (nI 1)).toNatClampNeg none), rfl, hw, by rw [ht]; exact hP.sub [0, 1] rfl, va_K.moved hW.alike hK, hD.sub [0, 1] (by decide) rfl⟩, hS.F ht⟩) hS.2.2 dJ2_fastRemove_43
  refine lv_aload_n hx hb dJ2_fastRemove_0 rfl (lv_at hl 0 rfl) ?_
  refine lv_dup hx hb dJ2_fastRemove_1 rfl ?_
  refine va_get (D := D) (ci := 9) (v := .int x0_modCount) (C := RJ2) (T := TJ2) (N := 3) hx hb hts in_J2 hown hK hP 0 rfl rfl 0 (by decide) (hts _ q140) (u_same (hts _ q139)) rfl dJ2_fastRemove_2 ?_
  refine lv_iconst (v := (nI 1)) hx hb dJ2_fastRemove_5 (by decide) ?_
  refine lv_iadd hx hb dJ2_fastRemove_6 ?_
  refine va_put (D := D) (ci := 9) (v := .int (x0_modCount + (nI 1))) (ty := (.int)) (C := RJ2) (T := TJ2) (N := 3) hx hb hts in_J2 tyJ2 tyJ2_ok nmJ2 hown hK hP hD hS 0 rfl rfl 0 (by decide) (hts _ q140) (u_same (hts _ q139)) rfl (by decide +kernel) rfl rfl (Nat.le_of_ble_eq_true rfl) dJ2_fastRemove_7 (fun H locs hP hD hS => ?_)
  have hP : va_P D vwCl [(q_x0, .inr (9, [.int (x0_modCount + (nI 1)), .ref q_x0_elementData, .int x0_size])), (q_x0_elementData, .inl (dA 4, n_x0_elementData, .inr (.inr (.inr (.inr a_x0_elementData)))))] H := hP
  have hD : va_D A [(q_x0, .inr (9, [.int (x0_modCount + (nI 1)), .ref q_x0_elementData, .int x0_size])), (q_x0_elementData, .inl (dA 4, n_x0_elementData, .inr (.inr (.inr (.inr a_x0_elementData)))))] := hD
  refine lv_aload_n hx hb dJ2_fastRemove_10 rfl (lv_at hl 0 rfl) ?_
  refine va_get (D := D) (ci := 9) (v := .int x0_size) (C := RJ2) (T := TJ2) (N := 3) hx hb hts in_J2 hown hK hP 0 rfl rfl 2 (by decide) (hts _ q136) (fun _ h9 => h9) rfl dJ2_fastRemove_11 ?_
  refine lv_iconst (v := (nI 1)) hx hb dJ2_fastRemove_14 (by decide) ?_
  refine lv_isub hx hb dJ2_fastRemove_15 ?_
  refine lv_dup hx hb dJ2_fastRemove_16 rfl ?_
  refine lv_istore_n (lv' := [(3, .int (x0_size - (nI 1))), (0, .ref q_x0), (1, .ref q_x0_elementData), (2, .int x2)]) hx hb dJ2_fastRemove_17 rfl hl (by decide) rfl (fun ls hl => ?_)
  refine lv_iload_n hx hb dJ2_fastRemove_18 rfl (lv_at hl 3 rfl) ?_
  refine lv_icmp_le (tgt := 34) hx hb dJ2_fastRemove_19 (by decide) (fun c18 => ?_) (fun c18 => ?_)
  · have hw := hw.1 c18
    exact hL34  a_x0_elementData _ _ _ (hP.sub [0, 1] rfl) (hD.sub [0, 1] (by decide) rfl) hS (lv_sub hl [1, 2, 0] rfl) hw
  · have hw := hw.2 c18
    refine lv_aload_n hx hb dJ2_fastRemove_22 rfl (lv_at hl 2 rfl) ?_
    refine lv_iload_n hx hb dJ2_fastRemove_23 rfl (lv_at hl 3 rfl) ?_
    refine lv_iconst (v := (nI 1)) hx hb dJ2_fastRemove_24 (by decide) ?_
    refine lv_iadd hx hb dJ2_fastRemove_25 ?_
    refine lv_aload_n hx hb dJ2_fastRemove_26 rfl (lv_at hl 2 rfl) ?_
    refine lv_iload_n hx hb dJ2_fastRemove_27 rfl (lv_at hl 3 rfl) ?_
    refine lv_iload_n hx hb dJ2_fastRemove_28 rfl (lv_at hl 0 rfl) ?_
    refine lv_iload_n hx hb dJ2_fastRemove_29 rfl (lv_at hl 3 rfl) ?_
    refine lv_isub hx hb dJ2_fastRemove_30 ?_
    obtain ⟨h19, hw⟩ := hw
    obtain ⟨h20, hw⟩ := hw
    obtain ⟨h21, hw⟩ := hw
    obtain ⟨h22, hw⟩ := hw
    obtain ⟨h23, hw⟩ := hw
    obtain ⟨h24, hw⟩ := hw
    refine k_copyM hSx hl.1 q1502 q373 q372 q83 hK hP hD hS (hC.kept hS.2.1) 1 1 4 4 rfl rfl rfl rfl h19 h20 h21 h22 h23 h24 (Nat.le_of_ble_eq_true rfl) (Nat.le_of_ble_eq_true rfl) dJ2_fastRemove_31 (fun H locs hP hD hS => ?_)
    have hP : va_P D vwCl [(q_x0, .inr (9, [.int (x0_modCount + (nI 1)), .ref q_x0_elementData, .int x0_size])), (q_x0_elementData, .inl (dA 4, n_x0_elementData, .inr (.inr (.inr (.inr (va_cpy a_x0_elementData a_x0_elementData (x2 + (nI 1)).toNatClampNeg x2.toNatClampNeg ((x0_size - (nI 1)) - x2).toNatClampNeg))))))] H := hP
    have hD : va_D A [(q_x0, .inr (9, [.int (x0_modCount + (nI 1)), .ref q_x0_elementData, .int x0_size])), (q_x0_elementData, .inl (dA 4, n_x0_elementData, .inr (.inr (.inr (.inr (va_cpy a_x0_elementData a_x0_elementData (x2 + (nI 1)).toNatClampNeg x2.toNatClampNeg ((x0_size - (nI 1)) - x2).toNatClampNeg))))))] := hD
    exact hL34  (va_cpy a_x0_elementData a_x0_elementData (x2 + (nI 1)).toNatClampNeg x2.toNatClampNeg ((x0_size - (nI 1)) - x2).toNatClampNeg) _ _ _ (hP.sub [0, 1] rfl) (hD.sub [0, 1] (by decide) rfl) hS (lv_sub hl [1, 2, 0] rfl) hw
def w_J2_remove (post : (Nat → Option Nat) → Nat → Prop) (cx : CXt) (n_x0_elementData : Nat) (a_x0_elementData : (Nat → Option Nat)) (x0_size : Int32) (x1 : Int32) : Prop :=
  w_J24_checkIndex (fun r6 => (vp_in x1 n_x0_elementData ∧ (∃ y8 : Nat, a_x0_elementData (x1.toNatClampNeg) = some y8 ∧ w_J2_fastRemove (fun o10 => post o10 y8) cx n_x0_elementData a_x0_elementData x0_size x1))) x1 x0_size
theorem hd_J2_fastRemove : yJ2_fastRemove.cls ≠ "java/lang/invoke/MethodHandle" ∧ yJ2_fastRemove.cls ≠ "java/lang/invoke/VarHandle" ∧ (parseMethodDescriptor yJ2_fastRemove.desc).map (fun d => d.parameters.length) = some 2 := by decide +kernel
theorem gJ2_144 : GoodIn lw_all (wsV RJ2 144 RJ2 yJ2_fastRemove (ws_ yJ2_fastRemove cJ2_fastRemove 4 none)) := lw_V q1498 q1500 qs30 q71 q1501
def rm_J2_remove : Room := { frames := 2, cells := 0, slots := 0, locals := 91 }
set_option maxHeartbeats 4000000 in
set_option maxRecDepth 100000 in
theorem met_J2_remove (l : Launch) (D : va_G) (dA : Nat → ClassId) (cx : CXt) (sz : Nat) (q_x0 : Nat) (x0_modCount : Int32) (q_x0_elementData : Nat) (n_x0_elementData : Nat) (a_x0_elementData : (Nat → Option Nat)) (x0_size : Int32) (x1 : Int32) (post : (Nat → Option Nat) → Nat → Prop) (hw : w_J2_remove post cx n_x0_elementData a_x0_elementData x0_size x1) : Met l yJ2_remove (ws_ yJ2_remove cJ2_remove 4 (some (.object "java/lang/Object"))) rm_J2_remove (va_Pc [.ref q_x0, .int x1] (wrC D dA cx sz [(q_x0, .inr (9, [.int x0_modCount, .ref q_x0_elementData, .int x0_size])), (q_x0_elementData, .inl (dA 4, n_x0_elementData, .inr (.inr (.inr (.inr a_x0_elementData)))))])) (va_Qr (fun (u : (Nat → Option Nat) × Nat) => post u.1 u.2) (fun (u : (Nat → Option Nat) × Nat) a9 t => a9 = u.2 ∧ wrQ D dA (va_A [(q_x0, .inr (9, [.int x0_modCount, .ref q_x0_elementData, .int x0_size])), (q_x0_elementData, .inl (dA 4, n_x0_elementData, .inr (.inr (.inr (.inr a_x0_elementData)))))] sz) [(q_x0, .inr (9, [.int (x0_modCount + (nI 1)), .ref q_x0_elementData, .int (x0_size - (nI 1))])), (q_x0_elementData, .inl (dA 4, n_x0_elementData, .inr (.inr (.inr (.inr u.1)))))] t) (va_A [(q_x0, .inr (9, [.int x0_modCount, .ref q_x0_elementData, .int x0_size])), (q_x0_elementData, .inl (dA 4, n_x0_elementData, .inr (.inr (.inr (.inr a_x0_elementData)))))] sz)) 0 0 (va_A [(q_x0, .inr (9, [.int x0_modCount, .ref q_x0_elementData, .int x0_size])), (q_x0_elementData, .inl (dA 4, n_x0_elementData, .inr (.inr (.inr (.inr a_x0_elementData)))))] sz) := by
  refine Met.ofW (cc := cJ2_remove) (maxL := 4) (ret := (some (.object "java/lang/Object"))) (by decide) rfl ?_
  intro p e s m args below meth c s₁ B hml hv
  obtain ⟨rfl, hsz, hP, hK, hD0, hC⟩ := hv
  have hx := B.exec
  have hb := B.bytes
  have hr := B.returns
  have hts := atoms_spec (ws := (ws_ yJ2_remove cJ2_remove 4 (some (.object "java/lang/Object")))) B.pre
  have hts : ∀ w ∈ lw_all, w.before _ s = true := fun w h => hts w (List.mem_cons_of_mem _ h)
  have hown : s.vm.findClass RJ2 = some m.cls := findClass_of_methodNamed B.named
  have hlocks := B.notSynchronized
  have hSx : CallFix p m c cJ2_remove 4 s _ lw_all RJ2 := ⟨hx, hb, hml, hown, hts⟩
  subst hsz
  have hD := hD0.self (sz := s.heap.size)
  generalize hAe : va_A [(q_x0, .inr (9, [.int x0_modCount, .ref q_x0_elementData, .int x0_size])), (q_x0_elementData, .inl (dA 4, n_x0_elementData, .inr (.inr (.inr (.inr a_x0_elementData)))))] s.heap.size = A at hD hC ⊢
  have hA : ∀ q : Nat, s.heap.size ≤ q → A q := fun q h => by rw [← hAe]; exact Or.inr h
  have hS : va_S A s.heap s.heap [] := va_S.rf
  have hNW := hC.1
  have hl := lv_entry ([.ref q_x0, .int x1]) (n := 4) (Nat.le_of_ble_eq_true rfl)
  rw [lg_entry_eq]
  generalize (lg_sl ([.ref q_x0, .int x1]) ++ List.replicate (4 - (lg_sl ([.ref q_x0, .int x1])).length) Slot.unset).toArray = ls at hl ⊢
  have hl : lv_has ls 4 [(0, .ref q_x0), (1, .int x1)] := hl
  refine lv_iload_n hx hb dJ2_remove_0 rfl (lv_at hl 1 rfl) ?_
  refine lv_aload_n hx hb dJ2_remove_1 rfl (lv_at hl 0 rfl) ?_
  refine va_get (D := D) (ci := 9) (v := .int x0_size) (C := RJ2) (T := TJ2) (N := 3) hx hb hts in_J2 hown hK hP 0 rfl rfl 2 (by decide) (hts _ q136) (fun _ h9 => h9) rfl dJ2_remove_2 ?_
  refine k_ri (k_pS (As := [.int x1, .int x0_size]) (rest := []) hSx (met_J24_checkIndex l x1 x0_size _ hw) gJ2_118 hd_J24_checkIndex ⟨Nat.le_of_ble_eq_true rfl, Nat.le_of_ble_eq_true rfl⟩ rfl rfl rfl hl.1 (Nat.le_of_ble_eq_true rfl) rfl dJ2_remove_5 ⟨Nat.le_refl 0, Nat.le_refl 0⟩) (fun r6 hw => ?_)
  refine lv_pop hx hb dJ2_remove_8 rfl ?_
  refine lv_aload_n hx hb dJ2_remove_9 rfl (lv_at hl 0 rfl) ?_
  refine va_get (D := D) (ci := 9) (v := .ref q_x0_elementData) (C := RJ2) (T := TJ2) (N := 3) hx hb hts in_J2 hown hK hP 0 rfl rfl 1 (by decide) (hts _ q133) (fun _ h9 => h9) rfl dJ2_remove_10 ?_
  refine lv_astore_n (lv' := [(2, .ref q_x0_elementData), (0, .ref q_x0), (1, .int x1)]) hx hb dJ2_remove_13 rfl hl (by decide) rfl (fun ls hl => ?_)
  refine lv_aload_n hx hb dJ2_remove_14 rfl (lv_at hl 0 rfl) ?_
  refine lv_iload_n hx hb dJ2_remove_15 rfl (lv_at hl 2 rfl) ?_
  obtain ⟨h7, hw⟩ := hw
  obtain ⟨y8, h9, hw⟩ := hw
  refine k_aldq (k := x1.toNatClampNeg) hx hb hK hP 1 4 rfl rfl rfl h9 h7 dJ2_remove_16 ?_
  refine lv_astore_n (lv' := [(3, .ref y8), (2, .ref q_x0_elementData), (0, .ref q_x0), (1, .int x1)]) hx hb dJ2_remove_17 rfl hl (by decide) rfl (fun ls hl => ?_)
  refine lv_aload_n hx hb dJ2_remove_18 rfl (lv_at hl 2 rfl) ?_
  refine lv_aload_n hx hb dJ2_remove_19 rfl (lv_at hl 1 rfl) ?_
  refine lv_iload_n hx hb dJ2_remove_20 rfl (lv_at hl 3 rfl) ?_
  refine k_wv (wn := fun (u : (Nat → Option Nat)) => [(q_x0, .inr (9, [.int (x0_modCount + (nI 1)), .ref q_x0_elementData, .int (x0_size - (nI 1))])), (q_x0_elementData, .inl (dA 4, n_x0_elementData, .inr (.inr (.inr (.inr u)))))]) (wr := []) (kc_wV (As := [.ref q_x0_elementData, .int x1]) (rest := []) hSx (met_J2_fastRemove l D dA cx _ q_x0 x0_modCount q_x0_elementData n_x0_elementData a_x0_elementData x0_size x1 _ hw) gJ2_144 ⟨rfl, hd_J2_fastRemove⟩ ⟨Nat.le_of_ble_eq_true rfl, Nat.le_of_ble_eq_true rfl⟩ rfl rfl hP hK hD hS hA (hC.kept hS.2.1) [0, 1] rfl (by decide) rfl 0 rfl rfl rfl rfl hl.1 (Nat.le_of_ble_eq_true rfl) rfl dJ2_remove_21 ⟨Nat.le_refl 0, Nat.le_refl 0⟩) hP hD hS hA [0, 1] [] [0, 1] rfl rfl (by decide) (by decide) (by decide) (fun _ => rfl) (fun _ => rfl) (fun u H locs hw _ hP hD hS => ?_)
  obtain ⟨o10, rfl⟩ : ∃ z, z = u := ⟨_, rfl⟩
  have hP : va_P D vwCl [(q_x0, .inr (9, [.int (x0_modCount + (nI 1)), .ref q_x0_elementData, .int (x0_size - (nI 1))])), (q_x0_elementData, .inl (dA 4, n_x0_elementData, .inr (.inr (.inr (.inr o10)))))] H := hP
  have hD : va_D A [(q_x0, .inr (9, [.int (x0_modCount + (nI 1)), .ref q_x0_elementData, .int (x0_size - (nI 1))])), (q_x0_elementData, .inl (dA 4, n_x0_elementData, .inr (.inr (.inr (.inr o10)))))] := hD
  refine lv_aload_n hx hb dJ2_remove_24 rfl (lv_at hl 0 rfl) ?_
  exact W.aret (v := .ref y8) hx hb hr (Or.inl ⟨_, rfl⟩) (Or.inr ⟨_, rfl⟩) (fun t ht hW => ⟨⟨(o10, y8), _, rfl, hw, rfl, by rw [ht]; exact hP.sub [0, 1] rfl, va_K.moved hW.alike hK, hD.sub [0, 1] (by decide) rfl⟩, hS.F ht⟩) hS.2.2 dJ2_remove_25
def w_J14_init (post : Prop)  : Prop :=
  post 
def rm_J14_init : Room := { frames := 1, cells := 0, slots := 0, locals := 20 }
set_option maxHeartbeats 4000000 in
set_option maxRecDepth 100000 in
theorem met_J14_init (l : Launch) (D : va_G) (dA : Nat → ClassId) (cx : CXt) (sz : Nat) (q_x0 : Nat) (x0_cursor : Int32) (x0_lastRet : Int32) (x0_expectedModCount : Int32) (q_x1 : Nat) (x1_modCount : Int32) (q_x1_elementData : Nat) (n_x1_elementData : Nat) (a_x1_elementData : (Nat → Option Nat)) (x1_size : Int32) (post : Prop) (hw : w_J14_init post ) : Met l yJ14_init (ws_ yJ14_init cJ14_init 2 none) rm_J14_init (va_Pc [.ref q_x0, .ref q_x1] (wrC D dA cx sz [(q_x0, .inr (12, [.int x0_cursor, .int x0_lastRet, .int x0_expectedModCount, .null])), (q_x1, .inr (9, [.int x1_modCount, .ref q_x1_elementData, .int x1_size])), (q_x1_elementData, .inl (dA 4, n_x1_elementData, .inr (.inr (.inr (.inr a_x1_elementData)))))])) (va_Qv (fun (u : Unit) => post ) (fun (u : Unit) t => wrQ D dA (va_A [(q_x0, .inr (12, [.int x0_cursor, .int x0_lastRet, .int x0_expectedModCount, .null])), (q_x1, .inr (9, [.int x1_modCount, .ref q_x1_elementData, .int x1_size])), (q_x1_elementData, .inl (dA 4, n_x1_elementData, .inr (.inr (.inr (.inr a_x1_elementData)))))] sz) [(q_x0, .inr (12, [.int x0_cursor, .int (-1), .int x1_modCount, .ref q_x1])), (q_x1, .inr (9, [.int x1_modCount, .ref q_x1_elementData, .int x1_size])), (q_x1_elementData, .inl (dA 4, n_x1_elementData, .inr (.inr (.inr (.inr a_x1_elementData)))))] t) (va_A [(q_x0, .inr (12, [.int x0_cursor, .int x0_lastRet, .int x0_expectedModCount, .null])), (q_x1, .inr (9, [.int x1_modCount, .ref q_x1_elementData, .int x1_size])), (q_x1_elementData, .inl (dA 4, n_x1_elementData, .inr (.inr (.inr (.inr a_x1_elementData)))))] sz)) 0 0 (va_A [(q_x0, .inr (12, [.int x0_cursor, .int x0_lastRet, .int x0_expectedModCount, .null])), (q_x1, .inr (9, [.int x1_modCount, .ref q_x1_elementData, .int x1_size])), (q_x1_elementData, .inl (dA 4, n_x1_elementData, .inr (.inr (.inr (.inr a_x1_elementData)))))] sz) := by
  refine Met.ofW (cc := cJ14_init) (maxL := 2) (ret := none) (by decide) rfl ?_
  intro p e s m args below meth c s₁ B hml hv
  obtain ⟨rfl, hsz, hP, hK, hD0, hC⟩ := hv
  have hx := B.exec
  have hb := B.bytes
  have hr := B.returns
  have hts := atoms_spec (ws := (ws_ yJ14_init cJ14_init 2 none)) B.pre
  have hts : ∀ w ∈ lw_all, w.before _ s = true := fun w h => hts w (List.mem_cons_of_mem _ h)
  have hown : s.vm.findClass RJ14 = some m.cls := findClass_of_methodNamed B.named
  have hlocks := B.notSynchronized
  have hSx : CallFix p m c cJ14_init 2 s _ lw_all RJ14 := ⟨hx, hb, hml, hown, hts⟩
  have hin : meth.name = "<init>" := (name_of_methodNamed B.named B.method).1
  subst hsz
  have hD := hD0.self (sz := s.heap.size)
  generalize hAe : va_A [(q_x0, .inr (12, [.int x0_cursor, .int x0_lastRet, .int x0_expectedModCount, .null])), (q_x1, .inr (9, [.int x1_modCount, .ref q_x1_elementData, .int x1_size])), (q_x1_elementData, .inl (dA 4, n_x1_elementData, .inr (.inr (.inr (.inr a_x1_elementData)))))] s.heap.size = A at hD hC ⊢
  have hA : ∀ q : Nat, s.heap.size ≤ q → A q := fun q h => by rw [← hAe]; exact Or.inr h
  have hS : va_S A s.heap s.heap [] := va_S.rf
  have hNW := hC.1
  have hl := lv_entry ([.ref q_x0, .ref q_x1]) (n := 2) (Nat.le_of_ble_eq_true rfl)
  rw [lg_entry_eq]
  generalize (lg_sl ([.ref q_x0, .ref q_x1]) ++ List.replicate (2 - (lg_sl ([.ref q_x0, .ref q_x1])).length) Slot.unset).toArray = ls at hl ⊢
  have hl : lv_has ls 2 [(0, .ref q_x0), (1, .ref q_x1)] := hl
  refine lv_aload_n hx hb dJ14_init_0 rfl (lv_at hl 0 rfl) ?_
  refine lv_aload_n hx hb dJ14_init_1 rfl (lv_at hl 1 rfl) ?_
  refine va_putF (D := D) (ci := 12) (v := .ref q_x1) (ty := (.object "java/util/ArrayList")) (C := RJ14) (T := TJ14) (N := 4) hx hb hts in_J14 tyJ14 tyJ14_ok nmJ14 hown hK hP hD hS 0 rfl rfl 3 (by decide) (hts _ q963) (fun _ h9 => h9) rfl hin rfl (by decide +kernel) rfl rfl (Nat.le_of_ble_eq_true rfl) dJ14_init_2 (fun H locs hP hD hS => ?_)
  have hP : va_P D vwCl [(q_x0, .inr (12, [.int x0_cursor, .int x0_lastRet, .int x0_expectedModCount, .ref q_x1])), (q_x1, .inr (9, [.int x1_modCount, .ref q_x1_elementData, .int x1_size])), (q_x1_elementData, .inl (dA 4, n_x1_elementData, .inr (.inr (.inr (.inr a_x1_elementData)))))] H := hP
  have hD : va_D A [(q_x0, .inr (12, [.int x0_cursor, .int x0_lastRet, .int x0_expectedModCount, .ref q_x1])), (q_x1, .inr (9, [.int x1_modCount, .ref q_x1_elementData, .int x1_size])), (q_x1_elementData, .inl (dA 4, n_x1_elementData, .inr (.inr (.inr (.inr a_x1_elementData)))))] := hD
  refine lv_aload_n hx hb dJ14_init_5 rfl (lv_at hl 0 rfl) ?_
  refine W.objInit hx hb hown (hts _ q959) (hts _ q111) (hts _ q112) rfl (by rw [hml]; exact hl.1) rfl dJ14_init_6 (Nat.le_of_ble_eq_true rfl) (Nat.le_of_ble_eq_true rfl) ?_
  refine W.eq (g2 := F0 m 9 ls []) rfl ?_
  refine lv_aload_n hx hb dJ14_init_9 rfl (lv_at hl 0 rfl) ?_
  refine lv_iconst (v := (-1)) hx hb dJ14_init_10 (by decide) ?_
  refine va_put (D := D) (ci := 12) (v := .int (-1)) (ty := (.int)) (C := RJ14) (T := TJ14) (N := 4) hx hb hts in_J14 tyJ14 tyJ14_ok nmJ14 hown hK hP hD hS 0 rfl rfl 1 (by decide) (hts _ q961) (fun _ h9 => h9) rfl (by decide +kernel) rfl rfl (Nat.le_of_ble_eq_true rfl) dJ14_init_11 (fun H locs hP hD hS => ?_)
  have hP : va_P D vwCl [(q_x0, .inr (12, [.int x0_cursor, .int (-1), .int x0_expectedModCount, .ref q_x1])), (q_x1, .inr (9, [.int x1_modCount, .ref q_x1_elementData, .int x1_size])), (q_x1_elementData, .inl (dA 4, n_x1_elementData, .inr (.inr (.inr (.inr a_x1_elementData)))))] H := hP
  have hD : va_D A [(q_x0, .inr (12, [.int x0_cursor, .int (-1), .int x0_expectedModCount, .ref q_x1])), (q_x1, .inr (9, [.int x1_modCount, .ref q_x1_elementData, .int x1_size])), (q_x1_elementData, .inl (dA 4, n_x1_elementData, .inr (.inr (.inr (.inr a_x1_elementData)))))] := hD
  refine lv_aload_n hx hb dJ14_init_14 rfl (lv_at hl 0 rfl) ?_
  refine lv_aload_n hx hb dJ14_init_15 rfl (lv_at hl 0 rfl) ?_
  refine va_get (D := D) (ci := 12) (v := .ref q_x1) (C := RJ14) (T := TJ14) (N := 4) hx hb hts in_J14 hown hK hP 0 rfl rfl 3 (by decide) (hts _ q963) (fun _ h9 => h9) rfl dJ14_init_16 ?_
  refine va_get (D := D) (ci := 9) (v := .int x1_modCount) (C := RJ2) (T := TJ2) (N := 3) hx hb hts in_J2 hown hK hP 1 rfl rfl 0 (by decide) (hts _ q138) (u_same (hts _ q139)) rfl dJ14_init_19 ?_
  refine va_put (D := D) (ci := 12) (v := .int x1_modCount) (ty := (.int)) (C := RJ14) (T := TJ14) (N := 4) hx hb hts in_J14 tyJ14 tyJ14_ok nmJ14 hown hK hP hD hS 0 rfl rfl 2 (by decide) (hts _ q962) (fun _ h9 => h9) rfl (by decide +kernel) rfl rfl (Nat.le_of_ble_eq_true rfl) dJ14_init_22 (fun H locs hP hD hS => ?_)
  have hP : va_P D vwCl [(q_x0, .inr (12, [.int x0_cursor, .int (-1), .int x1_modCount, .ref q_x1])), (q_x1, .inr (9, [.int x1_modCount, .ref q_x1_elementData, .int x1_size])), (q_x1_elementData, .inl (dA 4, n_x1_elementData, .inr (.inr (.inr (.inr a_x1_elementData)))))] H := hP
  have hD : va_D A [(q_x0, .inr (12, [.int x0_cursor, .int (-1), .int x1_modCount, .ref q_x1])), (q_x1, .inr (9, [.int x1_modCount, .ref q_x1_elementData, .int x1_size])), (q_x1_elementData, .inl (dA 4, n_x1_elementData, .inr (.inr (.inr (.inr a_x1_elementData)))))] := hD
  exact W.vret hx hb hr (fun t ht hW => ⟨⟨(), rfl, hw, by rw [ht]; exact hP.sub [0, 1, 2] rfl, va_K.moved hW.alike hK, hD.sub [0, 1, 2] (by decide) rfl⟩, hS.F ht⟩) hS.2.2 dJ14_init_25
def w_J2_iterator (post : Prop) (bc bs : Nat)  : Prop :=
  (1 ≤ bc ∧ 4 ≤ bs ∧ w_J14_init (post ) )
theorem hd_J14_init : yJ14_init.cls ≠ "java/lang/invoke/MethodHandle" ∧ yJ14_init.cls ≠ "java/lang/invoke/VarHandle" ∧ (parseMethodDescriptor yJ14_init.desc).map (fun d => d.parameters.length) = some 1 := by decide +kernel
def rm_J2_iterator (bc0 bs0 : Nat) : Room := { frames := 2, cells := bc0, slots := bs0, locals := 41 }
set_option maxHeartbeats 4000000 in
set_option maxRecDepth 100000 in
theorem met_J2_iterator (l : Launch) (D : va_G) (dA : Nat → ClassId) (cx : CXt) (sz : Nat) (bc0 bs0 : Nat) (q_x0 : Nat) (x0_modCount : Int32) (q_x0_elementData : Nat) (n_x0_elementData : Nat) (a_x0_elementData : (Nat → Option Nat)) (x0_size : Int32) (post : Prop) (hw : w_J2_iterator post bc0 bs0 ) : Met l yJ2_iterator (ws_ yJ2_iterator cJ2_iterator 1 (some (.object "java/util/Iterator"))) (rm_J2_iterator bc0 bs0) (va_Pc [.ref q_x0] (wrC D dA cx sz [(q_x0, .inr (9, [.int x0_modCount, .ref q_x0_elementData, .int x0_size])), (q_x0_elementData, .inl (dA 4, n_x0_elementData, .inr (.inr (.inr (.inr a_x0_elementData)))))])) (va_Qr (fun (u : Nat) => post ) (fun (u : Nat) a9 t => a9 = u ∧ wrQ D dA (va_A [(q_x0, .inr (9, [.int x0_modCount, .ref q_x0_elementData, .int x0_size])), (q_x0_elementData, .inl (dA 4, n_x0_elementData, .inr (.inr (.inr (.inr a_x0_elementData)))))] sz) [(q_x0, .inr (9, [.int x0_modCount, .ref q_x0_elementData, .int x0_size])), (u, .inr (12, [.int (nI 0), .int (-1), .int x0_modCount, .ref q_x0])), (q_x0_elementData, .inl (dA 4, n_x0_elementData, .inr (.inr (.inr (.inr a_x0_elementData)))))] t) (va_A [(q_x0, .inr (9, [.int x0_modCount, .ref q_x0_elementData, .int x0_size])), (q_x0_elementData, .inl (dA 4, n_x0_elementData, .inr (.inr (.inr (.inr a_x0_elementData)))))] sz)) bc0 bs0 (va_A [(q_x0, .inr (9, [.int x0_modCount, .ref q_x0_elementData, .int x0_size])), (q_x0_elementData, .inl (dA 4, n_x0_elementData, .inr (.inr (.inr (.inr a_x0_elementData)))))] sz) := by
  refine Met.ofW (cc := cJ2_iterator) (maxL := 1) (ret := (some (.object "java/util/Iterator"))) (by decide) rfl ?_
  intro p e s m args below meth c s₁ B hml hv
  obtain ⟨rfl, hsz, hP, hK, hD0, hC⟩ := hv
  have hx := B.exec
  have hb := B.bytes
  have hr := B.returns
  have hts := atoms_spec (ws := (ws_ yJ2_iterator cJ2_iterator 1 (some (.object "java/util/Iterator")))) B.pre
  have hts : ∀ w ∈ lw_all, w.before _ s = true := fun w h => hts w (List.mem_cons_of_mem _ h)
  have hown : s.vm.findClass RJ2 = some m.cls := findClass_of_methodNamed B.named
  have hlocks := B.notSynchronized
  have hSx : CallFix p m c cJ2_iterator 1 s _ lw_all RJ2 := ⟨hx, hb, hml, hown, hts⟩
  subst hsz
  have hD := hD0.self (sz := s.heap.size)
  generalize hAe : va_A [(q_x0, .inr (9, [.int x0_modCount, .ref q_x0_elementData, .int x0_size])), (q_x0_elementData, .inl (dA 4, n_x0_elementData, .inr (.inr (.inr (.inr a_x0_elementData)))))] s.heap.size = A at hD hC ⊢
  have hA : ∀ q : Nat, s.heap.size ≤ q → A q := fun q h => by rw [← hAe]; exact Or.inr h
  have hS : va_S A s.heap s.heap [] := va_S.rf
  have hbud : 0 + bc0 ≤ bc0 ∧ 0 + bs0 ≤ bs0 := by omega
  have hNW := hC.1
  have hl := lv_entry ([.ref q_x0]) (n := 1) (Nat.le_of_ble_eq_true rfl)
  rw [lg_entry_eq]
  generalize (lg_sl ([.ref q_x0]) ++ List.replicate (1 - (lg_sl ([.ref q_x0])).length) Slot.unset).toArray = ls at hl ⊢
  have hl : lv_has ls 1 [(0, .ref q_x0)] := hl
  obtain ⟨h5, h6, hw⟩ := hw
  refine va_new (ci := 12) (fs := [.int (nI 0), .int (nI 0), .int (nI 0), .null]) (C := RJ14) (T := TJ14) (N := 4) hx hb hts in_J14 tyJ14 tyJ14_ok hown (hts _ q954) (hts _ q955) (hts _ q85) hK hP hD hS hA rfl df_J14 (show 0 + 1 ≤ bc0 by omega) (show 0 + 4 ≤ bs0 by omega) dJ2_iterator_0 (fun q4 H hP hD hS => ?_)
  have hP : va_P D vwCl [(q_x0, .inr (9, [.int x0_modCount, .ref q_x0_elementData, .int x0_size])), (q_x0_elementData, .inl (dA 4, n_x0_elementData, .inr (.inr (.inr (.inr a_x0_elementData))))), (q4, .inr (12, [.int (nI 0), .int (nI 0), .int (nI 0), .null]))] H := hP
  have hD : va_D A [(q_x0, .inr (9, [.int x0_modCount, .ref q_x0_elementData, .int x0_size])), (q_x0_elementData, .inl (dA 4, n_x0_elementData, .inr (.inr (.inr (.inr a_x0_elementData))))), (q4, .inr (12, [.int (nI 0), .int (nI 0), .int (nI 0), .null]))] := hD
  have hbud : (0 + 1) + (bc0 - 1) ≤ bc0 ∧ (0 + 4) + (bs0 - 4) ≤ bs0 := by omega
  refine lv_dup hx hb dJ2_iterator_3 rfl ?_
  refine lv_aload_n hx hb dJ2_iterator_4 rfl (lv_at hl 0 rfl) ?_
  refine k_wv (wn := fun (u : Unit) => [(q4, .inr (12, [.int (nI 0), .int (-1), .int x0_modCount, .ref q_x0])), (q_x0, .inr (9, [.int x0_modCount, .ref q_x0_elementData, .int x0_size])), (q_x0_elementData, .inl (dA 4, n_x0_elementData, .inr (.inr (.inr (.inr a_x0_elementData)))))]) (wr := []) (kc_wI (As := [.ref q_x0]) (rest := [.ref q4]) hSx (met_J14_init l D dA cx _ q4 (nI 0) (nI 0) (nI 0) q_x0 x0_modCount q_x0_elementData n_x0_elementData a_x0_elementData x0_size _ hw) q956 q957 q85 q958 rfl hd_J14_init ⟨Nat.le_of_ble_eq_true rfl, Nat.le_of_ble_eq_true rfl⟩ rfl rfl hP hK hD hS hA (hC.kept hS.2.1) [2, 0, 1] rfl (by decide) rfl rfl hl.1 (Nat.le_of_ble_eq_true rfl) rfl dJ2_iterator_5 ⟨(show (0 + 1) + 0 ≤ bc0 by omega), (show (0 + 4) + 0 ≤ bs0 by omega)⟩) hP hD hS hA [2, 0, 1] [] [0, 1, 2] rfl rfl (by decide) (by decide) (by decide) (fun _ => rfl) (fun _ => rfl) (fun u H locs hw _ hP hD hS => ?_)
  have hP : va_P D vwCl [(q4, .inr (12, [.int (nI 0), .int (-1), .int x0_modCount, .ref q_x0])), (q_x0, .inr (9, [.int x0_modCount, .ref q_x0_elementData, .int x0_size])), (q_x0_elementData, .inl (dA 4, n_x0_elementData, .inr (.inr (.inr (.inr a_x0_elementData)))))] H := hP
  have hD : va_D A [(q4, .inr (12, [.int (nI 0), .int (-1), .int x0_modCount, .ref q_x0])), (q_x0, .inr (9, [.int x0_modCount, .ref q_x0_elementData, .int x0_size])), (q_x0_elementData, .inl (dA 4, n_x0_elementData, .inr (.inr (.inr (.inr a_x0_elementData)))))] := hD
  refine W.widen (k := bc0) (n := bs0) (by omega) (by omega) ?_
  exact W.aret (v := .ref q4) hx hb hr (Or.inl ⟨_, rfl⟩) (Or.inr ⟨_, rfl⟩) (fun t ht hW => ⟨⟨q4, _, rfl, hw, rfl, by rw [ht]; exact hP.sub [1, 0, 2] rfl, va_K.moved hW.alike hK, hD.sub [1, 0, 2] (by decide) rfl⟩, hS.F ht⟩) hS.2.2 dJ2_iterator_8
def w_J14_hasNext (post : Int32 → Prop) (x0_cursor : Int32) (x0_this_0_size : Int32) : Prop :=
  ((x0_cursor = x0_this_0_size → post (nI 0)) ∧ (¬ x0_cursor = x0_this_0_size → post (nI 1)))
def rm_J14_hasNext : Room := { frames := 0, cells := 0, slots := 0, locals := 0 }
set_option maxHeartbeats 4000000 in
set_option maxRecDepth 100000 in
theorem met_J14_hasNext (l : Launch) (D : va_G) (dA : Nat → ClassId) (cx : CXt) (q_x0 : Nat) (x0_cursor : Int32) (x0_lastRet : Int32) (x0_expectedModCount : Int32) (q_x0_this_0 : Nat) (x0_this_0_modCount : Int32) (q_x0_this_0_elementData : Nat) (n_x0_this_0_elementData : Nat) (a_x0_this_0_elementData : (Nat → Option Nat)) (x0_this_0_size : Int32) (post : Int32 → Prop) (hw : w_J14_hasNext post x0_cursor x0_this_0_size) : Met l yJ14_hasNext (ws_ yJ14_hasNext cJ14_hasNext 1 (some .boolean)) rm_J14_hasNext (va_Pc [.ref q_x0] (rdC D dA cx [(q_x0, .inr (12, [.int x0_cursor, .int x0_lastRet, .int x0_expectedModCount, .ref q_x0_this_0])), (q_x0_this_0, .inr (9, [.int x0_this_0_modCount, .ref q_x0_this_0_elementData, .int x0_this_0_size])), (q_x0_this_0_elementData, .inl (dA 4, n_x0_this_0_elementData, .inr (.inr (.inr (.inr a_x0_this_0_elementData)))))])) (vp_Si (fun r => post r)) 0 0 (fun _ => False) := by
  refine Met.ofW (cc := cJ14_hasNext) (maxL := 1) (ret := (some .boolean)) (by decide) rfl ?_
  intro p e s m args below meth c s₁ B hml hv
  obtain ⟨rfl, hP, hK, hC⟩ := hv
  have hx := B.exec
  have hb := B.bytes
  have hr := B.returns
  have hts := atoms_spec (ws := (ws_ yJ14_hasNext cJ14_hasNext 1 (some .boolean))) B.pre
  have hts : ∀ w ∈ lw_all, w.before _ s = true := fun w h => hts w (List.mem_cons_of_mem _ h)
  have hown : s.vm.findClass RJ14 = some m.cls := findClass_of_methodNamed B.named
  have hlocks := B.notSynchronized
  have hSx : CallFix p m c cJ14_hasNext 1 s _ lw_all RJ14 := ⟨hx, hb, hml, hown, hts⟩
  have hNW := hC.1
  have hl := lv_entry ([.ref q_x0]) (n := 1) (Nat.le_of_ble_eq_true rfl)
  rw [lg_entry_eq]
  generalize (lg_sl ([.ref q_x0]) ++ List.replicate (1 - (lg_sl ([.ref q_x0])).length) Slot.unset).toArray = ls at hl ⊢
  have hl : lv_has ls 1 [(0, .ref q_x0)] := hl
  refine lv_aload_n hx hb dJ14_hasNext_0 rfl (lv_at hl 0 rfl) ?_
  refine va_get (D := D) (ci := 12) (v := .int x0_cursor) (C := RJ14) (T := TJ14) (N := 4) hx hb hts in_J14 hown hK hP 0 rfl rfl 0 (by decide) (hts _ q960) (fun _ h9 => h9) rfl dJ14_hasNext_1 ?_
  refine lv_aload_n hx hb dJ14_hasNext_4 rfl (lv_at hl 0 rfl) ?_
  refine va_get (D := D) (ci := 12) (v := .ref q_x0_this_0) (C := RJ14) (T := TJ14) (N := 4) hx hb hts in_J14 hown hK hP 0 rfl rfl 3 (by decide) (hts _ q963) (fun _ h9 => h9) rfl dJ14_hasNext_5 ?_
  refine va_getN (D := D) (ci := 9) (v := .int x0_this_0_size) (C := RJ2) (T := TJ2) (N := 3) hx hb hts in_J2 hown hK hP 1 rfl rfl 2 (by decide) (NWx.use hNW q135 rfl) (fun _ h9 => h9) rfl dJ14_hasNext_8 ?_
  refine lv_icmp_eq (tgt := 18) hx hb dJ14_hasNext_11 (by decide) (fun c2 => ?_) (fun c2 => ?_)
  · have hw := hw.1 c2
    refine lv_iconst (v := (nI 0)) hx hb dJ14_hasNext_18 (by decide) ?_
    exact W.zret (v := (nI 0)) hx hb hr rfl (fun t ht hW => ⟨(nI 0), rfl, hw, ht⟩) (fun _ h => by cases h) dJ14_hasNext_19
  · have hw := hw.2 c2
    refine lv_iconst (v := (nI 1)) hx hb dJ14_hasNext_14 (by decide) ?_
    refine lv_goto (tgt := 19) hx hb dJ14_hasNext_15 (by decide) ?_
    exact W.zret (v := (nI 1)) hx hb hr rfl (fun t ht hW => ⟨(nI 1), rfl, hw, ht⟩) (fun _ h => by cases h) dJ14_hasNext_19
def w_J14_check (post : Prop) (x0_expectedModCount : Int32) (x0_this_0_modCount : Int32) : Prop :=
  ((x0_this_0_modCount = x0_expectedModCount → post ) ∧ (¬ x0_this_0_modCount = x0_expectedModCount → False))
def rm_J14_check : Room := { frames := 0, cells := 0, slots := 0, locals := 0 }
set_option maxHeartbeats 4000000 in
set_option maxRecDepth 100000 in
theorem met_J14_check (l : Launch) (D : va_G) (dA : Nat → ClassId) (cx : CXt) (q_x0 : Nat) (x0_cursor : Int32) (x0_lastRet : Int32) (x0_expectedModCount : Int32) (q_x0_this_0 : Nat) (x0_this_0_modCount : Int32) (q_x0_this_0_elementData : Nat) (n_x0_this_0_elementData : Nat) (a_x0_this_0_elementData : (Nat → Option Nat)) (x0_this_0_size : Int32) (post : Prop) (hw : w_J14_check post x0_expectedModCount x0_this_0_modCount) : Met l yJ14_checkForComodification (ws_ yJ14_checkForComodification cJ14_checkForComodification 1 none) rm_J14_check (va_Pc [.ref q_x0] (rdC D dA cx [(q_x0, .inr (12, [.int x0_cursor, .int x0_lastRet, .int x0_expectedModCount, .ref q_x0_this_0])), (q_x0_this_0, .inr (9, [.int x0_this_0_modCount, .ref q_x0_this_0_elementData, .int x0_this_0_size])), (q_x0_this_0_elementData, .inl (dA 4, n_x0_this_0_elementData, .inr (.inr (.inr (.inr a_x0_this_0_elementData)))))])) (va_Sv (fun _ => post)) 0 0 (fun _ => False) := by
  refine Met.ofW (cc := cJ14_checkForComodification) (maxL := 1) (ret := none) (by decide) rfl ?_
  intro p e s m args below meth c s₁ B hml hv
  obtain ⟨rfl, hP, hK, hC⟩ := hv
  have hx := B.exec
  have hb := B.bytes
  have hr := B.returns
  have hts := atoms_spec (ws := (ws_ yJ14_checkForComodification cJ14_checkForComodification 1 none)) B.pre
  have hts : ∀ w ∈ lw_all, w.before _ s = true := fun w h => hts w (List.mem_cons_of_mem _ h)
  have hown : s.vm.findClass RJ14 = some m.cls := findClass_of_methodNamed B.named
  have hlocks := B.notSynchronized
  have hSx : CallFix p m c cJ14_checkForComodification 1 s _ lw_all RJ14 := ⟨hx, hb, hml, hown, hts⟩
  have hNW := hC.1
  have hl := lv_entry ([.ref q_x0]) (n := 1) (Nat.le_of_ble_eq_true rfl)
  rw [lg_entry_eq]
  generalize (lg_sl ([.ref q_x0]) ++ List.replicate (1 - (lg_sl ([.ref q_x0])).length) Slot.unset).toArray = ls at hl ⊢
  have hl : lv_has ls 1 [(0, .ref q_x0)] := hl
  refine lv_aload_n hx hb dJ14_checkForComodification_0 rfl (lv_at hl 0 rfl) ?_
  refine va_get (D := D) (ci := 12) (v := .ref q_x0_this_0) (C := RJ14) (T := TJ14) (N := 4) hx hb hts in_J14 hown hK hP 0 rfl rfl 3 (by decide) (hts _ q963) (fun _ h9 => h9) rfl dJ14_checkForComodification_1 ?_
  refine va_get (D := D) (ci := 9) (v := .int x0_this_0_modCount) (C := RJ2) (T := TJ2) (N := 3) hx hb hts in_J2 hown hK hP 1 rfl rfl 0 (by decide) (hts _ q138) (u_same (hts _ q139)) rfl dJ14_checkForComodification_4 ?_
  refine lv_aload_n hx hb dJ14_checkForComodification_7 rfl (lv_at hl 0 rfl) ?_
  refine va_get (D := D) (ci := 12) (v := .int x0_expectedModCount) (C := RJ14) (T := TJ14) (N := 4) hx hb hts in_J14 hown hK hP 0 rfl rfl 2 (by decide) (hts _ q962) (fun _ h9 => h9) rfl dJ14_checkForComodification_8 ?_
  refine lv_icmp_eq (tgt := 22) hx hb dJ14_checkForComodification_11 (by decide) (fun c3 => ?_) (fun c3 => ?_)
  · have hw := hw.1 c3
    exact W.vret hx hb hr (fun t ht hW => ⟨rfl, hw, ht⟩) (fun _ h => by cases h) dJ14_checkForComodification_22
  · have hw := hw.2 c3
    exact (show False from hw).elim
def w_J14_next (post : Nat → Prop) (x0_cursor : Int32) (x0_expectedModCount : Int32) (x0_this_0_modCount : Int32) (n_x0_this_0_elementData : Nat) (a_x0_this_0_elementData : (Nat → Option Nat)) (x0_this_0_size : Int32) : Prop :=
  w_J14_check (((x0_cursor < x0_this_0_size → ((x0_cursor < (nI n_x0_this_0_elementData) → (vp_in x0_cursor n_x0_this_0_elementData ∧ (∃ y11 : Nat, a_x0_this_0_elementData (x0_cursor.toNatClampNeg) = some y11 ∧ post y11))) ∧ (¬ x0_cursor < (nI n_x0_this_0_elementData) → False))) ∧ (¬ x0_cursor < x0_this_0_size → False))) x0_expectedModCount x0_this_0_modCount
theorem hd_J14_checkForComodification : yJ14_checkForComodification.cls ≠ "java/lang/invoke/MethodHandle" ∧ yJ14_checkForComodification.cls ≠ "java/lang/invoke/VarHandle" ∧ (parseMethodDescriptor yJ14_checkForComodification.desc).map (fun d => d.parameters.length) = some 0 := by decide +kernel
theorem gJ14_31 : GoodIn lw_all (wsV RJ14 31 RJ14 yJ14_checkForComodification (ws_ yJ14_checkForComodification cJ14_checkForComodification 1 none)) := lw_V q992 q993 q994 q85 q995
def rm_J14_next : Room := { frames := 1, cells := 0, slots := 0, locals := 20 }
set_option maxHeartbeats 4000000 in
set_option maxRecDepth 100000 in
theorem met_J14_next (l : Launch) (D : va_G) (dA : Nat → ClassId) (cx : CXt) (sz : Nat) (q_x0 : Nat) (x0_cursor : Int32) (x0_lastRet : Int32) (x0_expectedModCount : Int32) (q_x0_this_0 : Nat) (x0_this_0_modCount : Int32) (q_x0_this_0_elementData : Nat) (n_x0_this_0_elementData : Nat) (a_x0_this_0_elementData : (Nat → Option Nat)) (x0_this_0_size : Int32) (post : Nat → Prop) (hw : w_J14_next post x0_cursor x0_expectedModCount x0_this_0_modCount n_x0_this_0_elementData a_x0_this_0_elementData x0_this_0_size) : Met l yJ14_next (ws_ yJ14_next cJ14_next 3 (some (.object "java/lang/Object"))) rm_J14_next (va_Pc [.ref q_x0] (wrC D dA cx sz [(q_x0, .inr (12, [.int x0_cursor, .int x0_lastRet, .int x0_expectedModCount, .ref q_x0_this_0])), (q_x0_this_0, .inr (9, [.int x0_this_0_modCount, .ref q_x0_this_0_elementData, .int x0_this_0_size])), (q_x0_this_0_elementData, .inl (dA 4, n_x0_this_0_elementData, .inr (.inr (.inr (.inr a_x0_this_0_elementData)))))])) (va_Qr (fun (u : Nat) => post u) (fun (u : Nat) a9 t => a9 = u ∧ wrQ D dA (va_A [(q_x0, .inr (12, [.int x0_cursor, .int x0_lastRet, .int x0_expectedModCount, .ref q_x0_this_0])), (q_x0_this_0, .inr (9, [.int x0_this_0_modCount, .ref q_x0_this_0_elementData, .int x0_this_0_size])), (q_x0_this_0_elementData, .inl (dA 4, n_x0_this_0_elementData, .inr (.inr (.inr (.inr a_x0_this_0_elementData)))))] sz) [(q_x0, .inr (12, [.int (x0_cursor + (nI 1)), .int x0_cursor, .int x0_expectedModCount, .ref q_x0_this_0])), (q_x0_this_0, .inr (9, [.int x0_this_0_modCount, .ref q_x0_this_0_elementData, .int x0_this_0_size])), (q_x0_this_0_elementData, .inl (dA 4, n_x0_this_0_elementData, .inr (.inr (.inr (.inr a_x0_this_0_elementData)))))] t) (va_A [(q_x0, .inr (12, [.int x0_cursor, .int x0_lastRet, .int x0_expectedModCount, .ref q_x0_this_0])), (q_x0_this_0, .inr (9, [.int x0_this_0_modCount, .ref q_x0_this_0_elementData, .int x0_this_0_size])), (q_x0_this_0_elementData, .inl (dA 4, n_x0_this_0_elementData, .inr (.inr (.inr (.inr a_x0_this_0_elementData)))))] sz)) 0 0 (va_A [(q_x0, .inr (12, [.int x0_cursor, .int x0_lastRet, .int x0_expectedModCount, .ref q_x0_this_0])), (q_x0_this_0, .inr (9, [.int x0_this_0_modCount, .ref q_x0_this_0_elementData, .int x0_this_0_size])), (q_x0_this_0_elementData, .inl (dA 4, n_x0_this_0_elementData, .inr (.inr (.inr (.inr a_x0_this_0_elementData)))))] sz) := by
  refine Met.ofW (cc := cJ14_next) (maxL := 3) (ret := (some (.object "java/lang/Object"))) (by decide) rfl ?_
  intro p e s m args below meth c s₁ B hml hv
  obtain ⟨rfl, hsz, hP, hK, hD0, hC⟩ := hv
  have hx := B.exec
  have hb := B.bytes
  have hr := B.returns
  have hts := atoms_spec (ws := (ws_ yJ14_next cJ14_next 3 (some (.object "java/lang/Object")))) B.pre
  have hts : ∀ w ∈ lw_all, w.before _ s = true := fun w h => hts w (List.mem_cons_of_mem _ h)
  have hown : s.vm.findClass RJ14 = some m.cls := findClass_of_methodNamed B.named
  have hlocks := B.notSynchronized
  have hSx : CallFix p m c cJ14_next 3 s _ lw_all RJ14 := ⟨hx, hb, hml, hown, hts⟩
  subst hsz
  have hD := hD0.self (sz := s.heap.size)
  generalize hAe : va_A [(q_x0, .inr (12, [.int x0_cursor, .int x0_lastRet, .int x0_expectedModCount, .ref q_x0_this_0])), (q_x0_this_0, .inr (9, [.int x0_this_0_modCount, .ref q_x0_this_0_elementData, .int x0_this_0_size])), (q_x0_this_0_elementData, .inl (dA 4, n_x0_this_0_elementData, .inr (.inr (.inr (.inr a_x0_this_0_elementData)))))] s.heap.size = A at hD hC ⊢
  have hA : ∀ q : Nat, s.heap.size ≤ q → A q := fun q h => by rw [← hAe]; exact Or.inr h
  have hS : va_S A s.heap s.heap [] := va_S.rf
  have hNW := hC.1
  have hl := lv_entry ([.ref q_x0]) (n := 3) (Nat.le_of_ble_eq_true rfl)
  rw [lg_entry_eq]
  generalize (lg_sl ([.ref q_x0]) ++ List.replicate (3 - (lg_sl ([.ref q_x0])).length) Slot.unset).toArray = ls at hl ⊢
  have hl : lv_has ls 3 [(0, .ref q_x0)] := hl
  refine lv_aload_n hx hb dJ14_next_0 rfl (lv_at hl 0 rfl) ?_
  refine k_rv (kc_rV (As := []) (rest := []) hSx (met_J14_check l D dA cx q_x0 x0_cursor x0_lastRet x0_expectedModCount q_x0_this_0 x0_this_0_modCount q_x0_this_0_elementData n_x0_this_0_elementData a_x0_this_0_elementData x0_this_0_size _ hw) gJ14_31 ⟨rfl, hd_J14_checkForComodification⟩ ⟨Nat.le_of_ble_eq_true rfl, Nat.le_of_ble_eq_true rfl⟩ rfl rfl hP hK (hC.kept hS.2.1) [0, 1, 2] rfl 0 rfl rfl rfl rfl hl.1 (Nat.le_of_ble_eq_true rfl) rfl dJ14_next_1 ⟨Nat.le_refl 0, Nat.le_refl 0⟩) (fun hw => ?_)
  refine lv_aload_n hx hb dJ14_next_4 rfl (lv_at hl 0 rfl) ?_
  refine va_get (D := D) (ci := 12) (v := .int x0_cursor) (C := RJ14) (T := TJ14) (N := 4) hx hb hts in_J14 hown hK hP 0 rfl rfl 0 (by decide) (hts _ q960) (fun _ h9 => h9) rfl dJ14_next_5 ?_
  refine lv_istore_n (lv' := [(1, .int x0_cursor), (0, .ref q_x0)]) hx hb dJ14_next_8 rfl hl (by decide) rfl (fun ls hl => ?_)
  refine lv_iload_n hx hb dJ14_next_9 rfl (lv_at hl 0 rfl) ?_
  refine lv_aload_n hx hb dJ14_next_10 rfl (lv_at hl 1 rfl) ?_
  refine va_get (D := D) (ci := 12) (v := .ref q_x0_this_0) (C := RJ14) (T := TJ14) (N := 4) hx hb hts in_J14 hown hK hP 0 rfl rfl 3 (by decide) (hts _ q963) (fun _ h9 => h9) rfl dJ14_next_11 ?_
  refine va_getN (D := D) (ci := 9) (v := .int x0_this_0_size) (C := RJ2) (T := TJ2) (N := 3) hx hb hts in_J2 hown hK hP 1 rfl rfl 2 (by decide) (NWx.use hNW q135 rfl) (fun _ h9 => h9) rfl dJ14_next_14 ?_
  refine lv_icmp_lt (tgt := 28) hx hb dJ14_next_17 (by decide) (fun c8 => ?_) (fun c8 => ?_)
  · have hw := hw.1 c8
    refine lv_aload_n hx hb dJ14_next_28 rfl (lv_at hl 1 rfl) ?_
    refine va_get (D := D) (ci := 12) (v := .ref q_x0_this_0) (C := RJ14) (T := TJ14) (N := 4) hx hb hts in_J14 hown hK hP 0 rfl rfl 3 (by decide) (hts _ q963) (fun _ h9 => h9) rfl dJ14_next_29 ?_
    refine va_get (D := D) (ci := 9) (v := .ref q_x0_this_0_elementData) (C := RJ2) (T := TJ2) (N := 3) hx hb hts in_J2 hown hK hP 1 rfl rfl 1 (by decide) (hts _ q134) (fun _ h9 => h9) rfl dJ14_next_32 ?_
    refine lv_astore_n (lv' := [(2, .ref q_x0_this_0_elementData), (1, .int x0_cursor), (0, .ref q_x0)]) hx hb dJ14_next_35 rfl hl (by decide) rfl (fun ls hl => ?_)
    refine lv_iload_n hx hb dJ14_next_36 rfl (lv_at hl 1 rfl) ?_
    refine lv_aload_n hx hb dJ14_next_37 rfl (lv_at hl 0 rfl) ?_
    refine va_alen (v := (nI n_x0_this_0_elementData)) hx hb hK hP 2 4 rfl rfl rfl dJ14_next_38 ?_
    refine lv_icmp_lt (tgt := 50) hx hb dJ14_next_39 (by decide) (fun c9 => ?_) (fun c9 => ?_)
    · have hw := hw.1 c9
      refine lv_aload_n hx hb dJ14_next_50 rfl (lv_at hl 2 rfl) ?_
      refine lv_iload_n hx hb dJ14_next_51 rfl (lv_at hl 1 rfl) ?_
      refine lv_iconst (v := (nI 1)) hx hb dJ14_next_52 (by decide) ?_
      refine lv_iadd hx hb dJ14_next_53 ?_
      refine va_put (D := D) (ci := 12) (v := .int (x0_cursor + (nI 1))) (ty := (.int)) (C := RJ14) (T := TJ14) (N := 4) hx hb hts in_J14 tyJ14 tyJ14_ok nmJ14 hown hK hP hD hS 0 rfl rfl 0 (by decide) (hts _ q960) (fun _ h9 => h9) rfl (by decide +kernel) rfl rfl (Nat.le_of_ble_eq_true rfl) dJ14_next_54 (fun H locs hP hD hS => ?_)
      have hP : va_P D vwCl [(q_x0, .inr (12, [.int (x0_cursor + (nI 1)), .int x0_lastRet, .int x0_expectedModCount, .ref q_x0_this_0])), (q_x0_this_0, .inr (9, [.int x0_this_0_modCount, .ref q_x0_this_0_elementData, .int x0_this_0_size])), (q_x0_this_0_elementData, .inl (dA 4, n_x0_this_0_elementData, .inr (.inr (.inr (.inr a_x0_this_0_elementData)))))] H := hP
      have hD : va_D A [(q_x0, .inr (12, [.int (x0_cursor + (nI 1)), .int x0_lastRet, .int x0_expectedModCount, .ref q_x0_this_0])), (q_x0_this_0, .inr (9, [.int x0_this_0_modCount, .ref q_x0_this_0_elementData, .int x0_this_0_size])), (q_x0_this_0_elementData, .inl (dA 4, n_x0_this_0_elementData, .inr (.inr (.inr (.inr a_x0_this_0_elementData)))))] := hD
      refine lv_aload_n hx hb dJ14_next_57 rfl (lv_at hl 0 rfl) ?_
      refine lv_aload_n hx hb dJ14_next_58 rfl (lv_at hl 2 rfl) ?_
      refine lv_iload_n hx hb dJ14_next_59 rfl (lv_at hl 1 rfl) ?_
      refine lv_dup_x1 hx hb dJ14_next_60 rfl rfl ?_
      refine va_put (D := D) (ci := 12) (v := .int x0_cursor) (ty := (.int)) (C := RJ14) (T := TJ14) (N := 4) hx hb hts in_J14 tyJ14 tyJ14_ok nmJ14 hown hK hP hD hS 0 rfl rfl 1 (by decide) (hts _ q961) (fun _ h9 => h9) rfl (by decide +kernel) rfl rfl (Nat.le_of_ble_eq_true rfl) dJ14_next_61 (fun H locs hP hD hS => ?_)
      have hP : va_P D vwCl [(q_x0, .inr (12, [.int (x0_cursor + (nI 1)), .int x0_cursor, .int x0_expectedModCount, .ref q_x0_this_0])), (q_x0_this_0, .inr (9, [.int x0_this_0_modCount, .ref q_x0_this_0_elementData, .int x0_this_0_size])), (q_x0_this_0_elementData, .inl (dA 4, n_x0_this_0_elementData, .inr (.inr (.inr (.inr a_x0_this_0_elementData)))))] H := hP
      have hD : va_D A [(q_x0, .inr (12, [.int (x0_cursor + (nI 1)), .int x0_cursor, .int x0_expectedModCount, .ref q_x0_this_0])), (q_x0_this_0, .inr (9, [.int x0_this_0_modCount, .ref q_x0_this_0_elementData, .int x0_this_0_size])), (q_x0_this_0_elementData, .inl (dA 4, n_x0_this_0_elementData, .inr (.inr (.inr (.inr a_x0_this_0_elementData)))))] := hD
      obtain ⟨h10, hw⟩ := hw
      obtain ⟨y11, h12, hw⟩ := hw
      refine k_aldq (k := x0_cursor.toNatClampNeg) hx hb hK hP 2 4 rfl rfl rfl h12 h10 dJ14_next_64 ?_
      exact W.aret (v := .ref y11) hx hb hr (Or.inl ⟨_, rfl⟩) (Or.inr ⟨_, rfl⟩) (fun t ht hW => ⟨⟨y11, _, rfl, hw, rfl, by rw [ht]; exact hP.sub [0, 1, 2] rfl, va_K.moved hW.alike hK, hD.sub [0, 1, 2] (by decide) rfl⟩, hS.F ht⟩) hS.2.2 dJ14_next_65
    · have hw := hw.2 c9
      exact (show False from hw).elim
  · have hw := hw.2 c8
    exact (show False from hw).elim
def w_J14_init_e (post : Prop)  : Prop :=
  post 
def rm_J14_init_e : Room := { frames := 1, cells := 0, slots := 0, locals := 20 }
set_option maxHeartbeats 4000000 in
set_option maxRecDepth 100000 in
theorem met_J14_init_e (l : Launch) (D : va_G) (dA : Nat → ClassId) (cx : CXt) (sz : Nat) (q_x0 : Nat) (x0_cursor : Int32) (x0_lastRet : Int32) (x0_expectedModCount : Int32) (q_x1 : Nat) (x1_modCount : Int32) (x1_size : Int32) (post : Prop) (hw : w_J14_init_e post ) : Met l yJ14_init (ws_ yJ14_init cJ14_init 2 none) rm_J14_init_e (va_Pc [.ref q_x0, .ref q_x1] (wrC D dA cx sz [(q_x0, .inr (12, [.int x0_cursor, .int x0_lastRet, .int x0_expectedModCount, .null])), (q_x1, .inr (9, [.int x1_modCount, .ref (cxE cx), .int x1_size]))])) (va_Qv (fun (u : Unit) => post ) (fun (u : Unit) t => wrQ D dA (va_A [(q_x0, .inr (12, [.int x0_cursor, .int x0_lastRet, .int x0_expectedModCount, .null])), (q_x1, .inr (9, [.int x1_modCount, .ref (cxE cx), .int x1_size]))] sz) [(q_x0, .inr (12, [.int x0_cursor, .int (-1), .int x1_modCount, .ref q_x1])), (q_x1, .inr (9, [.int x1_modCount, .ref (cxE cx), .int x1_size]))] t) (va_A [(q_x0, .inr (12, [.int x0_cursor, .int x0_lastRet, .int x0_expectedModCount, .null])), (q_x1, .inr (9, [.int x1_modCount, .ref (cxE cx), .int x1_size]))] sz)) 0 0 (va_A [(q_x0, .inr (12, [.int x0_cursor, .int x0_lastRet, .int x0_expectedModCount, .null])), (q_x1, .inr (9, [.int x1_modCount, .ref (cxE cx), .int x1_size]))] sz) := by
  refine Met.ofW (cc := cJ14_init) (maxL := 2) (ret := none) (by decide) rfl ?_
  intro p e s m args below meth c s₁ B hml hv
  obtain ⟨rfl, hsz, hP, hK, hD0, hC⟩ := hv
  have hx := B.exec
  have hb := B.bytes
  have hr := B.returns
  have hts := atoms_spec (ws := (ws_ yJ14_init cJ14_init 2 none)) B.pre
  have hts : ∀ w ∈ lw_all, w.before _ s = true := fun w h => hts w (List.mem_cons_of_mem _ h)
  have hown : s.vm.findClass RJ14 = some m.cls := findClass_of_methodNamed B.named
  have hlocks := B.notSynchronized
  have hSx : CallFix p m c cJ14_init 2 s _ lw_all RJ14 := ⟨hx, hb, hml, hown, hts⟩
  have hin : meth.name = "<init>" := (name_of_methodNamed B.named B.method).1
  subst hsz
  have hD := hD0.self (sz := s.heap.size)
  generalize hAe : va_A [(q_x0, .inr (12, [.int x0_cursor, .int x0_lastRet, .int x0_expectedModCount, .null])), (q_x1, .inr (9, [.int x1_modCount, .ref (cxE cx), .int x1_size]))] s.heap.size = A at hD hC ⊢
  have hA : ∀ q : Nat, s.heap.size ≤ q → A q := fun q h => by rw [← hAe]; exact Or.inr h
  have hS : va_S A s.heap s.heap [] := va_S.rf
  have hNW := hC.1
  have hl := lv_entry ([.ref q_x0, .ref q_x1]) (n := 2) (Nat.le_of_ble_eq_true rfl)
  rw [lg_entry_eq]
  generalize (lg_sl ([.ref q_x0, .ref q_x1]) ++ List.replicate (2 - (lg_sl ([.ref q_x0, .ref q_x1])).length) Slot.unset).toArray = ls at hl ⊢
  have hl : lv_has ls 2 [(0, .ref q_x0), (1, .ref q_x1)] := hl
  refine lv_aload_n hx hb dJ14_init_0 rfl (lv_at hl 0 rfl) ?_
  refine lv_aload_n hx hb dJ14_init_1 rfl (lv_at hl 1 rfl) ?_
  refine va_putF (D := D) (ci := 12) (v := .ref q_x1) (ty := (.object "java/util/ArrayList")) (C := RJ14) (T := TJ14) (N := 4) hx hb hts in_J14 tyJ14 tyJ14_ok nmJ14 hown hK hP hD hS 0 rfl rfl 3 (by decide) (hts _ q963) (fun _ h9 => h9) rfl hin rfl (by decide +kernel) rfl rfl (Nat.le_of_ble_eq_true rfl) dJ14_init_2 (fun H locs hP hD hS => ?_)
  have hP : va_P D vwCl [(q_x0, .inr (12, [.int x0_cursor, .int x0_lastRet, .int x0_expectedModCount, .ref q_x1])), (q_x1, .inr (9, [.int x1_modCount, .ref (cxE cx), .int x1_size]))] H := hP
  have hD : va_D A [(q_x0, .inr (12, [.int x0_cursor, .int x0_lastRet, .int x0_expectedModCount, .ref q_x1])), (q_x1, .inr (9, [.int x1_modCount, .ref (cxE cx), .int x1_size]))] := hD
  refine lv_aload_n hx hb dJ14_init_5 rfl (lv_at hl 0 rfl) ?_
  refine W.objInit hx hb hown (hts _ q959) (hts _ q111) (hts _ q112) rfl (by rw [hml]; exact hl.1) rfl dJ14_init_6 (Nat.le_of_ble_eq_true rfl) (Nat.le_of_ble_eq_true rfl) ?_
  refine W.eq (g2 := F0 m 9 ls []) rfl ?_
  refine lv_aload_n hx hb dJ14_init_9 rfl (lv_at hl 0 rfl) ?_
  refine lv_iconst (v := (-1)) hx hb dJ14_init_10 (by decide) ?_
  refine va_put (D := D) (ci := 12) (v := .int (-1)) (ty := (.int)) (C := RJ14) (T := TJ14) (N := 4) hx hb hts in_J14 tyJ14 tyJ14_ok nmJ14 hown hK hP hD hS 0 rfl rfl 1 (by decide) (hts _ q961) (fun _ h9 => h9) rfl (by decide +kernel) rfl rfl (Nat.le_of_ble_eq_true rfl) dJ14_init_11 (fun H locs hP hD hS => ?_)
  have hP : va_P D vwCl [(q_x0, .inr (12, [.int x0_cursor, .int (-1), .int x0_expectedModCount, .ref q_x1])), (q_x1, .inr (9, [.int x1_modCount, .ref (cxE cx), .int x1_size]))] H := hP
  have hD : va_D A [(q_x0, .inr (12, [.int x0_cursor, .int (-1), .int x0_expectedModCount, .ref q_x1])), (q_x1, .inr (9, [.int x1_modCount, .ref (cxE cx), .int x1_size]))] := hD
  refine lv_aload_n hx hb dJ14_init_14 rfl (lv_at hl 0 rfl) ?_
  refine lv_aload_n hx hb dJ14_init_15 rfl (lv_at hl 0 rfl) ?_
  refine va_get (D := D) (ci := 12) (v := .ref q_x1) (C := RJ14) (T := TJ14) (N := 4) hx hb hts in_J14 hown hK hP 0 rfl rfl 3 (by decide) (hts _ q963) (fun _ h9 => h9) rfl dJ14_init_16 ?_
  refine va_get (D := D) (ci := 9) (v := .int x1_modCount) (C := RJ2) (T := TJ2) (N := 3) hx hb hts in_J2 hown hK hP 1 rfl rfl 0 (by decide) (hts _ q138) (u_same (hts _ q139)) rfl dJ14_init_19 ?_
  refine va_put (D := D) (ci := 12) (v := .int x1_modCount) (ty := (.int)) (C := RJ14) (T := TJ14) (N := 4) hx hb hts in_J14 tyJ14 tyJ14_ok nmJ14 hown hK hP hD hS 0 rfl rfl 2 (by decide) (hts _ q962) (fun _ h9 => h9) rfl (by decide +kernel) rfl rfl (Nat.le_of_ble_eq_true rfl) dJ14_init_22 (fun H locs hP hD hS => ?_)
  have hP : va_P D vwCl [(q_x0, .inr (12, [.int x0_cursor, .int (-1), .int x1_modCount, .ref q_x1])), (q_x1, .inr (9, [.int x1_modCount, .ref (cxE cx), .int x1_size]))] H := hP
  have hD : va_D A [(q_x0, .inr (12, [.int x0_cursor, .int (-1), .int x1_modCount, .ref q_x1])), (q_x1, .inr (9, [.int x1_modCount, .ref (cxE cx), .int x1_size]))] := hD
  exact W.vret hx hb hr (fun t ht hW => ⟨⟨(), rfl, hw, by rw [ht]; exact hP.sub [0, 1] rfl, va_K.moved hW.alike hK, hD.sub [0, 1] (by decide) rfl⟩, hS.F ht⟩) hS.2.2 dJ14_init_25
def w_J2_iterator_e (post : Prop) (bc bs : Nat)  : Prop :=
  (1 ≤ bc ∧ 4 ≤ bs ∧ w_J14_init_e (post ) )
def rm_J2_iterator_e (bc0 bs0 : Nat) : Room := { frames := 2, cells := bc0, slots := bs0, locals := 41 }
set_option maxHeartbeats 4000000 in
set_option maxRecDepth 100000 in
theorem met_J2_iterator_e (l : Launch) (D : va_G) (dA : Nat → ClassId) (cx : CXt) (sz : Nat) (bc0 bs0 : Nat) (q_x0 : Nat) (x0_modCount : Int32) (x0_size : Int32) (post : Prop) (hw : w_J2_iterator_e post bc0 bs0 ) : Met l yJ2_iterator (ws_ yJ2_iterator cJ2_iterator 1 (some (.object "java/util/Iterator"))) (rm_J2_iterator_e bc0 bs0) (va_Pc [.ref q_x0] (wrC D dA cx sz [(q_x0, .inr (9, [.int x0_modCount, .ref (cxE cx), .int x0_size]))])) (va_Qr (fun (u : Nat) => post ) (fun (u : Nat) a9 t => a9 = u ∧ wrQ D dA (va_A [(q_x0, .inr (9, [.int x0_modCount, .ref (cxE cx), .int x0_size]))] sz) [(q_x0, .inr (9, [.int x0_modCount, .ref (cxE cx), .int x0_size])), (u, .inr (12, [.int (nI 0), .int (-1), .int x0_modCount, .ref q_x0]))] t) (va_A [(q_x0, .inr (9, [.int x0_modCount, .ref (cxE cx), .int x0_size]))] sz)) bc0 bs0 (va_A [(q_x0, .inr (9, [.int x0_modCount, .ref (cxE cx), .int x0_size]))] sz) := by
  refine Met.ofW (cc := cJ2_iterator) (maxL := 1) (ret := (some (.object "java/util/Iterator"))) (by decide) rfl ?_
  intro p e s m args below meth c s₁ B hml hv
  obtain ⟨rfl, hsz, hP, hK, hD0, hC⟩ := hv
  have hx := B.exec
  have hb := B.bytes
  have hr := B.returns
  have hts := atoms_spec (ws := (ws_ yJ2_iterator cJ2_iterator 1 (some (.object "java/util/Iterator")))) B.pre
  have hts : ∀ w ∈ lw_all, w.before _ s = true := fun w h => hts w (List.mem_cons_of_mem _ h)
  have hown : s.vm.findClass RJ2 = some m.cls := findClass_of_methodNamed B.named
  have hlocks := B.notSynchronized
  have hSx : CallFix p m c cJ2_iterator 1 s _ lw_all RJ2 := ⟨hx, hb, hml, hown, hts⟩
  subst hsz
  have hD := hD0.self (sz := s.heap.size)
  generalize hAe : va_A [(q_x0, .inr (9, [.int x0_modCount, .ref (cxE cx), .int x0_size]))] s.heap.size = A at hD hC ⊢
  have hA : ∀ q : Nat, s.heap.size ≤ q → A q := fun q h => by rw [← hAe]; exact Or.inr h
  have hS : va_S A s.heap s.heap [] := va_S.rf
  have hbud : 0 + bc0 ≤ bc0 ∧ 0 + bs0 ≤ bs0 := by omega
  have hNW := hC.1
  have hl := lv_entry ([.ref q_x0]) (n := 1) (Nat.le_of_ble_eq_true rfl)
  rw [lg_entry_eq]
  generalize (lg_sl ([.ref q_x0]) ++ List.replicate (1 - (lg_sl ([.ref q_x0])).length) Slot.unset).toArray = ls at hl ⊢
  have hl : lv_has ls 1 [(0, .ref q_x0)] := hl
  obtain ⟨h5, h6, hw⟩ := hw
  refine va_new (ci := 12) (fs := [.int (nI 0), .int (nI 0), .int (nI 0), .null]) (C := RJ14) (T := TJ14) (N := 4) hx hb hts in_J14 tyJ14 tyJ14_ok hown (hts _ q954) (hts _ q955) (hts _ q85) hK hP hD hS hA rfl df_J14 (show 0 + 1 ≤ bc0 by omega) (show 0 + 4 ≤ bs0 by omega) dJ2_iterator_0 (fun q4 H hP hD hS => ?_)
  have hP : va_P D vwCl [(q_x0, .inr (9, [.int x0_modCount, .ref (cxE cx), .int x0_size])), (q4, .inr (12, [.int (nI 0), .int (nI 0), .int (nI 0), .null]))] H := hP
  have hD : va_D A [(q_x0, .inr (9, [.int x0_modCount, .ref (cxE cx), .int x0_size])), (q4, .inr (12, [.int (nI 0), .int (nI 0), .int (nI 0), .null]))] := hD
  have hbud : (0 + 1) + (bc0 - 1) ≤ bc0 ∧ (0 + 4) + (bs0 - 4) ≤ bs0 := by omega
  refine lv_dup hx hb dJ2_iterator_3 rfl ?_
  refine lv_aload_n hx hb dJ2_iterator_4 rfl (lv_at hl 0 rfl) ?_
  refine k_wv (wn := fun (u : Unit) => [(q4, .inr (12, [.int (nI 0), .int (-1), .int x0_modCount, .ref q_x0])), (q_x0, .inr (9, [.int x0_modCount, .ref (cxE cx), .int x0_size]))]) (wr := []) (kc_wI (As := [.ref q_x0]) (rest := [.ref q4]) hSx (met_J14_init_e l D dA cx _ q4 (nI 0) (nI 0) (nI 0) q_x0 x0_modCount x0_size _ hw) q956 q957 q85 q958 rfl hd_J14_init ⟨Nat.le_of_ble_eq_true rfl, Nat.le_of_ble_eq_true rfl⟩ rfl rfl hP hK hD hS hA (hC.kept hS.2.1) [1, 0] rfl (by decide) rfl rfl hl.1 (Nat.le_of_ble_eq_true rfl) rfl dJ2_iterator_5 ⟨(show (0 + 1) + 0 ≤ bc0 by omega), (show (0 + 4) + 0 ≤ bs0 by omega)⟩) hP hD hS hA [1, 0] [] [0, 1] rfl rfl (by decide) (by decide) (by decide) (fun _ => rfl) (fun _ => rfl) (fun u H locs hw _ hP hD hS => ?_)
  have hP : va_P D vwCl [(q4, .inr (12, [.int (nI 0), .int (-1), .int x0_modCount, .ref q_x0])), (q_x0, .inr (9, [.int x0_modCount, .ref (cxE cx), .int x0_size]))] H := hP
  have hD : va_D A [(q4, .inr (12, [.int (nI 0), .int (-1), .int x0_modCount, .ref q_x0])), (q_x0, .inr (9, [.int x0_modCount, .ref (cxE cx), .int x0_size]))] := hD
  refine W.widen (k := bc0) (n := bs0) (by omega) (by omega) ?_
  exact W.aret (v := .ref q4) hx hb hr (Or.inl ⟨_, rfl⟩) (Or.inr ⟨_, rfl⟩) (fun t ht hW => ⟨⟨q4, _, rfl, hw, rfl, by rw [ht]; exact hP.sub [1, 0] rfl, va_K.moved hW.alike hK, hD.sub [1, 0] (by decide) rfl⟩, hS.F ht⟩) hS.2.2 dJ2_iterator_8
def w_J14_hasNext_e (post : Int32 → Prop) (x0_cursor : Int32) (x0_this_0_size : Int32) : Prop :=
  ((x0_cursor = x0_this_0_size → post (nI 0)) ∧ (¬ x0_cursor = x0_this_0_size → post (nI 1)))
def rm_J14_hasNext_e : Room := { frames := 0, cells := 0, slots := 0, locals := 0 }
set_option maxHeartbeats 4000000 in
set_option maxRecDepth 100000 in
theorem met_J14_hasNext_e (l : Launch) (D : va_G) (dA : Nat → ClassId) (cx : CXt) (q_x0 : Nat) (x0_cursor : Int32) (x0_lastRet : Int32) (x0_expectedModCount : Int32) (q_x0_this_0 : Nat) (x0_this_0_modCount : Int32) (x0_this_0_size : Int32) (post : Int32 → Prop) (hw : w_J14_hasNext_e post x0_cursor x0_this_0_size) : Met l yJ14_hasNext (ws_ yJ14_hasNext cJ14_hasNext 1 (some .boolean)) rm_J14_hasNext_e (va_Pc [.ref q_x0] (rdC D dA cx [(q_x0, .inr (12, [.int x0_cursor, .int x0_lastRet, .int x0_expectedModCount, .ref q_x0_this_0])), (q_x0_this_0, .inr (9, [.int x0_this_0_modCount, .ref (cxE cx), .int x0_this_0_size]))])) (vp_Si (fun r => post r)) 0 0 (fun _ => False) := by
  refine Met.ofW (cc := cJ14_hasNext) (maxL := 1) (ret := (some .boolean)) (by decide) rfl ?_
  intro p e s m args below meth c s₁ B hml hv
  obtain ⟨rfl, hP, hK, hC⟩ := hv
  have hx := B.exec
  have hb := B.bytes
  have hr := B.returns
  have hts := atoms_spec (ws := (ws_ yJ14_hasNext cJ14_hasNext 1 (some .boolean))) B.pre
  have hts : ∀ w ∈ lw_all, w.before _ s = true := fun w h => hts w (List.mem_cons_of_mem _ h)
  have hown : s.vm.findClass RJ14 = some m.cls := findClass_of_methodNamed B.named
  have hlocks := B.notSynchronized
  have hSx : CallFix p m c cJ14_hasNext 1 s _ lw_all RJ14 := ⟨hx, hb, hml, hown, hts⟩
  have hNW := hC.1
  have hl := lv_entry ([.ref q_x0]) (n := 1) (Nat.le_of_ble_eq_true rfl)
  rw [lg_entry_eq]
  generalize (lg_sl ([.ref q_x0]) ++ List.replicate (1 - (lg_sl ([.ref q_x0])).length) Slot.unset).toArray = ls at hl ⊢
  have hl : lv_has ls 1 [(0, .ref q_x0)] := hl
  refine lv_aload_n hx hb dJ14_hasNext_0 rfl (lv_at hl 0 rfl) ?_
  refine va_get (D := D) (ci := 12) (v := .int x0_cursor) (C := RJ14) (T := TJ14) (N := 4) hx hb hts in_J14 hown hK hP 0 rfl rfl 0 (by decide) (hts _ q960) (fun _ h9 => h9) rfl dJ14_hasNext_1 ?_
  refine lv_aload_n hx hb dJ14_hasNext_4 rfl (lv_at hl 0 rfl) ?_
  refine va_get (D := D) (ci := 12) (v := .ref q_x0_this_0) (C := RJ14) (T := TJ14) (N := 4) hx hb hts in_J14 hown hK hP 0 rfl rfl 3 (by decide) (hts _ q963) (fun _ h9 => h9) rfl dJ14_hasNext_5 ?_
  refine va_getN (D := D) (ci := 9) (v := .int x0_this_0_size) (C := RJ2) (T := TJ2) (N := 3) hx hb hts in_J2 hown hK hP 1 rfl rfl 2 (by decide) (NWx.use hNW q135 rfl) (fun _ h9 => h9) rfl dJ14_hasNext_8 ?_
  refine lv_icmp_eq (tgt := 18) hx hb dJ14_hasNext_11 (by decide) (fun c2 => ?_) (fun c2 => ?_)
  · have hw := hw.1 c2
    refine lv_iconst (v := (nI 0)) hx hb dJ14_hasNext_18 (by decide) ?_
    exact W.zret (v := (nI 0)) hx hb hr rfl (fun t ht hW => ⟨(nI 0), rfl, hw, ht⟩) (fun _ h => by cases h) dJ14_hasNext_19
  · have hw := hw.2 c2
    refine lv_iconst (v := (nI 1)) hx hb dJ14_hasNext_14 (by decide) ?_
    refine lv_goto (tgt := 19) hx hb dJ14_hasNext_15 (by decide) ?_
    exact W.zret (v := (nI 1)) hx hb hr rfl (fun t ht hW => ⟨(nI 1), rfl, hw, ht⟩) (fun _ h => by cases h) dJ14_hasNext_19
def w_J14_check_e (post : Prop) (x0_expectedModCount : Int32) (x0_this_0_modCount : Int32) : Prop :=
  ((x0_this_0_modCount = x0_expectedModCount → post ) ∧ (¬ x0_this_0_modCount = x0_expectedModCount → False))
def rm_J14_check_e : Room := { frames := 0, cells := 0, slots := 0, locals := 0 }
set_option maxHeartbeats 4000000 in
set_option maxRecDepth 100000 in
theorem met_J14_check_e (l : Launch) (D : va_G) (dA : Nat → ClassId) (cx : CXt) (q_x0 : Nat) (x0_cursor : Int32) (x0_lastRet : Int32) (x0_expectedModCount : Int32) (q_x0_this_0 : Nat) (x0_this_0_modCount : Int32) (x0_this_0_size : Int32) (post : Prop) (hw : w_J14_check_e post x0_expectedModCount x0_this_0_modCount) : Met l yJ14_checkForComodification (ws_ yJ14_checkForComodification cJ14_checkForComodification 1 none) rm_J14_check_e (va_Pc [.ref q_x0] (rdC D dA cx [(q_x0, .inr (12, [.int x0_cursor, .int x0_lastRet, .int x0_expectedModCount, .ref q_x0_this_0])), (q_x0_this_0, .inr (9, [.int x0_this_0_modCount, .ref (cxE cx), .int x0_this_0_size]))])) (va_Sv (fun _ => post)) 0 0 (fun _ => False) := by
  refine Met.ofW (cc := cJ14_checkForComodification) (maxL := 1) (ret := none) (by decide) rfl ?_
  intro p e s m args below meth c s₁ B hml hv
  obtain ⟨rfl, hP, hK, hC⟩ := hv
  have hx := B.exec
  have hb := B.bytes
  have hr := B.returns
  have hts := atoms_spec (ws := (ws_ yJ14_checkForComodification cJ14_checkForComodification 1 none)) B.pre
  have hts : ∀ w ∈ lw_all, w.before _ s = true := fun w h => hts w (List.mem_cons_of_mem _ h)
  have hown : s.vm.findClass RJ14 = some m.cls := findClass_of_methodNamed B.named
  have hlocks := B.notSynchronized
  have hSx : CallFix p m c cJ14_checkForComodification 1 s _ lw_all RJ14 := ⟨hx, hb, hml, hown, hts⟩
  have hNW := hC.1
  have hl := lv_entry ([.ref q_x0]) (n := 1) (Nat.le_of_ble_eq_true rfl)
  rw [lg_entry_eq]
  generalize (lg_sl ([.ref q_x0]) ++ List.replicate (1 - (lg_sl ([.ref q_x0])).length) Slot.unset).toArray = ls at hl ⊢
  have hl : lv_has ls 1 [(0, .ref q_x0)] := hl
  refine lv_aload_n hx hb dJ14_checkForComodification_0 rfl (lv_at hl 0 rfl) ?_
  refine va_get (D := D) (ci := 12) (v := .ref q_x0_this_0) (C := RJ14) (T := TJ14) (N := 4) hx hb hts in_J14 hown hK hP 0 rfl rfl 3 (by decide) (hts _ q963) (fun _ h9 => h9) rfl dJ14_checkForComodification_1 ?_
  refine va_get (D := D) (ci := 9) (v := .int x0_this_0_modCount) (C := RJ2) (T := TJ2) (N := 3) hx hb hts in_J2 hown hK hP 1 rfl rfl 0 (by decide) (hts _ q138) (u_same (hts _ q139)) rfl dJ14_checkForComodification_4 ?_
  refine lv_aload_n hx hb dJ14_checkForComodification_7 rfl (lv_at hl 0 rfl) ?_
  refine va_get (D := D) (ci := 12) (v := .int x0_expectedModCount) (C := RJ14) (T := TJ14) (N := 4) hx hb hts in_J14 hown hK hP 0 rfl rfl 2 (by decide) (hts _ q962) (fun _ h9 => h9) rfl dJ14_checkForComodification_8 ?_
  refine lv_icmp_eq (tgt := 22) hx hb dJ14_checkForComodification_11 (by decide) (fun c3 => ?_) (fun c3 => ?_)
  · have hw := hw.1 c3
    exact W.vret hx hb hr (fun t ht hW => ⟨rfl, hw, ht⟩) (fun _ h => by cases h) dJ14_checkForComodification_22
  · have hw := hw.2 c3
    exact (show False from hw).elim
def w_J14_next_e (post : Nat → Prop) (x0_cursor : Int32) (x0_expectedModCount : Int32) (x0_this_0_modCount : Int32) (x0_this_0_size : Int32) : Prop :=
  w_J14_check_e (((x0_cursor < x0_this_0_size → ((x0_cursor < (nI 0) → (vp_in x0_cursor 0 ∧ (∃ y11 : Nat, (fun _ => none) (x0_cursor.toNatClampNeg) = some y11 ∧ post y11))) ∧ (¬ x0_cursor < (nI 0) → False))) ∧ (¬ x0_cursor < x0_this_0_size → False))) x0_expectedModCount x0_this_0_modCount
def rm_J14_next_e : Room := { frames := 1, cells := 0, slots := 0, locals := 20 }
set_option maxHeartbeats 4000000 in
set_option maxRecDepth 100000 in
theorem met_J14_next_e (l : Launch) (D : va_G) (dA : Nat → ClassId) (cx : CXt) (sz : Nat) (q_x0 : Nat) (x0_cursor : Int32) (x0_lastRet : Int32) (x0_expectedModCount : Int32) (q_x0_this_0 : Nat) (x0_this_0_modCount : Int32) (x0_this_0_size : Int32) (post : Nat → Prop) (hw : w_J14_next_e post x0_cursor x0_expectedModCount x0_this_0_modCount x0_this_0_size) : Met l yJ14_next (ws_ yJ14_next cJ14_next 3 (some (.object "java/lang/Object"))) rm_J14_next_e (va_Pc [.ref q_x0] (wrC D dA cx sz [(q_x0, .inr (12, [.int x0_cursor, .int x0_lastRet, .int x0_expectedModCount, .ref q_x0_this_0])), (q_x0_this_0, .inr (9, [.int x0_this_0_modCount, .ref (cxE cx), .int x0_this_0_size]))])) (va_Qr (fun (u : Nat) => post u) (fun (u : Nat) a9 t => a9 = u ∧ wrQ D dA (va_A [(q_x0, .inr (12, [.int x0_cursor, .int x0_lastRet, .int x0_expectedModCount, .ref q_x0_this_0])), (q_x0_this_0, .inr (9, [.int x0_this_0_modCount, .ref (cxE cx), .int x0_this_0_size]))] sz) [(q_x0, .inr (12, [.int (x0_cursor + (nI 1)), .int x0_cursor, .int x0_expectedModCount, .ref q_x0_this_0])), (q_x0_this_0, .inr (9, [.int x0_this_0_modCount, .ref (cxE cx), .int x0_this_0_size]))] t) (va_A [(q_x0, .inr (12, [.int x0_cursor, .int x0_lastRet, .int x0_expectedModCount, .ref q_x0_this_0])), (q_x0_this_0, .inr (9, [.int x0_this_0_modCount, .ref (cxE cx), .int x0_this_0_size]))] sz)) 0 0 (va_A [(q_x0, .inr (12, [.int x0_cursor, .int x0_lastRet, .int x0_expectedModCount, .ref q_x0_this_0])), (q_x0_this_0, .inr (9, [.int x0_this_0_modCount, .ref (cxE cx), .int x0_this_0_size]))] sz) := by
  refine Met.ofW (cc := cJ14_next) (maxL := 3) (ret := (some (.object "java/lang/Object"))) (by decide) rfl ?_
  intro p e s m args below meth c s₁ B hml hv
  obtain ⟨rfl, hsz, hP, hK, hD0, hC⟩ := hv
  have hx := B.exec
  have hb := B.bytes
  have hr := B.returns
  have hts := atoms_spec (ws := (ws_ yJ14_next cJ14_next 3 (some (.object "java/lang/Object")))) B.pre
  have hts : ∀ w ∈ lw_all, w.before _ s = true := fun w h => hts w (List.mem_cons_of_mem _ h)
  have hown : s.vm.findClass RJ14 = some m.cls := findClass_of_methodNamed B.named
  have hlocks := B.notSynchronized
  have hSx : CallFix p m c cJ14_next 3 s _ lw_all RJ14 := ⟨hx, hb, hml, hown, hts⟩
  subst hsz
  have hD := hD0.self (sz := s.heap.size)
  generalize hAe : va_A [(q_x0, .inr (12, [.int x0_cursor, .int x0_lastRet, .int x0_expectedModCount, .ref q_x0_this_0])), (q_x0_this_0, .inr (9, [.int x0_this_0_modCount, .ref (cxE cx), .int x0_this_0_size]))] s.heap.size = A at hD hC ⊢
  have hA : ∀ q : Nat, s.heap.size ≤ q → A q := fun q h => by rw [← hAe]; exact Or.inr h
  have hS : va_S A s.heap s.heap [] := va_S.rf
  have hNW := hC.1
  have hl := lv_entry ([.ref q_x0]) (n := 3) (Nat.le_of_ble_eq_true rfl)
  rw [lg_entry_eq]
  generalize (lg_sl ([.ref q_x0]) ++ List.replicate (3 - (lg_sl ([.ref q_x0])).length) Slot.unset).toArray = ls at hl ⊢
  have hl : lv_has ls 3 [(0, .ref q_x0)] := hl
  refine lv_aload_n hx hb dJ14_next_0 rfl (lv_at hl 0 rfl) ?_
  refine k_rv (kc_rV (As := []) (rest := []) hSx (met_J14_check_e l D dA cx q_x0 x0_cursor x0_lastRet x0_expectedModCount q_x0_this_0 x0_this_0_modCount x0_this_0_size _ hw) gJ14_31 ⟨rfl, hd_J14_checkForComodification⟩ ⟨Nat.le_of_ble_eq_true rfl, Nat.le_of_ble_eq_true rfl⟩ rfl rfl hP hK (hC.kept hS.2.1) [0, 1] rfl 0 rfl rfl rfl rfl hl.1 (Nat.le_of_ble_eq_true rfl) rfl dJ14_next_1 ⟨Nat.le_refl 0, Nat.le_refl 0⟩) (fun hw => ?_)
  refine lv_aload_n hx hb dJ14_next_4 rfl (lv_at hl 0 rfl) ?_
  refine va_get (D := D) (ci := 12) (v := .int x0_cursor) (C := RJ14) (T := TJ14) (N := 4) hx hb hts in_J14 hown hK hP 0 rfl rfl 0 (by decide) (hts _ q960) (fun _ h9 => h9) rfl dJ14_next_5 ?_
  refine lv_istore_n (lv' := [(1, .int x0_cursor), (0, .ref q_x0)]) hx hb dJ14_next_8 rfl hl (by decide) rfl (fun ls hl => ?_)
  refine lv_iload_n hx hb dJ14_next_9 rfl (lv_at hl 0 rfl) ?_
  refine lv_aload_n hx hb dJ14_next_10 rfl (lv_at hl 1 rfl) ?_
  refine va_get (D := D) (ci := 12) (v := .ref q_x0_this_0) (C := RJ14) (T := TJ14) (N := 4) hx hb hts in_J14 hown hK hP 0 rfl rfl 3 (by decide) (hts _ q963) (fun _ h9 => h9) rfl dJ14_next_11 ?_
  refine va_getN (D := D) (ci := 9) (v := .int x0_this_0_size) (C := RJ2) (T := TJ2) (N := 3) hx hb hts in_J2 hown hK hP 1 rfl rfl 2 (by decide) (NWx.use hNW q135 rfl) (fun _ h9 => h9) rfl dJ14_next_14 ?_
  refine lv_icmp_lt (tgt := 28) hx hb dJ14_next_17 (by decide) (fun c8 => ?_) (fun c8 => ?_)
  · have hw := hw.1 c8
    refine lv_aload_n hx hb dJ14_next_28 rfl (lv_at hl 1 rfl) ?_
    refine va_get (D := D) (ci := 12) (v := .ref q_x0_this_0) (C := RJ14) (T := TJ14) (N := 4) hx hb hts in_J14 hown hK hP 0 rfl rfl 3 (by decide) (hts _ q963) (fun _ h9 => h9) rfl dJ14_next_29 ?_
    refine va_get (D := D) (ci := 9) (v := .ref (cxE cx)) (C := RJ2) (T := TJ2) (N := 3) hx hb hts in_J2 hown hK hP 1 rfl rfl 1 (by decide) (hts _ q134) (fun _ h9 => h9) rfl dJ14_next_32 ?_
    refine lv_astore_n (lv' := [(2, .ref (cxE cx)), (1, .int x0_cursor), (0, .ref q_x0)]) hx hb dJ14_next_35 rfl hl (by decide) rfl (fun ls hl => ?_)
    refine lv_iload_n hx hb dJ14_next_36 rfl (lv_at hl 1 rfl) ?_
    refine lv_aload_n hx hb dJ14_next_37 rfl (lv_at hl 0 rfl) ?_
    refine va_alen (v := (nI 0)) hx hb hK (hC.kept hS.2.1).em.1 0 4 rfl rfl rfl dJ14_next_38 ?_
    refine lv_icmp_lt (tgt := 50) hx hb dJ14_next_39 (by decide) (fun c9 => ?_) (fun c9 => ?_)
    · have hw := hw.1 c9
      refine lv_aload_n hx hb dJ14_next_50 rfl (lv_at hl 2 rfl) ?_
      refine lv_iload_n hx hb dJ14_next_51 rfl (lv_at hl 1 rfl) ?_
      refine lv_iconst (v := (nI 1)) hx hb dJ14_next_52 (by decide) ?_
      refine lv_iadd hx hb dJ14_next_53 ?_
      refine va_put (D := D) (ci := 12) (v := .int (x0_cursor + (nI 1))) (ty := (.int)) (C := RJ14) (T := TJ14) (N := 4) hx hb hts in_J14 tyJ14 tyJ14_ok nmJ14 hown hK hP hD hS 0 rfl rfl 0 (by decide) (hts _ q960) (fun _ h9 => h9) rfl (by decide +kernel) rfl rfl (Nat.le_of_ble_eq_true rfl) dJ14_next_54 (fun H locs hP hD hS => ?_)
      have hP : va_P D vwCl [(q_x0, .inr (12, [.int (x0_cursor + (nI 1)), .int x0_lastRet, .int x0_expectedModCount, .ref q_x0_this_0])), (q_x0_this_0, .inr (9, [.int x0_this_0_modCount, .ref (cxE cx), .int x0_this_0_size]))] H := hP
      have hD : va_D A [(q_x0, .inr (12, [.int (x0_cursor + (nI 1)), .int x0_lastRet, .int x0_expectedModCount, .ref q_x0_this_0])), (q_x0_this_0, .inr (9, [.int x0_this_0_modCount, .ref (cxE cx), .int x0_this_0_size]))] := hD
      refine lv_aload_n hx hb dJ14_next_57 rfl (lv_at hl 0 rfl) ?_
      refine lv_aload_n hx hb dJ14_next_58 rfl (lv_at hl 2 rfl) ?_
      refine lv_iload_n hx hb dJ14_next_59 rfl (lv_at hl 1 rfl) ?_
      refine lv_dup_x1 hx hb dJ14_next_60 rfl rfl ?_
      refine va_put (D := D) (ci := 12) (v := .int x0_cursor) (ty := (.int)) (C := RJ14) (T := TJ14) (N := 4) hx hb hts in_J14 tyJ14 tyJ14_ok nmJ14 hown hK hP hD hS 0 rfl rfl 1 (by decide) (hts _ q961) (fun _ h9 => h9) rfl (by decide +kernel) rfl rfl (Nat.le_of_ble_eq_true rfl) dJ14_next_61 (fun H locs hP hD hS => ?_)
      have hP : va_P D vwCl [(q_x0, .inr (12, [.int (x0_cursor + (nI 1)), .int x0_cursor, .int x0_expectedModCount, .ref q_x0_this_0])), (q_x0_this_0, .inr (9, [.int x0_this_0_modCount, .ref (cxE cx), .int x0_this_0_size]))] H := hP
      have hD : va_D A [(q_x0, .inr (12, [.int (x0_cursor + (nI 1)), .int x0_cursor, .int x0_expectedModCount, .ref q_x0_this_0])), (q_x0_this_0, .inr (9, [.int x0_this_0_modCount, .ref (cxE cx), .int x0_this_0_size]))] := hD
      obtain ⟨h10, hw⟩ := hw
      obtain ⟨y11, h12, hw⟩ := hw
      refine k_aldq (k := x0_cursor.toNatClampNeg) hx hb hK (hC.kept hS.2.1).em.1 0 4 rfl rfl rfl h12 h10 dJ14_next_64 ?_
      exact W.aret (v := .ref y11) hx hb hr (Or.inl ⟨_, rfl⟩) (Or.inr ⟨_, rfl⟩) (fun t ht hW => ⟨⟨y11, _, rfl, hw, rfl, by rw [ht]; exact hP.sub [0, 1] rfl, va_K.moved hW.alike hK, hD.sub [0, 1] (by decide) rfl⟩, hS.F ht⟩) hS.2.2 dJ14_next_65
    · have hw := hw.2 c9
      exact (show False from hw).elim
  · have hw := hw.2 c8
    exact (show False from hw).elim
