/-! THE STATE, without its requests: what its methods compute, its contracts, walked (printed by a program of wip/D-56275w/gen) -/
def w_X2_checkCourtier (post : Prop) (px : String → Int32 → Prop) (bc bs : Nat) (x0_courtiers : Int32) (x1 : Int32) : Prop :=
  w_X1_inRange (fun r8 => (∃ b11 b12 : Nat, b11 ≤ bc ∧ b12 ≤ bs ∧ w_X1_checkIndex (post ) (fun E9 o10 => px E9 o10 ) b11 b12 r8)) x1 (nI 0) (x0_courtiers - (nI 1))
theorem hd_X1_checkIndex : yX1_checkIndex.cls ≠ "java/lang/invoke/MethodHandle" ∧ yX1_checkIndex.cls ≠ "java/lang/invoke/VarHandle" ∧ (parseMethodDescriptor yX1_checkIndex.desc).map (fun d => d.parameters.length) = some 1 := by decide +kernel
def rm_X2_checkCourtier (bc0 bs0 : Nat) : Room := { frames := 7, cells := bc0, slots := bs0, locals := 109 }
set_option maxHeartbeats 4000000 in
set_option maxRecDepth 100000 in
theorem met_X2_checkCourtier (l : Launch) (hst : l.stackTraces = false) (D : va_G) (dA : Nat → ClassId) (cx : CXt) (sz : Nat) (bc0 bs0 : Nat) (q_x0 : Nat) (x0_courtiers : Int32) (x0_dignities : Nat) (x0_favors : Nat) (x0_later : Nat) (x0_rules : Int32) (x0_requests : Nat) (x0_width : Int32) (x0_granted : Int32) (x0_spent : Int64) (x0_gained : Int32) (x0_lost : Int32) (x1 : Int32) (post : Prop) (px : String → Int32 → Prop) (hw : w_X2_checkCourtier post px bc0 bs0 x0_courtiers x1) : vx_Met l yX2_checkCourtier (ws_ yX2_checkCourtier cX2_checkCourtier 2 none) (rm_X2_checkCourtier bc0 bs0) (va_Pc [.ref q_x0, .int x1] (wrC D dA cx sz [(q_x0, .inr (1, [.int x0_courtiers, .ref x0_dignities, .ref x0_favors, .ref x0_later, .int x0_rules, .ref x0_requests, .int x0_width, .int x0_granted, .long x0_spent, .int x0_gained, .int x0_lost]))])) (va_Qv (fun (u : Unit) => post ) (fun (u : Unit) t => wrQ D dA (va_A [(q_x0, .inr (1, [.int x0_courtiers, .ref x0_dignities, .ref x0_favors, .ref x0_later, .int x0_rules, .ref x0_requests, .int x0_width, .int x0_granted, .long x0_spent, .int x0_gained, .int x0_lost]))] sz) [(q_x0, .inr (1, [.int x0_courtiers, .ref x0_dignities, .ref x0_favors, .ref x0_later, .int x0_rules, .ref x0_requests, .int x0_width, .int x0_granted, .long x0_spent, .int x0_gained, .int x0_lost]))] t) (va_A [(q_x0, .inr (1, [.int x0_courtiers, .ref x0_dignities, .ref x0_favors, .ref x0_later, .int x0_rules, .ref x0_requests, .int x0_width, .int x0_granted, .long x0_spent, .int x0_gained, .int x0_lost]))] sz)) (vx_X (fun (u : String × Int32 × Unit) => px u.1 u.2.1 ) (xcB D dA (va_A [(q_x0, .inr (1, [.int x0_courtiers, .ref x0_dignities, .ref x0_favors, .ref x0_later, .int x0_rules, .ref x0_requests, .int x0_width, .int x0_granted, .long x0_spent, .int x0_gained, .int x0_lost]))] sz) (["java/lang/IndexOutOfBoundsException"] : List String) (fun (u : String × Int32 × Unit) => [(q_x0, .inr (1, [.int x0_courtiers, .ref x0_dignities, .ref x0_favors, .ref x0_later, .int x0_rules, .ref x0_requests, .int x0_width, .int x0_granted, .long x0_spent, .int x0_gained, .int x0_lost]))])) (va_A [(q_x0, .inr (1, [.int x0_courtiers, .ref x0_dignities, .ref x0_favors, .ref x0_later, .int x0_rules, .ref x0_requests, .int x0_width, .int x0_granted, .long x0_spent, .int x0_gained, .int x0_lost]))] sz)) bc0 bs0 (va_A [(q_x0, .inr (1, [.int x0_courtiers, .ref x0_dignities, .ref x0_favors, .ref x0_later, .int x0_rules, .ref x0_requests, .int x0_width, .int x0_granted, .long x0_spent, .int x0_gained, .int x0_lost]))] sz) := by
  refine vx_ofW (cc := cX2_checkCourtier) (maxL := 2) (ret := none) (by decide) rfl ?_
  intro p e s m args below meth c s₁ B hml htab hv
  obtain ⟨rfl, hsz, hP, hK, hD0, hC⟩ := hv
  have hx := B.exec
  have hb := B.bytes
  have hr := B.returns
  have hts := atoms_spec (ws := (ws_ yX2_checkCourtier cX2_checkCourtier 2 none)) B.pre
  have hts : ∀ w ∈ lw_all, w.before _ s = true := fun w h => hts w (List.mem_cons_of_mem _ h)
  have hown : s.vm.findClass RX2 = some m.cls := findClass_of_methodNamed B.named
  have hlocks := B.notSynchronized
  have hSx : CallFix p m c cX2_checkCourtier 2 s _ lw_all RX2 := ⟨hx, hb, hml, hown, hts⟩
  subst hsz
  have hD := hD0.self (sz := s.heap.size)
  generalize hAe : va_A [(q_x0, .inr (1, [.int x0_courtiers, .ref x0_dignities, .ref x0_favors, .ref x0_later, .int x0_rules, .ref x0_requests, .int x0_width, .int x0_granted, .long x0_spent, .int x0_gained, .int x0_lost]))] s.heap.size = A at hD hC ⊢
  have hA : ∀ q : Nat, s.heap.size ≤ q → A q := fun q h => by rw [← hAe]; exact Or.inr h
  have hS : va_S A s.heap s.heap [] := va_S.rf
  have hbud : 0 + bc0 ≤ bc0 ∧ 0 + bs0 ≤ bs0 := by omega
  have hNW := hC.1
  have hl := lv_entry ([.ref q_x0, .int x1]) (n := 2) (Nat.le_of_ble_eq_true rfl)
  rw [lg_entry_eq]
  generalize (lg_sl ([.ref q_x0, .int x1]) ++ List.replicate (2 - (lg_sl ([.ref q_x0, .int x1])).length) Slot.unset).toArray = ls at hl ⊢
  have hl : lv_has ls 2 [(0, .ref q_x0), (1, .int x1)] := hl
  refine lv_iload_n hx hb dX2_checkCourtier_0 rfl (lv_at hl 1 rfl) ?_
  refine lv_iconst (v := (nI 0)) hx hb dX2_checkCourtier_1 (by decide) ?_
  refine lv_aload_n hx hb dX2_checkCourtier_2 rfl (lv_at hl 0 rfl) ?_
  refine va_get (D := D) (ci := 1) (v := .int x0_courtiers) (C := RX2) (T := TX2) (N := 11) hx hb hts in_X2 hown hK hP 0 rfl rfl 0 (by decide) (hts _ q149) (fun _ h9 => h9) rfl dX2_checkCourtier_3 ?_
  refine lv_iconst (v := (nI 1)) hx hb dX2_checkCourtier_6 (by decide) ?_
  refine lv_isub hx hb dX2_checkCourtier_7 ?_
  refine k_ri (kc_pSN (As := [.int x1, .int (nI 0), .int (x0_courtiers - (nI 1))]) (rest := []) hSx (met_X1_inRange l x1 (nI 0) (x0_courtiers - (nI 1)) _ hw) hNW q1143 q807 q67 q806 hd_X1_inRange ⟨Nat.le_of_ble_eq_true rfl, Nat.le_of_ble_eq_true rfl⟩ rfl rfl rfl hl.1 (Nat.le_of_ble_eq_true rfl) rfl dX2_checkCourtier_8 ⟨(show 0 + 0 ≤ bc0 by omega), (show 0 + 0 ≤ bs0 by omega)⟩) (fun r8 hw => ?_)
  obtain ⟨b11, b12, h13, h14, hw⟩ := hw
  refine kx_wv (wn := fun (u : Unit) => [(q_x0, .inr (1, [.int x0_courtiers, .ref x0_dignities, .ref x0_favors, .ref x0_later, .int x0_rules, .ref x0_requests, .int x0_width, .int x0_granted, .long x0_spent, .int x0_gained, .int x0_lost]))]) (wxn := fun (u : String × Int32 × Unit) => [(q_x0, .inr (1, [.int x0_courtiers, .ref x0_dignities, .ref x0_favors, .ref x0_later, .int x0_rules, .ref x0_requests, .int x0_width, .int x0_granted, .long x0_spent, .int x0_gained, .int x0_lost]))]) (wr := [(q_x0, .inr (1, [.int x0_courtiers, .ref x0_dignities, .ref x0_favors, .ref x0_later, .int x0_rules, .ref x0_requests, .int x0_width, .int x0_granted, .long x0_spent, .int x0_gained, .int x0_lost]))]) (xc_wSN (As := [.int r8]) (rest := []) hSx (met_X1_checkIndex l hst D dA cx _ b11 b12 r8 _ _ hw) hNW q1197 q1199 q67 q1198 hd_X1_checkIndex ⟨Nat.le_of_ble_eq_true rfl, Nat.le_of_ble_eq_true rfl⟩ rfl rfl hP hK hD hS hA (hC.kept hS.2.1) [] rfl (by decide) rfl rfl hl.1 (Nat.le_of_ble_eq_true rfl) rfl dX2_checkCourtier_11 ⟨(show 0 + b11 ≤ bc0 by omega), (show 0 + b12 ≤ bs0 by omega)⟩) hP hD hS hA [] [0] rfl rfl (by decide) (by decide) (fun _ => rfl) (fun _ => rfl) (fun u q9 ce H locs hw hin hpo _ hP hD hS hce hcv hcl => ?_) (fun u H locs hw _ hP hD hS => ?_)
  · obtain ⟨E9, o10, u9⟩ := u
    have hP : va_P D vwCl [(q_x0, .inr (1, [.int x0_courtiers, .ref x0_dignities, .ref x0_favors, .ref x0_later, .int x0_rules, .ref x0_requests, .int x0_width, .int x0_granted, .long x0_spent, .int x0_gained, .int x0_lost]))] H := hP
    have hD : va_D A [(q_x0, .inr (1, [.int x0_courtiers, .ref x0_dignities, .ref x0_favors, .ref x0_later, .int x0_rules, .ref x0_requests, .int x0_width, .int x0_granted, .long x0_spent, .int x0_gained, .int x0_lost]))] := hD
    have hbud : (0 + b11) + (bc0 - b11) ≤ bc0 ∧ (0 + b12) + (bs0 - b12) ≤ bs0 := by omega
    refine vx_widen (k := bc0) (n := bs0) (by omega) (by omega) ?_
    exact kx_out (fun x hx => (htab x hx).elim) hlocks (E9, o10, ()) hce hcv hcl hw ((show ∀ z ∈ (["java/lang/IndexOutOfBoundsException"] : List String), z ∈ (["java/lang/IndexOutOfBoundsException"] : List String) from by decide) _ hin) hpo (hP.sub [0] rfl) hK (hD.sub [0] (by decide) rfl) hS (Nat.le_refl _) (Nat.le_refl _)
  · have h0 := trivial
    have hP : va_P D vwCl [(q_x0, .inr (1, [.int x0_courtiers, .ref x0_dignities, .ref x0_favors, .ref x0_later, .int x0_rules, .ref x0_requests, .int x0_width, .int x0_granted, .long x0_spent, .int x0_gained, .int x0_lost]))] H := hP
    have hD : va_D A [(q_x0, .inr (1, [.int x0_courtiers, .ref x0_dignities, .ref x0_favors, .ref x0_later, .int x0_rules, .ref x0_requests, .int x0_width, .int x0_granted, .long x0_spent, .int x0_gained, .int x0_lost]))] := hD
    have hbud : (0 + b11) + (bc0 - b11) ≤ bc0 ∧ (0 + b12) + (bs0 - b12) ≤ bs0 := by omega
    refine W.widen (k := bc0) (n := bs0) (by omega) (by omega) ?_
    refine vx_ret ?_
    exact W.vret hx hb hr (fun t ht hW => ⟨⟨(), rfl, hw, by rw [ht]; exact hP.sub [0] rfl, va_K.moved hW.alike hK, hD.sub [0] (by decide) rfl⟩, hS.F ht⟩) hS.2.2 dX2_checkCourtier_14
def w_X2_checkCourtiers (post : Prop) (px : String → Int32 → Prop) (bc bs : Nat) (x0_courtiers : Int32) (x1 : Int32) (x2 : Int32) : Prop :=
  (∃ b15 b16 : Nat, b15 ≤ bc ∧ b16 ≤ bs ∧ w_X2_checkCourtier ((∃ b21 b22 : Nat, b21 ≤ (bc - b15) ∧ b22 ≤ (bs - b16) ∧ w_X2_checkCourtier (post ) (fun E19 o20 => px E19 o20 ) b21 b22 x0_courtiers x2)) (fun E13 o14 => px E13 o14 ) b15 b16 x0_courtiers x1)
theorem hd_X2_checkCourtier : yX2_checkCourtier.cls ≠ "java/lang/invoke/MethodHandle" ∧ yX2_checkCourtier.cls ≠ "java/lang/invoke/VarHandle" ∧ (parseMethodDescriptor yX2_checkCourtier.desc).map (fun d => d.parameters.length) = some 1 := by decide +kernel
theorem gX2_88 : GoodIn lw_all (wsV RX2 88 RX2 yX2_checkCourtier (ws_ yX2_checkCourtier cX2_checkCourtier 2 none)) := lw_V q1193 q1194 q1195 q68 q1196
def rm_X2_checkCourtiers (bc0 bs0 : Nat) : Room := { frames := 8, cells := bc0, slots := bs0, locals := 130 }
set_option maxHeartbeats 4000000 in
set_option maxRecDepth 100000 in
theorem met_X2_checkCourtiers (l : Launch) (hst : l.stackTraces = false) (D : va_G) (dA : Nat → ClassId) (cx : CXt) (sz : Nat) (bc0 bs0 : Nat) (q_x0 : Nat) (x0_courtiers : Int32) (x0_dignities : Nat) (x0_favors : Nat) (x0_later : Nat) (x0_rules : Int32) (x0_requests : Nat) (x0_width : Int32) (x0_granted : Int32) (x0_spent : Int64) (x0_gained : Int32) (x0_lost : Int32) (x1 : Int32) (x2 : Int32) (post : Prop) (px : String → Int32 → Prop) (hw : w_X2_checkCourtiers post px bc0 bs0 x0_courtiers x1 x2) : vx_Met l yX2_checkCourtiers (ws_ yX2_checkCourtiers cX2_checkCourtiers 3 none) (rm_X2_checkCourtiers bc0 bs0) (va_Pc [.ref q_x0, .int x1, .int x2] (wrC D dA cx sz [(q_x0, .inr (1, [.int x0_courtiers, .ref x0_dignities, .ref x0_favors, .ref x0_later, .int x0_rules, .ref x0_requests, .int x0_width, .int x0_granted, .long x0_spent, .int x0_gained, .int x0_lost]))])) (va_Qv (fun (u : Unit) => post ) (fun (u : Unit) t => wrQ D dA (va_A [(q_x0, .inr (1, [.int x0_courtiers, .ref x0_dignities, .ref x0_favors, .ref x0_later, .int x0_rules, .ref x0_requests, .int x0_width, .int x0_granted, .long x0_spent, .int x0_gained, .int x0_lost]))] sz) [(q_x0, .inr (1, [.int x0_courtiers, .ref x0_dignities, .ref x0_favors, .ref x0_later, .int x0_rules, .ref x0_requests, .int x0_width, .int x0_granted, .long x0_spent, .int x0_gained, .int x0_lost]))] t) (va_A [(q_x0, .inr (1, [.int x0_courtiers, .ref x0_dignities, .ref x0_favors, .ref x0_later, .int x0_rules, .ref x0_requests, .int x0_width, .int x0_granted, .long x0_spent, .int x0_gained, .int x0_lost]))] sz)) (vx_X (fun (u : String × Int32 × Unit) => px u.1 u.2.1 ) (xcB D dA (va_A [(q_x0, .inr (1, [.int x0_courtiers, .ref x0_dignities, .ref x0_favors, .ref x0_later, .int x0_rules, .ref x0_requests, .int x0_width, .int x0_granted, .long x0_spent, .int x0_gained, .int x0_lost]))] sz) (["java/lang/IndexOutOfBoundsException"] : List String) (fun (u : String × Int32 × Unit) => [(q_x0, .inr (1, [.int x0_courtiers, .ref x0_dignities, .ref x0_favors, .ref x0_later, .int x0_rules, .ref x0_requests, .int x0_width, .int x0_granted, .long x0_spent, .int x0_gained, .int x0_lost]))])) (va_A [(q_x0, .inr (1, [.int x0_courtiers, .ref x0_dignities, .ref x0_favors, .ref x0_later, .int x0_rules, .ref x0_requests, .int x0_width, .int x0_granted, .long x0_spent, .int x0_gained, .int x0_lost]))] sz)) bc0 bs0 (va_A [(q_x0, .inr (1, [.int x0_courtiers, .ref x0_dignities, .ref x0_favors, .ref x0_later, .int x0_rules, .ref x0_requests, .int x0_width, .int x0_granted, .long x0_spent, .int x0_gained, .int x0_lost]))] sz) := by
  refine vx_ofW (cc := cX2_checkCourtiers) (maxL := 3) (ret := none) (by decide) rfl ?_
  intro p e s m args below meth c s₁ B hml htab hv
  obtain ⟨rfl, hsz, hP, hK, hD0, hC⟩ := hv
  have hx := B.exec
  have hb := B.bytes
  have hr := B.returns
  have hts := atoms_spec (ws := (ws_ yX2_checkCourtiers cX2_checkCourtiers 3 none)) B.pre
  have hts : ∀ w ∈ lw_all, w.before _ s = true := fun w h => hts w (List.mem_cons_of_mem _ h)
  have hown : s.vm.findClass RX2 = some m.cls := findClass_of_methodNamed B.named
  have hlocks := B.notSynchronized
  have hSx : CallFix p m c cX2_checkCourtiers 3 s _ lw_all RX2 := ⟨hx, hb, hml, hown, hts⟩
  subst hsz
  have hD := hD0.self (sz := s.heap.size)
  generalize hAe : va_A [(q_x0, .inr (1, [.int x0_courtiers, .ref x0_dignities, .ref x0_favors, .ref x0_later, .int x0_rules, .ref x0_requests, .int x0_width, .int x0_granted, .long x0_spent, .int x0_gained, .int x0_lost]))] s.heap.size = A at hD hC ⊢
  have hA : ∀ q : Nat, s.heap.size ≤ q → A q := fun q h => by rw [← hAe]; exact Or.inr h
  have hS : va_S A s.heap s.heap [] := va_S.rf
  have hbud : 0 + bc0 ≤ bc0 ∧ 0 + bs0 ≤ bs0 := by omega
  have hNW := hC.1
  have hl := lv_entry ([.ref q_x0, .int x1, .int x2]) (n := 3) (Nat.le_of_ble_eq_true rfl)
  rw [lg_entry_eq]
  generalize (lg_sl ([.ref q_x0, .int x1, .int x2]) ++ List.replicate (3 - (lg_sl ([.ref q_x0, .int x1, .int x2])).length) Slot.unset).toArray = ls at hl ⊢
  have hl : lv_has ls 3 [(0, .ref q_x0), (1, .int x1), (2, .int x2)] := hl
  refine lv_aload_n hx hb dX2_checkCourtiers_0 rfl (lv_at hl 0 rfl) ?_
  refine lv_iload_n hx hb dX2_checkCourtiers_1 rfl (lv_at hl 1 rfl) ?_
  obtain ⟨b15, b16, h17, h18, hw⟩ := hw
  refine kx_wv (wn := fun (u : Unit) => [(q_x0, .inr (1, [.int x0_courtiers, .ref x0_dignities, .ref x0_favors, .ref x0_later, .int x0_rules, .ref x0_requests, .int x0_width, .int x0_granted, .long x0_spent, .int x0_gained, .int x0_lost]))]) (wxn := fun (u : String × Int32 × Unit) => [(q_x0, .inr (1, [.int x0_courtiers, .ref x0_dignities, .ref x0_favors, .ref x0_later, .int x0_rules, .ref x0_requests, .int x0_width, .int x0_granted, .long x0_spent, .int x0_gained, .int x0_lost]))]) (wr := []) (xc_wV (As := [.int x1]) (rest := []) hSx (met_X2_checkCourtier l hst D dA cx _ b15 b16 q_x0 x0_courtiers x0_dignities x0_favors x0_later x0_rules x0_requests x0_width x0_granted x0_spent x0_gained x0_lost x1 _ _ hw) gX2_88 ⟨rfl, hd_X2_checkCourtier⟩ ⟨Nat.le_of_ble_eq_true rfl, Nat.le_of_ble_eq_true rfl⟩ rfl rfl hP hK hD hS hA (hC.kept hS.2.1) [0] rfl (by decide) rfl 0 rfl rfl rfl rfl hl.1 (Nat.le_of_ble_eq_true rfl) rfl dX2_checkCourtiers_2 ⟨(show 0 + b15 ≤ bc0 by omega), (show 0 + b16 ≤ bs0 by omega)⟩) hP hD hS hA [0] [] rfl rfl (by decide) (by decide) (fun _ => rfl) (fun _ => rfl) (fun u q9 ce H locs hw hin hpo _ hP hD hS hce hcv hcl => ?_) (fun u H locs hw _ hP hD hS => ?_)
  · obtain ⟨E13, o14, u9⟩ := u
    have hP : va_P D vwCl [(q_x0, .inr (1, [.int x0_courtiers, .ref x0_dignities, .ref x0_favors, .ref x0_later, .int x0_rules, .ref x0_requests, .int x0_width, .int x0_granted, .long x0_spent, .int x0_gained, .int x0_lost]))] H := hP
    have hD : va_D A [(q_x0, .inr (1, [.int x0_courtiers, .ref x0_dignities, .ref x0_favors, .ref x0_later, .int x0_rules, .ref x0_requests, .int x0_width, .int x0_granted, .long x0_spent, .int x0_gained, .int x0_lost]))] := hD
    have hbud : (0 + b15) + (bc0 - b15) ≤ bc0 ∧ (0 + b16) + (bs0 - b16) ≤ bs0 := by omega
    refine vx_widen (k := bc0) (n := bs0) (by omega) (by omega) ?_
    exact kx_out (fun x hx => (htab x hx).elim) hlocks (E13, o14, ()) hce hcv hcl hw ((show ∀ z ∈ (["java/lang/IndexOutOfBoundsException"] : List String), z ∈ (["java/lang/IndexOutOfBoundsException"] : List String) from by decide) _ hin) hpo (hP.sub [0] rfl) hK (hD.sub [0] (by decide) rfl) hS (Nat.le_refl _) (Nat.le_refl _)
  · have h0 := trivial
    have hP : va_P D vwCl [(q_x0, .inr (1, [.int x0_courtiers, .ref x0_dignities, .ref x0_favors, .ref x0_later, .int x0_rules, .ref x0_requests, .int x0_width, .int x0_granted, .long x0_spent, .int x0_gained, .int x0_lost]))] H := hP
    have hD : va_D A [(q_x0, .inr (1, [.int x0_courtiers, .ref x0_dignities, .ref x0_favors, .ref x0_later, .int x0_rules, .ref x0_requests, .int x0_width, .int x0_granted, .long x0_spent, .int x0_gained, .int x0_lost]))] := hD
    have hbud : (0 + b15) + (bc0 - b15) ≤ bc0 ∧ (0 + b16) + (bs0 - b16) ≤ bs0 := by omega
    refine lv_aload_n hx hb dX2_checkCourtiers_5 rfl (lv_at hl 0 rfl) ?_
    refine lv_iload_n hx hb dX2_checkCourtiers_6 rfl (lv_at hl 2 rfl) ?_
    obtain ⟨b21, b22, h23, h24, hw⟩ := hw
    refine kx_wv (wn := fun (u : Unit) => [(q_x0, .inr (1, [.int x0_courtiers, .ref x0_dignities, .ref x0_favors, .ref x0_later, .int x0_rules, .ref x0_requests, .int x0_width, .int x0_granted, .long x0_spent, .int x0_gained, .int x0_lost]))]) (wxn := fun (u : String × Int32 × Unit) => [(q_x0, .inr (1, [.int x0_courtiers, .ref x0_dignities, .ref x0_favors, .ref x0_later, .int x0_rules, .ref x0_requests, .int x0_width, .int x0_granted, .long x0_spent, .int x0_gained, .int x0_lost]))]) (wr := []) (xc_wV (As := [.int x2]) (rest := []) hSx (met_X2_checkCourtier l hst D dA cx _ b21 b22 q_x0 x0_courtiers x0_dignities x0_favors x0_later x0_rules x0_requests x0_width x0_granted x0_spent x0_gained x0_lost x2 _ _ hw) gX2_88 ⟨rfl, hd_X2_checkCourtier⟩ ⟨Nat.le_of_ble_eq_true rfl, Nat.le_of_ble_eq_true rfl⟩ rfl rfl hP hK hD hS hA (hC.kept hS.2.1) [0] rfl (by decide) rfl 0 rfl rfl rfl rfl hl.1 (Nat.le_of_ble_eq_true rfl) rfl dX2_checkCourtiers_7 ⟨(show (0 + b15) + b21 ≤ bc0 by omega), (show (0 + b16) + b22 ≤ bs0 by omega)⟩) hP hD hS hA [0] [] rfl rfl (by decide) (by decide) (fun _ => rfl) (fun _ => rfl) (fun u q9 ce H locs hw hin hpo _ hP hD hS hce hcv hcl => ?_) (fun u H locs hw _ hP hD hS => ?_)
    · obtain ⟨E19, o20, u9⟩ := u
      have hP : va_P D vwCl [(q_x0, .inr (1, [.int x0_courtiers, .ref x0_dignities, .ref x0_favors, .ref x0_later, .int x0_rules, .ref x0_requests, .int x0_width, .int x0_granted, .long x0_spent, .int x0_gained, .int x0_lost]))] H := hP
      have hD : va_D A [(q_x0, .inr (1, [.int x0_courtiers, .ref x0_dignities, .ref x0_favors, .ref x0_later, .int x0_rules, .ref x0_requests, .int x0_width, .int x0_granted, .long x0_spent, .int x0_gained, .int x0_lost]))] := hD
      have hbud : ((0 + b15) + b21) + ((bc0 - b15) - b21) ≤ bc0 ∧ ((0 + b16) + b22) + ((bs0 - b16) - b22) ≤ bs0 := by omega
      refine vx_widen (k := bc0) (n := bs0) (by omega) (by omega) ?_
      exact kx_out (fun x hx => (htab x hx).elim) hlocks (E19, o20, ()) hce hcv hcl hw ((show ∀ z ∈ (["java/lang/IndexOutOfBoundsException"] : List String), z ∈ (["java/lang/IndexOutOfBoundsException"] : List String) from by decide) _ hin) hpo (hP.sub [0] rfl) hK (hD.sub [0] (by decide) rfl) hS (Nat.le_refl _) (Nat.le_refl _)
    · have h0 := trivial
      have hP : va_P D vwCl [(q_x0, .inr (1, [.int x0_courtiers, .ref x0_dignities, .ref x0_favors, .ref x0_later, .int x0_rules, .ref x0_requests, .int x0_width, .int x0_granted, .long x0_spent, .int x0_gained, .int x0_lost]))] H := hP
      have hD : va_D A [(q_x0, .inr (1, [.int x0_courtiers, .ref x0_dignities, .ref x0_favors, .ref x0_later, .int x0_rules, .ref x0_requests, .int x0_width, .int x0_granted, .long x0_spent, .int x0_gained, .int x0_lost]))] := hD
      have hbud : ((0 + b15) + b21) + ((bc0 - b15) - b21) ≤ bc0 ∧ ((0 + b16) + b22) + ((bs0 - b16) - b22) ≤ bs0 := by omega
      refine W.widen (k := bc0) (n := bs0) (by omega) (by omega) ?_
      refine vx_ret ?_
      exact W.vret hx hb hr (fun t ht hW => ⟨⟨(), rfl, hw, by rw [ht]; exact hP.sub [0] rfl, va_K.moved hW.alike hK, hD.sub [0] (by decide) rfl⟩, hS.F ht⟩) hS.2.2 dX2_checkCourtiers_10
def w_X2_precedes_39 (self : (Int32 → Prop) → Int32 → (Nat → Int32) → Int32 → Int32 → Prop) (post : Int32 → Prop)  (k2 : Int32 → Prop) (v3 : Int32) : Prop :=
  k2 (v3 + (nI 1))
def w_X2_precedes_2 (self : (Int32 → Prop) → Int32 → (Nat → Int32) → Int32 → Int32 → Prop) (post : Int32 → Prop) (x0_courtiers : Int32) (a_x0_later : (Nat → Int32)) (x1 : Int32) (x2 : Int32) (k2 : Int32 → Prop) (v3 : Int32) : Prop :=
  ((x0_courtiers ≤ v3 → post (nI 0)) ∧ (¬ x0_courtiers ≤ v3 → (vp_in x1 8 ∧ w_X1_isIn (fun r31 => ((r31 = 0 → (w_X2_precedes_39 self post k2) v3) ∧ (¬ r31 = 0 → ((v3 = x2 → post (nI 1)) ∧ (¬ v3 = x2 → self (fun r34 => ((r34 = 0 → (w_X2_precedes_39 self post k2) v3) ∧ (¬ r34 = 0 → post (nI 1)))) x0_courtiers a_x0_later v3 x2))))) (a_x0_later x1.toNatClampNeg) v3)))
def w_X2_precedes (self : (Int32 → Prop) → Int32 → (Nat → Int32) → Int32 → Int32 → Prop) (post : Int32 → Prop) (x0_courtiers : Int32) (a_x0_later : (Nat → Int32)) (x1 : Int32) (x2 : Int32) : Prop :=
  (∃ n : Nat, lpF (fun _ => False) (w_X2_precedes_2 self post x0_courtiers a_x0_later x1 x2) n (nI 0))
def wR_X2_precedes (d : Nat) : (Int32 → Prop) → Int32 → (Nat → Int32) → Int32 → Int32 → Prop := lpF (fun _ _ _ _ _ => False) w_X2_precedes d
abbrev wD_X2_precedes := wR_X2_precedes 10
theorem hd_X2_precedes : yX2_precedes.cls ≠ "java/lang/invoke/MethodHandle" ∧ yX2_precedes.cls ≠ "java/lang/invoke/VarHandle" ∧ (parseMethodDescriptor yX2_precedes.desc).map (fun d => d.parameters.length) = some 2 := by decide +kernel
theorem gX2_110 : GoodIn lw_all (wsV RX2 110 RX2 yX2_precedes (ws_ yX2_precedes cX2_precedes 4 (some .boolean))) := lw_V q923 q924 q925 q68 q926
def rm_X2_precedes (d : Nat) : Room := { frames := 1 + d, cells := 0, slots := 0, locals := 21 + 23 * d }
set_option maxHeartbeats 4000000 in
set_option maxRecDepth 100000 in
theorem met_X2_precedes_r (l : Launch) (D : va_G) (dA : Nat → ClassId) (cx : CXt) : ∀ (d : Nat) (q_x0 : Nat) (x0_courtiers : Int32) (x0_dignities : Nat) (x0_favors : Nat) (q_x0_later : Nat) (a_x0_later : (Nat → Int32)) (x0_rules : Int32) (x0_requests : Nat) (x0_width : Int32) (x0_granted : Int32) (x0_spent : Int64) (x0_gained : Int32) (x0_lost : Int32) (x1 : Int32) (x2 : Int32) (post : Int32 → Prop) (hw : wR_X2_precedes d post x0_courtiers a_x0_later x1 x2), Met l yX2_precedes (ws_ yX2_precedes cX2_precedes 4 (some .boolean)) (rm_X2_precedes d) (va_Pc [.ref q_x0, .int x1, .int x2] (rdC D dA cx [(q_x0, .inr (1, [.int x0_courtiers, .ref x0_dignities, .ref x0_favors, .ref q_x0_later, .int x0_rules, .ref x0_requests, .int x0_width, .int x0_granted, .long x0_spent, .int x0_gained, .int x0_lost])), (q_x0_later, .inl (dA 0, 8, .inl a_x0_later))])) (vp_Si (fun r => post r)) 0 0 (fun _ => False) := by
  intro d
  induction d with
  | zero => intro q_x0 x0_courtiers x0_dignities x0_favors q_x0_later a_x0_later x0_rules x0_requests x0_width x0_granted x0_spent x0_gained x0_lost x1 x2 post hw; exact absurd hw id
  | succ d ih =>
  intro q_x0 x0_courtiers x0_dignities x0_favors q_x0_later a_x0_later x0_rules x0_requests x0_width x0_granted x0_spent x0_gained x0_lost x1 x2 post hw
  have hw : w_X2_precedes (wR_X2_precedes d) post x0_courtiers a_x0_later x1 x2 := hw
  generalize wR_X2_precedes d = self at hw ih
  refine Met.ofW (cc := cX2_precedes) (maxL := 4) (ret := (some .boolean)) (by decide) rfl ?_
  intro p e s m args below meth c s₁ B hml hv
  obtain ⟨rfl, hP, hK, hC⟩ := hv
  have hx := B.exec
  have hb := B.bytes
  have hr := B.returns
  have hts := atoms_spec (ws := (ws_ yX2_precedes cX2_precedes 4 (some .boolean))) B.pre
  have hts : ∀ w ∈ lw_all, w.before _ s = true := fun w h => hts w (List.mem_cons_of_mem _ h)
  have hown : s.vm.findClass RX2 = some m.cls := findClass_of_methodNamed B.named
  have hlocks := B.notSynchronized
  have hSx : CallFix p m c cX2_precedes 4 s _ lw_all RX2 := ⟨hx, hb, hml, hown, hts⟩
  have hNW := hC.1
  have hl := lv_entry ([.ref q_x0, .int x1, .int x2]) (n := 4) (Nat.le_of_ble_eq_true rfl)
  rw [lg_entry_eq]
  generalize (lg_sl ([.ref q_x0, .int x1, .int x2]) ++ List.replicate (4 - (lg_sl ([.ref q_x0, .int x1, .int x2])).length) Slot.unset).toArray = ls at hl ⊢
  have hl : lv_has ls 4 [(0, .ref q_x0), (1, .int x1), (2, .int x2)] := hl
  have hL39 : ∀ (k2 : Int32 → Prop) (hk2 : ∀ (v3 : Int32) (ls : Array Slot), lv_has ls 4 [(0, .ref q_x0), (1, .int x1), (2, .int x2), (3, .int v3)] → k2 v3 → W p l e (headSpec (ws_ yX2_precedes cX2_precedes 4 (some .boolean)) (rm_X2_precedes (d + 1))).room s m ([.ref q_x0, .int x1, .int x2] : List Value).toArray below meth c s.heap [] 0 0 (MQ below (vp_Si (fun r => post r)) ([.ref q_x0, .int x1, .int x2] : List Value).toArray s 0 0 (fun _ => False)) (F0 m 2 ls [])) (v3 : Int32) (ls : Array Slot), lv_has ls 4 [(0, .ref q_x0), (1, .int x1), (2, .int x2), (3, .int v3)] → (w_X2_precedes_39 self post k2) v3 → W p l e (headSpec (ws_ yX2_precedes cX2_precedes 4 (some .boolean)) (rm_X2_precedes (d + 1))).room s m ([.ref q_x0, .int x1, .int x2] : List Value).toArray below meth c s.heap [] 0 0 (MQ below (vp_Si (fun r => post r)) ([.ref q_x0, .int x1, .int x2] : List Value).toArray s 0 0 (fun _ => False)) (F0 m 39 ls []) := by
      intro k2 hk2 v3 ls hl hw
      refine lv_iinc (v := (v3 + (nI 1))) (lv' := [(3, .int (v3 + (nI 1))), (0, .ref q_x0), (1, .int x1), (2, .int x2)]) hx hb dX2_precedes_39 hl (k := 3) rfl (congrArg (fun z => v3 + z) (by decide : Int32.ofInt (1) = (nI 1))) (by decide) rfl (fun ls hl => ?_)
      refine lv_goto (tgt := 2) hx hb dX2_precedes_42 (by decide) ?_
      exact hk2 (v3 + (nI 1)) _ (lv_sub hl [1, 2, 3, 0] rfl) hw
  have hL2 : ∀  (n : Nat) (v3 : Int32) (ls : Array Slot), lv_has ls 4 [(0, .ref q_x0), (1, .int x1), (2, .int x2), (3, .int v3)] → lpF (fun _ => False) (w_X2_precedes_2 self post x0_courtiers a_x0_later x1 x2) n v3 → W p l e (headSpec (ws_ yX2_precedes cX2_precedes 4 (some .boolean)) (rm_X2_precedes (d + 1))).room s m ([.ref q_x0, .int x1, .int x2] : List Value).toArray below meth c s.heap [] 0 0 (MQ below (vp_Si (fun r => post r)) ([.ref q_x0, .int x1, .int x2] : List Value).toArray s 0 0 (fun _ => False)) (F0 m 2 ls []) := by
    intro  n
    induction n with
    | zero => intro v3 ls hl hw; exact absurd hw id
    | succ n hk2 =>
      intro v3 ls hl hw
      generalize hk9 : lpF (fun _ => False) (w_X2_precedes_2 self post x0_courtiers a_x0_later x1 x2) n = k2 at hk2
      have hw : (w_X2_precedes_2 self post x0_courtiers a_x0_later x1 x2) k2 v3 := hk9 ▸ hw
      refine lv_iload_n hx hb dX2_precedes_2 rfl (lv_at hl 3 rfl) ?_
      refine lv_aload_n hx hb dX2_precedes_3 rfl (lv_at hl 0 rfl) ?_
      refine va_get (D := D) (ci := 1) (v := .int x0_courtiers) (C := RX2) (T := TX2) (N := 11) hx hb hts in_X2 hown hK hP 0 rfl rfl 0 (by decide) (hts _ q149) (fun _ h9 => h9) rfl dX2_precedes_4 ?_
      refine lv_icmp_ge (tgt := 45) hx hb dX2_precedes_7 (by decide) (fun c29 => ?_) (fun c29 => ?_)
      · have hw := hw.1 c29
        refine lv_iconst (v := (nI 0)) hx hb dX2_precedes_45 (by decide) ?_
        exact W.zret (v := (nI 0)) hx hb hr rfl (fun t ht hW => ⟨(nI 0), rfl, hw, ht⟩) (fun _ h => by cases h) dX2_precedes_46
      · have hw := hw.2 c29
        refine lv_aload_n hx hb dX2_precedes_10 rfl (lv_at hl 0 rfl) ?_
        refine va_get (D := D) (ci := 1) (v := .ref q_x0_later) (C := RX2) (T := TX2) (N := 11) hx hb hts in_X2 hown hK hP 0 rfl rfl 3 (by decide) (hts _ q155) (fun _ h9 => h9) rfl dX2_precedes_11 ?_
        refine lv_iload_n hx hb dX2_precedes_14 rfl (lv_at hl 1 rfl) ?_
        obtain ⟨h30, hw⟩ := hw
        refine k_iald (k := x1.toNatClampNeg) hx hb hK hP 1 0 rfl rfl rfl h30 dX2_precedes_15 ?_
        refine lv_iload_n hx hb dX2_precedes_16 rfl (lv_at hl 3 rfl) ?_
        refine k_ri (kc_pSN (As := [.int (a_x0_later x1.toNatClampNeg), .int v3]) (rest := []) hSx (met_X1_isIn l (a_x0_later x1.toNatClampNeg) v3 _ hw) hNW q423 q425 q67 q424 hd_X1_isIn (by dsimp [headSpec, rm_X1_isIn, rm_X2_precedes]; omega) rfl rfl rfl hl.1 (Nat.le_of_ble_eq_true rfl) rfl dX2_precedes_17 ⟨Nat.le_refl 0, Nat.le_refl 0⟩) (fun r31 hw => ?_)
        refine lv_if_eq (tgt := 39) hx hb dX2_precedes_20 (by decide) (fun c32 => ?_) (fun c32 => ?_)
        · have hw := hw.1 c32
          exact hL39 k2 hk2 v3 _ (lv_sub hl [0, 1, 2, 3] rfl) hw
        · have hw := hw.2 c32
          refine lv_iload_n hx hb dX2_precedes_23 rfl (lv_at hl 3 rfl) ?_
          refine lv_iload_n hx hb dX2_precedes_24 rfl (lv_at hl 2 rfl) ?_
          refine lv_icmp_eq (tgt := 37) hx hb dX2_precedes_25 (by decide) (fun c33 => ?_) (fun c33 => ?_)
          · have hw := hw.1 c33
            refine lv_iconst (v := (nI 1)) hx hb dX2_precedes_37 (by decide) ?_
            exact W.zret (v := (nI 1)) hx hb hr rfl (fun t ht hW => ⟨(nI 1), rfl, hw, ht⟩) (fun _ h => by cases h) dX2_precedes_38
          · have hw := hw.2 c33
            refine lv_aload_n hx hb dX2_precedes_28 rfl (lv_at hl 0 rfl) ?_
            refine lv_iload_n hx hb dX2_precedes_29 rfl (lv_at hl 3 rfl) ?_
            refine lv_iload_n hx hb dX2_precedes_30 rfl (lv_at hl 2 rfl) ?_
            refine k_ri (kc_rV (As := [.int v3, .int x2]) (rest := []) hSx (ih q_x0 x0_courtiers x0_dignities x0_favors q_x0_later a_x0_later x0_rules x0_requests x0_width x0_granted x0_spent x0_gained x0_lost v3 x2 _ hw) gX2_110 ⟨rfl, hd_X2_precedes⟩ (by dsimp [headSpec, rm_X2_precedes, rm_X2_precedes]; omega) rfl rfl hP hK hC [0, 1] rfl 0 rfl rfl rfl rfl hl.1 (Nat.le_of_ble_eq_true rfl) rfl dX2_precedes_31 ⟨Nat.le_refl 0, Nat.le_refl 0⟩) (fun r34 hw => ?_)
            refine lv_if_eq (tgt := 39) hx hb dX2_precedes_34 (by decide) (fun c35 => ?_) (fun c35 => ?_)
            · have hw := hw.1 c35
              exact hL39 k2 hk2 v3 _ (lv_sub hl [0, 1, 2, 3] rfl) hw
            · have hw := hw.2 c35
              refine lv_iconst (v := (nI 1)) hx hb dX2_precedes_37 (by decide) ?_
              exact W.zret (v := (nI 1)) hx hb hr rfl (fun t ht hW => ⟨(nI 1), rfl, hw, ht⟩) (fun _ h => by cases h) dX2_precedes_38
  refine lv_iconst (v := (nI 0)) hx hb dX2_precedes_0 (by decide) ?_
  refine lv_istore_n (lv' := [(3, .int (nI 0)), (0, .ref q_x0), (1, .int x1), (2, .int x2)]) hx hb dX2_precedes_1 rfl hl (by decide) rfl (fun ls hl => ?_)
  obtain ⟨n, hw⟩ := hw
  exact hL2  n (nI 0) _ (lv_sub hl [1, 2, 3, 0] rfl) hw
theorem met_X2_precedes (l : Launch) (D : va_G) (dA : Nat → ClassId) (cx : CXt) (q_x0 : Nat) (x0_courtiers : Int32) (x0_dignities : Nat) (x0_favors : Nat) (q_x0_later : Nat) (a_x0_later : (Nat → Int32)) (x0_rules : Int32) (x0_requests : Nat) (x0_width : Int32) (x0_granted : Int32) (x0_spent : Int64) (x0_gained : Int32) (x0_lost : Int32) (x1 : Int32) (x2 : Int32) (post : Int32 → Prop) (hw : wD_X2_precedes post x0_courtiers a_x0_later x1 x2) : Met l yX2_precedes (ws_ yX2_precedes cX2_precedes 4 (some .boolean)) (rm_X2_precedes 10) (va_Pc [.ref q_x0, .int x1, .int x2] (rdC D dA cx [(q_x0, .inr (1, [.int x0_courtiers, .ref x0_dignities, .ref x0_favors, .ref q_x0_later, .int x0_rules, .ref x0_requests, .int x0_width, .int x0_granted, .long x0_spent, .int x0_gained, .int x0_lost])), (q_x0_later, .inl (dA 0, 8, .inl a_x0_later))])) (vp_Si (fun r => post r)) 0 0 (fun _ => False) := met_X2_precedes_r l D dA cx 10 q_x0 x0_courtiers x0_dignities x0_favors q_x0_later a_x0_later x0_rules x0_requests x0_width x0_granted x0_spent x0_gained x0_lost x1 x2 post hw
def w_X2_addCourtier_24 (post : Int32 → (Nat → Int32) → (Nat → Int32) → (Nat → Int32) → Prop) (px : String → Int32 → Prop) (x0_courtiers : Int32) (a_x0_dignities : (Nat → Int32)) (a_x0_favors : (Nat → Int32)) (a_x0_later : (Nat → Int32)) (x1 : Int32)  (bc bs : Nat) (s0 : Int32) : Prop :=
  (∃ b37 b38 : Nat, b37 ≤ bc ∧ b38 ≤ bs ∧ w_X1_checkState ((vp_in x0_courtiers 8 ∧ (vp_in x0_courtiers 8 ∧ (vp_in x0_courtiers 8 ∧ post ((x0_courtiers + (nI 1)) - (nI 1)) (upd a_x0_dignities x0_courtiers.toNatClampNeg x1) (upd a_x0_favors x0_courtiers.toNatClampNeg (nI 20)) (upd a_x0_later x0_courtiers.toNatClampNeg (nI 0)))))) (fun E35 o36 => px E35 o36 ) b37 b38 s0)
def w_X2_addCourtier (post : Int32 → (Nat → Int32) → (Nat → Int32) → (Nat → Int32) → Prop) (px : String → Int32 → Prop) (bc bs : Nat) (x0_courtiers : Int32) (a_x0_dignities : (Nat → Int32)) (a_x0_favors : (Nat → Int32)) (a_x0_later : (Nat → Int32)) (x1 : Int32) : Prop :=
  w_X1_inRange (fun r44 => (∃ b47 b48 : Nat, b47 ≤ bc ∧ b48 ≤ bs ∧ w_X1_checkArgument ((((nI 8) ≤ x0_courtiers → (w_X2_addCourtier_24 post px x0_courtiers a_x0_dignities a_x0_favors a_x0_later x1) (bc - b47) (bs - b48) (nI 0)) ∧ (¬ (nI 8) ≤ x0_courtiers → (w_X2_addCourtier_24 post px x0_courtiers a_x0_dignities a_x0_favors a_x0_later x1) (bc - b47) (bs - b48) (nI 1)))) (fun E45 o46 => px E45 o46 ) b47 b48 r44)) x1 (nI 1) (nI 99)
theorem hd_X1_checkArgument : yX1_checkArgument.cls ≠ "java/lang/invoke/MethodHandle" ∧ yX1_checkArgument.cls ≠ "java/lang/invoke/VarHandle" ∧ (parseMethodDescriptor yX1_checkArgument.desc).map (fun d => d.parameters.length) = some 1 := by decide +kernel
theorem hd_X1_checkState : yX1_checkState.cls ≠ "java/lang/invoke/MethodHandle" ∧ yX1_checkState.cls ≠ "java/lang/invoke/VarHandle" ∧ (parseMethodDescriptor yX1_checkState.desc).map (fun d => d.parameters.length) = some 1 := by decide +kernel
def rm_X2_addCourtier (bc0 bs0 : Nat) : Room := { frames := 7, cells := bc0, slots := bs0, locals := 109 }
set_option maxHeartbeats 4000000 in
set_option maxRecDepth 100000 in
theorem met_X2_addCourtier (l : Launch) (hst : l.stackTraces = false) (D : va_G) (dA : Nat → ClassId) (cx : CXt) (sz : Nat) (bc0 bs0 : Nat) (q_x0 : Nat) (x0_courtiers : Int32) (q_x0_dignities : Nat) (a_x0_dignities : (Nat → Int32)) (q_x0_favors : Nat) (a_x0_favors : (Nat → Int32)) (q_x0_later : Nat) (a_x0_later : (Nat → Int32)) (x0_rules : Int32) (x0_requests : Nat) (x0_width : Int32) (x0_granted : Int32) (x0_spent : Int64) (x0_gained : Int32) (x0_lost : Int32) (x1 : Int32) (post : Int32 → (Nat → Int32) → (Nat → Int32) → (Nat → Int32) → Prop) (px : String → Int32 → Prop) (hw : w_X2_addCourtier post px bc0 bs0 x0_courtiers a_x0_dignities a_x0_favors a_x0_later x1) : vx_Met l yX2_addCourtier (ws_ yX2_addCourtier cX2_addCourtier 2 (some .int)) (rm_X2_addCourtier bc0 bs0) (va_Pc [.ref q_x0, .int x1] (wrC D dA cx sz [(q_x0, .inr (1, [.int x0_courtiers, .ref q_x0_dignities, .ref q_x0_favors, .ref q_x0_later, .int x0_rules, .ref x0_requests, .int x0_width, .int x0_granted, .long x0_spent, .int x0_gained, .int x0_lost])), (q_x0_dignities, .inl (dA 0, 8, .inl a_x0_dignities)), (q_x0_favors, .inl (dA 0, 8, .inl a_x0_favors)), (q_x0_later, .inl (dA 0, 8, .inl a_x0_later))])) (va_Qi (fun (r : Int32) (u : (Nat → Int32) × (Nat → Int32) × (Nat → Int32)) => post r u.1 u.2.1 u.2.2) (fun (u : (Nat → Int32) × (Nat → Int32) × (Nat → Int32)) t => wrQ D dA (va_A [(q_x0, .inr (1, [.int x0_courtiers, .ref q_x0_dignities, .ref q_x0_favors, .ref q_x0_later, .int x0_rules, .ref x0_requests, .int x0_width, .int x0_granted, .long x0_spent, .int x0_gained, .int x0_lost])), (q_x0_dignities, .inl (dA 0, 8, .inl a_x0_dignities)), (q_x0_favors, .inl (dA 0, 8, .inl a_x0_favors)), (q_x0_later, .inl (dA 0, 8, .inl a_x0_later))] sz) [(q_x0, .inr (1, [.int (x0_courtiers + (nI 1)), .ref q_x0_dignities, .ref q_x0_favors, .ref q_x0_later, .int x0_rules, .ref x0_requests, .int x0_width, .int x0_granted, .long x0_spent, .int x0_gained, .int x0_lost])), (q_x0_dignities, .inl (dA 0, 8, .inl u.1)), (q_x0_favors, .inl (dA 0, 8, .inl u.2.1)), (q_x0_later, .inl (dA 0, 8, .inl u.2.2))] t) (va_A [(q_x0, .inr (1, [.int x0_courtiers, .ref q_x0_dignities, .ref q_x0_favors, .ref q_x0_later, .int x0_rules, .ref x0_requests, .int x0_width, .int x0_granted, .long x0_spent, .int x0_gained, .int x0_lost])), (q_x0_dignities, .inl (dA 0, 8, .inl a_x0_dignities)), (q_x0_favors, .inl (dA 0, 8, .inl a_x0_favors)), (q_x0_later, .inl (dA 0, 8, .inl a_x0_later))] sz)) (vx_X (fun (u : String × Int32 × Unit) => px u.1 u.2.1 ) (xcB D dA (va_A [(q_x0, .inr (1, [.int x0_courtiers, .ref q_x0_dignities, .ref q_x0_favors, .ref q_x0_later, .int x0_rules, .ref x0_requests, .int x0_width, .int x0_granted, .long x0_spent, .int x0_gained, .int x0_lost])), (q_x0_dignities, .inl (dA 0, 8, .inl a_x0_dignities)), (q_x0_favors, .inl (dA 0, 8, .inl a_x0_favors)), (q_x0_later, .inl (dA 0, 8, .inl a_x0_later))] sz) (["java/lang/IllegalArgumentException", "java/lang/IllegalStateException"] : List String) (fun (u : String × Int32 × Unit) => [(q_x0, .inr (1, [.int x0_courtiers, .ref q_x0_dignities, .ref q_x0_favors, .ref q_x0_later, .int x0_rules, .ref x0_requests, .int x0_width, .int x0_granted, .long x0_spent, .int x0_gained, .int x0_lost])), (q_x0_dignities, .inl (dA 0, 8, .inl a_x0_dignities)), (q_x0_favors, .inl (dA 0, 8, .inl a_x0_favors)), (q_x0_later, .inl (dA 0, 8, .inl a_x0_later))])) (va_A [(q_x0, .inr (1, [.int x0_courtiers, .ref q_x0_dignities, .ref q_x0_favors, .ref q_x0_later, .int x0_rules, .ref x0_requests, .int x0_width, .int x0_granted, .long x0_spent, .int x0_gained, .int x0_lost])), (q_x0_dignities, .inl (dA 0, 8, .inl a_x0_dignities)), (q_x0_favors, .inl (dA 0, 8, .inl a_x0_favors)), (q_x0_later, .inl (dA 0, 8, .inl a_x0_later))] sz)) bc0 bs0 (va_A [(q_x0, .inr (1, [.int x0_courtiers, .ref q_x0_dignities, .ref q_x0_favors, .ref q_x0_later, .int x0_rules, .ref x0_requests, .int x0_width, .int x0_granted, .long x0_spent, .int x0_gained, .int x0_lost])), (q_x0_dignities, .inl (dA 0, 8, .inl a_x0_dignities)), (q_x0_favors, .inl (dA 0, 8, .inl a_x0_favors)), (q_x0_later, .inl (dA 0, 8, .inl a_x0_later))] sz) := by
  refine vx_ofW (cc := cX2_addCourtier) (maxL := 2) (ret := (some .int)) (by decide) rfl ?_
  intro p e s m args below meth c s₁ B hml htab hv
  obtain ⟨rfl, hsz, hP, hK, hD0, hC⟩ := hv
  have hx := B.exec
  have hb := B.bytes
  have hr := B.returns
  have hts := atoms_spec (ws := (ws_ yX2_addCourtier cX2_addCourtier 2 (some .int))) B.pre
  have hts : ∀ w ∈ lw_all, w.before _ s = true := fun w h => hts w (List.mem_cons_of_mem _ h)
  have hown : s.vm.findClass RX2 = some m.cls := findClass_of_methodNamed B.named
  have hlocks := B.notSynchronized
  have hSx : CallFix p m c cX2_addCourtier 2 s _ lw_all RX2 := ⟨hx, hb, hml, hown, hts⟩
  subst hsz
  have hD := hD0.self (sz := s.heap.size)
  generalize hAe : va_A [(q_x0, .inr (1, [.int x0_courtiers, .ref q_x0_dignities, .ref q_x0_favors, .ref q_x0_later, .int x0_rules, .ref x0_requests, .int x0_width, .int x0_granted, .long x0_spent, .int x0_gained, .int x0_lost])), (q_x0_dignities, .inl (dA 0, 8, .inl a_x0_dignities)), (q_x0_favors, .inl (dA 0, 8, .inl a_x0_favors)), (q_x0_later, .inl (dA 0, 8, .inl a_x0_later))] s.heap.size = A at hD hC ⊢
  have hA : ∀ q : Nat, s.heap.size ≤ q → A q := fun q h => by rw [← hAe]; exact Or.inr h
  have hS : va_S A s.heap s.heap [] := va_S.rf
  have hbud : 0 + bc0 ≤ bc0 ∧ 0 + bs0 ≤ bs0 := by omega
  have hNW := hC.1
  have hl := lv_entry ([.ref q_x0, .int x1]) (n := 2) (Nat.le_of_ble_eq_true rfl)
  rw [lg_entry_eq]
  generalize (lg_sl ([.ref q_x0, .int x1]) ++ List.replicate (2 - (lg_sl ([.ref q_x0, .int x1])).length) Slot.unset).toArray = ls at hl ⊢
  have hl : lv_has ls 2 [(0, .ref q_x0), (1, .int x1)] := hl
  have hL24 : ∀  (bc bs kc ks : Nat) (s0 : Int32) (H : Heap) (locs : List Loc) (ls : Array Slot), kc + bc ≤ bc0 ∧ ks + bs ≤ bs0 → va_P D vwCl [(q_x0, .inr (1, [.int x0_courtiers, .ref q_x0_dignities, .ref q_x0_favors, .ref q_x0_later, .int x0_rules, .ref x0_requests, .int x0_width, .int x0_granted, .long x0_spent, .int x0_gained, .int x0_lost])), (q_x0_dignities, .inl (dA 0, 8, .inl a_x0_dignities)), (q_x0_favors, .inl (dA 0, 8, .inl a_x0_favors)), (q_x0_later, .inl (dA 0, 8, .inl a_x0_later))] H → va_D A [(q_x0, .inr (1, [.int x0_courtiers, .ref q_x0_dignities, .ref q_x0_favors, .ref q_x0_later, .int x0_rules, .ref x0_requests, .int x0_width, .int x0_granted, .long x0_spent, .int x0_gained, .int x0_lost])), (q_x0_dignities, .inl (dA 0, 8, .inl a_x0_dignities)), (q_x0_favors, .inl (dA 0, 8, .inl a_x0_favors)), (q_x0_later, .inl (dA 0, 8, .inl a_x0_later))] → va_S A s.heap H locs → lv_has ls 2 [(0, .ref q_x0), (1, .int x1)] → (w_X2_addCourtier_24 post px x0_courtiers a_x0_dignities a_x0_favors a_x0_later x1) bc bs s0 → W p l e (headSpec (ws_ yX2_addCourtier cX2_addCourtier 2 (some .int)) (rm_X2_addCourtier bc0 bs0)).room s m ([.ref q_x0, .int x1] : List Value).toArray below meth c H locs kc ks (vx_MQ below (va_Qi (fun (r : Int32) (u : (Nat → Int32) × (Nat → Int32) × (Nat → Int32)) => post r u.1 u.2.1 u.2.2) (fun (u : (Nat → Int32) × (Nat → Int32) × (Nat → Int32)) t => wrQ D dA A [(q_x0, .inr (1, [.int (x0_courtiers + (nI 1)), .ref q_x0_dignities, .ref q_x0_favors, .ref q_x0_later, .int x0_rules, .ref x0_requests, .int x0_width, .int x0_granted, .long x0_spent, .int x0_gained, .int x0_lost])), (q_x0_dignities, .inl (dA 0, 8, .inl u.1)), (q_x0_favors, .inl (dA 0, 8, .inl u.2.1)), (q_x0_later, .inl (dA 0, 8, .inl u.2.2))] t) A) (vx_X (fun (u : String × Int32 × Unit) => px u.1 u.2.1 ) (xcB D dA A (["java/lang/IllegalArgumentException", "java/lang/IllegalStateException"] : List String) (fun (u : String × Int32 × Unit) => [(q_x0, .inr (1, [.int x0_courtiers, .ref q_x0_dignities, .ref q_x0_favors, .ref q_x0_later, .int x0_rules, .ref x0_requests, .int x0_width, .int x0_granted, .long x0_spent, .int x0_gained, .int x0_lost])), (q_x0_dignities, .inl (dA 0, 8, .inl a_x0_dignities)), (q_x0_favors, .inl (dA 0, 8, .inl a_x0_favors)), (q_x0_later, .inl (dA 0, 8, .inl a_x0_later))])) A) ([.ref q_x0, .int x1] : List Value).toArray s bc0 bs0 A) (F0 m 24 ls [.int s0]) := by
      intro  bc bs kc ks s0 H locs ls hbud hP hD hS hl hw
      obtain ⟨b37, b38, h39, h40, hw⟩ := hw
      refine kx_wv (wn := fun (u : Unit) => [(q_x0, .inr (1, [.int x0_courtiers, .ref q_x0_dignities, .ref q_x0_favors, .ref q_x0_later, .int x0_rules, .ref x0_requests, .int x0_width, .int x0_granted, .long x0_spent, .int x0_gained, .int x0_lost])), (q_x0_dignities, .inl (dA 0, 8, .inl a_x0_dignities)), (q_x0_favors, .inl (dA 0, 8, .inl a_x0_favors)), (q_x0_later, .inl (dA 0, 8, .inl a_x0_later))]) (wxn := fun (u : String × Int32 × Unit) => [(q_x0, .inr (1, [.int x0_courtiers, .ref q_x0_dignities, .ref q_x0_favors, .ref q_x0_later, .int x0_rules, .ref x0_requests, .int x0_width, .int x0_granted, .long x0_spent, .int x0_gained, .int x0_lost])), (q_x0_dignities, .inl (dA 0, 8, .inl a_x0_dignities)), (q_x0_favors, .inl (dA 0, 8, .inl a_x0_favors)), (q_x0_later, .inl (dA 0, 8, .inl a_x0_later))]) (wr := [(q_x0, .inr (1, [.int x0_courtiers, .ref q_x0_dignities, .ref q_x0_favors, .ref q_x0_later, .int x0_rules, .ref x0_requests, .int x0_width, .int x0_granted, .long x0_spent, .int x0_gained, .int x0_lost])), (q_x0_dignities, .inl (dA 0, 8, .inl a_x0_dignities)), (q_x0_favors, .inl (dA 0, 8, .inl a_x0_favors)), (q_x0_later, .inl (dA 0, 8, .inl a_x0_later))]) (xc_wSN (As := [.int s0]) (rest := []) hSx (met_X1_checkState l hst D dA cx _ b37 b38 s0 _ _ hw) hNW q1152 q1154 q67 q1153 hd_X1_checkState ⟨Nat.le_of_ble_eq_true rfl, Nat.le_of_ble_eq_true rfl⟩ rfl rfl hP hK hD hS hA (hC.kept hS.2.1) [] rfl (by decide) rfl rfl hl.1 (Nat.le_of_ble_eq_true rfl) rfl dX2_addCourtier_24 ⟨(show kc + b37 ≤ bc0 by omega), (show ks + b38 ≤ bs0 by omega)⟩) hP hD hS hA [] [0, 1, 2, 3] rfl rfl (by decide) (by decide) (fun _ => rfl) (fun _ => rfl) (fun u q9 ce H locs hw hin hpo _ hP hD hS hce hcv hcl => ?_) (fun u H locs hw _ hP hD hS => ?_)
      · obtain ⟨E35, o36, u9⟩ := u
        have hP : va_P D vwCl [(q_x0, .inr (1, [.int x0_courtiers, .ref q_x0_dignities, .ref q_x0_favors, .ref q_x0_later, .int x0_rules, .ref x0_requests, .int x0_width, .int x0_granted, .long x0_spent, .int x0_gained, .int x0_lost])), (q_x0_dignities, .inl (dA 0, 8, .inl a_x0_dignities)), (q_x0_favors, .inl (dA 0, 8, .inl a_x0_favors)), (q_x0_later, .inl (dA 0, 8, .inl a_x0_later))] H := hP
        have hD : va_D A [(q_x0, .inr (1, [.int x0_courtiers, .ref q_x0_dignities, .ref q_x0_favors, .ref q_x0_later, .int x0_rules, .ref x0_requests, .int x0_width, .int x0_granted, .long x0_spent, .int x0_gained, .int x0_lost])), (q_x0_dignities, .inl (dA 0, 8, .inl a_x0_dignities)), (q_x0_favors, .inl (dA 0, 8, .inl a_x0_favors)), (q_x0_later, .inl (dA 0, 8, .inl a_x0_later))] := hD
        have hbud : (kc + b37) + (bc - b37) ≤ bc0 ∧ (ks + b38) + (bs - b38) ≤ bs0 := by omega
        refine vx_widen (k := bc0) (n := bs0) (by omega) (by omega) ?_
        exact kx_out (fun x hx => (htab x hx).elim) hlocks (E35, o36, ()) hce hcv hcl hw ((show ∀ z ∈ (["java/lang/IllegalStateException"] : List String), z ∈ (["java/lang/IllegalArgumentException", "java/lang/IllegalStateException"] : List String) from by decide) _ hin) hpo (hP.sub [0, 1, 2, 3] rfl) hK (hD.sub [0, 1, 2, 3] (by decide) rfl) hS (Nat.le_refl _) (Nat.le_refl _)
      · have h0 := trivial
        have hP : va_P D vwCl [(q_x0, .inr (1, [.int x0_courtiers, .ref q_x0_dignities, .ref q_x0_favors, .ref q_x0_later, .int x0_rules, .ref x0_requests, .int x0_width, .int x0_granted, .long x0_spent, .int x0_gained, .int x0_lost])), (q_x0_dignities, .inl (dA 0, 8, .inl a_x0_dignities)), (q_x0_favors, .inl (dA 0, 8, .inl a_x0_favors)), (q_x0_later, .inl (dA 0, 8, .inl a_x0_later))] H := hP
        have hD : va_D A [(q_x0, .inr (1, [.int x0_courtiers, .ref q_x0_dignities, .ref q_x0_favors, .ref q_x0_later, .int x0_rules, .ref x0_requests, .int x0_width, .int x0_granted, .long x0_spent, .int x0_gained, .int x0_lost])), (q_x0_dignities, .inl (dA 0, 8, .inl a_x0_dignities)), (q_x0_favors, .inl (dA 0, 8, .inl a_x0_favors)), (q_x0_later, .inl (dA 0, 8, .inl a_x0_later))] := hD
        have hbud : (kc + b37) + (bc - b37) ≤ bc0 ∧ (ks + b38) + (bs - b38) ≤ bs0 := by omega
        refine lv_aload_n hx hb dX2_addCourtier_27 rfl (lv_at hl 0 rfl) ?_
        refine va_get (D := D) (ci := 1) (v := .ref q_x0_dignities) (C := RX2) (T := TX2) (N := 11) hx hb hts in_X2 hown hK hP 0 rfl rfl 1 (by decide) (hts _ q151) (fun _ h9 => h9) rfl dX2_addCourtier_28 ?_
        refine lv_aload_n hx hb dX2_addCourtier_31 rfl (lv_at hl 0 rfl) ?_
        refine va_get (D := D) (ci := 1) (v := .int x0_courtiers) (C := RX2) (T := TX2) (N := 11) hx hb hts in_X2 hown hK hP 0 rfl rfl 0 (by decide) (hts _ q149) (fun _ h9 => h9) rfl dX2_addCourtier_32 ?_
        refine lv_iload_n hx hb dX2_addCourtier_35 rfl (lv_at hl 1 rfl) ?_
        obtain ⟨h41, hw⟩ := hw
        refine k_iast (k := x0_courtiers.toNatClampNeg) hx hb hK hP hD hS 1 0 rfl rfl rfl h41 dX2_addCourtier_36 (fun H locs hP hD hS => ?_)
        have hP : va_P D vwCl [(q_x0, .inr (1, [.int x0_courtiers, .ref q_x0_dignities, .ref q_x0_favors, .ref q_x0_later, .int x0_rules, .ref x0_requests, .int x0_width, .int x0_granted, .long x0_spent, .int x0_gained, .int x0_lost])), (q_x0_dignities, .inl (dA 0, 8, .inl (upd a_x0_dignities x0_courtiers.toNatClampNeg x1))), (q_x0_favors, .inl (dA 0, 8, .inl a_x0_favors)), (q_x0_later, .inl (dA 0, 8, .inl a_x0_later))] H := hP
        have hD : va_D A [(q_x0, .inr (1, [.int x0_courtiers, .ref q_x0_dignities, .ref q_x0_favors, .ref q_x0_later, .int x0_rules, .ref x0_requests, .int x0_width, .int x0_granted, .long x0_spent, .int x0_gained, .int x0_lost])), (q_x0_dignities, .inl (dA 0, 8, .inl (upd a_x0_dignities x0_courtiers.toNatClampNeg x1))), (q_x0_favors, .inl (dA 0, 8, .inl a_x0_favors)), (q_x0_later, .inl (dA 0, 8, .inl a_x0_later))] := hD
        refine lv_aload_n hx hb dX2_addCourtier_37 rfl (lv_at hl 0 rfl) ?_
        refine va_get (D := D) (ci := 1) (v := .ref q_x0_favors) (C := RX2) (T := TX2) (N := 11) hx hb hts in_X2 hown hK hP 0 rfl rfl 2 (by decide) (hts _ q153) (fun _ h9 => h9) rfl dX2_addCourtier_38 ?_
        refine lv_aload_n hx hb dX2_addCourtier_41 rfl (lv_at hl 0 rfl) ?_
        refine va_get (D := D) (ci := 1) (v := .int x0_courtiers) (C := RX2) (T := TX2) (N := 11) hx hb hts in_X2 hown hK hP 0 rfl rfl 0 (by decide) (hts _ q149) (fun _ h9 => h9) rfl dX2_addCourtier_42 ?_
        refine lv_bipush (v := (nI 20)) hx hb dX2_addCourtier_45 (by decide) ?_
        obtain ⟨h42, hw⟩ := hw
        refine k_iast (k := x0_courtiers.toNatClampNeg) hx hb hK hP hD hS 2 0 rfl rfl rfl h42 dX2_addCourtier_47 (fun H locs hP hD hS => ?_)
        have hP : va_P D vwCl [(q_x0, .inr (1, [.int x0_courtiers, .ref q_x0_dignities, .ref q_x0_favors, .ref q_x0_later, .int x0_rules, .ref x0_requests, .int x0_width, .int x0_granted, .long x0_spent, .int x0_gained, .int x0_lost])), (q_x0_dignities, .inl (dA 0, 8, .inl (upd a_x0_dignities x0_courtiers.toNatClampNeg x1))), (q_x0_favors, .inl (dA 0, 8, .inl (upd a_x0_favors x0_courtiers.toNatClampNeg (nI 20)))), (q_x0_later, .inl (dA 0, 8, .inl a_x0_later))] H := hP
        have hD : va_D A [(q_x0, .inr (1, [.int x0_courtiers, .ref q_x0_dignities, .ref q_x0_favors, .ref q_x0_later, .int x0_rules, .ref x0_requests, .int x0_width, .int x0_granted, .long x0_spent, .int x0_gained, .int x0_lost])), (q_x0_dignities, .inl (dA 0, 8, .inl (upd a_x0_dignities x0_courtiers.toNatClampNeg x1))), (q_x0_favors, .inl (dA 0, 8, .inl (upd a_x0_favors x0_courtiers.toNatClampNeg (nI 20)))), (q_x0_later, .inl (dA 0, 8, .inl a_x0_later))] := hD
        refine lv_aload_n hx hb dX2_addCourtier_48 rfl (lv_at hl 0 rfl) ?_
        refine va_get (D := D) (ci := 1) (v := .ref q_x0_later) (C := RX2) (T := TX2) (N := 11) hx hb hts in_X2 hown hK hP 0 rfl rfl 3 (by decide) (hts _ q155) (fun _ h9 => h9) rfl dX2_addCourtier_49 ?_
        refine lv_aload_n hx hb dX2_addCourtier_52 rfl (lv_at hl 0 rfl) ?_
        refine va_get (D := D) (ci := 1) (v := .int x0_courtiers) (C := RX2) (T := TX2) (N := 11) hx hb hts in_X2 hown hK hP 0 rfl rfl 0 (by decide) (hts _ q149) (fun _ h9 => h9) rfl dX2_addCourtier_53 ?_
        refine lv_iconst (v := (nI 0)) hx hb dX2_addCourtier_56 (by decide) ?_
        obtain ⟨h43, hw⟩ := hw
        refine k_iast (k := x0_courtiers.toNatClampNeg) hx hb hK hP hD hS 3 0 rfl rfl rfl h43 dX2_addCourtier_57 (fun H locs hP hD hS => ?_)
        have hP : va_P D vwCl [(q_x0, .inr (1, [.int x0_courtiers, .ref q_x0_dignities, .ref q_x0_favors, .ref q_x0_later, .int x0_rules, .ref x0_requests, .int x0_width, .int x0_granted, .long x0_spent, .int x0_gained, .int x0_lost])), (q_x0_dignities, .inl (dA 0, 8, .inl (upd a_x0_dignities x0_courtiers.toNatClampNeg x1))), (q_x0_favors, .inl (dA 0, 8, .inl (upd a_x0_favors x0_courtiers.toNatClampNeg (nI 20)))), (q_x0_later, .inl (dA 0, 8, .inl (upd a_x0_later x0_courtiers.toNatClampNeg (nI 0))))] H := hP
        have hD : va_D A [(q_x0, .inr (1, [.int x0_courtiers, .ref q_x0_dignities, .ref q_x0_favors, .ref q_x0_later, .int x0_rules, .ref x0_requests, .int x0_width, .int x0_granted, .long x0_spent, .int x0_gained, .int x0_lost])), (q_x0_dignities, .inl (dA 0, 8, .inl (upd a_x0_dignities x0_courtiers.toNatClampNeg x1))), (q_x0_favors, .inl (dA 0, 8, .inl (upd a_x0_favors x0_courtiers.toNatClampNeg (nI 20)))), (q_x0_later, .inl (dA 0, 8, .inl (upd a_x0_later x0_courtiers.toNatClampNeg (nI 0))))] := hD
        refine lv_aload_n hx hb dX2_addCourtier_58 rfl (lv_at hl 0 rfl) ?_
        refine lv_dup hx hb dX2_addCourtier_59 rfl ?_
        refine va_get (D := D) (ci := 1) (v := .int x0_courtiers) (C := RX2) (T := TX2) (N := 11) hx hb hts in_X2 hown hK hP 0 rfl rfl 0 (by decide) (hts _ q149) (fun _ h9 => h9) rfl dX2_addCourtier_60 ?_
        refine lv_iconst (v := (nI 1)) hx hb dX2_addCourtier_63 (by decide) ?_
        refine lv_iadd hx hb dX2_addCourtier_64 ?_
        refine va_put (D := D) (ci := 1) (v := .int (x0_courtiers + (nI 1))) (ty := (.int)) (C := RX2) (T := TX2) (N := 11) hx hb hts in_X2 tyX2 tyX2_ok nmX2 hown hK hP hD hS 0 rfl rfl 0 (by decide) (hts _ q149) (fun _ h9 => h9) rfl (by decide +kernel) rfl rfl (Nat.le_of_ble_eq_true rfl) dX2_addCourtier_65 (fun H locs hP hD hS => ?_)
        have hP : va_P D vwCl [(q_x0, .inr (1, [.int (x0_courtiers + (nI 1)), .ref q_x0_dignities, .ref q_x0_favors, .ref q_x0_later, .int x0_rules, .ref x0_requests, .int x0_width, .int x0_granted, .long x0_spent, .int x0_gained, .int x0_lost])), (q_x0_dignities, .inl (dA 0, 8, .inl (upd a_x0_dignities x0_courtiers.toNatClampNeg x1))), (q_x0_favors, .inl (dA 0, 8, .inl (upd a_x0_favors x0_courtiers.toNatClampNeg (nI 20)))), (q_x0_later, .inl (dA 0, 8, .inl (upd a_x0_later x0_courtiers.toNatClampNeg (nI 0))))] H := hP
        have hD : va_D A [(q_x0, .inr (1, [.int (x0_courtiers + (nI 1)), .ref q_x0_dignities, .ref q_x0_favors, .ref q_x0_later, .int x0_rules, .ref x0_requests, .int x0_width, .int x0_granted, .long x0_spent, .int x0_gained, .int x0_lost])), (q_x0_dignities, .inl (dA 0, 8, .inl (upd a_x0_dignities x0_courtiers.toNatClampNeg x1))), (q_x0_favors, .inl (dA 0, 8, .inl (upd a_x0_favors x0_courtiers.toNatClampNeg (nI 20)))), (q_x0_later, .inl (dA 0, 8, .inl (upd a_x0_later x0_courtiers.toNatClampNeg (nI 0))))] := hD
        refine lv_aload_n hx hb dX2_addCourtier_68 rfl (lv_at hl 0 rfl) ?_
        refine va_get (D := D) (ci := 1) (v := .int (x0_courtiers + (nI 1))) (C := RX2) (T := TX2) (N := 11) hx hb hts in_X2 hown hK hP 0 rfl rfl 0 (by decide) (hts _ q149) (fun _ h9 => h9) rfl dX2_addCourtier_69 ?_
        refine lv_iconst (v := (nI 1)) hx hb dX2_addCourtier_72 (by decide) ?_
        refine lv_isub hx hb dX2_addCourtier_73 ?_
        refine W.widen (k := bc0) (n := bs0) (by omega) (by omega) ?_
        refine vx_ret ?_
        exact W.iret (v := ((x0_courtiers + (nI 1)) - (nI 1))) hx hb hr (fun t ht hW => ⟨⟨((x0_courtiers + (nI 1)) - (nI 1)), ((upd a_x0_dignities x0_courtiers.toNatClampNeg x1), (upd a_x0_favors x0_courtiers.toNatClampNeg (nI 20)), (upd a_x0_later x0_courtiers.toNatClampNeg (nI 0))), rfl, hw, by rw [ht]; exact hP.sub [0, 1, 2, 3] rfl, va_K.moved hW.alike hK, hD.sub [0, 1, 2, 3] (by decide) rfl⟩, hS.F ht⟩) hS.2.2 dX2_addCourtier_74
  refine lv_iload_n hx hb dX2_addCourtier_0 rfl (lv_at hl 1 rfl) ?_
  refine lv_iconst (v := (nI 1)) hx hb dX2_addCourtier_1 (by decide) ?_
  refine lv_bipush (v := (nI 99)) hx hb dX2_addCourtier_2 (by decide) ?_
  refine k_ri (kc_pSN (As := [.int x1, .int (nI 1), .int (nI 99)]) (rest := []) hSx (met_X1_inRange l x1 (nI 1) (nI 99) _ hw) hNW q1143 q807 q67 q806 hd_X1_inRange ⟨Nat.le_of_ble_eq_true rfl, Nat.le_of_ble_eq_true rfl⟩ rfl rfl rfl hl.1 (Nat.le_of_ble_eq_true rfl) rfl dX2_addCourtier_4 ⟨(show 0 + 0 ≤ bc0 by omega), (show 0 + 0 ≤ bs0 by omega)⟩) (fun r44 hw => ?_)
  obtain ⟨b47, b48, h49, h50, hw⟩ := hw
  refine kx_wv (wn := fun (u : Unit) => [(q_x0, .inr (1, [.int x0_courtiers, .ref q_x0_dignities, .ref q_x0_favors, .ref q_x0_later, .int x0_rules, .ref x0_requests, .int x0_width, .int x0_granted, .long x0_spent, .int x0_gained, .int x0_lost])), (q_x0_dignities, .inl (dA 0, 8, .inl a_x0_dignities)), (q_x0_favors, .inl (dA 0, 8, .inl a_x0_favors)), (q_x0_later, .inl (dA 0, 8, .inl a_x0_later))]) (wxn := fun (u : String × Int32 × Unit) => [(q_x0, .inr (1, [.int x0_courtiers, .ref q_x0_dignities, .ref q_x0_favors, .ref q_x0_later, .int x0_rules, .ref x0_requests, .int x0_width, .int x0_granted, .long x0_spent, .int x0_gained, .int x0_lost])), (q_x0_dignities, .inl (dA 0, 8, .inl a_x0_dignities)), (q_x0_favors, .inl (dA 0, 8, .inl a_x0_favors)), (q_x0_later, .inl (dA 0, 8, .inl a_x0_later))]) (wr := [(q_x0, .inr (1, [.int x0_courtiers, .ref q_x0_dignities, .ref q_x0_favors, .ref q_x0_later, .int x0_rules, .ref x0_requests, .int x0_width, .int x0_granted, .long x0_spent, .int x0_gained, .int x0_lost])), (q_x0_dignities, .inl (dA 0, 8, .inl a_x0_dignities)), (q_x0_favors, .inl (dA 0, 8, .inl a_x0_favors)), (q_x0_later, .inl (dA 0, 8, .inl a_x0_later))]) (xc_wSN (As := [.int r44]) (rest := []) hSx (met_X1_checkArgument l hst D dA cx _ b47 b48 r44 _ _ hw) hNW q1144 q1146 q67 q1145 hd_X1_checkArgument ⟨Nat.le_of_ble_eq_true rfl, Nat.le_of_ble_eq_true rfl⟩ rfl rfl hP hK hD hS hA (hC.kept hS.2.1) [] rfl (by decide) rfl rfl hl.1 (Nat.le_of_ble_eq_true rfl) rfl dX2_addCourtier_7 ⟨(show 0 + b47 ≤ bc0 by omega), (show 0 + b48 ≤ bs0 by omega)⟩) hP hD hS hA [] [0, 1, 2, 3] rfl rfl (by decide) (by decide) (fun _ => rfl) (fun _ => rfl) (fun u q9 ce H locs hw hin hpo _ hP hD hS hce hcv hcl => ?_) (fun u H locs hw _ hP hD hS => ?_)
  · obtain ⟨E45, o46, u9⟩ := u
    have hP : va_P D vwCl [(q_x0, .inr (1, [.int x0_courtiers, .ref q_x0_dignities, .ref q_x0_favors, .ref q_x0_later, .int x0_rules, .ref x0_requests, .int x0_width, .int x0_granted, .long x0_spent, .int x0_gained, .int x0_lost])), (q_x0_dignities, .inl (dA 0, 8, .inl a_x0_dignities)), (q_x0_favors, .inl (dA 0, 8, .inl a_x0_favors)), (q_x0_later, .inl (dA 0, 8, .inl a_x0_later))] H := hP
    have hD : va_D A [(q_x0, .inr (1, [.int x0_courtiers, .ref q_x0_dignities, .ref q_x0_favors, .ref q_x0_later, .int x0_rules, .ref x0_requests, .int x0_width, .int x0_granted, .long x0_spent, .int x0_gained, .int x0_lost])), (q_x0_dignities, .inl (dA 0, 8, .inl a_x0_dignities)), (q_x0_favors, .inl (dA 0, 8, .inl a_x0_favors)), (q_x0_later, .inl (dA 0, 8, .inl a_x0_later))] := hD
    have hbud : (0 + b47) + (bc0 - b47) ≤ bc0 ∧ (0 + b48) + (bs0 - b48) ≤ bs0 := by omega
    refine vx_widen (k := bc0) (n := bs0) (by omega) (by omega) ?_
    exact kx_out (fun x hx => (htab x hx).elim) hlocks (E45, o46, ()) hce hcv hcl hw ((show ∀ z ∈ (["java/lang/IllegalArgumentException"] : List String), z ∈ (["java/lang/IllegalArgumentException", "java/lang/IllegalStateException"] : List String) from by decide) _ hin) hpo (hP.sub [0, 1, 2, 3] rfl) hK (hD.sub [0, 1, 2, 3] (by decide) rfl) hS (Nat.le_refl _) (Nat.le_refl _)
  · have h0 := trivial
    have hP : va_P D vwCl [(q_x0, .inr (1, [.int x0_courtiers, .ref q_x0_dignities, .ref q_x0_favors, .ref q_x0_later, .int x0_rules, .ref x0_requests, .int x0_width, .int x0_granted, .long x0_spent, .int x0_gained, .int x0_lost])), (q_x0_dignities, .inl (dA 0, 8, .inl a_x0_dignities)), (q_x0_favors, .inl (dA 0, 8, .inl a_x0_favors)), (q_x0_later, .inl (dA 0, 8, .inl a_x0_later))] H := hP
    have hD : va_D A [(q_x0, .inr (1, [.int x0_courtiers, .ref q_x0_dignities, .ref q_x0_favors, .ref q_x0_later, .int x0_rules, .ref x0_requests, .int x0_width, .int x0_granted, .long x0_spent, .int x0_gained, .int x0_lost])), (q_x0_dignities, .inl (dA 0, 8, .inl a_x0_dignities)), (q_x0_favors, .inl (dA 0, 8, .inl a_x0_favors)), (q_x0_later, .inl (dA 0, 8, .inl a_x0_later))] := hD
    have hbud : (0 + b47) + (bc0 - b47) ≤ bc0 ∧ (0 + b48) + (bs0 - b48) ≤ bs0 := by omega
    refine lv_aload_n hx hb dX2_addCourtier_10 rfl (lv_at hl 0 rfl) ?_
    refine va_get (D := D) (ci := 1) (v := .int x0_courtiers) (C := RX2) (T := TX2) (N := 11) hx hb hts in_X2 hown hK hP 0 rfl rfl 0 (by decide) (hts _ q149) (fun _ h9 => h9) rfl dX2_addCourtier_11 ?_
    refine lv_bipush (v := (nI 8)) hx hb dX2_addCourtier_14 (by decide) ?_
    refine lv_icmp_ge (tgt := 23) hx hb dX2_addCourtier_16 (by decide) (fun c51 => ?_) (fun c51 => ?_)
    · have hw := hw.1 c51
      refine lv_iconst (v := (nI 0)) hx hb dX2_addCourtier_23 (by decide) ?_
      exact hL24  (bc0 - b47) (bs0 - b48) (0 + b47) (0 + b48) (nI 0) _ _ _ hbud (hP.sub [0, 1, 2, 3] rfl) (hD.sub [0, 1, 2, 3] (by decide) rfl) hS (lv_sub hl [0, 1] rfl) hw
    · have hw := hw.2 c51
      refine lv_iconst (v := (nI 1)) hx hb dX2_addCourtier_19 (by decide) ?_
      refine lv_goto (tgt := 24) hx hb dX2_addCourtier_20 (by decide) ?_
      exact hL24  (bc0 - b47) (bs0 - b48) (0 + b47) (0 + b48) (nI 1) _ _ _ hbud (hP.sub [0, 1, 2, 3] rfl) (hD.sub [0, 1, 2, 3] (by decide) rfl) hS (lv_sub hl [0, 1] rfl) hw
def w_X2_addRule_46 (post : Int32 → (Nat → Int32) → Prop) (px : String → Int32 → Prop) (a_x0_later : (Nat → Int32)) (x0_rules : Int32) (x1 : Int32) (x2 : Int32)  (bc bs : Nat) (s0 : Int32) : Prop :=
  (∃ b55 b56 : Nat, b55 ≤ bc ∧ b56 ≤ bs ∧ w_X1_checkState ((vp_in x1 8 ∧ (vp_in x1 8 ∧ post (x0_rules + (nI 1)) (upd a_x0_later x1.toNatClampNeg ((a_x0_later x1.toNatClampNeg) ||| ((nI 1) <<< (x2 &&& 31))))))) (fun E53 o54 => px E53 o54 ) b55 b56 s0)
def w_X2_addRule_45 (post : Int32 → (Nat → Int32) → Prop) (px : String → Int32 → Prop) (a_x0_later : (Nat → Int32)) (x0_rules : Int32) (x1 : Int32) (x2 : Int32)  (bc bs : Nat)  : Prop :=
  (w_X2_addRule_46 post px a_x0_later x0_rules x1 x2) bc bs (nI 0)
def w_X2_addRule_16 (post : Int32 → (Nat → Int32) → Prop) (px : String → Int32 → Prop) (x0_courtiers : Int32) (a_x0_later : (Nat → Int32)) (x0_rules : Int32) (x1 : Int32) (x2 : Int32)  (bc bs : Nat) (s0 : Int32) : Prop :=
  (∃ b63 b64 : Nat, b63 ≤ bc ∧ b64 ≤ bs ∧ w_X1_checkArgument ((vp_in x1 8 ∧ w_X1_isIn (fun r68 => ((r68 = 0 → wD_X2_precedes (fun r70 => ((r70 = 0 → (w_X2_addRule_46 post px a_x0_later x0_rules x1 x2) (bc - b63) (bs - b64) (nI 1)) ∧ (¬ r70 = 0 → (w_X2_addRule_45 post px a_x0_later x0_rules x1 x2) (bc - b63) (bs - b64) ))) x0_courtiers a_x0_later x2 x1) ∧ (¬ r68 = 0 → (w_X2_addRule_45 post px a_x0_later x0_rules x1 x2) (bc - b63) (bs - b64) ))) (a_x0_later x1.toNatClampNeg) x2)) (fun E61 o62 => px E61 o62 ) b63 b64 s0)
def w_X2_addRule (post : Int32 → (Nat → Int32) → Prop) (px : String → Int32 → Prop) (bc bs : Nat) (x0_courtiers : Int32) (a_x0_later : (Nat → Int32)) (x0_rules : Int32) (x1 : Int32) (x2 : Int32) : Prop :=
  (∃ b74 b75 : Nat, b74 ≤ bc ∧ b75 ≤ bs ∧ w_X2_checkCourtiers (((x1 = x2 → (w_X2_addRule_16 post px x0_courtiers a_x0_later x0_rules x1 x2) (bc - b74) (bs - b75) (nI 0)) ∧ (¬ x1 = x2 → (w_X2_addRule_16 post px x0_courtiers a_x0_later x0_rules x1 x2) (bc - b74) (bs - b75) (nI 1)))) (fun E72 o73 => px E72 o73 ) b74 b75 x0_courtiers x1 x2)
theorem hd_X2_checkCourtiers : yX2_checkCourtiers.cls ≠ "java/lang/invoke/MethodHandle" ∧ yX2_checkCourtiers.cls ≠ "java/lang/invoke/VarHandle" ∧ (parseMethodDescriptor yX2_checkCourtiers.desc).map (fun d => d.parameters.length) = some 2 := by decide +kernel
theorem gX2_113 : GoodIn lw_all (wsV RX2 113 RX2 yX2_checkCourtiers (ws_ yX2_checkCourtiers cX2_checkCourtiers 3 none)) := lw_V q1189 q1190 q1191 q68 q1192
def rm_X2_addRule (bc0 bs0 : Nat) : Room := { frames := 12, cells := bc0, slots := bs0, locals := 274 }
set_option maxHeartbeats 4000000 in
set_option maxRecDepth 100000 in
theorem met_X2_addRule (l : Launch) (hst : l.stackTraces = false) (D : va_G) (dA : Nat → ClassId) (cx : CXt) (sz : Nat) (bc0 bs0 : Nat) (q_x0 : Nat) (x0_courtiers : Int32) (x0_dignities : Nat) (x0_favors : Nat) (q_x0_later : Nat) (a_x0_later : (Nat → Int32)) (x0_rules : Int32) (x0_requests : Nat) (x0_width : Int32) (x0_granted : Int32) (x0_spent : Int64) (x0_gained : Int32) (x0_lost : Int32) (x1 : Int32) (x2 : Int32) (post : Int32 → (Nat → Int32) → Prop) (px : String → Int32 → Prop) (hw : w_X2_addRule post px bc0 bs0 x0_courtiers a_x0_later x0_rules x1 x2) : vx_Met l yX2_addRule (ws_ yX2_addRule cX2_addRule 3 (some .int)) (rm_X2_addRule bc0 bs0) (va_Pc [.ref q_x0, .int x1, .int x2] (wrC D dA cx sz [(q_x0, .inr (1, [.int x0_courtiers, .ref x0_dignities, .ref x0_favors, .ref q_x0_later, .int x0_rules, .ref x0_requests, .int x0_width, .int x0_granted, .long x0_spent, .int x0_gained, .int x0_lost])), (q_x0_later, .inl (dA 0, 8, .inl a_x0_later))])) (va_Qi (fun (r : Int32) (u : (Nat → Int32)) => post r u) (fun (u : (Nat → Int32)) t => wrQ D dA (va_A [(q_x0, .inr (1, [.int x0_courtiers, .ref x0_dignities, .ref x0_favors, .ref q_x0_later, .int x0_rules, .ref x0_requests, .int x0_width, .int x0_granted, .long x0_spent, .int x0_gained, .int x0_lost])), (q_x0_later, .inl (dA 0, 8, .inl a_x0_later))] sz) [(q_x0, .inr (1, [.int x0_courtiers, .ref x0_dignities, .ref x0_favors, .ref q_x0_later, .int (x0_rules + (nI 1)), .ref x0_requests, .int x0_width, .int x0_granted, .long x0_spent, .int x0_gained, .int x0_lost])), (q_x0_later, .inl (dA 0, 8, .inl u))] t) (va_A [(q_x0, .inr (1, [.int x0_courtiers, .ref x0_dignities, .ref x0_favors, .ref q_x0_later, .int x0_rules, .ref x0_requests, .int x0_width, .int x0_granted, .long x0_spent, .int x0_gained, .int x0_lost])), (q_x0_later, .inl (dA 0, 8, .inl a_x0_later))] sz)) (vx_X (fun (u : String × Int32 × Unit) => px u.1 u.2.1 ) (xcB D dA (va_A [(q_x0, .inr (1, [.int x0_courtiers, .ref x0_dignities, .ref x0_favors, .ref q_x0_later, .int x0_rules, .ref x0_requests, .int x0_width, .int x0_granted, .long x0_spent, .int x0_gained, .int x0_lost])), (q_x0_later, .inl (dA 0, 8, .inl a_x0_later))] sz) (["java/lang/IndexOutOfBoundsException", "java/lang/IllegalArgumentException", "java/lang/IllegalStateException"] : List String) (fun (u : String × Int32 × Unit) => [(q_x0, .inr (1, [.int x0_courtiers, .ref x0_dignities, .ref x0_favors, .ref q_x0_later, .int x0_rules, .ref x0_requests, .int x0_width, .int x0_granted, .long x0_spent, .int x0_gained, .int x0_lost])), (q_x0_later, .inl (dA 0, 8, .inl a_x0_later))])) (va_A [(q_x0, .inr (1, [.int x0_courtiers, .ref x0_dignities, .ref x0_favors, .ref q_x0_later, .int x0_rules, .ref x0_requests, .int x0_width, .int x0_granted, .long x0_spent, .int x0_gained, .int x0_lost])), (q_x0_later, .inl (dA 0, 8, .inl a_x0_later))] sz)) bc0 bs0 (va_A [(q_x0, .inr (1, [.int x0_courtiers, .ref x0_dignities, .ref x0_favors, .ref q_x0_later, .int x0_rules, .ref x0_requests, .int x0_width, .int x0_granted, .long x0_spent, .int x0_gained, .int x0_lost])), (q_x0_later, .inl (dA 0, 8, .inl a_x0_later))] sz) := by
  refine vx_ofW (cc := cX2_addRule) (maxL := 3) (ret := (some .int)) (by decide) rfl ?_
  intro p e s m args below meth c s₁ B hml htab hv
  obtain ⟨rfl, hsz, hP, hK, hD0, hC⟩ := hv
  have hx := B.exec
  have hb := B.bytes
  have hr := B.returns
  have hts := atoms_spec (ws := (ws_ yX2_addRule cX2_addRule 3 (some .int))) B.pre
  have hts : ∀ w ∈ lw_all, w.before _ s = true := fun w h => hts w (List.mem_cons_of_mem _ h)
  have hown : s.vm.findClass RX2 = some m.cls := findClass_of_methodNamed B.named
  have hlocks := B.notSynchronized
  have hSx : CallFix p m c cX2_addRule 3 s _ lw_all RX2 := ⟨hx, hb, hml, hown, hts⟩
  subst hsz
  have hD := hD0.self (sz := s.heap.size)
  generalize hAe : va_A [(q_x0, .inr (1, [.int x0_courtiers, .ref x0_dignities, .ref x0_favors, .ref q_x0_later, .int x0_rules, .ref x0_requests, .int x0_width, .int x0_granted, .long x0_spent, .int x0_gained, .int x0_lost])), (q_x0_later, .inl (dA 0, 8, .inl a_x0_later))] s.heap.size = A at hD hC ⊢
  have hA : ∀ q : Nat, s.heap.size ≤ q → A q := fun q h => by rw [← hAe]; exact Or.inr h
  have hS : va_S A s.heap s.heap [] := va_S.rf
  have hbud : 0 + bc0 ≤ bc0 ∧ 0 + bs0 ≤ bs0 := by omega
  have hNW := hC.1
  have hl := lv_entry ([.ref q_x0, .int x1, .int x2]) (n := 3) (Nat.le_of_ble_eq_true rfl)
  rw [lg_entry_eq]
  generalize (lg_sl ([.ref q_x0, .int x1, .int x2]) ++ List.replicate (3 - (lg_sl ([.ref q_x0, .int x1, .int x2])).length) Slot.unset).toArray = ls at hl ⊢
  have hl : lv_has ls 3 [(0, .ref q_x0), (1, .int x1), (2, .int x2)] := hl
  have hL46 : ∀  (bc bs kc ks : Nat) (s0 : Int32) (H : Heap) (locs : List Loc) (ls : Array Slot), kc + bc ≤ bc0 ∧ ks + bs ≤ bs0 → va_P D vwCl [(q_x0, .inr (1, [.int x0_courtiers, .ref x0_dignities, .ref x0_favors, .ref q_x0_later, .int x0_rules, .ref x0_requests, .int x0_width, .int x0_granted, .long x0_spent, .int x0_gained, .int x0_lost])), (q_x0_later, .inl (dA 0, 8, .inl a_x0_later))] H → va_D A [(q_x0, .inr (1, [.int x0_courtiers, .ref x0_dignities, .ref x0_favors, .ref q_x0_later, .int x0_rules, .ref x0_requests, .int x0_width, .int x0_granted, .long x0_spent, .int x0_gained, .int x0_lost])), (q_x0_later, .inl (dA 0, 8, .inl a_x0_later))] → va_S A s.heap H locs → lv_has ls 3 [(0, .ref q_x0), (1, .int x1), (2, .int x2)] → (w_X2_addRule_46 post px a_x0_later x0_rules x1 x2) bc bs s0 → W p l e (headSpec (ws_ yX2_addRule cX2_addRule 3 (some .int)) (rm_X2_addRule bc0 bs0)).room s m ([.ref q_x0, .int x1, .int x2] : List Value).toArray below meth c H locs kc ks (vx_MQ below (va_Qi (fun (r : Int32) (u : (Nat → Int32)) => post r u) (fun (u : (Nat → Int32)) t => wrQ D dA A [(q_x0, .inr (1, [.int x0_courtiers, .ref x0_dignities, .ref x0_favors, .ref q_x0_later, .int (x0_rules + (nI 1)), .ref x0_requests, .int x0_width, .int x0_granted, .long x0_spent, .int x0_gained, .int x0_lost])), (q_x0_later, .inl (dA 0, 8, .inl u))] t) A) (vx_X (fun (u : String × Int32 × Unit) => px u.1 u.2.1 ) (xcB D dA A (["java/lang/IndexOutOfBoundsException", "java/lang/IllegalArgumentException", "java/lang/IllegalStateException"] : List String) (fun (u : String × Int32 × Unit) => [(q_x0, .inr (1, [.int x0_courtiers, .ref x0_dignities, .ref x0_favors, .ref q_x0_later, .int x0_rules, .ref x0_requests, .int x0_width, .int x0_granted, .long x0_spent, .int x0_gained, .int x0_lost])), (q_x0_later, .inl (dA 0, 8, .inl a_x0_later))])) A) ([.ref q_x0, .int x1, .int x2] : List Value).toArray s bc0 bs0 A) (F0 m 46 ls [.int s0]) := by
      intro  bc bs kc ks s0 H locs ls hbud hP hD hS hl hw
      obtain ⟨b55, b56, h57, h58, hw⟩ := hw
      refine kx_wv (wn := fun (u : Unit) => [(q_x0, .inr (1, [.int x0_courtiers, .ref x0_dignities, .ref x0_favors, .ref q_x0_later, .int x0_rules, .ref x0_requests, .int x0_width, .int x0_granted, .long x0_spent, .int x0_gained, .int x0_lost])), (q_x0_later, .inl (dA 0, 8, .inl a_x0_later))]) (wxn := fun (u : String × Int32 × Unit) => [(q_x0, .inr (1, [.int x0_courtiers, .ref x0_dignities, .ref x0_favors, .ref q_x0_later, .int x0_rules, .ref x0_requests, .int x0_width, .int x0_granted, .long x0_spent, .int x0_gained, .int x0_lost])), (q_x0_later, .inl (dA 0, 8, .inl a_x0_later))]) (wr := [(q_x0, .inr (1, [.int x0_courtiers, .ref x0_dignities, .ref x0_favors, .ref q_x0_later, .int x0_rules, .ref x0_requests, .int x0_width, .int x0_granted, .long x0_spent, .int x0_gained, .int x0_lost])), (q_x0_later, .inl (dA 0, 8, .inl a_x0_later))]) (xc_wSN (As := [.int s0]) (rest := []) hSx (met_X1_checkState l hst D dA cx _ b55 b56 s0 _ _ hw) hNW q1152 q1154 q67 q1153 hd_X1_checkState ⟨Nat.le_of_ble_eq_true rfl, Nat.le_of_ble_eq_true rfl⟩ rfl rfl hP hK hD hS hA (hC.kept hS.2.1) [] rfl (by decide) rfl rfl hl.1 (Nat.le_of_ble_eq_true rfl) rfl dX2_addRule_46 ⟨(show kc + b55 ≤ bc0 by omega), (show ks + b56 ≤ bs0 by omega)⟩) hP hD hS hA [] [0, 1] rfl rfl (by decide) (by decide) (fun _ => rfl) (fun _ => rfl) (fun u q9 ce H locs hw hin hpo _ hP hD hS hce hcv hcl => ?_) (fun u H locs hw _ hP hD hS => ?_)
      · obtain ⟨E53, o54, u9⟩ := u
        have hP : va_P D vwCl [(q_x0, .inr (1, [.int x0_courtiers, .ref x0_dignities, .ref x0_favors, .ref q_x0_later, .int x0_rules, .ref x0_requests, .int x0_width, .int x0_granted, .long x0_spent, .int x0_gained, .int x0_lost])), (q_x0_later, .inl (dA 0, 8, .inl a_x0_later))] H := hP
        have hD : va_D A [(q_x0, .inr (1, [.int x0_courtiers, .ref x0_dignities, .ref x0_favors, .ref q_x0_later, .int x0_rules, .ref x0_requests, .int x0_width, .int x0_granted, .long x0_spent, .int x0_gained, .int x0_lost])), (q_x0_later, .inl (dA 0, 8, .inl a_x0_later))] := hD
        have hbud : (kc + b55) + (bc - b55) ≤ bc0 ∧ (ks + b56) + (bs - b56) ≤ bs0 := by omega
        refine vx_widen (k := bc0) (n := bs0) (by omega) (by omega) ?_
        exact kx_out (fun x hx => (htab x hx).elim) hlocks (E53, o54, ()) hce hcv hcl hw ((show ∀ z ∈ (["java/lang/IllegalStateException"] : List String), z ∈ (["java/lang/IndexOutOfBoundsException", "java/lang/IllegalArgumentException", "java/lang/IllegalStateException"] : List String) from by decide) _ hin) hpo (hP.sub [0, 1] rfl) hK (hD.sub [0, 1] (by decide) rfl) hS (Nat.le_refl _) (Nat.le_refl _)
      · have h0 := trivial
        have hP : va_P D vwCl [(q_x0, .inr (1, [.int x0_courtiers, .ref x0_dignities, .ref x0_favors, .ref q_x0_later, .int x0_rules, .ref x0_requests, .int x0_width, .int x0_granted, .long x0_spent, .int x0_gained, .int x0_lost])), (q_x0_later, .inl (dA 0, 8, .inl a_x0_later))] H := hP
        have hD : va_D A [(q_x0, .inr (1, [.int x0_courtiers, .ref x0_dignities, .ref x0_favors, .ref q_x0_later, .int x0_rules, .ref x0_requests, .int x0_width, .int x0_granted, .long x0_spent, .int x0_gained, .int x0_lost])), (q_x0_later, .inl (dA 0, 8, .inl a_x0_later))] := hD
        have hbud : (kc + b55) + (bc - b55) ≤ bc0 ∧ (ks + b56) + (bs - b56) ≤ bs0 := by omega
        refine lv_aload_n hx hb dX2_addRule_49 rfl (lv_at hl 0 rfl) ?_
        refine va_get (D := D) (ci := 1) (v := .ref q_x0_later) (C := RX2) (T := TX2) (N := 11) hx hb hts in_X2 hown hK hP 0 rfl rfl 3 (by decide) (hts _ q155) (fun _ h9 => h9) rfl dX2_addRule_50 ?_
        refine lv_iload_n hx hb dX2_addRule_53 rfl (lv_at hl 1 rfl) ?_
        refine lv_dup2_11 hx hb dX2_addRule_54 rfl rfl ?_
        obtain ⟨h59, hw⟩ := hw
        refine k_iald (k := x1.toNatClampNeg) hx hb hK hP 1 0 rfl rfl rfl h59 dX2_addRule_55 ?_
        refine lv_iconst (v := (nI 1)) hx hb dX2_addRule_56 (by decide) ?_
        refine lv_iload_n hx hb dX2_addRule_57 rfl (lv_at hl 2 rfl) ?_
        refine lv_ishl hx hb dX2_addRule_58 ?_
        refine lv_ior hx hb dX2_addRule_59 ?_
        obtain ⟨h60, hw⟩ := hw
        refine k_iast (k := x1.toNatClampNeg) hx hb hK hP hD hS 1 0 rfl rfl rfl h60 dX2_addRule_60 (fun H locs hP hD hS => ?_)
        have hP : va_P D vwCl [(q_x0, .inr (1, [.int x0_courtiers, .ref x0_dignities, .ref x0_favors, .ref q_x0_later, .int x0_rules, .ref x0_requests, .int x0_width, .int x0_granted, .long x0_spent, .int x0_gained, .int x0_lost])), (q_x0_later, .inl (dA 0, 8, .inl (upd a_x0_later x1.toNatClampNeg ((a_x0_later x1.toNatClampNeg) ||| ((nI 1) <<< (x2 &&& 31))))))] H := hP
        have hD : va_D A [(q_x0, .inr (1, [.int x0_courtiers, .ref x0_dignities, .ref x0_favors, .ref q_x0_later, .int x0_rules, .ref x0_requests, .int x0_width, .int x0_granted, .long x0_spent, .int x0_gained, .int x0_lost])), (q_x0_later, .inl (dA 0, 8, .inl (upd a_x0_later x1.toNatClampNeg ((a_x0_later x1.toNatClampNeg) ||| ((nI 1) <<< (x2 &&& 31))))))] := hD
        refine lv_aload_n hx hb dX2_addRule_61 rfl (lv_at hl 0 rfl) ?_
        refine lv_dup hx hb dX2_addRule_62 rfl ?_
        refine va_get (D := D) (ci := 1) (v := .int x0_rules) (C := RX2) (T := TX2) (N := 11) hx hb hts in_X2 hown hK hP 0 rfl rfl 4 (by decide) (hts _ q156) (fun _ h9 => h9) rfl dX2_addRule_63 ?_
        refine lv_iconst (v := (nI 1)) hx hb dX2_addRule_66 (by decide) ?_
        refine lv_iadd hx hb dX2_addRule_67 ?_
        refine va_put (D := D) (ci := 1) (v := .int (x0_rules + (nI 1))) (ty := (.int)) (C := RX2) (T := TX2) (N := 11) hx hb hts in_X2 tyX2 tyX2_ok nmX2 hown hK hP hD hS 0 rfl rfl 4 (by decide) (hts _ q156) (fun _ h9 => h9) rfl (by decide +kernel) rfl rfl (Nat.le_of_ble_eq_true rfl) dX2_addRule_68 (fun H locs hP hD hS => ?_)
        have hP : va_P D vwCl [(q_x0, .inr (1, [.int x0_courtiers, .ref x0_dignities, .ref x0_favors, .ref q_x0_later, .int (x0_rules + (nI 1)), .ref x0_requests, .int x0_width, .int x0_granted, .long x0_spent, .int x0_gained, .int x0_lost])), (q_x0_later, .inl (dA 0, 8, .inl (upd a_x0_later x1.toNatClampNeg ((a_x0_later x1.toNatClampNeg) ||| ((nI 1) <<< (x2 &&& 31))))))] H := hP
        have hD : va_D A [(q_x0, .inr (1, [.int x0_courtiers, .ref x0_dignities, .ref x0_favors, .ref q_x0_later, .int (x0_rules + (nI 1)), .ref x0_requests, .int x0_width, .int x0_granted, .long x0_spent, .int x0_gained, .int x0_lost])), (q_x0_later, .inl (dA 0, 8, .inl (upd a_x0_later x1.toNatClampNeg ((a_x0_later x1.toNatClampNeg) ||| ((nI 1) <<< (x2 &&& 31))))))] := hD
        refine lv_aload_n hx hb dX2_addRule_71 rfl (lv_at hl 0 rfl) ?_
        refine va_get (D := D) (ci := 1) (v := .int (x0_rules + (nI 1))) (C := RX2) (T := TX2) (N := 11) hx hb hts in_X2 hown hK hP 0 rfl rfl 4 (by decide) (hts _ q156) (fun _ h9 => h9) rfl dX2_addRule_72 ?_
        refine W.widen (k := bc0) (n := bs0) (by omega) (by omega) ?_
        refine vx_ret ?_
        exact W.iret (v := (x0_rules + (nI 1))) hx hb hr (fun t ht hW => ⟨⟨(x0_rules + (nI 1)), (upd a_x0_later x1.toNatClampNeg ((a_x0_later x1.toNatClampNeg) ||| ((nI 1) <<< (x2 &&& 31)))), rfl, hw, by rw [ht]; exact hP.sub [0, 1] rfl, va_K.moved hW.alike hK, hD.sub [0, 1] (by decide) rfl⟩, hS.F ht⟩) hS.2.2 dX2_addRule_75
  have hL45 : ∀  (bc bs kc ks : Nat)  (H : Heap) (locs : List Loc) (ls : Array Slot), kc + bc ≤ bc0 ∧ ks + bs ≤ bs0 → va_P D vwCl [(q_x0, .inr (1, [.int x0_courtiers, .ref x0_dignities, .ref x0_favors, .ref q_x0_later, .int x0_rules, .ref x0_requests, .int x0_width, .int x0_granted, .long x0_spent, .int x0_gained, .int x0_lost])), (q_x0_later, .inl (dA 0, 8, .inl a_x0_later))] H → va_D A [(q_x0, .inr (1, [.int x0_courtiers, .ref x0_dignities, .ref x0_favors, .ref q_x0_later, .int x0_rules, .ref x0_requests, .int x0_width, .int x0_granted, .long x0_spent, .int x0_gained, .int x0_lost])), (q_x0_later, .inl (dA 0, 8, .inl a_x0_later))] → va_S A s.heap H locs → lv_has ls 3 [(0, .ref q_x0), (1, .int x1), (2, .int x2)] → (w_X2_addRule_45 post px a_x0_later x0_rules x1 x2) bc bs  → W p l e (headSpec (ws_ yX2_addRule cX2_addRule 3 (some .int)) (rm_X2_addRule bc0 bs0)).room s m ([.ref q_x0, .int x1, .int x2] : List Value).toArray below meth c H locs kc ks (vx_MQ below (va_Qi (fun (r : Int32) (u : (Nat → Int32)) => post r u) (fun (u : (Nat → Int32)) t => wrQ D dA A [(q_x0, .inr (1, [.int x0_courtiers, .ref x0_dignities, .ref x0_favors, .ref q_x0_later, .int (x0_rules + (nI 1)), .ref x0_requests, .int x0_width, .int x0_granted, .long x0_spent, .int x0_gained, .int x0_lost])), (q_x0_later, .inl (dA 0, 8, .inl u))] t) A) (vx_X (fun (u : String × Int32 × Unit) => px u.1 u.2.1 ) (xcB D dA A (["java/lang/IndexOutOfBoundsException", "java/lang/IllegalArgumentException", "java/lang/IllegalStateException"] : List String) (fun (u : String × Int32 × Unit) => [(q_x0, .inr (1, [.int x0_courtiers, .ref x0_dignities, .ref x0_favors, .ref q_x0_later, .int x0_rules, .ref x0_requests, .int x0_width, .int x0_granted, .long x0_spent, .int x0_gained, .int x0_lost])), (q_x0_later, .inl (dA 0, 8, .inl a_x0_later))])) A) ([.ref q_x0, .int x1, .int x2] : List Value).toArray s bc0 bs0 A) (F0 m 45 ls []) := by
      intro  bc bs kc ks  H locs ls hbud hP hD hS hl hw
      refine lv_iconst (v := (nI 0)) hx hb dX2_addRule_45 (by decide) ?_
      exact hL46  bc bs kc ks (nI 0) _ _ _ hbud (hP.sub [0, 1] rfl) (hD.sub [0, 1] (by decide) rfl) hS (lv_sub hl [0, 1, 2] rfl) hw
  have hL16 : ∀  (bc bs kc ks : Nat) (s0 : Int32) (H : Heap) (locs : List Loc) (ls : Array Slot), kc + bc ≤ bc0 ∧ ks + bs ≤ bs0 → va_P D vwCl [(q_x0, .inr (1, [.int x0_courtiers, .ref x0_dignities, .ref x0_favors, .ref q_x0_later, .int x0_rules, .ref x0_requests, .int x0_width, .int x0_granted, .long x0_spent, .int x0_gained, .int x0_lost])), (q_x0_later, .inl (dA 0, 8, .inl a_x0_later))] H → va_D A [(q_x0, .inr (1, [.int x0_courtiers, .ref x0_dignities, .ref x0_favors, .ref q_x0_later, .int x0_rules, .ref x0_requests, .int x0_width, .int x0_granted, .long x0_spent, .int x0_gained, .int x0_lost])), (q_x0_later, .inl (dA 0, 8, .inl a_x0_later))] → va_S A s.heap H locs → lv_has ls 3 [(0, .ref q_x0), (1, .int x1), (2, .int x2)] → (w_X2_addRule_16 post px x0_courtiers a_x0_later x0_rules x1 x2) bc bs s0 → W p l e (headSpec (ws_ yX2_addRule cX2_addRule 3 (some .int)) (rm_X2_addRule bc0 bs0)).room s m ([.ref q_x0, .int x1, .int x2] : List Value).toArray below meth c H locs kc ks (vx_MQ below (va_Qi (fun (r : Int32) (u : (Nat → Int32)) => post r u) (fun (u : (Nat → Int32)) t => wrQ D dA A [(q_x0, .inr (1, [.int x0_courtiers, .ref x0_dignities, .ref x0_favors, .ref q_x0_later, .int (x0_rules + (nI 1)), .ref x0_requests, .int x0_width, .int x0_granted, .long x0_spent, .int x0_gained, .int x0_lost])), (q_x0_later, .inl (dA 0, 8, .inl u))] t) A) (vx_X (fun (u : String × Int32 × Unit) => px u.1 u.2.1 ) (xcB D dA A (["java/lang/IndexOutOfBoundsException", "java/lang/IllegalArgumentException", "java/lang/IllegalStateException"] : List String) (fun (u : String × Int32 × Unit) => [(q_x0, .inr (1, [.int x0_courtiers, .ref x0_dignities, .ref x0_favors, .ref q_x0_later, .int x0_rules, .ref x0_requests, .int x0_width, .int x0_granted, .long x0_spent, .int x0_gained, .int x0_lost])), (q_x0_later, .inl (dA 0, 8, .inl a_x0_later))])) A) ([.ref q_x0, .int x1, .int x2] : List Value).toArray s bc0 bs0 A) (F0 m 16 ls [.int s0]) := by
      intro  bc bs kc ks s0 H locs ls hbud hP hD hS hl hw
      obtain ⟨b63, b64, h65, h66, hw⟩ := hw
      refine kx_wv (wn := fun (u : Unit) => [(q_x0, .inr (1, [.int x0_courtiers, .ref x0_dignities, .ref x0_favors, .ref q_x0_later, .int x0_rules, .ref x0_requests, .int x0_width, .int x0_granted, .long x0_spent, .int x0_gained, .int x0_lost])), (q_x0_later, .inl (dA 0, 8, .inl a_x0_later))]) (wxn := fun (u : String × Int32 × Unit) => [(q_x0, .inr (1, [.int x0_courtiers, .ref x0_dignities, .ref x0_favors, .ref q_x0_later, .int x0_rules, .ref x0_requests, .int x0_width, .int x0_granted, .long x0_spent, .int x0_gained, .int x0_lost])), (q_x0_later, .inl (dA 0, 8, .inl a_x0_later))]) (wr := [(q_x0, .inr (1, [.int x0_courtiers, .ref x0_dignities, .ref x0_favors, .ref q_x0_later, .int x0_rules, .ref x0_requests, .int x0_width, .int x0_granted, .long x0_spent, .int x0_gained, .int x0_lost])), (q_x0_later, .inl (dA 0, 8, .inl a_x0_later))]) (xc_wSN (As := [.int s0]) (rest := []) hSx (met_X1_checkArgument l hst D dA cx _ b63 b64 s0 _ _ hw) hNW q1144 q1146 q67 q1145 hd_X1_checkArgument ⟨Nat.le_of_ble_eq_true rfl, Nat.le_of_ble_eq_true rfl⟩ rfl rfl hP hK hD hS hA (hC.kept hS.2.1) [] rfl (by decide) rfl rfl hl.1 (Nat.le_of_ble_eq_true rfl) rfl dX2_addRule_16 ⟨(show kc + b63 ≤ bc0 by omega), (show ks + b64 ≤ bs0 by omega)⟩) hP hD hS hA [] [0, 1] rfl rfl (by decide) (by decide) (fun _ => rfl) (fun _ => rfl) (fun u q9 ce H locs hw hin hpo _ hP hD hS hce hcv hcl => ?_) (fun u H locs hw _ hP hD hS => ?_)
      · obtain ⟨E61, o62, u9⟩ := u
        have hP : va_P D vwCl [(q_x0, .inr (1, [.int x0_courtiers, .ref x0_dignities, .ref x0_favors, .ref q_x0_later, .int x0_rules, .ref x0_requests, .int x0_width, .int x0_granted, .long x0_spent, .int x0_gained, .int x0_lost])), (q_x0_later, .inl (dA 0, 8, .inl a_x0_later))] H := hP
        have hD : va_D A [(q_x0, .inr (1, [.int x0_courtiers, .ref x0_dignities, .ref x0_favors, .ref q_x0_later, .int x0_rules, .ref x0_requests, .int x0_width, .int x0_granted, .long x0_spent, .int x0_gained, .int x0_lost])), (q_x0_later, .inl (dA 0, 8, .inl a_x0_later))] := hD
        have hbud : (kc + b63) + (bc - b63) ≤ bc0 ∧ (ks + b64) + (bs - b64) ≤ bs0 := by omega
        refine vx_widen (k := bc0) (n := bs0) (by omega) (by omega) ?_
        exact kx_out (fun x hx => (htab x hx).elim) hlocks (E61, o62, ()) hce hcv hcl hw ((show ∀ z ∈ (["java/lang/IllegalArgumentException"] : List String), z ∈ (["java/lang/IndexOutOfBoundsException", "java/lang/IllegalArgumentException", "java/lang/IllegalStateException"] : List String) from by decide) _ hin) hpo (hP.sub [0, 1] rfl) hK (hD.sub [0, 1] (by decide) rfl) hS (Nat.le_refl _) (Nat.le_refl _)
      · have h0 := trivial
        have hP : va_P D vwCl [(q_x0, .inr (1, [.int x0_courtiers, .ref x0_dignities, .ref x0_favors, .ref q_x0_later, .int x0_rules, .ref x0_requests, .int x0_width, .int x0_granted, .long x0_spent, .int x0_gained, .int x0_lost])), (q_x0_later, .inl (dA 0, 8, .inl a_x0_later))] H := hP
        have hD : va_D A [(q_x0, .inr (1, [.int x0_courtiers, .ref x0_dignities, .ref x0_favors, .ref q_x0_later, .int x0_rules, .ref x0_requests, .int x0_width, .int x0_granted, .long x0_spent, .int x0_gained, .int x0_lost])), (q_x0_later, .inl (dA 0, 8, .inl a_x0_later))] := hD
        have hbud : (kc + b63) + (bc - b63) ≤ bc0 ∧ (ks + b64) + (bs - b64) ≤ bs0 := by omega
        refine lv_aload_n hx hb dX2_addRule_19 rfl (lv_at hl 0 rfl) ?_
        refine va_get (D := D) (ci := 1) (v := .ref q_x0_later) (C := RX2) (T := TX2) (N := 11) hx hb hts in_X2 hown hK hP 0 rfl rfl 3 (by decide) (hts _ q155) (fun _ h9 => h9) rfl dX2_addRule_20 ?_
        refine lv_iload_n hx hb dX2_addRule_23 rfl (lv_at hl 1 rfl) ?_
        obtain ⟨h67, hw⟩ := hw
        refine k_iald (k := x1.toNatClampNeg) hx hb hK hP 1 0 rfl rfl rfl h67 dX2_addRule_24 ?_
        refine lv_iload_n hx hb dX2_addRule_25 rfl (lv_at hl 2 rfl) ?_
        refine k_ri (kc_pSN (As := [.int (a_x0_later x1.toNatClampNeg), .int x2]) (rest := []) hSx (met_X1_isIn l (a_x0_later x1.toNatClampNeg) x2 _ hw) hNW q423 q425 q67 q424 hd_X1_isIn ⟨Nat.le_of_ble_eq_true rfl, Nat.le_of_ble_eq_true rfl⟩ rfl rfl rfl hl.1 (Nat.le_of_ble_eq_true rfl) rfl dX2_addRule_26 ⟨(show (kc + b63) + 0 ≤ bc0 by omega), (show (ks + b64) + 0 ≤ bs0 by omega)⟩) (fun r68 hw => ?_)
        refine lv_if_ne (tgt := 45) hx hb dX2_addRule_29 (by decide) (fun c69 => ?_) (fun c69 => ?_)
        · have hw := hw.2 c69
          exact hL45  (bc - b63) (bs - b64) (kc + b63) (ks + b64)  _ _ _ hbud (hP.sub [0, 1] rfl) (hD.sub [0, 1] (by decide) rfl) hS (lv_sub hl [0, 1, 2] rfl) hw
        · have hw := hw.1 c69
          refine lv_aload_n hx hb dX2_addRule_32 rfl (lv_at hl 0 rfl) ?_
          refine lv_iload_n hx hb dX2_addRule_33 rfl (lv_at hl 2 rfl) ?_
          refine lv_iload_n hx hb dX2_addRule_34 rfl (lv_at hl 1 rfl) ?_
          refine k_ri (kc_rV (As := [.int x2, .int x1]) (rest := []) hSx (met_X2_precedes l D dA cx q_x0 x0_courtiers x0_dignities x0_favors q_x0_later a_x0_later x0_rules x0_requests x0_width x0_granted x0_spent x0_gained x0_lost x2 x1 _ hw) gX2_110 ⟨rfl, hd_X2_precedes⟩ ⟨Nat.le_of_ble_eq_true rfl, Nat.le_of_ble_eq_true rfl⟩ rfl rfl hP hK (hC.kept hS.2.1) [0, 1] rfl 0 rfl rfl rfl rfl hl.1 (Nat.le_of_ble_eq_true rfl) rfl dX2_addRule_35 ⟨(show (kc + b63) + 0 ≤ bc0 by omega), (show (ks + b64) + 0 ≤ bs0 by omega)⟩) (fun r70 hw => ?_)
          refine lv_if_ne (tgt := 45) hx hb dX2_addRule_38 (by decide) (fun c71 => ?_) (fun c71 => ?_)
          · have hw := hw.2 c71
            exact hL45  (bc - b63) (bs - b64) (kc + b63) (ks + b64)  _ _ _ hbud (hP.sub [0, 1] rfl) (hD.sub [0, 1] (by decide) rfl) hS (lv_sub hl [0, 1, 2] rfl) hw
          · have hw := hw.1 c71
            refine lv_iconst (v := (nI 1)) hx hb dX2_addRule_41 (by decide) ?_
            refine lv_goto (tgt := 46) hx hb dX2_addRule_42 (by decide) ?_
            exact hL46  (bc - b63) (bs - b64) (kc + b63) (ks + b64) (nI 1) _ _ _ hbud (hP.sub [0, 1] rfl) (hD.sub [0, 1] (by decide) rfl) hS (lv_sub hl [0, 1, 2] rfl) hw
  refine lv_aload_n hx hb dX2_addRule_0 rfl (lv_at hl 0 rfl) ?_
  refine lv_iload_n hx hb dX2_addRule_1 rfl (lv_at hl 1 rfl) ?_
  refine lv_iload_n hx hb dX2_addRule_2 rfl (lv_at hl 2 rfl) ?_
  obtain ⟨b74, b75, h76, h77, hw⟩ := hw
  refine kx_wv (wn := fun (u : Unit) => [(q_x0_later, .inl (dA 0, 8, .inl a_x0_later)), (q_x0, .inr (1, [.int x0_courtiers, .ref x0_dignities, .ref x0_favors, .ref q_x0_later, .int x0_rules, .ref x0_requests, .int x0_width, .int x0_granted, .long x0_spent, .int x0_gained, .int x0_lost]))]) (wxn := fun (u : String × Int32 × Unit) => [(q_x0_later, .inl (dA 0, 8, .inl a_x0_later)), (q_x0, .inr (1, [.int x0_courtiers, .ref x0_dignities, .ref x0_favors, .ref q_x0_later, .int x0_rules, .ref x0_requests, .int x0_width, .int x0_granted, .long x0_spent, .int x0_gained, .int x0_lost]))]) (wr := [(q_x0_later, .inl (dA 0, 8, .inl a_x0_later))]) (xc_wV (As := [.int x1, .int x2]) (rest := []) hSx (met_X2_checkCourtiers l hst D dA cx _ b74 b75 q_x0 x0_courtiers x0_dignities x0_favors q_x0_later x0_rules x0_requests x0_width x0_granted x0_spent x0_gained x0_lost x1 x2 _ _ hw) gX2_113 ⟨rfl, hd_X2_checkCourtiers⟩ ⟨Nat.le_of_ble_eq_true rfl, Nat.le_of_ble_eq_true rfl⟩ rfl rfl hP hK hD hS hA (hC.kept hS.2.1) [0] rfl (by decide) rfl 0 rfl rfl rfl rfl hl.1 (Nat.le_of_ble_eq_true rfl) rfl dX2_addRule_3 ⟨(show 0 + b74 ≤ bc0 by omega), (show 0 + b75 ≤ bs0 by omega)⟩) hP hD hS hA [0] [1] rfl rfl (by decide) (by decide) (fun _ => rfl) (fun _ => rfl) (fun u q9 ce H locs hw hin hpo _ hP hD hS hce hcv hcl => ?_) (fun u H locs hw _ hP hD hS => ?_)
  · obtain ⟨E72, o73, u9⟩ := u
    have hP : va_P D vwCl [(q_x0_later, .inl (dA 0, 8, .inl a_x0_later)), (q_x0, .inr (1, [.int x0_courtiers, .ref x0_dignities, .ref x0_favors, .ref q_x0_later, .int x0_rules, .ref x0_requests, .int x0_width, .int x0_granted, .long x0_spent, .int x0_gained, .int x0_lost]))] H := hP
    have hD : va_D A [(q_x0_later, .inl (dA 0, 8, .inl a_x0_later)), (q_x0, .inr (1, [.int x0_courtiers, .ref x0_dignities, .ref x0_favors, .ref q_x0_later, .int x0_rules, .ref x0_requests, .int x0_width, .int x0_granted, .long x0_spent, .int x0_gained, .int x0_lost]))] := hD
    have hbud : (0 + b74) + (bc0 - b74) ≤ bc0 ∧ (0 + b75) + (bs0 - b75) ≤ bs0 := by omega
    refine vx_widen (k := bc0) (n := bs0) (by omega) (by omega) ?_
    exact kx_out (fun x hx => (htab x hx).elim) hlocks (E72, o73, ()) hce hcv hcl hw ((show ∀ z ∈ (["java/lang/IndexOutOfBoundsException"] : List String), z ∈ (["java/lang/IndexOutOfBoundsException", "java/lang/IllegalArgumentException", "java/lang/IllegalStateException"] : List String) from by decide) _ hin) hpo (hP.sub [1, 0] rfl) hK (hD.sub [1, 0] (by decide) rfl) hS (Nat.le_refl _) (Nat.le_refl _)
  · have h0 := trivial
    have hP : va_P D vwCl [(q_x0_later, .inl (dA 0, 8, .inl a_x0_later)), (q_x0, .inr (1, [.int x0_courtiers, .ref x0_dignities, .ref x0_favors, .ref q_x0_later, .int x0_rules, .ref x0_requests, .int x0_width, .int x0_granted, .long x0_spent, .int x0_gained, .int x0_lost]))] H := hP
    have hD : va_D A [(q_x0_later, .inl (dA 0, 8, .inl a_x0_later)), (q_x0, .inr (1, [.int x0_courtiers, .ref x0_dignities, .ref x0_favors, .ref q_x0_later, .int x0_rules, .ref x0_requests, .int x0_width, .int x0_granted, .long x0_spent, .int x0_gained, .int x0_lost]))] := hD
    have hbud : (0 + b74) + (bc0 - b74) ≤ bc0 ∧ (0 + b75) + (bs0 - b75) ≤ bs0 := by omega
    refine lv_iload_n hx hb dX2_addRule_6 rfl (lv_at hl 1 rfl) ?_
    refine lv_iload_n hx hb dX2_addRule_7 rfl (lv_at hl 2 rfl) ?_
    refine lv_icmp_eq (tgt := 15) hx hb dX2_addRule_8 (by decide) (fun c78 => ?_) (fun c78 => ?_)
    · have hw := hw.1 c78
      refine lv_iconst (v := (nI 0)) hx hb dX2_addRule_15 (by decide) ?_
      exact hL16  (bc0 - b74) (bs0 - b75) (0 + b74) (0 + b75) (nI 0) _ _ _ hbud (hP.sub [1, 0] rfl) (hD.sub [1, 0] (by decide) rfl) hS (lv_sub hl [0, 1, 2] rfl) hw
    · have hw := hw.2 c78
      refine lv_iconst (v := (nI 1)) hx hb dX2_addRule_11 (by decide) ?_
      refine lv_goto (tgt := 16) hx hb dX2_addRule_12 (by decide) ?_
      exact hL16  (bc0 - b74) (bs0 - b75) (0 + b74) (0 + b75) (nI 1) _ _ _ hbud (hP.sub [1, 0] rfl) (hD.sub [1, 0] (by decide) rfl) hS (lv_sub hl [0, 1, 2] rfl) hw
def w_X2_removeRule (post : Int32 → (Nat → Int32) → Prop) (px : String → Int32 → Prop) (bc bs : Nat) (x0_courtiers : Int32) (a_x0_later : (Nat → Int32)) (x0_rules : Int32) (x1 : Int32) (x2 : Int32) : Prop :=
  (∃ b19 b20 : Nat, b19 ≤ bc ∧ b20 ≤ bs ∧ w_X2_checkCourtiers ((vp_in x1 8 ∧ w_X1_isIn (fun r24 => (∃ b27 b28 : Nat, b27 ≤ (bc - b19) ∧ b28 ≤ (bs - b20) ∧ w_X1_checkElement ((vp_in x1 8 ∧ (vp_in x1 8 ∧ post (x0_rules - (nI 1)) (upd a_x0_later x1.toNatClampNeg ((a_x0_later x1.toNatClampNeg) &&& (((nI 1) <<< (x2 &&& 31)) ^^^ (-1))))))) (fun E25 o26 => px E25 o26 ) b27 b28 r24)) (a_x0_later x1.toNatClampNeg) x2)) (fun E17 o18 => px E17 o18 ) b19 b20 x0_courtiers x1 x2)
def rm_X2_removeRule (bc0 bs0 : Nat) : Room := { frames := 9, cells := bc0, slots := bs0, locals := 152 }
set_option maxHeartbeats 4000000 in
set_option maxRecDepth 100000 in
theorem met_X2_removeRule (l : Launch) (hst : l.stackTraces = false) (D : va_G) (dA : Nat → ClassId) (cx : CXt) (sz : Nat) (bc0 bs0 : Nat) (q_x0 : Nat) (x0_courtiers : Int32) (x0_dignities : Nat) (x0_favors : Nat) (q_x0_later : Nat) (a_x0_later : (Nat → Int32)) (x0_rules : Int32) (x0_requests : Nat) (x0_width : Int32) (x0_granted : Int32) (x0_spent : Int64) (x0_gained : Int32) (x0_lost : Int32) (x1 : Int32) (x2 : Int32) (post : Int32 → (Nat → Int32) → Prop) (px : String → Int32 → Prop) (hw : w_X2_removeRule post px bc0 bs0 x0_courtiers a_x0_later x0_rules x1 x2) : vx_Met l yX2_removeRule (ws_ yX2_removeRule cX2_removeRule 3 (some .int)) (rm_X2_removeRule bc0 bs0) (va_Pc [.ref q_x0, .int x1, .int x2] (wrC D dA cx sz [(q_x0, .inr (1, [.int x0_courtiers, .ref x0_dignities, .ref x0_favors, .ref q_x0_later, .int x0_rules, .ref x0_requests, .int x0_width, .int x0_granted, .long x0_spent, .int x0_gained, .int x0_lost])), (q_x0_later, .inl (dA 0, 8, .inl a_x0_later))])) (va_Qi (fun (r : Int32) (u : (Nat → Int32)) => post r u) (fun (u : (Nat → Int32)) t => wrQ D dA (va_A [(q_x0, .inr (1, [.int x0_courtiers, .ref x0_dignities, .ref x0_favors, .ref q_x0_later, .int x0_rules, .ref x0_requests, .int x0_width, .int x0_granted, .long x0_spent, .int x0_gained, .int x0_lost])), (q_x0_later, .inl (dA 0, 8, .inl a_x0_later))] sz) [(q_x0, .inr (1, [.int x0_courtiers, .ref x0_dignities, .ref x0_favors, .ref q_x0_later, .int (x0_rules - (nI 1)), .ref x0_requests, .int x0_width, .int x0_granted, .long x0_spent, .int x0_gained, .int x0_lost])), (q_x0_later, .inl (dA 0, 8, .inl u))] t) (va_A [(q_x0, .inr (1, [.int x0_courtiers, .ref x0_dignities, .ref x0_favors, .ref q_x0_later, .int x0_rules, .ref x0_requests, .int x0_width, .int x0_granted, .long x0_spent, .int x0_gained, .int x0_lost])), (q_x0_later, .inl (dA 0, 8, .inl a_x0_later))] sz)) (vx_X (fun (u : String × Int32 × Unit) => px u.1 u.2.1 ) (xcB D dA (va_A [(q_x0, .inr (1, [.int x0_courtiers, .ref x0_dignities, .ref x0_favors, .ref q_x0_later, .int x0_rules, .ref x0_requests, .int x0_width, .int x0_granted, .long x0_spent, .int x0_gained, .int x0_lost])), (q_x0_later, .inl (dA 0, 8, .inl a_x0_later))] sz) (["java/lang/IndexOutOfBoundsException", "java/util/NoSuchElementException"] : List String) (fun (u : String × Int32 × Unit) => [(q_x0, .inr (1, [.int x0_courtiers, .ref x0_dignities, .ref x0_favors, .ref q_x0_later, .int x0_rules, .ref x0_requests, .int x0_width, .int x0_granted, .long x0_spent, .int x0_gained, .int x0_lost])), (q_x0_later, .inl (dA 0, 8, .inl a_x0_later))])) (va_A [(q_x0, .inr (1, [.int x0_courtiers, .ref x0_dignities, .ref x0_favors, .ref q_x0_later, .int x0_rules, .ref x0_requests, .int x0_width, .int x0_granted, .long x0_spent, .int x0_gained, .int x0_lost])), (q_x0_later, .inl (dA 0, 8, .inl a_x0_later))] sz)) bc0 bs0 (va_A [(q_x0, .inr (1, [.int x0_courtiers, .ref x0_dignities, .ref x0_favors, .ref q_x0_later, .int x0_rules, .ref x0_requests, .int x0_width, .int x0_granted, .long x0_spent, .int x0_gained, .int x0_lost])), (q_x0_later, .inl (dA 0, 8, .inl a_x0_later))] sz) := by
  refine vx_ofW (cc := cX2_removeRule) (maxL := 3) (ret := (some .int)) (by decide) rfl ?_
  intro p e s m args below meth c s₁ B hml htab hv
  obtain ⟨rfl, hsz, hP, hK, hD0, hC⟩ := hv
  have hx := B.exec
  have hb := B.bytes
  have hr := B.returns
  have hts := atoms_spec (ws := (ws_ yX2_removeRule cX2_removeRule 3 (some .int))) B.pre
  have hts : ∀ w ∈ lw_all, w.before _ s = true := fun w h => hts w (List.mem_cons_of_mem _ h)
  have hown : s.vm.findClass RX2 = some m.cls := findClass_of_methodNamed B.named
  have hlocks := B.notSynchronized
  have hSx : CallFix p m c cX2_removeRule 3 s _ lw_all RX2 := ⟨hx, hb, hml, hown, hts⟩
  subst hsz
  have hD := hD0.self (sz := s.heap.size)
  generalize hAe : va_A [(q_x0, .inr (1, [.int x0_courtiers, .ref x0_dignities, .ref x0_favors, .ref q_x0_later, .int x0_rules, .ref x0_requests, .int x0_width, .int x0_granted, .long x0_spent, .int x0_gained, .int x0_lost])), (q_x0_later, .inl (dA 0, 8, .inl a_x0_later))] s.heap.size = A at hD hC ⊢
  have hA : ∀ q : Nat, s.heap.size ≤ q → A q := fun q h => by rw [← hAe]; exact Or.inr h
  have hS : va_S A s.heap s.heap [] := va_S.rf
  have hbud : 0 + bc0 ≤ bc0 ∧ 0 + bs0 ≤ bs0 := by omega
  have hNW := hC.1
  have hl := lv_entry ([.ref q_x0, .int x1, .int x2]) (n := 3) (Nat.le_of_ble_eq_true rfl)
  rw [lg_entry_eq]
  generalize (lg_sl ([.ref q_x0, .int x1, .int x2]) ++ List.replicate (3 - (lg_sl ([.ref q_x0, .int x1, .int x2])).length) Slot.unset).toArray = ls at hl ⊢
  have hl : lv_has ls 3 [(0, .ref q_x0), (1, .int x1), (2, .int x2)] := hl
  refine lv_aload_n hx hb dX2_removeRule_0 rfl (lv_at hl 0 rfl) ?_
  refine lv_iload_n hx hb dX2_removeRule_1 rfl (lv_at hl 1 rfl) ?_
  refine lv_iload_n hx hb dX2_removeRule_2 rfl (lv_at hl 2 rfl) ?_
  obtain ⟨b19, b20, h21, h22, hw⟩ := hw
  refine kx_wv (wn := fun (u : Unit) => [(q_x0_later, .inl (dA 0, 8, .inl a_x0_later)), (q_x0, .inr (1, [.int x0_courtiers, .ref x0_dignities, .ref x0_favors, .ref q_x0_later, .int x0_rules, .ref x0_requests, .int x0_width, .int x0_granted, .long x0_spent, .int x0_gained, .int x0_lost]))]) (wxn := fun (u : String × Int32 × Unit) => [(q_x0_later, .inl (dA 0, 8, .inl a_x0_later)), (q_x0, .inr (1, [.int x0_courtiers, .ref x0_dignities, .ref x0_favors, .ref q_x0_later, .int x0_rules, .ref x0_requests, .int x0_width, .int x0_granted, .long x0_spent, .int x0_gained, .int x0_lost]))]) (wr := [(q_x0_later, .inl (dA 0, 8, .inl a_x0_later))]) (xc_wV (As := [.int x1, .int x2]) (rest := []) hSx (met_X2_checkCourtiers l hst D dA cx _ b19 b20 q_x0 x0_courtiers x0_dignities x0_favors q_x0_later x0_rules x0_requests x0_width x0_granted x0_spent x0_gained x0_lost x1 x2 _ _ hw) gX2_113 ⟨rfl, hd_X2_checkCourtiers⟩ ⟨Nat.le_of_ble_eq_true rfl, Nat.le_of_ble_eq_true rfl⟩ rfl rfl hP hK hD hS hA (hC.kept hS.2.1) [0] rfl (by decide) rfl 0 rfl rfl rfl rfl hl.1 (Nat.le_of_ble_eq_true rfl) rfl dX2_removeRule_3 ⟨(show 0 + b19 ≤ bc0 by omega), (show 0 + b20 ≤ bs0 by omega)⟩) hP hD hS hA [0] [1] rfl rfl (by decide) (by decide) (fun _ => rfl) (fun _ => rfl) (fun u q9 ce H locs hw hin hpo _ hP hD hS hce hcv hcl => ?_) (fun u H locs hw _ hP hD hS => ?_)
  · obtain ⟨E17, o18, u9⟩ := u
    have hP : va_P D vwCl [(q_x0_later, .inl (dA 0, 8, .inl a_x0_later)), (q_x0, .inr (1, [.int x0_courtiers, .ref x0_dignities, .ref x0_favors, .ref q_x0_later, .int x0_rules, .ref x0_requests, .int x0_width, .int x0_granted, .long x0_spent, .int x0_gained, .int x0_lost]))] H := hP
    have hD : va_D A [(q_x0_later, .inl (dA 0, 8, .inl a_x0_later)), (q_x0, .inr (1, [.int x0_courtiers, .ref x0_dignities, .ref x0_favors, .ref q_x0_later, .int x0_rules, .ref x0_requests, .int x0_width, .int x0_granted, .long x0_spent, .int x0_gained, .int x0_lost]))] := hD
    have hbud : (0 + b19) + (bc0 - b19) ≤ bc0 ∧ (0 + b20) + (bs0 - b20) ≤ bs0 := by omega
    refine vx_widen (k := bc0) (n := bs0) (by omega) (by omega) ?_
    exact kx_out (fun x hx => (htab x hx).elim) hlocks (E17, o18, ()) hce hcv hcl hw ((show ∀ z ∈ (["java/lang/IndexOutOfBoundsException"] : List String), z ∈ (["java/lang/IndexOutOfBoundsException", "java/util/NoSuchElementException"] : List String) from by decide) _ hin) hpo (hP.sub [1, 0] rfl) hK (hD.sub [1, 0] (by decide) rfl) hS (Nat.le_refl _) (Nat.le_refl _)
  · have h0 := trivial
    have hP : va_P D vwCl [(q_x0_later, .inl (dA 0, 8, .inl a_x0_later)), (q_x0, .inr (1, [.int x0_courtiers, .ref x0_dignities, .ref x0_favors, .ref q_x0_later, .int x0_rules, .ref x0_requests, .int x0_width, .int x0_granted, .long x0_spent, .int x0_gained, .int x0_lost]))] H := hP
    have hD : va_D A [(q_x0_later, .inl (dA 0, 8, .inl a_x0_later)), (q_x0, .inr (1, [.int x0_courtiers, .ref x0_dignities, .ref x0_favors, .ref q_x0_later, .int x0_rules, .ref x0_requests, .int x0_width, .int x0_granted, .long x0_spent, .int x0_gained, .int x0_lost]))] := hD
    have hbud : (0 + b19) + (bc0 - b19) ≤ bc0 ∧ (0 + b20) + (bs0 - b20) ≤ bs0 := by omega
    refine lv_aload_n hx hb dX2_removeRule_6 rfl (lv_at hl 0 rfl) ?_
    refine va_get (D := D) (ci := 1) (v := .ref q_x0_later) (C := RX2) (T := TX2) (N := 11) hx hb hts in_X2 hown hK hP 1 rfl rfl 3 (by decide) (hts _ q155) (fun _ h9 => h9) rfl dX2_removeRule_7 ?_
    refine lv_iload_n hx hb dX2_removeRule_10 rfl (lv_at hl 1 rfl) ?_
    obtain ⟨h23, hw⟩ := hw
    refine k_iald (k := x1.toNatClampNeg) hx hb hK hP 0 0 rfl rfl rfl h23 dX2_removeRule_11 ?_
    refine lv_iload_n hx hb dX2_removeRule_12 rfl (lv_at hl 2 rfl) ?_
    refine k_ri (kc_pSN (As := [.int (a_x0_later x1.toNatClampNeg), .int x2]) (rest := []) hSx (met_X1_isIn l (a_x0_later x1.toNatClampNeg) x2 _ hw) hNW q423 q425 q67 q424 hd_X1_isIn ⟨Nat.le_of_ble_eq_true rfl, Nat.le_of_ble_eq_true rfl⟩ rfl rfl rfl hl.1 (Nat.le_of_ble_eq_true rfl) rfl dX2_removeRule_13 ⟨(show (0 + b19) + 0 ≤ bc0 by omega), (show (0 + b20) + 0 ≤ bs0 by omega)⟩) (fun r24 hw => ?_)
    obtain ⟨b27, b28, h29, h30, hw⟩ := hw
    refine kx_wv (wn := fun (u : Unit) => [(q_x0_later, .inl (dA 0, 8, .inl a_x0_later)), (q_x0, .inr (1, [.int x0_courtiers, .ref x0_dignities, .ref x0_favors, .ref q_x0_later, .int x0_rules, .ref x0_requests, .int x0_width, .int x0_granted, .long x0_spent, .int x0_gained, .int x0_lost]))]) (wxn := fun (u : String × Int32 × Unit) => [(q_x0_later, .inl (dA 0, 8, .inl a_x0_later)), (q_x0, .inr (1, [.int x0_courtiers, .ref x0_dignities, .ref x0_favors, .ref q_x0_later, .int x0_rules, .ref x0_requests, .int x0_width, .int x0_granted, .long x0_spent, .int x0_gained, .int x0_lost]))]) (wr := [(q_x0_later, .inl (dA 0, 8, .inl a_x0_later)), (q_x0, .inr (1, [.int x0_courtiers, .ref x0_dignities, .ref x0_favors, .ref q_x0_later, .int x0_rules, .ref x0_requests, .int x0_width, .int x0_granted, .long x0_spent, .int x0_gained, .int x0_lost]))]) (xc_wSN (As := [.int r24]) (rest := []) hSx (met_X1_checkElement l hst D dA cx _ b27 b28 r24 _ _ hw) hNW q1227 q1229 q67 q1228 hd_X1_checkElement ⟨Nat.le_of_ble_eq_true rfl, Nat.le_of_ble_eq_true rfl⟩ rfl rfl hP hK hD hS hA (hC.kept hS.2.1) [] rfl (by decide) rfl rfl hl.1 (Nat.le_of_ble_eq_true rfl) rfl dX2_removeRule_16 ⟨(show (0 + b19) + b27 ≤ bc0 by omega), (show (0 + b20) + b28 ≤ bs0 by omega)⟩) hP hD hS hA [] [0, 1] rfl rfl (by decide) (by decide) (fun _ => rfl) (fun _ => rfl) (fun u q9 ce H locs hw hin hpo _ hP hD hS hce hcv hcl => ?_) (fun u H locs hw _ hP hD hS => ?_)
    · obtain ⟨E25, o26, u9⟩ := u
      have hP : va_P D vwCl [(q_x0_later, .inl (dA 0, 8, .inl a_x0_later)), (q_x0, .inr (1, [.int x0_courtiers, .ref x0_dignities, .ref x0_favors, .ref q_x0_later, .int x0_rules, .ref x0_requests, .int x0_width, .int x0_granted, .long x0_spent, .int x0_gained, .int x0_lost]))] H := hP
      have hD : va_D A [(q_x0_later, .inl (dA 0, 8, .inl a_x0_later)), (q_x0, .inr (1, [.int x0_courtiers, .ref x0_dignities, .ref x0_favors, .ref q_x0_later, .int x0_rules, .ref x0_requests, .int x0_width, .int x0_granted, .long x0_spent, .int x0_gained, .int x0_lost]))] := hD
      have hbud : ((0 + b19) + b27) + ((bc0 - b19) - b27) ≤ bc0 ∧ ((0 + b20) + b28) + ((bs0 - b20) - b28) ≤ bs0 := by omega
      refine vx_widen (k := bc0) (n := bs0) (by omega) (by omega) ?_
      exact kx_out (fun x hx => (htab x hx).elim) hlocks (E25, o26, ()) hce hcv hcl hw ((show ∀ z ∈ (["java/util/NoSuchElementException"] : List String), z ∈ (["java/lang/IndexOutOfBoundsException", "java/util/NoSuchElementException"] : List String) from by decide) _ hin) hpo (hP.sub [1, 0] rfl) hK (hD.sub [1, 0] (by decide) rfl) hS (Nat.le_refl _) (Nat.le_refl _)
    · have h0 := trivial
      have hP : va_P D vwCl [(q_x0_later, .inl (dA 0, 8, .inl a_x0_later)), (q_x0, .inr (1, [.int x0_courtiers, .ref x0_dignities, .ref x0_favors, .ref q_x0_later, .int x0_rules, .ref x0_requests, .int x0_width, .int x0_granted, .long x0_spent, .int x0_gained, .int x0_lost]))] H := hP
      have hD : va_D A [(q_x0_later, .inl (dA 0, 8, .inl a_x0_later)), (q_x0, .inr (1, [.int x0_courtiers, .ref x0_dignities, .ref x0_favors, .ref q_x0_later, .int x0_rules, .ref x0_requests, .int x0_width, .int x0_granted, .long x0_spent, .int x0_gained, .int x0_lost]))] := hD
      have hbud : ((0 + b19) + b27) + ((bc0 - b19) - b27) ≤ bc0 ∧ ((0 + b20) + b28) + ((bs0 - b20) - b28) ≤ bs0 := by omega
      refine lv_aload_n hx hb dX2_removeRule_19 rfl (lv_at hl 0 rfl) ?_
      refine va_get (D := D) (ci := 1) (v := .ref q_x0_later) (C := RX2) (T := TX2) (N := 11) hx hb hts in_X2 hown hK hP 1 rfl rfl 3 (by decide) (hts _ q155) (fun _ h9 => h9) rfl dX2_removeRule_20 ?_
      refine lv_iload_n hx hb dX2_removeRule_23 rfl (lv_at hl 1 rfl) ?_
      refine lv_dup2_11 hx hb dX2_removeRule_24 rfl rfl ?_
      obtain ⟨h31, hw⟩ := hw
      refine k_iald (k := x1.toNatClampNeg) hx hb hK hP 0 0 rfl rfl rfl h31 dX2_removeRule_25 ?_
      refine lv_iconst (v := (nI 1)) hx hb dX2_removeRule_26 (by decide) ?_
      refine lv_iload_n hx hb dX2_removeRule_27 rfl (lv_at hl 2 rfl) ?_
      refine lv_ishl hx hb dX2_removeRule_28 ?_
      refine lv_iconst (v := (-1)) hx hb dX2_removeRule_29 (by decide) ?_
      refine lv_ixor hx hb dX2_removeRule_30 ?_
      refine lv_iand hx hb dX2_removeRule_31 ?_
      obtain ⟨h32, hw⟩ := hw
      refine k_iast (k := x1.toNatClampNeg) hx hb hK hP hD hS 0 0 rfl rfl rfl h32 dX2_removeRule_32 (fun H locs hP hD hS => ?_)
      have hP : va_P D vwCl [(q_x0_later, .inl (dA 0, 8, .inl (upd a_x0_later x1.toNatClampNeg ((a_x0_later x1.toNatClampNeg) &&& (((nI 1) <<< (x2 &&& 31)) ^^^ (-1)))))), (q_x0, .inr (1, [.int x0_courtiers, .ref x0_dignities, .ref x0_favors, .ref q_x0_later, .int x0_rules, .ref x0_requests, .int x0_width, .int x0_granted, .long x0_spent, .int x0_gained, .int x0_lost]))] H := hP
      have hD : va_D A [(q_x0_later, .inl (dA 0, 8, .inl (upd a_x0_later x1.toNatClampNeg ((a_x0_later x1.toNatClampNeg) &&& (((nI 1) <<< (x2 &&& 31)) ^^^ (-1)))))), (q_x0, .inr (1, [.int x0_courtiers, .ref x0_dignities, .ref x0_favors, .ref q_x0_later, .int x0_rules, .ref x0_requests, .int x0_width, .int x0_granted, .long x0_spent, .int x0_gained, .int x0_lost]))] := hD
      refine lv_aload_n hx hb dX2_removeRule_33 rfl (lv_at hl 0 rfl) ?_
      refine lv_dup hx hb dX2_removeRule_34 rfl ?_
      refine va_get (D := D) (ci := 1) (v := .int x0_rules) (C := RX2) (T := TX2) (N := 11) hx hb hts in_X2 hown hK hP 1 rfl rfl 4 (by decide) (hts _ q156) (fun _ h9 => h9) rfl dX2_removeRule_35 ?_
      refine lv_iconst (v := (nI 1)) hx hb dX2_removeRule_38 (by decide) ?_
      refine lv_isub hx hb dX2_removeRule_39 ?_
      refine va_put (D := D) (ci := 1) (v := .int (x0_rules - (nI 1))) (ty := (.int)) (C := RX2) (T := TX2) (N := 11) hx hb hts in_X2 tyX2 tyX2_ok nmX2 hown hK hP hD hS 1 rfl rfl 4 (by decide) (hts _ q156) (fun _ h9 => h9) rfl (by decide +kernel) rfl rfl (Nat.le_of_ble_eq_true rfl) dX2_removeRule_40 (fun H locs hP hD hS => ?_)
      have hP : va_P D vwCl [(q_x0_later, .inl (dA 0, 8, .inl (upd a_x0_later x1.toNatClampNeg ((a_x0_later x1.toNatClampNeg) &&& (((nI 1) <<< (x2 &&& 31)) ^^^ (-1)))))), (q_x0, .inr (1, [.int x0_courtiers, .ref x0_dignities, .ref x0_favors, .ref q_x0_later, .int (x0_rules - (nI 1)), .ref x0_requests, .int x0_width, .int x0_granted, .long x0_spent, .int x0_gained, .int x0_lost]))] H := hP
      have hD : va_D A [(q_x0_later, .inl (dA 0, 8, .inl (upd a_x0_later x1.toNatClampNeg ((a_x0_later x1.toNatClampNeg) &&& (((nI 1) <<< (x2 &&& 31)) ^^^ (-1)))))), (q_x0, .inr (1, [.int x0_courtiers, .ref x0_dignities, .ref x0_favors, .ref q_x0_later, .int (x0_rules - (nI 1)), .ref x0_requests, .int x0_width, .int x0_granted, .long x0_spent, .int x0_gained, .int x0_lost]))] := hD
      refine lv_aload_n hx hb dX2_removeRule_43 rfl (lv_at hl 0 rfl) ?_
      refine va_get (D := D) (ci := 1) (v := .int (x0_rules - (nI 1))) (C := RX2) (T := TX2) (N := 11) hx hb hts in_X2 hown hK hP 1 rfl rfl 4 (by decide) (hts _ q156) (fun _ h9 => h9) rfl dX2_removeRule_44 ?_
      refine W.widen (k := bc0) (n := bs0) (by omega) (by omega) ?_
      refine vx_ret ?_
      exact W.iret (v := (x0_rules - (nI 1))) hx hb hr (fun t ht hW => ⟨⟨(x0_rules - (nI 1)), (upd a_x0_later x1.toNatClampNeg ((a_x0_later x1.toNatClampNeg) &&& (((nI 1) <<< (x2 &&& 31)) ^^^ (-1)))), rfl, hw, by rw [ht]; exact hP.sub [1, 0] rfl, va_K.moved hW.alike hK, hD.sub [1, 0] (by decide) rfl⟩, hS.F ht⟩) hS.2.2 dX2_removeRule_47
def w_X2_courtierByDignity_68 (post : Int32 → Prop)  (k2 : Int32 → Prop) (k15 : Int32 → Int32 → Int32 → Prop) (v2 : Int32) (v4 : Int32) (s0 : Int32) (s1 : Int32) : Prop :=
  k15 v2 (s0 + s1) (v4 + (nI 1))
def w_X2_courtierByDignity_63 (post : Int32 → Prop)  (k2 : Int32 → Prop) (k15 : Int32 → Int32 → Int32 → Prop) (v2 : Int32) (v4 : Int32) (s0 : Int32) : Prop :=
  (w_X2_courtierByDignity_68 post k2 k15) v2 v4 s0 (nI 1)
def w_X2_courtierByDignity_67 (post : Int32 → Prop)  (k2 : Int32 → Prop) (k15 : Int32 → Int32 → Int32 → Prop) (v2 : Int32) (v4 : Int32) (s0 : Int32) : Prop :=
  (w_X2_courtierByDignity_68 post k2 k15) v2 v4 s0 (nI 0)
def w_X2_courtierByDignity_15 (post : Int32 → Prop) (x0_courtiers : Int32) (a_x0_dignities : (Nat → Int32)) (x1 : Int32) (k2 : Int32 → Prop) (k15 : Int32 → Int32 → Int32 → Prop) (v2 : Int32) (v3 : Int32) (v4 : Int32) : Prop :=
  ((x0_courtiers ≤ v4 → ((v3 = x1 → post v2) ∧ (¬ v3 = x1 → k2 (v2 + (nI 1))))) ∧ (¬ x0_courtiers ≤ v4 → (vp_in v4 8 ∧ (vp_in v2 8 ∧ (((a_x0_dignities v2.toNatClampNeg) < (a_x0_dignities v4.toNatClampNeg) → (w_X2_courtierByDignity_63 post k2 k15) v2 v4 v3) ∧ (¬ (a_x0_dignities v2.toNatClampNeg) < (a_x0_dignities v4.toNatClampNeg) → (vp_in v4 8 ∧ (vp_in v2 8 ∧ (((a_x0_dignities v4.toNatClampNeg) = (a_x0_dignities v2.toNatClampNeg) → ((v2 ≤ v4 → (w_X2_courtierByDignity_67 post k2 k15) v2 v4 v3) ∧ (¬ v2 ≤ v4 → (w_X2_courtierByDignity_63 post k2 k15) v2 v4 v3))) ∧ (¬ (a_x0_dignities v4.toNatClampNeg) = (a_x0_dignities v2.toNatClampNeg) → (w_X2_courtierByDignity_67 post k2 k15) v2 v4 v3))))))))))
def w_X2_courtierByDignity_2 (post : Int32 → Prop) (x0_courtiers : Int32) (a_x0_dignities : (Nat → Int32)) (x1 : Int32) (k2 : Int32 → Prop) (v2 : Int32) : Prop :=
  ((x0_courtiers ≤ v2 → post (-1)) ∧ (¬ x0_courtiers ≤ v2 → (∃ n : Nat, lpF (fun _ _ _ => False) (w_X2_courtierByDignity_15 post x0_courtiers a_x0_dignities x1 k2) n v2 (nI 0) (nI 0))))
def w_X2_courtierByDignity (post : Int32 → Prop) (x0_courtiers : Int32) (a_x0_dignities : (Nat → Int32)) (x1 : Int32) : Prop :=
  (∃ n : Nat, lpF (fun _ => False) (w_X2_courtierByDignity_2 post x0_courtiers a_x0_dignities x1) n (nI 0))
def rm_X2_courtierByDignity : Room := { frames := 0, cells := 0, slots := 0, locals := 0 }
set_option maxHeartbeats 4000000 in
set_option maxRecDepth 100000 in
theorem met_X2_courtierByDignity (l : Launch) (D : va_G) (dA : Nat → ClassId) (cx : CXt) (q_x0 : Nat) (x0_courtiers : Int32) (q_x0_dignities : Nat) (a_x0_dignities : (Nat → Int32)) (x0_favors : Nat) (x0_later : Nat) (x0_rules : Int32) (x0_requests : Nat) (x0_width : Int32) (x0_granted : Int32) (x0_spent : Int64) (x0_gained : Int32) (x0_lost : Int32) (x1 : Int32) (post : Int32 → Prop) (hw : w_X2_courtierByDignity post x0_courtiers a_x0_dignities x1) : Met l yX2_courtierByDignity (ws_ yX2_courtierByDignity cX2_courtierByDignity 5 (some .int)) rm_X2_courtierByDignity (va_Pc [.ref q_x0, .int x1] (rdC D dA cx [(q_x0, .inr (1, [.int x0_courtiers, .ref q_x0_dignities, .ref x0_favors, .ref x0_later, .int x0_rules, .ref x0_requests, .int x0_width, .int x0_granted, .long x0_spent, .int x0_gained, .int x0_lost])), (q_x0_dignities, .inl (dA 0, 8, .inl a_x0_dignities))])) (vp_Si (fun r => post r)) 0 0 (fun _ => False) := by
  refine Met.ofW (cc := cX2_courtierByDignity) (maxL := 5) (ret := (some .int)) (by decide) rfl ?_
  intro p e s m args below meth c s₁ B hml hv
  obtain ⟨rfl, hP, hK, hC⟩ := hv
  have hx := B.exec
  have hb := B.bytes
  have hr := B.returns
  have hts := atoms_spec (ws := (ws_ yX2_courtierByDignity cX2_courtierByDignity 5 (some .int))) B.pre
  have hts : ∀ w ∈ lw_all, w.before _ s = true := fun w h => hts w (List.mem_cons_of_mem _ h)
  have hown : s.vm.findClass RX2 = some m.cls := findClass_of_methodNamed B.named
  have hlocks := B.notSynchronized
  have hSx : CallFix p m c cX2_courtierByDignity 5 s _ lw_all RX2 := ⟨hx, hb, hml, hown, hts⟩
  have hNW := hC.1
  have hl := lv_entry ([.ref q_x0, .int x1]) (n := 5) (Nat.le_of_ble_eq_true rfl)
  rw [lg_entry_eq]
  generalize (lg_sl ([.ref q_x0, .int x1]) ++ List.replicate (5 - (lg_sl ([.ref q_x0, .int x1])).length) Slot.unset).toArray = ls at hl ⊢
  have hl : lv_has ls 5 [(0, .ref q_x0), (1, .int x1)] := hl
  have hL68 : ∀ (k2 : Int32 → Prop) (hk2 : ∀ (v2 : Int32) (ls : Array Slot), lv_has ls 5 [(0, .ref q_x0), (1, .int x1), (2, .int v2)] → k2 v2 → W p l e (headSpec (ws_ yX2_courtierByDignity cX2_courtierByDignity 5 (some .int)) (rm_X2_courtierByDignity)).room s m ([.ref q_x0, .int x1] : List Value).toArray below meth c s.heap [] 0 0 (MQ below (vp_Si (fun r => post r)) ([.ref q_x0, .int x1] : List Value).toArray s 0 0 (fun _ => False)) (F0 m 2 ls [])) (k15 : Int32 → Int32 → Int32 → Prop) (hk15 : ∀ (v2 : Int32) (v3 : Int32) (v4 : Int32) (ls : Array Slot), lv_has ls 5 [(0, .ref q_x0), (1, .int x1), (2, .int v2), (3, .int v3), (4, .int v4)] → k15 v2 v3 v4 → W p l e (headSpec (ws_ yX2_courtierByDignity cX2_courtierByDignity 5 (some .int)) (rm_X2_courtierByDignity)).room s m ([.ref q_x0, .int x1] : List Value).toArray below meth c s.heap [] 0 0 (MQ below (vp_Si (fun r => post r)) ([.ref q_x0, .int x1] : List Value).toArray s 0 0 (fun _ => False)) (F0 m 15 ls [])) (v2 : Int32) (v4 : Int32) (s0 : Int32) (s1 : Int32) (ls : Array Slot), lv_has ls 5 [(0, .ref q_x0), (1, .int x1), (2, .int v2), (4, .int v4)] → (w_X2_courtierByDignity_68 post k2 k15) v2 v4 s0 s1 → W p l e (headSpec (ws_ yX2_courtierByDignity cX2_courtierByDignity 5 (some .int)) (rm_X2_courtierByDignity)).room s m ([.ref q_x0, .int x1] : List Value).toArray below meth c s.heap [] 0 0 (MQ below (vp_Si (fun r => post r)) ([.ref q_x0, .int x1] : List Value).toArray s 0 0 (fun _ => False)) (F0 m 68 ls [.int s1, .int s0]) := by
      intro k2 hk2 k15 hk15 v2 v4 s0 s1 ls hl hw
      refine lv_iadd hx hb dX2_courtierByDignity_68 ?_
      refine lv_istore_n (lv' := [(3, .int (s0 + s1)), (0, .ref q_x0), (1, .int x1), (2, .int v2), (4, .int v4)]) hx hb dX2_courtierByDignity_69 rfl hl (by decide) rfl (fun ls hl => ?_)
      refine lv_iinc (v := (v4 + (nI 1))) (lv' := [(4, .int (v4 + (nI 1))), (3, .int (s0 + s1)), (0, .ref q_x0), (1, .int x1), (2, .int v2)]) hx hb dX2_courtierByDignity_70 hl (k := 4) rfl (congrArg (fun z => v4 + z) (by decide : Int32.ofInt (1) = (nI 1))) (by decide) rfl (fun ls hl => ?_)
      refine lv_goto (tgt := 15) hx hb dX2_courtierByDignity_73 (by decide) ?_
      exact hk15 v2 (s0 + s1) (v4 + (nI 1)) _ (lv_sub hl [2, 3, 4, 1, 0] rfl) hw
  have hL63 : ∀ (k2 : Int32 → Prop) (hk2 : ∀ (v2 : Int32) (ls : Array Slot), lv_has ls 5 [(0, .ref q_x0), (1, .int x1), (2, .int v2)] → k2 v2 → W p l e (headSpec (ws_ yX2_courtierByDignity cX2_courtierByDignity 5 (some .int)) (rm_X2_courtierByDignity)).room s m ([.ref q_x0, .int x1] : List Value).toArray below meth c s.heap [] 0 0 (MQ below (vp_Si (fun r => post r)) ([.ref q_x0, .int x1] : List Value).toArray s 0 0 (fun _ => False)) (F0 m 2 ls [])) (k15 : Int32 → Int32 → Int32 → Prop) (hk15 : ∀ (v2 : Int32) (v3 : Int32) (v4 : Int32) (ls : Array Slot), lv_has ls 5 [(0, .ref q_x0), (1, .int x1), (2, .int v2), (3, .int v3), (4, .int v4)] → k15 v2 v3 v4 → W p l e (headSpec (ws_ yX2_courtierByDignity cX2_courtierByDignity 5 (some .int)) (rm_X2_courtierByDignity)).room s m ([.ref q_x0, .int x1] : List Value).toArray below meth c s.heap [] 0 0 (MQ below (vp_Si (fun r => post r)) ([.ref q_x0, .int x1] : List Value).toArray s 0 0 (fun _ => False)) (F0 m 15 ls [])) (v2 : Int32) (v4 : Int32) (s0 : Int32) (ls : Array Slot), lv_has ls 5 [(0, .ref q_x0), (1, .int x1), (2, .int v2), (4, .int v4)] → (w_X2_courtierByDignity_63 post k2 k15) v2 v4 s0 → W p l e (headSpec (ws_ yX2_courtierByDignity cX2_courtierByDignity 5 (some .int)) (rm_X2_courtierByDignity)).room s m ([.ref q_x0, .int x1] : List Value).toArray below meth c s.heap [] 0 0 (MQ below (vp_Si (fun r => post r)) ([.ref q_x0, .int x1] : List Value).toArray s 0 0 (fun _ => False)) (F0 m 63 ls [.int s0]) := by
      intro k2 hk2 k15 hk15 v2 v4 s0 ls hl hw
      refine lv_iconst (v := (nI 1)) hx hb dX2_courtierByDignity_63 (by decide) ?_
      refine lv_goto (tgt := 68) hx hb dX2_courtierByDignity_64 (by decide) ?_
      exact hL68 k2 hk2 k15 hk15 v2 v4 s0 (nI 1) _ (lv_sub hl [0, 1, 2, 3] rfl) hw
  have hL67 : ∀ (k2 : Int32 → Prop) (hk2 : ∀ (v2 : Int32) (ls : Array Slot), lv_has ls 5 [(0, .ref q_x0), (1, .int x1), (2, .int v2)] → k2 v2 → W p l e (headSpec (ws_ yX2_courtierByDignity cX2_courtierByDignity 5 (some .int)) (rm_X2_courtierByDignity)).room s m ([.ref q_x0, .int x1] : List Value).toArray below meth c s.heap [] 0 0 (MQ below (vp_Si (fun r => post r)) ([.ref q_x0, .int x1] : List Value).toArray s 0 0 (fun _ => False)) (F0 m 2 ls [])) (k15 : Int32 → Int32 → Int32 → Prop) (hk15 : ∀ (v2 : Int32) (v3 : Int32) (v4 : Int32) (ls : Array Slot), lv_has ls 5 [(0, .ref q_x0), (1, .int x1), (2, .int v2), (3, .int v3), (4, .int v4)] → k15 v2 v3 v4 → W p l e (headSpec (ws_ yX2_courtierByDignity cX2_courtierByDignity 5 (some .int)) (rm_X2_courtierByDignity)).room s m ([.ref q_x0, .int x1] : List Value).toArray below meth c s.heap [] 0 0 (MQ below (vp_Si (fun r => post r)) ([.ref q_x0, .int x1] : List Value).toArray s 0 0 (fun _ => False)) (F0 m 15 ls [])) (v2 : Int32) (v4 : Int32) (s0 : Int32) (ls : Array Slot), lv_has ls 5 [(0, .ref q_x0), (1, .int x1), (2, .int v2), (4, .int v4)] → (w_X2_courtierByDignity_67 post k2 k15) v2 v4 s0 → W p l e (headSpec (ws_ yX2_courtierByDignity cX2_courtierByDignity 5 (some .int)) (rm_X2_courtierByDignity)).room s m ([.ref q_x0, .int x1] : List Value).toArray below meth c s.heap [] 0 0 (MQ below (vp_Si (fun r => post r)) ([.ref q_x0, .int x1] : List Value).toArray s 0 0 (fun _ => False)) (F0 m 67 ls [.int s0]) := by
      intro k2 hk2 k15 hk15 v2 v4 s0 ls hl hw
      refine lv_iconst (v := (nI 0)) hx hb dX2_courtierByDignity_67 (by decide) ?_
      exact hL68 k2 hk2 k15 hk15 v2 v4 s0 (nI 0) _ (lv_sub hl [0, 1, 2, 3] rfl) hw
  have hL15 : ∀ (k2 : Int32 → Prop) (hk2 : ∀ (v2 : Int32) (ls : Array Slot), lv_has ls 5 [(0, .ref q_x0), (1, .int x1), (2, .int v2)] → k2 v2 → W p l e (headSpec (ws_ yX2_courtierByDignity cX2_courtierByDignity 5 (some .int)) (rm_X2_courtierByDignity)).room s m ([.ref q_x0, .int x1] : List Value).toArray below meth c s.heap [] 0 0 (MQ below (vp_Si (fun r => post r)) ([.ref q_x0, .int x1] : List Value).toArray s 0 0 (fun _ => False)) (F0 m 2 ls [])) (n : Nat) (v2 : Int32) (v3 : Int32) (v4 : Int32) (ls : Array Slot), lv_has ls 5 [(0, .ref q_x0), (1, .int x1), (2, .int v2), (3, .int v3), (4, .int v4)] → lpF (fun _ _ _ => False) (w_X2_courtierByDignity_15 post x0_courtiers a_x0_dignities x1 k2) n v2 v3 v4 → W p l e (headSpec (ws_ yX2_courtierByDignity cX2_courtierByDignity 5 (some .int)) (rm_X2_courtierByDignity)).room s m ([.ref q_x0, .int x1] : List Value).toArray below meth c s.heap [] 0 0 (MQ below (vp_Si (fun r => post r)) ([.ref q_x0, .int x1] : List Value).toArray s 0 0 (fun _ => False)) (F0 m 15 ls []) := by
    intro k2 hk2 n
    induction n with
    | zero => intro v2 v3 v4 ls hl hw; exact absurd hw id
    | succ n hk15 =>
      intro v2 v3 v4 ls hl hw
      generalize hk9 : lpF (fun _ _ _ => False) (w_X2_courtierByDignity_15 post x0_courtiers a_x0_dignities x1 k2) n = k15 at hk15
      have hw : (w_X2_courtierByDignity_15 post x0_courtiers a_x0_dignities x1 k2) k15 v2 v3 v4 := hk9 ▸ hw
      refine lv_iload hx hb dX2_courtierByDignity_15 (lv_at hl 4 rfl) ?_
      refine lv_aload_n hx hb dX2_courtierByDignity_17 rfl (lv_at hl 0 rfl) ?_
      refine va_get (D := D) (ci := 1) (v := .int x0_courtiers) (C := RX2) (T := TX2) (N := 11) hx hb hts in_X2 hown hK hP 0 rfl rfl 0 (by decide) (hts _ q149) (fun _ h9 => h9) rfl dX2_courtierByDignity_18 ?_
      refine lv_icmp_ge (tgt := 76) hx hb dX2_courtierByDignity_21 (by decide) (fun c27 => ?_) (fun c27 => ?_)
      · have hw := hw.1 c27
        refine lv_iload_n hx hb dX2_courtierByDignity_76 rfl (lv_at hl 3 rfl) ?_
        refine lv_iload_n hx hb dX2_courtierByDignity_77 rfl (lv_at hl 1 rfl) ?_
        refine lv_icmp_ne (tgt := 83) hx hb dX2_courtierByDignity_78 (by decide) (fun c28 => ?_) (fun c28 => ?_)
        · have hw := hw.2 c28
          refine lv_iinc (v := (v2 + (nI 1))) (lv' := [(2, .int (v2 + (nI 1))), (0, .ref q_x0), (1, .int x1), (3, .int v3), (4, .int v4)]) hx hb dX2_courtierByDignity_83 hl (k := 2) rfl (congrArg (fun z => v2 + z) (by decide : Int32.ofInt (1) = (nI 1))) (by decide) rfl (fun ls hl => ?_)
          refine lv_goto (tgt := 2) hx hb dX2_courtierByDignity_86 (by decide) ?_
          exact hk2 (v2 + (nI 1)) _ (lv_sub hl [1, 2, 0] rfl) hw
        · have hw := hw.1 c28
          refine lv_iload_n hx hb dX2_courtierByDignity_81 rfl (lv_at hl 2 rfl) ?_
          exact W.iret (v := v2) hx hb hr (fun t ht hW => ⟨v2, rfl, hw, ht⟩) (fun _ h => by cases h) dX2_courtierByDignity_82
      · have hw := hw.2 c27
        refine lv_iload_n hx hb dX2_courtierByDignity_24 rfl (lv_at hl 3 rfl) ?_
        refine lv_aload_n hx hb dX2_courtierByDignity_25 rfl (lv_at hl 0 rfl) ?_
        refine va_get (D := D) (ci := 1) (v := .ref q_x0_dignities) (C := RX2) (T := TX2) (N := 11) hx hb hts in_X2 hown hK hP 0 rfl rfl 1 (by decide) (hts _ q151) (fun _ h9 => h9) rfl dX2_courtierByDignity_26 ?_
        refine lv_iload hx hb dX2_courtierByDignity_29 (lv_at hl 4 rfl) ?_
        obtain ⟨h29, hw⟩ := hw
        refine k_iald (k := v4.toNatClampNeg) hx hb hK hP 1 0 rfl rfl rfl h29 dX2_courtierByDignity_31 ?_
        refine lv_aload_n hx hb dX2_courtierByDignity_32 rfl (lv_at hl 0 rfl) ?_
        refine va_get (D := D) (ci := 1) (v := .ref q_x0_dignities) (C := RX2) (T := TX2) (N := 11) hx hb hts in_X2 hown hK hP 0 rfl rfl 1 (by decide) (hts _ q151) (fun _ h9 => h9) rfl dX2_courtierByDignity_33 ?_
        refine lv_iload_n hx hb dX2_courtierByDignity_36 rfl (lv_at hl 2 rfl) ?_
        obtain ⟨h30, hw⟩ := hw
        refine k_iald (k := v2.toNatClampNeg) hx hb hK hP 1 0 rfl rfl rfl h30 dX2_courtierByDignity_37 ?_
        refine lv_icmp_gt (tgt := 63) hx hb dX2_courtierByDignity_38 (by decide) (fun c31 => ?_) (fun c31 => ?_)
        · have hw := hw.1 c31
          exact hL63 k2 hk2 k15 hk15 v2 v4 v3 _ (lv_sub hl [0, 1, 2, 4] rfl) hw
        · have hw := hw.2 c31
          refine lv_aload_n hx hb dX2_courtierByDignity_41 rfl (lv_at hl 0 rfl) ?_
          refine va_get (D := D) (ci := 1) (v := .ref q_x0_dignities) (C := RX2) (T := TX2) (N := 11) hx hb hts in_X2 hown hK hP 0 rfl rfl 1 (by decide) (hts _ q151) (fun _ h9 => h9) rfl dX2_courtierByDignity_42 ?_
          refine lv_iload hx hb dX2_courtierByDignity_45 (lv_at hl 4 rfl) ?_
          obtain ⟨h32, hw⟩ := hw
          refine k_iald (k := v4.toNatClampNeg) hx hb hK hP 1 0 rfl rfl rfl h32 dX2_courtierByDignity_47 ?_
          refine lv_aload_n hx hb dX2_courtierByDignity_48 rfl (lv_at hl 0 rfl) ?_
          refine va_get (D := D) (ci := 1) (v := .ref q_x0_dignities) (C := RX2) (T := TX2) (N := 11) hx hb hts in_X2 hown hK hP 0 rfl rfl 1 (by decide) (hts _ q151) (fun _ h9 => h9) rfl dX2_courtierByDignity_49 ?_
          refine lv_iload_n hx hb dX2_courtierByDignity_52 rfl (lv_at hl 2 rfl) ?_
          obtain ⟨h33, hw⟩ := hw
          refine k_iald (k := v2.toNatClampNeg) hx hb hK hP 1 0 rfl rfl rfl h33 dX2_courtierByDignity_53 ?_
          refine lv_icmp_ne (tgt := 67) hx hb dX2_courtierByDignity_54 (by decide) (fun c34 => ?_) (fun c34 => ?_)
          · have hw := hw.2 c34
            exact hL67 k2 hk2 k15 hk15 v2 v4 v3 _ (lv_sub hl [0, 1, 2, 4] rfl) hw
          · have hw := hw.1 c34
            refine lv_iload hx hb dX2_courtierByDignity_57 (lv_at hl 4 rfl) ?_
            refine lv_iload_n hx hb dX2_courtierByDignity_59 rfl (lv_at hl 2 rfl) ?_
            refine lv_icmp_ge (tgt := 67) hx hb dX2_courtierByDignity_60 (by decide) (fun c35 => ?_) (fun c35 => ?_)
            · have hw := hw.1 c35
              exact hL67 k2 hk2 k15 hk15 v2 v4 v3 _ (lv_sub hl [0, 1, 2, 4] rfl) hw
            · have hw := hw.2 c35
              exact hL63 k2 hk2 k15 hk15 v2 v4 v3 _ (lv_sub hl [0, 1, 2, 4] rfl) hw
  have hL2 : ∀  (n : Nat) (v2 : Int32) (ls : Array Slot), lv_has ls 5 [(0, .ref q_x0), (1, .int x1), (2, .int v2)] → lpF (fun _ => False) (w_X2_courtierByDignity_2 post x0_courtiers a_x0_dignities x1) n v2 → W p l e (headSpec (ws_ yX2_courtierByDignity cX2_courtierByDignity 5 (some .int)) (rm_X2_courtierByDignity)).room s m ([.ref q_x0, .int x1] : List Value).toArray below meth c s.heap [] 0 0 (MQ below (vp_Si (fun r => post r)) ([.ref q_x0, .int x1] : List Value).toArray s 0 0 (fun _ => False)) (F0 m 2 ls []) := by
    intro  n
    induction n with
    | zero => intro v2 ls hl hw; exact absurd hw id
    | succ n hk2 =>
      intro v2 ls hl hw
      generalize hk9 : lpF (fun _ => False) (w_X2_courtierByDignity_2 post x0_courtiers a_x0_dignities x1) n = k2 at hk2
      have hw : (w_X2_courtierByDignity_2 post x0_courtiers a_x0_dignities x1) k2 v2 := hk9 ▸ hw
      refine lv_iload_n hx hb dX2_courtierByDignity_2 rfl (lv_at hl 2 rfl) ?_
      refine lv_aload_n hx hb dX2_courtierByDignity_3 rfl (lv_at hl 0 rfl) ?_
      refine va_get (D := D) (ci := 1) (v := .int x0_courtiers) (C := RX2) (T := TX2) (N := 11) hx hb hts in_X2 hown hK hP 0 rfl rfl 0 (by decide) (hts _ q149) (fun _ h9 => h9) rfl dX2_courtierByDignity_4 ?_
      refine lv_icmp_ge (tgt := 89) hx hb dX2_courtierByDignity_7 (by decide) (fun c36 => ?_) (fun c36 => ?_)
      · have hw := hw.1 c36
        refine lv_iconst (v := (-1)) hx hb dX2_courtierByDignity_89 (by decide) ?_
        exact W.iret (v := (-1)) hx hb hr (fun t ht hW => ⟨(-1), rfl, hw, ht⟩) (fun _ h => by cases h) dX2_courtierByDignity_90
      · have hw := hw.2 c36
        refine lv_iconst (v := (nI 0)) hx hb dX2_courtierByDignity_10 (by decide) ?_
        refine lv_istore_n (lv' := [(3, .int (nI 0)), (0, .ref q_x0), (1, .int x1), (2, .int v2)]) hx hb dX2_courtierByDignity_11 rfl hl (by decide) rfl (fun ls hl => ?_)
        refine lv_iconst (v := (nI 0)) hx hb dX2_courtierByDignity_12 (by decide) ?_
        refine lv_istore (lv' := [(4, .int (nI 0)), (3, .int (nI 0)), (0, .ref q_x0), (1, .int x1), (2, .int v2)]) hx hb dX2_courtierByDignity_13 hl (by decide) rfl (fun ls hl => ?_)
        obtain ⟨n, hw⟩ := hw
        exact hL15 k2 hk2 n v2 (nI 0) (nI 0) _ (lv_sub hl [2, 3, 4, 1, 0] rfl) hw
  refine lv_iconst (v := (nI 0)) hx hb dX2_courtierByDignity_0 (by decide) ?_
  refine lv_istore_n (lv' := [(2, .int (nI 0)), (0, .ref q_x0), (1, .int x1)]) hx hb dX2_courtierByDignity_1 rfl hl (by decide) rfl (fun ls hl => ?_)
  obtain ⟨n, hw⟩ := hw
  exact hL2  n (nI 0) _ (lv_sub hl [1, 2, 0] rfl) hw
def w_X2_earlier_51 (post : Nat → (Nat → Int32) → Prop)  (k9 : Nat → Nat → Int32 → Nat → (Nat → Int32) → Prop) (k19 : Nat → Nat → Int32 → Int32 → Nat → (Nat → Int32) → Prop) (bc bs : Nat) (v2 : Int32) (v3 : Int32) (s1 : Int32) (s2 : Int32) (s3 : Int32) (n1 : Nat) (a1 : (Nat → Int32)) : Prop :=
  (vp_in s1 n1 ∧ k19 bc bs v2 (v3 + (nI 1)) n1 (upd a1 s1.toNatClampNeg (s2 ||| s3)))
def w_X2_earlier_19 (post : Nat → (Nat → Int32) → Prop) (x0_courtiers : Int32) (a_x0_later : (Nat → Int32)) (k9 : Nat → Nat → Int32 → Nat → (Nat → Int32) → Prop) (k19 : Nat → Nat → Int32 → Int32 → Nat → (Nat → Int32) → Prop) (bc bs : Nat) (v2 : Int32) (v3 : Int32) (n1 : Nat) (a1 : (Nat → Int32)) : Prop :=
  ((x0_courtiers ≤ v3 → k9 bc bs (v2 + (nI 1)) n1 a1) ∧ (¬ x0_courtiers ≤ v3 → (vp_in v3 n1 ∧ (vp_in v2 8 ∧ w_X1_isIn (fun r43 => ((r43 = 0 → (w_X2_earlier_51 post k9 k19) bc bs v2 v3 v3 (a1 v3.toNatClampNeg) (nI 0) n1 a1) ∧ (¬ r43 = 0 → (w_X2_earlier_51 post k9 k19) bc bs v2 v3 v3 (a1 v3.toNatClampNeg) ((nI 1) <<< (v2 &&& 31)) n1 a1))) (a_x0_later v2.toNatClampNeg) v3))))
def w_X2_earlier_9 (post : Nat → (Nat → Int32) → Prop) (x0_courtiers : Int32) (a_x0_later : (Nat → Int32)) (k9 : Nat → Nat → Int32 → Nat → (Nat → Int32) → Prop) (bc bs : Nat) (v2 : Int32) (n1 : Nat) (a1 : (Nat → Int32)) : Prop :=
  ((x0_courtiers ≤ v2 → post n1 a1) ∧ (¬ x0_courtiers ≤ v2 → (∃ n : Nat, lpF (fun _ _ _ _ _ _ => False) (w_X2_earlier_19 post x0_courtiers a_x0_later k9) n bc bs v2 (nI 0) n1 a1)))
def w_X2_earlier (post : Nat → (Nat → Int32) → Prop) (bc bs : Nat) (x0_courtiers : Int32) (a_x0_later : (Nat → Int32)) : Prop :=
  (∃ N47 : Nat, x0_courtiers = nI N47 ∧ N47 * 8 ≤ 536870912 ∧ (1 ≤ bc ∧ N47 ≤ bs ∧ (∃ n : Nat, lpF (fun _ _ _ _ _ => False) (w_X2_earlier_9 post x0_courtiers a_x0_later) n (bc - 1) (bs - N47) (nI 0) N47 (fun _ => (0 : Int32)))))
def rm_X2_earlier (bc0 bs0 : Nat) : Room := { frames := 1, cells := bc0, slots := bs0, locals := 21 }
set_option maxHeartbeats 4000000 in
set_option maxRecDepth 100000 in
theorem met_X2_earlier (l : Launch) (D : va_G) (dA : Nat → ClassId) (cx : CXt) (sz : Nat) (bc0 bs0 : Nat) (q_x0 : Nat) (x0_courtiers : Int32) (x0_dignities : Nat) (x0_favors : Nat) (q_x0_later : Nat) (a_x0_later : (Nat → Int32)) (x0_rules : Int32) (x0_requests : Nat) (x0_width : Int32) (x0_granted : Int32) (x0_spent : Int64) (x0_gained : Int32) (x0_lost : Int32) (post : Nat → (Nat → Int32) → Prop) (hw : w_X2_earlier post bc0 bs0 x0_courtiers a_x0_later) : Met l yX2_earlier (ws_ yX2_earlier cX2_earlier 4 (some (.array .int))) (rm_X2_earlier bc0 bs0) (va_Pc [.ref q_x0] (wrC D dA cx sz [(q_x0, .inr (1, [.int x0_courtiers, .ref x0_dignities, .ref x0_favors, .ref q_x0_later, .int x0_rules, .ref x0_requests, .int x0_width, .int x0_granted, .long x0_spent, .int x0_gained, .int x0_lost])), (q_x0_later, .inl (dA 0, 8, .inl a_x0_later))])) (va_Qr (fun (u : Nat × Nat × (Nat → Int32)) => post u.2.1 u.2.2) (fun (u : Nat × Nat × (Nat → Int32)) a9 t => a9 = u.1 ∧ wrQ D dA (va_A [(q_x0, .inr (1, [.int x0_courtiers, .ref x0_dignities, .ref x0_favors, .ref q_x0_later, .int x0_rules, .ref x0_requests, .int x0_width, .int x0_granted, .long x0_spent, .int x0_gained, .int x0_lost])), (q_x0_later, .inl (dA 0, 8, .inl a_x0_later))] sz) [(q_x0, .inr (1, [.int x0_courtiers, .ref x0_dignities, .ref x0_favors, .ref q_x0_later, .int x0_rules, .ref x0_requests, .int x0_width, .int x0_granted, .long x0_spent, .int x0_gained, .int x0_lost])), (u.1, .inl (dA 0, u.2.1, .inl u.2.2)), (q_x0_later, .inl (dA 0, 8, .inl a_x0_later))] t) (va_A [(q_x0, .inr (1, [.int x0_courtiers, .ref x0_dignities, .ref x0_favors, .ref q_x0_later, .int x0_rules, .ref x0_requests, .int x0_width, .int x0_granted, .long x0_spent, .int x0_gained, .int x0_lost])), (q_x0_later, .inl (dA 0, 8, .inl a_x0_later))] sz)) bc0 bs0 (va_A [(q_x0, .inr (1, [.int x0_courtiers, .ref x0_dignities, .ref x0_favors, .ref q_x0_later, .int x0_rules, .ref x0_requests, .int x0_width, .int x0_granted, .long x0_spent, .int x0_gained, .int x0_lost])), (q_x0_later, .inl (dA 0, 8, .inl a_x0_later))] sz) := by
  refine Met.ofW (cc := cX2_earlier) (maxL := 4) (ret := (some (.array .int))) (by decide) rfl ?_
  intro p e s m args below meth c s₁ B hml hv
  obtain ⟨rfl, hsz, hP, hK, hD0, hC⟩ := hv
  have hx := B.exec
  have hb := B.bytes
  have hr := B.returns
  have hts := atoms_spec (ws := (ws_ yX2_earlier cX2_earlier 4 (some (.array .int)))) B.pre
  have hts : ∀ w ∈ lw_all, w.before _ s = true := fun w h => hts w (List.mem_cons_of_mem _ h)
  have hown : s.vm.findClass RX2 = some m.cls := findClass_of_methodNamed B.named
  have hlocks := B.notSynchronized
  have hSx : CallFix p m c cX2_earlier 4 s _ lw_all RX2 := ⟨hx, hb, hml, hown, hts⟩
  subst hsz
  have hD := hD0.self (sz := s.heap.size)
  generalize hAe : va_A [(q_x0, .inr (1, [.int x0_courtiers, .ref x0_dignities, .ref x0_favors, .ref q_x0_later, .int x0_rules, .ref x0_requests, .int x0_width, .int x0_granted, .long x0_spent, .int x0_gained, .int x0_lost])), (q_x0_later, .inl (dA 0, 8, .inl a_x0_later))] s.heap.size = A at hD hC ⊢
  have hA : ∀ q : Nat, s.heap.size ≤ q → A q := fun q h => by rw [← hAe]; exact Or.inr h
  have hS : va_S A s.heap s.heap [] := va_S.rf
  have hbud : 0 + bc0 ≤ bc0 ∧ 0 + bs0 ≤ bs0 := by omega
  have hNW := hC.1
  have hl := lv_entry ([.ref q_x0]) (n := 4) (Nat.le_of_ble_eq_true rfl)
  rw [lg_entry_eq]
  generalize (lg_sl ([.ref q_x0]) ++ List.replicate (4 - (lg_sl ([.ref q_x0])).length) Slot.unset).toArray = ls at hl ⊢
  have hl : lv_has ls 4 [(0, .ref q_x0)] := hl
  have hL51 : ∀ (k9 : Nat → Nat → Int32 → Nat → (Nat → Int32) → Prop) (hk9 : ∀ (bc bs kc ks : Nat) (v2 : Int32) (ad1 : Nat) (n1 : Nat) (a1 : (Nat → Int32)) (H : Heap) (locs : List Loc) (ls : Array Slot), kc + bc ≤ bc0 ∧ ks + bs ≤ bs0 → va_P D vwCl [(q_x0, .inr (1, [.int x0_courtiers, .ref x0_dignities, .ref x0_favors, .ref q_x0_later, .int x0_rules, .ref x0_requests, .int x0_width, .int x0_granted, .long x0_spent, .int x0_gained, .int x0_lost])), (ad1, .inl (dA 0, n1, .inl a1)), (q_x0_later, .inl (dA 0, 8, .inl a_x0_later))] H → va_D A [(q_x0, .inr (1, [.int x0_courtiers, .ref x0_dignities, .ref x0_favors, .ref q_x0_later, .int x0_rules, .ref x0_requests, .int x0_width, .int x0_granted, .long x0_spent, .int x0_gained, .int x0_lost])), (ad1, .inl (dA 0, n1, .inl a1)), (q_x0_later, .inl (dA 0, 8, .inl a_x0_later))] → va_S A s.heap H locs → lv_has ls 4 [(0, .ref q_x0), (1, .ref ad1), (2, .int v2)] → k9 bc bs v2 n1 a1 → W p l e (headSpec (ws_ yX2_earlier cX2_earlier 4 (some (.array .int))) (rm_X2_earlier bc0 bs0)).room s m ([.ref q_x0] : List Value).toArray below meth c H locs kc ks (MQ below (va_Qr (fun (u : Nat × Nat × (Nat → Int32)) => post u.2.1 u.2.2) (fun (u : Nat × Nat × (Nat → Int32)) a9 t => a9 = u.1 ∧ wrQ D dA A [(q_x0, .inr (1, [.int x0_courtiers, .ref x0_dignities, .ref x0_favors, .ref q_x0_later, .int x0_rules, .ref x0_requests, .int x0_width, .int x0_granted, .long x0_spent, .int x0_gained, .int x0_lost])), (u.1, .inl (dA 0, u.2.1, .inl u.2.2)), (q_x0_later, .inl (dA 0, 8, .inl a_x0_later))] t) A) ([.ref q_x0] : List Value).toArray s bc0 bs0 A) (F0 m 9 ls [])) (k19 : Nat → Nat → Int32 → Int32 → Nat → (Nat → Int32) → Prop) (hk19 : ∀ (bc bs kc ks : Nat) (v2 : Int32) (v3 : Int32) (ad1 : Nat) (n1 : Nat) (a1 : (Nat → Int32)) (H : Heap) (locs : List Loc) (ls : Array Slot), kc + bc ≤ bc0 ∧ ks + bs ≤ bs0 → va_P D vwCl [(q_x0, .inr (1, [.int x0_courtiers, .ref x0_dignities, .ref x0_favors, .ref q_x0_later, .int x0_rules, .ref x0_requests, .int x0_width, .int x0_granted, .long x0_spent, .int x0_gained, .int x0_lost])), (ad1, .inl (dA 0, n1, .inl a1)), (q_x0_later, .inl (dA 0, 8, .inl a_x0_later))] H → va_D A [(q_x0, .inr (1, [.int x0_courtiers, .ref x0_dignities, .ref x0_favors, .ref q_x0_later, .int x0_rules, .ref x0_requests, .int x0_width, .int x0_granted, .long x0_spent, .int x0_gained, .int x0_lost])), (ad1, .inl (dA 0, n1, .inl a1)), (q_x0_later, .inl (dA 0, 8, .inl a_x0_later))] → va_S A s.heap H locs → lv_has ls 4 [(0, .ref q_x0), (1, .ref ad1), (2, .int v2), (3, .int v3)] → k19 bc bs v2 v3 n1 a1 → W p l e (headSpec (ws_ yX2_earlier cX2_earlier 4 (some (.array .int))) (rm_X2_earlier bc0 bs0)).room s m ([.ref q_x0] : List Value).toArray below meth c H locs kc ks (MQ below (va_Qr (fun (u : Nat × Nat × (Nat → Int32)) => post u.2.1 u.2.2) (fun (u : Nat × Nat × (Nat → Int32)) a9 t => a9 = u.1 ∧ wrQ D dA A [(q_x0, .inr (1, [.int x0_courtiers, .ref x0_dignities, .ref x0_favors, .ref q_x0_later, .int x0_rules, .ref x0_requests, .int x0_width, .int x0_granted, .long x0_spent, .int x0_gained, .int x0_lost])), (u.1, .inl (dA 0, u.2.1, .inl u.2.2)), (q_x0_later, .inl (dA 0, 8, .inl a_x0_later))] t) A) ([.ref q_x0] : List Value).toArray s bc0 bs0 A) (F0 m 19 ls [])) (bc bs kc ks : Nat) (v2 : Int32) (v3 : Int32) (s1 : Int32) (s2 : Int32) (s3 : Int32) (ad1 : Nat) (n1 : Nat) (a1 : (Nat → Int32)) (H : Heap) (locs : List Loc) (ls : Array Slot), kc + bc ≤ bc0 ∧ ks + bs ≤ bs0 → va_P D vwCl [(q_x0, .inr (1, [.int x0_courtiers, .ref x0_dignities, .ref x0_favors, .ref q_x0_later, .int x0_rules, .ref x0_requests, .int x0_width, .int x0_granted, .long x0_spent, .int x0_gained, .int x0_lost])), (ad1, .inl (dA 0, n1, .inl a1)), (q_x0_later, .inl (dA 0, 8, .inl a_x0_later))] H → va_D A [(q_x0, .inr (1, [.int x0_courtiers, .ref x0_dignities, .ref x0_favors, .ref q_x0_later, .int x0_rules, .ref x0_requests, .int x0_width, .int x0_granted, .long x0_spent, .int x0_gained, .int x0_lost])), (ad1, .inl (dA 0, n1, .inl a1)), (q_x0_later, .inl (dA 0, 8, .inl a_x0_later))] → va_S A s.heap H locs → lv_has ls 4 [(0, .ref q_x0), (1, .ref ad1), (2, .int v2), (3, .int v3)] → (w_X2_earlier_51 post k9 k19) bc bs v2 v3 s1 s2 s3 n1 a1 → W p l e (headSpec (ws_ yX2_earlier cX2_earlier 4 (some (.array .int))) (rm_X2_earlier bc0 bs0)).room s m ([.ref q_x0] : List Value).toArray below meth c H locs kc ks (MQ below (va_Qr (fun (u : Nat × Nat × (Nat → Int32)) => post u.2.1 u.2.2) (fun (u : Nat × Nat × (Nat → Int32)) a9 t => a9 = u.1 ∧ wrQ D dA A [(q_x0, .inr (1, [.int x0_courtiers, .ref x0_dignities, .ref x0_favors, .ref q_x0_later, .int x0_rules, .ref x0_requests, .int x0_width, .int x0_granted, .long x0_spent, .int x0_gained, .int x0_lost])), (u.1, .inl (dA 0, u.2.1, .inl u.2.2)), (q_x0_later, .inl (dA 0, 8, .inl a_x0_later))] t) A) ([.ref q_x0] : List Value).toArray s bc0 bs0 A) (F0 m 51 ls [.int s3, .int s2, .int s1, .ref ad1]) := by
      intro k9 hk9 k19 hk19 bc bs kc ks v2 v3 s1 s2 s3 ad1 n1 a1 H locs ls hbud hP hD hS hl hw
      refine lv_ior hx hb dX2_earlier_51 ?_
      obtain ⟨h39, hw⟩ := hw
      refine k_iast (k := s1.toNatClampNeg) hx hb hK hP hD hS 1 0 rfl rfl rfl h39 dX2_earlier_52 (fun H locs hP hD hS => ?_)
      have hP : va_P D vwCl [(q_x0, .inr (1, [.int x0_courtiers, .ref x0_dignities, .ref x0_favors, .ref q_x0_later, .int x0_rules, .ref x0_requests, .int x0_width, .int x0_granted, .long x0_spent, .int x0_gained, .int x0_lost])), (ad1, .inl (dA 0, n1, .inl (upd a1 s1.toNatClampNeg (s2 ||| s3)))), (q_x0_later, .inl (dA 0, 8, .inl a_x0_later))] H := hP
      have hD : va_D A [(q_x0, .inr (1, [.int x0_courtiers, .ref x0_dignities, .ref x0_favors, .ref q_x0_later, .int x0_rules, .ref x0_requests, .int x0_width, .int x0_granted, .long x0_spent, .int x0_gained, .int x0_lost])), (ad1, .inl (dA 0, n1, .inl (upd a1 s1.toNatClampNeg (s2 ||| s3)))), (q_x0_later, .inl (dA 0, 8, .inl a_x0_later))] := hD
      refine lv_iinc (v := (v3 + (nI 1))) (lv' := [(3, .int (v3 + (nI 1))), (0, .ref q_x0), (1, .ref ad1), (2, .int v2)]) hx hb dX2_earlier_53 hl (k := 3) rfl (congrArg (fun z => v3 + z) (by decide : Int32.ofInt (1) = (nI 1))) (by decide) rfl (fun ls hl => ?_)
      refine lv_goto (tgt := 19) hx hb dX2_earlier_56 (by decide) ?_
      exact hk19 bc bs kc ks v2 (v3 + (nI 1)) ad1 n1 (upd a1 s1.toNatClampNeg (s2 ||| s3)) _ _ _ hbud (hP.sub [0, 1, 2] rfl) (hD.sub [0, 1, 2] (by decide) rfl) hS (lv_sub hl [1, 2, 3, 0] rfl) hw
  have hL19 : ∀ (k9 : Nat → Nat → Int32 → Nat → (Nat → Int32) → Prop) (hk9 : ∀ (bc bs kc ks : Nat) (v2 : Int32) (ad1 : Nat) (n1 : Nat) (a1 : (Nat → Int32)) (H : Heap) (locs : List Loc) (ls : Array Slot), kc + bc ≤ bc0 ∧ ks + bs ≤ bs0 → va_P D vwCl [(q_x0, .inr (1, [.int x0_courtiers, .ref x0_dignities, .ref x0_favors, .ref q_x0_later, .int x0_rules, .ref x0_requests, .int x0_width, .int x0_granted, .long x0_spent, .int x0_gained, .int x0_lost])), (ad1, .inl (dA 0, n1, .inl a1)), (q_x0_later, .inl (dA 0, 8, .inl a_x0_later))] H → va_D A [(q_x0, .inr (1, [.int x0_courtiers, .ref x0_dignities, .ref x0_favors, .ref q_x0_later, .int x0_rules, .ref x0_requests, .int x0_width, .int x0_granted, .long x0_spent, .int x0_gained, .int x0_lost])), (ad1, .inl (dA 0, n1, .inl a1)), (q_x0_later, .inl (dA 0, 8, .inl a_x0_later))] → va_S A s.heap H locs → lv_has ls 4 [(0, .ref q_x0), (1, .ref ad1), (2, .int v2)] → k9 bc bs v2 n1 a1 → W p l e (headSpec (ws_ yX2_earlier cX2_earlier 4 (some (.array .int))) (rm_X2_earlier bc0 bs0)).room s m ([.ref q_x0] : List Value).toArray below meth c H locs kc ks (MQ below (va_Qr (fun (u : Nat × Nat × (Nat → Int32)) => post u.2.1 u.2.2) (fun (u : Nat × Nat × (Nat → Int32)) a9 t => a9 = u.1 ∧ wrQ D dA A [(q_x0, .inr (1, [.int x0_courtiers, .ref x0_dignities, .ref x0_favors, .ref q_x0_later, .int x0_rules, .ref x0_requests, .int x0_width, .int x0_granted, .long x0_spent, .int x0_gained, .int x0_lost])), (u.1, .inl (dA 0, u.2.1, .inl u.2.2)), (q_x0_later, .inl (dA 0, 8, .inl a_x0_later))] t) A) ([.ref q_x0] : List Value).toArray s bc0 bs0 A) (F0 m 9 ls [])) (n : Nat) (bc bs kc ks : Nat) (v2 : Int32) (v3 : Int32) (ad1 : Nat) (n1 : Nat) (a1 : (Nat → Int32)) (H : Heap) (locs : List Loc) (ls : Array Slot), kc + bc ≤ bc0 ∧ ks + bs ≤ bs0 → va_P D vwCl [(q_x0, .inr (1, [.int x0_courtiers, .ref x0_dignities, .ref x0_favors, .ref q_x0_later, .int x0_rules, .ref x0_requests, .int x0_width, .int x0_granted, .long x0_spent, .int x0_gained, .int x0_lost])), (ad1, .inl (dA 0, n1, .inl a1)), (q_x0_later, .inl (dA 0, 8, .inl a_x0_later))] H → va_D A [(q_x0, .inr (1, [.int x0_courtiers, .ref x0_dignities, .ref x0_favors, .ref q_x0_later, .int x0_rules, .ref x0_requests, .int x0_width, .int x0_granted, .long x0_spent, .int x0_gained, .int x0_lost])), (ad1, .inl (dA 0, n1, .inl a1)), (q_x0_later, .inl (dA 0, 8, .inl a_x0_later))] → va_S A s.heap H locs → lv_has ls 4 [(0, .ref q_x0), (1, .ref ad1), (2, .int v2), (3, .int v3)] → lpF (fun _ _ _ _ _ _ => False) (w_X2_earlier_19 post x0_courtiers a_x0_later k9) n bc bs v2 v3 n1 a1 → W p l e (headSpec (ws_ yX2_earlier cX2_earlier 4 (some (.array .int))) (rm_X2_earlier bc0 bs0)).room s m ([.ref q_x0] : List Value).toArray below meth c H locs kc ks (MQ below (va_Qr (fun (u : Nat × Nat × (Nat → Int32)) => post u.2.1 u.2.2) (fun (u : Nat × Nat × (Nat → Int32)) a9 t => a9 = u.1 ∧ wrQ D dA A [(q_x0, .inr (1, [.int x0_courtiers, .ref x0_dignities, .ref x0_favors, .ref q_x0_later, .int x0_rules, .ref x0_requests, .int x0_width, .int x0_granted, .long x0_spent, .int x0_gained, .int x0_lost])), (u.1, .inl (dA 0, u.2.1, .inl u.2.2)), (q_x0_later, .inl (dA 0, 8, .inl a_x0_later))] t) A) ([.ref q_x0] : List Value).toArray s bc0 bs0 A) (F0 m 19 ls []) := by
    intro k9 hk9 n
    induction n with
    | zero => intro bc bs kc ks v2 v3 ad1 n1 a1 H locs ls hbud hP hD hS hl hw; exact absurd hw id
    | succ n hk19 =>
      intro bc bs kc ks v2 v3 ad1 n1 a1 H locs ls hbud hP hD hS hl hw
      generalize hk9 : lpF (fun _ _ _ _ _ _ => False) (w_X2_earlier_19 post x0_courtiers a_x0_later k9) n = k19 at hk19
      have hw : (w_X2_earlier_19 post x0_courtiers a_x0_later k9) k19 bc bs v2 v3 n1 a1 := hk9 ▸ hw
      refine lv_iload_n hx hb dX2_earlier_19 rfl (lv_at hl 3 rfl) ?_
      refine lv_aload_n hx hb dX2_earlier_20 rfl (lv_at hl 0 rfl) ?_
      refine va_get (D := D) (ci := 1) (v := .int x0_courtiers) (C := RX2) (T := TX2) (N := 11) hx hb hts in_X2 hown hK hP 0 rfl rfl 0 (by decide) (hts _ q149) (fun _ h9 => h9) rfl dX2_earlier_21 ?_
      refine lv_icmp_ge (tgt := 59) hx hb dX2_earlier_24 (by decide) (fun c40 => ?_) (fun c40 => ?_)
      · have hw := hw.1 c40
        refine lv_iinc (v := (v2 + (nI 1))) (lv' := [(2, .int (v2 + (nI 1))), (0, .ref q_x0), (1, .ref ad1), (3, .int v3)]) hx hb dX2_earlier_59 hl (k := 2) rfl (congrArg (fun z => v2 + z) (by decide : Int32.ofInt (1) = (nI 1))) (by decide) rfl (fun ls hl => ?_)
        refine lv_goto (tgt := 9) hx hb dX2_earlier_62 (by decide) ?_
        exact hk9 bc bs kc ks (v2 + (nI 1)) ad1 n1 a1 _ _ _ hbud (hP.sub [0, 1, 2] rfl) (hD.sub [0, 1, 2] (by decide) rfl) hS (lv_sub hl [1, 2, 0] rfl) hw
      · have hw := hw.2 c40
        refine lv_aload_n hx hb dX2_earlier_27 rfl (lv_at hl 1 rfl) ?_
        refine lv_iload_n hx hb dX2_earlier_28 rfl (lv_at hl 3 rfl) ?_
        refine lv_dup2_11 hx hb dX2_earlier_29 rfl rfl ?_
        obtain ⟨h41, hw⟩ := hw
        refine k_iald (k := v3.toNatClampNeg) hx hb hK hP 1 0 rfl rfl rfl h41 dX2_earlier_30 ?_
        refine lv_aload_n hx hb dX2_earlier_31 rfl (lv_at hl 0 rfl) ?_
        refine va_get (D := D) (ci := 1) (v := .ref q_x0_later) (C := RX2) (T := TX2) (N := 11) hx hb hts in_X2 hown hK hP 0 rfl rfl 3 (by decide) (hts _ q155) (fun _ h9 => h9) rfl dX2_earlier_32 ?_
        refine lv_iload_n hx hb dX2_earlier_35 rfl (lv_at hl 2 rfl) ?_
        obtain ⟨h42, hw⟩ := hw
        refine k_iald (k := v2.toNatClampNeg) hx hb hK hP 2 0 rfl rfl rfl h42 dX2_earlier_36 ?_
        refine lv_iload_n hx hb dX2_earlier_37 rfl (lv_at hl 3 rfl) ?_
        refine k_ri (kc_pSN (As := [.int (a_x0_later v2.toNatClampNeg), .int v3]) (rest := [.int (a1 v3.toNatClampNeg), .int v3, .ref ad1]) hSx (met_X1_isIn l (a_x0_later v2.toNatClampNeg) v3 _ hw) hNW q423 q425 q67 q424 hd_X1_isIn ⟨Nat.le_of_ble_eq_true rfl, Nat.le_of_ble_eq_true rfl⟩ rfl rfl rfl hl.1 (Nat.le_of_ble_eq_true rfl) rfl dX2_earlier_38 ⟨(show kc + 0 ≤ bc0 by omega), (show ks + 0 ≤ bs0 by omega)⟩) (fun r43 hw => ?_)
        refine lv_if_eq (tgt := 50) hx hb dX2_earlier_41 (by decide) (fun c44 => ?_) (fun c44 => ?_)
        · have hw := hw.1 c44
          refine lv_iconst (v := (nI 0)) hx hb dX2_earlier_50 (by decide) ?_
          exact hL51 k9 hk9 k19 hk19 bc bs kc ks v2 v3 v3 (a1 v3.toNatClampNeg) (nI 0) ad1 n1 a1 _ _ _ hbud (hP.sub [0, 1, 2] rfl) (hD.sub [0, 1, 2] (by decide) rfl) hS (lv_sub hl [0, 1, 2, 3] rfl) hw
        · have hw := hw.2 c44
          refine lv_iconst (v := (nI 1)) hx hb dX2_earlier_44 (by decide) ?_
          refine lv_iload_n hx hb dX2_earlier_45 rfl (lv_at hl 2 rfl) ?_
          refine lv_ishl hx hb dX2_earlier_46 ?_
          refine lv_goto (tgt := 51) hx hb dX2_earlier_47 (by decide) ?_
          exact hL51 k9 hk9 k19 hk19 bc bs kc ks v2 v3 v3 (a1 v3.toNatClampNeg) ((nI 1) <<< (v2 &&& 31)) ad1 n1 a1 _ _ _ hbud (hP.sub [0, 1, 2] rfl) (hD.sub [0, 1, 2] (by decide) rfl) hS (lv_sub hl [0, 1, 2, 3] rfl) hw
  have hL9 : ∀  (n : Nat) (bc bs kc ks : Nat) (v2 : Int32) (ad1 : Nat) (n1 : Nat) (a1 : (Nat → Int32)) (H : Heap) (locs : List Loc) (ls : Array Slot), kc + bc ≤ bc0 ∧ ks + bs ≤ bs0 → va_P D vwCl [(q_x0, .inr (1, [.int x0_courtiers, .ref x0_dignities, .ref x0_favors, .ref q_x0_later, .int x0_rules, .ref x0_requests, .int x0_width, .int x0_granted, .long x0_spent, .int x0_gained, .int x0_lost])), (ad1, .inl (dA 0, n1, .inl a1)), (q_x0_later, .inl (dA 0, 8, .inl a_x0_later))] H → va_D A [(q_x0, .inr (1, [.int x0_courtiers, .ref x0_dignities, .ref x0_favors, .ref q_x0_later, .int x0_rules, .ref x0_requests, .int x0_width, .int x0_granted, .long x0_spent, .int x0_gained, .int x0_lost])), (ad1, .inl (dA 0, n1, .inl a1)), (q_x0_later, .inl (dA 0, 8, .inl a_x0_later))] → va_S A s.heap H locs → lv_has ls 4 [(0, .ref q_x0), (1, .ref ad1), (2, .int v2)] → lpF (fun _ _ _ _ _ => False) (w_X2_earlier_9 post x0_courtiers a_x0_later) n bc bs v2 n1 a1 → W p l e (headSpec (ws_ yX2_earlier cX2_earlier 4 (some (.array .int))) (rm_X2_earlier bc0 bs0)).room s m ([.ref q_x0] : List Value).toArray below meth c H locs kc ks (MQ below (va_Qr (fun (u : Nat × Nat × (Nat → Int32)) => post u.2.1 u.2.2) (fun (u : Nat × Nat × (Nat → Int32)) a9 t => a9 = u.1 ∧ wrQ D dA A [(q_x0, .inr (1, [.int x0_courtiers, .ref x0_dignities, .ref x0_favors, .ref q_x0_later, .int x0_rules, .ref x0_requests, .int x0_width, .int x0_granted, .long x0_spent, .int x0_gained, .int x0_lost])), (u.1, .inl (dA 0, u.2.1, .inl u.2.2)), (q_x0_later, .inl (dA 0, 8, .inl a_x0_later))] t) A) ([.ref q_x0] : List Value).toArray s bc0 bs0 A) (F0 m 9 ls []) := by
    intro  n
    induction n with
    | zero => intro bc bs kc ks v2 ad1 n1 a1 H locs ls hbud hP hD hS hl hw; exact absurd hw id
    | succ n hk9 =>
      intro bc bs kc ks v2 ad1 n1 a1 H locs ls hbud hP hD hS hl hw
      generalize hk9 : lpF (fun _ _ _ _ _ => False) (w_X2_earlier_9 post x0_courtiers a_x0_later) n = k9 at hk9
      have hw : (w_X2_earlier_9 post x0_courtiers a_x0_later) k9 bc bs v2 n1 a1 := hk9 ▸ hw
      refine lv_iload_n hx hb dX2_earlier_9 rfl (lv_at hl 2 rfl) ?_
      refine lv_aload_n hx hb dX2_earlier_10 rfl (lv_at hl 0 rfl) ?_
      refine va_get (D := D) (ci := 1) (v := .int x0_courtiers) (C := RX2) (T := TX2) (N := 11) hx hb hts in_X2 hown hK hP 0 rfl rfl 0 (by decide) (hts _ q149) (fun _ h9 => h9) rfl dX2_earlier_11 ?_
      refine lv_icmp_ge (tgt := 65) hx hb dX2_earlier_14 (by decide) (fun c45 => ?_) (fun c45 => ?_)
      · have hw := hw.1 c45
        refine lv_aload_n hx hb dX2_earlier_65 rfl (lv_at hl 1 rfl) ?_
        refine W.widen (k := bc0) (n := bs0) (by omega) (by omega) ?_
        exact W.aret (v := .ref ad1) hx hb hr (Or.inr ⟨_, rfl⟩) (Or.inr ⟨_, rfl⟩) (fun t ht hW => ⟨⟨(ad1, n1, a1), _, rfl, hw, rfl, by rw [ht]; exact hP.sub [0, 1, 2] rfl, va_K.moved hW.alike hK, hD.sub [0, 1, 2] (by decide) rfl⟩, hS.F ht⟩) hS.2.2 dX2_earlier_66
      · have hw := hw.2 c45
        refine lv_iconst (v := (nI 0)) hx hb dX2_earlier_17 (by decide) ?_
        refine lv_istore_n (lv' := [(3, .int (nI 0)), (0, .ref q_x0), (1, .ref ad1), (2, .int v2)]) hx hb dX2_earlier_18 rfl hl (by decide) rfl (fun ls hl => ?_)
        obtain ⟨n, hw⟩ := hw
        exact hL19 k9 hk9 n bc bs kc ks v2 (nI 0) ad1 n1 a1 _ _ _ hbud (hP.sub [0, 1, 2] rfl) (hD.sub [0, 1, 2] (by decide) rfl) hS (lv_sub hl [1, 2, 3, 0] rfl) hw
  refine lv_aload_n hx hb dX2_earlier_0 rfl (lv_at hl 0 rfl) ?_
  refine va_get (D := D) (ci := 1) (v := .int x0_courtiers) (C := RX2) (T := TX2) (N := 11) hx hb hts in_X2 hown hK hP 0 rfl rfl 0 (by decide) (hts _ q149) (fun _ h9 => h9) rfl dX2_earlier_1 ?_
  obtain ⟨N47, h48, h49, hw⟩ := hw
  obtain ⟨h50, h51, hw⟩ := hw
  refine k_newa (ty := .int) (atype := .int) (a0 := (N47, .inl (fun _ => (0 : Int32)))) hx hb (hts _ q148) rfl (fun _ h => by cases h) 0 rfl hK hP hD hS hA (fun _ => rfl) (by rw [h48]; exact nI_pos (by omega)) (by rw [h48]; exact clK N47 (by omega)) (by first | omega | (dsimp only [componentBytes]; omega)) (show 0 + 1 ≤ bc0 by omega) (show 0 + N47 ≤ bs0 by omega) dX2_earlier_4 (fun q46 H hP hD hS => ?_)
  have hP : va_P D vwCl [(q_x0, .inr (1, [.int x0_courtiers, .ref x0_dignities, .ref x0_favors, .ref q_x0_later, .int x0_rules, .ref x0_requests, .int x0_width, .int x0_granted, .long x0_spent, .int x0_gained, .int x0_lost])), (q_x0_later, .inl (dA 0, 8, .inl a_x0_later)), (q46, .inl (dA 0, N47, .inl (fun _ => (0 : Int32))))] H := hP
  have hD : va_D A [(q_x0, .inr (1, [.int x0_courtiers, .ref x0_dignities, .ref x0_favors, .ref q_x0_later, .int x0_rules, .ref x0_requests, .int x0_width, .int x0_granted, .long x0_spent, .int x0_gained, .int x0_lost])), (q_x0_later, .inl (dA 0, 8, .inl a_x0_later)), (q46, .inl (dA 0, N47, .inl (fun _ => (0 : Int32))))] := hD
  have hbud : (0 + 1) + (bc0 - 1) ≤ bc0 ∧ (0 + N47) + (bs0 - N47) ≤ bs0 := by omega
  refine lv_astore_n (lv' := [(1, .ref q46), (0, .ref q_x0)]) hx hb dX2_earlier_6 rfl hl (by decide) rfl (fun ls hl => ?_)
  refine lv_iconst (v := (nI 0)) hx hb dX2_earlier_7 (by decide) ?_
  refine lv_istore_n (lv' := [(2, .int (nI 0)), (1, .ref q46), (0, .ref q_x0)]) hx hb dX2_earlier_8 rfl hl (by decide) rfl (fun ls hl => ?_)
  obtain ⟨n, hw⟩ := hw
  exact hL9  n (bc0 - 1) (bs0 - N47) (0 + 1) (0 + N47) (nI 0) q46 N47 (fun _ => (0 : Int32)) _ _ _ hbud (hP.sub [0, 2, 1] rfl) (hD.sub [0, 2, 1] (by decide) rfl) hS (lv_sub hl [2, 1, 0] rfl) hw
def w_X2_canFollow (post : Int32 → Prop) (n_x0 : Nat) (a_x0 : (Nat → Int32)) (x1 : Int32) (x2 : Int32) : Prop :=
  w_X1_isIn (fun r5 => ((r5 = 0 → (vp_in x2 n_x0 ∧ ((((a_x0 x2.toNatClampNeg) &&& (x1 ^^^ (-1))) = 0 → post (nI 1)) ∧ (¬ ((a_x0 x2.toNatClampNeg) &&& (x1 ^^^ (-1))) = 0 → post (nI 0))))) ∧ (¬ r5 = 0 → post (nI 0)))) x1 x2
def rm_X2_canFollow : Room := { frames := 1, cells := 0, slots := 0, locals := 21 }
set_option maxHeartbeats 4000000 in
set_option maxRecDepth 100000 in
theorem met_X2_canFollow (l : Launch) (D : va_G) (dA : Nat → ClassId) (cx : CXt) (q_x0 : Nat) (n_x0 : Nat) (a_x0 : (Nat → Int32)) (x1 : Int32) (x2 : Int32) (post : Int32 → Prop) (hw : w_X2_canFollow post n_x0 a_x0 x1 x2) : Met l yX2_canFollow (ws_ yX2_canFollow cX2_canFollow 3 (some .boolean)) rm_X2_canFollow (va_Pc [.ref q_x0, .int x1, .int x2] (rdC D dA cx [(q_x0, .inl (dA 0, n_x0, .inl a_x0))])) (vp_Si (fun r => post r)) 0 0 (fun _ => False) := by
  refine Met.ofW (cc := cX2_canFollow) (maxL := 3) (ret := (some .boolean)) (by decide) rfl ?_
  intro p e s m args below meth c s₁ B hml hv
  obtain ⟨rfl, hP, hK, hC⟩ := hv
  have hx := B.exec
  have hb := B.bytes
  have hr := B.returns
  have hts := atoms_spec (ws := (ws_ yX2_canFollow cX2_canFollow 3 (some .boolean))) B.pre
  have hts : ∀ w ∈ lw_all, w.before _ s = true := fun w h => hts w (List.mem_cons_of_mem _ h)
  have hown : s.vm.findClass RX2 = some m.cls := findClass_of_methodNamed B.named
  have hlocks := B.notSynchronized
  have hSx : CallFix p m c cX2_canFollow 3 s _ lw_all RX2 := ⟨hx, hb, hml, hown, hts⟩
  have hNW := hC.1
  have hl := lv_entry ([.ref q_x0, .int x1, .int x2]) (n := 3) (Nat.le_of_ble_eq_true rfl)
  rw [lg_entry_eq]
  generalize (lg_sl ([.ref q_x0, .int x1, .int x2]) ++ List.replicate (3 - (lg_sl ([.ref q_x0, .int x1, .int x2])).length) Slot.unset).toArray = ls at hl ⊢
  have hl : lv_has ls 3 [(0, .ref q_x0), (1, .int x1), (2, .int x2)] := hl
  refine lv_iload_n hx hb dX2_canFollow_0 rfl (lv_at hl 1 rfl) ?_
  refine lv_iload_n hx hb dX2_canFollow_1 rfl (lv_at hl 2 rfl) ?_
  refine k_ri (kc_pSN (As := [.int x1, .int x2]) (rest := []) hSx (met_X1_isIn l x1 x2 _ hw) hNW q423 q425 q67 q424 hd_X1_isIn ⟨Nat.le_of_ble_eq_true rfl, Nat.le_of_ble_eq_true rfl⟩ rfl rfl rfl hl.1 (Nat.le_of_ble_eq_true rfl) rfl dX2_canFollow_2 ⟨Nat.le_refl 0, Nat.le_refl 0⟩) (fun r5 hw => ?_)
  refine lv_if_ne (tgt := 22) hx hb dX2_canFollow_5 (by decide) (fun c6 => ?_) (fun c6 => ?_)
  · have hw := hw.2 c6
    refine lv_iconst (v := (nI 0)) hx hb dX2_canFollow_22 (by decide) ?_
    exact W.zret (v := (nI 0)) hx hb hr rfl (fun t ht hW => ⟨(nI 0), rfl, hw, ht⟩) (fun _ h => by cases h) dX2_canFollow_23
  · have hw := hw.1 c6
    refine lv_aload_n hx hb dX2_canFollow_8 rfl (lv_at hl 0 rfl) ?_
    refine lv_iload_n hx hb dX2_canFollow_9 rfl (lv_at hl 2 rfl) ?_
    obtain ⟨h7, hw⟩ := hw
    refine k_iald (k := x2.toNatClampNeg) hx hb hK hP 0 0 rfl rfl rfl h7 dX2_canFollow_10 ?_
    refine lv_iload_n hx hb dX2_canFollow_11 rfl (lv_at hl 1 rfl) ?_
    refine lv_iconst (v := (-1)) hx hb dX2_canFollow_12 (by decide) ?_
    refine lv_ixor hx hb dX2_canFollow_13 ?_
    refine lv_iand hx hb dX2_canFollow_14 ?_
    refine lv_if_ne (tgt := 22) hx hb dX2_canFollow_15 (by decide) (fun c8 => ?_) (fun c8 => ?_)
    · have hw := hw.2 c8
      refine lv_iconst (v := (nI 0)) hx hb dX2_canFollow_22 (by decide) ?_
      exact W.zret (v := (nI 0)) hx hb hr rfl (fun t ht hW => ⟨(nI 0), rfl, hw, ht⟩) (fun _ h => by cases h) dX2_canFollow_23
    · have hw := hw.1 c8
      refine lv_iconst (v := (nI 1)) hx hb dX2_canFollow_18 (by decide) ?_
      refine lv_goto (tgt := 23) hx hb dX2_canFollow_19 (by decide) ?_
      exact W.zret (v := (nI 1)) hx hb hr rfl (fun t ht hW => ⟨(nI 1), rfl, hw, ht⟩) (fun _ h => by cases h) dX2_canFollow_23
def w_X2_processions_62 (post : Int64 → Prop)  (k20 : Nat → Nat → Int32 → Nat → (Nat → Int32) → Nat → (Nat → Int64) → Prop) (k29 : Nat → Nat → Int32 → Int32 → Nat → (Nat → Int32) → Nat → (Nat → Int64) → Prop) (bc bs : Nat) (v3 : Int32) (v4 : Int32) (n1 : Nat) (a1 : (Nat → Int32)) (n2 : Nat) (a2 : (Nat → Int64)) : Prop :=
  k29 bc bs v3 (v4 + (nI 1)) n1 a1 n2 a2
def w_X2_processions_29 (post : Int64 → Prop) (x0_courtiers : Int32) (k20 : Nat → Nat → Int32 → Nat → (Nat → Int32) → Nat → (Nat → Int64) → Prop) (k29 : Nat → Nat → Int32 → Int32 → Nat → (Nat → Int32) → Nat → (Nat → Int64) → Prop) (bc bs : Nat) (v3 : Int32) (v4 : Int32) (n1 : Nat) (a1 : (Nat → Int32)) (n2 : Nat) (a2 : (Nat → Int64)) : Prop :=
  ((x0_courtiers ≤ v4 → k20 bc bs (v3 + (nI 1)) n1 a1 n2 a2) ∧ (¬ x0_courtiers ≤ v4 → w_X2_canFollow (fun r68 => ((r68 = 0 → (w_X2_processions_62 post k20 k29) bc bs v3 v4 n1 a1 n2 a2) ∧ (¬ r68 = 0 → (vp_in (v3 ||| ((nI 1) <<< (v4 &&& 31))) n2 ∧ (vp_in v3 n2 ∧ (vp_in (v3 ||| ((nI 1) <<< (v4 &&& 31))) n2 ∧ (w_X2_processions_62 post k20 k29) bc bs v3 v4 n1 a1 n2 (vp_updL a2 (v3 ||| ((nI 1) <<< (v4 &&& 31))).toNatClampNeg ((a2 (v3 ||| ((nI 1) <<< (v4 &&& 31))).toNatClampNeg) + (a2 v3.toNatClampNeg))))))))) n1 a1 v3 v4))
def w_X2_processions_20 (post : Int64 → Prop) (x0_courtiers : Int32) (k20 : Nat → Nat → Int32 → Nat → (Nat → Int32) → Nat → (Nat → Int64) → Prop) (bc bs : Nat) (v3 : Int32) (n1 : Nat) (a1 : (Nat → Int32)) (n2 : Nat) (a2 : (Nat → Int64)) : Prop :=
  (((nI n2) ≤ v3 → (vp_in ((nI n2) - (nI 1)) n2 ∧ post (a2 ((nI n2) - (nI 1)).toNatClampNeg))) ∧ (¬ (nI n2) ≤ v3 → (∃ n : Nat, lpF (fun _ _ _ _ _ _ _ _ => False) (w_X2_processions_29 post x0_courtiers k20) n bc bs v3 (nI 0) n1 a1 n2 a2)))
def w_X2_processions (post : Int64 → Prop) (bc bs : Nat) (x0_courtiers : Int32) (a_x0_later : (Nat → Int32)) : Prop :=
  (∃ b78 b79 : Nat, b78 ≤ bc ∧ b79 ≤ bs ∧ w_X2_earlier (fun o76 o77 => (∃ N83 : Nat, ((nI 1) <<< (x0_courtiers &&& 31)) = nI N83 ∧ N83 * 8 ≤ 536870912 ∧ (1 ≤ (bc - b78) ∧ N83 ≤ (bs - b79) ∧ (vp_in (nI 0) N83 ∧ (∃ n : Nat, lpF (fun _ _ _ _ _ _ _ => False) (w_X2_processions_20 post x0_courtiers) n ((bc - b78) - 1) ((bs - b79) - N83) (nI 0) o76 o77 N83 (vp_updL (fun _ => (0 : Int64)) (nI 0).toNatClampNeg (lN 1))))))) b78 b79 x0_courtiers a_x0_later)
theorem hd_X2_earlier : yX2_earlier.cls ≠ "java/lang/invoke/MethodHandle" ∧ yX2_earlier.cls ≠ "java/lang/invoke/VarHandle" ∧ (parseMethodDescriptor yX2_earlier.desc).map (fun d => d.parameters.length) = some 0 := by decide +kernel
theorem gX2_120 : GoodIn lw_all (wsV RX2 120 RX2 yX2_earlier (ws_ yX2_earlier cX2_earlier 4 (some (.array .int)))) := lw_V q419 q421 qs3 q68 q422
theorem hd_X2_canFollow : yX2_canFollow.cls ≠ "java/lang/invoke/MethodHandle" ∧ yX2_canFollow.cls ≠ "java/lang/invoke/VarHandle" ∧ (parseMethodDescriptor yX2_canFollow.desc).map (fun d => d.parameters.length) = some 3 := by decide +kernel
theorem gX2_124 : GoodIn lw_all (va_wsS RX2 124 yX2_canFollow (ws_ yX2_canFollow cX2_canFollow 3 (some .boolean))) := lw_S q426 q427 q68 q428
def rm_X2_processions (bc0 bs0 : Nat) : Room := { frames := 2, cells := bc0, slots := bs0, locals := 44 }
set_option maxHeartbeats 4000000 in
set_option maxRecDepth 100000 in
theorem met_X2_processions (l : Launch) (D : va_G) (dA : Nat → ClassId) (cx : CXt) (sz : Nat) (bc0 bs0 : Nat) (q_x0 : Nat) (x0_courtiers : Int32) (x0_dignities : Nat) (x0_favors : Nat) (q_x0_later : Nat) (a_x0_later : (Nat → Int32)) (x0_rules : Int32) (x0_requests : Nat) (x0_width : Int32) (x0_granted : Int32) (x0_spent : Int64) (x0_gained : Int32) (x0_lost : Int32) (post : Int64 → Prop) (hw : w_X2_processions post bc0 bs0 x0_courtiers a_x0_later) : Met l yX2_processions (ws_ yX2_processions cX2_processions 5 (some .long)) (rm_X2_processions bc0 bs0) (va_Pc [.ref q_x0] (wrC D dA cx sz [(q_x0, .inr (1, [.int x0_courtiers, .ref x0_dignities, .ref x0_favors, .ref q_x0_later, .int x0_rules, .ref x0_requests, .int x0_width, .int x0_granted, .long x0_spent, .int x0_gained, .int x0_lost])), (q_x0_later, .inl (dA 0, 8, .inl a_x0_later))])) (va_Ql (fun (r : Int64) (u : Unit) => post r ) (fun (u : Unit) t => wrQ D dA (va_A [(q_x0, .inr (1, [.int x0_courtiers, .ref x0_dignities, .ref x0_favors, .ref q_x0_later, .int x0_rules, .ref x0_requests, .int x0_width, .int x0_granted, .long x0_spent, .int x0_gained, .int x0_lost])), (q_x0_later, .inl (dA 0, 8, .inl a_x0_later))] sz) [(q_x0, .inr (1, [.int x0_courtiers, .ref x0_dignities, .ref x0_favors, .ref q_x0_later, .int x0_rules, .ref x0_requests, .int x0_width, .int x0_granted, .long x0_spent, .int x0_gained, .int x0_lost])), (q_x0_later, .inl (dA 0, 8, .inl a_x0_later))] t) (va_A [(q_x0, .inr (1, [.int x0_courtiers, .ref x0_dignities, .ref x0_favors, .ref q_x0_later, .int x0_rules, .ref x0_requests, .int x0_width, .int x0_granted, .long x0_spent, .int x0_gained, .int x0_lost])), (q_x0_later, .inl (dA 0, 8, .inl a_x0_later))] sz)) bc0 bs0 (va_A [(q_x0, .inr (1, [.int x0_courtiers, .ref x0_dignities, .ref x0_favors, .ref q_x0_later, .int x0_rules, .ref x0_requests, .int x0_width, .int x0_granted, .long x0_spent, .int x0_gained, .int x0_lost])), (q_x0_later, .inl (dA 0, 8, .inl a_x0_later))] sz) := by
  refine Met.ofW (cc := cX2_processions) (maxL := 5) (ret := (some .long)) (by decide) rfl ?_
  intro p e s m args below meth c s₁ B hml hv
  obtain ⟨rfl, hsz, hP, hK, hD0, hC⟩ := hv
  have hx := B.exec
  have hb := B.bytes
  have hr := B.returns
  have hts := atoms_spec (ws := (ws_ yX2_processions cX2_processions 5 (some .long))) B.pre
  have hts : ∀ w ∈ lw_all, w.before _ s = true := fun w h => hts w (List.mem_cons_of_mem _ h)
  have hown : s.vm.findClass RX2 = some m.cls := findClass_of_methodNamed B.named
  have hlocks := B.notSynchronized
  have hSx : CallFix p m c cX2_processions 5 s _ lw_all RX2 := ⟨hx, hb, hml, hown, hts⟩
  subst hsz
  have hD := hD0.self (sz := s.heap.size)
  generalize hAe : va_A [(q_x0, .inr (1, [.int x0_courtiers, .ref x0_dignities, .ref x0_favors, .ref q_x0_later, .int x0_rules, .ref x0_requests, .int x0_width, .int x0_granted, .long x0_spent, .int x0_gained, .int x0_lost])), (q_x0_later, .inl (dA 0, 8, .inl a_x0_later))] s.heap.size = A at hD hC ⊢
  have hA : ∀ q : Nat, s.heap.size ≤ q → A q := fun q h => by rw [← hAe]; exact Or.inr h
  have hS : va_S A s.heap s.heap [] := va_S.rf
  have hbud : 0 + bc0 ≤ bc0 ∧ 0 + bs0 ≤ bs0 := by omega
  have hNW := hC.1
  have hl := lv_entry ([.ref q_x0]) (n := 5) (Nat.le_of_ble_eq_true rfl)
  rw [lg_entry_eq]
  generalize (lg_sl ([.ref q_x0]) ++ List.replicate (5 - (lg_sl ([.ref q_x0])).length) Slot.unset).toArray = ls at hl ⊢
  have hl : lv_has ls 5 [(0, .ref q_x0)] := hl
  have hL62 : ∀ (k20 : Nat → Nat → Int32 → Nat → (Nat → Int32) → Nat → (Nat → Int64) → Prop) (hk20 : ∀ (bc bs kc ks : Nat) (v3 : Int32) (ad1 : Nat) (n1 : Nat) (a1 : (Nat → Int32)) (ad2 : Nat) (n2 : Nat) (a2 : (Nat → Int64)) (H : Heap) (locs : List Loc) (ls : Array Slot), kc + bc ≤ bc0 ∧ ks + bs ≤ bs0 → va_P D vwCl [(q_x0, .inr (1, [.int x0_courtiers, .ref x0_dignities, .ref x0_favors, .ref q_x0_later, .int x0_rules, .ref x0_requests, .int x0_width, .int x0_granted, .long x0_spent, .int x0_gained, .int x0_lost])), (ad1, .inl (dA 0, n1, .inl a1)), (ad2, .inl (dA 2, n2, .inr (.inl a2))), (q_x0_later, .inl (dA 0, 8, .inl a_x0_later))] H → va_D A [(q_x0, .inr (1, [.int x0_courtiers, .ref x0_dignities, .ref x0_favors, .ref q_x0_later, .int x0_rules, .ref x0_requests, .int x0_width, .int x0_granted, .long x0_spent, .int x0_gained, .int x0_lost])), (ad1, .inl (dA 0, n1, .inl a1)), (ad2, .inl (dA 2, n2, .inr (.inl a2))), (q_x0_later, .inl (dA 0, 8, .inl a_x0_later))] → va_S A s.heap H locs → lv_has ls 5 [(0, .ref q_x0), (1, .ref ad1), (2, .ref ad2), (3, .int v3)] → k20 bc bs v3 n1 a1 n2 a2 → W p l e (headSpec (ws_ yX2_processions cX2_processions 5 (some .long)) (rm_X2_processions bc0 bs0)).room s m ([.ref q_x0] : List Value).toArray below meth c H locs kc ks (MQ below (va_Ql (fun (r : Int64) (u : Unit) => post r ) (fun (u : Unit) t => wrQ D dA A [(q_x0, .inr (1, [.int x0_courtiers, .ref x0_dignities, .ref x0_favors, .ref q_x0_later, .int x0_rules, .ref x0_requests, .int x0_width, .int x0_granted, .long x0_spent, .int x0_gained, .int x0_lost])), (q_x0_later, .inl (dA 0, 8, .inl a_x0_later))] t) A) ([.ref q_x0] : List Value).toArray s bc0 bs0 A) (F0 m 20 ls [])) (k29 : Nat → Nat → Int32 → Int32 → Nat → (Nat → Int32) → Nat → (Nat → Int64) → Prop) (hk29 : ∀ (bc bs kc ks : Nat) (v3 : Int32) (v4 : Int32) (ad1 : Nat) (n1 : Nat) (a1 : (Nat → Int32)) (ad2 : Nat) (n2 : Nat) (a2 : (Nat → Int64)) (H : Heap) (locs : List Loc) (ls : Array Slot), kc + bc ≤ bc0 ∧ ks + bs ≤ bs0 → va_P D vwCl [(q_x0, .inr (1, [.int x0_courtiers, .ref x0_dignities, .ref x0_favors, .ref q_x0_later, .int x0_rules, .ref x0_requests, .int x0_width, .int x0_granted, .long x0_spent, .int x0_gained, .int x0_lost])), (ad1, .inl (dA 0, n1, .inl a1)), (ad2, .inl (dA 2, n2, .inr (.inl a2))), (q_x0_later, .inl (dA 0, 8, .inl a_x0_later))] H → va_D A [(q_x0, .inr (1, [.int x0_courtiers, .ref x0_dignities, .ref x0_favors, .ref q_x0_later, .int x0_rules, .ref x0_requests, .int x0_width, .int x0_granted, .long x0_spent, .int x0_gained, .int x0_lost])), (ad1, .inl (dA 0, n1, .inl a1)), (ad2, .inl (dA 2, n2, .inr (.inl a2))), (q_x0_later, .inl (dA 0, 8, .inl a_x0_later))] → va_S A s.heap H locs → lv_has ls 5 [(0, .ref q_x0), (1, .ref ad1), (2, .ref ad2), (3, .int v3), (4, .int v4)] → k29 bc bs v3 v4 n1 a1 n2 a2 → W p l e (headSpec (ws_ yX2_processions cX2_processions 5 (some .long)) (rm_X2_processions bc0 bs0)).room s m ([.ref q_x0] : List Value).toArray below meth c H locs kc ks (MQ below (va_Ql (fun (r : Int64) (u : Unit) => post r ) (fun (u : Unit) t => wrQ D dA A [(q_x0, .inr (1, [.int x0_courtiers, .ref x0_dignities, .ref x0_favors, .ref q_x0_later, .int x0_rules, .ref x0_requests, .int x0_width, .int x0_granted, .long x0_spent, .int x0_gained, .int x0_lost])), (q_x0_later, .inl (dA 0, 8, .inl a_x0_later))] t) A) ([.ref q_x0] : List Value).toArray s bc0 bs0 A) (F0 m 29 ls [])) (bc bs kc ks : Nat) (v3 : Int32) (v4 : Int32) (ad1 : Nat) (n1 : Nat) (a1 : (Nat → Int32)) (ad2 : Nat) (n2 : Nat) (a2 : (Nat → Int64)) (H : Heap) (locs : List Loc) (ls : Array Slot), kc + bc ≤ bc0 ∧ ks + bs ≤ bs0 → va_P D vwCl [(q_x0, .inr (1, [.int x0_courtiers, .ref x0_dignities, .ref x0_favors, .ref q_x0_later, .int x0_rules, .ref x0_requests, .int x0_width, .int x0_granted, .long x0_spent, .int x0_gained, .int x0_lost])), (ad1, .inl (dA 0, n1, .inl a1)), (ad2, .inl (dA 2, n2, .inr (.inl a2))), (q_x0_later, .inl (dA 0, 8, .inl a_x0_later))] H → va_D A [(q_x0, .inr (1, [.int x0_courtiers, .ref x0_dignities, .ref x0_favors, .ref q_x0_later, .int x0_rules, .ref x0_requests, .int x0_width, .int x0_granted, .long x0_spent, .int x0_gained, .int x0_lost])), (ad1, .inl (dA 0, n1, .inl a1)), (ad2, .inl (dA 2, n2, .inr (.inl a2))), (q_x0_later, .inl (dA 0, 8, .inl a_x0_later))] → va_S A s.heap H locs → lv_has ls 5 [(0, .ref q_x0), (1, .ref ad1), (2, .ref ad2), (3, .int v3), (4, .int v4)] → (w_X2_processions_62 post k20 k29) bc bs v3 v4 n1 a1 n2 a2 → W p l e (headSpec (ws_ yX2_processions cX2_processions 5 (some .long)) (rm_X2_processions bc0 bs0)).room s m ([.ref q_x0] : List Value).toArray below meth c H locs kc ks (MQ below (va_Ql (fun (r : Int64) (u : Unit) => post r ) (fun (u : Unit) t => wrQ D dA A [(q_x0, .inr (1, [.int x0_courtiers, .ref x0_dignities, .ref x0_favors, .ref q_x0_later, .int x0_rules, .ref x0_requests, .int x0_width, .int x0_granted, .long x0_spent, .int x0_gained, .int x0_lost])), (q_x0_later, .inl (dA 0, 8, .inl a_x0_later))] t) A) ([.ref q_x0] : List Value).toArray s bc0 bs0 A) (F0 m 62 ls []) := by
      intro k20 hk20 k29 hk29 bc bs kc ks v3 v4 ad1 n1 a1 ad2 n2 a2 H locs ls hbud hP hD hS hl hw
      refine lv_iinc (v := (v4 + (nI 1))) (lv' := [(4, .int (v4 + (nI 1))), (0, .ref q_x0), (1, .ref ad1), (2, .ref ad2), (3, .int v3)]) hx hb dX2_processions_62 hl (k := 4) rfl (congrArg (fun z => v4 + z) (by decide : Int32.ofInt (1) = (nI 1))) (by decide) rfl (fun ls hl => ?_)
      refine lv_goto (tgt := 29) hx hb dX2_processions_65 (by decide) ?_
      exact hk29 bc bs kc ks v3 (v4 + (nI 1)) ad1 n1 a1 ad2 n2 a2 _ _ _ hbud (hP.sub [0, 1, 2, 3] rfl) (hD.sub [0, 1, 2, 3] (by decide) rfl) hS (lv_sub hl [1, 2, 3, 4, 0] rfl) hw
  have hL29 : ∀ (k20 : Nat → Nat → Int32 → Nat → (Nat → Int32) → Nat → (Nat → Int64) → Prop) (hk20 : ∀ (bc bs kc ks : Nat) (v3 : Int32) (ad1 : Nat) (n1 : Nat) (a1 : (Nat → Int32)) (ad2 : Nat) (n2 : Nat) (a2 : (Nat → Int64)) (H : Heap) (locs : List Loc) (ls : Array Slot), kc + bc ≤ bc0 ∧ ks + bs ≤ bs0 → va_P D vwCl [(q_x0, .inr (1, [.int x0_courtiers, .ref x0_dignities, .ref x0_favors, .ref q_x0_later, .int x0_rules, .ref x0_requests, .int x0_width, .int x0_granted, .long x0_spent, .int x0_gained, .int x0_lost])), (ad1, .inl (dA 0, n1, .inl a1)), (ad2, .inl (dA 2, n2, .inr (.inl a2))), (q_x0_later, .inl (dA 0, 8, .inl a_x0_later))] H → va_D A [(q_x0, .inr (1, [.int x0_courtiers, .ref x0_dignities, .ref x0_favors, .ref q_x0_later, .int x0_rules, .ref x0_requests, .int x0_width, .int x0_granted, .long x0_spent, .int x0_gained, .int x0_lost])), (ad1, .inl (dA 0, n1, .inl a1)), (ad2, .inl (dA 2, n2, .inr (.inl a2))), (q_x0_later, .inl (dA 0, 8, .inl a_x0_later))] → va_S A s.heap H locs → lv_has ls 5 [(0, .ref q_x0), (1, .ref ad1), (2, .ref ad2), (3, .int v3)] → k20 bc bs v3 n1 a1 n2 a2 → W p l e (headSpec (ws_ yX2_processions cX2_processions 5 (some .long)) (rm_X2_processions bc0 bs0)).room s m ([.ref q_x0] : List Value).toArray below meth c H locs kc ks (MQ below (va_Ql (fun (r : Int64) (u : Unit) => post r ) (fun (u : Unit) t => wrQ D dA A [(q_x0, .inr (1, [.int x0_courtiers, .ref x0_dignities, .ref x0_favors, .ref q_x0_later, .int x0_rules, .ref x0_requests, .int x0_width, .int x0_granted, .long x0_spent, .int x0_gained, .int x0_lost])), (q_x0_later, .inl (dA 0, 8, .inl a_x0_later))] t) A) ([.ref q_x0] : List Value).toArray s bc0 bs0 A) (F0 m 20 ls [])) (n : Nat) (bc bs kc ks : Nat) (v3 : Int32) (v4 : Int32) (ad1 : Nat) (n1 : Nat) (a1 : (Nat → Int32)) (ad2 : Nat) (n2 : Nat) (a2 : (Nat → Int64)) (H : Heap) (locs : List Loc) (ls : Array Slot), kc + bc ≤ bc0 ∧ ks + bs ≤ bs0 → va_P D vwCl [(q_x0, .inr (1, [.int x0_courtiers, .ref x0_dignities, .ref x0_favors, .ref q_x0_later, .int x0_rules, .ref x0_requests, .int x0_width, .int x0_granted, .long x0_spent, .int x0_gained, .int x0_lost])), (ad1, .inl (dA 0, n1, .inl a1)), (ad2, .inl (dA 2, n2, .inr (.inl a2))), (q_x0_later, .inl (dA 0, 8, .inl a_x0_later))] H → va_D A [(q_x0, .inr (1, [.int x0_courtiers, .ref x0_dignities, .ref x0_favors, .ref q_x0_later, .int x0_rules, .ref x0_requests, .int x0_width, .int x0_granted, .long x0_spent, .int x0_gained, .int x0_lost])), (ad1, .inl (dA 0, n1, .inl a1)), (ad2, .inl (dA 2, n2, .inr (.inl a2))), (q_x0_later, .inl (dA 0, 8, .inl a_x0_later))] → va_S A s.heap H locs → lv_has ls 5 [(0, .ref q_x0), (1, .ref ad1), (2, .ref ad2), (3, .int v3), (4, .int v4)] → lpF (fun _ _ _ _ _ _ _ _ => False) (w_X2_processions_29 post x0_courtiers k20) n bc bs v3 v4 n1 a1 n2 a2 → W p l e (headSpec (ws_ yX2_processions cX2_processions 5 (some .long)) (rm_X2_processions bc0 bs0)).room s m ([.ref q_x0] : List Value).toArray below meth c H locs kc ks (MQ below (va_Ql (fun (r : Int64) (u : Unit) => post r ) (fun (u : Unit) t => wrQ D dA A [(q_x0, .inr (1, [.int x0_courtiers, .ref x0_dignities, .ref x0_favors, .ref q_x0_later, .int x0_rules, .ref x0_requests, .int x0_width, .int x0_granted, .long x0_spent, .int x0_gained, .int x0_lost])), (q_x0_later, .inl (dA 0, 8, .inl a_x0_later))] t) A) ([.ref q_x0] : List Value).toArray s bc0 bs0 A) (F0 m 29 ls []) := by
    intro k20 hk20 n
    induction n with
    | zero => intro bc bs kc ks v3 v4 ad1 n1 a1 ad2 n2 a2 H locs ls hbud hP hD hS hl hw; exact absurd hw id
    | succ n hk29 =>
      intro bc bs kc ks v3 v4 ad1 n1 a1 ad2 n2 a2 H locs ls hbud hP hD hS hl hw
      generalize hk9 : lpF (fun _ _ _ _ _ _ _ _ => False) (w_X2_processions_29 post x0_courtiers k20) n = k29 at hk29
      have hw : (w_X2_processions_29 post x0_courtiers k20) k29 bc bs v3 v4 n1 a1 n2 a2 := hk9 ▸ hw
      refine lv_iload hx hb dX2_processions_29 (lv_at hl 4 rfl) ?_
      refine lv_aload_n hx hb dX2_processions_31 rfl (lv_at hl 0 rfl) ?_
      refine va_get (D := D) (ci := 1) (v := .int x0_courtiers) (C := RX2) (T := TX2) (N := 11) hx hb hts in_X2 hown hK hP 0 rfl rfl 0 (by decide) (hts _ q149) (fun _ h9 => h9) rfl dX2_processions_32 ?_
      refine lv_icmp_ge (tgt := 68) hx hb dX2_processions_35 (by decide) (fun c67 => ?_) (fun c67 => ?_)
      · have hw := hw.1 c67
        refine lv_iinc (v := (v3 + (nI 1))) (lv' := [(3, .int (v3 + (nI 1))), (0, .ref q_x0), (1, .ref ad1), (2, .ref ad2), (4, .int v4)]) hx hb dX2_processions_68 hl (k := 3) rfl (congrArg (fun z => v3 + z) (by decide : Int32.ofInt (1) = (nI 1))) (by decide) rfl (fun ls hl => ?_)
        refine lv_goto (tgt := 20) hx hb dX2_processions_71 (by decide) ?_
        exact hk20 bc bs kc ks (v3 + (nI 1)) ad1 n1 a1 ad2 n2 a2 _ _ _ hbud (hP.sub [0, 1, 2, 3] rfl) (hD.sub [0, 1, 2, 3] (by decide) rfl) hS (lv_sub hl [1, 2, 3, 0] rfl) hw
      · have hw := hw.2 c67
        refine lv_aload_n hx hb dX2_processions_38 rfl (lv_at hl 1 rfl) ?_
        refine lv_iload_n hx hb dX2_processions_39 rfl (lv_at hl 3 rfl) ?_
        refine lv_iload hx hb dX2_processions_40 (lv_at hl 4 rfl) ?_
        refine k_ri (kc_rS (As := [.ref ad1, .int v3, .int v4]) (rest := []) hSx (met_X2_canFollow l D dA cx ad1 n1 a1 v3 v4 _ hw) gX2_124 hd_X2_canFollow ⟨Nat.le_of_ble_eq_true rfl, Nat.le_of_ble_eq_true rfl⟩ rfl rfl hP hK (hC.kept hS.2.1) [1] rfl rfl hl.1 (Nat.le_of_ble_eq_true rfl) rfl dX2_processions_42 ⟨(show kc + 0 ≤ bc0 by omega), (show ks + 0 ≤ bs0 by omega)⟩) (fun r68 hw => ?_)
        refine lv_if_eq (tgt := 62) hx hb dX2_processions_45 (by decide) (fun c69 => ?_) (fun c69 => ?_)
        · have hw := hw.1 c69
          exact hL62 k20 hk20 k29 hk29 bc bs kc ks v3 v4 ad1 n1 a1 ad2 n2 a2 _ _ _ hbud (hP.sub [0, 1, 2, 3] rfl) (hD.sub [0, 1, 2, 3] (by decide) rfl) hS (lv_sub hl [0, 1, 2, 3, 4] rfl) hw
        · have hw := hw.2 c69
          refine lv_aload_n hx hb dX2_processions_48 rfl (lv_at hl 2 rfl) ?_
          refine lv_iload_n hx hb dX2_processions_49 rfl (lv_at hl 3 rfl) ?_
          refine lv_iconst (v := (nI 1)) hx hb dX2_processions_50 (by decide) ?_
          refine lv_iload hx hb dX2_processions_51 (lv_at hl 4 rfl) ?_
          refine lv_ishl hx hb dX2_processions_53 ?_
          refine lv_ior hx hb dX2_processions_54 ?_
          refine lv_dup2_11 hx hb dX2_processions_55 rfl rfl ?_
          obtain ⟨h70, hw⟩ := hw
          refine k_lald (k := (v3 ||| ((nI 1) <<< (v4 &&& 31))).toNatClampNeg) hx hb hK hP 2 2 rfl rfl rfl h70 dX2_processions_56 ?_
          refine lv_aload_n hx hb dX2_processions_57 rfl (lv_at hl 2 rfl) ?_
          refine lv_iload_n hx hb dX2_processions_58 rfl (lv_at hl 3 rfl) ?_
          obtain ⟨h71, hw⟩ := hw
          refine k_lald (k := v3.toNatClampNeg) hx hb hK hP 2 2 rfl rfl rfl h71 dX2_processions_59 ?_
          refine lv_ladd hx hb dX2_processions_60 ?_
          obtain ⟨h72, hw⟩ := hw
          refine k_last (k := (v3 ||| ((nI 1) <<< (v4 &&& 31))).toNatClampNeg) hx hb hK hP hD hS 2 2 rfl rfl rfl h72 dX2_processions_61 (fun H locs hP hD hS => ?_)
          have hP : va_P D vwCl [(q_x0, .inr (1, [.int x0_courtiers, .ref x0_dignities, .ref x0_favors, .ref q_x0_later, .int x0_rules, .ref x0_requests, .int x0_width, .int x0_granted, .long x0_spent, .int x0_gained, .int x0_lost])), (ad1, .inl (dA 0, n1, .inl a1)), (ad2, .inl (dA 2, n2, .inr (.inl (vp_updL a2 (v3 ||| ((nI 1) <<< (v4 &&& 31))).toNatClampNeg ((a2 (v3 ||| ((nI 1) <<< (v4 &&& 31))).toNatClampNeg) + (a2 v3.toNatClampNeg)))))), (q_x0_later, .inl (dA 0, 8, .inl a_x0_later))] H := hP
          have hD : va_D A [(q_x0, .inr (1, [.int x0_courtiers, .ref x0_dignities, .ref x0_favors, .ref q_x0_later, .int x0_rules, .ref x0_requests, .int x0_width, .int x0_granted, .long x0_spent, .int x0_gained, .int x0_lost])), (ad1, .inl (dA 0, n1, .inl a1)), (ad2, .inl (dA 2, n2, .inr (.inl (vp_updL a2 (v3 ||| ((nI 1) <<< (v4 &&& 31))).toNatClampNeg ((a2 (v3 ||| ((nI 1) <<< (v4 &&& 31))).toNatClampNeg) + (a2 v3.toNatClampNeg)))))), (q_x0_later, .inl (dA 0, 8, .inl a_x0_later))] := hD
          exact hL62 k20 hk20 k29 hk29 bc bs kc ks v3 v4 ad1 n1 a1 ad2 n2 (vp_updL a2 (v3 ||| ((nI 1) <<< (v4 &&& 31))).toNatClampNeg ((a2 (v3 ||| ((nI 1) <<< (v4 &&& 31))).toNatClampNeg) + (a2 v3.toNatClampNeg))) _ _ _ hbud (hP.sub [0, 1, 2, 3] rfl) (hD.sub [0, 1, 2, 3] (by decide) rfl) hS (lv_sub hl [0, 1, 2, 3, 4] rfl) hw
  have hL20 : ∀  (n : Nat) (bc bs kc ks : Nat) (v3 : Int32) (ad1 : Nat) (n1 : Nat) (a1 : (Nat → Int32)) (ad2 : Nat) (n2 : Nat) (a2 : (Nat → Int64)) (H : Heap) (locs : List Loc) (ls : Array Slot), kc + bc ≤ bc0 ∧ ks + bs ≤ bs0 → va_P D vwCl [(q_x0, .inr (1, [.int x0_courtiers, .ref x0_dignities, .ref x0_favors, .ref q_x0_later, .int x0_rules, .ref x0_requests, .int x0_width, .int x0_granted, .long x0_spent, .int x0_gained, .int x0_lost])), (ad1, .inl (dA 0, n1, .inl a1)), (ad2, .inl (dA 2, n2, .inr (.inl a2))), (q_x0_later, .inl (dA 0, 8, .inl a_x0_later))] H → va_D A [(q_x0, .inr (1, [.int x0_courtiers, .ref x0_dignities, .ref x0_favors, .ref q_x0_later, .int x0_rules, .ref x0_requests, .int x0_width, .int x0_granted, .long x0_spent, .int x0_gained, .int x0_lost])), (ad1, .inl (dA 0, n1, .inl a1)), (ad2, .inl (dA 2, n2, .inr (.inl a2))), (q_x0_later, .inl (dA 0, 8, .inl a_x0_later))] → va_S A s.heap H locs → lv_has ls 5 [(0, .ref q_x0), (1, .ref ad1), (2, .ref ad2), (3, .int v3)] → lpF (fun _ _ _ _ _ _ _ => False) (w_X2_processions_20 post x0_courtiers) n bc bs v3 n1 a1 n2 a2 → W p l e (headSpec (ws_ yX2_processions cX2_processions 5 (some .long)) (rm_X2_processions bc0 bs0)).room s m ([.ref q_x0] : List Value).toArray below meth c H locs kc ks (MQ below (va_Ql (fun (r : Int64) (u : Unit) => post r ) (fun (u : Unit) t => wrQ D dA A [(q_x0, .inr (1, [.int x0_courtiers, .ref x0_dignities, .ref x0_favors, .ref q_x0_later, .int x0_rules, .ref x0_requests, .int x0_width, .int x0_granted, .long x0_spent, .int x0_gained, .int x0_lost])), (q_x0_later, .inl (dA 0, 8, .inl a_x0_later))] t) A) ([.ref q_x0] : List Value).toArray s bc0 bs0 A) (F0 m 20 ls []) := by
    intro  n
    induction n with
    | zero => intro bc bs kc ks v3 ad1 n1 a1 ad2 n2 a2 H locs ls hbud hP hD hS hl hw; exact absurd hw id
    | succ n hk20 =>
      intro bc bs kc ks v3 ad1 n1 a1 ad2 n2 a2 H locs ls hbud hP hD hS hl hw
      generalize hk9 : lpF (fun _ _ _ _ _ _ _ => False) (w_X2_processions_20 post x0_courtiers) n = k20 at hk20
      have hw : (w_X2_processions_20 post x0_courtiers) k20 bc bs v3 n1 a1 n2 a2 := hk9 ▸ hw
      refine lv_iload_n hx hb dX2_processions_20 rfl (lv_at hl 3 rfl) ?_
      refine lv_aload_n hx hb dX2_processions_21 rfl (lv_at hl 2 rfl) ?_
      refine va_alen (v := (nI n2)) hx hb hK hP 2 2 rfl rfl rfl dX2_processions_22 ?_
      refine lv_icmp_ge (tgt := 74) hx hb dX2_processions_23 (by decide) (fun c73 => ?_) (fun c73 => ?_)
      · have hw := hw.1 c73
        refine lv_aload_n hx hb dX2_processions_74 rfl (lv_at hl 2 rfl) ?_
        refine lv_aload_n hx hb dX2_processions_75 rfl (lv_at hl 2 rfl) ?_
        refine va_alen (v := (nI n2)) hx hb hK hP 2 2 rfl rfl rfl dX2_processions_76 ?_
        refine lv_iconst (v := (nI 1)) hx hb dX2_processions_77 (by decide) ?_
        refine lv_isub hx hb dX2_processions_78 ?_
        obtain ⟨h74, hw⟩ := hw
        refine k_lald (k := ((nI n2) - (nI 1)).toNatClampNeg) hx hb hK hP 2 2 rfl rfl rfl h74 dX2_processions_79 ?_
        refine W.widen (k := bc0) (n := bs0) (by omega) (by omega) ?_
        exact W.lret (v := (a2 ((nI n2) - (nI 1)).toNatClampNeg)) hx hb hr (fun t ht hW => ⟨⟨(a2 ((nI n2) - (nI 1)).toNatClampNeg), (), rfl, hw, by rw [ht]; exact hP.sub [0, 3] rfl, va_K.moved hW.alike hK, hD.sub [0, 3] (by decide) rfl⟩, hS.F ht⟩) hS.2.2 dX2_processions_80
      · have hw := hw.2 c73
        refine lv_iconst (v := (nI 0)) hx hb dX2_processions_26 (by decide) ?_
        refine lv_istore (lv' := [(4, .int (nI 0)), (0, .ref q_x0), (1, .ref ad1), (2, .ref ad2), (3, .int v3)]) hx hb dX2_processions_27 hl (by decide) rfl (fun ls hl => ?_)
        obtain ⟨n, hw⟩ := hw
        exact hL29 k20 hk20 n bc bs kc ks v3 (nI 0) ad1 n1 a1 ad2 n2 a2 _ _ _ hbud (hP.sub [0, 1, 2, 3] rfl) (hD.sub [0, 1, 2, 3] (by decide) rfl) hS (lv_sub hl [1, 2, 3, 4, 0] rfl) hw
  refine lv_aload_n hx hb dX2_processions_0 rfl (lv_at hl 0 rfl) ?_
  obtain ⟨b78, b79, h80, h81, hw⟩ := hw
  refine k_wr (wn := fun (u : Nat × Nat × (Nat → Int32)) => [(q_x0, .inr (1, [.int x0_courtiers, .ref x0_dignities, .ref x0_favors, .ref q_x0_later, .int x0_rules, .ref x0_requests, .int x0_width, .int x0_granted, .long x0_spent, .int x0_gained, .int x0_lost])), (u.1, .inl (dA 0, u.2.1, .inl u.2.2)), (q_x0_later, .inl (dA 0, 8, .inl a_x0_later))]) (wr := []) (ra := fun (u : Nat × Nat × (Nat → Int32)) => u.1) (kc_wV (As := []) (rest := []) hSx (met_X2_earlier l D dA cx _ b78 b79 q_x0 x0_courtiers x0_dignities x0_favors q_x0_later a_x0_later x0_rules x0_requests x0_width x0_granted x0_spent x0_gained x0_lost _ hw) gX2_120 ⟨rfl, hd_X2_earlier⟩ ⟨Nat.le_of_ble_eq_true rfl, Nat.le_of_ble_eq_true rfl⟩ rfl rfl hP hK hD hS hA (hC.kept hS.2.1) [0, 1] rfl (by decide) rfl 0 rfl rfl rfl rfl hl.1 (Nat.le_of_ble_eq_true rfl) rfl dX2_processions_1 ⟨(show 0 + b78 ≤ bc0 by omega), (show 0 + b79 ≤ bs0 by omega)⟩) hP hD hS hA [0, 1] [] [0, 1, 2] rfl rfl (by decide) (by decide) (by decide) (fun _ => rfl) (fun _ => rfl) (fun u H locs hw _ hP hD hS => ?_)
  obtain ⟨q75, o76, o77⟩ := u
  have hP : va_P D vwCl [(q_x0, .inr (1, [.int x0_courtiers, .ref x0_dignities, .ref x0_favors, .ref q_x0_later, .int x0_rules, .ref x0_requests, .int x0_width, .int x0_granted, .long x0_spent, .int x0_gained, .int x0_lost])), (q75, .inl (dA 0, o76, .inl o77)), (q_x0_later, .inl (dA 0, 8, .inl a_x0_later))] H := hP
  have hD : va_D A [(q_x0, .inr (1, [.int x0_courtiers, .ref x0_dignities, .ref x0_favors, .ref q_x0_later, .int x0_rules, .ref x0_requests, .int x0_width, .int x0_granted, .long x0_spent, .int x0_gained, .int x0_lost])), (q75, .inl (dA 0, o76, .inl o77)), (q_x0_later, .inl (dA 0, 8, .inl a_x0_later))] := hD
  have hbud : (0 + b78) + (bc0 - b78) ≤ bc0 ∧ (0 + b79) + (bs0 - b79) ≤ bs0 := by omega
  refine lv_astore_n (lv' := [(1, .ref q75), (0, .ref q_x0)]) hx hb dX2_processions_4 rfl hl (by decide) rfl (fun ls hl => ?_)
  refine lv_iconst (v := (nI 1)) hx hb dX2_processions_5 (by decide) ?_
  refine lv_aload_n hx hb dX2_processions_6 rfl (lv_at hl 1 rfl) ?_
  refine va_get (D := D) (ci := 1) (v := .int x0_courtiers) (C := RX2) (T := TX2) (N := 11) hx hb hts in_X2 hown hK hP 0 rfl rfl 0 (by decide) (hts _ q149) (fun _ h9 => h9) rfl dX2_processions_7 ?_
  refine lv_ishl hx hb dX2_processions_10 ?_
  obtain ⟨N83, h84, h85, hw⟩ := hw
  obtain ⟨h86, h87, hw⟩ := hw
  refine k_newa (ty := .long) (atype := .long) (a0 := (N83, .inr (.inl (fun _ => (0 : Int64))))) hx hb (hts _ q429) rfl (fun _ h => by cases h) 2 rfl hK hP hD hS hA (fun _ => rfl) (by rw [h84]; exact nI_pos (by omega)) (by rw [h84]; exact clK N83 (by omega)) (by first | omega | (dsimp only [componentBytes]; omega)) (show (0 + b78) + 1 ≤ bc0 by omega) (show (0 + b79) + N83 ≤ bs0 by omega) dX2_processions_11 (fun q82 H hP hD hS => ?_)
  have hP : va_P D vwCl [(q_x0, .inr (1, [.int x0_courtiers, .ref x0_dignities, .ref x0_favors, .ref q_x0_later, .int x0_rules, .ref x0_requests, .int x0_width, .int x0_granted, .long x0_spent, .int x0_gained, .int x0_lost])), (q75, .inl (dA 0, o76, .inl o77)), (q_x0_later, .inl (dA 0, 8, .inl a_x0_later)), (q82, .inl (dA 2, N83, .inr (.inl (fun _ => (0 : Int64)))))] H := hP
  have hD : va_D A [(q_x0, .inr (1, [.int x0_courtiers, .ref x0_dignities, .ref x0_favors, .ref q_x0_later, .int x0_rules, .ref x0_requests, .int x0_width, .int x0_granted, .long x0_spent, .int x0_gained, .int x0_lost])), (q75, .inl (dA 0, o76, .inl o77)), (q_x0_later, .inl (dA 0, 8, .inl a_x0_later)), (q82, .inl (dA 2, N83, .inr (.inl (fun _ => (0 : Int64)))))] := hD
  have hbud : ((0 + b78) + 1) + ((bc0 - b78) - 1) ≤ bc0 ∧ ((0 + b79) + N83) + ((bs0 - b79) - N83) ≤ bs0 := by omega
  refine lv_astore_n (lv' := [(2, .ref q82), (1, .ref q75), (0, .ref q_x0)]) hx hb dX2_processions_13 rfl hl (by decide) rfl (fun ls hl => ?_)
  refine lv_aload_n hx hb dX2_processions_14 rfl (lv_at hl 0 rfl) ?_
  refine lv_iconst (v := (nI 0)) hx hb dX2_processions_15 (by decide) ?_
  refine lv_lconst (v := lN 1) hx hb dX2_processions_16 rfl ?_
  obtain ⟨h88, hw⟩ := hw
  refine k_last (k := (nI 0).toNatClampNeg) hx hb hK hP hD hS 3 2 rfl rfl rfl h88 dX2_processions_17 (fun H locs hP hD hS => ?_)
  have hP : va_P D vwCl [(q_x0, .inr (1, [.int x0_courtiers, .ref x0_dignities, .ref x0_favors, .ref q_x0_later, .int x0_rules, .ref x0_requests, .int x0_width, .int x0_granted, .long x0_spent, .int x0_gained, .int x0_lost])), (q75, .inl (dA 0, o76, .inl o77)), (q_x0_later, .inl (dA 0, 8, .inl a_x0_later)), (q82, .inl (dA 2, N83, .inr (.inl (vp_updL (fun _ => (0 : Int64)) (nI 0).toNatClampNeg (lN 1)))))] H := hP
  have hD : va_D A [(q_x0, .inr (1, [.int x0_courtiers, .ref x0_dignities, .ref x0_favors, .ref q_x0_later, .int x0_rules, .ref x0_requests, .int x0_width, .int x0_granted, .long x0_spent, .int x0_gained, .int x0_lost])), (q75, .inl (dA 0, o76, .inl o77)), (q_x0_later, .inl (dA 0, 8, .inl a_x0_later)), (q82, .inl (dA 2, N83, .inr (.inl (vp_updL (fun _ => (0 : Int64)) (nI 0).toNatClampNeg (lN 1)))))] := hD
  refine lv_iconst (v := (nI 0)) hx hb dX2_processions_18 (by decide) ?_
  refine lv_istore_n (lv' := [(3, .int (nI 0)), (2, .ref q82), (1, .ref q75), (0, .ref q_x0)]) hx hb dX2_processions_19 rfl hl (by decide) rfl (fun ls hl => ?_)
  obtain ⟨n, hw⟩ := hw
  exact hL20  n ((bc0 - b78) - 1) ((bs0 - b79) - N83) ((0 + b78) + 1) ((0 + b79) + N83) (nI 0) q75 o76 o77 q82 N83 (vp_updL (fun _ => (0 : Int64)) (nI 0).toNatClampNeg (lN 1)) _ _ _ hbud (hP.sub [0, 1, 3, 2] rfl) (hD.sub [0, 1, 3, 2] (by decide) rfl) hS (lv_sub hl [3, 2, 1, 0] rfl) hw
def w_X2_processionsBehind_54 (self : (Int64 → Prop) → Int32 → Nat → (Nat → Int32) → Int32 → Prop) (post : Int64 → Prop)  (k19 : Int64 → Int32 → Prop) (v5 : Int32) (s0 : Int64) (s1 : Int64) : Prop :=
  k19 (s0 + s1) (v5 + (nI 1))
def w_X2_processionsBehind_19 (self : (Int64 → Prop) → Int32 → Nat → (Nat → Int32) → Int32 → Prop) (post : Int64 → Prop) (x0_courtiers : Int32) (n_x1 : Nat) (a_x1 : (Nat → Int32)) (x2 : Int32) (k19 : Int64 → Int32 → Prop) (v3 : Int64) (v5 : Int32) : Prop :=
  ((x0_courtiers ≤ v5 → post v3) ∧ (¬ x0_courtiers ≤ v5 → w_X2_canFollow (fun r22 => ((r22 = 0 → (w_X2_processionsBehind_54 self post k19) v5 v3 (lN 0)) ∧ (¬ r22 = 0 → self (fun r24 => (w_X2_processionsBehind_54 self post k19) v5 v3 r24) x0_courtiers n_x1 a_x1 (x2 ||| ((nI 1) <<< (v5 &&& 31)))))) n_x1 a_x1 x2 v5))
def w_X2_processionsBehind (self : (Int64 → Prop) → Int32 → Nat → (Nat → Int32) → Int32 → Prop) (post : Int64 → Prop) (x0_courtiers : Int32) (n_x1 : Nat) (a_x1 : (Nat → Int32)) (x2 : Int32) : Prop :=
  ((x2 = (((nI 1) <<< (x0_courtiers &&& 31)) - (nI 1)) → post (lN 1)) ∧ (¬ x2 = (((nI 1) <<< (x0_courtiers &&& 31)) - (nI 1)) → (∃ n : Nat, lpF (fun _ _ => False) (w_X2_processionsBehind_19 self post x0_courtiers n_x1 a_x1 x2) n (lN 0) (nI 0))))
def wR_X2_processionsBehind (d : Nat) : (Int64 → Prop) → Int32 → Nat → (Nat → Int32) → Int32 → Prop := lpF (fun _ _ _ _ _ => False) w_X2_processionsBehind d
abbrev wD_X2_processionsBehind := wR_X2_processionsBehind 10
theorem hd_X2_processionsBehind : yX2_processionsBehind.cls ≠ "java/lang/invoke/MethodHandle" ∧ yX2_processionsBehind.cls ≠ "java/lang/invoke/VarHandle" ∧ (parseMethodDescriptor yX2_processionsBehind.desc).map (fun d => d.parameters.length) = some 2 := by decide +kernel
theorem gX2_128 : GoodIn lw_all (wsV RX2 128 RX2 yX2_processionsBehind (ws_ yX2_processionsBehind cX2_processionsBehind 6 (some .long))) := lw_V q438 q440 qs4 q68 q441
def rm_X2_processionsBehind (d : Nat) : Room := { frames := 2 + d, cells := 0, slots := 0, locals := 43 + 25 * d }
set_option maxHeartbeats 4000000 in
set_option maxRecDepth 100000 in
theorem met_X2_processionsBehind_r (l : Launch) (D : va_G) (dA : Nat → ClassId) (cx : CXt) : ∀ (d : Nat) (q_x0 : Nat) (x0_courtiers : Int32) (x0_dignities : Nat) (x0_favors : Nat) (x0_later : Nat) (x0_rules : Int32) (x0_requests : Nat) (x0_width : Int32) (x0_granted : Int32) (x0_spent : Int64) (x0_gained : Int32) (x0_lost : Int32) (q_x1 : Nat) (n_x1 : Nat) (a_x1 : (Nat → Int32)) (x2 : Int32) (post : Int64 → Prop) (hw : wR_X2_processionsBehind d post x0_courtiers n_x1 a_x1 x2), Met l yX2_processionsBehind (ws_ yX2_processionsBehind cX2_processionsBehind 6 (some .long)) (rm_X2_processionsBehind d) (va_Pc [.ref q_x0, .ref q_x1, .int x2] (rdC D dA cx [(q_x0, .inr (1, [.int x0_courtiers, .ref x0_dignities, .ref x0_favors, .ref x0_later, .int x0_rules, .ref x0_requests, .int x0_width, .int x0_granted, .long x0_spent, .int x0_gained, .int x0_lost])), (q_x1, .inl (dA 0, n_x1, .inl a_x1))])) (vp_Sl (fun r => post r)) 0 0 (fun _ => False) := by
  intro d
  induction d with
  | zero => intro q_x0 x0_courtiers x0_dignities x0_favors x0_later x0_rules x0_requests x0_width x0_granted x0_spent x0_gained x0_lost q_x1 n_x1 a_x1 x2 post hw; exact absurd hw id
  | succ d ih =>
  intro q_x0 x0_courtiers x0_dignities x0_favors x0_later x0_rules x0_requests x0_width x0_granted x0_spent x0_gained x0_lost q_x1 n_x1 a_x1 x2 post hw
  have hw : w_X2_processionsBehind (wR_X2_processionsBehind d) post x0_courtiers n_x1 a_x1 x2 := hw
  generalize wR_X2_processionsBehind d = self at hw ih
  refine Met.ofW (cc := cX2_processionsBehind) (maxL := 6) (ret := (some .long)) (by decide) rfl ?_
  intro p e s m args below meth c s₁ B hml hv
  obtain ⟨rfl, hP, hK, hC⟩ := hv
  have hx := B.exec
  have hb := B.bytes
  have hr := B.returns
  have hts := atoms_spec (ws := (ws_ yX2_processionsBehind cX2_processionsBehind 6 (some .long))) B.pre
  have hts : ∀ w ∈ lw_all, w.before _ s = true := fun w h => hts w (List.mem_cons_of_mem _ h)
  have hown : s.vm.findClass RX2 = some m.cls := findClass_of_methodNamed B.named
  have hlocks := B.notSynchronized
  have hSx : CallFix p m c cX2_processionsBehind 6 s _ lw_all RX2 := ⟨hx, hb, hml, hown, hts⟩
  have hNW := hC.1
  have hl := lv_entry ([.ref q_x0, .ref q_x1, .int x2]) (n := 6) (Nat.le_of_ble_eq_true rfl)
  rw [lg_entry_eq]
  generalize (lg_sl ([.ref q_x0, .ref q_x1, .int x2]) ++ List.replicate (6 - (lg_sl ([.ref q_x0, .ref q_x1, .int x2])).length) Slot.unset).toArray = ls at hl ⊢
  have hl : lv_has ls 6 [(0, .ref q_x0), (1, .ref q_x1), (2, .int x2)] := hl
  have hL54 : ∀ (k19 : Int64 → Int32 → Prop) (hk19 : ∀ (v3 : Int64) (v5 : Int32) (ls : Array Slot), lv_has ls 6 [(0, .ref q_x0), (1, .ref q_x1), (2, .int x2), (3, .long v3), (5, .int v5)] → k19 v3 v5 → W p l e (headSpec (ws_ yX2_processionsBehind cX2_processionsBehind 6 (some .long)) (rm_X2_processionsBehind (d + 1))).room s m ([.ref q_x0, .ref q_x1, .int x2] : List Value).toArray below meth c s.heap [] 0 0 (MQ below (vp_Sl (fun r => post r)) ([.ref q_x0, .ref q_x1, .int x2] : List Value).toArray s 0 0 (fun _ => False)) (F0 m 19 ls [])) (v5 : Int32) (s0 : Int64) (s1 : Int64) (ls : Array Slot), lv_has ls 6 [(0, .ref q_x0), (1, .ref q_x1), (2, .int x2), (5, .int v5)] → (w_X2_processionsBehind_54 self post k19) v5 s0 s1 → W p l e (headSpec (ws_ yX2_processionsBehind cX2_processionsBehind 6 (some .long)) (rm_X2_processionsBehind (d + 1))).room s m ([.ref q_x0, .ref q_x1, .int x2] : List Value).toArray below meth c s.heap [] 0 0 (MQ below (vp_Sl (fun r => post r)) ([.ref q_x0, .ref q_x1, .int x2] : List Value).toArray s 0 0 (fun _ => False)) (F0 m 54 ls [.long s1, .long s0]) := by
      intro k19 hk19 v5 s0 s1 ls hl hw
      refine lv_ladd hx hb dX2_processionsBehind_54 ?_
      refine lv_lstore_n (lv' := [(3, .long (s0 + s1)), (0, .ref q_x0), (1, .ref q_x1), (2, .int x2), (5, .int v5)]) hx hb dX2_processionsBehind_55 rfl hl (by decide) rfl (fun ls hl => ?_)
      refine lv_iinc (v := (v5 + (nI 1))) (lv' := [(5, .int (v5 + (nI 1))), (3, .long (s0 + s1)), (0, .ref q_x0), (1, .ref q_x1), (2, .int x2)]) hx hb dX2_processionsBehind_56 hl (k := 4) rfl (congrArg (fun z => v5 + z) (by decide : Int32.ofInt (1) = (nI 1))) (by decide) rfl (fun ls hl => ?_)
      refine lv_goto (tgt := 19) hx hb dX2_processionsBehind_59 (by decide) ?_
      exact hk19 (s0 + s1) (v5 + (nI 1)) _ (lv_sub hl [2, 3, 4, 1, 0] rfl) hw
  have hL19 : ∀  (n : Nat) (v3 : Int64) (v5 : Int32) (ls : Array Slot), lv_has ls 6 [(0, .ref q_x0), (1, .ref q_x1), (2, .int x2), (3, .long v3), (5, .int v5)] → lpF (fun _ _ => False) (w_X2_processionsBehind_19 self post x0_courtiers n_x1 a_x1 x2) n v3 v5 → W p l e (headSpec (ws_ yX2_processionsBehind cX2_processionsBehind 6 (some .long)) (rm_X2_processionsBehind (d + 1))).room s m ([.ref q_x0, .ref q_x1, .int x2] : List Value).toArray below meth c s.heap [] 0 0 (MQ below (vp_Sl (fun r => post r)) ([.ref q_x0, .ref q_x1, .int x2] : List Value).toArray s 0 0 (fun _ => False)) (F0 m 19 ls []) := by
    intro  n
    induction n with
    | zero => intro v3 v5 ls hl hw; exact absurd hw id
    | succ n hk19 =>
      intro v3 v5 ls hl hw
      generalize hk9 : lpF (fun _ _ => False) (w_X2_processionsBehind_19 self post x0_courtiers n_x1 a_x1 x2) n = k19 at hk19
      have hw : (w_X2_processionsBehind_19 self post x0_courtiers n_x1 a_x1 x2) k19 v3 v5 := hk9 ▸ hw
      refine lv_iload hx hb dX2_processionsBehind_19 (lv_at hl 4 rfl) ?_
      refine lv_aload_n hx hb dX2_processionsBehind_21 rfl (lv_at hl 0 rfl) ?_
      refine va_get (D := D) (ci := 1) (v := .int x0_courtiers) (C := RX2) (T := TX2) (N := 11) hx hb hts in_X2 hown hK hP 0 rfl rfl 0 (by decide) (hts _ q149) (fun _ h9 => h9) rfl dX2_processionsBehind_22 ?_
      refine lv_icmp_ge (tgt := 62) hx hb dX2_processionsBehind_25 (by decide) (fun c21 => ?_) (fun c21 => ?_)
      · have hw := hw.1 c21
        refine lv_lload_n hx hb dX2_processionsBehind_62 rfl (lv_at hl 3 rfl) ?_
        exact W.lret (v := v3) hx hb hr (fun t ht hW => ⟨v3, rfl, hw, ht⟩) (fun _ h => by cases h) dX2_processionsBehind_63
      · have hw := hw.2 c21
        refine lv_lload_n hx hb dX2_processionsBehind_28 rfl (lv_at hl 3 rfl) ?_
        refine lv_aload_n hx hb dX2_processionsBehind_29 rfl (lv_at hl 1 rfl) ?_
        refine lv_iload_n hx hb dX2_processionsBehind_30 rfl (lv_at hl 2 rfl) ?_
        refine lv_iload hx hb dX2_processionsBehind_31 (lv_at hl 4 rfl) ?_
        refine k_ri (kc_rS (As := [.ref q_x1, .int x2, .int v5]) (rest := [.long v3]) hSx (met_X2_canFollow l D dA cx q_x1 n_x1 a_x1 x2 v5 _ hw) gX2_124 hd_X2_canFollow (by dsimp [headSpec, rm_X2_canFollow, rm_X2_processionsBehind]; omega) rfl rfl hP hK hC [1] rfl rfl hl.1 (Nat.le_of_ble_eq_true rfl) rfl dX2_processionsBehind_33 ⟨Nat.le_refl 0, Nat.le_refl 0⟩) (fun r22 hw => ?_)
        refine lv_if_eq (tgt := 53) hx hb dX2_processionsBehind_36 (by decide) (fun c23 => ?_) (fun c23 => ?_)
        · have hw := hw.1 c23
          refine lv_lconst (v := lN 0) hx hb dX2_processionsBehind_53 rfl ?_
          exact hL54 k19 hk19 v5 v3 (lN 0) _ (lv_sub hl [0, 1, 2, 4] rfl) hw
        · have hw := hw.2 c23
          refine lv_aload_n hx hb dX2_processionsBehind_39 rfl (lv_at hl 0 rfl) ?_
          refine lv_aload_n hx hb dX2_processionsBehind_40 rfl (lv_at hl 1 rfl) ?_
          refine lv_iload_n hx hb dX2_processionsBehind_41 rfl (lv_at hl 2 rfl) ?_
          refine lv_iconst (v := (nI 1)) hx hb dX2_processionsBehind_42 (by decide) ?_
          refine lv_iload hx hb dX2_processionsBehind_43 (lv_at hl 4 rfl) ?_
          refine lv_ishl hx hb dX2_processionsBehind_45 ?_
          refine lv_ior hx hb dX2_processionsBehind_46 ?_
          refine k_rl (kc_rV (As := [.ref q_x1, .int (x2 ||| ((nI 1) <<< (v5 &&& 31)))]) (rest := [.long v3]) hSx (ih q_x0 x0_courtiers x0_dignities x0_favors x0_later x0_rules x0_requests x0_width x0_granted x0_spent x0_gained x0_lost q_x1 n_x1 a_x1 (x2 ||| ((nI 1) <<< (v5 &&& 31))) _ hw) gX2_128 ⟨rfl, hd_X2_processionsBehind⟩ (by dsimp [headSpec, rm_X2_processionsBehind, rm_X2_processionsBehind]; omega) rfl rfl hP hK hC [0, 1] rfl 0 rfl rfl rfl rfl hl.1 (Nat.le_of_ble_eq_true rfl) rfl dX2_processionsBehind_47 ⟨Nat.le_refl 0, Nat.le_refl 0⟩) (fun r24 hw => ?_)
          refine lv_goto (tgt := 54) hx hb dX2_processionsBehind_50 (by decide) ?_
          exact hL54 k19 hk19 v5 v3 r24 _ (lv_sub hl [0, 1, 2, 4] rfl) hw
  refine lv_iload_n hx hb dX2_processionsBehind_0 rfl (lv_at hl 2 rfl) ?_
  refine lv_iconst (v := (nI 1)) hx hb dX2_processionsBehind_1 (by decide) ?_
  refine lv_aload_n hx hb dX2_processionsBehind_2 rfl (lv_at hl 0 rfl) ?_
  refine va_get (D := D) (ci := 1) (v := .int x0_courtiers) (C := RX2) (T := TX2) (N := 11) hx hb hts in_X2 hown hK hP 0 rfl rfl 0 (by decide) (hts _ q149) (fun _ h9 => h9) rfl dX2_processionsBehind_3 ?_
  refine lv_ishl hx hb dX2_processionsBehind_6 ?_
  refine lv_iconst (v := (nI 1)) hx hb dX2_processionsBehind_7 (by decide) ?_
  refine lv_isub hx hb dX2_processionsBehind_8 ?_
  refine lv_icmp_ne (tgt := 14) hx hb dX2_processionsBehind_9 (by decide) (fun c25 => ?_) (fun c25 => ?_)
  · have hw := hw.2 c25
    refine lv_lconst (v := lN 0) hx hb dX2_processionsBehind_14 rfl ?_
    refine lv_lstore_n (lv' := [(3, .long (lN 0)), (0, .ref q_x0), (1, .ref q_x1), (2, .int x2)]) hx hb dX2_processionsBehind_15 rfl hl (by decide) rfl (fun ls hl => ?_)
    refine lv_iconst (v := (nI 0)) hx hb dX2_processionsBehind_16 (by decide) ?_
    refine lv_istore (lv' := [(5, .int (nI 0)), (3, .long (lN 0)), (0, .ref q_x0), (1, .ref q_x1), (2, .int x2)]) hx hb dX2_processionsBehind_17 hl (by decide) rfl (fun ls hl => ?_)
    obtain ⟨n, hw⟩ := hw
    exact hL19  n (lN 0) (nI 0) _ (lv_sub hl [2, 3, 4, 1, 0] rfl) hw
  · have hw := hw.1 c25
    refine lv_lconst (v := lN 1) hx hb dX2_processionsBehind_12 rfl ?_
    exact W.lret (v := (lN 1)) hx hb hr (fun t ht hW => ⟨(lN 1), rfl, hw, ht⟩) (fun _ h => by cases h) dX2_processionsBehind_13
theorem met_X2_processionsBehind (l : Launch) (D : va_G) (dA : Nat → ClassId) (cx : CXt) (q_x0 : Nat) (x0_courtiers : Int32) (x0_dignities : Nat) (x0_favors : Nat) (x0_later : Nat) (x0_rules : Int32) (x0_requests : Nat) (x0_width : Int32) (x0_granted : Int32) (x0_spent : Int64) (x0_gained : Int32) (x0_lost : Int32) (q_x1 : Nat) (n_x1 : Nat) (a_x1 : (Nat → Int32)) (x2 : Int32) (post : Int64 → Prop) (hw : wD_X2_processionsBehind post x0_courtiers n_x1 a_x1 x2) : Met l yX2_processionsBehind (ws_ yX2_processionsBehind cX2_processionsBehind 6 (some .long)) (rm_X2_processionsBehind 10) (va_Pc [.ref q_x0, .ref q_x1, .int x2] (rdC D dA cx [(q_x0, .inr (1, [.int x0_courtiers, .ref x0_dignities, .ref x0_favors, .ref x0_later, .int x0_rules, .ref x0_requests, .int x0_width, .int x0_granted, .long x0_spent, .int x0_gained, .int x0_lost])), (q_x1, .inl (dA 0, n_x1, .inl a_x1))])) (vp_Sl (fun r => post r)) 0 0 (fun _ => False) := met_X2_processionsBehind_r l D dA cx 10 q_x0 x0_courtiers x0_dignities x0_favors x0_later x0_rules x0_requests x0_width x0_granted x0_spent x0_gained x0_lost q_x1 n_x1 a_x1 x2 post hw
def w_X2_processionsByTrying (post : Int64 → Prop) (bc bs : Nat) (x0_courtiers : Int32) (a_x0_later : (Nat → Int32)) : Prop :=
  (∃ b12 b13 : Nat, b12 ≤ bc ∧ b13 ≤ bs ∧ w_X2_earlier (fun o10 o11 => wD_X2_processionsBehind (fun r16 => post r16) x0_courtiers o10 o11 (nI 0)) b12 b13 x0_courtiers a_x0_later)
def rm_X2_processionsByTrying (bc0 bs0 : Nat) : Room := { frames := 13, cells := bc0, slots := bs0, locals := 318 }
set_option maxHeartbeats 4000000 in
set_option maxRecDepth 100000 in
theorem met_X2_processionsByTrying (l : Launch) (D : va_G) (dA : Nat → ClassId) (cx : CXt) (sz : Nat) (bc0 bs0 : Nat) (q_x0 : Nat) (x0_courtiers : Int32) (x0_dignities : Nat) (x0_favors : Nat) (q_x0_later : Nat) (a_x0_later : (Nat → Int32)) (x0_rules : Int32) (x0_requests : Nat) (x0_width : Int32) (x0_granted : Int32) (x0_spent : Int64) (x0_gained : Int32) (x0_lost : Int32) (post : Int64 → Prop) (hw : w_X2_processionsByTrying post bc0 bs0 x0_courtiers a_x0_later) : Met l yX2_processionsByTrying (ws_ yX2_processionsByTrying cX2_processionsByTrying 1 (some .long)) (rm_X2_processionsByTrying bc0 bs0) (va_Pc [.ref q_x0] (wrC D dA cx sz [(q_x0, .inr (1, [.int x0_courtiers, .ref x0_dignities, .ref x0_favors, .ref q_x0_later, .int x0_rules, .ref x0_requests, .int x0_width, .int x0_granted, .long x0_spent, .int x0_gained, .int x0_lost])), (q_x0_later, .inl (dA 0, 8, .inl a_x0_later))])) (va_Ql (fun (r : Int64) (u : Unit) => post r ) (fun (u : Unit) t => wrQ D dA (va_A [(q_x0, .inr (1, [.int x0_courtiers, .ref x0_dignities, .ref x0_favors, .ref q_x0_later, .int x0_rules, .ref x0_requests, .int x0_width, .int x0_granted, .long x0_spent, .int x0_gained, .int x0_lost])), (q_x0_later, .inl (dA 0, 8, .inl a_x0_later))] sz) [(q_x0, .inr (1, [.int x0_courtiers, .ref x0_dignities, .ref x0_favors, .ref q_x0_later, .int x0_rules, .ref x0_requests, .int x0_width, .int x0_granted, .long x0_spent, .int x0_gained, .int x0_lost])), (q_x0_later, .inl (dA 0, 8, .inl a_x0_later))] t) (va_A [(q_x0, .inr (1, [.int x0_courtiers, .ref x0_dignities, .ref x0_favors, .ref q_x0_later, .int x0_rules, .ref x0_requests, .int x0_width, .int x0_granted, .long x0_spent, .int x0_gained, .int x0_lost])), (q_x0_later, .inl (dA 0, 8, .inl a_x0_later))] sz)) bc0 bs0 (va_A [(q_x0, .inr (1, [.int x0_courtiers, .ref x0_dignities, .ref x0_favors, .ref q_x0_later, .int x0_rules, .ref x0_requests, .int x0_width, .int x0_granted, .long x0_spent, .int x0_gained, .int x0_lost])), (q_x0_later, .inl (dA 0, 8, .inl a_x0_later))] sz) := by
  refine Met.ofW (cc := cX2_processionsByTrying) (maxL := 1) (ret := (some .long)) (by decide) rfl ?_
  intro p e s m args below meth c s₁ B hml hv
  obtain ⟨rfl, hsz, hP, hK, hD0, hC⟩ := hv
  have hx := B.exec
  have hb := B.bytes
  have hr := B.returns
  have hts := atoms_spec (ws := (ws_ yX2_processionsByTrying cX2_processionsByTrying 1 (some .long))) B.pre
  have hts : ∀ w ∈ lw_all, w.before _ s = true := fun w h => hts w (List.mem_cons_of_mem _ h)
  have hown : s.vm.findClass RX2 = some m.cls := findClass_of_methodNamed B.named
  have hlocks := B.notSynchronized
  have hSx : CallFix p m c cX2_processionsByTrying 1 s _ lw_all RX2 := ⟨hx, hb, hml, hown, hts⟩
  subst hsz
  have hD := hD0.self (sz := s.heap.size)
  generalize hAe : va_A [(q_x0, .inr (1, [.int x0_courtiers, .ref x0_dignities, .ref x0_favors, .ref q_x0_later, .int x0_rules, .ref x0_requests, .int x0_width, .int x0_granted, .long x0_spent, .int x0_gained, .int x0_lost])), (q_x0_later, .inl (dA 0, 8, .inl a_x0_later))] s.heap.size = A at hD hC ⊢
  have hA : ∀ q : Nat, s.heap.size ≤ q → A q := fun q h => by rw [← hAe]; exact Or.inr h
  have hS : va_S A s.heap s.heap [] := va_S.rf
  have hbud : 0 + bc0 ≤ bc0 ∧ 0 + bs0 ≤ bs0 := by omega
  have hNW := hC.1
  have hl := lv_entry ([.ref q_x0]) (n := 1) (Nat.le_of_ble_eq_true rfl)
  rw [lg_entry_eq]
  generalize (lg_sl ([.ref q_x0]) ++ List.replicate (1 - (lg_sl ([.ref q_x0])).length) Slot.unset).toArray = ls at hl ⊢
  have hl : lv_has ls 1 [(0, .ref q_x0)] := hl
  refine lv_aload_n hx hb dX2_processionsByTrying_0 rfl (lv_at hl 0 rfl) ?_
  refine lv_aload_n hx hb dX2_processionsByTrying_1 rfl (lv_at hl 0 rfl) ?_
  obtain ⟨b12, b13, h14, h15, hw⟩ := hw
  refine k_wr (wn := fun (u : Nat × Nat × (Nat → Int32)) => [(q_x0, .inr (1, [.int x0_courtiers, .ref x0_dignities, .ref x0_favors, .ref q_x0_later, .int x0_rules, .ref x0_requests, .int x0_width, .int x0_granted, .long x0_spent, .int x0_gained, .int x0_lost])), (u.1, .inl (dA 0, u.2.1, .inl u.2.2)), (q_x0_later, .inl (dA 0, 8, .inl a_x0_later))]) (wr := []) (ra := fun (u : Nat × Nat × (Nat → Int32)) => u.1) (kc_wV (As := []) (rest := [.ref q_x0]) hSx (met_X2_earlier l D dA cx _ b12 b13 q_x0 x0_courtiers x0_dignities x0_favors q_x0_later a_x0_later x0_rules x0_requests x0_width x0_granted x0_spent x0_gained x0_lost _ hw) gX2_120 ⟨rfl, hd_X2_earlier⟩ ⟨Nat.le_of_ble_eq_true rfl, Nat.le_of_ble_eq_true rfl⟩ rfl rfl hP hK hD hS hA (hC.kept hS.2.1) [0, 1] rfl (by decide) rfl 0 rfl rfl rfl rfl hl.1 (Nat.le_of_ble_eq_true rfl) rfl dX2_processionsByTrying_2 ⟨(show 0 + b12 ≤ bc0 by omega), (show 0 + b13 ≤ bs0 by omega)⟩) hP hD hS hA [0, 1] [] [0, 1, 2] rfl rfl (by decide) (by decide) (by decide) (fun _ => rfl) (fun _ => rfl) (fun u H locs hw _ hP hD hS => ?_)
  obtain ⟨q9, o10, o11⟩ := u
  have hP : va_P D vwCl [(q_x0, .inr (1, [.int x0_courtiers, .ref x0_dignities, .ref x0_favors, .ref q_x0_later, .int x0_rules, .ref x0_requests, .int x0_width, .int x0_granted, .long x0_spent, .int x0_gained, .int x0_lost])), (q9, .inl (dA 0, o10, .inl o11)), (q_x0_later, .inl (dA 0, 8, .inl a_x0_later))] H := hP
  have hD : va_D A [(q_x0, .inr (1, [.int x0_courtiers, .ref x0_dignities, .ref x0_favors, .ref q_x0_later, .int x0_rules, .ref x0_requests, .int x0_width, .int x0_granted, .long x0_spent, .int x0_gained, .int x0_lost])), (q9, .inl (dA 0, o10, .inl o11)), (q_x0_later, .inl (dA 0, 8, .inl a_x0_later))] := hD
  have hbud : (0 + b12) + (bc0 - b12) ≤ bc0 ∧ (0 + b13) + (bs0 - b13) ≤ bs0 := by omega
  refine lv_iconst (v := (nI 0)) hx hb dX2_processionsByTrying_5 (by decide) ?_
  refine k_rl (kc_rV (As := [.ref q9, .int (nI 0)]) (rest := []) hSx (met_X2_processionsBehind l D dA cx q_x0 x0_courtiers x0_dignities x0_favors q_x0_later x0_rules x0_requests x0_width x0_granted x0_spent x0_gained x0_lost q9 o10 o11 (nI 0) _ hw) gX2_128 ⟨rfl, hd_X2_processionsBehind⟩ ⟨Nat.le_of_ble_eq_true rfl, Nat.le_of_ble_eq_true rfl⟩ rfl rfl hP hK (hC.kept hS.2.1) [0, 1] rfl 0 rfl rfl rfl rfl hl.1 (Nat.le_of_ble_eq_true rfl) rfl dX2_processionsByTrying_6 ⟨(show (0 + b12) + 0 ≤ bc0 by omega), (show (0 + b13) + 0 ≤ bs0 by omega)⟩) (fun r16 hw => ?_)
  refine W.widen (k := bc0) (n := bs0) (by omega) (by omega) ?_
  exact W.lret (v := r16) hx hb hr (fun t ht hW => ⟨⟨r16, (), rfl, hw, by rw [ht]; exact hP.sub [0, 2] rfl, va_K.moved hW.alike hK, hD.sub [0, 2] (by decide) rfl⟩, hS.F ht⟩) hS.2.2 dX2_processionsByTrying_9
def w_X2_lowestPlaceOf_27 (post : Int32 → Prop)  (k4 : Int32 → Int32 → Prop) (v3 : Int32) (s0 : Int32) (s1 : Int32) : Prop :=
  k4 (s0 + s1) (v3 + (nI 1))
def w_X2_lowestPlaceOf_4 (post : Int32 → Prop) (x0_courtiers : Int32) (a_x0_later : (Nat → Int32)) (x1 : Int32) (k4 : Int32 → Int32 → Prop) (v2 : Int32) (v3 : Int32) : Prop :=
  ((x0_courtiers ≤ v3 → post v2) ∧ (¬ x0_courtiers ≤ v3 → wD_X2_precedes (fun r11 => ((r11 = 0 → (w_X2_lowestPlaceOf_27 post k4) v3 v2 (nI 0)) ∧ (¬ r11 = 0 → (w_X2_lowestPlaceOf_27 post k4) v3 v2 (nI 1)))) x0_courtiers a_x0_later v3 x1))
def w_X2_lowestPlaceOf (post : Int32 → Prop) (x0_courtiers : Int32) (a_x0_later : (Nat → Int32)) (x1 : Int32) : Prop :=
  (∃ n : Nat, lpF (fun _ _ => False) (w_X2_lowestPlaceOf_4 post x0_courtiers a_x0_later x1) n (nI 0) (nI 0))
def rm_X2_lowestPlaceOf : Room := { frames := 12, cells := 0, slots := 0, locals := 274 }
set_option maxHeartbeats 4000000 in
set_option maxRecDepth 100000 in
theorem met_X2_lowestPlaceOf (l : Launch) (D : va_G) (dA : Nat → ClassId) (cx : CXt) (q_x0 : Nat) (x0_courtiers : Int32) (x0_dignities : Nat) (x0_favors : Nat) (q_x0_later : Nat) (a_x0_later : (Nat → Int32)) (x0_rules : Int32) (x0_requests : Nat) (x0_width : Int32) (x0_granted : Int32) (x0_spent : Int64) (x0_gained : Int32) (x0_lost : Int32) (x1 : Int32) (post : Int32 → Prop) (hw : w_X2_lowestPlaceOf post x0_courtiers a_x0_later x1) : Met l yX2_lowestPlaceOf (ws_ yX2_lowestPlaceOf cX2_lowestPlaceOf 4 (some .int)) rm_X2_lowestPlaceOf (va_Pc [.ref q_x0, .int x1] (rdC D dA cx [(q_x0, .inr (1, [.int x0_courtiers, .ref x0_dignities, .ref x0_favors, .ref q_x0_later, .int x0_rules, .ref x0_requests, .int x0_width, .int x0_granted, .long x0_spent, .int x0_gained, .int x0_lost])), (q_x0_later, .inl (dA 0, 8, .inl a_x0_later))])) (vp_Si (fun r => post r)) 0 0 (fun _ => False) := by
  refine Met.ofW (cc := cX2_lowestPlaceOf) (maxL := 4) (ret := (some .int)) (by decide) rfl ?_
  intro p e s m args below meth c s₁ B hml hv
  obtain ⟨rfl, hP, hK, hC⟩ := hv
  have hx := B.exec
  have hb := B.bytes
  have hr := B.returns
  have hts := atoms_spec (ws := (ws_ yX2_lowestPlaceOf cX2_lowestPlaceOf 4 (some .int))) B.pre
  have hts : ∀ w ∈ lw_all, w.before _ s = true := fun w h => hts w (List.mem_cons_of_mem _ h)
  have hown : s.vm.findClass RX2 = some m.cls := findClass_of_methodNamed B.named
  have hlocks := B.notSynchronized
  have hSx : CallFix p m c cX2_lowestPlaceOf 4 s _ lw_all RX2 := ⟨hx, hb, hml, hown, hts⟩
  have hNW := hC.1
  have hl := lv_entry ([.ref q_x0, .int x1]) (n := 4) (Nat.le_of_ble_eq_true rfl)
  rw [lg_entry_eq]
  generalize (lg_sl ([.ref q_x0, .int x1]) ++ List.replicate (4 - (lg_sl ([.ref q_x0, .int x1])).length) Slot.unset).toArray = ls at hl ⊢
  have hl : lv_has ls 4 [(0, .ref q_x0), (1, .int x1)] := hl
  have hL27 : ∀ (k4 : Int32 → Int32 → Prop) (hk4 : ∀ (v2 : Int32) (v3 : Int32) (ls : Array Slot), lv_has ls 4 [(0, .ref q_x0), (1, .int x1), (2, .int v2), (3, .int v3)] → k4 v2 v3 → W p l e (headSpec (ws_ yX2_lowestPlaceOf cX2_lowestPlaceOf 4 (some .int)) (rm_X2_lowestPlaceOf)).room s m ([.ref q_x0, .int x1] : List Value).toArray below meth c s.heap [] 0 0 (MQ below (vp_Si (fun r => post r)) ([.ref q_x0, .int x1] : List Value).toArray s 0 0 (fun _ => False)) (F0 m 4 ls [])) (v3 : Int32) (s0 : Int32) (s1 : Int32) (ls : Array Slot), lv_has ls 4 [(0, .ref q_x0), (1, .int x1), (3, .int v3)] → (w_X2_lowestPlaceOf_27 post k4) v3 s0 s1 → W p l e (headSpec (ws_ yX2_lowestPlaceOf cX2_lowestPlaceOf 4 (some .int)) (rm_X2_lowestPlaceOf)).room s m ([.ref q_x0, .int x1] : List Value).toArray below meth c s.heap [] 0 0 (MQ below (vp_Si (fun r => post r)) ([.ref q_x0, .int x1] : List Value).toArray s 0 0 (fun _ => False)) (F0 m 27 ls [.int s1, .int s0]) := by
      intro k4 hk4 v3 s0 s1 ls hl hw
      refine lv_iadd hx hb dX2_lowestPlaceOf_27 ?_
      refine lv_istore_n (lv' := [(2, .int (s0 + s1)), (0, .ref q_x0), (1, .int x1), (3, .int v3)]) hx hb dX2_lowestPlaceOf_28 rfl hl (by decide) rfl (fun ls hl => ?_)
      refine lv_iinc (v := (v3 + (nI 1))) (lv' := [(3, .int (v3 + (nI 1))), (2, .int (s0 + s1)), (0, .ref q_x0), (1, .int x1)]) hx hb dX2_lowestPlaceOf_29 hl (k := 3) rfl (congrArg (fun z => v3 + z) (by decide : Int32.ofInt (1) = (nI 1))) (by decide) rfl (fun ls hl => ?_)
      refine lv_goto (tgt := 4) hx hb dX2_lowestPlaceOf_32 (by decide) ?_
      exact hk4 (s0 + s1) (v3 + (nI 1)) _ (lv_sub hl [2, 3, 1, 0] rfl) hw
  have hL4 : ∀  (n : Nat) (v2 : Int32) (v3 : Int32) (ls : Array Slot), lv_has ls 4 [(0, .ref q_x0), (1, .int x1), (2, .int v2), (3, .int v3)] → lpF (fun _ _ => False) (w_X2_lowestPlaceOf_4 post x0_courtiers a_x0_later x1) n v2 v3 → W p l e (headSpec (ws_ yX2_lowestPlaceOf cX2_lowestPlaceOf 4 (some .int)) (rm_X2_lowestPlaceOf)).room s m ([.ref q_x0, .int x1] : List Value).toArray below meth c s.heap [] 0 0 (MQ below (vp_Si (fun r => post r)) ([.ref q_x0, .int x1] : List Value).toArray s 0 0 (fun _ => False)) (F0 m 4 ls []) := by
    intro  n
    induction n with
    | zero => intro v2 v3 ls hl hw; exact absurd hw id
    | succ n hk4 =>
      intro v2 v3 ls hl hw
      generalize hk9 : lpF (fun _ _ => False) (w_X2_lowestPlaceOf_4 post x0_courtiers a_x0_later x1) n = k4 at hk4
      have hw : (w_X2_lowestPlaceOf_4 post x0_courtiers a_x0_later x1) k4 v2 v3 := hk9 ▸ hw
      refine lv_iload_n hx hb dX2_lowestPlaceOf_4 rfl (lv_at hl 3 rfl) ?_
      refine lv_aload_n hx hb dX2_lowestPlaceOf_5 rfl (lv_at hl 0 rfl) ?_
      refine va_get (D := D) (ci := 1) (v := .int x0_courtiers) (C := RX2) (T := TX2) (N := 11) hx hb hts in_X2 hown hK hP 0 rfl rfl 0 (by decide) (hts _ q149) (fun _ h9 => h9) rfl dX2_lowestPlaceOf_6 ?_
      refine lv_icmp_ge (tgt := 35) hx hb dX2_lowestPlaceOf_9 (by decide) (fun c10 => ?_) (fun c10 => ?_)
      · have hw := hw.1 c10
        refine lv_iload_n hx hb dX2_lowestPlaceOf_35 rfl (lv_at hl 2 rfl) ?_
        exact W.iret (v := v2) hx hb hr (fun t ht hW => ⟨v2, rfl, hw, ht⟩) (fun _ h => by cases h) dX2_lowestPlaceOf_36
      · have hw := hw.2 c10
        refine lv_iload_n hx hb dX2_lowestPlaceOf_12 rfl (lv_at hl 2 rfl) ?_
        refine lv_aload_n hx hb dX2_lowestPlaceOf_13 rfl (lv_at hl 0 rfl) ?_
        refine lv_iload_n hx hb dX2_lowestPlaceOf_14 rfl (lv_at hl 3 rfl) ?_
        refine lv_iload_n hx hb dX2_lowestPlaceOf_15 rfl (lv_at hl 1 rfl) ?_
        refine k_ri (kc_rV (As := [.int v3, .int x1]) (rest := [.int v2]) hSx (met_X2_precedes l D dA cx q_x0 x0_courtiers x0_dignities x0_favors q_x0_later a_x0_later x0_rules x0_requests x0_width x0_granted x0_spent x0_gained x0_lost v3 x1 _ hw) gX2_110 ⟨rfl, hd_X2_precedes⟩ ⟨Nat.le_of_ble_eq_true rfl, Nat.le_of_ble_eq_true rfl⟩ rfl rfl hP hK hC [0, 1] rfl 0 rfl rfl rfl rfl hl.1 (Nat.le_of_ble_eq_true rfl) rfl dX2_lowestPlaceOf_16 ⟨Nat.le_refl 0, Nat.le_refl 0⟩) (fun r11 hw => ?_)
        refine lv_if_eq (tgt := 26) hx hb dX2_lowestPlaceOf_19 (by decide) (fun c12 => ?_) (fun c12 => ?_)
        · have hw := hw.1 c12
          refine lv_iconst (v := (nI 0)) hx hb dX2_lowestPlaceOf_26 (by decide) ?_
          exact hL27 k4 hk4 v3 v2 (nI 0) _ (lv_sub hl [0, 1, 3] rfl) hw
        · have hw := hw.2 c12
          refine lv_iconst (v := (nI 1)) hx hb dX2_lowestPlaceOf_22 (by decide) ?_
          refine lv_goto (tgt := 27) hx hb dX2_lowestPlaceOf_23 (by decide) ?_
          exact hL27 k4 hk4 v3 v2 (nI 1) _ (lv_sub hl [0, 1, 3] rfl) hw
  refine lv_iconst (v := (nI 0)) hx hb dX2_lowestPlaceOf_0 (by decide) ?_
  refine lv_istore_n (lv' := [(2, .int (nI 0)), (0, .ref q_x0), (1, .int x1)]) hx hb dX2_lowestPlaceOf_1 rfl hl (by decide) rfl (fun ls hl => ?_)
  refine lv_iconst (v := (nI 0)) hx hb dX2_lowestPlaceOf_2 (by decide) ?_
  refine lv_istore_n (lv' := [(3, .int (nI 0)), (2, .int (nI 0)), (0, .ref q_x0), (1, .int x1)]) hx hb dX2_lowestPlaceOf_3 rfl hl (by decide) rfl (fun ls hl => ?_)
  obtain ⟨n, hw⟩ := hw
  exact hL4  n (nI 0) (nI 0) _ (lv_sub hl [2, 3, 1, 0] rfl) hw
def w_X2_sumOfFavors_4 (post : Int32 → Prop) (x0_courtiers : Int32) (a_x0_favors : (Nat → Int32)) (k4 : Int32 → Int32 → Prop) (v1 : Int32) (v2 : Int32) : Prop :=
  ((x0_courtiers ≤ v2 → post v1) ∧ (¬ x0_courtiers ≤ v2 → (vp_in v2 8 ∧ k4 (v1 + (a_x0_favors v2.toNatClampNeg)) (v2 + (nI 1)))))
def w_X2_sumOfFavors (post : Int32 → Prop) (x0_courtiers : Int32) (a_x0_favors : (Nat → Int32)) : Prop :=
  (∃ n : Nat, lpF (fun _ _ => False) (w_X2_sumOfFavors_4 post x0_courtiers a_x0_favors) n (nI 0) (nI 0))
def rm_X2_sumOfFavors : Room := { frames := 0, cells := 0, slots := 0, locals := 0 }
set_option maxHeartbeats 4000000 in
set_option maxRecDepth 100000 in
theorem met_X2_sumOfFavors (l : Launch) (D : va_G) (dA : Nat → ClassId) (cx : CXt) (q_x0 : Nat) (x0_courtiers : Int32) (x0_dignities : Nat) (q_x0_favors : Nat) (a_x0_favors : (Nat → Int32)) (x0_later : Nat) (x0_rules : Int32) (x0_requests : Nat) (x0_width : Int32) (x0_granted : Int32) (x0_spent : Int64) (x0_gained : Int32) (x0_lost : Int32) (post : Int32 → Prop) (hw : w_X2_sumOfFavors post x0_courtiers a_x0_favors) : Met l yX2_sumOfFavors (ws_ yX2_sumOfFavors cX2_sumOfFavors 3 (some .int)) rm_X2_sumOfFavors (va_Pc [.ref q_x0] (rdC D dA cx [(q_x0, .inr (1, [.int x0_courtiers, .ref x0_dignities, .ref q_x0_favors, .ref x0_later, .int x0_rules, .ref x0_requests, .int x0_width, .int x0_granted, .long x0_spent, .int x0_gained, .int x0_lost])), (q_x0_favors, .inl (dA 0, 8, .inl a_x0_favors))])) (vp_Si (fun r => post r)) 0 0 (fun _ => False) := by
  refine Met.ofW (cc := cX2_sumOfFavors) (maxL := 3) (ret := (some .int)) (by decide) rfl ?_
  intro p e s m args below meth c s₁ B hml hv
  obtain ⟨rfl, hP, hK, hC⟩ := hv
  have hx := B.exec
  have hb := B.bytes
  have hr := B.returns
  have hts := atoms_spec (ws := (ws_ yX2_sumOfFavors cX2_sumOfFavors 3 (some .int))) B.pre
  have hts : ∀ w ∈ lw_all, w.before _ s = true := fun w h => hts w (List.mem_cons_of_mem _ h)
  have hown : s.vm.findClass RX2 = some m.cls := findClass_of_methodNamed B.named
  have hlocks := B.notSynchronized
  have hSx : CallFix p m c cX2_sumOfFavors 3 s _ lw_all RX2 := ⟨hx, hb, hml, hown, hts⟩
  have hNW := hC.1
  have hl := lv_entry ([.ref q_x0]) (n := 3) (Nat.le_of_ble_eq_true rfl)
  rw [lg_entry_eq]
  generalize (lg_sl ([.ref q_x0]) ++ List.replicate (3 - (lg_sl ([.ref q_x0])).length) Slot.unset).toArray = ls at hl ⊢
  have hl : lv_has ls 3 [(0, .ref q_x0)] := hl
  have hL4 : ∀  (n : Nat) (v1 : Int32) (v2 : Int32) (ls : Array Slot), lv_has ls 3 [(0, .ref q_x0), (1, .int v1), (2, .int v2)] → lpF (fun _ _ => False) (w_X2_sumOfFavors_4 post x0_courtiers a_x0_favors) n v1 v2 → W p l e (headSpec (ws_ yX2_sumOfFavors cX2_sumOfFavors 3 (some .int)) (rm_X2_sumOfFavors)).room s m ([.ref q_x0] : List Value).toArray below meth c s.heap [] 0 0 (MQ below (vp_Si (fun r => post r)) ([.ref q_x0] : List Value).toArray s 0 0 (fun _ => False)) (F0 m 4 ls []) := by
    intro  n
    induction n with
    | zero => intro v1 v2 ls hl hw; exact absurd hw id
    | succ n hk4 =>
      intro v1 v2 ls hl hw
      generalize hk9 : lpF (fun _ _ => False) (w_X2_sumOfFavors_4 post x0_courtiers a_x0_favors) n = k4 at hk4
      have hw : (w_X2_sumOfFavors_4 post x0_courtiers a_x0_favors) k4 v1 v2 := hk9 ▸ hw
      refine lv_iload_n hx hb dX2_sumOfFavors_4 rfl (lv_at hl 2 rfl) ?_
      refine lv_aload_n hx hb dX2_sumOfFavors_5 rfl (lv_at hl 0 rfl) ?_
      refine va_get (D := D) (ci := 1) (v := .int x0_courtiers) (C := RX2) (T := TX2) (N := 11) hx hb hts in_X2 hown hK hP 0 rfl rfl 0 (by decide) (hts _ q149) (fun _ h9 => h9) rfl dX2_sumOfFavors_6 ?_
      refine lv_icmp_ge (tgt := 27) hx hb dX2_sumOfFavors_9 (by decide) (fun c4 => ?_) (fun c4 => ?_)
      · have hw := hw.1 c4
        refine lv_iload_n hx hb dX2_sumOfFavors_27 rfl (lv_at hl 1 rfl) ?_
        exact W.iret (v := v1) hx hb hr (fun t ht hW => ⟨v1, rfl, hw, ht⟩) (fun _ h => by cases h) dX2_sumOfFavors_28
      · have hw := hw.2 c4
        refine lv_iload_n hx hb dX2_sumOfFavors_12 rfl (lv_at hl 1 rfl) ?_
        refine lv_aload_n hx hb dX2_sumOfFavors_13 rfl (lv_at hl 0 rfl) ?_
        refine va_get (D := D) (ci := 1) (v := .ref q_x0_favors) (C := RX2) (T := TX2) (N := 11) hx hb hts in_X2 hown hK hP 0 rfl rfl 2 (by decide) (hts _ q153) (fun _ h9 => h9) rfl dX2_sumOfFavors_14 ?_
        refine lv_iload_n hx hb dX2_sumOfFavors_17 rfl (lv_at hl 2 rfl) ?_
        obtain ⟨h5, hw⟩ := hw
        refine k_iald (k := v2.toNatClampNeg) hx hb hK hP 1 0 rfl rfl rfl h5 dX2_sumOfFavors_18 ?_
        refine lv_iadd hx hb dX2_sumOfFavors_19 ?_
        refine lv_istore_n (lv' := [(1, .int (v1 + (a_x0_favors v2.toNatClampNeg))), (0, .ref q_x0), (2, .int v2)]) hx hb dX2_sumOfFavors_20 rfl hl (by decide) rfl (fun ls hl => ?_)
        refine lv_iinc (v := (v2 + (nI 1))) (lv' := [(2, .int (v2 + (nI 1))), (1, .int (v1 + (a_x0_favors v2.toNatClampNeg))), (0, .ref q_x0)]) hx hb dX2_sumOfFavors_21 hl (k := 2) rfl (congrArg (fun z => v2 + z) (by decide : Int32.ofInt (1) = (nI 1))) (by decide) rfl (fun ls hl => ?_)
        refine lv_goto (tgt := 4) hx hb dX2_sumOfFavors_24 (by decide) ?_
        exact hk4 (v1 + (a_x0_favors v2.toNatClampNeg)) (v2 + (nI 1)) _ (lv_sub hl [2, 1, 0] rfl) hw
  refine lv_iconst (v := (nI 0)) hx hb dX2_sumOfFavors_0 (by decide) ?_
  refine lv_istore_n (lv' := [(1, .int (nI 0)), (0, .ref q_x0)]) hx hb dX2_sumOfFavors_1 rfl hl (by decide) rfl (fun ls hl => ?_)
  refine lv_iconst (v := (nI 0)) hx hb dX2_sumOfFavors_2 (by decide) ?_
  refine lv_istore_n (lv' := [(2, .int (nI 0)), (1, .int (nI 0)), (0, .ref q_x0)]) hx hb dX2_sumOfFavors_3 rfl hl (by decide) rfl (fun ls hl => ?_)
  obtain ⟨n, hw⟩ := hw
  exact hL4  n (nI 0) (nI 0) _ (lv_sub hl [2, 1, 0] rfl) hw
def w_X2_setWidth (post : Int32 → Prop) (px : String → Int32 → Prop) (bc bs : Nat) (x0_width : Int32) (x1 : Int32) : Prop :=
  w_X1_inRange (fun r8 => (∃ b11 b12 : Nat, b11 ≤ bc ∧ b12 ≤ bs ∧ w_X1_checkArgument (post x0_width) (fun E9 o10 => px E9 o10 ) b11 b12 r8)) x1 (nI 8) (nI 60)
def rm_X2_setWidth (bc0 bs0 : Nat) : Room := { frames := 7, cells := bc0, slots := bs0, locals := 109 }
set_option maxHeartbeats 4000000 in
set_option maxRecDepth 100000 in
theorem met_X2_setWidth (l : Launch) (hst : l.stackTraces = false) (D : va_G) (dA : Nat → ClassId) (cx : CXt) (sz : Nat) (bc0 bs0 : Nat) (q_x0 : Nat) (x0_courtiers : Int32) (x0_dignities : Nat) (x0_favors : Nat) (x0_later : Nat) (x0_rules : Int32) (x0_requests : Nat) (x0_width : Int32) (x0_granted : Int32) (x0_spent : Int64) (x0_gained : Int32) (x0_lost : Int32) (x1 : Int32) (post : Int32 → Prop) (px : String → Int32 → Prop) (hw : w_X2_setWidth post px bc0 bs0 x0_width x1) : vx_Met l yX2_setWidth (ws_ yX2_setWidth cX2_setWidth 3 (some .int)) (rm_X2_setWidth bc0 bs0) (va_Pc [.ref q_x0, .int x1] (wrC D dA cx sz [(q_x0, .inr (1, [.int x0_courtiers, .ref x0_dignities, .ref x0_favors, .ref x0_later, .int x0_rules, .ref x0_requests, .int x0_width, .int x0_granted, .long x0_spent, .int x0_gained, .int x0_lost]))])) (va_Qi (fun (r : Int32) (u : Unit) => post r ) (fun (u : Unit) t => wrQ D dA (va_A [(q_x0, .inr (1, [.int x0_courtiers, .ref x0_dignities, .ref x0_favors, .ref x0_later, .int x0_rules, .ref x0_requests, .int x0_width, .int x0_granted, .long x0_spent, .int x0_gained, .int x0_lost]))] sz) [(q_x0, .inr (1, [.int x0_courtiers, .ref x0_dignities, .ref x0_favors, .ref x0_later, .int x0_rules, .ref x0_requests, .int x1, .int x0_granted, .long x0_spent, .int x0_gained, .int x0_lost]))] t) (va_A [(q_x0, .inr (1, [.int x0_courtiers, .ref x0_dignities, .ref x0_favors, .ref x0_later, .int x0_rules, .ref x0_requests, .int x0_width, .int x0_granted, .long x0_spent, .int x0_gained, .int x0_lost]))] sz)) (vx_X (fun (u : String × Int32 × Unit) => px u.1 u.2.1 ) (xcB D dA (va_A [(q_x0, .inr (1, [.int x0_courtiers, .ref x0_dignities, .ref x0_favors, .ref x0_later, .int x0_rules, .ref x0_requests, .int x0_width, .int x0_granted, .long x0_spent, .int x0_gained, .int x0_lost]))] sz) (["java/lang/IllegalArgumentException"] : List String) (fun (u : String × Int32 × Unit) => [(q_x0, .inr (1, [.int x0_courtiers, .ref x0_dignities, .ref x0_favors, .ref x0_later, .int x0_rules, .ref x0_requests, .int x0_width, .int x0_granted, .long x0_spent, .int x0_gained, .int x0_lost]))])) (va_A [(q_x0, .inr (1, [.int x0_courtiers, .ref x0_dignities, .ref x0_favors, .ref x0_later, .int x0_rules, .ref x0_requests, .int x0_width, .int x0_granted, .long x0_spent, .int x0_gained, .int x0_lost]))] sz)) bc0 bs0 (va_A [(q_x0, .inr (1, [.int x0_courtiers, .ref x0_dignities, .ref x0_favors, .ref x0_later, .int x0_rules, .ref x0_requests, .int x0_width, .int x0_granted, .long x0_spent, .int x0_gained, .int x0_lost]))] sz) := by
  refine vx_ofW (cc := cX2_setWidth) (maxL := 3) (ret := (some .int)) (by decide) rfl ?_
  intro p e s m args below meth c s₁ B hml htab hv
  obtain ⟨rfl, hsz, hP, hK, hD0, hC⟩ := hv
  have hx := B.exec
  have hb := B.bytes
  have hr := B.returns
  have hts := atoms_spec (ws := (ws_ yX2_setWidth cX2_setWidth 3 (some .int))) B.pre
  have hts : ∀ w ∈ lw_all, w.before _ s = true := fun w h => hts w (List.mem_cons_of_mem _ h)
  have hown : s.vm.findClass RX2 = some m.cls := findClass_of_methodNamed B.named
  have hlocks := B.notSynchronized
  have hSx : CallFix p m c cX2_setWidth 3 s _ lw_all RX2 := ⟨hx, hb, hml, hown, hts⟩
  subst hsz
  have hD := hD0.self (sz := s.heap.size)
  generalize hAe : va_A [(q_x0, .inr (1, [.int x0_courtiers, .ref x0_dignities, .ref x0_favors, .ref x0_later, .int x0_rules, .ref x0_requests, .int x0_width, .int x0_granted, .long x0_spent, .int x0_gained, .int x0_lost]))] s.heap.size = A at hD hC ⊢
  have hA : ∀ q : Nat, s.heap.size ≤ q → A q := fun q h => by rw [← hAe]; exact Or.inr h
  have hS : va_S A s.heap s.heap [] := va_S.rf
  have hbud : 0 + bc0 ≤ bc0 ∧ 0 + bs0 ≤ bs0 := by omega
  have hNW := hC.1
  have hl := lv_entry ([.ref q_x0, .int x1]) (n := 3) (Nat.le_of_ble_eq_true rfl)
  rw [lg_entry_eq]
  generalize (lg_sl ([.ref q_x0, .int x1]) ++ List.replicate (3 - (lg_sl ([.ref q_x0, .int x1])).length) Slot.unset).toArray = ls at hl ⊢
  have hl : lv_has ls 3 [(0, .ref q_x0), (1, .int x1)] := hl
  refine lv_iload_n hx hb dX2_setWidth_0 rfl (lv_at hl 1 rfl) ?_
  refine lv_bipush (v := (nI 8)) hx hb dX2_setWidth_1 (by decide) ?_
  refine lv_bipush (v := (nI 60)) hx hb dX2_setWidth_3 (by decide) ?_
  refine k_ri (kc_pSN (As := [.int x1, .int (nI 8), .int (nI 60)]) (rest := []) hSx (met_X1_inRange l x1 (nI 8) (nI 60) _ hw) hNW q1143 q807 q67 q806 hd_X1_inRange ⟨Nat.le_of_ble_eq_true rfl, Nat.le_of_ble_eq_true rfl⟩ rfl rfl rfl hl.1 (Nat.le_of_ble_eq_true rfl) rfl dX2_setWidth_5 ⟨(show 0 + 0 ≤ bc0 by omega), (show 0 + 0 ≤ bs0 by omega)⟩) (fun r8 hw => ?_)
  obtain ⟨b11, b12, h13, h14, hw⟩ := hw
  refine kx_wv (wn := fun (u : Unit) => [(q_x0, .inr (1, [.int x0_courtiers, .ref x0_dignities, .ref x0_favors, .ref x0_later, .int x0_rules, .ref x0_requests, .int x0_width, .int x0_granted, .long x0_spent, .int x0_gained, .int x0_lost]))]) (wxn := fun (u : String × Int32 × Unit) => [(q_x0, .inr (1, [.int x0_courtiers, .ref x0_dignities, .ref x0_favors, .ref x0_later, .int x0_rules, .ref x0_requests, .int x0_width, .int x0_granted, .long x0_spent, .int x0_gained, .int x0_lost]))]) (wr := [(q_x0, .inr (1, [.int x0_courtiers, .ref x0_dignities, .ref x0_favors, .ref x0_later, .int x0_rules, .ref x0_requests, .int x0_width, .int x0_granted, .long x0_spent, .int x0_gained, .int x0_lost]))]) (xc_wSN (As := [.int r8]) (rest := []) hSx (met_X1_checkArgument l hst D dA cx _ b11 b12 r8 _ _ hw) hNW q1144 q1146 q67 q1145 hd_X1_checkArgument ⟨Nat.le_of_ble_eq_true rfl, Nat.le_of_ble_eq_true rfl⟩ rfl rfl hP hK hD hS hA (hC.kept hS.2.1) [] rfl (by decide) rfl rfl hl.1 (Nat.le_of_ble_eq_true rfl) rfl dX2_setWidth_8 ⟨(show 0 + b11 ≤ bc0 by omega), (show 0 + b12 ≤ bs0 by omega)⟩) hP hD hS hA [] [0] rfl rfl (by decide) (by decide) (fun _ => rfl) (fun _ => rfl) (fun u q9 ce H locs hw hin hpo _ hP hD hS hce hcv hcl => ?_) (fun u H locs hw _ hP hD hS => ?_)
  · obtain ⟨E9, o10, u9⟩ := u
    have hP : va_P D vwCl [(q_x0, .inr (1, [.int x0_courtiers, .ref x0_dignities, .ref x0_favors, .ref x0_later, .int x0_rules, .ref x0_requests, .int x0_width, .int x0_granted, .long x0_spent, .int x0_gained, .int x0_lost]))] H := hP
    have hD : va_D A [(q_x0, .inr (1, [.int x0_courtiers, .ref x0_dignities, .ref x0_favors, .ref x0_later, .int x0_rules, .ref x0_requests, .int x0_width, .int x0_granted, .long x0_spent, .int x0_gained, .int x0_lost]))] := hD
    have hbud : (0 + b11) + (bc0 - b11) ≤ bc0 ∧ (0 + b12) + (bs0 - b12) ≤ bs0 := by omega
    refine vx_widen (k := bc0) (n := bs0) (by omega) (by omega) ?_
    exact kx_out (fun x hx => (htab x hx).elim) hlocks (E9, o10, ()) hce hcv hcl hw ((show ∀ z ∈ (["java/lang/IllegalArgumentException"] : List String), z ∈ (["java/lang/IllegalArgumentException"] : List String) from by decide) _ hin) hpo (hP.sub [0] rfl) hK (hD.sub [0] (by decide) rfl) hS (Nat.le_refl _) (Nat.le_refl _)
  · have h0 := trivial
    have hP : va_P D vwCl [(q_x0, .inr (1, [.int x0_courtiers, .ref x0_dignities, .ref x0_favors, .ref x0_later, .int x0_rules, .ref x0_requests, .int x0_width, .int x0_granted, .long x0_spent, .int x0_gained, .int x0_lost]))] H := hP
    have hD : va_D A [(q_x0, .inr (1, [.int x0_courtiers, .ref x0_dignities, .ref x0_favors, .ref x0_later, .int x0_rules, .ref x0_requests, .int x0_width, .int x0_granted, .long x0_spent, .int x0_gained, .int x0_lost]))] := hD
    have hbud : (0 + b11) + (bc0 - b11) ≤ bc0 ∧ (0 + b12) + (bs0 - b12) ≤ bs0 := by omega
    refine lv_aload_n hx hb dX2_setWidth_11 rfl (lv_at hl 0 rfl) ?_
    refine va_get (D := D) (ci := 1) (v := .int x0_width) (C := RX2) (T := TX2) (N := 11) hx hb hts in_X2 hown hK hP 0 rfl rfl 6 (by decide) (hts _ q160) (fun _ h9 => h9) rfl dX2_setWidth_12 ?_
    refine lv_istore_n (lv' := [(2, .int x0_width), (0, .ref q_x0), (1, .int x1)]) hx hb dX2_setWidth_15 rfl hl (by decide) rfl (fun ls hl => ?_)
    refine lv_aload_n hx hb dX2_setWidth_16 rfl (lv_at hl 1 rfl) ?_
    refine lv_iload_n hx hb dX2_setWidth_17 rfl (lv_at hl 2 rfl) ?_
    refine va_put (D := D) (ci := 1) (v := .int x1) (ty := (.int)) (C := RX2) (T := TX2) (N := 11) hx hb hts in_X2 tyX2 tyX2_ok nmX2 hown hK hP hD hS 0 rfl rfl 6 (by decide) (hts _ q160) (fun _ h9 => h9) rfl (by decide +kernel) rfl rfl (Nat.le_of_ble_eq_true rfl) dX2_setWidth_18 (fun H locs hP hD hS => ?_)
    have hP : va_P D vwCl [(q_x0, .inr (1, [.int x0_courtiers, .ref x0_dignities, .ref x0_favors, .ref x0_later, .int x0_rules, .ref x0_requests, .int x1, .int x0_granted, .long x0_spent, .int x0_gained, .int x0_lost]))] H := hP
    have hD : va_D A [(q_x0, .inr (1, [.int x0_courtiers, .ref x0_dignities, .ref x0_favors, .ref x0_later, .int x0_rules, .ref x0_requests, .int x1, .int x0_granted, .long x0_spent, .int x0_gained, .int x0_lost]))] := hD
    refine lv_iload_n hx hb dX2_setWidth_21 rfl (lv_at hl 0 rfl) ?_
    refine W.widen (k := bc0) (n := bs0) (by omega) (by omega) ?_
    refine vx_ret ?_
    exact W.iret (v := x0_width) hx hb hr (fun t ht hW => ⟨⟨x0_width, (), rfl, hw, by rw [ht]; exact hP.sub [0] rfl, va_K.moved hW.alike hK, hD.sub [0] (by decide) rfl⟩, hS.F ht⟩) hS.2.2 dX2_setWidth_22
