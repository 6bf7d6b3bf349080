/-! STRINGBUILDER: what its methods compute, its contracts, walked (printed by a program of wip/D-56275w/gen) -/
def w_J4_isLatin1 (post : Int32 → Prop)  : Prop :=
  post (nI 1)
def rm_J4_isLatin1 : Room := { frames := 0, cells := 0, slots := 0, locals := 0 }
set_option maxHeartbeats 4000000 in
set_option maxRecDepth 100000 in
theorem met_J4_isLatin1 (l : Launch) (D : va_G) (dA : Nat → ClassId) (cx : CXt) (q_x0 : Nat) (q_x0_value : Nat) (n_x0_value : Nat) (a_x0_value : (Nat → Int32)) (x0_maybeLatin1 : Int32) (x0_count : Int32) (post : Int32 → Prop) (hw : w_J4_isLatin1 post ) : Met l yJ4_isLatin1 (ws_ yJ4_isLatin1 cJ4_isLatin1 1 (some .boolean)) rm_J4_isLatin1 (va_Pc [.ref q_x0] (rdC D dA cx [(q_x0, .inr (11, [.ref q_x0_value, .int (nI 0), .int x0_maybeLatin1, .int x0_count])), (q_x0_value, .inl (dA 3, n_x0_value, .inl a_x0_value))])) (vp_Si (fun r => post r)) 0 0 (fun _ => False) := by
  refine Met.ofW (cc := cJ4_isLatin1) (maxL := 1) (ret := (some .boolean)) (by decide) rfl ?_
  intro p e s m args below meth c s₁ B hml hv
  obtain ⟨rfl, hP, hK, hC⟩ := hv
  have hx := B.exec
  have hb := B.bytes
  have hr := B.returns
  have hts := atoms_spec (ws := (ws_ yJ4_isLatin1 cJ4_isLatin1 1 (some .boolean))) B.pre
  have hts : ∀ w ∈ lw_all, w.before _ s = true := fun w h => hts w (List.mem_cons_of_mem _ h)
  have hown : s.vm.findClass RJ4 = some m.cls := findClass_of_methodNamed B.named
  have hlocks := B.notSynchronized
  have hSx : CallFix p m c cJ4_isLatin1 1 s _ lw_all RJ4 := ⟨hx, hb, hml, hown, hts⟩
  have hNW := hC.1
  have hl := lv_entry ([.ref q_x0]) (n := 1) (Nat.le_of_ble_eq_true rfl)
  rw [lg_entry_eq]
  generalize (lg_sl ([.ref q_x0]) ++ List.replicate (1 - (lg_sl ([.ref q_x0])).length) Slot.unset).toArray = ls at hl ⊢
  have hl : lv_has ls 1 [(0, .ref q_x0)] := hl
  refine va_gets (v := .int (nI 1)) hx hb hC.cs (va_S.rf (A := fun _ => False)) hown (hts _ q220) (fun _ h9 => h9) dJ4_isLatin1_0 ?_
  refine lv_if_eq (tgt := 17) hx hb dJ4_isLatin1_3 (by decide) (fun c3 => absurd c3 (by decide)) (fun _ => ?_)
  refine lv_aload_n hx hb dJ4_isLatin1_6 rfl (lv_at hl 0 rfl) ?_
  refine va_get (D := D) (ci := 11) (v := .int (nI 0)) (C := RJ5) (T := TJ5) (N := 4) hx hb hts in_J5 hown hK hP 0 rfl rfl 1 (by decide) (hts _ q230) (fun _ h9 => h9) rfl dJ4_isLatin1_7 ?_
  refine lv_if_ne (tgt := 17) hx hb dJ4_isLatin1_10 (by decide) (fun c4 => absurd (by decide) c4) (fun _ => ?_)
  refine lv_iconst (v := (nI 1)) hx hb dJ4_isLatin1_13 (by decide) ?_
  refine lv_goto (tgt := 18) hx hb dJ4_isLatin1_14 (by decide) ?_
  exact W.zret (v := (nI 1)) hx hb hr rfl (fun t ht hW => ⟨(nI 1), rfl, hw, ht⟩) (fun _ h => by cases h) dJ4_isLatin1_18
def w_J20_canEncode (post : Int32 → Prop) (x0 : Int32) : Prop :=
  (((nI 255) < x0 → post (nI 0)) ∧ (¬ (nI 255) < x0 → post (nI 1)))
def rm_J20_canEncode : Room := { frames := 0, cells := 0, slots := 0, locals := 0 }
set_option maxHeartbeats 4000000 in
set_option maxRecDepth 100000 in
theorem met_J20_canEncode (l : Launch) (x0 : Int32) (post : Int32 → Prop) (hw : w_J20_canEncode post x0) : Met l yJ20_canEncode (ws_ yJ20_canEncode cJ20_canEncode 1 (some .boolean)) rm_J20_canEncode (va_Pc [.int x0] (fun _ => True)) (vp_Si (fun r => post r)) 0 0 (fun _ => False) := by
  refine Met.ofW (cc := cJ20_canEncode) (maxL := 1) (ret := (some .boolean)) (by decide) rfl ?_
  intro p e s m args below meth c s₁ B hml hv
  obtain ⟨rfl, -⟩ := hv
  have hx := B.exec
  have hb := B.bytes
  have hr := B.returns
  have hts := atoms_spec (ws := (ws_ yJ20_canEncode cJ20_canEncode 1 (some .boolean))) B.pre
  have hts : ∀ w ∈ lw_all, w.before _ s = true := fun w h => hts w (List.mem_cons_of_mem _ h)
  have hown : s.vm.findClass RJ20 = some m.cls := findClass_of_methodNamed B.named
  have hlocks := B.notSynchronized
  have hSx : CallFix p m c cJ20_canEncode 1 s _ lw_all RJ20 := ⟨hx, hb, hml, hown, hts⟩
  have hl := lv_entry ([.int x0]) (n := 1) (Nat.le_of_ble_eq_true rfl)
  rw [lg_entry_eq]
  generalize (lg_sl ([.int x0]) ++ List.replicate (1 - (lg_sl ([.int x0])).length) Slot.unset).toArray = ls at hl ⊢
  have hl : lv_has ls 1 [(0, .int x0)] := hl
  refine lv_iload_n hx hb dJ20_canEncode_0 rfl (lv_at hl 0 rfl) ?_
  refine lv_sipush (v := (nI 255)) hx hb dJ20_canEncode_1 (by decide) ?_
  refine lv_icmp_gt (tgt := 11) hx hb dJ20_canEncode_4 (by decide) (fun c2 => ?_) (fun c2 => ?_)
  · have hw := hw.1 c2
    refine lv_iconst (v := (nI 0)) hx hb dJ20_canEncode_11 (by decide) ?_
    exact W.zret (v := (nI 0)) hx hb hr rfl (fun t ht hW => ⟨(nI 0), rfl, hw, ht⟩) (fun _ h => by cases h) dJ20_canEncode_12
  · have hw := hw.2 c2
    refine lv_iconst (v := (nI 1)) hx hb dJ20_canEncode_7 (by decide) ?_
    refine lv_goto (tgt := 12) hx hb dJ20_canEncode_8 (by decide) ?_
    exact W.zret (v := (nI 1)) hx hb hr rfl (fun t ht hW => ⟨(nI 1), rfl, hw, ht⟩) (fun _ h => by cases h) dJ20_canEncode_12
def w_J21_checkIndex_n_9 (post : Int32 → Prop)    : Prop :=
  False
def w_J21_checkIndex_n (post : Int32 → Prop) (x0 : Int32) (x1 : Int32) : Prop :=
  ((x0 < 0 → (w_J21_checkIndex_n_9 post) ) ∧ (¬ x0 < 0 → ((x0 < x1 → post x0) ∧ (¬ x0 < x1 → (w_J21_checkIndex_n_9 post) ))))
def rm_J21_checkIndex_n : Room := { frames := 0, cells := 0, slots := 0, locals := 0 }
set_option maxHeartbeats 4000000 in
set_option maxRecDepth 100000 in
theorem met_J21_checkIndex_n (l : Launch) (x0 : Int32) (x1 : Int32) (post : Int32 → Prop) (hw : w_J21_checkIndex_n post x0 x1) : Met l yJ21_checkIndex (ws_ yJ21_checkIndex cJ21_checkIndex 3 (some .int)) rm_J21_checkIndex_n (va_Pc [.int x0, .int x1, .null] (fun _ => True)) (vp_Si (fun r => post r)) 0 0 (fun _ => False) := by
  refine Met.ofW (cc := cJ21_checkIndex) (maxL := 3) (ret := (some .int)) (by decide) rfl ?_
  intro p e s m args below meth c s₁ B hml hv
  obtain ⟨rfl, -⟩ := hv
  have hx := B.exec
  have hb := B.bytes
  have hr := B.returns
  have hts := atoms_spec (ws := (ws_ yJ21_checkIndex cJ21_checkIndex 3 (some .int))) B.pre
  have hts : ∀ w ∈ lw_all, w.before _ s = true := fun w h => hts w (List.mem_cons_of_mem _ h)
  have hown : s.vm.findClass RJ21 = some m.cls := findClass_of_methodNamed B.named
  have hlocks := B.notSynchronized
  have hSx : CallFix p m c cJ21_checkIndex 3 s _ lw_all RJ21 := ⟨hx, hb, hml, hown, hts⟩
  have hl := lv_entry ([.int x0, .int x1, .null]) (n := 3) (Nat.le_of_ble_eq_true rfl)
  rw [lg_entry_eq]
  generalize (lg_sl ([.int x0, .int x1, .null]) ++ List.replicate (3 - (lg_sl ([.int x0, .int x1, .null])).length) Slot.unset).toArray = ls at hl ⊢
  have hl : lv_has ls 3 [(0, .int x0), (1, .int x1), (2, .null)] := hl
  have hL9 : ∀   (ls : Array Slot), lv_has ls 3 [(0, .int x0), (1, .int x1), (2, .null)] → (w_J21_checkIndex_n_9 post)  → W p l e (headSpec (ws_ yJ21_checkIndex cJ21_checkIndex 3 (some .int)) (rm_J21_checkIndex_n)).room s m ([.int x0, .int x1, .null] : List Value).toArray below meth c s.heap [] 0 0 (MQ below (vp_Si (fun r => post r)) ([.int x0, .int x1, .null] : List Value).toArray s 0 0 (fun _ => False)) (F0 m 9 ls []) := by
      intro   ls hl hw
      refine lv_aload_nN hx hb dJ21_checkIndex_9 rfl (lv_at hl 2 rfl) ?_
      refine lv_iload_n hx hb dJ21_checkIndex_10 rfl (lv_at hl 0 rfl) ?_
      refine lv_iload_n hx hb dJ21_checkIndex_11 rfl (lv_at hl 1 rfl) ?_
      exact (show False from hw).elim
  refine lv_iload_n hx hb dJ21_checkIndex_0 rfl (lv_at hl 0 rfl) ?_
  refine lv_if_lt (tgt := 9) hx hb dJ21_checkIndex_1 (by decide) (fun c5 => ?_) (fun c5 => ?_)
  · have hw := hw.1 c5
    exact hL9   _ (lv_sub hl [0, 1, 2] rfl) hw
  · have hw := hw.2 c5
    refine lv_iload_n hx hb dJ21_checkIndex_4 rfl (lv_at hl 0 rfl) ?_
    refine lv_iload_n hx hb dJ21_checkIndex_5 rfl (lv_at hl 1 rfl) ?_
    refine lv_icmp_lt (tgt := 16) hx hb dJ21_checkIndex_6 (by decide) (fun c6 => ?_) (fun c6 => ?_)
    · have hw := hw.1 c6
      refine lv_iload_n hx hb dJ21_checkIndex_16 rfl (lv_at hl 0 rfl) ?_
      exact W.iret (v := x0) hx hb hr (fun t ht hW => ⟨x0, rfl, hw, ht⟩) (fun _ h => by cases h) dJ21_checkIndex_17
    · have hw := hw.2 c6
      exact hL9   _ (lv_sub hl [0, 1, 2] rfl) hw
def w_J21_checkIndex_9 (post : Int32 → Prop)    : Prop :=
  False
def w_J21_checkIndex (post : Int32 → Prop) (x0 : Int32) (x1 : Int32) : Prop :=
  ((x0 < 0 → (w_J21_checkIndex_9 post) ) ∧ (¬ x0 < 0 → ((x0 < x1 → post x0) ∧ (¬ x0 < x1 → (w_J21_checkIndex_9 post) ))))
def rm_J21_checkIndex : Room := { frames := 0, cells := 0, slots := 0, locals := 0 }
set_option maxHeartbeats 4000000 in
set_option maxRecDepth 100000 in
theorem met_J21_checkIndex (l : Launch) (x0 : Int32) (x1 : Int32) (x2 : Nat) (post : Int32 → Prop) (hw : w_J21_checkIndex post x0 x1) : Met l yJ21_checkIndex (ws_ yJ21_checkIndex cJ21_checkIndex 3 (some .int)) rm_J21_checkIndex (va_Pc [.int x0, .int x1, .ref x2] (fun _ => True)) (vp_Si (fun r => post r)) 0 0 (fun _ => False) := by
  refine Met.ofW (cc := cJ21_checkIndex) (maxL := 3) (ret := (some .int)) (by decide) rfl ?_
  intro p e s m args below meth c s₁ B hml hv
  obtain ⟨rfl, -⟩ := hv
  have hx := B.exec
  have hb := B.bytes
  have hr := B.returns
  have hts := atoms_spec (ws := (ws_ yJ21_checkIndex cJ21_checkIndex 3 (some .int))) B.pre
  have hts : ∀ w ∈ lw_all, w.before _ s = true := fun w h => hts w (List.mem_cons_of_mem _ h)
  have hown : s.vm.findClass RJ21 = some m.cls := findClass_of_methodNamed B.named
  have hlocks := B.notSynchronized
  have hSx : CallFix p m c cJ21_checkIndex 3 s _ lw_all RJ21 := ⟨hx, hb, hml, hown, hts⟩
  have hl := lv_entry ([.int x0, .int x1, .ref x2]) (n := 3) (Nat.le_of_ble_eq_true rfl)
  rw [lg_entry_eq]
  generalize (lg_sl ([.int x0, .int x1, .ref x2]) ++ List.replicate (3 - (lg_sl ([.int x0, .int x1, .ref x2])).length) Slot.unset).toArray = ls at hl ⊢
  have hl : lv_has ls 3 [(0, .int x0), (1, .int x1), (2, .ref x2)] := hl
  have hL9 : ∀   (ls : Array Slot), lv_has ls 3 [(0, .int x0), (1, .int x1), (2, .ref x2)] → (w_J21_checkIndex_9 post)  → W p l e (headSpec (ws_ yJ21_checkIndex cJ21_checkIndex 3 (some .int)) (rm_J21_checkIndex)).room s m ([.int x0, .int x1, .ref x2] : List Value).toArray below meth c s.heap [] 0 0 (MQ below (vp_Si (fun r => post r)) ([.int x0, .int x1, .ref x2] : List Value).toArray s 0 0 (fun _ => False)) (F0 m 9 ls []) := by
      intro   ls hl hw
      refine lv_aload_n hx hb dJ21_checkIndex_9 rfl (lv_at hl 2 rfl) ?_
      refine lv_iload_n hx hb dJ21_checkIndex_10 rfl (lv_at hl 0 rfl) ?_
      refine lv_iload_n hx hb dJ21_checkIndex_11 rfl (lv_at hl 1 rfl) ?_
      exact (show False from hw).elim
  refine lv_iload_n hx hb dJ21_checkIndex_0 rfl (lv_at hl 0 rfl) ?_
  refine lv_if_lt (tgt := 9) hx hb dJ21_checkIndex_1 (by decide) (fun c5 => ?_) (fun c5 => ?_)
  · have hw := hw.1 c5
    exact hL9   _ (lv_sub hl [0, 1, 2] rfl) hw
  · have hw := hw.2 c5
    refine lv_iload_n hx hb dJ21_checkIndex_4 rfl (lv_at hl 0 rfl) ?_
    refine lv_iload_n hx hb dJ21_checkIndex_5 rfl (lv_at hl 1 rfl) ?_
    refine lv_icmp_lt (tgt := 16) hx hb dJ21_checkIndex_6 (by decide) (fun c6 => ?_) (fun c6 => ?_)
    · have hw := hw.1 c6
      refine lv_iload_n hx hb dJ21_checkIndex_16 rfl (lv_at hl 0 rfl) ?_
      exact W.iret (v := x0) hx hb hr (fun t ht hW => ⟨x0, rfl, hw, ht⟩) (fun _ h => by cases h) dJ21_checkIndex_17
    · have hw := hw.2 c6
      exact hL9   _ (lv_sub hl [0, 1, 2] rfl) hw
def w_J6_checkIndex (post : Prop) (x0 : Int32) (x1 : Int32) : Prop :=
  (w_J21_checkIndex_n (fun r7 => post ) x0 x1 ∧ w_J21_checkIndex (fun r8 => post ) x0 x1)
theorem hd_J21_checkIndex : yJ21_checkIndex.cls ≠ "java/lang/invoke/MethodHandle" ∧ yJ21_checkIndex.cls ≠ "java/lang/invoke/VarHandle" ∧ (parseMethodDescriptor yJ21_checkIndex.desc).map (fun d => d.parameters.length) = some 3 := by decide +kernel
theorem gJ6_1059 : GoodIn lw_all (va_wsS RJ6 1059 yJ21_checkIndex (ws_ yJ21_checkIndex cJ21_checkIndex 3 (some .int))) := lw_S q794 q795 q92 q796
def rm_J6_checkIndex : Room := { frames := 1, cells := 0, slots := 0, locals := 22 }
set_option maxHeartbeats 4000000 in
set_option maxRecDepth 100000 in
theorem met_J6_checkIndex (l : Launch) (D : va_G) (dA : Nat → ClassId) (cx : CXt) (x0 : Int32) (x1 : Int32) (post : Prop) (hw : w_J6_checkIndex post x0 x1) : Met l yJ6_checkIndex (ws_ yJ6_checkIndex cJ6_checkIndex 2 none) rm_J6_checkIndex (va_Pc [.int x0, .int x1] (rdC D dA cx [])) (va_Sv (fun _ => post)) 0 0 (fun _ => False) := by
  refine Met.ofW (cc := cJ6_checkIndex) (maxL := 2) (ret := none) (by decide) rfl ?_
  intro p e s m args below meth c s₁ B hml hv
  obtain ⟨rfl, hP, hK, hC⟩ := hv
  have hx := B.exec
  have hb := B.bytes
  have hr := B.returns
  have hts := atoms_spec (ws := (ws_ yJ6_checkIndex cJ6_checkIndex 2 none)) B.pre
  have hts : ∀ w ∈ lw_all, w.before _ s = true := fun w h => hts w (List.mem_cons_of_mem _ h)
  have hown : s.vm.findClass RJ6 = some m.cls := findClass_of_methodNamed B.named
  have hlocks := B.notSynchronized
  have hSx : CallFix p m c cJ6_checkIndex 2 s _ lw_all RJ6 := ⟨hx, hb, hml, hown, hts⟩
  have hNW := hC.1
  have hl := lv_entry ([.int x0, .int x1]) (n := 2) (Nat.le_of_ble_eq_true rfl)
  rw [lg_entry_eq]
  generalize (lg_sl ([.int x0, .int x1]) ++ List.replicate (2 - (lg_sl ([.int x0, .int x1])).length) Slot.unset).toArray = ls at hl ⊢
  have hl : lv_has ls 2 [(0, .int x0), (1, .int x1)] := hl
  refine lv_iload_n hx hb dJ6_checkIndex_0 rfl (lv_at hl 0 rfl) ?_
  refine lv_iload_n hx hb dJ6_checkIndex_1 rfl (lv_at hl 1 rfl) ?_
  rcases hC.sio with h6 | ⟨q5, h6⟩
  · have hw := hw.1
    refine va_gets (v := .null) hx hb h6 (va_S.rf (A := fun _ => False)) hown (hts _ q525) (fun _ h9 => h9) dJ6_checkIndex_2 ?_
    refine k_ri (k_pS (As := [.int x0, .int x1, .null]) (rest := []) hSx (met_J21_checkIndex_n l x0 x1 _ hw) gJ6_1059 hd_J21_checkIndex ⟨Nat.le_of_ble_eq_true rfl, Nat.le_of_ble_eq_true rfl⟩ rfl rfl rfl hl.1 (Nat.le_of_ble_eq_true rfl) rfl dJ6_checkIndex_5 ⟨Nat.le_refl 0, Nat.le_refl 0⟩) (fun r7 hw => ?_)
    refine lv_pop hx hb dJ6_checkIndex_8 rfl ?_
    exact W.vret hx hb hr (fun t ht hW => ⟨rfl, hw, ht⟩) (fun _ h => by cases h) dJ6_checkIndex_9
  · have hw := hw.2
    refine va_gets (v := .ref q5) hx hb h6 (va_S.rf (A := fun _ => False)) hown (hts _ q525) (fun _ h9 => h9) dJ6_checkIndex_2 ?_
    refine k_ri (k_pS (As := [.int x0, .int x1, .ref q5]) (rest := []) hSx (met_J21_checkIndex l x0 x1 q5 _ hw) gJ6_1059 hd_J21_checkIndex ⟨Nat.le_of_ble_eq_true rfl, Nat.le_of_ble_eq_true rfl⟩ rfl rfl rfl hl.1 (Nat.le_of_ble_eq_true rfl) rfl dJ6_checkIndex_5 ⟨Nat.le_refl 0, Nat.le_refl 0⟩) (fun r8 hw => ?_)
    refine lv_pop hx hb dJ6_checkIndex_8 rfl ?_
    exact W.vret hx hb hr (fun t ht hW => ⟨rfl, hw, ht⟩) (fun _ h => by cases h) dJ6_checkIndex_9
def w_J4_length (post : Int32 → Prop) (x0_count : Int32) : Prop :=
  post x0_count
def rm_J4_length : Room := { frames := 0, cells := 0, slots := 0, locals := 0 }
set_option maxHeartbeats 4000000 in
set_option maxRecDepth 100000 in
theorem met_J4_length (l : Launch) (D : va_G) (dA : Nat → ClassId) (cx : CXt) (q_x0 : Nat) (q_x0_value : Nat) (n_x0_value : Nat) (a_x0_value : (Nat → Int32)) (x0_maybeLatin1 : Int32) (x0_count : Int32) (post : Int32 → Prop) (hw : w_J4_length post x0_count) : Met l yJ4_length (ws_ yJ4_length cJ4_length 1 (some .int)) rm_J4_length (va_Pc [.ref q_x0] (rdC D dA cx [(q_x0, .inr (11, [.ref q_x0_value, .int (nI 0), .int x0_maybeLatin1, .int x0_count])), (q_x0_value, .inl (dA 3, n_x0_value, .inl a_x0_value))])) (vp_Si (fun r => post r)) 0 0 (fun _ => False) := by
  refine Met.ofW (cc := cJ4_length) (maxL := 1) (ret := (some .int)) (by decide) rfl ?_
  intro p e s m args below meth c s₁ B hml hv
  obtain ⟨rfl, hP, hK, hC⟩ := hv
  have hx := B.exec
  have hb := B.bytes
  have hr := B.returns
  have hts := atoms_spec (ws := (ws_ yJ4_length cJ4_length 1 (some .int))) B.pre
  have hts : ∀ w ∈ lw_all, w.before _ s = true := fun w h => hts w (List.mem_cons_of_mem _ h)
  have hown : s.vm.findClass RJ4 = some m.cls := findClass_of_methodNamed B.named
  have hlocks := B.notSynchronized
  have hSx : CallFix p m c cJ4_length 1 s _ lw_all RJ4 := ⟨hx, hb, hml, hown, hts⟩
  have hNW := hC.1
  have hl := lv_entry ([.ref q_x0]) (n := 1) (Nat.le_of_ble_eq_true rfl)
  rw [lg_entry_eq]
  generalize (lg_sl ([.ref q_x0]) ++ List.replicate (1 - (lg_sl ([.ref q_x0])).length) Slot.unset).toArray = ls at hl ⊢
  have hl : lv_has ls 1 [(0, .ref q_x0)] := hl
  refine lv_aload_n hx hb dJ4_length_0 rfl (lv_at hl 0 rfl) ?_
  refine va_get (D := D) (ci := 11) (v := .int x0_count) (C := RJ5) (T := TJ5) (N := 4) hx hb hts in_J5 hown hK hP 0 rfl rfl 3 (by decide) (hts _ q233) (fun _ h9 => h9) rfl dJ4_length_1 ?_
  exact W.iret (v := x0_count) hx hb hr (fun t ht hW => ⟨x0_count, rfl, hw, ht⟩) (fun _ h => by cases h) dJ4_length_4
def w_J5_length (post : Int32 → Prop) (x0_count : Int32) : Prop :=
  w_J4_length (fun r2 => post r2) x0_count
theorem hd_J4_length : yJ4_length.cls ≠ "java/lang/invoke/MethodHandle" ∧ yJ4_length.cls ≠ "java/lang/invoke/VarHandle" ∧ (parseMethodDescriptor yJ4_length.desc).map (fun d => d.parameters.length) = some 0 := by decide +kernel
theorem gSJ5_343 : GoodIn lw_all (va_wsSU RJ5 343 yJ4_length (ws_ yJ4_length cJ4_length 1 (some .int))) := lw_app (lw_in5 q450 q2172 q242 q451 q73) (lw_meth q452)
def rm_J5_length : Room := { frames := 1, cells := 0, slots := 0, locals := 20 }
set_option maxHeartbeats 4000000 in
set_option maxRecDepth 100000 in
theorem met_J5_length (l : Launch) (D : va_G) (dA : Nat → ClassId) (cx : CXt) (q_x0 : Nat) (q_x0_value : Nat) (n_x0_value : Nat) (a_x0_value : (Nat → Int32)) (x0_maybeLatin1 : Int32) (x0_count : Int32) (post : Int32 → Prop) (hw : w_J5_length post x0_count) : Met l yJ5_length (ws_ yJ5_length cJ5_length 1 (some .int)) rm_J5_length (va_Pc [.ref q_x0] (rdC D dA cx [(q_x0, .inr (11, [.ref q_x0_value, .int (nI 0), .int x0_maybeLatin1, .int x0_count])), (q_x0_value, .inl (dA 3, n_x0_value, .inl a_x0_value))])) (vp_Si (fun r => post r)) 0 0 (fun _ => False) := by
  refine Met.ofW (cc := cJ5_length) (maxL := 1) (ret := (some .int)) (by decide) rfl ?_
  intro p e s m args below meth c s₁ B hml hv
  obtain ⟨rfl, hP, hK, hC⟩ := hv
  have hx := B.exec
  have hb := B.bytes
  have hr := B.returns
  have hts := atoms_spec (ws := (ws_ yJ5_length cJ5_length 1 (some .int))) B.pre
  have hts : ∀ w ∈ lw_all, w.before _ s = true := fun w h => hts w (List.mem_cons_of_mem _ h)
  have hown : s.vm.findClass RJ5 = some m.cls := findClass_of_methodNamed B.named
  have hlocks := B.notSynchronized
  have hSx : CallFix p m c cJ5_length 1 s _ lw_all RJ5 := ⟨hx, hb, hml, hown, hts⟩
  have hNW := hC.1
  have hl := lv_entry ([.ref q_x0]) (n := 1) (Nat.le_of_ble_eq_true rfl)
  rw [lg_entry_eq]
  generalize (lg_sl ([.ref q_x0]) ++ List.replicate (1 - (lg_sl ([.ref q_x0])).length) Slot.unset).toArray = ls at hl ⊢
  have hl : lv_has ls 1 [(0, .ref q_x0)] := hl
  refine lv_aload_n hx hb dJ5_length_0 rfl (lv_at hl 0 rfl) ?_
  refine k_ri (kc_rSU (As := []) (rest := []) hSx (met_J4_length l D dA cx q_x0 q_x0_value n_x0_value a_x0_value x0_maybeLatin1 x0_count _ hw) gSJ5_343 ⟨by decide, hd_J4_length.2.2⟩ ⟨Nat.le_of_ble_eq_true rfl, Nat.le_of_ble_eq_true rfl⟩ rfl rfl hP hK hC [0, 1] rfl 0 rfl rfl rfl rfl hl.1 (Nat.le_of_ble_eq_true rfl) rfl dJ5_length_1 ⟨Nat.le_refl 0, Nat.le_refl 0⟩) (fun r2 hw => ?_)
  exact W.iret (v := r2) hx hb hr (fun t ht hW => ⟨r2, rfl, hw, ht⟩) (fun _ h => by cases h) dJ5_length_4
def w_J4_charAt (post : Int32 → Prop) (n_x0_value : Nat) (a_x0_value : (Nat → Int32)) (x0_count : Int32) (x1 : Int32) : Prop :=
  ∀ x5 : Int32, x5 = (mnI x0_count ((nI n_x0_value) >>> ((nI 0) &&& 31))) → w_J6_checkIndex ((vp_in x1 n_x0_value ∧ (isC ((((a_x0_value x1.toNatClampNeg) &&& (nI 255)).toUInt32 % 65536).toInt32) ∧ post ((((a_x0_value x1.toNatClampNeg) &&& (nI 255)).toUInt32 % 65536).toInt32)))) x1 x5
theorem hd_J6_checkIndex : yJ6_checkIndex.cls ≠ "java/lang/invoke/MethodHandle" ∧ yJ6_checkIndex.cls ≠ "java/lang/invoke/VarHandle" ∧ (parseMethodDescriptor yJ6_checkIndex.desc).map (fun d => d.parameters.length) = some 2 := by decide +kernel
theorem gJ4_144 : GoodIn lw_all (va_wsS RJ4 144 yJ6_checkIndex (ws_ yJ6_checkIndex cJ6_checkIndex 2 none)) := lw_S q791 q792 q75 q793
def rm_J4_charAt : Room := { frames := 2, cells := 0, slots := 0, locals := 43 }
set_option maxHeartbeats 4000000 in
set_option maxRecDepth 100000 in
theorem met_J4_charAt (l : Launch) (D : va_G) (dA : Nat → ClassId) (cx : CXt) (q_x0 : Nat) (q_x0_value : Nat) (n_x0_value : Nat) (a_x0_value : (Nat → Int32)) (x0_maybeLatin1 : Int32) (x0_count : Int32) (x1 : Int32) (post : Int32 → Prop) (hw : w_J4_charAt post n_x0_value a_x0_value x0_count x1) : Met l yJ4_charAt (ws_ yJ4_charAt cJ4_charAt 5 (some .char)) rm_J4_charAt (va_Pc [.ref q_x0, .int x1] (rdC D dA cx [(q_x0, .inr (11, [.ref q_x0_value, .int (nI 0), .int x0_maybeLatin1, .int x0_count])), (q_x0_value, .inl (dA 3, n_x0_value, .inl a_x0_value))])) (vp_Si (fun r => post r)) 0 0 (fun _ => False) := by
  refine Met.ofW (cc := cJ4_charAt) (maxL := 5) (ret := (some .char)) (by decide) rfl ?_
  intro p e s m args below meth c s₁ B hml hv
  obtain ⟨rfl, hP, hK, hC⟩ := hv
  have hx := B.exec
  have hb := B.bytes
  have hr := B.returns
  have hts := atoms_spec (ws := (ws_ yJ4_charAt cJ4_charAt 5 (some .char))) B.pre
  have hts : ∀ w ∈ lw_all, w.before _ s = true := fun w h => hts w (List.mem_cons_of_mem _ h)
  have hown : s.vm.findClass RJ4 = some m.cls := findClass_of_methodNamed B.named
  have hlocks := B.notSynchronized
  have hSx : CallFix p m c cJ4_charAt 5 s _ lw_all RJ4 := ⟨hx, hb, hml, hown, hts⟩
  have hNW := hC.1
  have hl := lv_entry ([.ref q_x0, .int x1]) (n := 5) (Nat.le_of_ble_eq_true rfl)
  rw [lg_entry_eq]
  generalize (lg_sl ([.ref q_x0, .int x1]) ++ List.replicate (5 - (lg_sl ([.ref q_x0, .int x1])).length) Slot.unset).toArray = ls at hl ⊢
  have hl : lv_has ls 5 [(0, .ref q_x0), (1, .int x1)] := hl
  refine lv_aload_n hx hb dJ4_charAt_0 rfl (lv_at hl 0 rfl) ?_
  refine va_get (D := D) (ci := 11) (v := .int (nI 0)) (C := RJ5) (T := TJ5) (N := 4) hx hb hts in_J5 hown hK hP 0 rfl rfl 1 (by decide) (hts _ q230) (fun _ h9 => h9) rfl dJ4_charAt_1 ?_
  refine lv_istore_n (lv' := [(2, .int (nI 0)), (0, .ref q_x0), (1, .int x1)]) hx hb dJ4_charAt_4 rfl hl (by decide) rfl (fun ls hl => ?_)
  refine lv_aload_n hx hb dJ4_charAt_5 rfl (lv_at hl 1 rfl) ?_
  refine va_get (D := D) (ci := 11) (v := .ref q_x0_value) (C := RJ5) (T := TJ5) (N := 4) hx hb hts in_J5 hown hK hP 0 rfl rfl 0 (by decide) (hts _ q229) (fun _ h9 => h9) rfl dJ4_charAt_6 ?_
  refine lv_astore_n (lv' := [(3, .ref q_x0_value), (2, .int (nI 0)), (0, .ref q_x0), (1, .int x1)]) hx hb dJ4_charAt_9 rfl hl (by decide) rfl (fun ls hl => ?_)
  refine lv_aload_n hx hb dJ4_charAt_10 rfl (lv_at hl 2 rfl) ?_
  refine va_get (D := D) (ci := 11) (v := .int x0_count) (C := RJ5) (T := TJ5) (N := 4) hx hb hts in_J5 hown hK hP 0 rfl rfl 3 (by decide) (hts _ q233) (fun _ h9 => h9) rfl dJ4_charAt_11 ?_
  refine lv_aload_n hx hb dJ4_charAt_14 rfl (lv_at hl 0 rfl) ?_
  refine va_alen (v := (nI n_x0_value)) hx hb hK hP 1 3 rfl rfl rfl dJ4_charAt_15 ?_
  refine lv_iload_n hx hb dJ4_charAt_16 rfl (lv_at hl 1 rfl) ?_
  refine lv_ishr hx hb dJ4_charAt_17 ?_
  refine k_mmin hSx hl.1 q790 q369 q82 q370 (Nat.le_of_ble_eq_true rfl) (Nat.le_of_ble_eq_true rfl) (Nat.le_refl 0) (Nat.le_refl 0) dJ4_charAt_18 ?_
  refine lv_topi (fun z9 ez9 => ?_)
  obtain rfl : z9 = (mnI x0_count ((nI n_x0_value) >>> ((nI 0) &&& 31))) := ez9
  refine lv_topi (fun x5 ex5 => ?_)
  have hw := hw x5 ex5
  refine lv_istore (lv' := [(4, .int x5), (3, .ref q_x0_value), (2, .int (nI 0)), (0, .ref q_x0), (1, .int x1)]) hx hb dJ4_charAt_21 hl (by decide) rfl (fun ls hl => ?_)
  refine lv_iload_n hx hb dJ4_charAt_23 rfl (lv_at hl 4 rfl) ?_
  refine lv_iload hx hb dJ4_charAt_24 (lv_at hl 0 rfl) ?_
  refine k_rv (kc_rS (As := [.int x1, .int x5]) (rest := []) hSx (met_J6_checkIndex l D dA cx x1 x5 _ hw) gJ4_144 hd_J6_checkIndex ⟨Nat.le_of_ble_eq_true rfl, Nat.le_of_ble_eq_true rfl⟩ rfl rfl hP hK hC [] rfl rfl hl.1 (Nat.le_of_ble_eq_true rfl) rfl dJ4_charAt_26 ⟨Nat.le_refl 0, Nat.le_refl 0⟩) (fun hw => ?_)
  refine lv_iload_n hx hb dJ4_charAt_29 rfl (lv_at hl 2 rfl) ?_
  refine lv_if_ne (tgt := 42) hx hb dJ4_charAt_30 (by decide) (fun c6 => absurd (by decide) c6) (fun _ => ?_)
  refine lv_aload_n hx hb dJ4_charAt_33 rfl (lv_at hl 1 rfl) ?_
  refine lv_iload_n hx hb dJ4_charAt_34 rfl (lv_at hl 4 rfl) ?_
  obtain ⟨h7, hw⟩ := hw
  refine k_bald (k := x1.toNatClampNeg) hx hb hK hP 1 3 rfl rfl rfl h7 dJ4_charAt_35 ?_
  refine lv_sipush (v := (nI 255)) hx hb dJ4_charAt_36 (by decide) ?_
  refine lv_iand hx hb dJ4_charAt_39 ?_
  refine lv_i2c (v := ((((a_x0_value x1.toNatClampNeg) &&& (nI 255)).toUInt32 % 65536).toInt32)) hx hb dJ4_charAt_40 rfl ?_
  obtain ⟨h8, hw⟩ := hw
  exact W.zret (v := ((((a_x0_value x1.toNatClampNeg) &&& (nI 255)).toUInt32 % 65536).toInt32)) hx hb hr h8 (fun t ht hW => ⟨((((a_x0_value x1.toNatClampNeg) &&& (nI 255)).toUInt32 % 65536).toInt32), rfl, hw, ht⟩) (fun _ h => by cases h) dJ4_charAt_41
def w_J5_charAt (post : Int32 → Prop) (n_x0_value : Nat) (a_x0_value : (Nat → Int32)) (x0_count : Int32) (x1 : Int32) : Prop :=
  w_J4_charAt (fun r3 => (isC r3 ∧ post r3)) n_x0_value a_x0_value x0_count x1
theorem hd_J4_charAt : yJ4_charAt.cls ≠ "java/lang/invoke/MethodHandle" ∧ yJ4_charAt.cls ≠ "java/lang/invoke/VarHandle" ∧ (parseMethodDescriptor yJ4_charAt.desc).map (fun d => d.parameters.length) = some 1 := by decide +kernel
theorem gSJ5_329 : GoodIn lw_all (va_wsSU RJ5 329 yJ4_charAt (ws_ yJ4_charAt cJ4_charAt 5 (some .char))) := lw_app (lw_in5 q787 q2183 q242 q788 q73) (lw_meth q789)
def rm_J5_charAt : Room := { frames := 3, cells := 0, slots := 0, locals := 67 }
set_option maxHeartbeats 4000000 in
set_option maxRecDepth 100000 in
theorem met_J5_charAt (l : Launch) (D : va_G) (dA : Nat → ClassId) (cx : CXt) (q_x0 : Nat) (q_x0_value : Nat) (n_x0_value : Nat) (a_x0_value : (Nat → Int32)) (x0_maybeLatin1 : Int32) (x0_count : Int32) (x1 : Int32) (post : Int32 → Prop) (hw : w_J5_charAt post n_x0_value a_x0_value x0_count x1) : Met l yJ5_charAt (ws_ yJ5_charAt cJ5_charAt 2 (some .char)) rm_J5_charAt (va_Pc [.ref q_x0, .int x1] (rdC D dA cx [(q_x0, .inr (11, [.ref q_x0_value, .int (nI 0), .int x0_maybeLatin1, .int x0_count])), (q_x0_value, .inl (dA 3, n_x0_value, .inl a_x0_value))])) (vp_Si (fun r => post r)) 0 0 (fun _ => False) := by
  refine Met.ofW (cc := cJ5_charAt) (maxL := 2) (ret := (some .char)) (by decide) rfl ?_
  intro p e s m args below meth c s₁ B hml hv
  obtain ⟨rfl, hP, hK, hC⟩ := hv
  have hx := B.exec
  have hb := B.bytes
  have hr := B.returns
  have hts := atoms_spec (ws := (ws_ yJ5_charAt cJ5_charAt 2 (some .char))) B.pre
  have hts : ∀ w ∈ lw_all, w.before _ s = true := fun w h => hts w (List.mem_cons_of_mem _ h)
  have hown : s.vm.findClass RJ5 = some m.cls := findClass_of_methodNamed B.named
  have hlocks := B.notSynchronized
  have hSx : CallFix p m c cJ5_charAt 2 s _ lw_all RJ5 := ⟨hx, hb, hml, hown, hts⟩
  have hNW := hC.1
  have hl := lv_entry ([.ref q_x0, .int x1]) (n := 2) (Nat.le_of_ble_eq_true rfl)
  rw [lg_entry_eq]
  generalize (lg_sl ([.ref q_x0, .int x1]) ++ List.replicate (2 - (lg_sl ([.ref q_x0, .int x1])).length) Slot.unset).toArray = ls at hl ⊢
  have hl : lv_has ls 2 [(0, .ref q_x0), (1, .int x1)] := hl
  refine lv_aload_n hx hb dJ5_charAt_0 rfl (lv_at hl 0 rfl) ?_
  refine lv_iload_n hx hb dJ5_charAt_1 rfl (lv_at hl 1 rfl) ?_
  refine k_ri (kc_rSU (As := [.int x1]) (rest := []) hSx (met_J4_charAt l D dA cx q_x0 q_x0_value n_x0_value a_x0_value x0_maybeLatin1 x0_count x1 _ hw) gSJ5_329 ⟨by decide, hd_J4_charAt.2.2⟩ ⟨Nat.le_of_ble_eq_true rfl, Nat.le_of_ble_eq_true rfl⟩ rfl rfl hP hK hC [0, 1] rfl 0 rfl rfl rfl rfl hl.1 (Nat.le_of_ble_eq_true rfl) rfl dJ5_charAt_2 ⟨Nat.le_refl 0, Nat.le_refl 0⟩) (fun r3 hw => ?_)
  obtain ⟨h4, hw⟩ := hw
  exact W.zret (v := r3) hx hb hr h4 (fun t ht hW => ⟨r3, rfl, hw, ht⟩) (fun _ h => by cases h) dJ5_charAt_5
def w_J16_newLength_21 (post : Int32 → Prop)    : Prop :=
  False
def w_J16_newLength (post : Int32 → Prop) (x0 : Int32) (x1 : Int32) (x2 : Int32) : Prop :=
  (((x0 + (mxI x1 x2)) ≤ (nI 0) → (w_J16_newLength_21 post) ) ∧ (¬ (x0 + (mxI x1 x2)) ≤ (nI 0) → (((nI 2147483639) < (x0 + (mxI x1 x2)) → (w_J16_newLength_21 post) ) ∧ (¬ (nI 2147483639) < (x0 + (mxI x1 x2)) → post (x0 + (mxI x1 x2))))))
def rm_J16_newLength : Room := { frames := 1, cells := 0, slots := 0, locals := 21 }
set_option maxHeartbeats 4000000 in
set_option maxRecDepth 100000 in
theorem met_J16_newLength (l : Launch) (x0 : Int32) (x1 : Int32) (x2 : Int32) (post : Int32 → Prop) (hw : w_J16_newLength post x0 x1 x2) : Met l yJ16_newLength (ws_ yJ16_newLength cJ16_newLength 4 (some .int)) rm_J16_newLength (va_Pc [.int x0, .int x1, .int x2] (fun _ => True)) (vp_Si (fun r => post r)) 0 0 (fun _ => False) := by
  refine Met.ofW (cc := cJ16_newLength) (maxL := 4) (ret := (some .int)) (by decide) rfl ?_
  intro p e s m args below meth c s₁ B hml hv
  obtain ⟨rfl, -⟩ := hv
  have hx := B.exec
  have hb := B.bytes
  have hr := B.returns
  have hts := atoms_spec (ws := (ws_ yJ16_newLength cJ16_newLength 4 (some .int))) B.pre
  have hts : ∀ w ∈ lw_all, w.before _ s = true := fun w h => hts w (List.mem_cons_of_mem _ h)
  have hown : s.vm.findClass RJ16 = some m.cls := findClass_of_methodNamed B.named
  have hlocks := B.notSynchronized
  have hSx : CallFix p m c cJ16_newLength 4 s _ lw_all RJ16 := ⟨hx, hb, hml, hown, hts⟩
  have hl := lv_entry ([.int x0, .int x1, .int x2]) (n := 4) (Nat.le_of_ble_eq_true rfl)
  rw [lg_entry_eq]
  generalize (lg_sl ([.int x0, .int x1, .int x2]) ++ List.replicate (4 - (lg_sl ([.int x0, .int x1, .int x2])).length) Slot.unset).toArray = ls at hl ⊢
  have hl : lv_has ls 4 [(0, .int x0), (1, .int x1), (2, .int x2)] := hl
  have hL21 : ∀   (ls : Array Slot), lv_has ls 4 [(0, .int x0), (1, .int x1)] → (w_J16_newLength_21 post)  → W p l e (headSpec (ws_ yJ16_newLength cJ16_newLength 4 (some .int)) (rm_J16_newLength)).room s m ([.int x0, .int x1, .int x2] : List Value).toArray below meth c s.heap [] 0 0 (MQ below (vp_Si (fun r => post r)) ([.int x0, .int x1, .int x2] : List Value).toArray s 0 0 (fun _ => False)) (F0 m 21 ls []) := by
      intro   ls hl hw
      refine lv_iload_n hx hb dJ16_newLength_21 rfl (lv_at hl 0 rfl) ?_
      refine lv_iload_n hx hb dJ16_newLength_22 rfl (lv_at hl 1 rfl) ?_
      exact (show False from hw).elim
  refine lv_iload_n hx hb dJ16_newLength_0 rfl (lv_at hl 0 rfl) ?_
  refine lv_iload_n hx hb dJ16_newLength_1 rfl (lv_at hl 1 rfl) ?_
  refine lv_iload_n hx hb dJ16_newLength_2 rfl (lv_at hl 2 rfl) ?_
  refine k_mmax hSx hl.1 q490 q491 q82 q492 (Nat.le_of_ble_eq_true rfl) (Nat.le_of_ble_eq_true rfl) (Nat.le_refl 0) (Nat.le_refl 0) dJ16_newLength_3 ?_
  refine lv_topi (fun z9 ez9 => ?_)
  obtain rfl : z9 = (mxI x1 x2) := ez9
  refine lv_iadd hx hb dJ16_newLength_6 ?_
  refine lv_istore_n (lv' := [(3, .int (x0 + (mxI x1 x2))), (0, .int x0), (1, .int x1), (2, .int x2)]) hx hb dJ16_newLength_7 rfl hl (by decide) rfl (fun ls hl => ?_)
  refine lv_iconst (v := (nI 0)) hx hb dJ16_newLength_8 (by decide) ?_
  refine lv_iload_n hx hb dJ16_newLength_9 rfl (lv_at hl 0 rfl) ?_
  refine lv_icmp_ge (tgt := 21) hx hb dJ16_newLength_10 (by decide) (fun c5 => ?_) (fun c5 => ?_)
  · have hw := hw.1 c5
    exact hL21   _ (lv_sub hl [1, 2] rfl) hw
  · have hw := hw.2 c5
    refine lv_iload_n hx hb dJ16_newLength_13 rfl (lv_at hl 0 rfl) ?_
    refine lv_ldc (v := (nI 2147483639)) hx hb hown (hts _ q493) dJ16_newLength_14 ?_
    refine lv_icmp_gt (tgt := 21) hx hb dJ16_newLength_16 (by decide) (fun c6 => ?_) (fun c6 => ?_)
    · have hw := hw.1 c6
      exact hL21   _ (lv_sub hl [1, 2] rfl) hw
    · have hw := hw.2 c6
      refine lv_iload_n hx hb dJ16_newLength_19 rfl (lv_at hl 0 rfl) ?_
      exact W.iret (v := (x0 + (mxI x1 x2))) hx hb hr (fun t ht hW => ⟨(x0 + (mxI x1 x2)), rfl, hw, ht⟩) (fun _ h => by cases h) dJ16_newLength_20
def w_J4_newCapacity (post : Int32 → Prop) (n_x0_value : Nat) (x1 : Int32) : Prop :=
  w_J16_newLength (fun r4 => ((r4 = (nI 2147483647) → False) ∧ (¬ r4 = (nI 2147483647) → post (r4 >>> ((nI 0) &&& 31))))) (nI n_x0_value) ((x1 <<< ((nI 0) &&& 31)) - (nI n_x0_value)) ((nI n_x0_value) + ((nI 2) <<< ((nI 0) &&& 31)))
theorem hd_J16_newLength : yJ16_newLength.cls ≠ "java/lang/invoke/MethodHandle" ∧ yJ16_newLength.cls ≠ "java/lang/invoke/VarHandle" ∧ (parseMethodDescriptor yJ16_newLength.desc).map (fun d => d.parameters.length) = some 3 := by decide +kernel
theorem gJ4_114 : GoodIn lw_all (va_wsS RJ4 114 yJ16_newLength (ws_ yJ16_newLength cJ16_newLength 4 (some .int))) := lw_S q487 q488 q87 q489
def rm_J4_newCapacity : Room := { frames := 2, cells := 0, slots := 0, locals := 44 }
set_option maxHeartbeats 4000000 in
set_option maxRecDepth 100000 in
theorem met_J4_newCapacity (l : Launch) (D : va_G) (dA : Nat → ClassId) (cx : CXt) (q_x0 : Nat) (q_x0_value : Nat) (n_x0_value : Nat) (a_x0_value : (Nat → Int32)) (x0_maybeLatin1 : Int32) (x0_count : Int32) (x1 : Int32) (post : Int32 → Prop) (hw : w_J4_newCapacity post n_x0_value x1) : Met l yJ4_newCapacity (ws_ yJ4_newCapacity cJ4_newCapacity 6 (some .int)) rm_J4_newCapacity (va_Pc [.ref q_x0, .int x1] (rdC D dA cx [(q_x0, .inr (11, [.ref q_x0_value, .int (nI 0), .int x0_maybeLatin1, .int x0_count])), (q_x0_value, .inl (dA 3, n_x0_value, .inl a_x0_value))])) (vp_Si (fun r => post r)) 0 0 (fun _ => False) := by
  refine Met.ofW (cc := cJ4_newCapacity) (maxL := 6) (ret := (some .int)) (by decide) rfl ?_
  intro p e s m args below meth c s₁ B hml hv
  obtain ⟨rfl, hP, hK, hC⟩ := hv
  have hx := B.exec
  have hb := B.bytes
  have hr := B.returns
  have hts := atoms_spec (ws := (ws_ yJ4_newCapacity cJ4_newCapacity 6 (some .int))) B.pre
  have hts : ∀ w ∈ lw_all, w.before _ s = true := fun w h => hts w (List.mem_cons_of_mem _ h)
  have hown : s.vm.findClass RJ4 = some m.cls := findClass_of_methodNamed B.named
  have hlocks := B.notSynchronized
  have hSx : CallFix p m c cJ4_newCapacity 6 s _ lw_all RJ4 := ⟨hx, hb, hml, hown, hts⟩
  have hNW := hC.1
  have hl := lv_entry ([.ref q_x0, .int x1]) (n := 6) (Nat.le_of_ble_eq_true rfl)
  rw [lg_entry_eq]
  generalize (lg_sl ([.ref q_x0, .int x1]) ++ List.replicate (6 - (lg_sl ([.ref q_x0, .int x1])).length) Slot.unset).toArray = ls at hl ⊢
  have hl : lv_has ls 6 [(0, .ref q_x0), (1, .int x1)] := hl
  refine lv_aload_n hx hb dJ4_newCapacity_0 rfl (lv_at hl 0 rfl) ?_
  refine va_get (D := D) (ci := 11) (v := .ref q_x0_value) (C := RJ5) (T := TJ5) (N := 4) hx hb hts in_J5 hown hK hP 0 rfl rfl 0 (by decide) (hts _ q229) (fun _ h9 => h9) rfl dJ4_newCapacity_1 ?_
  refine va_alen (v := (nI n_x0_value)) hx hb hK hP 1 3 rfl rfl rfl dJ4_newCapacity_4 ?_
  refine lv_istore_n (lv' := [(2, .int (nI n_x0_value)), (0, .ref q_x0), (1, .int x1)]) hx hb dJ4_newCapacity_5 rfl hl (by decide) rfl (fun ls hl => ?_)
  refine lv_iload_n hx hb dJ4_newCapacity_6 rfl (lv_at hl 2 rfl) ?_
  refine lv_aload_n hx hb dJ4_newCapacity_7 rfl (lv_at hl 1 rfl) ?_
  refine va_get (D := D) (ci := 11) (v := .int (nI 0)) (C := RJ5) (T := TJ5) (N := 4) hx hb hts in_J5 hown hK hP 0 rfl rfl 1 (by decide) (hts _ q230) (fun _ h9 => h9) rfl dJ4_newCapacity_8 ?_
  refine lv_ishl hx hb dJ4_newCapacity_11 ?_
  refine lv_istore_n (lv' := [(3, .int (x1 <<< ((nI 0) &&& 31))), (2, .int (nI n_x0_value)), (0, .ref q_x0), (1, .int x1)]) hx hb dJ4_newCapacity_12 rfl hl (by decide) rfl (fun ls hl => ?_)
  refine lv_iload_n hx hb dJ4_newCapacity_13 rfl (lv_at hl 0 rfl) ?_
  refine lv_iload_n hx hb dJ4_newCapacity_14 rfl (lv_at hl 1 rfl) ?_
  refine lv_isub hx hb dJ4_newCapacity_15 ?_
  refine lv_istore (lv' := [(4, .int ((x1 <<< ((nI 0) &&& 31)) - (nI n_x0_value))), (3, .int (x1 <<< ((nI 0) &&& 31))), (2, .int (nI n_x0_value)), (0, .ref q_x0), (1, .int x1)]) hx hb dJ4_newCapacity_16 hl (by decide) rfl (fun ls hl => ?_)
  refine lv_iload_n hx hb dJ4_newCapacity_18 rfl (lv_at hl 2 rfl) ?_
  refine lv_iload hx hb dJ4_newCapacity_19 (lv_at hl 0 rfl) ?_
  refine lv_iload_n hx hb dJ4_newCapacity_21 rfl (lv_at hl 2 rfl) ?_
  refine lv_iconst (v := (nI 2)) hx hb dJ4_newCapacity_22 (by decide) ?_
  refine lv_aload_n hx hb dJ4_newCapacity_23 rfl (lv_at hl 3 rfl) ?_
  refine va_get (D := D) (ci := 11) (v := .int (nI 0)) (C := RJ5) (T := TJ5) (N := 4) hx hb hts in_J5 hown hK hP 0 rfl rfl 1 (by decide) (hts _ q230) (fun _ h9 => h9) rfl dJ4_newCapacity_24 ?_
  refine lv_ishl hx hb dJ4_newCapacity_27 ?_
  refine lv_iadd hx hb dJ4_newCapacity_28 ?_
  refine k_ri (k_pS (As := [.int (nI n_x0_value), .int ((x1 <<< ((nI 0) &&& 31)) - (nI n_x0_value)), .int ((nI n_x0_value) + ((nI 2) <<< ((nI 0) &&& 31)))]) (rest := []) hSx (met_J16_newLength l (nI n_x0_value) ((x1 <<< ((nI 0) &&& 31)) - (nI n_x0_value)) ((nI n_x0_value) + ((nI 2) <<< ((nI 0) &&& 31))) _ hw) gJ4_114 hd_J16_newLength ⟨Nat.le_of_ble_eq_true rfl, Nat.le_of_ble_eq_true rfl⟩ rfl rfl rfl hl.1 (Nat.le_of_ble_eq_true rfl) rfl dJ4_newCapacity_29 ⟨Nat.le_refl 0, Nat.le_refl 0⟩) (fun r4 hw => ?_)
  refine lv_istore (lv' := [(5, .int r4), (4, .int ((x1 <<< ((nI 0) &&& 31)) - (nI n_x0_value))), (3, .int (x1 <<< ((nI 0) &&& 31))), (2, .int (nI n_x0_value)), (0, .ref q_x0), (1, .int x1)]) hx hb dJ4_newCapacity_32 hl (by decide) rfl (fun ls hl => ?_)
  refine lv_iload hx hb dJ4_newCapacity_34 (lv_at hl 0 rfl) ?_
  refine lv_ldc (v := (nI 2147483647)) hx hb hown (hts _ q497) dJ4_newCapacity_36 ?_
  refine lv_icmp_ne (tgt := 51) hx hb dJ4_newCapacity_38 (by decide) (fun c5 => ?_) (fun c5 => ?_)
  · have hw := hw.2 c5
    refine lv_iload hx hb dJ4_newCapacity_51 (lv_at hl 0 rfl) ?_
    refine lv_aload_n hx hb dJ4_newCapacity_53 rfl (lv_at hl 4 rfl) ?_
    refine va_get (D := D) (ci := 11) (v := .int (nI 0)) (C := RJ5) (T := TJ5) (N := 4) hx hb hts in_J5 hown hK hP 0 rfl rfl 1 (by decide) (hts _ q230) (fun _ h9 => h9) rfl dJ4_newCapacity_54 ?_
    refine lv_ishr hx hb dJ4_newCapacity_57 ?_
    exact W.iret (v := (r4 >>> ((nI 0) &&& 31))) hx hb hr (fun t ht hW => ⟨(r4 >>> ((nI 0) &&& 31)), rfl, hw, ht⟩) (fun _ h => by cases h) dJ4_newCapacity_58
  · have hw := hw.1 c5
    exact (show False from hw).elim
def w_J12_copyOf_3 (post : Nat → (Nat → Int32) → Prop) (bc bs : Nat) (n_x0 : Nat) (a_x0 : (Nat → Int32)) (x1 : Int32) : Prop :=
  ((x1 = (nI n_x0) → False) ∧ (¬ x1 = (nI n_x0) → (∃ N14 : Nat, x1 = nI N14 ∧ N14 * 8 ≤ 536870912 ∧ (1 ≤ bc ∧ N14 ≤ bs ∧ ((¬ (mnI (nI n_x0) x1) < 0) ∧ ((nI 0).toNatClampNeg + (mnI (nI n_x0) x1).toNatClampNeg ≤ n_x0 ∧ ((nI 0).toNatClampNeg + (mnI (nI n_x0) x1).toNatClampNeg ≤ N14 ∧ ((∀ i : Nat, i < (mnI (nI n_x0) x1).toNatClampNeg → fits .byte (.int (a_x0 ((nI 0).toNatClampNeg + i))) = true) ∧ post N14 (va_cpy a_x0 (fun _ => (0 : Int32)) (nI 0).toNatClampNeg (nI 0).toNatClampNeg (mnI (nI n_x0) x1).toNatClampNeg)))))))))
def rm_J12_copyOf_3 (bc0 bs0 : Nat) : Room := { frames := 1, cells := bc0, slots := bs0, locals := 68 }
set_option maxHeartbeats 4000000 in
set_option maxRecDepth 100000 in
theorem met_J12_copyOf_3 (l : Launch) (D : va_G) (dA : Nat → ClassId) (cx : CXt) (sz : Nat) (bc0 bs0 : Nat) (q_x0 : Nat) (n_x0 : Nat) (a_x0 : (Nat → Int32)) (x1 : Int32) (post : Nat → (Nat → Int32) → Prop) (hw : w_J12_copyOf_3 post bc0 bs0 n_x0 a_x0 x1) : Met l yJ12_copyOf_3 (ws_ yJ12_copyOf_3 cJ12_copyOf_3 3 (some (.array .byte))) (rm_J12_copyOf_3 bc0 bs0) (va_Pc [.ref q_x0, .int x1] (wrC D dA cx sz [(q_x0, .inl (dA 3, n_x0, .inl a_x0))])) (va_Qr (fun (u : Nat × Nat × (Nat → Int32)) => post u.2.1 u.2.2) (fun (u : Nat × Nat × (Nat → Int32)) a9 t => a9 = u.1 ∧ wrQ D dA (va_A [(q_x0, .inl (dA 3, n_x0, .inl a_x0))] sz) [(q_x0, .inl (dA 3, n_x0, .inl a_x0)), (u.1, .inl (dA 3, u.2.1, .inl u.2.2))] t) (va_A [(q_x0, .inl (dA 3, n_x0, .inl a_x0))] sz)) bc0 bs0 (va_A [(q_x0, .inl (dA 3, n_x0, .inl a_x0))] sz) := by
  refine Met.ofW (cc := cJ12_copyOf_3) (maxL := 3) (ret := (some (.array .byte))) (by decide) rfl ?_
  intro p e s m args below meth c s₁ B hml hv
  obtain ⟨rfl, hsz, hP, hK, hD0, hC⟩ := hv
  have hx := B.exec
  have hb := B.bytes
  have hr := B.returns
  have hts := atoms_spec (ws := (ws_ yJ12_copyOf_3 cJ12_copyOf_3 3 (some (.array .byte)))) B.pre
  have hts : ∀ w ∈ lw_all, w.before _ s = true := fun w h => hts w (List.mem_cons_of_mem _ h)
  have hown : s.vm.findClass RJ12 = some m.cls := findClass_of_methodNamed B.named
  have hlocks := B.notSynchronized
  have hSx : CallFix p m c cJ12_copyOf_3 3 s _ lw_all RJ12 := ⟨hx, hb, hml, hown, hts⟩
  subst hsz
  have hD := hD0.self (sz := s.heap.size)
  generalize hAe : va_A [(q_x0, .inl (dA 3, n_x0, .inl a_x0))] s.heap.size = A at hD hC ⊢
  have hA : ∀ q : Nat, s.heap.size ≤ q → A q := fun q h => by rw [← hAe]; exact Or.inr h
  have hS : va_S A s.heap s.heap [] := va_S.rf
  have hbud : 0 + bc0 ≤ bc0 ∧ 0 + bs0 ≤ bs0 := by omega
  have hNW := hC.1
  have hl := lv_entry ([.ref q_x0, .int x1]) (n := 3) (Nat.le_of_ble_eq_true rfl)
  rw [lg_entry_eq]
  generalize (lg_sl ([.ref q_x0, .int x1]) ++ List.replicate (3 - (lg_sl ([.ref q_x0, .int x1])).length) Slot.unset).toArray = ls at hl ⊢
  have hl : lv_has ls 3 [(0, .ref q_x0), (1, .int x1)] := hl
  refine lv_iload_n hx hb dJ12_copyOf_3_0 rfl (lv_at hl 1 rfl) ?_
  refine lv_aload_n hx hb dJ12_copyOf_3_1 rfl (lv_at hl 0 rfl) ?_
  refine va_alen (v := (nI n_x0)) hx hb hK hP 0 3 rfl rfl rfl dJ12_copyOf_3_2 ?_
  refine lv_icmp_ne (tgt := 14) hx hb dJ12_copyOf_3_3 (by decide) (fun c12 => ?_) (fun c12 => ?_)
  · have hw := hw.2 c12
    refine lv_iload_n hx hb dJ12_copyOf_3_14 rfl (lv_at hl 1 rfl) ?_
    obtain ⟨N14, h15, h16, hw⟩ := hw
    obtain ⟨h17, h18, hw⟩ := hw
    refine k_newa (ty := .byte) (atype := .byte) (a0 := (N14, .inl (fun _ => (0 : Int32)))) hx hb (hts _ q243) rfl (fun _ h => by cases h) 3 rfl hK hP hD hS hA (fun _ => rfl) (by rw [h15]; exact nI_pos (by omega)) (by rw [h15]; exact clK N14 (by omega)) (by first | omega | (dsimp only [componentBytes]; omega)) (show 0 + 1 ≤ bc0 by omega) (show 0 + N14 ≤ bs0 by omega) dJ12_copyOf_3_15 (fun q13 H hP hD hS => ?_)
    have hP : va_P D vwCl [(q_x0, .inl (dA 3, n_x0, .inl a_x0)), (q13, .inl (dA 3, N14, .inl (fun _ => (0 : Int32))))] H := hP
    have hD : va_D A [(q_x0, .inl (dA 3, n_x0, .inl a_x0)), (q13, .inl (dA 3, N14, .inl (fun _ => (0 : Int32))))] := hD
    have hbud : (0 + 1) + (bc0 - 1) ≤ bc0 ∧ (0 + N14) + (bs0 - N14) ≤ bs0 := by omega
    refine lv_astore_n (lv' := [(2, .ref q13), (0, .ref q_x0), (1, .int x1)]) hx hb dJ12_copyOf_3_17 rfl hl (by decide) rfl (fun ls hl => ?_)
    refine lv_aload_n hx hb dJ12_copyOf_3_18 rfl (lv_at hl 1 rfl) ?_
    refine lv_iconst (v := (nI 0)) hx hb dJ12_copyOf_3_19 (by decide) ?_
    refine lv_aload_n hx hb dJ12_copyOf_3_20 rfl (lv_at hl 0 rfl) ?_
    refine lv_iconst (v := (nI 0)) hx hb dJ12_copyOf_3_21 (by decide) ?_
    refine lv_aload_n hx hb dJ12_copyOf_3_22 rfl (lv_at hl 1 rfl) ?_
    refine va_alen (v := (nI n_x0)) hx hb hK hP 0 3 rfl rfl rfl dJ12_copyOf_3_23 ?_
    refine lv_iload_n hx hb dJ12_copyOf_3_24 rfl (lv_at hl 2 rfl) ?_
    refine k_mmin hSx hl.1 q368 q369 q82 q370 (Nat.le_of_ble_eq_true rfl) (Nat.le_of_ble_eq_true rfl) (show (0 + 1) ≤ bc0 by omega) (show (0 + N14) ≤ bs0 by omega) dJ12_copyOf_3_25 ?_
    refine lv_topi (fun z9 ez9 => ?_)
    obtain rfl : z9 = (mnI (nI n_x0) x1) := ez9
    obtain ⟨h19, hw⟩ := hw
    obtain ⟨h20, hw⟩ := hw
    obtain ⟨h21, hw⟩ := hw
    obtain ⟨h22, hw⟩ := hw
    refine k_copyi (ty := .byte) hSx hl.1 q371 q373 q372 q83 hK hP hD hS 0 1 3 3 rfl rfl rfl rfl rfl (nI_pos (by decide)) (nI_pos (by decide)) h19 h20 h21 h22 (Nat.le_of_ble_eq_true rfl) (Nat.le_of_ble_eq_true rfl) dJ12_copyOf_3_28 (fun H locs hP hD hS => ?_)
    have hP : va_P D vwCl [(q_x0, .inl (dA 3, n_x0, .inl a_x0)), (q13, .inl (dA 3, N14, .inl (va_cpy a_x0 (fun _ => (0 : Int32)) (nI 0).toNatClampNeg (nI 0).toNatClampNeg (mnI (nI n_x0) x1).toNatClampNeg)))] H := hP
    have hD : va_D A [(q_x0, .inl (dA 3, n_x0, .inl a_x0)), (q13, .inl (dA 3, N14, .inl (va_cpy a_x0 (fun _ => (0 : Int32)) (nI 0).toNatClampNeg (nI 0).toNatClampNeg (mnI (nI n_x0) x1).toNatClampNeg)))] := hD
    refine lv_aload_n hx hb dJ12_copyOf_3_31 rfl (lv_at hl 0 rfl) ?_
    refine W.widen (k := bc0) (n := bs0) (by omega) (by omega) ?_
    exact W.aret (v := .ref q13) hx hb hr (Or.inr ⟨_, rfl⟩) (Or.inr ⟨_, rfl⟩) (fun t ht hW => ⟨⟨(q13, N14, (va_cpy a_x0 (fun _ => (0 : Int32)) (nI 0).toNatClampNeg (nI 0).toNatClampNeg (mnI (nI n_x0) x1).toNatClampNeg)), _, rfl, hw, rfl, by rw [ht]; exact hP.sub [0, 1] rfl, va_K.moved hW.alike hK, hD.sub [0, 1] (by decide) rfl⟩, hS.F ht⟩) hS.2.2 dJ12_copyOf_3_32
  · have hw := hw.1 c12
    refine lv_aload_n hx hb dJ12_copyOf_3_6 rfl (lv_at hl 0 rfl) ?_
    exact (show False from hw).elim
def w_J4_ensureCapacityInternal (post : Nat → (Nat → Int32) → Prop) (bc bs : Nat) (n_x0_value : Nat) (a_x0_value : (Nat → Int32)) (x1 : Int32) : Prop :=
  (((x1 - ((nI n_x0_value) >>> ((nI 0) &&& 31))) ≤ 0 → post n_x0_value a_x0_value) ∧ (¬ (x1 - ((nI n_x0_value) >>> ((nI 0) &&& 31))) ≤ 0 → w_J4_newCapacity (fun r11 => (∃ b15 b16 : Nat, b15 ≤ bc ∧ b16 ≤ bs ∧ w_J12_copyOf_3 (fun o13 o14 => post o13 o14) b15 b16 n_x0_value a_x0_value (r11 <<< ((nI 0) &&& 31)))) n_x0_value x1))
theorem hd_J4_newCapacity : yJ4_newCapacity.cls ≠ "java/lang/invoke/MethodHandle" ∧ yJ4_newCapacity.cls ≠ "java/lang/invoke/VarHandle" ∧ (parseMethodDescriptor yJ4_newCapacity.desc).map (fun d => d.parameters.length) = some 1 := by decide +kernel
theorem gUJ4_104_J5 : GoodIn lw_all (va_wsU RJ4 104 RJ5 RJ4 yJ4_newCapacity yJ4_newCapacity (ws_ yJ4_newCapacity cJ4_newCapacity 6 (some .int))) := lw_app (lw_in5 q483 q2177 qu1 q485 q73) (lw_meth q486)
theorem hd_J12_copyOf_3 : yJ12_copyOf_3.cls ≠ "java/lang/invoke/MethodHandle" ∧ yJ12_copyOf_3.cls ≠ "java/lang/invoke/VarHandle" ∧ (parseMethodDescriptor yJ12_copyOf_3.desc).map (fun d => d.parameters.length) = some 2 := by decide +kernel
theorem gJ4_108 : GoodIn lw_all (va_wsS RJ4 108 yJ12_copyOf_3 (ws_ yJ12_copyOf_3 cJ12_copyOf_3 3 (some (.array .byte)))) := lw_S q498 q499 q81 q500
def rm_J4_ensureCapacityInternal (bc0 bs0 : Nat) : Room := { frames := 3, cells := bc0, slots := bs0, locals := 90 }
set_option maxHeartbeats 4000000 in
set_option maxRecDepth 100000 in
theorem met_J4_ensureCapacityInternal (l : Launch) (D : va_G) (dA : Nat → ClassId) (cx : CXt) (sz : Nat) (bc0 bs0 : Nat) (q_x0 : Nat) (q_x0_value : Nat) (n_x0_value : Nat) (a_x0_value : (Nat → Int32)) (x0_maybeLatin1 : Int32) (x0_count : Int32) (x1 : Int32) (post : Nat → (Nat → Int32) → Prop) (hw : w_J4_ensureCapacityInternal post bc0 bs0 n_x0_value a_x0_value x1) : Met l yJ4_ensureCapacityInternal (ws_ yJ4_ensureCapacityInternal cJ4_ensureCapacityInternal 3 none) (rm_J4_ensureCapacityInternal bc0 bs0) (va_Pc [.ref q_x0, .int x1] (wrC D dA cx sz [(q_x0, .inr (11, [.ref q_x0_value, .int (nI 0), .int x0_maybeLatin1, .int x0_count])), (q_x0_value, .inl (dA 3, n_x0_value, .inl a_x0_value))])) (va_Qv (fun (u : Nat × Nat × (Nat → Int32)) => post u.2.1 u.2.2) (fun (u : Nat × Nat × (Nat → Int32)) t => wrQ D dA (va_A [(q_x0, .inr (11, [.ref q_x0_value, .int (nI 0), .int x0_maybeLatin1, .int x0_count])), (q_x0_value, .inl (dA 3, n_x0_value, .inl a_x0_value))] sz) [(q_x0, .inr (11, [.ref u.1, .int (nI 0), .int x0_maybeLatin1, .int x0_count])), (u.1, .inl (dA 3, u.2.1, .inl u.2.2))] t) (va_A [(q_x0, .inr (11, [.ref q_x0_value, .int (nI 0), .int x0_maybeLatin1, .int x0_count])), (q_x0_value, .inl (dA 3, n_x0_value, .inl a_x0_value))] sz)) bc0 bs0 (va_A [(q_x0, .inr (11, [.ref q_x0_value, .int (nI 0), .int x0_maybeLatin1, .int x0_count])), (q_x0_value, .inl (dA 3, n_x0_value, .inl a_x0_value))] sz) := by
  refine Met.ofW (cc := cJ4_ensureCapacityInternal) (maxL := 3) (ret := none) (by decide) rfl ?_
  intro p e s m args below meth c s₁ B hml hv
  obtain ⟨rfl, hsz, hP, hK, hD0, hC⟩ := hv
  have hx := B.exec
  have hb := B.bytes
  have hr := B.returns
  have hts := atoms_spec (ws := (ws_ yJ4_ensureCapacityInternal cJ4_ensureCapacityInternal 3 none)) B.pre
  have hts : ∀ w ∈ lw_all, w.before _ s = true := fun w h => hts w (List.mem_cons_of_mem _ h)
  have hown : s.vm.findClass RJ4 = some m.cls := findClass_of_methodNamed B.named
  have hlocks := B.notSynchronized
  have hSx : CallFix p m c cJ4_ensureCapacityInternal 3 s _ lw_all RJ4 := ⟨hx, hb, hml, hown, hts⟩
  subst hsz
  have hD := hD0.self (sz := s.heap.size)
  generalize hAe : va_A [(q_x0, .inr (11, [.ref q_x0_value, .int (nI 0), .int x0_maybeLatin1, .int x0_count])), (q_x0_value, .inl (dA 3, n_x0_value, .inl a_x0_value))] s.heap.size = A at hD hC ⊢
  have hA : ∀ q : Nat, s.heap.size ≤ q → A q := fun q h => by rw [← hAe]; exact Or.inr h
  have hS : va_S A s.heap s.heap [] := va_S.rf
  have hbud : 0 + bc0 ≤ bc0 ∧ 0 + bs0 ≤ bs0 := by omega
  have hNW := hC.1
  have hl := lv_entry ([.ref q_x0, .int x1]) (n := 3) (Nat.le_of_ble_eq_true rfl)
  rw [lg_entry_eq]
  generalize (lg_sl ([.ref q_x0, .int x1]) ++ List.replicate (3 - (lg_sl ([.ref q_x0, .int x1])).length) Slot.unset).toArray = ls at hl ⊢
  have hl : lv_has ls 3 [(0, .ref q_x0), (1, .int x1)] := hl
  refine lv_aload_n hx hb dJ4_ensureCapacityInternal_0 rfl (lv_at hl 0 rfl) ?_
  refine va_get (D := D) (ci := 11) (v := .ref q_x0_value) (C := RJ5) (T := TJ5) (N := 4) hx hb hts in_J5 hown hK hP 0 rfl rfl 0 (by decide) (hts _ q229) (fun _ h9 => h9) rfl dJ4_ensureCapacityInternal_1 ?_
  refine va_alen (v := (nI n_x0_value)) hx hb hK hP 1 3 rfl rfl rfl dJ4_ensureCapacityInternal_4 ?_
  refine lv_aload_n hx hb dJ4_ensureCapacityInternal_5 rfl (lv_at hl 0 rfl) ?_
  refine va_get (D := D) (ci := 11) (v := .int (nI 0)) (C := RJ5) (T := TJ5) (N := 4) hx hb hts in_J5 hown hK hP 0 rfl rfl 1 (by decide) (hts _ q230) (fun _ h9 => h9) rfl dJ4_ensureCapacityInternal_6 ?_
  refine lv_ishr hx hb dJ4_ensureCapacityInternal_9 ?_
  refine lv_istore_n (lv' := [(2, .int ((nI n_x0_value) >>> ((nI 0) &&& 31))), (0, .ref q_x0), (1, .int x1)]) hx hb dJ4_ensureCapacityInternal_10 rfl hl (by decide) rfl (fun ls hl => ?_)
  refine lv_iload_n hx hb dJ4_ensureCapacityInternal_11 rfl (lv_at hl 2 rfl) ?_
  refine lv_iload_n hx hb dJ4_ensureCapacityInternal_12 rfl (lv_at hl 0 rfl) ?_
  refine lv_isub hx hb dJ4_ensureCapacityInternal_13 ?_
  refine lv_if_le (tgt := 38) hx hb dJ4_ensureCapacityInternal_14 (by decide) (fun c10 => ?_) (fun c10 => ?_)
  · have hw := hw.1 c10
    refine W.widen (k := bc0) (n := bs0) (by omega) (by omega) ?_
    exact W.vret hx hb hr (fun t ht hW => ⟨⟨(q_x0_value, n_x0_value, a_x0_value), rfl, hw, by rw [ht]; exact hP.sub [0, 1] rfl, va_K.moved hW.alike hK, hD.sub [0, 1] (by decide) rfl⟩, hS.F ht⟩) hS.2.2 dJ4_ensureCapacityInternal_38
  · have hw := hw.2 c10
    refine lv_aload_n hx hb dJ4_ensureCapacityInternal_17 rfl (lv_at hl 1 rfl) ?_
    refine lv_aload_n hx hb dJ4_ensureCapacityInternal_18 rfl (lv_at hl 1 rfl) ?_
    refine va_get (D := D) (ci := 11) (v := .ref q_x0_value) (C := RJ5) (T := TJ5) (N := 4) hx hb hts in_J5 hown hK hP 0 rfl rfl 0 (by decide) (hts _ q229) (fun _ h9 => h9) rfl dJ4_ensureCapacityInternal_19 ?_
    refine lv_aload_n hx hb dJ4_ensureCapacityInternal_22 rfl (lv_at hl 1 rfl) ?_
    refine lv_iload_n hx hb dJ4_ensureCapacityInternal_23 rfl (lv_at hl 2 rfl) ?_
    refine k_ri (kc_rU (As := [.int x1]) (rest := [.ref q_x0_value, .ref q_x0]) hSx (met_J4_newCapacity l D dA cx q_x0 q_x0_value n_x0_value a_x0_value x0_maybeLatin1 x0_count x1 _ hw) gUJ4_104_J5 rfl hd_J4_newCapacity ⟨Nat.le_of_ble_eq_true rfl, Nat.le_of_ble_eq_true rfl⟩ rfl rfl hP hK (hC.kept hS.2.1) [0, 1] rfl 0 rfl rfl rfl rfl hl.1 (Nat.le_of_ble_eq_true rfl) rfl dJ4_ensureCapacityInternal_24 ⟨(show 0 + 0 ≤ bc0 by omega), (show 0 + 0 ≤ bs0 by omega)⟩) (fun r11 hw => ?_)
    refine lv_aload_n hx hb dJ4_ensureCapacityInternal_27 rfl (lv_at hl 1 rfl) ?_
    refine va_get (D := D) (ci := 11) (v := .int (nI 0)) (C := RJ5) (T := TJ5) (N := 4) hx hb hts in_J5 hown hK hP 0 rfl rfl 1 (by decide) (hts _ q230) (fun _ h9 => h9) rfl dJ4_ensureCapacityInternal_28 ?_
    refine lv_ishl hx hb dJ4_ensureCapacityInternal_31 ?_
    obtain ⟨b15, b16, h17, h18, hw⟩ := hw
    refine k_wr (wn := fun (u : Nat × Nat × (Nat → Int32)) => [(q_x0, .inr (11, [.ref q_x0_value, .int (nI 0), .int x0_maybeLatin1, .int x0_count])), (q_x0_value, .inl (dA 3, n_x0_value, .inl a_x0_value)), (u.1, .inl (dA 3, u.2.1, .inl u.2.2))]) (wr := [(q_x0, .inr (11, [.ref q_x0_value, .int (nI 0), .int x0_maybeLatin1, .int x0_count]))]) (ra := fun (u : Nat × Nat × (Nat → Int32)) => u.1) (kc_wS (As := [.ref q_x0_value, .int (r11 <<< ((nI 0) &&& 31))]) (rest := [.ref q_x0]) hSx (met_J12_copyOf_3 l D dA cx _ b15 b16 q_x0_value n_x0_value a_x0_value (r11 <<< ((nI 0) &&& 31)) _ hw) gJ4_108 hd_J12_copyOf_3 ⟨Nat.le_of_ble_eq_true rfl, Nat.le_of_ble_eq_true rfl⟩ rfl rfl hP hK hD hS hA (hC.kept hS.2.1) [1] rfl (by decide) rfl rfl hl.1 (Nat.le_of_ble_eq_true rfl) rfl dJ4_ensureCapacityInternal_32 ⟨(show 0 + b15 ≤ bc0 by omega), (show 0 + b16 ≤ bs0 by omega)⟩) hP hD hS hA [1] [0] [0, 1, 2] rfl rfl (by decide) (by decide) (by decide) (fun _ => rfl) (fun _ => rfl) (fun u H locs hw _ hP hD hS => ?_)
    obtain ⟨q12, o13, o14⟩ := u
    have hP : va_P D vwCl [(q_x0, .inr (11, [.ref q_x0_value, .int (nI 0), .int x0_maybeLatin1, .int x0_count])), (q_x0_value, .inl (dA 3, n_x0_value, .inl a_x0_value)), (q12, .inl (dA 3, o13, .inl o14))] H := hP
    have hD : va_D A [(q_x0, .inr (11, [.ref q_x0_value, .int (nI 0), .int x0_maybeLatin1, .int x0_count])), (q_x0_value, .inl (dA 3, n_x0_value, .inl a_x0_value)), (q12, .inl (dA 3, o13, .inl o14))] := hD
    have hbud : (0 + b15) + (bc0 - b15) ≤ bc0 ∧ (0 + b16) + (bs0 - b16) ≤ bs0 := by omega
    refine va_put (D := D) (ci := 11) (v := .ref q12) (ty := (.array .byte)) (C := RJ5) (T := TJ5) (N := 4) hx hb hts in_J5 tyJ5 tyJ5_ok nmJ5 hown hK hP hD hS 0 rfl rfl 0 (by decide) (hts _ q229) (fun _ h9 => h9) rfl (by decide +kernel) rfl rfl (Nat.le_of_ble_eq_true rfl) dJ4_ensureCapacityInternal_35 (fun H locs hP hD hS => ?_)
    have hP : va_P D vwCl [(q_x0, .inr (11, [.ref q12, .int (nI 0), .int x0_maybeLatin1, .int x0_count])), (q_x0_value, .inl (dA 3, n_x0_value, .inl a_x0_value)), (q12, .inl (dA 3, o13, .inl o14))] H := hP
    have hD : va_D A [(q_x0, .inr (11, [.ref q12, .int (nI 0), .int x0_maybeLatin1, .int x0_count])), (q_x0_value, .inl (dA 3, n_x0_value, .inl a_x0_value)), (q12, .inl (dA 3, o13, .inl o14))] := hD
    refine W.widen (k := bc0) (n := bs0) (by omega) (by omega) ?_
    exact W.vret hx hb hr (fun t ht hW => ⟨⟨(q12, o13, o14), rfl, hw, by rw [ht]; exact hP.sub [0, 2] rfl, va_K.moved hW.alike hK, hD.sub [0, 2] (by decide) rfl⟩, hS.F ht⟩) hS.2.2 dJ4_ensureCapacityInternal_38
def w_J4_append_3_56 (post : Nat → (Nat → Int32) → Prop)   (bc bs : Nat) (n1 : Nat) (a1 : (Nat → Int32)) : Prop :=
  False
def w_J4_append_3_45 (post : Nat → (Nat → Int32) → Prop)   (bc bs : Nat) (n1 : Nat) (a1 : (Nat → Int32)) : Prop :=
  w_J4_isLatin1 (fun r29 => ((r29 = 0 → (w_J4_append_3_56 post) bc bs n1 a1) ∧ (¬ r29 = 0 → False))) 
def w_J4_append_3 (post : Nat → (Nat → Int32) → Prop) (bc bs : Nat) (n_x0_value : Nat) (a_x0_value : (Nat → Int32)) (x0_count : Int32) (x1 : Int32) : Prop :=
  (∃ b34 b35 : Nat, b34 ≤ bc ∧ b35 ≤ bs ∧ w_J4_ensureCapacityInternal (fun o32 o33 => w_J4_isLatin1 (fun r38 => ((r38 = 0 → (w_J4_append_3_45 post) (bc - b34) (bs - b35) o32 o33) ∧ (¬ r38 = 0 → w_J20_canEncode (fun r40 => ((r40 = 0 → (w_J4_append_3_45 post) (bc - b34) (bs - b35) o32 o33) ∧ (¬ r40 = 0 → (vp_in x0_count o32 ∧ post o32 (upd o33 x0_count.toNatClampNeg (vp_nar .byte (x1.toInt8.toInt32))))))) x1))) ) b34 b35 n_x0_value a_x0_value (x0_count + (nI 1)))
theorem hd_J4_ensureCapacityInternal : yJ4_ensureCapacityInternal.cls ≠ "java/lang/invoke/MethodHandle" ∧ yJ4_ensureCapacityInternal.cls ≠ "java/lang/invoke/VarHandle" ∧ (parseMethodDescriptor yJ4_ensureCapacityInternal.desc).map (fun d => d.parameters.length) = some 1 := by decide +kernel
theorem gUJ4_100_J5 : GoodIn lw_all (va_wsU RJ4 100 RJ5 RJ4 yJ4_ensureCapacityInternal yJ4_ensureCapacityInternal (ws_ yJ4_ensureCapacityInternal cJ4_ensureCapacityInternal 3 none)) := lw_app (lw_in5 q479 q2176 qu0 q481 q73) (lw_meth q482)
theorem hd_J4_isLatin1 : yJ4_isLatin1.cls ≠ "java/lang/invoke/MethodHandle" ∧ yJ4_isLatin1.cls ≠ "java/lang/invoke/VarHandle" ∧ (parseMethodDescriptor yJ4_isLatin1.desc).map (fun d => d.parameters.length) = some 0 := by decide +kernel
theorem gUJ4_83_J5 : GoodIn lw_all (va_wsU RJ4 83 RJ5 RJ4 yJ4_isLatin1 yJ4_isLatin1 (ws_ yJ4_isLatin1 cJ4_isLatin1 1 (some .boolean))) := lw_app (lw_in5 q508 q510 q511 q509 q73) (lw_meth q512)
theorem hd_J20_canEncode : yJ20_canEncode.cls ≠ "java/lang/invoke/MethodHandle" ∧ yJ20_canEncode.cls ≠ "java/lang/invoke/VarHandle" ∧ (parseMethodDescriptor yJ20_canEncode.desc).map (fun d => d.parameters.length) = some 1 := by decide +kernel
theorem gJ4_191 : GoodIn lw_all (va_wsS RJ4 191 yJ20_canEncode (ws_ yJ20_canEncode cJ20_canEncode 1 (some .boolean))) := lw_S q848 q849 q91 q850
def rm_J4_append_3 (bc0 bs0 : Nat) : Room := { frames := 4, cells := bc0, slots := bs0, locals := 112 }
set_option maxHeartbeats 4000000 in
set_option maxRecDepth 100000 in
theorem met_J4_append_3 (l : Launch) (D : va_G) (dA : Nat → ClassId) (cx : CXt) (sz : Nat) (bc0 bs0 : Nat) (q_x0 : Nat) (q_x0_value : Nat) (n_x0_value : Nat) (a_x0_value : (Nat → Int32)) (x0_maybeLatin1 : Int32) (x0_count : Int32) (x1 : Int32) (post : Nat → (Nat → Int32) → Prop) (hw : w_J4_append_3 post bc0 bs0 n_x0_value a_x0_value x0_count x1) : Met l yJ4_append_3 (ws_ yJ4_append_3 cJ4_append_3 2 (some (.object "java/lang/AbstractStringBuilder"))) (rm_J4_append_3 bc0 bs0) (va_Pc [.ref q_x0, .int x1] (wrC D dA cx sz [(q_x0, .inr (11, [.ref q_x0_value, .int (nI 0), .int x0_maybeLatin1, .int x0_count])), (q_x0_value, .inl (dA 3, n_x0_value, .inl a_x0_value))])) (va_Qr (fun (u : Nat × Nat × (Nat → Int32)) => post u.2.1 u.2.2) (fun (u : Nat × Nat × (Nat → Int32)) a9 t => a9 = q_x0 ∧ wrQ D dA (va_A [(q_x0, .inr (11, [.ref q_x0_value, .int (nI 0), .int x0_maybeLatin1, .int x0_count])), (q_x0_value, .inl (dA 3, n_x0_value, .inl a_x0_value))] sz) [(q_x0, .inr (11, [.ref u.1, .int (nI 0), .int x0_maybeLatin1, .int (x0_count + (nI 1))])), (u.1, .inl (dA 3, u.2.1, .inl u.2.2))] t) (va_A [(q_x0, .inr (11, [.ref q_x0_value, .int (nI 0), .int x0_maybeLatin1, .int x0_count])), (q_x0_value, .inl (dA 3, n_x0_value, .inl a_x0_value))] sz)) bc0 bs0 (va_A [(q_x0, .inr (11, [.ref q_x0_value, .int (nI 0), .int x0_maybeLatin1, .int x0_count])), (q_x0_value, .inl (dA 3, n_x0_value, .inl a_x0_value))] sz) := by
  refine Met.ofW (cc := cJ4_append_3) (maxL := 2) (ret := (some (.object "java/lang/AbstractStringBuilder"))) (by decide) rfl ?_
  intro p e s m args below meth c s₁ B hml hv
  obtain ⟨rfl, hsz, hP, hK, hD0, hC⟩ := hv
  have hx := B.exec
  have hb := B.bytes
  have hr := B.returns
  have hts := atoms_spec (ws := (ws_ yJ4_append_3 cJ4_append_3 2 (some (.object "java/lang/AbstractStringBuilder")))) B.pre
  have hts : ∀ w ∈ lw_all, w.before _ s = true := fun w h => hts w (List.mem_cons_of_mem _ h)
  have hown : s.vm.findClass RJ4 = some m.cls := findClass_of_methodNamed B.named
  have hlocks := B.notSynchronized
  have hSx : CallFix p m c cJ4_append_3 2 s _ lw_all RJ4 := ⟨hx, hb, hml, hown, hts⟩
  subst hsz
  have hD := hD0.self (sz := s.heap.size)
  generalize hAe : va_A [(q_x0, .inr (11, [.ref q_x0_value, .int (nI 0), .int x0_maybeLatin1, .int x0_count])), (q_x0_value, .inl (dA 3, n_x0_value, .inl a_x0_value))] s.heap.size = A at hD hC ⊢
  have hA : ∀ q : Nat, s.heap.size ≤ q → A q := fun q h => by rw [← hAe]; exact Or.inr h
  have hS : va_S A s.heap s.heap [] := va_S.rf
  have hbud : 0 + bc0 ≤ bc0 ∧ 0 + bs0 ≤ bs0 := by omega
  have hNW := hC.1
  have hl := lv_entry ([.ref q_x0, .int x1]) (n := 2) (Nat.le_of_ble_eq_true rfl)
  rw [lg_entry_eq]
  generalize (lg_sl ([.ref q_x0, .int x1]) ++ List.replicate (2 - (lg_sl ([.ref q_x0, .int x1])).length) Slot.unset).toArray = ls at hl ⊢
  have hl : lv_has ls 2 [(0, .ref q_x0), (1, .int x1)] := hl
  have hL56 : ∀  (bc bs kc ks : Nat) (ad1 : Nat) (n1 : Nat) (a1 : (Nat → Int32)) (H : Heap) (locs : List Loc) (ls : Array Slot), kc + bc ≤ bc0 ∧ ks + bs ≤ bs0 → va_P D vwCl [(q_x0, .inr (11, [.ref ad1, .int (nI 0), .int x0_maybeLatin1, .int x0_count])), (ad1, .inl (dA 3, n1, .inl a1))] H → va_D A [(q_x0, .inr (11, [.ref ad1, .int (nI 0), .int x0_maybeLatin1, .int x0_count])), (ad1, .inl (dA 3, n1, .inl a1))] → va_S A s.heap H locs → lv_has ls 2 [(0, .ref q_x0), (1, .int x1)] → (w_J4_append_3_56 post) bc bs n1 a1 → W p l e (headSpec (ws_ yJ4_append_3 cJ4_append_3 2 (some (.object "java/lang/AbstractStringBuilder"))) (rm_J4_append_3 bc0 bs0)).room s m ([.ref q_x0, .int x1] : List Value).toArray below meth c H locs kc ks (MQ below (va_Qr (fun (u : Nat × Nat × (Nat → Int32)) => post u.2.1 u.2.2) (fun (u : Nat × Nat × (Nat → Int32)) a9 t => a9 = q_x0 ∧ wrQ D dA A [(q_x0, .inr (11, [.ref u.1, .int (nI 0), .int x0_maybeLatin1, .int (x0_count + (nI 1))])), (u.1, .inl (dA 3, u.2.1, .inl u.2.2))] t) A) ([.ref q_x0, .int x1] : List Value).toArray s bc0 bs0 A) (F0 m 56 ls []) := by
      intro  bc bs kc ks ad1 n1 a1 H locs ls hbud hP hD hS hl hw
      refine lv_aload_n hx hb dJ4_append_3_56 rfl (lv_at hl 0 rfl) ?_
      refine va_get (D := D) (ci := 11) (v := .ref ad1) (C := RJ5) (T := TJ5) (N := 4) hx hb hts in_J5 hown hK hP 0 rfl rfl 0 (by decide) (hts _ q229) (fun _ h9 => h9) rfl dJ4_append_3_57 ?_
      refine lv_aload_n hx hb dJ4_append_3_60 rfl (lv_at hl 0 rfl) ?_
      refine lv_dup hx hb dJ4_append_3_61 rfl ?_
      refine va_get (D := D) (ci := 11) (v := .int x0_count) (C := RJ5) (T := TJ5) (N := 4) hx hb hts in_J5 hown hK hP 0 rfl rfl 3 (by decide) (hts _ q233) (fun _ h9 => h9) rfl dJ4_append_3_62 ?_
      refine lv_dup_x1 hx hb dJ4_append_3_65 rfl rfl ?_
      refine lv_iconst (v := (nI 1)) hx hb dJ4_append_3_66 (by decide) ?_
      refine lv_iadd hx hb dJ4_append_3_67 ?_
      refine va_put (D := D) (ci := 11) (v := .int (x0_count + (nI 1))) (ty := (.int)) (C := RJ5) (T := TJ5) (N := 4) hx hb hts in_J5 tyJ5 tyJ5_ok nmJ5 hown hK hP hD hS 0 rfl rfl 3 (by decide) (hts _ q233) (fun _ h9 => h9) rfl (by decide +kernel) rfl rfl (Nat.le_of_ble_eq_true rfl) dJ4_append_3_68 (fun H locs hP hD hS => ?_)
      have hP : va_P D vwCl [(q_x0, .inr (11, [.ref ad1, .int (nI 0), .int x0_maybeLatin1, .int (x0_count + (nI 1))])), (ad1, .inl (dA 3, n1, .inl a1))] H := hP
      have hD : va_D A [(q_x0, .inr (11, [.ref ad1, .int (nI 0), .int x0_maybeLatin1, .int (x0_count + (nI 1))])), (ad1, .inl (dA 3, n1, .inl a1))] := hD
      refine lv_iload_n hx hb dJ4_append_3_71 rfl (lv_at hl 1 rfl) ?_
      exact (show False from hw).elim
  have hL45 : ∀  (bc bs kc ks : Nat) (ad1 : Nat) (n1 : Nat) (a1 : (Nat → Int32)) (H : Heap) (locs : List Loc) (ls : Array Slot), kc + bc ≤ bc0 ∧ ks + bs ≤ bs0 → va_P D vwCl [(q_x0, .inr (11, [.ref ad1, .int (nI 0), .int x0_maybeLatin1, .int x0_count])), (ad1, .inl (dA 3, n1, .inl a1))] H → va_D A [(q_x0, .inr (11, [.ref ad1, .int (nI 0), .int x0_maybeLatin1, .int x0_count])), (ad1, .inl (dA 3, n1, .inl a1))] → va_S A s.heap H locs → lv_has ls 2 [(0, .ref q_x0), (1, .int x1)] → (w_J4_append_3_45 post) bc bs n1 a1 → W p l e (headSpec (ws_ yJ4_append_3 cJ4_append_3 2 (some (.object "java/lang/AbstractStringBuilder"))) (rm_J4_append_3 bc0 bs0)).room s m ([.ref q_x0, .int x1] : List Value).toArray below meth c H locs kc ks (MQ below (va_Qr (fun (u : Nat × Nat × (Nat → Int32)) => post u.2.1 u.2.2) (fun (u : Nat × Nat × (Nat → Int32)) a9 t => a9 = q_x0 ∧ wrQ D dA A [(q_x0, .inr (11, [.ref u.1, .int (nI 0), .int x0_maybeLatin1, .int (x0_count + (nI 1))])), (u.1, .inl (dA 3, u.2.1, .inl u.2.2))] t) A) ([.ref q_x0, .int x1] : List Value).toArray s bc0 bs0 A) (F0 m 45 ls []) := by
      intro  bc bs kc ks ad1 n1 a1 H locs ls hbud hP hD hS hl hw
      refine lv_aload_n hx hb dJ4_append_3_45 rfl (lv_at hl 0 rfl) ?_
      refine k_ri (kc_rU (As := []) (rest := []) hSx (met_J4_isLatin1 l D dA cx q_x0 ad1 n1 a1 x0_maybeLatin1 x0_count _ hw) gUJ4_83_J5 rfl hd_J4_isLatin1 ⟨Nat.le_of_ble_eq_true rfl, Nat.le_of_ble_eq_true rfl⟩ rfl rfl hP hK (hC.kept hS.2.1) [0, 1] rfl 0 rfl rfl rfl rfl hl.1 (Nat.le_of_ble_eq_true rfl) rfl dJ4_append_3_46 ⟨(show kc + 0 ≤ bc0 by omega), (show ks + 0 ≤ bs0 by omega)⟩) (fun r29 hw => ?_)
      refine lv_if_eq (tgt := 56) hx hb dJ4_append_3_49 (by decide) (fun c30 => ?_) (fun c30 => ?_)
      · have hw := hw.1 c30
        exact hL56  bc bs kc ks ad1 n1 a1 _ _ _ hbud (hP.sub [0, 1] rfl) (hD.sub [0, 1] (by decide) rfl) hS (lv_sub hl [0, 1] rfl) hw
      · have hw := hw.2 c30
        refine lv_aload_n hx hb dJ4_append_3_52 rfl (lv_at hl 0 rfl) ?_
        exact (show False from hw).elim
  refine lv_aload_n hx hb dJ4_append_3_0 rfl (lv_at hl 0 rfl) ?_
  refine lv_aload_n hx hb dJ4_append_3_1 rfl (lv_at hl 0 rfl) ?_
  refine va_get (D := D) (ci := 11) (v := .int x0_count) (C := RJ5) (T := TJ5) (N := 4) hx hb hts in_J5 hown hK hP 0 rfl rfl 3 (by decide) (hts _ q233) (fun _ h9 => h9) rfl dJ4_append_3_2 ?_
  refine lv_iconst (v := (nI 1)) hx hb dJ4_append_3_5 (by decide) ?_
  refine lv_iadd hx hb dJ4_append_3_6 ?_
  obtain ⟨b34, b35, h36, h37, hw⟩ := hw
  refine k_wv (wn := fun (u : Nat × Nat × (Nat → Int32)) => [(q_x0, .inr (11, [.ref u.1, .int (nI 0), .int x0_maybeLatin1, .int x0_count])), (u.1, .inl (dA 3, u.2.1, .inl u.2.2))]) (wr := []) (kc_wU (As := [.int (x0_count + (nI 1))]) (rest := []) hSx (met_J4_ensureCapacityInternal l D dA cx _ b34 b35 q_x0 q_x0_value n_x0_value a_x0_value x0_maybeLatin1 x0_count (x0_count + (nI 1)) _ hw) gUJ4_100_J5 rfl hd_J4_ensureCapacityInternal ⟨Nat.le_of_ble_eq_true rfl, Nat.le_of_ble_eq_true rfl⟩ rfl rfl hP hK hD hS hA (hC.kept hS.2.1) [0, 1] rfl (by decide) rfl 0 rfl rfl rfl rfl hl.1 (Nat.le_of_ble_eq_true rfl) rfl dJ4_append_3_7 ⟨(show 0 + b34 ≤ bc0 by omega), (show 0 + b35 ≤ bs0 by omega)⟩) hP hD hS hA [0, 1] [] [0, 1] rfl rfl (by decide) (by decide) (by decide) (fun _ => rfl) (fun _ => rfl) (fun u H locs hw _ hP hD hS => ?_)
  obtain ⟨q31, o32, o33⟩ := u
  have hP : va_P D vwCl [(q_x0, .inr (11, [.ref q31, .int (nI 0), .int x0_maybeLatin1, .int x0_count])), (q31, .inl (dA 3, o32, .inl o33))] H := hP
  have hD : va_D A [(q_x0, .inr (11, [.ref q31, .int (nI 0), .int x0_maybeLatin1, .int x0_count])), (q31, .inl (dA 3, o32, .inl o33))] := hD
  have hbud : (0 + b34) + (bc0 - b34) ≤ bc0 ∧ (0 + b35) + (bs0 - b35) ≤ bs0 := by omega
  refine lv_aload_n hx hb dJ4_append_3_10 rfl (lv_at hl 0 rfl) ?_
  refine k_ri (kc_rU (As := []) (rest := []) hSx (met_J4_isLatin1 l D dA cx q_x0 q31 o32 o33 x0_maybeLatin1 x0_count _ hw) gUJ4_83_J5 rfl hd_J4_isLatin1 ⟨Nat.le_of_ble_eq_true rfl, Nat.le_of_ble_eq_true rfl⟩ rfl rfl hP hK (hC.kept hS.2.1) [0, 1] rfl 0 rfl rfl rfl rfl hl.1 (Nat.le_of_ble_eq_true rfl) rfl dJ4_append_3_11 ⟨(show (0 + b34) + 0 ≤ bc0 by omega), (show (0 + b35) + 0 ≤ bs0 by omega)⟩) (fun r38 hw => ?_)
  refine lv_if_eq (tgt := 45) hx hb dJ4_append_3_14 (by decide) (fun c39 => ?_) (fun c39 => ?_)
  · have hw := hw.1 c39
    exact hL45  (bc0 - b34) (bs0 - b35) (0 + b34) (0 + b35) q31 o32 o33 _ _ _ hbud (hP.sub [0, 1] rfl) (hD.sub [0, 1] (by decide) rfl) hS (lv_sub hl [0, 1] rfl) hw
  · have hw := hw.2 c39
    refine lv_iload_n hx hb dJ4_append_3_17 rfl (lv_at hl 1 rfl) ?_
    refine k_ri (k_pS (As := [.int x1]) (rest := []) hSx (met_J20_canEncode l x1 _ hw) gJ4_191 hd_J20_canEncode ⟨Nat.le_of_ble_eq_true rfl, Nat.le_of_ble_eq_true rfl⟩ rfl rfl rfl hl.1 (Nat.le_of_ble_eq_true rfl) rfl dJ4_append_3_18 ⟨(show (0 + b34) + 0 ≤ bc0 by omega), (show (0 + b35) + 0 ≤ bs0 by omega)⟩) (fun r40 hw => ?_)
    refine lv_if_eq (tgt := 45) hx hb dJ4_append_3_21 (by decide) (fun c41 => ?_) (fun c41 => ?_)
    · have hw := hw.1 c41
      exact hL45  (bc0 - b34) (bs0 - b35) (0 + b34) (0 + b35) q31 o32 o33 _ _ _ hbud (hP.sub [0, 1] rfl) (hD.sub [0, 1] (by decide) rfl) hS (lv_sub hl [0, 1] rfl) hw
    · have hw := hw.2 c41
      refine lv_aload_n hx hb dJ4_append_3_24 rfl (lv_at hl 0 rfl) ?_
      refine va_get (D := D) (ci := 11) (v := .ref q31) (C := RJ5) (T := TJ5) (N := 4) hx hb hts in_J5 hown hK hP 0 rfl rfl 0 (by decide) (hts _ q229) (fun _ h9 => h9) rfl dJ4_append_3_25 ?_
      refine lv_aload_n hx hb dJ4_append_3_28 rfl (lv_at hl 0 rfl) ?_
      refine lv_dup hx hb dJ4_append_3_29 rfl ?_
      refine va_get (D := D) (ci := 11) (v := .int x0_count) (C := RJ5) (T := TJ5) (N := 4) hx hb hts in_J5 hown hK hP 0 rfl rfl 3 (by decide) (hts _ q233) (fun _ h9 => h9) rfl dJ4_append_3_30 ?_
      refine lv_dup_x1 hx hb dJ4_append_3_33 rfl rfl ?_
      refine lv_iconst (v := (nI 1)) hx hb dJ4_append_3_34 (by decide) ?_
      refine lv_iadd hx hb dJ4_append_3_35 ?_
      refine va_put (D := D) (ci := 11) (v := .int (x0_count + (nI 1))) (ty := (.int)) (C := RJ5) (T := TJ5) (N := 4) hx hb hts in_J5 tyJ5 tyJ5_ok nmJ5 hown hK hP hD hS 0 rfl rfl 3 (by decide) (hts _ q233) (fun _ h9 => h9) rfl (by decide +kernel) rfl rfl (Nat.le_of_ble_eq_true rfl) dJ4_append_3_36 (fun H locs hP hD hS => ?_)
      have hP : va_P D vwCl [(q_x0, .inr (11, [.ref q31, .int (nI 0), .int x0_maybeLatin1, .int (x0_count + (nI 1))])), (q31, .inl (dA 3, o32, .inl o33))] H := hP
      have hD : va_D A [(q_x0, .inr (11, [.ref q31, .int (nI 0), .int x0_maybeLatin1, .int (x0_count + (nI 1))])), (q31, .inl (dA 3, o32, .inl o33))] := hD
      refine lv_iload_n hx hb dJ4_append_3_39 rfl (lv_at hl 1 rfl) ?_
      refine lv_i2b (v := (x1.toInt8.toInt32)) hx hb dJ4_append_3_40 rfl ?_
      obtain ⟨h42, hw⟩ := hw
      refine k_bast (k := x0_count.toNatClampNeg) hx hb hK hP hD hS 1 3 rfl rfl rfl h42 dJ4_append_3_41 (fun H locs hP hD hS => ?_)
      have hP : va_P D vwCl [(q_x0, .inr (11, [.ref q31, .int (nI 0), .int x0_maybeLatin1, .int (x0_count + (nI 1))])), (q31, .inl (dA 3, o32, .inl (upd o33 x0_count.toNatClampNeg (vp_nar .byte (x1.toInt8.toInt32)))))] H := hP
      have hD : va_D A [(q_x0, .inr (11, [.ref q31, .int (nI 0), .int x0_maybeLatin1, .int (x0_count + (nI 1))])), (q31, .inl (dA 3, o32, .inl (upd o33 x0_count.toNatClampNeg (vp_nar .byte (x1.toInt8.toInt32)))))] := hD
      refine lv_goto (tgt := 75) hx hb dJ4_append_3_42 (by decide) ?_
      refine lv_aload_n hx hb dJ4_append_3_75 rfl (lv_at hl 0 rfl) ?_
      refine W.widen (k := bc0) (n := bs0) (by omega) (by omega) ?_
      exact W.aret (v := .ref q_x0) hx hb hr (Or.inl ⟨_, rfl⟩) (Or.inr ⟨_, rfl⟩) (fun t ht hW => ⟨⟨(q31, o32, (upd o33 x0_count.toNatClampNeg (vp_nar .byte (x1.toInt8.toInt32)))), _, rfl, hw, rfl, by rw [ht]; exact hP.sub [0, 1] rfl, va_K.moved hW.alike hK, hD.sub [0, 1] (by decide) rfl⟩, hS.F ht⟩) hS.2.2 dJ4_append_3_76
def w_J5_append_3 (post : Nat → (Nat → Int32) → Prop) (bc bs : Nat) (n_x0_value : Nat) (a_x0_value : (Nat → Int32)) (x0_count : Int32) (x1 : Int32) : Prop :=
  (∃ b11 b12 : Nat, b11 ≤ bc ∧ b12 ≤ bs ∧ w_J4_append_3 (fun o9 o10 => post o9 o10) b11 b12 n_x0_value a_x0_value x0_count x1)
theorem hd_J4_append_3 : yJ4_append_3.cls ≠ "java/lang/invoke/MethodHandle" ∧ yJ4_append_3.cls ≠ "java/lang/invoke/VarHandle" ∧ (parseMethodDescriptor yJ4_append_3.desc).map (fun d => d.parameters.length) = some 1 := by decide +kernel
theorem gSJ5_50 : GoodIn lw_all (va_wsSU RJ5 50 yJ4_append_3 (ws_ yJ4_append_3 cJ4_append_3 2 (some (.object "java/lang/AbstractStringBuilder")))) := lw_app (lw_in5 q845 q2184 q242 q846 q73) (lw_meth q847)
def rm_J5_append_3 (bc0 bs0 : Nat) : Room := { frames := 5, cells := bc0, slots := bs0, locals := 133 }
set_option maxHeartbeats 4000000 in
set_option maxRecDepth 100000 in
theorem met_J5_append_3 (l : Launch) (D : va_G) (dA : Nat → ClassId) (cx : CXt) (sz : Nat) (bc0 bs0 : Nat) (q_x0 : Nat) (q_x0_value : Nat) (n_x0_value : Nat) (a_x0_value : (Nat → Int32)) (x0_maybeLatin1 : Int32) (x0_count : Int32) (x1 : Int32) (post : Nat → (Nat → Int32) → Prop) (hw : w_J5_append_3 post bc0 bs0 n_x0_value a_x0_value x0_count x1) : Met l yJ5_append_3 (ws_ yJ5_append_3 cJ5_append_3 2 (some (.object "java/lang/StringBuilder"))) (rm_J5_append_3 bc0 bs0) (va_Pc [.ref q_x0, .int x1] (wrC D dA cx sz [(q_x0, .inr (11, [.ref q_x0_value, .int (nI 0), .int x0_maybeLatin1, .int x0_count])), (q_x0_value, .inl (dA 3, n_x0_value, .inl a_x0_value))])) (va_Qr (fun (u : Nat × Nat × (Nat → Int32)) => post u.2.1 u.2.2) (fun (u : Nat × Nat × (Nat → Int32)) a9 t => a9 = q_x0 ∧ wrQ D dA (va_A [(q_x0, .inr (11, [.ref q_x0_value, .int (nI 0), .int x0_maybeLatin1, .int x0_count])), (q_x0_value, .inl (dA 3, n_x0_value, .inl a_x0_value))] sz) [(q_x0, .inr (11, [.ref u.1, .int (nI 0), .int x0_maybeLatin1, .int (x0_count + (nI 1))])), (u.1, .inl (dA 3, u.2.1, .inl u.2.2))] t) (va_A [(q_x0, .inr (11, [.ref q_x0_value, .int (nI 0), .int x0_maybeLatin1, .int x0_count])), (q_x0_value, .inl (dA 3, n_x0_value, .inl a_x0_value))] sz)) bc0 bs0 (va_A [(q_x0, .inr (11, [.ref q_x0_value, .int (nI 0), .int x0_maybeLatin1, .int x0_count])), (q_x0_value, .inl (dA 3, n_x0_value, .inl a_x0_value))] sz) := by
  refine Met.ofW (cc := cJ5_append_3) (maxL := 2) (ret := (some (.object "java/lang/StringBuilder"))) (by decide) rfl ?_
  intro p e s m args below meth c s₁ B hml hv
  obtain ⟨rfl, hsz, hP, hK, hD0, hC⟩ := hv
  have hx := B.exec
  have hb := B.bytes
  have hr := B.returns
  have hts := atoms_spec (ws := (ws_ yJ5_append_3 cJ5_append_3 2 (some (.object "java/lang/StringBuilder")))) B.pre
  have hts : ∀ w ∈ lw_all, w.before _ s = true := fun w h => hts w (List.mem_cons_of_mem _ h)
  have hown : s.vm.findClass RJ5 = some m.cls := findClass_of_methodNamed B.named
  have hlocks := B.notSynchronized
  have hSx : CallFix p m c cJ5_append_3 2 s _ lw_all RJ5 := ⟨hx, hb, hml, hown, hts⟩
  subst hsz
  have hD := hD0.self (sz := s.heap.size)
  generalize hAe : va_A [(q_x0, .inr (11, [.ref q_x0_value, .int (nI 0), .int x0_maybeLatin1, .int x0_count])), (q_x0_value, .inl (dA 3, n_x0_value, .inl a_x0_value))] s.heap.size = A at hD hC ⊢
  have hA : ∀ q : Nat, s.heap.size ≤ q → A q := fun q h => by rw [← hAe]; exact Or.inr h
  have hS : va_S A s.heap s.heap [] := va_S.rf
  have hbud : 0 + bc0 ≤ bc0 ∧ 0 + bs0 ≤ bs0 := by omega
  have hNW := hC.1
  have hl := lv_entry ([.ref q_x0, .int x1]) (n := 2) (Nat.le_of_ble_eq_true rfl)
  rw [lg_entry_eq]
  generalize (lg_sl ([.ref q_x0, .int x1]) ++ List.replicate (2 - (lg_sl ([.ref q_x0, .int x1])).length) Slot.unset).toArray = ls at hl ⊢
  have hl : lv_has ls 2 [(0, .ref q_x0), (1, .int x1)] := hl
  refine lv_aload_n hx hb dJ5_append_3_0 rfl (lv_at hl 0 rfl) ?_
  refine lv_iload_n hx hb dJ5_append_3_1 rfl (lv_at hl 1 rfl) ?_
  obtain ⟨b11, b12, h13, h14, hw⟩ := hw
  refine k_wr (wn := fun (u : Nat × Nat × (Nat → Int32)) => [(q_x0, .inr (11, [.ref u.1, .int (nI 0), .int x0_maybeLatin1, .int (x0_count + (nI 1))])), (u.1, .inl (dA 3, u.2.1, .inl u.2.2))]) (wr := []) (ra := fun (u : Nat × Nat × (Nat → Int32)) => q_x0) (kc_wSU (As := [.int x1]) (rest := []) hSx (met_J4_append_3 l D dA cx _ b11 b12 q_x0 q_x0_value n_x0_value a_x0_value x0_maybeLatin1 x0_count x1 _ hw) gSJ5_50 ⟨by decide, hd_J4_append_3.2.2⟩ ⟨Nat.le_of_ble_eq_true rfl, Nat.le_of_ble_eq_true rfl⟩ rfl rfl hP hK hD hS hA (hC.kept hS.2.1) [0, 1] rfl (by decide) rfl 0 rfl rfl rfl rfl hl.1 (Nat.le_of_ble_eq_true rfl) rfl dJ5_append_3_2 ⟨(show 0 + b11 ≤ bc0 by omega), (show 0 + b12 ≤ bs0 by omega)⟩) hP hD hS hA [0, 1] [] [0, 1] rfl rfl (by decide) (by decide) (by decide) (fun _ => rfl) (fun _ => rfl) (fun u H locs hw _ hP hD hS => ?_)
  obtain ⟨q8, o9, o10⟩ := u
  have hP : va_P D vwCl [(q_x0, .inr (11, [.ref q8, .int (nI 0), .int x0_maybeLatin1, .int (x0_count + (nI 1))])), (q8, .inl (dA 3, o9, .inl o10))] H := hP
  have hD : va_D A [(q_x0, .inr (11, [.ref q8, .int (nI 0), .int x0_maybeLatin1, .int (x0_count + (nI 1))])), (q8, .inl (dA 3, o9, .inl o10))] := hD
  have hbud : (0 + b11) + (bc0 - b11) ≤ bc0 ∧ (0 + b12) + (bs0 - b12) ≤ bs0 := by omega
  refine lv_pop hx hb dJ5_append_3_5 rfl ?_
  refine lv_aload_n hx hb dJ5_append_3_6 rfl (lv_at hl 0 rfl) ?_
  refine W.widen (k := bc0) (n := bs0) (by omega) (by omega) ?_
  exact W.aret (v := .ref q_x0) hx hb hr (Or.inl ⟨_, rfl⟩) (Or.inr ⟨_, rfl⟩) (fun t ht hW => ⟨⟨(q8, o9, o10), _, rfl, hw, rfl, by rw [ht]; exact hP.sub [0, 1] rfl, va_K.moved hW.alike hK, hD.sub [0, 1] (by decide) rfl⟩, hS.F ht⟩) hS.2.2 dJ5_append_3_7
def w_J4_init (post : Nat → (Nat → Int32) → Prop) (bc bs : Nat) (x1 : Int32) : Prop :=
  (∃ N10 : Nat, x1 = nI N10 ∧ N10 * 8 ≤ 536870912 ∧ (1 ≤ bc ∧ N10 ≤ bs ∧ post N10 (fun _ => (0 : Int32))))
def rm_J4_init (bc0 bs0 : Nat) : Room := { frames := 1, cells := bc0, slots := bs0, locals := 20 }
set_option maxHeartbeats 4000000 in
set_option maxRecDepth 100000 in
theorem met_J4_init (l : Launch) (D : va_G) (dA : Nat → ClassId) (cx : CXt) (sz : Nat) (bc0 bs0 : Nat) (q_x0 : Nat) (x0_coder : Int32) (x0_maybeLatin1 : Int32) (x0_count : Int32) (x1 : Int32) (post : Nat → (Nat → Int32) → Prop) (hw : w_J4_init post bc0 bs0 x1) : Met l yJ4_init (ws_ yJ4_init cJ4_init 2 none) (rm_J4_init bc0 bs0) (va_Pc [.ref q_x0, .int x1] (wrC D dA cx sz [(q_x0, .inr (11, [.null, .int x0_coder, .int x0_maybeLatin1, .int x0_count]))])) (va_Qv (fun (u : Nat × Nat × (Nat → Int32)) => post u.2.1 u.2.2) (fun (u : Nat × Nat × (Nat → Int32)) t => wrQ D dA (va_A [(q_x0, .inr (11, [.null, .int x0_coder, .int x0_maybeLatin1, .int x0_count]))] sz) [(q_x0, .inr (11, [.ref u.1, .int (nI 0), .int x0_maybeLatin1, .int x0_count])), (u.1, .inl (dA 3, u.2.1, .inl u.2.2))] t) (va_A [(q_x0, .inr (11, [.null, .int x0_coder, .int x0_maybeLatin1, .int x0_count]))] sz)) bc0 bs0 (va_A [(q_x0, .inr (11, [.null, .int x0_coder, .int x0_maybeLatin1, .int x0_count]))] sz) := by
  refine Met.ofW (cc := cJ4_init) (maxL := 2) (ret := none) (by decide) rfl ?_
  intro p e s m args below meth c s₁ B hml hv
  obtain ⟨rfl, hsz, hP, hK, hD0, hC⟩ := hv
  have hx := B.exec
  have hb := B.bytes
  have hr := B.returns
  have hts := atoms_spec (ws := (ws_ yJ4_init cJ4_init 2 none)) B.pre
  have hts : ∀ w ∈ lw_all, w.before _ s = true := fun w h => hts w (List.mem_cons_of_mem _ h)
  have hown : s.vm.findClass RJ4 = some m.cls := findClass_of_methodNamed B.named
  have hlocks := B.notSynchronized
  have hSx : CallFix p m c cJ4_init 2 s _ lw_all RJ4 := ⟨hx, hb, hml, hown, hts⟩
  have hin : meth.name = "<init>" := (name_of_methodNamed B.named B.method).1
  subst hsz
  have hD := hD0.self (sz := s.heap.size)
  generalize hAe : va_A [(q_x0, .inr (11, [.null, .int x0_coder, .int x0_maybeLatin1, .int x0_count]))] s.heap.size = A at hD hC ⊢
  have hA : ∀ q : Nat, s.heap.size ≤ q → A q := fun q h => by rw [← hAe]; exact Or.inr h
  have hS : va_S A s.heap s.heap [] := va_S.rf
  have hbud : 0 + bc0 ≤ bc0 ∧ 0 + bs0 ≤ bs0 := by omega
  have hNW := hC.1
  have hl := lv_entry ([.ref q_x0, .int x1]) (n := 2) (Nat.le_of_ble_eq_true rfl)
  rw [lg_entry_eq]
  generalize (lg_sl ([.ref q_x0, .int x1]) ++ List.replicate (2 - (lg_sl ([.ref q_x0, .int x1])).length) Slot.unset).toArray = ls at hl ⊢
  have hl : lv_has ls 2 [(0, .ref q_x0), (1, .int x1)] := hl
  refine lv_aload_n hx hb dJ4_init_0 rfl (lv_at hl 0 rfl) ?_
  refine W.objInit hx hb hown (hts _ q219) (hts _ q111) (hts _ q112) rfl (by rw [hml]; exact hl.1) rfl dJ4_init_1 (Nat.le_of_ble_eq_true rfl) (Nat.le_of_ble_eq_true rfl) ?_
  refine W.eq (g2 := F0 m 4 ls []) rfl ?_
  refine va_gets (v := .int (nI 1)) hx hb hC.cs hS hown (hts _ q220) (fun _ h9 => h9) dJ4_init_4 ?_
  refine lv_if_eq (tgt := 25) hx hb dJ4_init_7 (by decide) (fun c8 => absurd c8 (by decide)) (fun _ => ?_)
  refine lv_aload_n hx hb dJ4_init_10 rfl (lv_at hl 0 rfl) ?_
  refine lv_iload_n hx hb dJ4_init_11 rfl (lv_at hl 1 rfl) ?_
  obtain ⟨N10, h11, h12, hw⟩ := hw
  obtain ⟨h13, h14, hw⟩ := hw
  refine k_newa (ty := .byte) (atype := .byte) (a0 := (N10, .inl (fun _ => (0 : Int32)))) hx hb (hts _ q243) rfl (fun _ h => by cases h) 3 rfl hK hP hD hS hA (fun _ => rfl) (by rw [h11]; exact nI_pos (by omega)) (by rw [h11]; exact clK N10 (by omega)) (by first | omega | (dsimp only [componentBytes]; omega)) (show 0 + 1 ≤ bc0 by omega) (show 0 + N10 ≤ bs0 by omega) dJ4_init_12 (fun q9 H hP hD hS => ?_)
  have hP : va_P D vwCl [(q_x0, .inr (11, [.null, .int x0_coder, .int x0_maybeLatin1, .int x0_count])), (q9, .inl (dA 3, N10, .inl (fun _ => (0 : Int32))))] H := hP
  have hD : va_D A [(q_x0, .inr (11, [.null, .int x0_coder, .int x0_maybeLatin1, .int x0_count])), (q9, .inl (dA 3, N10, .inl (fun _ => (0 : Int32))))] := hD
  have hbud : (0 + 1) + (bc0 - 1) ≤ bc0 ∧ (0 + N10) + (bs0 - N10) ≤ bs0 := by omega
  refine va_put (D := D) (ci := 11) (v := .ref q9) (ty := (.array .byte)) (C := RJ5) (T := TJ5) (N := 4) hx hb hts in_J5 tyJ5 tyJ5_ok nmJ5 hown hK hP hD hS 0 rfl rfl 0 (by decide) (hts _ q229) (fun _ h9 => h9) rfl (by decide +kernel) rfl rfl (Nat.le_of_ble_eq_true rfl) dJ4_init_14 (fun H locs hP hD hS => ?_)
  have hP : va_P D vwCl [(q_x0, .inr (11, [.ref q9, .int x0_coder, .int x0_maybeLatin1, .int x0_count])), (q9, .inl (dA 3, N10, .inl (fun _ => (0 : Int32))))] H := hP
  have hD : va_D A [(q_x0, .inr (11, [.ref q9, .int x0_coder, .int x0_maybeLatin1, .int x0_count])), (q9, .inl (dA 3, N10, .inl (fun _ => (0 : Int32))))] := hD
  refine lv_aload_n hx hb dJ4_init_17 rfl (lv_at hl 0 rfl) ?_
  refine lv_iconst (v := (nI 0)) hx hb dJ4_init_18 (by decide) ?_
  refine va_put (D := D) (ci := 11) (v := .int (nI 0)) (ty := (.byte)) (C := RJ5) (T := TJ5) (N := 4) hx hb hts in_J5 tyJ5 tyJ5_ok nmJ5 hown hK hP hD hS 0 rfl rfl 1 (by decide) (hts _ q230) (fun _ h9 => h9) rfl (by decide +kernel) rfl rfl (Nat.le_of_ble_eq_true rfl) dJ4_init_19 (fun H locs hP hD hS => ?_)
  have hP : va_P D vwCl [(q_x0, .inr (11, [.ref q9, .int (nI 0), .int x0_maybeLatin1, .int x0_count])), (q9, .inl (dA 3, N10, .inl (fun _ => (0 : Int32))))] H := hP
  have hD : va_D A [(q_x0, .inr (11, [.ref q9, .int (nI 0), .int x0_maybeLatin1, .int x0_count])), (q9, .inl (dA 3, N10, .inl (fun _ => (0 : Int32))))] := hD
  refine lv_goto (tgt := 38) hx hb dJ4_init_22 (by decide) ?_
  refine W.widen (k := bc0) (n := bs0) (by omega) (by omega) ?_
  exact W.vret hx hb hr (fun t ht hW => ⟨⟨(q9, N10, (fun _ => (0 : Int32))), rfl, hw, by rw [ht]; exact hP.sub [0, 1] rfl, va_K.moved hW.alike hK, hD.sub [0, 1] (by decide) rfl⟩, hS.F ht⟩) hS.2.2 dJ4_init_38
def w_J5_init (post : Nat → (Nat → Int32) → Prop) (bc bs : Nat)  : Prop :=
  (∃ b11 b12 : Nat, b11 ≤ bc ∧ b12 ≤ bs ∧ w_J4_init (fun o9 o10 => post o9 o10) b11 b12 (nI 16))
theorem hd_J4_init : yJ4_init.cls ≠ "java/lang/invoke/MethodHandle" ∧ yJ4_init.cls ≠ "java/lang/invoke/VarHandle" ∧ (parseMethodDescriptor yJ4_init.desc).map (fun d => d.parameters.length) = some 1 := by decide +kernel
def rm_J5_init (bc0 bs0 : Nat) : Room := { frames := 2, cells := bc0, slots := bs0, locals := 41 }
set_option maxHeartbeats 4000000 in
set_option maxRecDepth 100000 in
theorem met_J5_init (l : Launch) (D : va_G) (dA : Nat → ClassId) (cx : CXt) (sz : Nat) (bc0 bs0 : Nat) (q_x0 : Nat) (x0_coder : Int32) (x0_maybeLatin1 : Int32) (x0_count : Int32) (post : Nat → (Nat → Int32) → Prop) (hw : w_J5_init post bc0 bs0 ) : Met l yJ5_init (ws_ yJ5_init cJ5_init 1 none) (rm_J5_init bc0 bs0) (va_Pc [.ref q_x0] (wrC D dA cx sz [(q_x0, .inr (11, [.null, .int x0_coder, .int x0_maybeLatin1, .int x0_count]))])) (va_Qv (fun (u : Nat × Nat × (Nat → Int32)) => post u.2.1 u.2.2) (fun (u : Nat × Nat × (Nat → Int32)) t => wrQ D dA (va_A [(q_x0, .inr (11, [.null, .int x0_coder, .int x0_maybeLatin1, .int x0_count]))] sz) [(q_x0, .inr (11, [.ref u.1, .int (nI 0), .int x0_maybeLatin1, .int x0_count])), (u.1, .inl (dA 3, u.2.1, .inl u.2.2))] t) (va_A [(q_x0, .inr (11, [.null, .int x0_coder, .int x0_maybeLatin1, .int x0_count]))] sz)) bc0 bs0 (va_A [(q_x0, .inr (11, [.null, .int x0_coder, .int x0_maybeLatin1, .int x0_count]))] sz) := by
  refine Met.ofW (cc := cJ5_init) (maxL := 1) (ret := none) (by decide) rfl ?_
  intro p e s m args below meth c s₁ B hml hv
  obtain ⟨rfl, hsz, hP, hK, hD0, hC⟩ := hv
  have hx := B.exec
  have hb := B.bytes
  have hr := B.returns
  have hts := atoms_spec (ws := (ws_ yJ5_init cJ5_init 1 none)) B.pre
  have hts : ∀ w ∈ lw_all, w.before _ s = true := fun w h => hts w (List.mem_cons_of_mem _ h)
  have hown : s.vm.findClass RJ5 = some m.cls := findClass_of_methodNamed B.named
  have hlocks := B.notSynchronized
  have hSx : CallFix p m c cJ5_init 1 s _ lw_all RJ5 := ⟨hx, hb, hml, hown, hts⟩
  have hin : meth.name = "<init>" := (name_of_methodNamed B.named B.method).1
  subst hsz
  have hD := hD0.self (sz := s.heap.size)
  generalize hAe : va_A [(q_x0, .inr (11, [.null, .int x0_coder, .int x0_maybeLatin1, .int x0_count]))] s.heap.size = A at hD hC ⊢
  have hA : ∀ q : Nat, s.heap.size ≤ q → A q := fun q h => by rw [← hAe]; exact Or.inr h
  have hS : va_S A s.heap s.heap [] := va_S.rf
  have hbud : 0 + bc0 ≤ bc0 ∧ 0 + bs0 ≤ bs0 := by omega
  have hNW := hC.1
  have hl := lv_entry ([.ref q_x0]) (n := 1) (Nat.le_of_ble_eq_true rfl)
  rw [lg_entry_eq]
  generalize (lg_sl ([.ref q_x0]) ++ List.replicate (1 - (lg_sl ([.ref q_x0])).length) Slot.unset).toArray = ls at hl ⊢
  have hl : lv_has ls 1 [(0, .ref q_x0)] := hl
  refine lv_aload_n hx hb dJ5_init_0 rfl (lv_at hl 0 rfl) ?_
  refine lv_bipush (v := (nI 16)) hx hb dJ5_init_1 (by decide) ?_
  obtain ⟨b11, b12, h13, h14, hw⟩ := hw
  refine k_wv (wn := fun (u : Nat × Nat × (Nat → Int32)) => [(q_x0, .inr (11, [.ref u.1, .int (nI 0), .int x0_maybeLatin1, .int x0_count])), (u.1, .inl (dA 3, u.2.1, .inl u.2.2))]) (wr := []) (kc_wI (As := [.int (nI 16)]) (rest := []) hSx (met_J4_init l D dA cx _ b11 b12 q_x0 x0_coder x0_maybeLatin1 x0_count (nI 16) _ hw) q216 q217 q73 q218 rfl hd_J4_init ⟨Nat.le_of_ble_eq_true rfl, Nat.le_of_ble_eq_true rfl⟩ rfl rfl hP hK hD hS hA (hC.kept hS.2.1) [0] rfl (by decide) rfl rfl hl.1 (Nat.le_of_ble_eq_true rfl) rfl dJ5_init_3 ⟨(show 0 + b11 ≤ bc0 by omega), (show 0 + b12 ≤ bs0 by omega)⟩) hP hD hS hA [0] [] [0, 1] rfl rfl (by decide) (by decide) (by decide) (fun _ => rfl) (fun _ => rfl) (fun u H locs hw _ hP hD hS => ?_)
  obtain ⟨q8, o9, o10⟩ := u
  have hP : va_P D vwCl [(q_x0, .inr (11, [.ref q8, .int (nI 0), .int x0_maybeLatin1, .int x0_count])), (q8, .inl (dA 3, o9, .inl o10))] H := hP
  have hD : va_D A [(q_x0, .inr (11, [.ref q8, .int (nI 0), .int x0_maybeLatin1, .int x0_count])), (q8, .inl (dA 3, o9, .inl o10))] := hD
  have hbud : (0 + b11) + (bc0 - b11) ≤ bc0 ∧ (0 + b12) + (bs0 - b12) ≤ bs0 := by omega
  refine W.widen (k := bc0) (n := bs0) (by omega) (by omega) ?_
  exact W.vret hx hb hr (fun t ht hW => ⟨⟨(q8, o9, o10), rfl, hw, by rw [ht]; exact hP.sub [0, 1] rfl, va_K.moved hW.alike hK, hD.sub [0, 1] (by decide) rfl⟩, hS.F ht⟩) hS.2.2 dJ5_init_6
def w_J4_setLength_76 (post : Int32 → Nat → (Nat → Int32) → Prop)   (bc bs : Nat) (c0_2 : Int32) (n1 : Nat) (a1 : (Nat → Int32)) : Prop :=
  post c0_2 n1 a1
def w_J4_setLength (post : Int32 → Nat → (Nat → Int32) → Prop) (bc bs : Nat) (n_x0_value : Nat) (a_x0_value : (Nat → Int32)) (x0_maybeLatin1 : Int32) (x0_count : Int32) (x1 : Int32) : Prop :=
  ((0 ≤ x1 → (∃ b31 b32 : Nat, b31 ≤ bc ∧ b32 ≤ bs ∧ w_J4_ensureCapacityInternal (fun o29 o30 => ((x1 ≤ x0_count → ((x0_count ≤ x1 → (w_J4_setLength_76 post) (bc - b31) (bs - b32) x0_maybeLatin1 o29 o30) ∧ (¬ x0_count ≤ x1 → (w_J4_setLength_76 post) (bc - b31) (bs - b32) (nI 1) o29 o30))) ∧ (¬ x1 ≤ x0_count → w_J4_isLatin1 (fun r37 => ((r37 = 0 → False) ∧ (¬ r37 = 0 → False))) ))) b31 b32 n_x0_value a_x0_value x1)) ∧ (¬ 0 ≤ x1 → False))
def rm_J4_setLength (bc0 bs0 : Nat) : Room := { frames := 4, cells := bc0, slots := bs0, locals := 112 }
set_option maxHeartbeats 4000000 in
set_option maxRecDepth 100000 in
theorem met_J4_setLength (l : Launch) (D : va_G) (dA : Nat → ClassId) (cx : CXt) (sz : Nat) (bc0 bs0 : Nat) (q_x0 : Nat) (q_x0_value : Nat) (n_x0_value : Nat) (a_x0_value : (Nat → Int32)) (x0_maybeLatin1 : Int32) (x0_count : Int32) (x1 : Int32) (post : Int32 → Nat → (Nat → Int32) → Prop) (hw : w_J4_setLength post bc0 bs0 n_x0_value a_x0_value x0_maybeLatin1 x0_count x1) : Met l yJ4_setLength (ws_ yJ4_setLength cJ4_setLength 2 none) (rm_J4_setLength bc0 bs0) (va_Pc [.ref q_x0, .int x1] (wrC D dA cx sz [(q_x0, .inr (11, [.ref q_x0_value, .int (nI 0), .int x0_maybeLatin1, .int x0_count])), (q_x0_value, .inl (dA 3, n_x0_value, .inl a_x0_value))])) (va_Qv (fun (u : Int32 × Nat × Nat × (Nat → Int32)) => post u.1 u.2.2.1 u.2.2.2) (fun (u : Int32 × Nat × Nat × (Nat → Int32)) t => wrQ D dA (va_A [(q_x0, .inr (11, [.ref q_x0_value, .int (nI 0), .int x0_maybeLatin1, .int x0_count])), (q_x0_value, .inl (dA 3, n_x0_value, .inl a_x0_value))] sz) [(q_x0, .inr (11, [.ref u.2.1, .int (nI 0), .int u.1, .int x1])), (u.2.1, .inl (dA 3, u.2.2.1, .inl u.2.2.2))] t) (va_A [(q_x0, .inr (11, [.ref q_x0_value, .int (nI 0), .int x0_maybeLatin1, .int x0_count])), (q_x0_value, .inl (dA 3, n_x0_value, .inl a_x0_value))] sz)) bc0 bs0 (va_A [(q_x0, .inr (11, [.ref q_x0_value, .int (nI 0), .int x0_maybeLatin1, .int x0_count])), (q_x0_value, .inl (dA 3, n_x0_value, .inl a_x0_value))] sz) := by
  refine Met.ofW (cc := cJ4_setLength) (maxL := 2) (ret := none) (by decide) rfl ?_
  intro p e s m args below meth c s₁ B hml hv
  obtain ⟨rfl, hsz, hP, hK, hD0, hC⟩ := hv
  have hx := B.exec
  have hb := B.bytes
  have hr := B.returns
  have hts := atoms_spec (ws := (ws_ yJ4_setLength cJ4_setLength 2 none)) B.pre
  have hts : ∀ w ∈ lw_all, w.before _ s = true := fun w h => hts w (List.mem_cons_of_mem _ h)
  have hown : s.vm.findClass RJ4 = some m.cls := findClass_of_methodNamed B.named
  have hlocks := B.notSynchronized
  have hSx : CallFix p m c cJ4_setLength 2 s _ lw_all RJ4 := ⟨hx, hb, hml, hown, hts⟩
  subst hsz
  have hD := hD0.self (sz := s.heap.size)
  generalize hAe : va_A [(q_x0, .inr (11, [.ref q_x0_value, .int (nI 0), .int x0_maybeLatin1, .int x0_count])), (q_x0_value, .inl (dA 3, n_x0_value, .inl a_x0_value))] s.heap.size = A at hD hC ⊢
  have hA : ∀ q : Nat, s.heap.size ≤ q → A q := fun q h => by rw [← hAe]; exact Or.inr h
  have hS : va_S A s.heap s.heap [] := va_S.rf
  have hbud : 0 + bc0 ≤ bc0 ∧ 0 + bs0 ≤ bs0 := by omega
  have hNW := hC.1
  have hl := lv_entry ([.ref q_x0, .int x1]) (n := 2) (Nat.le_of_ble_eq_true rfl)
  rw [lg_entry_eq]
  generalize (lg_sl ([.ref q_x0, .int x1]) ++ List.replicate (2 - (lg_sl ([.ref q_x0, .int x1])).length) Slot.unset).toArray = ls at hl ⊢
  have hl : lv_has ls 2 [(0, .ref q_x0), (1, .int x1)] := hl
  have hL76 : ∀  (bc bs kc ks : Nat) (c0_2 : Int32) (ad1 : Nat) (n1 : Nat) (a1 : (Nat → Int32)) (H : Heap) (locs : List Loc) (ls : Array Slot), kc + bc ≤ bc0 ∧ ks + bs ≤ bs0 → va_P D vwCl [(q_x0, .inr (11, [.ref ad1, .int (nI 0), .int c0_2, .int x0_count])), (ad1, .inl (dA 3, n1, .inl a1))] H → va_D A [(q_x0, .inr (11, [.ref ad1, .int (nI 0), .int c0_2, .int x0_count])), (ad1, .inl (dA 3, n1, .inl a1))] → va_S A s.heap H locs → lv_has ls 2 [(0, .ref q_x0), (1, .int x1)] → (w_J4_setLength_76 post) bc bs c0_2 n1 a1 → W p l e (headSpec (ws_ yJ4_setLength cJ4_setLength 2 none) (rm_J4_setLength bc0 bs0)).room s m ([.ref q_x0, .int x1] : List Value).toArray below meth c H locs kc ks (MQ below (va_Qv (fun (u : Int32 × Nat × Nat × (Nat → Int32)) => post u.1 u.2.2.1 u.2.2.2) (fun (u : Int32 × Nat × Nat × (Nat → Int32)) t => wrQ D dA A [(q_x0, .inr (11, [.ref u.2.1, .int (nI 0), .int u.1, .int x1])), (u.2.1, .inl (dA 3, u.2.2.1, .inl u.2.2.2))] t) A) ([.ref q_x0, .int x1] : List Value).toArray s bc0 bs0 A) (F0 m 76 ls []) := by
      intro  bc bs kc ks c0_2 ad1 n1 a1 H locs ls hbud hP hD hS hl hw
      refine lv_aload_n hx hb dJ4_setLength_76 rfl (lv_at hl 0 rfl) ?_
      refine lv_iload_n hx hb dJ4_setLength_77 rfl (lv_at hl 1 rfl) ?_
      refine va_put (D := D) (ci := 11) (v := .int x1) (ty := (.int)) (C := RJ5) (T := TJ5) (N := 4) hx hb hts in_J5 tyJ5 tyJ5_ok nmJ5 hown hK hP hD hS 0 rfl rfl 3 (by decide) (hts _ q233) (fun _ h9 => h9) rfl (by decide +kernel) rfl rfl (Nat.le_of_ble_eq_true rfl) dJ4_setLength_78 (fun H locs hP hD hS => ?_)
      have hP : va_P D vwCl [(q_x0, .inr (11, [.ref ad1, .int (nI 0), .int c0_2, .int x1])), (ad1, .inl (dA 3, n1, .inl a1))] H := hP
      have hD : va_D A [(q_x0, .inr (11, [.ref ad1, .int (nI 0), .int c0_2, .int x1])), (ad1, .inl (dA 3, n1, .inl a1))] := hD
      refine W.widen (k := bc0) (n := bs0) (by omega) (by omega) ?_
      exact W.vret hx hb hr (fun t ht hW => ⟨⟨(c0_2, ad1, n1, a1), rfl, hw, by rw [ht]; exact hP.sub [0, 1] rfl, va_K.moved hW.alike hK, hD.sub [0, 1] (by decide) rfl⟩, hS.F ht⟩) hS.2.2 dJ4_setLength_81
  refine lv_iload_n hx hb dJ4_setLength_0 rfl (lv_at hl 1 rfl) ?_
  refine lv_if_ge (tgt := 13) hx hb dJ4_setLength_1 (by decide) (fun c27 => ?_) (fun c27 => ?_)
  · have hw := hw.1 c27
    refine lv_aload_n hx hb dJ4_setLength_13 rfl (lv_at hl 0 rfl) ?_
    refine lv_iload_n hx hb dJ4_setLength_14 rfl (lv_at hl 1 rfl) ?_
    obtain ⟨b31, b32, h33, h34, hw⟩ := hw
    refine k_wv (wn := fun (u : Nat × Nat × (Nat → Int32)) => [(q_x0, .inr (11, [.ref u.1, .int (nI 0), .int x0_maybeLatin1, .int x0_count])), (u.1, .inl (dA 3, u.2.1, .inl u.2.2))]) (wr := []) (kc_wU (As := [.int x1]) (rest := []) hSx (met_J4_ensureCapacityInternal l D dA cx _ b31 b32 q_x0 q_x0_value n_x0_value a_x0_value x0_maybeLatin1 x0_count x1 _ hw) gUJ4_100_J5 rfl hd_J4_ensureCapacityInternal ⟨Nat.le_of_ble_eq_true rfl, Nat.le_of_ble_eq_true rfl⟩ rfl rfl hP hK hD hS hA (hC.kept hS.2.1) [0, 1] rfl (by decide) rfl 0 rfl rfl rfl rfl hl.1 (Nat.le_of_ble_eq_true rfl) rfl dJ4_setLength_15 ⟨(show 0 + b31 ≤ bc0 by omega), (show 0 + b32 ≤ bs0 by omega)⟩) hP hD hS hA [0, 1] [] [0, 1] rfl rfl (by decide) (by decide) (by decide) (fun _ => rfl) (fun _ => rfl) (fun u H locs hw _ hP hD hS => ?_)
    obtain ⟨q28, o29, o30⟩ := u
    have hP : va_P D vwCl [(q_x0, .inr (11, [.ref q28, .int (nI 0), .int x0_maybeLatin1, .int x0_count])), (q28, .inl (dA 3, o29, .inl o30))] H := hP
    have hD : va_D A [(q_x0, .inr (11, [.ref q28, .int (nI 0), .int x0_maybeLatin1, .int x0_count])), (q28, .inl (dA 3, o29, .inl o30))] := hD
    have hbud : (0 + b31) + (bc0 - b31) ≤ bc0 ∧ (0 + b32) + (bs0 - b32) ≤ bs0 := by omega
    refine lv_aload_n hx hb dJ4_setLength_18 rfl (lv_at hl 0 rfl) ?_
    refine va_get (D := D) (ci := 11) (v := .int x0_count) (C := RJ5) (T := TJ5) (N := 4) hx hb hts in_J5 hown hK hP 0 rfl rfl 3 (by decide) (hts _ q233) (fun _ h9 => h9) rfl dJ4_setLength_19 ?_
    refine lv_iload_n hx hb dJ4_setLength_22 rfl (lv_at hl 1 rfl) ?_
    refine lv_icmp_ge (tgt := 63) hx hb dJ4_setLength_23 (by decide) (fun c35 => ?_) (fun c35 => ?_)
    · have hw := hw.1 c35
      refine lv_aload_n hx hb dJ4_setLength_63 rfl (lv_at hl 0 rfl) ?_
      refine va_get (D := D) (ci := 11) (v := .int x0_count) (C := RJ5) (T := TJ5) (N := 4) hx hb hts in_J5 hown hK hP 0 rfl rfl 3 (by decide) (hts _ q233) (fun _ h9 => h9) rfl dJ4_setLength_64 ?_
      refine lv_iload_n hx hb dJ4_setLength_67 rfl (lv_at hl 1 rfl) ?_
      refine lv_icmp_le (tgt := 76) hx hb dJ4_setLength_68 (by decide) (fun c36 => ?_) (fun c36 => ?_)
      · have hw := hw.1 c36
        exact hL76  (bc0 - b31) (bs0 - b32) (0 + b31) (0 + b32) x0_maybeLatin1 q28 o29 o30 _ _ _ hbud (hP.sub [0, 1] rfl) (hD.sub [0, 1] (by decide) rfl) hS (lv_sub hl [0, 1] rfl) hw
      · have hw := hw.2 c36
        refine lv_aload_n hx hb dJ4_setLength_71 rfl (lv_at hl 0 rfl) ?_
        refine lv_iconst (v := (nI 1)) hx hb dJ4_setLength_72 (by decide) ?_
        refine va_put (D := D) (ci := 11) (v := .int (nI 1)) (ty := (.boolean)) (C := RJ5) (T := TJ5) (N := 4) hx hb hts in_J5 tyJ5 tyJ5_ok nmJ5 hown hK hP hD hS 0 rfl rfl 2 (by decide) (hts _ q231) (fun _ h9 => h9) rfl (by decide +kernel) rfl rfl (Nat.le_of_ble_eq_true rfl) dJ4_setLength_73 (fun H locs hP hD hS => ?_)
        have hP : va_P D vwCl [(q_x0, .inr (11, [.ref q28, .int (nI 0), .int (nI 1), .int x0_count])), (q28, .inl (dA 3, o29, .inl o30))] H := hP
        have hD : va_D A [(q_x0, .inr (11, [.ref q28, .int (nI 0), .int (nI 1), .int x0_count])), (q28, .inl (dA 3, o29, .inl o30))] := hD
        exact hL76  (bc0 - b31) (bs0 - b32) (0 + b31) (0 + b32) (nI 1) q28 o29 o30 _ _ _ hbud (hP.sub [0, 1] rfl) (hD.sub [0, 1] (by decide) rfl) hS (lv_sub hl [0, 1] rfl) hw
    · have hw := hw.2 c35
      refine lv_aload_n hx hb dJ4_setLength_26 rfl (lv_at hl 0 rfl) ?_
      refine k_ri (kc_rU (As := []) (rest := []) hSx (met_J4_isLatin1 l D dA cx q_x0 q28 o29 o30 x0_maybeLatin1 x0_count _ hw) gUJ4_83_J5 rfl hd_J4_isLatin1 ⟨Nat.le_of_ble_eq_true rfl, Nat.le_of_ble_eq_true rfl⟩ rfl rfl hP hK (hC.kept hS.2.1) [0, 1] rfl 0 rfl rfl rfl rfl hl.1 (Nat.le_of_ble_eq_true rfl) rfl dJ4_setLength_27 ⟨(show (0 + b31) + 0 ≤ bc0 by omega), (show (0 + b32) + 0 ≤ bs0 by omega)⟩) (fun r37 hw => ?_)
      refine lv_if_eq (tgt := 48) hx hb dJ4_setLength_30 (by decide) (fun c38 => ?_) (fun c38 => ?_)
      · have hw := hw.1 c38
        refine lv_aload_n hx hb dJ4_setLength_48 rfl (lv_at hl 0 rfl) ?_
        refine va_get (D := D) (ci := 11) (v := .ref q28) (C := RJ5) (T := TJ5) (N := 4) hx hb hts in_J5 hown hK hP 0 rfl rfl 0 (by decide) (hts _ q229) (fun _ h9 => h9) rfl dJ4_setLength_49 ?_
        refine lv_aload_n hx hb dJ4_setLength_52 rfl (lv_at hl 0 rfl) ?_
        refine va_get (D := D) (ci := 11) (v := .int x0_count) (C := RJ5) (T := TJ5) (N := 4) hx hb hts in_J5 hown hK hP 0 rfl rfl 3 (by decide) (hts _ q233) (fun _ h9 => h9) rfl dJ4_setLength_53 ?_
        refine lv_iload_n hx hb dJ4_setLength_56 rfl (lv_at hl 1 rfl) ?_
        exact (show False from hw).elim
      · have hw := hw.2 c38
        refine lv_aload_n hx hb dJ4_setLength_33 rfl (lv_at hl 0 rfl) ?_
        refine va_get (D := D) (ci := 11) (v := .ref q28) (C := RJ5) (T := TJ5) (N := 4) hx hb hts in_J5 hown hK hP 0 rfl rfl 0 (by decide) (hts _ q229) (fun _ h9 => h9) rfl dJ4_setLength_34 ?_
        refine lv_aload_n hx hb dJ4_setLength_37 rfl (lv_at hl 0 rfl) ?_
        refine va_get (D := D) (ci := 11) (v := .int x0_count) (C := RJ5) (T := TJ5) (N := 4) hx hb hts in_J5 hown hK hP 0 rfl rfl 3 (by decide) (hts _ q233) (fun _ h9 => h9) rfl dJ4_setLength_38 ?_
        refine lv_iload_n hx hb dJ4_setLength_41 rfl (lv_at hl 1 rfl) ?_
        exact (show False from hw).elim
  · have hw := hw.2 c27
    exact (show False from hw).elim
def w_J5_setLength (post : Int32 → Nat → (Nat → Int32) → Prop) (bc bs : Nat) (n_x0_value : Nat) (a_x0_value : (Nat → Int32)) (x0_maybeLatin1 : Int32) (x0_count : Int32) (x1 : Int32) : Prop :=
  (∃ b13 b14 : Nat, b13 ≤ bc ∧ b14 ≤ bs ∧ w_J4_setLength (fun o9 o11 o12 => post o9 o11 o12) b13 b14 n_x0_value a_x0_value x0_maybeLatin1 x0_count x1)
theorem hd_J4_setLength : yJ4_setLength.cls ≠ "java/lang/invoke/MethodHandle" ∧ yJ4_setLength.cls ≠ "java/lang/invoke/VarHandle" ∧ (parseMethodDescriptor yJ4_setLength.desc).map (fun d => d.parameters.length) = some 1 := by decide +kernel
theorem gSJ5_333 : GoodIn lw_all (va_wsSU RJ5 333 yJ4_setLength (ws_ yJ4_setLength cJ4_setLength 2 none)) := lw_app (lw_in5 q457 q2173 q242 q458 q73) (lw_meth q459)
def rm_J5_setLength (bc0 bs0 : Nat) : Room := { frames := 5, cells := bc0, slots := bs0, locals := 133 }
set_option maxHeartbeats 4000000 in
set_option maxRecDepth 100000 in
theorem met_J5_setLength (l : Launch) (D : va_G) (dA : Nat → ClassId) (cx : CXt) (sz : Nat) (bc0 bs0 : Nat) (q_x0 : Nat) (q_x0_value : Nat) (n_x0_value : Nat) (a_x0_value : (Nat → Int32)) (x0_maybeLatin1 : Int32) (x0_count : Int32) (x1 : Int32) (post : Int32 → Nat → (Nat → Int32) → Prop) (hw : w_J5_setLength post bc0 bs0 n_x0_value a_x0_value x0_maybeLatin1 x0_count x1) : Met l yJ5_setLength (ws_ yJ5_setLength cJ5_setLength 2 none) (rm_J5_setLength bc0 bs0) (va_Pc [.ref q_x0, .int x1] (wrC D dA cx sz [(q_x0, .inr (11, [.ref q_x0_value, .int (nI 0), .int x0_maybeLatin1, .int x0_count])), (q_x0_value, .inl (dA 3, n_x0_value, .inl a_x0_value))])) (va_Qv (fun (u : Int32 × Nat × Nat × (Nat → Int32)) => post u.1 u.2.2.1 u.2.2.2) (fun (u : Int32 × Nat × Nat × (Nat → Int32)) t => wrQ D dA (va_A [(q_x0, .inr (11, [.ref q_x0_value, .int (nI 0), .int x0_maybeLatin1, .int x0_count])), (q_x0_value, .inl (dA 3, n_x0_value, .inl a_x0_value))] sz) [(q_x0, .inr (11, [.ref u.2.1, .int (nI 0), .int u.1, .int x1])), (u.2.1, .inl (dA 3, u.2.2.1, .inl u.2.2.2))] t) (va_A [(q_x0, .inr (11, [.ref q_x0_value, .int (nI 0), .int x0_maybeLatin1, .int x0_count])), (q_x0_value, .inl (dA 3, n_x0_value, .inl a_x0_value))] sz)) bc0 bs0 (va_A [(q_x0, .inr (11, [.ref q_x0_value, .int (nI 0), .int x0_maybeLatin1, .int x0_count])), (q_x0_value, .inl (dA 3, n_x0_value, .inl a_x0_value))] sz) := by
  refine Met.ofW (cc := cJ5_setLength) (maxL := 2) (ret := none) (by decide) rfl ?_
  intro p e s m args below meth c s₁ B hml hv
  obtain ⟨rfl, hsz, hP, hK, hD0, hC⟩ := hv
  have hx := B.exec
  have hb := B.bytes
  have hr := B.returns
  have hts := atoms_spec (ws := (ws_ yJ5_setLength cJ5_setLength 2 none)) B.pre
  have hts : ∀ w ∈ lw_all, w.before _ s = true := fun w h => hts w (List.mem_cons_of_mem _ h)
  have hown : s.vm.findClass RJ5 = some m.cls := findClass_of_methodNamed B.named
  have hlocks := B.notSynchronized
  have hSx : CallFix p m c cJ5_setLength 2 s _ lw_all RJ5 := ⟨hx, hb, hml, hown, hts⟩
  subst hsz
  have hD := hD0.self (sz := s.heap.size)
  generalize hAe : va_A [(q_x0, .inr (11, [.ref q_x0_value, .int (nI 0), .int x0_maybeLatin1, .int x0_count])), (q_x0_value, .inl (dA 3, n_x0_value, .inl a_x0_value))] s.heap.size = A at hD hC ⊢
  have hA : ∀ q : Nat, s.heap.size ≤ q → A q := fun q h => by rw [← hAe]; exact Or.inr h
  have hS : va_S A s.heap s.heap [] := va_S.rf
  have hbud : 0 + bc0 ≤ bc0 ∧ 0 + bs0 ≤ bs0 := by omega
  have hNW := hC.1
  have hl := lv_entry ([.ref q_x0, .int x1]) (n := 2) (Nat.le_of_ble_eq_true rfl)
  rw [lg_entry_eq]
  generalize (lg_sl ([.ref q_x0, .int x1]) ++ List.replicate (2 - (lg_sl ([.ref q_x0, .int x1])).length) Slot.unset).toArray = ls at hl ⊢
  have hl : lv_has ls 2 [(0, .ref q_x0), (1, .int x1)] := hl
  refine lv_aload_n hx hb dJ5_setLength_0 rfl (lv_at hl 0 rfl) ?_
  refine lv_iload_n hx hb dJ5_setLength_1 rfl (lv_at hl 1 rfl) ?_
  obtain ⟨b13, b14, h15, h16, hw⟩ := hw
  refine k_wv (wn := fun (u : Int32 × Nat × Nat × (Nat → Int32)) => [(q_x0, .inr (11, [.ref u.2.1, .int (nI 0), .int u.1, .int x1])), (u.2.1, .inl (dA 3, u.2.2.1, .inl u.2.2.2))]) (wr := []) (kc_wSU (As := [.int x1]) (rest := []) hSx (met_J4_setLength l D dA cx _ b13 b14 q_x0 q_x0_value n_x0_value a_x0_value x0_maybeLatin1 x0_count x1 _ hw) gSJ5_333 ⟨by decide, hd_J4_setLength.2.2⟩ ⟨Nat.le_of_ble_eq_true rfl, Nat.le_of_ble_eq_true rfl⟩ rfl rfl hP hK hD hS hA (hC.kept hS.2.1) [0, 1] rfl (by decide) rfl 0 rfl rfl rfl rfl hl.1 (Nat.le_of_ble_eq_true rfl) rfl dJ5_setLength_2 ⟨(show 0 + b13 ≤ bc0 by omega), (show 0 + b14 ≤ bs0 by omega)⟩) hP hD hS hA [0, 1] [] [0, 1] rfl rfl (by decide) (by decide) (by decide) (fun _ => rfl) (fun _ => rfl) (fun u H locs hw _ hP hD hS => ?_)
  obtain ⟨o9, q10, o11, o12⟩ := u
  have hP : va_P D vwCl [(q_x0, .inr (11, [.ref q10, .int (nI 0), .int o9, .int x1])), (q10, .inl (dA 3, o11, .inl o12))] H := hP
  have hD : va_D A [(q_x0, .inr (11, [.ref q10, .int (nI 0), .int o9, .int x1])), (q10, .inl (dA 3, o11, .inl o12))] := hD
  have hbud : (0 + b13) + (bc0 - b13) ≤ bc0 ∧ (0 + b14) + (bs0 - b14) ≤ bs0 := by omega
  refine W.widen (k := bc0) (n := bs0) (by omega) (by omega) ?_
  exact W.vret hx hb hr (fun t ht hW => ⟨⟨(o9, q10, o11, o12), rfl, hw, by rw [ht]; exact hP.sub [0, 1] rfl, va_K.moved hW.alike hK, hD.sub [0, 1] (by decide) rfl⟩, hS.F ht⟩) hS.2.2 dJ5_setLength_5
