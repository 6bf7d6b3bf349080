/-! PAGE: what its methods compute, its contracts, walked (printed by a program of wip/D-56275w/gen) -/
def w_X1_inRange (post : Int32 → Prop) (x0 : Int32) (x1 : Int32) (x2 : Int32) : Prop :=
  ((x0 < x1 → post (nI 0)) ∧ (¬ x0 < x1 → ((x2 < x0 → post (nI 0)) ∧ (¬ x2 < x0 → post (nI 1)))))
def rm_X1_inRange : Room := { frames := 0, cells := 0, slots := 0, locals := 0 }
set_option maxHeartbeats 4000000 in
set_option maxRecDepth 100000 in
theorem met_X1_inRange (l : Launch) (x0 : Int32) (x1 : Int32) (x2 : Int32) (post : Int32 → Prop) (hw : w_X1_inRange post x0 x1 x2) : Met l yX1_inRange (ws_ yX1_inRange cX1_inRange 3 (some .boolean)) rm_X1_inRange (va_Pc [.int x0, .int x1, .int x2] (fun _ => True)) (vp_Si (fun r => post r)) 0 0 (fun _ => False) := by
  refine Met.ofW (cc := cX1_inRange) (maxL := 3) (ret := (some .boolean)) (by decide) rfl ?_
  intro p e s m args below meth c s₁ B hml hv
  obtain ⟨rfl, -⟩ := hv
  have hx := B.exec
  have hb := B.bytes
  have hr := B.returns
  have hts := atoms_spec (ws := (ws_ yX1_inRange cX1_inRange 3 (some .boolean))) B.pre
  have hts : ∀ w ∈ lw_all, w.before _ s = true := fun w h => hts w (List.mem_cons_of_mem _ h)
  have hown : s.vm.findClass RX1 = some m.cls := findClass_of_methodNamed B.named
  have hlocks := B.notSynchronized
  have hSx : CallFix p m c cX1_inRange 3 s _ lw_all RX1 := ⟨hx, hb, hml, hown, hts⟩
  have hl := lv_entry ([.int x0, .int x1, .int x2]) (n := 3) (Nat.le_of_ble_eq_true rfl)
  rw [lg_entry_eq]
  generalize (lg_sl ([.int x0, .int x1, .int x2]) ++ List.replicate (3 - (lg_sl ([.int x0, .int x1, .int x2])).length) Slot.unset).toArray = ls at hl ⊢
  have hl : lv_has ls 3 [(0, .int x0), (1, .int x1), (2, .int x2)] := hl
  refine lv_iload_n hx hb dX1_inRange_0 rfl (lv_at hl 0 rfl) ?_
  refine lv_iload_n hx hb dX1_inRange_1 rfl (lv_at hl 1 rfl) ?_
  refine lv_icmp_lt (tgt := 14) hx hb dX1_inRange_2 (by decide) (fun c3 => ?_) (fun c3 => ?_)
  · have hw := hw.1 c3
    refine lv_iconst (v := (nI 0)) hx hb dX1_inRange_14 (by decide) ?_
    exact W.zret (v := (nI 0)) hx hb hr rfl (fun t ht hW => ⟨(nI 0), rfl, hw, ht⟩) (fun _ h => by cases h) dX1_inRange_15
  · have hw := hw.2 c3
    refine lv_iload_n hx hb dX1_inRange_5 rfl (lv_at hl 0 rfl) ?_
    refine lv_iload_n hx hb dX1_inRange_6 rfl (lv_at hl 2 rfl) ?_
    refine lv_icmp_gt (tgt := 14) hx hb dX1_inRange_7 (by decide) (fun c4 => ?_) (fun c4 => ?_)
    · have hw := hw.1 c4
      refine lv_iconst (v := (nI 0)) hx hb dX1_inRange_14 (by decide) ?_
      exact W.zret (v := (nI 0)) hx hb hr rfl (fun t ht hW => ⟨(nI 0), rfl, hw, ht⟩) (fun _ h => by cases h) dX1_inRange_15
    · have hw := hw.2 c4
      refine lv_iconst (v := (nI 1)) hx hb dX1_inRange_10 (by decide) ?_
      refine lv_goto (tgt := 15) hx hb dX1_inRange_11 (by decide) ?_
      exact W.zret (v := (nI 1)) hx hb hr rfl (fun t ht hW => ⟨(nI 1), rfl, hw, ht⟩) (fun _ h => by cases h) dX1_inRange_15
def w_X1_isIn (post : Int32 → Prop) (x0 : Int32) (x1 : Int32) : Prop :=
  ((((x0 >>> (x1 &&& 31)) &&& (nI 1)) = (nI 1) → post (nI 1)) ∧ (¬ ((x0 >>> (x1 &&& 31)) &&& (nI 1)) = (nI 1) → post (nI 0)))
def rm_X1_isIn : Room := { frames := 0, cells := 0, slots := 0, locals := 0 }
set_option maxHeartbeats 4000000 in
set_option maxRecDepth 100000 in
theorem met_X1_isIn (l : Launch) (x0 : Int32) (x1 : Int32) (post : Int32 → Prop) (hw : w_X1_isIn post x0 x1) : Met l yX1_isIn (ws_ yX1_isIn cX1_isIn 2 (some .boolean)) rm_X1_isIn (va_Pc [.int x0, .int x1] (fun _ => True)) (vp_Si (fun r => post r)) 0 0 (fun _ => False) := by
  refine Met.ofW (cc := cX1_isIn) (maxL := 2) (ret := (some .boolean)) (by decide) rfl ?_
  intro p e s m args below meth c s₁ B hml hv
  obtain ⟨rfl, -⟩ := hv
  have hx := B.exec
  have hb := B.bytes
  have hr := B.returns
  have hts := atoms_spec (ws := (ws_ yX1_isIn cX1_isIn 2 (some .boolean))) B.pre
  have hts : ∀ w ∈ lw_all, w.before _ s = true := fun w h => hts w (List.mem_cons_of_mem _ h)
  have hown : s.vm.findClass RX1 = some m.cls := findClass_of_methodNamed B.named
  have hlocks := B.notSynchronized
  have hSx : CallFix p m c cX1_isIn 2 s _ lw_all RX1 := ⟨hx, hb, hml, hown, hts⟩
  have hl := lv_entry ([.int x0, .int x1]) (n := 2) (Nat.le_of_ble_eq_true rfl)
  rw [lg_entry_eq]
  generalize (lg_sl ([.int x0, .int x1]) ++ List.replicate (2 - (lg_sl ([.int x0, .int x1])).length) Slot.unset).toArray = ls at hl ⊢
  have hl : lv_has ls 2 [(0, .int x0), (1, .int x1)] := hl
  refine lv_iload_n hx hb dX1_isIn_0 rfl (lv_at hl 0 rfl) ?_
  refine lv_iload_n hx hb dX1_isIn_1 rfl (lv_at hl 1 rfl) ?_
  refine lv_ishr hx hb dX1_isIn_2 ?_
  refine lv_iconst (v := (nI 1)) hx hb dX1_isIn_3 (by decide) ?_
  refine lv_iand hx hb dX1_isIn_4 ?_
  refine lv_iconst (v := (nI 1)) hx hb dX1_isIn_5 (by decide) ?_
  refine lv_icmp_ne (tgt := 13) hx hb dX1_isIn_6 (by decide) (fun c2 => ?_) (fun c2 => ?_)
  · have hw := hw.2 c2
    refine lv_iconst (v := (nI 0)) hx hb dX1_isIn_13 (by decide) ?_
    exact W.zret (v := (nI 0)) hx hb hr rfl (fun t ht hW => ⟨(nI 0), rfl, hw, ht⟩) (fun _ h => by cases h) dX1_isIn_14
  · have hw := hw.1 c2
    refine lv_iconst (v := (nI 1)) hx hb dX1_isIn_9 (by decide) ?_
    refine lv_goto (tgt := 14) hx hb dX1_isIn_10 (by decide) ?_
    exact W.zret (v := (nI 1)) hx hb hr rfl (fun t ht hW => ⟨(nI 1), rfl, hw, ht⟩) (fun _ h => by cases h) dX1_isIn_14
def w_X1_isDigit (post : Int32 → Prop) (x0 : Int32) : Prop :=
  w_X1_inRange (fun r3 => (isB r3 ∧ post r3)) x0 (nI 48) (nI 57)
theorem hd_X1_inRange : yX1_inRange.cls ≠ "java/lang/invoke/MethodHandle" ∧ yX1_inRange.cls ≠ "java/lang/invoke/VarHandle" ∧ (parseMethodDescriptor yX1_inRange.desc).map (fun d => d.parameters.length) = some 3 := by decide +kernel
theorem gX1_1 : GoodIn lw_all (va_wsS RX1 1 yX1_inRange (ws_ yX1_inRange cX1_inRange 3 (some .boolean))) := lw_S q805 q806 q67 q807
def rm_X1_isDigit : Room := { frames := 1, cells := 0, slots := 0, locals := 22 }
set_option maxHeartbeats 4000000 in
set_option maxRecDepth 100000 in
theorem met_X1_isDigit (l : Launch) (x0 : Int32) (post : Int32 → Prop) (hw : w_X1_isDigit post x0) : Met l yX1_isDigit (ws_ yX1_isDigit cX1_isDigit 1 (some .boolean)) rm_X1_isDigit (va_Pc [.int x0] (fun _ => True)) (vp_Si (fun r => post r)) 0 0 (fun _ => False) := by
  refine Met.ofW (cc := cX1_isDigit) (maxL := 1) (ret := (some .boolean)) (by decide) rfl ?_
  intro p e s m args below meth c s₁ B hml hv
  obtain ⟨rfl, -⟩ := hv
  have hx := B.exec
  have hb := B.bytes
  have hr := B.returns
  have hts := atoms_spec (ws := (ws_ yX1_isDigit cX1_isDigit 1 (some .boolean))) B.pre
  have hts : ∀ w ∈ lw_all, w.before _ s = true := fun w h => hts w (List.mem_cons_of_mem _ h)
  have hown : s.vm.findClass RX1 = some m.cls := findClass_of_methodNamed B.named
  have hlocks := B.notSynchronized
  have hSx : CallFix p m c cX1_isDigit 1 s _ lw_all RX1 := ⟨hx, hb, hml, hown, hts⟩
  have hl := lv_entry ([.int x0]) (n := 1) (Nat.le_of_ble_eq_true rfl)
  rw [lg_entry_eq]
  generalize (lg_sl ([.int x0]) ++ List.replicate (1 - (lg_sl ([.int x0])).length) Slot.unset).toArray = ls at hl ⊢
  have hl : lv_has ls 1 [(0, .int x0)] := hl
  refine lv_iload_n hx hb dX1_isDigit_0 rfl (lv_at hl 0 rfl) ?_
  refine lv_bipush (v := (nI 48)) hx hb dX1_isDigit_1 (by decide) ?_
  refine lv_bipush (v := (nI 57)) hx hb dX1_isDigit_3 (by decide) ?_
  refine k_ri (k_pS (As := [.int x0, .int (nI 48), .int (nI 57)]) (rest := []) hSx (met_X1_inRange l x0 (nI 48) (nI 57) _ hw) gX1_1 hd_X1_inRange ⟨Nat.le_of_ble_eq_true rfl, Nat.le_of_ble_eq_true rfl⟩ rfl rfl rfl hl.1 (Nat.le_of_ble_eq_true rfl) rfl dX1_isDigit_5 ⟨Nat.le_refl 0, Nat.le_refl 0⟩) (fun r3 hw => ?_)
  obtain ⟨h4, hw⟩ := hw
  exact W.zret (v := r3) hx hb hr (isB_n h4) (fun t ht hW => ⟨r3, rfl, hw, ht⟩) (fun _ h => by cases h) dX1_isDigit_8
def w_X9_lengthOf_7 (post : Int32 → Prop) (n_x0_lengths : Nat) (a_x0_lengths : (Nat → Int32)) (x2 : Int32) (k7 : Int32 → Int32 → Prop) (v3 : Int32) (v4 : Int32) : Prop :=
  ((x2 < v4 → post v3) ∧ (¬ x2 < v4 → (vp_in v4 n_x0_lengths ∧ k7 (v3 + (a_x0_lengths v4.toNatClampNeg)) (v4 + (nI 1)))))
def w_X9_lengthOf (post : Int32 → Prop) (n_x0_lengths : Nat) (a_x0_lengths : (Nat → Int32)) (x1 : Int32) (x2 : Int32) : Prop :=
  (∃ n : Nat, lpF (fun _ _ => False) (w_X9_lengthOf_7 post n_x0_lengths a_x0_lengths x2) n (x2 - x1) x1)
def rm_X9_lengthOf : Room := { frames := 0, cells := 0, slots := 0, locals := 0 }
set_option maxHeartbeats 4000000 in
set_option maxRecDepth 100000 in
theorem met_X9_lengthOf (l : Launch) (D : va_G) (dA : Nat → ClassId) (cx : CXt) (q_x0 : Nat) (x0_width : Int32) (q_x0_lengths : Nat) (n_x0_lengths : Nat) (a_x0_lengths : (Nat → Int32)) (q_x0_least : Nat) (n_x0_least : Nat) (a_x0_least : (Nat → Int32)) (x1 : Int32) (x2 : Int32) (post : Int32 → Prop) (hw : w_X9_lengthOf post n_x0_lengths a_x0_lengths x1 x2) : Met l yX9_lengthOf (ws_ yX9_lengthOf cX9_lengthOf 5 (some .int)) rm_X9_lengthOf (va_Pc [.ref q_x0, .int x1, .int x2] (rdC D dA cx [(q_x0, .inr (8, [.int x0_width, .ref q_x0_lengths, .ref q_x0_least])), (q_x0_lengths, .inl (dA 0, n_x0_lengths, .inl a_x0_lengths)), (q_x0_least, .inl (dA 0, n_x0_least, .inl a_x0_least))])) (vp_Si (fun r => post r)) 0 0 (fun _ => False) := by
  refine Met.ofW (cc := cX9_lengthOf) (maxL := 5) (ret := (some .int)) (by decide) rfl ?_
  intro p e s m args below meth c s₁ B hml hv
  obtain ⟨rfl, hP, hK, hC⟩ := hv
  have hx := B.exec
  have hb := B.bytes
  have hr := B.returns
  have hts := atoms_spec (ws := (ws_ yX9_lengthOf cX9_lengthOf 5 (some .int))) B.pre
  have hts : ∀ w ∈ lw_all, w.before _ s = true := fun w h => hts w (List.mem_cons_of_mem _ h)
  have hown : s.vm.findClass RX9 = some m.cls := findClass_of_methodNamed B.named
  have hlocks := B.notSynchronized
  have hSx : CallFix p m c cX9_lengthOf 5 s _ lw_all RX9 := ⟨hx, hb, hml, hown, hts⟩
  have hNW := hC.1
  have hl := lv_entry ([.ref q_x0, .int x1, .int x2]) (n := 5) (Nat.le_of_ble_eq_true rfl)
  rw [lg_entry_eq]
  generalize (lg_sl ([.ref q_x0, .int x1, .int x2]) ++ List.replicate (5 - (lg_sl ([.ref q_x0, .int x1, .int x2])).length) Slot.unset).toArray = ls at hl ⊢
  have hl : lv_has ls 5 [(0, .ref q_x0), (1, .int x1), (2, .int x2)] := hl
  have hL7 : ∀  (n : Nat) (v3 : Int32) (v4 : Int32) (ls : Array Slot), lv_has ls 5 [(0, .ref q_x0), (2, .int x2), (3, .int v3), (4, .int v4)] → lpF (fun _ _ => False) (w_X9_lengthOf_7 post n_x0_lengths a_x0_lengths x2) n v3 v4 → W p l e (headSpec (ws_ yX9_lengthOf cX9_lengthOf 5 (some .int)) (rm_X9_lengthOf)).room s m ([.ref q_x0, .int x1, .int x2] : List Value).toArray below meth c s.heap [] 0 0 (MQ below (vp_Si (fun r => post r)) ([.ref q_x0, .int x1, .int x2] : List Value).toArray s 0 0 (fun _ => False)) (F0 m 7 ls []) := by
    intro  n
    induction n with
    | zero => intro v3 v4 ls hl hw; exact absurd hw id
    | succ n hk7 =>
      intro v3 v4 ls hl hw
      generalize hk9 : lpF (fun _ _ => False) (w_X9_lengthOf_7 post n_x0_lengths a_x0_lengths x2) n = k7 at hk7
      have hw : (w_X9_lengthOf_7 post n_x0_lengths a_x0_lengths x2) k7 v3 v4 := hk9 ▸ hw
      refine lv_iload hx hb dX9_lengthOf_7 (lv_at hl 3 rfl) ?_
      refine lv_iload_n hx hb dX9_lengthOf_9 rfl (lv_at hl 1 rfl) ?_
      refine lv_icmp_gt (tgt := 29) hx hb dX9_lengthOf_10 (by decide) (fun c5 => ?_) (fun c5 => ?_)
      · have hw := hw.1 c5
        refine lv_iload_n hx hb dX9_lengthOf_29 rfl (lv_at hl 2 rfl) ?_
        exact W.iret (v := v3) hx hb hr (fun t ht hW => ⟨v3, rfl, hw, ht⟩) (fun _ h => by cases h) dX9_lengthOf_30
      · have hw := hw.2 c5
        refine lv_iload_n hx hb dX9_lengthOf_13 rfl (lv_at hl 2 rfl) ?_
        refine lv_aload_n hx hb dX9_lengthOf_14 rfl (lv_at hl 0 rfl) ?_
        refine va_get (D := D) (ci := 8) (v := .ref q_x0_lengths) (C := RX9) (T := TX9) (N := 3) hx hb hts in_X9 hown hK hP 0 rfl rfl 1 (by decide) (hts _ q1060) (fun _ h9 => h9) rfl dX9_lengthOf_15 ?_
        refine lv_iload hx hb dX9_lengthOf_18 (lv_at hl 3 rfl) ?_
        obtain ⟨h6, hw⟩ := hw
        refine k_iald (k := v4.toNatClampNeg) hx hb hK hP 1 0 rfl rfl rfl h6 dX9_lengthOf_20 ?_
        refine lv_iadd hx hb dX9_lengthOf_21 ?_
        refine lv_istore_n (lv' := [(3, .int (v3 + (a_x0_lengths v4.toNatClampNeg))), (0, .ref q_x0), (2, .int x2), (4, .int v4)]) hx hb dX9_lengthOf_22 rfl hl (by decide) rfl (fun ls hl => ?_)
        refine lv_iinc (v := (v4 + (nI 1))) (lv' := [(4, .int (v4 + (nI 1))), (3, .int (v3 + (a_x0_lengths v4.toNatClampNeg))), (0, .ref q_x0), (2, .int x2)]) hx hb dX9_lengthOf_23 hl (k := 3) rfl (congrArg (fun z => v4 + z) (by decide : Int32.ofInt (1) = (nI 1))) (by decide) rfl (fun ls hl => ?_)
        refine lv_goto (tgt := 7) hx hb dX9_lengthOf_26 (by decide) ?_
        exact hk7 (v3 + (a_x0_lengths v4.toNatClampNeg)) (v4 + (nI 1)) _ (lv_sub hl [2, 3, 1, 0] rfl) hw
  refine lv_iload_n hx hb dX9_lengthOf_0 rfl (lv_at hl 2 rfl) ?_
  refine lv_iload_n hx hb dX9_lengthOf_1 rfl (lv_at hl 1 rfl) ?_
  refine lv_isub hx hb dX9_lengthOf_2 ?_
  refine lv_istore_n (lv' := [(3, .int (x2 - x1)), (0, .ref q_x0), (1, .int x1), (2, .int x2)]) hx hb dX9_lengthOf_3 rfl hl (by decide) rfl (fun ls hl => ?_)
  refine lv_iload_n hx hb dX9_lengthOf_4 rfl (lv_at hl 2 rfl) ?_
  refine lv_istore (lv' := [(4, .int x1), (3, .int (x2 - x1)), (0, .ref q_x0), (1, .int x1), (2, .int x2)]) hx hb dX9_lengthOf_5 hl (by decide) rfl (fun ls hl => ?_)
  obtain ⟨n, hw⟩ := hw
  exact hL7  n (x2 - x1) x1 _ (lv_sub hl [2, 4, 1, 0] rfl) hw
def w_X9_cost (post : Int32 → Prop) (x0_width : Int32) (n_x0_lengths : Nat) (a_x0_lengths : (Nat → Int32)) (x1 : Int32) (x2 : Int32) : Prop :=
  w_X9_lengthOf (fun r4 => ((0 ≤ (x0_width - r4) → ((x2 = ((nI n_x0_lengths) - (nI 1)) → post (nI 0)) ∧ (¬ x2 = ((nI n_x0_lengths) - (nI 1)) → post ((x0_width - r4) * (x0_width - r4))))) ∧ (¬ 0 ≤ (x0_width - r4) → post (nI 999999)))) n_x0_lengths a_x0_lengths x1 x2
theorem hd_X9_lengthOf : yX9_lengthOf.cls ≠ "java/lang/invoke/MethodHandle" ∧ yX9_lengthOf.cls ≠ "java/lang/invoke/VarHandle" ∧ (parseMethodDescriptor yX9_lengthOf.desc).map (fun d => d.parameters.length) = some 2 := by decide +kernel
theorem gX9_32 : GoodIn lw_all (wsV RX9 32 RX9 yX9_lengthOf (ws_ yX9_lengthOf cX9_lengthOf 5 (some .int))) := lw_V q1054 q1056 qs17 q103 q1057
def rm_X9_cost : Room := { frames := 1, cells := 0, slots := 0, locals := 24 }
set_option maxHeartbeats 4000000 in
set_option maxRecDepth 100000 in
theorem met_X9_cost (l : Launch) (D : va_G) (dA : Nat → ClassId) (cx : CXt) (q_x0 : Nat) (x0_width : Int32) (q_x0_lengths : Nat) (n_x0_lengths : Nat) (a_x0_lengths : (Nat → Int32)) (q_x0_least : Nat) (n_x0_least : Nat) (a_x0_least : (Nat → Int32)) (x1 : Int32) (x2 : Int32) (post : Int32 → Prop) (hw : w_X9_cost post x0_width n_x0_lengths a_x0_lengths x1 x2) : Met l yX9_cost (ws_ yX9_cost cX9_cost 4 (some .int)) rm_X9_cost (va_Pc [.ref q_x0, .int x1, .int x2] (rdC D dA cx [(q_x0, .inr (8, [.int x0_width, .ref q_x0_lengths, .ref q_x0_least])), (q_x0_lengths, .inl (dA 0, n_x0_lengths, .inl a_x0_lengths)), (q_x0_least, .inl (dA 0, n_x0_least, .inl a_x0_least))])) (vp_Si (fun r => post r)) 0 0 (fun _ => False) := by
  refine Met.ofW (cc := cX9_cost) (maxL := 4) (ret := (some .int)) (by decide) rfl ?_
  intro p e s m args below meth c s₁ B hml hv
  obtain ⟨rfl, hP, hK, hC⟩ := hv
  have hx := B.exec
  have hb := B.bytes
  have hr := B.returns
  have hts := atoms_spec (ws := (ws_ yX9_cost cX9_cost 4 (some .int))) B.pre
  have hts : ∀ w ∈ lw_all, w.before _ s = true := fun w h => hts w (List.mem_cons_of_mem _ h)
  have hown : s.vm.findClass RX9 = some m.cls := findClass_of_methodNamed B.named
  have hlocks := B.notSynchronized
  have hSx : CallFix p m c cX9_cost 4 s _ lw_all RX9 := ⟨hx, hb, hml, hown, hts⟩
  have hNW := hC.1
  have hl := lv_entry ([.ref q_x0, .int x1, .int x2]) (n := 4) (Nat.le_of_ble_eq_true rfl)
  rw [lg_entry_eq]
  generalize (lg_sl ([.ref q_x0, .int x1, .int x2]) ++ List.replicate (4 - (lg_sl ([.ref q_x0, .int x1, .int x2])).length) Slot.unset).toArray = ls at hl ⊢
  have hl : lv_has ls 4 [(0, .ref q_x0), (1, .int x1), (2, .int x2)] := hl
  refine lv_aload_n hx hb dX9_cost_0 rfl (lv_at hl 0 rfl) ?_
  refine va_get (D := D) (ci := 8) (v := .int x0_width) (C := RX9) (T := TX9) (N := 3) hx hb hts in_X9 hown hK hP 0 rfl rfl 0 (by decide) (hts _ q1059) (fun _ h9 => h9) rfl dX9_cost_1 ?_
  refine lv_aload_n hx hb dX9_cost_4 rfl (lv_at hl 0 rfl) ?_
  refine lv_iload_n hx hb dX9_cost_5 rfl (lv_at hl 1 rfl) ?_
  refine lv_iload_n hx hb dX9_cost_6 rfl (lv_at hl 2 rfl) ?_
  refine k_ri (kc_rV (As := [.int x1, .int x2]) (rest := [.int x0_width]) hSx (met_X9_lengthOf l D dA cx q_x0 x0_width q_x0_lengths n_x0_lengths a_x0_lengths q_x0_least n_x0_least a_x0_least x1 x2 _ hw) gX9_32 ⟨rfl, hd_X9_lengthOf⟩ ⟨Nat.le_of_ble_eq_true rfl, Nat.le_of_ble_eq_true rfl⟩ rfl rfl hP hK hC [0, 1, 2] rfl 0 rfl rfl rfl rfl hl.1 (Nat.le_of_ble_eq_true rfl) rfl dX9_cost_7 ⟨Nat.le_refl 0, Nat.le_refl 0⟩) (fun r4 hw => ?_)
  refine lv_isub hx hb dX9_cost_10 ?_
  refine lv_istore_n (lv' := [(3, .int (x0_width - r4)), (0, .ref q_x0), (1, .int x1), (2, .int x2)]) hx hb dX9_cost_11 rfl hl (by decide) rfl (fun ls hl => ?_)
  refine lv_iload_n hx hb dX9_cost_12 rfl (lv_at hl 0 rfl) ?_
  refine lv_if_ge (tgt := 19) hx hb dX9_cost_13 (by decide) (fun c5 => ?_) (fun c5 => ?_)
  · have hw := hw.1 c5
    refine lv_iload_n hx hb dX9_cost_19 rfl (lv_at hl 3 rfl) ?_
    refine lv_aload_n hx hb dX9_cost_20 rfl (lv_at hl 1 rfl) ?_
    refine va_get (D := D) (ci := 8) (v := .ref q_x0_lengths) (C := RX9) (T := TX9) (N := 3) hx hb hts in_X9 hown hK hP 0 rfl rfl 1 (by decide) (hts _ q1060) (fun _ h9 => h9) rfl dX9_cost_21 ?_
    refine va_alen (v := (nI n_x0_lengths)) hx hb hK hP 1 0 rfl rfl rfl dX9_cost_24 ?_
    refine lv_iconst (v := (nI 1)) hx hb dX9_cost_25 (by decide) ?_
    refine lv_isub hx hb dX9_cost_26 ?_
    refine lv_icmp_ne (tgt := 34) hx hb dX9_cost_27 (by decide) (fun c6 => ?_) (fun c6 => ?_)
    · have hw := hw.2 c6
      refine lv_iload_n hx hb dX9_cost_34 rfl (lv_at hl 0 rfl) ?_
      refine lv_iload_n hx hb dX9_cost_35 rfl (lv_at hl 0 rfl) ?_
      refine lv_imul hx hb dX9_cost_36 ?_
      exact W.iret (v := ((x0_width - r4) * (x0_width - r4))) hx hb hr (fun t ht hW => ⟨((x0_width - r4) * (x0_width - r4)), rfl, hw, ht⟩) (fun _ h => by cases h) dX9_cost_37
    · have hw := hw.1 c6
      refine lv_iconst (v := (nI 0)) hx hb dX9_cost_30 (by decide) ?_
      refine lv_goto (tgt := 37) hx hb dX9_cost_31 (by decide) ?_
      exact W.iret (v := (nI 0)) hx hb hr (fun t ht hW => ⟨(nI 0), rfl, hw, ht⟩) (fun _ h => by cases h) dX9_cost_37
  · have hw := hw.2 c5
    refine lv_ldc (v := (nI 999999)) hx hb hown (hts _ q1049) dX9_cost_16 ?_
    exact W.iret (v := (nI 999999)) hx hb hr (fun t ht hW => ⟨(nI 999999), rfl, hw, ht⟩) (fun _ h => by cases h) dX9_cost_18
def w_X9_raggedness (post : Int32 → Prop) (n_x0_least : Nat) (a_x0_least : (Nat → Int32)) : Prop :=
  (vp_in (nI 0) n_x0_least ∧ post (a_x0_least (nI 0).toNatClampNeg))
def rm_X9_raggedness : Room := { frames := 0, cells := 0, slots := 0, locals := 0 }
set_option maxHeartbeats 4000000 in
set_option maxRecDepth 100000 in
theorem met_X9_raggedness (l : Launch) (D : va_G) (dA : Nat → ClassId) (cx : CXt) (q_x0 : Nat) (x0_width : Int32) (q_x0_lengths : Nat) (n_x0_lengths : Nat) (a_x0_lengths : (Nat → Int32)) (q_x0_least : Nat) (n_x0_least : Nat) (a_x0_least : (Nat → Int32)) (post : Int32 → Prop) (hw : w_X9_raggedness post n_x0_least a_x0_least) : Met l yX9_raggedness (ws_ yX9_raggedness cX9_raggedness 1 (some .int)) rm_X9_raggedness (va_Pc [.ref q_x0] (rdC D dA cx [(q_x0, .inr (8, [.int x0_width, .ref q_x0_lengths, .ref q_x0_least])), (q_x0_lengths, .inl (dA 0, n_x0_lengths, .inl a_x0_lengths)), (q_x0_least, .inl (dA 0, n_x0_least, .inl a_x0_least))])) (vp_Si (fun r => post r)) 0 0 (fun _ => False) := by
  refine Met.ofW (cc := cX9_raggedness) (maxL := 1) (ret := (some .int)) (by decide) rfl ?_
  intro p e s m args below meth c s₁ B hml hv
  obtain ⟨rfl, hP, hK, hC⟩ := hv
  have hx := B.exec
  have hb := B.bytes
  have hr := B.returns
  have hts := atoms_spec (ws := (ws_ yX9_raggedness cX9_raggedness 1 (some .int))) B.pre
  have hts : ∀ w ∈ lw_all, w.before _ s = true := fun w h => hts w (List.mem_cons_of_mem _ h)
  have hown : s.vm.findClass RX9 = some m.cls := findClass_of_methodNamed B.named
  have hlocks := B.notSynchronized
  have hSx : CallFix p m c cX9_raggedness 1 s _ lw_all RX9 := ⟨hx, hb, hml, hown, hts⟩
  have hNW := hC.1
  have hl := lv_entry ([.ref q_x0]) (n := 1) (Nat.le_of_ble_eq_true rfl)
  rw [lg_entry_eq]
  generalize (lg_sl ([.ref q_x0]) ++ List.replicate (1 - (lg_sl ([.ref q_x0])).length) Slot.unset).toArray = ls at hl ⊢
  have hl : lv_has ls 1 [(0, .ref q_x0)] := hl
  refine lv_aload_n hx hb dX9_raggedness_0 rfl (lv_at hl 0 rfl) ?_
  refine va_get (D := D) (ci := 8) (v := .ref q_x0_least) (C := RX9) (T := TX9) (N := 3) hx hb hts in_X9 hown hK hP 0 rfl rfl 2 (by decide) (hts _ q1061) (fun _ h9 => h9) rfl dX9_raggedness_1 ?_
  refine lv_iconst (v := (nI 0)) hx hb dX9_raggedness_4 (by decide) ?_
  obtain ⟨h2, hw⟩ := hw
  refine k_iald (k := (nI 0).toNatClampNeg) hx hb hK hP 2 0 rfl rfl rfl h2 dX9_raggedness_5 ?_
  exact W.iret (v := (a_x0_least (nI 0).toNatClampNeg)) hx hb hr (fun t ht hW => ⟨(a_x0_least (nI 0).toNatClampNeg), rfl, hw, ht⟩) (fun _ h => by cases h) dX9_raggedness_6
def w_X9_raggednessOf_58 (post : Int32 → Prop)  (k7 : Int32 → Int32 → Int32 → Prop) (v2 : Int32) (v3 : Int32) (v4 : Int32) : Prop :=
  k7 v2 v3 (v4 + (nI 1))
def w_X9_raggednessOf_38 (post : Int32 → Prop) (x0_width : Int32) (n_x0_lengths : Nat) (a_x0_lengths : (Nat → Int32)) (k7 : Int32 → Int32 → Int32 → Prop) (v2 : Int32) (v3 : Int32) (v4 : Int32) : Prop :=
  w_X9_cost (fun r16 => (w_X9_raggednessOf_58 post k7) (mnI (nI 999999) (v2 + r16)) (v4 + (nI 1)) v4) x0_width n_x0_lengths a_x0_lengths v3 v4
def w_X9_raggednessOf_7 (post : Int32 → Prop) (x0_width : Int32) (n_x0_lengths : Nat) (a_x0_lengths : (Nat → Int32)) (x1 : Int32) (k7 : Int32 → Int32 → Int32 → Prop) (v2 : Int32) (v3 : Int32) (v4 : Int32) : Prop :=
  (((nI n_x0_lengths) ≤ v4 → post v2) ∧ (¬ (nI n_x0_lengths) ≤ v4 → w_X1_isIn (fun r18 => ((r18 = 0 → ((v4 = ((nI n_x0_lengths) - (nI 1)) → (w_X9_raggednessOf_38 post x0_width n_x0_lengths a_x0_lengths k7) v2 v3 v4) ∧ (¬ v4 = ((nI n_x0_lengths) - (nI 1)) → (w_X9_raggednessOf_58 post k7) v2 v3 v4))) ∧ (¬ r18 = 0 → (w_X9_raggednessOf_38 post x0_width n_x0_lengths a_x0_lengths k7) v2 v3 v4))) x1 v4))
def w_X9_raggednessOf (post : Int32 → Prop) (x0_width : Int32) (n_x0_lengths : Nat) (a_x0_lengths : (Nat → Int32)) (x1 : Int32) : Prop :=
  (∃ n : Nat, lpF (fun _ _ _ => False) (w_X9_raggednessOf_7 post x0_width n_x0_lengths a_x0_lengths x1) n (nI 0) (nI 0) (nI 0))
theorem hd_X1_isIn : yX1_isIn.cls ≠ "java/lang/invoke/MethodHandle" ∧ yX1_isIn.cls ≠ "java/lang/invoke/VarHandle" ∧ (parseMethodDescriptor yX1_isIn.desc).map (fun d => d.parameters.length) = some 2 := by decide +kernel
theorem hd_X9_cost : yX9_cost.cls ≠ "java/lang/invoke/MethodHandle" ∧ yX9_cost.cls ≠ "java/lang/invoke/VarHandle" ∧ (parseMethodDescriptor yX9_cost.desc).map (fun d => d.parameters.length) = some 2 := by decide +kernel
theorem gX9_23 : GoodIn lw_all (wsV RX9 23 RX9 yX9_cost (ws_ yX9_cost cX9_cost 4 (some .int))) := lw_V q1050 q1052 qs16 q103 q1053
def rm_X9_raggednessOf : Room := { frames := 2, cells := 0, slots := 0, locals := 47 }
set_option maxHeartbeats 4000000 in
set_option maxRecDepth 100000 in
theorem met_X9_raggednessOf (l : Launch) (D : va_G) (dA : Nat → ClassId) (cx : CXt) (q_x0 : Nat) (x0_width : Int32) (q_x0_lengths : Nat) (n_x0_lengths : Nat) (a_x0_lengths : (Nat → Int32)) (q_x0_least : Nat) (n_x0_least : Nat) (a_x0_least : (Nat → Int32)) (x1 : Int32) (post : Int32 → Prop) (hw : w_X9_raggednessOf post x0_width n_x0_lengths a_x0_lengths x1) : Met l yX9_raggednessOf (ws_ yX9_raggednessOf cX9_raggednessOf 5 (some .int)) rm_X9_raggednessOf (va_Pc [.ref q_x0, .int x1] (rdC D dA cx [(q_x0, .inr (8, [.int x0_width, .ref q_x0_lengths, .ref q_x0_least])), (q_x0_lengths, .inl (dA 0, n_x0_lengths, .inl a_x0_lengths)), (q_x0_least, .inl (dA 0, n_x0_least, .inl a_x0_least))])) (vp_Si (fun r => post r)) 0 0 (fun _ => False) := by
  refine Met.ofW (cc := cX9_raggednessOf) (maxL := 5) (ret := (some .int)) (by decide) rfl ?_
  intro p e s m args below meth c s₁ B hml hv
  obtain ⟨rfl, hP, hK, hC⟩ := hv
  have hx := B.exec
  have hb := B.bytes
  have hr := B.returns
  have hts := atoms_spec (ws := (ws_ yX9_raggednessOf cX9_raggednessOf 5 (some .int))) B.pre
  have hts : ∀ w ∈ lw_all, w.before _ s = true := fun w h => hts w (List.mem_cons_of_mem _ h)
  have hown : s.vm.findClass RX9 = some m.cls := findClass_of_methodNamed B.named
  have hlocks := B.notSynchronized
  have hSx : CallFix p m c cX9_raggednessOf 5 s _ lw_all RX9 := ⟨hx, hb, hml, hown, hts⟩
  have hNW := hC.1
  have hl := lv_entry ([.ref q_x0, .int x1]) (n := 5) (Nat.le_of_ble_eq_true rfl)
  rw [lg_entry_eq]
  generalize (lg_sl ([.ref q_x0, .int x1]) ++ List.replicate (5 - (lg_sl ([.ref q_x0, .int x1])).length) Slot.unset).toArray = ls at hl ⊢
  have hl : lv_has ls 5 [(0, .ref q_x0), (1, .int x1)] := hl
  have hL58 : ∀ (k7 : Int32 → Int32 → Int32 → Prop) (hk7 : ∀ (v2 : Int32) (v3 : Int32) (v4 : Int32) (ls : Array Slot), lv_has ls 5 [(0, .ref q_x0), (1, .int x1), (2, .int v2), (3, .int v3), (4, .int v4)] → k7 v2 v3 v4 → W p l e (headSpec (ws_ yX9_raggednessOf cX9_raggednessOf 5 (some .int)) (rm_X9_raggednessOf)).room s m ([.ref q_x0, .int x1] : List Value).toArray below meth c s.heap [] 0 0 (MQ below (vp_Si (fun r => post r)) ([.ref q_x0, .int x1] : List Value).toArray s 0 0 (fun _ => False)) (F0 m 7 ls [])) (v2 : Int32) (v3 : Int32) (v4 : Int32) (ls : Array Slot), lv_has ls 5 [(0, .ref q_x0), (1, .int x1), (2, .int v2), (3, .int v3), (4, .int v4)] → (w_X9_raggednessOf_58 post k7) v2 v3 v4 → W p l e (headSpec (ws_ yX9_raggednessOf cX9_raggednessOf 5 (some .int)) (rm_X9_raggednessOf)).room s m ([.ref q_x0, .int x1] : List Value).toArray below meth c s.heap [] 0 0 (MQ below (vp_Si (fun r => post r)) ([.ref q_x0, .int x1] : List Value).toArray s 0 0 (fun _ => False)) (F0 m 58 ls []) := by
      intro k7 hk7 v2 v3 v4 ls hl hw
      refine lv_iinc (v := (v4 + (nI 1))) (lv' := [(4, .int (v4 + (nI 1))), (0, .ref q_x0), (1, .int x1), (2, .int v2), (3, .int v3)]) hx hb dX9_raggednessOf_58 hl (k := 4) rfl (congrArg (fun z => v4 + z) (by decide : Int32.ofInt (1) = (nI 1))) (by decide) rfl (fun ls hl => ?_)
      refine lv_goto (tgt := 7) hx hb dX9_raggednessOf_61 (by decide) ?_
      exact hk7 v2 v3 (v4 + (nI 1)) _ (lv_sub hl [1, 2, 3, 4, 0] rfl) hw
  have hL38 : ∀ (k7 : Int32 → Int32 → Int32 → Prop) (hk7 : ∀ (v2 : Int32) (v3 : Int32) (v4 : Int32) (ls : Array Slot), lv_has ls 5 [(0, .ref q_x0), (1, .int x1), (2, .int v2), (3, .int v3), (4, .int v4)] → k7 v2 v3 v4 → W p l e (headSpec (ws_ yX9_raggednessOf cX9_raggednessOf 5 (some .int)) (rm_X9_raggednessOf)).room s m ([.ref q_x0, .int x1] : List Value).toArray below meth c s.heap [] 0 0 (MQ below (vp_Si (fun r => post r)) ([.ref q_x0, .int x1] : List Value).toArray s 0 0 (fun _ => False)) (F0 m 7 ls [])) (v2 : Int32) (v3 : Int32) (v4 : Int32) (ls : Array Slot), lv_has ls 5 [(0, .ref q_x0), (1, .int x1), (2, .int v2), (3, .int v3), (4, .int v4)] → (w_X9_raggednessOf_38 post x0_width n_x0_lengths a_x0_lengths k7) v2 v3 v4 → W p l e (headSpec (ws_ yX9_raggednessOf cX9_raggednessOf 5 (some .int)) (rm_X9_raggednessOf)).room s m ([.ref q_x0, .int x1] : List Value).toArray below meth c s.heap [] 0 0 (MQ below (vp_Si (fun r => post r)) ([.ref q_x0, .int x1] : List Value).toArray s 0 0 (fun _ => False)) (F0 m 38 ls []) := by
      intro k7 hk7 v2 v3 v4 ls hl hw
      refine lv_ldc (v := (nI 999999)) hx hb hown (hts _ q1049) dX9_raggednessOf_38 ?_
      refine lv_iload_n hx hb dX9_raggednessOf_40 rfl (lv_at hl 2 rfl) ?_
      refine lv_aload_n hx hb dX9_raggednessOf_41 rfl (lv_at hl 0 rfl) ?_
      refine lv_iload_n hx hb dX9_raggednessOf_42 rfl (lv_at hl 3 rfl) ?_
      refine lv_iload hx hb dX9_raggednessOf_43 (lv_at hl 4 rfl) ?_
      refine k_ri (kc_rV (As := [.int v3, .int v4]) (rest := [.int v2, .int (nI 999999)]) hSx (met_X9_cost l D dA cx q_x0 x0_width q_x0_lengths n_x0_lengths a_x0_lengths q_x0_least n_x0_least a_x0_least v3 v4 _ hw) gX9_23 ⟨rfl, hd_X9_cost⟩ ⟨Nat.le_of_ble_eq_true rfl, Nat.le_of_ble_eq_true rfl⟩ rfl rfl hP hK hC [0, 1, 2] rfl 0 rfl rfl rfl rfl hl.1 (Nat.le_of_ble_eq_true rfl) rfl dX9_raggednessOf_45 ⟨Nat.le_refl 0, Nat.le_refl 0⟩) (fun r16 hw => ?_)
      refine lv_iadd hx hb dX9_raggednessOf_48 ?_
      refine k_mmin hSx hl.1 q1058 q369 q82 q370 (Nat.le_of_ble_eq_true rfl) (Nat.le_of_ble_eq_true rfl) (Nat.le_refl 0) (Nat.le_refl 0) dX9_raggednessOf_49 ?_
      refine lv_topi (fun z9 ez9 => ?_)
      obtain rfl : z9 = (mnI (nI 999999) (v2 + r16)) := ez9
      refine lv_istore_n (lv' := [(2, .int (mnI (nI 999999) (v2 + r16))), (0, .ref q_x0), (1, .int x1), (3, .int v3), (4, .int v4)]) hx hb dX9_raggednessOf_52 rfl hl (by decide) rfl (fun ls hl => ?_)
      refine lv_iload hx hb dX9_raggednessOf_53 (lv_at hl 4 rfl) ?_
      refine lv_iconst (v := (nI 1)) hx hb dX9_raggednessOf_55 (by decide) ?_
      refine lv_iadd hx hb dX9_raggednessOf_56 ?_
      refine lv_istore_n (lv' := [(3, .int (v4 + (nI 1))), (2, .int (mnI (nI 999999) (v2 + r16))), (0, .ref q_x0), (1, .int x1), (4, .int v4)]) hx hb dX9_raggednessOf_57 rfl hl (by decide) rfl (fun ls hl => ?_)
      exact hL58 k7 hk7 (mnI (nI 999999) (v2 + r16)) (v4 + (nI 1)) v4 _ (lv_sub hl [2, 3, 1, 0, 4] rfl) hw
  have hL7 : ∀  (n : Nat) (v2 : Int32) (v3 : Int32) (v4 : Int32) (ls : Array Slot), lv_has ls 5 [(0, .ref q_x0), (1, .int x1), (2, .int v2), (3, .int v3), (4, .int v4)] → lpF (fun _ _ _ => False) (w_X9_raggednessOf_7 post x0_width n_x0_lengths a_x0_lengths x1) n v2 v3 v4 → W p l e (headSpec (ws_ yX9_raggednessOf cX9_raggednessOf 5 (some .int)) (rm_X9_raggednessOf)).room s m ([.ref q_x0, .int x1] : List Value).toArray below meth c s.heap [] 0 0 (MQ below (vp_Si (fun r => post r)) ([.ref q_x0, .int x1] : List Value).toArray s 0 0 (fun _ => False)) (F0 m 7 ls []) := by
    intro  n
    induction n with
    | zero => intro v2 v3 v4 ls hl hw; exact absurd hw id
    | succ n hk7 =>
      intro v2 v3 v4 ls hl hw
      generalize hk9 : lpF (fun _ _ _ => False) (w_X9_raggednessOf_7 post x0_width n_x0_lengths a_x0_lengths x1) n = k7 at hk7
      have hw : (w_X9_raggednessOf_7 post x0_width n_x0_lengths a_x0_lengths x1) k7 v2 v3 v4 := hk9 ▸ hw
      refine lv_iload hx hb dX9_raggednessOf_7 (lv_at hl 4 rfl) ?_
      refine lv_aload_n hx hb dX9_raggednessOf_9 rfl (lv_at hl 0 rfl) ?_
      refine va_get (D := D) (ci := 8) (v := .ref q_x0_lengths) (C := RX9) (T := TX9) (N := 3) hx hb hts in_X9 hown hK hP 0 rfl rfl 1 (by decide) (hts _ q1060) (fun _ h9 => h9) rfl dX9_raggednessOf_10 ?_
      refine va_alen (v := (nI n_x0_lengths)) hx hb hK hP 1 0 rfl rfl rfl dX9_raggednessOf_13 ?_
      refine lv_icmp_ge (tgt := 64) hx hb dX9_raggednessOf_14 (by decide) (fun c17 => ?_) (fun c17 => ?_)
      · have hw := hw.1 c17
        refine lv_iload_n hx hb dX9_raggednessOf_64 rfl (lv_at hl 2 rfl) ?_
        exact W.iret (v := v2) hx hb hr (fun t ht hW => ⟨v2, rfl, hw, ht⟩) (fun _ h => by cases h) dX9_raggednessOf_65
      · have hw := hw.2 c17
        refine lv_iload_n hx hb dX9_raggednessOf_17 rfl (lv_at hl 1 rfl) ?_
        refine lv_iload hx hb dX9_raggednessOf_18 (lv_at hl 4 rfl) ?_
        refine k_ri (kc_pSN (As := [.int x1, .int v4]) (rest := []) hSx (met_X1_isIn l x1 v4 _ hw) hNW q1081 q425 q67 q424 hd_X1_isIn ⟨Nat.le_of_ble_eq_true rfl, Nat.le_of_ble_eq_true rfl⟩ rfl rfl rfl hl.1 (Nat.le_of_ble_eq_true rfl) rfl dX9_raggednessOf_20 ⟨Nat.le_refl 0, Nat.le_refl 0⟩) (fun r18 hw => ?_)
        refine lv_if_ne (tgt := 38) hx hb dX9_raggednessOf_23 (by decide) (fun c19 => ?_) (fun c19 => ?_)
        · have hw := hw.2 c19
          exact hL38 k7 hk7 v2 v3 v4 _ (lv_sub hl [0, 1, 2, 3, 4] rfl) hw
        · have hw := hw.1 c19
          refine lv_iload hx hb dX9_raggednessOf_26 (lv_at hl 4 rfl) ?_
          refine lv_aload_n hx hb dX9_raggednessOf_28 rfl (lv_at hl 0 rfl) ?_
          refine va_get (D := D) (ci := 8) (v := .ref q_x0_lengths) (C := RX9) (T := TX9) (N := 3) hx hb hts in_X9 hown hK hP 0 rfl rfl 1 (by decide) (hts _ q1060) (fun _ h9 => h9) rfl dX9_raggednessOf_29 ?_
          refine va_alen (v := (nI n_x0_lengths)) hx hb hK hP 1 0 rfl rfl rfl dX9_raggednessOf_32 ?_
          refine lv_iconst (v := (nI 1)) hx hb dX9_raggednessOf_33 (by decide) ?_
          refine lv_isub hx hb dX9_raggednessOf_34 ?_
          refine lv_icmp_ne (tgt := 58) hx hb dX9_raggednessOf_35 (by decide) (fun c20 => ?_) (fun c20 => ?_)
          · have hw := hw.2 c20
            exact hL58 k7 hk7 v2 v3 v4 _ (lv_sub hl [0, 1, 2, 3, 4] rfl) hw
          · have hw := hw.1 c20
            exact hL38 k7 hk7 v2 v3 v4 _ (lv_sub hl [0, 1, 2, 3, 4] rfl) hw
  refine lv_iconst (v := (nI 0)) hx hb dX9_raggednessOf_0 (by decide) ?_
  refine lv_istore_n (lv' := [(2, .int (nI 0)), (0, .ref q_x0), (1, .int x1)]) hx hb dX9_raggednessOf_1 rfl hl (by decide) rfl (fun ls hl => ?_)
  refine lv_iconst (v := (nI 0)) hx hb dX9_raggednessOf_2 (by decide) ?_
  refine lv_istore_n (lv' := [(3, .int (nI 0)), (2, .int (nI 0)), (0, .ref q_x0), (1, .int x1)]) hx hb dX9_raggednessOf_3 rfl hl (by decide) rfl (fun ls hl => ?_)
  refine lv_iconst (v := (nI 0)) hx hb dX9_raggednessOf_4 (by decide) ?_
  refine lv_istore (lv' := [(4, .int (nI 0)), (3, .int (nI 0)), (2, .int (nI 0)), (0, .ref q_x0), (1, .int x1)]) hx hb dX9_raggednessOf_5 hl (by decide) rfl (fun ls hl => ?_)
  obtain ⟨n, hw⟩ := hw
  exact hL7  n (nI 0) (nI 0) (nI 0) _ (lv_sub hl [3, 4, 2, 1, 0] rfl) hw
def w_X9_raggednessByTrying_17 (post : Int32 → Prop) (x0_width : Int32) (n_x0_lengths : Nat) (a_x0_lengths : (Nat → Int32)) (k17 : Int32 → Int32 → Prop) (v1 : Int32) (v2 : Int32) : Prop :=
  ((((nI 1) <<< ((nI n_x0_lengths) &&& 31)) ≤ v2 → post v1) ∧ (¬ ((nI 1) <<< ((nI n_x0_lengths) &&& 31)) ≤ v2 → w_X9_raggednessOf (fun r8 => k17 (mnI v1 r8) (v2 + (nI 2))) x0_width n_x0_lengths a_x0_lengths (v2 >>> ((nI 1) &&& 31))))
def w_X9_raggednessByTrying_14 (post : Int32 → Prop) (x0_width : Int32) (n_x0_lengths : Nat) (a_x0_lengths : (Nat → Int32))  (s0 : Int32) : Prop :=
  (∃ n : Nat, lpF (fun _ _ => False) (w_X9_raggednessByTrying_17 post x0_width n_x0_lengths a_x0_lengths) n s0 (nI 0))
def w_X9_raggednessByTrying (post : Int32 → Prop) (x0_width : Int32) (n_x0_lengths : Nat) (a_x0_lengths : (Nat → Int32)) : Prop :=
  (((nI n_x0_lengths) = 0 → (w_X9_raggednessByTrying_14 post x0_width n_x0_lengths a_x0_lengths) (nI 0)) ∧ (¬ (nI n_x0_lengths) = 0 → (w_X9_raggednessByTrying_14 post x0_width n_x0_lengths a_x0_lengths) (nI 999999)))
theorem hd_X9_raggednessOf : yX9_raggednessOf.cls ≠ "java/lang/invoke/MethodHandle" ∧ yX9_raggednessOf.cls ≠ "java/lang/invoke/VarHandle" ∧ (parseMethodDescriptor yX9_raggednessOf.desc).map (fun d => d.parameters.length) = some 1 := by decide +kernel
theorem gX9_39 : GoodIn lw_all (wsV RX9 39 RX9 yX9_raggednessOf (ws_ yX9_raggednessOf cX9_raggednessOf 5 (some .int))) := lw_V q1077 q1079 qs18 q103 q1080
def rm_X9_raggednessByTrying : Room := { frames := 3, cells := 0, slots := 0, locals := 71 }
set_option maxHeartbeats 4000000 in
set_option maxRecDepth 100000 in
theorem met_X9_raggednessByTrying (l : Launch) (D : va_G) (dA : Nat → ClassId) (cx : CXt) (q_x0 : Nat) (x0_width : Int32) (q_x0_lengths : Nat) (n_x0_lengths : Nat) (a_x0_lengths : (Nat → Int32)) (q_x0_least : Nat) (n_x0_least : Nat) (a_x0_least : (Nat → Int32)) (post : Int32 → Prop) (hw : w_X9_raggednessByTrying post x0_width n_x0_lengths a_x0_lengths) : Met l yX9_raggednessByTrying (ws_ yX9_raggednessByTrying cX9_raggednessByTrying 3 (some .int)) rm_X9_raggednessByTrying (va_Pc [.ref q_x0] (rdC D dA cx [(q_x0, .inr (8, [.int x0_width, .ref q_x0_lengths, .ref q_x0_least])), (q_x0_lengths, .inl (dA 0, n_x0_lengths, .inl a_x0_lengths)), (q_x0_least, .inl (dA 0, n_x0_least, .inl a_x0_least))])) (vp_Si (fun r => post r)) 0 0 (fun _ => False) := by
  refine Met.ofW (cc := cX9_raggednessByTrying) (maxL := 3) (ret := (some .int)) (by decide) rfl ?_
  intro p e s m args below meth c s₁ B hml hv
  obtain ⟨rfl, hP, hK, hC⟩ := hv
  have hx := B.exec
  have hb := B.bytes
  have hr := B.returns
  have hts := atoms_spec (ws := (ws_ yX9_raggednessByTrying cX9_raggednessByTrying 3 (some .int))) B.pre
  have hts : ∀ w ∈ lw_all, w.before _ s = true := fun w h => hts w (List.mem_cons_of_mem _ h)
  have hown : s.vm.findClass RX9 = some m.cls := findClass_of_methodNamed B.named
  have hlocks := B.notSynchronized
  have hSx : CallFix p m c cX9_raggednessByTrying 3 s _ lw_all RX9 := ⟨hx, hb, hml, hown, hts⟩
  have hNW := hC.1
  have hl := lv_entry ([.ref q_x0]) (n := 3) (Nat.le_of_ble_eq_true rfl)
  rw [lg_entry_eq]
  generalize (lg_sl ([.ref q_x0]) ++ List.replicate (3 - (lg_sl ([.ref q_x0])).length) Slot.unset).toArray = ls at hl ⊢
  have hl : lv_has ls 3 [(0, .ref q_x0)] := hl
  have hL17 : ∀  (n : Nat) (v1 : Int32) (v2 : Int32) (ls : Array Slot), lv_has ls 3 [(0, .ref q_x0), (1, .int v1), (2, .int v2)] → lpF (fun _ _ => False) (w_X9_raggednessByTrying_17 post x0_width n_x0_lengths a_x0_lengths) n v1 v2 → W p l e (headSpec (ws_ yX9_raggednessByTrying cX9_raggednessByTrying 3 (some .int)) (rm_X9_raggednessByTrying)).room s m ([.ref q_x0] : List Value).toArray below meth c s.heap [] 0 0 (MQ below (vp_Si (fun r => post r)) ([.ref q_x0] : List Value).toArray s 0 0 (fun _ => False)) (F0 m 17 ls []) := by
    intro  n
    induction n with
    | zero => intro v1 v2 ls hl hw; exact absurd hw id
    | succ n hk17 =>
      intro v1 v2 ls hl hw
      generalize hk9 : lpF (fun _ _ => False) (w_X9_raggednessByTrying_17 post x0_width n_x0_lengths a_x0_lengths) n = k17 at hk17
      have hw : (w_X9_raggednessByTrying_17 post x0_width n_x0_lengths a_x0_lengths) k17 v1 v2 := hk9 ▸ hw
      refine lv_iload_n hx hb dX9_raggednessByTrying_17 rfl (lv_at hl 2 rfl) ?_
      refine lv_iconst (v := (nI 1)) hx hb dX9_raggednessByTrying_18 (by decide) ?_
      refine lv_aload_n hx hb dX9_raggednessByTrying_19 rfl (lv_at hl 0 rfl) ?_
      refine va_get (D := D) (ci := 8) (v := .ref q_x0_lengths) (C := RX9) (T := TX9) (N := 3) hx hb hts in_X9 hown hK hP 0 rfl rfl 1 (by decide) (hts _ q1060) (fun _ h9 => h9) rfl dX9_raggednessByTrying_20 ?_
      refine va_alen (v := (nI n_x0_lengths)) hx hb hK hP 1 0 rfl rfl rfl dX9_raggednessByTrying_23 ?_
      refine lv_ishl hx hb dX9_raggednessByTrying_24 ?_
      refine lv_icmp_ge (tgt := 46) hx hb dX9_raggednessByTrying_25 (by decide) (fun c7 => ?_) (fun c7 => ?_)
      · have hw := hw.1 c7
        refine lv_iload_n hx hb dX9_raggednessByTrying_46 rfl (lv_at hl 1 rfl) ?_
        exact W.iret (v := v1) hx hb hr (fun t ht hW => ⟨v1, rfl, hw, ht⟩) (fun _ h => by cases h) dX9_raggednessByTrying_47
      · have hw := hw.2 c7
        refine lv_iload_n hx hb dX9_raggednessByTrying_28 rfl (lv_at hl 1 rfl) ?_
        refine lv_aload_n hx hb dX9_raggednessByTrying_29 rfl (lv_at hl 0 rfl) ?_
        refine lv_iload_n hx hb dX9_raggednessByTrying_30 rfl (lv_at hl 2 rfl) ?_
        refine lv_iconst (v := (nI 1)) hx hb dX9_raggednessByTrying_31 (by decide) ?_
        refine lv_ishr hx hb dX9_raggednessByTrying_32 ?_
        refine k_ri (kc_rV (As := [.int (v2 >>> ((nI 1) &&& 31))]) (rest := [.int v1]) hSx (met_X9_raggednessOf l D dA cx q_x0 x0_width q_x0_lengths n_x0_lengths a_x0_lengths q_x0_least n_x0_least a_x0_least (v2 >>> ((nI 1) &&& 31)) _ hw) gX9_39 ⟨rfl, hd_X9_raggednessOf⟩ ⟨Nat.le_of_ble_eq_true rfl, Nat.le_of_ble_eq_true rfl⟩ rfl rfl hP hK hC [0, 1, 2] rfl 0 rfl rfl rfl rfl hl.1 (Nat.le_of_ble_eq_true rfl) rfl dX9_raggednessByTrying_33 ⟨Nat.le_refl 0, Nat.le_refl 0⟩) (fun r8 hw => ?_)
        refine k_mmin hSx hl.1 q1058 q369 q82 q370 (Nat.le_of_ble_eq_true rfl) (Nat.le_of_ble_eq_true rfl) (Nat.le_refl 0) (Nat.le_refl 0) dX9_raggednessByTrying_36 ?_
        refine lv_topi (fun z9 ez9 => ?_)
        obtain rfl : z9 = (mnI v1 r8) := ez9
        refine lv_istore_n (lv' := [(1, .int (mnI v1 r8)), (0, .ref q_x0), (2, .int v2)]) hx hb dX9_raggednessByTrying_39 rfl hl (by decide) rfl (fun ls hl => ?_)
        refine lv_iinc (v := (v2 + (nI 2))) (lv' := [(2, .int (v2 + (nI 2))), (1, .int (mnI v1 r8)), (0, .ref q_x0)]) hx hb dX9_raggednessByTrying_40 hl (k := 2) rfl (congrArg (fun z => v2 + z) (by decide : Int32.ofInt (2) = (nI 2))) (by decide) rfl (fun ls hl => ?_)
        refine lv_goto (tgt := 17) hx hb dX9_raggednessByTrying_43 (by decide) ?_
        exact hk17 (mnI v1 r8) (v2 + (nI 2)) _ (lv_sub hl [2, 1, 0] rfl) hw
  have hL14 : ∀  (s0 : Int32) (ls : Array Slot), lv_has ls 3 [(0, .ref q_x0)] → (w_X9_raggednessByTrying_14 post x0_width n_x0_lengths a_x0_lengths) s0 → W p l e (headSpec (ws_ yX9_raggednessByTrying cX9_raggednessByTrying 3 (some .int)) (rm_X9_raggednessByTrying)).room s m ([.ref q_x0] : List Value).toArray below meth c s.heap [] 0 0 (MQ below (vp_Si (fun r => post r)) ([.ref q_x0] : List Value).toArray s 0 0 (fun _ => False)) (F0 m 14 ls [.int s0]) := by
      intro  s0 ls hl hw
      refine lv_istore_n (lv' := [(1, .int s0), (0, .ref q_x0)]) hx hb dX9_raggednessByTrying_14 rfl hl (by decide) rfl (fun ls hl => ?_)
      refine lv_iconst (v := (nI 0)) hx hb dX9_raggednessByTrying_15 (by decide) ?_
      refine lv_istore_n (lv' := [(2, .int (nI 0)), (1, .int s0), (0, .ref q_x0)]) hx hb dX9_raggednessByTrying_16 rfl hl (by decide) rfl (fun ls hl => ?_)
      obtain ⟨n, hw⟩ := hw
      exact hL17  n s0 (nI 0) _ (lv_sub hl [2, 1, 0] rfl) hw
  refine lv_aload_n hx hb dX9_raggednessByTrying_0 rfl (lv_at hl 0 rfl) ?_
  refine va_get (D := D) (ci := 8) (v := .ref q_x0_lengths) (C := RX9) (T := TX9) (N := 3) hx hb hts in_X9 hown hK hP 0 rfl rfl 1 (by decide) (hts _ q1060) (fun _ h9 => h9) rfl dX9_raggednessByTrying_1 ?_
  refine va_alen (v := (nI n_x0_lengths)) hx hb hK hP 1 0 rfl rfl rfl dX9_raggednessByTrying_4 ?_
  refine lv_if_ne (tgt := 12) hx hb dX9_raggednessByTrying_5 (by decide) (fun c9 => ?_) (fun c9 => ?_)
  · have hw := hw.2 c9
    refine lv_ldc (v := (nI 999999)) hx hb hown (hts _ q1049) dX9_raggednessByTrying_12 ?_
    exact hL14  (nI 999999) _ (lv_sub hl [0] rfl) hw
  · have hw := hw.1 c9
    refine lv_iconst (v := (nI 0)) hx hb dX9_raggednessByTrying_8 (by decide) ?_
    refine lv_goto (tgt := 14) hx hb dX9_raggednessByTrying_9 (by decide) ?_
    exact hL14  (nI 0) _ (lv_sub hl [0] rfl) hw
def w_X9_lines_65 (post : Nat → (Nat → Int32) → Prop)  (k12 : Nat → Nat → Int32 → Int32 → Nat → (Nat → Int32) → Prop) (k65 : Nat → Nat → Int32 → Int32 → Int32 → Nat → (Nat → Int32) → Prop) (bc bs : Nat) (v2 : Int32) (v4 : Int32) (v5 : Int32) (n1 : Nat) (a1 : (Nat → Int32)) : Prop :=
  ((v4 < v5 → k12 bc bs (v2 + (nI 1)) (v4 + (nI 1)) n1 a1) ∧ (¬ v4 < v5 → (vp_in v5 n1 ∧ k65 bc bs v2 v4 (v5 + (nI 1)) n1 (upd a1 v5.toNatClampNeg v2))))
def w_X9_lines_30 (post : Nat → (Nat → Int32) → Prop) (x0_width : Int32) (n_x0_lengths : Nat) (a_x0_lengths : (Nat → Int32)) (n_x0_least : Nat) (a_x0_least : (Nat → Int32)) (k12 : Nat → Nat → Int32 → Int32 → Nat → (Nat → Int32) → Prop) (k30 : Nat → Nat → Int32 → Int32 → Int32 → Nat → (Nat → Int32) → Prop) (bc bs : Nat) (v2 : Int32) (v3 : Int32) (v4 : Int32) (n1 : Nat) (a1 : (Nat → Int32)) : Prop :=
  w_X9_cost (fun r42 => (vp_in (v4 + (nI 1)) n_x0_least ∧ (vp_in v3 n_x0_least ∧ (((r42 + (a_x0_least (v4 + (nI 1)).toNatClampNeg)) = (a_x0_least v3.toNatClampNeg) → (∃ n : Nat, lpF (fun _ _ _ _ _ _ _ => False) (w_X9_lines_65 post k12) n bc bs v2 v4 v3 n1 a1)) ∧ (¬ (r42 + (a_x0_least (v4 + (nI 1)).toNatClampNeg)) = (a_x0_least v3.toNatClampNeg) → k30 bc bs v2 v3 (v4 + (-1)) n1 a1))))) x0_width n_x0_lengths a_x0_lengths v3 v4
def w_X9_lines_12 (post : Nat → (Nat → Int32) → Prop) (x0_width : Int32) (n_x0_lengths : Nat) (a_x0_lengths : (Nat → Int32)) (n_x0_least : Nat) (a_x0_least : (Nat → Int32)) (k12 : Nat → Nat → Int32 → Int32 → Nat → (Nat → Int32) → Prop) (bc bs : Nat) (v2 : Int32) (v3 : Int32) (n1 : Nat) (a1 : (Nat → Int32)) : Prop :=
  (((nI n_x0_lengths) ≤ v3 → post n1 a1) ∧ (¬ (nI n_x0_lengths) ≤ v3 → (∃ n : Nat, lpF (fun _ _ _ _ _ _ _ => False) (w_X9_lines_30 post x0_width n_x0_lengths a_x0_lengths n_x0_least a_x0_least k12) n bc bs v2 v3 ((nI n_x0_lengths) - (nI 1)) n1 a1)))
def w_X9_lines (post : Nat → (Nat → Int32) → Prop) (bc bs : Nat) (x0_width : Int32) (n_x0_lengths : Nat) (a_x0_lengths : (Nat → Int32)) (n_x0_least : Nat) (a_x0_least : (Nat → Int32)) : Prop :=
  (∃ N48 : Nat, (nI n_x0_lengths) = nI N48 ∧ N48 * 8 ≤ 536870912 ∧ (1 ≤ bc ∧ N48 ≤ bs ∧ (∃ n : Nat, lpF (fun _ _ _ _ _ _ => False) (w_X9_lines_12 post x0_width n_x0_lengths a_x0_lengths n_x0_least a_x0_least) n (bc - 1) (bs - N48) (nI 0) (nI 0) N48 (fun _ => (0 : Int32)))))
def rm_X9_lines (bc0 bs0 : Nat) : Room := { frames := 2, cells := bc0, slots := bs0, locals := 47 }
set_option maxHeartbeats 4000000 in
set_option maxRecDepth 100000 in
theorem met_X9_lines (l : Launch) (D : va_G) (dA : Nat → ClassId) (cx : CXt) (sz : Nat) (bc0 bs0 : Nat) (q_x0 : Nat) (x0_width : Int32) (q_x0_lengths : Nat) (n_x0_lengths : Nat) (a_x0_lengths : (Nat → Int32)) (q_x0_least : Nat) (n_x0_least : Nat) (a_x0_least : (Nat → Int32)) (post : Nat → (Nat → Int32) → Prop) (hw : w_X9_lines post bc0 bs0 x0_width n_x0_lengths a_x0_lengths n_x0_least a_x0_least) : Met l yX9_lines (ws_ yX9_lines cX9_lines 6 (some (.array .int))) (rm_X9_lines bc0 bs0) (va_Pc [.ref q_x0] (wrC D dA cx sz [(q_x0, .inr (8, [.int x0_width, .ref q_x0_lengths, .ref q_x0_least])), (q_x0_lengths, .inl (dA 0, n_x0_lengths, .inl a_x0_lengths)), (q_x0_least, .inl (dA 0, n_x0_least, .inl a_x0_least))])) (va_Qr (fun (u : Nat × Nat × (Nat → Int32)) => post u.2.1 u.2.2) (fun (u : Nat × Nat × (Nat → Int32)) a9 t => a9 = u.1 ∧ wrQ D dA (va_A [(q_x0, .inr (8, [.int x0_width, .ref q_x0_lengths, .ref q_x0_least])), (q_x0_lengths, .inl (dA 0, n_x0_lengths, .inl a_x0_lengths)), (q_x0_least, .inl (dA 0, n_x0_least, .inl a_x0_least))] sz) [(q_x0, .inr (8, [.int x0_width, .ref q_x0_lengths, .ref q_x0_least])), (u.1, .inl (dA 0, u.2.1, .inl u.2.2)), (q_x0_lengths, .inl (dA 0, n_x0_lengths, .inl a_x0_lengths)), (q_x0_least, .inl (dA 0, n_x0_least, .inl a_x0_least))] t) (va_A [(q_x0, .inr (8, [.int x0_width, .ref q_x0_lengths, .ref q_x0_least])), (q_x0_lengths, .inl (dA 0, n_x0_lengths, .inl a_x0_lengths)), (q_x0_least, .inl (dA 0, n_x0_least, .inl a_x0_least))] sz)) bc0 bs0 (va_A [(q_x0, .inr (8, [.int x0_width, .ref q_x0_lengths, .ref q_x0_least])), (q_x0_lengths, .inl (dA 0, n_x0_lengths, .inl a_x0_lengths)), (q_x0_least, .inl (dA 0, n_x0_least, .inl a_x0_least))] sz) := by
  refine Met.ofW (cc := cX9_lines) (maxL := 6) (ret := (some (.array .int))) (by decide) rfl ?_
  intro p e s m args below meth c s₁ B hml hv
  obtain ⟨rfl, hsz, hP, hK, hD0, hC⟩ := hv
  have hx := B.exec
  have hb := B.bytes
  have hr := B.returns
  have hts := atoms_spec (ws := (ws_ yX9_lines cX9_lines 6 (some (.array .int)))) B.pre
  have hts : ∀ w ∈ lw_all, w.before _ s = true := fun w h => hts w (List.mem_cons_of_mem _ h)
  have hown : s.vm.findClass RX9 = some m.cls := findClass_of_methodNamed B.named
  have hlocks := B.notSynchronized
  have hSx : CallFix p m c cX9_lines 6 s _ lw_all RX9 := ⟨hx, hb, hml, hown, hts⟩
  subst hsz
  have hD := hD0.self (sz := s.heap.size)
  generalize hAe : va_A [(q_x0, .inr (8, [.int x0_width, .ref q_x0_lengths, .ref q_x0_least])), (q_x0_lengths, .inl (dA 0, n_x0_lengths, .inl a_x0_lengths)), (q_x0_least, .inl (dA 0, n_x0_least, .inl a_x0_least))] s.heap.size = A at hD hC ⊢
  have hA : ∀ q : Nat, s.heap.size ≤ q → A q := fun q h => by rw [← hAe]; exact Or.inr h
  have hS : va_S A s.heap s.heap [] := va_S.rf
  have hbud : 0 + bc0 ≤ bc0 ∧ 0 + bs0 ≤ bs0 := by omega
  have hNW := hC.1
  have hl := lv_entry ([.ref q_x0]) (n := 6) (Nat.le_of_ble_eq_true rfl)
  rw [lg_entry_eq]
  generalize (lg_sl ([.ref q_x0]) ++ List.replicate (6 - (lg_sl ([.ref q_x0])).length) Slot.unset).toArray = ls at hl ⊢
  have hl : lv_has ls 6 [(0, .ref q_x0)] := hl
  have hL65 : ∀ (k12 : Nat → Nat → Int32 → Int32 → Nat → (Nat → Int32) → Prop) (hk12 : ∀ (bc bs kc ks : Nat) (v2 : Int32) (v3 : Int32) (ad1 : Nat) (n1 : Nat) (a1 : (Nat → Int32)) (H : Heap) (locs : List Loc) (ls : Array Slot), kc + bc ≤ bc0 ∧ ks + bs ≤ bs0 → va_P D vwCl [(q_x0, .inr (8, [.int x0_width, .ref q_x0_lengths, .ref q_x0_least])), (ad1, .inl (dA 0, n1, .inl a1)), (q_x0_lengths, .inl (dA 0, n_x0_lengths, .inl a_x0_lengths)), (q_x0_least, .inl (dA 0, n_x0_least, .inl a_x0_least))] H → va_D A [(q_x0, .inr (8, [.int x0_width, .ref q_x0_lengths, .ref q_x0_least])), (ad1, .inl (dA 0, n1, .inl a1)), (q_x0_lengths, .inl (dA 0, n_x0_lengths, .inl a_x0_lengths)), (q_x0_least, .inl (dA 0, n_x0_least, .inl a_x0_least))] → va_S A s.heap H locs → lv_has ls 6 [(0, .ref q_x0), (1, .ref ad1), (2, .int v2), (3, .int v3)] → k12 bc bs v2 v3 n1 a1 → W p l e (headSpec (ws_ yX9_lines cX9_lines 6 (some (.array .int))) (rm_X9_lines bc0 bs0)).room s m ([.ref q_x0] : List Value).toArray below meth c H locs kc ks (MQ below (va_Qr (fun (u : Nat × Nat × (Nat → Int32)) => post u.2.1 u.2.2) (fun (u : Nat × Nat × (Nat → Int32)) a9 t => a9 = u.1 ∧ wrQ D dA A [(q_x0, .inr (8, [.int x0_width, .ref q_x0_lengths, .ref q_x0_least])), (u.1, .inl (dA 0, u.2.1, .inl u.2.2)), (q_x0_lengths, .inl (dA 0, n_x0_lengths, .inl a_x0_lengths)), (q_x0_least, .inl (dA 0, n_x0_least, .inl a_x0_least))] t) A) ([.ref q_x0] : List Value).toArray s bc0 bs0 A) (F0 m 12 ls [])) (n : Nat) (bc bs kc ks : Nat) (v2 : Int32) (v4 : Int32) (v5 : Int32) (ad1 : Nat) (n1 : Nat) (a1 : (Nat → Int32)) (H : Heap) (locs : List Loc) (ls : Array Slot), kc + bc ≤ bc0 ∧ ks + bs ≤ bs0 → va_P D vwCl [(q_x0, .inr (8, [.int x0_width, .ref q_x0_lengths, .ref q_x0_least])), (ad1, .inl (dA 0, n1, .inl a1)), (q_x0_lengths, .inl (dA 0, n_x0_lengths, .inl a_x0_lengths)), (q_x0_least, .inl (dA 0, n_x0_least, .inl a_x0_least))] H → va_D A [(q_x0, .inr (8, [.int x0_width, .ref q_x0_lengths, .ref q_x0_least])), (ad1, .inl (dA 0, n1, .inl a1)), (q_x0_lengths, .inl (dA 0, n_x0_lengths, .inl a_x0_lengths)), (q_x0_least, .inl (dA 0, n_x0_least, .inl a_x0_least))] → va_S A s.heap H locs → lv_has ls 6 [(0, .ref q_x0), (1, .ref ad1), (2, .int v2), (4, .int v4), (5, .int v5)] → lpF (fun _ _ _ _ _ _ _ => False) (w_X9_lines_65 post k12) n bc bs v2 v4 v5 n1 a1 → W p l e (headSpec (ws_ yX9_lines cX9_lines 6 (some (.array .int))) (rm_X9_lines bc0 bs0)).room s m ([.ref q_x0] : List Value).toArray below meth c H locs kc ks (MQ below (va_Qr (fun (u : Nat × Nat × (Nat → Int32)) => post u.2.1 u.2.2) (fun (u : Nat × Nat × (Nat → Int32)) a9 t => a9 = u.1 ∧ wrQ D dA A [(q_x0, .inr (8, [.int x0_width, .ref q_x0_lengths, .ref q_x0_least])), (u.1, .inl (dA 0, u.2.1, .inl u.2.2)), (q_x0_lengths, .inl (dA 0, n_x0_lengths, .inl a_x0_lengths)), (q_x0_least, .inl (dA 0, n_x0_least, .inl a_x0_least))] t) A) ([.ref q_x0] : List Value).toArray s bc0 bs0 A) (F0 m 65 ls []) := by
    intro k12 hk12 n
    induction n with
    | zero => intro bc bs kc ks v2 v4 v5 ad1 n1 a1 H locs ls hbud hP hD hS hl hw; exact absurd hw id
    | succ n hk65 =>
      intro bc bs kc ks v2 v4 v5 ad1 n1 a1 H locs ls hbud hP hD hS hl hw
      generalize hk9 : lpF (fun _ _ _ _ _ _ _ => False) (w_X9_lines_65 post k12) n = k65 at hk65
      have hw : (w_X9_lines_65 post k12) k65 bc bs v2 v4 v5 n1 a1 := hk9 ▸ hw
      refine lv_iload hx hb dX9_lines_65 (lv_at hl 4 rfl) ?_
      refine lv_iload hx hb dX9_lines_67 (lv_at hl 3 rfl) ?_
      refine lv_icmp_gt (tgt := 83) hx hb dX9_lines_69 (by decide) (fun c40 => ?_) (fun c40 => ?_)
      · have hw := hw.1 c40
        refine lv_iinc (v := (v2 + (nI 1))) (lv' := [(2, .int (v2 + (nI 1))), (0, .ref q_x0), (1, .ref ad1), (4, .int v4), (5, .int v5)]) hx hb dX9_lines_83 hl (k := 2) rfl (congrArg (fun z => v2 + z) (by decide : Int32.ofInt (1) = (nI 1))) (by decide) rfl (fun ls hl => ?_)
        refine lv_iload hx hb dX9_lines_86 (lv_at hl 3 rfl) ?_
        refine lv_iconst (v := (nI 1)) hx hb dX9_lines_88 (by decide) ?_
        refine lv_iadd hx hb dX9_lines_89 ?_
        refine lv_istore_n (lv' := [(3, .int (v4 + (nI 1))), (2, .int (v2 + (nI 1))), (0, .ref q_x0), (1, .ref ad1), (4, .int v4), (5, .int v5)]) hx hb dX9_lines_90 rfl hl (by decide) rfl (fun ls hl => ?_)
        refine lv_goto (tgt := 12) hx hb dX9_lines_91 (by decide) ?_
        exact hk12 bc bs kc ks (v2 + (nI 1)) (v4 + (nI 1)) ad1 n1 a1 _ _ _ hbud (hP.sub [0, 1, 2, 3] rfl) (hD.sub [0, 1, 2, 3] (by decide) rfl) hS (lv_sub hl [2, 3, 1, 0] rfl) hw
      · have hw := hw.2 c40
        refine lv_aload_n hx hb dX9_lines_72 rfl (lv_at hl 1 rfl) ?_
        refine lv_iload hx hb dX9_lines_73 (lv_at hl 4 rfl) ?_
        refine lv_iload_n hx hb dX9_lines_75 rfl (lv_at hl 2 rfl) ?_
        obtain ⟨h41, hw⟩ := hw
        refine k_iast (k := v5.toNatClampNeg) hx hb hK hP hD hS 1 0 rfl rfl rfl h41 dX9_lines_76 (fun H locs hP hD hS => ?_)
        have hP : va_P D vwCl [(q_x0, .inr (8, [.int x0_width, .ref q_x0_lengths, .ref q_x0_least])), (ad1, .inl (dA 0, n1, .inl (upd a1 v5.toNatClampNeg v2))), (q_x0_lengths, .inl (dA 0, n_x0_lengths, .inl a_x0_lengths)), (q_x0_least, .inl (dA 0, n_x0_least, .inl a_x0_least))] H := hP
        have hD : va_D A [(q_x0, .inr (8, [.int x0_width, .ref q_x0_lengths, .ref q_x0_least])), (ad1, .inl (dA 0, n1, .inl (upd a1 v5.toNatClampNeg v2))), (q_x0_lengths, .inl (dA 0, n_x0_lengths, .inl a_x0_lengths)), (q_x0_least, .inl (dA 0, n_x0_least, .inl a_x0_least))] := hD
        refine lv_iinc (v := (v5 + (nI 1))) (lv' := [(5, .int (v5 + (nI 1))), (0, .ref q_x0), (1, .ref ad1), (2, .int v2), (4, .int v4)]) hx hb dX9_lines_77 hl (k := 4) rfl (congrArg (fun z => v5 + z) (by decide : Int32.ofInt (1) = (nI 1))) (by decide) rfl (fun ls hl => ?_)
        refine lv_goto (tgt := 65) hx hb dX9_lines_80 (by decide) ?_
        exact hk65 bc bs kc ks v2 v4 (v5 + (nI 1)) ad1 n1 (upd a1 v5.toNatClampNeg v2) _ _ _ hbud (hP.sub [0, 1, 2, 3] rfl) (hD.sub [0, 1, 2, 3] (by decide) rfl) hS (lv_sub hl [1, 2, 3, 4, 0] rfl) hw
  have hL30 : ∀ (k12 : Nat → Nat → Int32 → Int32 → Nat → (Nat → Int32) → Prop) (hk12 : ∀ (bc bs kc ks : Nat) (v2 : Int32) (v3 : Int32) (ad1 : Nat) (n1 : Nat) (a1 : (Nat → Int32)) (H : Heap) (locs : List Loc) (ls : Array Slot), kc + bc ≤ bc0 ∧ ks + bs ≤ bs0 → va_P D vwCl [(q_x0, .inr (8, [.int x0_width, .ref q_x0_lengths, .ref q_x0_least])), (ad1, .inl (dA 0, n1, .inl a1)), (q_x0_lengths, .inl (dA 0, n_x0_lengths, .inl a_x0_lengths)), (q_x0_least, .inl (dA 0, n_x0_least, .inl a_x0_least))] H → va_D A [(q_x0, .inr (8, [.int x0_width, .ref q_x0_lengths, .ref q_x0_least])), (ad1, .inl (dA 0, n1, .inl a1)), (q_x0_lengths, .inl (dA 0, n_x0_lengths, .inl a_x0_lengths)), (q_x0_least, .inl (dA 0, n_x0_least, .inl a_x0_least))] → va_S A s.heap H locs → lv_has ls 6 [(0, .ref q_x0), (1, .ref ad1), (2, .int v2), (3, .int v3)] → k12 bc bs v2 v3 n1 a1 → W p l e (headSpec (ws_ yX9_lines cX9_lines 6 (some (.array .int))) (rm_X9_lines bc0 bs0)).room s m ([.ref q_x0] : List Value).toArray below meth c H locs kc ks (MQ below (va_Qr (fun (u : Nat × Nat × (Nat → Int32)) => post u.2.1 u.2.2) (fun (u : Nat × Nat × (Nat → Int32)) a9 t => a9 = u.1 ∧ wrQ D dA A [(q_x0, .inr (8, [.int x0_width, .ref q_x0_lengths, .ref q_x0_least])), (u.1, .inl (dA 0, u.2.1, .inl u.2.2)), (q_x0_lengths, .inl (dA 0, n_x0_lengths, .inl a_x0_lengths)), (q_x0_least, .inl (dA 0, n_x0_least, .inl a_x0_least))] t) A) ([.ref q_x0] : List Value).toArray s bc0 bs0 A) (F0 m 12 ls [])) (n : Nat) (bc bs kc ks : Nat) (v2 : Int32) (v3 : Int32) (v4 : Int32) (ad1 : Nat) (n1 : Nat) (a1 : (Nat → Int32)) (H : Heap) (locs : List Loc) (ls : Array Slot), kc + bc ≤ bc0 ∧ ks + bs ≤ bs0 → va_P D vwCl [(q_x0, .inr (8, [.int x0_width, .ref q_x0_lengths, .ref q_x0_least])), (ad1, .inl (dA 0, n1, .inl a1)), (q_x0_lengths, .inl (dA 0, n_x0_lengths, .inl a_x0_lengths)), (q_x0_least, .inl (dA 0, n_x0_least, .inl a_x0_least))] H → va_D A [(q_x0, .inr (8, [.int x0_width, .ref q_x0_lengths, .ref q_x0_least])), (ad1, .inl (dA 0, n1, .inl a1)), (q_x0_lengths, .inl (dA 0, n_x0_lengths, .inl a_x0_lengths)), (q_x0_least, .inl (dA 0, n_x0_least, .inl a_x0_least))] → va_S A s.heap H locs → lv_has ls 6 [(0, .ref q_x0), (1, .ref ad1), (2, .int v2), (3, .int v3), (4, .int v4)] → lpF (fun _ _ _ _ _ _ _ => False) (w_X9_lines_30 post x0_width n_x0_lengths a_x0_lengths n_x0_least a_x0_least k12) n bc bs v2 v3 v4 n1 a1 → W p l e (headSpec (ws_ yX9_lines cX9_lines 6 (some (.array .int))) (rm_X9_lines bc0 bs0)).room s m ([.ref q_x0] : List Value).toArray below meth c H locs kc ks (MQ below (va_Qr (fun (u : Nat × Nat × (Nat → Int32)) => post u.2.1 u.2.2) (fun (u : Nat × Nat × (Nat → Int32)) a9 t => a9 = u.1 ∧ wrQ D dA A [(q_x0, .inr (8, [.int x0_width, .ref q_x0_lengths, .ref q_x0_least])), (u.1, .inl (dA 0, u.2.1, .inl u.2.2)), (q_x0_lengths, .inl (dA 0, n_x0_lengths, .inl a_x0_lengths)), (q_x0_least, .inl (dA 0, n_x0_least, .inl a_x0_least))] t) A) ([.ref q_x0] : List Value).toArray s bc0 bs0 A) (F0 m 30 ls []) := by
    intro k12 hk12 n
    induction n with
    | zero => intro bc bs kc ks v2 v3 v4 ad1 n1 a1 H locs ls hbud hP hD hS hl hw; exact absurd hw id
    | succ n hk30 =>
      intro bc bs kc ks v2 v3 v4 ad1 n1 a1 H locs ls hbud hP hD hS hl hw
      generalize hk9 : lpF (fun _ _ _ _ _ _ _ => False) (w_X9_lines_30 post x0_width n_x0_lengths a_x0_lengths n_x0_least a_x0_least k12) n = k30 at hk30
      have hw : (w_X9_lines_30 post x0_width n_x0_lengths a_x0_lengths n_x0_least a_x0_least k12) k30 bc bs v2 v3 v4 n1 a1 := hk9 ▸ hw
      refine lv_aload_n hx hb dX9_lines_30 rfl (lv_at hl 0 rfl) ?_
      refine lv_iload_n hx hb dX9_lines_31 rfl (lv_at hl 3 rfl) ?_
      refine lv_iload hx hb dX9_lines_32 (lv_at hl 4 rfl) ?_
      refine k_ri (kc_rV (As := [.int v3, .int v4]) (rest := []) hSx (met_X9_cost l D dA cx q_x0 x0_width q_x0_lengths n_x0_lengths a_x0_lengths q_x0_least n_x0_least a_x0_least v3 v4 _ hw) gX9_23 ⟨rfl, hd_X9_cost⟩ ⟨Nat.le_of_ble_eq_true rfl, Nat.le_of_ble_eq_true rfl⟩ rfl rfl hP hK (hC.kept hS.2.1) [0, 2, 3] rfl 0 rfl rfl rfl rfl hl.1 (Nat.le_of_ble_eq_true rfl) rfl dX9_lines_34 ⟨(show kc + 0 ≤ bc0 by omega), (show ks + 0 ≤ bs0 by omega)⟩) (fun r42 hw => ?_)
      refine lv_aload_n hx hb dX9_lines_37 rfl (lv_at hl 0 rfl) ?_
      refine va_get (D := D) (ci := 8) (v := .ref q_x0_least) (C := RX9) (T := TX9) (N := 3) hx hb hts in_X9 hown hK hP 0 rfl rfl 2 (by decide) (hts _ q1061) (fun _ h9 => h9) rfl dX9_lines_38 ?_
      refine lv_iload hx hb dX9_lines_41 (lv_at hl 4 rfl) ?_
      refine lv_iconst (v := (nI 1)) hx hb dX9_lines_43 (by decide) ?_
      refine lv_iadd hx hb dX9_lines_44 ?_
      obtain ⟨h43, hw⟩ := hw
      refine k_iald (k := (v4 + (nI 1)).toNatClampNeg) hx hb hK hP 3 0 rfl rfl rfl h43 dX9_lines_45 ?_
      refine lv_iadd hx hb dX9_lines_46 ?_
      refine lv_aload_n hx hb dX9_lines_47 rfl (lv_at hl 0 rfl) ?_
      refine va_get (D := D) (ci := 8) (v := .ref q_x0_least) (C := RX9) (T := TX9) (N := 3) hx hb hts in_X9 hown hK hP 0 rfl rfl 2 (by decide) (hts _ q1061) (fun _ h9 => h9) rfl dX9_lines_48 ?_
      refine lv_iload_n hx hb dX9_lines_51 rfl (lv_at hl 3 rfl) ?_
      obtain ⟨h44, hw⟩ := hw
      refine k_iald (k := v3.toNatClampNeg) hx hb hK hP 3 0 rfl rfl rfl h44 dX9_lines_52 ?_
      refine lv_icmp_eq (tgt := 62) hx hb dX9_lines_53 (by decide) (fun c45 => ?_) (fun c45 => ?_)
      · have hw := hw.1 c45
        refine lv_iload_n hx hb dX9_lines_62 rfl (lv_at hl 3 rfl) ?_
        refine lv_istore (lv' := [(5, .int v3), (0, .ref q_x0), (1, .ref ad1), (2, .int v2), (3, .int v3), (4, .int v4)]) hx hb dX9_lines_63 hl (by decide) rfl (fun ls hl => ?_)
        obtain ⟨n, hw⟩ := hw
        exact hL65 k12 hk12 n bc bs kc ks v2 v4 v3 ad1 n1 a1 _ _ _ hbud (hP.sub [0, 1, 2, 3] rfl) (hD.sub [0, 1, 2, 3] (by decide) rfl) hS (lv_sub hl [1, 2, 3, 5, 0] rfl) hw
      · have hw := hw.2 c45
        refine lv_iinc (v := (v4 + (-1))) (lv' := [(4, .int (v4 + (-1))), (0, .ref q_x0), (1, .ref ad1), (2, .int v2), (3, .int v3)]) hx hb dX9_lines_56 hl (k := 4) rfl (congrArg (fun z => v4 + z) (by decide : Int32.ofInt (-1) = (-1))) (by decide) rfl (fun ls hl => ?_)
        refine lv_goto (tgt := 30) hx hb dX9_lines_59 (by decide) ?_
        exact hk30 bc bs kc ks v2 v3 (v4 + (-1)) ad1 n1 a1 _ _ _ hbud (hP.sub [0, 1, 2, 3] rfl) (hD.sub [0, 1, 2, 3] (by decide) rfl) hS (lv_sub hl [1, 2, 3, 4, 0] rfl) hw
  have hL12 : ∀  (n : Nat) (bc bs kc ks : Nat) (v2 : Int32) (v3 : Int32) (ad1 : Nat) (n1 : Nat) (a1 : (Nat → Int32)) (H : Heap) (locs : List Loc) (ls : Array Slot), kc + bc ≤ bc0 ∧ ks + bs ≤ bs0 → va_P D vwCl [(q_x0, .inr (8, [.int x0_width, .ref q_x0_lengths, .ref q_x0_least])), (ad1, .inl (dA 0, n1, .inl a1)), (q_x0_lengths, .inl (dA 0, n_x0_lengths, .inl a_x0_lengths)), (q_x0_least, .inl (dA 0, n_x0_least, .inl a_x0_least))] H → va_D A [(q_x0, .inr (8, [.int x0_width, .ref q_x0_lengths, .ref q_x0_least])), (ad1, .inl (dA 0, n1, .inl a1)), (q_x0_lengths, .inl (dA 0, n_x0_lengths, .inl a_x0_lengths)), (q_x0_least, .inl (dA 0, n_x0_least, .inl a_x0_least))] → va_S A s.heap H locs → lv_has ls 6 [(0, .ref q_x0), (1, .ref ad1), (2, .int v2), (3, .int v3)] → lpF (fun _ _ _ _ _ _ => False) (w_X9_lines_12 post x0_width n_x0_lengths a_x0_lengths n_x0_least a_x0_least) n bc bs v2 v3 n1 a1 → W p l e (headSpec (ws_ yX9_lines cX9_lines 6 (some (.array .int))) (rm_X9_lines bc0 bs0)).room s m ([.ref q_x0] : List Value).toArray below meth c H locs kc ks (MQ below (va_Qr (fun (u : Nat × Nat × (Nat → Int32)) => post u.2.1 u.2.2) (fun (u : Nat × Nat × (Nat → Int32)) a9 t => a9 = u.1 ∧ wrQ D dA A [(q_x0, .inr (8, [.int x0_width, .ref q_x0_lengths, .ref q_x0_least])), (u.1, .inl (dA 0, u.2.1, .inl u.2.2)), (q_x0_lengths, .inl (dA 0, n_x0_lengths, .inl a_x0_lengths)), (q_x0_least, .inl (dA 0, n_x0_least, .inl a_x0_least))] t) A) ([.ref q_x0] : List Value).toArray s bc0 bs0 A) (F0 m 12 ls []) := by
    intro  n
    induction n with
    | zero => intro bc bs kc ks v2 v3 ad1 n1 a1 H locs ls hbud hP hD hS hl hw; exact absurd hw id
    | succ n hk12 =>
      intro bc bs kc ks v2 v3 ad1 n1 a1 H locs ls hbud hP hD hS hl hw
      generalize hk9 : lpF (fun _ _ _ _ _ _ => False) (w_X9_lines_12 post x0_width n_x0_lengths a_x0_lengths n_x0_least a_x0_least) n = k12 at hk12
      have hw : (w_X9_lines_12 post x0_width n_x0_lengths a_x0_lengths n_x0_least a_x0_least) k12 bc bs v2 v3 n1 a1 := hk9 ▸ hw
      refine lv_iload_n hx hb dX9_lines_12 rfl (lv_at hl 3 rfl) ?_
      refine lv_aload_n hx hb dX9_lines_13 rfl (lv_at hl 0 rfl) ?_
      refine va_get (D := D) (ci := 8) (v := .ref q_x0_lengths) (C := RX9) (T := TX9) (N := 3) hx hb hts in_X9 hown hK hP 0 rfl rfl 1 (by decide) (hts _ q1060) (fun _ h9 => h9) rfl dX9_lines_14 ?_
      refine va_alen (v := (nI n_x0_lengths)) hx hb hK hP 2 0 rfl rfl rfl dX9_lines_17 ?_
      refine lv_icmp_ge (tgt := 94) hx hb dX9_lines_18 (by decide) (fun c46 => ?_) (fun c46 => ?_)
      · have hw := hw.1 c46
        refine lv_aload_n hx hb dX9_lines_94 rfl (lv_at hl 1 rfl) ?_
        refine W.widen (k := bc0) (n := bs0) (by omega) (by omega) ?_
        exact W.aret (v := .ref ad1) hx hb hr (Or.inr ⟨_, rfl⟩) (Or.inr ⟨_, rfl⟩) (fun t ht hW => ⟨⟨(ad1, n1, a1), _, rfl, hw, rfl, by rw [ht]; exact hP.sub [0, 1, 2, 3] rfl, va_K.moved hW.alike hK, hD.sub [0, 1, 2, 3] (by decide) rfl⟩, hS.F ht⟩) hS.2.2 dX9_lines_95
      · have hw := hw.2 c46
        refine lv_aload_n hx hb dX9_lines_21 rfl (lv_at hl 0 rfl) ?_
        refine va_get (D := D) (ci := 8) (v := .ref q_x0_lengths) (C := RX9) (T := TX9) (N := 3) hx hb hts in_X9 hown hK hP 0 rfl rfl 1 (by decide) (hts _ q1060) (fun _ h9 => h9) rfl dX9_lines_22 ?_
        refine va_alen (v := (nI n_x0_lengths)) hx hb hK hP 2 0 rfl rfl rfl dX9_lines_25 ?_
        refine lv_iconst (v := (nI 1)) hx hb dX9_lines_26 (by decide) ?_
        refine lv_isub hx hb dX9_lines_27 ?_
        refine lv_istore (lv' := [(4, .int ((nI n_x0_lengths) - (nI 1))), (0, .ref q_x0), (1, .ref ad1), (2, .int v2), (3, .int v3)]) hx hb dX9_lines_28 hl (by decide) rfl (fun ls hl => ?_)
        obtain ⟨n, hw⟩ := hw
        exact hL30 k12 hk12 n bc bs kc ks v2 v3 ((nI n_x0_lengths) - (nI 1)) ad1 n1 a1 _ _ _ hbud (hP.sub [0, 1, 2, 3] rfl) (hD.sub [0, 1, 2, 3] (by decide) rfl) hS (lv_sub hl [1, 2, 3, 4, 0] rfl) hw
  refine lv_aload_n hx hb dX9_lines_0 rfl (lv_at hl 0 rfl) ?_
  refine va_get (D := D) (ci := 8) (v := .ref q_x0_lengths) (C := RX9) (T := TX9) (N := 3) hx hb hts in_X9 hown hK hP 0 rfl rfl 1 (by decide) (hts _ q1060) (fun _ h9 => h9) rfl dX9_lines_1 ?_
  refine va_alen (v := (nI n_x0_lengths)) hx hb hK hP 1 0 rfl rfl rfl dX9_lines_4 ?_
  obtain ⟨N48, h49, h50, hw⟩ := hw
  obtain ⟨h51, h52, hw⟩ := hw
  refine k_newa (ty := .int) (atype := .int) (a0 := (N48, .inl (fun _ => (0 : Int32)))) hx hb (hts _ q148) rfl (fun _ h => by cases h) 0 rfl hK hP hD hS hA (fun _ => rfl) (by rw [h49]; exact nI_pos (by omega)) (by rw [h49]; exact clK N48 (by omega)) (by first | omega | (dsimp only [componentBytes]; omega)) (show 0 + 1 ≤ bc0 by omega) (show 0 + N48 ≤ bs0 by omega) dX9_lines_5 (fun q47 H hP hD hS => ?_)
  have hP : va_P D vwCl [(q_x0, .inr (8, [.int x0_width, .ref q_x0_lengths, .ref q_x0_least])), (q_x0_lengths, .inl (dA 0, n_x0_lengths, .inl a_x0_lengths)), (q_x0_least, .inl (dA 0, n_x0_least, .inl a_x0_least)), (q47, .inl (dA 0, N48, .inl (fun _ => (0 : Int32))))] H := hP
  have hD : va_D A [(q_x0, .inr (8, [.int x0_width, .ref q_x0_lengths, .ref q_x0_least])), (q_x0_lengths, .inl (dA 0, n_x0_lengths, .inl a_x0_lengths)), (q_x0_least, .inl (dA 0, n_x0_least, .inl a_x0_least)), (q47, .inl (dA 0, N48, .inl (fun _ => (0 : Int32))))] := hD
  have hbud : (0 + 1) + (bc0 - 1) ≤ bc0 ∧ (0 + N48) + (bs0 - N48) ≤ bs0 := by omega
  refine lv_astore_n (lv' := [(1, .ref q47), (0, .ref q_x0)]) hx hb dX9_lines_7 rfl hl (by decide) rfl (fun ls hl => ?_)
  refine lv_iconst (v := (nI 0)) hx hb dX9_lines_8 (by decide) ?_
  refine lv_istore_n (lv' := [(2, .int (nI 0)), (1, .ref q47), (0, .ref q_x0)]) hx hb dX9_lines_9 rfl hl (by decide) rfl (fun ls hl => ?_)
  refine lv_iconst (v := (nI 0)) hx hb dX9_lines_10 (by decide) ?_
  refine lv_istore_n (lv' := [(3, .int (nI 0)), (2, .int (nI 0)), (1, .ref q47), (0, .ref q_x0)]) hx hb dX9_lines_11 rfl hl (by decide) rfl (fun ls hl => ?_)
  obtain ⟨n, hw⟩ := hw
  exact hL12  n (bc0 - 1) (bs0 - N48) (0 + 1) (0 + N48) (nI 0) (nI 0) q47 N48 (fun _ => (0 : Int32)) _ _ _ hbud (hP.sub [0, 3, 1, 2] rfl) (hD.sub [0, 3, 1, 2] (by decide) rfl) hS (lv_sub hl [3, 2, 1, 0] rfl) hw
def w_X9_init_44 (post : Nat → (Nat → Int32) → Prop) (x1 : Int32) (n_x2 : Nat) (a_x2 : (Nat → Int32)) (k29 : Nat → Nat → Int32 → Nat → (Nat → Int32) → Prop) (k44 : Nat → Nat → Int32 → Int32 → Nat → (Nat → Int32) → Prop) (bc bs : Nat) (v3 : Int32) (v4 : Int32) (n2 : Nat) (a2 : (Nat → Int32)) : Prop :=
  (((nI n_x2) ≤ v4 → k29 bc bs (v3 + (-1)) n2 a2) ∧ (¬ (nI n_x2) ≤ v4 → (vp_in v3 n2 ∧ w_X9_cost (fun r42 => (vp_in (v4 + (nI 1)) n2 ∧ (vp_in v3 n2 ∧ k44 bc bs v3 (v4 + (nI 1)) n2 (upd a2 v3.toNatClampNeg (mnI (a2 v3.toNatClampNeg) (r42 + (a2 (v4 + (nI 1)).toNatClampNeg))))))) x1 n_x2 a_x2 v3 v4)))
def w_X9_init_29 (post : Nat → (Nat → Int32) → Prop) (x1 : Int32) (n_x2 : Nat) (a_x2 : (Nat → Int32)) (k29 : Nat → Nat → Int32 → Nat → (Nat → Int32) → Prop) (bc bs : Nat) (v3 : Int32) (n2 : Nat) (a2 : (Nat → Int32)) : Prop :=
  ((v3 < 0 → post n2 a2) ∧ (¬ v3 < 0 → (vp_in v3 n2 ∧ (∃ n : Nat, lpF (fun _ _ _ _ _ _ => False) (w_X9_init_44 post x1 n_x2 a_x2 k29) n bc bs v3 v3 n2 (upd a2 v3.toNatClampNeg (nI 999999))))))
def w_X9_init (post : Nat → (Nat → Int32) → Prop) (bc bs : Nat) (x1 : Int32) (n_x2 : Nat) (a_x2 : (Nat → Int32)) : Prop :=
  (∃ N48 : Nat, ((nI n_x2) + (nI 1)) = nI N48 ∧ N48 * 8 ≤ 536870912 ∧ (1 ≤ bc ∧ N48 ≤ bs ∧ (∃ n : Nat, lpF (fun _ _ _ _ _ => False) (w_X9_init_29 post x1 n_x2 a_x2) n (bc - 1) (bs - N48) ((nI n_x2) - (nI 1)) N48 (fun _ => (0 : Int32)))))
def rm_X9_init (bc0 bs0 : Nat) : Room := { frames := 2, cells := bc0, slots := bs0, locals := 47 }
set_option maxHeartbeats 4000000 in
set_option maxRecDepth 100000 in
theorem met_X9_init (l : Launch) (D : va_G) (dA : Nat → ClassId) (cx : CXt) (sz : Nat) (bc0 bs0 : Nat) (q_x0 : Nat) (x0_width : Int32) (x1 : Int32) (q_x2 : Nat) (n_x2 : Nat) (a_x2 : (Nat → Int32)) (post : Nat → (Nat → Int32) → Prop) (hw : w_X9_init post bc0 bs0 x1 n_x2 a_x2) : Met l yX9_init (ws_ yX9_init cX9_init 5 none) (rm_X9_init bc0 bs0) (va_Pc [.ref q_x0, .int x1, .ref q_x2] (wrC D dA cx sz [(q_x0, .inr (8, [.int x0_width, .null, .null])), (q_x2, .inl (dA 0, n_x2, .inl a_x2))])) (va_Qv (fun (u : Nat × Nat × (Nat → Int32)) => post u.2.1 u.2.2) (fun (u : Nat × Nat × (Nat → Int32)) t => wrQ D dA (va_A [(q_x0, .inr (8, [.int x0_width, .null, .null])), (q_x2, .inl (dA 0, n_x2, .inl a_x2))] sz) [(q_x0, .inr (8, [.int x1, .ref q_x2, .ref u.1])), (q_x2, .inl (dA 0, n_x2, .inl a_x2)), (u.1, .inl (dA 0, u.2.1, .inl u.2.2))] t) (va_A [(q_x0, .inr (8, [.int x0_width, .null, .null])), (q_x2, .inl (dA 0, n_x2, .inl a_x2))] sz)) bc0 bs0 (va_A [(q_x0, .inr (8, [.int x0_width, .null, .null])), (q_x2, .inl (dA 0, n_x2, .inl a_x2))] sz) := by
  refine Met.ofW (cc := cX9_init) (maxL := 5) (ret := none) (by decide) rfl ?_
  intro p e s m args below meth c s₁ B hml hv
  obtain ⟨rfl, hsz, hP, hK, hD0, hC⟩ := hv
  have hx := B.exec
  have hb := B.bytes
  have hr := B.returns
  have hts := atoms_spec (ws := (ws_ yX9_init cX9_init 5 none)) B.pre
  have hts : ∀ w ∈ lw_all, w.before _ s = true := fun w h => hts w (List.mem_cons_of_mem _ h)
  have hown : s.vm.findClass RX9 = some m.cls := findClass_of_methodNamed B.named
  have hlocks := B.notSynchronized
  have hSx : CallFix p m c cX9_init 5 s _ lw_all RX9 := ⟨hx, hb, hml, hown, hts⟩
  have hin : meth.name = "<init>" := (name_of_methodNamed B.named B.method).1
  subst hsz
  have hD := hD0.self (sz := s.heap.size)
  generalize hAe : va_A [(q_x0, .inr (8, [.int x0_width, .null, .null])), (q_x2, .inl (dA 0, n_x2, .inl a_x2))] s.heap.size = A at hD hC ⊢
  have hA : ∀ q : Nat, s.heap.size ≤ q → A q := fun q h => by rw [← hAe]; exact Or.inr h
  have hS : va_S A s.heap s.heap [] := va_S.rf
  have hbud : 0 + bc0 ≤ bc0 ∧ 0 + bs0 ≤ bs0 := by omega
  have hNW := hC.1
  have hl := lv_entry ([.ref q_x0, .int x1, .ref q_x2]) (n := 5) (Nat.le_of_ble_eq_true rfl)
  rw [lg_entry_eq]
  generalize (lg_sl ([.ref q_x0, .int x1, .ref q_x2]) ++ List.replicate (5 - (lg_sl ([.ref q_x0, .int x1, .ref q_x2])).length) Slot.unset).toArray = ls at hl ⊢
  have hl : lv_has ls 5 [(0, .ref q_x0), (1, .int x1), (2, .ref q_x2)] := hl
  have hL44 : ∀ (k29 : Nat → Nat → Int32 → Nat → (Nat → Int32) → Prop) (hk29 : ∀ (bc bs kc ks : Nat) (v3 : Int32) (ad2 : Nat) (n2 : Nat) (a2 : (Nat → Int32)) (H : Heap) (locs : List Loc) (ls : Array Slot), kc + bc ≤ bc0 ∧ ks + bs ≤ bs0 → va_P D vwCl [(q_x0, .inr (8, [.int x1, .ref q_x2, .ref ad2])), (q_x2, .inl (dA 0, n_x2, .inl a_x2)), (ad2, .inl (dA 0, n2, .inl a2))] H → va_D A [(q_x0, .inr (8, [.int x1, .ref q_x2, .ref ad2])), (q_x2, .inl (dA 0, n_x2, .inl a_x2)), (ad2, .inl (dA 0, n2, .inl a2))] → va_S A s.heap H locs → lv_has ls 5 [(0, .ref q_x0), (2, .ref q_x2), (3, .int v3)] → k29 bc bs v3 n2 a2 → W p l e (headSpec (ws_ yX9_init cX9_init 5 none) (rm_X9_init bc0 bs0)).room s m ([.ref q_x0, .int x1, .ref q_x2] : List Value).toArray below meth c H locs kc ks (MQ below (va_Qv (fun (u : Nat × Nat × (Nat → Int32)) => post u.2.1 u.2.2) (fun (u : Nat × Nat × (Nat → Int32)) t => wrQ D dA A [(q_x0, .inr (8, [.int x1, .ref q_x2, .ref u.1])), (q_x2, .inl (dA 0, n_x2, .inl a_x2)), (u.1, .inl (dA 0, u.2.1, .inl u.2.2))] t) A) ([.ref q_x0, .int x1, .ref q_x2] : List Value).toArray s bc0 bs0 A) (F0 m 29 ls [])) (n : Nat) (bc bs kc ks : Nat) (v3 : Int32) (v4 : Int32) (ad2 : Nat) (n2 : Nat) (a2 : (Nat → Int32)) (H : Heap) (locs : List Loc) (ls : Array Slot), kc + bc ≤ bc0 ∧ ks + bs ≤ bs0 → va_P D vwCl [(q_x0, .inr (8, [.int x1, .ref q_x2, .ref ad2])), (q_x2, .inl (dA 0, n_x2, .inl a_x2)), (ad2, .inl (dA 0, n2, .inl a2))] H → va_D A [(q_x0, .inr (8, [.int x1, .ref q_x2, .ref ad2])), (q_x2, .inl (dA 0, n_x2, .inl a_x2)), (ad2, .inl (dA 0, n2, .inl a2))] → va_S A s.heap H locs → lv_has ls 5 [(0, .ref q_x0), (2, .ref q_x2), (3, .int v3), (4, .int v4)] → lpF (fun _ _ _ _ _ _ => False) (w_X9_init_44 post x1 n_x2 a_x2 k29) n bc bs v3 v4 n2 a2 → W p l e (headSpec (ws_ yX9_init cX9_init 5 none) (rm_X9_init bc0 bs0)).room s m ([.ref q_x0, .int x1, .ref q_x2] : List Value).toArray below meth c H locs kc ks (MQ below (va_Qv (fun (u : Nat × Nat × (Nat → Int32)) => post u.2.1 u.2.2) (fun (u : Nat × Nat × (Nat → Int32)) t => wrQ D dA A [(q_x0, .inr (8, [.int x1, .ref q_x2, .ref u.1])), (q_x2, .inl (dA 0, n_x2, .inl a_x2)), (u.1, .inl (dA 0, u.2.1, .inl u.2.2))] t) A) ([.ref q_x0, .int x1, .ref q_x2] : List Value).toArray s bc0 bs0 A) (F0 m 44 ls []) := by
    intro k29 hk29 n
    induction n with
    | zero => intro bc bs kc ks v3 v4 ad2 n2 a2 H locs ls hbud hP hD hS hl hw; exact absurd hw id
    | succ n hk44 =>
      intro bc bs kc ks v3 v4 ad2 n2 a2 H locs ls hbud hP hD hS hl hw
      generalize hk9 : lpF (fun _ _ _ _ _ _ => False) (w_X9_init_44 post x1 n_x2 a_x2 k29) n = k44 at hk44
      have hw : (w_X9_init_44 post x1 n_x2 a_x2 k29) k44 bc bs v3 v4 n2 a2 := hk9 ▸ hw
      refine lv_iload hx hb dX9_init_44 (lv_at hl 3 rfl) ?_
      refine lv_aload_n hx hb dX9_init_46 rfl (lv_at hl 1 rfl) ?_
      refine va_alen (v := (nI n_x2)) hx hb hK hP 1 0 rfl rfl rfl dX9_init_47 ?_
      refine lv_icmp_ge (tgt := 89) hx hb dX9_init_48 (by decide) (fun c40 => ?_) (fun c40 => ?_)
      · have hw := hw.1 c40
        refine lv_iinc (v := (v3 + (-1))) (lv' := [(3, .int (v3 + (-1))), (0, .ref q_x0), (2, .ref q_x2), (4, .int v4)]) hx hb dX9_init_89 hl (k := 2) rfl (congrArg (fun z => v3 + z) (by decide : Int32.ofInt (-1) = (-1))) (by decide) rfl (fun ls hl => ?_)
        refine lv_goto (tgt := 29) hx hb dX9_init_92 (by decide) ?_
        exact hk29 bc bs kc ks (v3 + (-1)) ad2 n2 a2 _ _ _ hbud (hP.sub [0, 1, 2] rfl) (hD.sub [0, 1, 2] (by decide) rfl) hS (lv_sub hl [1, 2, 0] rfl) hw
      · have hw := hw.2 c40
        refine lv_aload_n hx hb dX9_init_51 rfl (lv_at hl 0 rfl) ?_
        refine va_get (D := D) (ci := 8) (v := .ref ad2) (C := RX9) (T := TX9) (N := 3) hx hb hts in_X9 hown hK hP 0 rfl rfl 2 (by decide) (hts _ q1061) (fun _ h9 => h9) rfl dX9_init_52 ?_
        refine lv_iload_n hx hb dX9_init_55 rfl (lv_at hl 2 rfl) ?_
        refine lv_aload_n hx hb dX9_init_56 rfl (lv_at hl 0 rfl) ?_
        refine va_get (D := D) (ci := 8) (v := .ref ad2) (C := RX9) (T := TX9) (N := 3) hx hb hts in_X9 hown hK hP 0 rfl rfl 2 (by decide) (hts _ q1061) (fun _ h9 => h9) rfl dX9_init_57 ?_
        refine lv_iload_n hx hb dX9_init_60 rfl (lv_at hl 2 rfl) ?_
        obtain ⟨h41, hw⟩ := hw
        refine k_iald (k := v3.toNatClampNeg) hx hb hK hP 2 0 rfl rfl rfl h41 dX9_init_61 ?_
        refine lv_aload_n hx hb dX9_init_62 rfl (lv_at hl 0 rfl) ?_
        refine lv_iload_n hx hb dX9_init_63 rfl (lv_at hl 2 rfl) ?_
        refine lv_iload hx hb dX9_init_64 (lv_at hl 3 rfl) ?_
        refine k_ri (kc_rV (As := [.int v3, .int v4]) (rest := [.int (a2 v3.toNatClampNeg), .int v3, .ref ad2]) hSx (met_X9_cost l D dA cx q_x0 x1 q_x2 n_x2 a_x2 ad2 n2 a2 v3 v4 _ hw) gX9_23 ⟨rfl, hd_X9_cost⟩ ⟨Nat.le_of_ble_eq_true rfl, Nat.le_of_ble_eq_true rfl⟩ rfl rfl hP hK (hC.kept hS.2.1) [0, 1, 2] rfl 0 rfl rfl rfl rfl hl.1 (Nat.le_of_ble_eq_true rfl) rfl dX9_init_66 ⟨(show kc + 0 ≤ bc0 by omega), (show ks + 0 ≤ bs0 by omega)⟩) (fun r42 hw => ?_)
        refine lv_aload_n hx hb dX9_init_69 rfl (lv_at hl 0 rfl) ?_
        refine va_get (D := D) (ci := 8) (v := .ref ad2) (C := RX9) (T := TX9) (N := 3) hx hb hts in_X9 hown hK hP 0 rfl rfl 2 (by decide) (hts _ q1061) (fun _ h9 => h9) rfl dX9_init_70 ?_
        refine lv_iload hx hb dX9_init_73 (lv_at hl 3 rfl) ?_
        refine lv_iconst (v := (nI 1)) hx hb dX9_init_75 (by decide) ?_
        refine lv_iadd hx hb dX9_init_76 ?_
        obtain ⟨h43, hw⟩ := hw
        refine k_iald (k := (v4 + (nI 1)).toNatClampNeg) hx hb hK hP 2 0 rfl rfl rfl h43 dX9_init_77 ?_
        refine lv_iadd hx hb dX9_init_78 ?_
        refine k_mmin hSx hl.1 q1058 q369 q82 q370 (Nat.le_of_ble_eq_true rfl) (Nat.le_of_ble_eq_true rfl) (show kc ≤ bc0 by omega) (show ks ≤ bs0 by omega) dX9_init_79 ?_
        refine lv_topi (fun z9 ez9 => ?_)
        obtain rfl : z9 = (mnI (a2 v3.toNatClampNeg) (r42 + (a2 (v4 + (nI 1)).toNatClampNeg))) := ez9
        obtain ⟨h44, hw⟩ := hw
        refine k_iast (k := v3.toNatClampNeg) hx hb hK hP hD hS 2 0 rfl rfl rfl h44 dX9_init_82 (fun H locs hP hD hS => ?_)
        have hP : va_P D vwCl [(q_x0, .inr (8, [.int x1, .ref q_x2, .ref ad2])), (q_x2, .inl (dA 0, n_x2, .inl a_x2)), (ad2, .inl (dA 0, n2, .inl (upd a2 v3.toNatClampNeg (mnI (a2 v3.toNatClampNeg) (r42 + (a2 (v4 + (nI 1)).toNatClampNeg))))))] H := hP
        have hD : va_D A [(q_x0, .inr (8, [.int x1, .ref q_x2, .ref ad2])), (q_x2, .inl (dA 0, n_x2, .inl a_x2)), (ad2, .inl (dA 0, n2, .inl (upd a2 v3.toNatClampNeg (mnI (a2 v3.toNatClampNeg) (r42 + (a2 (v4 + (nI 1)).toNatClampNeg))))))] := hD
        refine lv_iinc (v := (v4 + (nI 1))) (lv' := [(4, .int (v4 + (nI 1))), (0, .ref q_x0), (2, .ref q_x2), (3, .int v3)]) hx hb dX9_init_83 hl (k := 3) rfl (congrArg (fun z => v4 + z) (by decide : Int32.ofInt (1) = (nI 1))) (by decide) rfl (fun ls hl => ?_)
        refine lv_goto (tgt := 44) hx hb dX9_init_86 (by decide) ?_
        exact hk44 bc bs kc ks v3 (v4 + (nI 1)) ad2 n2 (upd a2 v3.toNatClampNeg (mnI (a2 v3.toNatClampNeg) (r42 + (a2 (v4 + (nI 1)).toNatClampNeg)))) _ _ _ hbud (hP.sub [0, 1, 2] rfl) (hD.sub [0, 1, 2] (by decide) rfl) hS (lv_sub hl [1, 2, 3, 0] rfl) hw
  have hL29 : ∀  (n : Nat) (bc bs kc ks : Nat) (v3 : Int32) (ad2 : Nat) (n2 : Nat) (a2 : (Nat → Int32)) (H : Heap) (locs : List Loc) (ls : Array Slot), kc + bc ≤ bc0 ∧ ks + bs ≤ bs0 → va_P D vwCl [(q_x0, .inr (8, [.int x1, .ref q_x2, .ref ad2])), (q_x2, .inl (dA 0, n_x2, .inl a_x2)), (ad2, .inl (dA 0, n2, .inl a2))] H → va_D A [(q_x0, .inr (8, [.int x1, .ref q_x2, .ref ad2])), (q_x2, .inl (dA 0, n_x2, .inl a_x2)), (ad2, .inl (dA 0, n2, .inl a2))] → va_S A s.heap H locs → lv_has ls 5 [(0, .ref q_x0), (2, .ref q_x2), (3, .int v3)] → lpF (fun _ _ _ _ _ => False) (w_X9_init_29 post x1 n_x2 a_x2) n bc bs v3 n2 a2 → W p l e (headSpec (ws_ yX9_init cX9_init 5 none) (rm_X9_init bc0 bs0)).room s m ([.ref q_x0, .int x1, .ref q_x2] : List Value).toArray below meth c H locs kc ks (MQ below (va_Qv (fun (u : Nat × Nat × (Nat → Int32)) => post u.2.1 u.2.2) (fun (u : Nat × Nat × (Nat → Int32)) t => wrQ D dA A [(q_x0, .inr (8, [.int x1, .ref q_x2, .ref u.1])), (q_x2, .inl (dA 0, n_x2, .inl a_x2)), (u.1, .inl (dA 0, u.2.1, .inl u.2.2))] t) A) ([.ref q_x0, .int x1, .ref q_x2] : List Value).toArray s bc0 bs0 A) (F0 m 29 ls []) := by
    intro  n
    induction n with
    | zero => intro bc bs kc ks v3 ad2 n2 a2 H locs ls hbud hP hD hS hl hw; exact absurd hw id
    | succ n hk29 =>
      intro bc bs kc ks v3 ad2 n2 a2 H locs ls hbud hP hD hS hl hw
      generalize hk9 : lpF (fun _ _ _ _ _ => False) (w_X9_init_29 post x1 n_x2 a_x2) n = k29 at hk29
      have hw : (w_X9_init_29 post x1 n_x2 a_x2) k29 bc bs v3 n2 a2 := hk9 ▸ hw
      refine lv_iload_n hx hb dX9_init_29 rfl (lv_at hl 2 rfl) ?_
      refine lv_if_lt (tgt := 95) hx hb dX9_init_30 (by decide) (fun c45 => ?_) (fun c45 => ?_)
      · have hw := hw.1 c45
        refine W.widen (k := bc0) (n := bs0) (by omega) (by omega) ?_
        exact W.vret hx hb hr (fun t ht hW => ⟨⟨(ad2, n2, a2), rfl, hw, by rw [ht]; exact hP.sub [0, 1, 2] rfl, va_K.moved hW.alike hK, hD.sub [0, 1, 2] (by decide) rfl⟩, hS.F ht⟩) hS.2.2 dX9_init_95
      · have hw := hw.2 c45
        refine lv_aload_n hx hb dX9_init_33 rfl (lv_at hl 0 rfl) ?_
        refine va_get (D := D) (ci := 8) (v := .ref ad2) (C := RX9) (T := TX9) (N := 3) hx hb hts in_X9 hown hK hP 0 rfl rfl 2 (by decide) (hts _ q1061) (fun _ h9 => h9) rfl dX9_init_34 ?_
        refine lv_iload_n hx hb dX9_init_37 rfl (lv_at hl 2 rfl) ?_
        refine lv_ldc (v := (nI 999999)) hx hb hown (hts _ q1049) dX9_init_38 ?_
        obtain ⟨h46, hw⟩ := hw
        refine k_iast (k := v3.toNatClampNeg) hx hb hK hP hD hS 2 0 rfl rfl rfl h46 dX9_init_40 (fun H locs hP hD hS => ?_)
        have hP : va_P D vwCl [(q_x0, .inr (8, [.int x1, .ref q_x2, .ref ad2])), (q_x2, .inl (dA 0, n_x2, .inl a_x2)), (ad2, .inl (dA 0, n2, .inl (upd a2 v3.toNatClampNeg (nI 999999))))] H := hP
        have hD : va_D A [(q_x0, .inr (8, [.int x1, .ref q_x2, .ref ad2])), (q_x2, .inl (dA 0, n_x2, .inl a_x2)), (ad2, .inl (dA 0, n2, .inl (upd a2 v3.toNatClampNeg (nI 999999))))] := hD
        refine lv_iload_n hx hb dX9_init_41 rfl (lv_at hl 2 rfl) ?_
        refine lv_istore (lv' := [(4, .int v3), (0, .ref q_x0), (2, .ref q_x2), (3, .int v3)]) hx hb dX9_init_42 hl (by decide) rfl (fun ls hl => ?_)
        obtain ⟨n, hw⟩ := hw
        exact hL44 k29 hk29 n bc bs kc ks v3 v3 ad2 n2 (upd a2 v3.toNatClampNeg (nI 999999)) _ _ _ hbud (hP.sub [0, 1, 2] rfl) (hD.sub [0, 1, 2] (by decide) rfl) hS (lv_sub hl [1, 2, 3, 0] rfl) hw
  refine lv_aload_n hx hb dX9_init_0 rfl (lv_at hl 0 rfl) ?_
  refine W.objInit hx hb hown (hts _ q1048) (hts _ q111) (hts _ q112) rfl (by rw [hml]; exact hl.1) rfl dX9_init_1 (Nat.le_of_ble_eq_true rfl) (Nat.le_of_ble_eq_true rfl) ?_
  refine W.eq (g2 := F0 m 4 ls []) rfl ?_
  refine lv_aload_n hx hb dX9_init_4 rfl (lv_at hl 0 rfl) ?_
  refine lv_iload_n hx hb dX9_init_5 rfl (lv_at hl 1 rfl) ?_
  refine va_putF (D := D) (ci := 8) (v := .int x1) (ty := (.int)) (C := RX9) (T := TX9) (N := 3) hx hb hts in_X9 tyX9 tyX9_ok nmX9 hown hK hP hD hS 0 rfl rfl 0 (by decide) (hts _ q1059) (fun _ h9 => h9) rfl hin rfl (by decide +kernel) rfl rfl (Nat.le_of_ble_eq_true rfl) dX9_init_6 (fun H locs hP hD hS => ?_)
  have hP : va_P D vwCl [(q_x0, .inr (8, [.int x1, .null, .null])), (q_x2, .inl (dA 0, n_x2, .inl a_x2))] H := hP
  have hD : va_D A [(q_x0, .inr (8, [.int x1, .null, .null])), (q_x2, .inl (dA 0, n_x2, .inl a_x2))] := hD
  refine lv_aload_n hx hb dX9_init_9 rfl (lv_at hl 0 rfl) ?_
  refine lv_aload_n hx hb dX9_init_10 rfl (lv_at hl 2 rfl) ?_
  refine va_putF (D := D) (ci := 8) (v := .ref q_x2) (ty := (.array .int)) (C := RX9) (T := TX9) (N := 3) hx hb hts in_X9 tyX9 tyX9_ok nmX9 hown hK hP hD hS 0 rfl rfl 1 (by decide) (hts _ q1060) (fun _ h9 => h9) rfl hin rfl (by decide +kernel) rfl rfl (Nat.le_of_ble_eq_true rfl) dX9_init_11 (fun H locs hP hD hS => ?_)
  have hP : va_P D vwCl [(q_x0, .inr (8, [.int x1, .ref q_x2, .null])), (q_x2, .inl (dA 0, n_x2, .inl a_x2))] H := hP
  have hD : va_D A [(q_x0, .inr (8, [.int x1, .ref q_x2, .null])), (q_x2, .inl (dA 0, n_x2, .inl a_x2))] := hD
  refine lv_aload_n hx hb dX9_init_14 rfl (lv_at hl 0 rfl) ?_
  refine lv_aload_n hx hb dX9_init_15 rfl (lv_at hl 2 rfl) ?_
  refine va_alen (v := (nI n_x2)) hx hb hK hP 1 0 rfl rfl rfl dX9_init_16 ?_
  refine lv_iconst (v := (nI 1)) hx hb dX9_init_17 (by decide) ?_
  refine lv_iadd hx hb dX9_init_18 ?_
  obtain ⟨N48, h49, h50, hw⟩ := hw
  obtain ⟨h51, h52, hw⟩ := hw
  refine k_newa (ty := .int) (atype := .int) (a0 := (N48, .inl (fun _ => (0 : Int32)))) hx hb (hts _ q148) rfl (fun _ h => by cases h) 0 rfl hK hP hD hS hA (fun _ => rfl) (by rw [h49]; exact nI_pos (by omega)) (by rw [h49]; exact clK N48 (by omega)) (by first | omega | (dsimp only [componentBytes]; omega)) (show 0 + 1 ≤ bc0 by omega) (show 0 + N48 ≤ bs0 by omega) dX9_init_19 (fun q47 H hP hD hS => ?_)
  have hP : va_P D vwCl [(q_x0, .inr (8, [.int x1, .ref q_x2, .null])), (q_x2, .inl (dA 0, n_x2, .inl a_x2)), (q47, .inl (dA 0, N48, .inl (fun _ => (0 : Int32))))] H := hP
  have hD : va_D A [(q_x0, .inr (8, [.int x1, .ref q_x2, .null])), (q_x2, .inl (dA 0, n_x2, .inl a_x2)), (q47, .inl (dA 0, N48, .inl (fun _ => (0 : Int32))))] := hD
  have hbud : (0 + 1) + (bc0 - 1) ≤ bc0 ∧ (0 + N48) + (bs0 - N48) ≤ bs0 := by omega
  refine va_putF (D := D) (ci := 8) (v := .ref q47) (ty := (.array .int)) (C := RX9) (T := TX9) (N := 3) hx hb hts in_X9 tyX9 tyX9_ok nmX9 hown hK hP hD hS 0 rfl rfl 2 (by decide) (hts _ q1061) (fun _ h9 => h9) rfl hin rfl (by decide +kernel) rfl rfl (Nat.le_of_ble_eq_true rfl) dX9_init_21 (fun H locs hP hD hS => ?_)
  have hP : va_P D vwCl [(q_x0, .inr (8, [.int x1, .ref q_x2, .ref q47])), (q_x2, .inl (dA 0, n_x2, .inl a_x2)), (q47, .inl (dA 0, N48, .inl (fun _ => (0 : Int32))))] H := hP
  have hD : va_D A [(q_x0, .inr (8, [.int x1, .ref q_x2, .ref q47])), (q_x2, .inl (dA 0, n_x2, .inl a_x2)), (q47, .inl (dA 0, N48, .inl (fun _ => (0 : Int32))))] := hD
  refine lv_aload_n hx hb dX9_init_24 rfl (lv_at hl 2 rfl) ?_
  refine va_alen (v := (nI n_x2)) hx hb hK hP 1 0 rfl rfl rfl dX9_init_25 ?_
  refine lv_iconst (v := (nI 1)) hx hb dX9_init_26 (by decide) ?_
  refine lv_isub hx hb dX9_init_27 ?_
  refine lv_istore_n (lv' := [(3, .int ((nI n_x2) - (nI 1))), (0, .ref q_x0), (1, .int x1), (2, .ref q_x2)]) hx hb dX9_init_28 rfl hl (by decide) rfl (fun ls hl => ?_)
  obtain ⟨n, hw⟩ := hw
  exact hL29  n (bc0 - 1) (bs0 - N48) (0 + 1) (0 + N48) ((nI n_x2) - (nI 1)) q47 N48 (fun _ => (0 : Int32)) _ _ _ hbud (hP.sub [0, 1, 2] rfl) (hD.sub [0, 1, 2] (by decide) rfl) hS (lv_sub hl [1, 3, 0] rfl) hw
