/-! SCAN: what its methods compute, its contracts, walked (printed by a program of wip/D-56275w/gen) -/
def w_X6_keptAhead_12 (post : Int32 → Prop) (n_x0_ahead : Nat) (a_x0_ahead : (Nat → Int32)) (x2 : Int32)   : Prop :=
  (vp_in x2 n_x0_ahead ∧ post (a_x0_ahead x2.toNatClampNeg))
def w_X6_keptAhead (post : Int32 → Prop) (n_x0_ahead : Nat) (a_x0_ahead : (Nat → Int32)) (n_x0_behind : Nat) (a_x0_behind : (Nat → Int32)) (x1 : Int32) (x2 : Int32) : Prop :=
  ((x1 = (nI 112) → (w_X6_keptAhead_12 post n_x0_ahead a_x0_ahead x2) ) ∧ (¬ x1 = (nI 112) → ((x1 = (nI 98) → (w_X6_keptAhead_12 post n_x0_ahead a_x0_ahead x2) ) ∧ (¬ x1 = (nI 98) → ((x1 = (nI 40) → ((x2 ≤ 0 → post (nI 999999)) ∧ (¬ x2 ≤ 0 → (vp_in (x2 - (nI 1)) n_x0_ahead ∧ post (a_x0_ahead (x2 - (nI 1)).toNatClampNeg))))) ∧ (¬ x1 = (nI 40) → ((x1 = (nI 44) → ((x2 ≤ 0 → post (nI 999999)) ∧ (¬ x2 ≤ 0 → (vp_in x2 n_x0_behind ∧ post (a_x0_behind x2.toNatClampNeg))))) ∧ (¬ x1 = (nI 44) → post (nI 999999)))))))))
def rm_X6_keptAhead : Room := { frames := 0, cells := 0, slots := 0, locals := 0 }
set_option maxHeartbeats 4000000 in
set_option maxRecDepth 100000 in
theorem met_X6_keptAhead (l : Launch) (D : va_G) (dA : Nat → ClassId) (cx : CXt) (q_x0 : Nat) (q_x0_ahead : Nat) (n_x0_ahead : Nat) (a_x0_ahead : (Nat → Int32)) (q_x0_behind : Nat) (n_x0_behind : Nat) (a_x0_behind : (Nat → Int32)) (x1 : Int32) (x2 : Int32) (post : Int32 → Prop) (hw : w_X6_keptAhead post n_x0_ahead a_x0_ahead n_x0_behind a_x0_behind x1 x2) : Met l yX6_keptAhead (ws_ yX6_keptAhead cX6_keptAhead 3 (some .int)) rm_X6_keptAhead (va_Pc [.ref q_x0, .int x1, .int x2] (rdC D dA cx [(q_x0, .inr (5, [.ref q_x0_ahead, .ref q_x0_behind])), (q_x0_ahead, .inl (dA 0, n_x0_ahead, .inl a_x0_ahead)), (q_x0_behind, .inl (dA 0, n_x0_behind, .inl a_x0_behind))])) (vp_Si (fun r => post r)) 0 0 (fun _ => False) := by
  refine Met.ofW (cc := cX6_keptAhead) (maxL := 3) (ret := (some .int)) (by decide) rfl ?_
  intro p e s m args below meth c s₁ B hml hv
  obtain ⟨rfl, hP, hK, hC⟩ := hv
  have hx := B.exec
  have hb := B.bytes
  have hr := B.returns
  have hts := atoms_spec (ws := (ws_ yX6_keptAhead cX6_keptAhead 3 (some .int))) B.pre
  have hts : ∀ w ∈ lw_all, w.before _ s = true := fun w h => hts w (List.mem_cons_of_mem _ h)
  have hown : s.vm.findClass RX6 = some m.cls := findClass_of_methodNamed B.named
  have hlocks := B.notSynchronized
  have hSx : CallFix p m c cX6_keptAhead 3 s _ lw_all RX6 := ⟨hx, hb, hml, hown, hts⟩
  have hNW := hC.1
  have hl := lv_entry ([.ref q_x0, .int x1, .int x2]) (n := 3) (Nat.le_of_ble_eq_true rfl)
  rw [lg_entry_eq]
  generalize (lg_sl ([.ref q_x0, .int x1, .int x2]) ++ List.replicate (3 - (lg_sl ([.ref q_x0, .int x1, .int x2])).length) Slot.unset).toArray = ls at hl ⊢
  have hl : lv_has ls 3 [(0, .ref q_x0), (1, .int x1), (2, .int x2)] := hl
  have hL12 : ∀   (ls : Array Slot), lv_has ls 3 [(0, .ref q_x0), (2, .int x2)] → (w_X6_keptAhead_12 post n_x0_ahead a_x0_ahead x2)  → W p l e (headSpec (ws_ yX6_keptAhead cX6_keptAhead 3 (some .int)) (rm_X6_keptAhead)).room s m ([.ref q_x0, .int x1, .int x2] : List Value).toArray below meth c s.heap [] 0 0 (MQ below (vp_Si (fun r => post r)) ([.ref q_x0, .int x1, .int x2] : List Value).toArray s 0 0 (fun _ => False)) (F0 m 12 ls []) := by
      intro   ls hl hw
      refine lv_aload_n hx hb dX6_keptAhead_12 rfl (lv_at hl 0 rfl) ?_
      refine va_get (D := D) (ci := 5) (v := .ref q_x0_ahead) (C := RX6) (T := TX6) (N := 2) hx hb hts in_X6 hown hK hP 0 rfl rfl 0 (by decide) (hts _ q1347) (fun _ h9 => h9) rfl dX6_keptAhead_13 ?_
      refine lv_iload_n hx hb dX6_keptAhead_16 rfl (lv_at hl 1 rfl) ?_
      obtain ⟨h19, hw⟩ := hw
      refine k_iald (k := x2.toNatClampNeg) hx hb hK hP 1 0 rfl rfl rfl h19 dX6_keptAhead_17 ?_
      exact W.iret (v := (a_x0_ahead x2.toNatClampNeg)) hx hb hr (fun t ht hW => ⟨(a_x0_ahead x2.toNatClampNeg), rfl, hw, ht⟩) (fun _ h => by cases h) dX6_keptAhead_18
  refine lv_iload_n hx hb dX6_keptAhead_0 rfl (lv_at hl 1 rfl) ?_
  refine lv_bipush (v := (nI 112)) hx hb dX6_keptAhead_1 (by decide) ?_
  refine lv_icmp_eq (tgt := 12) hx hb dX6_keptAhead_3 (by decide) (fun c20 => ?_) (fun c20 => ?_)
  · have hw := hw.1 c20
    exact hL12   _ (lv_sub hl [0, 2] rfl) hw
  · have hw := hw.2 c20
    refine lv_iload_n hx hb dX6_keptAhead_6 rfl (lv_at hl 1 rfl) ?_
    refine lv_bipush (v := (nI 98)) hx hb dX6_keptAhead_7 (by decide) ?_
    refine lv_icmp_ne (tgt := 19) hx hb dX6_keptAhead_9 (by decide) (fun c21 => ?_) (fun c21 => ?_)
    · have hw := hw.2 c21
      refine lv_iload_n hx hb dX6_keptAhead_19 rfl (lv_at hl 1 rfl) ?_
      refine lv_bipush (v := (nI 40)) hx hb dX6_keptAhead_20 (by decide) ?_
      refine lv_icmp_ne (tgt := 43) hx hb dX6_keptAhead_22 (by decide) (fun c22 => ?_) (fun c22 => ?_)
      · have hw := hw.2 c22
        refine lv_iload_n hx hb dX6_keptAhead_43 rfl (lv_at hl 1 rfl) ?_
        refine lv_bipush (v := (nI 44)) hx hb dX6_keptAhead_44 (by decide) ?_
        refine lv_icmp_ne (tgt := 62) hx hb dX6_keptAhead_46 (by decide) (fun c23 => ?_) (fun c23 => ?_)
        · have hw := hw.2 c23
          refine lv_ldc (v := (nI 999999)) hx hb hown (hts _ q1330) dX6_keptAhead_62 ?_
          exact W.iret (v := (nI 999999)) hx hb hr (fun t ht hW => ⟨(nI 999999), rfl, hw, ht⟩) (fun _ h => by cases h) dX6_keptAhead_64
        · have hw := hw.1 c23
          refine lv_iload_n hx hb dX6_keptAhead_49 rfl (lv_at hl 2 rfl) ?_
          refine lv_if_le (tgt := 62) hx hb dX6_keptAhead_50 (by decide) (fun c24 => ?_) (fun c24 => ?_)
          · have hw := hw.1 c24
            refine lv_ldc (v := (nI 999999)) hx hb hown (hts _ q1330) dX6_keptAhead_62 ?_
            exact W.iret (v := (nI 999999)) hx hb hr (fun t ht hW => ⟨(nI 999999), rfl, hw, ht⟩) (fun _ h => by cases h) dX6_keptAhead_64
          · have hw := hw.2 c24
            refine lv_aload_n hx hb dX6_keptAhead_53 rfl (lv_at hl 0 rfl) ?_
            refine va_get (D := D) (ci := 5) (v := .ref q_x0_behind) (C := RX6) (T := TX6) (N := 2) hx hb hts in_X6 hown hK hP 0 rfl rfl 1 (by decide) (hts _ q1348) (fun _ h9 => h9) rfl dX6_keptAhead_54 ?_
            refine lv_iload_n hx hb dX6_keptAhead_57 rfl (lv_at hl 2 rfl) ?_
            obtain ⟨h25, hw⟩ := hw
            refine k_iald (k := x2.toNatClampNeg) hx hb hK hP 2 0 rfl rfl rfl h25 dX6_keptAhead_58 ?_
            refine lv_goto (tgt := 64) hx hb dX6_keptAhead_59 (by decide) ?_
            exact W.iret (v := (a_x0_behind x2.toNatClampNeg)) hx hb hr (fun t ht hW => ⟨(a_x0_behind x2.toNatClampNeg), rfl, hw, ht⟩) (fun _ h => by cases h) dX6_keptAhead_64
      · have hw := hw.1 c22
        refine lv_iload_n hx hb dX6_keptAhead_25 rfl (lv_at hl 2 rfl) ?_
        refine lv_if_le (tgt := 40) hx hb dX6_keptAhead_26 (by decide) (fun c26 => ?_) (fun c26 => ?_)
        · have hw := hw.1 c26
          refine lv_ldc (v := (nI 999999)) hx hb hown (hts _ q1330) dX6_keptAhead_40 ?_
          exact W.iret (v := (nI 999999)) hx hb hr (fun t ht hW => ⟨(nI 999999), rfl, hw, ht⟩) (fun _ h => by cases h) dX6_keptAhead_42
        · have hw := hw.2 c26
          refine lv_aload_n hx hb dX6_keptAhead_29 rfl (lv_at hl 0 rfl) ?_
          refine va_get (D := D) (ci := 5) (v := .ref q_x0_ahead) (C := RX6) (T := TX6) (N := 2) hx hb hts in_X6 hown hK hP 0 rfl rfl 0 (by decide) (hts _ q1347) (fun _ h9 => h9) rfl dX6_keptAhead_30 ?_
          refine lv_iload_n hx hb dX6_keptAhead_33 rfl (lv_at hl 2 rfl) ?_
          refine lv_iconst (v := (nI 1)) hx hb dX6_keptAhead_34 (by decide) ?_
          refine lv_isub hx hb dX6_keptAhead_35 ?_
          obtain ⟨h27, hw⟩ := hw
          refine k_iald (k := (x2 - (nI 1)).toNatClampNeg) hx hb hK hP 1 0 rfl rfl rfl h27 dX6_keptAhead_36 ?_
          refine lv_goto (tgt := 42) hx hb dX6_keptAhead_37 (by decide) ?_
          exact W.iret (v := (a_x0_ahead (x2 - (nI 1)).toNatClampNeg)) hx hb hr (fun t ht hW => ⟨(a_x0_ahead (x2 - (nI 1)).toNatClampNeg), rfl, hw, ht⟩) (fun _ h => by cases h) dX6_keptAhead_42
    · have hw := hw.1 c21
      exact hL12   _ (lv_sub hl [0, 2] rfl) hw
def w_X6_keptBehind (post : Int32 → Prop) (n_x0_ahead : Nat) (a_x0_ahead : (Nat → Int32)) (n_x0_behind : Nat) (a_x0_behind : (Nat → Int32)) (x1 : Int32) (x2 : Int32) : Prop :=
  w_X1_isDigit (fun r7 => ((r7 = 0 → ((x1 = (nI 41) → (((nI n_x0_behind) ≤ (x2 + (nI 1)) → post (nI 999999)) ∧ (¬ (nI n_x0_behind) ≤ (x2 + (nI 1)) → (vp_in (x2 + (nI 1)) n_x0_behind ∧ post (a_x0_behind (x2 + (nI 1)).toNatClampNeg))))) ∧ (¬ x1 = (nI 41) → post (nI 999999)))) ∧ (¬ r7 = 0 → (vp_in x2 n_x0_ahead ∧ post (a_x0_ahead x2.toNatClampNeg))))) x1
theorem hd_X1_isDigit : yX1_isDigit.cls ≠ "java/lang/invoke/MethodHandle" ∧ yX1_isDigit.cls ≠ "java/lang/invoke/VarHandle" ∧ (parseMethodDescriptor yX1_isDigit.desc).map (fun d => d.parameters.length) = some 1 := by decide +kernel
def rm_X6_keptBehind : Room := { frames := 2, cells := 0, slots := 0, locals := 42 }
set_option maxHeartbeats 4000000 in
set_option maxRecDepth 100000 in
theorem met_X6_keptBehind (l : Launch) (D : va_G) (dA : Nat → ClassId) (cx : CXt) (q_x0 : Nat) (q_x0_ahead : Nat) (n_x0_ahead : Nat) (a_x0_ahead : (Nat → Int32)) (q_x0_behind : Nat) (n_x0_behind : Nat) (a_x0_behind : (Nat → Int32)) (x1 : Int32) (x2 : Int32) (post : Int32 → Prop) (hw : w_X6_keptBehind post n_x0_ahead a_x0_ahead n_x0_behind a_x0_behind x1 x2) : Met l yX6_keptBehind (ws_ yX6_keptBehind cX6_keptBehind 3 (some .int)) rm_X6_keptBehind (va_Pc [.ref q_x0, .int x1, .int x2] (rdC D dA cx [(q_x0, .inr (5, [.ref q_x0_ahead, .ref q_x0_behind])), (q_x0_ahead, .inl (dA 0, n_x0_ahead, .inl a_x0_ahead)), (q_x0_behind, .inl (dA 0, n_x0_behind, .inl a_x0_behind))])) (vp_Si (fun r => post r)) 0 0 (fun _ => False) := by
  refine Met.ofW (cc := cX6_keptBehind) (maxL := 3) (ret := (some .int)) (by decide) rfl ?_
  intro p e s m args below meth c s₁ B hml hv
  obtain ⟨rfl, hP, hK, hC⟩ := hv
  have hx := B.exec
  have hb := B.bytes
  have hr := B.returns
  have hts := atoms_spec (ws := (ws_ yX6_keptBehind cX6_keptBehind 3 (some .int))) B.pre
  have hts : ∀ w ∈ lw_all, w.before _ s = true := fun w h => hts w (List.mem_cons_of_mem _ h)
  have hown : s.vm.findClass RX6 = some m.cls := findClass_of_methodNamed B.named
  have hlocks := B.notSynchronized
  have hSx : CallFix p m c cX6_keptBehind 3 s _ lw_all RX6 := ⟨hx, hb, hml, hown, hts⟩
  have hNW := hC.1
  have hl := lv_entry ([.ref q_x0, .int x1, .int x2]) (n := 3) (Nat.le_of_ble_eq_true rfl)
  rw [lg_entry_eq]
  generalize (lg_sl ([.ref q_x0, .int x1, .int x2]) ++ List.replicate (3 - (lg_sl ([.ref q_x0, .int x1, .int x2])).length) Slot.unset).toArray = ls at hl ⊢
  have hl : lv_has ls 3 [(0, .ref q_x0), (1, .int x1), (2, .int x2)] := hl
  refine lv_iload_n hx hb dX6_keptBehind_0 rfl (lv_at hl 1 rfl) ?_
  refine k_ri (kc_pSN (As := [.int x1]) (rest := []) hSx (met_X1_isDigit l x1 _ hw) hNW q1346 q804 q67 q803 hd_X1_isDigit ⟨Nat.le_of_ble_eq_true rfl, Nat.le_of_ble_eq_true rfl⟩ rfl rfl rfl hl.1 (Nat.le_of_ble_eq_true rfl) rfl dX6_keptBehind_1 ⟨Nat.le_refl 0, Nat.le_refl 0⟩) (fun r7 hw => ?_)
  refine lv_if_eq (tgt := 14) hx hb dX6_keptBehind_4 (by decide) (fun c8 => ?_) (fun c8 => ?_)
  · have hw := hw.1 c8
    refine lv_iload_n hx hb dX6_keptBehind_14 rfl (lv_at hl 1 rfl) ?_
    refine lv_bipush (v := (nI 41)) hx hb dX6_keptBehind_15 (by decide) ?_
    refine lv_icmp_ne (tgt := 42) hx hb dX6_keptBehind_17 (by decide) (fun c9 => ?_) (fun c9 => ?_)
    · have hw := hw.2 c9
      refine lv_ldc (v := (nI 999999)) hx hb hown (hts _ q1330) dX6_keptBehind_42 ?_
      exact W.iret (v := (nI 999999)) hx hb hr (fun t ht hW => ⟨(nI 999999), rfl, hw, ht⟩) (fun _ h => by cases h) dX6_keptBehind_44
    · have hw := hw.1 c9
      refine lv_iload_n hx hb dX6_keptBehind_20 rfl (lv_at hl 2 rfl) ?_
      refine lv_iconst (v := (nI 1)) hx hb dX6_keptBehind_21 (by decide) ?_
      refine lv_iadd hx hb dX6_keptBehind_22 ?_
      refine lv_aload_n hx hb dX6_keptBehind_23 rfl (lv_at hl 0 rfl) ?_
      refine va_get (D := D) (ci := 5) (v := .ref q_x0_behind) (C := RX6) (T := TX6) (N := 2) hx hb hts in_X6 hown hK hP 0 rfl rfl 1 (by decide) (hts _ q1348) (fun _ h9 => h9) rfl dX6_keptBehind_24 ?_
      refine va_alen (v := (nI n_x0_behind)) hx hb hK hP 2 0 rfl rfl rfl dX6_keptBehind_27 ?_
      refine lv_icmp_ge (tgt := 42) hx hb dX6_keptBehind_28 (by decide) (fun c10 => ?_) (fun c10 => ?_)
      · have hw := hw.1 c10
        refine lv_ldc (v := (nI 999999)) hx hb hown (hts _ q1330) dX6_keptBehind_42 ?_
        exact W.iret (v := (nI 999999)) hx hb hr (fun t ht hW => ⟨(nI 999999), rfl, hw, ht⟩) (fun _ h => by cases h) dX6_keptBehind_44
      · have hw := hw.2 c10
        refine lv_aload_n hx hb dX6_keptBehind_31 rfl (lv_at hl 0 rfl) ?_
        refine va_get (D := D) (ci := 5) (v := .ref q_x0_behind) (C := RX6) (T := TX6) (N := 2) hx hb hts in_X6 hown hK hP 0 rfl rfl 1 (by decide) (hts _ q1348) (fun _ h9 => h9) rfl dX6_keptBehind_32 ?_
        refine lv_iload_n hx hb dX6_keptBehind_35 rfl (lv_at hl 2 rfl) ?_
        refine lv_iconst (v := (nI 1)) hx hb dX6_keptBehind_36 (by decide) ?_
        refine lv_iadd hx hb dX6_keptBehind_37 ?_
        obtain ⟨h11, hw⟩ := hw
        refine k_iald (k := (x2 + (nI 1)).toNatClampNeg) hx hb hK hP 2 0 rfl rfl rfl h11 dX6_keptBehind_38 ?_
        refine lv_goto (tgt := 44) hx hb dX6_keptBehind_39 (by decide) ?_
        exact W.iret (v := (a_x0_behind (x2 + (nI 1)).toNatClampNeg)) hx hb hr (fun t ht hW => ⟨(a_x0_behind (x2 + (nI 1)).toNatClampNeg), rfl, hw, ht⟩) (fun _ h => by cases h) dX6_keptBehind_44
  · have hw := hw.2 c8
    refine lv_aload_n hx hb dX6_keptBehind_7 rfl (lv_at hl 0 rfl) ?_
    refine va_get (D := D) (ci := 5) (v := .ref q_x0_ahead) (C := RX6) (T := TX6) (N := 2) hx hb hts in_X6 hown hK hP 0 rfl rfl 0 (by decide) (hts _ q1347) (fun _ h9 => h9) rfl dX6_keptBehind_8 ?_
    refine lv_iload_n hx hb dX6_keptBehind_11 rfl (lv_at hl 2 rfl) ?_
    obtain ⟨h12, hw⟩ := hw
    refine k_iald (k := x2.toNatClampNeg) hx hb hK hP 1 0 rfl rfl rfl h12 dX6_keptBehind_12 ?_
    exact W.iret (v := (a_x0_ahead x2.toNatClampNeg)) hx hb hr (fun t ht hW => ⟨(a_x0_ahead x2.toNatClampNeg), rfl, hw, ht⟩) (fun _ h => by cases h) dX6_keptBehind_13
def w_X6_step_13 (post : (Nat → Int32) → (Nat → Int32) → Prop) (n_x0_ahead : Nat) (a_x0_ahead : (Nat → Int32)) (n_x0_behind : Nat) (a_x0_behind : (Nat → Int32)) (x1 : Int32) (k13 : Nat → Nat → Int32 → (Nat → Int32) → (Nat → Int32) → Prop) (bc bs : Nat) (v4 : Int32) (a1 : (Nat → Int32)) (a2 : (Nat → Int32)) : Prop :=
  (((nI n_x0_ahead) ≤ v4 → post a1 a2) ∧ (¬ (nI n_x0_ahead) ≤ v4 → (vp_in v4 n_x0_ahead ∧ w_X6_keptAhead (fun r27 => (vp_in v4 26 ∧ (vp_in v4 n_x0_behind ∧ w_X6_keptBehind (fun r30 => (vp_in v4 26 ∧ k13 bc bs (v4 + (nI 1)) (upd a1 v4.toNatClampNeg (mnI ((a_x0_ahead v4.toNatClampNeg) + (nI 1)) r27)) (upd a2 v4.toNatClampNeg (mnI ((a_x0_behind v4.toNatClampNeg) + (nI 1)) r30)))) n_x0_ahead a_x0_ahead n_x0_behind a_x0_behind x1 v4))) n_x0_ahead a_x0_ahead n_x0_behind a_x0_behind x1 v4)))
def w_X6_step (post : (Nat → Int32) → (Nat → Int32) → Prop) (bc bs : Nat) (n_x0_ahead : Nat) (a_x0_ahead : (Nat → Int32)) (n_x0_behind : Nat) (a_x0_behind : (Nat → Int32)) (x1 : Int32) : Prop :=
  (1 ≤ bc ∧ 26 ≤ bs ∧ (1 ≤ (bc - 1) ∧ 26 ≤ (bs - 26) ∧ (∃ n : Nat, lpF (fun _ _ _ _ _ => False) (w_X6_step_13 post n_x0_ahead a_x0_ahead n_x0_behind a_x0_behind x1) n ((bc - 1) - 1) ((bs - 26) - 26) (nI 0) (fun _ => (0 : Int32)) (fun _ => (0 : Int32)))))
theorem hd_X6_keptAhead : yX6_keptAhead.cls ≠ "java/lang/invoke/MethodHandle" ∧ yX6_keptAhead.cls ≠ "java/lang/invoke/VarHandle" ∧ (parseMethodDescriptor yX6_keptAhead.desc).map (fun d => d.parameters.length) = some 2 := by decide +kernel
theorem gX6_33 : GoodIn lw_all (wsV RX6 33 RX6 yX6_keptAhead (ws_ yX6_keptAhead cX6_keptAhead 3 (some .int))) := lw_V q1337 q1339 qs26 q98 q1340
theorem hd_X6_keptBehind : yX6_keptBehind.cls ≠ "java/lang/invoke/MethodHandle" ∧ yX6_keptBehind.cls ≠ "java/lang/invoke/VarHandle" ∧ (parseMethodDescriptor yX6_keptBehind.desc).map (fun d => d.parameters.length) = some 2 := by decide +kernel
theorem gX6_43 : GoodIn lw_all (wsV RX6 43 RX6 yX6_keptBehind (ws_ yX6_keptBehind cX6_keptBehind 3 (some .int))) := lw_V q1342 q1344 qs27 q98 q1345
def rm_X6_step (bc0 bs0 : Nat) : Room := { frames := 3, cells := bc0, slots := bs0, locals := 64 }
set_option maxHeartbeats 4000000 in
set_option maxRecDepth 100000 in
theorem met_X6_step (l : Launch) (D : va_G) (dA : Nat → ClassId) (cx : CXt) (sz : Nat) (bc0 bs0 : Nat) (q_x0 : Nat) (q_x0_ahead : Nat) (n_x0_ahead : Nat) (a_x0_ahead : (Nat → Int32)) (q_x0_behind : Nat) (n_x0_behind : Nat) (a_x0_behind : (Nat → Int32)) (x1 : Int32) (post : (Nat → Int32) → (Nat → Int32) → Prop) (hw : w_X6_step post bc0 bs0 n_x0_ahead a_x0_ahead n_x0_behind a_x0_behind x1) : Met l yX6_step (ws_ yX6_step cX6_step 5 none) (rm_X6_step bc0 bs0) (va_Pc [.ref q_x0, .int x1] (wrC D dA cx sz [(q_x0, .inr (5, [.ref q_x0_ahead, .ref q_x0_behind])), (q_x0_ahead, .inl (dA 0, n_x0_ahead, .inl a_x0_ahead)), (q_x0_behind, .inl (dA 0, n_x0_behind, .inl a_x0_behind))])) (va_Qv (fun (u : Nat × (Nat → Int32) × Nat × (Nat → Int32)) => post u.2.1 u.2.2.2) (fun (u : Nat × (Nat → Int32) × Nat × (Nat → Int32)) t => wrQ D dA (va_A [(q_x0, .inr (5, [.ref q_x0_ahead, .ref q_x0_behind])), (q_x0_ahead, .inl (dA 0, n_x0_ahead, .inl a_x0_ahead)), (q_x0_behind, .inl (dA 0, n_x0_behind, .inl a_x0_behind))] sz) [(q_x0, .inr (5, [.ref u.1, .ref u.2.2.1])), (u.1, .inl (dA 0, 26, .inl u.2.1)), (u.2.2.1, .inl (dA 0, 26, .inl u.2.2.2))] t) (va_A [(q_x0, .inr (5, [.ref q_x0_ahead, .ref q_x0_behind])), (q_x0_ahead, .inl (dA 0, n_x0_ahead, .inl a_x0_ahead)), (q_x0_behind, .inl (dA 0, n_x0_behind, .inl a_x0_behind))] sz)) bc0 bs0 (va_A [(q_x0, .inr (5, [.ref q_x0_ahead, .ref q_x0_behind])), (q_x0_ahead, .inl (dA 0, n_x0_ahead, .inl a_x0_ahead)), (q_x0_behind, .inl (dA 0, n_x0_behind, .inl a_x0_behind))] sz) := by
  refine Met.ofW (cc := cX6_step) (maxL := 5) (ret := none) (by decide) rfl ?_
  intro p e s m args below meth c s₁ B hml hv
  obtain ⟨rfl, hsz, hP, hK, hD0, hC⟩ := hv
  have hx := B.exec
  have hb := B.bytes
  have hr := B.returns
  have hts := atoms_spec (ws := (ws_ yX6_step cX6_step 5 none)) B.pre
  have hts : ∀ w ∈ lw_all, w.before _ s = true := fun w h => hts w (List.mem_cons_of_mem _ h)
  have hown : s.vm.findClass RX6 = some m.cls := findClass_of_methodNamed B.named
  have hlocks := B.notSynchronized
  have hSx : CallFix p m c cX6_step 5 s _ lw_all RX6 := ⟨hx, hb, hml, hown, hts⟩
  subst hsz
  have hD := hD0.self (sz := s.heap.size)
  generalize hAe : va_A [(q_x0, .inr (5, [.ref q_x0_ahead, .ref q_x0_behind])), (q_x0_ahead, .inl (dA 0, n_x0_ahead, .inl a_x0_ahead)), (q_x0_behind, .inl (dA 0, n_x0_behind, .inl a_x0_behind))] s.heap.size = A at hD hC ⊢
  have hA : ∀ q : Nat, s.heap.size ≤ q → A q := fun q h => by rw [← hAe]; exact Or.inr h
  have hS : va_S A s.heap s.heap [] := va_S.rf
  have hbud : 0 + bc0 ≤ bc0 ∧ 0 + bs0 ≤ bs0 := by omega
  have hNW := hC.1
  have hl := lv_entry ([.ref q_x0, .int x1]) (n := 5) (Nat.le_of_ble_eq_true rfl)
  rw [lg_entry_eq]
  generalize (lg_sl ([.ref q_x0, .int x1]) ++ List.replicate (5 - (lg_sl ([.ref q_x0, .int x1])).length) Slot.unset).toArray = ls at hl ⊢
  have hl : lv_has ls 5 [(0, .ref q_x0), (1, .int x1)] := hl
  have hL13 : ∀  (n : Nat) (bc bs kc ks : Nat) (v4 : Int32) (ad1 : Nat) (a1 : (Nat → Int32)) (ad2 : Nat) (a2 : (Nat → Int32)) (H : Heap) (locs : List Loc) (ls : Array Slot), kc + bc ≤ bc0 ∧ ks + bs ≤ bs0 → va_P D vwCl [(q_x0, .inr (5, [.ref q_x0_ahead, .ref q_x0_behind])), (ad1, .inl (dA 0, 26, .inl a1)), (ad2, .inl (dA 0, 26, .inl a2)), (q_x0_ahead, .inl (dA 0, n_x0_ahead, .inl a_x0_ahead)), (q_x0_behind, .inl (dA 0, n_x0_behind, .inl a_x0_behind))] H → va_D A [(q_x0, .inr (5, [.ref q_x0_ahead, .ref q_x0_behind])), (ad1, .inl (dA 0, 26, .inl a1)), (ad2, .inl (dA 0, 26, .inl a2)), (q_x0_ahead, .inl (dA 0, n_x0_ahead, .inl a_x0_ahead)), (q_x0_behind, .inl (dA 0, n_x0_behind, .inl a_x0_behind))] → va_S A s.heap H locs → lv_has ls 5 [(0, .ref q_x0), (1, .int x1), (2, .ref ad1), (3, .ref ad2), (4, .int v4)] → lpF (fun _ _ _ _ _ => False) (w_X6_step_13 post n_x0_ahead a_x0_ahead n_x0_behind a_x0_behind x1) n bc bs v4 a1 a2 → W p l e (headSpec (ws_ yX6_step cX6_step 5 none) (rm_X6_step bc0 bs0)).room s m ([.ref q_x0, .int x1] : List Value).toArray below meth c H locs kc ks (MQ below (va_Qv (fun (u : Nat × (Nat → Int32) × Nat × (Nat → Int32)) => post u.2.1 u.2.2.2) (fun (u : Nat × (Nat → Int32) × Nat × (Nat → Int32)) t => wrQ D dA A [(q_x0, .inr (5, [.ref u.1, .ref u.2.2.1])), (u.1, .inl (dA 0, 26, .inl u.2.1)), (u.2.2.1, .inl (dA 0, 26, .inl u.2.2.2))] t) A) ([.ref q_x0, .int x1] : List Value).toArray s bc0 bs0 A) (F0 m 13 ls []) := by
    intro  n
    induction n with
    | zero => intro bc bs kc ks v4 ad1 a1 ad2 a2 H locs ls hbud hP hD hS hl hw; exact absurd hw id
    | succ n hk13 =>
      intro bc bs kc ks v4 ad1 a1 ad2 a2 H locs ls hbud hP hD hS hl hw
      generalize hk9 : lpF (fun _ _ _ _ _ => False) (w_X6_step_13 post n_x0_ahead a_x0_ahead n_x0_behind a_x0_behind x1) n = k13 at hk13
      have hw : (w_X6_step_13 post n_x0_ahead a_x0_ahead n_x0_behind a_x0_behind x1) k13 bc bs v4 a1 a2 := hk9 ▸ hw
      refine lv_iload hx hb dX6_step_13 (lv_at hl 4 rfl) ?_
      refine lv_aload_n hx hb dX6_step_15 rfl (lv_at hl 0 rfl) ?_
      refine va_get (D := D) (ci := 5) (v := .ref q_x0_ahead) (C := RX6) (T := TX6) (N := 2) hx hb hts in_X6 hown hK hP 0 rfl rfl 0 (by decide) (hts _ q1347) (fun _ h9 => h9) rfl dX6_step_16 ?_
      refine va_alen (v := (nI n_x0_ahead)) hx hb hK hP 3 0 rfl rfl rfl dX6_step_19 ?_
      refine lv_icmp_ge (tgt := 75) hx hb dX6_step_20 (by decide) (fun c25 => ?_) (fun c25 => ?_)
      · have hw := hw.1 c25
        refine lv_aload_n hx hb dX6_step_75 rfl (lv_at hl 0 rfl) ?_
        refine lv_aload_n hx hb dX6_step_76 rfl (lv_at hl 2 rfl) ?_
        refine va_put (D := D) (ci := 5) (v := .ref ad1) (ty := (.array .int)) (C := RX6) (T := TX6) (N := 2) hx hb hts in_X6 tyX6 tyX6_ok nmX6 hown hK hP hD hS 0 rfl rfl 0 (by decide) (hts _ q1347) (fun _ h9 => h9) rfl (by decide +kernel) rfl rfl (Nat.le_of_ble_eq_true rfl) dX6_step_77 (fun H locs hP hD hS => ?_)
        have hP : va_P D vwCl [(q_x0, .inr (5, [.ref ad1, .ref q_x0_behind])), (ad1, .inl (dA 0, 26, .inl a1)), (ad2, .inl (dA 0, 26, .inl a2)), (q_x0_ahead, .inl (dA 0, n_x0_ahead, .inl a_x0_ahead)), (q_x0_behind, .inl (dA 0, n_x0_behind, .inl a_x0_behind))] H := hP
        have hD : va_D A [(q_x0, .inr (5, [.ref ad1, .ref q_x0_behind])), (ad1, .inl (dA 0, 26, .inl a1)), (ad2, .inl (dA 0, 26, .inl a2)), (q_x0_ahead, .inl (dA 0, n_x0_ahead, .inl a_x0_ahead)), (q_x0_behind, .inl (dA 0, n_x0_behind, .inl a_x0_behind))] := hD
        refine lv_aload_n hx hb dX6_step_80 rfl (lv_at hl 0 rfl) ?_
        refine lv_aload_n hx hb dX6_step_81 rfl (lv_at hl 3 rfl) ?_
        refine va_put (D := D) (ci := 5) (v := .ref ad2) (ty := (.array .int)) (C := RX6) (T := TX6) (N := 2) hx hb hts in_X6 tyX6 tyX6_ok nmX6 hown hK hP hD hS 0 rfl rfl 1 (by decide) (hts _ q1348) (fun _ h9 => h9) rfl (by decide +kernel) rfl rfl (Nat.le_of_ble_eq_true rfl) dX6_step_82 (fun H locs hP hD hS => ?_)
        have hP : va_P D vwCl [(q_x0, .inr (5, [.ref ad1, .ref ad2])), (ad1, .inl (dA 0, 26, .inl a1)), (ad2, .inl (dA 0, 26, .inl a2)), (q_x0_ahead, .inl (dA 0, n_x0_ahead, .inl a_x0_ahead)), (q_x0_behind, .inl (dA 0, n_x0_behind, .inl a_x0_behind))] H := hP
        have hD : va_D A [(q_x0, .inr (5, [.ref ad1, .ref ad2])), (ad1, .inl (dA 0, 26, .inl a1)), (ad2, .inl (dA 0, 26, .inl a2)), (q_x0_ahead, .inl (dA 0, n_x0_ahead, .inl a_x0_ahead)), (q_x0_behind, .inl (dA 0, n_x0_behind, .inl a_x0_behind))] := hD
        refine W.widen (k := bc0) (n := bs0) (by omega) (by omega) ?_
        exact W.vret hx hb hr (fun t ht hW => ⟨⟨(ad1, a1, ad2, a2), rfl, hw, by rw [ht]; exact hP.sub [0, 1, 2] rfl, va_K.moved hW.alike hK, hD.sub [0, 1, 2] (by decide) rfl⟩, hS.F ht⟩) hS.2.2 dX6_step_85
      · have hw := hw.2 c25
        refine lv_aload_n hx hb dX6_step_23 rfl (lv_at hl 2 rfl) ?_
        refine lv_iload hx hb dX6_step_24 (lv_at hl 4 rfl) ?_
        refine lv_aload_n hx hb dX6_step_26 rfl (lv_at hl 0 rfl) ?_
        refine va_get (D := D) (ci := 5) (v := .ref q_x0_ahead) (C := RX6) (T := TX6) (N := 2) hx hb hts in_X6 hown hK hP 0 rfl rfl 0 (by decide) (hts _ q1347) (fun _ h9 => h9) rfl dX6_step_27 ?_
        refine lv_iload hx hb dX6_step_30 (lv_at hl 4 rfl) ?_
        obtain ⟨h26, hw⟩ := hw
        refine k_iald (k := v4.toNatClampNeg) hx hb hK hP 3 0 rfl rfl rfl h26 dX6_step_32 ?_
        refine lv_iconst (v := (nI 1)) hx hb dX6_step_33 (by decide) ?_
        refine lv_iadd hx hb dX6_step_34 ?_
        refine lv_aload_n hx hb dX6_step_35 rfl (lv_at hl 0 rfl) ?_
        refine lv_iload_n hx hb dX6_step_36 rfl (lv_at hl 1 rfl) ?_
        refine lv_iload hx hb dX6_step_37 (lv_at hl 4 rfl) ?_
        refine k_ri (kc_rV (As := [.int x1, .int v4]) (rest := [.int ((a_x0_ahead v4.toNatClampNeg) + (nI 1)), .int v4, .ref ad1]) hSx (met_X6_keptAhead l D dA cx q_x0 q_x0_ahead n_x0_ahead a_x0_ahead q_x0_behind n_x0_behind a_x0_behind x1 v4 _ hw) gX6_33 ⟨rfl, hd_X6_keptAhead⟩ ⟨Nat.le_of_ble_eq_true rfl, Nat.le_of_ble_eq_true rfl⟩ rfl rfl hP hK (hC.kept hS.2.1) [0, 3, 4] rfl 0 rfl rfl rfl rfl hl.1 (Nat.le_of_ble_eq_true rfl) rfl dX6_step_39 ⟨(show kc + 0 ≤ bc0 by omega), (show ks + 0 ≤ bs0 by omega)⟩) (fun r27 hw => ?_)
        refine k_mmin hSx hl.1 q1341 q369 q82 q370 (Nat.le_of_ble_eq_true rfl) (Nat.le_of_ble_eq_true rfl) (show kc ≤ bc0 by omega) (show ks ≤ bs0 by omega) dX6_step_42 ?_
        refine lv_topi (fun z9 ez9 => ?_)
        obtain rfl : z9 = (mnI ((a_x0_ahead v4.toNatClampNeg) + (nI 1)) r27) := ez9
        obtain ⟨h28, hw⟩ := hw
        refine k_iast (k := v4.toNatClampNeg) hx hb hK hP hD hS 1 0 rfl rfl rfl h28 dX6_step_45 (fun H locs hP hD hS => ?_)
        have hP : va_P D vwCl [(q_x0, .inr (5, [.ref q_x0_ahead, .ref q_x0_behind])), (ad1, .inl (dA 0, 26, .inl (upd a1 v4.toNatClampNeg (mnI ((a_x0_ahead v4.toNatClampNeg) + (nI 1)) r27)))), (ad2, .inl (dA 0, 26, .inl a2)), (q_x0_ahead, .inl (dA 0, n_x0_ahead, .inl a_x0_ahead)), (q_x0_behind, .inl (dA 0, n_x0_behind, .inl a_x0_behind))] H := hP
        have hD : va_D A [(q_x0, .inr (5, [.ref q_x0_ahead, .ref q_x0_behind])), (ad1, .inl (dA 0, 26, .inl (upd a1 v4.toNatClampNeg (mnI ((a_x0_ahead v4.toNatClampNeg) + (nI 1)) r27)))), (ad2, .inl (dA 0, 26, .inl a2)), (q_x0_ahead, .inl (dA 0, n_x0_ahead, .inl a_x0_ahead)), (q_x0_behind, .inl (dA 0, n_x0_behind, .inl a_x0_behind))] := hD
        refine lv_aload_n hx hb dX6_step_46 rfl (lv_at hl 3 rfl) ?_
        refine lv_iload hx hb dX6_step_47 (lv_at hl 4 rfl) ?_
        refine lv_aload_n hx hb dX6_step_49 rfl (lv_at hl 0 rfl) ?_
        refine va_get (D := D) (ci := 5) (v := .ref q_x0_behind) (C := RX6) (T := TX6) (N := 2) hx hb hts in_X6 hown hK hP 0 rfl rfl 1 (by decide) (hts _ q1348) (fun _ h9 => h9) rfl dX6_step_50 ?_
        refine lv_iload hx hb dX6_step_53 (lv_at hl 4 rfl) ?_
        obtain ⟨h29, hw⟩ := hw
        refine k_iald (k := v4.toNatClampNeg) hx hb hK hP 4 0 rfl rfl rfl h29 dX6_step_55 ?_
        refine lv_iconst (v := (nI 1)) hx hb dX6_step_56 (by decide) ?_
        refine lv_iadd hx hb dX6_step_57 ?_
        refine lv_aload_n hx hb dX6_step_58 rfl (lv_at hl 0 rfl) ?_
        refine lv_iload_n hx hb dX6_step_59 rfl (lv_at hl 1 rfl) ?_
        refine lv_iload hx hb dX6_step_60 (lv_at hl 4 rfl) ?_
        refine k_ri (kc_rV (As := [.int x1, .int v4]) (rest := [.int ((a_x0_behind v4.toNatClampNeg) + (nI 1)), .int v4, .ref ad2]) hSx (met_X6_keptBehind l D dA cx q_x0 q_x0_ahead n_x0_ahead a_x0_ahead q_x0_behind n_x0_behind a_x0_behind x1 v4 _ hw) gX6_43 ⟨rfl, hd_X6_keptBehind⟩ ⟨Nat.le_of_ble_eq_true rfl, Nat.le_of_ble_eq_true rfl⟩ rfl rfl hP hK (hC.kept hS.2.1) [0, 3, 4] rfl 0 rfl rfl rfl rfl hl.1 (Nat.le_of_ble_eq_true rfl) rfl dX6_step_62 ⟨(show kc + 0 ≤ bc0 by omega), (show ks + 0 ≤ bs0 by omega)⟩) (fun r30 hw => ?_)
        refine k_mmin hSx hl.1 q1341 q369 q82 q370 (Nat.le_of_ble_eq_true rfl) (Nat.le_of_ble_eq_true rfl) (show kc ≤ bc0 by omega) (show ks ≤ bs0 by omega) dX6_step_65 ?_
        refine lv_topi (fun z9 ez9 => ?_)
        obtain rfl : z9 = (mnI ((a_x0_behind v4.toNatClampNeg) + (nI 1)) r30) := ez9
        obtain ⟨h31, hw⟩ := hw
        refine k_iast (k := v4.toNatClampNeg) hx hb hK hP hD hS 2 0 rfl rfl rfl h31 dX6_step_68 (fun H locs hP hD hS => ?_)
        have hP : va_P D vwCl [(q_x0, .inr (5, [.ref q_x0_ahead, .ref q_x0_behind])), (ad1, .inl (dA 0, 26, .inl (upd a1 v4.toNatClampNeg (mnI ((a_x0_ahead v4.toNatClampNeg) + (nI 1)) r27)))), (ad2, .inl (dA 0, 26, .inl (upd a2 v4.toNatClampNeg (mnI ((a_x0_behind v4.toNatClampNeg) + (nI 1)) r30)))), (q_x0_ahead, .inl (dA 0, n_x0_ahead, .inl a_x0_ahead)), (q_x0_behind, .inl (dA 0, n_x0_behind, .inl a_x0_behind))] H := hP
        have hD : va_D A [(q_x0, .inr (5, [.ref q_x0_ahead, .ref q_x0_behind])), (ad1, .inl (dA 0, 26, .inl (upd a1 v4.toNatClampNeg (mnI ((a_x0_ahead v4.toNatClampNeg) + (nI 1)) r27)))), (ad2, .inl (dA 0, 26, .inl (upd a2 v4.toNatClampNeg (mnI ((a_x0_behind v4.toNatClampNeg) + (nI 1)) r30)))), (q_x0_ahead, .inl (dA 0, n_x0_ahead, .inl a_x0_ahead)), (q_x0_behind, .inl (dA 0, n_x0_behind, .inl a_x0_behind))] := hD
        refine lv_iinc (v := (v4 + (nI 1))) (lv' := [(4, .int (v4 + (nI 1))), (0, .ref q_x0), (1, .int x1), (2, .ref ad1), (3, .ref ad2)]) hx hb dX6_step_69 hl (k := 4) rfl (congrArg (fun z => v4 + z) (by decide : Int32.ofInt (1) = (nI 1))) (by decide) rfl (fun ls hl => ?_)
        refine lv_goto (tgt := 13) hx hb dX6_step_72 (by decide) ?_
        exact hk13 bc bs kc ks (v4 + (nI 1)) ad1 (upd a1 v4.toNatClampNeg (mnI ((a_x0_ahead v4.toNatClampNeg) + (nI 1)) r27)) ad2 (upd a2 v4.toNatClampNeg (mnI ((a_x0_behind v4.toNatClampNeg) + (nI 1)) r30)) _ _ _ hbud (hP.sub [0, 1, 2, 3, 4] rfl) (hD.sub [0, 1, 2, 3, 4] (by decide) rfl) hS (lv_sub hl [1, 2, 3, 4, 0] rfl) hw
  refine lv_bipush (v := (nI 26)) hx hb dX6_step_0 (by decide) ?_
  obtain ⟨h33, h34, hw⟩ := hw
  refine k_newa (ty := .int) (atype := .int) (a0 := (26, .inl (fun _ => (0 : Int32)))) hx hb (hts _ q148) rfl (fun _ h => by cases h) 0 rfl hK hP hD hS hA (fun _ => rfl) (nI_pos (by decide)) (clK 26 (by decide)) (Nat.le_of_ble_eq_true rfl) (show 0 + 1 ≤ bc0 by omega) (show 0 + 26 ≤ bs0 by omega) dX6_step_2 (fun q32 H hP hD hS => ?_)
  have hP : va_P D vwCl [(q_x0, .inr (5, [.ref q_x0_ahead, .ref q_x0_behind])), (q_x0_ahead, .inl (dA 0, n_x0_ahead, .inl a_x0_ahead)), (q_x0_behind, .inl (dA 0, n_x0_behind, .inl a_x0_behind)), (q32, .inl (dA 0, 26, .inl (fun _ => (0 : Int32))))] H := hP
  have hD : va_D A [(q_x0, .inr (5, [.ref q_x0_ahead, .ref q_x0_behind])), (q_x0_ahead, .inl (dA 0, n_x0_ahead, .inl a_x0_ahead)), (q_x0_behind, .inl (dA 0, n_x0_behind, .inl a_x0_behind)), (q32, .inl (dA 0, 26, .inl (fun _ => (0 : Int32))))] := hD
  have hbud : (0 + 1) + (bc0 - 1) ≤ bc0 ∧ (0 + 26) + (bs0 - 26) ≤ bs0 := by omega
  refine lv_astore_n (lv' := [(2, .ref q32), (0, .ref q_x0), (1, .int x1)]) hx hb dX6_step_4 rfl hl (by decide) rfl (fun ls hl => ?_)
  refine lv_bipush (v := (nI 26)) hx hb dX6_step_5 (by decide) ?_
  obtain ⟨h36, h37, hw⟩ := hw
  refine k_newa (ty := .int) (atype := .int) (a0 := (26, .inl (fun _ => (0 : Int32)))) hx hb (hts _ q148) rfl (fun _ h => by cases h) 0 rfl hK hP hD hS hA (fun _ => rfl) (nI_pos (by decide)) (clK 26 (by decide)) (Nat.le_of_ble_eq_true rfl) (show (0 + 1) + 1 ≤ bc0 by omega) (show (0 + 26) + 26 ≤ bs0 by omega) dX6_step_7 (fun q35 H hP hD hS => ?_)
  have hP : va_P D vwCl [(q_x0, .inr (5, [.ref q_x0_ahead, .ref q_x0_behind])), (q_x0_ahead, .inl (dA 0, n_x0_ahead, .inl a_x0_ahead)), (q_x0_behind, .inl (dA 0, n_x0_behind, .inl a_x0_behind)), (q32, .inl (dA 0, 26, .inl (fun _ => (0 : Int32)))), (q35, .inl (dA 0, 26, .inl (fun _ => (0 : Int32))))] H := hP
  have hD : va_D A [(q_x0, .inr (5, [.ref q_x0_ahead, .ref q_x0_behind])), (q_x0_ahead, .inl (dA 0, n_x0_ahead, .inl a_x0_ahead)), (q_x0_behind, .inl (dA 0, n_x0_behind, .inl a_x0_behind)), (q32, .inl (dA 0, 26, .inl (fun _ => (0 : Int32)))), (q35, .inl (dA 0, 26, .inl (fun _ => (0 : Int32))))] := hD
  have hbud : ((0 + 1) + 1) + ((bc0 - 1) - 1) ≤ bc0 ∧ ((0 + 26) + 26) + ((bs0 - 26) - 26) ≤ bs0 := by omega
  refine lv_astore_n (lv' := [(3, .ref q35), (2, .ref q32), (0, .ref q_x0), (1, .int x1)]) hx hb dX6_step_9 rfl hl (by decide) rfl (fun ls hl => ?_)
  refine lv_iconst (v := (nI 0)) hx hb dX6_step_10 (by decide) ?_
  refine lv_istore (lv' := [(4, .int (nI 0)), (3, .ref q35), (2, .ref q32), (0, .ref q_x0), (1, .int x1)]) hx hb dX6_step_11 hl (by decide) rfl (fun ls hl => ?_)
  obtain ⟨n, hw⟩ := hw
  exact hL13  n ((bc0 - 1) - 1) ((bs0 - 26) - 26) ((0 + 1) + 1) ((0 + 26) + 26) (nI 0) q32 (fun _ => (0 : Int32)) q35 (fun _ => (0 : Int32)) _ _ _ hbud (hP.sub [0, 3, 4, 1, 2] rfl) (hD.sub [0, 3, 4, 1, 2] (by decide) rfl) hS (lv_sub hl [3, 4, 2, 1, 0] rfl) hw
def w_X6_removals (post : Int32 → Prop) (n_x0_behind : Nat) (a_x0_behind : (Nat → Int32)) : Prop :=
  (vp_in (nI 0) n_x0_behind ∧ post (a_x0_behind (nI 0).toNatClampNeg))
def rm_X6_removals : Room := { frames := 0, cells := 0, slots := 0, locals := 0 }
set_option maxHeartbeats 4000000 in
set_option maxRecDepth 100000 in
theorem met_X6_removals (l : Launch) (D : va_G) (dA : Nat → ClassId) (cx : CXt) (q_x0 : Nat) (q_x0_ahead : Nat) (n_x0_ahead : Nat) (a_x0_ahead : (Nat → Int32)) (q_x0_behind : Nat) (n_x0_behind : Nat) (a_x0_behind : (Nat → Int32)) (post : Int32 → Prop) (hw : w_X6_removals post n_x0_behind a_x0_behind) : Met l yX6_removals (ws_ yX6_removals cX6_removals 1 (some .int)) rm_X6_removals (va_Pc [.ref q_x0] (rdC D dA cx [(q_x0, .inr (5, [.ref q_x0_ahead, .ref q_x0_behind])), (q_x0_ahead, .inl (dA 0, n_x0_ahead, .inl a_x0_ahead)), (q_x0_behind, .inl (dA 0, n_x0_behind, .inl a_x0_behind))])) (vp_Si (fun r => post r)) 0 0 (fun _ => False) := by
  refine Met.ofW (cc := cX6_removals) (maxL := 1) (ret := (some .int)) (by decide) rfl ?_
  intro p e s m args below meth c s₁ B hml hv
  obtain ⟨rfl, hP, hK, hC⟩ := hv
  have hx := B.exec
  have hb := B.bytes
  have hr := B.returns
  have hts := atoms_spec (ws := (ws_ yX6_removals cX6_removals 1 (some .int))) B.pre
  have hts : ∀ w ∈ lw_all, w.before _ s = true := fun w h => hts w (List.mem_cons_of_mem _ h)
  have hown : s.vm.findClass RX6 = some m.cls := findClass_of_methodNamed B.named
  have hlocks := B.notSynchronized
  have hSx : CallFix p m c cX6_removals 1 s _ lw_all RX6 := ⟨hx, hb, hml, hown, hts⟩
  have hNW := hC.1
  have hl := lv_entry ([.ref q_x0]) (n := 1) (Nat.le_of_ble_eq_true rfl)
  rw [lg_entry_eq]
  generalize (lg_sl ([.ref q_x0]) ++ List.replicate (1 - (lg_sl ([.ref q_x0])).length) Slot.unset).toArray = ls at hl ⊢
  have hl : lv_has ls 1 [(0, .ref q_x0)] := hl
  refine lv_aload_n hx hb dX6_removals_0 rfl (lv_at hl 0 rfl) ?_
  refine va_get (D := D) (ci := 5) (v := .ref q_x0_behind) (C := RX6) (T := TX6) (N := 2) hx hb hts in_X6 hown hK hP 0 rfl rfl 1 (by decide) (hts _ q1348) (fun _ h9 => h9) rfl dX6_removals_1 ?_
  refine lv_iconst (v := (nI 0)) hx hb dX6_removals_4 (by decide) ?_
  obtain ⟨h2, hw⟩ := hw
  refine k_iald (k := (nI 0).toNatClampNeg) hx hb hK hP 2 0 rfl rfl rfl h2 dX6_removals_5 ?_
  exact W.iret (v := (a_x0_behind (nI 0).toNatClampNeg)) hx hb hr (fun t ht hW => ⟨(a_x0_behind (nI 0).toNatClampNeg), rfl, hw, ht⟩) (fun _ h => by cases h) dX6_removals_6
def w_X6_init_46 (post : (Nat → Int32) → (Nat → Int32) → Prop)  (k22 : Nat → Nat → Int32 → (Nat → Int32) → (Nat → Int32) → Prop) (bc bs : Nat) (v2 : Int32) (s1 : Int32) (s2 : Int32) (a2 : (Nat → Int32)) (a3 : (Nat → Int32)) : Prop :=
  (vp_in s1 26 ∧ (vp_in v2 26 ∧ k22 bc bs (v2 + (nI 1)) (upd a2 s1.toNatClampNeg s2) (upd a3 v2.toNatClampNeg (nI 999999))))
def w_X6_init_63 (post : (Nat → Int32) → (Nat → Int32) → Prop) (n_x1_value : Nat) (a_x1_value : (Nat → Int32)) (x1_count : Int32) (k63 : Nat → Nat → Int32 → (Nat → Int32) → (Nat → Int32) → Prop) (bc bs : Nat) (v2 : Int32) (a2 : (Nat → Int32)) (a3 : (Nat → Int32)) : Prop :=
  w_J5_length (fun r53 => ((r53 ≤ v2 → post a2 a3) ∧ (¬ r53 ≤ v2 → w_J5_charAt (fun r55 => (∃ b60 b61 : Nat, b60 ≤ bc ∧ b61 ≤ bs ∧ w_X6_step (fun o57 o59 => k63 (bc - b60) (bs - b61) (v2 + (nI 1)) o57 o59) b60 b61 26 a2 26 a3 r55)) n_x1_value a_x1_value x1_count v2))) x1_count
def w_X6_init_22 (post : (Nat → Int32) → (Nat → Int32) → Prop) (n_x1_value : Nat) (a_x1_value : (Nat → Int32)) (x1_count : Int32) (k22 : Nat → Nat → Int32 → (Nat → Int32) → (Nat → Int32) → Prop) (bc bs : Nat) (v2 : Int32) (a2 : (Nat → Int32)) (a3 : (Nat → Int32)) : Prop :=
  (((nI 26) ≤ v2 → (∃ n : Nat, lpF (fun _ _ _ _ _ => False) (w_X6_init_63 post n_x1_value a_x1_value x1_count) n bc bs (nI 0) a2 a3)) ∧ (¬ (nI 26) ≤ v2 → ((v2 = 0 → (w_X6_init_46 post k22) bc bs v2 v2 (nI 0) a2 a3) ∧ (¬ v2 = 0 → (w_X6_init_46 post k22) bc bs v2 v2 (nI 999999) a2 a3))))
def w_X6_init (post : (Nat → Int32) → (Nat → Int32) → Prop) (bc bs : Nat) (n_x1_value : Nat) (a_x1_value : (Nat → Int32)) (x1_count : Int32) : Prop :=
  (1 ≤ bc ∧ 26 ≤ bs ∧ (1 ≤ (bc - 1) ∧ 26 ≤ (bs - 26) ∧ (∃ n : Nat, lpF (fun _ _ _ _ _ => False) (w_X6_init_22 post n_x1_value a_x1_value x1_count) n ((bc - 1) - 1) ((bs - 26) - 26) (nI 0) (fun _ => (0 : Int32)) (fun _ => (0 : Int32)))))
theorem hd_J5_length : yJ5_length.cls ≠ "java/lang/invoke/MethodHandle" ∧ yJ5_length.cls ≠ "java/lang/invoke/VarHandle" ∧ (parseMethodDescriptor yJ5_length.desc).map (fun d => d.parameters.length) = some 0 := by decide +kernel
theorem gX6_19 : GoodIn lw_all (wsV RX6 19 RJ5 yJ5_length (ws_ yJ5_length cJ5_length 1 (some .int))) := lw_V q1331 q447 q448 q74 q449
theorem hd_J5_charAt : yJ5_charAt.cls ≠ "java/lang/invoke/MethodHandle" ∧ yJ5_charAt.cls ≠ "java/lang/invoke/VarHandle" ∧ (parseMethodDescriptor yJ5_charAt.desc).map (fun d => d.parameters.length) = some 1 := by decide +kernel
theorem gX6_25 : GoodIn lw_all (wsV RX6 25 RJ5 yJ5_charAt (ws_ yJ5_charAt cJ5_charAt 2 (some .char))) := lw_V q1332 q784 q785 q74 q786
theorem hd_X6_step : yX6_step.cls ≠ "java/lang/invoke/MethodHandle" ∧ yX6_step.cls ≠ "java/lang/invoke/VarHandle" ∧ (parseMethodDescriptor yX6_step.desc).map (fun d => d.parameters.length) = some 1 := by decide +kernel
theorem gX6_29 : GoodIn lw_all (wsV RX6 29 RX6 yX6_step (ws_ yX6_step cX6_step 5 none)) := lw_V q1333 q1335 qs25 q98 q1336
def rm_X6_init (bc0 bs0 : Nat) : Room := { frames := 4, cells := bc0, slots := bs0, locals := 88 }
set_option maxHeartbeats 4000000 in
set_option maxRecDepth 100000 in
theorem met_X6_init (l : Launch) (D : va_G) (dA : Nat → ClassId) (cx : CXt) (sz : Nat) (bc0 bs0 : Nat) (q_x0 : Nat) (q_x1 : Nat) (q_x1_value : Nat) (n_x1_value : Nat) (a_x1_value : (Nat → Int32)) (x1_maybeLatin1 : Int32) (x1_count : Int32) (post : (Nat → Int32) → (Nat → Int32) → Prop) (hw : w_X6_init post bc0 bs0 n_x1_value a_x1_value x1_count) : Met l yX6_init (ws_ yX6_init cX6_init 3 none) (rm_X6_init bc0 bs0) (va_Pc [.ref q_x0, .ref q_x1] (wrC D dA cx sz [(q_x0, .inr (5, [.null, .null])), (q_x1, .inr (11, [.ref q_x1_value, .int (nI 0), .int x1_maybeLatin1, .int x1_count])), (q_x1_value, .inl (dA 3, n_x1_value, .inl a_x1_value))])) (va_Qv (fun (u : Nat × (Nat → Int32) × Nat × (Nat → Int32)) => post u.2.1 u.2.2.2) (fun (u : Nat × (Nat → Int32) × Nat × (Nat → Int32)) t => wrQ D dA (va_A [(q_x0, .inr (5, [.null, .null])), (q_x1, .inr (11, [.ref q_x1_value, .int (nI 0), .int x1_maybeLatin1, .int x1_count])), (q_x1_value, .inl (dA 3, n_x1_value, .inl a_x1_value))] sz) [(q_x0, .inr (5, [.ref u.1, .ref u.2.2.1])), (q_x1, .inr (11, [.ref q_x1_value, .int (nI 0), .int x1_maybeLatin1, .int x1_count])), (u.1, .inl (dA 0, 26, .inl u.2.1)), (u.2.2.1, .inl (dA 0, 26, .inl u.2.2.2)), (q_x1_value, .inl (dA 3, n_x1_value, .inl a_x1_value))] t) (va_A [(q_x0, .inr (5, [.null, .null])), (q_x1, .inr (11, [.ref q_x1_value, .int (nI 0), .int x1_maybeLatin1, .int x1_count])), (q_x1_value, .inl (dA 3, n_x1_value, .inl a_x1_value))] sz)) bc0 bs0 (va_A [(q_x0, .inr (5, [.null, .null])), (q_x1, .inr (11, [.ref q_x1_value, .int (nI 0), .int x1_maybeLatin1, .int x1_count])), (q_x1_value, .inl (dA 3, n_x1_value, .inl a_x1_value))] sz) := by
  refine Met.ofW (cc := cX6_init) (maxL := 3) (ret := none) (by decide) rfl ?_
  intro p e s m args below meth c s₁ B hml hv
  obtain ⟨rfl, hsz, hP, hK, hD0, hC⟩ := hv
  have hx := B.exec
  have hb := B.bytes
  have hr := B.returns
  have hts := atoms_spec (ws := (ws_ yX6_init cX6_init 3 none)) B.pre
  have hts : ∀ w ∈ lw_all, w.before _ s = true := fun w h => hts w (List.mem_cons_of_mem _ h)
  have hown : s.vm.findClass RX6 = some m.cls := findClass_of_methodNamed B.named
  have hlocks := B.notSynchronized
  have hSx : CallFix p m c cX6_init 3 s _ lw_all RX6 := ⟨hx, hb, hml, hown, hts⟩
  have hin : meth.name = "<init>" := (name_of_methodNamed B.named B.method).1
  subst hsz
  have hD := hD0.self (sz := s.heap.size)
  generalize hAe : va_A [(q_x0, .inr (5, [.null, .null])), (q_x1, .inr (11, [.ref q_x1_value, .int (nI 0), .int x1_maybeLatin1, .int x1_count])), (q_x1_value, .inl (dA 3, n_x1_value, .inl a_x1_value))] s.heap.size = A at hD hC ⊢
  have hA : ∀ q : Nat, s.heap.size ≤ q → A q := fun q h => by rw [← hAe]; exact Or.inr h
  have hS : va_S A s.heap s.heap [] := va_S.rf
  have hbud : 0 + bc0 ≤ bc0 ∧ 0 + bs0 ≤ bs0 := by omega
  have hNW := hC.1
  have hl := lv_entry ([.ref q_x0, .ref q_x1]) (n := 3) (Nat.le_of_ble_eq_true rfl)
  rw [lg_entry_eq]
  generalize (lg_sl ([.ref q_x0, .ref q_x1]) ++ List.replicate (3 - (lg_sl ([.ref q_x0, .ref q_x1])).length) Slot.unset).toArray = ls at hl ⊢
  have hl : lv_has ls 3 [(0, .ref q_x0), (1, .ref q_x1)] := hl
  have hL46 : ∀ (k22 : Nat → Nat → Int32 → (Nat → Int32) → (Nat → Int32) → Prop) (hk22 : ∀ (bc bs kc ks : Nat) (v2 : Int32) (ad2 : Nat) (a2 : (Nat → Int32)) (ad3 : Nat) (a3 : (Nat → Int32)) (H : Heap) (locs : List Loc) (ls : Array Slot), kc + bc ≤ bc0 ∧ ks + bs ≤ bs0 → va_P D vwCl [(q_x0, .inr (5, [.ref ad2, .ref ad3])), (q_x1, .inr (11, [.ref q_x1_value, .int (nI 0), .int x1_maybeLatin1, .int x1_count])), (ad2, .inl (dA 0, 26, .inl a2)), (ad3, .inl (dA 0, 26, .inl a3)), (q_x1_value, .inl (dA 3, n_x1_value, .inl a_x1_value))] H → va_D A [(q_x0, .inr (5, [.ref ad2, .ref ad3])), (q_x1, .inr (11, [.ref q_x1_value, .int (nI 0), .int x1_maybeLatin1, .int x1_count])), (ad2, .inl (dA 0, 26, .inl a2)), (ad3, .inl (dA 0, 26, .inl a3)), (q_x1_value, .inl (dA 3, n_x1_value, .inl a_x1_value))] → va_S A s.heap H locs → lv_has ls 3 [(0, .ref q_x0), (1, .ref q_x1), (2, .int v2)] → k22 bc bs v2 a2 a3 → W p l e (headSpec (ws_ yX6_init cX6_init 3 none) (rm_X6_init bc0 bs0)).room s m ([.ref q_x0, .ref q_x1] : List Value).toArray below meth c H locs kc ks (MQ below (va_Qv (fun (u : Nat × (Nat → Int32) × Nat × (Nat → Int32)) => post u.2.1 u.2.2.2) (fun (u : Nat × (Nat → Int32) × Nat × (Nat → Int32)) t => wrQ D dA A [(q_x0, .inr (5, [.ref u.1, .ref u.2.2.1])), (q_x1, .inr (11, [.ref q_x1_value, .int (nI 0), .int x1_maybeLatin1, .int x1_count])), (u.1, .inl (dA 0, 26, .inl u.2.1)), (u.2.2.1, .inl (dA 0, 26, .inl u.2.2.2)), (q_x1_value, .inl (dA 3, n_x1_value, .inl a_x1_value))] t) A) ([.ref q_x0, .ref q_x1] : List Value).toArray s bc0 bs0 A) (F0 m 22 ls [])) (bc bs kc ks : Nat) (v2 : Int32) (s1 : Int32) (s2 : Int32) (ad2 : Nat) (a2 : (Nat → Int32)) (ad3 : Nat) (a3 : (Nat → Int32)) (H : Heap) (locs : List Loc) (ls : Array Slot), kc + bc ≤ bc0 ∧ ks + bs ≤ bs0 → va_P D vwCl [(q_x0, .inr (5, [.ref ad2, .ref ad3])), (q_x1, .inr (11, [.ref q_x1_value, .int (nI 0), .int x1_maybeLatin1, .int x1_count])), (ad2, .inl (dA 0, 26, .inl a2)), (ad3, .inl (dA 0, 26, .inl a3)), (q_x1_value, .inl (dA 3, n_x1_value, .inl a_x1_value))] H → va_D A [(q_x0, .inr (5, [.ref ad2, .ref ad3])), (q_x1, .inr (11, [.ref q_x1_value, .int (nI 0), .int x1_maybeLatin1, .int x1_count])), (ad2, .inl (dA 0, 26, .inl a2)), (ad3, .inl (dA 0, 26, .inl a3)), (q_x1_value, .inl (dA 3, n_x1_value, .inl a_x1_value))] → va_S A s.heap H locs → lv_has ls 3 [(0, .ref q_x0), (1, .ref q_x1), (2, .int v2)] → (w_X6_init_46 post k22) bc bs v2 s1 s2 a2 a3 → W p l e (headSpec (ws_ yX6_init cX6_init 3 none) (rm_X6_init bc0 bs0)).room s m ([.ref q_x0, .ref q_x1] : List Value).toArray below meth c H locs kc ks (MQ below (va_Qv (fun (u : Nat × (Nat → Int32) × Nat × (Nat → Int32)) => post u.2.1 u.2.2.2) (fun (u : Nat × (Nat → Int32) × Nat × (Nat → Int32)) t => wrQ D dA A [(q_x0, .inr (5, [.ref u.1, .ref u.2.2.1])), (q_x1, .inr (11, [.ref q_x1_value, .int (nI 0), .int x1_maybeLatin1, .int x1_count])), (u.1, .inl (dA 0, 26, .inl u.2.1)), (u.2.2.1, .inl (dA 0, 26, .inl u.2.2.2)), (q_x1_value, .inl (dA 3, n_x1_value, .inl a_x1_value))] t) A) ([.ref q_x0, .ref q_x1] : List Value).toArray s bc0 bs0 A) (F0 m 46 ls [.int s2, .int s1, .ref ad2]) := by
      intro k22 hk22 bc bs kc ks v2 s1 s2 ad2 a2 ad3 a3 H locs ls hbud hP hD hS hl hw
      obtain ⟨h51, hw⟩ := hw
      refine k_iast (k := s1.toNatClampNeg) hx hb hK hP hD hS 2 0 rfl rfl rfl h51 dX6_init_46 (fun H locs hP hD hS => ?_)
      have hP : va_P D vwCl [(q_x0, .inr (5, [.ref ad2, .ref ad3])), (q_x1, .inr (11, [.ref q_x1_value, .int (nI 0), .int x1_maybeLatin1, .int x1_count])), (ad2, .inl (dA 0, 26, .inl (upd a2 s1.toNatClampNeg s2))), (ad3, .inl (dA 0, 26, .inl a3)), (q_x1_value, .inl (dA 3, n_x1_value, .inl a_x1_value))] H := hP
      have hD : va_D A [(q_x0, .inr (5, [.ref ad2, .ref ad3])), (q_x1, .inr (11, [.ref q_x1_value, .int (nI 0), .int x1_maybeLatin1, .int x1_count])), (ad2, .inl (dA 0, 26, .inl (upd a2 s1.toNatClampNeg s2))), (ad3, .inl (dA 0, 26, .inl a3)), (q_x1_value, .inl (dA 3, n_x1_value, .inl a_x1_value))] := hD
      refine lv_aload_n hx hb dX6_init_47 rfl (lv_at hl 0 rfl) ?_
      refine va_get (D := D) (ci := 5) (v := .ref ad3) (C := RX6) (T := TX6) (N := 2) hx hb hts in_X6 hown hK hP 0 rfl rfl 1 (by decide) (hts _ q1348) (fun _ h9 => h9) rfl dX6_init_48 ?_
      refine lv_iload_n hx hb dX6_init_51 rfl (lv_at hl 2 rfl) ?_
      refine lv_ldc (v := (nI 999999)) hx hb hown (hts _ q1330) dX6_init_52 ?_
      obtain ⟨h52, hw⟩ := hw
      refine k_iast (k := v2.toNatClampNeg) hx hb hK hP hD hS 3 0 rfl rfl rfl h52 dX6_init_54 (fun H locs hP hD hS => ?_)
      have hP : va_P D vwCl [(q_x0, .inr (5, [.ref ad2, .ref ad3])), (q_x1, .inr (11, [.ref q_x1_value, .int (nI 0), .int x1_maybeLatin1, .int x1_count])), (ad2, .inl (dA 0, 26, .inl (upd a2 s1.toNatClampNeg s2))), (ad3, .inl (dA 0, 26, .inl (upd a3 v2.toNatClampNeg (nI 999999)))), (q_x1_value, .inl (dA 3, n_x1_value, .inl a_x1_value))] H := hP
      have hD : va_D A [(q_x0, .inr (5, [.ref ad2, .ref ad3])), (q_x1, .inr (11, [.ref q_x1_value, .int (nI 0), .int x1_maybeLatin1, .int x1_count])), (ad2, .inl (dA 0, 26, .inl (upd a2 s1.toNatClampNeg s2))), (ad3, .inl (dA 0, 26, .inl (upd a3 v2.toNatClampNeg (nI 999999)))), (q_x1_value, .inl (dA 3, n_x1_value, .inl a_x1_value))] := hD
      refine lv_iinc (v := (v2 + (nI 1))) (lv' := [(2, .int (v2 + (nI 1))), (0, .ref q_x0), (1, .ref q_x1)]) hx hb dX6_init_55 hl (k := 2) rfl (congrArg (fun z => v2 + z) (by decide : Int32.ofInt (1) = (nI 1))) (by decide) rfl (fun ls hl => ?_)
      refine lv_goto (tgt := 22) hx hb dX6_init_58 (by decide) ?_
      exact hk22 bc bs kc ks (v2 + (nI 1)) ad2 (upd a2 s1.toNatClampNeg s2) ad3 (upd a3 v2.toNatClampNeg (nI 999999)) _ _ _ hbud (hP.sub [0, 1, 2, 3, 4] rfl) (hD.sub [0, 1, 2, 3, 4] (by decide) rfl) hS (lv_sub hl [1, 2, 0] rfl) hw
  have hL63 : ∀  (n : Nat) (bc bs kc ks : Nat) (v2 : Int32) (ad2 : Nat) (a2 : (Nat → Int32)) (ad3 : Nat) (a3 : (Nat → Int32)) (H : Heap) (locs : List Loc) (ls : Array Slot), kc + bc ≤ bc0 ∧ ks + bs ≤ bs0 → va_P D vwCl [(q_x0, .inr (5, [.ref ad2, .ref ad3])), (q_x1, .inr (11, [.ref q_x1_value, .int (nI 0), .int x1_maybeLatin1, .int x1_count])), (ad2, .inl (dA 0, 26, .inl a2)), (ad3, .inl (dA 0, 26, .inl a3)), (q_x1_value, .inl (dA 3, n_x1_value, .inl a_x1_value))] H → va_D A [(q_x0, .inr (5, [.ref ad2, .ref ad3])), (q_x1, .inr (11, [.ref q_x1_value, .int (nI 0), .int x1_maybeLatin1, .int x1_count])), (ad2, .inl (dA 0, 26, .inl a2)), (ad3, .inl (dA 0, 26, .inl a3)), (q_x1_value, .inl (dA 3, n_x1_value, .inl a_x1_value))] → va_S A s.heap H locs → lv_has ls 3 [(0, .ref q_x0), (1, .ref q_x1), (2, .int v2)] → lpF (fun _ _ _ _ _ => False) (w_X6_init_63 post n_x1_value a_x1_value x1_count) n bc bs v2 a2 a3 → W p l e (headSpec (ws_ yX6_init cX6_init 3 none) (rm_X6_init bc0 bs0)).room s m ([.ref q_x0, .ref q_x1] : List Value).toArray below meth c H locs kc ks (MQ below (va_Qv (fun (u : Nat × (Nat → Int32) × Nat × (Nat → Int32)) => post u.2.1 u.2.2.2) (fun (u : Nat × (Nat → Int32) × Nat × (Nat → Int32)) t => wrQ D dA A [(q_x0, .inr (5, [.ref u.1, .ref u.2.2.1])), (q_x1, .inr (11, [.ref q_x1_value, .int (nI 0), .int x1_maybeLatin1, .int x1_count])), (u.1, .inl (dA 0, 26, .inl u.2.1)), (u.2.2.1, .inl (dA 0, 26, .inl u.2.2.2)), (q_x1_value, .inl (dA 3, n_x1_value, .inl a_x1_value))] t) A) ([.ref q_x0, .ref q_x1] : List Value).toArray s bc0 bs0 A) (F0 m 63 ls []) := by
    intro  n
    induction n with
    | zero => intro bc bs kc ks v2 ad2 a2 ad3 a3 H locs ls hbud hP hD hS hl hw; exact absurd hw id
    | succ n hk63 =>
      intro bc bs kc ks v2 ad2 a2 ad3 a3 H locs ls hbud hP hD hS hl hw
      generalize hk9 : lpF (fun _ _ _ _ _ => False) (w_X6_init_63 post n_x1_value a_x1_value x1_count) n = k63 at hk63
      have hw : (w_X6_init_63 post n_x1_value a_x1_value x1_count) k63 bc bs v2 a2 a3 := hk9 ▸ hw
      refine lv_iload_n hx hb dX6_init_63 rfl (lv_at hl 2 rfl) ?_
      refine lv_aload_n hx hb dX6_init_64 rfl (lv_at hl 1 rfl) ?_
      refine k_ri (kc_rV (As := []) (rest := [.int v2]) hSx (met_J5_length l D dA cx q_x1 q_x1_value n_x1_value a_x1_value x1_maybeLatin1 x1_count _ hw) gX6_19 ⟨rfl, hd_J5_length⟩ ⟨Nat.le_of_ble_eq_true rfl, Nat.le_of_ble_eq_true rfl⟩ rfl rfl hP hK (hC.kept hS.2.1) [1, 4] rfl 1 rfl rfl rfl rfl hl.1 (Nat.le_of_ble_eq_true rfl) rfl dX6_init_65 ⟨(show kc + 0 ≤ bc0 by omega), (show ks + 0 ≤ bs0 by omega)⟩) (fun r53 hw => ?_)
      refine lv_icmp_ge (tgt := 86) hx hb dX6_init_68 (by decide) (fun c54 => ?_) (fun c54 => ?_)
      · have hw := hw.1 c54
        refine W.widen (k := bc0) (n := bs0) (by omega) (by omega) ?_
        exact W.vret hx hb hr (fun t ht hW => ⟨⟨(ad2, a2, ad3, a3), rfl, hw, by rw [ht]; exact hP.sub [0, 1, 2, 3, 4] rfl, va_K.moved hW.alike hK, hD.sub [0, 1, 2, 3, 4] (by decide) rfl⟩, hS.F ht⟩) hS.2.2 dX6_init_86
      · have hw := hw.2 c54
        refine lv_aload_n hx hb dX6_init_71 rfl (lv_at hl 0 rfl) ?_
        refine lv_aload_n hx hb dX6_init_72 rfl (lv_at hl 1 rfl) ?_
        refine lv_iload_n hx hb dX6_init_73 rfl (lv_at hl 2 rfl) ?_
        refine k_ri (kc_rV (As := [.int v2]) (rest := [.ref q_x0]) hSx (met_J5_charAt l D dA cx q_x1 q_x1_value n_x1_value a_x1_value x1_maybeLatin1 x1_count v2 _ hw) gX6_25 ⟨rfl, hd_J5_charAt⟩ ⟨Nat.le_of_ble_eq_true rfl, Nat.le_of_ble_eq_true rfl⟩ rfl rfl hP hK (hC.kept hS.2.1) [1, 4] rfl 1 rfl rfl rfl rfl hl.1 (Nat.le_of_ble_eq_true rfl) rfl dX6_init_74 ⟨(show kc + 0 ≤ bc0 by omega), (show ks + 0 ≤ bs0 by omega)⟩) (fun r55 hw => ?_)
        obtain ⟨b60, b61, h62, h63, hw⟩ := hw
        refine k_wv (wn := fun (u : Nat × (Nat → Int32) × Nat × (Nat → Int32)) => [(q_x1, .inr (11, [.ref q_x1_value, .int (nI 0), .int x1_maybeLatin1, .int x1_count])), (q_x1_value, .inl (dA 3, n_x1_value, .inl a_x1_value)), (q_x0, .inr (5, [.ref u.1, .ref u.2.2.1])), (u.1, .inl (dA 0, 26, .inl u.2.1)), (u.2.2.1, .inl (dA 0, 26, .inl u.2.2.2))]) (wr := [(q_x1, .inr (11, [.ref q_x1_value, .int (nI 0), .int x1_maybeLatin1, .int x1_count])), (q_x1_value, .inl (dA 3, n_x1_value, .inl a_x1_value))]) (kc_wV (As := [.int r55]) (rest := []) hSx (met_X6_step l D dA cx _ b60 b61 q_x0 ad2 26 a2 ad3 26 a3 r55 _ hw) gX6_29 ⟨rfl, hd_X6_step⟩ ⟨Nat.le_of_ble_eq_true rfl, Nat.le_of_ble_eq_true rfl⟩ rfl rfl hP hK hD hS hA (hC.kept hS.2.1) [0, 2, 3] rfl (by decide) rfl 0 rfl rfl rfl rfl hl.1 (Nat.le_of_ble_eq_true rfl) rfl dX6_init_77 ⟨(show kc + b60 ≤ bc0 by omega), (show ks + b61 ≤ bs0 by omega)⟩) hP hD hS hA [0, 2, 3] [1, 4] [0, 1, 2, 3, 4] rfl rfl (by decide) (by decide) (by decide) (fun _ => rfl) (fun _ => rfl) (fun u H locs hw _ hP hD hS => ?_)
        obtain ⟨q56, o57, q58, o59⟩ := u
        have hP : va_P D vwCl [(q_x1, .inr (11, [.ref q_x1_value, .int (nI 0), .int x1_maybeLatin1, .int x1_count])), (q_x1_value, .inl (dA 3, n_x1_value, .inl a_x1_value)), (q_x0, .inr (5, [.ref q56, .ref q58])), (q56, .inl (dA 0, 26, .inl o57)), (q58, .inl (dA 0, 26, .inl o59))] H := hP
        have hD : va_D A [(q_x1, .inr (11, [.ref q_x1_value, .int (nI 0), .int x1_maybeLatin1, .int x1_count])), (q_x1_value, .inl (dA 3, n_x1_value, .inl a_x1_value)), (q_x0, .inr (5, [.ref q56, .ref q58])), (q56, .inl (dA 0, 26, .inl o57)), (q58, .inl (dA 0, 26, .inl o59))] := hD
        have hbud : (kc + b60) + (bc - b60) ≤ bc0 ∧ (ks + b61) + (bs - b61) ≤ bs0 := by omega
        refine lv_iinc (v := (v2 + (nI 1))) (lv' := [(2, .int (v2 + (nI 1))), (0, .ref q_x0), (1, .ref q_x1)]) hx hb dX6_init_80 hl (k := 2) rfl (congrArg (fun z => v2 + z) (by decide : Int32.ofInt (1) = (nI 1))) (by decide) rfl (fun ls hl => ?_)
        refine lv_goto (tgt := 63) hx hb dX6_init_83 (by decide) ?_
        exact hk63 (bc - b60) (bs - b61) (kc + b60) (ks + b61) (v2 + (nI 1)) q56 o57 q58 o59 _ _ _ hbud (hP.sub [2, 0, 3, 4, 1] rfl) (hD.sub [2, 0, 3, 4, 1] (by decide) rfl) hS (lv_sub hl [1, 2, 0] rfl) hw
  have hL22 : ∀  (n : Nat) (bc bs kc ks : Nat) (v2 : Int32) (ad2 : Nat) (a2 : (Nat → Int32)) (ad3 : Nat) (a3 : (Nat → Int32)) (H : Heap) (locs : List Loc) (ls : Array Slot), kc + bc ≤ bc0 ∧ ks + bs ≤ bs0 → va_P D vwCl [(q_x0, .inr (5, [.ref ad2, .ref ad3])), (q_x1, .inr (11, [.ref q_x1_value, .int (nI 0), .int x1_maybeLatin1, .int x1_count])), (ad2, .inl (dA 0, 26, .inl a2)), (ad3, .inl (dA 0, 26, .inl a3)), (q_x1_value, .inl (dA 3, n_x1_value, .inl a_x1_value))] H → va_D A [(q_x0, .inr (5, [.ref ad2, .ref ad3])), (q_x1, .inr (11, [.ref q_x1_value, .int (nI 0), .int x1_maybeLatin1, .int x1_count])), (ad2, .inl (dA 0, 26, .inl a2)), (ad3, .inl (dA 0, 26, .inl a3)), (q_x1_value, .inl (dA 3, n_x1_value, .inl a_x1_value))] → va_S A s.heap H locs → lv_has ls 3 [(0, .ref q_x0), (1, .ref q_x1), (2, .int v2)] → lpF (fun _ _ _ _ _ => False) (w_X6_init_22 post n_x1_value a_x1_value x1_count) n bc bs v2 a2 a3 → W p l e (headSpec (ws_ yX6_init cX6_init 3 none) (rm_X6_init bc0 bs0)).room s m ([.ref q_x0, .ref q_x1] : List Value).toArray below meth c H locs kc ks (MQ below (va_Qv (fun (u : Nat × (Nat → Int32) × Nat × (Nat → Int32)) => post u.2.1 u.2.2.2) (fun (u : Nat × (Nat → Int32) × Nat × (Nat → Int32)) t => wrQ D dA A [(q_x0, .inr (5, [.ref u.1, .ref u.2.2.1])), (q_x1, .inr (11, [.ref q_x1_value, .int (nI 0), .int x1_maybeLatin1, .int x1_count])), (u.1, .inl (dA 0, 26, .inl u.2.1)), (u.2.2.1, .inl (dA 0, 26, .inl u.2.2.2)), (q_x1_value, .inl (dA 3, n_x1_value, .inl a_x1_value))] t) A) ([.ref q_x0, .ref q_x1] : List Value).toArray s bc0 bs0 A) (F0 m 22 ls []) := by
    intro  n
    induction n with
    | zero => intro bc bs kc ks v2 ad2 a2 ad3 a3 H locs ls hbud hP hD hS hl hw; exact absurd hw id
    | succ n hk22 =>
      intro bc bs kc ks v2 ad2 a2 ad3 a3 H locs ls hbud hP hD hS hl hw
      generalize hk9 : lpF (fun _ _ _ _ _ => False) (w_X6_init_22 post n_x1_value a_x1_value x1_count) n = k22 at hk22
      have hw : (w_X6_init_22 post n_x1_value a_x1_value x1_count) k22 bc bs v2 a2 a3 := hk9 ▸ hw
      refine lv_iload_n hx hb dX6_init_22 rfl (lv_at hl 2 rfl) ?_
      refine lv_aload_n hx hb dX6_init_23 rfl (lv_at hl 0 rfl) ?_
      refine va_get (D := D) (ci := 5) (v := .ref ad2) (C := RX6) (T := TX6) (N := 2) hx hb hts in_X6 hown hK hP 0 rfl rfl 0 (by decide) (hts _ q1347) (fun _ h9 => h9) rfl dX6_init_24 ?_
      refine va_alen (v := (nI 26)) hx hb hK hP 2 0 rfl rfl rfl dX6_init_27 ?_
      refine lv_icmp_ge (tgt := 61) hx hb dX6_init_28 (by decide) (fun c64 => ?_) (fun c64 => ?_)
      · have hw := hw.1 c64
        refine lv_iconst (v := (nI 0)) hx hb dX6_init_61 (by decide) ?_
        refine lv_istore_n (lv' := [(2, .int (nI 0)), (0, .ref q_x0), (1, .ref q_x1)]) hx hb dX6_init_62 rfl hl (by decide) rfl (fun ls hl => ?_)
        obtain ⟨n, hw⟩ := hw
        exact hL63  n bc bs kc ks (nI 0) ad2 a2 ad3 a3 _ _ _ hbud (hP.sub [0, 1, 2, 3, 4] rfl) (hD.sub [0, 1, 2, 3, 4] (by decide) rfl) hS (lv_sub hl [1, 2, 0] rfl) hw
      · have hw := hw.2 c64
        refine lv_aload_n hx hb dX6_init_31 rfl (lv_at hl 0 rfl) ?_
        refine va_get (D := D) (ci := 5) (v := .ref ad2) (C := RX6) (T := TX6) (N := 2) hx hb hts in_X6 hown hK hP 0 rfl rfl 0 (by decide) (hts _ q1347) (fun _ h9 => h9) rfl dX6_init_32 ?_
        refine lv_iload_n hx hb dX6_init_35 rfl (lv_at hl 2 rfl) ?_
        refine lv_iload_n hx hb dX6_init_36 rfl (lv_at hl 2 rfl) ?_
        refine lv_if_ne (tgt := 44) hx hb dX6_init_37 (by decide) (fun c65 => ?_) (fun c65 => ?_)
        · have hw := hw.2 c65
          refine lv_ldc (v := (nI 999999)) hx hb hown (hts _ q1330) dX6_init_44 ?_
          exact hL46 k22 hk22 bc bs kc ks v2 v2 (nI 999999) ad2 a2 ad3 a3 _ _ _ hbud (hP.sub [0, 1, 2, 3, 4] rfl) (hD.sub [0, 1, 2, 3, 4] (by decide) rfl) hS (lv_sub hl [0, 1, 2] rfl) hw
        · have hw := hw.1 c65
          refine lv_iconst (v := (nI 0)) hx hb dX6_init_40 (by decide) ?_
          refine lv_goto (tgt := 46) hx hb dX6_init_41 (by decide) ?_
          exact hL46 k22 hk22 bc bs kc ks v2 v2 (nI 0) ad2 a2 ad3 a3 _ _ _ hbud (hP.sub [0, 1, 2, 3, 4] rfl) (hD.sub [0, 1, 2, 3, 4] (by decide) rfl) hS (lv_sub hl [0, 1, 2] rfl) hw
  refine lv_aload_n hx hb dX6_init_0 rfl (lv_at hl 0 rfl) ?_
  refine W.objInit hx hb hown (hts _ q1329) (hts _ q111) (hts _ q112) rfl (by rw [hml]; exact hl.1) rfl dX6_init_1 (Nat.le_of_ble_eq_true rfl) (Nat.le_of_ble_eq_true rfl) ?_
  refine W.eq (g2 := F0 m 4 ls []) rfl ?_
  refine lv_aload_n hx hb dX6_init_4 rfl (lv_at hl 0 rfl) ?_
  refine lv_bipush (v := (nI 26)) hx hb dX6_init_5 (by decide) ?_
  obtain ⟨h67, h68, hw⟩ := hw
  refine k_newa (ty := .int) (atype := .int) (a0 := (26, .inl (fun _ => (0 : Int32)))) hx hb (hts _ q148) rfl (fun _ h => by cases h) 0 rfl hK hP hD hS hA (fun _ => rfl) (nI_pos (by decide)) (clK 26 (by decide)) (Nat.le_of_ble_eq_true rfl) (show 0 + 1 ≤ bc0 by omega) (show 0 + 26 ≤ bs0 by omega) dX6_init_7 (fun q66 H hP hD hS => ?_)
  have hP : va_P D vwCl [(q_x0, .inr (5, [.null, .null])), (q_x1, .inr (11, [.ref q_x1_value, .int (nI 0), .int x1_maybeLatin1, .int x1_count])), (q_x1_value, .inl (dA 3, n_x1_value, .inl a_x1_value)), (q66, .inl (dA 0, 26, .inl (fun _ => (0 : Int32))))] H := hP
  have hD : va_D A [(q_x0, .inr (5, [.null, .null])), (q_x1, .inr (11, [.ref q_x1_value, .int (nI 0), .int x1_maybeLatin1, .int x1_count])), (q_x1_value, .inl (dA 3, n_x1_value, .inl a_x1_value)), (q66, .inl (dA 0, 26, .inl (fun _ => (0 : Int32))))] := hD
  have hbud : (0 + 1) + (bc0 - 1) ≤ bc0 ∧ (0 + 26) + (bs0 - 26) ≤ bs0 := by omega
  refine va_put (D := D) (ci := 5) (v := .ref q66) (ty := (.array .int)) (C := RX6) (T := TX6) (N := 2) hx hb hts in_X6 tyX6 tyX6_ok nmX6 hown hK hP hD hS 0 rfl rfl 0 (by decide) (hts _ q1347) (fun _ h9 => h9) rfl (by decide +kernel) rfl rfl (Nat.le_of_ble_eq_true rfl) dX6_init_9 (fun H locs hP hD hS => ?_)
  have hP : va_P D vwCl [(q_x0, .inr (5, [.ref q66, .null])), (q_x1, .inr (11, [.ref q_x1_value, .int (nI 0), .int x1_maybeLatin1, .int x1_count])), (q_x1_value, .inl (dA 3, n_x1_value, .inl a_x1_value)), (q66, .inl (dA 0, 26, .inl (fun _ => (0 : Int32))))] H := hP
  have hD : va_D A [(q_x0, .inr (5, [.ref q66, .null])), (q_x1, .inr (11, [.ref q_x1_value, .int (nI 0), .int x1_maybeLatin1, .int x1_count])), (q_x1_value, .inl (dA 3, n_x1_value, .inl a_x1_value)), (q66, .inl (dA 0, 26, .inl (fun _ => (0 : Int32))))] := hD
  refine lv_aload_n hx hb dX6_init_12 rfl (lv_at hl 0 rfl) ?_
  refine lv_bipush (v := (nI 26)) hx hb dX6_init_13 (by decide) ?_
  obtain ⟨h70, h71, hw⟩ := hw
  refine k_newa (ty := .int) (atype := .int) (a0 := (26, .inl (fun _ => (0 : Int32)))) hx hb (hts _ q148) rfl (fun _ h => by cases h) 0 rfl hK hP hD hS hA (fun _ => rfl) (nI_pos (by decide)) (clK 26 (by decide)) (Nat.le_of_ble_eq_true rfl) (show (0 + 1) + 1 ≤ bc0 by omega) (show (0 + 26) + 26 ≤ bs0 by omega) dX6_init_15 (fun q69 H hP hD hS => ?_)
  have hP : va_P D vwCl [(q_x0, .inr (5, [.ref q66, .null])), (q_x1, .inr (11, [.ref q_x1_value, .int (nI 0), .int x1_maybeLatin1, .int x1_count])), (q_x1_value, .inl (dA 3, n_x1_value, .inl a_x1_value)), (q66, .inl (dA 0, 26, .inl (fun _ => (0 : Int32)))), (q69, .inl (dA 0, 26, .inl (fun _ => (0 : Int32))))] H := hP
  have hD : va_D A [(q_x0, .inr (5, [.ref q66, .null])), (q_x1, .inr (11, [.ref q_x1_value, .int (nI 0), .int x1_maybeLatin1, .int x1_count])), (q_x1_value, .inl (dA 3, n_x1_value, .inl a_x1_value)), (q66, .inl (dA 0, 26, .inl (fun _ => (0 : Int32)))), (q69, .inl (dA 0, 26, .inl (fun _ => (0 : Int32))))] := hD
  have hbud : ((0 + 1) + 1) + ((bc0 - 1) - 1) ≤ bc0 ∧ ((0 + 26) + 26) + ((bs0 - 26) - 26) ≤ bs0 := by omega
  refine va_put (D := D) (ci := 5) (v := .ref q69) (ty := (.array .int)) (C := RX6) (T := TX6) (N := 2) hx hb hts in_X6 tyX6 tyX6_ok nmX6 hown hK hP hD hS 0 rfl rfl 1 (by decide) (hts _ q1348) (fun _ h9 => h9) rfl (by decide +kernel) rfl rfl (Nat.le_of_ble_eq_true rfl) dX6_init_17 (fun H locs hP hD hS => ?_)
  have hP : va_P D vwCl [(q_x0, .inr (5, [.ref q66, .ref q69])), (q_x1, .inr (11, [.ref q_x1_value, .int (nI 0), .int x1_maybeLatin1, .int x1_count])), (q_x1_value, .inl (dA 3, n_x1_value, .inl a_x1_value)), (q66, .inl (dA 0, 26, .inl (fun _ => (0 : Int32)))), (q69, .inl (dA 0, 26, .inl (fun _ => (0 : Int32))))] H := hP
  have hD : va_D A [(q_x0, .inr (5, [.ref q66, .ref q69])), (q_x1, .inr (11, [.ref q_x1_value, .int (nI 0), .int x1_maybeLatin1, .int x1_count])), (q_x1_value, .inl (dA 3, n_x1_value, .inl a_x1_value)), (q66, .inl (dA 0, 26, .inl (fun _ => (0 : Int32)))), (q69, .inl (dA 0, 26, .inl (fun _ => (0 : Int32))))] := hD
  refine lv_iconst (v := (nI 0)) hx hb dX6_init_20 (by decide) ?_
  refine lv_istore_n (lv' := [(2, .int (nI 0)), (0, .ref q_x0), (1, .ref q_x1)]) hx hb dX6_init_21 rfl hl (by decide) rfl (fun ls hl => ?_)
  obtain ⟨n, hw⟩ := hw
  exact hL22  n ((bc0 - 1) - 1) ((bs0 - 26) - 26) ((0 + 1) + 1) ((0 + 26) + 26) (nI 0) q66 (fun _ => (0 : Int32)) q69 (fun _ => (0 : Int32)) _ _ _ hbud (hP.sub [0, 1, 3, 4, 2] rfl) (hD.sub [0, 1, 3, 4, 2] (by decide) rfl) hS (lv_sub hl [1, 2, 0] rfl) hw
