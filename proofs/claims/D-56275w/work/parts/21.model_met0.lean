/-! THE MODEL: its contracts, walked (printed by wip/D-56275w/gen/model.py) -/
/-- the model, all of it: its object at ad 0, its arrays behind -/
def mdl (ad : Nat → Nat) (dA : Nat → ClassId) (f_isSaved : Int32) (f_changes : Int32) (f_code : Int32) (f_length : Int32) (f_fault : Int32) (f_signMany : Int32) (f_at : Int32) (f_place : Int32) (a_g : (Nat → Int32)) (a_kept : (Nat → Int32)) (a_saved : (Nat → Int32)) (a_input : (Nat → Int32)) (a_signs : (Nat → Int32)) (a_ways : (Nat → Int64)) (a_needs : (Nat → Int32)) (a_walk : (Nat → Int32)) (a_one : (Nat → Int32)) (a_several : (Nat → Int32)) (a_ragged : (Nat → Int32)) (a_nextLine : (Nat → Int32)) : va_W :=
  [(ad 0, .inr (2, [.ref (ad 1), .ref (ad 2), .ref (ad 3), .int f_isSaved, .int f_changes, .int f_code, .ref (ad 4), .int f_length, .int f_fault, .ref (ad 5), .int f_signMany, .ref (ad 6), .ref (ad 7), .ref (ad 8), .int f_at, .ref (ad 9), .ref (ad 10), .int f_place, .ref (ad 11), .ref (ad 12)])),
   (ad 1, .inl (dA 0, 188, .inl a_g)),
   (ad 2, .inl (dA 0, 1504, .inl a_kept)),
   (ad 3, .inl (dA 0, 188, .inl a_saved)),
   (ad 4, .inl (dA 0, 24, .inl a_input)),
   (ad 5, .inl (dA 1, 80, .inl a_signs)),
   (ad 6, .inl (dA 2, 256, .inr (.inl a_ways))),
   (ad 7, .inl (dA 0, 8, .inl a_needs)),
   (ad 8, .inl (dA 0, 8, .inl a_walk)),
   (ad 9, .inl (dA 0, 625, .inl a_one)),
   (ad 10, .inl (dA 0, 625, .inl a_several)),
   (ad 11, .inl (dA 0, 7, .inl a_ragged)),
   (ad 12, .inl (dA 0, 7, .inl a_nextLine))]
def rm_X3_thrown : Room := { frames := 0, cells := 0, slots := 0, locals := 0 }
set_option maxHeartbeats 4000000 in
set_option maxRecDepth 100000 in
theorem met_X3_thrown (l : Launch) (D : va_G) (dA : Nat → ClassId) (ad : Nat → Nat) (f_isSaved : Int32) (f_changes : Int32) (f_code : Int32) (f_length : Int32) (f_fault : Int32) (f_signMany : Int32) (f_at : Int32) (f_place : Int32) (a_g : (Nat → Int32)) (a_kept : (Nat → Int32)) (a_saved : (Nat → Int32)) (a_input : (Nat → Int32)) (a_signs : (Nat → Int32)) (a_ways : (Nat → Int64)) (a_needs : (Nat → Int32)) (a_walk : (Nat → Int32)) (a_one : (Nat → Int32)) (a_several : (Nat → Int32)) (a_ragged : (Nat → Int32)) (a_nextLine : (Nat → Int32))  (post : Int32 → Prop) (hw : w_X3_thrown post f_code) : Met l yX3_thrown (ws_ yX3_thrown cX3_thrown 1 (some .int)) rm_X3_thrown (va_Pc [.ref (ad 0)] (rdB D dA (mdl ad dA f_isSaved f_changes f_code f_length f_fault f_signMany f_at f_place a_g a_kept a_saved a_input a_signs a_ways a_needs a_walk a_one a_several a_ragged a_nextLine))) (vp_Si (fun r => post r)) 0 0 (fun _ => False) := by
  refine Met.ofW (cc := cX3_thrown) (maxL := 1) (ret := (some .int)) (by decide) rfl ?_
  intro p e s m args below meth c s₁ B hml hv
  obtain ⟨rfl, hP, hK⟩ := hv
  have hx := B.exec
  have hb := B.bytes
  have hr := B.returns
  have hts := atoms_spec (ws := (ws_ yX3_thrown cX3_thrown 1 (some .int))) B.pre
  have hts : ∀ w ∈ lw_all, w.before _ s = true := fun w h => hts w (List.mem_cons_of_mem _ h)
  have hown : s.vm.findClass RX3 = some m.cls := findClass_of_methodNamed B.named
  have hlocks := B.notSynchronized
  have hSx : CallFix p m c cX3_thrown 1 s _ lw_all RX3 := ⟨hx, hb, hml, hown, hts⟩
  have hl := lv_entry ([.ref (ad 0)]) (n := 1) (Nat.le_of_ble_eq_true rfl)
  rw [lg_entry_eq]
  generalize (lg_sl ([.ref (ad 0)]) ++ List.replicate (1 - (lg_sl ([.ref (ad 0)])).length) Slot.unset).toArray = ls at hl ⊢
  have hl : lv_has ls 1 [(0, .ref (ad 0))] := hl
  refine lv_aload_n hx hb dX3_thrown_0 rfl (lv_at hl 0 rfl) ?_
  refine va_get (D := D) (ci := 2) (v := .int f_code) (C := RX3) (T := TX3) (N := 20) hx hb hts in_X3 hown hK hP 0 rfl rfl 5 (by decide) (hts _ q1746) (fun _ h9 => h9) rfl dX3_thrown_1 ?_
  exact W.iret (v := f_code) hx hb hr (fun t ht hW => ⟨f_code, rfl, hw, ht⟩) (fun _ h => by cases h) dX3_thrown_4
def rm_X3_in : Room := { frames := 0, cells := 0, slots := 0, locals := 0 }
set_option maxHeartbeats 4000000 in
set_option maxRecDepth 100000 in
theorem met_X3_in (l : Launch)   (p0 : Int32) (p1 : Int32) (p2 : Int32) (post : Int32 → Prop) (hw : w_X3_in post p0 p1 p2) : Met l yX3_in (ws_ yX3_in cX3_in 3 (some .boolean)) rm_X3_in (va_Pc [.int p0, .int p1, .int p2] (fun _ => True)) (vp_Si (fun r => post r)) 0 0 (fun _ => False) := by
  refine Met.ofW (cc := cX3_in) (maxL := 3) (ret := (some .boolean)) (by decide) rfl ?_
  intro p e s m args below meth c s₁ B hml hv
  obtain ⟨rfl, -⟩ := hv
  have hx := B.exec
  have hb := B.bytes
  have hr := B.returns
  have hts := atoms_spec (ws := (ws_ yX3_in cX3_in 3 (some .boolean))) B.pre
  have hts : ∀ w ∈ lw_all, w.before _ s = true := fun w h => hts w (List.mem_cons_of_mem _ h)
  have hown : s.vm.findClass RX3 = some m.cls := findClass_of_methodNamed B.named
  have hlocks := B.notSynchronized
  have hSx : CallFix p m c cX3_in 3 s _ lw_all RX3 := ⟨hx, hb, hml, hown, hts⟩
  have hl := lv_entry ([.int p0, .int p1, .int p2]) (n := 3) (Nat.le_of_ble_eq_true rfl)
  rw [lg_entry_eq]
  generalize (lg_sl ([.int p0, .int p1, .int p2]) ++ List.replicate (3 - (lg_sl ([.int p0, .int p1, .int p2])).length) Slot.unset).toArray = ls at hl ⊢
  have hl : lv_has ls 3 [(0, .int p0), (1, .int p1), (2, .int p2)] := hl
  refine lv_iload_n hx hb dX3_in_0 rfl (lv_at hl 0 rfl) ?_
  refine lv_iload_n hx hb dX3_in_1 rfl (lv_at hl 1 rfl) ?_
  refine lv_icmp_lt (tgt := 14) hx hb dX3_in_2 (by decide) (fun c3 => ?_) (fun c3 => ?_)
  · have hw := hw.1 c3
    refine lv_iconst (v := (nI 0)) hx hb dX3_in_14 (by decide) ?_
    exact W.zret (v := (nI 0)) hx hb hr rfl (fun t ht hW => ⟨(nI 0), rfl, hw, ht⟩) (fun _ h => by cases h) dX3_in_15
  · have hw := hw.2 c3
    refine lv_iload_n hx hb dX3_in_5 rfl (lv_at hl 0 rfl) ?_
    refine lv_iload_n hx hb dX3_in_6 rfl (lv_at hl 2 rfl) ?_
    refine lv_icmp_gt (tgt := 14) hx hb dX3_in_7 (by decide) (fun c4 => ?_) (fun c4 => ?_)
    · have hw := hw.1 c4
      refine lv_iconst (v := (nI 0)) hx hb dX3_in_14 (by decide) ?_
      exact W.zret (v := (nI 0)) hx hb hr rfl (fun t ht hW => ⟨(nI 0), rfl, hw, ht⟩) (fun _ h => by cases h) dX3_in_15
    · have hw := hw.2 c4
      refine lv_iconst (v := (nI 1)) hx hb dX3_in_10 (by decide) ?_
      refine lv_goto (tgt := 15) hx hb dX3_in_11 (by decide) ?_
      exact W.zret (v := (nI 1)) hx hb hr rfl (fun t ht hW => ⟨(nI 1), rfl, hw, ht⟩) (fun _ h => by cases h) dX3_in_15
def rm_X3_fails : Room := { frames := 0, cells := 0, slots := 0, locals := 0 }
set_option maxHeartbeats 4000000 in
set_option maxRecDepth 100000 in
theorem met_X3_fails (l : Launch) (D : va_G) (dA : Nat → ClassId) (ad : Nat → Nat) (sz : Nat) (f_isSaved : Int32) (f_changes : Int32) (f_code : Int32) (f_length : Int32) (f_fault : Int32) (f_signMany : Int32) (f_at : Int32) (f_place : Int32) (a_g : (Nat → Int32)) (a_kept : (Nat → Int32)) (a_saved : (Nat → Int32)) (a_input : (Nat → Int32)) (a_signs : (Nat → Int32)) (a_ways : (Nat → Int64)) (a_needs : (Nat → Int32)) (a_walk : (Nat → Int32)) (a_one : (Nat → Int32)) (a_several : (Nat → Int32)) (a_ragged : (Nat → Int32)) (a_nextLine : (Nat → Int32)) (p0 : Int32) (post : Int32 → Int32 → Prop) (hw : w_X3_fails post f_code p0) : Met l yX3_fails (ws_ yX3_fails cX3_fails 2 (some .boolean)) rm_X3_fails (va_Pc [.ref (ad 0), .int p0] (wrB D dA sz (mdl ad dA f_isSaved f_changes f_code f_length f_fault f_signMany f_at f_place a_g a_kept a_saved a_input a_signs a_ways a_needs a_walk a_one a_several a_ragged a_nextLine))) (va_Qi (fun (r : Int32) (u : Int32) => post r u) (fun (u : Int32) t => wrQ D dA (va_A (mdl ad dA f_isSaved f_changes f_code f_length f_fault f_signMany f_at f_place a_g a_kept a_saved a_input a_signs a_ways a_needs a_walk a_one a_several a_ragged a_nextLine) sz) (mdl ad dA f_isSaved f_changes u f_length f_fault f_signMany f_at f_place a_g a_kept a_saved a_input a_signs a_ways a_needs a_walk a_one a_several a_ragged a_nextLine) t) (va_A (mdl ad dA f_isSaved f_changes f_code f_length f_fault f_signMany f_at f_place a_g a_kept a_saved a_input a_signs a_ways a_needs a_walk a_one a_several a_ragged a_nextLine) sz)) 0 0 (va_A (mdl ad dA f_isSaved f_changes f_code f_length f_fault f_signMany f_at f_place a_g a_kept a_saved a_input a_signs a_ways a_needs a_walk a_one a_several a_ragged a_nextLine) sz) := by
  refine Met.ofW (cc := cX3_fails) (maxL := 2) (ret := (some .boolean)) (by decide) rfl ?_
  intro p e s m args below meth c s₁ B hml hv
  obtain ⟨rfl, hsz, hP, hK, hD0⟩ := hv
  have hx := B.exec
  have hb := B.bytes
  have hr := B.returns
  have hts := atoms_spec (ws := (ws_ yX3_fails cX3_fails 2 (some .boolean))) B.pre
  have hts : ∀ w ∈ lw_all, w.before _ s = true := fun w h => hts w (List.mem_cons_of_mem _ h)
  have hown : s.vm.findClass RX3 = some m.cls := findClass_of_methodNamed B.named
  have hlocks := B.notSynchronized
  have hSx : CallFix p m c cX3_fails 2 s _ lw_all RX3 := ⟨hx, hb, hml, hown, hts⟩
  subst hsz
  have hD := hD0.self (sz := s.heap.size)
  generalize hAe : va_A (mdl ad dA f_isSaved f_changes f_code f_length f_fault f_signMany f_at f_place a_g a_kept a_saved a_input a_signs a_ways a_needs a_walk a_one a_several a_ragged a_nextLine) s.heap.size = A at hD ⊢
  have hA : ∀ q : Nat, s.heap.size ≤ q → A q := fun q h => by rw [← hAe]; exact Or.inr h
  have hS : va_S A s.heap s.heap [] := va_S.rf
  have hl := lv_entry ([.ref (ad 0), .int p0]) (n := 2) (Nat.le_of_ble_eq_true rfl)
  rw [lg_entry_eq]
  generalize (lg_sl ([.ref (ad 0), .int p0]) ++ List.replicate (2 - (lg_sl ([.ref (ad 0), .int p0])).length) Slot.unset).toArray = ls at hl ⊢
  have hl : lv_has ls 2 [(0, .ref (ad 0)), (1, .int p0)] := hl
  refine lv_aload_n hx hb dX3_fails_0 rfl (lv_at hl 0 rfl) ?_
  refine lv_iload_n hx hb dX3_fails_1 rfl (lv_at hl 1 rfl) ?_
  refine va_put (D := D) (ci := 2) (v := .int p0) (ty := .int) (C := RX3) (T := TX3) (N := 20) hx hb hts in_X3 tyX3 tyX3_ok nmX3 hown hK hP hD hS 0 rfl rfl 5 (by decide) (hts _ q1746) (fun _ h9 => h9) rfl (by decide +kernel) rfl rfl (Nat.le_of_ble_eq_true rfl) dX3_fails_2 (fun H locs hP hD hS => ?_)
  have hP : va_P D vwCl (mdl ad dA f_isSaved f_changes p0 f_length f_fault f_signMany f_at f_place a_g a_kept a_saved a_input a_signs a_ways a_needs a_walk a_one a_several a_ragged a_nextLine) H := hP
  have hD : va_D A (mdl ad dA f_isSaved f_changes p0 f_length f_fault f_signMany f_at f_place a_g a_kept a_saved a_input a_signs a_ways a_needs a_walk a_one a_several a_ragged a_nextLine) := hD
  refine lv_iload_n hx hb dX3_fails_5 rfl (lv_at hl 1 rfl) ?_
  refine lv_if_le (tgt := 13) hx hb dX3_fails_6 (by decide) (fun c2 => ?_) (fun c2 => ?_)
  · have hw := hw.1 c2
    refine lv_iconst (v := (nI 0)) hx hb dX3_fails_13 (by decide) ?_
    exact W.zret (v := (nI 0)) hx hb hr rfl (fun t ht hW => ⟨⟨(nI 0), p0, rfl, hw, by rw [ht]; exact hP, va_K.moved hW.alike hK, hD⟩, hS.F ht⟩) hS.2.2 dX3_fails_14
  · have hw := hw.2 c2
    refine lv_iconst (v := (nI 1)) hx hb dX3_fails_9 (by decide) ?_
    refine lv_goto (tgt := 14) hx hb dX3_fails_10 (by decide) ?_
    exact W.zret (v := (nI 1)) hx hb hr rfl (fun t ht hW => ⟨⟨(nI 1), p0, rfl, hw, by rw [ht]; exact hP, va_K.moved hW.alike hK, hD⟩, hS.F ht⟩) hS.2.2 dX3_fails_14
def rm_X3_copies : Room := { frames := 0, cells := 0, slots := 0, locals := 0 }
set_option maxHeartbeats 4000000 in
set_option maxRecDepth 100000 in
theorem met_X3_copies (l : Launch) (D : va_G) (dA : Nat → ClassId) (q1 q2 n1 n2 : Nat) (sz : Nat) (a_from : (Nat → Int32)) (a_to : (Nat → Int32)) (p1 : Int32) (p3 : Int32) (post : (Nat → Int32) → Prop) (hw : w_X3_copies post n1 n2 a_from a_to p1 p3) : Met l yX3_copies (ws_ yX3_copies cX3_copies 5 none) rm_X3_copies (va_Pc [.ref q1, .int p1, .ref q2, .int p3] (wrB D dA sz [(q1, .inl (dA 0, n1, .inl a_from)), (q2, .inl (dA 0, n2, .inl a_to))])) (va_Qv (fun (u : (Nat → Int32)) => post u) (fun (u : (Nat → Int32)) t => wrQ D dA (va_A [(q1, .inl (dA 0, n1, .inl a_from)), (q2, .inl (dA 0, n2, .inl a_to))] sz) [(q1, .inl (dA 0, n1, .inl a_from)), (q2, .inl (dA 0, n2, .inl u))] t) (va_A [(q1, .inl (dA 0, n1, .inl a_from)), (q2, .inl (dA 0, n2, .inl a_to))] sz)) 0 0 (va_A [(q1, .inl (dA 0, n1, .inl a_from)), (q2, .inl (dA 0, n2, .inl a_to))] sz) := by
  refine Met.ofW (cc := cX3_copies) (maxL := 5) (ret := none) (by decide) rfl ?_
  intro p e s m args below meth c s₁ B hml hv
  obtain ⟨rfl, hsz, hP, hK, hD0⟩ := hv
  have hx := B.exec
  have hb := B.bytes
  have hr := B.returns
  have hts := atoms_spec (ws := (ws_ yX3_copies cX3_copies 5 none)) B.pre
  have hts : ∀ w ∈ lw_all, w.before _ s = true := fun w h => hts w (List.mem_cons_of_mem _ h)
  have hown : s.vm.findClass RX3 = some m.cls := findClass_of_methodNamed B.named
  have hlocks := B.notSynchronized
  have hSx : CallFix p m c cX3_copies 5 s _ lw_all RX3 := ⟨hx, hb, hml, hown, hts⟩
  subst hsz
  have hD := hD0.self (sz := s.heap.size)
  generalize hAe : va_A [(q1, .inl (dA 0, n1, .inl a_from)), (q2, .inl (dA 0, n2, .inl a_to))] s.heap.size = A at hD ⊢
  have hA : ∀ q : Nat, s.heap.size ≤ q → A q := fun q h => by rw [← hAe]; exact Or.inr h
  have hS : va_S A s.heap s.heap [] := va_S.rf
  have hl := lv_entry ([.ref q1, .int p1, .ref q2, .int p3]) (n := 5) (Nat.le_of_ble_eq_true rfl)
  rw [lg_entry_eq]
  generalize (lg_sl ([.ref q1, .int p1, .ref q2, .int p3]) ++ List.replicate (5 - (lg_sl ([.ref q1, .int p1, .ref q2, .int p3])).length) Slot.unset).toArray = ls at hl ⊢
  have hl : lv_has ls 5 [(0, .ref q1), (1, .int p1), (2, .ref q2), (3, .int p3)] := hl
  have hL3 : ∀  (n : Nat) (a_to : (Nat → Int32)) (v1 : Int32) (v3 : Int32) (v4 : Int32) (H : Heap) (locs : List Loc) (ls : Array Slot), va_P D vwCl [(q1, .inl (dA 0, n1, .inl a_from)), (q2, .inl (dA 0, n2, .inl a_to))] H → va_D A [(q1, .inl (dA 0, n1, .inl a_from)), (q2, .inl (dA 0, n2, .inl a_to))] → va_S A s.heap H locs → lv_has ls 5 [(0, .ref q1), (1, .int v1), (2, .ref q2), (3, .int v3), (4, .int v4)] → lpF (fun _ _ _ _ => False) (w_X3_copies_3 post n1 n2 a_from) n a_to v1 v3 v4 → W p l e (headSpec (ws_ yX3_copies cX3_copies 5 none) rm_X3_copies).room s m ([.ref q1, .int p1, .ref q2, .int p3] : List Value).toArray below meth c H locs 0 0 (MQ below (va_Qv (fun (u : (Nat → Int32)) => post u) (fun (u : (Nat → Int32)) t => wrQ D dA A [(q1, .inl (dA 0, n1, .inl a_from)), (q2, .inl (dA 0, n2, .inl u))] t) A) ([.ref q1, .int p1, .ref q2, .int p3] : List Value).toArray s 0 0 A) (F0 m 3 ls []) := by
    intro  n
    induction n with
    | zero => intro a_to v1 v3 v4 H locs ls hP hD hS hl hw; exact absurd hw id
    | succ n hk3 =>
      intro a_to v1 v3 v4 H locs ls hP hD hS hl hw
      generalize hk9 : lpF (fun _ _ _ _ => False) (w_X3_copies_3 post n1 n2 a_from) n = k3 at hk3
      have hw : (w_X3_copies_3 post n1 n2 a_from) k3 a_to v1 v3 v4 := hk9 ▸ hw
      refine lv_iload hx hb dX3_copies_3 (lv_at hl 4 rfl) ?_
      refine lv_sipush (v := (nI 188)) hx hb dX3_copies_5 (by decide) ?_
      refine lv_icmp_ge (tgt := 29) hx hb dX3_copies_8 (by decide) (fun c4 => ?_) (fun c4 => ?_)
      · have hw := hw.1 c4
        exact W.vret hx hb hr (fun t ht hW => ⟨⟨a_to, rfl, hw, by rw [ht]; exact hP, va_K.moved hW.alike hK, hD⟩, hS.F ht⟩) hS.2.2 dX3_copies_29
      · have hw := hw.2 c4
        refine lv_aload_n hx hb dX3_copies_11 rfl (lv_at hl 2 rfl) ?_
        refine lv_iload_n hx hb dX3_copies_12 rfl (lv_at hl 3 rfl) ?_
        refine lv_iload hx hb dX3_copies_13 (lv_at hl 4 rfl) ?_
        refine lv_iadd hx hb dX3_copies_15 ?_
        refine lv_aload_n hx hb dX3_copies_16 rfl (lv_at hl 0 rfl) ?_
        refine lv_iload_n hx hb dX3_copies_17 rfl (lv_at hl 1 rfl) ?_
        refine lv_iload hx hb dX3_copies_18 (lv_at hl 4 rfl) ?_
        refine lv_iadd hx hb dX3_copies_20 ?_
        obtain ⟨h5, hw⟩ := hw
        refine k_iald (k := (v1 + v4).toNatClampNeg) hx hb hK hP 0 0 rfl rfl rfl h5 dX3_copies_21 ?_
        obtain ⟨h6, hw⟩ := hw
        refine k_iast (k := (v3 + v4).toNatClampNeg) hx hb hK hP hD hS 1 0 rfl rfl rfl h6 dX3_copies_22 (fun H locs hP hD hS => ?_)
        have hP : va_P D vwCl [(q1, .inl (dA 0, n1, .inl a_from)), (q2, .inl (dA 0, n2, .inl (upd a_to (v3 + v4).toNatClampNeg (a_from (v1 + v4).toNatClampNeg))))] H := hP
        have hD : va_D A [(q1, .inl (dA 0, n1, .inl a_from)), (q2, .inl (dA 0, n2, .inl (upd a_to (v3 + v4).toNatClampNeg (a_from (v1 + v4).toNatClampNeg))))] := hD
        refine lv_iinc (v := (v4 + (nI 1))) (lv' := [(4, .int (v4 + (nI 1))), (0, .ref q1), (1, .int v1), (2, .ref q2), (3, .int v3)]) hx hb dX3_copies_23 hl (k := 4) rfl (congrArg (fun z => v4 + z) (by decide : Int32.ofInt (1) = (nI 1))) (by decide) rfl (fun ls hl => ?_)
        refine lv_goto (tgt := 3) hx hb dX3_copies_26 (by decide) ?_
        exact hk3 (upd a_to (v3 + v4).toNatClampNeg (a_from (v1 + v4).toNatClampNeg)) v1 v3 (v4 + (nI 1)) _ _ _ hP hD hS (lv_sub hl [1, 2, 3, 4, 0] rfl) hw
  refine lv_iconst (v := (nI 0)) hx hb dX3_copies_0 (by decide) ?_
  refine lv_istore (lv' := [(4, .int (nI 0)), (0, .ref q1), (1, .int p1), (2, .ref q2), (3, .int p3)]) hx hb dX3_copies_1 hl (by decide) rfl (fun ls hl => ?_)
  obtain ⟨n, hw⟩ := hw
  exact hL3  n a_to p1 p3 (nI 0) _ _ _ hP hD hS (lv_sub hl [1, 2, 3, 4, 0] rfl) hw
theorem gX3_58 : GoodIn lw_all (va_wsS RX3 58 yX3_copies (ws_ yX3_copies cX3_copies 5 none)) := lw_S q1821 q1822 q84 q1823
theorem hd_X3_copies : yX3_copies.cls ≠ "java/lang/invoke/MethodHandle" ∧ yX3_copies.cls ≠ "java/lang/invoke/VarHandle" ∧ (parseMethodDescriptor yX3_copies.desc).map (fun d => d.parameters.length) = some 4 := by decide +kernel
def rm_X3_keeps : Room := { frames := 1, cells := 0, slots := 0, locals := 24 }
set_option maxHeartbeats 4000000 in
set_option maxRecDepth 100000 in
theorem met_X3_keeps (l : Launch) (D : va_G) (dA : Nat → ClassId) (ad : Nat → Nat) (sz : Nat) (f_isSaved : Int32) (f_changes : Int32) (f_code : Int32) (f_length : Int32) (f_fault : Int32) (f_signMany : Int32) (f_at : Int32) (f_place : Int32) (a_g : (Nat → Int32)) (a_kept : (Nat → Int32)) (a_saved : (Nat → Int32)) (a_input : (Nat → Int32)) (a_signs : (Nat → Int32)) (a_ways : (Nat → Int64)) (a_needs : (Nat → Int32)) (a_walk : (Nat → Int32)) (a_one : (Nat → Int32)) (a_several : (Nat → Int32)) (a_ragged : (Nat → Int32)) (a_nextLine : (Nat → Int32))  (post : Int32 → Int32 → (Nat → Int32) → Prop) (hw : w_X3_keeps post f_changes f_code a_g a_kept) : Met l yX3_keeps (ws_ yX3_keeps cX3_keeps 2 none) rm_X3_keeps (va_Pc [.ref (ad 0)] (wrB D dA sz (mdl ad dA f_isSaved f_changes f_code f_length f_fault f_signMany f_at f_place a_g a_kept a_saved a_input a_signs a_ways a_needs a_walk a_one a_several a_ragged a_nextLine))) (va_Qv (fun (u : Int32 × Int32 × (Nat → Int32)) => post u.1 u.2.1 u.2.2) (fun (u : Int32 × Int32 × (Nat → Int32)) t => wrQ D dA (va_A (mdl ad dA f_isSaved f_changes f_code f_length f_fault f_signMany f_at f_place a_g a_kept a_saved a_input a_signs a_ways a_needs a_walk a_one a_several a_ragged a_nextLine) sz) (mdl ad dA f_isSaved u.1 u.2.1 f_length f_fault f_signMany f_at f_place a_g u.2.2 a_saved a_input a_signs a_ways a_needs a_walk a_one a_several a_ragged a_nextLine) t) (va_A (mdl ad dA f_isSaved f_changes f_code f_length f_fault f_signMany f_at f_place a_g a_kept a_saved a_input a_signs a_ways a_needs a_walk a_one a_several a_ragged a_nextLine) sz)) 0 0 (va_A (mdl ad dA f_isSaved f_changes f_code f_length f_fault f_signMany f_at f_place a_g a_kept a_saved a_input a_signs a_ways a_needs a_walk a_one a_several a_ragged a_nextLine) sz) := by
  refine Met.ofW (cc := cX3_keeps) (maxL := 2) (ret := none) (by decide) rfl ?_
  intro p e s m args below meth c s₁ B hml hv
  obtain ⟨rfl, hsz, hP, hK, hD0⟩ := hv
  have hx := B.exec
  have hb := B.bytes
  have hr := B.returns
  have hts := atoms_spec (ws := (ws_ yX3_keeps cX3_keeps 2 none)) B.pre
  have hts : ∀ w ∈ lw_all, w.before _ s = true := fun w h => hts w (List.mem_cons_of_mem _ h)
  have hown : s.vm.findClass RX3 = some m.cls := findClass_of_methodNamed B.named
  have hlocks := B.notSynchronized
  have hSx : CallFix p m c cX3_keeps 2 s _ lw_all RX3 := ⟨hx, hb, hml, hown, hts⟩
  subst hsz
  have hD := hD0.self (sz := s.heap.size)
  generalize hAe : va_A (mdl ad dA f_isSaved f_changes f_code f_length f_fault f_signMany f_at f_place a_g a_kept a_saved a_input a_signs a_ways a_needs a_walk a_one a_several a_ragged a_nextLine) s.heap.size = A at hD ⊢
  have hA : ∀ q : Nat, s.heap.size ≤ q → A q := fun q h => by rw [← hAe]; exact Or.inr h
  have hS : va_S A s.heap s.heap [] := va_S.rf
  have hl := lv_entry ([.ref (ad 0)]) (n := 2) (Nat.le_of_ble_eq_true rfl)
  rw [lg_entry_eq]
  generalize (lg_sl ([.ref (ad 0)]) ++ List.replicate (2 - (lg_sl ([.ref (ad 0)])).length) Slot.unset).toArray = ls at hl ⊢
  have hl : lv_has ls 2 [(0, .ref (ad 0))] := hl
  have hL55 : ∀  (f_changes : Int32) (f_code : Int32) (a_kept : (Nat → Int32)) (H : Heap) (locs : List Loc) (ls : Array Slot), va_P D vwCl (mdl ad dA f_isSaved f_changes f_code f_length f_fault f_signMany f_at f_place a_g a_kept a_saved a_input a_signs a_ways a_needs a_walk a_one a_several a_ragged a_nextLine) H → va_D A (mdl ad dA f_isSaved f_changes f_code f_length f_fault f_signMany f_at f_place a_g a_kept a_saved a_input a_signs a_ways a_needs a_walk a_one a_several a_ragged a_nextLine) → va_S A s.heap H locs → lv_has ls 2 [(0, .ref (ad 0))] → (w_X3_keeps_55 post a_g) f_changes f_code a_kept → W p l e (headSpec (ws_ yX3_keeps cX3_keeps 2 none) rm_X3_keeps).room s m ([.ref (ad 0)] : List Value).toArray below meth c H locs 0 0 (MQ below (va_Qv (fun (u : Int32 × Int32 × (Nat → Int32)) => post u.1 u.2.1 u.2.2) (fun (u : Int32 × Int32 × (Nat → Int32)) t => wrQ D dA A (mdl ad dA f_isSaved u.1 u.2.1 f_length f_fault f_signMany f_at f_place a_g u.2.2 a_saved a_input a_signs a_ways a_needs a_walk a_one a_several a_ragged a_nextLine) t) A) ([.ref (ad 0)] : List Value).toArray s 0 0 A) (F0 m 55 ls []) := by
      intro  f_changes f_code a_kept H locs ls hP hD hS hl hw
      refine lv_aload_n hx hb dX3_keeps_55 rfl (lv_at hl 0 rfl) ?_
      refine va_get (D := D) (ci := 2) (v := .ref (ad 1)) (C := RX3) (T := TX3) (N := 20) hx hb hts in_X3 hown hK hP 0 rfl rfl 0 (by decide) (hts _ q1741) (fun _ h9 => h9) rfl dX3_keeps_56 ?_
      refine lv_iconst (v := (nI 0)) hx hb dX3_keeps_59 (by decide) ?_
      refine lv_aload_n hx hb dX3_keeps_60 rfl (lv_at hl 0 rfl) ?_
      refine va_get (D := D) (ci := 2) (v := .ref (ad 2)) (C := RX3) (T := TX3) (N := 20) hx hb hts in_X3 hown hK hP 0 rfl rfl 1 (by decide) (hts _ q1742) (fun _ h9 => h9) rfl dX3_keeps_61 ?_
      refine lv_sipush (v := (nI 188)) hx hb dX3_keeps_64 (by decide) ?_
      refine lv_aload_n hx hb dX3_keeps_67 rfl (lv_at hl 0 rfl) ?_
      refine va_get (D := D) (ci := 2) (v := .int f_changes) (C := RX3) (T := TX3) (N := 20) hx hb hts in_X3 hown hK hP 0 rfl rfl 4 (by decide) (hts _ q1745) (fun _ h9 => h9) rfl dX3_keeps_68 ?_
      refine lv_imul hx hb dX3_keeps_71 ?_
      refine k_wv (wn := fun (u : (Nat → Int32)) => (mdl ad dA f_isSaved f_changes f_code f_length f_fault f_signMany f_at f_place a_g u a_saved a_input a_signs a_ways a_needs a_walk a_one a_several a_ragged a_nextLine)) (wr := (([0, 3, 4, 5, 6, 7, 8, 9, 10, 11, 12] : List Nat).filterMap (fun i => (mdl ad dA f_isSaved f_changes f_code f_length f_fault f_signMany f_at f_place a_g (fun _ => 0) a_saved a_input a_signs a_ways a_needs a_walk a_one a_several a_ragged a_nextLine)[i]?))) (k_wS (As := [.ref (ad 1), .int (nI 0), .ref (ad 2), .int ((nI 188) * f_changes)]) (rest := []) hSx (met_X3_copies l D dA (ad 1) (ad 2) 188 1504 _ a_g a_kept (nI 0) ((nI 188) * f_changes) _ hw) gX3_58 hd_X3_copies ⟨Nat.le_of_ble_eq_true rfl, Nat.le_of_ble_eq_true rfl⟩ rfl rfl hP hK hD [1, 2] rfl (by decide) rfl rfl hl.1 (Nat.le_of_ble_eq_true rfl) rfl dX3_keeps_72 ⟨Nat.le_refl 0, Nat.le_refl 0⟩) hP hD hS hA [1, 2] [0, 3, 4, 5, 6, 7, 8, 9, 10, 11, 12] [0, 11, 12, 1, 2, 3, 4, 5, 6, 7, 8, 9, 10] rfl rfl (by decide) (by decide) (by decide) (fun _ => rfl) (fun _ => rfl) (fun u H locs hw _ hP hD hS => ?_)
      obtain ⟨a_kept_6, rfl⟩ : ∃ z, z = u := ⟨_, rfl⟩
      have hP : va_P D vwCl (mdl ad dA f_isSaved f_changes f_code f_length f_fault f_signMany f_at f_place a_g a_kept_6 a_saved a_input a_signs a_ways a_needs a_walk a_one a_several a_ragged a_nextLine) H := hP
      have hD : va_D A (mdl ad dA f_isSaved f_changes f_code f_length f_fault f_signMany f_at f_place a_g a_kept_6 a_saved a_input a_signs a_ways a_needs a_walk a_one a_several a_ragged a_nextLine) := hD
      refine lv_aload_n hx hb dX3_keeps_75 rfl (lv_at hl 0 rfl) ?_
      refine lv_dup hx hb dX3_keeps_76 rfl ?_
      refine va_get (D := D) (ci := 2) (v := .int f_changes) (C := RX3) (T := TX3) (N := 20) hx hb hts in_X3 hown hK hP 0 rfl rfl 4 (by decide) (hts _ q1745) (fun _ h9 => h9) rfl dX3_keeps_77 ?_
      refine lv_iconst (v := (nI 1)) hx hb dX3_keeps_80 (by decide) ?_
      refine lv_iadd hx hb dX3_keeps_81 ?_
      refine va_put (D := D) (ci := 2) (v := .int (f_changes + (nI 1))) (ty := .int) (C := RX3) (T := TX3) (N := 20) hx hb hts in_X3 tyX3 tyX3_ok nmX3 hown hK hP hD hS 0 rfl rfl 4 (by decide) (hts _ q1745) (fun _ h9 => h9) rfl (by decide +kernel) rfl rfl (Nat.le_of_ble_eq_true rfl) dX3_keeps_82 (fun H locs hP hD hS => ?_)
      have hP : va_P D vwCl (mdl ad dA f_isSaved (f_changes + (nI 1)) f_code f_length f_fault f_signMany f_at f_place a_g a_kept_6 a_saved a_input a_signs a_ways a_needs a_walk a_one a_several a_ragged a_nextLine) H := hP
      have hD : va_D A (mdl ad dA f_isSaved (f_changes + (nI 1)) f_code f_length f_fault f_signMany f_at f_place a_g a_kept_6 a_saved a_input a_signs a_ways a_needs a_walk a_one a_several a_ragged a_nextLine) := hD
      exact W.vret hx hb hr (fun t ht hW => ⟨⟨((f_changes + (nI 1)), f_code, a_kept_6), rfl, hw, by rw [ht]; exact hP, va_K.moved hW.alike hK, hD⟩, hS.F ht⟩) hS.2.2 dX3_keeps_85
  have hL16 : ∀  (n : Nat) (f_changes : Int32) (f_code : Int32) (a_kept : (Nat → Int32)) (v1 : Int32) (H : Heap) (locs : List Loc) (ls : Array Slot), va_P D vwCl (mdl ad dA f_isSaved f_changes f_code f_length f_fault f_signMany f_at f_place a_g a_kept a_saved a_input a_signs a_ways a_needs a_walk a_one a_several a_ragged a_nextLine) H → va_D A (mdl ad dA f_isSaved f_changes f_code f_length f_fault f_signMany f_at f_place a_g a_kept a_saved a_input a_signs a_ways a_needs a_walk a_one a_several a_ragged a_nextLine) → va_S A s.heap H locs → lv_has ls 2 [(0, .ref (ad 0)), (1, .int v1)] → lpF (fun _ _ _ _ => False) (w_X3_keeps_16 post a_g) n f_changes f_code a_kept v1 → W p l e (headSpec (ws_ yX3_keeps cX3_keeps 2 none) rm_X3_keeps).room s m ([.ref (ad 0)] : List Value).toArray below meth c H locs 0 0 (MQ below (va_Qv (fun (u : Int32 × Int32 × (Nat → Int32)) => post u.1 u.2.1 u.2.2) (fun (u : Int32 × Int32 × (Nat → Int32)) t => wrQ D dA A (mdl ad dA f_isSaved u.1 u.2.1 f_length f_fault f_signMany f_at f_place a_g u.2.2 a_saved a_input a_signs a_ways a_needs a_walk a_one a_several a_ragged a_nextLine) t) A) ([.ref (ad 0)] : List Value).toArray s 0 0 A) (F0 m 16 ls []) := by
    intro  n
    induction n with
    | zero => intro f_changes f_code a_kept v1 H locs ls hP hD hS hl hw; exact absurd hw id
    | succ n hk16 =>
      intro f_changes f_code a_kept v1 H locs ls hP hD hS hl hw
      generalize hk9 : lpF (fun _ _ _ _ => False) (w_X3_keeps_16 post a_g) n = k16 at hk16
      have hw : (w_X3_keeps_16 post a_g) k16 f_changes f_code a_kept v1 := hk9 ▸ hw
      refine lv_iload_n hx hb dX3_keeps_16 rfl (lv_at hl 1 rfl) ?_
      refine lv_sipush (v := (nI 1316)) hx hb dX3_keeps_17 (by decide) ?_
      refine lv_icmp_ge (tgt := 45) hx hb dX3_keeps_20 (by decide) (fun c7 => ?_) (fun c7 => ?_)
      · have hw := hw.1 c7
        refine lv_aload_n hx hb dX3_keeps_45 rfl (lv_at hl 0 rfl) ?_
        refine lv_dup hx hb dX3_keeps_46 rfl ?_
        refine va_get (D := D) (ci := 2) (v := .int f_changes) (C := RX3) (T := TX3) (N := 20) hx hb hts in_X3 hown hK hP 0 rfl rfl 4 (by decide) (hts _ q1745) (fun _ h9 => h9) rfl dX3_keeps_47 ?_
        refine lv_iconst (v := (nI 1)) hx hb dX3_keeps_50 (by decide) ?_
        refine lv_isub hx hb dX3_keeps_51 ?_
        refine va_put (D := D) (ci := 2) (v := .int (f_changes - (nI 1))) (ty := .int) (C := RX3) (T := TX3) (N := 20) hx hb hts in_X3 tyX3 tyX3_ok nmX3 hown hK hP hD hS 0 rfl rfl 4 (by decide) (hts _ q1745) (fun _ h9 => h9) rfl (by decide +kernel) rfl rfl (Nat.le_of_ble_eq_true rfl) dX3_keeps_52 (fun H locs hP hD hS => ?_)
        have hP : va_P D vwCl (mdl ad dA f_isSaved (f_changes - (nI 1)) f_code f_length f_fault f_signMany f_at f_place a_g a_kept a_saved a_input a_signs a_ways a_needs a_walk a_one a_several a_ragged a_nextLine) H := hP
        have hD : va_D A (mdl ad dA f_isSaved (f_changes - (nI 1)) f_code f_length f_fault f_signMany f_at f_place a_g a_kept a_saved a_input a_signs a_ways a_needs a_walk a_one a_several a_ragged a_nextLine) := hD
        exact hL55  (f_changes - (nI 1)) f_code a_kept _ _ _ hP hD hS (lv_sub hl [0] rfl) hw
      · have hw := hw.2 c7
        refine lv_aload_n hx hb dX3_keeps_23 rfl (lv_at hl 0 rfl) ?_
        refine va_get (D := D) (ci := 2) (v := .ref (ad 2)) (C := RX3) (T := TX3) (N := 20) hx hb hts in_X3 hown hK hP 0 rfl rfl 1 (by decide) (hts _ q1742) (fun _ h9 => h9) rfl dX3_keeps_24 ?_
        refine lv_iload_n hx hb dX3_keeps_27 rfl (lv_at hl 1 rfl) ?_
        refine lv_aload_n hx hb dX3_keeps_28 rfl (lv_at hl 0 rfl) ?_
        refine va_get (D := D) (ci := 2) (v := .ref (ad 2)) (C := RX3) (T := TX3) (N := 20) hx hb hts in_X3 hown hK hP 0 rfl rfl 1 (by decide) (hts _ q1742) (fun _ h9 => h9) rfl dX3_keeps_29 ?_
        refine lv_iload_n hx hb dX3_keeps_32 rfl (lv_at hl 1 rfl) ?_
        refine lv_sipush (v := (nI 188)) hx hb dX3_keeps_33 (by decide) ?_
        refine lv_iadd hx hb dX3_keeps_36 ?_
        obtain ⟨h8, hw⟩ := hw
        refine k_iald (k := (v1 + (nI 188)).toNatClampNeg) hx hb hK hP 2 0 rfl rfl rfl h8 dX3_keeps_37 ?_
        obtain ⟨h9, hw⟩ := hw
        refine k_iast (k := v1.toNatClampNeg) hx hb hK hP hD hS 2 0 rfl rfl rfl h9 dX3_keeps_38 (fun H locs hP hD hS => ?_)
        have hP : va_P D vwCl (mdl ad dA f_isSaved f_changes f_code f_length f_fault f_signMany f_at f_place a_g (upd a_kept v1.toNatClampNeg (a_kept (v1 + (nI 188)).toNatClampNeg)) a_saved a_input a_signs a_ways a_needs a_walk a_one a_several a_ragged a_nextLine) H := hP
        have hD : va_D A (mdl ad dA f_isSaved f_changes f_code f_length f_fault f_signMany f_at f_place a_g (upd a_kept v1.toNatClampNeg (a_kept (v1 + (nI 188)).toNatClampNeg)) a_saved a_input a_signs a_ways a_needs a_walk a_one a_several a_ragged a_nextLine) := hD
        refine lv_iinc (v := (v1 + (nI 1))) (lv' := [(1, .int (v1 + (nI 1))), (0, .ref (ad 0))]) hx hb dX3_keeps_39 hl (k := 1) rfl (congrArg (fun z => v1 + z) (by decide : Int32.ofInt (1) = (nI 1))) (by decide) rfl (fun ls hl => ?_)
        refine lv_goto (tgt := 16) hx hb dX3_keeps_42 (by decide) ?_
        exact hk16 f_changes f_code (upd a_kept v1.toNatClampNeg (a_kept (v1 + (nI 188)).toNatClampNeg)) (v1 + (nI 1)) _ _ _ hP hD hS (lv_sub hl [1, 0] rfl) hw
  refine lv_aload_n hx hb dX3_keeps_0 rfl (lv_at hl 0 rfl) ?_
  refine lv_iconst (v := (nI 0)) hx hb dX3_keeps_1 (by decide) ?_
  refine va_put (D := D) (ci := 2) (v := .int (nI 0)) (ty := .int) (C := RX3) (T := TX3) (N := 20) hx hb hts in_X3 tyX3 tyX3_ok nmX3 hown hK hP hD hS 0 rfl rfl 5 (by decide) (hts _ q1746) (fun _ h9 => h9) rfl (by decide +kernel) rfl rfl (Nat.le_of_ble_eq_true rfl) dX3_keeps_2 (fun H locs hP hD hS => ?_)
  have hP : va_P D vwCl (mdl ad dA f_isSaved f_changes (nI 0) f_length f_fault f_signMany f_at f_place a_g a_kept a_saved a_input a_signs a_ways a_needs a_walk a_one a_several a_ragged a_nextLine) H := hP
  have hD : va_D A (mdl ad dA f_isSaved f_changes (nI 0) f_length f_fault f_signMany f_at f_place a_g a_kept a_saved a_input a_signs a_ways a_needs a_walk a_one a_several a_ragged a_nextLine) := hD
  refine lv_aload_n hx hb dX3_keeps_5 rfl (lv_at hl 0 rfl) ?_
  refine va_get (D := D) (ci := 2) (v := .int f_changes) (C := RX3) (T := TX3) (N := 20) hx hb hts in_X3 hown hK hP 0 rfl rfl 4 (by decide) (hts _ q1745) (fun _ h9 => h9) rfl dX3_keeps_6 ?_
  refine lv_bipush (v := (nI 8)) hx hb dX3_keeps_9 (by decide) ?_
  refine lv_icmp_ne (tgt := 55) hx hb dX3_keeps_11 (by decide) (fun c10 => ?_) (fun c10 => ?_)
  · have hw := hw.2 c10
    exact hL55  f_changes (nI 0) a_kept _ _ _ hP hD hS (lv_sub hl [0] rfl) hw
  · have hw := hw.1 c10
    refine lv_iconst (v := (nI 0)) hx hb dX3_keeps_14 (by decide) ?_
    refine lv_istore_n (lv' := [(1, .int (nI 0)), (0, .ref (ad 0))]) hx hb dX3_keeps_15 rfl hl (by decide) rfl (fun ls hl => ?_)
    obtain ⟨n, hw⟩ := hw
    exact hL16  n f_changes (nI 0) a_kept (nI 0) _ _ _ hP hD hS (lv_sub hl [1, 0] rfl) hw
theorem gX3_62 : GoodIn lw_all (va_wsS RX3 62 yX3_in (ws_ yX3_in cX3_in 3 (some .boolean))) := lw_S q1810 q1811 q84 q1812
theorem hd_X3_in : yX3_in.cls ≠ "java/lang/invoke/MethodHandle" ∧ yX3_in.cls ≠ "java/lang/invoke/VarHandle" ∧ (parseMethodDescriptor yX3_in.desc).map (fun d => d.parameters.length) = some 3 := by decide +kernel
theorem gX3_70 : GoodIn lw_all (wsV RX3 70 RX3 yX3_fails (ws_ yX3_fails cX3_fails 2 (some .boolean))) := lw_V q1813 q1815 qs33 q84 q1816
theorem hd_X3_fails : yX3_fails.cls ≠ "java/lang/invoke/MethodHandle" ∧ yX3_fails.cls ≠ "java/lang/invoke/VarHandle" ∧ (parseMethodDescriptor yX3_fails.desc).map (fun d => d.parameters.length) = some 1 := by decide +kernel
theorem gX3_77 : GoodIn lw_all (wsV RX3 77 RX3 yX3_keeps (ws_ yX3_keeps cX3_keeps 2 none)) := lw_V q1817 q1819 qs34 q84 q1820
theorem hd_X3_keeps : yX3_keeps.cls ≠ "java/lang/invoke/MethodHandle" ∧ yX3_keeps.cls ≠ "java/lang/invoke/VarHandle" ∧ (parseMethodDescriptor yX3_keeps.desc).map (fun d => d.parameters.length) = some 0 := by decide +kernel
def rm_X3_addCourtier : Room := { frames := 2, cells := 0, slots := 0, locals := 45 }
set_option maxHeartbeats 4000000 in
set_option maxRecDepth 100000 in
theorem met_X3_addCourtier (l : Launch) (D : va_G) (dA : Nat → ClassId) (ad : Nat → Nat) (sz : Nat) (f_isSaved : Int32) (f_changes : Int32) (f_code : Int32) (f_length : Int32) (f_fault : Int32) (f_signMany : Int32) (f_at : Int32) (f_place : Int32) (a_g : (Nat → Int32)) (a_kept : (Nat → Int32)) (a_saved : (Nat → Int32)) (a_input : (Nat → Int32)) (a_signs : (Nat → Int32)) (a_ways : (Nat → Int64)) (a_needs : (Nat → Int32)) (a_walk : (Nat → Int32)) (a_one : (Nat → Int32)) (a_several : (Nat → Int32)) (a_ragged : (Nat → Int32)) (a_nextLine : (Nat → Int32)) (p0 : Int32) (post : Int32 → Int32 → Int32 → (Nat → Int32) → (Nat → Int32) → Prop) (hw : w_X3_addCourtier post f_changes f_code a_g a_kept p0) : Met l yX3_addCourtier (ws_ yX3_addCourtier cX3_addCourtier 2 (some .int)) rm_X3_addCourtier (va_Pc [.ref (ad 0), .int p0] (wrB D dA sz (mdl ad dA f_isSaved f_changes f_code f_length f_fault f_signMany f_at f_place a_g a_kept a_saved a_input a_signs a_ways a_needs a_walk a_one a_several a_ragged a_nextLine))) (va_Qi (fun (r : Int32) (u : Int32 × Int32 × (Nat → Int32) × (Nat → Int32)) => post r u.1 u.2.1 u.2.2.1 u.2.2.2) (fun (u : Int32 × Int32 × (Nat → Int32) × (Nat → Int32)) t => wrQ D dA (va_A (mdl ad dA f_isSaved f_changes f_code f_length f_fault f_signMany f_at f_place a_g a_kept a_saved a_input a_signs a_ways a_needs a_walk a_one a_several a_ragged a_nextLine) sz) (mdl ad dA f_isSaved u.1 u.2.1 f_length f_fault f_signMany f_at f_place u.2.2.1 u.2.2.2 a_saved a_input a_signs a_ways a_needs a_walk a_one a_several a_ragged a_nextLine) t) (va_A (mdl ad dA f_isSaved f_changes f_code f_length f_fault f_signMany f_at f_place a_g a_kept a_saved a_input a_signs a_ways a_needs a_walk a_one a_several a_ragged a_nextLine) sz)) 0 0 (va_A (mdl ad dA f_isSaved f_changes f_code f_length f_fault f_signMany f_at f_place a_g a_kept a_saved a_input a_signs a_ways a_needs a_walk a_one a_several a_ragged a_nextLine) sz) := by
  refine Met.ofW (cc := cX3_addCourtier) (maxL := 2) (ret := (some .int)) (by decide) rfl ?_
  intro p e s m args below meth c s₁ B hml hv
  obtain ⟨rfl, hsz, hP, hK, hD0⟩ := hv
  have hx := B.exec
  have hb := B.bytes
  have hr := B.returns
  have hts := atoms_spec (ws := (ws_ yX3_addCourtier cX3_addCourtier 2 (some .int))) B.pre
  have hts : ∀ w ∈ lw_all, w.before _ s = true := fun w h => hts w (List.mem_cons_of_mem _ h)
  have hown : s.vm.findClass RX3 = some m.cls := findClass_of_methodNamed B.named
  have hlocks := B.notSynchronized
  have hSx : CallFix p m c cX3_addCourtier 2 s _ lw_all RX3 := ⟨hx, hb, hml, hown, hts⟩
  subst hsz
  have hD := hD0.self (sz := s.heap.size)
  generalize hAe : va_A (mdl ad dA f_isSaved f_changes f_code f_length f_fault f_signMany f_at f_place a_g a_kept a_saved a_input a_signs a_ways a_needs a_walk a_one a_several a_ragged a_nextLine) s.heap.size = A at hD ⊢
  have hA : ∀ q : Nat, s.heap.size ≤ q → A q := fun q h => by rw [← hAe]; exact Or.inr h
  have hS : va_S A s.heap s.heap [] := va_S.rf
  have hl := lv_entry ([.ref (ad 0), .int p0]) (n := 2) (Nat.le_of_ble_eq_true rfl)
  rw [lg_entry_eq]
  generalize (lg_sl ([.ref (ad 0), .int p0]) ++ List.replicate (2 - (lg_sl ([.ref (ad 0), .int p0])).length) Slot.unset).toArray = ls at hl ⊢
  have hl : lv_has ls 2 [(0, .ref (ad 0)), (1, .int p0)] := hl
  have hL31 : ∀  (f_changes : Int32) (f_code : Int32) (a_g : (Nat → Int32)) (a_kept : (Nat → Int32)) (v1 : Int32) (s1 : Int32) (H : Heap) (locs : List Loc) (ls : Array Slot), va_P D vwCl (mdl ad dA f_isSaved f_changes f_code f_length f_fault f_signMany f_at f_place a_g a_kept a_saved a_input a_signs a_ways a_needs a_walk a_one a_several a_ragged a_nextLine) H → va_D A (mdl ad dA f_isSaved f_changes f_code f_length f_fault f_signMany f_at f_place a_g a_kept a_saved a_input a_signs a_ways a_needs a_walk a_one a_several a_ragged a_nextLine) → va_S A s.heap H locs → lv_has ls 2 [(0, .ref (ad 0)), (1, .int v1)] → (w_X3_addCourtier_31 post) f_changes f_code a_g a_kept v1 s1 → W p l e (headSpec (ws_ yX3_addCourtier cX3_addCourtier 2 (some .int)) rm_X3_addCourtier).room s m ([.ref (ad 0), .int p0] : List Value).toArray below meth c H locs 0 0 (MQ below (va_Qi (fun (r : Int32) (u : Int32 × Int32 × (Nat → Int32) × (Nat → Int32)) => post r u.1 u.2.1 u.2.2.1 u.2.2.2) (fun (u : Int32 × Int32 × (Nat → Int32) × (Nat → Int32)) t => wrQ D dA A (mdl ad dA f_isSaved u.1 u.2.1 f_length f_fault f_signMany f_at f_place u.2.2.1 u.2.2.2 a_saved a_input a_signs a_ways a_needs a_walk a_one a_several a_ragged a_nextLine) t) A) ([.ref (ad 0), .int p0] : List Value).toArray s 0 0 A) (F0 m 31 ls [.int s1, .ref (ad 0)]) := by
      intro  f_changes f_code a_g a_kept v1 s1 H locs ls hP hD hS hl hw
      refine k_wi (wn := fun (u : Int32) => (mdl ad dA f_isSaved f_changes u f_length f_fault f_signMany f_at f_place a_g a_kept a_saved a_input a_signs a_ways a_needs a_walk a_one a_several a_ragged a_nextLine)) (wr := []) (k_wV (As := [.int s1]) (rest := []) hSx (met_X3_fails l D dA ad _ f_isSaved f_changes f_code f_length f_fault f_signMany f_at f_place a_g a_kept a_saved a_input a_signs a_ways a_needs a_walk a_one a_several a_ragged a_nextLine s1 _ hw) gX3_70 ⟨rfl, hd_X3_fails⟩ ⟨Nat.le_of_ble_eq_true rfl, Nat.le_of_ble_eq_true rfl⟩ rfl rfl hP hK hD [0, 1, 2, 3, 4, 5, 6, 7, 8, 9, 10, 11, 12] rfl (by decide) rfl 0 rfl rfl rfl rfl hl.1 (Nat.le_of_ble_eq_true rfl) rfl dX3_addCourtier_31 ⟨Nat.le_refl 0, Nat.le_refl 0⟩) hP hD hS hA [0, 1, 2, 3, 4, 5, 6, 7, 8, 9, 10, 11, 12] [] [0, 1, 2, 3, 4, 5, 6, 7, 8, 9, 10, 11, 12] rfl rfl (by decide) (by decide) (by decide) (fun _ => rfl) (fun _ => rfl) (fun r12 u H locs hw _ hP hD hS => ?_)
      obtain ⟨f_code_13, rfl⟩ : ∃ z, z = u := ⟨_, rfl⟩
      have hP : va_P D vwCl (mdl ad dA f_isSaved f_changes f_code_13 f_length f_fault f_signMany f_at f_place a_g a_kept a_saved a_input a_signs a_ways a_needs a_walk a_one a_several a_ragged a_nextLine) H := hP
      have hD : va_D A (mdl ad dA f_isSaved f_changes f_code_13 f_length f_fault f_signMany f_at f_place a_g a_kept a_saved a_input a_signs a_ways a_needs a_walk a_one a_several a_ragged a_nextLine) := hD
      refine lv_if_eq (tgt := 39) hx hb dX3_addCourtier_34 (by decide) (fun c14 => ?_) (fun c14 => ?_)
      · have hw := hw.1 c14
        refine lv_aload_n hx hb dX3_addCourtier_39 rfl (lv_at hl 0 rfl) ?_
        refine k_wv (wn := fun (u : Int32 × Int32 × (Nat → Int32)) => (mdl ad dA f_isSaved u.1 u.2.1 f_length f_fault f_signMany f_at f_place a_g u.2.2 a_saved a_input a_signs a_ways a_needs a_walk a_one a_several a_ragged a_nextLine)) (wr := []) (k_wV (As := []) (rest := []) hSx (met_X3_keeps l D dA ad _ f_isSaved f_changes f_code_13 f_length f_fault f_signMany f_at f_place a_g a_kept a_saved a_input a_signs a_ways a_needs a_walk a_one a_several a_ragged a_nextLine  _ hw) gX3_77 ⟨rfl, hd_X3_keeps⟩ ⟨Nat.le_of_ble_eq_true rfl, Nat.le_of_ble_eq_true rfl⟩ rfl rfl hP hK hD [0, 1, 2, 3, 4, 5, 6, 7, 8, 9, 10, 11, 12] rfl (by decide) rfl 0 rfl rfl rfl rfl hl.1 (Nat.le_of_ble_eq_true rfl) rfl dX3_addCourtier_40 ⟨Nat.le_refl 0, Nat.le_refl 0⟩) hP hD hS hA [0, 1, 2, 3, 4, 5, 6, 7, 8, 9, 10, 11, 12] [] [0, 1, 2, 3, 4, 5, 6, 7, 8, 9, 10, 11, 12] rfl rfl (by decide) (by decide) (by decide) (fun _ => rfl) (fun _ => rfl) (fun u H locs hw _ hP hD hS => ?_)
        obtain ⟨f_changes_15, f_code_16, a_kept_17⟩ := u
        have hP : va_P D vwCl (mdl ad dA f_isSaved f_changes_15 f_code_16 f_length f_fault f_signMany f_at f_place a_g a_kept_17 a_saved a_input a_signs a_ways a_needs a_walk a_one a_several a_ragged a_nextLine) H := hP
        have hD : va_D A (mdl ad dA f_isSaved f_changes_15 f_code_16 f_length f_fault f_signMany f_at f_place a_g a_kept_17 a_saved a_input a_signs a_ways a_needs a_walk a_one a_several a_ragged a_nextLine) := hD
        refine lv_aload_n hx hb dX3_addCourtier_43 rfl (lv_at hl 0 rfl) ?_
        refine va_get (D := D) (ci := 2) (v := .ref (ad 1)) (C := RX3) (T := TX3) (N := 20) hx hb hts in_X3 hown hK hP 0 rfl rfl 0 (by decide) (hts _ q1741) (fun _ h9 => h9) rfl dX3_addCourtier_44 ?_
        refine lv_bipush (v := (nI 8)) hx hb dX3_addCourtier_47 (by decide) ?_
        refine lv_aload_n hx hb dX3_addCourtier_49 rfl (lv_at hl 0 rfl) ?_
        refine va_get (D := D) (ci := 2) (v := .ref (ad 1)) (C := RX3) (T := TX3) (N := 20) hx hb hts in_X3 hown hK hP 0 rfl rfl 0 (by decide) (hts _ q1741) (fun _ h9 => h9) rfl dX3_addCourtier_50 ?_
        refine lv_iconst (v := (nI 0)) hx hb dX3_addCourtier_53 (by decide) ?_
        refine k_iald (k := 0) hx hb hK hP 1 0 rfl rfl (clK 0 (by decide)) (inK (by decide) (by decide)) dX3_addCourtier_54 ?_
        refine lv_iadd hx hb dX3_addCourtier_55 ?_
        refine lv_iload_n hx hb dX3_addCourtier_56 rfl (lv_at hl 1 rfl) ?_
        obtain ⟨h18, hw⟩ := hw
        refine k_iast (k := ((nI 8) + (a_g 0)).toNatClampNeg) hx hb hK hP hD hS 1 0 rfl rfl rfl h18 dX3_addCourtier_57 (fun H locs hP hD hS => ?_)
        have hP : va_P D vwCl (mdl ad dA f_isSaved f_changes_15 f_code_16 f_length f_fault f_signMany f_at f_place (upd a_g ((nI 8) + (a_g 0)).toNatClampNeg v1) a_kept_17 a_saved a_input a_signs a_ways a_needs a_walk a_one a_several a_ragged a_nextLine) H := hP
        have hD : va_D A (mdl ad dA f_isSaved f_changes_15 f_code_16 f_length f_fault f_signMany f_at f_place (upd a_g ((nI 8) + (a_g 0)).toNatClampNeg v1) a_kept_17 a_saved a_input a_signs a_ways a_needs a_walk a_one a_several a_ragged a_nextLine) := hD
        refine lv_aload_n hx hb dX3_addCourtier_58 rfl (lv_at hl 0 rfl) ?_
        refine va_get (D := D) (ci := 2) (v := .ref (ad 1)) (C := RX3) (T := TX3) (N := 20) hx hb hts in_X3 hown hK hP 0 rfl rfl 0 (by decide) (hts _ q1741) (fun _ h9 => h9) rfl dX3_addCourtier_59 ?_
        refine lv_bipush (v := (nI 16)) hx hb dX3_addCourtier_62 (by decide) ?_
        refine lv_aload_n hx hb dX3_addCourtier_64 rfl (lv_at hl 0 rfl) ?_
        refine va_get (D := D) (ci := 2) (v := .ref (ad 1)) (C := RX3) (T := TX3) (N := 20) hx hb hts in_X3 hown hK hP 0 rfl rfl 0 (by decide) (hts _ q1741) (fun _ h9 => h9) rfl dX3_addCourtier_65 ?_
        refine lv_iconst (v := (nI 0)) hx hb dX3_addCourtier_68 (by decide) ?_
        refine k_iald (k := 0) hx hb hK hP 1 0 rfl rfl (clK 0 (by decide)) (inK (by decide) (by decide)) dX3_addCourtier_69 ?_
        refine lv_iadd hx hb dX3_addCourtier_70 ?_
        refine lv_bipush (v := (nI 20)) hx hb dX3_addCourtier_71 (by decide) ?_
        obtain ⟨h19, hw⟩ := hw
        refine k_iast (k := ((nI 16) + ((upd a_g ((nI 8) + (a_g 0)).toNatClampNeg v1) 0)).toNatClampNeg) hx hb hK hP hD hS 1 0 rfl rfl rfl h19 dX3_addCourtier_73 (fun H locs hP hD hS => ?_)
        have hP : va_P D vwCl (mdl ad dA f_isSaved f_changes_15 f_code_16 f_length f_fault f_signMany f_at f_place (upd (upd a_g ((nI 8) + (a_g 0)).toNatClampNeg v1) ((nI 16) + ((upd a_g ((nI 8) + (a_g 0)).toNatClampNeg v1) 0)).toNatClampNeg (nI 20)) a_kept_17 a_saved a_input a_signs a_ways a_needs a_walk a_one a_several a_ragged a_nextLine) H := hP
        have hD : va_D A (mdl ad dA f_isSaved f_changes_15 f_code_16 f_length f_fault f_signMany f_at f_place (upd (upd a_g ((nI 8) + (a_g 0)).toNatClampNeg v1) ((nI 16) + ((upd a_g ((nI 8) + (a_g 0)).toNatClampNeg v1) 0)).toNatClampNeg (nI 20)) a_kept_17 a_saved a_input a_signs a_ways a_needs a_walk a_one a_several a_ragged a_nextLine) := hD
        refine lv_aload_n hx hb dX3_addCourtier_74 rfl (lv_at hl 0 rfl) ?_
        refine va_get (D := D) (ci := 2) (v := .ref (ad 1)) (C := RX3) (T := TX3) (N := 20) hx hb hts in_X3 hown hK hP 0 rfl rfl 0 (by decide) (hts _ q1741) (fun _ h9 => h9) rfl dX3_addCourtier_75 ?_
        refine lv_iconst (v := (nI 0)) hx hb dX3_addCourtier_78 (by decide) ?_
        refine lv_dup2_11 hx hb dX3_addCourtier_79 rfl rfl ?_
        refine k_iald (k := 0) hx hb hK hP 1 0 rfl rfl (clK 0 (by decide)) (inK (by decide) (by decide)) dX3_addCourtier_80 ?_
        refine lv_iconst (v := (nI 1)) hx hb dX3_addCourtier_81 (by decide) ?_
        refine lv_iadd hx hb dX3_addCourtier_82 ?_
        refine k_iast (k := 0) hx hb hK hP hD hS 1 0 rfl rfl (clK 0 (by decide)) (inK (by decide) (by decide)) dX3_addCourtier_83 (fun H locs hP hD hS => ?_)
        have hP : va_P D vwCl (mdl ad dA f_isSaved f_changes_15 f_code_16 f_length f_fault f_signMany f_at f_place (upd (upd (upd a_g ((nI 8) + (a_g 0)).toNatClampNeg v1) ((nI 16) + ((upd a_g ((nI 8) + (a_g 0)).toNatClampNeg v1) 0)).toNatClampNeg (nI 20)) 0 (((upd (upd a_g ((nI 8) + (a_g 0)).toNatClampNeg v1) ((nI 16) + ((upd a_g ((nI 8) + (a_g 0)).toNatClampNeg v1) 0)).toNatClampNeg (nI 20)) 0) + (nI 1))) a_kept_17 a_saved a_input a_signs a_ways a_needs a_walk a_one a_several a_ragged a_nextLine) H := hP
        have hD : va_D A (mdl ad dA f_isSaved f_changes_15 f_code_16 f_length f_fault f_signMany f_at f_place (upd (upd (upd a_g ((nI 8) + (a_g 0)).toNatClampNeg v1) ((nI 16) + ((upd a_g ((nI 8) + (a_g 0)).toNatClampNeg v1) 0)).toNatClampNeg (nI 20)) 0 (((upd (upd a_g ((nI 8) + (a_g 0)).toNatClampNeg v1) ((nI 16) + ((upd a_g ((nI 8) + (a_g 0)).toNatClampNeg v1) 0)).toNatClampNeg (nI 20)) 0) + (nI 1))) a_kept_17 a_saved a_input a_signs a_ways a_needs a_walk a_one a_several a_ragged a_nextLine) := hD
        refine lv_aload_n hx hb dX3_addCourtier_84 rfl (lv_at hl 0 rfl) ?_
        refine va_get (D := D) (ci := 2) (v := .ref (ad 1)) (C := RX3) (T := TX3) (N := 20) hx hb hts in_X3 hown hK hP 0 rfl rfl 0 (by decide) (hts _ q1741) (fun _ h9 => h9) rfl dX3_addCourtier_85 ?_
        refine lv_iconst (v := (nI 0)) hx hb dX3_addCourtier_88 (by decide) ?_
        refine k_iald (k := 0) hx hb hK hP 1 0 rfl rfl (clK 0 (by decide)) (inK (by decide) (by decide)) dX3_addCourtier_89 ?_
        refine lv_iconst (v := (nI 1)) hx hb dX3_addCourtier_90 (by decide) ?_
        refine lv_isub hx hb dX3_addCourtier_91 ?_
        exact W.iret (v := (((upd (upd (upd a_g ((nI 8) + (a_g 0)).toNatClampNeg v1) ((nI 16) + ((upd a_g ((nI 8) + (a_g 0)).toNatClampNeg v1) 0)).toNatClampNeg (nI 20)) 0 (((upd (upd a_g ((nI 8) + (a_g 0)).toNatClampNeg v1) ((nI 16) + ((upd a_g ((nI 8) + (a_g 0)).toNatClampNeg v1) 0)).toNatClampNeg (nI 20)) 0) + (nI 1))) 0) - (nI 1))) hx hb hr (fun t ht hW => ⟨⟨(((upd (upd (upd a_g ((nI 8) + (a_g 0)).toNatClampNeg v1) ((nI 16) + ((upd a_g ((nI 8) + (a_g 0)).toNatClampNeg v1) 0)).toNatClampNeg (nI 20)) 0 (((upd (upd a_g ((nI 8) + (a_g 0)).toNatClampNeg v1) ((nI 16) + ((upd a_g ((nI 8) + (a_g 0)).toNatClampNeg v1) 0)).toNatClampNeg (nI 20)) 0) + (nI 1))) 0) - (nI 1)), (f_changes_15, f_code_16, (upd (upd (upd a_g ((nI 8) + (a_g 0)).toNatClampNeg v1) ((nI 16) + ((upd a_g ((nI 8) + (a_g 0)).toNatClampNeg v1) 0)).toNatClampNeg (nI 20)) 0 (((upd (upd a_g ((nI 8) + (a_g 0)).toNatClampNeg v1) ((nI 16) + ((upd a_g ((nI 8) + (a_g 0)).toNatClampNeg v1) 0)).toNatClampNeg (nI 20)) 0) + (nI 1))), a_kept_17), rfl, hw, by rw [ht]; exact hP, va_K.moved hW.alike hK, hD⟩, hS.F ht⟩) hS.2.2 dX3_addCourtier_92
      · have hw := hw.2 c14
        refine lv_iconst (v := (nI 0)) hx hb dX3_addCourtier_37 (by decide) ?_
        exact W.iret (v := (nI 0)) hx hb hr (fun t ht hW => ⟨⟨(nI 0), (f_changes, f_code_13, a_g, a_kept), rfl, hw, by rw [ht]; exact hP, va_K.moved hW.alike hK, hD⟩, hS.F ht⟩) hS.2.2 dX3_addCourtier_38
  refine lv_aload_n hx hb dX3_addCourtier_0 rfl (lv_at hl 0 rfl) ?_
  refine lv_iload_n hx hb dX3_addCourtier_1 rfl (lv_at hl 1 rfl) ?_
  refine lv_iconst (v := (nI 1)) hx hb dX3_addCourtier_2 (by decide) ?_
  refine lv_bipush (v := (nI 99)) hx hb dX3_addCourtier_3 (by decide) ?_
  refine k_ri (k_pS (As := [.int p0, .int (nI 1), .int (nI 99)]) (rest := [.ref (ad 0)]) hSx (met_X3_in l p0 (nI 1) (nI 99) _ hw) gX3_62 hd_X3_in ⟨Nat.le_of_ble_eq_true rfl, Nat.le_of_ble_eq_true rfl⟩ rfl rfl rfl hl.1 (Nat.le_of_ble_eq_true rfl) rfl dX3_addCourtier_5 ⟨Nat.le_refl 0, Nat.le_refl 0⟩) (fun r20 hw => ?_)
  refine lv_if_ne (tgt := 15) hx hb dX3_addCourtier_8 (by decide) (fun c21 => ?_) (fun c21 => ?_)
  · have hw := hw.2 c21
    refine lv_aload_n hx hb dX3_addCourtier_15 rfl (lv_at hl 0 rfl) ?_
    refine va_get (D := D) (ci := 2) (v := .ref (ad 1)) (C := RX3) (T := TX3) (N := 20) hx hb hts in_X3 hown hK hP 0 rfl rfl 0 (by decide) (hts _ q1741) (fun _ h9 => h9) rfl dX3_addCourtier_16 ?_
    refine lv_iconst (v := (nI 0)) hx hb dX3_addCourtier_19 (by decide) ?_
    refine k_iald (k := 0) hx hb hK hP 1 0 rfl rfl (clK 0 (by decide)) (inK (by decide) (by decide)) dX3_addCourtier_20 ?_
    refine lv_bipush (v := (nI 8)) hx hb dX3_addCourtier_21 (by decide) ?_
    refine lv_icmp_ne (tgt := 30) hx hb dX3_addCourtier_23 (by decide) (fun c22 => ?_) (fun c22 => ?_)
    · have hw := hw.2 c22
      refine lv_iconst (v := (nI 0)) hx hb dX3_addCourtier_30 (by decide) ?_
      exact hL31  f_changes f_code a_g a_kept p0 (nI 0) _ _ _ hP hD hS (lv_sub hl [0, 1] rfl) hw
    · have hw := hw.1 c22
      refine lv_iconst (v := (nI 2)) hx hb dX3_addCourtier_26 (by decide) ?_
      refine lv_goto (tgt := 31) hx hb dX3_addCourtier_27 (by decide) ?_
      exact hL31  f_changes f_code a_g a_kept p0 (nI 2) _ _ _ hP hD hS (lv_sub hl [0, 1] rfl) hw
  · have hw := hw.1 c21
    refine lv_iconst (v := (nI 1)) hx hb dX3_addCourtier_11 (by decide) ?_
    refine lv_goto (tgt := 31) hx hb dX3_addCourtier_12 (by decide) ?_
    exact hL31  f_changes f_code a_g a_kept p0 (nI 1) _ _ _ hP hD hS (lv_sub hl [0, 1] rfl) hw
def rm_X3_isCourtier : Room := { frames := 1, cells := 0, slots := 0, locals := 22 }
set_option maxHeartbeats 4000000 in
set_option maxRecDepth 100000 in
theorem met_X3_isCourtier (l : Launch) (D : va_G) (dA : Nat → ClassId) (ad : Nat → Nat) (f_isSaved : Int32) (f_changes : Int32) (f_code : Int32) (f_length : Int32) (f_fault : Int32) (f_signMany : Int32) (f_at : Int32) (f_place : Int32) (a_g : (Nat → Int32)) (a_kept : (Nat → Int32)) (a_saved : (Nat → Int32)) (a_input : (Nat → Int32)) (a_signs : (Nat → Int32)) (a_ways : (Nat → Int64)) (a_needs : (Nat → Int32)) (a_walk : (Nat → Int32)) (a_one : (Nat → Int32)) (a_several : (Nat → Int32)) (a_ragged : (Nat → Int32)) (a_nextLine : (Nat → Int32)) (p0 : Int32) (post : Int32 → Prop) (hw : w_X3_isCourtier post a_g p0) : Met l yX3_isCourtier (ws_ yX3_isCourtier cX3_isCourtier 2 (some .boolean)) rm_X3_isCourtier (va_Pc [.ref (ad 0), .int p0] (rdB D dA (mdl ad dA f_isSaved f_changes f_code f_length f_fault f_signMany f_at f_place a_g a_kept a_saved a_input a_signs a_ways a_needs a_walk a_one a_several a_ragged a_nextLine))) (vp_Si (fun r => post r)) 0 0 (fun _ => False) := by
  refine Met.ofW (cc := cX3_isCourtier) (maxL := 2) (ret := (some .boolean)) (by decide) rfl ?_
  intro p e s m args below meth c s₁ B hml hv
  obtain ⟨rfl, hP, hK⟩ := hv
  have hx := B.exec
  have hb := B.bytes
  have hr := B.returns
  have hts := atoms_spec (ws := (ws_ yX3_isCourtier cX3_isCourtier 2 (some .boolean))) B.pre
  have hts : ∀ w ∈ lw_all, w.before _ s = true := fun w h => hts w (List.mem_cons_of_mem _ h)
  have hown : s.vm.findClass RX3 = some m.cls := findClass_of_methodNamed B.named
  have hlocks := B.notSynchronized
  have hSx : CallFix p m c cX3_isCourtier 2 s _ lw_all RX3 := ⟨hx, hb, hml, hown, hts⟩
  have hl := lv_entry ([.ref (ad 0), .int p0]) (n := 2) (Nat.le_of_ble_eq_true rfl)
  rw [lg_entry_eq]
  generalize (lg_sl ([.ref (ad 0), .int p0]) ++ List.replicate (2 - (lg_sl ([.ref (ad 0), .int p0])).length) Slot.unset).toArray = ls at hl ⊢
  have hl : lv_has ls 2 [(0, .ref (ad 0)), (1, .int p0)] := hl
  refine lv_iload_n hx hb dX3_isCourtier_0 rfl (lv_at hl 1 rfl) ?_
  refine lv_iconst (v := (nI 0)) hx hb dX3_isCourtier_1 (by decide) ?_
  refine lv_aload_n hx hb dX3_isCourtier_2 rfl (lv_at hl 0 rfl) ?_
  refine va_get (D := D) (ci := 2) (v := .ref (ad 1)) (C := RX3) (T := TX3) (N := 20) hx hb hts in_X3 hown hK hP 0 rfl rfl 0 (by decide) (hts _ q1741) (fun _ h9 => h9) rfl dX3_isCourtier_3 ?_
  refine lv_iconst (v := (nI 0)) hx hb dX3_isCourtier_6 (by decide) ?_
  refine k_iald (k := 0) hx hb hK hP 1 0 rfl rfl (clK 0 (by decide)) (inK (by decide) (by decide)) dX3_isCourtier_7 ?_
  refine lv_iconst (v := (nI 1)) hx hb dX3_isCourtier_8 (by decide) ?_
  refine lv_isub hx hb dX3_isCourtier_9 ?_
  refine k_ri (k_pS (As := [.int p0, .int (nI 0), .int ((a_g 0) - (nI 1))]) (rest := []) hSx (met_X3_in l p0 (nI 0) ((a_g 0) - (nI 1)) _ hw) gX3_62 hd_X3_in ⟨Nat.le_of_ble_eq_true rfl, Nat.le_of_ble_eq_true rfl⟩ rfl rfl rfl hl.1 (Nat.le_of_ble_eq_true rfl) rfl dX3_isCourtier_10 ⟨Nat.le_refl 0, Nat.le_refl 0⟩) (fun r3 hw => ?_)
  obtain ⟨h4, hw⟩ := hw
  exact W.zret (v := r3) hx hb hr (isB_n h4) (fun t ht hW => ⟨r3, rfl, hw, ht⟩) (fun _ h => by cases h) dX3_isCourtier_13
theorem gX3_66 : GoodIn lw_all (wsV RX3 66 RX3 yX3_isCourtier (ws_ yX3_isCourtier cX3_isCourtier 2 (some .boolean))) := lw_V q1832 q1834 qs36 q84 q1835
theorem hd_X3_isCourtier : yX3_isCourtier.cls ≠ "java/lang/invoke/MethodHandle" ∧ yX3_isCourtier.cls ≠ "java/lang/invoke/VarHandle" ∧ (parseMethodDescriptor yX3_isCourtier.desc).map (fun d => d.parameters.length) = some 1 := by decide +kernel
def rm_X3_areNone : Room := { frames := 2, cells := 0, slots := 0, locals := 43 }
set_option maxHeartbeats 4000000 in
set_option maxRecDepth 100000 in
theorem met_X3_areNone (l : Launch) (D : va_G) (dA : Nat → ClassId) (ad : Nat → Nat) (sz : Nat) (f_isSaved : Int32) (f_changes : Int32) (f_code : Int32) (f_length : Int32) (f_fault : Int32) (f_signMany : Int32) (f_at : Int32) (f_place : Int32) (a_g : (Nat → Int32)) (a_kept : (Nat → Int32)) (a_saved : (Nat → Int32)) (a_input : (Nat → Int32)) (a_signs : (Nat → Int32)) (a_ways : (Nat → Int64)) (a_needs : (Nat → Int32)) (a_walk : (Nat → Int32)) (a_one : (Nat → Int32)) (a_several : (Nat → Int32)) (a_ragged : (Nat → Int32)) (a_nextLine : (Nat → Int32)) (p0 : Int32) (p1 : Int32) (post : Int32 → Int32 → Prop) (hw : w_X3_areNone post f_code a_g p0 p1) : Met l yX3_areNone (ws_ yX3_areNone cX3_areNone 3 (some .boolean)) rm_X3_areNone (va_Pc [.ref (ad 0), .int p0, .int p1] (wrB D dA sz (mdl ad dA f_isSaved f_changes f_code f_length f_fault f_signMany f_at f_place a_g a_kept a_saved a_input a_signs a_ways a_needs a_walk a_one a_several a_ragged a_nextLine))) (va_Qi (fun (r : Int32) (u : Int32) => post r u) (fun (u : Int32) t => wrQ D dA (va_A (mdl ad dA f_isSaved f_changes f_code f_length f_fault f_signMany f_at f_place a_g a_kept a_saved a_input a_signs a_ways a_needs a_walk a_one a_several a_ragged a_nextLine) sz) (mdl ad dA f_isSaved f_changes u f_length f_fault f_signMany f_at f_place a_g a_kept a_saved a_input a_signs a_ways a_needs a_walk a_one a_several a_ragged a_nextLine) t) (va_A (mdl ad dA f_isSaved f_changes f_code f_length f_fault f_signMany f_at f_place a_g a_kept a_saved a_input a_signs a_ways a_needs a_walk a_one a_several a_ragged a_nextLine) sz)) 0 0 (va_A (mdl ad dA f_isSaved f_changes f_code f_length f_fault f_signMany f_at f_place a_g a_kept a_saved a_input a_signs a_ways a_needs a_walk a_one a_several a_ragged a_nextLine) sz) := by
  refine Met.ofW (cc := cX3_areNone) (maxL := 3) (ret := (some .boolean)) (by decide) rfl ?_
  intro p e s m args below meth c s₁ B hml hv
  obtain ⟨rfl, hsz, hP, hK, hD0⟩ := hv
  have hx := B.exec
  have hb := B.bytes
  have hr := B.returns
  have hts := atoms_spec (ws := (ws_ yX3_areNone cX3_areNone 3 (some .boolean))) B.pre
  have hts : ∀ w ∈ lw_all, w.before _ s = true := fun w h => hts w (List.mem_cons_of_mem _ h)
  have hown : s.vm.findClass RX3 = some m.cls := findClass_of_methodNamed B.named
  have hlocks := B.notSynchronized
  have hSx : CallFix p m c cX3_areNone 3 s _ lw_all RX3 := ⟨hx, hb, hml, hown, hts⟩
  subst hsz
  have hD := hD0.self (sz := s.heap.size)
  generalize hAe : va_A (mdl ad dA f_isSaved f_changes f_code f_length f_fault f_signMany f_at f_place a_g a_kept a_saved a_input a_signs a_ways a_needs a_walk a_one a_several a_ragged a_nextLine) s.heap.size = A at hD ⊢
  have hA : ∀ q : Nat, s.heap.size ≤ q → A q := fun q h => by rw [← hAe]; exact Or.inr h
  have hS : va_S A s.heap s.heap [] := va_S.rf
  have hl := lv_entry ([.ref (ad 0), .int p0, .int p1]) (n := 3) (Nat.le_of_ble_eq_true rfl)
  rw [lg_entry_eq]
  generalize (lg_sl ([.ref (ad 0), .int p0, .int p1]) ++ List.replicate (3 - (lg_sl ([.ref (ad 0), .int p0, .int p1])).length) Slot.unset).toArray = ls at hl ⊢
  have hl : lv_has ls 3 [(0, .ref (ad 0)), (1, .int p0), (2, .int p1)] := hl
  have hL22 : ∀  (f_code : Int32) (s1 : Int32) (H : Heap) (locs : List Loc) (ls : Array Slot), va_P D vwCl (mdl ad dA f_isSaved f_changes f_code f_length f_fault f_signMany f_at f_place a_g a_kept a_saved a_input a_signs a_ways a_needs a_walk a_one a_several a_ragged a_nextLine) H → va_D A (mdl ad dA f_isSaved f_changes f_code f_length f_fault f_signMany f_at f_place a_g a_kept a_saved a_input a_signs a_ways a_needs a_walk a_one a_several a_ragged a_nextLine) → va_S A s.heap H locs → lv_has ls 3 [] → (w_X3_areNone_22 post a_g) f_code s1 → W p l e (headSpec (ws_ yX3_areNone cX3_areNone 3 (some .boolean)) rm_X3_areNone).room s m ([.ref (ad 0), .int p0, .int p1] : List Value).toArray below meth c H locs 0 0 (MQ below (va_Qi (fun (r : Int32) (u : Int32) => post r u) (fun (u : Int32) t => wrQ D dA A (mdl ad dA f_isSaved f_changes u f_length f_fault f_signMany f_at f_place a_g a_kept a_saved a_input a_signs a_ways a_needs a_walk a_one a_several a_ragged a_nextLine) t) A) ([.ref (ad 0), .int p0, .int p1] : List Value).toArray s 0 0 A) (F0 m 22 ls [.int s1, .ref (ad 0)]) := by
      intro  f_code s1 H locs ls hP hD hS hl hw
      refine k_wi (wn := fun (u : Int32) => (mdl ad dA f_isSaved f_changes u f_length f_fault f_signMany f_at f_place a_g a_kept a_saved a_input a_signs a_ways a_needs a_walk a_one a_several a_ragged a_nextLine)) (wr := []) (k_wV (As := [.int s1]) (rest := []) hSx (met_X3_fails l D dA ad _ f_isSaved f_changes f_code f_length f_fault f_signMany f_at f_place a_g a_kept a_saved a_input a_signs a_ways a_needs a_walk a_one a_several a_ragged a_nextLine s1 _ hw) gX3_70 ⟨rfl, hd_X3_fails⟩ ⟨Nat.le_of_ble_eq_true rfl, Nat.le_of_ble_eq_true rfl⟩ rfl rfl hP hK hD [0, 1, 2, 3, 4, 5, 6, 7, 8, 9, 10, 11, 12] rfl (by decide) rfl 0 rfl rfl rfl rfl hl.1 (Nat.le_of_ble_eq_true rfl) rfl dX3_areNone_22 ⟨Nat.le_refl 0, Nat.le_refl 0⟩) hP hD hS hA [0, 1, 2, 3, 4, 5, 6, 7, 8, 9, 10, 11, 12] [] [0, 1, 2, 3, 4, 5, 6, 7, 8, 9, 10, 11, 12] rfl rfl (by decide) (by decide) (by decide) (fun _ => rfl) (fun _ => rfl) (fun r8 u H locs hw _ hP hD hS => ?_)
      obtain ⟨f_code_9, rfl⟩ : ∃ z, z = u := ⟨_, rfl⟩
      have hP : va_P D vwCl (mdl ad dA f_isSaved f_changes f_code_9 f_length f_fault f_signMany f_at f_place a_g a_kept a_saved a_input a_signs a_ways a_needs a_walk a_one a_several a_ragged a_nextLine) H := hP
      have hD : va_D A (mdl ad dA f_isSaved f_changes f_code_9 f_length f_fault f_signMany f_at f_place a_g a_kept a_saved a_input a_signs a_ways a_needs a_walk a_one a_several a_ragged a_nextLine) := hD
      obtain ⟨h10, hw⟩ := hw
      exact W.zret (v := r8) hx hb hr (isB_n h10) (fun t ht hW => ⟨⟨r8, f_code_9, rfl, hw, by rw [ht]; exact hP, va_K.moved hW.alike hK, hD⟩, hS.F ht⟩) hS.2.2 dX3_areNone_25
  have hL21 : ∀  (f_code : Int32) (H : Heap) (locs : List Loc) (ls : Array Slot), va_P D vwCl (mdl ad dA f_isSaved f_changes f_code f_length f_fault f_signMany f_at f_place a_g a_kept a_saved a_input a_signs a_ways a_needs a_walk a_one a_several a_ragged a_nextLine) H → va_D A (mdl ad dA f_isSaved f_changes f_code f_length f_fault f_signMany f_at f_place a_g a_kept a_saved a_input a_signs a_ways a_needs a_walk a_one a_several a_ragged a_nextLine) → va_S A s.heap H locs → lv_has ls 3 [] → (w_X3_areNone_21 post a_g) f_code → W p l e (headSpec (ws_ yX3_areNone cX3_areNone 3 (some .boolean)) rm_X3_areNone).room s m ([.ref (ad 0), .int p0, .int p1] : List Value).toArray below meth c H locs 0 0 (MQ below (va_Qi (fun (r : Int32) (u : Int32) => post r u) (fun (u : Int32) t => wrQ D dA A (mdl ad dA f_isSaved f_changes u f_length f_fault f_signMany f_at f_place a_g a_kept a_saved a_input a_signs a_ways a_needs a_walk a_one a_several a_ragged a_nextLine) t) A) ([.ref (ad 0), .int p0, .int p1] : List Value).toArray s 0 0 A) (F0 m 21 ls [.ref (ad 0)]) := by
      intro  f_code H locs ls hP hD hS hl hw
      refine lv_iconst (v := (nI 1)) hx hb dX3_areNone_21 (by decide) ?_
      exact hL22  f_code (nI 1) _ _ _ hP hD hS (lv_sub hl [] rfl) hw
  refine lv_aload_n hx hb dX3_areNone_0 rfl (lv_at hl 0 rfl) ?_
  refine lv_aload_n hx hb dX3_areNone_1 rfl (lv_at hl 0 rfl) ?_
  refine lv_iload_n hx hb dX3_areNone_2 rfl (lv_at hl 1 rfl) ?_
  refine k_ri (k_rV (As := [.int p0]) (rest := [.ref (ad 0)]) hSx (met_X3_isCourtier l D dA ad f_isSaved f_changes f_code f_length f_fault f_signMany f_at f_place a_g a_kept a_saved a_input a_signs a_ways a_needs a_walk a_one a_several a_ragged a_nextLine p0 _ hw) gX3_66 ⟨rfl, hd_X3_isCourtier⟩ ⟨Nat.le_of_ble_eq_true rfl, Nat.le_of_ble_eq_true rfl⟩ rfl rfl hP hK [0, 1, 2, 3, 4, 5, 6, 7, 8, 9, 10, 11, 12] rfl 0 rfl rfl rfl rfl hl.1 (Nat.le_of_ble_eq_true rfl) rfl dX3_areNone_3 ⟨Nat.le_refl 0, Nat.le_refl 0⟩) (fun r11 hw => ?_)
  refine lv_if_eq (tgt := 21) hx hb dX3_areNone_6 (by decide) (fun c12 => ?_) (fun c12 => ?_)
  · have hw := hw.1 c12
    exact hL21  f_code _ _ _ hP hD hS (lv_sub hl [] rfl) hw
  · have hw := hw.2 c12
    refine lv_aload_n hx hb dX3_areNone_9 rfl (lv_at hl 0 rfl) ?_
    refine lv_iload_n hx hb dX3_areNone_10 rfl (lv_at hl 2 rfl) ?_
    refine k_ri (k_rV (As := [.int p1]) (rest := [.ref (ad 0)]) hSx (met_X3_isCourtier l D dA ad f_isSaved f_changes f_code f_length f_fault f_signMany f_at f_place a_g a_kept a_saved a_input a_signs a_ways a_needs a_walk a_one a_several a_ragged a_nextLine p1 _ hw) gX3_66 ⟨rfl, hd_X3_isCourtier⟩ ⟨Nat.le_of_ble_eq_true rfl, Nat.le_of_ble_eq_true rfl⟩ rfl rfl hP hK [0, 1, 2, 3, 4, 5, 6, 7, 8, 9, 10, 11, 12] rfl 0 rfl rfl rfl rfl hl.1 (Nat.le_of_ble_eq_true rfl) rfl dX3_areNone_11 ⟨Nat.le_refl 0, Nat.le_refl 0⟩) (fun r13 hw => ?_)
    refine lv_if_eq (tgt := 21) hx hb dX3_areNone_14 (by decide) (fun c14 => ?_) (fun c14 => ?_)
    · have hw := hw.1 c14
      exact hL21  f_code _ _ _ hP hD hS (lv_sub hl [] rfl) hw
    · have hw := hw.2 c14
      refine lv_iconst (v := (nI 0)) hx hb dX3_areNone_17 (by decide) ?_
      refine lv_goto (tgt := 22) hx hb dX3_areNone_18 (by decide) ?_
      exact hL22  f_code (nI 0) _ _ _ hP hD hS (lv_sub hl [] rfl) hw
def rm_X3_isRule : Room := { frames := 0, cells := 0, slots := 0, locals := 0 }
set_option maxHeartbeats 4000000 in
set_option maxRecDepth 100000 in
theorem met_X3_isRule (l : Launch) (D : va_G) (dA : Nat → ClassId) (ad : Nat → Nat) (f_isSaved : Int32) (f_changes : Int32) (f_code : Int32) (f_length : Int32) (f_fault : Int32) (f_signMany : Int32) (f_at : Int32) (f_place : Int32) (a_g : (Nat → Int32)) (a_kept : (Nat → Int32)) (a_saved : (Nat → Int32)) (a_input : (Nat → Int32)) (a_signs : (Nat → Int32)) (a_ways : (Nat → Int64)) (a_needs : (Nat → Int32)) (a_walk : (Nat → Int32)) (a_one : (Nat → Int32)) (a_several : (Nat → Int32)) (a_ragged : (Nat → Int32)) (a_nextLine : (Nat → Int32)) (p0 : Int32) (p1 : Int32) (post : Int32 → Prop) (hw : w_X3_isRule post a_g p0 p1) : Met l yX3_isRule (ws_ yX3_isRule cX3_isRule 3 (some .boolean)) rm_X3_isRule (va_Pc [.ref (ad 0), .int p0, .int p1] (rdB D dA (mdl ad dA f_isSaved f_changes f_code f_length f_fault f_signMany f_at f_place a_g a_kept a_saved a_input a_signs a_ways a_needs a_walk a_one a_several a_ragged a_nextLine))) (vp_Si (fun r => post r)) 0 0 (fun _ => False) := by
  refine Met.ofW (cc := cX3_isRule) (maxL := 3) (ret := (some .boolean)) (by decide) rfl ?_
  intro p e s m args below meth c s₁ B hml hv
  obtain ⟨rfl, hP, hK⟩ := hv
  have hx := B.exec
  have hb := B.bytes
  have hr := B.returns
  have hts := atoms_spec (ws := (ws_ yX3_isRule cX3_isRule 3 (some .boolean))) B.pre
  have hts : ∀ w ∈ lw_all, w.before _ s = true := fun w h => hts w (List.mem_cons_of_mem _ h)
  have hown : s.vm.findClass RX3 = some m.cls := findClass_of_methodNamed B.named
  have hlocks := B.notSynchronized
  have hSx : CallFix p m c cX3_isRule 3 s _ lw_all RX3 := ⟨hx, hb, hml, hown, hts⟩
  have hl := lv_entry ([.ref (ad 0), .int p0, .int p1]) (n := 3) (Nat.le_of_ble_eq_true rfl)
  rw [lg_entry_eq]
  generalize (lg_sl ([.ref (ad 0), .int p0, .int p1]) ++ List.replicate (3 - (lg_sl ([.ref (ad 0), .int p0, .int p1])).length) Slot.unset).toArray = ls at hl ⊢
  have hl : lv_has ls 3 [(0, .ref (ad 0)), (1, .int p0), (2, .int p1)] := hl
  refine lv_aload_n hx hb dX3_isRule_0 rfl (lv_at hl 0 rfl) ?_
  refine va_get (D := D) (ci := 2) (v := .ref (ad 1)) (C := RX3) (T := TX3) (N := 20) hx hb hts in_X3 hown hK hP 0 rfl rfl 0 (by decide) (hts _ q1741) (fun _ h9 => h9) rfl dX3_isRule_1 ?_
  refine lv_bipush (v := (nI 24)) hx hb dX3_isRule_4 (by decide) ?_
  refine lv_iload_n hx hb dX3_isRule_6 rfl (lv_at hl 1 rfl) ?_
  refine lv_iadd hx hb dX3_isRule_7 ?_
  obtain ⟨h3, hw⟩ := hw
  refine k_iald (k := ((nI 24) + p0).toNatClampNeg) hx hb hK hP 1 0 rfl rfl rfl h3 dX3_isRule_8 ?_
  refine lv_iload_n hx hb dX3_isRule_9 rfl (lv_at hl 2 rfl) ?_
  refine lv_ishr hx hb dX3_isRule_10 ?_
  refine lv_iconst (v := (nI 1)) hx hb dX3_isRule_11 (by decide) ?_
  refine lv_iand hx hb dX3_isRule_12 ?_
  refine lv_iconst (v := (nI 1)) hx hb dX3_isRule_13 (by decide) ?_
  refine lv_icmp_ne (tgt := 21) hx hb dX3_isRule_14 (by decide) (fun c4 => ?_) (fun c4 => ?_)
  · have hw := hw.2 c4
    refine lv_iconst (v := (nI 0)) hx hb dX3_isRule_21 (by decide) ?_
    exact W.zret (v := (nI 0)) hx hb hr rfl (fun t ht hW => ⟨(nI 0), rfl, hw, ht⟩) (fun _ h => by cases h) dX3_isRule_22
  · have hw := hw.1 c4
    refine lv_iconst (v := (nI 1)) hx hb dX3_isRule_17 (by decide) ?_
    refine lv_goto (tgt := 22) hx hb dX3_isRule_18 (by decide) ?_
    exact W.zret (v := (nI 1)) hx hb hr rfl (fun t ht hW => ⟨(nI 1), rfl, hw, ht⟩) (fun _ h => by cases h) dX3_isRule_22
def rm_X3_behind : Room := { frames := 0, cells := 0, slots := 0, locals := 0 }
set_option maxHeartbeats 4000000 in
set_option maxRecDepth 100000 in
theorem met_X3_behind (l : Launch) (D : va_G) (dA : Nat → ClassId) (ad : Nat → Nat) (f_isSaved : Int32) (f_changes : Int32) (f_code : Int32) (f_length : Int32) (f_fault : Int32) (f_signMany : Int32) (f_at : Int32) (f_place : Int32) (a_g : (Nat → Int32)) (a_kept : (Nat → Int32)) (a_saved : (Nat → Int32)) (a_input : (Nat → Int32)) (a_signs : (Nat → Int32)) (a_ways : (Nat → Int64)) (a_needs : (Nat → Int32)) (a_walk : (Nat → Int32)) (a_one : (Nat → Int32)) (a_several : (Nat → Int32)) (a_ragged : (Nat → Int32)) (a_nextLine : (Nat → Int32)) (p0 : Int32) (post : Int32 → Prop) (hw : w_X3_behind post a_g p0) : Met l yX3_behind (ws_ yX3_behind cX3_behind 5 (some .int)) rm_X3_behind (va_Pc [.ref (ad 0), .int p0] (rdB D dA (mdl ad dA f_isSaved f_changes f_code f_length f_fault f_signMany f_at f_place a_g a_kept a_saved a_input a_signs a_ways a_needs a_walk a_one a_several a_ragged a_nextLine))) (vp_Si (fun r => post r)) 0 0 (fun _ => False) := by
  refine Met.ofW (cc := cX3_behind) (maxL := 5) (ret := (some .int)) (by decide) rfl ?_
  intro p e s m args below meth c s₁ B hml hv
  obtain ⟨rfl, hP, hK⟩ := hv
  have hx := B.exec
  have hb := B.bytes
  have hr := B.returns
  have hts := atoms_spec (ws := (ws_ yX3_behind cX3_behind 5 (some .int))) B.pre
  have hts : ∀ w ∈ lw_all, w.before _ s = true := fun w h => hts w (List.mem_cons_of_mem _ h)
  have hown : s.vm.findClass RX3 = some m.cls := findClass_of_methodNamed B.named
  have hlocks := B.notSynchronized
  have hSx : CallFix p m c cX3_behind 5 s _ lw_all RX3 := ⟨hx, hb, hml, hown, hts⟩
  have hl := lv_entry ([.ref (ad 0), .int p0]) (n := 5) (Nat.le_of_ble_eq_true rfl)
  rw [lg_entry_eq]
  generalize (lg_sl ([.ref (ad 0), .int p0]) ++ List.replicate (5 - (lg_sl ([.ref (ad 0), .int p0])).length) Slot.unset).toArray = ls at hl ⊢
  have hl : lv_has ls 5 [(0, .ref (ad 0)), (1, .int p0)] := hl
  have hL52 : ∀ (k12 : Int32 → Int32 → Prop) (hk12 : ∀ (v2 : Int32) (v3 : Int32) (ls : Array Slot), lv_has ls 5 [(0, .ref (ad 0)), (2, .int v2), (3, .int v3)] → k12 v2 v3 → W p l e (headSpec (ws_ yX3_behind cX3_behind 5 (some .int)) rm_X3_behind).room s m ([.ref (ad 0), .int p0] : List Value).toArray below meth c s.heap [] 0 0 (MQ below (vp_Si (fun r => post r)) ([.ref (ad 0), .int p0] : List Value).toArray s 0 0 (fun _ => False)) (F0 m 12 ls [])) (k22 : Int32 → Int32 → Int32 → Prop) (hk22 : ∀ (v2 : Int32) (v3 : Int32) (v4 : Int32) (ls : Array Slot), lv_has ls 5 [(0, .ref (ad 0)), (2, .int v2), (3, .int v3), (4, .int v4)] → k22 v2 v3 v4 → W p l e (headSpec (ws_ yX3_behind cX3_behind 5 (some .int)) rm_X3_behind).room s m ([.ref (ad 0), .int p0] : List Value).toArray below meth c s.heap [] 0 0 (MQ below (vp_Si (fun r => post r)) ([.ref (ad 0), .int p0] : List Value).toArray s 0 0 (fun _ => False)) (F0 m 22 ls [])) (v2 : Int32) (v3 : Int32) (v4 : Int32) (ls : Array Slot), lv_has ls 5 [(0, .ref (ad 0)), (2, .int v2), (3, .int v3), (4, .int v4)] → (w_X3_behind_52 post a_g k12 k22) v2 v3 v4 → W p l e (headSpec (ws_ yX3_behind cX3_behind 5 (some .int)) rm_X3_behind).room s m ([.ref (ad 0), .int p0] : List Value).toArray below meth c s.heap [] 0 0 (MQ below (vp_Si (fun r => post r)) ([.ref (ad 0), .int p0] : List Value).toArray s 0 0 (fun _ => False)) (F0 m 52 ls []) := by
      intro k12 hk12 k22 hk22 v2 v3 v4 ls hl hw
      refine lv_iinc (v := (v4 + (nI 1))) (lv' := [(4, .int (v4 + (nI 1))), (0, .ref (ad 0)), (2, .int v2), (3, .int v3)]) hx hb dX3_behind_52 hl (k := 3) rfl (congrArg (fun z => v4 + z) (by decide : Int32.ofInt (1) = (nI 1))) (by decide) rfl (fun ls hl => ?_)
      refine lv_goto (tgt := 22) hx hb dX3_behind_55 (by decide) ?_
      exact hk22 v2 v3 (v4 + (nI 1)) _ (lv_sub hl [1, 2, 3, 0] rfl) hw
  have hL22 : ∀ (k12 : Int32 → Int32 → Prop) (hk12 : ∀ (v2 : Int32) (v3 : Int32) (ls : Array Slot), lv_has ls 5 [(0, .ref (ad 0)), (2, .int v2), (3, .int v3)] → k12 v2 v3 → W p l e (headSpec (ws_ yX3_behind cX3_behind 5 (some .int)) rm_X3_behind).room s m ([.ref (ad 0), .int p0] : List Value).toArray below meth c s.heap [] 0 0 (MQ below (vp_Si (fun r => post r)) ([.ref (ad 0), .int p0] : List Value).toArray s 0 0 (fun _ => False)) (F0 m 12 ls [])) (n : Nat) (v2 : Int32) (v3 : Int32) (v4 : Int32) (ls : Array Slot), lv_has ls 5 [(0, .ref (ad 0)), (2, .int v2), (3, .int v3), (4, .int v4)] → lpF (fun _ _ _ => False) (w_X3_behind_22 post a_g k12) n v2 v3 v4 → W p l e (headSpec (ws_ yX3_behind cX3_behind 5 (some .int)) rm_X3_behind).room s m ([.ref (ad 0), .int p0] : List Value).toArray below meth c s.heap [] 0 0 (MQ below (vp_Si (fun r => post r)) ([.ref (ad 0), .int p0] : List Value).toArray s 0 0 (fun _ => False)) (F0 m 22 ls []) := by
    intro k12 hk12 n
    induction n with
    | zero => intro v2 v3 v4 ls hl hw; exact absurd hw id
    | succ n hk22 =>
      intro v2 v3 v4 ls hl hw
      generalize hk9 : lpF (fun _ _ _ => False) (w_X3_behind_22 post a_g k12) n = k22 at hk22
      have hw : (w_X3_behind_22 post a_g k12) k22 v2 v3 v4 := hk9 ▸ hw
      refine lv_iload hx hb dX3_behind_22 (lv_at hl 3 rfl) ?_
      refine lv_bipush (v := (nI 8)) hx hb dX3_behind_24 (by decide) ?_
      refine lv_icmp_ge (tgt := 58) hx hb dX3_behind_26 (by decide) (fun c6 => ?_) (fun c6 => ?_)
      · have hw := hw.1 c6
        refine lv_goto (tgt := 12) hx hb dX3_behind_58 (by decide) ?_
        exact hk12 v2 v3 _ (lv_sub hl [0, 1, 2] rfl) hw
      · have hw := hw.2 c6
        refine lv_iload_n hx hb dX3_behind_29 rfl (lv_at hl 2 rfl) ?_
        refine lv_iload hx hb dX3_behind_30 (lv_at hl 3 rfl) ?_
        refine lv_ishr hx hb dX3_behind_32 ?_
        refine lv_iconst (v := (nI 1)) hx hb dX3_behind_33 (by decide) ?_
        refine lv_iand hx hb dX3_behind_34 ?_
        refine lv_iconst (v := (nI 1)) hx hb dX3_behind_35 (by decide) ?_
        refine lv_icmp_ne (tgt := 52) hx hb dX3_behind_36 (by decide) (fun c7 => ?_) (fun c7 => ?_)
        · have hw := hw.2 c7
          exact hL52 k12 hk12 k22 hk22 v2 v3 v4 _ (lv_sub hl [0, 1, 2, 3] rfl) hw
        · have hw := hw.1 c7
          refine lv_iload_n hx hb dX3_behind_39 rfl (lv_at hl 1 rfl) ?_
          refine lv_aload_n hx hb dX3_behind_40 rfl (lv_at hl 0 rfl) ?_
          refine va_get (D := D) (ci := 2) (v := .ref (ad 1)) (C := RX3) (T := TX3) (N := 20) hx hb hts in_X3 hown hK hP 0 rfl rfl 0 (by decide) (hts _ q1741) (fun _ h9 => h9) rfl dX3_behind_41 ?_
          refine lv_bipush (v := (nI 24)) hx hb dX3_behind_44 (by decide) ?_
          refine lv_iload hx hb dX3_behind_46 (lv_at hl 3 rfl) ?_
          refine lv_iadd hx hb dX3_behind_48 ?_
          obtain ⟨h8, hw⟩ := hw
          refine k_iald (k := ((nI 24) + v4).toNatClampNeg) hx hb hK hP 1 0 rfl rfl rfl h8 dX3_behind_49 ?_
          refine lv_ior hx hb dX3_behind_50 ?_
          refine lv_istore_n (lv' := [(2, .int (v2 ||| (a_g ((nI 24) + v4).toNatClampNeg))), (0, .ref (ad 0)), (3, .int v3), (4, .int v4)]) hx hb dX3_behind_51 rfl hl (by decide) rfl (fun ls hl => ?_)
          exact hL52 k12 hk12 k22 hk22 (v2 ||| (a_g ((nI 24) + v4).toNatClampNeg)) v3 v4 _ (lv_sub hl [1, 0, 2, 3] rfl) hw
  have hL12 : ∀  (n : Nat) (v2 : Int32) (v3 : Int32) (ls : Array Slot), lv_has ls 5 [(0, .ref (ad 0)), (2, .int v2), (3, .int v3)] → lpF (fun _ _ => False) (w_X3_behind_12 post a_g) n v2 v3 → W p l e (headSpec (ws_ yX3_behind cX3_behind 5 (some .int)) rm_X3_behind).room s m ([.ref (ad 0), .int p0] : List Value).toArray below meth c s.heap [] 0 0 (MQ below (vp_Si (fun r => post r)) ([.ref (ad 0), .int p0] : List Value).toArray s 0 0 (fun _ => False)) (F0 m 12 ls []) := by
    intro  n
    induction n with
    | zero => intro v2 v3 ls hl hw; exact absurd hw id
    | succ n hk12 =>
      intro v2 v3 ls hl hw
      generalize hk9 : lpF (fun _ _ => False) (w_X3_behind_12 post a_g) n = k12 at hk12
      have hw : (w_X3_behind_12 post a_g) k12 v2 v3 := hk9 ▸ hw
      refine lv_iload_n hx hb dX3_behind_12 rfl (lv_at hl 1 rfl) ?_
      refine lv_iload_n hx hb dX3_behind_13 rfl (lv_at hl 2 rfl) ?_
      refine lv_icmp_eq (tgt := 61) hx hb dX3_behind_14 (by decide) (fun c9 => ?_) (fun c9 => ?_)
      · have hw := hw.1 c9
        refine lv_iload_n hx hb dX3_behind_61 rfl (lv_at hl 1 rfl) ?_
        exact W.iret (v := v2) hx hb hr (fun t ht hW => ⟨v2, rfl, hw, ht⟩) (fun _ h => by cases h) dX3_behind_62
      · have hw := hw.2 c9
        refine lv_iload_n hx hb dX3_behind_17 rfl (lv_at hl 1 rfl) ?_
        refine lv_istore_n (lv' := [(3, .int v2), (0, .ref (ad 0)), (2, .int v2)]) hx hb dX3_behind_18 rfl hl (by decide) rfl (fun ls hl => ?_)
        refine lv_iconst (v := (nI 0)) hx hb dX3_behind_19 (by decide) ?_
        refine lv_istore (lv' := [(4, .int (nI 0)), (3, .int v2), (0, .ref (ad 0)), (2, .int v2)]) hx hb dX3_behind_20 hl (by decide) rfl (fun ls hl => ?_)
        obtain ⟨n, hw⟩ := hw
        exact hL22 k12 hk12 n v2 v2 (nI 0) _ (lv_sub hl [2, 3, 1, 0] rfl) hw
  refine lv_aload_n hx hb dX3_behind_0 rfl (lv_at hl 0 rfl) ?_
  refine va_get (D := D) (ci := 2) (v := .ref (ad 1)) (C := RX3) (T := TX3) (N := 20) hx hb hts in_X3 hown hK hP 0 rfl rfl 0 (by decide) (hts _ q1741) (fun _ h9 => h9) rfl dX3_behind_1 ?_
  refine lv_bipush (v := (nI 24)) hx hb dX3_behind_4 (by decide) ?_
  refine lv_iload_n hx hb dX3_behind_6 rfl (lv_at hl 1 rfl) ?_
  refine lv_iadd hx hb dX3_behind_7 ?_
  obtain ⟨h10, hw⟩ := hw
  refine k_iald (k := ((nI 24) + p0).toNatClampNeg) hx hb hK hP 1 0 rfl rfl rfl h10 dX3_behind_8 ?_
  refine lv_istore_n (lv' := [(2, .int (a_g ((nI 24) + p0).toNatClampNeg)), (0, .ref (ad 0)), (1, .int p0)]) hx hb dX3_behind_9 rfl hl (by decide) rfl (fun ls hl => ?_)
  refine lv_iconst (v := (-1)) hx hb dX3_behind_10 (by decide) ?_
  refine lv_istore_n (lv' := [(3, .int (-1)), (2, .int (a_g ((nI 24) + p0).toNatClampNeg)), (0, .ref (ad 0)), (1, .int p0)]) hx hb dX3_behind_11 rfl hl (by decide) rfl (fun ls hl => ?_)
  obtain ⟨n, hw⟩ := hw
  exact hL12  n (a_g ((nI 24) + p0).toNatClampNeg) (-1) _ (lv_sub hl [2, 1, 0] rfl) hw
def rm_X3_bits : Room := { frames := 0, cells := 0, slots := 0, locals := 0 }
set_option maxHeartbeats 4000000 in
set_option maxRecDepth 100000 in
theorem met_X3_bits (l : Launch)   (p0 : Int32) (post : Int32 → Prop) (hw : w_X3_bits post p0) : Met l yX3_bits (ws_ yX3_bits cX3_bits 3 (some .int)) rm_X3_bits (va_Pc [.int p0] (fun _ => True)) (vp_Si (fun r => post r)) 0 0 (fun _ => False) := by
  refine Met.ofW (cc := cX3_bits) (maxL := 3) (ret := (some .int)) (by decide) rfl ?_
  intro p e s m args below meth c s₁ B hml hv
  obtain ⟨rfl, -⟩ := hv
  have hx := B.exec
  have hb := B.bytes
  have hr := B.returns
  have hts := atoms_spec (ws := (ws_ yX3_bits cX3_bits 3 (some .int))) B.pre
  have hts : ∀ w ∈ lw_all, w.before _ s = true := fun w h => hts w (List.mem_cons_of_mem _ h)
  have hown : s.vm.findClass RX3 = some m.cls := findClass_of_methodNamed B.named
  have hlocks := B.notSynchronized
  have hSx : CallFix p m c cX3_bits 3 s _ lw_all RX3 := ⟨hx, hb, hml, hown, hts⟩
  have hl := lv_entry ([.int p0]) (n := 3) (Nat.le_of_ble_eq_true rfl)
  rw [lg_entry_eq]
  generalize (lg_sl ([.int p0]) ++ List.replicate (3 - (lg_sl ([.int p0])).length) Slot.unset).toArray = ls at hl ⊢
  have hl : lv_has ls 3 [(0, .int p0)] := hl
  have hL4 : ∀  (n : Nat) (v0 : Int32) (v1 : Int32) (v2 : Int32) (ls : Array Slot), lv_has ls 3 [(0, .int v0), (1, .int v1), (2, .int v2)] → lpF (fun _ _ _ => False) (w_X3_bits_4 post) n v0 v1 v2 → W p l e (headSpec (ws_ yX3_bits cX3_bits 3 (some .int)) rm_X3_bits).room s m ([.int p0] : List Value).toArray below meth c s.heap [] 0 0 (MQ below (vp_Si (fun r => post r)) ([.int p0] : List Value).toArray s 0 0 (fun _ => False)) (F0 m 4 ls []) := by
    intro  n
    induction n with
    | zero => intro v0 v1 v2 ls hl hw; exact absurd hw id
    | succ n hk4 =>
      intro v0 v1 v2 ls hl hw
      generalize hk9 : lpF (fun _ _ _ => False) (w_X3_bits_4 post) n = k4 at hk4
      have hw : (w_X3_bits_4 post) k4 v0 v1 v2 := hk9 ▸ hw
      refine lv_iload_n hx hb dX3_bits_4 rfl (lv_at hl 2 rfl) ?_
      refine lv_bipush (v := (nI 8)) hx hb dX3_bits_5 (by decide) ?_
      refine lv_icmp_ge (tgt := 24) hx hb dX3_bits_7 (by decide) (fun c2 => ?_) (fun c2 => ?_)
      · have hw := hw.1 c2
        refine lv_iload_n hx hb dX3_bits_24 rfl (lv_at hl 1 rfl) ?_
        exact W.iret (v := v1) hx hb hr (fun t ht hW => ⟨v1, rfl, hw, ht⟩) (fun _ h => by cases h) dX3_bits_25
      · have hw := hw.2 c2
        refine lv_iload_n hx hb dX3_bits_10 rfl (lv_at hl 1 rfl) ?_
        refine lv_iload_n hx hb dX3_bits_11 rfl (lv_at hl 0 rfl) ?_
        refine lv_iload_n hx hb dX3_bits_12 rfl (lv_at hl 2 rfl) ?_
        refine lv_ishr hx hb dX3_bits_13 ?_
        refine lv_iconst (v := (nI 1)) hx hb dX3_bits_14 (by decide) ?_
        refine lv_iand hx hb dX3_bits_15 ?_
        refine lv_iadd hx hb dX3_bits_16 ?_
        refine lv_istore_n (lv' := [(1, .int (v1 + ((v0 >>> (v2 &&& 31)) &&& (nI 1)))), (0, .int v0), (2, .int v2)]) hx hb dX3_bits_17 rfl hl (by decide) rfl (fun ls hl => ?_)
        refine lv_iinc (v := (v2 + (nI 1))) (lv' := [(2, .int (v2 + (nI 1))), (1, .int (v1 + ((v0 >>> (v2 &&& 31)) &&& (nI 1)))), (0, .int v0)]) hx hb dX3_bits_18 hl (k := 2) rfl (congrArg (fun z => v2 + z) (by decide : Int32.ofInt (1) = (nI 1))) (by decide) rfl (fun ls hl => ?_)
        refine lv_goto (tgt := 4) hx hb dX3_bits_21 (by decide) ?_
        exact hk4 v0 (v1 + ((v0 >>> (v2 &&& 31)) &&& (nI 1))) (v2 + (nI 1)) _ (lv_sub hl [2, 1, 0] rfl) hw
  refine lv_iconst (v := (nI 0)) hx hb dX3_bits_0 (by decide) ?_
  refine lv_istore_n (lv' := [(1, .int (nI 0)), (0, .int p0)]) hx hb dX3_bits_1 rfl hl (by decide) rfl (fun ls hl => ?_)
  refine lv_iconst (v := (nI 0)) hx hb dX3_bits_2 (by decide) ?_
  refine lv_istore_n (lv' := [(2, .int (nI 0)), (1, .int (nI 0)), (0, .int p0)]) hx hb dX3_bits_3 rfl hl (by decide) rfl (fun ls hl => ?_)
  obtain ⟨n, hw⟩ := hw
  exact hL4  n p0 (nI 0) (nI 0) _ (lv_sub hl [2, 1, 0] rfl) hw
theorem gX3_80 : GoodIn lw_all (va_wsS RX3 80 yX3_bits (ws_ yX3_bits cX3_bits 3 (some .int))) := lw_S q1848 q1849 q84 q1850
theorem hd_X3_bits : yX3_bits.cls ≠ "java/lang/invoke/MethodHandle" ∧ yX3_bits.cls ≠ "java/lang/invoke/VarHandle" ∧ (parseMethodDescriptor yX3_bits.desc).map (fun d => d.parameters.length) = some 1 := by decide +kernel
def rm_X3_rules : Room := { frames := 1, cells := 0, slots := 0, locals := 22 }
set_option maxHeartbeats 4000000 in
set_option maxRecDepth 100000 in
theorem met_X3_rules (l : Launch) (D : va_G) (dA : Nat → ClassId) (ad : Nat → Nat) (f_isSaved : Int32) (f_changes : Int32) (f_code : Int32) (f_length : Int32) (f_fault : Int32) (f_signMany : Int32) (f_at : Int32) (f_place : Int32) (a_g : (Nat → Int32)) (a_kept : (Nat → Int32)) (a_saved : (Nat → Int32)) (a_input : (Nat → Int32)) (a_signs : (Nat → Int32)) (a_ways : (Nat → Int64)) (a_needs : (Nat → Int32)) (a_walk : (Nat → Int32)) (a_one : (Nat → Int32)) (a_several : (Nat → Int32)) (a_ragged : (Nat → Int32)) (a_nextLine : (Nat → Int32))  (post : Int32 → Prop) (hw : w_X3_rules post a_g) : Met l yX3_rules (ws_ yX3_rules cX3_rules 3 (some .int)) rm_X3_rules (va_Pc [.ref (ad 0)] (rdB D dA (mdl ad dA f_isSaved f_changes f_code f_length f_fault f_signMany f_at f_place a_g a_kept a_saved a_input a_signs a_ways a_needs a_walk a_one a_several a_ragged a_nextLine))) (vp_Si (fun r => post r)) 0 0 (fun _ => False) := by
  refine Met.ofW (cc := cX3_rules) (maxL := 3) (ret := (some .int)) (by decide) rfl ?_
  intro p e s m args below meth c s₁ B hml hv
  obtain ⟨rfl, hP, hK⟩ := hv
  have hx := B.exec
  have hb := B.bytes
  have hr := B.returns
  have hts := atoms_spec (ws := (ws_ yX3_rules cX3_rules 3 (some .int))) B.pre
  have hts : ∀ w ∈ lw_all, w.before _ s = true := fun w h => hts w (List.mem_cons_of_mem _ h)
  have hown : s.vm.findClass RX3 = some m.cls := findClass_of_methodNamed B.named
  have hlocks := B.notSynchronized
  have hSx : CallFix p m c cX3_rules 3 s _ lw_all RX3 := ⟨hx, hb, hml, hown, hts⟩
  have hl := lv_entry ([.ref (ad 0)]) (n := 3) (Nat.le_of_ble_eq_true rfl)
  rw [lg_entry_eq]
  generalize (lg_sl ([.ref (ad 0)]) ++ List.replicate (3 - (lg_sl ([.ref (ad 0)])).length) Slot.unset).toArray = ls at hl ⊢
  have hl : lv_has ls 3 [(0, .ref (ad 0))] := hl
  have hL4 : ∀  (n : Nat) (v1 : Int32) (v2 : Int32) (ls : Array Slot), lv_has ls 3 [(0, .ref (ad 0)), (1, .int v1), (2, .int v2)] → lpF (fun _ _ => False) (w_X3_rules_4 post a_g) n v1 v2 → W p l e (headSpec (ws_ yX3_rules cX3_rules 3 (some .int)) rm_X3_rules).room s m ([.ref (ad 0)] : List Value).toArray below meth c s.heap [] 0 0 (MQ below (vp_Si (fun r => post r)) ([.ref (ad 0)] : List Value).toArray s 0 0 (fun _ => False)) (F0 m 4 ls []) := by
    intro  n
    induction n with
    | zero => intro v1 v2 ls hl hw; exact absurd hw id
    | succ n hk4 =>
      intro v1 v2 ls hl hw
      generalize hk9 : lpF (fun _ _ => False) (w_X3_rules_4 post a_g) n = k4 at hk4
      have hw : (w_X3_rules_4 post a_g) k4 v1 v2 := hk9 ▸ hw
      refine lv_iload_n hx hb dX3_rules_4 rfl (lv_at hl 2 rfl) ?_
      refine lv_bipush (v := (nI 8)) hx hb dX3_rules_5 (by decide) ?_
      refine lv_icmp_ge (tgt := 31) hx hb dX3_rules_7 (by decide) (fun c4 => ?_) (fun c4 => ?_)
      · have hw := hw.1 c4
        refine lv_iload_n hx hb dX3_rules_31 rfl (lv_at hl 1 rfl) ?_
        exact W.iret (v := v1) hx hb hr (fun t ht hW => ⟨v1, rfl, hw, ht⟩) (fun _ h => by cases h) dX3_rules_32
      · have hw := hw.2 c4
        refine lv_iload_n hx hb dX3_rules_10 rfl (lv_at hl 1 rfl) ?_
        refine lv_aload_n hx hb dX3_rules_11 rfl (lv_at hl 0 rfl) ?_
        refine va_get (D := D) (ci := 2) (v := .ref (ad 1)) (C := RX3) (T := TX3) (N := 20) hx hb hts in_X3 hown hK hP 0 rfl rfl 0 (by decide) (hts _ q1741) (fun _ h9 => h9) rfl dX3_rules_12 ?_
        refine lv_bipush (v := (nI 24)) hx hb dX3_rules_15 (by decide) ?_
        refine lv_iload_n hx hb dX3_rules_17 rfl (lv_at hl 2 rfl) ?_
        refine lv_iadd hx hb dX3_rules_18 ?_
        obtain ⟨h5, hw⟩ := hw
        refine k_iald (k := ((nI 24) + v2).toNatClampNeg) hx hb hK hP 1 0 rfl rfl rfl h5 dX3_rules_19 ?_
        refine k_ri (k_pS (As := [.int (a_g ((nI 24) + v2).toNatClampNeg)]) (rest := [.int v1]) hSx (met_X3_bits l (a_g ((nI 24) + v2).toNatClampNeg) _ hw) gX3_80 hd_X3_bits ⟨Nat.le_of_ble_eq_true rfl, Nat.le_of_ble_eq_true rfl⟩ rfl rfl rfl hl.1 (Nat.le_of_ble_eq_true rfl) rfl dX3_rules_20 ⟨Nat.le_refl 0, Nat.le_refl 0⟩) (fun r6 hw => ?_)
        refine lv_iadd hx hb dX3_rules_23 ?_
        refine lv_istore_n (lv' := [(1, .int (v1 + r6)), (0, .ref (ad 0)), (2, .int v2)]) hx hb dX3_rules_24 rfl hl (by decide) rfl (fun ls hl => ?_)
        refine lv_iinc (v := (v2 + (nI 1))) (lv' := [(2, .int (v2 + (nI 1))), (1, .int (v1 + r6)), (0, .ref (ad 0))]) hx hb dX3_rules_25 hl (k := 2) rfl (congrArg (fun z => v2 + z) (by decide : Int32.ofInt (1) = (nI 1))) (by decide) rfl (fun ls hl => ?_)
        refine lv_goto (tgt := 4) hx hb dX3_rules_28 (by decide) ?_
        exact hk4 (v1 + r6) (v2 + (nI 1)) _ (lv_sub hl [2, 1, 0] rfl) hw
  refine lv_iconst (v := (nI 0)) hx hb dX3_rules_0 (by decide) ?_
  refine lv_istore_n (lv' := [(1, .int (nI 0)), (0, .ref (ad 0))]) hx hb dX3_rules_1 rfl hl (by decide) rfl (fun ls hl => ?_)
  refine lv_iconst (v := (nI 0)) hx hb dX3_rules_2 (by decide) ?_
  refine lv_istore_n (lv' := [(2, .int (nI 0)), (1, .int (nI 0)), (0, .ref (ad 0))]) hx hb dX3_rules_3 rfl hl (by decide) rfl (fun ls hl => ?_)
  obtain ⟨n, hw⟩ := hw
  exact hL4  n (nI 0) (nI 0) _ (lv_sub hl [2, 1, 0] rfl) hw
theorem gX3_83 : GoodIn lw_all (wsV RX3 83 RX3 yX3_areNone (ws_ yX3_areNone cX3_areNone 3 (some .boolean))) := lw_V q1828 q1830 qs35 q84 q1831
theorem hd_X3_areNone : yX3_areNone.cls ≠ "java/lang/invoke/MethodHandle" ∧ yX3_areNone.cls ≠ "java/lang/invoke/VarHandle" ∧ (parseMethodDescriptor yX3_areNone.desc).map (fun d => d.parameters.length) = some 2 := by decide +kernel
theorem gX3_87 : GoodIn lw_all (wsV RX3 87 RX3 yX3_isRule (ws_ yX3_isRule cX3_isRule 3 (some .boolean))) := lw_V q1836 q1838 qs37 q84 q1839
theorem hd_X3_isRule : yX3_isRule.cls ≠ "java/lang/invoke/MethodHandle" ∧ yX3_isRule.cls ≠ "java/lang/invoke/VarHandle" ∧ (parseMethodDescriptor yX3_isRule.desc).map (fun d => d.parameters.length) = some 2 := by decide +kernel
theorem gX3_73 : GoodIn lw_all (wsV RX3 73 RX3 yX3_behind (ws_ yX3_behind cX3_behind 5 (some .int))) := lw_V q1840 q1842 qs38 q84 q1843
theorem hd_X3_behind : yX3_behind.cls ≠ "java/lang/invoke/MethodHandle" ∧ yX3_behind.cls ≠ "java/lang/invoke/VarHandle" ∧ (parseMethodDescriptor yX3_behind.desc).map (fun d => d.parameters.length) = some 1 := by decide +kernel
theorem gX3_90 : GoodIn lw_all (wsV RX3 90 RX3 yX3_rules (ws_ yX3_rules cX3_rules 3 (some .int))) := lw_V q1844 q1846 qs39 q84 q1847
theorem hd_X3_rules : yX3_rules.cls ≠ "java/lang/invoke/MethodHandle" ∧ yX3_rules.cls ≠ "java/lang/invoke/VarHandle" ∧ (parseMethodDescriptor yX3_rules.desc).map (fun d => d.parameters.length) = some 0 := by decide +kernel
def rm_X3_addRule : Room := { frames := 3, cells := 0, slots := 0, locals := 65 }
set_option maxHeartbeats 4000000 in
set_option maxRecDepth 100000 in
theorem met_X3_addRule (l : Launch) (D : va_G) (dA : Nat → ClassId) (ad : Nat → Nat) (sz : Nat) (f_isSaved : Int32) (f_changes : Int32) (f_code : Int32) (f_length : Int32) (f_fault : Int32) (f_signMany : Int32) (f_at : Int32) (f_place : Int32) (a_g : (Nat → Int32)) (a_kept : (Nat → Int32)) (a_saved : (Nat → Int32)) (a_input : (Nat → Int32)) (a_signs : (Nat → Int32)) (a_ways : (Nat → Int64)) (a_needs : (Nat → Int32)) (a_walk : (Nat → Int32)) (a_one : (Nat → Int32)) (a_several : (Nat → Int32)) (a_ragged : (Nat → Int32)) (a_nextLine : (Nat → Int32)) (p0 : Int32) (p1 : Int32) (post : Int32 → Int32 → Int32 → (Nat → Int32) → (Nat → Int32) → Prop) (hw : w_X3_addRule post f_changes f_code a_g a_kept p0 p1) : Met l yX3_addRule (ws_ yX3_addRule cX3_addRule 3 (some .int)) rm_X3_addRule (va_Pc [.ref (ad 0), .int p0, .int p1] (wrB D dA sz (mdl ad dA f_isSaved f_changes f_code f_length f_fault f_signMany f_at f_place a_g a_kept a_saved a_input a_signs a_ways a_needs a_walk a_one a_several a_ragged a_nextLine))) (va_Qi (fun (r : Int32) (u : Int32 × Int32 × (Nat → Int32) × (Nat → Int32)) => post r u.1 u.2.1 u.2.2.1 u.2.2.2) (fun (u : Int32 × Int32 × (Nat → Int32) × (Nat → Int32)) t => wrQ D dA (va_A (mdl ad dA f_isSaved f_changes f_code f_length f_fault f_signMany f_at f_place a_g a_kept a_saved a_input a_signs a_ways a_needs a_walk a_one a_several a_ragged a_nextLine) sz) (mdl ad dA f_isSaved u.1 u.2.1 f_length f_fault f_signMany f_at f_place u.2.2.1 u.2.2.2 a_saved a_input a_signs a_ways a_needs a_walk a_one a_several a_ragged a_nextLine) t) (va_A (mdl ad dA f_isSaved f_changes f_code f_length f_fault f_signMany f_at f_place a_g a_kept a_saved a_input a_signs a_ways a_needs a_walk a_one a_several a_ragged a_nextLine) sz)) 0 0 (va_A (mdl ad dA f_isSaved f_changes f_code f_length f_fault f_signMany f_at f_place a_g a_kept a_saved a_input a_signs a_ways a_needs a_walk a_one a_several a_ragged a_nextLine) sz) := by
  refine Met.ofW (cc := cX3_addRule) (maxL := 3) (ret := (some .int)) (by decide) rfl ?_
  intro p e s m args below meth c s₁ B hml hv
  obtain ⟨rfl, hsz, hP, hK, hD0⟩ := hv
  have hx := B.exec
  have hb := B.bytes
  have hr := B.returns
  have hts := atoms_spec (ws := (ws_ yX3_addRule cX3_addRule 3 (some .int))) B.pre
  have hts : ∀ w ∈ lw_all, w.before _ s = true := fun w h => hts w (List.mem_cons_of_mem _ h)
  have hown : s.vm.findClass RX3 = some m.cls := findClass_of_methodNamed B.named
  have hlocks := B.notSynchronized
  have hSx : CallFix p m c cX3_addRule 3 s _ lw_all RX3 := ⟨hx, hb, hml, hown, hts⟩
  subst hsz
  have hD := hD0.self (sz := s.heap.size)
  generalize hAe : va_A (mdl ad dA f_isSaved f_changes f_code f_length f_fault f_signMany f_at f_place a_g a_kept a_saved a_input a_signs a_ways a_needs a_walk a_one a_several a_ragged a_nextLine) s.heap.size = A at hD ⊢
  have hA : ∀ q : Nat, s.heap.size ≤ q → A q := fun q h => by rw [← hAe]; exact Or.inr h
  have hS : va_S A s.heap s.heap [] := va_S.rf
  have hl := lv_entry ([.ref (ad 0), .int p0, .int p1]) (n := 3) (Nat.le_of_ble_eq_true rfl)
  rw [lg_entry_eq]
  generalize (lg_sl ([.ref (ad 0), .int p0, .int p1]) ++ List.replicate (3 - (lg_sl ([.ref (ad 0), .int p0, .int p1])).length) Slot.unset).toArray = ls at hl ⊢
  have hl : lv_has ls 3 [(0, .ref (ad 0)), (1, .int p0), (2, .int p1)] := hl
  have hL46 : ∀  (f_changes : Int32) (f_code : Int32) (a_g : (Nat → Int32)) (a_kept : (Nat → Int32)) (v1 : Int32) (v2 : Int32) (s1 : Int32) (H : Heap) (locs : List Loc) (ls : Array Slot), va_P D vwCl (mdl ad dA f_isSaved f_changes f_code f_length f_fault f_signMany f_at f_place a_g a_kept a_saved a_input a_signs a_ways a_needs a_walk a_one a_several a_ragged a_nextLine) H → va_D A (mdl ad dA f_isSaved f_changes f_code f_length f_fault f_signMany f_at f_place a_g a_kept a_saved a_input a_signs a_ways a_needs a_walk a_one a_several a_ragged a_nextLine) → va_S A s.heap H locs → lv_has ls 3 [(0, .ref (ad 0)), (1, .int v1), (2, .int v2)] → (w_X3_addRule_46 post) f_changes f_code a_g a_kept v1 v2 s1 → W p l e (headSpec (ws_ yX3_addRule cX3_addRule 3 (some .int)) rm_X3_addRule).room s m ([.ref (ad 0), .int p0, .int p1] : List Value).toArray below meth c H locs 0 0 (MQ below (va_Qi (fun (r : Int32) (u : Int32 × Int32 × (Nat → Int32) × (Nat → Int32)) => post r u.1 u.2.1 u.2.2.1 u.2.2.2) (fun (u : Int32 × Int32 × (Nat → Int32) × (Nat → Int32)) t => wrQ D dA A (mdl ad dA f_isSaved u.1 u.2.1 f_length f_fault f_signMany f_at f_place u.2.2.1 u.2.2.2 a_saved a_input a_signs a_ways a_needs a_walk a_one a_several a_ragged a_nextLine) t) A) ([.ref (ad 0), .int p0, .int p1] : List Value).toArray s 0 0 A) (F0 m 46 ls [.int s1, .ref (ad 0)]) := by
      intro  f_changes f_code a_g a_kept v1 v2 s1 H locs ls hP hD hS hl hw
      refine k_wi (wn := fun (u : Int32) => (mdl ad dA f_isSaved f_changes u f_length f_fault f_signMany f_at f_place a_g a_kept a_saved a_input a_signs a_ways a_needs a_walk a_one a_several a_ragged a_nextLine)) (wr := []) (k_wV (As := [.int s1]) (rest := []) hSx (met_X3_fails l D dA ad _ f_isSaved f_changes f_code f_length f_fault f_signMany f_at f_place a_g a_kept a_saved a_input a_signs a_ways a_needs a_walk a_one a_several a_ragged a_nextLine s1 _ hw) gX3_70 ⟨rfl, hd_X3_fails⟩ ⟨Nat.le_of_ble_eq_true rfl, Nat.le_of_ble_eq_true rfl⟩ rfl rfl hP hK hD [0, 1, 2, 3, 4, 5, 6, 7, 8, 9, 10, 11, 12] rfl (by decide) rfl 0 rfl rfl rfl rfl hl.1 (Nat.le_of_ble_eq_true rfl) rfl dX3_addRule_46 ⟨Nat.le_refl 0, Nat.le_refl 0⟩) hP hD hS hA [0, 1, 2, 3, 4, 5, 6, 7, 8, 9, 10, 11, 12] [] [0, 1, 2, 3, 4, 5, 6, 7, 8, 9, 10, 11, 12] rfl rfl (by decide) (by decide) (by decide) (fun _ => rfl) (fun _ => rfl) (fun r18 u H locs hw _ hP hD hS => ?_)
      obtain ⟨f_code_19, rfl⟩ : ∃ z, z = u := ⟨_, rfl⟩
      have hP : va_P D vwCl (mdl ad dA f_isSaved f_changes f_code_19 f_length f_fault f_signMany f_at f_place a_g a_kept a_saved a_input a_signs a_ways a_needs a_walk a_one a_several a_ragged a_nextLine) H := hP
      have hD : va_D A (mdl ad dA f_isSaved f_changes f_code_19 f_length f_fault f_signMany f_at f_place a_g a_kept a_saved a_input a_signs a_ways a_needs a_walk a_one a_several a_ragged a_nextLine) := hD
      refine lv_if_eq (tgt := 54) hx hb dX3_addRule_49 (by decide) (fun c20 => ?_) (fun c20 => ?_)
      · have hw := hw.1 c20
        refine lv_aload_n hx hb dX3_addRule_54 rfl (lv_at hl 0 rfl) ?_
        refine k_wv (wn := fun (u : Int32 × Int32 × (Nat → Int32)) => (mdl ad dA f_isSaved u.1 u.2.1 f_length f_fault f_signMany f_at f_place a_g u.2.2 a_saved a_input a_signs a_ways a_needs a_walk a_one a_several a_ragged a_nextLine)) (wr := []) (k_wV (As := []) (rest := []) hSx (met_X3_keeps l D dA ad _ f_isSaved f_changes f_code_19 f_length f_fault f_signMany f_at f_place a_g a_kept a_saved a_input a_signs a_ways a_needs a_walk a_one a_several a_ragged a_nextLine  _ hw) gX3_77 ⟨rfl, hd_X3_keeps⟩ ⟨Nat.le_of_ble_eq_true rfl, Nat.le_of_ble_eq_true rfl⟩ rfl rfl hP hK hD [0, 1, 2, 3, 4, 5, 6, 7, 8, 9, 10, 11, 12] rfl (by decide) rfl 0 rfl rfl rfl rfl hl.1 (Nat.le_of_ble_eq_true rfl) rfl dX3_addRule_55 ⟨Nat.le_refl 0, Nat.le_refl 0⟩) hP hD hS hA [0, 1, 2, 3, 4, 5, 6, 7, 8, 9, 10, 11, 12] [] [0, 1, 2, 3, 4, 5, 6, 7, 8, 9, 10, 11, 12] rfl rfl (by decide) (by decide) (by decide) (fun _ => rfl) (fun _ => rfl) (fun u H locs hw _ hP hD hS => ?_)
        obtain ⟨f_changes_21, f_code_22, a_kept_23⟩ := u
        have hP : va_P D vwCl (mdl ad dA f_isSaved f_changes_21 f_code_22 f_length f_fault f_signMany f_at f_place a_g a_kept_23 a_saved a_input a_signs a_ways a_needs a_walk a_one a_several a_ragged a_nextLine) H := hP
        have hD : va_D A (mdl ad dA f_isSaved f_changes_21 f_code_22 f_length f_fault f_signMany f_at f_place a_g a_kept_23 a_saved a_input a_signs a_ways a_needs a_walk a_one a_several a_ragged a_nextLine) := hD
        refine lv_aload_n hx hb dX3_addRule_58 rfl (lv_at hl 0 rfl) ?_
        refine va_get (D := D) (ci := 2) (v := .ref (ad 1)) (C := RX3) (T := TX3) (N := 20) hx hb hts in_X3 hown hK hP 0 rfl rfl 0 (by decide) (hts _ q1741) (fun _ h9 => h9) rfl dX3_addRule_59 ?_
        refine lv_bipush (v := (nI 24)) hx hb dX3_addRule_62 (by decide) ?_
        refine lv_iload_n hx hb dX3_addRule_64 rfl (lv_at hl 1 rfl) ?_
        refine lv_iadd hx hb dX3_addRule_65 ?_
        refine lv_dup2_11 hx hb dX3_addRule_66 rfl rfl ?_
        obtain ⟨h24, hw⟩ := hw
        refine k_iald (k := ((nI 24) + v1).toNatClampNeg) hx hb hK hP 1 0 rfl rfl rfl h24 dX3_addRule_67 ?_
        refine lv_iconst (v := (nI 1)) hx hb dX3_addRule_68 (by decide) ?_
        refine lv_iload_n hx hb dX3_addRule_69 rfl (lv_at hl 2 rfl) ?_
        refine lv_ishl hx hb dX3_addRule_70 ?_
        refine lv_ior hx hb dX3_addRule_71 ?_
        obtain ⟨h25, hw⟩ := hw
        refine k_iast (k := ((nI 24) + v1).toNatClampNeg) hx hb hK hP hD hS 1 0 rfl rfl rfl h25 dX3_addRule_72 (fun H locs hP hD hS => ?_)
        have hP : va_P D vwCl (mdl ad dA f_isSaved f_changes_21 f_code_22 f_length f_fault f_signMany f_at f_place (upd a_g ((nI 24) + v1).toNatClampNeg ((a_g ((nI 24) + v1).toNatClampNeg) ||| ((nI 1) <<< (v2 &&& 31)))) a_kept_23 a_saved a_input a_signs a_ways a_needs a_walk a_one a_several a_ragged a_nextLine) H := hP
        have hD : va_D A (mdl ad dA f_isSaved f_changes_21 f_code_22 f_length f_fault f_signMany f_at f_place (upd a_g ((nI 24) + v1).toNatClampNeg ((a_g ((nI 24) + v1).toNatClampNeg) ||| ((nI 1) <<< (v2 &&& 31)))) a_kept_23 a_saved a_input a_signs a_ways a_needs a_walk a_one a_several a_ragged a_nextLine) := hD
        refine lv_aload_n hx hb dX3_addRule_73 rfl (lv_at hl 0 rfl) ?_
        refine k_ri (k_rV (As := []) (rest := []) hSx (met_X3_rules l D dA ad f_isSaved f_changes_21 f_code_22 f_length f_fault f_signMany f_at f_place (upd a_g ((nI 24) + v1).toNatClampNeg ((a_g ((nI 24) + v1).toNatClampNeg) ||| ((nI 1) <<< (v2 &&& 31)))) a_kept_23 a_saved a_input a_signs a_ways a_needs a_walk a_one a_several a_ragged a_nextLine  _ hw) gX3_90 ⟨rfl, hd_X3_rules⟩ ⟨Nat.le_of_ble_eq_true rfl, Nat.le_of_ble_eq_true rfl⟩ rfl rfl hP hK [0, 1, 2, 3, 4, 5, 6, 7, 8, 9, 10, 11, 12] rfl 0 rfl rfl rfl rfl hl.1 (Nat.le_of_ble_eq_true rfl) rfl dX3_addRule_74 ⟨Nat.le_refl 0, Nat.le_refl 0⟩) (fun r26 hw => ?_)
        exact W.iret (v := r26) hx hb hr (fun t ht hW => ⟨⟨r26, (f_changes_21, f_code_22, (upd a_g ((nI 24) + v1).toNatClampNeg ((a_g ((nI 24) + v1).toNatClampNeg) ||| ((nI 1) <<< (v2 &&& 31)))), a_kept_23), rfl, hw, by rw [ht]; exact hP, va_K.moved hW.alike hK, hD⟩, hS.F ht⟩) hS.2.2 dX3_addRule_77
      · have hw := hw.2 c20
        refine lv_iconst (v := (nI 0)) hx hb dX3_addRule_52 (by decide) ?_
        exact W.iret (v := (nI 0)) hx hb hr (fun t ht hW => ⟨⟨(nI 0), (f_changes, f_code_19, a_g, a_kept), rfl, hw, by rw [ht]; exact hP, va_K.moved hW.alike hK, hD⟩, hS.F ht⟩) hS.2.2 dX3_addRule_53
  have hL41 : ∀  (f_changes : Int32) (f_code : Int32) (a_g : (Nat → Int32)) (a_kept : (Nat → Int32)) (v1 : Int32) (v2 : Int32) (H : Heap) (locs : List Loc) (ls : Array Slot), va_P D vwCl (mdl ad dA f_isSaved f_changes f_code f_length f_fault f_signMany f_at f_place a_g a_kept a_saved a_input a_signs a_ways a_needs a_walk a_one a_several a_ragged a_nextLine) H → va_D A (mdl ad dA f_isSaved f_changes f_code f_length f_fault f_signMany f_at f_place a_g a_kept a_saved a_input a_signs a_ways a_needs a_walk a_one a_several a_ragged a_nextLine) → va_S A s.heap H locs → lv_has ls 3 [(0, .ref (ad 0)), (1, .int v1), (2, .int v2)] → (w_X3_addRule_41 post) f_changes f_code a_g a_kept v1 v2 → W p l e (headSpec (ws_ yX3_addRule cX3_addRule 3 (some .int)) rm_X3_addRule).room s m ([.ref (ad 0), .int p0, .int p1] : List Value).toArray below meth c H locs 0 0 (MQ below (va_Qi (fun (r : Int32) (u : Int32 × Int32 × (Nat → Int32) × (Nat → Int32)) => post r u.1 u.2.1 u.2.2.1 u.2.2.2) (fun (u : Int32 × Int32 × (Nat → Int32) × (Nat → Int32)) t => wrQ D dA A (mdl ad dA f_isSaved u.1 u.2.1 f_length f_fault f_signMany f_at f_place u.2.2.1 u.2.2.2 a_saved a_input a_signs a_ways a_needs a_walk a_one a_several a_ragged a_nextLine) t) A) ([.ref (ad 0), .int p0, .int p1] : List Value).toArray s 0 0 A) (F0 m 41 ls [.ref (ad 0)]) := by
      intro  f_changes f_code a_g a_kept v1 v2 H locs ls hP hD hS hl hw
      refine lv_iconst (v := (nI 3)) hx hb dX3_addRule_41 (by decide) ?_
      refine lv_goto (tgt := 46) hx hb dX3_addRule_42 (by decide) ?_
      exact hL46  f_changes f_code a_g a_kept v1 v2 (nI 3) _ _ _ hP hD hS (lv_sub hl [0, 1, 2] rfl) hw
  refine lv_aload_n hx hb dX3_addRule_0 rfl (lv_at hl 0 rfl) ?_
  refine lv_iload_n hx hb dX3_addRule_1 rfl (lv_at hl 1 rfl) ?_
  refine lv_iload_n hx hb dX3_addRule_2 rfl (lv_at hl 2 rfl) ?_
  refine k_wi (wn := fun (u : Int32) => (mdl ad dA f_isSaved f_changes u f_length f_fault f_signMany f_at f_place a_g a_kept a_saved a_input a_signs a_ways a_needs a_walk a_one a_several a_ragged a_nextLine)) (wr := []) (k_wV (As := [.int p0, .int p1]) (rest := []) hSx (met_X3_areNone l D dA ad _ f_isSaved f_changes f_code f_length f_fault f_signMany f_at f_place a_g a_kept a_saved a_input a_signs a_ways a_needs a_walk a_one a_several a_ragged a_nextLine p0 p1 _ hw) gX3_83 ⟨rfl, hd_X3_areNone⟩ ⟨Nat.le_of_ble_eq_true rfl, Nat.le_of_ble_eq_true rfl⟩ rfl rfl hP hK hD [0, 1, 2, 3, 4, 5, 6, 7, 8, 9, 10, 11, 12] rfl (by decide) rfl 0 rfl rfl rfl rfl hl.1 (Nat.le_of_ble_eq_true rfl) rfl dX3_addRule_3 ⟨Nat.le_refl 0, Nat.le_refl 0⟩) hP hD hS hA [0, 1, 2, 3, 4, 5, 6, 7, 8, 9, 10, 11, 12] [] [0, 1, 2, 3, 4, 5, 6, 7, 8, 9, 10, 11, 12] rfl rfl (by decide) (by decide) (by decide) (fun _ => rfl) (fun _ => rfl) (fun r27 u H locs hw _ hP hD hS => ?_)
  obtain ⟨f_code_28, rfl⟩ : ∃ z, z = u := ⟨_, rfl⟩
  have hP : va_P D vwCl (mdl ad dA f_isSaved f_changes f_code_28 f_length f_fault f_signMany f_at f_place a_g a_kept a_saved a_input a_signs a_ways a_needs a_walk a_one a_several a_ragged a_nextLine) H := hP
  have hD : va_D A (mdl ad dA f_isSaved f_changes f_code_28 f_length f_fault f_signMany f_at f_place a_g a_kept a_saved a_input a_signs a_ways a_needs a_walk a_one a_several a_ragged a_nextLine) := hD
  refine lv_if_ne (tgt := 52) hx hb dX3_addRule_6 (by decide) (fun c29 => ?_) (fun c29 => ?_)
  · have hw := hw.2 c29
    refine lv_iconst (v := (nI 0)) hx hb dX3_addRule_52 (by decide) ?_
    exact W.iret (v := (nI 0)) hx hb hr (fun t ht hW => ⟨⟨(nI 0), (f_changes, f_code_28, a_g, a_kept), rfl, hw, by rw [ht]; exact hP, va_K.moved hW.alike hK, hD⟩, hS.F ht⟩) hS.2.2 dX3_addRule_53
  · have hw := hw.1 c29
    refine lv_aload_n hx hb dX3_addRule_9 rfl (lv_at hl 0 rfl) ?_
    refine lv_iload_n hx hb dX3_addRule_10 rfl (lv_at hl 1 rfl) ?_
    refine lv_iload_n hx hb dX3_addRule_11 rfl (lv_at hl 2 rfl) ?_
    refine lv_icmp_ne (tgt := 19) hx hb dX3_addRule_12 (by decide) (fun c30 => ?_) (fun c30 => ?_)
    · have hw := hw.2 c30
      refine lv_aload_n hx hb dX3_addRule_19 rfl (lv_at hl 0 rfl) ?_
      refine lv_iload_n hx hb dX3_addRule_20 rfl (lv_at hl 1 rfl) ?_
      refine lv_iload_n hx hb dX3_addRule_21 rfl (lv_at hl 2 rfl) ?_
      refine k_ri (k_rV (As := [.int p0, .int p1]) (rest := [.ref (ad 0)]) hSx (met_X3_isRule l D dA ad f_isSaved f_changes f_code_28 f_length f_fault f_signMany f_at f_place a_g a_kept a_saved a_input a_signs a_ways a_needs a_walk a_one a_several a_ragged a_nextLine p0 p1 _ hw) gX3_87 ⟨rfl, hd_X3_isRule⟩ ⟨Nat.le_of_ble_eq_true rfl, Nat.le_of_ble_eq_true rfl⟩ rfl rfl hP hK [0, 1, 2, 3, 4, 5, 6, 7, 8, 9, 10, 11, 12] rfl 0 rfl rfl rfl rfl hl.1 (Nat.le_of_ble_eq_true rfl) rfl dX3_addRule_22 ⟨Nat.le_refl 0, Nat.le_refl 0⟩) (fun r31 hw => ?_)
      refine lv_if_ne (tgt := 41) hx hb dX3_addRule_25 (by decide) (fun c32 => ?_) (fun c32 => ?_)
      · have hw := hw.2 c32
        exact hL41  f_changes f_code_28 a_g a_kept p0 p1 _ _ _ hP hD hS (lv_sub hl [0, 1, 2] rfl) hw
      · have hw := hw.1 c32
        refine lv_aload_n hx hb dX3_addRule_28 rfl (lv_at hl 0 rfl) ?_
        refine lv_iload_n hx hb dX3_addRule_29 rfl (lv_at hl 2 rfl) ?_
        refine k_ri (k_rV (As := [.int p1]) (rest := [.ref (ad 0)]) hSx (met_X3_behind l D dA ad f_isSaved f_changes f_code_28 f_length f_fault f_signMany f_at f_place a_g a_kept a_saved a_input a_signs a_ways a_needs a_walk a_one a_several a_ragged a_nextLine p1 _ hw) gX3_73 ⟨rfl, hd_X3_behind⟩ ⟨Nat.le_of_ble_eq_true rfl, Nat.le_of_ble_eq_true rfl⟩ rfl rfl hP hK [0, 1, 2, 3, 4, 5, 6, 7, 8, 9, 10, 11, 12] rfl 0 rfl rfl rfl rfl hl.1 (Nat.le_of_ble_eq_true rfl) rfl dX3_addRule_30 ⟨Nat.le_refl 0, Nat.le_refl 0⟩) (fun r33 hw => ?_)
        refine lv_iload_n hx hb dX3_addRule_33 rfl (lv_at hl 1 rfl) ?_
        refine lv_ishr hx hb dX3_addRule_34 ?_
        refine lv_iconst (v := (nI 1)) hx hb dX3_addRule_35 (by decide) ?_
        refine lv_iand hx hb dX3_addRule_36 ?_
        refine lv_iconst (v := (nI 1)) hx hb dX3_addRule_37 (by decide) ?_
        refine lv_icmp_ne (tgt := 45) hx hb dX3_addRule_38 (by decide) (fun c34 => ?_) (fun c34 => ?_)
        · have hw := hw.2 c34
          refine lv_iconst (v := (nI 0)) hx hb dX3_addRule_45 (by decide) ?_
          exact hL46  f_changes f_code_28 a_g a_kept p0 p1 (nI 0) _ _ _ hP hD hS (lv_sub hl [0, 1, 2] rfl) hw
        · have hw := hw.1 c34
          exact hL41  f_changes f_code_28 a_g a_kept p0 p1 _ _ _ hP hD hS (lv_sub hl [0, 1, 2] rfl) hw
    · have hw := hw.1 c30
      refine lv_iconst (v := (nI 2)) hx hb dX3_addRule_15 (by decide) ?_
      refine lv_goto (tgt := 46) hx hb dX3_addRule_16 (by decide) ?_
      exact hL46  f_changes f_code_28 a_g a_kept p0 p1 (nI 2) _ _ _ hP hD hS (lv_sub hl [0, 1, 2] rfl) hw
def rm_X3_removeRule : Room := { frames := 3, cells := 0, slots := 0, locals := 65 }
set_option maxHeartbeats 4000000 in
set_option maxRecDepth 100000 in
theorem met_X3_removeRule (l : Launch) (D : va_G) (dA : Nat → ClassId) (ad : Nat → Nat) (sz : Nat) (f_isSaved : Int32) (f_changes : Int32) (f_code : Int32) (f_length : Int32) (f_fault : Int32) (f_signMany : Int32) (f_at : Int32) (f_place : Int32) (a_g : (Nat → Int32)) (a_kept : (Nat → Int32)) (a_saved : (Nat → Int32)) (a_input : (Nat → Int32)) (a_signs : (Nat → Int32)) (a_ways : (Nat → Int64)) (a_needs : (Nat → Int32)) (a_walk : (Nat → Int32)) (a_one : (Nat → Int32)) (a_several : (Nat → Int32)) (a_ragged : (Nat → Int32)) (a_nextLine : (Nat → Int32)) (p0 : Int32) (p1 : Int32) (post : Int32 → Int32 → Int32 → (Nat → Int32) → (Nat → Int32) → Prop) (hw : w_X3_removeRule post f_changes f_code a_g a_kept p0 p1) : Met l yX3_removeRule (ws_ yX3_removeRule cX3_removeRule 3 (some .int)) rm_X3_removeRule (va_Pc [.ref (ad 0), .int p0, .int p1] (wrB D dA sz (mdl ad dA f_isSaved f_changes f_code f_length f_fault f_signMany f_at f_place a_g a_kept a_saved a_input a_signs a_ways a_needs a_walk a_one a_several a_ragged a_nextLine))) (va_Qi (fun (r : Int32) (u : Int32 × Int32 × (Nat → Int32) × (Nat → Int32)) => post r u.1 u.2.1 u.2.2.1 u.2.2.2) (fun (u : Int32 × Int32 × (Nat → Int32) × (Nat → Int32)) t => wrQ D dA (va_A (mdl ad dA f_isSaved f_changes f_code f_length f_fault f_signMany f_at f_place a_g a_kept a_saved a_input a_signs a_ways a_needs a_walk a_one a_several a_ragged a_nextLine) sz) (mdl ad dA f_isSaved u.1 u.2.1 f_length f_fault f_signMany f_at f_place u.2.2.1 u.2.2.2 a_saved a_input a_signs a_ways a_needs a_walk a_one a_several a_ragged a_nextLine) t) (va_A (mdl ad dA f_isSaved f_changes f_code f_length f_fault f_signMany f_at f_place a_g a_kept a_saved a_input a_signs a_ways a_needs a_walk a_one a_several a_ragged a_nextLine) sz)) 0 0 (va_A (mdl ad dA f_isSaved f_changes f_code f_length f_fault f_signMany f_at f_place a_g a_kept a_saved a_input a_signs a_ways a_needs a_walk a_one a_several a_ragged a_nextLine) sz) := by
  refine Met.ofW (cc := cX3_removeRule) (maxL := 3) (ret := (some .int)) (by decide) rfl ?_
  intro p e s m args below meth c s₁ B hml hv
  obtain ⟨rfl, hsz, hP, hK, hD0⟩ := hv
  have hx := B.exec
  have hb := B.bytes
  have hr := B.returns
  have hts := atoms_spec (ws := (ws_ yX3_removeRule cX3_removeRule 3 (some .int))) B.pre
  have hts : ∀ w ∈ lw_all, w.before _ s = true := fun w h => hts w (List.mem_cons_of_mem _ h)
  have hown : s.vm.findClass RX3 = some m.cls := findClass_of_methodNamed B.named
  have hlocks := B.notSynchronized
  have hSx : CallFix p m c cX3_removeRule 3 s _ lw_all RX3 := ⟨hx, hb, hml, hown, hts⟩
  subst hsz
  have hD := hD0.self (sz := s.heap.size)
  generalize hAe : va_A (mdl ad dA f_isSaved f_changes f_code f_length f_fault f_signMany f_at f_place a_g a_kept a_saved a_input a_signs a_ways a_needs a_walk a_one a_several a_ragged a_nextLine) s.heap.size = A at hD ⊢
  have hA : ∀ q : Nat, s.heap.size ≤ q → A q := fun q h => by rw [← hAe]; exact Or.inr h
  have hS : va_S A s.heap s.heap [] := va_S.rf
  have hl := lv_entry ([.ref (ad 0), .int p0, .int p1]) (n := 3) (Nat.le_of_ble_eq_true rfl)
  rw [lg_entry_eq]
  generalize (lg_sl ([.ref (ad 0), .int p0, .int p1]) ++ List.replicate (3 - (lg_sl ([.ref (ad 0), .int p0, .int p1])).length) Slot.unset).toArray = ls at hl ⊢
  have hl : lv_has ls 3 [(0, .ref (ad 0)), (1, .int p0), (2, .int p1)] := hl
  have hL24 : ∀  (f_changes : Int32) (f_code : Int32) (a_g : (Nat → Int32)) (a_kept : (Nat → Int32)) (v1 : Int32) (v2 : Int32) (s1 : Int32) (H : Heap) (locs : List Loc) (ls : Array Slot), va_P D vwCl (mdl ad dA f_isSaved f_changes f_code f_length f_fault f_signMany f_at f_place a_g a_kept a_saved a_input a_signs a_ways a_needs a_walk a_one a_several a_ragged a_nextLine) H → va_D A (mdl ad dA f_isSaved f_changes f_code f_length f_fault f_signMany f_at f_place a_g a_kept a_saved a_input a_signs a_ways a_needs a_walk a_one a_several a_ragged a_nextLine) → va_S A s.heap H locs → lv_has ls 3 [(0, .ref (ad 0)), (1, .int v1), (2, .int v2)] → (w_X3_removeRule_24 post) f_changes f_code a_g a_kept v1 v2 s1 → W p l e (headSpec (ws_ yX3_removeRule cX3_removeRule 3 (some .int)) rm_X3_removeRule).room s m ([.ref (ad 0), .int p0, .int p1] : List Value).toArray below meth c H locs 0 0 (MQ below (va_Qi (fun (r : Int32) (u : Int32 × Int32 × (Nat → Int32) × (Nat → Int32)) => post r u.1 u.2.1 u.2.2.1 u.2.2.2) (fun (u : Int32 × Int32 × (Nat → Int32) × (Nat → Int32)) t => wrQ D dA A (mdl ad dA f_isSaved u.1 u.2.1 f_length f_fault f_signMany f_at f_place u.2.2.1 u.2.2.2 a_saved a_input a_signs a_ways a_needs a_walk a_one a_several a_ragged a_nextLine) t) A) ([.ref (ad 0), .int p0, .int p1] : List Value).toArray s 0 0 A) (F0 m 24 ls [.int s1, .ref (ad 0)]) := by
      intro  f_changes f_code a_g a_kept v1 v2 s1 H locs ls hP hD hS hl hw
      refine k_wi (wn := fun (u : Int32) => (mdl ad dA f_isSaved f_changes u f_length f_fault f_signMany f_at f_place a_g a_kept a_saved a_input a_signs a_ways a_needs a_walk a_one a_several a_ragged a_nextLine)) (wr := []) (k_wV (As := [.int s1]) (rest := []) hSx (met_X3_fails l D dA ad _ f_isSaved f_changes f_code f_length f_fault f_signMany f_at f_place a_g a_kept a_saved a_input a_signs a_ways a_needs a_walk a_one a_several a_ragged a_nextLine s1 _ hw) gX3_70 ⟨rfl, hd_X3_fails⟩ ⟨Nat.le_of_ble_eq_true rfl, Nat.le_of_ble_eq_true rfl⟩ rfl rfl hP hK hD [0, 1, 2, 3, 4, 5, 6, 7, 8, 9, 10, 11, 12] rfl (by decide) rfl 0 rfl rfl rfl rfl hl.1 (Nat.le_of_ble_eq_true rfl) rfl dX3_removeRule_24 ⟨Nat.le_refl 0, Nat.le_refl 0⟩) hP hD hS hA [0, 1, 2, 3, 4, 5, 6, 7, 8, 9, 10, 11, 12] [] [0, 1, 2, 3, 4, 5, 6, 7, 8, 9, 10, 11, 12] rfl rfl (by decide) (by decide) (by decide) (fun _ => rfl) (fun _ => rfl) (fun r15 u H locs hw _ hP hD hS => ?_)
      obtain ⟨f_code_16, rfl⟩ : ∃ z, z = u := ⟨_, rfl⟩
      have hP : va_P D vwCl (mdl ad dA f_isSaved f_changes f_code_16 f_length f_fault f_signMany f_at f_place a_g a_kept a_saved a_input a_signs a_ways a_needs a_walk a_one a_several a_ragged a_nextLine) H := hP
      have hD : va_D A (mdl ad dA f_isSaved f_changes f_code_16 f_length f_fault f_signMany f_at f_place a_g a_kept a_saved a_input a_signs a_ways a_needs a_walk a_one a_several a_ragged a_nextLine) := hD
      refine lv_if_eq (tgt := 32) hx hb dX3_removeRule_27 (by decide) (fun c17 => ?_) (fun c17 => ?_)
      · have hw := hw.1 c17
        refine lv_aload_n hx hb dX3_removeRule_32 rfl (lv_at hl 0 rfl) ?_
        refine k_wv (wn := fun (u : Int32 × Int32 × (Nat → Int32)) => (mdl ad dA f_isSaved u.1 u.2.1 f_length f_fault f_signMany f_at f_place a_g u.2.2 a_saved a_input a_signs a_ways a_needs a_walk a_one a_several a_ragged a_nextLine)) (wr := []) (k_wV (As := []) (rest := []) hSx (met_X3_keeps l D dA ad _ f_isSaved f_changes f_code_16 f_length f_fault f_signMany f_at f_place a_g a_kept a_saved a_input a_signs a_ways a_needs a_walk a_one a_several a_ragged a_nextLine  _ hw) gX3_77 ⟨rfl, hd_X3_keeps⟩ ⟨Nat.le_of_ble_eq_true rfl, Nat.le_of_ble_eq_true rfl⟩ rfl rfl hP hK hD [0, 1, 2, 3, 4, 5, 6, 7, 8, 9, 10, 11, 12] rfl (by decide) rfl 0 rfl rfl rfl rfl hl.1 (Nat.le_of_ble_eq_true rfl) rfl dX3_removeRule_33 ⟨Nat.le_refl 0, Nat.le_refl 0⟩) hP hD hS hA [0, 1, 2, 3, 4, 5, 6, 7, 8, 9, 10, 11, 12] [] [0, 1, 2, 3, 4, 5, 6, 7, 8, 9, 10, 11, 12] rfl rfl (by decide) (by decide) (by decide) (fun _ => rfl) (fun _ => rfl) (fun u H locs hw _ hP hD hS => ?_)
        obtain ⟨f_changes_18, f_code_19, a_kept_20⟩ := u
        have hP : va_P D vwCl (mdl ad dA f_isSaved f_changes_18 f_code_19 f_length f_fault f_signMany f_at f_place a_g a_kept_20 a_saved a_input a_signs a_ways a_needs a_walk a_one a_several a_ragged a_nextLine) H := hP
        have hD : va_D A (mdl ad dA f_isSaved f_changes_18 f_code_19 f_length f_fault f_signMany f_at f_place a_g a_kept_20 a_saved a_input a_signs a_ways a_needs a_walk a_one a_several a_ragged a_nextLine) := hD
        refine lv_aload_n hx hb dX3_removeRule_36 rfl (lv_at hl 0 rfl) ?_
        refine va_get (D := D) (ci := 2) (v := .ref (ad 1)) (C := RX3) (T := TX3) (N := 20) hx hb hts in_X3 hown hK hP 0 rfl rfl 0 (by decide) (hts _ q1741) (fun _ h9 => h9) rfl dX3_removeRule_37 ?_
        refine lv_bipush (v := (nI 24)) hx hb dX3_removeRule_40 (by decide) ?_
        refine lv_iload_n hx hb dX3_removeRule_42 rfl (lv_at hl 1 rfl) ?_
        refine lv_iadd hx hb dX3_removeRule_43 ?_
        refine lv_dup2_11 hx hb dX3_removeRule_44 rfl rfl ?_
        obtain ⟨h21, hw⟩ := hw
        refine k_iald (k := ((nI 24) + v1).toNatClampNeg) hx hb hK hP 1 0 rfl rfl rfl h21 dX3_removeRule_45 ?_
        refine lv_iconst (v := (nI 1)) hx hb dX3_removeRule_46 (by decide) ?_
        refine lv_iload_n hx hb dX3_removeRule_47 rfl (lv_at hl 2 rfl) ?_
        refine lv_ishl hx hb dX3_removeRule_48 ?_
        refine lv_ixor hx hb dX3_removeRule_49 ?_
        obtain ⟨h22, hw⟩ := hw
        refine k_iast (k := ((nI 24) + v1).toNatClampNeg) hx hb hK hP hD hS 1 0 rfl rfl rfl h22 dX3_removeRule_50 (fun H locs hP hD hS => ?_)
        have hP : va_P D vwCl (mdl ad dA f_isSaved f_changes_18 f_code_19 f_length f_fault f_signMany f_at f_place (upd a_g ((nI 24) + v1).toNatClampNeg ((a_g ((nI 24) + v1).toNatClampNeg) ^^^ ((nI 1) <<< (v2 &&& 31)))) a_kept_20 a_saved a_input a_signs a_ways a_needs a_walk a_one a_several a_ragged a_nextLine) H := hP
        have hD : va_D A (mdl ad dA f_isSaved f_changes_18 f_code_19 f_length f_fault f_signMany f_at f_place (upd a_g ((nI 24) + v1).toNatClampNeg ((a_g ((nI 24) + v1).toNatClampNeg) ^^^ ((nI 1) <<< (v2 &&& 31)))) a_kept_20 a_saved a_input a_signs a_ways a_needs a_walk a_one a_several a_ragged a_nextLine) := hD
        refine lv_aload_n hx hb dX3_removeRule_51 rfl (lv_at hl 0 rfl) ?_
        refine k_ri (k_rV (As := []) (rest := []) hSx (met_X3_rules l D dA ad f_isSaved f_changes_18 f_code_19 f_length f_fault f_signMany f_at f_place (upd a_g ((nI 24) + v1).toNatClampNeg ((a_g ((nI 24) + v1).toNatClampNeg) ^^^ ((nI 1) <<< (v2 &&& 31)))) a_kept_20 a_saved a_input a_signs a_ways a_needs a_walk a_one a_several a_ragged a_nextLine  _ hw) gX3_90 ⟨rfl, hd_X3_rules⟩ ⟨Nat.le_of_ble_eq_true rfl, Nat.le_of_ble_eq_true rfl⟩ rfl rfl hP hK [0, 1, 2, 3, 4, 5, 6, 7, 8, 9, 10, 11, 12] rfl 0 rfl rfl rfl rfl hl.1 (Nat.le_of_ble_eq_true rfl) rfl dX3_removeRule_52 ⟨Nat.le_refl 0, Nat.le_refl 0⟩) (fun r23 hw => ?_)
        exact W.iret (v := r23) hx hb hr (fun t ht hW => ⟨⟨r23, (f_changes_18, f_code_19, (upd a_g ((nI 24) + v1).toNatClampNeg ((a_g ((nI 24) + v1).toNatClampNeg) ^^^ ((nI 1) <<< (v2 &&& 31)))), a_kept_20), rfl, hw, by rw [ht]; exact hP, va_K.moved hW.alike hK, hD⟩, hS.F ht⟩) hS.2.2 dX3_removeRule_55
      · have hw := hw.2 c17
        refine lv_iconst (v := (nI 0)) hx hb dX3_removeRule_30 (by decide) ?_
        exact W.iret (v := (nI 0)) hx hb hr (fun t ht hW => ⟨⟨(nI 0), (f_changes, f_code_16, a_g, a_kept), rfl, hw, by rw [ht]; exact hP, va_K.moved hW.alike hK, hD⟩, hS.F ht⟩) hS.2.2 dX3_removeRule_31
  refine lv_aload_n hx hb dX3_removeRule_0 rfl (lv_at hl 0 rfl) ?_
  refine lv_iload_n hx hb dX3_removeRule_1 rfl (lv_at hl 1 rfl) ?_
  refine lv_iload_n hx hb dX3_removeRule_2 rfl (lv_at hl 2 rfl) ?_
  refine k_wi (wn := fun (u : Int32) => (mdl ad dA f_isSaved f_changes u f_length f_fault f_signMany f_at f_place a_g a_kept a_saved a_input a_signs a_ways a_needs a_walk a_one a_several a_ragged a_nextLine)) (wr := []) (k_wV (As := [.int p0, .int p1]) (rest := []) hSx (met_X3_areNone l D dA ad _ f_isSaved f_changes f_code f_length f_fault f_signMany f_at f_place a_g a_kept a_saved a_input a_signs a_ways a_needs a_walk a_one a_several a_ragged a_nextLine p0 p1 _ hw) gX3_83 ⟨rfl, hd_X3_areNone⟩ ⟨Nat.le_of_ble_eq_true rfl, Nat.le_of_ble_eq_true rfl⟩ rfl rfl hP hK hD [0, 1, 2, 3, 4, 5, 6, 7, 8, 9, 10, 11, 12] rfl (by decide) rfl 0 rfl rfl rfl rfl hl.1 (Nat.le_of_ble_eq_true rfl) rfl dX3_removeRule_3 ⟨Nat.le_refl 0, Nat.le_refl 0⟩) hP hD hS hA [0, 1, 2, 3, 4, 5, 6, 7, 8, 9, 10, 11, 12] [] [0, 1, 2, 3, 4, 5, 6, 7, 8, 9, 10, 11, 12] rfl rfl (by decide) (by decide) (by decide) (fun _ => rfl) (fun _ => rfl) (fun r24 u H locs hw _ hP hD hS => ?_)
  obtain ⟨f_code_25, rfl⟩ : ∃ z, z = u := ⟨_, rfl⟩
  have hP : va_P D vwCl (mdl ad dA f_isSaved f_changes f_code_25 f_length f_fault f_signMany f_at f_place a_g a_kept a_saved a_input a_signs a_ways a_needs a_walk a_one a_several a_ragged a_nextLine) H := hP
  have hD : va_D A (mdl ad dA f_isSaved f_changes f_code_25 f_length f_fault f_signMany f_at f_place a_g a_kept a_saved a_input a_signs a_ways a_needs a_walk a_one a_several a_ragged a_nextLine) := hD
  refine lv_if_ne (tgt := 30) hx hb dX3_removeRule_6 (by decide) (fun c26 => ?_) (fun c26 => ?_)
  · have hw := hw.2 c26
    refine lv_iconst (v := (nI 0)) hx hb dX3_removeRule_30 (by decide) ?_
    exact W.iret (v := (nI 0)) hx hb hr (fun t ht hW => ⟨⟨(nI 0), (f_changes, f_code_25, a_g, a_kept), rfl, hw, by rw [ht]; exact hP, va_K.moved hW.alike hK, hD⟩, hS.F ht⟩) hS.2.2 dX3_removeRule_31
  · have hw := hw.1 c26
    refine lv_aload_n hx hb dX3_removeRule_9 rfl (lv_at hl 0 rfl) ?_
    refine lv_aload_n hx hb dX3_removeRule_10 rfl (lv_at hl 0 rfl) ?_
    refine lv_iload_n hx hb dX3_removeRule_11 rfl (lv_at hl 1 rfl) ?_
    refine lv_iload_n hx hb dX3_removeRule_12 rfl (lv_at hl 2 rfl) ?_
    refine k_ri (k_rV (As := [.int p0, .int p1]) (rest := [.ref (ad 0)]) hSx (met_X3_isRule l D dA ad f_isSaved f_changes f_code_25 f_length f_fault f_signMany f_at f_place a_g a_kept a_saved a_input a_signs a_ways a_needs a_walk a_one a_several a_ragged a_nextLine p0 p1 _ hw) gX3_87 ⟨rfl, hd_X3_isRule⟩ ⟨Nat.le_of_ble_eq_true rfl, Nat.le_of_ble_eq_true rfl⟩ rfl rfl hP hK [0, 1, 2, 3, 4, 5, 6, 7, 8, 9, 10, 11, 12] rfl 0 rfl rfl rfl rfl hl.1 (Nat.le_of_ble_eq_true rfl) rfl dX3_removeRule_13 ⟨Nat.le_refl 0, Nat.le_refl 0⟩) (fun r27 hw => ?_)
    refine lv_if_eq (tgt := 23) hx hb dX3_removeRule_16 (by decide) (fun c28 => ?_) (fun c28 => ?_)
    · have hw := hw.1 c28
      refine lv_iconst (v := (nI 2)) hx hb dX3_removeRule_23 (by decide) ?_
      exact hL24  f_changes f_code_25 a_g a_kept p0 p1 (nI 2) _ _ _ hP hD hS (lv_sub hl [0, 1, 2] rfl) hw
    · have hw := hw.2 c28
      refine lv_iconst (v := (nI 0)) hx hb dX3_removeRule_19 (by decide) ?_
      refine lv_goto (tgt := 24) hx hb dX3_removeRule_20 (by decide) ?_
      exact hL24  f_changes f_code_25 a_g a_kept p0 p1 (nI 0) _ _ _ hP hD hS (lv_sub hl [0, 1, 2] rfl) hw
def rm_X3_courtierCount : Room := { frames := 0, cells := 0, slots := 0, locals := 0 }
set_option maxHeartbeats 4000000 in
set_option maxRecDepth 100000 in
theorem met_X3_courtierCount (l : Launch) (D : va_G) (dA : Nat → ClassId) (ad : Nat → Nat) (sz : Nat) (f_isSaved : Int32) (f_changes : Int32) (f_code : Int32) (f_length : Int32) (f_fault : Int32) (f_signMany : Int32) (f_at : Int32) (f_place : Int32) (a_g : (Nat → Int32)) (a_kept : (Nat → Int32)) (a_saved : (Nat → Int32)) (a_input : (Nat → Int32)) (a_signs : (Nat → Int32)) (a_ways : (Nat → Int64)) (a_needs : (Nat → Int32)) (a_walk : (Nat → Int32)) (a_one : (Nat → Int32)) (a_several : (Nat → Int32)) (a_ragged : (Nat → Int32)) (a_nextLine : (Nat → Int32))  (post : Int32 → Int32 → Prop) (hw : w_X3_courtierCount post f_code a_g) : Met l yX3_courtierCount (ws_ yX3_courtierCount cX3_courtierCount 1 (some .int)) rm_X3_courtierCount (va_Pc [.ref (ad 0)] (wrB D dA sz (mdl ad dA f_isSaved f_changes f_code f_length f_fault f_signMany f_at f_place a_g a_kept a_saved a_input a_signs a_ways a_needs a_walk a_one a_several a_ragged a_nextLine))) (va_Qi (fun (r : Int32) (u : Int32) => post r u) (fun (u : Int32) t => wrQ D dA (va_A (mdl ad dA f_isSaved f_changes f_code f_length f_fault f_signMany f_at f_place a_g a_kept a_saved a_input a_signs a_ways a_needs a_walk a_one a_several a_ragged a_nextLine) sz) (mdl ad dA f_isSaved f_changes u f_length f_fault f_signMany f_at f_place a_g a_kept a_saved a_input a_signs a_ways a_needs a_walk a_one a_several a_ragged a_nextLine) t) (va_A (mdl ad dA f_isSaved f_changes f_code f_length f_fault f_signMany f_at f_place a_g a_kept a_saved a_input a_signs a_ways a_needs a_walk a_one a_several a_ragged a_nextLine) sz)) 0 0 (va_A (mdl ad dA f_isSaved f_changes f_code f_length f_fault f_signMany f_at f_place a_g a_kept a_saved a_input a_signs a_ways a_needs a_walk a_one a_several a_ragged a_nextLine) sz) := by
  refine Met.ofW (cc := cX3_courtierCount) (maxL := 1) (ret := (some .int)) (by decide) rfl ?_
  intro p e s m args below meth c s₁ B hml hv
  obtain ⟨rfl, hsz, hP, hK, hD0⟩ := hv
  have hx := B.exec
  have hb := B.bytes
  have hr := B.returns
  have hts := atoms_spec (ws := (ws_ yX3_courtierCount cX3_courtierCount 1 (some .int))) B.pre
  have hts : ∀ w ∈ lw_all, w.before _ s = true := fun w h => hts w (List.mem_cons_of_mem _ h)
  have hown : s.vm.findClass RX3 = some m.cls := findClass_of_methodNamed B.named
  have hlocks := B.notSynchronized
  have hSx : CallFix p m c cX3_courtierCount 1 s _ lw_all RX3 := ⟨hx, hb, hml, hown, hts⟩
  subst hsz
  have hD := hD0.self (sz := s.heap.size)
  generalize hAe : va_A (mdl ad dA f_isSaved f_changes f_code f_length f_fault f_signMany f_at f_place a_g a_kept a_saved a_input a_signs a_ways a_needs a_walk a_one a_several a_ragged a_nextLine) s.heap.size = A at hD ⊢
  have hA : ∀ q : Nat, s.heap.size ≤ q → A q := fun q h => by rw [← hAe]; exact Or.inr h
  have hS : va_S A s.heap s.heap [] := va_S.rf
  have hl := lv_entry ([.ref (ad 0)]) (n := 1) (Nat.le_of_ble_eq_true rfl)
  rw [lg_entry_eq]
  generalize (lg_sl ([.ref (ad 0)]) ++ List.replicate (1 - (lg_sl ([.ref (ad 0)])).length) Slot.unset).toArray = ls at hl ⊢
  have hl : lv_has ls 1 [(0, .ref (ad 0))] := hl
  refine lv_aload_n hx hb dX3_courtierCount_0 rfl (lv_at hl 0 rfl) ?_
  refine lv_iconst (v := (nI 0)) hx hb dX3_courtierCount_1 (by decide) ?_
  refine va_put (D := D) (ci := 2) (v := .int (nI 0)) (ty := .int) (C := RX3) (T := TX3) (N := 20) hx hb hts in_X3 tyX3 tyX3_ok nmX3 hown hK hP hD hS 0 rfl rfl 5 (by decide) (hts _ q1746) (fun _ h9 => h9) rfl (by decide +kernel) rfl rfl (Nat.le_of_ble_eq_true rfl) dX3_courtierCount_2 (fun H locs hP hD hS => ?_)
  have hP : va_P D vwCl (mdl ad dA f_isSaved f_changes (nI 0) f_length f_fault f_signMany f_at f_place a_g a_kept a_saved a_input a_signs a_ways a_needs a_walk a_one a_several a_ragged a_nextLine) H := hP
  have hD : va_D A (mdl ad dA f_isSaved f_changes (nI 0) f_length f_fault f_signMany f_at f_place a_g a_kept a_saved a_input a_signs a_ways a_needs a_walk a_one a_several a_ragged a_nextLine) := hD
  refine lv_aload_n hx hb dX3_courtierCount_5 rfl (lv_at hl 0 rfl) ?_
  refine va_get (D := D) (ci := 2) (v := .ref (ad 1)) (C := RX3) (T := TX3) (N := 20) hx hb hts in_X3 hown hK hP 0 rfl rfl 0 (by decide) (hts _ q1741) (fun _ h9 => h9) rfl dX3_courtierCount_6 ?_
  refine lv_iconst (v := (nI 0)) hx hb dX3_courtierCount_9 (by decide) ?_
  refine k_iald (k := 0) hx hb hK hP 1 0 rfl rfl (clK 0 (by decide)) (inK (by decide) (by decide)) dX3_courtierCount_10 ?_
  exact W.iret (v := (a_g 0)) hx hb hr (fun t ht hW => ⟨⟨(a_g 0), (nI 0), rfl, hw, by rw [ht]; exact hP, va_K.moved hW.alike hK, hD⟩, hS.F ht⟩) hS.2.2 dX3_courtierCount_11
def rm_X3_isNone : Room := { frames := 2, cells := 0, slots := 0, locals := 43 }
set_option maxHeartbeats 4000000 in
set_option maxRecDepth 100000 in
theorem met_X3_isNone (l : Launch) (D : va_G) (dA : Nat → ClassId) (ad : Nat → Nat) (sz : Nat) (f_isSaved : Int32) (f_changes : Int32) (f_code : Int32) (f_length : Int32) (f_fault : Int32) (f_signMany : Int32) (f_at : Int32) (f_place : Int32) (a_g : (Nat → Int32)) (a_kept : (Nat → Int32)) (a_saved : (Nat → Int32)) (a_input : (Nat → Int32)) (a_signs : (Nat → Int32)) (a_ways : (Nat → Int64)) (a_needs : (Nat → Int32)) (a_walk : (Nat → Int32)) (a_one : (Nat → Int32)) (a_several : (Nat → Int32)) (a_ragged : (Nat → Int32)) (a_nextLine : (Nat → Int32)) (p0 : Int32) (post : Int32 → Int32 → Prop) (hw : w_X3_isNone post f_code a_g p0) : Met l yX3_isNone (ws_ yX3_isNone cX3_isNone 2 (some .boolean)) rm_X3_isNone (va_Pc [.ref (ad 0), .int p0] (wrB D dA sz (mdl ad dA f_isSaved f_changes f_code f_length f_fault f_signMany f_at f_place a_g a_kept a_saved a_input a_signs a_ways a_needs a_walk a_one a_several a_ragged a_nextLine))) (va_Qi (fun (r : Int32) (u : Int32) => post r u) (fun (u : Int32) t => wrQ D dA (va_A (mdl ad dA f_isSaved f_changes f_code f_length f_fault f_signMany f_at f_place a_g a_kept a_saved a_input a_signs a_ways a_needs a_walk a_one a_several a_ragged a_nextLine) sz) (mdl ad dA f_isSaved f_changes u f_length f_fault f_signMany f_at f_place a_g a_kept a_saved a_input a_signs a_ways a_needs a_walk a_one a_several a_ragged a_nextLine) t) (va_A (mdl ad dA f_isSaved f_changes f_code f_length f_fault f_signMany f_at f_place a_g a_kept a_saved a_input a_signs a_ways a_needs a_walk a_one a_several a_ragged a_nextLine) sz)) 0 0 (va_A (mdl ad dA f_isSaved f_changes f_code f_length f_fault f_signMany f_at f_place a_g a_kept a_saved a_input a_signs a_ways a_needs a_walk a_one a_several a_ragged a_nextLine) sz) := by
  refine Met.ofW (cc := cX3_isNone) (maxL := 2) (ret := (some .boolean)) (by decide) rfl ?_
  intro p e s m args below meth c s₁ B hml hv
  obtain ⟨rfl, hsz, hP, hK, hD0⟩ := hv
  have hx := B.exec
  have hb := B.bytes
  have hr := B.returns
  have hts := atoms_spec (ws := (ws_ yX3_isNone cX3_isNone 2 (some .boolean))) B.pre
  have hts : ∀ w ∈ lw_all, w.before _ s = true := fun w h => hts w (List.mem_cons_of_mem _ h)
  have hown : s.vm.findClass RX3 = some m.cls := findClass_of_methodNamed B.named
  have hlocks := B.notSynchronized
  have hSx : CallFix p m c cX3_isNone 2 s _ lw_all RX3 := ⟨hx, hb, hml, hown, hts⟩
  subst hsz
  have hD := hD0.self (sz := s.heap.size)
  generalize hAe : va_A (mdl ad dA f_isSaved f_changes f_code f_length f_fault f_signMany f_at f_place a_g a_kept a_saved a_input a_signs a_ways a_needs a_walk a_one a_several a_ragged a_nextLine) s.heap.size = A at hD ⊢
  have hA : ∀ q : Nat, s.heap.size ≤ q → A q := fun q h => by rw [← hAe]; exact Or.inr h
  have hS : va_S A s.heap s.heap [] := va_S.rf
  have hl := lv_entry ([.ref (ad 0), .int p0]) (n := 2) (Nat.le_of_ble_eq_true rfl)
  rw [lg_entry_eq]
  generalize (lg_sl ([.ref (ad 0), .int p0]) ++ List.replicate (2 - (lg_sl ([.ref (ad 0), .int p0])).length) Slot.unset).toArray = ls at hl ⊢
  have hl : lv_has ls 2 [(0, .ref (ad 0)), (1, .int p0)] := hl
  have hL14 : ∀  (f_code : Int32) (s1 : Int32) (H : Heap) (locs : List Loc) (ls : Array Slot), va_P D vwCl (mdl ad dA f_isSaved f_changes f_code f_length f_fault f_signMany f_at f_place a_g a_kept a_saved a_input a_signs a_ways a_needs a_walk a_one a_several a_ragged a_nextLine) H → va_D A (mdl ad dA f_isSaved f_changes f_code f_length f_fault f_signMany f_at f_place a_g a_kept a_saved a_input a_signs a_ways a_needs a_walk a_one a_several a_ragged a_nextLine) → va_S A s.heap H locs → lv_has ls 2 [] → (w_X3_isNone_14 post a_g) f_code s1 → W p l e (headSpec (ws_ yX3_isNone cX3_isNone 2 (some .boolean)) rm_X3_isNone).room s m ([.ref (ad 0), .int p0] : List Value).toArray below meth c H locs 0 0 (MQ below (va_Qi (fun (r : Int32) (u : Int32) => post r u) (fun (u : Int32) t => wrQ D dA A (mdl ad dA f_isSaved f_changes u f_length f_fault f_signMany f_at f_place a_g a_kept a_saved a_input a_signs a_ways a_needs a_walk a_one a_several a_ragged a_nextLine) t) A) ([.ref (ad 0), .int p0] : List Value).toArray s 0 0 A) (F0 m 14 ls [.int s1, .ref (ad 0)]) := by
      intro  f_code s1 H locs ls hP hD hS hl hw
      refine k_wi (wn := fun (u : Int32) => (mdl ad dA f_isSaved f_changes u f_length f_fault f_signMany f_at f_place a_g a_kept a_saved a_input a_signs a_ways a_needs a_walk a_one a_several a_ragged a_nextLine)) (wr := []) (k_wV (As := [.int s1]) (rest := []) hSx (met_X3_fails l D dA ad _ f_isSaved f_changes f_code f_length f_fault f_signMany f_at f_place a_g a_kept a_saved a_input a_signs a_ways a_needs a_walk a_one a_several a_ragged a_nextLine s1 _ hw) gX3_70 ⟨rfl, hd_X3_fails⟩ ⟨Nat.le_of_ble_eq_true rfl, Nat.le_of_ble_eq_true rfl⟩ rfl rfl hP hK hD [0, 1, 2, 3, 4, 5, 6, 7, 8, 9, 10, 11, 12] rfl (by decide) rfl 0 rfl rfl rfl rfl hl.1 (Nat.le_of_ble_eq_true rfl) rfl dX3_isNone_14 ⟨Nat.le_refl 0, Nat.le_refl 0⟩) hP hD hS hA [0, 1, 2, 3, 4, 5, 6, 7, 8, 9, 10, 11, 12] [] [0, 1, 2, 3, 4, 5, 6, 7, 8, 9, 10, 11, 12] rfl rfl (by decide) (by decide) (by decide) (fun _ => rfl) (fun _ => rfl) (fun r6 u H locs hw _ hP hD hS => ?_)
      obtain ⟨f_code_7, rfl⟩ : ∃ z, z = u := ⟨_, rfl⟩
      have hP : va_P D vwCl (mdl ad dA f_isSaved f_changes f_code_7 f_length f_fault f_signMany f_at f_place a_g a_kept a_saved a_input a_signs a_ways a_needs a_walk a_one a_several a_ragged a_nextLine) H := hP
      have hD : va_D A (mdl ad dA f_isSaved f_changes f_code_7 f_length f_fault f_signMany f_at f_place a_g a_kept a_saved a_input a_signs a_ways a_needs a_walk a_one a_several a_ragged a_nextLine) := hD
      obtain ⟨h8, hw⟩ := hw
      exact W.zret (v := r6) hx hb hr (isB_n h8) (fun t ht hW => ⟨⟨r6, f_code_7, rfl, hw, by rw [ht]; exact hP, va_K.moved hW.alike hK, hD⟩, hS.F ht⟩) hS.2.2 dX3_isNone_17
  refine lv_aload_n hx hb dX3_isNone_0 rfl (lv_at hl 0 rfl) ?_
  refine lv_aload_n hx hb dX3_isNone_1 rfl (lv_at hl 0 rfl) ?_
  refine lv_iload_n hx hb dX3_isNone_2 rfl (lv_at hl 1 rfl) ?_
  refine k_ri (k_rV (As := [.int p0]) (rest := [.ref (ad 0)]) hSx (met_X3_isCourtier l D dA ad f_isSaved f_changes f_code f_length f_fault f_signMany f_at f_place a_g a_kept a_saved a_input a_signs a_ways a_needs a_walk a_one a_several a_ragged a_nextLine p0 _ hw) gX3_66 ⟨rfl, hd_X3_isCourtier⟩ ⟨Nat.le_of_ble_eq_true rfl, Nat.le_of_ble_eq_true rfl⟩ rfl rfl hP hK [0, 1, 2, 3, 4, 5, 6, 7, 8, 9, 10, 11, 12] rfl 0 rfl rfl rfl rfl hl.1 (Nat.le_of_ble_eq_true rfl) rfl dX3_isNone_3 ⟨Nat.le_refl 0, Nat.le_refl 0⟩) (fun r9 hw => ?_)
  refine lv_if_eq (tgt := 13) hx hb dX3_isNone_6 (by decide) (fun c10 => ?_) (fun c10 => ?_)
  · have hw := hw.1 c10
    refine lv_iconst (v := (nI 1)) hx hb dX3_isNone_13 (by decide) ?_
    exact hL14  f_code (nI 1) _ _ _ hP hD hS (lv_sub hl [] rfl) hw
  · have hw := hw.2 c10
    refine lv_iconst (v := (nI 0)) hx hb dX3_isNone_9 (by decide) ?_
    refine lv_goto (tgt := 14) hx hb dX3_isNone_10 (by decide) ?_
    exact hL14  f_code (nI 0) _ _ _ hP hD hS (lv_sub hl [] rfl) hw
theorem gX3_94 : GoodIn lw_all (wsV RX3 94 RX3 yX3_isNone (ws_ yX3_isNone cX3_isNone 2 (some .boolean))) := lw_V q1863 q1865 qs40 q84 q1866
theorem hd_X3_isNone : yX3_isNone.cls ≠ "java/lang/invoke/MethodHandle" ∧ yX3_isNone.cls ≠ "java/lang/invoke/VarHandle" ∧ (parseMethodDescriptor yX3_isNone.desc).map (fun d => d.parameters.length) = some 1 := by decide +kernel
def rm_X3_dignityOf : Room := { frames := 3, cells := 0, slots := 0, locals := 64 }
set_option maxHeartbeats 4000000 in
set_option maxRecDepth 100000 in
theorem met_X3_dignityOf (l : Launch) (D : va_G) (dA : Nat → ClassId) (ad : Nat → Nat) (sz : Nat) (f_isSaved : Int32) (f_changes : Int32) (f_code : Int32) (f_length : Int32) (f_fault : Int32) (f_signMany : Int32) (f_at : Int32) (f_place : Int32) (a_g : (Nat → Int32)) (a_kept : (Nat → Int32)) (a_saved : (Nat → Int32)) (a_input : (Nat → Int32)) (a_signs : (Nat → Int32)) (a_ways : (Nat → Int64)) (a_needs : (Nat → Int32)) (a_walk : (Nat → Int32)) (a_one : (Nat → Int32)) (a_several : (Nat → Int32)) (a_ragged : (Nat → Int32)) (a_nextLine : (Nat → Int32)) (p0 : Int32) (post : Int32 → Int32 → Prop) (hw : w_X3_dignityOf post f_code a_g p0) : Met l yX3_dignityOf (ws_ yX3_dignityOf cX3_dignityOf 2 (some .int)) rm_X3_dignityOf (va_Pc [.ref (ad 0), .int p0] (wrB D dA sz (mdl ad dA f_isSaved f_changes f_code f_length f_fault f_signMany f_at f_place a_g a_kept a_saved a_input a_signs a_ways a_needs a_walk a_one a_several a_ragged a_nextLine))) (va_Qi (fun (r : Int32) (u : Int32) => post r u) (fun (u : Int32) t => wrQ D dA (va_A (mdl ad dA f_isSaved f_changes f_code f_length f_fault f_signMany f_at f_place a_g a_kept a_saved a_input a_signs a_ways a_needs a_walk a_one a_several a_ragged a_nextLine) sz) (mdl ad dA f_isSaved f_changes u f_length f_fault f_signMany f_at f_place a_g a_kept a_saved a_input a_signs a_ways a_needs a_walk a_one a_several a_ragged a_nextLine) t) (va_A (mdl ad dA f_isSaved f_changes f_code f_length f_fault f_signMany f_at f_place a_g a_kept a_saved a_input a_signs a_ways a_needs a_walk a_one a_several a_ragged a_nextLine) sz)) 0 0 (va_A (mdl ad dA f_isSaved f_changes f_code f_length f_fault f_signMany f_at f_place a_g a_kept a_saved a_input a_signs a_ways a_needs a_walk a_one a_several a_ragged a_nextLine) sz) := by
  refine Met.ofW (cc := cX3_dignityOf) (maxL := 2) (ret := (some .int)) (by decide) rfl ?_
  intro p e s m args below meth c s₁ B hml hv
  obtain ⟨rfl, hsz, hP, hK, hD0⟩ := hv
  have hx := B.exec
  have hb := B.bytes
  have hr := B.returns
  have hts := atoms_spec (ws := (ws_ yX3_dignityOf cX3_dignityOf 2 (some .int))) B.pre
  have hts : ∀ w ∈ lw_all, w.before _ s = true := fun w h => hts w (List.mem_cons_of_mem _ h)
  have hown : s.vm.findClass RX3 = some m.cls := findClass_of_methodNamed B.named
  have hlocks := B.notSynchronized
  have hSx : CallFix p m c cX3_dignityOf 2 s _ lw_all RX3 := ⟨hx, hb, hml, hown, hts⟩
  subst hsz
  have hD := hD0.self (sz := s.heap.size)
  generalize hAe : va_A (mdl ad dA f_isSaved f_changes f_code f_length f_fault f_signMany f_at f_place a_g a_kept a_saved a_input a_signs a_ways a_needs a_walk a_one a_several a_ragged a_nextLine) s.heap.size = A at hD ⊢
  have hA : ∀ q : Nat, s.heap.size ≤ q → A q := fun q h => by rw [← hAe]; exact Or.inr h
  have hS : va_S A s.heap s.heap [] := va_S.rf
  have hl := lv_entry ([.ref (ad 0), .int p0]) (n := 2) (Nat.le_of_ble_eq_true rfl)
  rw [lg_entry_eq]
  generalize (lg_sl ([.ref (ad 0), .int p0]) ++ List.replicate (2 - (lg_sl ([.ref (ad 0), .int p0])).length) Slot.unset).toArray = ls at hl ⊢
  have hl : lv_has ls 2 [(0, .ref (ad 0)), (1, .int p0)] := hl
  refine lv_aload_n hx hb dX3_dignityOf_0 rfl (lv_at hl 0 rfl) ?_
  refine lv_iload_n hx hb dX3_dignityOf_1 rfl (lv_at hl 1 rfl) ?_
  refine k_wi (wn := fun (u : Int32) => (mdl ad dA f_isSaved f_changes u f_length f_fault f_signMany f_at f_place a_g a_kept a_saved a_input a_signs a_ways a_needs a_walk a_one a_several a_ragged a_nextLine)) (wr := []) (k_wV (As := [.int p0]) (rest := []) hSx (met_X3_isNone l D dA ad _ f_isSaved f_changes f_code f_length f_fault f_signMany f_at f_place a_g a_kept a_saved a_input a_signs a_ways a_needs a_walk a_one a_several a_ragged a_nextLine p0 _ hw) gX3_94 ⟨rfl, hd_X3_isNone⟩ ⟨Nat.le_of_ble_eq_true rfl, Nat.le_of_ble_eq_true rfl⟩ rfl rfl hP hK hD [0, 1, 2, 3, 4, 5, 6, 7, 8, 9, 10, 11, 12] rfl (by decide) rfl 0 rfl rfl rfl rfl hl.1 (Nat.le_of_ble_eq_true rfl) rfl dX3_dignityOf_2 ⟨Nat.le_refl 0, Nat.le_refl 0⟩) hP hD hS hA [0, 1, 2, 3, 4, 5, 6, 7, 8, 9, 10, 11, 12] [] [0, 1, 2, 3, 4, 5, 6, 7, 8, 9, 10, 11, 12] rfl rfl (by decide) (by decide) (by decide) (fun _ => rfl) (fun _ => rfl) (fun r5 u H locs hw _ hP hD hS => ?_)
  obtain ⟨f_code_6, rfl⟩ : ∃ z, z = u := ⟨_, rfl⟩
  have hP : va_P D vwCl (mdl ad dA f_isSaved f_changes f_code_6 f_length f_fault f_signMany f_at f_place a_g a_kept a_saved a_input a_signs a_ways a_needs a_walk a_one a_several a_ragged a_nextLine) H := hP
  have hD : va_D A (mdl ad dA f_isSaved f_changes f_code_6 f_length f_fault f_signMany f_at f_place a_g a_kept a_saved a_input a_signs a_ways a_needs a_walk a_one a_several a_ragged a_nextLine) := hD
  refine lv_if_eq (tgt := 12) hx hb dX3_dignityOf_5 (by decide) (fun c7 => ?_) (fun c7 => ?_)
  · have hw := hw.1 c7
    refine lv_aload_n hx hb dX3_dignityOf_12 rfl (lv_at hl 0 rfl) ?_
    refine va_get (D := D) (ci := 2) (v := .ref (ad 1)) (C := RX3) (T := TX3) (N := 20) hx hb hts in_X3 hown hK hP 0 rfl rfl 0 (by decide) (hts _ q1741) (fun _ h9 => h9) rfl dX3_dignityOf_13 ?_
    refine lv_bipush (v := (nI 8)) hx hb dX3_dignityOf_16 (by decide) ?_
    refine lv_iload_n hx hb dX3_dignityOf_18 rfl (lv_at hl 1 rfl) ?_
    refine lv_iadd hx hb dX3_dignityOf_19 ?_
    obtain ⟨h8, hw⟩ := hw
    refine k_iald (k := ((nI 8) + p0).toNatClampNeg) hx hb hK hP 1 0 rfl rfl rfl h8 dX3_dignityOf_20 ?_
    exact W.iret (v := (a_g ((nI 8) + p0).toNatClampNeg)) hx hb hr (fun t ht hW => ⟨⟨(a_g ((nI 8) + p0).toNatClampNeg), f_code_6, rfl, hw, by rw [ht]; exact hP, va_K.moved hW.alike hK, hD⟩, hS.F ht⟩) hS.2.2 dX3_dignityOf_21
  · have hw := hw.2 c7
    refine lv_iconst (v := (nI 0)) hx hb dX3_dignityOf_8 (by decide) ?_
    refine lv_goto (tgt := 21) hx hb dX3_dignityOf_9 (by decide) ?_
    exact W.iret (v := (nI 0)) hx hb hr (fun t ht hW => ⟨⟨(nI 0), f_code_6, rfl, hw, by rw [ht]; exact hP, va_K.moved hW.alike hK, hD⟩, hS.F ht⟩) hS.2.2 dX3_dignityOf_21
def rm_X3_favorOf : Room := { frames := 3, cells := 0, slots := 0, locals := 64 }
set_option maxHeartbeats 4000000 in
set_option maxRecDepth 100000 in
theorem met_X3_favorOf (l : Launch) (D : va_G) (dA : Nat → ClassId) (ad : Nat → Nat) (sz : Nat) (f_isSaved : Int32) (f_changes : Int32) (f_code : Int32) (f_length : Int32) (f_fault : Int32) (f_signMany : Int32) (f_at : Int32) (f_place : Int32) (a_g : (Nat → Int32)) (a_kept : (Nat → Int32)) (a_saved : (Nat → Int32)) (a_input : (Nat → Int32)) (a_signs : (Nat → Int32)) (a_ways : (Nat → Int64)) (a_needs : (Nat → Int32)) (a_walk : (Nat → Int32)) (a_one : (Nat → Int32)) (a_several : (Nat → Int32)) (a_ragged : (Nat → Int32)) (a_nextLine : (Nat → Int32)) (p0 : Int32) (post : Int32 → Int32 → Prop) (hw : w_X3_favorOf post f_code a_g p0) : Met l yX3_favorOf (ws_ yX3_favorOf cX3_favorOf 2 (some .int)) rm_X3_favorOf (va_Pc [.ref (ad 0), .int p0] (wrB D dA sz (mdl ad dA f_isSaved f_changes f_code f_length f_fault f_signMany f_at f_place a_g a_kept a_saved a_input a_signs a_ways a_needs a_walk a_one a_several a_ragged a_nextLine))) (va_Qi (fun (r : Int32) (u : Int32) => post r u) (fun (u : Int32) t => wrQ D dA (va_A (mdl ad dA f_isSaved f_changes f_code f_length f_fault f_signMany f_at f_place a_g a_kept a_saved a_input a_signs a_ways a_needs a_walk a_one a_several a_ragged a_nextLine) sz) (mdl ad dA f_isSaved f_changes u f_length f_fault f_signMany f_at f_place a_g a_kept a_saved a_input a_signs a_ways a_needs a_walk a_one a_several a_ragged a_nextLine) t) (va_A (mdl ad dA f_isSaved f_changes f_code f_length f_fault f_signMany f_at f_place a_g a_kept a_saved a_input a_signs a_ways a_needs a_walk a_one a_several a_ragged a_nextLine) sz)) 0 0 (va_A (mdl ad dA f_isSaved f_changes f_code f_length f_fault f_signMany f_at f_place a_g a_kept a_saved a_input a_signs a_ways a_needs a_walk a_one a_several a_ragged a_nextLine) sz) := by
  refine Met.ofW (cc := cX3_favorOf) (maxL := 2) (ret := (some .int)) (by decide) rfl ?_
  intro p e s m args below meth c s₁ B hml hv
  obtain ⟨rfl, hsz, hP, hK, hD0⟩ := hv
  have hx := B.exec
  have hb := B.bytes
  have hr := B.returns
  have hts := atoms_spec (ws := (ws_ yX3_favorOf cX3_favorOf 2 (some .int))) B.pre
  have hts : ∀ w ∈ lw_all, w.before _ s = true := fun w h => hts w (List.mem_cons_of_mem _ h)
  have hown : s.vm.findClass RX3 = some m.cls := findClass_of_methodNamed B.named
  have hlocks := B.notSynchronized
  have hSx : CallFix p m c cX3_favorOf 2 s _ lw_all RX3 := ⟨hx, hb, hml, hown, hts⟩
  subst hsz
  have hD := hD0.self (sz := s.heap.size)
  generalize hAe : va_A (mdl ad dA f_isSaved f_changes f_code f_length f_fault f_signMany f_at f_place a_g a_kept a_saved a_input a_signs a_ways a_needs a_walk a_one a_several a_ragged a_nextLine) s.heap.size = A at hD ⊢
  have hA : ∀ q : Nat, s.heap.size ≤ q → A q := fun q h => by rw [← hAe]; exact Or.inr h
  have hS : va_S A s.heap s.heap [] := va_S.rf
  have hl := lv_entry ([.ref (ad 0), .int p0]) (n := 2) (Nat.le_of_ble_eq_true rfl)
  rw [lg_entry_eq]
  generalize (lg_sl ([.ref (ad 0), .int p0]) ++ List.replicate (2 - (lg_sl ([.ref (ad 0), .int p0])).length) Slot.unset).toArray = ls at hl ⊢
  have hl : lv_has ls 2 [(0, .ref (ad 0)), (1, .int p0)] := hl
  refine lv_aload_n hx hb dX3_favorOf_0 rfl (lv_at hl 0 rfl) ?_
  refine lv_iload_n hx hb dX3_favorOf_1 rfl (lv_at hl 1 rfl) ?_
  refine k_wi (wn := fun (u : Int32) => (mdl ad dA f_isSaved f_changes u f_length f_fault f_signMany f_at f_place a_g a_kept a_saved a_input a_signs a_ways a_needs a_walk a_one a_several a_ragged a_nextLine)) (wr := []) (k_wV (As := [.int p0]) (rest := []) hSx (met_X3_isNone l D dA ad _ f_isSaved f_changes f_code f_length f_fault f_signMany f_at f_place a_g a_kept a_saved a_input a_signs a_ways a_needs a_walk a_one a_several a_ragged a_nextLine p0 _ hw) gX3_94 ⟨rfl, hd_X3_isNone⟩ ⟨Nat.le_of_ble_eq_true rfl, Nat.le_of_ble_eq_true rfl⟩ rfl rfl hP hK hD [0, 1, 2, 3, 4, 5, 6, 7, 8, 9, 10, 11, 12] rfl (by decide) rfl 0 rfl rfl rfl rfl hl.1 (Nat.le_of_ble_eq_true rfl) rfl dX3_favorOf_2 ⟨Nat.le_refl 0, Nat.le_refl 0⟩) hP hD hS hA [0, 1, 2, 3, 4, 5, 6, 7, 8, 9, 10, 11, 12] [] [0, 1, 2, 3, 4, 5, 6, 7, 8, 9, 10, 11, 12] rfl rfl (by decide) (by decide) (by decide) (fun _ => rfl) (fun _ => rfl) (fun r5 u H locs hw _ hP hD hS => ?_)
  obtain ⟨f_code_6, rfl⟩ : ∃ z, z = u := ⟨_, rfl⟩
  have hP : va_P D vwCl (mdl ad dA f_isSaved f_changes f_code_6 f_length f_fault f_signMany f_at f_place a_g a_kept a_saved a_input a_signs a_ways a_needs a_walk a_one a_several a_ragged a_nextLine) H := hP
  have hD : va_D A (mdl ad dA f_isSaved f_changes f_code_6 f_length f_fault f_signMany f_at f_place a_g a_kept a_saved a_input a_signs a_ways a_needs a_walk a_one a_several a_ragged a_nextLine) := hD
  refine lv_if_eq (tgt := 12) hx hb dX3_favorOf_5 (by decide) (fun c7 => ?_) (fun c7 => ?_)
  · have hw := hw.1 c7
    refine lv_aload_n hx hb dX3_favorOf_12 rfl (lv_at hl 0 rfl) ?_
    refine va_get (D := D) (ci := 2) (v := .ref (ad 1)) (C := RX3) (T := TX3) (N := 20) hx hb hts in_X3 hown hK hP 0 rfl rfl 0 (by decide) (hts _ q1741) (fun _ h9 => h9) rfl dX3_favorOf_13 ?_
    refine lv_bipush (v := (nI 16)) hx hb dX3_favorOf_16 (by decide) ?_
    refine lv_iload_n hx hb dX3_favorOf_18 rfl (lv_at hl 1 rfl) ?_
    refine lv_iadd hx hb dX3_favorOf_19 ?_
    obtain ⟨h8, hw⟩ := hw
    refine k_iald (k := ((nI 16) + p0).toNatClampNeg) hx hb hK hP 1 0 rfl rfl rfl h8 dX3_favorOf_20 ?_
    exact W.iret (v := (a_g ((nI 16) + p0).toNatClampNeg)) hx hb hr (fun t ht hW => ⟨⟨(a_g ((nI 16) + p0).toNatClampNeg), f_code_6, rfl, hw, by rw [ht]; exact hP, va_K.moved hW.alike hK, hD⟩, hS.F ht⟩) hS.2.2 dX3_favorOf_21
  · have hw := hw.2 c7
    refine lv_iconst (v := (nI 0)) hx hb dX3_favorOf_8 (by decide) ?_
    refine lv_goto (tgt := 21) hx hb dX3_favorOf_9 (by decide) ?_
    exact W.iret (v := (nI 0)) hx hb hr (fun t ht hW => ⟨⟨(nI 0), f_code_6, rfl, hw, by rw [ht]; exact hP, va_K.moved hW.alike hK, hD⟩, hS.F ht⟩) hS.2.2 dX3_favorOf_21
def rm_X3_ruleCount : Room := { frames := 2, cells := 0, slots := 0, locals := 44 }
set_option maxHeartbeats 4000000 in
set_option maxRecDepth 100000 in
theorem met_X3_ruleCount (l : Launch) (D : va_G) (dA : Nat → ClassId) (ad : Nat → Nat) (sz : Nat) (f_isSaved : Int32) (f_changes : Int32) (f_code : Int32) (f_length : Int32) (f_fault : Int32) (f_signMany : Int32) (f_at : Int32) (f_place : Int32) (a_g : (Nat → Int32)) (a_kept : (Nat → Int32)) (a_saved : (Nat → Int32)) (a_input : (Nat → Int32)) (a_signs : (Nat → Int32)) (a_ways : (Nat → Int64)) (a_needs : (Nat → Int32)) (a_walk : (Nat → Int32)) (a_one : (Nat → Int32)) (a_several : (Nat → Int32)) (a_ragged : (Nat → Int32)) (a_nextLine : (Nat → Int32))  (post : Int32 → Int32 → Prop) (hw : w_X3_ruleCount post f_code a_g) : Met l yX3_ruleCount (ws_ yX3_ruleCount cX3_ruleCount 1 (some .int)) rm_X3_ruleCount (va_Pc [.ref (ad 0)] (wrB D dA sz (mdl ad dA f_isSaved f_changes f_code f_length f_fault f_signMany f_at f_place a_g a_kept a_saved a_input a_signs a_ways a_needs a_walk a_one a_several a_ragged a_nextLine))) (va_Qi (fun (r : Int32) (u : Int32) => post r u) (fun (u : Int32) t => wrQ D dA (va_A (mdl ad dA f_isSaved f_changes f_code f_length f_fault f_signMany f_at f_place a_g a_kept a_saved a_input a_signs a_ways a_needs a_walk a_one a_several a_ragged a_nextLine) sz) (mdl ad dA f_isSaved f_changes u f_length f_fault f_signMany f_at f_place a_g a_kept a_saved a_input a_signs a_ways a_needs a_walk a_one a_several a_ragged a_nextLine) t) (va_A (mdl ad dA f_isSaved f_changes f_code f_length f_fault f_signMany f_at f_place a_g a_kept a_saved a_input a_signs a_ways a_needs a_walk a_one a_several a_ragged a_nextLine) sz)) 0 0 (va_A (mdl ad dA f_isSaved f_changes f_code f_length f_fault f_signMany f_at f_place a_g a_kept a_saved a_input a_signs a_ways a_needs a_walk a_one a_several a_ragged a_nextLine) sz) := by
  refine Met.ofW (cc := cX3_ruleCount) (maxL := 1) (ret := (some .int)) (by decide) rfl ?_
  intro p e s m args below meth c s₁ B hml hv
  obtain ⟨rfl, hsz, hP, hK, hD0⟩ := hv
  have hx := B.exec
  have hb := B.bytes
  have hr := B.returns
  have hts := atoms_spec (ws := (ws_ yX3_ruleCount cX3_ruleCount 1 (some .int))) B.pre
  have hts : ∀ w ∈ lw_all, w.before _ s = true := fun w h => hts w (List.mem_cons_of_mem _ h)
  have hown : s.vm.findClass RX3 = some m.cls := findClass_of_methodNamed B.named
  have hlocks := B.notSynchronized
  have hSx : CallFix p m c cX3_ruleCount 1 s _ lw_all RX3 := ⟨hx, hb, hml, hown, hts⟩
  subst hsz
  have hD := hD0.self (sz := s.heap.size)
  generalize hAe : va_A (mdl ad dA f_isSaved f_changes f_code f_length f_fault f_signMany f_at f_place a_g a_kept a_saved a_input a_signs a_ways a_needs a_walk a_one a_several a_ragged a_nextLine) s.heap.size = A at hD ⊢
  have hA : ∀ q : Nat, s.heap.size ≤ q → A q := fun q h => by rw [← hAe]; exact Or.inr h
  have hS : va_S A s.heap s.heap [] := va_S.rf
  have hl := lv_entry ([.ref (ad 0)]) (n := 1) (Nat.le_of_ble_eq_true rfl)
  rw [lg_entry_eq]
  generalize (lg_sl ([.ref (ad 0)]) ++ List.replicate (1 - (lg_sl ([.ref (ad 0)])).length) Slot.unset).toArray = ls at hl ⊢
  have hl : lv_has ls 1 [(0, .ref (ad 0))] := hl
  refine lv_aload_n hx hb dX3_ruleCount_0 rfl (lv_at hl 0 rfl) ?_
  refine lv_iconst (v := (nI 0)) hx hb dX3_ruleCount_1 (by decide) ?_
  refine va_put (D := D) (ci := 2) (v := .int (nI 0)) (ty := .int) (C := RX3) (T := TX3) (N := 20) hx hb hts in_X3 tyX3 tyX3_ok nmX3 hown hK hP hD hS 0 rfl rfl 5 (by decide) (hts _ q1746) (fun _ h9 => h9) rfl (by decide +kernel) rfl rfl (Nat.le_of_ble_eq_true rfl) dX3_ruleCount_2 (fun H locs hP hD hS => ?_)
  have hP : va_P D vwCl (mdl ad dA f_isSaved f_changes (nI 0) f_length f_fault f_signMany f_at f_place a_g a_kept a_saved a_input a_signs a_ways a_needs a_walk a_one a_several a_ragged a_nextLine) H := hP
  have hD : va_D A (mdl ad dA f_isSaved f_changes (nI 0) f_length f_fault f_signMany f_at f_place a_g a_kept a_saved a_input a_signs a_ways a_needs a_walk a_one a_several a_ragged a_nextLine) := hD
  refine lv_aload_n hx hb dX3_ruleCount_5 rfl (lv_at hl 0 rfl) ?_
  refine k_ri (k_rV (As := []) (rest := []) hSx (met_X3_rules l D dA ad f_isSaved f_changes (nI 0) f_length f_fault f_signMany f_at f_place a_g a_kept a_saved a_input a_signs a_ways a_needs a_walk a_one a_several a_ragged a_nextLine  _ hw) gX3_90 ⟨rfl, hd_X3_rules⟩ ⟨Nat.le_of_ble_eq_true rfl, Nat.le_of_ble_eq_true rfl⟩ rfl rfl hP hK [0, 1, 2, 3, 4, 5, 6, 7, 8, 9, 10, 11, 12] rfl 0 rfl rfl rfl rfl hl.1 (Nat.le_of_ble_eq_true rfl) rfl dX3_ruleCount_6 ⟨Nat.le_refl 0, Nat.le_refl 0⟩) (fun r2 hw => ?_)
  exact W.iret (v := r2) hx hb hr (fun t ht hW => ⟨⟨r2, (nI 0), rfl, hw, by rw [ht]; exact hP, va_K.moved hW.alike hK, hD⟩, hS.F ht⟩) hS.2.2 dX3_ruleCount_9
def rm_X3_precedes : Room := { frames := 3, cells := 0, slots := 0, locals := 65 }
set_option maxHeartbeats 4000000 in
set_option maxRecDepth 100000 in
theorem met_X3_precedes (l : Launch) (D : va_G) (dA : Nat → ClassId) (ad : Nat → Nat) (sz : Nat) (f_isSaved : Int32) (f_changes : Int32) (f_code : Int32) (f_length : Int32) (f_fault : Int32) (f_signMany : Int32) (f_at : Int32) (f_place : Int32) (a_g : (Nat → Int32)) (a_kept : (Nat → Int32)) (a_saved : (Nat → Int32)) (a_input : (Nat → Int32)) (a_signs : (Nat → Int32)) (a_ways : (Nat → Int64)) (a_needs : (Nat → Int32)) (a_walk : (Nat → Int32)) (a_one : (Nat → Int32)) (a_several : (Nat → Int32)) (a_ragged : (Nat → Int32)) (a_nextLine : (Nat → Int32)) (p0 : Int32) (p1 : Int32) (post : Int32 → Int32 → Prop) (hw : w_X3_precedes post f_code a_g p0 p1) : Met l yX3_precedes (ws_ yX3_precedes cX3_precedes 3 (some .boolean)) rm_X3_precedes (va_Pc [.ref (ad 0), .int p0, .int p1] (wrB D dA sz (mdl ad dA f_isSaved f_changes f_code f_length f_fault f_signMany f_at f_place a_g a_kept a_saved a_input a_signs a_ways a_needs a_walk a_one a_several a_ragged a_nextLine))) (va_Qi (fun (r : Int32) (u : Int32) => post r u) (fun (u : Int32) t => wrQ D dA (va_A (mdl ad dA f_isSaved f_changes f_code f_length f_fault f_signMany f_at f_place a_g a_kept a_saved a_input a_signs a_ways a_needs a_walk a_one a_several a_ragged a_nextLine) sz) (mdl ad dA f_isSaved f_changes u f_length f_fault f_signMany f_at f_place a_g a_kept a_saved a_input a_signs a_ways a_needs a_walk a_one a_several a_ragged a_nextLine) t) (va_A (mdl ad dA f_isSaved f_changes f_code f_length f_fault f_signMany f_at f_place a_g a_kept a_saved a_input a_signs a_ways a_needs a_walk a_one a_several a_ragged a_nextLine) sz)) 0 0 (va_A (mdl ad dA f_isSaved f_changes f_code f_length f_fault f_signMany f_at f_place a_g a_kept a_saved a_input a_signs a_ways a_needs a_walk a_one a_several a_ragged a_nextLine) sz) := by
  refine Met.ofW (cc := cX3_precedes) (maxL := 3) (ret := (some .boolean)) (by decide) rfl ?_
  intro p e s m args below meth c s₁ B hml hv
  obtain ⟨rfl, hsz, hP, hK, hD0⟩ := hv
  have hx := B.exec
  have hb := B.bytes
  have hr := B.returns
  have hts := atoms_spec (ws := (ws_ yX3_precedes cX3_precedes 3 (some .boolean))) B.pre
  have hts : ∀ w ∈ lw_all, w.before _ s = true := fun w h => hts w (List.mem_cons_of_mem _ h)
  have hown : s.vm.findClass RX3 = some m.cls := findClass_of_methodNamed B.named
  have hlocks := B.notSynchronized
  have hSx : CallFix p m c cX3_precedes 3 s _ lw_all RX3 := ⟨hx, hb, hml, hown, hts⟩
  subst hsz
  have hD := hD0.self (sz := s.heap.size)
  generalize hAe : va_A (mdl ad dA f_isSaved f_changes f_code f_length f_fault f_signMany f_at f_place a_g a_kept a_saved a_input a_signs a_ways a_needs a_walk a_one a_several a_ragged a_nextLine) s.heap.size = A at hD ⊢
  have hA : ∀ q : Nat, s.heap.size ≤ q → A q := fun q h => by rw [← hAe]; exact Or.inr h
  have hS : va_S A s.heap s.heap [] := va_S.rf
  have hl := lv_entry ([.ref (ad 0), .int p0, .int p1]) (n := 3) (Nat.le_of_ble_eq_true rfl)
  rw [lg_entry_eq]
  generalize (lg_sl ([.ref (ad 0), .int p0, .int p1]) ++ List.replicate (3 - (lg_sl ([.ref (ad 0), .int p0, .int p1])).length) Slot.unset).toArray = ls at hl ⊢
  have hl : lv_has ls 3 [(0, .ref (ad 0)), (1, .int p0), (2, .int p1)] := hl
  refine lv_aload_n hx hb dX3_precedes_0 rfl (lv_at hl 0 rfl) ?_
  refine lv_iload_n hx hb dX3_precedes_1 rfl (lv_at hl 1 rfl) ?_
  refine lv_iload_n hx hb dX3_precedes_2 rfl (lv_at hl 2 rfl) ?_
  refine k_wi (wn := fun (u : Int32) => (mdl ad dA f_isSaved f_changes u f_length f_fault f_signMany f_at f_place a_g a_kept a_saved a_input a_signs a_ways a_needs a_walk a_one a_several a_ragged a_nextLine)) (wr := []) (k_wV (As := [.int p0, .int p1]) (rest := []) hSx (met_X3_areNone l D dA ad _ f_isSaved f_changes f_code f_length f_fault f_signMany f_at f_place a_g a_kept a_saved a_input a_signs a_ways a_needs a_walk a_one a_several a_ragged a_nextLine p0 p1 _ hw) gX3_83 ⟨rfl, hd_X3_areNone⟩ ⟨Nat.le_of_ble_eq_true rfl, Nat.le_of_ble_eq_true rfl⟩ rfl rfl hP hK hD [0, 1, 2, 3, 4, 5, 6, 7, 8, 9, 10, 11, 12] rfl (by decide) rfl 0 rfl rfl rfl rfl hl.1 (Nat.le_of_ble_eq_true rfl) rfl dX3_precedes_3 ⟨Nat.le_refl 0, Nat.le_refl 0⟩) hP hD hS hA [0, 1, 2, 3, 4, 5, 6, 7, 8, 9, 10, 11, 12] [] [0, 1, 2, 3, 4, 5, 6, 7, 8, 9, 10, 11, 12] rfl rfl (by decide) (by decide) (by decide) (fun _ => rfl) (fun _ => rfl) (fun r6 u H locs hw _ hP hD hS => ?_)
  obtain ⟨f_code_7, rfl⟩ : ∃ z, z = u := ⟨_, rfl⟩
  have hP : va_P D vwCl (mdl ad dA f_isSaved f_changes f_code_7 f_length f_fault f_signMany f_at f_place a_g a_kept a_saved a_input a_signs a_ways a_needs a_walk a_one a_several a_ragged a_nextLine) H := hP
  have hD : va_D A (mdl ad dA f_isSaved f_changes f_code_7 f_length f_fault f_signMany f_at f_place a_g a_kept a_saved a_input a_signs a_ways a_needs a_walk a_one a_several a_ragged a_nextLine) := hD
  refine lv_if_ne (tgt := 26) hx hb dX3_precedes_6 (by decide) (fun c8 => ?_) (fun c8 => ?_)
  · have hw := hw.2 c8
    refine lv_iconst (v := (nI 0)) hx hb dX3_precedes_26 (by decide) ?_
    exact W.zret (v := (nI 0)) hx hb hr rfl (fun t ht hW => ⟨⟨(nI 0), f_code_7, rfl, hw, by rw [ht]; exact hP, va_K.moved hW.alike hK, hD⟩, hS.F ht⟩) hS.2.2 dX3_precedes_27
  · have hw := hw.1 c8
    refine lv_aload_n hx hb dX3_precedes_9 rfl (lv_at hl 0 rfl) ?_
    refine lv_iload_n hx hb dX3_precedes_10 rfl (lv_at hl 1 rfl) ?_
    refine k_ri (k_rV (As := [.int p0]) (rest := []) hSx (met_X3_behind l D dA ad f_isSaved f_changes f_code_7 f_length f_fault f_signMany f_at f_place a_g a_kept a_saved a_input a_signs a_ways a_needs a_walk a_one a_several a_ragged a_nextLine p0 _ hw) gX3_73 ⟨rfl, hd_X3_behind⟩ ⟨Nat.le_of_ble_eq_true rfl, Nat.le_of_ble_eq_true rfl⟩ rfl rfl hP hK [0, 1, 2, 3, 4, 5, 6, 7, 8, 9, 10, 11, 12] rfl 0 rfl rfl rfl rfl hl.1 (Nat.le_of_ble_eq_true rfl) rfl dX3_precedes_11 ⟨Nat.le_refl 0, Nat.le_refl 0⟩) (fun r9 hw => ?_)
    refine lv_iload_n hx hb dX3_precedes_14 rfl (lv_at hl 2 rfl) ?_
    refine lv_ishr hx hb dX3_precedes_15 ?_
    refine lv_iconst (v := (nI 1)) hx hb dX3_precedes_16 (by decide) ?_
    refine lv_iand hx hb dX3_precedes_17 ?_
    refine lv_iconst (v := (nI 1)) hx hb dX3_precedes_18 (by decide) ?_
    refine lv_icmp_ne (tgt := 26) hx hb dX3_precedes_19 (by decide) (fun c10 => ?_) (fun c10 => ?_)
    · have hw := hw.2 c10
      refine lv_iconst (v := (nI 0)) hx hb dX3_precedes_26 (by decide) ?_
      exact W.zret (v := (nI 0)) hx hb hr rfl (fun t ht hW => ⟨⟨(nI 0), f_code_7, rfl, hw, by rw [ht]; exact hP, va_K.moved hW.alike hK, hD⟩, hS.F ht⟩) hS.2.2 dX3_precedes_27
    · have hw := hw.1 c10
      refine lv_iconst (v := (nI 1)) hx hb dX3_precedes_22 (by decide) ?_
      refine lv_goto (tgt := 27) hx hb dX3_precedes_23 (by decide) ?_
      exact W.zret (v := (nI 1)) hx hb hr rfl (fun t ht hW => ⟨⟨(nI 1), f_code_7, rfl, hw, by rw [ht]; exact hP, va_K.moved hW.alike hK, hD⟩, hS.F ht⟩) hS.2.2 dX3_precedes_27
def rm_X3_courtierByDignity : Room := { frames := 0, cells := 0, slots := 0, locals := 0 }
set_option maxHeartbeats 4000000 in
set_option maxRecDepth 100000 in
theorem met_X3_courtierByDignity (l : Launch) (D : va_G) (dA : Nat → ClassId) (ad : Nat → Nat) (sz : Nat) (f_isSaved : Int32) (f_changes : Int32) (f_code : Int32) (f_length : Int32) (f_fault : Int32) (f_signMany : Int32) (f_at : Int32) (f_place : Int32) (a_g : (Nat → Int32)) (a_kept : (Nat → Int32)) (a_saved : (Nat → Int32)) (a_input : (Nat → Int32)) (a_signs : (Nat → Int32)) (a_ways : (Nat → Int64)) (a_needs : (Nat → Int32)) (a_walk : (Nat → Int32)) (a_one : (Nat → Int32)) (a_several : (Nat → Int32)) (a_ragged : (Nat → Int32)) (a_nextLine : (Nat → Int32)) (p0 : Int32) (post : Int32 → Int32 → Prop) (hw : w_X3_courtierByDignity post f_code a_g p0) : Met l yX3_courtierByDignity (ws_ yX3_courtierByDignity cX3_courtierByDignity 5 (some .int)) rm_X3_courtierByDignity (va_Pc [.ref (ad 0), .int p0] (wrB D dA sz (mdl ad dA f_isSaved f_changes f_code f_length f_fault f_signMany f_at f_place a_g a_kept a_saved a_input a_signs a_ways a_needs a_walk a_one a_several a_ragged a_nextLine))) (va_Qi (fun (r : Int32) (u : Int32) => post r u) (fun (u : Int32) t => wrQ D dA (va_A (mdl ad dA f_isSaved f_changes f_code f_length f_fault f_signMany f_at f_place a_g a_kept a_saved a_input a_signs a_ways a_needs a_walk a_one a_several a_ragged a_nextLine) sz) (mdl ad dA f_isSaved f_changes u f_length f_fault f_signMany f_at f_place a_g a_kept a_saved a_input a_signs a_ways a_needs a_walk a_one a_several a_ragged a_nextLine) t) (va_A (mdl ad dA f_isSaved f_changes f_code f_length f_fault f_signMany f_at f_place a_g a_kept a_saved a_input a_signs a_ways a_needs a_walk a_one a_several a_ragged a_nextLine) sz)) 0 0 (va_A (mdl ad dA f_isSaved f_changes f_code f_length f_fault f_signMany f_at f_place a_g a_kept a_saved a_input a_signs a_ways a_needs a_walk a_one a_several a_ragged a_nextLine) sz) := by
  refine Met.ofW (cc := cX3_courtierByDignity) (maxL := 5) (ret := (some .int)) (by decide) rfl ?_
  intro p e s m args below meth c s₁ B hml hv
  obtain ⟨rfl, hsz, hP, hK, hD0⟩ := hv
  have hx := B.exec
  have hb := B.bytes
  have hr := B.returns
  have hts := atoms_spec (ws := (ws_ yX3_courtierByDignity cX3_courtierByDignity 5 (some .int))) B.pre
  have hts : ∀ w ∈ lw_all, w.before _ s = true := fun w h => hts w (List.mem_cons_of_mem _ h)
  have hown : s.vm.findClass RX3 = some m.cls := findClass_of_methodNamed B.named
  have hlocks := B.notSynchronized
  have hSx : CallFix p m c cX3_courtierByDignity 5 s _ lw_all RX3 := ⟨hx, hb, hml, hown, hts⟩
  subst hsz
  have hD := hD0.self (sz := s.heap.size)
  generalize hAe : va_A (mdl ad dA f_isSaved f_changes f_code f_length f_fault f_signMany f_at f_place a_g a_kept a_saved a_input a_signs a_ways a_needs a_walk a_one a_several a_ragged a_nextLine) s.heap.size = A at hD ⊢
  have hA : ∀ q : Nat, s.heap.size ≤ q → A q := fun q h => by rw [← hAe]; exact Or.inr h
  have hS : va_S A s.heap s.heap [] := va_S.rf
  have hl := lv_entry ([.ref (ad 0), .int p0]) (n := 5) (Nat.le_of_ble_eq_true rfl)
  rw [lg_entry_eq]
  generalize (lg_sl ([.ref (ad 0), .int p0]) ++ List.replicate (5 - (lg_sl ([.ref (ad 0), .int p0])).length) Slot.unset).toArray = ls at hl ⊢
  have hl : lv_has ls 5 [(0, .ref (ad 0)), (1, .int p0)] := hl
  have hL84 : ∀ (k2 : Int32 → Int32 → Int32 → Prop) (hk2 : ∀ (f_code : Int32) (v1 : Int32) (v2 : Int32) (H : Heap) (locs : List Loc) (ls : Array Slot), va_P D vwCl (mdl ad dA f_isSaved f_changes f_code f_length f_fault f_signMany f_at f_place a_g a_kept a_saved a_input a_signs a_ways a_needs a_walk a_one a_several a_ragged a_nextLine) H → va_D A (mdl ad dA f_isSaved f_changes f_code f_length f_fault f_signMany f_at f_place a_g a_kept a_saved a_input a_signs a_ways a_needs a_walk a_one a_several a_ragged a_nextLine) → va_S A s.heap H locs → lv_has ls 5 [(0, .ref (ad 0)), (1, .int v1), (2, .int v2)] → k2 f_code v1 v2 → W p l e (headSpec (ws_ yX3_courtierByDignity cX3_courtierByDignity 5 (some .int)) rm_X3_courtierByDignity).room s m ([.ref (ad 0), .int p0] : List Value).toArray below meth c H locs 0 0 (MQ below (va_Qi (fun (r : Int32) (u : Int32) => post r u) (fun (u : Int32) t => wrQ D dA A (mdl ad dA f_isSaved f_changes u f_length f_fault f_signMany f_at f_place a_g a_kept a_saved a_input a_signs a_ways a_needs a_walk a_one a_several a_ragged a_nextLine) t) A) ([.ref (ad 0), .int p0] : List Value).toArray s 0 0 A) (F0 m 2 ls [])) (k17 : Int32 → Int32 → Int32 → Int32 → Int32 → Prop) (hk17 : ∀ (f_code : Int32) (v1 : Int32) (v2 : Int32) (v3 : Int32) (v4 : Int32) (H : Heap) (locs : List Loc) (ls : Array Slot), va_P D vwCl (mdl ad dA f_isSaved f_changes f_code f_length f_fault f_signMany f_at f_place a_g a_kept a_saved a_input a_signs a_ways a_needs a_walk a_one a_several a_ragged a_nextLine) H → va_D A (mdl ad dA f_isSaved f_changes f_code f_length f_fault f_signMany f_at f_place a_g a_kept a_saved a_input a_signs a_ways a_needs a_walk a_one a_several a_ragged a_nextLine) → va_S A s.heap H locs → lv_has ls 5 [(0, .ref (ad 0)), (1, .int v1), (2, .int v2), (3, .int v3), (4, .int v4)] → k17 f_code v1 v2 v3 v4 → W p l e (headSpec (ws_ yX3_courtierByDignity cX3_courtierByDignity 5 (some .int)) rm_X3_courtierByDignity).room s m ([.ref (ad 0), .int p0] : List Value).toArray below meth c H locs 0 0 (MQ below (va_Qi (fun (r : Int32) (u : Int32) => post r u) (fun (u : Int32) t => wrQ D dA A (mdl ad dA f_isSaved f_changes u f_length f_fault f_signMany f_at f_place a_g a_kept a_saved a_input a_signs a_ways a_needs a_walk a_one a_several a_ragged a_nextLine) t) A) ([.ref (ad 0), .int p0] : List Value).toArray s 0 0 A) (F0 m 17 ls [])) (f_code : Int32) (v1 : Int32) (v2 : Int32) (v4 : Int32) (s0 : Int32) (s1 : Int32) (H : Heap) (locs : List Loc) (ls : Array Slot), va_P D vwCl (mdl ad dA f_isSaved f_changes f_code f_length f_fault f_signMany f_at f_place a_g a_kept a_saved a_input a_signs a_ways a_needs a_walk a_one a_several a_ragged a_nextLine) H → va_D A (mdl ad dA f_isSaved f_changes f_code f_length f_fault f_signMany f_at f_place a_g a_kept a_saved a_input a_signs a_ways a_needs a_walk a_one a_several a_ragged a_nextLine) → va_S A s.heap H locs → lv_has ls 5 [(0, .ref (ad 0)), (1, .int v1), (2, .int v2), (4, .int v4)] → (w_X3_courtierByDignity_84 post a_g k2 k17) f_code v1 v2 v4 s0 s1 → W p l e (headSpec (ws_ yX3_courtierByDignity cX3_courtierByDignity 5 (some .int)) rm_X3_courtierByDignity).room s m ([.ref (ad 0), .int p0] : List Value).toArray below meth c H locs 0 0 (MQ below (va_Qi (fun (r : Int32) (u : Int32) => post r u) (fun (u : Int32) t => wrQ D dA A (mdl ad dA f_isSaved f_changes u f_length f_fault f_signMany f_at f_place a_g a_kept a_saved a_input a_signs a_ways a_needs a_walk a_one a_several a_ragged a_nextLine) t) A) ([.ref (ad 0), .int p0] : List Value).toArray s 0 0 A) (F0 m 84 ls [.int s1, .int s0]) := by
      intro k2 hk2 k17 hk17 f_code v1 v2 v4 s0 s1 H locs ls hP hD hS hl hw
      refine lv_iadd hx hb dX3_courtierByDignity_84 ?_
      refine lv_istore_n (lv' := [(3, .int (s0 + s1)), (0, .ref (ad 0)), (1, .int v1), (2, .int v2), (4, .int v4)]) hx hb dX3_courtierByDignity_85 rfl hl (by decide) rfl (fun ls hl => ?_)
      refine lv_iinc (v := (v4 + (nI 1))) (lv' := [(4, .int (v4 + (nI 1))), (3, .int (s0 + s1)), (0, .ref (ad 0)), (1, .int v1), (2, .int v2)]) hx hb dX3_courtierByDignity_86 hl (k := 4) rfl (congrArg (fun z => v4 + z) (by decide : Int32.ofInt (1) = (nI 1))) (by decide) rfl (fun ls hl => ?_)
      refine lv_goto (tgt := 17) hx hb dX3_courtierByDignity_89 (by decide) ?_
      exact hk17 f_code v1 v2 (s0 + s1) (v4 + (nI 1)) _ _ _ hP hD hS (lv_sub hl [2, 3, 4, 1, 0] rfl) hw
  have hL79 : ∀ (k2 : Int32 → Int32 → Int32 → Prop) (hk2 : ∀ (f_code : Int32) (v1 : Int32) (v2 : Int32) (H : Heap) (locs : List Loc) (ls : Array Slot), va_P D vwCl (mdl ad dA f_isSaved f_changes f_code f_length f_fault f_signMany f_at f_place a_g a_kept a_saved a_input a_signs a_ways a_needs a_walk a_one a_several a_ragged a_nextLine) H → va_D A (mdl ad dA f_isSaved f_changes f_code f_length f_fault f_signMany f_at f_place a_g a_kept a_saved a_input a_signs a_ways a_needs a_walk a_one a_several a_ragged a_nextLine) → va_S A s.heap H locs → lv_has ls 5 [(0, .ref (ad 0)), (1, .int v1), (2, .int v2)] → k2 f_code v1 v2 → W p l e (headSpec (ws_ yX3_courtierByDignity cX3_courtierByDignity 5 (some .int)) rm_X3_courtierByDignity).room s m ([.ref (ad 0), .int p0] : List Value).toArray below meth c H locs 0 0 (MQ below (va_Qi (fun (r : Int32) (u : Int32) => post r u) (fun (u : Int32) t => wrQ D dA A (mdl ad dA f_isSaved f_changes u f_length f_fault f_signMany f_at f_place a_g a_kept a_saved a_input a_signs a_ways a_needs a_walk a_one a_several a_ragged a_nextLine) t) A) ([.ref (ad 0), .int p0] : List Value).toArray s 0 0 A) (F0 m 2 ls [])) (k17 : Int32 → Int32 → Int32 → Int32 → Int32 → Prop) (hk17 : ∀ (f_code : Int32) (v1 : Int32) (v2 : Int32) (v3 : Int32) (v4 : Int32) (H : Heap) (locs : List Loc) (ls : Array Slot), va_P D vwCl (mdl ad dA f_isSaved f_changes f_code f_length f_fault f_signMany f_at f_place a_g a_kept a_saved a_input a_signs a_ways a_needs a_walk a_one a_several a_ragged a_nextLine) H → va_D A (mdl ad dA f_isSaved f_changes f_code f_length f_fault f_signMany f_at f_place a_g a_kept a_saved a_input a_signs a_ways a_needs a_walk a_one a_several a_ragged a_nextLine) → va_S A s.heap H locs → lv_has ls 5 [(0, .ref (ad 0)), (1, .int v1), (2, .int v2), (3, .int v3), (4, .int v4)] → k17 f_code v1 v2 v3 v4 → W p l e (headSpec (ws_ yX3_courtierByDignity cX3_courtierByDignity 5 (some .int)) rm_X3_courtierByDignity).room s m ([.ref (ad 0), .int p0] : List Value).toArray below meth c H locs 0 0 (MQ below (va_Qi (fun (r : Int32) (u : Int32) => post r u) (fun (u : Int32) t => wrQ D dA A (mdl ad dA f_isSaved f_changes u f_length f_fault f_signMany f_at f_place a_g a_kept a_saved a_input a_signs a_ways a_needs a_walk a_one a_several a_ragged a_nextLine) t) A) ([.ref (ad 0), .int p0] : List Value).toArray s 0 0 A) (F0 m 17 ls [])) (f_code : Int32) (v1 : Int32) (v2 : Int32) (v4 : Int32) (s0 : Int32) (H : Heap) (locs : List Loc) (ls : Array Slot), va_P D vwCl (mdl ad dA f_isSaved f_changes f_code f_length f_fault f_signMany f_at f_place a_g a_kept a_saved a_input a_signs a_ways a_needs a_walk a_one a_several a_ragged a_nextLine) H → va_D A (mdl ad dA f_isSaved f_changes f_code f_length f_fault f_signMany f_at f_place a_g a_kept a_saved a_input a_signs a_ways a_needs a_walk a_one a_several a_ragged a_nextLine) → va_S A s.heap H locs → lv_has ls 5 [(0, .ref (ad 0)), (1, .int v1), (2, .int v2), (4, .int v4)] → (w_X3_courtierByDignity_79 post a_g k2 k17) f_code v1 v2 v4 s0 → W p l e (headSpec (ws_ yX3_courtierByDignity cX3_courtierByDignity 5 (some .int)) rm_X3_courtierByDignity).room s m ([.ref (ad 0), .int p0] : List Value).toArray below meth c H locs 0 0 (MQ below (va_Qi (fun (r : Int32) (u : Int32) => post r u) (fun (u : Int32) t => wrQ D dA A (mdl ad dA f_isSaved f_changes u f_length f_fault f_signMany f_at f_place a_g a_kept a_saved a_input a_signs a_ways a_needs a_walk a_one a_several a_ragged a_nextLine) t) A) ([.ref (ad 0), .int p0] : List Value).toArray s 0 0 A) (F0 m 79 ls [.int s0]) := by
      intro k2 hk2 k17 hk17 f_code v1 v2 v4 s0 H locs ls hP hD hS hl hw
      refine lv_iconst (v := (nI 1)) hx hb dX3_courtierByDignity_79 (by decide) ?_
      refine lv_goto (tgt := 84) hx hb dX3_courtierByDignity_80 (by decide) ?_
      exact hL84 k2 hk2 k17 hk17 f_code v1 v2 v4 s0 (nI 1) _ _ _ hP hD hS (lv_sub hl [0, 1, 2, 3] rfl) hw
  have hL83 : ∀ (k2 : Int32 → Int32 → Int32 → Prop) (hk2 : ∀ (f_code : Int32) (v1 : Int32) (v2 : Int32) (H : Heap) (locs : List Loc) (ls : Array Slot), va_P D vwCl (mdl ad dA f_isSaved f_changes f_code f_length f_fault f_signMany f_at f_place a_g a_kept a_saved a_input a_signs a_ways a_needs a_walk a_one a_several a_ragged a_nextLine) H → va_D A (mdl ad dA f_isSaved f_changes f_code f_length f_fault f_signMany f_at f_place a_g a_kept a_saved a_input a_signs a_ways a_needs a_walk a_one a_several a_ragged a_nextLine) → va_S A s.heap H locs → lv_has ls 5 [(0, .ref (ad 0)), (1, .int v1), (2, .int v2)] → k2 f_code v1 v2 → W p l e (headSpec (ws_ yX3_courtierByDignity cX3_courtierByDignity 5 (some .int)) rm_X3_courtierByDignity).room s m ([.ref (ad 0), .int p0] : List Value).toArray below meth c H locs 0 0 (MQ below (va_Qi (fun (r : Int32) (u : Int32) => post r u) (fun (u : Int32) t => wrQ D dA A (mdl ad dA f_isSaved f_changes u f_length f_fault f_signMany f_at f_place a_g a_kept a_saved a_input a_signs a_ways a_needs a_walk a_one a_several a_ragged a_nextLine) t) A) ([.ref (ad 0), .int p0] : List Value).toArray s 0 0 A) (F0 m 2 ls [])) (k17 : Int32 → Int32 → Int32 → Int32 → Int32 → Prop) (hk17 : ∀ (f_code : Int32) (v1 : Int32) (v2 : Int32) (v3 : Int32) (v4 : Int32) (H : Heap) (locs : List Loc) (ls : Array Slot), va_P D vwCl (mdl ad dA f_isSaved f_changes f_code f_length f_fault f_signMany f_at f_place a_g a_kept a_saved a_input a_signs a_ways a_needs a_walk a_one a_several a_ragged a_nextLine) H → va_D A (mdl ad dA f_isSaved f_changes f_code f_length f_fault f_signMany f_at f_place a_g a_kept a_saved a_input a_signs a_ways a_needs a_walk a_one a_several a_ragged a_nextLine) → va_S A s.heap H locs → lv_has ls 5 [(0, .ref (ad 0)), (1, .int v1), (2, .int v2), (3, .int v3), (4, .int v4)] → k17 f_code v1 v2 v3 v4 → W p l e (headSpec (ws_ yX3_courtierByDignity cX3_courtierByDignity 5 (some .int)) rm_X3_courtierByDignity).room s m ([.ref (ad 0), .int p0] : List Value).toArray below meth c H locs 0 0 (MQ below (va_Qi (fun (r : Int32) (u : Int32) => post r u) (fun (u : Int32) t => wrQ D dA A (mdl ad dA f_isSaved f_changes u f_length f_fault f_signMany f_at f_place a_g a_kept a_saved a_input a_signs a_ways a_needs a_walk a_one a_several a_ragged a_nextLine) t) A) ([.ref (ad 0), .int p0] : List Value).toArray s 0 0 A) (F0 m 17 ls [])) (f_code : Int32) (v1 : Int32) (v2 : Int32) (v4 : Int32) (s0 : Int32) (H : Heap) (locs : List Loc) (ls : Array Slot), va_P D vwCl (mdl ad dA f_isSaved f_changes f_code f_length f_fault f_signMany f_at f_place a_g a_kept a_saved a_input a_signs a_ways a_needs a_walk a_one a_several a_ragged a_nextLine) H → va_D A (mdl ad dA f_isSaved f_changes f_code f_length f_fault f_signMany f_at f_place a_g a_kept a_saved a_input a_signs a_ways a_needs a_walk a_one a_several a_ragged a_nextLine) → va_S A s.heap H locs → lv_has ls 5 [(0, .ref (ad 0)), (1, .int v1), (2, .int v2), (4, .int v4)] → (w_X3_courtierByDignity_83 post a_g k2 k17) f_code v1 v2 v4 s0 → W p l e (headSpec (ws_ yX3_courtierByDignity cX3_courtierByDignity 5 (some .int)) rm_X3_courtierByDignity).room s m ([.ref (ad 0), .int p0] : List Value).toArray below meth c H locs 0 0 (MQ below (va_Qi (fun (r : Int32) (u : Int32) => post r u) (fun (u : Int32) t => wrQ D dA A (mdl ad dA f_isSaved f_changes u f_length f_fault f_signMany f_at f_place a_g a_kept a_saved a_input a_signs a_ways a_needs a_walk a_one a_several a_ragged a_nextLine) t) A) ([.ref (ad 0), .int p0] : List Value).toArray s 0 0 A) (F0 m 83 ls [.int s0]) := by
      intro k2 hk2 k17 hk17 f_code v1 v2 v4 s0 H locs ls hP hD hS hl hw
      refine lv_iconst (v := (nI 0)) hx hb dX3_courtierByDignity_83 (by decide) ?_
      exact hL84 k2 hk2 k17 hk17 f_code v1 v2 v4 s0 (nI 0) _ _ _ hP hD hS (lv_sub hl [0, 1, 2, 3] rfl) hw
  have hL17 : ∀ (k2 : Int32 → Int32 → Int32 → Prop) (hk2 : ∀ (f_code : Int32) (v1 : Int32) (v2 : Int32) (H : Heap) (locs : List Loc) (ls : Array Slot), va_P D vwCl (mdl ad dA f_isSaved f_changes f_code f_length f_fault f_signMany f_at f_place a_g a_kept a_saved a_input a_signs a_ways a_needs a_walk a_one a_several a_ragged a_nextLine) H → va_D A (mdl ad dA f_isSaved f_changes f_code f_length f_fault f_signMany f_at f_place a_g a_kept a_saved a_input a_signs a_ways a_needs a_walk a_one a_several a_ragged a_nextLine) → va_S A s.heap H locs → lv_has ls 5 [(0, .ref (ad 0)), (1, .int v1), (2, .int v2)] → k2 f_code v1 v2 → W p l e (headSpec (ws_ yX3_courtierByDignity cX3_courtierByDignity 5 (some .int)) rm_X3_courtierByDignity).room s m ([.ref (ad 0), .int p0] : List Value).toArray below meth c H locs 0 0 (MQ below (va_Qi (fun (r : Int32) (u : Int32) => post r u) (fun (u : Int32) t => wrQ D dA A (mdl ad dA f_isSaved f_changes u f_length f_fault f_signMany f_at f_place a_g a_kept a_saved a_input a_signs a_ways a_needs a_walk a_one a_several a_ragged a_nextLine) t) A) ([.ref (ad 0), .int p0] : List Value).toArray s 0 0 A) (F0 m 2 ls [])) (n : Nat) (f_code : Int32) (v1 : Int32) (v2 : Int32) (v3 : Int32) (v4 : Int32) (H : Heap) (locs : List Loc) (ls : Array Slot), va_P D vwCl (mdl ad dA f_isSaved f_changes f_code f_length f_fault f_signMany f_at f_place a_g a_kept a_saved a_input a_signs a_ways a_needs a_walk a_one a_several a_ragged a_nextLine) H → va_D A (mdl ad dA f_isSaved f_changes f_code f_length f_fault f_signMany f_at f_place a_g a_kept a_saved a_input a_signs a_ways a_needs a_walk a_one a_several a_ragged a_nextLine) → va_S A s.heap H locs → lv_has ls 5 [(0, .ref (ad 0)), (1, .int v1), (2, .int v2), (3, .int v3), (4, .int v4)] → lpF (fun _ _ _ _ _ => False) (w_X3_courtierByDignity_17 post a_g k2) n f_code v1 v2 v3 v4 → W p l e (headSpec (ws_ yX3_courtierByDignity cX3_courtierByDignity 5 (some .int)) rm_X3_courtierByDignity).room s m ([.ref (ad 0), .int p0] : List Value).toArray below meth c H locs 0 0 (MQ below (va_Qi (fun (r : Int32) (u : Int32) => post r u) (fun (u : Int32) t => wrQ D dA A (mdl ad dA f_isSaved f_changes u f_length f_fault f_signMany f_at f_place a_g a_kept a_saved a_input a_signs a_ways a_needs a_walk a_one a_several a_ragged a_nextLine) t) A) ([.ref (ad 0), .int p0] : List Value).toArray s 0 0 A) (F0 m 17 ls []) := by
    intro k2 hk2 n
    induction n with
    | zero => intro f_code v1 v2 v3 v4 H locs ls hP hD hS hl hw; exact absurd hw id
    | succ n hk17 =>
      intro f_code v1 v2 v3 v4 H locs ls hP hD hS hl hw
      generalize hk9 : lpF (fun _ _ _ _ _ => False) (w_X3_courtierByDignity_17 post a_g k2) n = k17 at hk17
      have hw : (w_X3_courtierByDignity_17 post a_g k2) k17 f_code v1 v2 v3 v4 := hk9 ▸ hw
      refine lv_iload hx hb dX3_courtierByDignity_17 (lv_at hl 4 rfl) ?_
      refine lv_aload_n hx hb dX3_courtierByDignity_19 rfl (lv_at hl 0 rfl) ?_
      refine va_get (D := D) (ci := 2) (v := .ref (ad 1)) (C := RX3) (T := TX3) (N := 20) hx hb hts in_X3 hown hK hP 0 rfl rfl 0 (by decide) (hts _ q1741) (fun _ h9 => h9) rfl dX3_courtierByDignity_20 ?_
      refine lv_iconst (v := (nI 0)) hx hb dX3_courtierByDignity_23 (by decide) ?_
      refine k_iald (k := 0) hx hb hK hP 1 0 rfl rfl (clK 0 (by decide)) (inK (by decide) (by decide)) dX3_courtierByDignity_24 ?_
      refine lv_icmp_ge (tgt := 92) hx hb dX3_courtierByDignity_25 (by decide) (fun c11 => ?_) (fun c11 => ?_)
      · have hw := hw.1 c11
        refine lv_iload_n hx hb dX3_courtierByDignity_92 rfl (lv_at hl 3 rfl) ?_
        refine lv_iload_n hx hb dX3_courtierByDignity_93 rfl (lv_at hl 1 rfl) ?_
        refine lv_icmp_eq (tgt := 100) hx hb dX3_courtierByDignity_94 (by decide) (fun c12 => ?_) (fun c12 => ?_)
        · have hw := hw.1 c12
          refine lv_aload_n hx hb dX3_courtierByDignity_100 rfl (lv_at hl 0 rfl) ?_
          refine lv_iconst (v := (nI 0)) hx hb dX3_courtierByDignity_101 (by decide) ?_
          refine va_put (D := D) (ci := 2) (v := .int (nI 0)) (ty := .int) (C := RX3) (T := TX3) (N := 20) hx hb hts in_X3 tyX3 tyX3_ok nmX3 hown hK hP hD hS 0 rfl rfl 5 (by decide) (hts _ q1746) (fun _ h9 => h9) rfl (by decide +kernel) rfl rfl (Nat.le_of_ble_eq_true rfl) dX3_courtierByDignity_102 (fun H locs hP hD hS => ?_)
          have hP : va_P D vwCl (mdl ad dA f_isSaved f_changes (nI 0) f_length f_fault f_signMany f_at f_place a_g a_kept a_saved a_input a_signs a_ways a_needs a_walk a_one a_several a_ragged a_nextLine) H := hP
          have hD : va_D A (mdl ad dA f_isSaved f_changes (nI 0) f_length f_fault f_signMany f_at f_place a_g a_kept a_saved a_input a_signs a_ways a_needs a_walk a_one a_several a_ragged a_nextLine) := hD
          refine lv_iload_n hx hb dX3_courtierByDignity_105 rfl (lv_at hl 2 rfl) ?_
          exact W.iret (v := v2) hx hb hr (fun t ht hW => ⟨⟨v2, (nI 0), rfl, hw, by rw [ht]; exact hP, va_K.moved hW.alike hK, hD⟩, hS.F ht⟩) hS.2.2 dX3_courtierByDignity_106
        · have hw := hw.2 c12
          refine lv_goto (tgt := 107) hx hb dX3_courtierByDignity_97 (by decide) ?_
          refine lv_iinc (v := (v2 + (nI 1))) (lv' := [(2, .int (v2 + (nI 1))), (0, .ref (ad 0)), (1, .int v1), (3, .int v3), (4, .int v4)]) hx hb dX3_courtierByDignity_107 hl (k := 2) rfl (congrArg (fun z => v2 + z) (by decide : Int32.ofInt (1) = (nI 1))) (by decide) rfl (fun ls hl => ?_)
          refine lv_goto (tgt := 2) hx hb dX3_courtierByDignity_110 (by decide) ?_
          exact hk2 f_code v1 (v2 + (nI 1)) _ _ _ hP hD hS (lv_sub hl [1, 2, 0] rfl) hw
      · have hw := hw.2 c11
        refine lv_iload_n hx hb dX3_courtierByDignity_28 rfl (lv_at hl 3 rfl) ?_
        refine lv_aload_n hx hb dX3_courtierByDignity_29 rfl (lv_at hl 0 rfl) ?_
        refine va_get (D := D) (ci := 2) (v := .ref (ad 1)) (C := RX3) (T := TX3) (N := 20) hx hb hts in_X3 hown hK hP 0 rfl rfl 0 (by decide) (hts _ q1741) (fun _ h9 => h9) rfl dX3_courtierByDignity_30 ?_
        refine lv_bipush (v := (nI 8)) hx hb dX3_courtierByDignity_33 (by decide) ?_
        refine lv_iload hx hb dX3_courtierByDignity_35 (lv_at hl 4 rfl) ?_
        refine lv_iadd hx hb dX3_courtierByDignity_37 ?_
        obtain ⟨h13, hw⟩ := hw
        refine k_iald (k := ((nI 8) + v4).toNatClampNeg) hx hb hK hP 1 0 rfl rfl rfl h13 dX3_courtierByDignity_38 ?_
        refine lv_aload_n hx hb dX3_courtierByDignity_39 rfl (lv_at hl 0 rfl) ?_
        refine va_get (D := D) (ci := 2) (v := .ref (ad 1)) (C := RX3) (T := TX3) (N := 20) hx hb hts in_X3 hown hK hP 0 rfl rfl 0 (by decide) (hts _ q1741) (fun _ h9 => h9) rfl dX3_courtierByDignity_40 ?_
        refine lv_bipush (v := (nI 8)) hx hb dX3_courtierByDignity_43 (by decide) ?_
        refine lv_iload_n hx hb dX3_courtierByDignity_45 rfl (lv_at hl 2 rfl) ?_
        refine lv_iadd hx hb dX3_courtierByDignity_46 ?_
        obtain ⟨h14, hw⟩ := hw
        refine k_iald (k := ((nI 8) + v2).toNatClampNeg) hx hb hK hP 1 0 rfl rfl rfl h14 dX3_courtierByDignity_47 ?_
        refine lv_icmp_gt (tgt := 79) hx hb dX3_courtierByDignity_48 (by decide) (fun c15 => ?_) (fun c15 => ?_)
        · have hw := hw.1 c15
          exact hL79 k2 hk2 k17 hk17 f_code v1 v2 v4 v3 _ _ _ hP hD hS (lv_sub hl [0, 1, 2, 4] rfl) hw
        · have hw := hw.2 c15
          refine lv_aload_n hx hb dX3_courtierByDignity_51 rfl (lv_at hl 0 rfl) ?_
          refine va_get (D := D) (ci := 2) (v := .ref (ad 1)) (C := RX3) (T := TX3) (N := 20) hx hb hts in_X3 hown hK hP 0 rfl rfl 0 (by decide) (hts _ q1741) (fun _ h9 => h9) rfl dX3_courtierByDignity_52 ?_
          refine lv_bipush (v := (nI 8)) hx hb dX3_courtierByDignity_55 (by decide) ?_
          refine lv_iload hx hb dX3_courtierByDignity_57 (lv_at hl 4 rfl) ?_
          refine lv_iadd hx hb dX3_courtierByDignity_59 ?_
          obtain ⟨h16, hw⟩ := hw
          refine k_iald (k := ((nI 8) + v4).toNatClampNeg) hx hb hK hP 1 0 rfl rfl rfl h16 dX3_courtierByDignity_60 ?_
          refine lv_aload_n hx hb dX3_courtierByDignity_61 rfl (lv_at hl 0 rfl) ?_
          refine va_get (D := D) (ci := 2) (v := .ref (ad 1)) (C := RX3) (T := TX3) (N := 20) hx hb hts in_X3 hown hK hP 0 rfl rfl 0 (by decide) (hts _ q1741) (fun _ h9 => h9) rfl dX3_courtierByDignity_62 ?_
          refine lv_bipush (v := (nI 8)) hx hb dX3_courtierByDignity_65 (by decide) ?_
          refine lv_iload_n hx hb dX3_courtierByDignity_67 rfl (lv_at hl 2 rfl) ?_
          refine lv_iadd hx hb dX3_courtierByDignity_68 ?_
          obtain ⟨h17, hw⟩ := hw
          refine k_iald (k := ((nI 8) + v2).toNatClampNeg) hx hb hK hP 1 0 rfl rfl rfl h17 dX3_courtierByDignity_69 ?_
          refine lv_icmp_ne (tgt := 83) hx hb dX3_courtierByDignity_70 (by decide) (fun c18 => ?_) (fun c18 => ?_)
          · have hw := hw.2 c18
            exact hL83 k2 hk2 k17 hk17 f_code v1 v2 v4 v3 _ _ _ hP hD hS (lv_sub hl [0, 1, 2, 4] rfl) hw
          · have hw := hw.1 c18
            refine lv_iload hx hb dX3_courtierByDignity_73 (lv_at hl 4 rfl) ?_
            refine lv_iload_n hx hb dX3_courtierByDignity_75 rfl (lv_at hl 2 rfl) ?_
            refine lv_icmp_ge (tgt := 83) hx hb dX3_courtierByDignity_76 (by decide) (fun c19 => ?_) (fun c19 => ?_)
            · have hw := hw.1 c19
              exact hL83 k2 hk2 k17 hk17 f_code v1 v2 v4 v3 _ _ _ hP hD hS (lv_sub hl [0, 1, 2, 4] rfl) hw
            · have hw := hw.2 c19
              exact hL79 k2 hk2 k17 hk17 f_code v1 v2 v4 v3 _ _ _ hP hD hS (lv_sub hl [0, 1, 2, 4] rfl) hw
  have hL2 : ∀  (n : Nat) (f_code : Int32) (v1 : Int32) (v2 : Int32) (H : Heap) (locs : List Loc) (ls : Array Slot), va_P D vwCl (mdl ad dA f_isSaved f_changes f_code f_length f_fault f_signMany f_at f_place a_g a_kept a_saved a_input a_signs a_ways a_needs a_walk a_one a_several a_ragged a_nextLine) H → va_D A (mdl ad dA f_isSaved f_changes f_code f_length f_fault f_signMany f_at f_place a_g a_kept a_saved a_input a_signs a_ways a_needs a_walk a_one a_several a_ragged a_nextLine) → va_S A s.heap H locs → lv_has ls 5 [(0, .ref (ad 0)), (1, .int v1), (2, .int v2)] → lpF (fun _ _ _ => False) (w_X3_courtierByDignity_2 post a_g) n f_code v1 v2 → W p l e (headSpec (ws_ yX3_courtierByDignity cX3_courtierByDignity 5 (some .int)) rm_X3_courtierByDignity).room s m ([.ref (ad 0), .int p0] : List Value).toArray below meth c H locs 0 0 (MQ below (va_Qi (fun (r : Int32) (u : Int32) => post r u) (fun (u : Int32) t => wrQ D dA A (mdl ad dA f_isSaved f_changes u f_length f_fault f_signMany f_at f_place a_g a_kept a_saved a_input a_signs a_ways a_needs a_walk a_one a_several a_ragged a_nextLine) t) A) ([.ref (ad 0), .int p0] : List Value).toArray s 0 0 A) (F0 m 2 ls []) := by
    intro  n
    induction n with
    | zero => intro f_code v1 v2 H locs ls hP hD hS hl hw; exact absurd hw id
    | succ n hk2 =>
      intro f_code v1 v2 H locs ls hP hD hS hl hw
      generalize hk9 : lpF (fun _ _ _ => False) (w_X3_courtierByDignity_2 post a_g) n = k2 at hk2
      have hw : (w_X3_courtierByDignity_2 post a_g) k2 f_code v1 v2 := hk9 ▸ hw
      refine lv_iload_n hx hb dX3_courtierByDignity_2 rfl (lv_at hl 2 rfl) ?_
      refine lv_aload_n hx hb dX3_courtierByDignity_3 rfl (lv_at hl 0 rfl) ?_
      refine va_get (D := D) (ci := 2) (v := .ref (ad 1)) (C := RX3) (T := TX3) (N := 20) hx hb hts in_X3 hown hK hP 0 rfl rfl 0 (by decide) (hts _ q1741) (fun _ h9 => h9) rfl dX3_courtierByDignity_4 ?_
      refine lv_iconst (v := (nI 0)) hx hb dX3_courtierByDignity_7 (by decide) ?_
      refine k_iald (k := 0) hx hb hK hP 1 0 rfl rfl (clK 0 (by decide)) (inK (by decide) (by decide)) dX3_courtierByDignity_8 ?_
      refine lv_icmp_ge (tgt := 113) hx hb dX3_courtierByDignity_9 (by decide) (fun c20 => ?_) (fun c20 => ?_)
      · have hw := hw.1 c20
        refine lv_aload_n hx hb dX3_courtierByDignity_113 rfl (lv_at hl 0 rfl) ?_
        refine lv_iconst (v := (nI 1)) hx hb dX3_courtierByDignity_114 (by decide) ?_
        refine va_put (D := D) (ci := 2) (v := .int (nI 1)) (ty := .int) (C := RX3) (T := TX3) (N := 20) hx hb hts in_X3 tyX3 tyX3_ok nmX3 hown hK hP hD hS 0 rfl rfl 5 (by decide) (hts _ q1746) (fun _ h9 => h9) rfl (by decide +kernel) rfl rfl (Nat.le_of_ble_eq_true rfl) dX3_courtierByDignity_115 (fun H locs hP hD hS => ?_)
        have hP : va_P D vwCl (mdl ad dA f_isSaved f_changes (nI 1) f_length f_fault f_signMany f_at f_place a_g a_kept a_saved a_input a_signs a_ways a_needs a_walk a_one a_several a_ragged a_nextLine) H := hP
        have hD : va_D A (mdl ad dA f_isSaved f_changes (nI 1) f_length f_fault f_signMany f_at f_place a_g a_kept a_saved a_input a_signs a_ways a_needs a_walk a_one a_several a_ragged a_nextLine) := hD
        refine lv_iconst (v := (nI 0)) hx hb dX3_courtierByDignity_118 (by decide) ?_
        exact W.iret (v := (nI 0)) hx hb hr (fun t ht hW => ⟨⟨(nI 0), (nI 1), rfl, hw, by rw [ht]; exact hP, va_K.moved hW.alike hK, hD⟩, hS.F ht⟩) hS.2.2 dX3_courtierByDignity_119
      · have hw := hw.2 c20
        refine lv_iconst (v := (nI 0)) hx hb dX3_courtierByDignity_12 (by decide) ?_
        refine lv_istore_n (lv' := [(3, .int (nI 0)), (0, .ref (ad 0)), (1, .int v1), (2, .int v2)]) hx hb dX3_courtierByDignity_13 rfl hl (by decide) rfl (fun ls hl => ?_)
        refine lv_iconst (v := (nI 0)) hx hb dX3_courtierByDignity_14 (by decide) ?_
        refine lv_istore (lv' := [(4, .int (nI 0)), (3, .int (nI 0)), (0, .ref (ad 0)), (1, .int v1), (2, .int v2)]) hx hb dX3_courtierByDignity_15 hl (by decide) rfl (fun ls hl => ?_)
        obtain ⟨n, hw⟩ := hw
        exact hL17 k2 hk2 n f_code v1 v2 (nI 0) (nI 0) _ _ _ hP hD hS (lv_sub hl [2, 3, 4, 1, 0] rfl) hw
  refine lv_iconst (v := (nI 0)) hx hb dX3_courtierByDignity_0 (by decide) ?_
  refine lv_istore_n (lv' := [(2, .int (nI 0)), (0, .ref (ad 0)), (1, .int p0)]) hx hb dX3_courtierByDignity_1 rfl hl (by decide) rfl (fun ls hl => ?_)
  obtain ⟨n, hw⟩ := hw
  exact hL2  n f_code p0 (nI 0) _ _ _ hP hD hS (lv_sub hl [1, 2, 0] rfl) hw
def rm_X3_ahead : Room := { frames := 1, cells := 0, slots := 0, locals := 24 }
set_option maxHeartbeats 4000000 in
set_option maxRecDepth 100000 in
theorem met_X3_ahead (l : Launch) (D : va_G) (dA : Nat → ClassId) (ad : Nat → Nat) (f_isSaved : Int32) (f_changes : Int32) (f_code : Int32) (f_length : Int32) (f_fault : Int32) (f_signMany : Int32) (f_at : Int32) (f_place : Int32) (a_g : (Nat → Int32)) (a_kept : (Nat → Int32)) (a_saved : (Nat → Int32)) (a_input : (Nat → Int32)) (a_signs : (Nat → Int32)) (a_ways : (Nat → Int64)) (a_needs : (Nat → Int32)) (a_walk : (Nat → Int32)) (a_one : (Nat → Int32)) (a_several : (Nat → Int32)) (a_ragged : (Nat → Int32)) (a_nextLine : (Nat → Int32)) (p0 : Int32) (post : Int32 → Prop) (hw : w_X3_ahead post a_g p0) : Met l yX3_ahead (ws_ yX3_ahead cX3_ahead 4 (some .int)) rm_X3_ahead (va_Pc [.ref (ad 0), .int p0] (rdB D dA (mdl ad dA f_isSaved f_changes f_code f_length f_fault f_signMany f_at f_place a_g a_kept a_saved a_input a_signs a_ways a_needs a_walk a_one a_several a_ragged a_nextLine))) (vp_Si (fun r => post r)) 0 0 (fun _ => False) := by
  refine Met.ofW (cc := cX3_ahead) (maxL := 4) (ret := (some .int)) (by decide) rfl ?_
  intro p e s m args below meth c s₁ B hml hv
  obtain ⟨rfl, hP, hK⟩ := hv
  have hx := B.exec
  have hb := B.bytes
  have hr := B.returns
  have hts := atoms_spec (ws := (ws_ yX3_ahead cX3_ahead 4 (some .int))) B.pre
  have hts : ∀ w ∈ lw_all, w.before _ s = true := fun w h => hts w (List.mem_cons_of_mem _ h)
  have hown : s.vm.findClass RX3 = some m.cls := findClass_of_methodNamed B.named
  have hlocks := B.notSynchronized
  have hSx : CallFix p m c cX3_ahead 4 s _ lw_all RX3 := ⟨hx, hb, hml, hown, hts⟩
  have hl := lv_entry ([.ref (ad 0), .int p0]) (n := 4) (Nat.le_of_ble_eq_true rfl)
  rw [lg_entry_eq]
  generalize (lg_sl ([.ref (ad 0), .int p0]) ++ List.replicate (4 - (lg_sl ([.ref (ad 0), .int p0])).length) Slot.unset).toArray = ls at hl ⊢
  have hl : lv_has ls 4 [(0, .ref (ad 0)), (1, .int p0)] := hl
  have hL33 : ∀ (k4 : Int32 → Int32 → Int32 → Prop) (hk4 : ∀ (v1 : Int32) (v2 : Int32) (v3 : Int32) (ls : Array Slot), lv_has ls 4 [(0, .ref (ad 0)), (1, .int v1), (2, .int v2), (3, .int v3)] → k4 v1 v2 v3 → W p l e (headSpec (ws_ yX3_ahead cX3_ahead 4 (some .int)) rm_X3_ahead).room s m ([.ref (ad 0), .int p0] : List Value).toArray below meth c s.heap [] 0 0 (MQ below (vp_Si (fun r => post r)) ([.ref (ad 0), .int p0] : List Value).toArray s 0 0 (fun _ => False)) (F0 m 4 ls [])) (v1 : Int32) (v2 : Int32) (v3 : Int32) (ls : Array Slot), lv_has ls 4 [(0, .ref (ad 0)), (1, .int v1), (2, .int v2), (3, .int v3)] → (w_X3_ahead_33 post a_g k4) v1 v2 v3 → W p l e (headSpec (ws_ yX3_ahead cX3_ahead 4 (some .int)) rm_X3_ahead).room s m ([.ref (ad 0), .int p0] : List Value).toArray below meth c s.heap [] 0 0 (MQ below (vp_Si (fun r => post r)) ([.ref (ad 0), .int p0] : List Value).toArray s 0 0 (fun _ => False)) (F0 m 33 ls []) := by
      intro k4 hk4 v1 v2 v3 ls hl hw
      refine lv_iinc (v := (v3 + (nI 1))) (lv' := [(3, .int (v3 + (nI 1))), (0, .ref (ad 0)), (1, .int v1), (2, .int v2)]) hx hb dX3_ahead_33 hl (k := 3) rfl (congrArg (fun z => v3 + z) (by decide : Int32.ofInt (1) = (nI 1))) (by decide) rfl (fun ls hl => ?_)
      refine lv_goto (tgt := 4) hx hb dX3_ahead_36 (by decide) ?_
      exact hk4 v1 v2 (v3 + (nI 1)) _ (lv_sub hl [1, 2, 3, 0] rfl) hw
  have hL4 : ∀  (n : Nat) (v1 : Int32) (v2 : Int32) (v3 : Int32) (ls : Array Slot), lv_has ls 4 [(0, .ref (ad 0)), (1, .int v1), (2, .int v2), (3, .int v3)] → lpF (fun _ _ _ => False) (w_X3_ahead_4 post a_g) n v1 v2 v3 → W p l e (headSpec (ws_ yX3_ahead cX3_ahead 4 (some .int)) rm_X3_ahead).room s m ([.ref (ad 0), .int p0] : List Value).toArray below meth c s.heap [] 0 0 (MQ below (vp_Si (fun r => post r)) ([.ref (ad 0), .int p0] : List Value).toArray s 0 0 (fun _ => False)) (F0 m 4 ls []) := by
    intro  n
    induction n with
    | zero => intro v1 v2 v3 ls hl hw; exact absurd hw id
    | succ n hk4 =>
      intro v1 v2 v3 ls hl hw
      generalize hk9 : lpF (fun _ _ _ => False) (w_X3_ahead_4 post a_g) n = k4 at hk4
      have hw : (w_X3_ahead_4 post a_g) k4 v1 v2 v3 := hk9 ▸ hw
      refine lv_iload_n hx hb dX3_ahead_4 rfl (lv_at hl 3 rfl) ?_
      refine lv_aload_n hx hb dX3_ahead_5 rfl (lv_at hl 0 rfl) ?_
      refine va_get (D := D) (ci := 2) (v := .ref (ad 1)) (C := RX3) (T := TX3) (N := 20) hx hb hts in_X3 hown hK hP 0 rfl rfl 0 (by decide) (hts _ q1741) (fun _ h9 => h9) rfl dX3_ahead_6 ?_
      refine lv_iconst (v := (nI 0)) hx hb dX3_ahead_9 (by decide) ?_
      refine k_iald (k := 0) hx hb hK hP 1 0 rfl rfl (clK 0 (by decide)) (inK (by decide) (by decide)) dX3_ahead_10 ?_
      refine lv_icmp_ge (tgt := 39) hx hb dX3_ahead_11 (by decide) (fun c4 => ?_) (fun c4 => ?_)
      · have hw := hw.1 c4
        refine lv_iload_n hx hb dX3_ahead_39 rfl (lv_at hl 2 rfl) ?_
        exact W.iret (v := v2) hx hb hr (fun t ht hW => ⟨v2, rfl, hw, ht⟩) (fun _ h => by cases h) dX3_ahead_40
      · have hw := hw.2 c4
        refine lv_aload_n hx hb dX3_ahead_14 rfl (lv_at hl 0 rfl) ?_
        refine lv_iload_n hx hb dX3_ahead_15 rfl (lv_at hl 3 rfl) ?_
        refine k_ri (k_rV (As := [.int v3]) (rest := []) hSx (met_X3_behind l D dA ad f_isSaved f_changes f_code f_length f_fault f_signMany f_at f_place a_g a_kept a_saved a_input a_signs a_ways a_needs a_walk a_one a_several a_ragged a_nextLine v3 _ hw) gX3_73 ⟨rfl, hd_X3_behind⟩ ⟨Nat.le_of_ble_eq_true rfl, Nat.le_of_ble_eq_true rfl⟩ rfl rfl hP hK [0, 1, 2, 3, 4, 5, 6, 7, 8, 9, 10, 11, 12] rfl 0 rfl rfl rfl rfl hl.1 (Nat.le_of_ble_eq_true rfl) rfl dX3_ahead_16 ⟨Nat.le_refl 0, Nat.le_refl 0⟩) (fun r5 hw => ?_)
        refine lv_iload_n hx hb dX3_ahead_19 rfl (lv_at hl 1 rfl) ?_
        refine lv_ishr hx hb dX3_ahead_20 ?_
        refine lv_iconst (v := (nI 1)) hx hb dX3_ahead_21 (by decide) ?_
        refine lv_iand hx hb dX3_ahead_22 ?_
        refine lv_iconst (v := (nI 1)) hx hb dX3_ahead_23 (by decide) ?_
        refine lv_icmp_ne (tgt := 33) hx hb dX3_ahead_24 (by decide) (fun c6 => ?_) (fun c6 => ?_)
        · have hw := hw.2 c6
          exact hL33 k4 hk4 v1 v2 v3 _ (lv_sub hl [0, 1, 2, 3] rfl) hw
        · have hw := hw.1 c6
          refine lv_iload_n hx hb dX3_ahead_27 rfl (lv_at hl 2 rfl) ?_
          refine lv_iconst (v := (nI 1)) hx hb dX3_ahead_28 (by decide) ?_
          refine lv_iload_n hx hb dX3_ahead_29 rfl (lv_at hl 3 rfl) ?_
          refine lv_ishl hx hb dX3_ahead_30 ?_
          refine lv_ior hx hb dX3_ahead_31 ?_
          refine lv_istore_n (lv' := [(2, .int (v2 ||| ((nI 1) <<< (v3 &&& 31)))), (0, .ref (ad 0)), (1, .int v1), (3, .int v3)]) hx hb dX3_ahead_32 rfl hl (by decide) rfl (fun ls hl => ?_)
          exact hL33 k4 hk4 v1 (v2 ||| ((nI 1) <<< (v3 &&& 31))) v3 _ (lv_sub hl [1, 2, 0, 3] rfl) hw
  refine lv_iconst (v := (nI 0)) hx hb dX3_ahead_0 (by decide) ?_
  refine lv_istore_n (lv' := [(2, .int (nI 0)), (0, .ref (ad 0)), (1, .int p0)]) hx hb dX3_ahead_1 rfl hl (by decide) rfl (fun ls hl => ?_)
  refine lv_iconst (v := (nI 0)) hx hb dX3_ahead_2 (by decide) ?_
  refine lv_istore_n (lv' := [(3, .int (nI 0)), (2, .int (nI 0)), (0, .ref (ad 0)), (1, .int p0)]) hx hb dX3_ahead_3 rfl hl (by decide) rfl (fun ls hl => ?_)
  obtain ⟨n, hw⟩ := hw
  exact hL4  n p0 (nI 0) (nI 0) _ (lv_sub hl [2, 3, 1, 0] rfl) hw
theorem gX3_97 : GoodIn lw_all (wsV RX3 97 RX3 yX3_ahead (ws_ yX3_ahead cX3_ahead 4 (some .int))) := lw_V q1895 q1897 qs43 q84 q1898
theorem hd_X3_ahead : yX3_ahead.cls ≠ "java/lang/invoke/MethodHandle" ∧ yX3_ahead.cls ≠ "java/lang/invoke/VarHandle" ∧ (parseMethodDescriptor yX3_ahead.desc).map (fun d => d.parameters.length) = some 1 := by decide +kernel
def rm_X3_layNeeds : Room := { frames := 2, cells := 0, slots := 0, locals := 47 }
set_option maxHeartbeats 4000000 in
set_option maxRecDepth 100000 in
theorem met_X3_layNeeds (l : Launch) (D : va_G) (dA : Nat → ClassId) (ad : Nat → Nat) (sz : Nat) (f_isSaved : Int32) (f_changes : Int32) (f_code : Int32) (f_length : Int32) (f_fault : Int32) (f_signMany : Int32) (f_at : Int32) (f_place : Int32) (a_g : (Nat → Int32)) (a_kept : (Nat → Int32)) (a_saved : (Nat → Int32)) (a_input : (Nat → Int32)) (a_signs : (Nat → Int32)) (a_ways : (Nat → Int64)) (a_needs : (Nat → Int32)) (a_walk : (Nat → Int32)) (a_one : (Nat → Int32)) (a_several : (Nat → Int32)) (a_ragged : (Nat → Int32)) (a_nextLine : (Nat → Int32))  (post : (Nat → Int32) → Prop) (hw : w_X3_layNeeds post a_g a_needs) : Met l yX3_layNeeds (ws_ yX3_layNeeds cX3_layNeeds 2 none) rm_X3_layNeeds (va_Pc [.ref (ad 0)] (wrB D dA sz (mdl ad dA f_isSaved f_changes f_code f_length f_fault f_signMany f_at f_place a_g a_kept a_saved a_input a_signs a_ways a_needs a_walk a_one a_several a_ragged a_nextLine))) (va_Qv (fun (u : (Nat → Int32)) => post u) (fun (u : (Nat → Int32)) t => wrQ D dA (va_A (mdl ad dA f_isSaved f_changes f_code f_length f_fault f_signMany f_at f_place a_g a_kept a_saved a_input a_signs a_ways a_needs a_walk a_one a_several a_ragged a_nextLine) sz) (mdl ad dA f_isSaved f_changes f_code f_length f_fault f_signMany f_at f_place a_g a_kept a_saved a_input a_signs a_ways u a_walk a_one a_several a_ragged a_nextLine) t) (va_A (mdl ad dA f_isSaved f_changes f_code f_length f_fault f_signMany f_at f_place a_g a_kept a_saved a_input a_signs a_ways a_needs a_walk a_one a_several a_ragged a_nextLine) sz)) 0 0 (va_A (mdl ad dA f_isSaved f_changes f_code f_length f_fault f_signMany f_at f_place a_g a_kept a_saved a_input a_signs a_ways a_needs a_walk a_one a_several a_ragged a_nextLine) sz) := by
  refine Met.ofW (cc := cX3_layNeeds) (maxL := 2) (ret := none) (by decide) rfl ?_
  intro p e s m args below meth c s₁ B hml hv
  obtain ⟨rfl, hsz, hP, hK, hD0⟩ := hv
  have hx := B.exec
  have hb := B.bytes
  have hr := B.returns
  have hts := atoms_spec (ws := (ws_ yX3_layNeeds cX3_layNeeds 2 none)) B.pre
  have hts : ∀ w ∈ lw_all, w.before _ s = true := fun w h => hts w (List.mem_cons_of_mem _ h)
  have hown : s.vm.findClass RX3 = some m.cls := findClass_of_methodNamed B.named
  have hlocks := B.notSynchronized
  have hSx : CallFix p m c cX3_layNeeds 2 s _ lw_all RX3 := ⟨hx, hb, hml, hown, hts⟩
  subst hsz
  have hD := hD0.self (sz := s.heap.size)
  generalize hAe : va_A (mdl ad dA f_isSaved f_changes f_code f_length f_fault f_signMany f_at f_place a_g a_kept a_saved a_input a_signs a_ways a_needs a_walk a_one a_several a_ragged a_nextLine) s.heap.size = A at hD ⊢
  have hA : ∀ q : Nat, s.heap.size ≤ q → A q := fun q h => by rw [← hAe]; exact Or.inr h
  have hS : va_S A s.heap s.heap [] := va_S.rf
  have hl := lv_entry ([.ref (ad 0)]) (n := 2) (Nat.le_of_ble_eq_true rfl)
  rw [lg_entry_eq]
  generalize (lg_sl ([.ref (ad 0)]) ++ List.replicate (2 - (lg_sl ([.ref (ad 0)])).length) Slot.unset).toArray = ls at hl ⊢
  have hl : lv_has ls 2 [(0, .ref (ad 0))] := hl
  have hL2 : ∀  (n : Nat) (a_needs : (Nat → Int32)) (v1 : Int32) (H : Heap) (locs : List Loc) (ls : Array Slot), va_P D vwCl (mdl ad dA f_isSaved f_changes f_code f_length f_fault f_signMany f_at f_place a_g a_kept a_saved a_input a_signs a_ways a_needs a_walk a_one a_several a_ragged a_nextLine) H → va_D A (mdl ad dA f_isSaved f_changes f_code f_length f_fault f_signMany f_at f_place a_g a_kept a_saved a_input a_signs a_ways a_needs a_walk a_one a_several a_ragged a_nextLine) → va_S A s.heap H locs → lv_has ls 2 [(0, .ref (ad 0)), (1, .int v1)] → lpF (fun _ _ => False) (w_X3_layNeeds_2 post a_g) n a_needs v1 → W p l e (headSpec (ws_ yX3_layNeeds cX3_layNeeds 2 none) rm_X3_layNeeds).room s m ([.ref (ad 0)] : List Value).toArray below meth c H locs 0 0 (MQ below (va_Qv (fun (u : (Nat → Int32)) => post u) (fun (u : (Nat → Int32)) t => wrQ D dA A (mdl ad dA f_isSaved f_changes f_code f_length f_fault f_signMany f_at f_place a_g a_kept a_saved a_input a_signs a_ways u a_walk a_one a_several a_ragged a_nextLine) t) A) ([.ref (ad 0)] : List Value).toArray s 0 0 A) (F0 m 2 ls []) := by
    intro  n
    induction n with
    | zero => intro a_needs v1 H locs ls hP hD hS hl hw; exact absurd hw id
    | succ n hk2 =>
      intro a_needs v1 H locs ls hP hD hS hl hw
      generalize hk9 : lpF (fun _ _ => False) (w_X3_layNeeds_2 post a_g) n = k2 at hk2
      have hw : (w_X3_layNeeds_2 post a_g) k2 a_needs v1 := hk9 ▸ hw
      refine lv_iload_n hx hb dX3_layNeeds_2 rfl (lv_at hl 1 rfl) ?_
      refine lv_aload_n hx hb dX3_layNeeds_3 rfl (lv_at hl 0 rfl) ?_
      refine va_get (D := D) (ci := 2) (v := .ref (ad 1)) (C := RX3) (T := TX3) (N := 20) hx hb hts in_X3 hown hK hP 0 rfl rfl 0 (by decide) (hts _ q1741) (fun _ h9 => h9) rfl dX3_layNeeds_4 ?_
      refine lv_iconst (v := (nI 0)) hx hb dX3_layNeeds_7 (by decide) ?_
      refine k_iald (k := 0) hx hb hK hP 1 0 rfl rfl (clK 0 (by decide)) (inK (by decide) (by decide)) dX3_layNeeds_8 ?_
      refine lv_icmp_ge (tgt := 29) hx hb dX3_layNeeds_9 (by decide) (fun c4 => ?_) (fun c4 => ?_)
      · have hw := hw.1 c4
        exact W.vret hx hb hr (fun t ht hW => ⟨⟨a_needs, rfl, hw, by rw [ht]; exact hP, va_K.moved hW.alike hK, hD⟩, hS.F ht⟩) hS.2.2 dX3_layNeeds_29
      · have hw := hw.2 c4
        refine lv_aload_n hx hb dX3_layNeeds_12 rfl (lv_at hl 0 rfl) ?_
        refine va_get (D := D) (ci := 2) (v := .ref (ad 7)) (C := RX3) (T := TX3) (N := 20) hx hb hts in_X3 hown hK hP 0 rfl rfl 12 (by decide) (hts _ q1753) (fun _ h9 => h9) rfl dX3_layNeeds_13 ?_
        refine lv_iload_n hx hb dX3_layNeeds_16 rfl (lv_at hl 1 rfl) ?_
        refine lv_aload_n hx hb dX3_layNeeds_17 rfl (lv_at hl 0 rfl) ?_
        refine lv_iload_n hx hb dX3_layNeeds_18 rfl (lv_at hl 1 rfl) ?_
        refine k_ri (k_rV (As := [.int v1]) (rest := [.int v1, .ref (ad 7)]) hSx (met_X3_ahead l D dA ad f_isSaved f_changes f_code f_length f_fault f_signMany f_at f_place a_g a_kept a_saved a_input a_signs a_ways a_needs a_walk a_one a_several a_ragged a_nextLine v1 _ hw) gX3_97 ⟨rfl, hd_X3_ahead⟩ ⟨Nat.le_of_ble_eq_true rfl, Nat.le_of_ble_eq_true rfl⟩ rfl rfl hP hK [0, 1, 2, 3, 4, 5, 6, 7, 8, 9, 10, 11, 12] rfl 0 rfl rfl rfl rfl hl.1 (Nat.le_of_ble_eq_true rfl) rfl dX3_layNeeds_19 ⟨Nat.le_refl 0, Nat.le_refl 0⟩) (fun r5 hw => ?_)
        obtain ⟨h6, hw⟩ := hw
        refine k_iast (k := v1.toNatClampNeg) hx hb hK hP hD hS 7 0 rfl rfl rfl h6 dX3_layNeeds_22 (fun H locs hP hD hS => ?_)
        have hP : va_P D vwCl (mdl ad dA f_isSaved f_changes f_code f_length f_fault f_signMany f_at f_place a_g a_kept a_saved a_input a_signs a_ways (upd a_needs v1.toNatClampNeg r5) a_walk a_one a_several a_ragged a_nextLine) H := hP
        have hD : va_D A (mdl ad dA f_isSaved f_changes f_code f_length f_fault f_signMany f_at f_place a_g a_kept a_saved a_input a_signs a_ways (upd a_needs v1.toNatClampNeg r5) a_walk a_one a_several a_ragged a_nextLine) := hD
        refine lv_iinc (v := (v1 + (nI 1))) (lv' := [(1, .int (v1 + (nI 1))), (0, .ref (ad 0))]) hx hb dX3_layNeeds_23 hl (k := 1) rfl (congrArg (fun z => v1 + z) (by decide : Int32.ofInt (1) = (nI 1))) (by decide) rfl (fun ls hl => ?_)
        refine lv_goto (tgt := 2) hx hb dX3_layNeeds_26 (by decide) ?_
        exact hk2 (upd a_needs v1.toNatClampNeg r5) (v1 + (nI 1)) _ _ _ hP hD hS (lv_sub hl [1, 0] rfl) hw
  refine lv_iconst (v := (nI 0)) hx hb dX3_layNeeds_0 (by decide) ?_
  refine lv_istore_n (lv' := [(1, .int (nI 0)), (0, .ref (ad 0))]) hx hb dX3_layNeeds_1 rfl hl (by decide) rfl (fun ls hl => ?_)
  obtain ⟨n, hw⟩ := hw
  exact hL2  n a_needs (nI 0) _ _ _ hP hD hS (lv_sub hl [1, 0] rfl) hw
theorem gX3_100 : GoodIn lw_all (wsV RX3 100 RX3 yX3_layNeeds (ws_ yX3_layNeeds cX3_layNeeds 2 none)) := lw_V q1891 q1893 qs42 q84 q1894
theorem hd_X3_layNeeds : yX3_layNeeds.cls ≠ "java/lang/invoke/MethodHandle" ∧ yX3_layNeeds.cls ≠ "java/lang/invoke/VarHandle" ∧ (parseMethodDescriptor yX3_layNeeds.desc).map (fun d => d.parameters.length) = some 0 := by decide +kernel
def rm_X3_counts : Room := { frames := 3, cells := 0, slots := 0, locals := 68 }
set_option maxHeartbeats 4000000 in
set_option maxRecDepth 100000 in
theorem met_X3_counts (l : Launch) (D : va_G) (dA : Nat → ClassId) (ad : Nat → Nat) (sz : Nat) (f_isSaved : Int32) (f_changes : Int32) (f_code : Int32) (f_length : Int32) (f_fault : Int32) (f_signMany : Int32) (f_at : Int32) (f_place : Int32) (a_g : (Nat → Int32)) (a_kept : (Nat → Int32)) (a_saved : (Nat → Int32)) (a_input : (Nat → Int32)) (a_signs : (Nat → Int32)) (a_ways : (Nat → Int64)) (a_needs : (Nat → Int32)) (a_walk : (Nat → Int32)) (a_one : (Nat → Int32)) (a_several : (Nat → Int32)) (a_ragged : (Nat → Int32)) (a_nextLine : (Nat → Int32))  (post : Int64 → Int32 → (Nat → Int64) → (Nat → Int32) → Prop) (hw : w_X3_counts post f_code a_g a_ways a_needs) : Met l yX3_counts (ws_ yX3_counts cX3_counts 4 (some .long)) rm_X3_counts (va_Pc [.ref (ad 0)] (wrB D dA sz (mdl ad dA f_isSaved f_changes f_code f_length f_fault f_signMany f_at f_place a_g a_kept a_saved a_input a_signs a_ways a_needs a_walk a_one a_several a_ragged a_nextLine))) (va_Ql (fun (r : Int64) (u : Int32 × (Nat → Int64) × (Nat → Int32)) => post r u.1 u.2.1 u.2.2) (fun (u : Int32 × (Nat → Int64) × (Nat → Int32)) t => wrQ D dA (va_A (mdl ad dA f_isSaved f_changes f_code f_length f_fault f_signMany f_at f_place a_g a_kept a_saved a_input a_signs a_ways a_needs a_walk a_one a_several a_ragged a_nextLine) sz) (mdl ad dA f_isSaved f_changes u.1 f_length f_fault f_signMany f_at f_place a_g a_kept a_saved a_input a_signs u.2.1 u.2.2 a_walk a_one a_several a_ragged a_nextLine) t) (va_A (mdl ad dA f_isSaved f_changes f_code f_length f_fault f_signMany f_at f_place a_g a_kept a_saved a_input a_signs a_ways a_needs a_walk a_one a_several a_ragged a_nextLine) sz)) 0 0 (va_A (mdl ad dA f_isSaved f_changes f_code f_length f_fault f_signMany f_at f_place a_g a_kept a_saved a_input a_signs a_ways a_needs a_walk a_one a_several a_ragged a_nextLine) sz) := by
  refine Met.ofW (cc := cX3_counts) (maxL := 4) (ret := (some .long)) (by decide) rfl ?_
  intro p e s m args below meth c s₁ B hml hv
  obtain ⟨rfl, hsz, hP, hK, hD0⟩ := hv
  have hx := B.exec
  have hb := B.bytes
  have hr := B.returns
  have hts := atoms_spec (ws := (ws_ yX3_counts cX3_counts 4 (some .long))) B.pre
  have hts : ∀ w ∈ lw_all, w.before _ s = true := fun w h => hts w (List.mem_cons_of_mem _ h)
  have hown : s.vm.findClass RX3 = some m.cls := findClass_of_methodNamed B.named
  have hlocks := B.notSynchronized
  have hSx : CallFix p m c cX3_counts 4 s _ lw_all RX3 := ⟨hx, hb, hml, hown, hts⟩
  subst hsz
  have hD := hD0.self (sz := s.heap.size)
  generalize hAe : va_A (mdl ad dA f_isSaved f_changes f_code f_length f_fault f_signMany f_at f_place a_g a_kept a_saved a_input a_signs a_ways a_needs a_walk a_one a_several a_ragged a_nextLine) s.heap.size = A at hD ⊢
  have hA : ∀ q : Nat, s.heap.size ≤ q → A q := fun q h => by rw [← hAe]; exact Or.inr h
  have hS : va_S A s.heap s.heap [] := va_S.rf
  have hl := lv_entry ([.ref (ad 0)]) (n := 4) (Nat.le_of_ble_eq_true rfl)
  rw [lg_entry_eq]
  generalize (lg_sl ([.ref (ad 0)]) ++ List.replicate (4 - (lg_sl ([.ref (ad 0)])).length) Slot.unset).toArray = ls at hl ⊢
  have hl : lv_has ls 4 [(0, .ref (ad 0))] := hl
  have hL98 : ∀ (k29 : Int32 → (Nat → Int64) → (Nat → Int32) → Int32 → Int32 → Prop) (hk29 : ∀ (f_code : Int32) (a_ways : (Nat → Int64)) (a_needs : (Nat → Int32)) (v1 : Int32) (v2 : Int32) (H : Heap) (locs : List Loc) (ls : Array Slot), va_P D vwCl (mdl ad dA f_isSaved f_changes f_code f_length f_fault f_signMany f_at f_place a_g a_kept a_saved a_input a_signs a_ways a_needs a_walk a_one a_several a_ragged a_nextLine) H → va_D A (mdl ad dA f_isSaved f_changes f_code f_length f_fault f_signMany f_at f_place a_g a_kept a_saved a_input a_signs a_ways a_needs a_walk a_one a_several a_ragged a_nextLine) → va_S A s.heap H locs → lv_has ls 4 [(0, .ref (ad 0)), (1, .int v1), (2, .int v2)] → k29 f_code a_ways a_needs v1 v2 → W p l e (headSpec (ws_ yX3_counts cX3_counts 4 (some .long)) rm_X3_counts).room s m ([.ref (ad 0)] : List Value).toArray below meth c H locs 0 0 (MQ below (va_Ql (fun (r : Int64) (u : Int32 × (Nat → Int64) × (Nat → Int32)) => post r u.1 u.2.1 u.2.2) (fun (u : Int32 × (Nat → Int64) × (Nat → Int32)) t => wrQ D dA A (mdl ad dA f_isSaved f_changes u.1 f_length f_fault f_signMany f_at f_place a_g a_kept a_saved a_input a_signs u.2.1 u.2.2 a_walk a_one a_several a_ragged a_nextLine) t) A) ([.ref (ad 0)] : List Value).toArray s 0 0 A) (F0 m 29 ls [])) (k43 : Int32 → (Nat → Int64) → (Nat → Int32) → Int32 → Int32 → Int32 → Prop) (hk43 : ∀ (f_code : Int32) (a_ways : (Nat → Int64)) (a_needs : (Nat → Int32)) (v1 : Int32) (v2 : Int32) (v3 : Int32) (H : Heap) (locs : List Loc) (ls : Array Slot), va_P D vwCl (mdl ad dA f_isSaved f_changes f_code f_length f_fault f_signMany f_at f_place a_g a_kept a_saved a_input a_signs a_ways a_needs a_walk a_one a_several a_ragged a_nextLine) H → va_D A (mdl ad dA f_isSaved f_changes f_code f_length f_fault f_signMany f_at f_place a_g a_kept a_saved a_input a_signs a_ways a_needs a_walk a_one a_several a_ragged a_nextLine) → va_S A s.heap H locs → lv_has ls 4 [(0, .ref (ad 0)), (1, .int v1), (2, .int v2), (3, .int v3)] → k43 f_code a_ways a_needs v1 v2 v3 → W p l e (headSpec (ws_ yX3_counts cX3_counts 4 (some .long)) rm_X3_counts).room s m ([.ref (ad 0)] : List Value).toArray below meth c H locs 0 0 (MQ below (va_Ql (fun (r : Int64) (u : Int32 × (Nat → Int64) × (Nat → Int32)) => post r u.1 u.2.1 u.2.2) (fun (u : Int32 × (Nat → Int64) × (Nat → Int32)) t => wrQ D dA A (mdl ad dA f_isSaved f_changes u.1 f_length f_fault f_signMany f_at f_place a_g a_kept a_saved a_input a_signs u.2.1 u.2.2 a_walk a_one a_several a_ragged a_nextLine) t) A) ([.ref (ad 0)] : List Value).toArray s 0 0 A) (F0 m 43 ls [])) (f_code : Int32) (a_ways : (Nat → Int64)) (a_needs : (Nat → Int32)) (v1 : Int32) (v2 : Int32) (v3 : Int32) (H : Heap) (locs : List Loc) (ls : Array Slot), va_P D vwCl (mdl ad dA f_isSaved f_changes f_code f_length f_fault f_signMany f_at f_place a_g a_kept a_saved a_input a_signs a_ways a_needs a_walk a_one a_several a_ragged a_nextLine) H → va_D A (mdl ad dA f_isSaved f_changes f_code f_length f_fault f_signMany f_at f_place a_g a_kept a_saved a_input a_signs a_ways a_needs a_walk a_one a_several a_ragged a_nextLine) → va_S A s.heap H locs → lv_has ls 4 [(0, .ref (ad 0)), (1, .int v1), (2, .int v2), (3, .int v3)] → (w_X3_counts_98 post a_g k29 k43) f_code a_ways a_needs v1 v2 v3 → W p l e (headSpec (ws_ yX3_counts cX3_counts 4 (some .long)) rm_X3_counts).room s m ([.ref (ad 0)] : List Value).toArray below meth c H locs 0 0 (MQ below (va_Ql (fun (r : Int64) (u : Int32 × (Nat → Int64) × (Nat → Int32)) => post r u.1 u.2.1 u.2.2) (fun (u : Int32 × (Nat → Int64) × (Nat → Int32)) t => wrQ D dA A (mdl ad dA f_isSaved f_changes u.1 f_length f_fault f_signMany f_at f_place a_g a_kept a_saved a_input a_signs u.2.1 u.2.2 a_walk a_one a_several a_ragged a_nextLine) t) A) ([.ref (ad 0)] : List Value).toArray s 0 0 A) (F0 m 98 ls []) := by
      intro k29 hk29 k43 hk43 f_code a_ways a_needs v1 v2 v3 H locs ls hP hD hS hl hw
      refine lv_iinc (v := (v3 + (nI 1))) (lv' := [(3, .int (v3 + (nI 1))), (0, .ref (ad 0)), (1, .int v1), (2, .int v2)]) hx hb dX3_counts_98 hl (k := 3) rfl (congrArg (fun z => v3 + z) (by decide : Int32.ofInt (1) = (nI 1))) (by decide) rfl (fun ls hl => ?_)
      refine lv_goto (tgt := 43) hx hb dX3_counts_101 (by decide) ?_
      exact hk43 f_code a_ways a_needs v1 v2 (v3 + (nI 1)) _ _ _ hP hD hS (lv_sub hl [1, 2, 3, 0] rfl) hw
  have hL43 : ∀ (k29 : Int32 → (Nat → Int64) → (Nat → Int32) → Int32 → Int32 → Prop) (hk29 : ∀ (f_code : Int32) (a_ways : (Nat → Int64)) (a_needs : (Nat → Int32)) (v1 : Int32) (v2 : Int32) (H : Heap) (locs : List Loc) (ls : Array Slot), va_P D vwCl (mdl ad dA f_isSaved f_changes f_code f_length f_fault f_signMany f_at f_place a_g a_kept a_saved a_input a_signs a_ways a_needs a_walk a_one a_several a_ragged a_nextLine) H → va_D A (mdl ad dA f_isSaved f_changes f_code f_length f_fault f_signMany f_at f_place a_g a_kept a_saved a_input a_signs a_ways a_needs a_walk a_one a_several a_ragged a_nextLine) → va_S A s.heap H locs → lv_has ls 4 [(0, .ref (ad 0)), (1, .int v1), (2, .int v2)] → k29 f_code a_ways a_needs v1 v2 → W p l e (headSpec (ws_ yX3_counts cX3_counts 4 (some .long)) rm_X3_counts).room s m ([.ref (ad 0)] : List Value).toArray below meth c H locs 0 0 (MQ below (va_Ql (fun (r : Int64) (u : Int32 × (Nat → Int64) × (Nat → Int32)) => post r u.1 u.2.1 u.2.2) (fun (u : Int32 × (Nat → Int64) × (Nat → Int32)) t => wrQ D dA A (mdl ad dA f_isSaved f_changes u.1 f_length f_fault f_signMany f_at f_place a_g a_kept a_saved a_input a_signs u.2.1 u.2.2 a_walk a_one a_several a_ragged a_nextLine) t) A) ([.ref (ad 0)] : List Value).toArray s 0 0 A) (F0 m 29 ls [])) (n : Nat) (f_code : Int32) (a_ways : (Nat → Int64)) (a_needs : (Nat → Int32)) (v1 : Int32) (v2 : Int32) (v3 : Int32) (H : Heap) (locs : List Loc) (ls : Array Slot), va_P D vwCl (mdl ad dA f_isSaved f_changes f_code f_length f_fault f_signMany f_at f_place a_g a_kept a_saved a_input a_signs a_ways a_needs a_walk a_one a_several a_ragged a_nextLine) H → va_D A (mdl ad dA f_isSaved f_changes f_code f_length f_fault f_signMany f_at f_place a_g a_kept a_saved a_input a_signs a_ways a_needs a_walk a_one a_several a_ragged a_nextLine) → va_S A s.heap H locs → lv_has ls 4 [(0, .ref (ad 0)), (1, .int v1), (2, .int v2), (3, .int v3)] → lpF (fun _ _ _ _ _ _ => False) (w_X3_counts_43 post a_g k29) n f_code a_ways a_needs v1 v2 v3 → W p l e (headSpec (ws_ yX3_counts cX3_counts 4 (some .long)) rm_X3_counts).room s m ([.ref (ad 0)] : List Value).toArray below meth c H locs 0 0 (MQ below (va_Ql (fun (r : Int64) (u : Int32 × (Nat → Int64) × (Nat → Int32)) => post r u.1 u.2.1 u.2.2) (fun (u : Int32 × (Nat → Int64) × (Nat → Int32)) t => wrQ D dA A (mdl ad dA f_isSaved f_changes u.1 f_length f_fault f_signMany f_at f_place a_g a_kept a_saved a_input a_signs u.2.1 u.2.2 a_walk a_one a_several a_ragged a_nextLine) t) A) ([.ref (ad 0)] : List Value).toArray s 0 0 A) (F0 m 43 ls []) := by
    intro k29 hk29 n
    induction n with
    | zero => intro f_code a_ways a_needs v1 v2 v3 H locs ls hP hD hS hl hw; exact absurd hw id
    | succ n hk43 =>
      intro f_code a_ways a_needs v1 v2 v3 H locs ls hP hD hS hl hw
      generalize hk9 : lpF (fun _ _ _ _ _ _ => False) (w_X3_counts_43 post a_g k29) n = k43 at hk43
      have hw : (w_X3_counts_43 post a_g k29) k43 f_code a_ways a_needs v1 v2 v3 := hk9 ▸ hw
      refine lv_iload_n hx hb dX3_counts_43 rfl (lv_at hl 3 rfl) ?_
      refine lv_aload_n hx hb dX3_counts_44 rfl (lv_at hl 0 rfl) ?_
      refine va_get (D := D) (ci := 2) (v := .ref (ad 1)) (C := RX3) (T := TX3) (N := 20) hx hb hts in_X3 hown hK hP 0 rfl rfl 0 (by decide) (hts _ q1741) (fun _ h9 => h9) rfl dX3_counts_45 ?_
      refine lv_iconst (v := (nI 0)) hx hb dX3_counts_48 (by decide) ?_
      refine k_iald (k := 0) hx hb hK hP 1 0 rfl rfl (clK 0 (by decide)) (inK (by decide) (by decide)) dX3_counts_49 ?_
      refine lv_icmp_ge (tgt := 104) hx hb dX3_counts_50 (by decide) (fun c12 => ?_) (fun c12 => ?_)
      · have hw := hw.1 c12
        refine lv_iinc (v := (v2 + (nI 1))) (lv' := [(2, .int (v2 + (nI 1))), (0, .ref (ad 0)), (1, .int v1), (3, .int v3)]) hx hb dX3_counts_104 hl (k := 2) rfl (congrArg (fun z => v2 + z) (by decide : Int32.ofInt (1) = (nI 1))) (by decide) rfl (fun ls hl => ?_)
        refine lv_goto (tgt := 29) hx hb dX3_counts_107 (by decide) ?_
        exact hk29 f_code a_ways a_needs v1 (v2 + (nI 1)) _ _ _ hP hD hS (lv_sub hl [1, 2, 0] rfl) hw
      · have hw := hw.2 c12
        refine lv_iload_n hx hb dX3_counts_53 rfl (lv_at hl 2 rfl) ?_
        refine lv_iload_n hx hb dX3_counts_54 rfl (lv_at hl 3 rfl) ?_
        refine lv_ishr hx hb dX3_counts_55 ?_
        refine lv_iconst (v := (nI 1)) hx hb dX3_counts_56 (by decide) ?_
        refine lv_iand hx hb dX3_counts_57 ?_
        refine lv_iconst (v := (nI 1)) hx hb dX3_counts_58 (by decide) ?_
        refine lv_icmp_ne (tgt := 98) hx hb dX3_counts_59 (by decide) (fun c13 => ?_) (fun c13 => ?_)
        · have hw := hw.2 c13
          exact hL98 k29 hk29 k43 hk43 f_code a_ways a_needs v1 v2 v3 _ _ _ hP hD hS (lv_sub hl [0, 1, 2, 3] rfl) hw
        · have hw := hw.1 c13
          refine lv_aload_n hx hb dX3_counts_62 rfl (lv_at hl 0 rfl) ?_
          refine va_get (D := D) (ci := 2) (v := .ref (ad 7)) (C := RX3) (T := TX3) (N := 20) hx hb hts in_X3 hown hK hP 0 rfl rfl 12 (by decide) (hts _ q1753) (fun _ h9 => h9) rfl dX3_counts_63 ?_
          refine lv_iload_n hx hb dX3_counts_66 rfl (lv_at hl 3 rfl) ?_
          obtain ⟨h14, hw⟩ := hw
          refine k_iald (k := v3.toNatClampNeg) hx hb hK hP 7 0 rfl rfl rfl h14 dX3_counts_67 ?_
          refine lv_iload_n hx hb dX3_counts_68 rfl (lv_at hl 2 rfl) ?_
          refine lv_iconst (v := (nI 1)) hx hb dX3_counts_69 (by decide) ?_
          refine lv_iload_n hx hb dX3_counts_70 rfl (lv_at hl 3 rfl) ?_
          refine lv_ishl hx hb dX3_counts_71 ?_
          refine lv_ixor hx hb dX3_counts_72 ?_
          refine lv_iconst (v := (-1)) hx hb dX3_counts_73 (by decide) ?_
          refine lv_ixor hx hb dX3_counts_74 ?_
          refine lv_iand hx hb dX3_counts_75 ?_
          refine lv_if_ne (tgt := 98) hx hb dX3_counts_76 (by decide) (fun c15 => ?_) (fun c15 => ?_)
          · have hw := hw.2 c15
            exact hL98 k29 hk29 k43 hk43 f_code a_ways a_needs v1 v2 v3 _ _ _ hP hD hS (lv_sub hl [0, 1, 2, 3] rfl) hw
          · have hw := hw.1 c15
            refine lv_aload_n hx hb dX3_counts_79 rfl (lv_at hl 0 rfl) ?_
            refine va_get (D := D) (ci := 2) (v := .ref (ad 6)) (C := RX3) (T := TX3) (N := 20) hx hb hts in_X3 hown hK hP 0 rfl rfl 11 (by decide) (hts _ q1752) (fun _ h9 => h9) rfl dX3_counts_80 ?_
            refine lv_iload_n hx hb dX3_counts_83 rfl (lv_at hl 2 rfl) ?_
            refine lv_dup2_11 hx hb dX3_counts_84 rfl rfl ?_
            obtain ⟨h16, hw⟩ := hw
            refine k_lald (k := v2.toNatClampNeg) hx hb hK hP 6 2 rfl rfl rfl h16 dX3_counts_85 ?_
            refine lv_aload_n hx hb dX3_counts_86 rfl (lv_at hl 0 rfl) ?_
            refine va_get (D := D) (ci := 2) (v := .ref (ad 6)) (C := RX3) (T := TX3) (N := 20) hx hb hts in_X3 hown hK hP 0 rfl rfl 11 (by decide) (hts _ q1752) (fun _ h9 => h9) rfl dX3_counts_87 ?_
            refine lv_iload_n hx hb dX3_counts_90 rfl (lv_at hl 2 rfl) ?_
            refine lv_iconst (v := (nI 1)) hx hb dX3_counts_91 (by decide) ?_
            refine lv_iload_n hx hb dX3_counts_92 rfl (lv_at hl 3 rfl) ?_
            refine lv_ishl hx hb dX3_counts_93 ?_
            refine lv_ixor hx hb dX3_counts_94 ?_
            obtain ⟨h17, hw⟩ := hw
            refine k_lald (k := (v2 ^^^ ((nI 1) <<< (v3 &&& 31))).toNatClampNeg) hx hb hK hP 6 2 rfl rfl rfl h17 dX3_counts_95 ?_
            refine lv_ladd hx hb dX3_counts_96 ?_
            obtain ⟨h18, hw⟩ := hw
            refine k_last (k := v2.toNatClampNeg) hx hb hK hP hD hS 6 2 rfl rfl rfl h18 dX3_counts_97 (fun H locs hP hD hS => ?_)
            have hP : va_P D vwCl (mdl ad dA f_isSaved f_changes f_code f_length f_fault f_signMany f_at f_place a_g a_kept a_saved a_input a_signs (vp_updL a_ways v2.toNatClampNeg ((a_ways v2.toNatClampNeg) + (a_ways (v2 ^^^ ((nI 1) <<< (v3 &&& 31))).toNatClampNeg))) a_needs a_walk a_one a_several a_ragged a_nextLine) H := hP
            have hD : va_D A (mdl ad dA f_isSaved f_changes f_code f_length f_fault f_signMany f_at f_place a_g a_kept a_saved a_input a_signs (vp_updL a_ways v2.toNatClampNeg ((a_ways v2.toNatClampNeg) + (a_ways (v2 ^^^ ((nI 1) <<< (v3 &&& 31))).toNatClampNeg))) a_needs a_walk a_one a_several a_ragged a_nextLine) := hD
            exact hL98 k29 hk29 k43 hk43 f_code (vp_updL a_ways v2.toNatClampNeg ((a_ways v2.toNatClampNeg) + (a_ways (v2 ^^^ ((nI 1) <<< (v3 &&& 31))).toNatClampNeg))) a_needs v1 v2 v3 _ _ _ hP hD hS (lv_sub hl [0, 1, 2, 3] rfl) hw
  have hL29 : ∀  (n : Nat) (f_code : Int32) (a_ways : (Nat → Int64)) (a_needs : (Nat → Int32)) (v1 : Int32) (v2 : Int32) (H : Heap) (locs : List Loc) (ls : Array Slot), va_P D vwCl (mdl ad dA f_isSaved f_changes f_code f_length f_fault f_signMany f_at f_place a_g a_kept a_saved a_input a_signs a_ways a_needs a_walk a_one a_several a_ragged a_nextLine) H → va_D A (mdl ad dA f_isSaved f_changes f_code f_length f_fault f_signMany f_at f_place a_g a_kept a_saved a_input a_signs a_ways a_needs a_walk a_one a_several a_ragged a_nextLine) → va_S A s.heap H locs → lv_has ls 4 [(0, .ref (ad 0)), (1, .int v1), (2, .int v2)] → lpF (fun _ _ _ _ _ => False) (w_X3_counts_29 post a_g) n f_code a_ways a_needs v1 v2 → W p l e (headSpec (ws_ yX3_counts cX3_counts 4 (some .long)) rm_X3_counts).room s m ([.ref (ad 0)] : List Value).toArray below meth c H locs 0 0 (MQ below (va_Ql (fun (r : Int64) (u : Int32 × (Nat → Int64) × (Nat → Int32)) => post r u.1 u.2.1 u.2.2) (fun (u : Int32 × (Nat → Int64) × (Nat → Int32)) t => wrQ D dA A (mdl ad dA f_isSaved f_changes u.1 f_length f_fault f_signMany f_at f_place a_g a_kept a_saved a_input a_signs u.2.1 u.2.2 a_walk a_one a_several a_ragged a_nextLine) t) A) ([.ref (ad 0)] : List Value).toArray s 0 0 A) (F0 m 29 ls []) := by
    intro  n
    induction n with
    | zero => intro f_code a_ways a_needs v1 v2 H locs ls hP hD hS hl hw; exact absurd hw id
    | succ n hk29 =>
      intro f_code a_ways a_needs v1 v2 H locs ls hP hD hS hl hw
      generalize hk9 : lpF (fun _ _ _ _ _ => False) (w_X3_counts_29 post a_g) n = k29 at hk29
      have hw : (w_X3_counts_29 post a_g) k29 f_code a_ways a_needs v1 v2 := hk9 ▸ hw
      refine lv_iload_n hx hb dX3_counts_29 rfl (lv_at hl 2 rfl) ?_
      refine lv_iload_n hx hb dX3_counts_30 rfl (lv_at hl 1 rfl) ?_
      refine lv_icmp_gt (tgt := 110) hx hb dX3_counts_31 (by decide) (fun c19 => ?_) (fun c19 => ?_)
      · have hw := hw.1 c19
        refine lv_aload_n hx hb dX3_counts_110 rfl (lv_at hl 0 rfl) ?_
        refine va_get (D := D) (ci := 2) (v := .ref (ad 6)) (C := RX3) (T := TX3) (N := 20) hx hb hts in_X3 hown hK hP 0 rfl rfl 11 (by decide) (hts _ q1752) (fun _ h9 => h9) rfl dX3_counts_111 ?_
        refine lv_iload_n hx hb dX3_counts_114 rfl (lv_at hl 1 rfl) ?_
        obtain ⟨h20, hw⟩ := hw
        refine k_lald (k := v1.toNatClampNeg) hx hb hK hP 6 2 rfl rfl rfl h20 dX3_counts_115 ?_
        exact W.lret (v := (a_ways v1.toNatClampNeg)) hx hb hr (fun t ht hW => ⟨⟨(a_ways v1.toNatClampNeg), (f_code, a_ways, a_needs), rfl, hw, by rw [ht]; exact hP, va_K.moved hW.alike hK, hD⟩, hS.F ht⟩) hS.2.2 dX3_counts_116
      · have hw := hw.2 c19
        refine lv_aload_n hx hb dX3_counts_34 rfl (lv_at hl 0 rfl) ?_
        refine va_get (D := D) (ci := 2) (v := .ref (ad 6)) (C := RX3) (T := TX3) (N := 20) hx hb hts in_X3 hown hK hP 0 rfl rfl 11 (by decide) (hts _ q1752) (fun _ h9 => h9) rfl dX3_counts_35 ?_
        refine lv_iload_n hx hb dX3_counts_38 rfl (lv_at hl 2 rfl) ?_
        refine lv_lconst (v := lN 0) hx hb dX3_counts_39 rfl ?_
        obtain ⟨h21, hw⟩ := hw
        refine k_last (k := v2.toNatClampNeg) hx hb hK hP hD hS 6 2 rfl rfl rfl h21 dX3_counts_40 (fun H locs hP hD hS => ?_)
        have hP : va_P D vwCl (mdl ad dA f_isSaved f_changes f_code f_length f_fault f_signMany f_at f_place a_g a_kept a_saved a_input a_signs (vp_updL a_ways v2.toNatClampNeg (lN 0)) a_needs a_walk a_one a_several a_ragged a_nextLine) H := hP
        have hD : va_D A (mdl ad dA f_isSaved f_changes f_code f_length f_fault f_signMany f_at f_place a_g a_kept a_saved a_input a_signs (vp_updL a_ways v2.toNatClampNeg (lN 0)) a_needs a_walk a_one a_several a_ragged a_nextLine) := hD
        refine lv_iconst (v := (nI 0)) hx hb dX3_counts_41 (by decide) ?_
        refine lv_istore_n (lv' := [(3, .int (nI 0)), (0, .ref (ad 0)), (1, .int v1), (2, .int v2)]) hx hb dX3_counts_42 rfl hl (by decide) rfl (fun ls hl => ?_)
        obtain ⟨n, hw⟩ := hw
        exact hL43 k29 hk29 n f_code (vp_updL a_ways v2.toNatClampNeg (lN 0)) a_needs v1 v2 (nI 0) _ _ _ hP hD hS (lv_sub hl [1, 2, 3, 0] rfl) hw
  refine lv_aload_n hx hb dX3_counts_0 rfl (lv_at hl 0 rfl) ?_
  refine lv_iconst (v := (nI 0)) hx hb dX3_counts_1 (by decide) ?_
  refine va_put (D := D) (ci := 2) (v := .int (nI 0)) (ty := .int) (C := RX3) (T := TX3) (N := 20) hx hb hts in_X3 tyX3 tyX3_ok nmX3 hown hK hP hD hS 0 rfl rfl 5 (by decide) (hts _ q1746) (fun _ h9 => h9) rfl (by decide +kernel) rfl rfl (Nat.le_of_ble_eq_true rfl) dX3_counts_2 (fun H locs hP hD hS => ?_)
  have hP : va_P D vwCl (mdl ad dA f_isSaved f_changes (nI 0) f_length f_fault f_signMany f_at f_place a_g a_kept a_saved a_input a_signs a_ways a_needs a_walk a_one a_several a_ragged a_nextLine) H := hP
  have hD : va_D A (mdl ad dA f_isSaved f_changes (nI 0) f_length f_fault f_signMany f_at f_place a_g a_kept a_saved a_input a_signs a_ways a_needs a_walk a_one a_several a_ragged a_nextLine) := hD
  refine lv_aload_n hx hb dX3_counts_5 rfl (lv_at hl 0 rfl) ?_
  refine k_wv (wn := fun (u : (Nat → Int32)) => (mdl ad dA f_isSaved f_changes (nI 0) f_length f_fault f_signMany f_at f_place a_g a_kept a_saved a_input a_signs a_ways u a_walk a_one a_several a_ragged a_nextLine)) (wr := []) (k_wV (As := []) (rest := []) hSx (met_X3_layNeeds l D dA ad _ f_isSaved f_changes (nI 0) f_length f_fault f_signMany f_at f_place a_g a_kept a_saved a_input a_signs a_ways a_needs a_walk a_one a_several a_ragged a_nextLine  _ hw) gX3_100 ⟨rfl, hd_X3_layNeeds⟩ ⟨Nat.le_of_ble_eq_true rfl, Nat.le_of_ble_eq_true rfl⟩ rfl rfl hP hK hD [0, 1, 2, 3, 4, 5, 6, 7, 8, 9, 10, 11, 12] rfl (by decide) rfl 0 rfl rfl rfl rfl hl.1 (Nat.le_of_ble_eq_true rfl) rfl dX3_counts_6 ⟨Nat.le_refl 0, Nat.le_refl 0⟩) hP hD hS hA [0, 1, 2, 3, 4, 5, 6, 7, 8, 9, 10, 11, 12] [] [0, 1, 2, 3, 4, 5, 6, 7, 8, 9, 10, 11, 12] rfl rfl (by decide) (by decide) (by decide) (fun _ => rfl) (fun _ => rfl) (fun u H locs hw _ hP hD hS => ?_)
  obtain ⟨a_needs_22, rfl⟩ : ∃ z, z = u := ⟨_, rfl⟩
  have hP : va_P D vwCl (mdl ad dA f_isSaved f_changes (nI 0) f_length f_fault f_signMany f_at f_place a_g a_kept a_saved a_input a_signs a_ways a_needs_22 a_walk a_one a_several a_ragged a_nextLine) H := hP
  have hD : va_D A (mdl ad dA f_isSaved f_changes (nI 0) f_length f_fault f_signMany f_at f_place a_g a_kept a_saved a_input a_signs a_ways a_needs_22 a_walk a_one a_several a_ragged a_nextLine) := hD
  refine lv_iconst (v := (nI 1)) hx hb dX3_counts_9 (by decide) ?_
  refine lv_aload_n hx hb dX3_counts_10 rfl (lv_at hl 0 rfl) ?_
  refine va_get (D := D) (ci := 2) (v := .ref (ad 1)) (C := RX3) (T := TX3) (N := 20) hx hb hts in_X3 hown hK hP 0 rfl rfl 0 (by decide) (hts _ q1741) (fun _ h9 => h9) rfl dX3_counts_11 ?_
  refine lv_iconst (v := (nI 0)) hx hb dX3_counts_14 (by decide) ?_
  refine k_iald (k := 0) hx hb hK hP 1 0 rfl rfl (clK 0 (by decide)) (inK (by decide) (by decide)) dX3_counts_15 ?_
  refine lv_ishl hx hb dX3_counts_16 ?_
  refine lv_iconst (v := (nI 1)) hx hb dX3_counts_17 (by decide) ?_
  refine lv_isub hx hb dX3_counts_18 ?_
  refine lv_istore_n (lv' := [(1, .int (((nI 1) <<< ((a_g 0) &&& 31)) - (nI 1))), (0, .ref (ad 0))]) hx hb dX3_counts_19 rfl hl (by decide) rfl (fun ls hl => ?_)
  refine lv_aload_n hx hb dX3_counts_20 rfl (lv_at hl 1 rfl) ?_
  refine va_get (D := D) (ci := 2) (v := .ref (ad 6)) (C := RX3) (T := TX3) (N := 20) hx hb hts in_X3 hown hK hP 0 rfl rfl 11 (by decide) (hts _ q1752) (fun _ h9 => h9) rfl dX3_counts_21 ?_
  refine lv_iconst (v := (nI 0)) hx hb dX3_counts_24 (by decide) ?_
  refine lv_lconst (v := lN 1) hx hb dX3_counts_25 rfl ?_
  refine k_last (k := 0) hx hb hK hP hD hS 6 2 rfl rfl (clK 0 (by decide)) (inK (by decide) (by decide)) dX3_counts_26 (fun H locs hP hD hS => ?_)
  have hP : va_P D vwCl (mdl ad dA f_isSaved f_changes (nI 0) f_length f_fault f_signMany f_at f_place a_g a_kept a_saved a_input a_signs (vp_updL a_ways 0 (lN 1)) a_needs_22 a_walk a_one a_several a_ragged a_nextLine) H := hP
  have hD : va_D A (mdl ad dA f_isSaved f_changes (nI 0) f_length f_fault f_signMany f_at f_place a_g a_kept a_saved a_input a_signs (vp_updL a_ways 0 (lN 1)) a_needs_22 a_walk a_one a_several a_ragged a_nextLine) := hD
  refine lv_iconst (v := (nI 1)) hx hb dX3_counts_27 (by decide) ?_
  refine lv_istore_n (lv' := [(2, .int (nI 1)), (1, .int (((nI 1) <<< ((a_g 0) &&& 31)) - (nI 1))), (0, .ref (ad 0))]) hx hb dX3_counts_28 rfl hl (by decide) rfl (fun ls hl => ?_)
  obtain ⟨n, hw⟩ := hw
  exact hL29  n (nI 0) (vp_updL a_ways 0 (lN 1)) a_needs_22 (((nI 1) <<< ((a_g 0) &&& 31)) - (nI 1)) (nI 1) _ _ _ hP hD hS (lv_sub hl [2, 1, 0] rfl) hw
