/-! THE MODEL: its contracts, walked (printed by wip/D-56275w/gen/model.py) -/
def rm_X3_textError : Room := { frames := 36, cells := 0, slots := 0, locals := 722 }
set_option maxHeartbeats 4000000 in
set_option maxRecDepth 100000 in
theorem met_X3_textError (l : Launch) (D : va_G) (dA : Nat → ClassId) (ad : Nat → Nat) (sz : Nat) (f_isSaved : Int32) (f_changes : Int32) (f_code : Int32) (f_length : Int32) (f_fault : Int32) (f_signMany : Int32) (f_at : Int32) (f_place : Int32) (a_g : (Nat → Int32)) (a_kept : (Nat → Int32)) (a_saved : (Nat → Int32)) (a_input : (Nat → Int32)) (a_signs : (Nat → Int32)) (a_ways : (Nat → Int64)) (a_needs : (Nat → Int32)) (a_walk : (Nat → Int32)) (a_one : (Nat → Int32)) (a_several : (Nat → Int32)) (a_ragged : (Nat → Int32)) (a_nextLine : (Nat → Int32))  (post : Int32 → Int32 → Int32 → Prop) (hw : w_X3_textError post f_code f_length f_at a_input) : Met l yX3_textError (ws_ yX3_textError cX3_textError 1 (some .int)) rm_X3_textError (va_Pc [.ref (ad 0)] (wrB D dA sz (mdl ad dA f_isSaved f_changes f_code f_length f_fault f_signMany f_at f_place a_g a_kept a_saved a_input a_signs a_ways a_needs a_walk a_one a_several a_ragged a_nextLine))) (va_Qi (fun (r : Int32) (u : Int32 × Int32) => post r u.1 u.2) (fun (u : Int32 × Int32) t => wrQ D dA (va_A (mdl ad dA f_isSaved f_changes f_code f_length f_fault f_signMany f_at f_place a_g a_kept a_saved a_input a_signs a_ways a_needs a_walk a_one a_several a_ragged a_nextLine) sz) (mdl ad dA f_isSaved f_changes u.1 f_length f_fault f_signMany u.2 f_place a_g a_kept a_saved a_input a_signs a_ways a_needs a_walk a_one a_several a_ragged a_nextLine) t) (va_A (mdl ad dA f_isSaved f_changes f_code f_length f_fault f_signMany f_at f_place a_g a_kept a_saved a_input a_signs a_ways a_needs a_walk a_one a_several a_ragged a_nextLine) sz)) 0 0 (va_A (mdl ad dA f_isSaved f_changes f_code f_length f_fault f_signMany f_at f_place a_g a_kept a_saved a_input a_signs a_ways a_needs a_walk a_one a_several a_ragged a_nextLine) sz) := by
  refine Met.ofW (cc := cX3_textError) (maxL := 1) (ret := (some .int)) (by decide) rfl ?_
  intro p e s m args below meth c s₁ B hml hv
  obtain ⟨rfl, hsz, hP, hK, hD0⟩ := hv
  have hx := B.exec
  have hb := B.bytes
  have hr := B.returns
  have hts := atoms_spec (ws := (ws_ yX3_textError cX3_textError 1 (some .int))) B.pre
  have hts : ∀ w ∈ lw_all, w.before _ s = true := fun w h => hts w (List.mem_cons_of_mem _ h)
  have hown : s.vm.findClass RX3 = some m.cls := findClass_of_methodNamed B.named
  have hlocks := B.notSynchronized
  have hSx : CallFix p m c cX3_textError 1 s _ lw_all RX3 := ⟨hx, hb, hml, hown, hts⟩
  subst hsz
  have hD := hD0.self (sz := s.heap.size)
  generalize hAe : va_A (mdl ad dA f_isSaved f_changes f_code f_length f_fault f_signMany f_at f_place a_g a_kept a_saved a_input a_signs a_ways a_needs a_walk a_one a_several a_ragged a_nextLine) s.heap.size = A at hD ⊢
  have hA : ∀ q : Nat, s.heap.size ≤ q → A q := fun q h => by rw [← hAe]; exact Or.inr h
  have hS : va_S A s.heap s.heap [] := va_S.rf
  have hl := lv_entry ([.ref (ad 0)]) (n := 1) (Nat.le_of_ble_eq_true rfl)
  rw [lg_entry_eq]
  generalize (lg_sl ([.ref (ad 0)]) ++ List.replicate (1 - (lg_sl ([.ref (ad 0)])).length) Slot.unset).toArray = ls at hl ⊢
  have hl : lv_has ls 1 [(0, .ref (ad 0))] := hl
  have hL13 : ∀  (f_code : Int32) (f_at : Int32) (s1 : Int32) (H : Heap) (locs : List Loc) (ls : Array Slot), va_P D vwCl (mdl ad dA f_isSaved f_changes f_code f_length f_fault f_signMany f_at f_place a_g a_kept a_saved a_input a_signs a_ways a_needs a_walk a_one a_several a_ragged a_nextLine) H → va_D A (mdl ad dA f_isSaved f_changes f_code f_length f_fault f_signMany f_at f_place a_g a_kept a_saved a_input a_signs a_ways a_needs a_walk a_one a_several a_ragged a_nextLine) → va_S A s.heap H locs → lv_has ls 1 [(0, .ref (ad 0))] → (w_X3_textError_13 post f_length a_input) f_code f_at s1 → W p l e (headSpec (ws_ yX3_textError cX3_textError 1 (some .int)) rm_X3_textError).room s m ([.ref (ad 0)] : List Value).toArray below meth c H locs 0 0 (MQ below (va_Qi (fun (r : Int32) (u : Int32 × Int32) => post r u.1 u.2) (fun (u : Int32 × Int32) t => wrQ D dA A (mdl ad dA f_isSaved f_changes u.1 f_length f_fault f_signMany u.2 f_place a_g a_kept a_saved a_input a_signs a_ways a_needs a_walk a_one a_several a_ragged a_nextLine) t) A) ([.ref (ad 0)] : List Value).toArray s 0 0 A) (F0 m 13 ls [.int s1, .ref (ad 0)]) := by
      intro  f_code f_at s1 H locs ls hP hD hS hl hw
      refine k_wi (wn := fun (u : Int32) => (mdl ad dA f_isSaved f_changes u f_length f_fault f_signMany f_at f_place a_g a_kept a_saved a_input a_signs a_ways a_needs a_walk a_one a_several a_ragged a_nextLine)) (wr := []) (k_wV (As := [.int s1]) (rest := []) hSx (met_X3_fails l D dA ad _ f_isSaved f_changes f_code f_length f_fault f_signMany f_at f_place a_g a_kept a_saved a_input a_signs a_ways a_needs a_walk a_one a_several a_ragged a_nextLine s1 _ hw) gX3_70 ⟨rfl, hd_X3_fails⟩ ⟨Nat.le_of_ble_eq_true rfl, Nat.le_of_ble_eq_true rfl⟩ rfl rfl hP hK hD [0, 1, 2, 3, 4, 5, 6, 7, 8, 9, 10, 11, 12] rfl (by decide) rfl 0 rfl rfl rfl rfl hl.1 (Nat.le_of_ble_eq_true rfl) rfl dX3_textError_13 ⟨Nat.le_refl 0, Nat.le_refl 0⟩) hP hD hS hA [0, 1, 2, 3, 4, 5, 6, 7, 8, 9, 10, 11, 12] [] [0, 1, 2, 3, 4, 5, 6, 7, 8, 9, 10, 11, 12] rfl rfl (by decide) (by decide) (by decide) (fun _ => rfl) (fun _ => rfl) (fun r7 u H locs hw _ hP hD hS => ?_)
      obtain ⟨f_code_8, rfl⟩ : ∃ z, z = u := ⟨_, rfl⟩
      have hP : va_P D vwCl (mdl ad dA f_isSaved f_changes f_code_8 f_length f_fault f_signMany f_at f_place a_g a_kept a_saved a_input a_signs a_ways a_needs a_walk a_one a_several a_ragged a_nextLine) H := hP
      have hD : va_D A (mdl ad dA f_isSaved f_changes f_code_8 f_length f_fault f_signMany f_at f_place a_g a_kept a_saved a_input a_signs a_ways a_needs a_walk a_one a_several a_ragged a_nextLine) := hD
      refine lv_if_eq (tgt := 23) hx hb dX3_textError_16 (by decide) (fun c9 => ?_) (fun c9 => ?_)
      · have hw := hw.1 c9
        refine lv_aload_n hx hb dX3_textError_23 rfl (lv_at hl 0 rfl) ?_
        refine va_get (D := D) (ci := 2) (v := .int f_at) (C := RX3) (T := TX3) (N := 20) hx hb hts in_X3 hown hK hP 0 rfl rfl 14 (by decide) (hts _ q1755) (fun _ h9 => h9) rfl dX3_textError_24 ?_
        exact W.iret (v := f_at) hx hb hr (fun t ht hW => ⟨⟨f_at, (f_code_8, f_at), rfl, hw, by rw [ht]; exact hP, va_K.moved hW.alike hK, hD⟩, hS.F ht⟩) hS.2.2 dX3_textError_27
      · have hw := hw.2 c9
        refine lv_iconst (v := (nI 0)) hx hb dX3_textError_19 (by decide) ?_
        refine lv_goto (tgt := 27) hx hb dX3_textError_20 (by decide) ?_
        exact W.iret (v := (nI 0)) hx hb hr (fun t ht hW => ⟨⟨(nI 0), (f_code_8, f_at), rfl, hw, by rw [ht]; exact hP, va_K.moved hW.alike hK, hD⟩, hS.F ht⟩) hS.2.2 dX3_textError_27
  refine lv_aload_n hx hb dX3_textError_0 rfl (lv_at hl 0 rfl) ?_
  refine lv_aload_n hx hb dX3_textError_1 rfl (lv_at hl 0 rfl) ?_
  refine k_wi (wn := fun (u : Int32) => (mdl ad dA f_isSaved f_changes f_code f_length f_fault f_signMany u f_place a_g a_kept a_saved a_input a_signs a_ways a_needs a_walk a_one a_several a_ragged a_nextLine)) (wr := []) (k_wV (As := []) (rest := [.ref (ad 0)]) hSx (met_X3_reads l D dA ad _ f_isSaved f_changes f_code f_length f_fault f_signMany f_at f_place a_g a_kept a_saved a_input a_signs a_ways a_needs a_walk a_one a_several a_ragged a_nextLine  _ hw) gX3_131 ⟨rfl, hd_X3_reads⟩ ⟨Nat.le_of_ble_eq_true rfl, Nat.le_of_ble_eq_true rfl⟩ rfl rfl hP hK hD [0, 1, 2, 3, 4, 5, 6, 7, 8, 9, 10, 11, 12] rfl (by decide) rfl 0 rfl rfl rfl rfl hl.1 (Nat.le_of_ble_eq_true rfl) rfl dX3_textError_2 ⟨Nat.le_refl 0, Nat.le_refl 0⟩) hP hD hS hA [0, 1, 2, 3, 4, 5, 6, 7, 8, 9, 10, 11, 12] [] [0, 1, 2, 3, 4, 5, 6, 7, 8, 9, 10, 11, 12] rfl rfl (by decide) (by decide) (by decide) (fun _ => rfl) (fun _ => rfl) (fun r10 u H locs hw _ hP hD hS => ?_)
  obtain ⟨f_at_11, rfl⟩ : ∃ z, z = u := ⟨_, rfl⟩
  have hP : va_P D vwCl (mdl ad dA f_isSaved f_changes f_code f_length f_fault f_signMany f_at_11 f_place a_g a_kept a_saved a_input a_signs a_ways a_needs a_walk a_one a_several a_ragged a_nextLine) H := hP
  have hD : va_D A (mdl ad dA f_isSaved f_changes f_code f_length f_fault f_signMany f_at_11 f_place a_g a_kept a_saved a_input a_signs a_ways a_needs a_walk a_one a_several a_ragged a_nextLine) := hD
  refine lv_if_eq (tgt := 12) hx hb dX3_textError_5 (by decide) (fun c12 => ?_) (fun c12 => ?_)
  · have hw := hw.1 c12
    refine lv_iconst (v := (nI 0)) hx hb dX3_textError_12 (by decide) ?_
    exact hL13  f_code f_at_11 (nI 0) _ _ _ hP hD hS (lv_sub hl [0] rfl) hw
  · have hw := hw.2 c12
    refine lv_iconst (v := (nI 1)) hx hb dX3_textError_8 (by decide) ?_
    refine lv_goto (tgt := 13) hx hb dX3_textError_9 (by decide) ?_
    exact hL13  f_code f_at_11 (nI 1) _ _ _ hP hD hS (lv_sub hl [0] rfl) hw
def rm_X3_row : Room := { frames := 0, cells := 0, slots := 0, locals := 0 }
set_option maxHeartbeats 4000000 in
set_option maxRecDepth 100000 in
theorem met_X3_row (l : Launch) (D : va_G) (dA : Nat → ClassId) (ad : Nat → Nat) (f_isSaved : Int32) (f_changes : Int32) (f_code : Int32) (f_length : Int32) (f_fault : Int32) (f_signMany : Int32) (f_at : Int32) (f_place : Int32) (a_g : (Nat → Int32)) (a_kept : (Nat → Int32)) (a_saved : (Nat → Int32)) (a_input : (Nat → Int32)) (a_signs : (Nat → Int32)) (a_ways : (Nat → Int64)) (a_needs : (Nat → Int32)) (a_walk : (Nat → Int32)) (a_one : (Nat → Int32)) (a_several : (Nat → Int32)) (a_ragged : (Nat → Int32)) (a_nextLine : (Nat → Int32)) (p0 : Int32) (post : Int32 → Prop) (hw : w_X3_row post p0) : Met l yX3_row (ws_ yX3_row cX3_row 2 (some .int)) rm_X3_row (va_Pc [.ref (ad 0), .int p0] (rdB D dA (mdl ad dA f_isSaved f_changes f_code f_length f_fault f_signMany f_at f_place a_g a_kept a_saved a_input a_signs a_ways a_needs a_walk a_one a_several a_ragged a_nextLine))) (vp_Si (fun r => post r)) 0 0 (fun _ => False) := by
  refine Met.ofW (cc := cX3_row) (maxL := 2) (ret := (some .int)) (by decide) rfl ?_
  intro p e s m args below meth c s₁ B hml hv
  obtain ⟨rfl, hP, hK⟩ := hv
  have hx := B.exec
  have hb := B.bytes
  have hr := B.returns
  have hts := atoms_spec (ws := (ws_ yX3_row cX3_row 2 (some .int))) B.pre
  have hts : ∀ w ∈ lw_all, w.before _ s = true := fun w h => hts w (List.mem_cons_of_mem _ h)
  have hown : s.vm.findClass RX3 = some m.cls := findClass_of_methodNamed B.named
  have hlocks := B.notSynchronized
  have hSx : CallFix p m c cX3_row 2 s _ lw_all RX3 := ⟨hx, hb, hml, hown, hts⟩
  have hl := lv_entry ([.ref (ad 0), .int p0]) (n := 2) (Nat.le_of_ble_eq_true rfl)
  rw [lg_entry_eq]
  generalize (lg_sl ([.ref (ad 0), .int p0]) ++ List.replicate (2 - (lg_sl ([.ref (ad 0), .int p0])).length) Slot.unset).toArray = ls at hl ⊢
  have hl : lv_has ls 2 [(0, .ref (ad 0)), (1, .int p0)] := hl
  refine lv_bipush (v := (nI 32)) hx hb dX3_row_0 (by decide) ?_
  refine lv_bipush (v := (nI 26)) hx hb dX3_row_2 (by decide) ?_
  refine lv_iload_n hx hb dX3_row_4 rfl (lv_at hl 1 rfl) ?_
  refine lv_imul hx hb dX3_row_5 ?_
  refine lv_iadd hx hb dX3_row_6 ?_
  exact W.iret (v := ((nI 32) + ((nI 26) * p0))) hx hb hr (fun t ht hW => ⟨((nI 32) + ((nI 26) * p0)), rfl, hw, ht⟩) (fun _ h => by cases h) dX3_row_7
def rm_X3_least : Room := { frames := 0, cells := 0, slots := 0, locals := 0 }
set_option maxHeartbeats 4000000 in
set_option maxRecDepth 100000 in
theorem met_X3_least (l : Launch)   (p0 : Int32) (p1 : Int32) (post : Int32 → Prop) (hw : w_X3_least post p0 p1) : Met l yX3_least (ws_ yX3_least cX3_least 2 (some .int)) rm_X3_least (va_Pc [.int p0, .int p1] (fun _ => True)) (vp_Si (fun r => post r)) 0 0 (fun _ => False) := by
  refine Met.ofW (cc := cX3_least) (maxL := 2) (ret := (some .int)) (by decide) rfl ?_
  intro p e s m args below meth c s₁ B hml hv
  obtain ⟨rfl, -⟩ := hv
  have hx := B.exec
  have hb := B.bytes
  have hr := B.returns
  have hts := atoms_spec (ws := (ws_ yX3_least cX3_least 2 (some .int))) B.pre
  have hts : ∀ w ∈ lw_all, w.before _ s = true := fun w h => hts w (List.mem_cons_of_mem _ h)
  have hown : s.vm.findClass RX3 = some m.cls := findClass_of_methodNamed B.named
  have hlocks := B.notSynchronized
  have hSx : CallFix p m c cX3_least 2 s _ lw_all RX3 := ⟨hx, hb, hml, hown, hts⟩
  have hl := lv_entry ([.int p0, .int p1]) (n := 2) (Nat.le_of_ble_eq_true rfl)
  rw [lg_entry_eq]
  generalize (lg_sl ([.int p0, .int p1]) ++ List.replicate (2 - (lg_sl ([.int p0, .int p1])).length) Slot.unset).toArray = ls at hl ⊢
  have hl : lv_has ls 2 [(0, .int p0), (1, .int p1)] := hl
  refine lv_iload_n hx hb dX3_least_0 rfl (lv_at hl 0 rfl) ?_
  refine lv_iload_n hx hb dX3_least_1 rfl (lv_at hl 1 rfl) ?_
  refine lv_icmp_ge (tgt := 9) hx hb dX3_least_2 (by decide) (fun c2 => ?_) (fun c2 => ?_)
  · have hw := hw.1 c2
    refine lv_iload_n hx hb dX3_least_9 rfl (lv_at hl 1 rfl) ?_
    exact W.iret (v := p1) hx hb hr (fun t ht hW => ⟨p1, rfl, hw, ht⟩) (fun _ h => by cases h) dX3_least_10
  · have hw := hw.2 c2
    refine lv_iload_n hx hb dX3_least_5 rfl (lv_at hl 0 rfl) ?_
    refine lv_goto (tgt := 10) hx hb dX3_least_6 (by decide) ?_
    exact W.iret (v := p0) hx hb hr (fun t ht hW => ⟨p0, rfl, hw, ht⟩) (fun _ h => by cases h) dX3_least_10
theorem gX3_154 : GoodIn lw_all (wsV RX3 154 RX3 yX3_row (ws_ yX3_row cX3_row 2 (some .int))) := lw_V q1990 q1992 qs54 q84 q1993
theorem hd_X3_row : yX3_row.cls ≠ "java/lang/invoke/MethodHandle" ∧ yX3_row.cls ≠ "java/lang/invoke/VarHandle" ∧ (parseMethodDescriptor yX3_row.desc).map (fun d => d.parameters.length) = some 1 := by decide +kernel
theorem gX3_157 : GoodIn lw_all (va_wsS RX3 157 yX3_least (ws_ yX3_least cX3_least 2 (some .int))) := lw_S q1994 q1995 q84 q1996
theorem hd_X3_least : yX3_least.cls ≠ "java/lang/invoke/MethodHandle" ∧ yX3_least.cls ≠ "java/lang/invoke/VarHandle" ∧ (parseMethodDescriptor yX3_least.desc).map (fun d => d.parameters.length) = some 2 := by decide +kernel
def rm_X3_submit : Room := { frames := 36, cells := 0, slots := 0, locals := 722 }
set_option maxHeartbeats 4000000 in
set_option maxRecDepth 100000 in
theorem met_X3_submit (l : Launch) (D : va_G) (dA : Nat → ClassId) (ad : Nat → Nat) (sz : Nat) (f_isSaved : Int32) (f_changes : Int32) (f_code : Int32) (f_length : Int32) (f_fault : Int32) (f_signMany : Int32) (f_at : Int32) (f_place : Int32) (a_g : (Nat → Int32)) (a_kept : (Nat → Int32)) (a_saved : (Nat → Int32)) (a_input : (Nat → Int32)) (a_signs : (Nat → Int32)) (a_ways : (Nat → Int64)) (a_needs : (Nat → Int32)) (a_walk : (Nat → Int32)) (a_one : (Nat → Int32)) (a_several : (Nat → Int32)) (a_ragged : (Nat → Int32)) (a_nextLine : (Nat → Int32)) (p0 : Int32) (post : Int32 → Int32 → Int32 → Int32 → Int32 → Int32 → (Nat → Int32) → (Nat → Int32) → Prop) (hw : w_X3_submit post f_changes f_code f_length f_fault f_at a_g a_kept a_input p0) : Met l yX3_submit (ws_ yX3_submit cX3_submit 8 (some .int)) rm_X3_submit (va_Pc [.ref (ad 0), .int p0] (wrB D dA sz (mdl ad dA f_isSaved f_changes f_code f_length f_fault f_signMany f_at f_place a_g a_kept a_saved a_input a_signs a_ways a_needs a_walk a_one a_several a_ragged a_nextLine))) (va_Qi (fun (r : Int32) (u : Int32 × Int32 × Int32 × Int32 × Int32 × (Nat → Int32) × (Nat → Int32)) => post r u.1 u.2.1 u.2.2.1 u.2.2.2.1 u.2.2.2.2.1 u.2.2.2.2.2.1 u.2.2.2.2.2.2) (fun (u : Int32 × Int32 × Int32 × Int32 × Int32 × (Nat → Int32) × (Nat → Int32)) t => wrQ D dA (va_A (mdl ad dA f_isSaved f_changes f_code f_length f_fault f_signMany f_at f_place a_g a_kept a_saved a_input a_signs a_ways a_needs a_walk a_one a_several a_ragged a_nextLine) sz) (mdl ad dA f_isSaved u.1 u.2.1 u.2.2.1 u.2.2.2.1 f_signMany u.2.2.2.2.1 f_place u.2.2.2.2.2.1 u.2.2.2.2.2.2 a_saved a_input a_signs a_ways a_needs a_walk a_one a_several a_ragged a_nextLine) t) (va_A (mdl ad dA f_isSaved f_changes f_code f_length f_fault f_signMany f_at f_place a_g a_kept a_saved a_input a_signs a_ways a_needs a_walk a_one a_several a_ragged a_nextLine) sz)) 0 0 (va_A (mdl ad dA f_isSaved f_changes f_code f_length f_fault f_signMany f_at f_place a_g a_kept a_saved a_input a_signs a_ways a_needs a_walk a_one a_several a_ragged a_nextLine) sz) := by
  refine Met.ofW (cc := cX3_submit) (maxL := 8) (ret := (some .int)) (by decide) rfl ?_
  intro p e s m args below meth c s₁ B hml hv
  obtain ⟨rfl, hsz, hP, hK, hD0⟩ := hv
  have hx := B.exec
  have hb := B.bytes
  have hr := B.returns
  have hts := atoms_spec (ws := (ws_ yX3_submit cX3_submit 8 (some .int))) B.pre
  have hts : ∀ w ∈ lw_all, w.before _ s = true := fun w h => hts w (List.mem_cons_of_mem _ h)
  have hown : s.vm.findClass RX3 = some m.cls := findClass_of_methodNamed B.named
  have hlocks := B.notSynchronized
  have hSx : CallFix p m c cX3_submit 8 s _ lw_all RX3 := ⟨hx, hb, hml, hown, hts⟩
  subst hsz
  have hD := hD0.self (sz := s.heap.size)
  generalize hAe : va_A (mdl ad dA f_isSaved f_changes f_code f_length f_fault f_signMany f_at f_place a_g a_kept a_saved a_input a_signs a_ways a_needs a_walk a_one a_several a_ragged a_nextLine) s.heap.size = A at hD ⊢
  have hA : ∀ q : Nat, s.heap.size ≤ q → A q := fun q h => by rw [← hAe]; exact Or.inr h
  have hS : va_S A s.heap s.heap [] := va_S.rf
  have hl := lv_entry ([.ref (ad 0), .int p0]) (n := 8) (Nat.le_of_ble_eq_true rfl)
  rw [lg_entry_eq]
  generalize (lg_sl ([.ref (ad 0), .int p0]) ++ List.replicate (8 - (lg_sl ([.ref (ad 0), .int p0])).length) Slot.unset).toArray = ls at hl ⊢
  have hl : lv_has ls 8 [(0, .ref (ad 0)), (1, .int p0)] := hl
  have hL198 : ∀ (k116 : Int32 → Int32 → Int32 → Int32 → Int32 → (Nat → Int32) → (Nat → Int32) → Int32 → Int32 → Int32 → Int32 → Int32 → Int32 → Prop) (hk116 : ∀ (f_changes : Int32) (f_code : Int32) (f_length : Int32) (f_fault : Int32) (f_at : Int32) (a_g : (Nat → Int32)) (a_kept : (Nat → Int32)) (v1 : Int32) (v3 : Int32) (v4 : Int32) (v5 : Int32) (v6 : Int32) (v7 : Int32) (H : Heap) (locs : List Loc) (ls : Array Slot), va_P D vwCl (mdl ad dA f_isSaved f_changes f_code f_length f_fault f_signMany f_at f_place a_g a_kept a_saved a_input a_signs a_ways a_needs a_walk a_one a_several a_ragged a_nextLine) H → va_D A (mdl ad dA f_isSaved f_changes f_code f_length f_fault f_signMany f_at f_place a_g a_kept a_saved a_input a_signs a_ways a_needs a_walk a_one a_several a_ragged a_nextLine) → va_S A s.heap H locs → lv_has ls 8 [(0, .ref (ad 0)), (1, .int v1), (3, .int v3), (4, .int v4), (5, .int v5), (6, .int v6), (7, .int v7)] → k116 f_changes f_code f_length f_fault f_at a_g a_kept v1 v3 v4 v5 v6 v7 → W p l e (headSpec (ws_ yX3_submit cX3_submit 8 (some .int)) rm_X3_submit).room s m ([.ref (ad 0), .int p0] : List Value).toArray below meth c H locs 0 0 (MQ below (va_Qi (fun (r : Int32) (u : Int32 × Int32 × Int32 × Int32 × Int32 × (Nat → Int32) × (Nat → Int32)) => post r u.1 u.2.1 u.2.2.1 u.2.2.2.1 u.2.2.2.2.1 u.2.2.2.2.2.1 u.2.2.2.2.2.2) (fun (u : Int32 × Int32 × Int32 × Int32 × Int32 × (Nat → Int32) × (Nat → Int32)) t => wrQ D dA A (mdl ad dA f_isSaved u.1 u.2.1 u.2.2.1 u.2.2.2.1 f_signMany u.2.2.2.2.1 f_place u.2.2.2.2.2.1 u.2.2.2.2.2.2 a_saved a_input a_signs a_ways a_needs a_walk a_one a_several a_ragged a_nextLine) t) A) ([.ref (ad 0), .int p0] : List Value).toArray s 0 0 A) (F0 m 116 ls [])) (f_changes : Int32) (f_code : Int32) (f_length : Int32) (f_fault : Int32) (f_at : Int32) (a_g : (Nat → Int32)) (a_kept : (Nat → Int32)) (v1 : Int32) (v3 : Int32) (v4 : Int32) (v5 : Int32) (v6 : Int32) (v7 : Int32) (H : Heap) (locs : List Loc) (ls : Array Slot), va_P D vwCl (mdl ad dA f_isSaved f_changes f_code f_length f_fault f_signMany f_at f_place a_g a_kept a_saved a_input a_signs a_ways a_needs a_walk a_one a_several a_ragged a_nextLine) H → va_D A (mdl ad dA f_isSaved f_changes f_code f_length f_fault f_signMany f_at f_place a_g a_kept a_saved a_input a_signs a_ways a_needs a_walk a_one a_several a_ragged a_nextLine) → va_S A s.heap H locs → lv_has ls 8 [(0, .ref (ad 0)), (1, .int v1), (3, .int v3), (4, .int v4), (5, .int v5), (6, .int v6), (7, .int v7)] → (w_X3_submit_198 post a_input k116) f_changes f_code f_length f_fault f_at a_g a_kept v1 v3 v4 v5 v6 v7 → W p l e (headSpec (ws_ yX3_submit cX3_submit 8 (some .int)) rm_X3_submit).room s m ([.ref (ad 0), .int p0] : List Value).toArray below meth c H locs 0 0 (MQ below (va_Qi (fun (r : Int32) (u : Int32 × Int32 × Int32 × Int32 × Int32 × (Nat → Int32) × (Nat → Int32)) => post r u.1 u.2.1 u.2.2.1 u.2.2.2.1 u.2.2.2.2.1 u.2.2.2.2.2.1 u.2.2.2.2.2.2) (fun (u : Int32 × Int32 × Int32 × Int32 × Int32 × (Nat → Int32) × (Nat → Int32)) t => wrQ D dA A (mdl ad dA f_isSaved u.1 u.2.1 u.2.2.1 u.2.2.2.1 f_signMany u.2.2.2.2.1 f_place u.2.2.2.2.2.1 u.2.2.2.2.2.2 a_saved a_input a_signs a_ways a_needs a_walk a_one a_several a_ragged a_nextLine) t) A) ([.ref (ad 0), .int p0] : List Value).toArray s 0 0 A) (F0 m 198 ls []) := by
      intro k116 hk116 f_changes f_code f_length f_fault f_at a_g a_kept v1 v3 v4 v5 v6 v7 H locs ls hP hD hS hl hw
      refine lv_iinc (v := (v7 + (nI 1))) (lv' := [(7, .int (v7 + (nI 1))), (0, .ref (ad 0)), (1, .int v1), (3, .int v3), (4, .int v4), (5, .int v5), (6, .int v6)]) hx hb dX3_submit_198 hl (k := 6) rfl (congrArg (fun z => v7 + z) (by decide : Int32.ofInt (1) = (nI 1))) (by decide) rfl (fun ls hl => ?_)
      refine lv_goto (tgt := 116) hx hb dX3_submit_201 (by decide) ?_
      exact hk116 f_changes f_code f_length f_fault f_at a_g a_kept v1 v3 v4 v5 v6 (v7 + (nI 1)) _ _ _ hP hD hS (lv_sub hl [1, 2, 3, 4, 5, 6, 0] rfl) hw
  have hL195 : ∀ (k116 : Int32 → Int32 → Int32 → Int32 → Int32 → (Nat → Int32) → (Nat → Int32) → Int32 → Int32 → Int32 → Int32 → Int32 → Int32 → Prop) (hk116 : ∀ (f_changes : Int32) (f_code : Int32) (f_length : Int32) (f_fault : Int32) (f_at : Int32) (a_g : (Nat → Int32)) (a_kept : (Nat → Int32)) (v1 : Int32) (v3 : Int32) (v4 : Int32) (v5 : Int32) (v6 : Int32) (v7 : Int32) (H : Heap) (locs : List Loc) (ls : Array Slot), va_P D vwCl (mdl ad dA f_isSaved f_changes f_code f_length f_fault f_signMany f_at f_place a_g a_kept a_saved a_input a_signs a_ways a_needs a_walk a_one a_several a_ragged a_nextLine) H → va_D A (mdl ad dA f_isSaved f_changes f_code f_length f_fault f_signMany f_at f_place a_g a_kept a_saved a_input a_signs a_ways a_needs a_walk a_one a_several a_ragged a_nextLine) → va_S A s.heap H locs → lv_has ls 8 [(0, .ref (ad 0)), (1, .int v1), (3, .int v3), (4, .int v4), (5, .int v5), (6, .int v6), (7, .int v7)] → k116 f_changes f_code f_length f_fault f_at a_g a_kept v1 v3 v4 v5 v6 v7 → W p l e (headSpec (ws_ yX3_submit cX3_submit 8 (some .int)) rm_X3_submit).room s m ([.ref (ad 0), .int p0] : List Value).toArray below meth c H locs 0 0 (MQ below (va_Qi (fun (r : Int32) (u : Int32 × Int32 × Int32 × Int32 × Int32 × (Nat → Int32) × (Nat → Int32)) => post r u.1 u.2.1 u.2.2.1 u.2.2.2.1 u.2.2.2.2.1 u.2.2.2.2.2.1 u.2.2.2.2.2.2) (fun (u : Int32 × Int32 × Int32 × Int32 × Int32 × (Nat → Int32) × (Nat → Int32)) t => wrQ D dA A (mdl ad dA f_isSaved u.1 u.2.1 u.2.2.1 u.2.2.2.1 f_signMany u.2.2.2.2.1 f_place u.2.2.2.2.2.1 u.2.2.2.2.2.2 a_saved a_input a_signs a_ways a_needs a_walk a_one a_several a_ragged a_nextLine) t) A) ([.ref (ad 0), .int p0] : List Value).toArray s 0 0 A) (F0 m 116 ls [])) (f_changes : Int32) (f_code : Int32) (f_length : Int32) (f_fault : Int32) (f_at : Int32) (a_g : (Nat → Int32)) (a_kept : (Nat → Int32)) (v1 : Int32) (v3 : Int32) (v4 : Int32) (v5 : Int32) (v7 : Int32) (s0 : Int32) (s1 : Int32) (H : Heap) (locs : List Loc) (ls : Array Slot), va_P D vwCl (mdl ad dA f_isSaved f_changes f_code f_length f_fault f_signMany f_at f_place a_g a_kept a_saved a_input a_signs a_ways a_needs a_walk a_one a_several a_ragged a_nextLine) H → va_D A (mdl ad dA f_isSaved f_changes f_code f_length f_fault f_signMany f_at f_place a_g a_kept a_saved a_input a_signs a_ways a_needs a_walk a_one a_several a_ragged a_nextLine) → va_S A s.heap H locs → lv_has ls 8 [(0, .ref (ad 0)), (1, .int v1), (3, .int v3), (4, .int v4), (5, .int v5), (7, .int v7)] → (w_X3_submit_195 post a_input k116) f_changes f_code f_length f_fault f_at a_g a_kept v1 v3 v4 v5 v7 s0 s1 → W p l e (headSpec (ws_ yX3_submit cX3_submit 8 (some .int)) rm_X3_submit).room s m ([.ref (ad 0), .int p0] : List Value).toArray below meth c H locs 0 0 (MQ below (va_Qi (fun (r : Int32) (u : Int32 × Int32 × Int32 × Int32 × Int32 × (Nat → Int32) × (Nat → Int32)) => post r u.1 u.2.1 u.2.2.1 u.2.2.2.1 u.2.2.2.2.1 u.2.2.2.2.2.1 u.2.2.2.2.2.2) (fun (u : Int32 × Int32 × Int32 × Int32 × Int32 × (Nat → Int32) × (Nat → Int32)) t => wrQ D dA A (mdl ad dA f_isSaved u.1 u.2.1 u.2.2.1 u.2.2.2.1 f_signMany u.2.2.2.2.1 f_place u.2.2.2.2.2.1 u.2.2.2.2.2.2 a_saved a_input a_signs a_ways a_needs a_walk a_one a_several a_ragged a_nextLine) t) A) ([.ref (ad 0), .int p0] : List Value).toArray s 0 0 A) (F0 m 195 ls [.int s1, .int s0]) := by
      intro k116 hk116 f_changes f_code f_length f_fault f_at a_g a_kept v1 v3 v4 v5 v7 s0 s1 H locs ls hP hD hS hl hw
      refine lv_iadd hx hb dX3_submit_195 ?_
      refine lv_istore (lv' := [(6, .int (s0 + s1)), (0, .ref (ad 0)), (1, .int v1), (3, .int v3), (4, .int v4), (5, .int v5), (7, .int v7)]) hx hb dX3_submit_196 hl (by decide) rfl (fun ls hl => ?_)
      exact hL198 k116 hk116 f_changes f_code f_length f_fault f_at a_g a_kept v1 v3 v4 v5 (s0 + s1) v7 _ _ _ hP hD hS (lv_sub hl [1, 2, 3, 4, 5, 0, 6] rfl) hw
  have hL116 : ∀  (n : Nat) (f_changes : Int32) (f_code : Int32) (f_length : Int32) (f_fault : Int32) (f_at : Int32) (a_g : (Nat → Int32)) (a_kept : (Nat → Int32)) (v1 : Int32) (v3 : Int32) (v4 : Int32) (v5 : Int32) (v6 : Int32) (v7 : Int32) (H : Heap) (locs : List Loc) (ls : Array Slot), va_P D vwCl (mdl ad dA f_isSaved f_changes f_code f_length f_fault f_signMany f_at f_place a_g a_kept a_saved a_input a_signs a_ways a_needs a_walk a_one a_several a_ragged a_nextLine) H → va_D A (mdl ad dA f_isSaved f_changes f_code f_length f_fault f_signMany f_at f_place a_g a_kept a_saved a_input a_signs a_ways a_needs a_walk a_one a_several a_ragged a_nextLine) → va_S A s.heap H locs → lv_has ls 8 [(0, .ref (ad 0)), (1, .int v1), (3, .int v3), (4, .int v4), (5, .int v5), (6, .int v6), (7, .int v7)] → lpF (fun _ _ _ _ _ _ _ _ _ _ _ _ _ => False) (w_X3_submit_116 post a_input) n f_changes f_code f_length f_fault f_at a_g a_kept v1 v3 v4 v5 v6 v7 → W p l e (headSpec (ws_ yX3_submit cX3_submit 8 (some .int)) rm_X3_submit).room s m ([.ref (ad 0), .int p0] : List Value).toArray below meth c H locs 0 0 (MQ below (va_Qi (fun (r : Int32) (u : Int32 × Int32 × Int32 × Int32 × Int32 × (Nat → Int32) × (Nat → Int32)) => post r u.1 u.2.1 u.2.2.1 u.2.2.2.1 u.2.2.2.2.1 u.2.2.2.2.2.1 u.2.2.2.2.2.2) (fun (u : Int32 × Int32 × Int32 × Int32 × Int32 × (Nat → Int32) × (Nat → Int32)) t => wrQ D dA A (mdl ad dA f_isSaved u.1 u.2.1 u.2.2.1 u.2.2.2.1 f_signMany u.2.2.2.2.1 f_place u.2.2.2.2.2.1 u.2.2.2.2.2.2 a_saved a_input a_signs a_ways a_needs a_walk a_one a_several a_ragged a_nextLine) t) A) ([.ref (ad 0), .int p0] : List Value).toArray s 0 0 A) (F0 m 116 ls []) := by
    intro  n
    induction n with
    | zero => intro f_changes f_code f_length f_fault f_at a_g a_kept v1 v3 v4 v5 v6 v7 H locs ls hP hD hS hl hw; exact absurd hw id
    | succ n hk116 =>
      intro f_changes f_code f_length f_fault f_at a_g a_kept v1 v3 v4 v5 v6 v7 H locs ls hP hD hS hl hw
      generalize hk9 : lpF (fun _ _ _ _ _ _ _ _ _ _ _ _ _ => False) (w_X3_submit_116 post a_input) n = k116 at hk116
      have hw : (w_X3_submit_116 post a_input) k116 f_changes f_code f_length f_fault f_at a_g a_kept v1 v3 v4 v5 v6 v7 := hk9 ▸ hw
      refine lv_iload hx hb dX3_submit_116 (lv_at hl 6 rfl) ?_
      refine lv_iload_n hx hb dX3_submit_118 rfl (lv_at hl 2 rfl) ?_
      refine lv_icmp_ge (tgt := 204) hx hb dX3_submit_119 (by decide) (fun c33 => ?_) (fun c33 => ?_)
      · have hw := hw.1 c33
        refine lv_iload hx hb dX3_submit_204 (lv_at hl 3 rfl) ?_
        refine lv_aload_n hx hb dX3_submit_206 rfl (lv_at hl 0 rfl) ?_
        refine va_get (D := D) (ci := 2) (v := .ref (ad 1)) (C := RX3) (T := TX3) (N := 20) hx hb hts in_X3 hown hK hP 0 rfl rfl 0 (by decide) (hts _ q1741) (fun _ h9 => h9) rfl dX3_submit_207 ?_
        refine lv_bipush (v := (nI 16)) hx hb dX3_submit_210 (by decide) ?_
        refine lv_iload_n hx hb dX3_submit_212 rfl (lv_at hl 1 rfl) ?_
        refine lv_iadd hx hb dX3_submit_213 ?_
        obtain ⟨h34, hw⟩ := hw
        refine k_iald (k := ((nI 16) + v1).toNatClampNeg) hx hb hK hP 1 0 rfl rfl rfl h34 dX3_submit_214 ?_
        refine lv_iload hx hb dX3_submit_215 (lv_at hl 5 rfl) ?_
        refine lv_iadd hx hb dX3_submit_217 ?_
        refine k_ri (k_pS (As := [.int v4, .int ((a_g ((nI 16) + v1).toNatClampNeg) + v6)]) (rest := []) hSx (met_X3_least l v4 ((a_g ((nI 16) + v1).toNatClampNeg) + v6) _ hw) gX3_157 hd_X3_least ⟨Nat.le_of_ble_eq_true rfl, Nat.le_of_ble_eq_true rfl⟩ rfl rfl rfl hl.1 (Nat.le_of_ble_eq_true rfl) rfl dX3_submit_218 ⟨Nat.le_refl 0, Nat.le_refl 0⟩) (fun r35 hw => ?_)
        refine lv_istore (lv' := [(7, .int r35), (0, .ref (ad 0)), (1, .int v1), (3, .int v3), (4, .int v4), (5, .int v5), (6, .int v6)]) hx hb dX3_submit_221 hl (by decide) rfl (fun ls hl => ?_)
        refine lv_aload_n hx hb dX3_submit_223 rfl (lv_at hl 1 rfl) ?_
        refine va_get (D := D) (ci := 2) (v := .ref (ad 1)) (C := RX3) (T := TX3) (N := 20) hx hb hts in_X3 hown hK hP 0 rfl rfl 0 (by decide) (hts _ q1741) (fun _ h9 => h9) rfl dX3_submit_224 ?_
        refine lv_bipush (v := (nI 16)) hx hb dX3_submit_227 (by decide) ?_
        refine lv_iload_n hx hb dX3_submit_229 rfl (lv_at hl 2 rfl) ?_
        refine lv_iadd hx hb dX3_submit_230 ?_
        refine lv_dup2_11 hx hb dX3_submit_231 rfl rfl ?_
        obtain ⟨h36, hw⟩ := hw
        refine k_iald (k := ((nI 16) + v1).toNatClampNeg) hx hb hK hP 1 0 rfl rfl rfl h36 dX3_submit_232 ?_
        refine lv_iload hx hb dX3_submit_233 (lv_at hl 6 rfl) ?_
        refine lv_iload hx hb dX3_submit_235 (lv_at hl 0 rfl) ?_
        refine lv_isub hx hb dX3_submit_237 ?_
        refine lv_iadd hx hb dX3_submit_238 ?_
        obtain ⟨h37, hw⟩ := hw
        refine k_iast (k := ((nI 16) + v1).toNatClampNeg) hx hb hK hP hD hS 1 0 rfl rfl rfl h37 dX3_submit_239 (fun H locs hP hD hS => ?_)
        have hP : va_P D vwCl (mdl ad dA f_isSaved f_changes f_code f_length f_fault f_signMany f_at f_place (upd a_g ((nI 16) + v1).toNatClampNeg ((a_g ((nI 16) + v1).toNatClampNeg) + (v6 - r35))) a_kept a_saved a_input a_signs a_ways a_needs a_walk a_one a_several a_ragged a_nextLine) H := hP
        have hD : va_D A (mdl ad dA f_isSaved f_changes f_code f_length f_fault f_signMany f_at f_place (upd a_g ((nI 16) + v1).toNatClampNeg ((a_g ((nI 16) + v1).toNatClampNeg) + (v6 - r35))) a_kept a_saved a_input a_signs a_ways a_needs a_walk a_one a_several a_ragged a_nextLine) := hD
        refine lv_aload_n hx hb dX3_submit_240 rfl (lv_at hl 1 rfl) ?_
        refine va_get (D := D) (ci := 2) (v := .ref (ad 1)) (C := RX3) (T := TX3) (N := 20) hx hb hts in_X3 hown hK hP 0 rfl rfl 0 (by decide) (hts _ q1741) (fun _ h9 => h9) rfl dX3_submit_241 ?_
        refine lv_iconst (v := (nI 5)) hx hb dX3_submit_244 (by decide) ?_
        refine lv_dup2_11 hx hb dX3_submit_245 rfl rfl ?_
        refine k_iald (k := 5) hx hb hK hP 1 0 rfl rfl (clK 5 (by decide)) (inK (by decide) (by decide)) dX3_submit_246 ?_
        refine lv_iload hx hb dX3_submit_247 (lv_at hl 6 rfl) ?_
        refine lv_iadd hx hb dX3_submit_249 ?_
        refine k_iast (k := 5) hx hb hK hP hD hS 1 0 rfl rfl (clK 5 (by decide)) (inK (by decide) (by decide)) dX3_submit_250 (fun H locs hP hD hS => ?_)
        have hP : va_P D vwCl (mdl ad dA f_isSaved f_changes f_code f_length f_fault f_signMany f_at f_place (upd (upd a_g ((nI 16) + v1).toNatClampNeg ((a_g ((nI 16) + v1).toNatClampNeg) + (v6 - r35))) 5 (((upd a_g ((nI 16) + v1).toNatClampNeg ((a_g ((nI 16) + v1).toNatClampNeg) + (v6 - r35))) 5) + v6)) a_kept a_saved a_input a_signs a_ways a_needs a_walk a_one a_several a_ragged a_nextLine) H := hP
        have hD : va_D A (mdl ad dA f_isSaved f_changes f_code f_length f_fault f_signMany f_at f_place (upd (upd a_g ((nI 16) + v1).toNatClampNeg ((a_g ((nI 16) + v1).toNatClampNeg) + (v6 - r35))) 5 (((upd a_g ((nI 16) + v1).toNatClampNeg ((a_g ((nI 16) + v1).toNatClampNeg) + (v6 - r35))) 5) + v6)) a_kept a_saved a_input a_signs a_ways a_needs a_walk a_one a_several a_ragged a_nextLine) := hD
        refine lv_aload_n hx hb dX3_submit_251 rfl (lv_at hl 1 rfl) ?_
        refine va_get (D := D) (ci := 2) (v := .ref (ad 1)) (C := RX3) (T := TX3) (N := 20) hx hb hts in_X3 hown hK hP 0 rfl rfl 0 (by decide) (hts _ q1741) (fun _ h9 => h9) rfl dX3_submit_252 ?_
        refine lv_bipush (v := (nI 6)) hx hb dX3_submit_255 (by decide) ?_
        refine lv_dup2_11 hx hb dX3_submit_257 rfl rfl ?_
        refine k_iald (k := 6) hx hb hK hP 1 0 rfl rfl (clK 6 (by decide)) (inK (by decide) (by decide)) dX3_submit_258 ?_
        refine lv_iload hx hb dX3_submit_259 (lv_at hl 0 rfl) ?_
        refine lv_iadd hx hb dX3_submit_261 ?_
        refine k_iast (k := 6) hx hb hK hP hD hS 1 0 rfl rfl (clK 6 (by decide)) (inK (by decide) (by decide)) dX3_submit_262 (fun H locs hP hD hS => ?_)
        have hP : va_P D vwCl (mdl ad dA f_isSaved f_changes f_code f_length f_fault f_signMany f_at f_place (upd (upd (upd a_g ((nI 16) + v1).toNatClampNeg ((a_g ((nI 16) + v1).toNatClampNeg) + (v6 - r35))) 5 (((upd a_g ((nI 16) + v1).toNatClampNeg ((a_g ((nI 16) + v1).toNatClampNeg) + (v6 - r35))) 5) + v6)) 6 (((upd (upd a_g ((nI 16) + v1).toNatClampNeg ((a_g ((nI 16) + v1).toNatClampNeg) + (v6 - r35))) 5 (((upd a_g ((nI 16) + v1).toNatClampNeg ((a_g ((nI 16) + v1).toNatClampNeg) + (v6 - r35))) 5) + v6)) 6) + r35)) a_kept a_saved a_input a_signs a_ways a_needs a_walk a_one a_several a_ragged a_nextLine) H := hP
        have hD : va_D A (mdl ad dA f_isSaved f_changes f_code f_length f_fault f_signMany f_at f_place (upd (upd (upd a_g ((nI 16) + v1).toNatClampNeg ((a_g ((nI 16) + v1).toNatClampNeg) + (v6 - r35))) 5 (((upd a_g ((nI 16) + v1).toNatClampNeg ((a_g ((nI 16) + v1).toNatClampNeg) + (v6 - r35))) 5) + v6)) 6 (((upd (upd a_g ((nI 16) + v1).toNatClampNeg ((a_g ((nI 16) + v1).toNatClampNeg) + (v6 - r35))) 5 (((upd a_g ((nI 16) + v1).toNatClampNeg ((a_g ((nI 16) + v1).toNatClampNeg) + (v6 - r35))) 5) + v6)) 6) + r35)) a_kept a_saved a_input a_signs a_ways a_needs a_walk a_one a_several a_ragged a_nextLine) := hD
        refine lv_aload_n hx hb dX3_submit_263 rfl (lv_at hl 1 rfl) ?_
        refine va_get (D := D) (ci := 2) (v := .ref (ad 1)) (C := RX3) (T := TX3) (N := 20) hx hb hts in_X3 hown hK hP 0 rfl rfl 0 (by decide) (hts _ q1741) (fun _ h9 => h9) rfl dX3_submit_264 ?_
        refine lv_iconst (v := (nI 1)) hx hb dX3_submit_267 (by decide) ?_
        refine lv_dup2_11 hx hb dX3_submit_268 rfl rfl ?_
        refine k_iald (k := 1) hx hb hK hP 1 0 rfl rfl (clK 1 (by decide)) (inK (by decide) (by decide)) dX3_submit_269 ?_
        refine lv_iconst (v := (nI 1)) hx hb dX3_submit_270 (by decide) ?_
        refine lv_iadd hx hb dX3_submit_271 ?_
        refine k_iast (k := 1) hx hb hK hP hD hS 1 0 rfl rfl (clK 1 (by decide)) (inK (by decide) (by decide)) dX3_submit_272 (fun H locs hP hD hS => ?_)
        have hP : va_P D vwCl (mdl ad dA f_isSaved f_changes f_code f_length f_fault f_signMany f_at f_place (upd (upd (upd (upd a_g ((nI 16) + v1).toNatClampNeg ((a_g ((nI 16) + v1).toNatClampNeg) + (v6 - r35))) 5 (((upd a_g ((nI 16) + v1).toNatClampNeg ((a_g ((nI 16) + v1).toNatClampNeg) + (v6 - r35))) 5) + v6)) 6 (((upd (upd a_g ((nI 16) + v1).toNatClampNeg ((a_g ((nI 16) + v1).toNatClampNeg) + (v6 - r35))) 5 (((upd a_g ((nI 16) + v1).toNatClampNeg ((a_g ((nI 16) + v1).toNatClampNeg) + (v6 - r35))) 5) + v6)) 6) + r35)) 1 (((upd (upd (upd a_g ((nI 16) + v1).toNatClampNeg ((a_g ((nI 16) + v1).toNatClampNeg) + (v6 - r35))) 5 (((upd a_g ((nI 16) + v1).toNatClampNeg ((a_g ((nI 16) + v1).toNatClampNeg) + (v6 - r35))) 5) + v6)) 6 (((upd (upd a_g ((nI 16) + v1).toNatClampNeg ((a_g ((nI 16) + v1).toNatClampNeg) + (v6 - r35))) 5 (((upd a_g ((nI 16) + v1).toNatClampNeg ((a_g ((nI 16) + v1).toNatClampNeg) + (v6 - r35))) 5) + v6)) 6) + r35)) 1) + (nI 1))) a_kept a_saved a_input a_signs a_ways a_needs a_walk a_one a_several a_ragged a_nextLine) H := hP
        have hD : va_D A (mdl ad dA f_isSaved f_changes f_code f_length f_fault f_signMany f_at f_place (upd (upd (upd (upd a_g ((nI 16) + v1).toNatClampNeg ((a_g ((nI 16) + v1).toNatClampNeg) + (v6 - r35))) 5 (((upd a_g ((nI 16) + v1).toNatClampNeg ((a_g ((nI 16) + v1).toNatClampNeg) + (v6 - r35))) 5) + v6)) 6 (((upd (upd a_g ((nI 16) + v1).toNatClampNeg ((a_g ((nI 16) + v1).toNatClampNeg) + (v6 - r35))) 5 (((upd a_g ((nI 16) + v1).toNatClampNeg ((a_g ((nI 16) + v1).toNatClampNeg) + (v6 - r35))) 5) + v6)) 6) + r35)) 1 (((upd (upd (upd a_g ((nI 16) + v1).toNatClampNeg ((a_g ((nI 16) + v1).toNatClampNeg) + (v6 - r35))) 5 (((upd a_g ((nI 16) + v1).toNatClampNeg ((a_g ((nI 16) + v1).toNatClampNeg) + (v6 - r35))) 5) + v6)) 6 (((upd (upd a_g ((nI 16) + v1).toNatClampNeg ((a_g ((nI 16) + v1).toNatClampNeg) + (v6 - r35))) 5 (((upd a_g ((nI 16) + v1).toNatClampNeg ((a_g ((nI 16) + v1).toNatClampNeg) + (v6 - r35))) 5) + v6)) 6) + r35)) 1) + (nI 1))) a_kept a_saved a_input a_signs a_ways a_needs a_walk a_one a_several a_ragged a_nextLine) := hD
        refine lv_aload_n hx hb dX3_submit_273 rfl (lv_at hl 1 rfl) ?_
        refine va_get (D := D) (ci := 2) (v := .ref (ad 1)) (C := RX3) (T := TX3) (N := 20) hx hb hts in_X3 hown hK hP 0 rfl rfl 0 (by decide) (hts _ q1741) (fun _ h9 => h9) rfl dX3_submit_274 ?_
        refine lv_iconst (v := (nI 1)) hx hb dX3_submit_277 (by decide) ?_
        refine k_iald (k := 1) hx hb hK hP 1 0 rfl rfl (clK 1 (by decide)) (inK (by decide) (by decide)) dX3_submit_278 ?_
        refine lv_iconst (v := (nI 1)) hx hb dX3_submit_279 (by decide) ?_
        refine lv_isub hx hb dX3_submit_280 ?_
        exact W.iret (v := (((upd (upd (upd (upd a_g ((nI 16) + v1).toNatClampNeg ((a_g ((nI 16) + v1).toNatClampNeg) + (v6 - r35))) 5 (((upd a_g ((nI 16) + v1).toNatClampNeg ((a_g ((nI 16) + v1).toNatClampNeg) + (v6 - r35))) 5) + v6)) 6 (((upd (upd a_g ((nI 16) + v1).toNatClampNeg ((a_g ((nI 16) + v1).toNatClampNeg) + (v6 - r35))) 5 (((upd a_g ((nI 16) + v1).toNatClampNeg ((a_g ((nI 16) + v1).toNatClampNeg) + (v6 - r35))) 5) + v6)) 6) + r35)) 1 (((upd (upd (upd a_g ((nI 16) + v1).toNatClampNeg ((a_g ((nI 16) + v1).toNatClampNeg) + (v6 - r35))) 5 (((upd a_g ((nI 16) + v1).toNatClampNeg ((a_g ((nI 16) + v1).toNatClampNeg) + (v6 - r35))) 5) + v6)) 6 (((upd (upd a_g ((nI 16) + v1).toNatClampNeg ((a_g ((nI 16) + v1).toNatClampNeg) + (v6 - r35))) 5 (((upd a_g ((nI 16) + v1).toNatClampNeg ((a_g ((nI 16) + v1).toNatClampNeg) + (v6 - r35))) 5) + v6)) 6) + r35)) 1) + (nI 1))) 1) - (nI 1))) hx hb hr (fun t ht hW => ⟨⟨(((upd (upd (upd (upd a_g ((nI 16) + v1).toNatClampNeg ((a_g ((nI 16) + v1).toNatClampNeg) + (v6 - r35))) 5 (((upd a_g ((nI 16) + v1).toNatClampNeg ((a_g ((nI 16) + v1).toNatClampNeg) + (v6 - r35))) 5) + v6)) 6 (((upd (upd a_g ((nI 16) + v1).toNatClampNeg ((a_g ((nI 16) + v1).toNatClampNeg) + (v6 - r35))) 5 (((upd a_g ((nI 16) + v1).toNatClampNeg ((a_g ((nI 16) + v1).toNatClampNeg) + (v6 - r35))) 5) + v6)) 6) + r35)) 1 (((upd (upd (upd a_g ((nI 16) + v1).toNatClampNeg ((a_g ((nI 16) + v1).toNatClampNeg) + (v6 - r35))) 5 (((upd a_g ((nI 16) + v1).toNatClampNeg ((a_g ((nI 16) + v1).toNatClampNeg) + (v6 - r35))) 5) + v6)) 6 (((upd (upd a_g ((nI 16) + v1).toNatClampNeg ((a_g ((nI 16) + v1).toNatClampNeg) + (v6 - r35))) 5 (((upd a_g ((nI 16) + v1).toNatClampNeg ((a_g ((nI 16) + v1).toNatClampNeg) + (v6 - r35))) 5) + v6)) 6) + r35)) 1) + (nI 1))) 1) - (nI 1)), (f_changes, f_code, f_length, f_fault, f_at, (upd (upd (upd (upd a_g ((nI 16) + v1).toNatClampNeg ((a_g ((nI 16) + v1).toNatClampNeg) + (v6 - r35))) 5 (((upd a_g ((nI 16) + v1).toNatClampNeg ((a_g ((nI 16) + v1).toNatClampNeg) + (v6 - r35))) 5) + v6)) 6 (((upd (upd a_g ((nI 16) + v1).toNatClampNeg ((a_g ((nI 16) + v1).toNatClampNeg) + (v6 - r35))) 5 (((upd a_g ((nI 16) + v1).toNatClampNeg ((a_g ((nI 16) + v1).toNatClampNeg) + (v6 - r35))) 5) + v6)) 6) + r35)) 1 (((upd (upd (upd a_g ((nI 16) + v1).toNatClampNeg ((a_g ((nI 16) + v1).toNatClampNeg) + (v6 - r35))) 5 (((upd a_g ((nI 16) + v1).toNatClampNeg ((a_g ((nI 16) + v1).toNatClampNeg) + (v6 - r35))) 5) + v6)) 6 (((upd (upd a_g ((nI 16) + v1).toNatClampNeg ((a_g ((nI 16) + v1).toNatClampNeg) + (v6 - r35))) 5 (((upd a_g ((nI 16) + v1).toNatClampNeg ((a_g ((nI 16) + v1).toNatClampNeg) + (v6 - r35))) 5) + v6)) 6) + r35)) 1) + (nI 1))), a_kept), rfl, hw, by rw [ht]; exact hP, va_K.moved hW.alike hK, hD⟩, hS.F ht⟩) hS.2.2 dX3_submit_281
      · have hw := hw.2 c33
        refine lv_aload_n hx hb dX3_submit_122 rfl (lv_at hl 0 rfl) ?_
        refine va_get (D := D) (ci := 2) (v := .ref (ad 4)) (C := RX3) (T := TX3) (N := 20) hx hb hts in_X3 hown hK hP 0 rfl rfl 6 (by decide) (hts _ q1747) (fun _ h9 => h9) rfl dX3_submit_123 ?_
        refine lv_iload hx hb dX3_submit_126 (lv_at hl 6 rfl) ?_
        obtain ⟨h38, hw⟩ := hw
        refine k_iald (k := v7.toNatClampNeg) hx hb hK hP 4 0 rfl rfl rfl h38 dX3_submit_128 ?_
        refine lv_bipush (v := (nI 33)) hx hb dX3_submit_129 (by decide) ?_
        refine lv_icmp_ne (tgt := 137) hx hb dX3_submit_131 (by decide) (fun c39 => ?_) (fun c39 => ?_)
        · have hw := hw.2 c39
          refine lv_aload_n hx hb dX3_submit_137 rfl (lv_at hl 0 rfl) ?_
          refine va_get (D := D) (ci := 2) (v := .ref (ad 1)) (C := RX3) (T := TX3) (N := 20) hx hb hts in_X3 hown hK hP 0 rfl rfl 0 (by decide) (hts _ q1741) (fun _ h9 => h9) rfl dX3_submit_138 ?_
          refine lv_iload hx hb dX3_submit_141 (lv_at hl 4 rfl) ?_
          refine lv_iconst (v := (nI 2)) hx hb dX3_submit_143 (by decide) ?_
          refine lv_iadd hx hb dX3_submit_144 ?_
          refine lv_aload_n hx hb dX3_submit_145 rfl (lv_at hl 0 rfl) ?_
          refine va_get (D := D) (ci := 2) (v := .ref (ad 1)) (C := RX3) (T := TX3) (N := 20) hx hb hts in_X3 hown hK hP 0 rfl rfl 0 (by decide) (hts _ q1741) (fun _ h9 => h9) rfl dX3_submit_146 ?_
          refine lv_iload hx hb dX3_submit_149 (lv_at hl 4 rfl) ?_
          refine lv_iconst (v := (nI 1)) hx hb dX3_submit_151 (by decide) ?_
          refine lv_iadd hx hb dX3_submit_152 ?_
          obtain ⟨h40, hw⟩ := hw
          refine k_iald (k := (v5 + (nI 1)).toNatClampNeg) hx hb hK hP 1 0 rfl rfl rfl h40 dX3_submit_153 ?_
          refine lv_iadd hx hb dX3_submit_154 ?_
          refine lv_aload_n hx hb dX3_submit_155 rfl (lv_at hl 0 rfl) ?_
          refine va_get (D := D) (ci := 2) (v := .ref (ad 4)) (C := RX3) (T := TX3) (N := 20) hx hb hts in_X3 hown hK hP 0 rfl rfl 6 (by decide) (hts _ q1747) (fun _ h9 => h9) rfl dX3_submit_156 ?_
          refine lv_iload hx hb dX3_submit_159 (lv_at hl 6 rfl) ?_
          obtain ⟨h41, hw⟩ := hw
          refine k_iald (k := v7.toNatClampNeg) hx hb hK hP 4 0 rfl rfl rfl h41 dX3_submit_161 ?_
          obtain ⟨h42, hw⟩ := hw
          refine k_iast (k := ((v5 + (nI 2)) + (a_g (v5 + (nI 1)).toNatClampNeg)).toNatClampNeg) hx hb hK hP hD hS 1 0 rfl rfl rfl h42 dX3_submit_162 (fun H locs hP hD hS => ?_)
          have hP : va_P D vwCl (mdl ad dA f_isSaved f_changes f_code f_length f_fault f_signMany f_at f_place (upd a_g ((v5 + (nI 2)) + (a_g (v5 + (nI 1)).toNatClampNeg)).toNatClampNeg (a_input v7.toNatClampNeg)) a_kept a_saved a_input a_signs a_ways a_needs a_walk a_one a_several a_ragged a_nextLine) H := hP
          have hD : va_D A (mdl ad dA f_isSaved f_changes f_code f_length f_fault f_signMany f_at f_place (upd a_g ((v5 + (nI 2)) + (a_g (v5 + (nI 1)).toNatClampNeg)).toNatClampNeg (a_input v7.toNatClampNeg)) a_kept a_saved a_input a_signs a_ways a_needs a_walk a_one a_several a_ragged a_nextLine) := hD
          refine lv_aload_n hx hb dX3_submit_163 rfl (lv_at hl 0 rfl) ?_
          refine va_get (D := D) (ci := 2) (v := .ref (ad 1)) (C := RX3) (T := TX3) (N := 20) hx hb hts in_X3 hown hK hP 0 rfl rfl 0 (by decide) (hts _ q1741) (fun _ h9 => h9) rfl dX3_submit_164 ?_
          refine lv_iload hx hb dX3_submit_167 (lv_at hl 4 rfl) ?_
          refine lv_iconst (v := (nI 1)) hx hb dX3_submit_169 (by decide) ?_
          refine lv_iadd hx hb dX3_submit_170 ?_
          refine lv_dup2_11 hx hb dX3_submit_171 rfl rfl ?_
          obtain ⟨h43, hw⟩ := hw
          refine k_iald (k := (v5 + (nI 1)).toNatClampNeg) hx hb hK hP 1 0 rfl rfl rfl h43 dX3_submit_172 ?_
          refine lv_iconst (v := (nI 1)) hx hb dX3_submit_173 (by decide) ?_
          refine lv_iadd hx hb dX3_submit_174 ?_
          obtain ⟨h44, hw⟩ := hw
          refine k_iast (k := (v5 + (nI 1)).toNatClampNeg) hx hb hK hP hD hS 1 0 rfl rfl rfl h44 dX3_submit_175 (fun H locs hP hD hS => ?_)
          have hP : va_P D vwCl (mdl ad dA f_isSaved f_changes f_code f_length f_fault f_signMany f_at f_place (upd (upd a_g ((v5 + (nI 2)) + (a_g (v5 + (nI 1)).toNatClampNeg)).toNatClampNeg (a_input v7.toNatClampNeg)) (v5 + (nI 1)).toNatClampNeg (((upd a_g ((v5 + (nI 2)) + (a_g (v5 + (nI 1)).toNatClampNeg)).toNatClampNeg (a_input v7.toNatClampNeg)) (v5 + (nI 1)).toNatClampNeg) + (nI 1))) a_kept a_saved a_input a_signs a_ways a_needs a_walk a_one a_several a_ragged a_nextLine) H := hP
          have hD : va_D A (mdl ad dA f_isSaved f_changes f_code f_length f_fault f_signMany f_at f_place (upd (upd a_g ((v5 + (nI 2)) + (a_g (v5 + (nI 1)).toNatClampNeg)).toNatClampNeg (a_input v7.toNatClampNeg)) (v5 + (nI 1)).toNatClampNeg (((upd a_g ((v5 + (nI 2)) + (a_g (v5 + (nI 1)).toNatClampNeg)).toNatClampNeg (a_input v7.toNatClampNeg)) (v5 + (nI 1)).toNatClampNeg) + (nI 1))) a_kept a_saved a_input a_signs a_ways a_needs a_walk a_one a_several a_ragged a_nextLine) := hD
          refine lv_iload hx hb dX3_submit_176 (lv_at hl 5 rfl) ?_
          refine lv_aload_n hx hb dX3_submit_178 rfl (lv_at hl 0 rfl) ?_
          refine va_get (D := D) (ci := 2) (v := .ref (ad 4)) (C := RX3) (T := TX3) (N := 20) hx hb hts in_X3 hown hK hP 0 rfl rfl 6 (by decide) (hts _ q1747) (fun _ h9 => h9) rfl dX3_submit_179 ?_
          refine lv_iload hx hb dX3_submit_182 (lv_at hl 6 rfl) ?_
          obtain ⟨h45, hw⟩ := hw
          refine k_iald (k := v7.toNatClampNeg) hx hb hK hP 4 0 rfl rfl rfl h45 dX3_submit_184 ?_
          refine lv_bipush (v := (nI 98)) hx hb dX3_submit_185 (by decide) ?_
          refine lv_icmp_ne (tgt := 194) hx hb dX3_submit_187 (by decide) (fun c46 => ?_) (fun c46 => ?_)
          · have hw := hw.2 c46
            refine lv_iconst (v := (nI 0)) hx hb dX3_submit_194 (by decide) ?_
            exact hL195 k116 hk116 f_changes f_code f_length f_fault f_at (upd (upd a_g ((v5 + (nI 2)) + (a_g (v5 + (nI 1)).toNatClampNeg)).toNatClampNeg (a_input v7.toNatClampNeg)) (v5 + (nI 1)).toNatClampNeg (((upd a_g ((v5 + (nI 2)) + (a_g (v5 + (nI 1)).toNatClampNeg)).toNatClampNeg (a_input v7.toNatClampNeg)) (v5 + (nI 1)).toNatClampNeg) + (nI 1))) a_kept v1 v3 v4 v5 v7 v6 (nI 0) _ _ _ hP hD hS (lv_sub hl [0, 1, 2, 3, 4, 6] rfl) hw
          · have hw := hw.1 c46
            refine lv_iconst (v := (nI 1)) hx hb dX3_submit_190 (by decide) ?_
            refine lv_goto (tgt := 195) hx hb dX3_submit_191 (by decide) ?_
            exact hL195 k116 hk116 f_changes f_code f_length f_fault f_at (upd (upd a_g ((v5 + (nI 2)) + (a_g (v5 + (nI 1)).toNatClampNeg)).toNatClampNeg (a_input v7.toNatClampNeg)) (v5 + (nI 1)).toNatClampNeg (((upd a_g ((v5 + (nI 2)) + (a_g (v5 + (nI 1)).toNatClampNeg)).toNatClampNeg (a_input v7.toNatClampNeg)) (v5 + (nI 1)).toNatClampNeg) + (nI 1))) a_kept v1 v3 v4 v5 v7 v6 (nI 1) _ _ _ hP hD hS (lv_sub hl [0, 1, 2, 3, 4, 6] rfl) hw
        · have hw := hw.1 c39
          refine lv_goto (tgt := 198) hx hb dX3_submit_134 (by decide) ?_
          exact hL198 k116 hk116 f_changes f_code f_length f_fault f_at a_g a_kept v1 v3 v4 v5 v6 v7 _ _ _ hP hD hS (lv_sub hl [0, 1, 2, 3, 4, 5, 6] rfl) hw
  have hL68 : ∀  (f_changes : Int32) (f_code : Int32) (f_length : Int32) (f_fault : Int32) (f_at : Int32) (a_g : (Nat → Int32)) (a_kept : (Nat → Int32)) (v1 : Int32) (v3 : Int32) (v4 : Int32) (s1 : Int32) (H : Heap) (locs : List Loc) (ls : Array Slot), va_P D vwCl (mdl ad dA f_isSaved f_changes f_code f_length f_fault f_signMany f_at f_place a_g a_kept a_saved a_input a_signs a_ways a_needs a_walk a_one a_several a_ragged a_nextLine) H → va_D A (mdl ad dA f_isSaved f_changes f_code f_length f_fault f_signMany f_at f_place a_g a_kept a_saved a_input a_signs a_ways a_needs a_walk a_one a_several a_ragged a_nextLine) → va_S A s.heap H locs → lv_has ls 8 [(0, .ref (ad 0)), (1, .int v1), (3, .int v3), (4, .int v4)] → (w_X3_submit_68 post a_input) f_changes f_code f_length f_fault f_at a_g a_kept v1 v3 v4 s1 → W p l e (headSpec (ws_ yX3_submit cX3_submit 8 (some .int)) rm_X3_submit).room s m ([.ref (ad 0), .int p0] : List Value).toArray below meth c H locs 0 0 (MQ below (va_Qi (fun (r : Int32) (u : Int32 × Int32 × Int32 × Int32 × Int32 × (Nat → Int32) × (Nat → Int32)) => post r u.1 u.2.1 u.2.2.1 u.2.2.2.1 u.2.2.2.2.1 u.2.2.2.2.2.1 u.2.2.2.2.2.2) (fun (u : Int32 × Int32 × Int32 × Int32 × Int32 × (Nat → Int32) × (Nat → Int32)) t => wrQ D dA A (mdl ad dA f_isSaved u.1 u.2.1 u.2.2.1 u.2.2.2.1 f_signMany u.2.2.2.2.1 f_place u.2.2.2.2.2.1 u.2.2.2.2.2.2 a_saved a_input a_signs a_ways a_needs a_walk a_one a_several a_ragged a_nextLine) t) A) ([.ref (ad 0), .int p0] : List Value).toArray s 0 0 A) (F0 m 68 ls [.int s1, .ref (ad 0)]) := by
      intro  f_changes f_code f_length f_fault f_at a_g a_kept v1 v3 v4 s1 H locs ls hP hD hS hl hw
      refine k_wi (wn := fun (u : Int32) => (mdl ad dA f_isSaved f_changes u f_length f_fault f_signMany f_at f_place a_g a_kept a_saved a_input a_signs a_ways a_needs a_walk a_one a_several a_ragged a_nextLine)) (wr := []) (k_wV (As := [.int s1]) (rest := []) hSx (met_X3_fails l D dA ad _ f_isSaved f_changes f_code f_length f_fault f_signMany f_at f_place a_g a_kept a_saved a_input a_signs a_ways a_needs a_walk a_one a_several a_ragged a_nextLine s1 _ hw) gX3_70 ⟨rfl, hd_X3_fails⟩ ⟨Nat.le_of_ble_eq_true rfl, Nat.le_of_ble_eq_true rfl⟩ rfl rfl hP hK hD [0, 1, 2, 3, 4, 5, 6, 7, 8, 9, 10, 11, 12] rfl (by decide) rfl 0 rfl rfl rfl rfl hl.1 (Nat.le_of_ble_eq_true rfl) rfl dX3_submit_68 ⟨Nat.le_refl 0, Nat.le_refl 0⟩) hP hD hS hA [0, 1, 2, 3, 4, 5, 6, 7, 8, 9, 10, 11, 12] [] [0, 1, 2, 3, 4, 5, 6, 7, 8, 9, 10, 11, 12] rfl rfl (by decide) (by decide) (by decide) (fun _ => rfl) (fun _ => rfl) (fun r47 u H locs hw _ hP hD hS => ?_)
      obtain ⟨f_code_48, rfl⟩ : ∃ z, z = u := ⟨_, rfl⟩
      have hP : va_P D vwCl (mdl ad dA f_isSaved f_changes f_code_48 f_length f_fault f_signMany f_at f_place a_g a_kept a_saved a_input a_signs a_ways a_needs a_walk a_one a_several a_ragged a_nextLine) H := hP
      have hD : va_D A (mdl ad dA f_isSaved f_changes f_code_48 f_length f_fault f_signMany f_at f_place a_g a_kept a_saved a_input a_signs a_ways a_needs a_walk a_one a_several a_ragged a_nextLine) := hD
      refine lv_if_eq (tgt := 76) hx hb dX3_submit_71 (by decide) (fun c49 => ?_) (fun c49 => ?_)
      · have hw := hw.1 c49
        refine lv_aload_n hx hb dX3_submit_76 rfl (lv_at hl 0 rfl) ?_
        refine k_wv (wn := fun (u : Int32 × Int32 × (Nat → Int32)) => (mdl ad dA f_isSaved u.1 u.2.1 f_length f_fault f_signMany f_at f_place a_g u.2.2 a_saved a_input a_signs a_ways a_needs a_walk a_one a_several a_ragged a_nextLine)) (wr := []) (k_wV (As := []) (rest := []) hSx (met_X3_keeps l D dA ad _ f_isSaved f_changes f_code_48 f_length f_fault f_signMany f_at f_place a_g a_kept a_saved a_input a_signs a_ways a_needs a_walk a_one a_several a_ragged a_nextLine  _ hw) gX3_77 ⟨rfl, hd_X3_keeps⟩ ⟨Nat.le_of_ble_eq_true rfl, Nat.le_of_ble_eq_true rfl⟩ rfl rfl hP hK hD [0, 1, 2, 3, 4, 5, 6, 7, 8, 9, 10, 11, 12] rfl (by decide) rfl 0 rfl rfl rfl rfl hl.1 (Nat.le_of_ble_eq_true rfl) rfl dX3_submit_77 ⟨Nat.le_refl 0, Nat.le_refl 0⟩) hP hD hS hA [0, 1, 2, 3, 4, 5, 6, 7, 8, 9, 10, 11, 12] [] [0, 1, 2, 3, 4, 5, 6, 7, 8, 9, 10, 11, 12] rfl rfl (by decide) (by decide) (by decide) (fun _ => rfl) (fun _ => rfl) (fun u H locs hw _ hP hD hS => ?_)
        obtain ⟨f_changes_50, f_code_51, a_kept_52⟩ := u
        have hP : va_P D vwCl (mdl ad dA f_isSaved f_changes_50 f_code_51 f_length f_fault f_signMany f_at f_place a_g a_kept_52 a_saved a_input a_signs a_ways a_needs a_walk a_one a_several a_ragged a_nextLine) H := hP
        have hD : va_D A (mdl ad dA f_isSaved f_changes_50 f_code_51 f_length f_fault f_signMany f_at f_place a_g a_kept_52 a_saved a_input a_signs a_ways a_needs a_walk a_one a_several a_ragged a_nextLine) := hD
        refine lv_aload_n hx hb dX3_submit_80 rfl (lv_at hl 0 rfl) ?_
        refine lv_aload_n hx hb dX3_submit_81 rfl (lv_at hl 0 rfl) ?_
        refine va_get (D := D) (ci := 2) (v := .ref (ad 1)) (C := RX3) (T := TX3) (N := 20) hx hb hts in_X3 hown hK hP 0 rfl rfl 0 (by decide) (hts _ q1741) (fun _ h9 => h9) rfl dX3_submit_82 ?_
        refine lv_iconst (v := (nI 1)) hx hb dX3_submit_85 (by decide) ?_
        refine k_iald (k := 1) hx hb hK hP 1 0 rfl rfl (clK 1 (by decide)) (inK (by decide) (by decide)) dX3_submit_86 ?_
        refine k_ri (k_rV (As := [.int (a_g 1)]) (rest := []) hSx (met_X3_row l D dA ad f_isSaved f_changes_50 f_code_51 f_length f_fault f_signMany f_at f_place a_g a_kept_52 a_saved a_input a_signs a_ways a_needs a_walk a_one a_several a_ragged a_nextLine (a_g 1) _ hw) gX3_154 ⟨rfl, hd_X3_row⟩ ⟨Nat.le_of_ble_eq_true rfl, Nat.le_of_ble_eq_true rfl⟩ rfl rfl hP hK [0, 1, 2, 3, 4, 5, 6, 7, 8, 9, 10, 11, 12] rfl 0 rfl rfl rfl rfl hl.1 (Nat.le_of_ble_eq_true rfl) rfl dX3_submit_87 ⟨Nat.le_refl 0, Nat.le_refl 0⟩) (fun r53 hw => ?_)
        refine lv_istore (lv' := [(5, .int r53), (0, .ref (ad 0)), (1, .int v1), (3, .int v3), (4, .int v4)]) hx hb dX3_submit_90 hl (by decide) rfl (fun ls hl => ?_)
        refine lv_iconst (v := (nI 0)) hx hb dX3_submit_92 (by decide) ?_
        refine lv_istore (lv' := [(6, .int (nI 0)), (5, .int r53), (0, .ref (ad 0)), (1, .int v1), (3, .int v3), (4, .int v4)]) hx hb dX3_submit_93 hl (by decide) rfl (fun ls hl => ?_)
        refine lv_aload_n hx hb dX3_submit_95 rfl (lv_at hl 2 rfl) ?_
        refine va_get (D := D) (ci := 2) (v := .ref (ad 1)) (C := RX3) (T := TX3) (N := 20) hx hb hts in_X3 hown hK hP 0 rfl rfl 0 (by decide) (hts _ q1741) (fun _ h9 => h9) rfl dX3_submit_96 ?_
        refine lv_iload hx hb dX3_submit_99 (lv_at hl 1 rfl) ?_
        refine lv_iload_n hx hb dX3_submit_101 rfl (lv_at hl 3 rfl) ?_
        obtain ⟨h54, hw⟩ := hw
        refine k_iast (k := r53.toNatClampNeg) hx hb hK hP hD hS 1 0 rfl rfl rfl h54 dX3_submit_102 (fun H locs hP hD hS => ?_)
        have hP : va_P D vwCl (mdl ad dA f_isSaved f_changes_50 f_code_51 f_length f_fault f_signMany f_at f_place (upd a_g r53.toNatClampNeg v1) a_kept_52 a_saved a_input a_signs a_ways a_needs a_walk a_one a_several a_ragged a_nextLine) H := hP
        have hD : va_D A (mdl ad dA f_isSaved f_changes_50 f_code_51 f_length f_fault f_signMany f_at f_place (upd a_g r53.toNatClampNeg v1) a_kept_52 a_saved a_input a_signs a_ways a_needs a_walk a_one a_several a_ragged a_nextLine) := hD
        refine lv_aload_n hx hb dX3_submit_103 rfl (lv_at hl 2 rfl) ?_
        refine va_get (D := D) (ci := 2) (v := .ref (ad 1)) (C := RX3) (T := TX3) (N := 20) hx hb hts in_X3 hown hK hP 0 rfl rfl 0 (by decide) (hts _ q1741) (fun _ h9 => h9) rfl dX3_submit_104 ?_
        refine lv_iload hx hb dX3_submit_107 (lv_at hl 1 rfl) ?_
        refine lv_iconst (v := (nI 1)) hx hb dX3_submit_109 (by decide) ?_
        refine lv_iadd hx hb dX3_submit_110 ?_
        refine lv_iconst (v := (nI 0)) hx hb dX3_submit_111 (by decide) ?_
        obtain ⟨h55, hw⟩ := hw
        refine k_iast (k := (r53 + (nI 1)).toNatClampNeg) hx hb hK hP hD hS 1 0 rfl rfl rfl h55 dX3_submit_112 (fun H locs hP hD hS => ?_)
        have hP : va_P D vwCl (mdl ad dA f_isSaved f_changes_50 f_code_51 f_length f_fault f_signMany f_at f_place (upd (upd a_g r53.toNatClampNeg v1) (r53 + (nI 1)).toNatClampNeg (nI 0)) a_kept_52 a_saved a_input a_signs a_ways a_needs a_walk a_one a_several a_ragged a_nextLine) H := hP
        have hD : va_D A (mdl ad dA f_isSaved f_changes_50 f_code_51 f_length f_fault f_signMany f_at f_place (upd (upd a_g r53.toNatClampNeg v1) (r53 + (nI 1)).toNatClampNeg (nI 0)) a_kept_52 a_saved a_input a_signs a_ways a_needs a_walk a_one a_several a_ragged a_nextLine) := hD
        refine lv_iconst (v := (nI 0)) hx hb dX3_submit_113 (by decide) ?_
        refine lv_istore (lv' := [(7, .int (nI 0)), (6, .int (nI 0)), (5, .int r53), (0, .ref (ad 0)), (1, .int v1), (3, .int v3), (4, .int v4)]) hx hb dX3_submit_114 hl (by decide) rfl (fun ls hl => ?_)
        obtain ⟨n, hw⟩ := hw
        exact hL116  n f_changes_50 f_code_51 f_length f_fault f_at (upd (upd a_g r53.toNatClampNeg v1) (r53 + (nI 1)).toNatClampNeg (nI 0)) a_kept_52 v1 v3 v4 r53 (nI 0) (nI 0) _ _ _ hP hD hS (lv_sub hl [3, 4, 5, 6, 2, 1, 0] rfl) hw
      · have hw := hw.2 c49
        refine lv_iconst (v := (nI 0)) hx hb dX3_submit_74 (by decide) ?_
        exact W.iret (v := (nI 0)) hx hb hr (fun t ht hW => ⟨⟨(nI 0), (f_changes, f_code_48, f_length, f_fault, f_at, a_g, a_kept), rfl, hw, by rw [ht]; exact hP, va_K.moved hW.alike hK, hD⟩, hS.F ht⟩) hS.2.2 dX3_submit_75
  have hL43 : ∀  (f_changes : Int32) (f_code : Int32) (f_length : Int32) (f_fault : Int32) (f_at : Int32) (a_g : (Nat → Int32)) (a_kept : (Nat → Int32)) (v1 : Int32) (v2 : Int32) (v3 : Int32) (v4 : Int32) (H : Heap) (locs : List Loc) (ls : Array Slot), va_P D vwCl (mdl ad dA f_isSaved f_changes f_code f_length f_fault f_signMany f_at f_place a_g a_kept a_saved a_input a_signs a_ways a_needs a_walk a_one a_several a_ragged a_nextLine) H → va_D A (mdl ad dA f_isSaved f_changes f_code f_length f_fault f_signMany f_at f_place a_g a_kept a_saved a_input a_signs a_ways a_needs a_walk a_one a_several a_ragged a_nextLine) → va_S A s.heap H locs → lv_has ls 8 [(0, .ref (ad 0)), (1, .int v1), (2, .int v2), (3, .int v3), (4, .int v4)] → (w_X3_submit_43 post a_input) f_changes f_code f_length f_fault f_at a_g a_kept v1 v2 v3 v4 → W p l e (headSpec (ws_ yX3_submit cX3_submit 8 (some .int)) rm_X3_submit).room s m ([.ref (ad 0), .int p0] : List Value).toArray below meth c H locs 0 0 (MQ below (va_Qi (fun (r : Int32) (u : Int32 × Int32 × Int32 × Int32 × Int32 × (Nat → Int32) × (Nat → Int32)) => post r u.1 u.2.1 u.2.2.1 u.2.2.2.1 u.2.2.2.2.1 u.2.2.2.2.2.1 u.2.2.2.2.2.2) (fun (u : Int32 × Int32 × Int32 × Int32 × Int32 × (Nat → Int32) × (Nat → Int32)) t => wrQ D dA A (mdl ad dA f_isSaved u.1 u.2.1 u.2.2.1 u.2.2.2.1 f_signMany u.2.2.2.2.1 f_place u.2.2.2.2.2.1 u.2.2.2.2.2.2 a_saved a_input a_signs a_ways a_needs a_walk a_one a_several a_ragged a_nextLine) t) A) ([.ref (ad 0), .int p0] : List Value).toArray s 0 0 A) (F0 m 43 ls []) := by
      intro  f_changes f_code f_length f_fault f_at a_g a_kept v1 v2 v3 v4 H locs ls hP hD hS hl hw
      refine lv_aload_n hx hb dX3_submit_43 rfl (lv_at hl 0 rfl) ?_
      refine lv_iload_n hx hb dX3_submit_44 rfl (lv_at hl 2 rfl) ?_
      refine lv_if_ne (tgt := 52) hx hb dX3_submit_45 (by decide) (fun c56 => ?_) (fun c56 => ?_)
      · have hw := hw.2 c56
        refine lv_aload_n hx hb dX3_submit_52 rfl (lv_at hl 0 rfl) ?_
        refine va_get (D := D) (ci := 2) (v := .ref (ad 1)) (C := RX3) (T := TX3) (N := 20) hx hb hts in_X3 hown hK hP 0 rfl rfl 0 (by decide) (hts _ q1741) (fun _ h9 => h9) rfl dX3_submit_53 ?_
        refine lv_iconst (v := (nI 1)) hx hb dX3_submit_56 (by decide) ?_
        refine k_iald (k := 1) hx hb hK hP 1 0 rfl rfl (clK 1 (by decide)) (inK (by decide) (by decide)) dX3_submit_57 ?_
        refine lv_bipush (v := (nI 6)) hx hb dX3_submit_58 (by decide) ?_
        refine lv_icmp_ne (tgt := 67) hx hb dX3_submit_60 (by decide) (fun c57 => ?_) (fun c57 => ?_)
        · have hw := hw.2 c57
          refine lv_iconst (v := (nI 0)) hx hb dX3_submit_67 (by decide) ?_
          exact hL68  f_changes f_code f_length f_fault f_at a_g a_kept v1 v3 v4 (nI 0) _ _ _ hP hD hS (lv_sub hl [0, 1, 3, 4] rfl) hw
        · have hw := hw.1 c57
          refine lv_iconst (v := (nI 3)) hx hb dX3_submit_63 (by decide) ?_
          refine lv_goto (tgt := 68) hx hb dX3_submit_64 (by decide) ?_
          exact hL68  f_changes f_code f_length f_fault f_at a_g a_kept v1 v3 v4 (nI 3) _ _ _ hP hD hS (lv_sub hl [0, 1, 3, 4] rfl) hw
      · have hw := hw.1 c56
        refine lv_iconst (v := (nI 2)) hx hb dX3_submit_48 (by decide) ?_
        refine lv_goto (tgt := 68) hx hb dX3_submit_49 (by decide) ?_
        exact hL68  f_changes f_code f_length f_fault f_at a_g a_kept v1 v3 v4 (nI 2) _ _ _ hP hD hS (lv_sub hl [0, 1, 3, 4] rfl) hw
  refine lv_aload_n hx hb dX3_submit_0 rfl (lv_at hl 0 rfl) ?_
  refine lv_iload_n hx hb dX3_submit_1 rfl (lv_at hl 1 rfl) ?_
  refine k_wi (wn := fun (u : Int32) => (mdl ad dA f_isSaved f_changes u f_length f_fault f_signMany f_at f_place a_g a_kept a_saved a_input a_signs a_ways a_needs a_walk a_one a_several a_ragged a_nextLine)) (wr := []) (k_wV (As := [.int p0]) (rest := []) hSx (met_X3_isNone l D dA ad _ f_isSaved f_changes f_code f_length f_fault f_signMany f_at f_place a_g a_kept a_saved a_input a_signs a_ways a_needs a_walk a_one a_several a_ragged a_nextLine p0 _ hw) gX3_94 ⟨rfl, hd_X3_isNone⟩ ⟨Nat.le_of_ble_eq_true rfl, Nat.le_of_ble_eq_true rfl⟩ rfl rfl hP hK hD [0, 1, 2, 3, 4, 5, 6, 7, 8, 9, 10, 11, 12] rfl (by decide) rfl 0 rfl rfl rfl rfl hl.1 (Nat.le_of_ble_eq_true rfl) rfl dX3_submit_2 ⟨Nat.le_refl 0, Nat.le_refl 0⟩) hP hD hS hA [0, 1, 2, 3, 4, 5, 6, 7, 8, 9, 10, 11, 12] [] [0, 1, 2, 3, 4, 5, 6, 7, 8, 9, 10, 11, 12] rfl rfl (by decide) (by decide) (by decide) (fun _ => rfl) (fun _ => rfl) (fun r58 u H locs hw _ hP hD hS => ?_)
  obtain ⟨f_code_59, rfl⟩ : ∃ z, z = u := ⟨_, rfl⟩
  have hP : va_P D vwCl (mdl ad dA f_isSaved f_changes f_code_59 f_length f_fault f_signMany f_at f_place a_g a_kept a_saved a_input a_signs a_ways a_needs a_walk a_one a_several a_ragged a_nextLine) H := hP
  have hD : va_D A (mdl ad dA f_isSaved f_changes f_code_59 f_length f_fault f_signMany f_at f_place a_g a_kept a_saved a_input a_signs a_ways a_needs a_walk a_one a_several a_ragged a_nextLine) := hD
  refine lv_if_eq (tgt := 10) hx hb dX3_submit_5 (by decide) (fun c60 => ?_) (fun c60 => ?_)
  · have hw := hw.1 c60
    refine lv_aload_n hx hb dX3_submit_10 rfl (lv_at hl 0 rfl) ?_
    refine k_wi (wn := fun (u : Int32) => (mdl ad dA f_isSaved f_changes f_code_59 f_length f_fault f_signMany u f_place a_g a_kept a_saved a_input a_signs a_ways a_needs a_walk a_one a_several a_ragged a_nextLine)) (wr := []) (k_wV (As := []) (rest := []) hSx (met_X3_reads l D dA ad _ f_isSaved f_changes f_code_59 f_length f_fault f_signMany f_at f_place a_g a_kept a_saved a_input a_signs a_ways a_needs a_walk a_one a_several a_ragged a_nextLine  _ hw) gX3_131 ⟨rfl, hd_X3_reads⟩ ⟨Nat.le_of_ble_eq_true rfl, Nat.le_of_ble_eq_true rfl⟩ rfl rfl hP hK hD [0, 1, 2, 3, 4, 5, 6, 7, 8, 9, 10, 11, 12] rfl (by decide) rfl 0 rfl rfl rfl rfl hl.1 (Nat.le_of_ble_eq_true rfl) rfl dX3_submit_11 ⟨Nat.le_refl 0, Nat.le_refl 0⟩) hP hD hS hA [0, 1, 2, 3, 4, 5, 6, 7, 8, 9, 10, 11, 12] [] [0, 1, 2, 3, 4, 5, 6, 7, 8, 9, 10, 11, 12] rfl rfl (by decide) (by decide) (by decide) (fun _ => rfl) (fun _ => rfl) (fun r61 u H locs hw _ hP hD hS => ?_)
    obtain ⟨f_at_62, rfl⟩ : ∃ z, z = u := ⟨_, rfl⟩
    have hP : va_P D vwCl (mdl ad dA f_isSaved f_changes f_code_59 f_length f_fault f_signMany f_at_62 f_place a_g a_kept a_saved a_input a_signs a_ways a_needs a_walk a_one a_several a_ragged a_nextLine) H := hP
    have hD : va_D A (mdl ad dA f_isSaved f_changes f_code_59 f_length f_fault f_signMany f_at_62 f_place a_g a_kept a_saved a_input a_signs a_ways a_needs a_walk a_one a_several a_ragged a_nextLine) := hD
    refine lv_istore_n (lv' := [(2, .int r61), (0, .ref (ad 0)), (1, .int p0)]) hx hb dX3_submit_14 rfl hl (by decide) rfl (fun ls hl => ?_)
    refine lv_aload_n hx hb dX3_submit_15 rfl (lv_at hl 1 rfl) ?_
    refine va_get (D := D) (ci := 2) (v := .int f_length) (C := RX3) (T := TX3) (N := 20) hx hb hts in_X3 hown hK hP 0 rfl rfl 7 (by decide) (hts _ q1748) (fun _ h9 => h9) rfl dX3_submit_16 ?_
    refine lv_istore_n (lv' := [(3, .int f_length), (2, .int r61), (0, .ref (ad 0)), (1, .int p0)]) hx hb dX3_submit_19 rfl hl (by decide) rfl (fun ls hl => ?_)
    refine lv_aload_n hx hb dX3_submit_20 rfl (lv_at hl 2 rfl) ?_
    refine k_ri (k_rV (As := []) (rest := []) hSx (met_X3_insults l D dA ad f_isSaved f_changes f_code_59 f_length f_fault f_signMany f_at_62 f_place a_g a_kept a_saved a_input a_signs a_ways a_needs a_walk a_one a_several a_ragged a_nextLine  _ hw) gX3_134 ⟨rfl, hd_X3_insults⟩ ⟨Nat.le_of_ble_eq_true rfl, Nat.le_of_ble_eq_true rfl⟩ rfl rfl hP hK [0, 1, 2, 3, 4, 5, 6, 7, 8, 9, 10, 11, 12] rfl 0 rfl rfl rfl rfl hl.1 (Nat.le_of_ble_eq_true rfl) rfl dX3_submit_21 ⟨Nat.le_refl 0, Nat.le_refl 0⟩) (fun r63 hw => ?_)
    refine lv_istore (lv' := [(4, .int r63), (3, .int f_length), (2, .int r61), (0, .ref (ad 0)), (1, .int p0)]) hx hb dX3_submit_24 hl (by decide) rfl (fun ls hl => ?_)
    refine lv_aload_n hx hb dX3_submit_26 rfl (lv_at hl 3 rfl) ?_
    refine lv_iconst (v := (nI 0)) hx hb dX3_submit_27 (by decide) ?_
    refine va_put (D := D) (ci := 2) (v := .int (nI 0)) (ty := .int) (C := RX3) (T := TX3) (N := 20) hx hb hts in_X3 tyX3 tyX3_ok nmX3 hown hK hP hD hS 0 rfl rfl 7 (by decide) (hts _ q1748) (fun _ h9 => h9) rfl (by decide +kernel) rfl rfl (Nat.le_of_ble_eq_true rfl) dX3_submit_28 (fun H locs hP hD hS => ?_)
    have hP : va_P D vwCl (mdl ad dA f_isSaved f_changes f_code_59 (nI 0) f_fault f_signMany f_at_62 f_place a_g a_kept a_saved a_input a_signs a_ways a_needs a_walk a_one a_several a_ragged a_nextLine) H := hP
    have hD : va_D A (mdl ad dA f_isSaved f_changes f_code_59 (nI 0) f_fault f_signMany f_at_62 f_place a_g a_kept a_saved a_input a_signs a_ways a_needs a_walk a_one a_several a_ragged a_nextLine) := hD
    refine lv_iload_n hx hb dX3_submit_31 rfl (lv_at hl 2 rfl) ?_
    refine lv_if_ne (tgt := 43) hx hb dX3_submit_32 (by decide) (fun c64 => ?_) (fun c64 => ?_)
    · have hw := hw.2 c64
      exact hL43  f_changes f_code_59 (nI 0) f_fault f_at_62 a_g a_kept p0 r61 f_length r63 _ _ _ hP hD hS (lv_sub hl [3, 4, 2, 1, 0] rfl) hw
    · have hw := hw.1 c64
      refine lv_aload_n hx hb dX3_submit_35 rfl (lv_at hl 3 rfl) ?_
      refine lv_aload_n hx hb dX3_submit_36 rfl (lv_at hl 3 rfl) ?_
      refine va_get (D := D) (ci := 2) (v := .int f_at_62) (C := RX3) (T := TX3) (N := 20) hx hb hts in_X3 hown hK hP 0 rfl rfl 14 (by decide) (hts _ q1755) (fun _ h9 => h9) rfl dX3_submit_37 ?_
      refine va_put (D := D) (ci := 2) (v := .int f_at_62) (ty := .int) (C := RX3) (T := TX3) (N := 20) hx hb hts in_X3 tyX3 tyX3_ok nmX3 hown hK hP hD hS 0 rfl rfl 8 (by decide) (hts _ q1749) (fun _ h9 => h9) rfl (by decide +kernel) rfl rfl (Nat.le_of_ble_eq_true rfl) dX3_submit_40 (fun H locs hP hD hS => ?_)
      have hP : va_P D vwCl (mdl ad dA f_isSaved f_changes f_code_59 (nI 0) f_at_62 f_signMany f_at_62 f_place a_g a_kept a_saved a_input a_signs a_ways a_needs a_walk a_one a_several a_ragged a_nextLine) H := hP
      have hD : va_D A (mdl ad dA f_isSaved f_changes f_code_59 (nI 0) f_at_62 f_signMany f_at_62 f_place a_g a_kept a_saved a_input a_signs a_ways a_needs a_walk a_one a_several a_ragged a_nextLine) := hD
      exact hL43  f_changes f_code_59 (nI 0) f_at_62 f_at_62 a_g a_kept p0 r61 f_length r63 _ _ _ hP hD hS (lv_sub hl [3, 4, 2, 1, 0] rfl) hw
  · have hw := hw.2 c60
    refine lv_iconst (v := (nI 0)) hx hb dX3_submit_8 (by decide) ?_
    exact W.iret (v := (nI 0)) hx hb hr (fun t ht hW => ⟨⟨(nI 0), (f_changes, f_code_59, f_length, f_fault, f_at, a_g, a_kept), rfl, hw, by rw [ht]; exact hP, va_K.moved hW.alike hK, hD⟩, hS.F ht⟩) hS.2.2 dX3_submit_9
def rm_X3_isKept : Room := { frames := 1, cells := 0, slots := 0, locals := 22 }
set_option maxHeartbeats 4000000 in
set_option maxRecDepth 100000 in
theorem met_X3_isKept (l : Launch) (D : va_G) (dA : Nat → ClassId) (ad : Nat → Nat) (f_isSaved : Int32) (f_changes : Int32) (f_code : Int32) (f_length : Int32) (f_fault : Int32) (f_signMany : Int32) (f_at : Int32) (f_place : Int32) (a_g : (Nat → Int32)) (a_kept : (Nat → Int32)) (a_saved : (Nat → Int32)) (a_input : (Nat → Int32)) (a_signs : (Nat → Int32)) (a_ways : (Nat → Int64)) (a_needs : (Nat → Int32)) (a_walk : (Nat → Int32)) (a_one : (Nat → Int32)) (a_several : (Nat → Int32)) (a_ragged : (Nat → Int32)) (a_nextLine : (Nat → Int32)) (p0 : Int32) (post : Int32 → Prop) (hw : w_X3_isKept post a_g p0) : Met l yX3_isKept (ws_ yX3_isKept cX3_isKept 2 (some .boolean)) rm_X3_isKept (va_Pc [.ref (ad 0), .int p0] (rdB D dA (mdl ad dA f_isSaved f_changes f_code f_length f_fault f_signMany f_at f_place a_g a_kept a_saved a_input a_signs a_ways a_needs a_walk a_one a_several a_ragged a_nextLine))) (vp_Si (fun r => post r)) 0 0 (fun _ => False) := by
  refine Met.ofW (cc := cX3_isKept) (maxL := 2) (ret := (some .boolean)) (by decide) rfl ?_
  intro p e s m args below meth c s₁ B hml hv
  obtain ⟨rfl, hP, hK⟩ := hv
  have hx := B.exec
  have hb := B.bytes
  have hr := B.returns
  have hts := atoms_spec (ws := (ws_ yX3_isKept cX3_isKept 2 (some .boolean))) B.pre
  have hts : ∀ w ∈ lw_all, w.before _ s = true := fun w h => hts w (List.mem_cons_of_mem _ h)
  have hown : s.vm.findClass RX3 = some m.cls := findClass_of_methodNamed B.named
  have hlocks := B.notSynchronized
  have hSx : CallFix p m c cX3_isKept 2 s _ lw_all RX3 := ⟨hx, hb, hml, hown, hts⟩
  have hl := lv_entry ([.ref (ad 0), .int p0]) (n := 2) (Nat.le_of_ble_eq_true rfl)
  rw [lg_entry_eq]
  generalize (lg_sl ([.ref (ad 0), .int p0]) ++ List.replicate (2 - (lg_sl ([.ref (ad 0), .int p0])).length) Slot.unset).toArray = ls at hl ⊢
  have hl : lv_has ls 2 [(0, .ref (ad 0)), (1, .int p0)] := hl
  refine lv_iload_n hx hb dX3_isKept_0 rfl (lv_at hl 1 rfl) ?_
  refine lv_iconst (v := (nI 0)) hx hb dX3_isKept_1 (by decide) ?_
  refine lv_aload_n hx hb dX3_isKept_2 rfl (lv_at hl 0 rfl) ?_
  refine va_get (D := D) (ci := 2) (v := .ref (ad 1)) (C := RX3) (T := TX3) (N := 20) hx hb hts in_X3 hown hK hP 0 rfl rfl 0 (by decide) (hts _ q1741) (fun _ h9 => h9) rfl dX3_isKept_3 ?_
  refine lv_iconst (v := (nI 1)) hx hb dX3_isKept_6 (by decide) ?_
  refine k_iald (k := 1) hx hb hK hP 1 0 rfl rfl (clK 1 (by decide)) (inK (by decide) (by decide)) dX3_isKept_7 ?_
  refine lv_iconst (v := (nI 1)) hx hb dX3_isKept_8 (by decide) ?_
  refine lv_isub hx hb dX3_isKept_9 ?_
  refine k_ri (k_pS (As := [.int p0, .int (nI 0), .int ((a_g 1) - (nI 1))]) (rest := []) hSx (met_X3_in l p0 (nI 0) ((a_g 1) - (nI 1)) _ hw) gX3_62 hd_X3_in ⟨Nat.le_of_ble_eq_true rfl, Nat.le_of_ble_eq_true rfl⟩ rfl rfl rfl hl.1 (Nat.le_of_ble_eq_true rfl) rfl dX3_isKept_10 ⟨Nat.le_refl 0, Nat.le_refl 0⟩) (fun r3 hw => ?_)
  obtain ⟨h4, hw⟩ := hw
  exact W.zret (v := r3) hx hb hr (isB_n h4) (fun t ht hW => ⟨r3, rfl, hw, ht⟩) (fun _ h => by cases h) dX3_isKept_13
theorem gX3_151 : GoodIn lw_all (wsV RX3 151 RX3 yX3_isKept (ws_ yX3_isKept cX3_isKept 2 (some .boolean))) := lw_V q2005 q2007 qs56 q84 q2008
theorem hd_X3_isKept : yX3_isKept.cls ≠ "java/lang/invoke/MethodHandle" ∧ yX3_isKept.cls ≠ "java/lang/invoke/VarHandle" ∧ (parseMethodDescriptor yX3_isKept.desc).map (fun d => d.parameters.length) = some 1 := by decide +kernel
def rm_X3_isLost : Room := { frames := 2, cells := 0, slots := 0, locals := 43 }
set_option maxHeartbeats 4000000 in
set_option maxRecDepth 100000 in
theorem met_X3_isLost (l : Launch) (D : va_G) (dA : Nat → ClassId) (ad : Nat → Nat) (sz : Nat) (f_isSaved : Int32) (f_changes : Int32) (f_code : Int32) (f_length : Int32) (f_fault : Int32) (f_signMany : Int32) (f_at : Int32) (f_place : Int32) (a_g : (Nat → Int32)) (a_kept : (Nat → Int32)) (a_saved : (Nat → Int32)) (a_input : (Nat → Int32)) (a_signs : (Nat → Int32)) (a_ways : (Nat → Int64)) (a_needs : (Nat → Int32)) (a_walk : (Nat → Int32)) (a_one : (Nat → Int32)) (a_several : (Nat → Int32)) (a_ragged : (Nat → Int32)) (a_nextLine : (Nat → Int32)) (p0 : Int32) (post : Int32 → Int32 → Prop) (hw : w_X3_isLost post f_code a_g p0) : Met l yX3_isLost (ws_ yX3_isLost cX3_isLost 2 (some .boolean)) rm_X3_isLost (va_Pc [.ref (ad 0), .int p0] (wrB D dA sz (mdl ad dA f_isSaved f_changes f_code f_length f_fault f_signMany f_at f_place a_g a_kept a_saved a_input a_signs a_ways a_needs a_walk a_one a_several a_ragged a_nextLine))) (va_Qi (fun (r : Int32) (u : Int32) => post r u) (fun (u : Int32) t => wrQ D dA (va_A (mdl ad dA f_isSaved f_changes f_code f_length f_fault f_signMany f_at f_place a_g a_kept a_saved a_input a_signs a_ways a_needs a_walk a_one a_several a_ragged a_nextLine) sz) (mdl ad dA f_isSaved f_changes u f_length f_fault f_signMany f_at f_place a_g a_kept a_saved a_input a_signs a_ways a_needs a_walk a_one a_several a_ragged a_nextLine) t) (va_A (mdl ad dA f_isSaved f_changes f_code f_length f_fault f_signMany f_at f_place a_g a_kept a_saved a_input a_signs a_ways a_needs a_walk a_one a_several a_ragged a_nextLine) sz)) 0 0 (va_A (mdl ad dA f_isSaved f_changes f_code f_length f_fault f_signMany f_at f_place a_g a_kept a_saved a_input a_signs a_ways a_needs a_walk a_one a_several a_ragged a_nextLine) sz) := by
  refine Met.ofW (cc := cX3_isLost) (maxL := 2) (ret := (some .boolean)) (by decide) rfl ?_
  intro p e s m args below meth c s₁ B hml hv
  obtain ⟨rfl, hsz, hP, hK, hD0⟩ := hv
  have hx := B.exec
  have hb := B.bytes
  have hr := B.returns
  have hts := atoms_spec (ws := (ws_ yX3_isLost cX3_isLost 2 (some .boolean))) B.pre
  have hts : ∀ w ∈ lw_all, w.before _ s = true := fun w h => hts w (List.mem_cons_of_mem _ h)
  have hown : s.vm.findClass RX3 = some m.cls := findClass_of_methodNamed B.named
  have hlocks := B.notSynchronized
  have hSx : CallFix p m c cX3_isLost 2 s _ lw_all RX3 := ⟨hx, hb, hml, hown, hts⟩
  subst hsz
  have hD := hD0.self (sz := s.heap.size)
  generalize hAe : va_A (mdl ad dA f_isSaved f_changes f_code f_length f_fault f_signMany f_at f_place a_g a_kept a_saved a_input a_signs a_ways a_needs a_walk a_one a_several a_ragged a_nextLine) s.heap.size = A at hD ⊢
  have hA : ∀ q : Nat, s.heap.size ≤ q → A q := fun q h => by rw [← hAe]; exact Or.inr h
  have hS : va_S A s.heap s.heap [] := va_S.rf
  have hl := lv_entry ([.ref (ad 0), .int p0]) (n := 2) (Nat.le_of_ble_eq_true rfl)
  rw [lg_entry_eq]
  generalize (lg_sl ([.ref (ad 0), .int p0]) ++ List.replicate (2 - (lg_sl ([.ref (ad 0), .int p0])).length) Slot.unset).toArray = ls at hl ⊢
  have hl : lv_has ls 2 [(0, .ref (ad 0)), (1, .int p0)] := hl
  have hL14 : ∀  (f_code : Int32) (s1 : Int32) (H : Heap) (locs : List Loc) (ls : Array Slot), va_P D vwCl (mdl ad dA f_isSaved f_changes f_code f_length f_fault f_signMany f_at f_place a_g a_kept a_saved a_input a_signs a_ways a_needs a_walk a_one a_several a_ragged a_nextLine) H → va_D A (mdl ad dA f_isSaved f_changes f_code f_length f_fault f_signMany f_at f_place a_g a_kept a_saved a_input a_signs a_ways a_needs a_walk a_one a_several a_ragged a_nextLine) → va_S A s.heap H locs → lv_has ls 2 [] → (w_X3_isLost_14 post a_g) f_code s1 → W p l e (headSpec (ws_ yX3_isLost cX3_isLost 2 (some .boolean)) rm_X3_isLost).room s m ([.ref (ad 0), .int p0] : List Value).toArray below meth c H locs 0 0 (MQ below (va_Qi (fun (r : Int32) (u : Int32) => post r u) (fun (u : Int32) t => wrQ D dA A (mdl ad dA f_isSaved f_changes u f_length f_fault f_signMany f_at f_place a_g a_kept a_saved a_input a_signs a_ways a_needs a_walk a_one a_several a_ragged a_nextLine) t) A) ([.ref (ad 0), .int p0] : List Value).toArray s 0 0 A) (F0 m 14 ls [.int s1, .ref (ad 0)]) := by
      intro  f_code s1 H locs ls hP hD hS hl hw
      refine k_wi (wn := fun (u : Int32) => (mdl ad dA f_isSaved f_changes u f_length f_fault f_signMany f_at f_place a_g a_kept a_saved a_input a_signs a_ways a_needs a_walk a_one a_several a_ragged a_nextLine)) (wr := []) (k_wV (As := [.int s1]) (rest := []) hSx (met_X3_fails l D dA ad _ f_isSaved f_changes f_code f_length f_fault f_signMany f_at f_place a_g a_kept a_saved a_input a_signs a_ways a_needs a_walk a_one a_several a_ragged a_nextLine s1 _ hw) gX3_70 ⟨rfl, hd_X3_fails⟩ ⟨Nat.le_of_ble_eq_true rfl, Nat.le_of_ble_eq_true rfl⟩ rfl rfl hP hK hD [0, 1, 2, 3, 4, 5, 6, 7, 8, 9, 10, 11, 12] rfl (by decide) rfl 0 rfl rfl rfl rfl hl.1 (Nat.le_of_ble_eq_true rfl) rfl dX3_isLost_14 ⟨Nat.le_refl 0, Nat.le_refl 0⟩) hP hD hS hA [0, 1, 2, 3, 4, 5, 6, 7, 8, 9, 10, 11, 12] [] [0, 1, 2, 3, 4, 5, 6, 7, 8, 9, 10, 11, 12] rfl rfl (by decide) (by decide) (by decide) (fun _ => rfl) (fun _ => rfl) (fun r6 u H locs hw _ hP hD hS => ?_)
      obtain ⟨f_code_7, rfl⟩ : ∃ z, z = u := ⟨_, rfl⟩
      have hP : va_P D vwCl (mdl ad dA f_isSaved f_changes f_code_7 f_length f_fault f_signMany f_at f_place a_g a_kept a_saved a_input a_signs a_ways a_needs a_walk a_one a_several a_ragged a_nextLine) H := hP
      have hD : va_D A (mdl ad dA f_isSaved f_changes f_code_7 f_length f_fault f_signMany f_at f_place a_g a_kept a_saved a_input a_signs a_ways a_needs a_walk a_one a_several a_ragged a_nextLine) := hD
      obtain ⟨h8, hw⟩ := hw
      exact W.zret (v := r6) hx hb hr (isB_n h8) (fun t ht hW => ⟨⟨r6, f_code_7, rfl, hw, by rw [ht]; exact hP, va_K.moved hW.alike hK, hD⟩, hS.F ht⟩) hS.2.2 dX3_isLost_17
  refine lv_aload_n hx hb dX3_isLost_0 rfl (lv_at hl 0 rfl) ?_
  refine lv_aload_n hx hb dX3_isLost_1 rfl (lv_at hl 0 rfl) ?_
  refine lv_iload_n hx hb dX3_isLost_2 rfl (lv_at hl 1 rfl) ?_
  refine k_ri (k_rV (As := [.int p0]) (rest := [.ref (ad 0)]) hSx (met_X3_isKept l D dA ad f_isSaved f_changes f_code f_length f_fault f_signMany f_at f_place a_g a_kept a_saved a_input a_signs a_ways a_needs a_walk a_one a_several a_ragged a_nextLine p0 _ hw) gX3_151 ⟨rfl, hd_X3_isKept⟩ ⟨Nat.le_of_ble_eq_true rfl, Nat.le_of_ble_eq_true rfl⟩ rfl rfl hP hK [0, 1, 2, 3, 4, 5, 6, 7, 8, 9, 10, 11, 12] rfl 0 rfl rfl rfl rfl hl.1 (Nat.le_of_ble_eq_true rfl) rfl dX3_isLost_3 ⟨Nat.le_refl 0, Nat.le_refl 0⟩) (fun r9 hw => ?_)
  refine lv_if_eq (tgt := 13) hx hb dX3_isLost_6 (by decide) (fun c10 => ?_) (fun c10 => ?_)
  · have hw := hw.1 c10
    refine lv_iconst (v := (nI 1)) hx hb dX3_isLost_13 (by decide) ?_
    exact hL14  f_code (nI 1) _ _ _ hP hD hS (lv_sub hl [] rfl) hw
  · have hw := hw.2 c10
    refine lv_iconst (v := (nI 0)) hx hb dX3_isLost_9 (by decide) ?_
    refine lv_goto (tgt := 14) hx hb dX3_isLost_10 (by decide) ?_
    exact hL14  f_code (nI 0) _ _ _ hP hD hS (lv_sub hl [] rfl) hw
def rm_X3_signOf : Room := { frames := 1, cells := 0, slots := 0, locals := 21 }
set_option maxHeartbeats 4000000 in
set_option maxRecDepth 100000 in
theorem met_X3_signOf (l : Launch) (D : va_G) (dA : Nat → ClassId) (ad : Nat → Nat) (f_isSaved : Int32) (f_changes : Int32) (f_code : Int32) (f_length : Int32) (f_fault : Int32) (f_signMany : Int32) (f_at : Int32) (f_place : Int32) (a_g : (Nat → Int32)) (a_kept : (Nat → Int32)) (a_saved : (Nat → Int32)) (a_input : (Nat → Int32)) (a_signs : (Nat → Int32)) (a_ways : (Nat → Int64)) (a_needs : (Nat → Int32)) (a_walk : (Nat → Int32)) (a_one : (Nat → Int32)) (a_several : (Nat → Int32)) (a_ragged : (Nat → Int32)) (a_nextLine : (Nat → Int32)) (p0 : Int32) (p1 : Int32) (post : Int32 → Prop) (hw : w_X3_signOf post a_g p0 p1) : Met l yX3_signOf (ws_ yX3_signOf cX3_signOf 3 (some .int)) rm_X3_signOf (va_Pc [.ref (ad 0), .int p0, .int p1] (rdB D dA (mdl ad dA f_isSaved f_changes f_code f_length f_fault f_signMany f_at f_place a_g a_kept a_saved a_input a_signs a_ways a_needs a_walk a_one a_several a_ragged a_nextLine))) (vp_Si (fun r => post r)) 0 0 (fun _ => False) := by
  refine Met.ofW (cc := cX3_signOf) (maxL := 3) (ret := (some .int)) (by decide) rfl ?_
  intro p e s m args below meth c s₁ B hml hv
  obtain ⟨rfl, hP, hK⟩ := hv
  have hx := B.exec
  have hb := B.bytes
  have hr := B.returns
  have hts := atoms_spec (ws := (ws_ yX3_signOf cX3_signOf 3 (some .int))) B.pre
  have hts : ∀ w ∈ lw_all, w.before _ s = true := fun w h => hts w (List.mem_cons_of_mem _ h)
  have hown : s.vm.findClass RX3 = some m.cls := findClass_of_methodNamed B.named
  have hlocks := B.notSynchronized
  have hSx : CallFix p m c cX3_signOf 3 s _ lw_all RX3 := ⟨hx, hb, hml, hown, hts⟩
  have hl := lv_entry ([.ref (ad 0), .int p0, .int p1]) (n := 3) (Nat.le_of_ble_eq_true rfl)
  rw [lg_entry_eq]
  generalize (lg_sl ([.ref (ad 0), .int p0, .int p1]) ++ List.replicate (3 - (lg_sl ([.ref (ad 0), .int p0, .int p1])).length) Slot.unset).toArray = ls at hl ⊢
  have hl : lv_has ls 3 [(0, .ref (ad 0)), (1, .int p0), (2, .int p1)] := hl
  refine lv_aload_n hx hb dX3_signOf_0 rfl (lv_at hl 0 rfl) ?_
  refine va_get (D := D) (ci := 2) (v := .ref (ad 1)) (C := RX3) (T := TX3) (N := 20) hx hb hts in_X3 hown hK hP 0 rfl rfl 0 (by decide) (hts _ q1741) (fun _ h9 => h9) rfl dX3_signOf_1 ?_
  refine lv_aload_n hx hb dX3_signOf_4 rfl (lv_at hl 0 rfl) ?_
  refine lv_iload_n hx hb dX3_signOf_5 rfl (lv_at hl 1 rfl) ?_
  refine k_ri (k_rV (As := [.int p0]) (rest := [.ref (ad 1)]) hSx (met_X3_row l D dA ad f_isSaved f_changes f_code f_length f_fault f_signMany f_at f_place a_g a_kept a_saved a_input a_signs a_ways a_needs a_walk a_one a_several a_ragged a_nextLine p0 _ hw) gX3_154 ⟨rfl, hd_X3_row⟩ ⟨Nat.le_of_ble_eq_true rfl, Nat.le_of_ble_eq_true rfl⟩ rfl rfl hP hK [0, 1, 2, 3, 4, 5, 6, 7, 8, 9, 10, 11, 12] rfl 0 rfl rfl rfl rfl hl.1 (Nat.le_of_ble_eq_true rfl) rfl dX3_signOf_6 ⟨Nat.le_refl 0, Nat.le_refl 0⟩) (fun r3 hw => ?_)
  refine lv_iconst (v := (nI 2)) hx hb dX3_signOf_9 (by decide) ?_
  refine lv_iadd hx hb dX3_signOf_10 ?_
  refine lv_iload_n hx hb dX3_signOf_11 rfl (lv_at hl 2 rfl) ?_
  refine lv_iadd hx hb dX3_signOf_12 ?_
  obtain ⟨h4, hw⟩ := hw
  refine k_iald (k := ((r3 + (nI 2)) + p1).toNatClampNeg) hx hb hK hP 1 0 rfl rfl rfl h4 dX3_signOf_13 ?_
  exact W.iret (v := (a_g ((r3 + (nI 2)) + p1).toNatClampNeg)) hx hb hr (fun t ht hW => ⟨(a_g ((r3 + (nI 2)) + p1).toNatClampNeg), rfl, hw, ht⟩) (fun _ h => by cases h) dX3_signOf_14
theorem gX3_163 : GoodIn lw_all (wsV RX3 163 RX3 yX3_signOf (ws_ yX3_signOf cX3_signOf 3 (some .int))) := lw_V q2017 q2019 qs59 q84 q2020
theorem hd_X3_signOf : yX3_signOf.cls ≠ "java/lang/invoke/MethodHandle" ∧ yX3_signOf.cls ≠ "java/lang/invoke/VarHandle" ∧ (parseMethodDescriptor yX3_signOf.desc).map (fun d => d.parameters.length) = some 2 := by decide +kernel
theorem gX3_166 : GoodIn lw_all (wsV RX3 166 RX3 yX3_worth (ws_ yX3_worth cX3_worth 4 (some .int))) := lw_V q2013 q2015 qs58 q84 q2016
theorem hd_X3_worth : yX3_worth.cls ≠ "java/lang/invoke/MethodHandle" ∧ yX3_worth.cls ≠ "java/lang/invoke/VarHandle" ∧ (parseMethodDescriptor yX3_worth.desc).map (fun d => d.parameters.length) = some 1 := by decide +kernel
def rm_X3_worth (d : Nat) : Room := { frames := 2 + d, cells := 0, slots := 0, locals := 43 + 23 * d }
set_option maxHeartbeats 4000000 in
set_option maxRecDepth 100000 in
theorem met_X3_worth_r (l : Launch) (D : va_G) (dA : Nat → ClassId) : ∀ (d : Nat) (ad : Nat → Nat) (sz : Nat) (f_isSaved : Int32) (f_changes : Int32) (f_code : Int32) (f_length : Int32) (f_fault : Int32) (f_signMany : Int32) (f_at : Int32) (f_place : Int32) (a_g : (Nat → Int32)) (a_kept : (Nat → Int32)) (a_saved : (Nat → Int32)) (a_input : (Nat → Int32)) (a_signs : (Nat → Int32)) (a_ways : (Nat → Int64)) (a_needs : (Nat → Int32)) (a_walk : (Nat → Int32)) (a_one : (Nat → Int32)) (a_several : (Nat → Int32)) (a_ragged : (Nat → Int32)) (a_nextLine : (Nat → Int32)) (p0 : Int32) (post : Int32 → Int32 → Prop) (hw : wR_X3_worth d post f_place a_g p0), Met l yX3_worth (ws_ yX3_worth cX3_worth 4 (some .int)) (rm_X3_worth d) (va_Pc [.ref (ad 0), .int p0] (wrB D dA sz (mdl ad dA f_isSaved f_changes f_code f_length f_fault f_signMany f_at f_place a_g a_kept a_saved a_input a_signs a_ways a_needs a_walk a_one a_several a_ragged a_nextLine))) (va_Qi (fun (r : Int32) (u : Int32) => post r u) (fun (u : Int32) t => wrQ D dA (va_A (mdl ad dA f_isSaved f_changes f_code f_length f_fault f_signMany f_at f_place a_g a_kept a_saved a_input a_signs a_ways a_needs a_walk a_one a_several a_ragged a_nextLine) sz) (mdl ad dA f_isSaved f_changes f_code f_length f_fault f_signMany f_at u a_g a_kept a_saved a_input a_signs a_ways a_needs a_walk a_one a_several a_ragged a_nextLine) t) (va_A (mdl ad dA f_isSaved f_changes f_code f_length f_fault f_signMany f_at f_place a_g a_kept a_saved a_input a_signs a_ways a_needs a_walk a_one a_several a_ragged a_nextLine) sz)) 0 0 (va_A (mdl ad dA f_isSaved f_changes f_code f_length f_fault f_signMany f_at f_place a_g a_kept a_saved a_input a_signs a_ways a_needs a_walk a_one a_several a_ragged a_nextLine) sz) := by
  intro d
  induction d with
  | zero => intro ad sz f_isSaved f_changes f_code f_length f_fault f_signMany f_at f_place a_g a_kept a_saved a_input a_signs a_ways a_needs a_walk a_one a_several a_ragged a_nextLine p0 post hw; exact absurd hw id
  | succ d ih =>
  intro ad sz f_isSaved f_changes f_code f_length f_fault f_signMany f_at f_place a_g a_kept a_saved a_input a_signs a_ways a_needs a_walk a_one a_several a_ragged a_nextLine p0 post hw
  have hw : w_X3_worth (wR_X3_worth d) post f_place a_g p0 := hw
  refine Met.ofW (cc := cX3_worth) (maxL := 4) (ret := (some .int)) (by decide) rfl ?_
  intro p e s m args below meth c s₁ B hml hv
  obtain ⟨rfl, hsz, hP, hK, hD0⟩ := hv
  have hx := B.exec
  have hb := B.bytes
  have hr := B.returns
  have hts := atoms_spec (ws := (ws_ yX3_worth cX3_worth 4 (some .int))) B.pre
  have hts : ∀ w ∈ lw_all, w.before _ s = true := fun w h => hts w (List.mem_cons_of_mem _ h)
  have hown : s.vm.findClass RX3 = some m.cls := findClass_of_methodNamed B.named
  have hlocks := B.notSynchronized
  have hSx : CallFix p m c cX3_worth 4 s _ lw_all RX3 := ⟨hx, hb, hml, hown, hts⟩
  subst hsz
  have hD := hD0.self (sz := s.heap.size)
  generalize hAe : va_A (mdl ad dA f_isSaved f_changes f_code f_length f_fault f_signMany f_at f_place a_g a_kept a_saved a_input a_signs a_ways a_needs a_walk a_one a_several a_ragged a_nextLine) s.heap.size = A at hD ⊢
  have hA : ∀ q : Nat, s.heap.size ≤ q → A q := fun q h => by rw [← hAe]; exact Or.inr h
  have hS : va_S A s.heap s.heap [] := va_S.rf
  have hl := lv_entry ([.ref (ad 0), .int p0]) (n := 4) (Nat.le_of_ble_eq_true rfl)
  rw [lg_entry_eq]
  generalize (lg_sl ([.ref (ad 0), .int p0]) ++ List.replicate (4 - (lg_sl ([.ref (ad 0), .int p0])).length) Slot.unset).toArray = ls at hl ⊢
  have hl : lv_has ls 4 [(0, .ref (ad 0)), (1, .int p0)] := hl
  have hL69 : ∀  (n : Nat) (f_place : Int32) (v1 : Int32) (v3 : Int32) (H : Heap) (locs : List Loc) (ls : Array Slot), va_P D vwCl (mdl ad dA f_isSaved f_changes f_code f_length f_fault f_signMany f_at f_place a_g a_kept a_saved a_input a_signs a_ways a_needs a_walk a_one a_several a_ragged a_nextLine) H → va_D A (mdl ad dA f_isSaved f_changes f_code f_length f_fault f_signMany f_at f_place a_g a_kept a_saved a_input a_signs a_ways a_needs a_walk a_one a_several a_ragged a_nextLine) → va_S A s.heap H locs → lv_has ls 4 [(0, .ref (ad 0)), (1, .int v1), (3, .int v3)] → lpF (fun _ _ _ => False) (w_X3_worth_69 (wR_X3_worth d) post a_g) n f_place v1 v3 → W p l e (headSpec (ws_ yX3_worth cX3_worth 4 (some .int)) (rm_X3_worth (d + 1))).room s m ([.ref (ad 0), .int p0] : List Value).toArray below meth c H locs 0 0 (MQ below (va_Qi (fun (r : Int32) (u : Int32) => post r u) (fun (u : Int32) t => wrQ D dA A (mdl ad dA f_isSaved f_changes f_code f_length f_fault f_signMany f_at u a_g a_kept a_saved a_input a_signs a_ways a_needs a_walk a_one a_several a_ragged a_nextLine) t) A) ([.ref (ad 0), .int p0] : List Value).toArray s 0 0 A) (F0 m 69 ls []) := by
    intro  n
    induction n with
    | zero => intro f_place v1 v3 H locs ls hP hD hS hl hw; exact absurd hw id
    | succ n hk69 =>
      intro f_place v1 v3 H locs ls hP hD hS hl hw
      generalize hk9 : lpF (fun _ _ _ => False) (w_X3_worth_69 (wR_X3_worth d) post a_g) n = k69 at hk69
      have hw : (w_X3_worth_69 (wR_X3_worth d) post a_g) k69 f_place v1 v3 := hk9 ▸ hw
      refine lv_aload_n hx hb dX3_worth_69 rfl (lv_at hl 0 rfl) ?_
      refine lv_iload_n hx hb dX3_worth_70 rfl (lv_at hl 1 rfl) ?_
      refine lv_aload_n hx hb dX3_worth_71 rfl (lv_at hl 0 rfl) ?_
      refine va_get (D := D) (ci := 2) (v := .int f_place) (C := RX3) (T := TX3) (N := 20) hx hb hts in_X3 hown hK hP 0 rfl rfl 17 (by decide) (hts _ q1758) (fun _ h9 => h9) rfl dX3_worth_72 ?_
      refine k_ri (k_rV (As := [.int v1, .int f_place]) (rest := []) hSx (met_X3_signOf l D dA ad f_isSaved f_changes f_code f_length f_fault f_signMany f_at f_place a_g a_kept a_saved a_input a_signs a_ways a_needs a_walk a_one a_several a_ragged a_nextLine v1 f_place _ hw) gX3_163 ⟨rfl, hd_X3_signOf⟩ (by dsimp [headSpec, rm_X3_signOf, rm_X3_worth]; omega) rfl rfl hP hK [0, 1, 2, 3, 4, 5, 6, 7, 8, 9, 10, 11, 12] rfl 0 rfl rfl rfl rfl hl.1 (Nat.le_of_ble_eq_true rfl) rfl dX3_worth_75 ⟨Nat.le_refl 0, Nat.le_refl 0⟩) (fun r16 hw => ?_)
      refine lv_bipush (v := (nI 44)) hx hb dX3_worth_78 (by decide) ?_
      refine lv_icmp_ne (tgt := 104) hx hb dX3_worth_80 (by decide) (fun c17 => ?_) (fun c17 => ?_)
      · have hw := hw.2 c17
        refine lv_aload_n hx hb dX3_worth_104 rfl (lv_at hl 0 rfl) ?_
        refine lv_dup hx hb dX3_worth_105 rfl ?_
        refine va_get (D := D) (ci := 2) (v := .int f_place) (C := RX3) (T := TX3) (N := 20) hx hb hts in_X3 hown hK hP 0 rfl rfl 17 (by decide) (hts _ q1758) (fun _ h9 => h9) rfl dX3_worth_106 ?_
        refine lv_iconst (v := (nI 1)) hx hb dX3_worth_109 (by decide) ?_
        refine lv_iadd hx hb dX3_worth_110 ?_
        refine va_put (D := D) (ci := 2) (v := .int (f_place + (nI 1))) (ty := .int) (C := RX3) (T := TX3) (N := 20) hx hb hts in_X3 tyX3 tyX3_ok nmX3 hown hK hP hD hS 0 rfl rfl 17 (by decide) (hts _ q1758) (fun _ h9 => h9) rfl (by decide +kernel) rfl rfl (Nat.le_of_ble_eq_true rfl) dX3_worth_111 (fun H locs hP hD hS => ?_)
        have hP : va_P D vwCl (mdl ad dA f_isSaved f_changes f_code f_length f_fault f_signMany f_at (f_place + (nI 1)) a_g a_kept a_saved a_input a_signs a_ways a_needs a_walk a_one a_several a_ragged a_nextLine) H := hP
        have hD : va_D A (mdl ad dA f_isSaved f_changes f_code f_length f_fault f_signMany f_at (f_place + (nI 1)) a_g a_kept a_saved a_input a_signs a_ways a_needs a_walk a_one a_several a_ragged a_nextLine) := hD
        refine lv_iload_n hx hb dX3_worth_114 rfl (lv_at hl 2 rfl) ?_
        exact W.iret (v := v3) hx hb hr (fun t ht hW => ⟨⟨v3, (f_place + (nI 1)), rfl, hw, by rw [ht]; exact hP, va_K.moved hW.alike hK, hD⟩, hS.F ht⟩) hS.2.2 dX3_worth_115
      · have hw := hw.1 c17
        refine lv_aload_n hx hb dX3_worth_83 rfl (lv_at hl 0 rfl) ?_
        refine lv_dup hx hb dX3_worth_84 rfl ?_
        refine va_get (D := D) (ci := 2) (v := .int f_place) (C := RX3) (T := TX3) (N := 20) hx hb hts in_X3 hown hK hP 0 rfl rfl 17 (by decide) (hts _ q1758) (fun _ h9 => h9) rfl dX3_worth_85 ?_
        refine lv_iconst (v := (nI 1)) hx hb dX3_worth_88 (by decide) ?_
        refine lv_iadd hx hb dX3_worth_89 ?_
        refine va_put (D := D) (ci := 2) (v := .int (f_place + (nI 1))) (ty := .int) (C := RX3) (T := TX3) (N := 20) hx hb hts in_X3 tyX3 tyX3_ok nmX3 hown hK hP hD hS 0 rfl rfl 17 (by decide) (hts _ q1758) (fun _ h9 => h9) rfl (by decide +kernel) rfl rfl (Nat.le_of_ble_eq_true rfl) dX3_worth_90 (fun H locs hP hD hS => ?_)
        have hP : va_P D vwCl (mdl ad dA f_isSaved f_changes f_code f_length f_fault f_signMany f_at (f_place + (nI 1)) a_g a_kept a_saved a_input a_signs a_ways a_needs a_walk a_one a_several a_ragged a_nextLine) H := hP
        have hD : va_D A (mdl ad dA f_isSaved f_changes f_code f_length f_fault f_signMany f_at (f_place + (nI 1)) a_g a_kept a_saved a_input a_signs a_ways a_needs a_walk a_one a_several a_ragged a_nextLine) := hD
        refine lv_iload_n hx hb dX3_worth_93 rfl (lv_at hl 2 rfl) ?_
        refine lv_aload_n hx hb dX3_worth_94 rfl (lv_at hl 0 rfl) ?_
        refine lv_iload_n hx hb dX3_worth_95 rfl (lv_at hl 1 rfl) ?_
        refine k_wi (wn := fun (u : Int32) => (mdl ad dA f_isSaved f_changes f_code f_length f_fault f_signMany f_at u a_g a_kept a_saved a_input a_signs a_ways a_needs a_walk a_one a_several a_ragged a_nextLine)) (wr := []) (k_wV (As := [.int v1]) (rest := [.int v3]) hSx (ih ad _ f_isSaved f_changes f_code f_length f_fault f_signMany f_at (f_place + (nI 1)) a_g a_kept a_saved a_input a_signs a_ways a_needs a_walk a_one a_several a_ragged a_nextLine v1 _ hw) gX3_166 ⟨rfl, hd_X3_worth⟩ (by dsimp [headSpec, rm_X3_worth, rm_X3_worth]; omega) rfl rfl hP hK hD [0, 1, 2, 3, 4, 5, 6, 7, 8, 9, 10, 11, 12] rfl (by decide) rfl 0 rfl rfl rfl rfl hl.1 (Nat.le_of_ble_eq_true rfl) rfl dX3_worth_96 ⟨Nat.le_refl 0, Nat.le_refl 0⟩) hP hD hS hA [0, 1, 2, 3, 4, 5, 6, 7, 8, 9, 10, 11, 12] [] [0, 1, 2, 3, 4, 5, 6, 7, 8, 9, 10, 11, 12] rfl rfl (by decide) (by decide) (by decide) (fun _ => rfl) (fun _ => rfl) (fun r18 u H locs hw _ hP hD hS => ?_)
        obtain ⟨f_place_19, rfl⟩ : ∃ z, z = u := ⟨_, rfl⟩
        have hP : va_P D vwCl (mdl ad dA f_isSaved f_changes f_code f_length f_fault f_signMany f_at f_place_19 a_g a_kept a_saved a_input a_signs a_ways a_needs a_walk a_one a_several a_ragged a_nextLine) H := hP
        have hD : va_D A (mdl ad dA f_isSaved f_changes f_code f_length f_fault f_signMany f_at f_place_19 a_g a_kept a_saved a_input a_signs a_ways a_needs a_walk a_one a_several a_ragged a_nextLine) := hD
        refine lv_iadd hx hb dX3_worth_99 ?_
        refine lv_istore_n (lv' := [(3, .int (v3 + r18)), (0, .ref (ad 0)), (1, .int v1)]) hx hb dX3_worth_100 rfl hl (by decide) rfl (fun ls hl => ?_)
        refine lv_goto (tgt := 69) hx hb dX3_worth_101 (by decide) ?_
        exact hk69 f_place_19 v1 (v3 + r18) _ _ _ hP hD hS (lv_sub hl [1, 2, 0] rfl) hw
  refine lv_aload_n hx hb dX3_worth_0 rfl (lv_at hl 0 rfl) ?_
  refine lv_iload_n hx hb dX3_worth_1 rfl (lv_at hl 1 rfl) ?_
  refine lv_aload_n hx hb dX3_worth_2 rfl (lv_at hl 0 rfl) ?_
  refine va_get (D := D) (ci := 2) (v := .int f_place) (C := RX3) (T := TX3) (N := 20) hx hb hts in_X3 hown hK hP 0 rfl rfl 17 (by decide) (hts _ q1758) (fun _ h9 => h9) rfl dX3_worth_3 ?_
  refine k_ri (k_rV (As := [.int p0, .int f_place]) (rest := []) hSx (met_X3_signOf l D dA ad f_isSaved f_changes f_code f_length f_fault f_signMany f_at f_place a_g a_kept a_saved a_input a_signs a_ways a_needs a_walk a_one a_several a_ragged a_nextLine p0 f_place _ hw) gX3_163 ⟨rfl, hd_X3_signOf⟩ (by dsimp [headSpec, rm_X3_signOf, rm_X3_worth]; omega) rfl rfl hP hK [0, 1, 2, 3, 4, 5, 6, 7, 8, 9, 10, 11, 12] rfl 0 rfl rfl rfl rfl hl.1 (Nat.le_of_ble_eq_true rfl) rfl dX3_worth_6 ⟨Nat.le_refl 0, Nat.le_refl 0⟩) (fun r20 hw => ?_)
  refine lv_istore_n (lv' := [(2, .int r20), (0, .ref (ad 0)), (1, .int p0)]) hx hb dX3_worth_9 rfl hl (by decide) rfl (fun ls hl => ?_)
  refine lv_aload_n hx hb dX3_worth_10 rfl (lv_at hl 1 rfl) ?_
  refine lv_dup hx hb dX3_worth_11 rfl ?_
  refine va_get (D := D) (ci := 2) (v := .int f_place) (C := RX3) (T := TX3) (N := 20) hx hb hts in_X3 hown hK hP 0 rfl rfl 17 (by decide) (hts _ q1758) (fun _ h9 => h9) rfl dX3_worth_12 ?_
  refine lv_iconst (v := (nI 1)) hx hb dX3_worth_15 (by decide) ?_
  refine lv_iadd hx hb dX3_worth_16 ?_
  refine va_put (D := D) (ci := 2) (v := .int (f_place + (nI 1))) (ty := .int) (C := RX3) (T := TX3) (N := 20) hx hb hts in_X3 tyX3 tyX3_ok nmX3 hown hK hP hD hS 0 rfl rfl 17 (by decide) (hts _ q1758) (fun _ h9 => h9) rfl (by decide +kernel) rfl rfl (Nat.le_of_ble_eq_true rfl) dX3_worth_17 (fun H locs hP hD hS => ?_)
  have hP : va_P D vwCl (mdl ad dA f_isSaved f_changes f_code f_length f_fault f_signMany f_at (f_place + (nI 1)) a_g a_kept a_saved a_input a_signs a_ways a_needs a_walk a_one a_several a_ragged a_nextLine) H := hP
  have hD : va_D A (mdl ad dA f_isSaved f_changes f_code f_length f_fault f_signMany f_at (f_place + (nI 1)) a_g a_kept a_saved a_input a_signs a_ways a_needs a_walk a_one a_several a_ragged a_nextLine) := hD
  refine lv_iload_n hx hb dX3_worth_20 rfl (lv_at hl 0 rfl) ?_
  refine lv_bipush (v := (nI 112)) hx hb dX3_worth_21 (by decide) ?_
  refine lv_icmp_ne (tgt := 34) hx hb dX3_worth_23 (by decide) (fun c21 => ?_) (fun c21 => ?_)
  · have hw := hw.2 c21
    refine lv_iload_n hx hb dX3_worth_34 rfl (lv_at hl 0 rfl) ?_
    refine lv_bipush (v := (nI 98)) hx hb dX3_worth_35 (by decide) ?_
    refine lv_icmp_ne (tgt := 52) hx hb dX3_worth_37 (by decide) (fun c22 => ?_) (fun c22 => ?_)
    · have hw := hw.2 c22
      refine lv_iload_n hx hb dX3_worth_52 rfl (lv_at hl 0 rfl) ?_
      refine lv_bipush (v := (nI 40)) hx hb dX3_worth_53 (by decide) ?_
      refine lv_icmp_eq (tgt := 63) hx hb dX3_worth_55 (by decide) (fun c23 => ?_) (fun c23 => ?_)
      · have hw := hw.1 c23
        refine lv_aload_n hx hb dX3_worth_63 rfl (lv_at hl 1 rfl) ?_
        refine lv_iload_n hx hb dX3_worth_64 rfl (lv_at hl 2 rfl) ?_
        refine k_wi (wn := fun (u : Int32) => (mdl ad dA f_isSaved f_changes f_code f_length f_fault f_signMany f_at u a_g a_kept a_saved a_input a_signs a_ways a_needs a_walk a_one a_several a_ragged a_nextLine)) (wr := []) (k_wV (As := [.int p0]) (rest := []) hSx (ih ad _ f_isSaved f_changes f_code f_length f_fault f_signMany f_at (f_place + (nI 1)) a_g a_kept a_saved a_input a_signs a_ways a_needs a_walk a_one a_several a_ragged a_nextLine p0 _ hw) gX3_166 ⟨rfl, hd_X3_worth⟩ (by dsimp [headSpec, rm_X3_worth, rm_X3_worth]; omega) rfl rfl hP hK hD [0, 1, 2, 3, 4, 5, 6, 7, 8, 9, 10, 11, 12] rfl (by decide) rfl 0 rfl rfl rfl rfl hl.1 (Nat.le_of_ble_eq_true rfl) rfl dX3_worth_65 ⟨Nat.le_refl 0, Nat.le_refl 0⟩) hP hD hS hA [0, 1, 2, 3, 4, 5, 6, 7, 8, 9, 10, 11, 12] [] [0, 1, 2, 3, 4, 5, 6, 7, 8, 9, 10, 11, 12] rfl rfl (by decide) (by decide) (by decide) (fun _ => rfl) (fun _ => rfl) (fun r24 u H locs hw _ hP hD hS => ?_)
        obtain ⟨f_place_25, rfl⟩ : ∃ z, z = u := ⟨_, rfl⟩
        have hP : va_P D vwCl (mdl ad dA f_isSaved f_changes f_code f_length f_fault f_signMany f_at f_place_25 a_g a_kept a_saved a_input a_signs a_ways a_needs a_walk a_one a_several a_ragged a_nextLine) H := hP
        have hD : va_D A (mdl ad dA f_isSaved f_changes f_code f_length f_fault f_signMany f_at f_place_25 a_g a_kept a_saved a_input a_signs a_ways a_needs a_walk a_one a_several a_ragged a_nextLine) := hD
        refine lv_istore_n (lv' := [(3, .int r24), (2, .int r20), (0, .ref (ad 0)), (1, .int p0)]) hx hb dX3_worth_68 rfl hl (by decide) rfl (fun ls hl => ?_)
        obtain ⟨n, hw⟩ := hw
        exact hL69  n f_place_25 p0 r24 _ _ _ hP hD hS (lv_sub hl [2, 3, 0] rfl) hw
      · have hw := hw.2 c23
        refine lv_iload_n hx hb dX3_worth_58 rfl (lv_at hl 0 rfl) ?_
        refine lv_bipush (v := (nI 48)) hx hb dX3_worth_59 (by decide) ?_
        refine lv_isub hx hb dX3_worth_61 ?_
        exact W.iret (v := (r20 - (nI 48))) hx hb hr (fun t ht hW => ⟨⟨(r20 - (nI 48)), (f_place + (nI 1)), rfl, hw, by rw [ht]; exact hP, va_K.moved hW.alike hK, hD⟩, hS.F ht⟩) hS.2.2 dX3_worth_62
    · have hw := hw.1 c22
      refine lv_iconst (v := (nI 0)) hx hb dX3_worth_40 (by decide) ?_
      refine lv_aload_n hx hb dX3_worth_41 rfl (lv_at hl 1 rfl) ?_
      refine lv_iload_n hx hb dX3_worth_42 rfl (lv_at hl 2 rfl) ?_
      refine k_wi (wn := fun (u : Int32) => (mdl ad dA f_isSaved f_changes f_code f_length f_fault f_signMany f_at u a_g a_kept a_saved a_input a_signs a_ways a_needs a_walk a_one a_several a_ragged a_nextLine)) (wr := []) (k_wV (As := [.int p0]) (rest := [.int (nI 0)]) hSx (ih ad _ f_isSaved f_changes f_code f_length f_fault f_signMany f_at (f_place + (nI 1)) a_g a_kept a_saved a_input a_signs a_ways a_needs a_walk a_one a_several a_ragged a_nextLine p0 _ hw) gX3_166 ⟨rfl, hd_X3_worth⟩ (by dsimp [headSpec, rm_X3_worth, rm_X3_worth]; omega) rfl rfl hP hK hD [0, 1, 2, 3, 4, 5, 6, 7, 8, 9, 10, 11, 12] rfl (by decide) rfl 0 rfl rfl rfl rfl hl.1 (Nat.le_of_ble_eq_true rfl) rfl dX3_worth_43 ⟨Nat.le_refl 0, Nat.le_refl 0⟩) hP hD hS hA [0, 1, 2, 3, 4, 5, 6, 7, 8, 9, 10, 11, 12] [] [0, 1, 2, 3, 4, 5, 6, 7, 8, 9, 10, 11, 12] rfl rfl (by decide) (by decide) (by decide) (fun _ => rfl) (fun _ => rfl) (fun r26 u H locs hw _ hP hD hS => ?_)
      obtain ⟨f_place_27, rfl⟩ : ∃ z, z = u := ⟨_, rfl⟩
      have hP : va_P D vwCl (mdl ad dA f_isSaved f_changes f_code f_length f_fault f_signMany f_at f_place_27 a_g a_kept a_saved a_input a_signs a_ways a_needs a_walk a_one a_several a_ragged a_nextLine) H := hP
      have hD : va_D A (mdl ad dA f_isSaved f_changes f_code f_length f_fault f_signMany f_at f_place_27 a_g a_kept a_saved a_input a_signs a_ways a_needs a_walk a_one a_several a_ragged a_nextLine) := hD
      refine lv_iconst (v := (nI 1)) hx hb dX3_worth_46 (by decide) ?_
      refine lv_isub hx hb dX3_worth_47 ?_
      refine k_ri (k_pS (As := [.int (nI 0), .int (r26 - (nI 1))]) (rest := []) hSx (met_X3_most l (nI 0) (r26 - (nI 1)) _ hw) gX3_137 hd_X3_most (by dsimp [headSpec, rm_X3_most, rm_X3_worth]; omega) rfl rfl rfl hl.1 (Nat.le_of_ble_eq_true rfl) rfl dX3_worth_48 ⟨Nat.le_refl 0, Nat.le_refl 0⟩) (fun r28 hw => ?_)
      exact W.iret (v := r28) hx hb hr (fun t ht hW => ⟨⟨r28, f_place_27, rfl, hw, by rw [ht]; exact hP, va_K.moved hW.alike hK, hD⟩, hS.F ht⟩) hS.2.2 dX3_worth_51
  · have hw := hw.1 c21
    refine lv_aload_n hx hb dX3_worth_26 rfl (lv_at hl 1 rfl) ?_
    refine lv_iload_n hx hb dX3_worth_27 rfl (lv_at hl 2 rfl) ?_
    refine k_wi (wn := fun (u : Int32) => (mdl ad dA f_isSaved f_changes f_code f_length f_fault f_signMany f_at u a_g a_kept a_saved a_input a_signs a_ways a_needs a_walk a_one a_several a_ragged a_nextLine)) (wr := []) (k_wV (As := [.int p0]) (rest := []) hSx (ih ad _ f_isSaved f_changes f_code f_length f_fault f_signMany f_at (f_place + (nI 1)) a_g a_kept a_saved a_input a_signs a_ways a_needs a_walk a_one a_several a_ragged a_nextLine p0 _ hw) gX3_166 ⟨rfl, hd_X3_worth⟩ (by dsimp [headSpec, rm_X3_worth, rm_X3_worth]; omega) rfl rfl hP hK hD [0, 1, 2, 3, 4, 5, 6, 7, 8, 9, 10, 11, 12] rfl (by decide) rfl 0 rfl rfl rfl rfl hl.1 (Nat.le_of_ble_eq_true rfl) rfl dX3_worth_28 ⟨Nat.le_refl 0, Nat.le_refl 0⟩) hP hD hS hA [0, 1, 2, 3, 4, 5, 6, 7, 8, 9, 10, 11, 12] [] [0, 1, 2, 3, 4, 5, 6, 7, 8, 9, 10, 11, 12] rfl rfl (by decide) (by decide) (by decide) (fun _ => rfl) (fun _ => rfl) (fun r29 u H locs hw _ hP hD hS => ?_)
    obtain ⟨f_place_30, rfl⟩ : ∃ z, z = u := ⟨_, rfl⟩
    have hP : va_P D vwCl (mdl ad dA f_isSaved f_changes f_code f_length f_fault f_signMany f_at f_place_30 a_g a_kept a_saved a_input a_signs a_ways a_needs a_walk a_one a_several a_ragged a_nextLine) H := hP
    have hD : va_D A (mdl ad dA f_isSaved f_changes f_code f_length f_fault f_signMany f_at f_place_30 a_g a_kept a_saved a_input a_signs a_ways a_needs a_walk a_one a_several a_ragged a_nextLine) := hD
    refine lv_iconst (v := (nI 2)) hx hb dX3_worth_31 (by decide) ?_
    refine lv_idiv hx hb dX3_worth_32 (by decide) ?_
    exact W.iret (v := (r29 / (nI 2))) hx hb hr (fun t ht hW => ⟨⟨(r29 / (nI 2)), f_place_30, rfl, hw, by rw [ht]; exact hP, va_K.moved hW.alike hK, hD⟩, hS.F ht⟩) hS.2.2 dX3_worth_33
set_option maxHeartbeats 4000000 in
theorem met_X3_worth (l : Launch) (D : va_G) (dA : Nat → ClassId) (ad : Nat → Nat) (sz : Nat) (f_isSaved : Int32) (f_changes : Int32) (f_code : Int32) (f_length : Int32) (f_fault : Int32) (f_signMany : Int32) (f_at : Int32) (f_place : Int32) (a_g : (Nat → Int32)) (a_kept : (Nat → Int32)) (a_saved : (Nat → Int32)) (a_input : (Nat → Int32)) (a_signs : (Nat → Int32)) (a_ways : (Nat → Int64)) (a_needs : (Nat → Int32)) (a_walk : (Nat → Int32)) (a_one : (Nat → Int32)) (a_several : (Nat → Int32)) (a_ragged : (Nat → Int32)) (a_nextLine : (Nat → Int32)) (p0 : Int32) (post : Int32 → Int32 → Prop) (hw : wD_X3_worth post f_place a_g p0) : Met l yX3_worth (ws_ yX3_worth cX3_worth 4 (some .int)) (rm_X3_worth 32) (va_Pc [.ref (ad 0), .int p0] (wrB D dA sz (mdl ad dA f_isSaved f_changes f_code f_length f_fault f_signMany f_at f_place a_g a_kept a_saved a_input a_signs a_ways a_needs a_walk a_one a_several a_ragged a_nextLine))) (va_Qi (fun (r : Int32) (u : Int32) => post r u) (fun (u : Int32) t => wrQ D dA (va_A (mdl ad dA f_isSaved f_changes f_code f_length f_fault f_signMany f_at f_place a_g a_kept a_saved a_input a_signs a_ways a_needs a_walk a_one a_several a_ragged a_nextLine) sz) (mdl ad dA f_isSaved f_changes f_code f_length f_fault f_signMany f_at u a_g a_kept a_saved a_input a_signs a_ways a_needs a_walk a_one a_several a_ragged a_nextLine) t) (va_A (mdl ad dA f_isSaved f_changes f_code f_length f_fault f_signMany f_at f_place a_g a_kept a_saved a_input a_signs a_ways a_needs a_walk a_one a_several a_ragged a_nextLine) sz)) 0 0 (va_A (mdl ad dA f_isSaved f_changes f_code f_length f_fault f_signMany f_at f_place a_g a_kept a_saved a_input a_signs a_ways a_needs a_walk a_one a_several a_ragged a_nextLine) sz) := met_X3_worth_r l D dA 32 ad sz f_isSaved f_changes f_code f_length f_fault f_signMany f_at f_place a_g a_kept a_saved a_input a_signs a_ways a_needs a_walk a_one a_several a_ragged a_nextLine p0 post hw
def rm_X3_value : Room := { frames := 35, cells := 0, slots := 0, locals := 802 }
set_option maxHeartbeats 4000000 in
set_option maxRecDepth 100000 in
theorem met_X3_value (l : Launch) (D : va_G) (dA : Nat → ClassId) (ad : Nat → Nat) (sz : Nat) (f_isSaved : Int32) (f_changes : Int32) (f_code : Int32) (f_length : Int32) (f_fault : Int32) (f_signMany : Int32) (f_at : Int32) (f_place : Int32) (a_g : (Nat → Int32)) (a_kept : (Nat → Int32)) (a_saved : (Nat → Int32)) (a_input : (Nat → Int32)) (a_signs : (Nat → Int32)) (a_ways : (Nat → Int64)) (a_needs : (Nat → Int32)) (a_walk : (Nat → Int32)) (a_one : (Nat → Int32)) (a_several : (Nat → Int32)) (a_ragged : (Nat → Int32)) (a_nextLine : (Nat → Int32)) (p0 : Int32) (post : Int32 → Int32 → Prop) (hw : w_X3_value post f_place a_g p0) : Met l yX3_value (ws_ yX3_value cX3_value 2 (some .int)) rm_X3_value (va_Pc [.ref (ad 0), .int p0] (wrB D dA sz (mdl ad dA f_isSaved f_changes f_code f_length f_fault f_signMany f_at f_place a_g a_kept a_saved a_input a_signs a_ways a_needs a_walk a_one a_several a_ragged a_nextLine))) (va_Qi (fun (r : Int32) (u : Int32) => post r u) (fun (u : Int32) t => wrQ D dA (va_A (mdl ad dA f_isSaved f_changes f_code f_length f_fault f_signMany f_at f_place a_g a_kept a_saved a_input a_signs a_ways a_needs a_walk a_one a_several a_ragged a_nextLine) sz) (mdl ad dA f_isSaved f_changes f_code f_length f_fault f_signMany f_at u a_g a_kept a_saved a_input a_signs a_ways a_needs a_walk a_one a_several a_ragged a_nextLine) t) (va_A (mdl ad dA f_isSaved f_changes f_code f_length f_fault f_signMany f_at f_place a_g a_kept a_saved a_input a_signs a_ways a_needs a_walk a_one a_several a_ragged a_nextLine) sz)) 0 0 (va_A (mdl ad dA f_isSaved f_changes f_code f_length f_fault f_signMany f_at f_place a_g a_kept a_saved a_input a_signs a_ways a_needs a_walk a_one a_several a_ragged a_nextLine) sz) := by
  refine Met.ofW (cc := cX3_value) (maxL := 2) (ret := (some .int)) (by decide) rfl ?_
  intro p e s m args below meth c s₁ B hml hv
  obtain ⟨rfl, hsz, hP, hK, hD0⟩ := hv
  have hx := B.exec
  have hb := B.bytes
  have hr := B.returns
  have hts := atoms_spec (ws := (ws_ yX3_value cX3_value 2 (some .int))) B.pre
  have hts : ∀ w ∈ lw_all, w.before _ s = true := fun w h => hts w (List.mem_cons_of_mem _ h)
  have hown : s.vm.findClass RX3 = some m.cls := findClass_of_methodNamed B.named
  have hlocks := B.notSynchronized
  have hSx : CallFix p m c cX3_value 2 s _ lw_all RX3 := ⟨hx, hb, hml, hown, hts⟩
  subst hsz
  have hD := hD0.self (sz := s.heap.size)
  generalize hAe : va_A (mdl ad dA f_isSaved f_changes f_code f_length f_fault f_signMany f_at f_place a_g a_kept a_saved a_input a_signs a_ways a_needs a_walk a_one a_several a_ragged a_nextLine) s.heap.size = A at hD ⊢
  have hA : ∀ q : Nat, s.heap.size ≤ q → A q := fun q h => by rw [← hAe]; exact Or.inr h
  have hS : va_S A s.heap s.heap [] := va_S.rf
  have hl := lv_entry ([.ref (ad 0), .int p0]) (n := 2) (Nat.le_of_ble_eq_true rfl)
  rw [lg_entry_eq]
  generalize (lg_sl ([.ref (ad 0), .int p0]) ++ List.replicate (2 - (lg_sl ([.ref (ad 0), .int p0])).length) Slot.unset).toArray = ls at hl ⊢
  have hl : lv_has ls 2 [(0, .ref (ad 0)), (1, .int p0)] := hl
  refine lv_aload_n hx hb dX3_value_0 rfl (lv_at hl 0 rfl) ?_
  refine lv_iconst (v := (nI 0)) hx hb dX3_value_1 (by decide) ?_
  refine va_put (D := D) (ci := 2) (v := .int (nI 0)) (ty := .int) (C := RX3) (T := TX3) (N := 20) hx hb hts in_X3 tyX3 tyX3_ok nmX3 hown hK hP hD hS 0 rfl rfl 17 (by decide) (hts _ q1758) (fun _ h9 => h9) rfl (by decide +kernel) rfl rfl (Nat.le_of_ble_eq_true rfl) dX3_value_2 (fun H locs hP hD hS => ?_)
  have hP : va_P D vwCl (mdl ad dA f_isSaved f_changes f_code f_length f_fault f_signMany f_at (nI 0) a_g a_kept a_saved a_input a_signs a_ways a_needs a_walk a_one a_several a_ragged a_nextLine) H := hP
  have hD : va_D A (mdl ad dA f_isSaved f_changes f_code f_length f_fault f_signMany f_at (nI 0) a_g a_kept a_saved a_input a_signs a_ways a_needs a_walk a_one a_several a_ragged a_nextLine) := hD
  refine lv_aload_n hx hb dX3_value_5 rfl (lv_at hl 0 rfl) ?_
  refine lv_iload_n hx hb dX3_value_6 rfl (lv_at hl 1 rfl) ?_
  refine k_wi (wn := fun (u : Int32) => (mdl ad dA f_isSaved f_changes f_code f_length f_fault f_signMany f_at u a_g a_kept a_saved a_input a_signs a_ways a_needs a_walk a_one a_several a_ragged a_nextLine)) (wr := []) (k_wV (As := [.int p0]) (rest := []) hSx (met_X3_worth l D dA ad _ f_isSaved f_changes f_code f_length f_fault f_signMany f_at (nI 0) a_g a_kept a_saved a_input a_signs a_ways a_needs a_walk a_one a_several a_ragged a_nextLine p0 _ hw) gX3_166 ⟨rfl, hd_X3_worth⟩ ⟨Nat.le_of_ble_eq_true rfl, Nat.le_of_ble_eq_true rfl⟩ rfl rfl hP hK hD [0, 1, 2, 3, 4, 5, 6, 7, 8, 9, 10, 11, 12] rfl (by decide) rfl 0 rfl rfl rfl rfl hl.1 (Nat.le_of_ble_eq_true rfl) rfl dX3_value_7 ⟨Nat.le_refl 0, Nat.le_refl 0⟩) hP hD hS hA [0, 1, 2, 3, 4, 5, 6, 7, 8, 9, 10, 11, 12] [] [0, 1, 2, 3, 4, 5, 6, 7, 8, 9, 10, 11, 12] rfl rfl (by decide) (by decide) (by decide) (fun _ => rfl) (fun _ => rfl) (fun r3 u H locs hw _ hP hD hS => ?_)
  obtain ⟨f_place_4, rfl⟩ : ∃ z, z = u := ⟨_, rfl⟩
  have hP : va_P D vwCl (mdl ad dA f_isSaved f_changes f_code f_length f_fault f_signMany f_at f_place_4 a_g a_kept a_saved a_input a_signs a_ways a_needs a_walk a_one a_several a_ragged a_nextLine) H := hP
  have hD : va_D A (mdl ad dA f_isSaved f_changes f_code f_length f_fault f_signMany f_at f_place_4 a_g a_kept a_saved a_input a_signs a_ways a_needs a_walk a_one a_several a_ragged a_nextLine) := hD
  exact W.iret (v := r3) hx hb hr (fun t ht hW => ⟨⟨r3, f_place_4, rfl, hw, by rw [ht]; exact hP, va_K.moved hW.alike hK, hD⟩, hS.F ht⟩) hS.2.2 dX3_value_10
def rm_X3_drops : Room := { frames := 1, cells := 0, slots := 0, locals := 21 }
set_option maxHeartbeats 4000000 in
set_option maxRecDepth 100000 in
theorem met_X3_drops (l : Launch) (D : va_G) (dA : Nat → ClassId) (ad : Nat → Nat) (sz : Nat) (f_isSaved : Int32) (f_changes : Int32) (f_code : Int32) (f_length : Int32) (f_fault : Int32) (f_signMany : Int32) (f_at : Int32) (f_place : Int32) (a_g : (Nat → Int32)) (a_kept : (Nat → Int32)) (a_saved : (Nat → Int32)) (a_input : (Nat → Int32)) (a_signs : (Nat → Int32)) (a_ways : (Nat → Int64)) (a_needs : (Nat → Int32)) (a_walk : (Nat → Int32)) (a_one : (Nat → Int32)) (a_several : (Nat → Int32)) (a_ragged : (Nat → Int32)) (a_nextLine : (Nat → Int32)) (p0 : Int32) (post : (Nat → Int32) → Prop) (hw : w_X3_drops post a_g p0) : Met l yX3_drops (ws_ yX3_drops cX3_drops 3 none) rm_X3_drops (va_Pc [.ref (ad 0), .int p0] (wrB D dA sz (mdl ad dA f_isSaved f_changes f_code f_length f_fault f_signMany f_at f_place a_g a_kept a_saved a_input a_signs a_ways a_needs a_walk a_one a_several a_ragged a_nextLine))) (va_Qv (fun (u : (Nat → Int32)) => post u) (fun (u : (Nat → Int32)) t => wrQ D dA (va_A (mdl ad dA f_isSaved f_changes f_code f_length f_fault f_signMany f_at f_place a_g a_kept a_saved a_input a_signs a_ways a_needs a_walk a_one a_several a_ragged a_nextLine) sz) (mdl ad dA f_isSaved f_changes f_code f_length f_fault f_signMany f_at f_place u a_kept a_saved a_input a_signs a_ways a_needs a_walk a_one a_several a_ragged a_nextLine) t) (va_A (mdl ad dA f_isSaved f_changes f_code f_length f_fault f_signMany f_at f_place a_g a_kept a_saved a_input a_signs a_ways a_needs a_walk a_one a_several a_ragged a_nextLine) sz)) 0 0 (va_A (mdl ad dA f_isSaved f_changes f_code f_length f_fault f_signMany f_at f_place a_g a_kept a_saved a_input a_signs a_ways a_needs a_walk a_one a_several a_ragged a_nextLine) sz) := by
  refine Met.ofW (cc := cX3_drops) (maxL := 3) (ret := none) (by decide) rfl ?_
  intro p e s m args below meth c s₁ B hml hv
  obtain ⟨rfl, hsz, hP, hK, hD0⟩ := hv
  have hx := B.exec
  have hb := B.bytes
  have hr := B.returns
  have hts := atoms_spec (ws := (ws_ yX3_drops cX3_drops 3 none)) B.pre
  have hts : ∀ w ∈ lw_all, w.before _ s = true := fun w h => hts w (List.mem_cons_of_mem _ h)
  have hown : s.vm.findClass RX3 = some m.cls := findClass_of_methodNamed B.named
  have hlocks := B.notSynchronized
  have hSx : CallFix p m c cX3_drops 3 s _ lw_all RX3 := ⟨hx, hb, hml, hown, hts⟩
  subst hsz
  have hD := hD0.self (sz := s.heap.size)
  generalize hAe : va_A (mdl ad dA f_isSaved f_changes f_code f_length f_fault f_signMany f_at f_place a_g a_kept a_saved a_input a_signs a_ways a_needs a_walk a_one a_several a_ragged a_nextLine) s.heap.size = A at hD ⊢
  have hA : ∀ q : Nat, s.heap.size ≤ q → A q := fun q h => by rw [← hAe]; exact Or.inr h
  have hS : va_S A s.heap s.heap [] := va_S.rf
  have hl := lv_entry ([.ref (ad 0), .int p0]) (n := 3) (Nat.le_of_ble_eq_true rfl)
  rw [lg_entry_eq]
  generalize (lg_sl ([.ref (ad 0), .int p0]) ++ List.replicate (3 - (lg_sl ([.ref (ad 0), .int p0])).length) Slot.unset).toArray = ls at hl ⊢
  have hl : lv_has ls 3 [(0, .ref (ad 0)), (1, .int p0)] := hl
  have hL53 : ∀  (n : Nat) (a_g : (Nat → Int32)) (v2 : Int32) (H : Heap) (locs : List Loc) (ls : Array Slot), va_P D vwCl (mdl ad dA f_isSaved f_changes f_code f_length f_fault f_signMany f_at f_place a_g a_kept a_saved a_input a_signs a_ways a_needs a_walk a_one a_several a_ragged a_nextLine) H → va_D A (mdl ad dA f_isSaved f_changes f_code f_length f_fault f_signMany f_at f_place a_g a_kept a_saved a_input a_signs a_ways a_needs a_walk a_one a_several a_ragged a_nextLine) → va_S A s.heap H locs → lv_has ls 3 [(0, .ref (ad 0)), (2, .int v2)] → lpF (fun _ _ => False) (w_X3_drops_53 post) n a_g v2 → W p l e (headSpec (ws_ yX3_drops cX3_drops 3 none) rm_X3_drops).room s m ([.ref (ad 0), .int p0] : List Value).toArray below meth c H locs 0 0 (MQ below (va_Qv (fun (u : (Nat → Int32)) => post u) (fun (u : (Nat → Int32)) t => wrQ D dA A (mdl ad dA f_isSaved f_changes f_code f_length f_fault f_signMany f_at f_place u a_kept a_saved a_input a_signs a_ways a_needs a_walk a_one a_several a_ragged a_nextLine) t) A) ([.ref (ad 0), .int p0] : List Value).toArray s 0 0 A) (F0 m 53 ls []) := by
    intro  n
    induction n with
    | zero => intro a_g v2 H locs ls hP hD hS hl hw; exact absurd hw id
    | succ n hk53 =>
      intro a_g v2 H locs ls hP hD hS hl hw
      generalize hk9 : lpF (fun _ _ => False) (w_X3_drops_53 post) n = k53 at hk53
      have hw : (w_X3_drops_53 post) k53 a_g v2 := hk9 ▸ hw
      refine lv_iload_n hx hb dX3_drops_53 rfl (lv_at hl 1 rfl) ?_
      refine lv_bipush (v := (nI 26)) hx hb dX3_drops_54 (by decide) ?_
      refine lv_icmp_ge (tgt := 83) hx hb dX3_drops_56 (by decide) (fun c9 => ?_) (fun c9 => ?_)
      · have hw := hw.1 c9
        exact W.vret hx hb hr (fun t ht hW => ⟨⟨a_g, rfl, hw, by rw [ht]; exact hP, va_K.moved hW.alike hK, hD⟩, hS.F ht⟩) hS.2.2 dX3_drops_83
      · have hw := hw.2 c9
        refine lv_aload_n hx hb dX3_drops_59 rfl (lv_at hl 0 rfl) ?_
        refine va_get (D := D) (ci := 2) (v := .ref (ad 1)) (C := RX3) (T := TX3) (N := 20) hx hb hts in_X3 hown hK hP 0 rfl rfl 0 (by decide) (hts _ q1741) (fun _ h9 => h9) rfl dX3_drops_60 ?_
        refine lv_aload_n hx hb dX3_drops_63 rfl (lv_at hl 0 rfl) ?_
        refine lv_aload_n hx hb dX3_drops_64 rfl (lv_at hl 0 rfl) ?_
        refine va_get (D := D) (ci := 2) (v := .ref (ad 1)) (C := RX3) (T := TX3) (N := 20) hx hb hts in_X3 hown hK hP 0 rfl rfl 0 (by decide) (hts _ q1741) (fun _ h9 => h9) rfl dX3_drops_65 ?_
        refine lv_iconst (v := (nI 1)) hx hb dX3_drops_68 (by decide) ?_
        refine k_iald (k := 1) hx hb hK hP 1 0 rfl rfl (clK 1 (by decide)) (inK (by decide) (by decide)) dX3_drops_69 ?_
        refine k_ri (k_rV (As := [.int (a_g 1)]) (rest := [.ref (ad 1)]) hSx (met_X3_row l D dA ad f_isSaved f_changes f_code f_length f_fault f_signMany f_at f_place a_g a_kept a_saved a_input a_signs a_ways a_needs a_walk a_one a_several a_ragged a_nextLine (a_g 1) _ hw) gX3_154 ⟨rfl, hd_X3_row⟩ ⟨Nat.le_of_ble_eq_true rfl, Nat.le_of_ble_eq_true rfl⟩ rfl rfl hP hK [0, 1, 2, 3, 4, 5, 6, 7, 8, 9, 10, 11, 12] rfl 0 rfl rfl rfl rfl hl.1 (Nat.le_of_ble_eq_true rfl) rfl dX3_drops_70 ⟨Nat.le_refl 0, Nat.le_refl 0⟩) (fun r10 hw => ?_)
        refine lv_iload_n hx hb dX3_drops_73 rfl (lv_at hl 1 rfl) ?_
        refine lv_iadd hx hb dX3_drops_74 ?_
        refine lv_iconst (v := (nI 0)) hx hb dX3_drops_75 (by decide) ?_
        obtain ⟨h11, hw⟩ := hw
        refine k_iast (k := (r10 + v2).toNatClampNeg) hx hb hK hP hD hS 1 0 rfl rfl rfl h11 dX3_drops_76 (fun H locs hP hD hS => ?_)
        have hP : va_P D vwCl (mdl ad dA f_isSaved f_changes f_code f_length f_fault f_signMany f_at f_place (upd a_g (r10 + v2).toNatClampNeg (nI 0)) a_kept a_saved a_input a_signs a_ways a_needs a_walk a_one a_several a_ragged a_nextLine) H := hP
        have hD : va_D A (mdl ad dA f_isSaved f_changes f_code f_length f_fault f_signMany f_at f_place (upd a_g (r10 + v2).toNatClampNeg (nI 0)) a_kept a_saved a_input a_signs a_ways a_needs a_walk a_one a_several a_ragged a_nextLine) := hD
        refine lv_iinc (v := (v2 + (nI 1))) (lv' := [(2, .int (v2 + (nI 1))), (0, .ref (ad 0))]) hx hb dX3_drops_77 hl (k := 1) rfl (congrArg (fun z => v2 + z) (by decide : Int32.ofInt (1) = (nI 1))) (by decide) rfl (fun ls hl => ?_)
        refine lv_goto (tgt := 53) hx hb dX3_drops_80 (by decide) ?_
        exact hk53 (upd a_g (r10 + v2).toNatClampNeg (nI 0)) (v2 + (nI 1)) _ _ _ hP hD hS (lv_sub hl [1, 0] rfl) hw
  have hL16 : ∀  (n : Nat) (a_g : (Nat → Int32)) (v2 : Int32) (H : Heap) (locs : List Loc) (ls : Array Slot), va_P D vwCl (mdl ad dA f_isSaved f_changes f_code f_length f_fault f_signMany f_at f_place a_g a_kept a_saved a_input a_signs a_ways a_needs a_walk a_one a_several a_ragged a_nextLine) H → va_D A (mdl ad dA f_isSaved f_changes f_code f_length f_fault f_signMany f_at f_place a_g a_kept a_saved a_input a_signs a_ways a_needs a_walk a_one a_several a_ragged a_nextLine) → va_S A s.heap H locs → lv_has ls 3 [(0, .ref (ad 0)), (2, .int v2)] → lpF (fun _ _ => False) (w_X3_drops_16 post) n a_g v2 → W p l e (headSpec (ws_ yX3_drops cX3_drops 3 none) rm_X3_drops).room s m ([.ref (ad 0), .int p0] : List Value).toArray below meth c H locs 0 0 (MQ below (va_Qv (fun (u : (Nat → Int32)) => post u) (fun (u : (Nat → Int32)) t => wrQ D dA A (mdl ad dA f_isSaved f_changes f_code f_length f_fault f_signMany f_at f_place u a_kept a_saved a_input a_signs a_ways a_needs a_walk a_one a_several a_ragged a_nextLine) t) A) ([.ref (ad 0), .int p0] : List Value).toArray s 0 0 A) (F0 m 16 ls []) := by
    intro  n
    induction n with
    | zero => intro a_g v2 H locs ls hP hD hS hl hw; exact absurd hw id
    | succ n hk16 =>
      intro a_g v2 H locs ls hP hD hS hl hw
      generalize hk9 : lpF (fun _ _ => False) (w_X3_drops_16 post) n = k16 at hk16
      have hw : (w_X3_drops_16 post) k16 a_g v2 := hk9 ▸ hw
      refine lv_iload_n hx hb dX3_drops_16 rfl (lv_at hl 1 rfl) ?_
      refine lv_aload_n hx hb dX3_drops_17 rfl (lv_at hl 0 rfl) ?_
      refine lv_aload_n hx hb dX3_drops_18 rfl (lv_at hl 0 rfl) ?_
      refine va_get (D := D) (ci := 2) (v := .ref (ad 1)) (C := RX3) (T := TX3) (N := 20) hx hb hts in_X3 hown hK hP 0 rfl rfl 0 (by decide) (hts _ q1741) (fun _ h9 => h9) rfl dX3_drops_19 ?_
      refine lv_iconst (v := (nI 1)) hx hb dX3_drops_22 (by decide) ?_
      refine k_iald (k := 1) hx hb hK hP 1 0 rfl rfl (clK 1 (by decide)) (inK (by decide) (by decide)) dX3_drops_23 ?_
      refine k_ri (k_rV (As := [.int (a_g 1)]) (rest := [.int v2]) hSx (met_X3_row l D dA ad f_isSaved f_changes f_code f_length f_fault f_signMany f_at f_place a_g a_kept a_saved a_input a_signs a_ways a_needs a_walk a_one a_several a_ragged a_nextLine (a_g 1) _ hw) gX3_154 ⟨rfl, hd_X3_row⟩ ⟨Nat.le_of_ble_eq_true rfl, Nat.le_of_ble_eq_true rfl⟩ rfl rfl hP hK [0, 1, 2, 3, 4, 5, 6, 7, 8, 9, 10, 11, 12] rfl 0 rfl rfl rfl rfl hl.1 (Nat.le_of_ble_eq_true rfl) rfl dX3_drops_24 ⟨Nat.le_refl 0, Nat.le_refl 0⟩) (fun r12 hw => ?_)
      refine lv_icmp_ge (tgt := 51) hx hb dX3_drops_27 (by decide) (fun c13 => ?_) (fun c13 => ?_)
      · have hw := hw.1 c13
        refine lv_iconst (v := (nI 0)) hx hb dX3_drops_51 (by decide) ?_
        refine lv_istore_n (lv' := [(2, .int (nI 0)), (0, .ref (ad 0))]) hx hb dX3_drops_52 rfl hl (by decide) rfl (fun ls hl => ?_)
        obtain ⟨n, hw⟩ := hw
        exact hL53  n a_g (nI 0) _ _ _ hP hD hS (lv_sub hl [1, 0] rfl) hw
      · have hw := hw.2 c13
        refine lv_aload_n hx hb dX3_drops_30 rfl (lv_at hl 0 rfl) ?_
        refine va_get (D := D) (ci := 2) (v := .ref (ad 1)) (C := RX3) (T := TX3) (N := 20) hx hb hts in_X3 hown hK hP 0 rfl rfl 0 (by decide) (hts _ q1741) (fun _ h9 => h9) rfl dX3_drops_31 ?_
        refine lv_iload_n hx hb dX3_drops_34 rfl (lv_at hl 1 rfl) ?_
        refine lv_aload_n hx hb dX3_drops_35 rfl (lv_at hl 0 rfl) ?_
        refine va_get (D := D) (ci := 2) (v := .ref (ad 1)) (C := RX3) (T := TX3) (N := 20) hx hb hts in_X3 hown hK hP 0 rfl rfl 0 (by decide) (hts _ q1741) (fun _ h9 => h9) rfl dX3_drops_36 ?_
        refine lv_iload_n hx hb dX3_drops_39 rfl (lv_at hl 1 rfl) ?_
        refine lv_bipush (v := (nI 26)) hx hb dX3_drops_40 (by decide) ?_
        refine lv_iadd hx hb dX3_drops_42 ?_
        obtain ⟨h14, hw⟩ := hw
        refine k_iald (k := (v2 + (nI 26)).toNatClampNeg) hx hb hK hP 1 0 rfl rfl rfl h14 dX3_drops_43 ?_
        obtain ⟨h15, hw⟩ := hw
        refine k_iast (k := v2.toNatClampNeg) hx hb hK hP hD hS 1 0 rfl rfl rfl h15 dX3_drops_44 (fun H locs hP hD hS => ?_)
        have hP : va_P D vwCl (mdl ad dA f_isSaved f_changes f_code f_length f_fault f_signMany f_at f_place (upd a_g v2.toNatClampNeg (a_g (v2 + (nI 26)).toNatClampNeg)) a_kept a_saved a_input a_signs a_ways a_needs a_walk a_one a_several a_ragged a_nextLine) H := hP
        have hD : va_D A (mdl ad dA f_isSaved f_changes f_code f_length f_fault f_signMany f_at f_place (upd a_g v2.toNatClampNeg (a_g (v2 + (nI 26)).toNatClampNeg)) a_kept a_saved a_input a_signs a_ways a_needs a_walk a_one a_several a_ragged a_nextLine) := hD
        refine lv_iinc (v := (v2 + (nI 1))) (lv' := [(2, .int (v2 + (nI 1))), (0, .ref (ad 0))]) hx hb dX3_drops_45 hl (k := 1) rfl (congrArg (fun z => v2 + z) (by decide : Int32.ofInt (1) = (nI 1))) (by decide) rfl (fun ls hl => ?_)
        refine lv_goto (tgt := 16) hx hb dX3_drops_48 (by decide) ?_
        exact hk16 (upd a_g v2.toNatClampNeg (a_g (v2 + (nI 26)).toNatClampNeg)) (v2 + (nI 1)) _ _ _ hP hD hS (lv_sub hl [1, 0] rfl) hw
  refine lv_aload_n hx hb dX3_drops_0 rfl (lv_at hl 0 rfl) ?_
  refine va_get (D := D) (ci := 2) (v := .ref (ad 1)) (C := RX3) (T := TX3) (N := 20) hx hb hts in_X3 hown hK hP 0 rfl rfl 0 (by decide) (hts _ q1741) (fun _ h9 => h9) rfl dX3_drops_1 ?_
  refine lv_iconst (v := (nI 1)) hx hb dX3_drops_4 (by decide) ?_
  refine lv_dup2_11 hx hb dX3_drops_5 rfl rfl ?_
  refine k_iald (k := 1) hx hb hK hP 1 0 rfl rfl (clK 1 (by decide)) (inK (by decide) (by decide)) dX3_drops_6 ?_
  refine lv_iconst (v := (nI 1)) hx hb dX3_drops_7 (by decide) ?_
  refine lv_isub hx hb dX3_drops_8 ?_
  refine k_iast (k := 1) hx hb hK hP hD hS 1 0 rfl rfl (clK 1 (by decide)) (inK (by decide) (by decide)) dX3_drops_9 (fun H locs hP hD hS => ?_)
  have hP : va_P D vwCl (mdl ad dA f_isSaved f_changes f_code f_length f_fault f_signMany f_at f_place (upd a_g 1 ((a_g 1) - (nI 1))) a_kept a_saved a_input a_signs a_ways a_needs a_walk a_one a_several a_ragged a_nextLine) H := hP
  have hD : va_D A (mdl ad dA f_isSaved f_changes f_code f_length f_fault f_signMany f_at f_place (upd a_g 1 ((a_g 1) - (nI 1))) a_kept a_saved a_input a_signs a_ways a_needs a_walk a_one a_several a_ragged a_nextLine) := hD
  refine lv_aload_n hx hb dX3_drops_10 rfl (lv_at hl 0 rfl) ?_
  refine lv_iload_n hx hb dX3_drops_11 rfl (lv_at hl 1 rfl) ?_
  refine k_ri (k_rV (As := [.int p0]) (rest := []) hSx (met_X3_row l D dA ad f_isSaved f_changes f_code f_length f_fault f_signMany f_at f_place (upd a_g 1 ((a_g 1) - (nI 1))) a_kept a_saved a_input a_signs a_ways a_needs a_walk a_one a_several a_ragged a_nextLine p0 _ hw) gX3_154 ⟨rfl, hd_X3_row⟩ ⟨Nat.le_of_ble_eq_true rfl, Nat.le_of_ble_eq_true rfl⟩ rfl rfl hP hK [0, 1, 2, 3, 4, 5, 6, 7, 8, 9, 10, 11, 12] rfl 0 rfl rfl rfl rfl hl.1 (Nat.le_of_ble_eq_true rfl) rfl dX3_drops_12 ⟨Nat.le_refl 0, Nat.le_refl 0⟩) (fun r16 hw => ?_)
  refine lv_istore_n (lv' := [(2, .int r16), (0, .ref (ad 0)), (1, .int p0)]) hx hb dX3_drops_15 rfl hl (by decide) rfl (fun ls hl => ?_)
  obtain ⟨n, hw⟩ := hw
  exact hL16  n (upd a_g 1 ((a_g 1) - (nI 1))) r16 _ _ _ hP hD hS (lv_sub hl [1, 0] rfl) hw
theorem gX3_169 : GoodIn lw_all (wsV RX3 169 RX3 yX3_isLost (ws_ yX3_isLost cX3_isLost 2 (some .boolean))) := lw_V q2001 q2003 qs55 q84 q2004
theorem hd_X3_isLost : yX3_isLost.cls ≠ "java/lang/invoke/MethodHandle" ∧ yX3_isLost.cls ≠ "java/lang/invoke/VarHandle" ∧ (parseMethodDescriptor yX3_isLost.desc).map (fun d => d.parameters.length) = some 1 := by decide +kernel
theorem gX3_172 : GoodIn lw_all (wsV RX3 172 RX3 yX3_value (ws_ yX3_value cX3_value 2 (some .int))) := lw_V q2009 q2011 qs57 q84 q2012
theorem hd_X3_value : yX3_value.cls ≠ "java/lang/invoke/MethodHandle" ∧ yX3_value.cls ≠ "java/lang/invoke/VarHandle" ∧ (parseMethodDescriptor yX3_value.desc).map (fun d => d.parameters.length) = some 1 := by decide +kernel
theorem gX3_175 : GoodIn lw_all (wsV RX3 175 RX3 yX3_drops (ws_ yX3_drops cX3_drops 3 none)) := lw_V q2021 q2023 qs60 q84 q2024
theorem hd_X3_drops : yX3_drops.cls ≠ "java/lang/invoke/MethodHandle" ∧ yX3_drops.cls ≠ "java/lang/invoke/VarHandle" ∧ (parseMethodDescriptor yX3_drops.desc).map (fun d => d.parameters.length) = some 1 := by decide +kernel
def rm_X3_grant : Room := { frames := 36, cells := 0, slots := 0, locals := 823 }
set_option maxHeartbeats 4000000 in
set_option maxRecDepth 100000 in
theorem met_X3_grant (l : Launch) (D : va_G) (dA : Nat → ClassId) (ad : Nat → Nat) (sz : Nat) (f_isSaved : Int32) (f_changes : Int32) (f_code : Int32) (f_length : Int32) (f_fault : Int32) (f_signMany : Int32) (f_at : Int32) (f_place : Int32) (a_g : (Nat → Int32)) (a_kept : (Nat → Int32)) (a_saved : (Nat → Int32)) (a_input : (Nat → Int32)) (a_signs : (Nat → Int32)) (a_ways : (Nat → Int64)) (a_needs : (Nat → Int32)) (a_walk : (Nat → Int32)) (a_one : (Nat → Int32)) (a_several : (Nat → Int32)) (a_ragged : (Nat → Int32)) (a_nextLine : (Nat → Int32)) (p0 : Int32) (post : Int32 → Int32 → Int32 → Int32 → (Nat → Int32) → (Nat → Int32) → Prop) (hw : w_X3_grant post f_changes f_code f_place a_g a_kept p0) : Met l yX3_grant (ws_ yX3_grant cX3_grant 4 (some .int)) rm_X3_grant (va_Pc [.ref (ad 0), .int p0] (wrB D dA sz (mdl ad dA f_isSaved f_changes f_code f_length f_fault f_signMany f_at f_place a_g a_kept a_saved a_input a_signs a_ways a_needs a_walk a_one a_several a_ragged a_nextLine))) (va_Qi (fun (r : Int32) (u : Int32 × Int32 × Int32 × (Nat → Int32) × (Nat → Int32)) => post r u.1 u.2.1 u.2.2.1 u.2.2.2.1 u.2.2.2.2) (fun (u : Int32 × Int32 × Int32 × (Nat → Int32) × (Nat → Int32)) t => wrQ D dA (va_A (mdl ad dA f_isSaved f_changes f_code f_length f_fault f_signMany f_at f_place a_g a_kept a_saved a_input a_signs a_ways a_needs a_walk a_one a_several a_ragged a_nextLine) sz) (mdl ad dA f_isSaved u.1 u.2.1 f_length f_fault f_signMany f_at u.2.2.1 u.2.2.2.1 u.2.2.2.2 a_saved a_input a_signs a_ways a_needs a_walk a_one a_several a_ragged a_nextLine) t) (va_A (mdl ad dA f_isSaved f_changes f_code f_length f_fault f_signMany f_at f_place a_g a_kept a_saved a_input a_signs a_ways a_needs a_walk a_one a_several a_ragged a_nextLine) sz)) 0 0 (va_A (mdl ad dA f_isSaved f_changes f_code f_length f_fault f_signMany f_at f_place a_g a_kept a_saved a_input a_signs a_ways a_needs a_walk a_one a_several a_ragged a_nextLine) sz) := by
  refine Met.ofW (cc := cX3_grant) (maxL := 4) (ret := (some .int)) (by decide) rfl ?_
  intro p e s m args below meth c s₁ B hml hv
  obtain ⟨rfl, hsz, hP, hK, hD0⟩ := hv
  have hx := B.exec
  have hb := B.bytes
  have hr := B.returns
  have hts := atoms_spec (ws := (ws_ yX3_grant cX3_grant 4 (some .int))) B.pre
  have hts : ∀ w ∈ lw_all, w.before _ s = true := fun w h => hts w (List.mem_cons_of_mem _ h)
  have hown : s.vm.findClass RX3 = some m.cls := findClass_of_methodNamed B.named
  have hlocks := B.notSynchronized
  have hSx : CallFix p m c cX3_grant 4 s _ lw_all RX3 := ⟨hx, hb, hml, hown, hts⟩
  subst hsz
  have hD := hD0.self (sz := s.heap.size)
  generalize hAe : va_A (mdl ad dA f_isSaved f_changes f_code f_length f_fault f_signMany f_at f_place a_g a_kept a_saved a_input a_signs a_ways a_needs a_walk a_one a_several a_ragged a_nextLine) s.heap.size = A at hD ⊢
  have hA : ∀ q : Nat, s.heap.size ≤ q → A q := fun q h => by rw [← hAe]; exact Or.inr h
  have hS : va_S A s.heap s.heap [] := va_S.rf
  have hl := lv_entry ([.ref (ad 0), .int p0]) (n := 4) (Nat.le_of_ble_eq_true rfl)
  rw [lg_entry_eq]
  generalize (lg_sl ([.ref (ad 0), .int p0]) ++ List.replicate (4 - (lg_sl ([.ref (ad 0), .int p0])).length) Slot.unset).toArray = ls at hl ⊢
  have hl : lv_has ls 4 [(0, .ref (ad 0)), (1, .int p0)] := hl
  have hL46 : ∀  (f_changes : Int32) (f_code : Int32) (f_place : Int32) (a_g : (Nat → Int32)) (a_kept : (Nat → Int32)) (v1 : Int32) (v2 : Int32) (v3 : Int32) (s1 : Int32) (H : Heap) (locs : List Loc) (ls : Array Slot), va_P D vwCl (mdl ad dA f_isSaved f_changes f_code f_length f_fault f_signMany f_at f_place a_g a_kept a_saved a_input a_signs a_ways a_needs a_walk a_one a_several a_ragged a_nextLine) H → va_D A (mdl ad dA f_isSaved f_changes f_code f_length f_fault f_signMany f_at f_place a_g a_kept a_saved a_input a_signs a_ways a_needs a_walk a_one a_several a_ragged a_nextLine) → va_S A s.heap H locs → lv_has ls 4 [(0, .ref (ad 0)), (1, .int v1), (2, .int v2), (3, .int v3)] → (w_X3_grant_46 post) f_changes f_code f_place a_g a_kept v1 v2 v3 s1 → W p l e (headSpec (ws_ yX3_grant cX3_grant 4 (some .int)) rm_X3_grant).room s m ([.ref (ad 0), .int p0] : List Value).toArray below meth c H locs 0 0 (MQ below (va_Qi (fun (r : Int32) (u : Int32 × Int32 × Int32 × (Nat → Int32) × (Nat → Int32)) => post r u.1 u.2.1 u.2.2.1 u.2.2.2.1 u.2.2.2.2) (fun (u : Int32 × Int32 × Int32 × (Nat → Int32) × (Nat → Int32)) t => wrQ D dA A (mdl ad dA f_isSaved u.1 u.2.1 f_length f_fault f_signMany f_at u.2.2.1 u.2.2.2.1 u.2.2.2.2 a_saved a_input a_signs a_ways a_needs a_walk a_one a_several a_ragged a_nextLine) t) A) ([.ref (ad 0), .int p0] : List Value).toArray s 0 0 A) (F0 m 46 ls [.int s1, .ref (ad 0)]) := by
      intro  f_changes f_code f_place a_g a_kept v1 v2 v3 s1 H locs ls hP hD hS hl hw
      refine k_wi (wn := fun (u : Int32) => (mdl ad dA f_isSaved f_changes u f_length f_fault f_signMany f_at f_place a_g a_kept a_saved a_input a_signs a_ways a_needs a_walk a_one a_several a_ragged a_nextLine)) (wr := []) (k_wV (As := [.int s1]) (rest := []) hSx (met_X3_fails l D dA ad _ f_isSaved f_changes f_code f_length f_fault f_signMany f_at f_place a_g a_kept a_saved a_input a_signs a_ways a_needs a_walk a_one a_several a_ragged a_nextLine s1 _ hw) gX3_70 ⟨rfl, hd_X3_fails⟩ ⟨Nat.le_of_ble_eq_true rfl, Nat.le_of_ble_eq_true rfl⟩ rfl rfl hP hK hD [0, 1, 2, 3, 4, 5, 6, 7, 8, 9, 10, 11, 12] rfl (by decide) rfl 0 rfl rfl rfl rfl hl.1 (Nat.le_of_ble_eq_true rfl) rfl dX3_grant_46 ⟨Nat.le_refl 0, Nat.le_refl 0⟩) hP hD hS hA [0, 1, 2, 3, 4, 5, 6, 7, 8, 9, 10, 11, 12] [] [0, 1, 2, 3, 4, 5, 6, 7, 8, 9, 10, 11, 12] rfl rfl (by decide) (by decide) (by decide) (fun _ => rfl) (fun _ => rfl) (fun r20 u H locs hw _ hP hD hS => ?_)
      obtain ⟨f_code_21, rfl⟩ : ∃ z, z = u := ⟨_, rfl⟩
      have hP : va_P D vwCl (mdl ad dA f_isSaved f_changes f_code_21 f_length f_fault f_signMany f_at f_place a_g a_kept a_saved a_input a_signs a_ways a_needs a_walk a_one a_several a_ragged a_nextLine) H := hP
      have hD : va_D A (mdl ad dA f_isSaved f_changes f_code_21 f_length f_fault f_signMany f_at f_place a_g a_kept a_saved a_input a_signs a_ways a_needs a_walk a_one a_several a_ragged a_nextLine) := hD
      refine lv_if_eq (tgt := 54) hx hb dX3_grant_49 (by decide) (fun c22 => ?_) (fun c22 => ?_)
      · have hw := hw.1 c22
        refine lv_aload_n hx hb dX3_grant_54 rfl (lv_at hl 0 rfl) ?_
        refine k_wv (wn := fun (u : Int32 × Int32 × (Nat → Int32)) => (mdl ad dA f_isSaved u.1 u.2.1 f_length f_fault f_signMany f_at f_place a_g u.2.2 a_saved a_input a_signs a_ways a_needs a_walk a_one a_several a_ragged a_nextLine)) (wr := []) (k_wV (As := []) (rest := []) hSx (met_X3_keeps l D dA ad _ f_isSaved f_changes f_code_21 f_length f_fault f_signMany f_at f_place a_g a_kept a_saved a_input a_signs a_ways a_needs a_walk a_one a_several a_ragged a_nextLine  _ hw) gX3_77 ⟨rfl, hd_X3_keeps⟩ ⟨Nat.le_of_ble_eq_true rfl, Nat.le_of_ble_eq_true rfl⟩ rfl rfl hP hK hD [0, 1, 2, 3, 4, 5, 6, 7, 8, 9, 10, 11, 12] rfl (by decide) rfl 0 rfl rfl rfl rfl hl.1 (Nat.le_of_ble_eq_true rfl) rfl dX3_grant_55 ⟨Nat.le_refl 0, Nat.le_refl 0⟩) hP hD hS hA [0, 1, 2, 3, 4, 5, 6, 7, 8, 9, 10, 11, 12] [] [0, 1, 2, 3, 4, 5, 6, 7, 8, 9, 10, 11, 12] rfl rfl (by decide) (by decide) (by decide) (fun _ => rfl) (fun _ => rfl) (fun u H locs hw _ hP hD hS => ?_)
        obtain ⟨f_changes_23, f_code_24, a_kept_25⟩ := u
        have hP : va_P D vwCl (mdl ad dA f_isSaved f_changes_23 f_code_24 f_length f_fault f_signMany f_at f_place a_g a_kept_25 a_saved a_input a_signs a_ways a_needs a_walk a_one a_several a_ragged a_nextLine) H := hP
        have hD : va_D A (mdl ad dA f_isSaved f_changes_23 f_code_24 f_length f_fault f_signMany f_at f_place a_g a_kept_25 a_saved a_input a_signs a_ways a_needs a_walk a_one a_several a_ragged a_nextLine) := hD
        refine lv_aload_n hx hb dX3_grant_58 rfl (lv_at hl 0 rfl) ?_
        refine va_get (D := D) (ci := 2) (v := .ref (ad 1)) (C := RX3) (T := TX3) (N := 20) hx hb hts in_X3 hown hK hP 0 rfl rfl 0 (by decide) (hts _ q1741) (fun _ h9 => h9) rfl dX3_grant_59 ?_
        refine lv_bipush (v := (nI 16)) hx hb dX3_grant_62 (by decide) ?_
        refine lv_iload_n hx hb dX3_grant_64 rfl (lv_at hl 2 rfl) ?_
        refine lv_iadd hx hb dX3_grant_65 ?_
        refine lv_dup2_11 hx hb dX3_grant_66 rfl rfl ?_
        obtain ⟨h26, hw⟩ := hw
        refine k_iald (k := ((nI 16) + v2).toNatClampNeg) hx hb hK hP 1 0 rfl rfl rfl h26 dX3_grant_67 ?_
        refine lv_iload_n hx hb dX3_grant_68 rfl (lv_at hl 3 rfl) ?_
        refine lv_isub hx hb dX3_grant_69 ?_
        obtain ⟨h27, hw⟩ := hw
        refine k_iast (k := ((nI 16) + v2).toNatClampNeg) hx hb hK hP hD hS 1 0 rfl rfl rfl h27 dX3_grant_70 (fun H locs hP hD hS => ?_)
        have hP : va_P D vwCl (mdl ad dA f_isSaved f_changes_23 f_code_24 f_length f_fault f_signMany f_at f_place (upd a_g ((nI 16) + v2).toNatClampNeg ((a_g ((nI 16) + v2).toNatClampNeg) - v3)) a_kept_25 a_saved a_input a_signs a_ways a_needs a_walk a_one a_several a_ragged a_nextLine) H := hP
        have hD : va_D A (mdl ad dA f_isSaved f_changes_23 f_code_24 f_length f_fault f_signMany f_at f_place (upd a_g ((nI 16) + v2).toNatClampNeg ((a_g ((nI 16) + v2).toNatClampNeg) - v3)) a_kept_25 a_saved a_input a_signs a_ways a_needs a_walk a_one a_several a_ragged a_nextLine) := hD
        refine lv_aload_n hx hb dX3_grant_71 rfl (lv_at hl 0 rfl) ?_
        refine va_get (D := D) (ci := 2) (v := .ref (ad 1)) (C := RX3) (T := TX3) (N := 20) hx hb hts in_X3 hown hK hP 0 rfl rfl 0 (by decide) (hts _ q1741) (fun _ h9 => h9) rfl dX3_grant_72 ?_
        refine lv_iconst (v := (nI 4)) hx hb dX3_grant_75 (by decide) ?_
        refine lv_dup2_11 hx hb dX3_grant_76 rfl rfl ?_
        refine k_iald (k := 4) hx hb hK hP 1 0 rfl rfl (clK 4 (by decide)) (inK (by decide) (by decide)) dX3_grant_77 ?_
        refine lv_iload_n hx hb dX3_grant_78 rfl (lv_at hl 3 rfl) ?_
        refine lv_iadd hx hb dX3_grant_79 ?_
        refine k_iast (k := 4) hx hb hK hP hD hS 1 0 rfl rfl (clK 4 (by decide)) (inK (by decide) (by decide)) dX3_grant_80 (fun H locs hP hD hS => ?_)
        have hP : va_P D vwCl (mdl ad dA f_isSaved f_changes_23 f_code_24 f_length f_fault f_signMany f_at f_place (upd (upd a_g ((nI 16) + v2).toNatClampNeg ((a_g ((nI 16) + v2).toNatClampNeg) - v3)) 4 (((upd a_g ((nI 16) + v2).toNatClampNeg ((a_g ((nI 16) + v2).toNatClampNeg) - v3)) 4) + v3)) a_kept_25 a_saved a_input a_signs a_ways a_needs a_walk a_one a_several a_ragged a_nextLine) H := hP
        have hD : va_D A (mdl ad dA f_isSaved f_changes_23 f_code_24 f_length f_fault f_signMany f_at f_place (upd (upd a_g ((nI 16) + v2).toNatClampNeg ((a_g ((nI 16) + v2).toNatClampNeg) - v3)) 4 (((upd a_g ((nI 16) + v2).toNatClampNeg ((a_g ((nI 16) + v2).toNatClampNeg) - v3)) 4) + v3)) a_kept_25 a_saved a_input a_signs a_ways a_needs a_walk a_one a_several a_ragged a_nextLine) := hD
        refine lv_aload_n hx hb dX3_grant_81 rfl (lv_at hl 0 rfl) ?_
        refine va_get (D := D) (ci := 2) (v := .ref (ad 1)) (C := RX3) (T := TX3) (N := 20) hx hb hts in_X3 hown hK hP 0 rfl rfl 0 (by decide) (hts _ q1741) (fun _ h9 => h9) rfl dX3_grant_82 ?_
        refine lv_iconst (v := (nI 3)) hx hb dX3_grant_85 (by decide) ?_
        refine lv_dup2_11 hx hb dX3_grant_86 rfl rfl ?_
        refine k_iald (k := 3) hx hb hK hP 1 0 rfl rfl (clK 3 (by decide)) (inK (by decide) (by decide)) dX3_grant_87 ?_
        refine lv_iconst (v := (nI 1)) hx hb dX3_grant_88 (by decide) ?_
        refine lv_iadd hx hb dX3_grant_89 ?_
        refine k_iast (k := 3) hx hb hK hP hD hS 1 0 rfl rfl (clK 3 (by decide)) (inK (by decide) (by decide)) dX3_grant_90 (fun H locs hP hD hS => ?_)
        have hP : va_P D vwCl (mdl ad dA f_isSaved f_changes_23 f_code_24 f_length f_fault f_signMany f_at f_place (upd (upd (upd a_g ((nI 16) + v2).toNatClampNeg ((a_g ((nI 16) + v2).toNatClampNeg) - v3)) 4 (((upd a_g ((nI 16) + v2).toNatClampNeg ((a_g ((nI 16) + v2).toNatClampNeg) - v3)) 4) + v3)) 3 (((upd (upd a_g ((nI 16) + v2).toNatClampNeg ((a_g ((nI 16) + v2).toNatClampNeg) - v3)) 4 (((upd a_g ((nI 16) + v2).toNatClampNeg ((a_g ((nI 16) + v2).toNatClampNeg) - v3)) 4) + v3)) 3) + (nI 1))) a_kept_25 a_saved a_input a_signs a_ways a_needs a_walk a_one a_several a_ragged a_nextLine) H := hP
        have hD : va_D A (mdl ad dA f_isSaved f_changes_23 f_code_24 f_length f_fault f_signMany f_at f_place (upd (upd (upd a_g ((nI 16) + v2).toNatClampNeg ((a_g ((nI 16) + v2).toNatClampNeg) - v3)) 4 (((upd a_g ((nI 16) + v2).toNatClampNeg ((a_g ((nI 16) + v2).toNatClampNeg) - v3)) 4) + v3)) 3 (((upd (upd a_g ((nI 16) + v2).toNatClampNeg ((a_g ((nI 16) + v2).toNatClampNeg) - v3)) 4 (((upd a_g ((nI 16) + v2).toNatClampNeg ((a_g ((nI 16) + v2).toNatClampNeg) - v3)) 4) + v3)) 3) + (nI 1))) a_kept_25 a_saved a_input a_signs a_ways a_needs a_walk a_one a_several a_ragged a_nextLine) := hD
        refine lv_aload_n hx hb dX3_grant_91 rfl (lv_at hl 0 rfl) ?_
        refine lv_iload_n hx hb dX3_grant_92 rfl (lv_at hl 1 rfl) ?_
        refine k_wv (wn := fun (u : (Nat → Int32)) => (mdl ad dA f_isSaved f_changes_23 f_code_24 f_length f_fault f_signMany f_at f_place u a_kept_25 a_saved a_input a_signs a_ways a_needs a_walk a_one a_several a_ragged a_nextLine)) (wr := []) (k_wV (As := [.int v1]) (rest := []) hSx (met_X3_drops l D dA ad _ f_isSaved f_changes_23 f_code_24 f_length f_fault f_signMany f_at f_place (upd (upd (upd a_g ((nI 16) + v2).toNatClampNeg ((a_g ((nI 16) + v2).toNatClampNeg) - v3)) 4 (((upd a_g ((nI 16) + v2).toNatClampNeg ((a_g ((nI 16) + v2).toNatClampNeg) - v3)) 4) + v3)) 3 (((upd (upd a_g ((nI 16) + v2).toNatClampNeg ((a_g ((nI 16) + v2).toNatClampNeg) - v3)) 4 (((upd a_g ((nI 16) + v2).toNatClampNeg ((a_g ((nI 16) + v2).toNatClampNeg) - v3)) 4) + v3)) 3) + (nI 1))) a_kept_25 a_saved a_input a_signs a_ways a_needs a_walk a_one a_several a_ragged a_nextLine v1 _ hw) gX3_175 ⟨rfl, hd_X3_drops⟩ ⟨Nat.le_of_ble_eq_true rfl, Nat.le_of_ble_eq_true rfl⟩ rfl rfl hP hK hD [0, 1, 2, 3, 4, 5, 6, 7, 8, 9, 10, 11, 12] rfl (by decide) rfl 0 rfl rfl rfl rfl hl.1 (Nat.le_of_ble_eq_true rfl) rfl dX3_grant_93 ⟨Nat.le_refl 0, Nat.le_refl 0⟩) hP hD hS hA [0, 1, 2, 3, 4, 5, 6, 7, 8, 9, 10, 11, 12] [] [0, 1, 2, 3, 4, 5, 6, 7, 8, 9, 10, 11, 12] rfl rfl (by decide) (by decide) (by decide) (fun _ => rfl) (fun _ => rfl) (fun u H locs hw _ hP hD hS => ?_)
        obtain ⟨a_g_28, rfl⟩ : ∃ z, z = u := ⟨_, rfl⟩
        have hP : va_P D vwCl (mdl ad dA f_isSaved f_changes_23 f_code_24 f_length f_fault f_signMany f_at f_place a_g_28 a_kept_25 a_saved a_input a_signs a_ways a_needs a_walk a_one a_several a_ragged a_nextLine) H := hP
        have hD : va_D A (mdl ad dA f_isSaved f_changes_23 f_code_24 f_length f_fault f_signMany f_at f_place a_g_28 a_kept_25 a_saved a_input a_signs a_ways a_needs a_walk a_one a_several a_ragged a_nextLine) := hD
        refine lv_aload_n hx hb dX3_grant_96 rfl (lv_at hl 0 rfl) ?_
        refine va_get (D := D) (ci := 2) (v := .ref (ad 1)) (C := RX3) (T := TX3) (N := 20) hx hb hts in_X3 hown hK hP 0 rfl rfl 0 (by decide) (hts _ q1741) (fun _ h9 => h9) rfl dX3_grant_97 ?_
        refine lv_bipush (v := (nI 16)) hx hb dX3_grant_100 (by decide) ?_
        refine lv_iload_n hx hb dX3_grant_102 rfl (lv_at hl 2 rfl) ?_
        refine lv_iadd hx hb dX3_grant_103 ?_
        obtain ⟨h29, hw⟩ := hw
        refine k_iald (k := ((nI 16) + v2).toNatClampNeg) hx hb hK hP 1 0 rfl rfl rfl h29 dX3_grant_104 ?_
        exact W.iret (v := (a_g_28 ((nI 16) + v2).toNatClampNeg)) hx hb hr (fun t ht hW => ⟨⟨(a_g_28 ((nI 16) + v2).toNatClampNeg), (f_changes_23, f_code_24, f_place, a_g_28, a_kept_25), rfl, hw, by rw [ht]; exact hP, va_K.moved hW.alike hK, hD⟩, hS.F ht⟩) hS.2.2 dX3_grant_105
      · have hw := hw.2 c22
        refine lv_iconst (v := (nI 0)) hx hb dX3_grant_52 (by decide) ?_
        exact W.iret (v := (nI 0)) hx hb hr (fun t ht hW => ⟨⟨(nI 0), (f_changes, f_code_21, f_place, a_g, a_kept), rfl, hw, by rw [ht]; exact hP, va_K.moved hW.alike hK, hD⟩, hS.F ht⟩) hS.2.2 dX3_grant_53
  refine lv_aload_n hx hb dX3_grant_0 rfl (lv_at hl 0 rfl) ?_
  refine lv_iload_n hx hb dX3_grant_1 rfl (lv_at hl 1 rfl) ?_
  refine k_wi (wn := fun (u : Int32) => (mdl ad dA f_isSaved f_changes u f_length f_fault f_signMany f_at f_place a_g a_kept a_saved a_input a_signs a_ways a_needs a_walk a_one a_several a_ragged a_nextLine)) (wr := []) (k_wV (As := [.int p0]) (rest := []) hSx (met_X3_isLost l D dA ad _ f_isSaved f_changes f_code f_length f_fault f_signMany f_at f_place a_g a_kept a_saved a_input a_signs a_ways a_needs a_walk a_one a_several a_ragged a_nextLine p0 _ hw) gX3_169 ⟨rfl, hd_X3_isLost⟩ ⟨Nat.le_of_ble_eq_true rfl, Nat.le_of_ble_eq_true rfl⟩ rfl rfl hP hK hD [0, 1, 2, 3, 4, 5, 6, 7, 8, 9, 10, 11, 12] rfl (by decide) rfl 0 rfl rfl rfl rfl hl.1 (Nat.le_of_ble_eq_true rfl) rfl dX3_grant_2 ⟨Nat.le_refl 0, Nat.le_refl 0⟩) hP hD hS hA [0, 1, 2, 3, 4, 5, 6, 7, 8, 9, 10, 11, 12] [] [0, 1, 2, 3, 4, 5, 6, 7, 8, 9, 10, 11, 12] rfl rfl (by decide) (by decide) (by decide) (fun _ => rfl) (fun _ => rfl) (fun r30 u H locs hw _ hP hD hS => ?_)
  obtain ⟨f_code_31, rfl⟩ : ∃ z, z = u := ⟨_, rfl⟩
  have hP : va_P D vwCl (mdl ad dA f_isSaved f_changes f_code_31 f_length f_fault f_signMany f_at f_place a_g a_kept a_saved a_input a_signs a_ways a_needs a_walk a_one a_several a_ragged a_nextLine) H := hP
  have hD : va_D A (mdl ad dA f_isSaved f_changes f_code_31 f_length f_fault f_signMany f_at f_place a_g a_kept a_saved a_input a_signs a_ways a_needs a_walk a_one a_several a_ragged a_nextLine) := hD
  refine lv_if_eq (tgt := 10) hx hb dX3_grant_5 (by decide) (fun c32 => ?_) (fun c32 => ?_)
  · have hw := hw.1 c32
    refine lv_aload_n hx hb dX3_grant_10 rfl (lv_at hl 0 rfl) ?_
    refine va_get (D := D) (ci := 2) (v := .ref (ad 1)) (C := RX3) (T := TX3) (N := 20) hx hb hts in_X3 hown hK hP 0 rfl rfl 0 (by decide) (hts _ q1741) (fun _ h9 => h9) rfl dX3_grant_11 ?_
    refine lv_aload_n hx hb dX3_grant_14 rfl (lv_at hl 0 rfl) ?_
    refine lv_iload_n hx hb dX3_grant_15 rfl (lv_at hl 1 rfl) ?_
    refine k_ri (k_rV (As := [.int p0]) (rest := [.ref (ad 1)]) hSx (met_X3_row l D dA ad f_isSaved f_changes f_code_31 f_length f_fault f_signMany f_at f_place a_g a_kept a_saved a_input a_signs a_ways a_needs a_walk a_one a_several a_ragged a_nextLine p0 _ hw) gX3_154 ⟨rfl, hd_X3_row⟩ ⟨Nat.le_of_ble_eq_true rfl, Nat.le_of_ble_eq_true rfl⟩ rfl rfl hP hK [0, 1, 2, 3, 4, 5, 6, 7, 8, 9, 10, 11, 12] rfl 0 rfl rfl rfl rfl hl.1 (Nat.le_of_ble_eq_true rfl) rfl dX3_grant_16 ⟨Nat.le_refl 0, Nat.le_refl 0⟩) (fun r33 hw => ?_)
    obtain ⟨h34, hw⟩ := hw
    refine k_iald (k := r33.toNatClampNeg) hx hb hK hP 1 0 rfl rfl rfl h34 dX3_grant_19 ?_
    refine lv_istore_n (lv' := [(2, .int (a_g r33.toNatClampNeg)), (0, .ref (ad 0)), (1, .int p0)]) hx hb dX3_grant_20 rfl hl (by decide) rfl (fun ls hl => ?_)
    refine lv_aload_n hx hb dX3_grant_21 rfl (lv_at hl 1 rfl) ?_
    refine lv_iload_n hx hb dX3_grant_22 rfl (lv_at hl 2 rfl) ?_
    refine k_wi (wn := fun (u : Int32) => (mdl ad dA f_isSaved f_changes f_code_31 f_length f_fault f_signMany f_at u a_g a_kept a_saved a_input a_signs a_ways a_needs a_walk a_one a_several a_ragged a_nextLine)) (wr := []) (k_wV (As := [.int p0]) (rest := []) hSx (met_X3_value l D dA ad _ f_isSaved f_changes f_code_31 f_length f_fault f_signMany f_at f_place a_g a_kept a_saved a_input a_signs a_ways a_needs a_walk a_one a_several a_ragged a_nextLine p0 _ hw) gX3_172 ⟨rfl, hd_X3_value⟩ ⟨Nat.le_of_ble_eq_true rfl, Nat.le_of_ble_eq_true rfl⟩ rfl rfl hP hK hD [0, 1, 2, 3, 4, 5, 6, 7, 8, 9, 10, 11, 12] rfl (by decide) rfl 0 rfl rfl rfl rfl hl.1 (Nat.le_of_ble_eq_true rfl) rfl dX3_grant_23 ⟨Nat.le_refl 0, Nat.le_refl 0⟩) hP hD hS hA [0, 1, 2, 3, 4, 5, 6, 7, 8, 9, 10, 11, 12] [] [0, 1, 2, 3, 4, 5, 6, 7, 8, 9, 10, 11, 12] rfl rfl (by decide) (by decide) (by decide) (fun _ => rfl) (fun _ => rfl) (fun r35 u H locs hw _ hP hD hS => ?_)
    obtain ⟨f_place_36, rfl⟩ : ∃ z, z = u := ⟨_, rfl⟩
    have hP : va_P D vwCl (mdl ad dA f_isSaved f_changes f_code_31 f_length f_fault f_signMany f_at f_place_36 a_g a_kept a_saved a_input a_signs a_ways a_needs a_walk a_one a_several a_ragged a_nextLine) H := hP
    have hD : va_D A (mdl ad dA f_isSaved f_changes f_code_31 f_length f_fault f_signMany f_at f_place_36 a_g a_kept a_saved a_input a_signs a_ways a_needs a_walk a_one a_several a_ragged a_nextLine) := hD
    refine lv_istore_n (lv' := [(3, .int r35), (2, .int (a_g r33.toNatClampNeg)), (0, .ref (ad 0)), (1, .int p0)]) hx hb dX3_grant_26 rfl hl (by decide) rfl (fun ls hl => ?_)
    refine lv_aload_n hx hb dX3_grant_27 rfl (lv_at hl 2 rfl) ?_
    refine lv_aload_n hx hb dX3_grant_28 rfl (lv_at hl 2 rfl) ?_
    refine va_get (D := D) (ci := 2) (v := .ref (ad 1)) (C := RX3) (T := TX3) (N := 20) hx hb hts in_X3 hown hK hP 0 rfl rfl 0 (by decide) (hts _ q1741) (fun _ h9 => h9) rfl dX3_grant_29 ?_
    refine lv_bipush (v := (nI 16)) hx hb dX3_grant_32 (by decide) ?_
    refine lv_iload_n hx hb dX3_grant_34 rfl (lv_at hl 1 rfl) ?_
    refine lv_iadd hx hb dX3_grant_35 ?_
    obtain ⟨h37, hw⟩ := hw
    refine k_iald (k := ((nI 16) + (a_g r33.toNatClampNeg)).toNatClampNeg) hx hb hK hP 1 0 rfl rfl rfl h37 dX3_grant_36 ?_
    refine lv_iload_n hx hb dX3_grant_37 rfl (lv_at hl 0 rfl) ?_
    refine lv_icmp_ge (tgt := 45) hx hb dX3_grant_38 (by decide) (fun c38 => ?_) (fun c38 => ?_)
    · have hw := hw.1 c38
      refine lv_iconst (v := (nI 0)) hx hb dX3_grant_45 (by decide) ?_
      exact hL46  f_changes f_code_31 f_place_36 a_g a_kept p0 (a_g r33.toNatClampNeg) r35 (nI 0) _ _ _ hP hD hS (lv_sub hl [2, 3, 1, 0] rfl) hw
    · have hw := hw.2 c38
      refine lv_iconst (v := (nI 2)) hx hb dX3_grant_41 (by decide) ?_
      refine lv_goto (tgt := 46) hx hb dX3_grant_42 (by decide) ?_
      exact hL46  f_changes f_code_31 f_place_36 a_g a_kept p0 (a_g r33.toNatClampNeg) r35 (nI 2) _ _ _ hP hD hS (lv_sub hl [2, 3, 1, 0] rfl) hw
  · have hw := hw.2 c32
    refine lv_iconst (v := (nI 0)) hx hb dX3_grant_8 (by decide) ?_
    exact W.iret (v := (nI 0)) hx hb hr (fun t ht hW => ⟨⟨(nI 0), (f_changes, f_code_31, f_place, a_g, a_kept), rfl, hw, by rw [ht]; exact hP, va_K.moved hW.alike hK, hD⟩, hS.F ht⟩) hS.2.2 dX3_grant_9
def rm_X3_withdraw : Room := { frames := 3, cells := 0, slots := 0, locals := 64 }
set_option maxHeartbeats 4000000 in
set_option maxRecDepth 100000 in
theorem met_X3_withdraw (l : Launch) (D : va_G) (dA : Nat → ClassId) (ad : Nat → Nat) (sz : Nat) (f_isSaved : Int32) (f_changes : Int32) (f_code : Int32) (f_length : Int32) (f_fault : Int32) (f_signMany : Int32) (f_at : Int32) (f_place : Int32) (a_g : (Nat → Int32)) (a_kept : (Nat → Int32)) (a_saved : (Nat → Int32)) (a_input : (Nat → Int32)) (a_signs : (Nat → Int32)) (a_ways : (Nat → Int64)) (a_needs : (Nat → Int32)) (a_walk : (Nat → Int32)) (a_one : (Nat → Int32)) (a_several : (Nat → Int32)) (a_ragged : (Nat → Int32)) (a_nextLine : (Nat → Int32)) (p0 : Int32) (post : Int32 → Int32 → Int32 → (Nat → Int32) → (Nat → Int32) → Prop) (hw : w_X3_withdraw post f_changes f_code a_g a_kept p0) : Met l yX3_withdraw (ws_ yX3_withdraw cX3_withdraw 2 (some .int)) rm_X3_withdraw (va_Pc [.ref (ad 0), .int p0] (wrB D dA sz (mdl ad dA f_isSaved f_changes f_code f_length f_fault f_signMany f_at f_place a_g a_kept a_saved a_input a_signs a_ways a_needs a_walk a_one a_several a_ragged a_nextLine))) (va_Qi (fun (r : Int32) (u : Int32 × Int32 × (Nat → Int32) × (Nat → Int32)) => post r u.1 u.2.1 u.2.2.1 u.2.2.2) (fun (u : Int32 × Int32 × (Nat → Int32) × (Nat → Int32)) t => wrQ D dA (va_A (mdl ad dA f_isSaved f_changes f_code f_length f_fault f_signMany f_at f_place a_g a_kept a_saved a_input a_signs a_ways a_needs a_walk a_one a_several a_ragged a_nextLine) sz) (mdl ad dA f_isSaved u.1 u.2.1 f_length f_fault f_signMany f_at f_place u.2.2.1 u.2.2.2 a_saved a_input a_signs a_ways a_needs a_walk a_one a_several a_ragged a_nextLine) t) (va_A (mdl ad dA f_isSaved f_changes f_code f_length f_fault f_signMany f_at f_place a_g a_kept a_saved a_input a_signs a_ways a_needs a_walk a_one a_several a_ragged a_nextLine) sz)) 0 0 (va_A (mdl ad dA f_isSaved f_changes f_code f_length f_fault f_signMany f_at f_place a_g a_kept a_saved a_input a_signs a_ways a_needs a_walk a_one a_several a_ragged a_nextLine) sz) := by
  refine Met.ofW (cc := cX3_withdraw) (maxL := 2) (ret := (some .int)) (by decide) rfl ?_
  intro p e s m args below meth c s₁ B hml hv
  obtain ⟨rfl, hsz, hP, hK, hD0⟩ := hv
  have hx := B.exec
  have hb := B.bytes
  have hr := B.returns
  have hts := atoms_spec (ws := (ws_ yX3_withdraw cX3_withdraw 2 (some .int))) B.pre
  have hts : ∀ w ∈ lw_all, w.before _ s = true := fun w h => hts w (List.mem_cons_of_mem _ h)
  have hown : s.vm.findClass RX3 = some m.cls := findClass_of_methodNamed B.named
  have hlocks := B.notSynchronized
  have hSx : CallFix p m c cX3_withdraw 2 s _ lw_all RX3 := ⟨hx, hb, hml, hown, hts⟩
  subst hsz
  have hD := hD0.self (sz := s.heap.size)
  generalize hAe : va_A (mdl ad dA f_isSaved f_changes f_code f_length f_fault f_signMany f_at f_place a_g a_kept a_saved a_input a_signs a_ways a_needs a_walk a_one a_several a_ragged a_nextLine) s.heap.size = A at hD ⊢
  have hA : ∀ q : Nat, s.heap.size ≤ q → A q := fun q h => by rw [← hAe]; exact Or.inr h
  have hS : va_S A s.heap s.heap [] := va_S.rf
  have hl := lv_entry ([.ref (ad 0), .int p0]) (n := 2) (Nat.le_of_ble_eq_true rfl)
  rw [lg_entry_eq]
  generalize (lg_sl ([.ref (ad 0), .int p0]) ++ List.replicate (2 - (lg_sl ([.ref (ad 0), .int p0])).length) Slot.unset).toArray = ls at hl ⊢
  have hl : lv_has ls 2 [(0, .ref (ad 0)), (1, .int p0)] := hl
  refine lv_aload_n hx hb dX3_withdraw_0 rfl (lv_at hl 0 rfl) ?_
  refine lv_iload_n hx hb dX3_withdraw_1 rfl (lv_at hl 1 rfl) ?_
  refine k_wi (wn := fun (u : Int32) => (mdl ad dA f_isSaved f_changes u f_length f_fault f_signMany f_at f_place a_g a_kept a_saved a_input a_signs a_ways a_needs a_walk a_one a_several a_ragged a_nextLine)) (wr := []) (k_wV (As := [.int p0]) (rest := []) hSx (met_X3_isLost l D dA ad _ f_isSaved f_changes f_code f_length f_fault f_signMany f_at f_place a_g a_kept a_saved a_input a_signs a_ways a_needs a_walk a_one a_several a_ragged a_nextLine p0 _ hw) gX3_169 ⟨rfl, hd_X3_isLost⟩ ⟨Nat.le_of_ble_eq_true rfl, Nat.le_of_ble_eq_true rfl⟩ rfl rfl hP hK hD [0, 1, 2, 3, 4, 5, 6, 7, 8, 9, 10, 11, 12] rfl (by decide) rfl 0 rfl rfl rfl rfl hl.1 (Nat.le_of_ble_eq_true rfl) rfl dX3_withdraw_2 ⟨Nat.le_refl 0, Nat.le_refl 0⟩) hP hD hS hA [0, 1, 2, 3, 4, 5, 6, 7, 8, 9, 10, 11, 12] [] [0, 1, 2, 3, 4, 5, 6, 7, 8, 9, 10, 11, 12] rfl rfl (by decide) (by decide) (by decide) (fun _ => rfl) (fun _ => rfl) (fun r8 u H locs hw _ hP hD hS => ?_)
  obtain ⟨f_code_9, rfl⟩ : ∃ z, z = u := ⟨_, rfl⟩
  have hP : va_P D vwCl (mdl ad dA f_isSaved f_changes f_code_9 f_length f_fault f_signMany f_at f_place a_g a_kept a_saved a_input a_signs a_ways a_needs a_walk a_one a_several a_ragged a_nextLine) H := hP
  have hD : va_D A (mdl ad dA f_isSaved f_changes f_code_9 f_length f_fault f_signMany f_at f_place a_g a_kept a_saved a_input a_signs a_ways a_needs a_walk a_one a_several a_ragged a_nextLine) := hD
  refine lv_if_eq (tgt := 10) hx hb dX3_withdraw_5 (by decide) (fun c10 => ?_) (fun c10 => ?_)
  · have hw := hw.1 c10
    refine lv_aload_n hx hb dX3_withdraw_10 rfl (lv_at hl 0 rfl) ?_
    refine k_wv (wn := fun (u : Int32 × Int32 × (Nat → Int32)) => (mdl ad dA f_isSaved u.1 u.2.1 f_length f_fault f_signMany f_at f_place a_g u.2.2 a_saved a_input a_signs a_ways a_needs a_walk a_one a_several a_ragged a_nextLine)) (wr := []) (k_wV (As := []) (rest := []) hSx (met_X3_keeps l D dA ad _ f_isSaved f_changes f_code_9 f_length f_fault f_signMany f_at f_place a_g a_kept a_saved a_input a_signs a_ways a_needs a_walk a_one a_several a_ragged a_nextLine  _ hw) gX3_77 ⟨rfl, hd_X3_keeps⟩ ⟨Nat.le_of_ble_eq_true rfl, Nat.le_of_ble_eq_true rfl⟩ rfl rfl hP hK hD [0, 1, 2, 3, 4, 5, 6, 7, 8, 9, 10, 11, 12] rfl (by decide) rfl 0 rfl rfl rfl rfl hl.1 (Nat.le_of_ble_eq_true rfl) rfl dX3_withdraw_11 ⟨Nat.le_refl 0, Nat.le_refl 0⟩) hP hD hS hA [0, 1, 2, 3, 4, 5, 6, 7, 8, 9, 10, 11, 12] [] [0, 1, 2, 3, 4, 5, 6, 7, 8, 9, 10, 11, 12] rfl rfl (by decide) (by decide) (by decide) (fun _ => rfl) (fun _ => rfl) (fun u H locs hw _ hP hD hS => ?_)
    obtain ⟨f_changes_11, f_code_12, a_kept_13⟩ := u
    have hP : va_P D vwCl (mdl ad dA f_isSaved f_changes_11 f_code_12 f_length f_fault f_signMany f_at f_place a_g a_kept_13 a_saved a_input a_signs a_ways a_needs a_walk a_one a_several a_ragged a_nextLine) H := hP
    have hD : va_D A (mdl ad dA f_isSaved f_changes_11 f_code_12 f_length f_fault f_signMany f_at f_place a_g a_kept_13 a_saved a_input a_signs a_ways a_needs a_walk a_one a_several a_ragged a_nextLine) := hD
    refine lv_aload_n hx hb dX3_withdraw_14 rfl (lv_at hl 0 rfl) ?_
    refine lv_iload_n hx hb dX3_withdraw_15 rfl (lv_at hl 1 rfl) ?_
    refine k_wv (wn := fun (u : (Nat → Int32)) => (mdl ad dA f_isSaved f_changes_11 f_code_12 f_length f_fault f_signMany f_at f_place u a_kept_13 a_saved a_input a_signs a_ways a_needs a_walk a_one a_several a_ragged a_nextLine)) (wr := []) (k_wV (As := [.int p0]) (rest := []) hSx (met_X3_drops l D dA ad _ f_isSaved f_changes_11 f_code_12 f_length f_fault f_signMany f_at f_place a_g a_kept_13 a_saved a_input a_signs a_ways a_needs a_walk a_one a_several a_ragged a_nextLine p0 _ hw) gX3_175 ⟨rfl, hd_X3_drops⟩ ⟨Nat.le_of_ble_eq_true rfl, Nat.le_of_ble_eq_true rfl⟩ rfl rfl hP hK hD [0, 1, 2, 3, 4, 5, 6, 7, 8, 9, 10, 11, 12] rfl (by decide) rfl 0 rfl rfl rfl rfl hl.1 (Nat.le_of_ble_eq_true rfl) rfl dX3_withdraw_16 ⟨Nat.le_refl 0, Nat.le_refl 0⟩) hP hD hS hA [0, 1, 2, 3, 4, 5, 6, 7, 8, 9, 10, 11, 12] [] [0, 1, 2, 3, 4, 5, 6, 7, 8, 9, 10, 11, 12] rfl rfl (by decide) (by decide) (by decide) (fun _ => rfl) (fun _ => rfl) (fun u H locs hw _ hP hD hS => ?_)
    obtain ⟨a_g_14, rfl⟩ : ∃ z, z = u := ⟨_, rfl⟩
    have hP : va_P D vwCl (mdl ad dA f_isSaved f_changes_11 f_code_12 f_length f_fault f_signMany f_at f_place a_g_14 a_kept_13 a_saved a_input a_signs a_ways a_needs a_walk a_one a_several a_ragged a_nextLine) H := hP
    have hD : va_D A (mdl ad dA f_isSaved f_changes_11 f_code_12 f_length f_fault f_signMany f_at f_place a_g_14 a_kept_13 a_saved a_input a_signs a_ways a_needs a_walk a_one a_several a_ragged a_nextLine) := hD
    refine lv_aload_n hx hb dX3_withdraw_19 rfl (lv_at hl 0 rfl) ?_
    refine va_get (D := D) (ci := 2) (v := .ref (ad 1)) (C := RX3) (T := TX3) (N := 20) hx hb hts in_X3 hown hK hP 0 rfl rfl 0 (by decide) (hts _ q1741) (fun _ h9 => h9) rfl dX3_withdraw_20 ?_
    refine lv_iconst (v := (nI 1)) hx hb dX3_withdraw_23 (by decide) ?_
    refine k_iald (k := 1) hx hb hK hP 1 0 rfl rfl (clK 1 (by decide)) (inK (by decide) (by decide)) dX3_withdraw_24 ?_
    exact W.iret (v := (a_g_14 1)) hx hb hr (fun t ht hW => ⟨⟨(a_g_14 1), (f_changes_11, f_code_12, a_g_14, a_kept_13), rfl, hw, by rw [ht]; exact hP, va_K.moved hW.alike hK, hD⟩, hS.F ht⟩) hS.2.2 dX3_withdraw_25
  · have hw := hw.2 c10
    refine lv_iconst (v := (nI 0)) hx hb dX3_withdraw_8 (by decide) ?_
    exact W.iret (v := (nI 0)) hx hb hr (fun t ht hW => ⟨⟨(nI 0), (f_changes, f_code_9, a_g, a_kept), rfl, hw, by rw [ht]; exact hP, va_K.moved hW.alike hK, hD⟩, hS.F ht⟩) hS.2.2 dX3_withdraw_9
def rm_X3_errorPosition : Room := { frames := 1, cells := 0, slots := 0, locals := 21 }
set_option maxHeartbeats 4000000 in
set_option maxRecDepth 100000 in
theorem met_X3_errorPosition (l : Launch) (D : va_G) (dA : Nat → ClassId) (ad : Nat → Nat) (sz : Nat) (f_isSaved : Int32) (f_changes : Int32) (f_code : Int32) (f_length : Int32) (f_fault : Int32) (f_signMany : Int32) (f_at : Int32) (f_place : Int32) (a_g : (Nat → Int32)) (a_kept : (Nat → Int32)) (a_saved : (Nat → Int32)) (a_input : (Nat → Int32)) (a_signs : (Nat → Int32)) (a_ways : (Nat → Int64)) (a_needs : (Nat → Int32)) (a_walk : (Nat → Int32)) (a_one : (Nat → Int32)) (a_several : (Nat → Int32)) (a_ragged : (Nat → Int32)) (a_nextLine : (Nat → Int32))  (post : Int32 → Int32 → Prop) (hw : w_X3_errorPosition post f_code f_fault) : Met l yX3_errorPosition (ws_ yX3_errorPosition cX3_errorPosition 1 (some .int)) rm_X3_errorPosition (va_Pc [.ref (ad 0)] (wrB D dA sz (mdl ad dA f_isSaved f_changes f_code f_length f_fault f_signMany f_at f_place a_g a_kept a_saved a_input a_signs a_ways a_needs a_walk a_one a_several a_ragged a_nextLine))) (va_Qi (fun (r : Int32) (u : Int32) => post r u) (fun (u : Int32) t => wrQ D dA (va_A (mdl ad dA f_isSaved f_changes f_code f_length f_fault f_signMany f_at f_place a_g a_kept a_saved a_input a_signs a_ways a_needs a_walk a_one a_several a_ragged a_nextLine) sz) (mdl ad dA f_isSaved f_changes u f_length f_fault f_signMany f_at f_place a_g a_kept a_saved a_input a_signs a_ways a_needs a_walk a_one a_several a_ragged a_nextLine) t) (va_A (mdl ad dA f_isSaved f_changes f_code f_length f_fault f_signMany f_at f_place a_g a_kept a_saved a_input a_signs a_ways a_needs a_walk a_one a_several a_ragged a_nextLine) sz)) 0 0 (va_A (mdl ad dA f_isSaved f_changes f_code f_length f_fault f_signMany f_at f_place a_g a_kept a_saved a_input a_signs a_ways a_needs a_walk a_one a_several a_ragged a_nextLine) sz) := by
  refine Met.ofW (cc := cX3_errorPosition) (maxL := 1) (ret := (some .int)) (by decide) rfl ?_
  intro p e s m args below meth c s₁ B hml hv
  obtain ⟨rfl, hsz, hP, hK, hD0⟩ := hv
  have hx := B.exec
  have hb := B.bytes
  have hr := B.returns
  have hts := atoms_spec (ws := (ws_ yX3_errorPosition cX3_errorPosition 1 (some .int))) B.pre
  have hts : ∀ w ∈ lw_all, w.before _ s = true := fun w h => hts w (List.mem_cons_of_mem _ h)
  have hown : s.vm.findClass RX3 = some m.cls := findClass_of_methodNamed B.named
  have hlocks := B.notSynchronized
  have hSx : CallFix p m c cX3_errorPosition 1 s _ lw_all RX3 := ⟨hx, hb, hml, hown, hts⟩
  subst hsz
  have hD := hD0.self (sz := s.heap.size)
  generalize hAe : va_A (mdl ad dA f_isSaved f_changes f_code f_length f_fault f_signMany f_at f_place a_g a_kept a_saved a_input a_signs a_ways a_needs a_walk a_one a_several a_ragged a_nextLine) s.heap.size = A at hD ⊢
  have hA : ∀ q : Nat, s.heap.size ≤ q → A q := fun q h => by rw [← hAe]; exact Or.inr h
  have hS : va_S A s.heap s.heap [] := va_S.rf
  have hl := lv_entry ([.ref (ad 0)]) (n := 1) (Nat.le_of_ble_eq_true rfl)
  rw [lg_entry_eq]
  generalize (lg_sl ([.ref (ad 0)]) ++ List.replicate (1 - (lg_sl ([.ref (ad 0)])).length) Slot.unset).toArray = ls at hl ⊢
  have hl : lv_has ls 1 [(0, .ref (ad 0))] := hl
  have hL13 : ∀  (f_code : Int32) (s1 : Int32) (H : Heap) (locs : List Loc) (ls : Array Slot), va_P D vwCl (mdl ad dA f_isSaved f_changes f_code f_length f_fault f_signMany f_at f_place a_g a_kept a_saved a_input a_signs a_ways a_needs a_walk a_one a_several a_ragged a_nextLine) H → va_D A (mdl ad dA f_isSaved f_changes f_code f_length f_fault f_signMany f_at f_place a_g a_kept a_saved a_input a_signs a_ways a_needs a_walk a_one a_several a_ragged a_nextLine) → va_S A s.heap H locs → lv_has ls 1 [(0, .ref (ad 0))] → (w_X3_errorPosition_13 post f_fault) f_code s1 → W p l e (headSpec (ws_ yX3_errorPosition cX3_errorPosition 1 (some .int)) rm_X3_errorPosition).room s m ([.ref (ad 0)] : List Value).toArray below meth c H locs 0 0 (MQ below (va_Qi (fun (r : Int32) (u : Int32) => post r u) (fun (u : Int32) t => wrQ D dA A (mdl ad dA f_isSaved f_changes u f_length f_fault f_signMany f_at f_place a_g a_kept a_saved a_input a_signs a_ways a_needs a_walk a_one a_several a_ragged a_nextLine) t) A) ([.ref (ad 0)] : List Value).toArray s 0 0 A) (F0 m 13 ls [.int s1, .ref (ad 0)]) := by
      intro  f_code s1 H locs ls hP hD hS hl hw
      refine k_wi (wn := fun (u : Int32) => (mdl ad dA f_isSaved f_changes u f_length f_fault f_signMany f_at f_place a_g a_kept a_saved a_input a_signs a_ways a_needs a_walk a_one a_several a_ragged a_nextLine)) (wr := []) (k_wV (As := [.int s1]) (rest := []) hSx (met_X3_fails l D dA ad _ f_isSaved f_changes f_code f_length f_fault f_signMany f_at f_place a_g a_kept a_saved a_input a_signs a_ways a_needs a_walk a_one a_several a_ragged a_nextLine s1 _ hw) gX3_70 ⟨rfl, hd_X3_fails⟩ ⟨Nat.le_of_ble_eq_true rfl, Nat.le_of_ble_eq_true rfl⟩ rfl rfl hP hK hD [0, 1, 2, 3, 4, 5, 6, 7, 8, 9, 10, 11, 12] rfl (by decide) rfl 0 rfl rfl rfl rfl hl.1 (Nat.le_of_ble_eq_true rfl) rfl dX3_errorPosition_13 ⟨Nat.le_refl 0, Nat.le_refl 0⟩) hP hD hS hA [0, 1, 2, 3, 4, 5, 6, 7, 8, 9, 10, 11, 12] [] [0, 1, 2, 3, 4, 5, 6, 7, 8, 9, 10, 11, 12] rfl rfl (by decide) (by decide) (by decide) (fun _ => rfl) (fun _ => rfl) (fun r5 u H locs hw _ hP hD hS => ?_)
      obtain ⟨f_code_6, rfl⟩ : ∃ z, z = u := ⟨_, rfl⟩
      have hP : va_P D vwCl (mdl ad dA f_isSaved f_changes f_code_6 f_length f_fault f_signMany f_at f_place a_g a_kept a_saved a_input a_signs a_ways a_needs a_walk a_one a_several a_ragged a_nextLine) H := hP
      have hD : va_D A (mdl ad dA f_isSaved f_changes f_code_6 f_length f_fault f_signMany f_at f_place a_g a_kept a_saved a_input a_signs a_ways a_needs a_walk a_one a_several a_ragged a_nextLine) := hD
      refine lv_if_eq (tgt := 23) hx hb dX3_errorPosition_16 (by decide) (fun c7 => ?_) (fun c7 => ?_)
      · have hw := hw.1 c7
        refine lv_aload_n hx hb dX3_errorPosition_23 rfl (lv_at hl 0 rfl) ?_
        refine va_get (D := D) (ci := 2) (v := .int f_fault) (C := RX3) (T := TX3) (N := 20) hx hb hts in_X3 hown hK hP 0 rfl rfl 8 (by decide) (hts _ q1749) (fun _ h9 => h9) rfl dX3_errorPosition_24 ?_
        exact W.iret (v := f_fault) hx hb hr (fun t ht hW => ⟨⟨f_fault, f_code_6, rfl, hw, by rw [ht]; exact hP, va_K.moved hW.alike hK, hD⟩, hS.F ht⟩) hS.2.2 dX3_errorPosition_27
      · have hw := hw.2 c7
        refine lv_iconst (v := (nI 0)) hx hb dX3_errorPosition_19 (by decide) ?_
        refine lv_goto (tgt := 27) hx hb dX3_errorPosition_20 (by decide) ?_
        exact W.iret (v := (nI 0)) hx hb hr (fun t ht hW => ⟨⟨(nI 0), f_code_6, rfl, hw, by rw [ht]; exact hP, va_K.moved hW.alike hK, hD⟩, hS.F ht⟩) hS.2.2 dX3_errorPosition_27
  refine lv_aload_n hx hb dX3_errorPosition_0 rfl (lv_at hl 0 rfl) ?_
  refine lv_aload_n hx hb dX3_errorPosition_1 rfl (lv_at hl 0 rfl) ?_
  refine va_get (D := D) (ci := 2) (v := .int f_fault) (C := RX3) (T := TX3) (N := 20) hx hb hts in_X3 hown hK hP 0 rfl rfl 8 (by decide) (hts _ q1749) (fun _ h9 => h9) rfl dX3_errorPosition_2 ?_
  refine lv_if_ge (tgt := 12) hx hb dX3_errorPosition_5 (by decide) (fun c8 => ?_) (fun c8 => ?_)
  · have hw := hw.1 c8
    refine lv_iconst (v := (nI 0)) hx hb dX3_errorPosition_12 (by decide) ?_
    exact hL13  f_code (nI 0) _ _ _ hP hD hS (lv_sub hl [0] rfl) hw
  · have hw := hw.2 c8
    refine lv_iconst (v := (nI 1)) hx hb dX3_errorPosition_8 (by decide) ?_
    refine lv_goto (tgt := 13) hx hb dX3_errorPosition_9 (by decide) ?_
    exact hL13  f_code (nI 1) _ _ _ hP hD hS (lv_sub hl [0] rfl) hw
def rm_X3_requestCount : Room := { frames := 0, cells := 0, slots := 0, locals := 0 }
set_option maxHeartbeats 4000000 in
set_option maxRecDepth 100000 in
theorem met_X3_requestCount (l : Launch) (D : va_G) (dA : Nat → ClassId) (ad : Nat → Nat) (sz : Nat) (f_isSaved : Int32) (f_changes : Int32) (f_code : Int32) (f_length : Int32) (f_fault : Int32) (f_signMany : Int32) (f_at : Int32) (f_place : Int32) (a_g : (Nat → Int32)) (a_kept : (Nat → Int32)) (a_saved : (Nat → Int32)) (a_input : (Nat → Int32)) (a_signs : (Nat → Int32)) (a_ways : (Nat → Int64)) (a_needs : (Nat → Int32)) (a_walk : (Nat → Int32)) (a_one : (Nat → Int32)) (a_several : (Nat → Int32)) (a_ragged : (Nat → Int32)) (a_nextLine : (Nat → Int32))  (post : Int32 → Int32 → Prop) (hw : w_X3_requestCount post f_code a_g) : Met l yX3_requestCount (ws_ yX3_requestCount cX3_requestCount 1 (some .int)) rm_X3_requestCount (va_Pc [.ref (ad 0)] (wrB D dA sz (mdl ad dA f_isSaved f_changes f_code f_length f_fault f_signMany f_at f_place a_g a_kept a_saved a_input a_signs a_ways a_needs a_walk a_one a_several a_ragged a_nextLine))) (va_Qi (fun (r : Int32) (u : Int32) => post r u) (fun (u : Int32) t => wrQ D dA (va_A (mdl ad dA f_isSaved f_changes f_code f_length f_fault f_signMany f_at f_place a_g a_kept a_saved a_input a_signs a_ways a_needs a_walk a_one a_several a_ragged a_nextLine) sz) (mdl ad dA f_isSaved f_changes u f_length f_fault f_signMany f_at f_place a_g a_kept a_saved a_input a_signs a_ways a_needs a_walk a_one a_several a_ragged a_nextLine) t) (va_A (mdl ad dA f_isSaved f_changes f_code f_length f_fault f_signMany f_at f_place a_g a_kept a_saved a_input a_signs a_ways a_needs a_walk a_one a_several a_ragged a_nextLine) sz)) 0 0 (va_A (mdl ad dA f_isSaved f_changes f_code f_length f_fault f_signMany f_at f_place a_g a_kept a_saved a_input a_signs a_ways a_needs a_walk a_one a_several a_ragged a_nextLine) sz) := by
  refine Met.ofW (cc := cX3_requestCount) (maxL := 1) (ret := (some .int)) (by decide) rfl ?_
  intro p e s m args below meth c s₁ B hml hv
  obtain ⟨rfl, hsz, hP, hK, hD0⟩ := hv
  have hx := B.exec
  have hb := B.bytes
  have hr := B.returns
  have hts := atoms_spec (ws := (ws_ yX3_requestCount cX3_requestCount 1 (some .int))) B.pre
  have hts : ∀ w ∈ lw_all, w.before _ s = true := fun w h => hts w (List.mem_cons_of_mem _ h)
  have hown : s.vm.findClass RX3 = some m.cls := findClass_of_methodNamed B.named
  have hlocks := B.notSynchronized
  have hSx : CallFix p m c cX3_requestCount 1 s _ lw_all RX3 := ⟨hx, hb, hml, hown, hts⟩
  subst hsz
  have hD := hD0.self (sz := s.heap.size)
  generalize hAe : va_A (mdl ad dA f_isSaved f_changes f_code f_length f_fault f_signMany f_at f_place a_g a_kept a_saved a_input a_signs a_ways a_needs a_walk a_one a_several a_ragged a_nextLine) s.heap.size = A at hD ⊢
  have hA : ∀ q : Nat, s.heap.size ≤ q → A q := fun q h => by rw [← hAe]; exact Or.inr h
  have hS : va_S A s.heap s.heap [] := va_S.rf
  have hl := lv_entry ([.ref (ad 0)]) (n := 1) (Nat.le_of_ble_eq_true rfl)
  rw [lg_entry_eq]
  generalize (lg_sl ([.ref (ad 0)]) ++ List.replicate (1 - (lg_sl ([.ref (ad 0)])).length) Slot.unset).toArray = ls at hl ⊢
  have hl : lv_has ls 1 [(0, .ref (ad 0))] := hl
  refine lv_aload_n hx hb dX3_requestCount_0 rfl (lv_at hl 0 rfl) ?_
  refine lv_iconst (v := (nI 0)) hx hb dX3_requestCount_1 (by decide) ?_
  refine va_put (D := D) (ci := 2) (v := .int (nI 0)) (ty := .int) (C := RX3) (T := TX3) (N := 20) hx hb hts in_X3 tyX3 tyX3_ok nmX3 hown hK hP hD hS 0 rfl rfl 5 (by decide) (hts _ q1746) (fun _ h9 => h9) rfl (by decide +kernel) rfl rfl (Nat.le_of_ble_eq_true rfl) dX3_requestCount_2 (fun H locs hP hD hS => ?_)
  have hP : va_P D vwCl (mdl ad dA f_isSaved f_changes (nI 0) f_length f_fault f_signMany f_at f_place a_g a_kept a_saved a_input a_signs a_ways a_needs a_walk a_one a_several a_ragged a_nextLine) H := hP
  have hD : va_D A (mdl ad dA f_isSaved f_changes (nI 0) f_length f_fault f_signMany f_at f_place a_g a_kept a_saved a_input a_signs a_ways a_needs a_walk a_one a_several a_ragged a_nextLine) := hD
  refine lv_aload_n hx hb dX3_requestCount_5 rfl (lv_at hl 0 rfl) ?_
  refine va_get (D := D) (ci := 2) (v := .ref (ad 1)) (C := RX3) (T := TX3) (N := 20) hx hb hts in_X3 hown hK hP 0 rfl rfl 0 (by decide) (hts _ q1741) (fun _ h9 => h9) rfl dX3_requestCount_6 ?_
  refine lv_iconst (v := (nI 1)) hx hb dX3_requestCount_9 (by decide) ?_
  refine k_iald (k := 1) hx hb hK hP 1 0 rfl rfl (clK 1 (by decide)) (inK (by decide) (by decide)) dX3_requestCount_10 ?_
  exact W.iret (v := (a_g 1)) hx hb hr (fun t ht hW => ⟨⟨(a_g 1), (nI 0), rfl, hw, by rw [ht]; exact hP, va_K.moved hW.alike hK, hD⟩, hS.F ht⟩) hS.2.2 dX3_requestCount_11
def rm_X3_courtierOf : Room := { frames := 3, cells := 0, slots := 0, locals := 64 }
set_option maxHeartbeats 4000000 in
set_option maxRecDepth 100000 in
theorem met_X3_courtierOf (l : Launch) (D : va_G) (dA : Nat → ClassId) (ad : Nat → Nat) (sz : Nat) (f_isSaved : Int32) (f_changes : Int32) (f_code : Int32) (f_length : Int32) (f_fault : Int32) (f_signMany : Int32) (f_at : Int32) (f_place : Int32) (a_g : (Nat → Int32)) (a_kept : (Nat → Int32)) (a_saved : (Nat → Int32)) (a_input : (Nat → Int32)) (a_signs : (Nat → Int32)) (a_ways : (Nat → Int64)) (a_needs : (Nat → Int32)) (a_walk : (Nat → Int32)) (a_one : (Nat → Int32)) (a_several : (Nat → Int32)) (a_ragged : (Nat → Int32)) (a_nextLine : (Nat → Int32)) (p0 : Int32) (post : Int32 → Int32 → Prop) (hw : w_X3_courtierOf post f_code a_g p0) : Met l yX3_courtierOf (ws_ yX3_courtierOf cX3_courtierOf 2 (some .int)) rm_X3_courtierOf (va_Pc [.ref (ad 0), .int p0] (wrB D dA sz (mdl ad dA f_isSaved f_changes f_code f_length f_fault f_signMany f_at f_place a_g a_kept a_saved a_input a_signs a_ways a_needs a_walk a_one a_several a_ragged a_nextLine))) (va_Qi (fun (r : Int32) (u : Int32) => post r u) (fun (u : Int32) t => wrQ D dA (va_A (mdl ad dA f_isSaved f_changes f_code f_length f_fault f_signMany f_at f_place a_g a_kept a_saved a_input a_signs a_ways a_needs a_walk a_one a_several a_ragged a_nextLine) sz) (mdl ad dA f_isSaved f_changes u f_length f_fault f_signMany f_at f_place a_g a_kept a_saved a_input a_signs a_ways a_needs a_walk a_one a_several a_ragged a_nextLine) t) (va_A (mdl ad dA f_isSaved f_changes f_code f_length f_fault f_signMany f_at f_place a_g a_kept a_saved a_input a_signs a_ways a_needs a_walk a_one a_several a_ragged a_nextLine) sz)) 0 0 (va_A (mdl ad dA f_isSaved f_changes f_code f_length f_fault f_signMany f_at f_place a_g a_kept a_saved a_input a_signs a_ways a_needs a_walk a_one a_several a_ragged a_nextLine) sz) := by
  refine Met.ofW (cc := cX3_courtierOf) (maxL := 2) (ret := (some .int)) (by decide) rfl ?_
  intro p e s m args below meth c s₁ B hml hv
  obtain ⟨rfl, hsz, hP, hK, hD0⟩ := hv
  have hx := B.exec
  have hb := B.bytes
  have hr := B.returns
  have hts := atoms_spec (ws := (ws_ yX3_courtierOf cX3_courtierOf 2 (some .int))) B.pre
  have hts : ∀ w ∈ lw_all, w.before _ s = true := fun w h => hts w (List.mem_cons_of_mem _ h)
  have hown : s.vm.findClass RX3 = some m.cls := findClass_of_methodNamed B.named
  have hlocks := B.notSynchronized
  have hSx : CallFix p m c cX3_courtierOf 2 s _ lw_all RX3 := ⟨hx, hb, hml, hown, hts⟩
  subst hsz
  have hD := hD0.self (sz := s.heap.size)
  generalize hAe : va_A (mdl ad dA f_isSaved f_changes f_code f_length f_fault f_signMany f_at f_place a_g a_kept a_saved a_input a_signs a_ways a_needs a_walk a_one a_several a_ragged a_nextLine) s.heap.size = A at hD ⊢
  have hA : ∀ q : Nat, s.heap.size ≤ q → A q := fun q h => by rw [← hAe]; exact Or.inr h
  have hS : va_S A s.heap s.heap [] := va_S.rf
  have hl := lv_entry ([.ref (ad 0), .int p0]) (n := 2) (Nat.le_of_ble_eq_true rfl)
  rw [lg_entry_eq]
  generalize (lg_sl ([.ref (ad 0), .int p0]) ++ List.replicate (2 - (lg_sl ([.ref (ad 0), .int p0])).length) Slot.unset).toArray = ls at hl ⊢
  have hl : lv_has ls 2 [(0, .ref (ad 0)), (1, .int p0)] := hl
  refine lv_aload_n hx hb dX3_courtierOf_0 rfl (lv_at hl 0 rfl) ?_
  refine lv_iload_n hx hb dX3_courtierOf_1 rfl (lv_at hl 1 rfl) ?_
  refine k_wi (wn := fun (u : Int32) => (mdl ad dA f_isSaved f_changes u f_length f_fault f_signMany f_at f_place a_g a_kept a_saved a_input a_signs a_ways a_needs a_walk a_one a_several a_ragged a_nextLine)) (wr := []) (k_wV (As := [.int p0]) (rest := []) hSx (met_X3_isLost l D dA ad _ f_isSaved f_changes f_code f_length f_fault f_signMany f_at f_place a_g a_kept a_saved a_input a_signs a_ways a_needs a_walk a_one a_several a_ragged a_nextLine p0 _ hw) gX3_169 ⟨rfl, hd_X3_isLost⟩ ⟨Nat.le_of_ble_eq_true rfl, Nat.le_of_ble_eq_true rfl⟩ rfl rfl hP hK hD [0, 1, 2, 3, 4, 5, 6, 7, 8, 9, 10, 11, 12] rfl (by decide) rfl 0 rfl rfl rfl rfl hl.1 (Nat.le_of_ble_eq_true rfl) rfl dX3_courtierOf_2 ⟨Nat.le_refl 0, Nat.le_refl 0⟩) hP hD hS hA [0, 1, 2, 3, 4, 5, 6, 7, 8, 9, 10, 11, 12] [] [0, 1, 2, 3, 4, 5, 6, 7, 8, 9, 10, 11, 12] rfl rfl (by decide) (by decide) (by decide) (fun _ => rfl) (fun _ => rfl) (fun r6 u H locs hw _ hP hD hS => ?_)
  obtain ⟨f_code_7, rfl⟩ : ∃ z, z = u := ⟨_, rfl⟩
  have hP : va_P D vwCl (mdl ad dA f_isSaved f_changes f_code_7 f_length f_fault f_signMany f_at f_place a_g a_kept a_saved a_input a_signs a_ways a_needs a_walk a_one a_several a_ragged a_nextLine) H := hP
  have hD : va_D A (mdl ad dA f_isSaved f_changes f_code_7 f_length f_fault f_signMany f_at f_place a_g a_kept a_saved a_input a_signs a_ways a_needs a_walk a_one a_several a_ragged a_nextLine) := hD
  refine lv_if_eq (tgt := 12) hx hb dX3_courtierOf_5 (by decide) (fun c8 => ?_) (fun c8 => ?_)
  · have hw := hw.1 c8
    refine lv_aload_n hx hb dX3_courtierOf_12 rfl (lv_at hl 0 rfl) ?_
    refine va_get (D := D) (ci := 2) (v := .ref (ad 1)) (C := RX3) (T := TX3) (N := 20) hx hb hts in_X3 hown hK hP 0 rfl rfl 0 (by decide) (hts _ q1741) (fun _ h9 => h9) rfl dX3_courtierOf_13 ?_
    refine lv_aload_n hx hb dX3_courtierOf_16 rfl (lv_at hl 0 rfl) ?_
    refine lv_iload_n hx hb dX3_courtierOf_17 rfl (lv_at hl 1 rfl) ?_
    refine k_ri (k_rV (As := [.int p0]) (rest := [.ref (ad 1)]) hSx (met_X3_row l D dA ad f_isSaved f_changes f_code_7 f_length f_fault f_signMany f_at f_place a_g a_kept a_saved a_input a_signs a_ways a_needs a_walk a_one a_several a_ragged a_nextLine p0 _ hw) gX3_154 ⟨rfl, hd_X3_row⟩ ⟨Nat.le_of_ble_eq_true rfl, Nat.le_of_ble_eq_true rfl⟩ rfl rfl hP hK [0, 1, 2, 3, 4, 5, 6, 7, 8, 9, 10, 11, 12] rfl 0 rfl rfl rfl rfl hl.1 (Nat.le_of_ble_eq_true rfl) rfl dX3_courtierOf_18 ⟨Nat.le_refl 0, Nat.le_refl 0⟩) (fun r9 hw => ?_)
    obtain ⟨h10, hw⟩ := hw
    refine k_iald (k := r9.toNatClampNeg) hx hb hK hP 1 0 rfl rfl rfl h10 dX3_courtierOf_21 ?_
    exact W.iret (v := (a_g r9.toNatClampNeg)) hx hb hr (fun t ht hW => ⟨⟨(a_g r9.toNatClampNeg), f_code_7, rfl, hw, by rw [ht]; exact hP, va_K.moved hW.alike hK, hD⟩, hS.F ht⟩) hS.2.2 dX3_courtierOf_22
  · have hw := hw.2 c8
    refine lv_iconst (v := (nI 0)) hx hb dX3_courtierOf_8 (by decide) ?_
    refine lv_goto (tgt := 22) hx hb dX3_courtierOf_9 (by decide) ?_
    exact W.iret (v := (nI 0)) hx hb hr (fun t ht hW => ⟨⟨(nI 0), f_code_7, rfl, hw, by rw [ht]; exact hP, va_K.moved hW.alike hK, hD⟩, hS.F ht⟩) hS.2.2 dX3_courtierOf_22
def rm_X3_valueOf : Room := { frames := 36, cells := 0, slots := 0, locals := 823 }
set_option maxHeartbeats 4000000 in
set_option maxRecDepth 100000 in
theorem met_X3_valueOf (l : Launch) (D : va_G) (dA : Nat → ClassId) (ad : Nat → Nat) (sz : Nat) (f_isSaved : Int32) (f_changes : Int32) (f_code : Int32) (f_length : Int32) (f_fault : Int32) (f_signMany : Int32) (f_at : Int32) (f_place : Int32) (a_g : (Nat → Int32)) (a_kept : (Nat → Int32)) (a_saved : (Nat → Int32)) (a_input : (Nat → Int32)) (a_signs : (Nat → Int32)) (a_ways : (Nat → Int64)) (a_needs : (Nat → Int32)) (a_walk : (Nat → Int32)) (a_one : (Nat → Int32)) (a_several : (Nat → Int32)) (a_ragged : (Nat → Int32)) (a_nextLine : (Nat → Int32)) (p0 : Int32) (post : Int32 → Int32 → Int32 → Prop) (hw : w_X3_valueOf post f_code f_place a_g p0) : Met l yX3_valueOf (ws_ yX3_valueOf cX3_valueOf 2 (some .int)) rm_X3_valueOf (va_Pc [.ref (ad 0), .int p0] (wrB D dA sz (mdl ad dA f_isSaved f_changes f_code f_length f_fault f_signMany f_at f_place a_g a_kept a_saved a_input a_signs a_ways a_needs a_walk a_one a_several a_ragged a_nextLine))) (va_Qi (fun (r : Int32) (u : Int32 × Int32) => post r u.1 u.2) (fun (u : Int32 × Int32) t => wrQ D dA (va_A (mdl ad dA f_isSaved f_changes f_code f_length f_fault f_signMany f_at f_place a_g a_kept a_saved a_input a_signs a_ways a_needs a_walk a_one a_several a_ragged a_nextLine) sz) (mdl ad dA f_isSaved f_changes u.1 f_length f_fault f_signMany f_at u.2 a_g a_kept a_saved a_input a_signs a_ways a_needs a_walk a_one a_several a_ragged a_nextLine) t) (va_A (mdl ad dA f_isSaved f_changes f_code f_length f_fault f_signMany f_at f_place a_g a_kept a_saved a_input a_signs a_ways a_needs a_walk a_one a_several a_ragged a_nextLine) sz)) 0 0 (va_A (mdl ad dA f_isSaved f_changes f_code f_length f_fault f_signMany f_at f_place a_g a_kept a_saved a_input a_signs a_ways a_needs a_walk a_one a_several a_ragged a_nextLine) sz) := by
  refine Met.ofW (cc := cX3_valueOf) (maxL := 2) (ret := (some .int)) (by decide) rfl ?_
  intro p e s m args below meth c s₁ B hml hv
  obtain ⟨rfl, hsz, hP, hK, hD0⟩ := hv
  have hx := B.exec
  have hb := B.bytes
  have hr := B.returns
  have hts := atoms_spec (ws := (ws_ yX3_valueOf cX3_valueOf 2 (some .int))) B.pre
  have hts : ∀ w ∈ lw_all, w.before _ s = true := fun w h => hts w (List.mem_cons_of_mem _ h)
  have hown : s.vm.findClass RX3 = some m.cls := findClass_of_methodNamed B.named
  have hlocks := B.notSynchronized
  have hSx : CallFix p m c cX3_valueOf 2 s _ lw_all RX3 := ⟨hx, hb, hml, hown, hts⟩
  subst hsz
  have hD := hD0.self (sz := s.heap.size)
  generalize hAe : va_A (mdl ad dA f_isSaved f_changes f_code f_length f_fault f_signMany f_at f_place a_g a_kept a_saved a_input a_signs a_ways a_needs a_walk a_one a_several a_ragged a_nextLine) s.heap.size = A at hD ⊢
  have hA : ∀ q : Nat, s.heap.size ≤ q → A q := fun q h => by rw [← hAe]; exact Or.inr h
  have hS : va_S A s.heap s.heap [] := va_S.rf
  have hl := lv_entry ([.ref (ad 0), .int p0]) (n := 2) (Nat.le_of_ble_eq_true rfl)
  rw [lg_entry_eq]
  generalize (lg_sl ([.ref (ad 0), .int p0]) ++ List.replicate (2 - (lg_sl ([.ref (ad 0), .int p0])).length) Slot.unset).toArray = ls at hl ⊢
  have hl : lv_has ls 2 [(0, .ref (ad 0)), (1, .int p0)] := hl
  refine lv_aload_n hx hb dX3_valueOf_0 rfl (lv_at hl 0 rfl) ?_
  refine lv_iload_n hx hb dX3_valueOf_1 rfl (lv_at hl 1 rfl) ?_
  refine k_wi (wn := fun (u : Int32) => (mdl ad dA f_isSaved f_changes u f_length f_fault f_signMany f_at f_place a_g a_kept a_saved a_input a_signs a_ways a_needs a_walk a_one a_several a_ragged a_nextLine)) (wr := []) (k_wV (As := [.int p0]) (rest := []) hSx (met_X3_isLost l D dA ad _ f_isSaved f_changes f_code f_length f_fault f_signMany f_at f_place a_g a_kept a_saved a_input a_signs a_ways a_needs a_walk a_one a_several a_ragged a_nextLine p0 _ hw) gX3_169 ⟨rfl, hd_X3_isLost⟩ ⟨Nat.le_of_ble_eq_true rfl, Nat.le_of_ble_eq_true rfl⟩ rfl rfl hP hK hD [0, 1, 2, 3, 4, 5, 6, 7, 8, 9, 10, 11, 12] rfl (by decide) rfl 0 rfl rfl rfl rfl hl.1 (Nat.le_of_ble_eq_true rfl) rfl dX3_valueOf_2 ⟨Nat.le_refl 0, Nat.le_refl 0⟩) hP hD hS hA [0, 1, 2, 3, 4, 5, 6, 7, 8, 9, 10, 11, 12] [] [0, 1, 2, 3, 4, 5, 6, 7, 8, 9, 10, 11, 12] rfl rfl (by decide) (by decide) (by decide) (fun _ => rfl) (fun _ => rfl) (fun r6 u H locs hw _ hP hD hS => ?_)
  obtain ⟨f_code_7, rfl⟩ : ∃ z, z = u := ⟨_, rfl⟩
  have hP : va_P D vwCl (mdl ad dA f_isSaved f_changes f_code_7 f_length f_fault f_signMany f_at f_place a_g a_kept a_saved a_input a_signs a_ways a_needs a_walk a_one a_several a_ragged a_nextLine) H := hP
  have hD : va_D A (mdl ad dA f_isSaved f_changes f_code_7 f_length f_fault f_signMany f_at f_place a_g a_kept a_saved a_input a_signs a_ways a_needs a_walk a_one a_several a_ragged a_nextLine) := hD
  refine lv_if_eq (tgt := 12) hx hb dX3_valueOf_5 (by decide) (fun c8 => ?_) (fun c8 => ?_)
  · have hw := hw.1 c8
    refine lv_aload_n hx hb dX3_valueOf_12 rfl (lv_at hl 0 rfl) ?_
    refine lv_iload_n hx hb dX3_valueOf_13 rfl (lv_at hl 1 rfl) ?_
    refine k_wi (wn := fun (u : Int32) => (mdl ad dA f_isSaved f_changes f_code_7 f_length f_fault f_signMany f_at u a_g a_kept a_saved a_input a_signs a_ways a_needs a_walk a_one a_several a_ragged a_nextLine)) (wr := []) (k_wV (As := [.int p0]) (rest := []) hSx (met_X3_value l D dA ad _ f_isSaved f_changes f_code_7 f_length f_fault f_signMany f_at f_place a_g a_kept a_saved a_input a_signs a_ways a_needs a_walk a_one a_several a_ragged a_nextLine p0 _ hw) gX3_172 ⟨rfl, hd_X3_value⟩ ⟨Nat.le_of_ble_eq_true rfl, Nat.le_of_ble_eq_true rfl⟩ rfl rfl hP hK hD [0, 1, 2, 3, 4, 5, 6, 7, 8, 9, 10, 11, 12] rfl (by decide) rfl 0 rfl rfl rfl rfl hl.1 (Nat.le_of_ble_eq_true rfl) rfl dX3_valueOf_14 ⟨Nat.le_refl 0, Nat.le_refl 0⟩) hP hD hS hA [0, 1, 2, 3, 4, 5, 6, 7, 8, 9, 10, 11, 12] [] [0, 1, 2, 3, 4, 5, 6, 7, 8, 9, 10, 11, 12] rfl rfl (by decide) (by decide) (by decide) (fun _ => rfl) (fun _ => rfl) (fun r9 u H locs hw _ hP hD hS => ?_)
    obtain ⟨f_place_10, rfl⟩ : ∃ z, z = u := ⟨_, rfl⟩
    have hP : va_P D vwCl (mdl ad dA f_isSaved f_changes f_code_7 f_length f_fault f_signMany f_at f_place_10 a_g a_kept a_saved a_input a_signs a_ways a_needs a_walk a_one a_several a_ragged a_nextLine) H := hP
    have hD : va_D A (mdl ad dA f_isSaved f_changes f_code_7 f_length f_fault f_signMany f_at f_place_10 a_g a_kept a_saved a_input a_signs a_ways a_needs a_walk a_one a_several a_ragged a_nextLine) := hD
    exact W.iret (v := r9) hx hb hr (fun t ht hW => ⟨⟨r9, (f_code_7, f_place_10), rfl, hw, by rw [ht]; exact hP, va_K.moved hW.alike hK, hD⟩, hS.F ht⟩) hS.2.2 dX3_valueOf_17
  · have hw := hw.2 c8
    refine lv_iconst (v := (nI 0)) hx hb dX3_valueOf_8 (by decide) ?_
    refine lv_goto (tgt := 17) hx hb dX3_valueOf_9 (by decide) ?_
    exact W.iret (v := (nI 0)) hx hb hr (fun t ht hW => ⟨⟨(nI 0), (f_code_7, f_place), rfl, hw, by rw [ht]; exact hP, va_K.moved hW.alike hK, hD⟩, hS.F ht⟩) hS.2.2 dX3_valueOf_17
def rm_X3_sizeOf : Room := { frames := 1, cells := 0, slots := 0, locals := 21 }
set_option maxHeartbeats 4000000 in
set_option maxRecDepth 100000 in
theorem met_X3_sizeOf (l : Launch) (D : va_G) (dA : Nat → ClassId) (ad : Nat → Nat) (f_isSaved : Int32) (f_changes : Int32) (f_code : Int32) (f_length : Int32) (f_fault : Int32) (f_signMany : Int32) (f_at : Int32) (f_place : Int32) (a_g : (Nat → Int32)) (a_kept : (Nat → Int32)) (a_saved : (Nat → Int32)) (a_input : (Nat → Int32)) (a_signs : (Nat → Int32)) (a_ways : (Nat → Int64)) (a_needs : (Nat → Int32)) (a_walk : (Nat → Int32)) (a_one : (Nat → Int32)) (a_several : (Nat → Int32)) (a_ragged : (Nat → Int32)) (a_nextLine : (Nat → Int32)) (p0 : Int32) (post : Int32 → Prop) (hw : w_X3_sizeOf post a_g p0) : Met l yX3_sizeOf (ws_ yX3_sizeOf cX3_sizeOf 2 (some .int)) rm_X3_sizeOf (va_Pc [.ref (ad 0), .int p0] (rdB D dA (mdl ad dA f_isSaved f_changes f_code f_length f_fault f_signMany f_at f_place a_g a_kept a_saved a_input a_signs a_ways a_needs a_walk a_one a_several a_ragged a_nextLine))) (vp_Si (fun r => post r)) 0 0 (fun _ => False) := by
  refine Met.ofW (cc := cX3_sizeOf) (maxL := 2) (ret := (some .int)) (by decide) rfl ?_
  intro p e s m args below meth c s₁ B hml hv
  obtain ⟨rfl, hP, hK⟩ := hv
  have hx := B.exec
  have hb := B.bytes
  have hr := B.returns
  have hts := atoms_spec (ws := (ws_ yX3_sizeOf cX3_sizeOf 2 (some .int))) B.pre
  have hts : ∀ w ∈ lw_all, w.before _ s = true := fun w h => hts w (List.mem_cons_of_mem _ h)
  have hown : s.vm.findClass RX3 = some m.cls := findClass_of_methodNamed B.named
  have hlocks := B.notSynchronized
  have hSx : CallFix p m c cX3_sizeOf 2 s _ lw_all RX3 := ⟨hx, hb, hml, hown, hts⟩
  have hl := lv_entry ([.ref (ad 0), .int p0]) (n := 2) (Nat.le_of_ble_eq_true rfl)
  rw [lg_entry_eq]
  generalize (lg_sl ([.ref (ad 0), .int p0]) ++ List.replicate (2 - (lg_sl ([.ref (ad 0), .int p0])).length) Slot.unset).toArray = ls at hl ⊢
  have hl : lv_has ls 2 [(0, .ref (ad 0)), (1, .int p0)] := hl
  refine lv_aload_n hx hb dX3_sizeOf_0 rfl (lv_at hl 0 rfl) ?_
  refine va_get (D := D) (ci := 2) (v := .ref (ad 1)) (C := RX3) (T := TX3) (N := 20) hx hb hts in_X3 hown hK hP 0 rfl rfl 0 (by decide) (hts _ q1741) (fun _ h9 => h9) rfl dX3_sizeOf_1 ?_
  refine lv_aload_n hx hb dX3_sizeOf_4 rfl (lv_at hl 0 rfl) ?_
  refine lv_iload_n hx hb dX3_sizeOf_5 rfl (lv_at hl 1 rfl) ?_
  refine k_ri (k_rV (As := [.int p0]) (rest := [.ref (ad 1)]) hSx (met_X3_row l D dA ad f_isSaved f_changes f_code f_length f_fault f_signMany f_at f_place a_g a_kept a_saved a_input a_signs a_ways a_needs a_walk a_one a_several a_ragged a_nextLine p0 _ hw) gX3_154 ⟨rfl, hd_X3_row⟩ ⟨Nat.le_of_ble_eq_true rfl, Nat.le_of_ble_eq_true rfl⟩ rfl rfl hP hK [0, 1, 2, 3, 4, 5, 6, 7, 8, 9, 10, 11, 12] rfl 0 rfl rfl rfl rfl hl.1 (Nat.le_of_ble_eq_true rfl) rfl dX3_sizeOf_6 ⟨Nat.le_refl 0, Nat.le_refl 0⟩) (fun r3 hw => ?_)
  refine lv_iconst (v := (nI 1)) hx hb dX3_sizeOf_9 (by decide) ?_
  refine lv_iadd hx hb dX3_sizeOf_10 ?_
  obtain ⟨h4, hw⟩ := hw
  refine k_iald (k := (r3 + (nI 1)).toNatClampNeg) hx hb hK hP 1 0 rfl rfl rfl h4 dX3_sizeOf_11 ?_
  exact W.iret (v := (a_g (r3 + (nI 1)).toNatClampNeg)) hx hb hr (fun t ht hW => ⟨(a_g (r3 + (nI 1)).toNatClampNeg), rfl, hw, ht⟩) (fun _ h => by cases h) dX3_sizeOf_12
theorem gX3_179 : GoodIn lw_all (wsV RX3 179 RX3 yX3_sizeOf (ws_ yX3_sizeOf cX3_sizeOf 2 (some .int))) := lw_V q2049 q2051 qs61 q84 q2052
theorem hd_X3_sizeOf : yX3_sizeOf.cls ≠ "java/lang/invoke/MethodHandle" ∧ yX3_sizeOf.cls ≠ "java/lang/invoke/VarHandle" ∧ (parseMethodDescriptor yX3_sizeOf.desc).map (fun d => d.parameters.length) = some 1 := by decide +kernel
def rm_X3_lengthOf : Room := { frames := 3, cells := 0, slots := 0, locals := 64 }
set_option maxHeartbeats 4000000 in
set_option maxRecDepth 100000 in
theorem met_X3_lengthOf (l : Launch) (D : va_G) (dA : Nat → ClassId) (ad : Nat → Nat) (sz : Nat) (f_isSaved : Int32) (f_changes : Int32) (f_code : Int32) (f_length : Int32) (f_fault : Int32) (f_signMany : Int32) (f_at : Int32) (f_place : Int32) (a_g : (Nat → Int32)) (a_kept : (Nat → Int32)) (a_saved : (Nat → Int32)) (a_input : (Nat → Int32)) (a_signs : (Nat → Int32)) (a_ways : (Nat → Int64)) (a_needs : (Nat → Int32)) (a_walk : (Nat → Int32)) (a_one : (Nat → Int32)) (a_several : (Nat → Int32)) (a_ragged : (Nat → Int32)) (a_nextLine : (Nat → Int32)) (p0 : Int32) (post : Int32 → Int32 → Prop) (hw : w_X3_lengthOf post f_code a_g p0) : Met l yX3_lengthOf (ws_ yX3_lengthOf cX3_lengthOf 2 (some .int)) rm_X3_lengthOf (va_Pc [.ref (ad 0), .int p0] (wrB D dA sz (mdl ad dA f_isSaved f_changes f_code f_length f_fault f_signMany f_at f_place a_g a_kept a_saved a_input a_signs a_ways a_needs a_walk a_one a_several a_ragged a_nextLine))) (va_Qi (fun (r : Int32) (u : Int32) => post r u) (fun (u : Int32) t => wrQ D dA (va_A (mdl ad dA f_isSaved f_changes f_code f_length f_fault f_signMany f_at f_place a_g a_kept a_saved a_input a_signs a_ways a_needs a_walk a_one a_several a_ragged a_nextLine) sz) (mdl ad dA f_isSaved f_changes u f_length f_fault f_signMany f_at f_place a_g a_kept a_saved a_input a_signs a_ways a_needs a_walk a_one a_several a_ragged a_nextLine) t) (va_A (mdl ad dA f_isSaved f_changes f_code f_length f_fault f_signMany f_at f_place a_g a_kept a_saved a_input a_signs a_ways a_needs a_walk a_one a_several a_ragged a_nextLine) sz)) 0 0 (va_A (mdl ad dA f_isSaved f_changes f_code f_length f_fault f_signMany f_at f_place a_g a_kept a_saved a_input a_signs a_ways a_needs a_walk a_one a_several a_ragged a_nextLine) sz) := by
  refine Met.ofW (cc := cX3_lengthOf) (maxL := 2) (ret := (some .int)) (by decide) rfl ?_
  intro p e s m args below meth c s₁ B hml hv
  obtain ⟨rfl, hsz, hP, hK, hD0⟩ := hv
  have hx := B.exec
  have hb := B.bytes
  have hr := B.returns
  have hts := atoms_spec (ws := (ws_ yX3_lengthOf cX3_lengthOf 2 (some .int))) B.pre
  have hts : ∀ w ∈ lw_all, w.before _ s = true := fun w h => hts w (List.mem_cons_of_mem _ h)
  have hown : s.vm.findClass RX3 = some m.cls := findClass_of_methodNamed B.named
  have hlocks := B.notSynchronized
  have hSx : CallFix p m c cX3_lengthOf 2 s _ lw_all RX3 := ⟨hx, hb, hml, hown, hts⟩
  subst hsz
  have hD := hD0.self (sz := s.heap.size)
  generalize hAe : va_A (mdl ad dA f_isSaved f_changes f_code f_length f_fault f_signMany f_at f_place a_g a_kept a_saved a_input a_signs a_ways a_needs a_walk a_one a_several a_ragged a_nextLine) s.heap.size = A at hD ⊢
  have hA : ∀ q : Nat, s.heap.size ≤ q → A q := fun q h => by rw [← hAe]; exact Or.inr h
  have hS : va_S A s.heap s.heap [] := va_S.rf
  have hl := lv_entry ([.ref (ad 0), .int p0]) (n := 2) (Nat.le_of_ble_eq_true rfl)
  rw [lg_entry_eq]
  generalize (lg_sl ([.ref (ad 0), .int p0]) ++ List.replicate (2 - (lg_sl ([.ref (ad 0), .int p0])).length) Slot.unset).toArray = ls at hl ⊢
  have hl : lv_has ls 2 [(0, .ref (ad 0)), (1, .int p0)] := hl
  refine lv_aload_n hx hb dX3_lengthOf_0 rfl (lv_at hl 0 rfl) ?_
  refine lv_iload_n hx hb dX3_lengthOf_1 rfl (lv_at hl 1 rfl) ?_
  refine k_wi (wn := fun (u : Int32) => (mdl ad dA f_isSaved f_changes u f_length f_fault f_signMany f_at f_place a_g a_kept a_saved a_input a_signs a_ways a_needs a_walk a_one a_several a_ragged a_nextLine)) (wr := []) (k_wV (As := [.int p0]) (rest := []) hSx (met_X3_isLost l D dA ad _ f_isSaved f_changes f_code f_length f_fault f_signMany f_at f_place a_g a_kept a_saved a_input a_signs a_ways a_needs a_walk a_one a_several a_ragged a_nextLine p0 _ hw) gX3_169 ⟨rfl, hd_X3_isLost⟩ ⟨Nat.le_of_ble_eq_true rfl, Nat.le_of_ble_eq_true rfl⟩ rfl rfl hP hK hD [0, 1, 2, 3, 4, 5, 6, 7, 8, 9, 10, 11, 12] rfl (by decide) rfl 0 rfl rfl rfl rfl hl.1 (Nat.le_of_ble_eq_true rfl) rfl dX3_lengthOf_2 ⟨Nat.le_refl 0, Nat.le_refl 0⟩) hP hD hS hA [0, 1, 2, 3, 4, 5, 6, 7, 8, 9, 10, 11, 12] [] [0, 1, 2, 3, 4, 5, 6, 7, 8, 9, 10, 11, 12] rfl rfl (by decide) (by decide) (by decide) (fun _ => rfl) (fun _ => rfl) (fun r5 u H locs hw _ hP hD hS => ?_)
  obtain ⟨f_code_6, rfl⟩ : ∃ z, z = u := ⟨_, rfl⟩
  have hP : va_P D vwCl (mdl ad dA f_isSaved f_changes f_code_6 f_length f_fault f_signMany f_at f_place a_g a_kept a_saved a_input a_signs a_ways a_needs a_walk a_one a_several a_ragged a_nextLine) H := hP
  have hD : va_D A (mdl ad dA f_isSaved f_changes f_code_6 f_length f_fault f_signMany f_at f_place a_g a_kept a_saved a_input a_signs a_ways a_needs a_walk a_one a_several a_ragged a_nextLine) := hD
  refine lv_if_eq (tgt := 12) hx hb dX3_lengthOf_5 (by decide) (fun c7 => ?_) (fun c7 => ?_)
  · have hw := hw.1 c7
    refine lv_aload_n hx hb dX3_lengthOf_12 rfl (lv_at hl 0 rfl) ?_
    refine lv_iload_n hx hb dX3_lengthOf_13 rfl (lv_at hl 1 rfl) ?_
    refine k_ri (k_rV (As := [.int p0]) (rest := []) hSx (met_X3_sizeOf l D dA ad f_isSaved f_changes f_code_6 f_length f_fault f_signMany f_at f_place a_g a_kept a_saved a_input a_signs a_ways a_needs a_walk a_one a_several a_ragged a_nextLine p0 _ hw) gX3_179 ⟨rfl, hd_X3_sizeOf⟩ ⟨Nat.le_of_ble_eq_true rfl, Nat.le_of_ble_eq_true rfl⟩ rfl rfl hP hK [0, 1, 2, 3, 4, 5, 6, 7, 8, 9, 10, 11, 12] rfl 0 rfl rfl rfl rfl hl.1 (Nat.le_of_ble_eq_true rfl) rfl dX3_lengthOf_14 ⟨Nat.le_refl 0, Nat.le_refl 0⟩) (fun r8 hw => ?_)
    exact W.iret (v := r8) hx hb hr (fun t ht hW => ⟨⟨r8, f_code_6, rfl, hw, by rw [ht]; exact hP, va_K.moved hW.alike hK, hD⟩, hS.F ht⟩) hS.2.2 dX3_lengthOf_17
  · have hw := hw.2 c7
    refine lv_iconst (v := (nI 0)) hx hb dX3_lengthOf_8 (by decide) ?_
    refine lv_goto (tgt := 17) hx hb dX3_lengthOf_9 (by decide) ?_
    exact W.iret (v := (nI 0)) hx hb hr (fun t ht hW => ⟨⟨(nI 0), f_code_6, rfl, hw, by rw [ht]; exact hP, va_K.moved hW.alike hK, hD⟩, hS.F ht⟩) hS.2.2 dX3_lengthOf_17
def rm_X3_symbolOf : Room := { frames := 3, cells := 0, slots := 0, locals := 64 }
set_option maxHeartbeats 4000000 in
set_option maxRecDepth 100000 in
theorem met_X3_symbolOf (l : Launch) (D : va_G) (dA : Nat → ClassId) (ad : Nat → Nat) (sz : Nat) (f_isSaved : Int32) (f_changes : Int32) (f_code : Int32) (f_length : Int32) (f_fault : Int32) (f_signMany : Int32) (f_at : Int32) (f_place : Int32) (a_g : (Nat → Int32)) (a_kept : (Nat → Int32)) (a_saved : (Nat → Int32)) (a_input : (Nat → Int32)) (a_signs : (Nat → Int32)) (a_ways : (Nat → Int64)) (a_needs : (Nat → Int32)) (a_walk : (Nat → Int32)) (a_one : (Nat → Int32)) (a_several : (Nat → Int32)) (a_ragged : (Nat → Int32)) (a_nextLine : (Nat → Int32)) (p0 : Int32) (p1 : Int32) (post : Int32 → Int32 → Prop) (hw : w_X3_symbolOf post f_code a_g p0 p1) : Met l yX3_symbolOf (ws_ yX3_symbolOf cX3_symbolOf 3 (some .char)) rm_X3_symbolOf (va_Pc [.ref (ad 0), .int p0, .int p1] (wrB D dA sz (mdl ad dA f_isSaved f_changes f_code f_length f_fault f_signMany f_at f_place a_g a_kept a_saved a_input a_signs a_ways a_needs a_walk a_one a_several a_ragged a_nextLine))) (va_Qi (fun (r : Int32) (u : Int32) => post r u) (fun (u : Int32) t => wrQ D dA (va_A (mdl ad dA f_isSaved f_changes f_code f_length f_fault f_signMany f_at f_place a_g a_kept a_saved a_input a_signs a_ways a_needs a_walk a_one a_several a_ragged a_nextLine) sz) (mdl ad dA f_isSaved f_changes u f_length f_fault f_signMany f_at f_place a_g a_kept a_saved a_input a_signs a_ways a_needs a_walk a_one a_several a_ragged a_nextLine) t) (va_A (mdl ad dA f_isSaved f_changes f_code f_length f_fault f_signMany f_at f_place a_g a_kept a_saved a_input a_signs a_ways a_needs a_walk a_one a_several a_ragged a_nextLine) sz)) 0 0 (va_A (mdl ad dA f_isSaved f_changes f_code f_length f_fault f_signMany f_at f_place a_g a_kept a_saved a_input a_signs a_ways a_needs a_walk a_one a_several a_ragged a_nextLine) sz) := by
  refine Met.ofW (cc := cX3_symbolOf) (maxL := 3) (ret := (some .char)) (by decide) rfl ?_
  intro p e s m args below meth c s₁ B hml hv
  obtain ⟨rfl, hsz, hP, hK, hD0⟩ := hv
  have hx := B.exec
  have hb := B.bytes
  have hr := B.returns
  have hts := atoms_spec (ws := (ws_ yX3_symbolOf cX3_symbolOf 3 (some .char))) B.pre
  have hts : ∀ w ∈ lw_all, w.before _ s = true := fun w h => hts w (List.mem_cons_of_mem _ h)
  have hown : s.vm.findClass RX3 = some m.cls := findClass_of_methodNamed B.named
  have hlocks := B.notSynchronized
  have hSx : CallFix p m c cX3_symbolOf 3 s _ lw_all RX3 := ⟨hx, hb, hml, hown, hts⟩
  subst hsz
  have hD := hD0.self (sz := s.heap.size)
  generalize hAe : va_A (mdl ad dA f_isSaved f_changes f_code f_length f_fault f_signMany f_at f_place a_g a_kept a_saved a_input a_signs a_ways a_needs a_walk a_one a_several a_ragged a_nextLine) s.heap.size = A at hD ⊢
  have hA : ∀ q : Nat, s.heap.size ≤ q → A q := fun q h => by rw [← hAe]; exact Or.inr h
  have hS : va_S A s.heap s.heap [] := va_S.rf
  have hl := lv_entry ([.ref (ad 0), .int p0, .int p1]) (n := 3) (Nat.le_of_ble_eq_true rfl)
  rw [lg_entry_eq]
  generalize (lg_sl ([.ref (ad 0), .int p0, .int p1]) ++ List.replicate (3 - (lg_sl ([.ref (ad 0), .int p0, .int p1])).length) Slot.unset).toArray = ls at hl ⊢
  have hl : lv_has ls 3 [(0, .ref (ad 0)), (1, .int p0), (2, .int p1)] := hl
  have hL29 : ∀  (f_code : Int32) (v1 : Int32) (v2 : Int32) (s1 : Int32) (H : Heap) (locs : List Loc) (ls : Array Slot), va_P D vwCl (mdl ad dA f_isSaved f_changes f_code f_length f_fault f_signMany f_at f_place a_g a_kept a_saved a_input a_signs a_ways a_needs a_walk a_one a_several a_ragged a_nextLine) H → va_D A (mdl ad dA f_isSaved f_changes f_code f_length f_fault f_signMany f_at f_place a_g a_kept a_saved a_input a_signs a_ways a_needs a_walk a_one a_several a_ragged a_nextLine) → va_S A s.heap H locs → lv_has ls 3 [(0, .ref (ad 0)), (1, .int v1), (2, .int v2)] → (w_X3_symbolOf_29 post a_g) f_code v1 v2 s1 → W p l e (headSpec (ws_ yX3_symbolOf cX3_symbolOf 3 (some .char)) rm_X3_symbolOf).room s m ([.ref (ad 0), .int p0, .int p1] : List Value).toArray below meth c H locs 0 0 (MQ below (va_Qi (fun (r : Int32) (u : Int32) => post r u) (fun (u : Int32) t => wrQ D dA A (mdl ad dA f_isSaved f_changes u f_length f_fault f_signMany f_at f_place a_g a_kept a_saved a_input a_signs a_ways a_needs a_walk a_one a_several a_ragged a_nextLine) t) A) ([.ref (ad 0), .int p0, .int p1] : List Value).toArray s 0 0 A) (F0 m 29 ls [.int s1, .ref (ad 0)]) := by
      intro  f_code v1 v2 s1 H locs ls hP hD hS hl hw
      refine k_wi (wn := fun (u : Int32) => (mdl ad dA f_isSaved f_changes u f_length f_fault f_signMany f_at f_place a_g a_kept a_saved a_input a_signs a_ways a_needs a_walk a_one a_several a_ragged a_nextLine)) (wr := []) (k_wV (As := [.int s1]) (rest := []) hSx (met_X3_fails l D dA ad _ f_isSaved f_changes f_code f_length f_fault f_signMany f_at f_place a_g a_kept a_saved a_input a_signs a_ways a_needs a_walk a_one a_several a_ragged a_nextLine s1 _ hw) gX3_70 ⟨rfl, hd_X3_fails⟩ ⟨Nat.le_of_ble_eq_true rfl, Nat.le_of_ble_eq_true rfl⟩ rfl rfl hP hK hD [0, 1, 2, 3, 4, 5, 6, 7, 8, 9, 10, 11, 12] rfl (by decide) rfl 0 rfl rfl rfl rfl hl.1 (Nat.le_of_ble_eq_true rfl) rfl dX3_symbolOf_29 ⟨Nat.le_refl 0, Nat.le_refl 0⟩) hP hD hS hA [0, 1, 2, 3, 4, 5, 6, 7, 8, 9, 10, 11, 12] [] [0, 1, 2, 3, 4, 5, 6, 7, 8, 9, 10, 11, 12] rfl rfl (by decide) (by decide) (by decide) (fun _ => rfl) (fun _ => rfl) (fun r12 u H locs hw _ hP hD hS => ?_)
      obtain ⟨f_code_13, rfl⟩ : ∃ z, z = u := ⟨_, rfl⟩
      have hP : va_P D vwCl (mdl ad dA f_isSaved f_changes f_code_13 f_length f_fault f_signMany f_at f_place a_g a_kept a_saved a_input a_signs a_ways a_needs a_walk a_one a_several a_ragged a_nextLine) H := hP
      have hD : va_D A (mdl ad dA f_isSaved f_changes f_code_13 f_length f_fault f_signMany f_at f_place a_g a_kept a_saved a_input a_signs a_ways a_needs a_walk a_one a_several a_ragged a_nextLine) := hD
      refine lv_if_eq (tgt := 40) hx hb dX3_symbolOf_32 (by decide) (fun c14 => ?_) (fun c14 => ?_)
      · have hw := hw.1 c14
        refine lv_aload_n hx hb dX3_symbolOf_40 rfl (lv_at hl 0 rfl) ?_
        refine lv_iload_n hx hb dX3_symbolOf_41 rfl (lv_at hl 1 rfl) ?_
        refine lv_iload_n hx hb dX3_symbolOf_42 rfl (lv_at hl 2 rfl) ?_
        refine k_ri (k_rV (As := [.int v1, .int v2]) (rest := []) hSx (met_X3_signOf l D dA ad f_isSaved f_changes f_code_13 f_length f_fault f_signMany f_at f_place a_g a_kept a_saved a_input a_signs a_ways a_needs a_walk a_one a_several a_ragged a_nextLine v1 v2 _ hw) gX3_163 ⟨rfl, hd_X3_signOf⟩ ⟨Nat.le_of_ble_eq_true rfl, Nat.le_of_ble_eq_true rfl⟩ rfl rfl hP hK [0, 1, 2, 3, 4, 5, 6, 7, 8, 9, 10, 11, 12] rfl 0 rfl rfl rfl rfl hl.1 (Nat.le_of_ble_eq_true rfl) rfl dX3_symbolOf_43 ⟨Nat.le_refl 0, Nat.le_refl 0⟩) (fun r15 hw => ?_)
        refine lv_i2c (v := ((r15.toUInt32 % 65536).toInt32)) hx hb dX3_symbolOf_46 rfl ?_
        obtain ⟨h16, hw⟩ := hw
        exact W.zret (v := ((r15.toUInt32 % 65536).toInt32)) hx hb hr h16 (fun t ht hW => ⟨⟨((r15.toUInt32 % 65536).toInt32), f_code_13, rfl, hw, by rw [ht]; exact hP, va_K.moved hW.alike hK, hD⟩, hS.F ht⟩) hS.2.2 dX3_symbolOf_47
      · have hw := hw.2 c14
        refine lv_bipush (v := (nI 32)) hx hb dX3_symbolOf_35 (by decide) ?_
        refine lv_goto (tgt := 47) hx hb dX3_symbolOf_37 (by decide) ?_
        exact W.zret (v := (nI 32)) hx hb hr rfl (fun t ht hW => ⟨⟨(nI 32), f_code_13, rfl, hw, by rw [ht]; exact hP, va_K.moved hW.alike hK, hD⟩, hS.F ht⟩) hS.2.2 dX3_symbolOf_47
  refine lv_aload_n hx hb dX3_symbolOf_0 rfl (lv_at hl 0 rfl) ?_
  refine lv_iload_n hx hb dX3_symbolOf_1 rfl (lv_at hl 1 rfl) ?_
  refine k_wi (wn := fun (u : Int32) => (mdl ad dA f_isSaved f_changes u f_length f_fault f_signMany f_at f_place a_g a_kept a_saved a_input a_signs a_ways a_needs a_walk a_one a_several a_ragged a_nextLine)) (wr := []) (k_wV (As := [.int p0]) (rest := []) hSx (met_X3_isLost l D dA ad _ f_isSaved f_changes f_code f_length f_fault f_signMany f_at f_place a_g a_kept a_saved a_input a_signs a_ways a_needs a_walk a_one a_several a_ragged a_nextLine p0 _ hw) gX3_169 ⟨rfl, hd_X3_isLost⟩ ⟨Nat.le_of_ble_eq_true rfl, Nat.le_of_ble_eq_true rfl⟩ rfl rfl hP hK hD [0, 1, 2, 3, 4, 5, 6, 7, 8, 9, 10, 11, 12] rfl (by decide) rfl 0 rfl rfl rfl rfl hl.1 (Nat.le_of_ble_eq_true rfl) rfl dX3_symbolOf_2 ⟨Nat.le_refl 0, Nat.le_refl 0⟩) hP hD hS hA [0, 1, 2, 3, 4, 5, 6, 7, 8, 9, 10, 11, 12] [] [0, 1, 2, 3, 4, 5, 6, 7, 8, 9, 10, 11, 12] rfl rfl (by decide) (by decide) (by decide) (fun _ => rfl) (fun _ => rfl) (fun r17 u H locs hw _ hP hD hS => ?_)
  obtain ⟨f_code_18, rfl⟩ : ∃ z, z = u := ⟨_, rfl⟩
  have hP : va_P D vwCl (mdl ad dA f_isSaved f_changes f_code_18 f_length f_fault f_signMany f_at f_place a_g a_kept a_saved a_input a_signs a_ways a_needs a_walk a_one a_several a_ragged a_nextLine) H := hP
  have hD : va_D A (mdl ad dA f_isSaved f_changes f_code_18 f_length f_fault f_signMany f_at f_place a_g a_kept a_saved a_input a_signs a_ways a_needs a_walk a_one a_several a_ragged a_nextLine) := hD
  refine lv_if_ne (tgt := 35) hx hb dX3_symbolOf_5 (by decide) (fun c19 => ?_) (fun c19 => ?_)
  · have hw := hw.2 c19
    refine lv_bipush (v := (nI 32)) hx hb dX3_symbolOf_35 (by decide) ?_
    refine lv_goto (tgt := 47) hx hb dX3_symbolOf_37 (by decide) ?_
    exact W.zret (v := (nI 32)) hx hb hr rfl (fun t ht hW => ⟨⟨(nI 32), f_code_18, rfl, hw, by rw [ht]; exact hP, va_K.moved hW.alike hK, hD⟩, hS.F ht⟩) hS.2.2 dX3_symbolOf_47
  · have hw := hw.1 c19
    refine lv_aload_n hx hb dX3_symbolOf_8 rfl (lv_at hl 0 rfl) ?_
    refine lv_iload_n hx hb dX3_symbolOf_9 rfl (lv_at hl 2 rfl) ?_
    refine lv_iconst (v := (nI 0)) hx hb dX3_symbolOf_10 (by decide) ?_
    refine lv_aload_n hx hb dX3_symbolOf_11 rfl (lv_at hl 0 rfl) ?_
    refine lv_iload_n hx hb dX3_symbolOf_12 rfl (lv_at hl 1 rfl) ?_
    refine k_ri (k_rV (As := [.int p0]) (rest := [.int (nI 0), .int p1, .ref (ad 0)]) hSx (met_X3_sizeOf l D dA ad f_isSaved f_changes f_code_18 f_length f_fault f_signMany f_at f_place a_g a_kept a_saved a_input a_signs a_ways a_needs a_walk a_one a_several a_ragged a_nextLine p0 _ hw) gX3_179 ⟨rfl, hd_X3_sizeOf⟩ ⟨Nat.le_of_ble_eq_true rfl, Nat.le_of_ble_eq_true rfl⟩ rfl rfl hP hK [0, 1, 2, 3, 4, 5, 6, 7, 8, 9, 10, 11, 12] rfl 0 rfl rfl rfl rfl hl.1 (Nat.le_of_ble_eq_true rfl) rfl dX3_symbolOf_13 ⟨Nat.le_refl 0, Nat.le_refl 0⟩) (fun r20 hw => ?_)
    refine lv_iconst (v := (nI 1)) hx hb dX3_symbolOf_16 (by decide) ?_
    refine lv_isub hx hb dX3_symbolOf_17 ?_
    refine k_ri (k_pS (As := [.int p1, .int (nI 0), .int (r20 - (nI 1))]) (rest := [.ref (ad 0)]) hSx (met_X3_in l p1 (nI 0) (r20 - (nI 1)) _ hw) gX3_62 hd_X3_in ⟨Nat.le_of_ble_eq_true rfl, Nat.le_of_ble_eq_true rfl⟩ rfl rfl rfl hl.1 (Nat.le_of_ble_eq_true rfl) rfl dX3_symbolOf_18 ⟨Nat.le_refl 0, Nat.le_refl 0⟩) (fun r21 hw => ?_)
    refine lv_if_eq (tgt := 28) hx hb dX3_symbolOf_21 (by decide) (fun c22 => ?_) (fun c22 => ?_)
    · have hw := hw.1 c22
      refine lv_iconst (v := (nI 1)) hx hb dX3_symbolOf_28 (by decide) ?_
      exact hL29  f_code_18 p0 p1 (nI 1) _ _ _ hP hD hS (lv_sub hl [0, 1, 2] rfl) hw
    · have hw := hw.2 c22
      refine lv_iconst (v := (nI 0)) hx hb dX3_symbolOf_24 (by decide) ?_
      refine lv_goto (tgt := 29) hx hb dX3_symbolOf_25 (by decide) ?_
      exact hL29  f_code_18 p0 p1 (nI 0) _ _ _ hP hD hS (lv_sub hl [0, 1, 2] rfl) hw
def rm_X3_depthOf : Room := { frames := 3, cells := 0, slots := 0, locals := 64 }
set_option maxHeartbeats 4000000 in
set_option maxRecDepth 100000 in
theorem met_X3_depthOf (l : Launch) (D : va_G) (dA : Nat → ClassId) (ad : Nat → Nat) (sz : Nat) (f_isSaved : Int32) (f_changes : Int32) (f_code : Int32) (f_length : Int32) (f_fault : Int32) (f_signMany : Int32) (f_at : Int32) (f_place : Int32) (a_g : (Nat → Int32)) (a_kept : (Nat → Int32)) (a_saved : (Nat → Int32)) (a_input : (Nat → Int32)) (a_signs : (Nat → Int32)) (a_ways : (Nat → Int64)) (a_needs : (Nat → Int32)) (a_walk : (Nat → Int32)) (a_one : (Nat → Int32)) (a_several : (Nat → Int32)) (a_ragged : (Nat → Int32)) (a_nextLine : (Nat → Int32)) (p0 : Int32) (post : Int32 → Int32 → Prop) (hw : w_X3_depthOf post f_code a_g p0) : Met l yX3_depthOf (ws_ yX3_depthOf cX3_depthOf 5 (some .int)) rm_X3_depthOf (va_Pc [.ref (ad 0), .int p0] (wrB D dA sz (mdl ad dA f_isSaved f_changes f_code f_length f_fault f_signMany f_at f_place a_g a_kept a_saved a_input a_signs a_ways a_needs a_walk a_one a_several a_ragged a_nextLine))) (va_Qi (fun (r : Int32) (u : Int32) => post r u) (fun (u : Int32) t => wrQ D dA (va_A (mdl ad dA f_isSaved f_changes f_code f_length f_fault f_signMany f_at f_place a_g a_kept a_saved a_input a_signs a_ways a_needs a_walk a_one a_several a_ragged a_nextLine) sz) (mdl ad dA f_isSaved f_changes u f_length f_fault f_signMany f_at f_place a_g a_kept a_saved a_input a_signs a_ways a_needs a_walk a_one a_several a_ragged a_nextLine) t) (va_A (mdl ad dA f_isSaved f_changes f_code f_length f_fault f_signMany f_at f_place a_g a_kept a_saved a_input a_signs a_ways a_needs a_walk a_one a_several a_ragged a_nextLine) sz)) 0 0 (va_A (mdl ad dA f_isSaved f_changes f_code f_length f_fault f_signMany f_at f_place a_g a_kept a_saved a_input a_signs a_ways a_needs a_walk a_one a_several a_ragged a_nextLine) sz) := by
  refine Met.ofW (cc := cX3_depthOf) (maxL := 5) (ret := (some .int)) (by decide) rfl ?_
  intro p e s m args below meth c s₁ B hml hv
  obtain ⟨rfl, hsz, hP, hK, hD0⟩ := hv
  have hx := B.exec
  have hb := B.bytes
  have hr := B.returns
  have hts := atoms_spec (ws := (ws_ yX3_depthOf cX3_depthOf 5 (some .int))) B.pre
  have hts : ∀ w ∈ lw_all, w.before _ s = true := fun w h => hts w (List.mem_cons_of_mem _ h)
  have hown : s.vm.findClass RX3 = some m.cls := findClass_of_methodNamed B.named
  have hlocks := B.notSynchronized
  have hSx : CallFix p m c cX3_depthOf 5 s _ lw_all RX3 := ⟨hx, hb, hml, hown, hts⟩
  subst hsz
  have hD := hD0.self (sz := s.heap.size)
  generalize hAe : va_A (mdl ad dA f_isSaved f_changes f_code f_length f_fault f_signMany f_at f_place a_g a_kept a_saved a_input a_signs a_ways a_needs a_walk a_one a_several a_ragged a_nextLine) s.heap.size = A at hD ⊢
  have hA : ∀ q : Nat, s.heap.size ≤ q → A q := fun q h => by rw [← hAe]; exact Or.inr h
  have hS : va_S A s.heap s.heap [] := va_S.rf
  have hl := lv_entry ([.ref (ad 0), .int p0]) (n := 5) (Nat.le_of_ble_eq_true rfl)
  rw [lg_entry_eq]
  generalize (lg_sl ([.ref (ad 0), .int p0]) ++ List.replicate (5 - (lg_sl ([.ref (ad 0), .int p0])).length) Slot.unset).toArray = ls at hl ⊢
  have hl : lv_has ls 5 [(0, .ref (ad 0)), (1, .int p0)] := hl
  have hL61 : ∀ (k17 : Int32 → Int32 → Int32 → Int32 → Int32 → Prop) (hk17 : ∀ (f_code : Int32) (v1 : Int32) (v2 : Int32) (v3 : Int32) (v4 : Int32) (H : Heap) (locs : List Loc) (ls : Array Slot), va_P D vwCl (mdl ad dA f_isSaved f_changes f_code f_length f_fault f_signMany f_at f_place a_g a_kept a_saved a_input a_signs a_ways a_needs a_walk a_one a_several a_ragged a_nextLine) H → va_D A (mdl ad dA f_isSaved f_changes f_code f_length f_fault f_signMany f_at f_place a_g a_kept a_saved a_input a_signs a_ways a_needs a_walk a_one a_several a_ragged a_nextLine) → va_S A s.heap H locs → lv_has ls 5 [(0, .ref (ad 0)), (1, .int v1), (2, .int v2), (3, .int v3), (4, .int v4)] → k17 f_code v1 v2 v3 v4 → W p l e (headSpec (ws_ yX3_depthOf cX3_depthOf 5 (some .int)) rm_X3_depthOf).room s m ([.ref (ad 0), .int p0] : List Value).toArray below meth c H locs 0 0 (MQ below (va_Qi (fun (r : Int32) (u : Int32) => post r u) (fun (u : Int32) t => wrQ D dA A (mdl ad dA f_isSaved f_changes u f_length f_fault f_signMany f_at f_place a_g a_kept a_saved a_input a_signs a_ways a_needs a_walk a_one a_several a_ragged a_nextLine) t) A) ([.ref (ad 0), .int p0] : List Value).toArray s 0 0 A) (F0 m 17 ls [])) (f_code : Int32) (v1 : Int32) (v3 : Int32) (v4 : Int32) (s0 : Int32) (s1 : Int32) (H : Heap) (locs : List Loc) (ls : Array Slot), va_P D vwCl (mdl ad dA f_isSaved f_changes f_code f_length f_fault f_signMany f_at f_place a_g a_kept a_saved a_input a_signs a_ways a_needs a_walk a_one a_several a_ragged a_nextLine) H → va_D A (mdl ad dA f_isSaved f_changes f_code f_length f_fault f_signMany f_at f_place a_g a_kept a_saved a_input a_signs a_ways a_needs a_walk a_one a_several a_ragged a_nextLine) → va_S A s.heap H locs → lv_has ls 5 [(0, .ref (ad 0)), (1, .int v1), (3, .int v3), (4, .int v4)] → (w_X3_depthOf_61 post a_g k17) f_code v1 v3 v4 s0 s1 → W p l e (headSpec (ws_ yX3_depthOf cX3_depthOf 5 (some .int)) rm_X3_depthOf).room s m ([.ref (ad 0), .int p0] : List Value).toArray below meth c H locs 0 0 (MQ below (va_Qi (fun (r : Int32) (u : Int32) => post r u) (fun (u : Int32) t => wrQ D dA A (mdl ad dA f_isSaved f_changes u f_length f_fault f_signMany f_at f_place a_g a_kept a_saved a_input a_signs a_ways a_needs a_walk a_one a_several a_ragged a_nextLine) t) A) ([.ref (ad 0), .int p0] : List Value).toArray s 0 0 A) (F0 m 61 ls [.int s1, .int s0]) := by
      intro k17 hk17 f_code v1 v3 v4 s0 s1 H locs ls hP hD hS hl hw
      refine lv_iadd hx hb dX3_depthOf_61 ?_
      refine lv_istore_n (lv' := [(2, .int (s0 + s1)), (0, .ref (ad 0)), (1, .int v1), (3, .int v3), (4, .int v4)]) hx hb dX3_depthOf_62 rfl hl (by decide) rfl (fun ls hl => ?_)
      refine lv_iload_n hx hb dX3_depthOf_63 rfl (lv_at hl 3 rfl) ?_
      refine lv_iload_n hx hb dX3_depthOf_64 rfl (lv_at hl 0 rfl) ?_
      refine k_ri (k_pS (As := [.int v3, .int (s0 + s1)]) (rest := []) hSx (met_X3_most l v3 (s0 + s1) _ hw) gX3_137 hd_X3_most ⟨Nat.le_of_ble_eq_true rfl, Nat.le_of_ble_eq_true rfl⟩ rfl rfl rfl hl.1 (Nat.le_of_ble_eq_true rfl) rfl dX3_depthOf_65 ⟨Nat.le_refl 0, Nat.le_refl 0⟩) (fun r11 hw => ?_)
      refine lv_istore_n (lv' := [(3, .int r11), (2, .int (s0 + s1)), (0, .ref (ad 0)), (1, .int v1), (4, .int v4)]) hx hb dX3_depthOf_68 rfl hl (by decide) rfl (fun ls hl => ?_)
      refine lv_iinc (v := (v4 + (nI 1))) (lv' := [(4, .int (v4 + (nI 1))), (3, .int r11), (2, .int (s0 + s1)), (0, .ref (ad 0)), (1, .int v1)]) hx hb dX3_depthOf_69 hl (k := 4) rfl (congrArg (fun z => v4 + z) (by decide : Int32.ofInt (1) = (nI 1))) (by decide) rfl (fun ls hl => ?_)
      refine lv_goto (tgt := 17) hx hb dX3_depthOf_72 (by decide) ?_
      exact hk17 f_code v1 (s0 + s1) r11 (v4 + (nI 1)) _ _ _ hP hD hS (lv_sub hl [3, 4, 2, 1, 0] rfl) hw
  have hL17 : ∀  (n : Nat) (f_code : Int32) (v1 : Int32) (v2 : Int32) (v3 : Int32) (v4 : Int32) (H : Heap) (locs : List Loc) (ls : Array Slot), va_P D vwCl (mdl ad dA f_isSaved f_changes f_code f_length f_fault f_signMany f_at f_place a_g a_kept a_saved a_input a_signs a_ways a_needs a_walk a_one a_several a_ragged a_nextLine) H → va_D A (mdl ad dA f_isSaved f_changes f_code f_length f_fault f_signMany f_at f_place a_g a_kept a_saved a_input a_signs a_ways a_needs a_walk a_one a_several a_ragged a_nextLine) → va_S A s.heap H locs → lv_has ls 5 [(0, .ref (ad 0)), (1, .int v1), (2, .int v2), (3, .int v3), (4, .int v4)] → lpF (fun _ _ _ _ _ => False) (w_X3_depthOf_17 post a_g) n f_code v1 v2 v3 v4 → W p l e (headSpec (ws_ yX3_depthOf cX3_depthOf 5 (some .int)) rm_X3_depthOf).room s m ([.ref (ad 0), .int p0] : List Value).toArray below meth c H locs 0 0 (MQ below (va_Qi (fun (r : Int32) (u : Int32) => post r u) (fun (u : Int32) t => wrQ D dA A (mdl ad dA f_isSaved f_changes u f_length f_fault f_signMany f_at f_place a_g a_kept a_saved a_input a_signs a_ways a_needs a_walk a_one a_several a_ragged a_nextLine) t) A) ([.ref (ad 0), .int p0] : List Value).toArray s 0 0 A) (F0 m 17 ls []) := by
    intro  n
    induction n with
    | zero => intro f_code v1 v2 v3 v4 H locs ls hP hD hS hl hw; exact absurd hw id
    | succ n hk17 =>
      intro f_code v1 v2 v3 v4 H locs ls hP hD hS hl hw
      generalize hk9 : lpF (fun _ _ _ _ _ => False) (w_X3_depthOf_17 post a_g) n = k17 at hk17
      have hw : (w_X3_depthOf_17 post a_g) k17 f_code v1 v2 v3 v4 := hk9 ▸ hw
      refine lv_iload hx hb dX3_depthOf_17 (lv_at hl 4 rfl) ?_
      refine lv_aload_n hx hb dX3_depthOf_19 rfl (lv_at hl 0 rfl) ?_
      refine lv_iload_n hx hb dX3_depthOf_20 rfl (lv_at hl 1 rfl) ?_
      refine k_ri (k_rV (As := [.int v1]) (rest := [.int v4]) hSx (met_X3_sizeOf l D dA ad f_isSaved f_changes f_code f_length f_fault f_signMany f_at f_place a_g a_kept a_saved a_input a_signs a_ways a_needs a_walk a_one a_several a_ragged a_nextLine v1 _ hw) gX3_179 ⟨rfl, hd_X3_sizeOf⟩ ⟨Nat.le_of_ble_eq_true rfl, Nat.le_of_ble_eq_true rfl⟩ rfl rfl hP hK [0, 1, 2, 3, 4, 5, 6, 7, 8, 9, 10, 11, 12] rfl 0 rfl rfl rfl rfl hl.1 (Nat.le_of_ble_eq_true rfl) rfl dX3_depthOf_21 ⟨Nat.le_refl 0, Nat.le_refl 0⟩) (fun r12 hw => ?_)
      refine lv_icmp_ge (tgt := 75) hx hb dX3_depthOf_24 (by decide) (fun c13 => ?_) (fun c13 => ?_)
      · have hw := hw.1 c13
        refine lv_iload_n hx hb dX3_depthOf_75 rfl (lv_at hl 3 rfl) ?_
        exact W.iret (v := v3) hx hb hr (fun t ht hW => ⟨⟨v3, f_code, rfl, hw, by rw [ht]; exact hP, va_K.moved hW.alike hK, hD⟩, hS.F ht⟩) hS.2.2 dX3_depthOf_76
      · have hw := hw.2 c13
        refine lv_iload_n hx hb dX3_depthOf_27 rfl (lv_at hl 2 rfl) ?_
        refine lv_aload_n hx hb dX3_depthOf_28 rfl (lv_at hl 0 rfl) ?_
        refine lv_iload_n hx hb dX3_depthOf_29 rfl (lv_at hl 1 rfl) ?_
        refine lv_iload hx hb dX3_depthOf_30 (lv_at hl 4 rfl) ?_
        refine k_ri (k_rV (As := [.int v1, .int v4]) (rest := [.int v2]) hSx (met_X3_signOf l D dA ad f_isSaved f_changes f_code f_length f_fault f_signMany f_at f_place a_g a_kept a_saved a_input a_signs a_ways a_needs a_walk a_one a_several a_ragged a_nextLine v1 v4 _ hw) gX3_163 ⟨rfl, hd_X3_signOf⟩ ⟨Nat.le_of_ble_eq_true rfl, Nat.le_of_ble_eq_true rfl⟩ rfl rfl hP hK [0, 1, 2, 3, 4, 5, 6, 7, 8, 9, 10, 11, 12] rfl 0 rfl rfl rfl rfl hl.1 (Nat.le_of_ble_eq_true rfl) rfl dX3_depthOf_32 ⟨Nat.le_refl 0, Nat.le_refl 0⟩) (fun r14 hw => ?_)
        refine lv_bipush (v := (nI 40)) hx hb dX3_depthOf_35 (by decide) ?_
        refine lv_icmp_ne (tgt := 44) hx hb dX3_depthOf_37 (by decide) (fun c15 => ?_) (fun c15 => ?_)
        · have hw := hw.2 c15
          refine lv_aload_n hx hb dX3_depthOf_44 rfl (lv_at hl 0 rfl) ?_
          refine lv_iload_n hx hb dX3_depthOf_45 rfl (lv_at hl 1 rfl) ?_
          refine lv_iload hx hb dX3_depthOf_46 (lv_at hl 4 rfl) ?_
          refine k_ri (k_rV (As := [.int v1, .int v4]) (rest := [.int v2]) hSx (met_X3_signOf l D dA ad f_isSaved f_changes f_code f_length f_fault f_signMany f_at f_place a_g a_kept a_saved a_input a_signs a_ways a_needs a_walk a_one a_several a_ragged a_nextLine v1 v4 _ hw) gX3_163 ⟨rfl, hd_X3_signOf⟩ ⟨Nat.le_of_ble_eq_true rfl, Nat.le_of_ble_eq_true rfl⟩ rfl rfl hP hK [0, 1, 2, 3, 4, 5, 6, 7, 8, 9, 10, 11, 12] rfl 0 rfl rfl rfl rfl hl.1 (Nat.le_of_ble_eq_true rfl) rfl dX3_depthOf_48 ⟨Nat.le_refl 0, Nat.le_refl 0⟩) (fun r16 hw => ?_)
          refine lv_bipush (v := (nI 41)) hx hb dX3_depthOf_51 (by decide) ?_
          refine lv_icmp_ne (tgt := 60) hx hb dX3_depthOf_53 (by decide) (fun c17 => ?_) (fun c17 => ?_)
          · have hw := hw.2 c17
            refine lv_iconst (v := (nI 0)) hx hb dX3_depthOf_60 (by decide) ?_
            exact hL61 k17 hk17 f_code v1 v3 v4 v2 (nI 0) _ _ _ hP hD hS (lv_sub hl [0, 1, 3, 4] rfl) hw
          · have hw := hw.1 c17
            refine lv_iconst (v := (-1)) hx hb dX3_depthOf_56 (by decide) ?_
            refine lv_goto (tgt := 61) hx hb dX3_depthOf_57 (by decide) ?_
            exact hL61 k17 hk17 f_code v1 v3 v4 v2 (-1) _ _ _ hP hD hS (lv_sub hl [0, 1, 3, 4] rfl) hw
        · have hw := hw.1 c15
          refine lv_iconst (v := (nI 1)) hx hb dX3_depthOf_40 (by decide) ?_
          refine lv_goto (tgt := 61) hx hb dX3_depthOf_41 (by decide) ?_
          exact hL61 k17 hk17 f_code v1 v3 v4 v2 (nI 1) _ _ _ hP hD hS (lv_sub hl [0, 1, 3, 4] rfl) hw
  refine lv_aload_n hx hb dX3_depthOf_0 rfl (lv_at hl 0 rfl) ?_
  refine lv_iload_n hx hb dX3_depthOf_1 rfl (lv_at hl 1 rfl) ?_
  refine k_wi (wn := fun (u : Int32) => (mdl ad dA f_isSaved f_changes u f_length f_fault f_signMany f_at f_place a_g a_kept a_saved a_input a_signs a_ways a_needs a_walk a_one a_several a_ragged a_nextLine)) (wr := []) (k_wV (As := [.int p0]) (rest := []) hSx (met_X3_isLost l D dA ad _ f_isSaved f_changes f_code f_length f_fault f_signMany f_at f_place a_g a_kept a_saved a_input a_signs a_ways a_needs a_walk a_one a_several a_ragged a_nextLine p0 _ hw) gX3_169 ⟨rfl, hd_X3_isLost⟩ ⟨Nat.le_of_ble_eq_true rfl, Nat.le_of_ble_eq_true rfl⟩ rfl rfl hP hK hD [0, 1, 2, 3, 4, 5, 6, 7, 8, 9, 10, 11, 12] rfl (by decide) rfl 0 rfl rfl rfl rfl hl.1 (Nat.le_of_ble_eq_true rfl) rfl dX3_depthOf_2 ⟨Nat.le_refl 0, Nat.le_refl 0⟩) hP hD hS hA [0, 1, 2, 3, 4, 5, 6, 7, 8, 9, 10, 11, 12] [] [0, 1, 2, 3, 4, 5, 6, 7, 8, 9, 10, 11, 12] rfl rfl (by decide) (by decide) (by decide) (fun _ => rfl) (fun _ => rfl) (fun r18 u H locs hw _ hP hD hS => ?_)
  obtain ⟨f_code_19, rfl⟩ : ∃ z, z = u := ⟨_, rfl⟩
  have hP : va_P D vwCl (mdl ad dA f_isSaved f_changes f_code_19 f_length f_fault f_signMany f_at f_place a_g a_kept a_saved a_input a_signs a_ways a_needs a_walk a_one a_several a_ragged a_nextLine) H := hP
  have hD : va_D A (mdl ad dA f_isSaved f_changes f_code_19 f_length f_fault f_signMany f_at f_place a_g a_kept a_saved a_input a_signs a_ways a_needs a_walk a_one a_several a_ragged a_nextLine) := hD
  refine lv_if_eq (tgt := 10) hx hb dX3_depthOf_5 (by decide) (fun c20 => ?_) (fun c20 => ?_)
  · have hw := hw.1 c20
    refine lv_iconst (v := (nI 0)) hx hb dX3_depthOf_10 (by decide) ?_
    refine lv_istore_n (lv' := [(2, .int (nI 0)), (0, .ref (ad 0)), (1, .int p0)]) hx hb dX3_depthOf_11 rfl hl (by decide) rfl (fun ls hl => ?_)
    refine lv_iconst (v := (nI 0)) hx hb dX3_depthOf_12 (by decide) ?_
    refine lv_istore_n (lv' := [(3, .int (nI 0)), (2, .int (nI 0)), (0, .ref (ad 0)), (1, .int p0)]) hx hb dX3_depthOf_13 rfl hl (by decide) rfl (fun ls hl => ?_)
    refine lv_iconst (v := (nI 0)) hx hb dX3_depthOf_14 (by decide) ?_
    refine lv_istore (lv' := [(4, .int (nI 0)), (3, .int (nI 0)), (2, .int (nI 0)), (0, .ref (ad 0)), (1, .int p0)]) hx hb dX3_depthOf_15 hl (by decide) rfl (fun ls hl => ?_)
    obtain ⟨n, hw⟩ := hw
    exact hL17  n f_code_19 p0 (nI 0) (nI 0) (nI 0) _ _ _ hP hD hS (lv_sub hl [3, 4, 2, 1, 0] rfl) hw
  · have hw := hw.2 c20
    refine lv_iconst (v := (nI 0)) hx hb dX3_depthOf_8 (by decide) ?_
    exact W.iret (v := (nI 0)) hx hb hr (fun t ht hW => ⟨⟨(nI 0), f_code_19, rfl, hw, by rw [ht]; exact hP, va_K.moved hW.alike hK, hD⟩, hS.F ht⟩) hS.2.2 dX3_depthOf_9
def rm_X3_countOf : Room := { frames := 3, cells := 0, slots := 0, locals := 64 }
set_option maxHeartbeats 4000000 in
set_option maxRecDepth 100000 in
theorem met_X3_countOf (l : Launch) (D : va_G) (dA : Nat → ClassId) (ad : Nat → Nat) (sz : Nat) (f_isSaved : Int32) (f_changes : Int32) (f_code : Int32) (f_length : Int32) (f_fault : Int32) (f_signMany : Int32) (f_at : Int32) (f_place : Int32) (a_g : (Nat → Int32)) (a_kept : (Nat → Int32)) (a_saved : (Nat → Int32)) (a_input : (Nat → Int32)) (a_signs : (Nat → Int32)) (a_ways : (Nat → Int64)) (a_needs : (Nat → Int32)) (a_walk : (Nat → Int32)) (a_one : (Nat → Int32)) (a_several : (Nat → Int32)) (a_ragged : (Nat → Int32)) (a_nextLine : (Nat → Int32)) (p0 : Int32) (p1 : Int32) (post : Int32 → Int32 → Prop) (hw : w_X3_countOf post f_code a_g p0 p1) : Met l yX3_countOf (ws_ yX3_countOf cX3_countOf 5 (some .int)) rm_X3_countOf (va_Pc [.ref (ad 0), .int p0, .int p1] (wrB D dA sz (mdl ad dA f_isSaved f_changes f_code f_length f_fault f_signMany f_at f_place a_g a_kept a_saved a_input a_signs a_ways a_needs a_walk a_one a_several a_ragged a_nextLine))) (va_Qi (fun (r : Int32) (u : Int32) => post r u) (fun (u : Int32) t => wrQ D dA (va_A (mdl ad dA f_isSaved f_changes f_code f_length f_fault f_signMany f_at f_place a_g a_kept a_saved a_input a_signs a_ways a_needs a_walk a_one a_several a_ragged a_nextLine) sz) (mdl ad dA f_isSaved f_changes u f_length f_fault f_signMany f_at f_place a_g a_kept a_saved a_input a_signs a_ways a_needs a_walk a_one a_several a_ragged a_nextLine) t) (va_A (mdl ad dA f_isSaved f_changes f_code f_length f_fault f_signMany f_at f_place a_g a_kept a_saved a_input a_signs a_ways a_needs a_walk a_one a_several a_ragged a_nextLine) sz)) 0 0 (va_A (mdl ad dA f_isSaved f_changes f_code f_length f_fault f_signMany f_at f_place a_g a_kept a_saved a_input a_signs a_ways a_needs a_walk a_one a_several a_ragged a_nextLine) sz) := by
  refine Met.ofW (cc := cX3_countOf) (maxL := 5) (ret := (some .int)) (by decide) rfl ?_
  intro p e s m args below meth c s₁ B hml hv
  obtain ⟨rfl, hsz, hP, hK, hD0⟩ := hv
  have hx := B.exec
  have hb := B.bytes
  have hr := B.returns
  have hts := atoms_spec (ws := (ws_ yX3_countOf cX3_countOf 5 (some .int))) B.pre
  have hts : ∀ w ∈ lw_all, w.before _ s = true := fun w h => hts w (List.mem_cons_of_mem _ h)
  have hown : s.vm.findClass RX3 = some m.cls := findClass_of_methodNamed B.named
  have hlocks := B.notSynchronized
  have hSx : CallFix p m c cX3_countOf 5 s _ lw_all RX3 := ⟨hx, hb, hml, hown, hts⟩
  subst hsz
  have hD := hD0.self (sz := s.heap.size)
  generalize hAe : va_A (mdl ad dA f_isSaved f_changes f_code f_length f_fault f_signMany f_at f_place a_g a_kept a_saved a_input a_signs a_ways a_needs a_walk a_one a_several a_ragged a_nextLine) s.heap.size = A at hD ⊢
  have hA : ∀ q : Nat, s.heap.size ≤ q → A q := fun q h => by rw [← hAe]; exact Or.inr h
  have hS : va_S A s.heap s.heap [] := va_S.rf
  have hl := lv_entry ([.ref (ad 0), .int p0, .int p1]) (n := 5) (Nat.le_of_ble_eq_true rfl)
  rw [lg_entry_eq]
  generalize (lg_sl ([.ref (ad 0), .int p0, .int p1]) ++ List.replicate (5 - (lg_sl ([.ref (ad 0), .int p0, .int p1])).length) Slot.unset).toArray = ls at hl ⊢
  have hl : lv_has ls 5 [(0, .ref (ad 0)), (1, .int p0), (2, .int p1)] := hl
  have hL42 : ∀ (k15 : Int32 → Int32 → Int32 → Int32 → Int32 → Prop) (hk15 : ∀ (f_code : Int32) (v1 : Int32) (v2 : Int32) (v3 : Int32) (v4 : Int32) (H : Heap) (locs : List Loc) (ls : Array Slot), va_P D vwCl (mdl ad dA f_isSaved f_changes f_code f_length f_fault f_signMany f_at f_place a_g a_kept a_saved a_input a_signs a_ways a_needs a_walk a_one a_several a_ragged a_nextLine) H → va_D A (mdl ad dA f_isSaved f_changes f_code f_length f_fault f_signMany f_at f_place a_g a_kept a_saved a_input a_signs a_ways a_needs a_walk a_one a_several a_ragged a_nextLine) → va_S A s.heap H locs → lv_has ls 5 [(0, .ref (ad 0)), (1, .int v1), (2, .int v2), (3, .int v3), (4, .int v4)] → k15 f_code v1 v2 v3 v4 → W p l e (headSpec (ws_ yX3_countOf cX3_countOf 5 (some .int)) rm_X3_countOf).room s m ([.ref (ad 0), .int p0, .int p1] : List Value).toArray below meth c H locs 0 0 (MQ below (va_Qi (fun (r : Int32) (u : Int32) => post r u) (fun (u : Int32) t => wrQ D dA A (mdl ad dA f_isSaved f_changes u f_length f_fault f_signMany f_at f_place a_g a_kept a_saved a_input a_signs a_ways a_needs a_walk a_one a_several a_ragged a_nextLine) t) A) ([.ref (ad 0), .int p0, .int p1] : List Value).toArray s 0 0 A) (F0 m 15 ls [])) (f_code : Int32) (v1 : Int32) (v2 : Int32) (v4 : Int32) (s0 : Int32) (s1 : Int32) (H : Heap) (locs : List Loc) (ls : Array Slot), va_P D vwCl (mdl ad dA f_isSaved f_changes f_code f_length f_fault f_signMany f_at f_place a_g a_kept a_saved a_input a_signs a_ways a_needs a_walk a_one a_several a_ragged a_nextLine) H → va_D A (mdl ad dA f_isSaved f_changes f_code f_length f_fault f_signMany f_at f_place a_g a_kept a_saved a_input a_signs a_ways a_needs a_walk a_one a_several a_ragged a_nextLine) → va_S A s.heap H locs → lv_has ls 5 [(0, .ref (ad 0)), (1, .int v1), (2, .int v2), (4, .int v4)] → (w_X3_countOf_42 post a_g k15) f_code v1 v2 v4 s0 s1 → W p l e (headSpec (ws_ yX3_countOf cX3_countOf 5 (some .int)) rm_X3_countOf).room s m ([.ref (ad 0), .int p0, .int p1] : List Value).toArray below meth c H locs 0 0 (MQ below (va_Qi (fun (r : Int32) (u : Int32) => post r u) (fun (u : Int32) t => wrQ D dA A (mdl ad dA f_isSaved f_changes u f_length f_fault f_signMany f_at f_place a_g a_kept a_saved a_input a_signs a_ways a_needs a_walk a_one a_several a_ragged a_nextLine) t) A) ([.ref (ad 0), .int p0, .int p1] : List Value).toArray s 0 0 A) (F0 m 42 ls [.int s1, .int s0]) := by
      intro k15 hk15 f_code v1 v2 v4 s0 s1 H locs ls hP hD hS hl hw
      refine lv_iadd hx hb dX3_countOf_42 ?_
      refine lv_istore_n (lv' := [(3, .int (s0 + s1)), (0, .ref (ad 0)), (1, .int v1), (2, .int v2), (4, .int v4)]) hx hb dX3_countOf_43 rfl hl (by decide) rfl (fun ls hl => ?_)
      refine lv_iinc (v := (v4 + (nI 1))) (lv' := [(4, .int (v4 + (nI 1))), (3, .int (s0 + s1)), (0, .ref (ad 0)), (1, .int v1), (2, .int v2)]) hx hb dX3_countOf_44 hl (k := 4) rfl (congrArg (fun z => v4 + z) (by decide : Int32.ofInt (1) = (nI 1))) (by decide) rfl (fun ls hl => ?_)
      refine lv_goto (tgt := 15) hx hb dX3_countOf_47 (by decide) ?_
      exact hk15 f_code v1 v2 (s0 + s1) (v4 + (nI 1)) _ _ _ hP hD hS (lv_sub hl [2, 3, 4, 1, 0] rfl) hw
  have hL15 : ∀  (n : Nat) (f_code : Int32) (v1 : Int32) (v2 : Int32) (v3 : Int32) (v4 : Int32) (H : Heap) (locs : List Loc) (ls : Array Slot), va_P D vwCl (mdl ad dA f_isSaved f_changes f_code f_length f_fault f_signMany f_at f_place a_g a_kept a_saved a_input a_signs a_ways a_needs a_walk a_one a_several a_ragged a_nextLine) H → va_D A (mdl ad dA f_isSaved f_changes f_code f_length f_fault f_signMany f_at f_place a_g a_kept a_saved a_input a_signs a_ways a_needs a_walk a_one a_several a_ragged a_nextLine) → va_S A s.heap H locs → lv_has ls 5 [(0, .ref (ad 0)), (1, .int v1), (2, .int v2), (3, .int v3), (4, .int v4)] → lpF (fun _ _ _ _ _ => False) (w_X3_countOf_15 post a_g) n f_code v1 v2 v3 v4 → W p l e (headSpec (ws_ yX3_countOf cX3_countOf 5 (some .int)) rm_X3_countOf).room s m ([.ref (ad 0), .int p0, .int p1] : List Value).toArray below meth c H locs 0 0 (MQ below (va_Qi (fun (r : Int32) (u : Int32) => post r u) (fun (u : Int32) t => wrQ D dA A (mdl ad dA f_isSaved f_changes u f_length f_fault f_signMany f_at f_place a_g a_kept a_saved a_input a_signs a_ways a_needs a_walk a_one a_several a_ragged a_nextLine) t) A) ([.ref (ad 0), .int p0, .int p1] : List Value).toArray s 0 0 A) (F0 m 15 ls []) := by
    intro  n
    induction n with
    | zero => intro f_code v1 v2 v3 v4 H locs ls hP hD hS hl hw; exact absurd hw id
    | succ n hk15 =>
      intro f_code v1 v2 v3 v4 H locs ls hP hD hS hl hw
      generalize hk9 : lpF (fun _ _ _ _ _ => False) (w_X3_countOf_15 post a_g) n = k15 at hk15
      have hw : (w_X3_countOf_15 post a_g) k15 f_code v1 v2 v3 v4 := hk9 ▸ hw
      refine lv_iload hx hb dX3_countOf_15 (lv_at hl 4 rfl) ?_
      refine lv_aload_n hx hb dX3_countOf_17 rfl (lv_at hl 0 rfl) ?_
      refine lv_iload_n hx hb dX3_countOf_18 rfl (lv_at hl 1 rfl) ?_
      refine k_ri (k_rV (As := [.int v1]) (rest := [.int v4]) hSx (met_X3_sizeOf l D dA ad f_isSaved f_changes f_code f_length f_fault f_signMany f_at f_place a_g a_kept a_saved a_input a_signs a_ways a_needs a_walk a_one a_several a_ragged a_nextLine v1 _ hw) gX3_179 ⟨rfl, hd_X3_sizeOf⟩ ⟨Nat.le_of_ble_eq_true rfl, Nat.le_of_ble_eq_true rfl⟩ rfl rfl hP hK [0, 1, 2, 3, 4, 5, 6, 7, 8, 9, 10, 11, 12] rfl 0 rfl rfl rfl rfl hl.1 (Nat.le_of_ble_eq_true rfl) rfl dX3_countOf_19 ⟨Nat.le_refl 0, Nat.le_refl 0⟩) (fun r8 hw => ?_)
      refine lv_icmp_ge (tgt := 50) hx hb dX3_countOf_22 (by decide) (fun c9 => ?_) (fun c9 => ?_)
      · have hw := hw.1 c9
        refine lv_iload_n hx hb dX3_countOf_50 rfl (lv_at hl 3 rfl) ?_
        exact W.iret (v := v3) hx hb hr (fun t ht hW => ⟨⟨v3, f_code, rfl, hw, by rw [ht]; exact hP, va_K.moved hW.alike hK, hD⟩, hS.F ht⟩) hS.2.2 dX3_countOf_51
      · have hw := hw.2 c9
        refine lv_iload_n hx hb dX3_countOf_25 rfl (lv_at hl 3 rfl) ?_
        refine lv_aload_n hx hb dX3_countOf_26 rfl (lv_at hl 0 rfl) ?_
        refine lv_iload_n hx hb dX3_countOf_27 rfl (lv_at hl 1 rfl) ?_
        refine lv_iload hx hb dX3_countOf_28 (lv_at hl 4 rfl) ?_
        refine k_ri (k_rV (As := [.int v1, .int v4]) (rest := [.int v3]) hSx (met_X3_signOf l D dA ad f_isSaved f_changes f_code f_length f_fault f_signMany f_at f_place a_g a_kept a_saved a_input a_signs a_ways a_needs a_walk a_one a_several a_ragged a_nextLine v1 v4 _ hw) gX3_163 ⟨rfl, hd_X3_signOf⟩ ⟨Nat.le_of_ble_eq_true rfl, Nat.le_of_ble_eq_true rfl⟩ rfl rfl hP hK [0, 1, 2, 3, 4, 5, 6, 7, 8, 9, 10, 11, 12] rfl 0 rfl rfl rfl rfl hl.1 (Nat.le_of_ble_eq_true rfl) rfl dX3_countOf_30 ⟨Nat.le_refl 0, Nat.le_refl 0⟩) (fun r10 hw => ?_)
        refine lv_iload_n hx hb dX3_countOf_33 rfl (lv_at hl 2 rfl) ?_
        refine lv_icmp_ne (tgt := 41) hx hb dX3_countOf_34 (by decide) (fun c11 => ?_) (fun c11 => ?_)
        · have hw := hw.2 c11
          refine lv_iconst (v := (nI 0)) hx hb dX3_countOf_41 (by decide) ?_
          exact hL42 k15 hk15 f_code v1 v2 v4 v3 (nI 0) _ _ _ hP hD hS (lv_sub hl [0, 1, 2, 4] rfl) hw
        · have hw := hw.1 c11
          refine lv_iconst (v := (nI 1)) hx hb dX3_countOf_37 (by decide) ?_
          refine lv_goto (tgt := 42) hx hb dX3_countOf_38 (by decide) ?_
          exact hL42 k15 hk15 f_code v1 v2 v4 v3 (nI 1) _ _ _ hP hD hS (lv_sub hl [0, 1, 2, 4] rfl) hw
  refine lv_aload_n hx hb dX3_countOf_0 rfl (lv_at hl 0 rfl) ?_
  refine lv_iload_n hx hb dX3_countOf_1 rfl (lv_at hl 1 rfl) ?_
  refine k_wi (wn := fun (u : Int32) => (mdl ad dA f_isSaved f_changes u f_length f_fault f_signMany f_at f_place a_g a_kept a_saved a_input a_signs a_ways a_needs a_walk a_one a_several a_ragged a_nextLine)) (wr := []) (k_wV (As := [.int p0]) (rest := []) hSx (met_X3_isLost l D dA ad _ f_isSaved f_changes f_code f_length f_fault f_signMany f_at f_place a_g a_kept a_saved a_input a_signs a_ways a_needs a_walk a_one a_several a_ragged a_nextLine p0 _ hw) gX3_169 ⟨rfl, hd_X3_isLost⟩ ⟨Nat.le_of_ble_eq_true rfl, Nat.le_of_ble_eq_true rfl⟩ rfl rfl hP hK hD [0, 1, 2, 3, 4, 5, 6, 7, 8, 9, 10, 11, 12] rfl (by decide) rfl 0 rfl rfl rfl rfl hl.1 (Nat.le_of_ble_eq_true rfl) rfl dX3_countOf_2 ⟨Nat.le_refl 0, Nat.le_refl 0⟩) hP hD hS hA [0, 1, 2, 3, 4, 5, 6, 7, 8, 9, 10, 11, 12] [] [0, 1, 2, 3, 4, 5, 6, 7, 8, 9, 10, 11, 12] rfl rfl (by decide) (by decide) (by decide) (fun _ => rfl) (fun _ => rfl) (fun r12 u H locs hw _ hP hD hS => ?_)
  obtain ⟨f_code_13, rfl⟩ : ∃ z, z = u := ⟨_, rfl⟩
  have hP : va_P D vwCl (mdl ad dA f_isSaved f_changes f_code_13 f_length f_fault f_signMany f_at f_place a_g a_kept a_saved a_input a_signs a_ways a_needs a_walk a_one a_several a_ragged a_nextLine) H := hP
  have hD : va_D A (mdl ad dA f_isSaved f_changes f_code_13 f_length f_fault f_signMany f_at f_place a_g a_kept a_saved a_input a_signs a_ways a_needs a_walk a_one a_several a_ragged a_nextLine) := hD
  refine lv_if_eq (tgt := 10) hx hb dX3_countOf_5 (by decide) (fun c14 => ?_) (fun c14 => ?_)
  · have hw := hw.1 c14
    refine lv_iconst (v := (nI 0)) hx hb dX3_countOf_10 (by decide) ?_
    refine lv_istore_n (lv' := [(3, .int (nI 0)), (0, .ref (ad 0)), (1, .int p0), (2, .int p1)]) hx hb dX3_countOf_11 rfl hl (by decide) rfl (fun ls hl => ?_)
    refine lv_iconst (v := (nI 0)) hx hb dX3_countOf_12 (by decide) ?_
    refine lv_istore (lv' := [(4, .int (nI 0)), (3, .int (nI 0)), (0, .ref (ad 0)), (1, .int p0), (2, .int p1)]) hx hb dX3_countOf_13 hl (by decide) rfl (fun ls hl => ?_)
    obtain ⟨n, hw⟩ := hw
    exact hL15  n f_code_13 p0 p1 (nI 0) (nI 0) _ _ _ hP hD hS (lv_sub hl [2, 3, 4, 1, 0] rfl) hw
  · have hw := hw.2 c14
    refine lv_iconst (v := (nI 0)) hx hb dX3_countOf_8 (by decide) ?_
    exact W.iret (v := (nI 0)) hx hb hr (fun t ht hW => ⟨⟨(nI 0), f_code_13, rfl, hw, by rw [ht]; exact hP, va_K.moved hW.alike hK, hD⟩, hS.F ht⟩) hS.2.2 dX3_countOf_9
def rm_X3_areAlike : Room := { frames := 2, cells := 0, slots := 0, locals := 43 }
set_option maxHeartbeats 4000000 in
set_option maxRecDepth 100000 in
theorem met_X3_areAlike (l : Launch) (D : va_G) (dA : Nat → ClassId) (ad : Nat → Nat) (sz : Nat) (f_isSaved : Int32) (f_changes : Int32) (f_code : Int32) (f_length : Int32) (f_fault : Int32) (f_signMany : Int32) (f_at : Int32) (f_place : Int32) (a_g : (Nat → Int32)) (a_kept : (Nat → Int32)) (a_saved : (Nat → Int32)) (a_input : (Nat → Int32)) (a_signs : (Nat → Int32)) (a_ways : (Nat → Int64)) (a_needs : (Nat → Int32)) (a_walk : (Nat → Int32)) (a_one : (Nat → Int32)) (a_several : (Nat → Int32)) (a_ragged : (Nat → Int32)) (a_nextLine : (Nat → Int32)) (p0 : Int32) (p1 : Int32) (post : Int32 → Int32 → Prop) (hw : w_X3_areAlike post f_code a_g p0 p1) : Met l yX3_areAlike (ws_ yX3_areAlike cX3_areAlike 5 (some .boolean)) rm_X3_areAlike (va_Pc [.ref (ad 0), .int p0, .int p1] (wrB D dA sz (mdl ad dA f_isSaved f_changes f_code f_length f_fault f_signMany f_at f_place a_g a_kept a_saved a_input a_signs a_ways a_needs a_walk a_one a_several a_ragged a_nextLine))) (va_Qi (fun (r : Int32) (u : Int32) => post r u) (fun (u : Int32) t => wrQ D dA (va_A (mdl ad dA f_isSaved f_changes f_code f_length f_fault f_signMany f_at f_place a_g a_kept a_saved a_input a_signs a_ways a_needs a_walk a_one a_several a_ragged a_nextLine) sz) (mdl ad dA f_isSaved f_changes u f_length f_fault f_signMany f_at f_place a_g a_kept a_saved a_input a_signs a_ways a_needs a_walk a_one a_several a_ragged a_nextLine) t) (va_A (mdl ad dA f_isSaved f_changes f_code f_length f_fault f_signMany f_at f_place a_g a_kept a_saved a_input a_signs a_ways a_needs a_walk a_one a_several a_ragged a_nextLine) sz)) 0 0 (va_A (mdl ad dA f_isSaved f_changes f_code f_length f_fault f_signMany f_at f_place a_g a_kept a_saved a_input a_signs a_ways a_needs a_walk a_one a_several a_ragged a_nextLine) sz) := by
  refine Met.ofW (cc := cX3_areAlike) (maxL := 5) (ret := (some .boolean)) (by decide) rfl ?_
  intro p e s m args below meth c s₁ B hml hv
  obtain ⟨rfl, hsz, hP, hK, hD0⟩ := hv
  have hx := B.exec
  have hb := B.bytes
  have hr := B.returns
  have hts := atoms_spec (ws := (ws_ yX3_areAlike cX3_areAlike 5 (some .boolean))) B.pre
  have hts : ∀ w ∈ lw_all, w.before _ s = true := fun w h => hts w (List.mem_cons_of_mem _ h)
  have hown : s.vm.findClass RX3 = some m.cls := findClass_of_methodNamed B.named
  have hlocks := B.notSynchronized
  have hSx : CallFix p m c cX3_areAlike 5 s _ lw_all RX3 := ⟨hx, hb, hml, hown, hts⟩
  subst hsz
  have hD := hD0.self (sz := s.heap.size)
  generalize hAe : va_A (mdl ad dA f_isSaved f_changes f_code f_length f_fault f_signMany f_at f_place a_g a_kept a_saved a_input a_signs a_ways a_needs a_walk a_one a_several a_ragged a_nextLine) s.heap.size = A at hD ⊢
  have hA : ∀ q : Nat, s.heap.size ≤ q → A q := fun q h => by rw [← hAe]; exact Or.inr h
  have hS : va_S A s.heap s.heap [] := va_S.rf
  have hl := lv_entry ([.ref (ad 0), .int p0, .int p1]) (n := 5) (Nat.le_of_ble_eq_true rfl)
  rw [lg_entry_eq]
  generalize (lg_sl ([.ref (ad 0), .int p0, .int p1]) ++ List.replicate (5 - (lg_sl ([.ref (ad 0), .int p0, .int p1])).length) Slot.unset).toArray = ls at hl ⊢
  have hl : lv_has ls 5 [(0, .ref (ad 0)), (1, .int p0), (2, .int p1)] := hl
  have hL88 : ∀ (k52 : Int32 → Int32 → Int32 → Int32 → Int32 → Prop) (hk52 : ∀ (f_code : Int32) (v1 : Int32) (v2 : Int32) (v3 : Int32) (v4 : Int32) (H : Heap) (locs : List Loc) (ls : Array Slot), va_P D vwCl (mdl ad dA f_isSaved f_changes f_code f_length f_fault f_signMany f_at f_place a_g a_kept a_saved a_input a_signs a_ways a_needs a_walk a_one a_several a_ragged a_nextLine) H → va_D A (mdl ad dA f_isSaved f_changes f_code f_length f_fault f_signMany f_at f_place a_g a_kept a_saved a_input a_signs a_ways a_needs a_walk a_one a_several a_ragged a_nextLine) → va_S A s.heap H locs → lv_has ls 5 [(0, .ref (ad 0)), (1, .int v1), (2, .int v2), (3, .int v3), (4, .int v4)] → k52 f_code v1 v2 v3 v4 → W p l e (headSpec (ws_ yX3_areAlike cX3_areAlike 5 (some .boolean)) rm_X3_areAlike).room s m ([.ref (ad 0), .int p0, .int p1] : List Value).toArray below meth c H locs 0 0 (MQ below (va_Qi (fun (r : Int32) (u : Int32) => post r u) (fun (u : Int32) t => wrQ D dA A (mdl ad dA f_isSaved f_changes u f_length f_fault f_signMany f_at f_place a_g a_kept a_saved a_input a_signs a_ways a_needs a_walk a_one a_several a_ragged a_nextLine) t) A) ([.ref (ad 0), .int p0, .int p1] : List Value).toArray s 0 0 A) (F0 m 52 ls [])) (f_code : Int32) (v1 : Int32) (v2 : Int32) (v4 : Int32) (s0 : Int32) (H : Heap) (locs : List Loc) (ls : Array Slot), va_P D vwCl (mdl ad dA f_isSaved f_changes f_code f_length f_fault f_signMany f_at f_place a_g a_kept a_saved a_input a_signs a_ways a_needs a_walk a_one a_several a_ragged a_nextLine) H → va_D A (mdl ad dA f_isSaved f_changes f_code f_length f_fault f_signMany f_at f_place a_g a_kept a_saved a_input a_signs a_ways a_needs a_walk a_one a_several a_ragged a_nextLine) → va_S A s.heap H locs → lv_has ls 5 [(0, .ref (ad 0)), (1, .int v1), (2, .int v2), (4, .int v4)] → (w_X3_areAlike_88 post a_g k52) f_code v1 v2 v4 s0 → W p l e (headSpec (ws_ yX3_areAlike cX3_areAlike 5 (some .boolean)) rm_X3_areAlike).room s m ([.ref (ad 0), .int p0, .int p1] : List Value).toArray below meth c H locs 0 0 (MQ below (va_Qi (fun (r : Int32) (u : Int32) => post r u) (fun (u : Int32) t => wrQ D dA A (mdl ad dA f_isSaved f_changes u f_length f_fault f_signMany f_at f_place a_g a_kept a_saved a_input a_signs a_ways a_needs a_walk a_one a_several a_ragged a_nextLine) t) A) ([.ref (ad 0), .int p0, .int p1] : List Value).toArray s 0 0 A) (F0 m 88 ls [.int s0]) := by
      intro k52 hk52 f_code v1 v2 v4 s0 H locs ls hP hD hS hl hw
      refine lv_istore_n (lv' := [(3, .int s0), (0, .ref (ad 0)), (1, .int v1), (2, .int v2), (4, .int v4)]) hx hb dX3_areAlike_88 rfl hl (by decide) rfl (fun ls hl => ?_)
      refine lv_iinc (v := (v4 + (nI 1))) (lv' := [(4, .int (v4 + (nI 1))), (3, .int s0), (0, .ref (ad 0)), (1, .int v1), (2, .int v2)]) hx hb dX3_areAlike_89 hl (k := 4) rfl (congrArg (fun z => v4 + z) (by decide : Int32.ofInt (1) = (nI 1))) (by decide) rfl (fun ls hl => ?_)
      refine lv_goto (tgt := 52) hx hb dX3_areAlike_92 (by decide) ?_
      exact hk52 f_code v1 v2 s0 (v4 + (nI 1)) _ _ _ hP hD hS (lv_sub hl [2, 3, 4, 1, 0] rfl) hw
  have hL52 : ∀  (n : Nat) (f_code : Int32) (v1 : Int32) (v2 : Int32) (v3 : Int32) (v4 : Int32) (H : Heap) (locs : List Loc) (ls : Array Slot), va_P D vwCl (mdl ad dA f_isSaved f_changes f_code f_length f_fault f_signMany f_at f_place a_g a_kept a_saved a_input a_signs a_ways a_needs a_walk a_one a_several a_ragged a_nextLine) H → va_D A (mdl ad dA f_isSaved f_changes f_code f_length f_fault f_signMany f_at f_place a_g a_kept a_saved a_input a_signs a_ways a_needs a_walk a_one a_several a_ragged a_nextLine) → va_S A s.heap H locs → lv_has ls 5 [(0, .ref (ad 0)), (1, .int v1), (2, .int v2), (3, .int v3), (4, .int v4)] → lpF (fun _ _ _ _ _ => False) (w_X3_areAlike_52 post a_g) n f_code v1 v2 v3 v4 → W p l e (headSpec (ws_ yX3_areAlike cX3_areAlike 5 (some .boolean)) rm_X3_areAlike).room s m ([.ref (ad 0), .int p0, .int p1] : List Value).toArray below meth c H locs 0 0 (MQ below (va_Qi (fun (r : Int32) (u : Int32) => post r u) (fun (u : Int32) t => wrQ D dA A (mdl ad dA f_isSaved f_changes u f_length f_fault f_signMany f_at f_place a_g a_kept a_saved a_input a_signs a_ways a_needs a_walk a_one a_several a_ragged a_nextLine) t) A) ([.ref (ad 0), .int p0, .int p1] : List Value).toArray s 0 0 A) (F0 m 52 ls []) := by
    intro  n
    induction n with
    | zero => intro f_code v1 v2 v3 v4 H locs ls hP hD hS hl hw; exact absurd hw id
    | succ n hk52 =>
      intro f_code v1 v2 v3 v4 H locs ls hP hD hS hl hw
      generalize hk9 : lpF (fun _ _ _ _ _ => False) (w_X3_areAlike_52 post a_g) n = k52 at hk52
      have hw : (w_X3_areAlike_52 post a_g) k52 f_code v1 v2 v3 v4 := hk9 ▸ hw
      refine lv_iload hx hb dX3_areAlike_52 (lv_at hl 4 rfl) ?_
      refine lv_aload_n hx hb dX3_areAlike_54 rfl (lv_at hl 0 rfl) ?_
      refine lv_iload_n hx hb dX3_areAlike_55 rfl (lv_at hl 1 rfl) ?_
      refine k_ri (k_rV (As := [.int v1]) (rest := [.int v4]) hSx (met_X3_sizeOf l D dA ad f_isSaved f_changes f_code f_length f_fault f_signMany f_at f_place a_g a_kept a_saved a_input a_signs a_ways a_needs a_walk a_one a_several a_ragged a_nextLine v1 _ hw) gX3_179 ⟨rfl, hd_X3_sizeOf⟩ ⟨Nat.le_of_ble_eq_true rfl, Nat.le_of_ble_eq_true rfl⟩ rfl rfl hP hK [0, 1, 2, 3, 4, 5, 6, 7, 8, 9, 10, 11, 12] rfl 0 rfl rfl rfl rfl hl.1 (Nat.le_of_ble_eq_true rfl) rfl dX3_areAlike_56 ⟨Nat.le_refl 0, Nat.le_refl 0⟩) (fun r19 hw => ?_)
      refine lv_icmp_ge (tgt := 95) hx hb dX3_areAlike_59 (by decide) (fun c20 => ?_) (fun c20 => ?_)
      · have hw := hw.1 c20
        refine lv_iload_n hx hb dX3_areAlike_95 rfl (lv_at hl 3 rfl) ?_
        obtain ⟨h21, hw⟩ := hw
        exact W.zret (v := v3) hx hb hr (isB_n h21) (fun t ht hW => ⟨⟨v3, f_code, rfl, hw, by rw [ht]; exact hP, va_K.moved hW.alike hK, hD⟩, hS.F ht⟩) hS.2.2 dX3_areAlike_96
      · have hw := hw.2 c20
        refine lv_iload_n hx hb dX3_areAlike_62 rfl (lv_at hl 3 rfl) ?_
        refine lv_if_eq (tgt := 95) hx hb dX3_areAlike_63 (by decide) (fun c22 => ?_) (fun c22 => ?_)
        · have hw := hw.1 c22
          refine lv_iload_n hx hb dX3_areAlike_95 rfl (lv_at hl 3 rfl) ?_
          obtain ⟨h23, hw⟩ := hw
          exact W.zret (v := v3) hx hb hr (isB_n h23) (fun t ht hW => ⟨⟨v3, f_code, rfl, hw, by rw [ht]; exact hP, va_K.moved hW.alike hK, hD⟩, hS.F ht⟩) hS.2.2 dX3_areAlike_96
        · have hw := hw.2 c22
          refine lv_aload_n hx hb dX3_areAlike_66 rfl (lv_at hl 0 rfl) ?_
          refine lv_iload_n hx hb dX3_areAlike_67 rfl (lv_at hl 1 rfl) ?_
          refine lv_iload hx hb dX3_areAlike_68 (lv_at hl 4 rfl) ?_
          refine k_ri (k_rV (As := [.int v1, .int v4]) (rest := []) hSx (met_X3_signOf l D dA ad f_isSaved f_changes f_code f_length f_fault f_signMany f_at f_place a_g a_kept a_saved a_input a_signs a_ways a_needs a_walk a_one a_several a_ragged a_nextLine v1 v4 _ hw) gX3_163 ⟨rfl, hd_X3_signOf⟩ ⟨Nat.le_of_ble_eq_true rfl, Nat.le_of_ble_eq_true rfl⟩ rfl rfl hP hK [0, 1, 2, 3, 4, 5, 6, 7, 8, 9, 10, 11, 12] rfl 0 rfl rfl rfl rfl hl.1 (Nat.le_of_ble_eq_true rfl) rfl dX3_areAlike_70 ⟨Nat.le_refl 0, Nat.le_refl 0⟩) (fun r24 hw => ?_)
          refine lv_aload_n hx hb dX3_areAlike_73 rfl (lv_at hl 0 rfl) ?_
          refine lv_iload_n hx hb dX3_areAlike_74 rfl (lv_at hl 2 rfl) ?_
          refine lv_iload hx hb dX3_areAlike_75 (lv_at hl 4 rfl) ?_
          refine k_ri (k_rV (As := [.int v2, .int v4]) (rest := [.int r24]) hSx (met_X3_signOf l D dA ad f_isSaved f_changes f_code f_length f_fault f_signMany f_at f_place a_g a_kept a_saved a_input a_signs a_ways a_needs a_walk a_one a_several a_ragged a_nextLine v2 v4 _ hw) gX3_163 ⟨rfl, hd_X3_signOf⟩ ⟨Nat.le_of_ble_eq_true rfl, Nat.le_of_ble_eq_true rfl⟩ rfl rfl hP hK [0, 1, 2, 3, 4, 5, 6, 7, 8, 9, 10, 11, 12] rfl 0 rfl rfl rfl rfl hl.1 (Nat.le_of_ble_eq_true rfl) rfl dX3_areAlike_77 ⟨Nat.le_refl 0, Nat.le_refl 0⟩) (fun r25 hw => ?_)
          refine lv_icmp_ne (tgt := 87) hx hb dX3_areAlike_80 (by decide) (fun c26 => ?_) (fun c26 => ?_)
          · have hw := hw.2 c26
            refine lv_iconst (v := (nI 0)) hx hb dX3_areAlike_87 (by decide) ?_
            exact hL88 k52 hk52 f_code v1 v2 v4 (nI 0) _ _ _ hP hD hS (lv_sub hl [0, 1, 2, 4] rfl) hw
          · have hw := hw.1 c26
            refine lv_iconst (v := (nI 1)) hx hb dX3_areAlike_83 (by decide) ?_
            refine lv_goto (tgt := 88) hx hb dX3_areAlike_84 (by decide) ?_
            exact hL88 k52 hk52 f_code v1 v2 v4 (nI 1) _ _ _ hP hD hS (lv_sub hl [0, 1, 2, 4] rfl) hw
  have hL48 : ∀  (f_code : Int32) (v1 : Int32) (v2 : Int32) (s0 : Int32) (H : Heap) (locs : List Loc) (ls : Array Slot), va_P D vwCl (mdl ad dA f_isSaved f_changes f_code f_length f_fault f_signMany f_at f_place a_g a_kept a_saved a_input a_signs a_ways a_needs a_walk a_one a_several a_ragged a_nextLine) H → va_D A (mdl ad dA f_isSaved f_changes f_code f_length f_fault f_signMany f_at f_place a_g a_kept a_saved a_input a_signs a_ways a_needs a_walk a_one a_several a_ragged a_nextLine) → va_S A s.heap H locs → lv_has ls 5 [(0, .ref (ad 0)), (1, .int v1), (2, .int v2)] → (w_X3_areAlike_48 post a_g) f_code v1 v2 s0 → W p l e (headSpec (ws_ yX3_areAlike cX3_areAlike 5 (some .boolean)) rm_X3_areAlike).room s m ([.ref (ad 0), .int p0, .int p1] : List Value).toArray below meth c H locs 0 0 (MQ below (va_Qi (fun (r : Int32) (u : Int32) => post r u) (fun (u : Int32) t => wrQ D dA A (mdl ad dA f_isSaved f_changes u f_length f_fault f_signMany f_at f_place a_g a_kept a_saved a_input a_signs a_ways a_needs a_walk a_one a_several a_ragged a_nextLine) t) A) ([.ref (ad 0), .int p0, .int p1] : List Value).toArray s 0 0 A) (F0 m 48 ls [.int s0]) := by
      intro  f_code v1 v2 s0 H locs ls hP hD hS hl hw
      refine lv_istore_n (lv' := [(3, .int s0), (0, .ref (ad 0)), (1, .int v1), (2, .int v2)]) hx hb dX3_areAlike_48 rfl hl (by decide) rfl (fun ls hl => ?_)
      refine lv_iconst (v := (nI 0)) hx hb dX3_areAlike_49 (by decide) ?_
      refine lv_istore (lv' := [(4, .int (nI 0)), (3, .int s0), (0, .ref (ad 0)), (1, .int v1), (2, .int v2)]) hx hb dX3_areAlike_50 hl (by decide) rfl (fun ls hl => ?_)
      obtain ⟨n, hw⟩ := hw
      exact hL52  n f_code v1 v2 s0 (nI 0) _ _ _ hP hD hS (lv_sub hl [2, 3, 4, 1, 0] rfl) hw
  have hL22 : ∀  (f_code : Int32) (v1 : Int32) (v2 : Int32) (s1 : Int32) (H : Heap) (locs : List Loc) (ls : Array Slot), va_P D vwCl (mdl ad dA f_isSaved f_changes f_code f_length f_fault f_signMany f_at f_place a_g a_kept a_saved a_input a_signs a_ways a_needs a_walk a_one a_several a_ragged a_nextLine) H → va_D A (mdl ad dA f_isSaved f_changes f_code f_length f_fault f_signMany f_at f_place a_g a_kept a_saved a_input a_signs a_ways a_needs a_walk a_one a_several a_ragged a_nextLine) → va_S A s.heap H locs → lv_has ls 5 [(0, .ref (ad 0)), (1, .int v1), (2, .int v2)] → (w_X3_areAlike_22 post a_g) f_code v1 v2 s1 → W p l e (headSpec (ws_ yX3_areAlike cX3_areAlike 5 (some .boolean)) rm_X3_areAlike).room s m ([.ref (ad 0), .int p0, .int p1] : List Value).toArray below meth c H locs 0 0 (MQ below (va_Qi (fun (r : Int32) (u : Int32) => post r u) (fun (u : Int32) t => wrQ D dA A (mdl ad dA f_isSaved f_changes u f_length f_fault f_signMany f_at f_place a_g a_kept a_saved a_input a_signs a_ways a_needs a_walk a_one a_several a_ragged a_nextLine) t) A) ([.ref (ad 0), .int p0, .int p1] : List Value).toArray s 0 0 A) (F0 m 22 ls [.int s1, .ref (ad 0)]) := by
      intro  f_code v1 v2 s1 H locs ls hP hD hS hl hw
      refine k_wi (wn := fun (u : Int32) => (mdl ad dA f_isSaved f_changes u f_length f_fault f_signMany f_at f_place a_g a_kept a_saved a_input a_signs a_ways a_needs a_walk a_one a_several a_ragged a_nextLine)) (wr := []) (k_wV (As := [.int s1]) (rest := []) hSx (met_X3_fails l D dA ad _ f_isSaved f_changes f_code f_length f_fault f_signMany f_at f_place a_g a_kept a_saved a_input a_signs a_ways a_needs a_walk a_one a_several a_ragged a_nextLine s1 _ hw) gX3_70 ⟨rfl, hd_X3_fails⟩ ⟨Nat.le_of_ble_eq_true rfl, Nat.le_of_ble_eq_true rfl⟩ rfl rfl hP hK hD [0, 1, 2, 3, 4, 5, 6, 7, 8, 9, 10, 11, 12] rfl (by decide) rfl 0 rfl rfl rfl rfl hl.1 (Nat.le_of_ble_eq_true rfl) rfl dX3_areAlike_22 ⟨Nat.le_refl 0, Nat.le_refl 0⟩) hP hD hS hA [0, 1, 2, 3, 4, 5, 6, 7, 8, 9, 10, 11, 12] [] [0, 1, 2, 3, 4, 5, 6, 7, 8, 9, 10, 11, 12] rfl rfl (by decide) (by decide) (by decide) (fun _ => rfl) (fun _ => rfl) (fun r27 u H locs hw _ hP hD hS => ?_)
      obtain ⟨f_code_28, rfl⟩ : ∃ z, z = u := ⟨_, rfl⟩
      have hP : va_P D vwCl (mdl ad dA f_isSaved f_changes f_code_28 f_length f_fault f_signMany f_at f_place a_g a_kept a_saved a_input a_signs a_ways a_needs a_walk a_one a_several a_ragged a_nextLine) H := hP
      have hD : va_D A (mdl ad dA f_isSaved f_changes f_code_28 f_length f_fault f_signMany f_at f_place a_g a_kept a_saved a_input a_signs a_ways a_needs a_walk a_one a_several a_ragged a_nextLine) := hD
      refine lv_if_eq (tgt := 30) hx hb dX3_areAlike_25 (by decide) (fun c29 => ?_) (fun c29 => ?_)
      · have hw := hw.1 c29
        refine lv_aload_n hx hb dX3_areAlike_30 rfl (lv_at hl 0 rfl) ?_
        refine lv_iload_n hx hb dX3_areAlike_31 rfl (lv_at hl 1 rfl) ?_
        refine k_ri (k_rV (As := [.int v1]) (rest := []) hSx (met_X3_sizeOf l D dA ad f_isSaved f_changes f_code_28 f_length f_fault f_signMany f_at f_place a_g a_kept a_saved a_input a_signs a_ways a_needs a_walk a_one a_several a_ragged a_nextLine v1 _ hw) gX3_179 ⟨rfl, hd_X3_sizeOf⟩ ⟨Nat.le_of_ble_eq_true rfl, Nat.le_of_ble_eq_true rfl⟩ rfl rfl hP hK [0, 1, 2, 3, 4, 5, 6, 7, 8, 9, 10, 11, 12] rfl 0 rfl rfl rfl rfl hl.1 (Nat.le_of_ble_eq_true rfl) rfl dX3_areAlike_32 ⟨Nat.le_refl 0, Nat.le_refl 0⟩) (fun r30 hw => ?_)
        refine lv_aload_n hx hb dX3_areAlike_35 rfl (lv_at hl 0 rfl) ?_
        refine lv_iload_n hx hb dX3_areAlike_36 rfl (lv_at hl 2 rfl) ?_
        refine k_ri (k_rV (As := [.int v2]) (rest := [.int r30]) hSx (met_X3_sizeOf l D dA ad f_isSaved f_changes f_code_28 f_length f_fault f_signMany f_at f_place a_g a_kept a_saved a_input a_signs a_ways a_needs a_walk a_one a_several a_ragged a_nextLine v2 _ hw) gX3_179 ⟨rfl, hd_X3_sizeOf⟩ ⟨Nat.le_of_ble_eq_true rfl, Nat.le_of_ble_eq_true rfl⟩ rfl rfl hP hK [0, 1, 2, 3, 4, 5, 6, 7, 8, 9, 10, 11, 12] rfl 0 rfl rfl rfl rfl hl.1 (Nat.le_of_ble_eq_true rfl) rfl dX3_areAlike_37 ⟨Nat.le_refl 0, Nat.le_refl 0⟩) (fun r31 hw => ?_)
        refine lv_icmp_ne (tgt := 47) hx hb dX3_areAlike_40 (by decide) (fun c32 => ?_) (fun c32 => ?_)
        · have hw := hw.2 c32
          refine lv_iconst (v := (nI 0)) hx hb dX3_areAlike_47 (by decide) ?_
          exact hL48  f_code_28 v1 v2 (nI 0) _ _ _ hP hD hS (lv_sub hl [0, 1, 2] rfl) hw
        · have hw := hw.1 c32
          refine lv_iconst (v := (nI 1)) hx hb dX3_areAlike_43 (by decide) ?_
          refine lv_goto (tgt := 48) hx hb dX3_areAlike_44 (by decide) ?_
          exact hL48  f_code_28 v1 v2 (nI 1) _ _ _ hP hD hS (lv_sub hl [0, 1, 2] rfl) hw
      · have hw := hw.2 c29
        refine lv_iconst (v := (nI 0)) hx hb dX3_areAlike_28 (by decide) ?_
        exact W.zret (v := (nI 0)) hx hb hr rfl (fun t ht hW => ⟨⟨(nI 0), f_code_28, rfl, hw, by rw [ht]; exact hP, va_K.moved hW.alike hK, hD⟩, hS.F ht⟩) hS.2.2 dX3_areAlike_29
  have hL21 : ∀  (f_code : Int32) (v1 : Int32) (v2 : Int32) (H : Heap) (locs : List Loc) (ls : Array Slot), va_P D vwCl (mdl ad dA f_isSaved f_changes f_code f_length f_fault f_signMany f_at f_place a_g a_kept a_saved a_input a_signs a_ways a_needs a_walk a_one a_several a_ragged a_nextLine) H → va_D A (mdl ad dA f_isSaved f_changes f_code f_length f_fault f_signMany f_at f_place a_g a_kept a_saved a_input a_signs a_ways a_needs a_walk a_one a_several a_ragged a_nextLine) → va_S A s.heap H locs → lv_has ls 5 [(0, .ref (ad 0)), (1, .int v1), (2, .int v2)] → (w_X3_areAlike_21 post a_g) f_code v1 v2 → W p l e (headSpec (ws_ yX3_areAlike cX3_areAlike 5 (some .boolean)) rm_X3_areAlike).room s m ([.ref (ad 0), .int p0, .int p1] : List Value).toArray below meth c H locs 0 0 (MQ below (va_Qi (fun (r : Int32) (u : Int32) => post r u) (fun (u : Int32) t => wrQ D dA A (mdl ad dA f_isSaved f_changes u f_length f_fault f_signMany f_at f_place a_g a_kept a_saved a_input a_signs a_ways a_needs a_walk a_one a_several a_ragged a_nextLine) t) A) ([.ref (ad 0), .int p0, .int p1] : List Value).toArray s 0 0 A) (F0 m 21 ls [.ref (ad 0)]) := by
      intro  f_code v1 v2 H locs ls hP hD hS hl hw
      refine lv_iconst (v := (nI 1)) hx hb dX3_areAlike_21 (by decide) ?_
      exact hL22  f_code v1 v2 (nI 1) _ _ _ hP hD hS (lv_sub hl [0, 1, 2] rfl) hw
  refine lv_aload_n hx hb dX3_areAlike_0 rfl (lv_at hl 0 rfl) ?_
  refine lv_aload_n hx hb dX3_areAlike_1 rfl (lv_at hl 0 rfl) ?_
  refine lv_iload_n hx hb dX3_areAlike_2 rfl (lv_at hl 1 rfl) ?_
  refine k_ri (k_rV (As := [.int p0]) (rest := [.ref (ad 0)]) hSx (met_X3_isKept l D dA ad f_isSaved f_changes f_code f_length f_fault f_signMany f_at f_place a_g a_kept a_saved a_input a_signs a_ways a_needs a_walk a_one a_several a_ragged a_nextLine p0 _ hw) gX3_151 ⟨rfl, hd_X3_isKept⟩ ⟨Nat.le_of_ble_eq_true rfl, Nat.le_of_ble_eq_true rfl⟩ rfl rfl hP hK [0, 1, 2, 3, 4, 5, 6, 7, 8, 9, 10, 11, 12] rfl 0 rfl rfl rfl rfl hl.1 (Nat.le_of_ble_eq_true rfl) rfl dX3_areAlike_3 ⟨Nat.le_refl 0, Nat.le_refl 0⟩) (fun r33 hw => ?_)
  refine lv_if_eq (tgt := 21) hx hb dX3_areAlike_6 (by decide) (fun c34 => ?_) (fun c34 => ?_)
  · have hw := hw.1 c34
    exact hL21  f_code p0 p1 _ _ _ hP hD hS (lv_sub hl [0, 1, 2] rfl) hw
  · have hw := hw.2 c34
    refine lv_aload_n hx hb dX3_areAlike_9 rfl (lv_at hl 0 rfl) ?_
    refine lv_iload_n hx hb dX3_areAlike_10 rfl (lv_at hl 2 rfl) ?_
    refine k_ri (k_rV (As := [.int p1]) (rest := [.ref (ad 0)]) hSx (met_X3_isKept l D dA ad f_isSaved f_changes f_code f_length f_fault f_signMany f_at f_place a_g a_kept a_saved a_input a_signs a_ways a_needs a_walk a_one a_several a_ragged a_nextLine p1 _ hw) gX3_151 ⟨rfl, hd_X3_isKept⟩ ⟨Nat.le_of_ble_eq_true rfl, Nat.le_of_ble_eq_true rfl⟩ rfl rfl hP hK [0, 1, 2, 3, 4, 5, 6, 7, 8, 9, 10, 11, 12] rfl 0 rfl rfl rfl rfl hl.1 (Nat.le_of_ble_eq_true rfl) rfl dX3_areAlike_11 ⟨Nat.le_refl 0, Nat.le_refl 0⟩) (fun r35 hw => ?_)
    refine lv_if_eq (tgt := 21) hx hb dX3_areAlike_14 (by decide) (fun c36 => ?_) (fun c36 => ?_)
    · have hw := hw.1 c36
      exact hL21  f_code p0 p1 _ _ _ hP hD hS (lv_sub hl [0, 1, 2] rfl) hw
    · have hw := hw.2 c36
      refine lv_iconst (v := (nI 0)) hx hb dX3_areAlike_17 (by decide) ?_
      refine lv_goto (tgt := 22) hx hb dX3_areAlike_18 (by decide) ?_
      exact hL22  f_code p0 p1 (nI 0) _ _ _ hP hD hS (lv_sub hl [0, 1, 2] rfl) hw
