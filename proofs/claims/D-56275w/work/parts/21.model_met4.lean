/-! THE MODEL: its contracts, walked (printed by wip/D-56275w/gen/model.py) -/
def rm_X3_undo : Room := { frames := 1, cells := 0, slots := 0, locals := 24 }
set_option maxHeartbeats 4000000 in
set_option maxRecDepth 100000 in
theorem met_X3_undo (l : Launch) (D : va_G) (dA : Nat → ClassId) (ad : Nat → Nat) (sz : Nat) (f_isSaved : Int32) (f_changes : Int32) (f_code : Int32) (f_length : Int32) (f_fault : Int32) (f_signMany : Int32) (f_at : Int32) (f_place : Int32) (a_g : (Nat → Int32)) (a_kept : (Nat → Int32)) (a_saved : (Nat → Int32)) (a_input : (Nat → Int32)) (a_signs : (Nat → Int32)) (a_ways : (Nat → Int64)) (a_needs : (Nat → Int32)) (a_walk : (Nat → Int32)) (a_one : (Nat → Int32)) (a_several : (Nat → Int32)) (a_ragged : (Nat → Int32)) (a_nextLine : (Nat → Int32))  (post : Int32 → Int32 → Int32 → (Nat → Int32) → Prop) (hw : w_X3_undo post f_changes f_code a_g a_kept) : Met l yX3_undo (ws_ yX3_undo cX3_undo 1 (some .int)) rm_X3_undo (va_Pc [.ref (ad 0)] (wrB D dA sz (mdl ad dA f_isSaved f_changes f_code f_length f_fault f_signMany f_at f_place a_g a_kept a_saved a_input a_signs a_ways a_needs a_walk a_one a_several a_ragged a_nextLine))) (va_Qi (fun (r : Int32) (u : Int32 × Int32 × (Nat → Int32)) => post r u.1 u.2.1 u.2.2) (fun (u : Int32 × Int32 × (Nat → Int32)) t => wrQ D dA (va_A (mdl ad dA f_isSaved f_changes f_code f_length f_fault f_signMany f_at f_place a_g a_kept a_saved a_input a_signs a_ways a_needs a_walk a_one a_several a_ragged a_nextLine) sz) (mdl ad dA f_isSaved u.1 u.2.1 f_length f_fault f_signMany f_at f_place u.2.2 a_kept a_saved a_input a_signs a_ways a_needs a_walk a_one a_several a_ragged a_nextLine) t) (va_A (mdl ad dA f_isSaved f_changes f_code f_length f_fault f_signMany f_at f_place a_g a_kept a_saved a_input a_signs a_ways a_needs a_walk a_one a_several a_ragged a_nextLine) sz)) 0 0 (va_A (mdl ad dA f_isSaved f_changes f_code f_length f_fault f_signMany f_at f_place a_g a_kept a_saved a_input a_signs a_ways a_needs a_walk a_one a_several a_ragged a_nextLine) sz) := by
  refine Met.ofW (cc := cX3_undo) (maxL := 1) (ret := (some .int)) (by decide) rfl ?_
  intro p e s m args below meth c s₁ B hml hv
  obtain ⟨rfl, hsz, hP, hK, hD0⟩ := hv
  have hx := B.exec
  have hb := B.bytes
  have hr := B.returns
  have hts := atoms_spec (ws := (ws_ yX3_undo cX3_undo 1 (some .int))) B.pre
  have hts : ∀ w ∈ lw_all, w.before _ s = true := fun w h => hts w (List.mem_cons_of_mem _ h)
  have hown : s.vm.findClass RX3 = some m.cls := findClass_of_methodNamed B.named
  have hlocks := B.notSynchronized
  have hSx : CallFix p m c cX3_undo 1 s _ lw_all RX3 := ⟨hx, hb, hml, hown, hts⟩
  subst hsz
  have hD := hD0.self (sz := s.heap.size)
  generalize hAe : va_A (mdl ad dA f_isSaved f_changes f_code f_length f_fault f_signMany f_at f_place a_g a_kept a_saved a_input a_signs a_ways a_needs a_walk a_one a_several a_ragged a_nextLine) s.heap.size = A at hD ⊢
  have hA : ∀ q : Nat, s.heap.size ≤ q → A q := fun q h => by rw [← hAe]; exact Or.inr h
  have hS : va_S A s.heap s.heap [] := va_S.rf
  have hl := lv_entry ([.ref (ad 0)]) (n := 1) (Nat.le_of_ble_eq_true rfl)
  rw [lg_entry_eq]
  generalize (lg_sl ([.ref (ad 0)]) ++ List.replicate (1 - (lg_sl ([.ref (ad 0)])).length) Slot.unset).toArray = ls at hl ⊢
  have hl : lv_has ls 1 [(0, .ref (ad 0))] := hl
  have hL13 : ∀  (f_changes : Int32) (f_code : Int32) (a_g : (Nat → Int32)) (s1 : Int32) (H : Heap) (locs : List Loc) (ls : Array Slot), va_P D vwCl (mdl ad dA f_isSaved f_changes f_code f_length f_fault f_signMany f_at f_place a_g a_kept a_saved a_input a_signs a_ways a_needs a_walk a_one a_several a_ragged a_nextLine) H → va_D A (mdl ad dA f_isSaved f_changes f_code f_length f_fault f_signMany f_at f_place a_g a_kept a_saved a_input a_signs a_ways a_needs a_walk a_one a_several a_ragged a_nextLine) → va_S A s.heap H locs → lv_has ls 1 [(0, .ref (ad 0))] → (w_X3_undo_13 post a_kept) f_changes f_code a_g s1 → W p l e (headSpec (ws_ yX3_undo cX3_undo 1 (some .int)) rm_X3_undo).room s m ([.ref (ad 0)] : List Value).toArray below meth c H locs 0 0 (MQ below (va_Qi (fun (r : Int32) (u : Int32 × Int32 × (Nat → Int32)) => post r u.1 u.2.1 u.2.2) (fun (u : Int32 × Int32 × (Nat → Int32)) t => wrQ D dA A (mdl ad dA f_isSaved u.1 u.2.1 f_length f_fault f_signMany f_at f_place u.2.2 a_kept a_saved a_input a_signs a_ways a_needs a_walk a_one a_several a_ragged a_nextLine) t) A) ([.ref (ad 0)] : List Value).toArray s 0 0 A) (F0 m 13 ls [.int s1, .ref (ad 0)]) := by
      intro  f_changes f_code a_g s1 H locs ls hP hD hS hl hw
      refine k_wi (wn := fun (u : Int32) => (mdl ad dA f_isSaved f_changes u f_length f_fault f_signMany f_at f_place a_g a_kept a_saved a_input a_signs a_ways a_needs a_walk a_one a_several a_ragged a_nextLine)) (wr := []) (k_wV (As := [.int s1]) (rest := []) hSx (met_X3_fails l D dA ad _ f_isSaved f_changes f_code f_length f_fault f_signMany f_at f_place a_g a_kept a_saved a_input a_signs a_ways a_needs a_walk a_one a_several a_ragged a_nextLine s1 _ hw) gX3_70 ⟨rfl, hd_X3_fails⟩ ⟨Nat.le_of_ble_eq_true rfl, Nat.le_of_ble_eq_true rfl⟩ rfl rfl hP hK hD [0, 1, 2, 3, 4, 5, 6, 7, 8, 9, 10, 11, 12] rfl (by decide) rfl 0 rfl rfl rfl rfl hl.1 (Nat.le_of_ble_eq_true rfl) rfl dX3_undo_13 ⟨Nat.le_refl 0, Nat.le_refl 0⟩) hP hD hS hA [0, 1, 2, 3, 4, 5, 6, 7, 8, 9, 10, 11, 12] [] [0, 1, 2, 3, 4, 5, 6, 7, 8, 9, 10, 11, 12] rfl rfl (by decide) (by decide) (by decide) (fun _ => rfl) (fun _ => rfl) (fun r6 u H locs hw _ hP hD hS => ?_)
      obtain ⟨f_code_7, rfl⟩ : ∃ z, z = u := ⟨_, rfl⟩
      have hP : va_P D vwCl (mdl ad dA f_isSaved f_changes f_code_7 f_length f_fault f_signMany f_at f_place a_g a_kept a_saved a_input a_signs a_ways a_needs a_walk a_one a_several a_ragged a_nextLine) H := hP
      have hD : va_D A (mdl ad dA f_isSaved f_changes f_code_7 f_length f_fault f_signMany f_at f_place a_g a_kept a_saved a_input a_signs a_ways a_needs a_walk a_one a_several a_ragged a_nextLine) := hD
      refine lv_if_eq (tgt := 21) hx hb dX3_undo_16 (by decide) (fun c8 => ?_) (fun c8 => ?_)
      · have hw := hw.1 c8
        refine lv_aload_n hx hb dX3_undo_21 rfl (lv_at hl 0 rfl) ?_
        refine lv_dup hx hb dX3_undo_22 rfl ?_
        refine va_get (D := D) (ci := 2) (v := .int f_changes) (C := RX3) (T := TX3) (N := 20) hx hb hts in_X3 hown hK hP 0 rfl rfl 4 (by decide) (hts _ q1745) (fun _ h9 => h9) rfl dX3_undo_23 ?_
        refine lv_iconst (v := (nI 1)) hx hb dX3_undo_26 (by decide) ?_
        refine lv_isub hx hb dX3_undo_27 ?_
        refine va_put (D := D) (ci := 2) (v := .int (f_changes - (nI 1))) (ty := .int) (C := RX3) (T := TX3) (N := 20) hx hb hts in_X3 tyX3 tyX3_ok nmX3 hown hK hP hD hS 0 rfl rfl 4 (by decide) (hts _ q1745) (fun _ h9 => h9) rfl (by decide +kernel) rfl rfl (Nat.le_of_ble_eq_true rfl) dX3_undo_28 (fun H locs hP hD hS => ?_)
        have hP : va_P D vwCl (mdl ad dA f_isSaved (f_changes - (nI 1)) f_code_7 f_length f_fault f_signMany f_at f_place a_g a_kept a_saved a_input a_signs a_ways a_needs a_walk a_one a_several a_ragged a_nextLine) H := hP
        have hD : va_D A (mdl ad dA f_isSaved (f_changes - (nI 1)) f_code_7 f_length f_fault f_signMany f_at f_place a_g a_kept a_saved a_input a_signs a_ways a_needs a_walk a_one a_several a_ragged a_nextLine) := hD
        refine lv_aload_n hx hb dX3_undo_31 rfl (lv_at hl 0 rfl) ?_
        refine va_get (D := D) (ci := 2) (v := .ref (ad 2)) (C := RX3) (T := TX3) (N := 20) hx hb hts in_X3 hown hK hP 0 rfl rfl 1 (by decide) (hts _ q1742) (fun _ h9 => h9) rfl dX3_undo_32 ?_
        refine lv_sipush (v := (nI 188)) hx hb dX3_undo_35 (by decide) ?_
        refine lv_aload_n hx hb dX3_undo_38 rfl (lv_at hl 0 rfl) ?_
        refine va_get (D := D) (ci := 2) (v := .int (f_changes - (nI 1))) (C := RX3) (T := TX3) (N := 20) hx hb hts in_X3 hown hK hP 0 rfl rfl 4 (by decide) (hts _ q1745) (fun _ h9 => h9) rfl dX3_undo_39 ?_
        refine lv_imul hx hb dX3_undo_42 ?_
        refine lv_aload_n hx hb dX3_undo_43 rfl (lv_at hl 0 rfl) ?_
        refine va_get (D := D) (ci := 2) (v := .ref (ad 1)) (C := RX3) (T := TX3) (N := 20) hx hb hts in_X3 hown hK hP 0 rfl rfl 0 (by decide) (hts _ q1741) (fun _ h9 => h9) rfl dX3_undo_44 ?_
        refine lv_iconst (v := (nI 0)) hx hb dX3_undo_47 (by decide) ?_
        refine k_wv (wn := fun (u : (Nat → Int32)) => (mdl ad dA f_isSaved (f_changes - (nI 1)) f_code_7 f_length f_fault f_signMany f_at f_place u a_kept a_saved a_input a_signs a_ways a_needs a_walk a_one a_several a_ragged a_nextLine)) (wr := (([0, 3, 4, 5, 6, 7, 8, 9, 10, 11, 12] : List Nat).filterMap (fun i => (mdl ad dA f_isSaved (f_changes - (nI 1)) f_code_7 f_length f_fault f_signMany f_at f_place (fun _ => 0) a_kept a_saved a_input a_signs a_ways a_needs a_walk a_one a_several a_ragged a_nextLine)[i]?))) (k_wS (As := [.ref (ad 2), .int ((nI 188) * (f_changes - (nI 1))), .ref (ad 1), .int (nI 0)]) (rest := []) hSx (met_X3_copies l D dA (ad 2) (ad 1) 1504 188 _ a_kept a_g ((nI 188) * (f_changes - (nI 1))) (nI 0) _ hw) gX3_58 hd_X3_copies ⟨Nat.le_of_ble_eq_true rfl, Nat.le_of_ble_eq_true rfl⟩ rfl rfl hP hK hD [2, 1] rfl (by decide) rfl rfl hl.1 (Nat.le_of_ble_eq_true rfl) rfl dX3_undo_48 ⟨Nat.le_refl 0, Nat.le_refl 0⟩) hP hD hS hA [2, 1] [0, 3, 4, 5, 6, 7, 8, 9, 10, 11, 12] [0, 12, 11, 1, 2, 3, 4, 5, 6, 7, 8, 9, 10] rfl rfl (by decide) (by decide) (by decide) (fun _ => rfl) (fun _ => rfl) (fun u H locs hw _ hP hD hS => ?_)
        obtain ⟨a_g_9, rfl⟩ : ∃ z, z = u := ⟨_, rfl⟩
        have hP : va_P D vwCl (mdl ad dA f_isSaved (f_changes - (nI 1)) f_code_7 f_length f_fault f_signMany f_at f_place a_g_9 a_kept a_saved a_input a_signs a_ways a_needs a_walk a_one a_several a_ragged a_nextLine) H := hP
        have hD : va_D A (mdl ad dA f_isSaved (f_changes - (nI 1)) f_code_7 f_length f_fault f_signMany f_at f_place a_g_9 a_kept a_saved a_input a_signs a_ways a_needs a_walk a_one a_several a_ragged a_nextLine) := hD
        refine lv_aload_n hx hb dX3_undo_51 rfl (lv_at hl 0 rfl) ?_
        refine va_get (D := D) (ci := 2) (v := .int (f_changes - (nI 1))) (C := RX3) (T := TX3) (N := 20) hx hb hts in_X3 hown hK hP 0 rfl rfl 4 (by decide) (hts _ q1745) (fun _ h9 => h9) rfl dX3_undo_52 ?_
        exact W.iret (v := (f_changes - (nI 1))) hx hb hr (fun t ht hW => ⟨⟨(f_changes - (nI 1)), ((f_changes - (nI 1)), f_code_7, a_g_9), rfl, hw, by rw [ht]; exact hP, va_K.moved hW.alike hK, hD⟩, hS.F ht⟩) hS.2.2 dX3_undo_55
      · have hw := hw.2 c8
        refine lv_iconst (v := (nI 0)) hx hb dX3_undo_19 (by decide) ?_
        exact W.iret (v := (nI 0)) hx hb hr (fun t ht hW => ⟨⟨(nI 0), (f_changes, f_code_7, a_g), rfl, hw, by rw [ht]; exact hP, va_K.moved hW.alike hK, hD⟩, hS.F ht⟩) hS.2.2 dX3_undo_20
  refine lv_aload_n hx hb dX3_undo_0 rfl (lv_at hl 0 rfl) ?_
  refine lv_aload_n hx hb dX3_undo_1 rfl (lv_at hl 0 rfl) ?_
  refine va_get (D := D) (ci := 2) (v := .int f_changes) (C := RX3) (T := TX3) (N := 20) hx hb hts in_X3 hown hK hP 0 rfl rfl 4 (by decide) (hts _ q1745) (fun _ h9 => h9) rfl dX3_undo_2 ?_
  refine lv_if_ne (tgt := 12) hx hb dX3_undo_5 (by decide) (fun c10 => ?_) (fun c10 => ?_)
  · have hw := hw.2 c10
    refine lv_iconst (v := (nI 0)) hx hb dX3_undo_12 (by decide) ?_
    exact hL13  f_changes f_code a_g (nI 0) _ _ _ hP hD hS (lv_sub hl [0] rfl) hw
  · have hw := hw.1 c10
    refine lv_iconst (v := (nI 1)) hx hb dX3_undo_8 (by decide) ?_
    refine lv_goto (tgt := 13) hx hb dX3_undo_9 (by decide) ?_
    exact hL13  f_changes f_code a_g (nI 1) _ _ _ hP hD hS (lv_sub hl [0] rfl) hw
def rm_X3_undoCount : Room := { frames := 0, cells := 0, slots := 0, locals := 0 }
set_option maxHeartbeats 4000000 in
set_option maxRecDepth 100000 in
theorem met_X3_undoCount (l : Launch) (D : va_G) (dA : Nat → ClassId) (ad : Nat → Nat) (sz : Nat) (f_isSaved : Int32) (f_changes : Int32) (f_code : Int32) (f_length : Int32) (f_fault : Int32) (f_signMany : Int32) (f_at : Int32) (f_place : Int32) (a_g : (Nat → Int32)) (a_kept : (Nat → Int32)) (a_saved : (Nat → Int32)) (a_input : (Nat → Int32)) (a_signs : (Nat → Int32)) (a_ways : (Nat → Int64)) (a_needs : (Nat → Int32)) (a_walk : (Nat → Int32)) (a_one : (Nat → Int32)) (a_several : (Nat → Int32)) (a_ragged : (Nat → Int32)) (a_nextLine : (Nat → Int32))  (post : Int32 → Int32 → Prop) (hw : w_X3_undoCount post f_changes f_code) : Met l yX3_undoCount (ws_ yX3_undoCount cX3_undoCount 1 (some .int)) rm_X3_undoCount (va_Pc [.ref (ad 0)] (wrB D dA sz (mdl ad dA f_isSaved f_changes f_code f_length f_fault f_signMany f_at f_place a_g a_kept a_saved a_input a_signs a_ways a_needs a_walk a_one a_several a_ragged a_nextLine))) (va_Qi (fun (r : Int32) (u : Int32) => post r u) (fun (u : Int32) t => wrQ D dA (va_A (mdl ad dA f_isSaved f_changes f_code f_length f_fault f_signMany f_at f_place a_g a_kept a_saved a_input a_signs a_ways a_needs a_walk a_one a_several a_ragged a_nextLine) sz) (mdl ad dA f_isSaved f_changes u f_length f_fault f_signMany f_at f_place a_g a_kept a_saved a_input a_signs a_ways a_needs a_walk a_one a_several a_ragged a_nextLine) t) (va_A (mdl ad dA f_isSaved f_changes f_code f_length f_fault f_signMany f_at f_place a_g a_kept a_saved a_input a_signs a_ways a_needs a_walk a_one a_several a_ragged a_nextLine) sz)) 0 0 (va_A (mdl ad dA f_isSaved f_changes f_code f_length f_fault f_signMany f_at f_place a_g a_kept a_saved a_input a_signs a_ways a_needs a_walk a_one a_several a_ragged a_nextLine) sz) := by
  refine Met.ofW (cc := cX3_undoCount) (maxL := 1) (ret := (some .int)) (by decide) rfl ?_
  intro p e s m args below meth c s₁ B hml hv
  obtain ⟨rfl, hsz, hP, hK, hD0⟩ := hv
  have hx := B.exec
  have hb := B.bytes
  have hr := B.returns
  have hts := atoms_spec (ws := (ws_ yX3_undoCount cX3_undoCount 1 (some .int))) B.pre
  have hts : ∀ w ∈ lw_all, w.before _ s = true := fun w h => hts w (List.mem_cons_of_mem _ h)
  have hown : s.vm.findClass RX3 = some m.cls := findClass_of_methodNamed B.named
  have hlocks := B.notSynchronized
  have hSx : CallFix p m c cX3_undoCount 1 s _ lw_all RX3 := ⟨hx, hb, hml, hown, hts⟩
  subst hsz
  have hD := hD0.self (sz := s.heap.size)
  generalize hAe : va_A (mdl ad dA f_isSaved f_changes f_code f_length f_fault f_signMany f_at f_place a_g a_kept a_saved a_input a_signs a_ways a_needs a_walk a_one a_several a_ragged a_nextLine) s.heap.size = A at hD ⊢
  have hA : ∀ q : Nat, s.heap.size ≤ q → A q := fun q h => by rw [← hAe]; exact Or.inr h
  have hS : va_S A s.heap s.heap [] := va_S.rf
  have hl := lv_entry ([.ref (ad 0)]) (n := 1) (Nat.le_of_ble_eq_true rfl)
  rw [lg_entry_eq]
  generalize (lg_sl ([.ref (ad 0)]) ++ List.replicate (1 - (lg_sl ([.ref (ad 0)])).length) Slot.unset).toArray = ls at hl ⊢
  have hl : lv_has ls 1 [(0, .ref (ad 0))] := hl
  refine lv_aload_n hx hb dX3_undoCount_0 rfl (lv_at hl 0 rfl) ?_
  refine lv_iconst (v := (nI 0)) hx hb dX3_undoCount_1 (by decide) ?_
  refine va_put (D := D) (ci := 2) (v := .int (nI 0)) (ty := .int) (C := RX3) (T := TX3) (N := 20) hx hb hts in_X3 tyX3 tyX3_ok nmX3 hown hK hP hD hS 0 rfl rfl 5 (by decide) (hts _ q1746) (fun _ h9 => h9) rfl (by decide +kernel) rfl rfl (Nat.le_of_ble_eq_true rfl) dX3_undoCount_2 (fun H locs hP hD hS => ?_)
  have hP : va_P D vwCl (mdl ad dA f_isSaved f_changes (nI 0) f_length f_fault f_signMany f_at f_place a_g a_kept a_saved a_input a_signs a_ways a_needs a_walk a_one a_several a_ragged a_nextLine) H := hP
  have hD : va_D A (mdl ad dA f_isSaved f_changes (nI 0) f_length f_fault f_signMany f_at f_place a_g a_kept a_saved a_input a_signs a_ways a_needs a_walk a_one a_several a_ragged a_nextLine) := hD
  refine lv_aload_n hx hb dX3_undoCount_5 rfl (lv_at hl 0 rfl) ?_
  refine va_get (D := D) (ci := 2) (v := .int f_changes) (C := RX3) (T := TX3) (N := 20) hx hb hts in_X3 hown hK hP 0 rfl rfl 4 (by decide) (hts _ q1745) (fun _ h9 => h9) rfl dX3_undoCount_6 ?_
  exact W.iret (v := f_changes) hx hb hr (fun t ht hW => ⟨⟨f_changes, (nI 0), rfl, hw, by rw [ht]; exact hP, va_K.moved hW.alike hK, hD⟩, hS.F ht⟩) hS.2.2 dX3_undoCount_9
def rm_X3_save : Room := { frames := 1, cells := 0, slots := 0, locals := 24 }
set_option maxHeartbeats 4000000 in
set_option maxRecDepth 100000 in
theorem met_X3_save (l : Launch) (D : va_G) (dA : Nat → ClassId) (ad : Nat → Nat) (sz : Nat) (f_isSaved : Int32) (f_changes : Int32) (f_code : Int32) (f_length : Int32) (f_fault : Int32) (f_signMany : Int32) (f_at : Int32) (f_place : Int32) (a_g : (Nat → Int32)) (a_kept : (Nat → Int32)) (a_saved : (Nat → Int32)) (a_input : (Nat → Int32)) (a_signs : (Nat → Int32)) (a_ways : (Nat → Int64)) (a_needs : (Nat → Int32)) (a_walk : (Nat → Int32)) (a_one : (Nat → Int32)) (a_several : (Nat → Int32)) (a_ragged : (Nat → Int32)) (a_nextLine : (Nat → Int32))  (post : Int32 → Int32 → Int32 → (Nat → Int32) → Prop) (hw : w_X3_save post f_isSaved f_code a_g a_saved) : Met l yX3_save (ws_ yX3_save cX3_save 1 (some .int)) rm_X3_save (va_Pc [.ref (ad 0)] (wrB D dA sz (mdl ad dA f_isSaved f_changes f_code f_length f_fault f_signMany f_at f_place a_g a_kept a_saved a_input a_signs a_ways a_needs a_walk a_one a_several a_ragged a_nextLine))) (va_Qi (fun (r : Int32) (u : Int32 × Int32 × (Nat → Int32)) => post r u.1 u.2.1 u.2.2) (fun (u : Int32 × Int32 × (Nat → Int32)) t => wrQ D dA (va_A (mdl ad dA f_isSaved f_changes f_code f_length f_fault f_signMany f_at f_place a_g a_kept a_saved a_input a_signs a_ways a_needs a_walk a_one a_several a_ragged a_nextLine) sz) (mdl ad dA u.1 f_changes u.2.1 f_length f_fault f_signMany f_at f_place a_g a_kept u.2.2 a_input a_signs a_ways a_needs a_walk a_one a_several a_ragged a_nextLine) t) (va_A (mdl ad dA f_isSaved f_changes f_code f_length f_fault f_signMany f_at f_place a_g a_kept a_saved a_input a_signs a_ways a_needs a_walk a_one a_several a_ragged a_nextLine) sz)) 0 0 (va_A (mdl ad dA f_isSaved f_changes f_code f_length f_fault f_signMany f_at f_place a_g a_kept a_saved a_input a_signs a_ways a_needs a_walk a_one a_several a_ragged a_nextLine) sz) := by
  refine Met.ofW (cc := cX3_save) (maxL := 1) (ret := (some .int)) (by decide) rfl ?_
  intro p e s m args below meth c s₁ B hml hv
  obtain ⟨rfl, hsz, hP, hK, hD0⟩ := hv
  have hx := B.exec
  have hb := B.bytes
  have hr := B.returns
  have hts := atoms_spec (ws := (ws_ yX3_save cX3_save 1 (some .int))) B.pre
  have hts : ∀ w ∈ lw_all, w.before _ s = true := fun w h => hts w (List.mem_cons_of_mem _ h)
  have hown : s.vm.findClass RX3 = some m.cls := findClass_of_methodNamed B.named
  have hlocks := B.notSynchronized
  have hSx : CallFix p m c cX3_save 1 s _ lw_all RX3 := ⟨hx, hb, hml, hown, hts⟩
  subst hsz
  have hD := hD0.self (sz := s.heap.size)
  generalize hAe : va_A (mdl ad dA f_isSaved f_changes f_code f_length f_fault f_signMany f_at f_place a_g a_kept a_saved a_input a_signs a_ways a_needs a_walk a_one a_several a_ragged a_nextLine) s.heap.size = A at hD ⊢
  have hA : ∀ q : Nat, s.heap.size ≤ q → A q := fun q h => by rw [← hAe]; exact Or.inr h
  have hS : va_S A s.heap s.heap [] := va_S.rf
  have hl := lv_entry ([.ref (ad 0)]) (n := 1) (Nat.le_of_ble_eq_true rfl)
  rw [lg_entry_eq]
  generalize (lg_sl ([.ref (ad 0)]) ++ List.replicate (1 - (lg_sl ([.ref (ad 0)])).length) Slot.unset).toArray = ls at hl ⊢
  have hl : lv_has ls 1 [(0, .ref (ad 0))] := hl
  refine lv_aload_n hx hb dX3_save_0 rfl (lv_at hl 0 rfl) ?_
  refine lv_iconst (v := (nI 0)) hx hb dX3_save_1 (by decide) ?_
  refine va_put (D := D) (ci := 2) (v := .int (nI 0)) (ty := .int) (C := RX3) (T := TX3) (N := 20) hx hb hts in_X3 tyX3 tyX3_ok nmX3 hown hK hP hD hS 0 rfl rfl 5 (by decide) (hts _ q1746) (fun _ h9 => h9) rfl (by decide +kernel) rfl rfl (Nat.le_of_ble_eq_true rfl) dX3_save_2 (fun H locs hP hD hS => ?_)
  have hP : va_P D vwCl (mdl ad dA f_isSaved f_changes (nI 0) f_length f_fault f_signMany f_at f_place a_g a_kept a_saved a_input a_signs a_ways a_needs a_walk a_one a_several a_ragged a_nextLine) H := hP
  have hD : va_D A (mdl ad dA f_isSaved f_changes (nI 0) f_length f_fault f_signMany f_at f_place a_g a_kept a_saved a_input a_signs a_ways a_needs a_walk a_one a_several a_ragged a_nextLine) := hD
  refine lv_aload_n hx hb dX3_save_5 rfl (lv_at hl 0 rfl) ?_
  refine lv_iconst (v := (nI 1)) hx hb dX3_save_6 (by decide) ?_
  refine va_put (D := D) (ci := 2) (v := .int (nI 1)) (ty := .boolean) (C := RX3) (T := TX3) (N := 20) hx hb hts in_X3 tyX3 tyX3_ok nmX3 hown hK hP hD hS 0 rfl rfl 3 (by decide) (hts _ q1744) (fun _ h9 => h9) rfl (by decide +kernel) rfl rfl (Nat.le_of_ble_eq_true rfl) dX3_save_7 (fun H locs hP hD hS => ?_)
  have hP : va_P D vwCl (mdl ad dA (nI 1) f_changes (nI 0) f_length f_fault f_signMany f_at f_place a_g a_kept a_saved a_input a_signs a_ways a_needs a_walk a_one a_several a_ragged a_nextLine) H := hP
  have hD : va_D A (mdl ad dA (nI 1) f_changes (nI 0) f_length f_fault f_signMany f_at f_place a_g a_kept a_saved a_input a_signs a_ways a_needs a_walk a_one a_several a_ragged a_nextLine) := hD
  refine lv_aload_n hx hb dX3_save_10 rfl (lv_at hl 0 rfl) ?_
  refine va_get (D := D) (ci := 2) (v := .ref (ad 1)) (C := RX3) (T := TX3) (N := 20) hx hb hts in_X3 hown hK hP 0 rfl rfl 0 (by decide) (hts _ q1741) (fun _ h9 => h9) rfl dX3_save_11 ?_
  refine lv_iconst (v := (nI 0)) hx hb dX3_save_14 (by decide) ?_
  refine lv_aload_n hx hb dX3_save_15 rfl (lv_at hl 0 rfl) ?_
  refine va_get (D := D) (ci := 2) (v := .ref (ad 3)) (C := RX3) (T := TX3) (N := 20) hx hb hts in_X3 hown hK hP 0 rfl rfl 2 (by decide) (hts _ q1743) (fun _ h9 => h9) rfl dX3_save_16 ?_
  refine lv_iconst (v := (nI 0)) hx hb dX3_save_19 (by decide) ?_
  refine k_wv (wn := fun (u : (Nat → Int32)) => (mdl ad dA (nI 1) f_changes (nI 0) f_length f_fault f_signMany f_at f_place a_g a_kept u a_input a_signs a_ways a_needs a_walk a_one a_several a_ragged a_nextLine)) (wr := (([0, 2, 4, 5, 6, 7, 8, 9, 10, 11, 12] : List Nat).filterMap (fun i => (mdl ad dA (nI 1) f_changes (nI 0) f_length f_fault f_signMany f_at f_place a_g a_kept (fun _ => 0) a_input a_signs a_ways a_needs a_walk a_one a_several a_ragged a_nextLine)[i]?))) (k_wS (As := [.ref (ad 1), .int (nI 0), .ref (ad 3), .int (nI 0)]) (rest := []) hSx (met_X3_copies l D dA (ad 1) (ad 3) 188 188 _ a_g a_saved (nI 0) (nI 0) _ hw) gX3_58 hd_X3_copies ⟨Nat.le_of_ble_eq_true rfl, Nat.le_of_ble_eq_true rfl⟩ rfl rfl hP hK hD [1, 3] rfl (by decide) rfl rfl hl.1 (Nat.le_of_ble_eq_true rfl) rfl dX3_save_20 ⟨Nat.le_refl 0, Nat.le_refl 0⟩) hP hD hS hA [1, 3] [0, 2, 4, 5, 6, 7, 8, 9, 10, 11, 12] [0, 11, 1, 12, 2, 3, 4, 5, 6, 7, 8, 9, 10] rfl rfl (by decide) (by decide) (by decide) (fun _ => rfl) (fun _ => rfl) (fun u H locs hw _ hP hD hS => ?_)
  obtain ⟨a_saved_2, rfl⟩ : ∃ z, z = u := ⟨_, rfl⟩
  have hP : va_P D vwCl (mdl ad dA (nI 1) f_changes (nI 0) f_length f_fault f_signMany f_at f_place a_g a_kept a_saved_2 a_input a_signs a_ways a_needs a_walk a_one a_several a_ragged a_nextLine) H := hP
  have hD : va_D A (mdl ad dA (nI 1) f_changes (nI 0) f_length f_fault f_signMany f_at f_place a_g a_kept a_saved_2 a_input a_signs a_ways a_needs a_walk a_one a_several a_ragged a_nextLine) := hD
  refine lv_aload_n hx hb dX3_save_23 rfl (lv_at hl 0 rfl) ?_
  refine va_get (D := D) (ci := 2) (v := .ref (ad 1)) (C := RX3) (T := TX3) (N := 20) hx hb hts in_X3 hown hK hP 0 rfl rfl 0 (by decide) (hts _ q1741) (fun _ h9 => h9) rfl dX3_save_24 ?_
  refine lv_iconst (v := (nI 1)) hx hb dX3_save_27 (by decide) ?_
  refine k_iald (k := 1) hx hb hK hP 1 0 rfl rfl (clK 1 (by decide)) (inK (by decide) (by decide)) dX3_save_28 ?_
  exact W.iret (v := (a_g 1)) hx hb hr (fun t ht hW => ⟨⟨(a_g 1), ((nI 1), (nI 0), a_saved_2), rfl, hw, by rw [ht]; exact hP, va_K.moved hW.alike hK, hD⟩, hS.F ht⟩) hS.2.2 dX3_save_29
def rm_X3_restore : Room := { frames := 1, cells := 0, slots := 0, locals := 24 }
set_option maxHeartbeats 4000000 in
set_option maxRecDepth 100000 in
theorem met_X3_restore (l : Launch) (D : va_G) (dA : Nat → ClassId) (ad : Nat → Nat) (sz : Nat) (f_isSaved : Int32) (f_changes : Int32) (f_code : Int32) (f_length : Int32) (f_fault : Int32) (f_signMany : Int32) (f_at : Int32) (f_place : Int32) (a_g : (Nat → Int32)) (a_kept : (Nat → Int32)) (a_saved : (Nat → Int32)) (a_input : (Nat → Int32)) (a_signs : (Nat → Int32)) (a_ways : (Nat → Int64)) (a_needs : (Nat → Int32)) (a_walk : (Nat → Int32)) (a_one : (Nat → Int32)) (a_several : (Nat → Int32)) (a_ragged : (Nat → Int32)) (a_nextLine : (Nat → Int32))  (post : Int32 → Int32 → Int32 → (Nat → Int32) → Prop) (hw : w_X3_restore post f_isSaved f_changes f_code a_g a_saved) : Met l yX3_restore (ws_ yX3_restore cX3_restore 1 (some .int)) rm_X3_restore (va_Pc [.ref (ad 0)] (wrB D dA sz (mdl ad dA f_isSaved f_changes f_code f_length f_fault f_signMany f_at f_place a_g a_kept a_saved a_input a_signs a_ways a_needs a_walk a_one a_several a_ragged a_nextLine))) (va_Qi (fun (r : Int32) (u : Int32 × Int32 × (Nat → Int32)) => post r u.1 u.2.1 u.2.2) (fun (u : Int32 × Int32 × (Nat → Int32)) t => wrQ D dA (va_A (mdl ad dA f_isSaved f_changes f_code f_length f_fault f_signMany f_at f_place a_g a_kept a_saved a_input a_signs a_ways a_needs a_walk a_one a_several a_ragged a_nextLine) sz) (mdl ad dA f_isSaved u.1 u.2.1 f_length f_fault f_signMany f_at f_place u.2.2 a_kept a_saved a_input a_signs a_ways a_needs a_walk a_one a_several a_ragged a_nextLine) t) (va_A (mdl ad dA f_isSaved f_changes f_code f_length f_fault f_signMany f_at f_place a_g a_kept a_saved a_input a_signs a_ways a_needs a_walk a_one a_several a_ragged a_nextLine) sz)) 0 0 (va_A (mdl ad dA f_isSaved f_changes f_code f_length f_fault f_signMany f_at f_place a_g a_kept a_saved a_input a_signs a_ways a_needs a_walk a_one a_several a_ragged a_nextLine) sz) := by
  refine Met.ofW (cc := cX3_restore) (maxL := 1) (ret := (some .int)) (by decide) rfl ?_
  intro p e s m args below meth c s₁ B hml hv
  obtain ⟨rfl, hsz, hP, hK, hD0⟩ := hv
  have hx := B.exec
  have hb := B.bytes
  have hr := B.returns
  have hts := atoms_spec (ws := (ws_ yX3_restore cX3_restore 1 (some .int))) B.pre
  have hts : ∀ w ∈ lw_all, w.before _ s = true := fun w h => hts w (List.mem_cons_of_mem _ h)
  have hown : s.vm.findClass RX3 = some m.cls := findClass_of_methodNamed B.named
  have hlocks := B.notSynchronized
  have hSx : CallFix p m c cX3_restore 1 s _ lw_all RX3 := ⟨hx, hb, hml, hown, hts⟩
  subst hsz
  have hD := hD0.self (sz := s.heap.size)
  generalize hAe : va_A (mdl ad dA f_isSaved f_changes f_code f_length f_fault f_signMany f_at f_place a_g a_kept a_saved a_input a_signs a_ways a_needs a_walk a_one a_several a_ragged a_nextLine) s.heap.size = A at hD ⊢
  have hA : ∀ q : Nat, s.heap.size ≤ q → A q := fun q h => by rw [← hAe]; exact Or.inr h
  have hS : va_S A s.heap s.heap [] := va_S.rf
  have hl := lv_entry ([.ref (ad 0)]) (n := 1) (Nat.le_of_ble_eq_true rfl)
  rw [lg_entry_eq]
  generalize (lg_sl ([.ref (ad 0)]) ++ List.replicate (1 - (lg_sl ([.ref (ad 0)])).length) Slot.unset).toArray = ls at hl ⊢
  have hl : lv_has ls 1 [(0, .ref (ad 0))] := hl
  have hL13 : ∀  (f_changes : Int32) (f_code : Int32) (a_g : (Nat → Int32)) (s1 : Int32) (H : Heap) (locs : List Loc) (ls : Array Slot), va_P D vwCl (mdl ad dA f_isSaved f_changes f_code f_length f_fault f_signMany f_at f_place a_g a_kept a_saved a_input a_signs a_ways a_needs a_walk a_one a_several a_ragged a_nextLine) H → va_D A (mdl ad dA f_isSaved f_changes f_code f_length f_fault f_signMany f_at f_place a_g a_kept a_saved a_input a_signs a_ways a_needs a_walk a_one a_several a_ragged a_nextLine) → va_S A s.heap H locs → lv_has ls 1 [(0, .ref (ad 0))] → (w_X3_restore_13 post f_isSaved a_saved) f_changes f_code a_g s1 → W p l e (headSpec (ws_ yX3_restore cX3_restore 1 (some .int)) rm_X3_restore).room s m ([.ref (ad 0)] : List Value).toArray below meth c H locs 0 0 (MQ below (va_Qi (fun (r : Int32) (u : Int32 × Int32 × (Nat → Int32)) => post r u.1 u.2.1 u.2.2) (fun (u : Int32 × Int32 × (Nat → Int32)) t => wrQ D dA A (mdl ad dA f_isSaved u.1 u.2.1 f_length f_fault f_signMany f_at f_place u.2.2 a_kept a_saved a_input a_signs a_ways a_needs a_walk a_one a_several a_ragged a_nextLine) t) A) ([.ref (ad 0)] : List Value).toArray s 0 0 A) (F0 m 13 ls [.int s1, .ref (ad 0)]) := by
      intro  f_changes f_code a_g s1 H locs ls hP hD hS hl hw
      refine k_wi (wn := fun (u : Int32) => (mdl ad dA f_isSaved f_changes u f_length f_fault f_signMany f_at f_place a_g a_kept a_saved a_input a_signs a_ways a_needs a_walk a_one a_several a_ragged a_nextLine)) (wr := []) (k_wV (As := [.int s1]) (rest := []) hSx (met_X3_fails l D dA ad _ f_isSaved f_changes f_code f_length f_fault f_signMany f_at f_place a_g a_kept a_saved a_input a_signs a_ways a_needs a_walk a_one a_several a_ragged a_nextLine s1 _ hw) gX3_70 ⟨rfl, hd_X3_fails⟩ ⟨Nat.le_of_ble_eq_true rfl, Nat.le_of_ble_eq_true rfl⟩ rfl rfl hP hK hD [0, 1, 2, 3, 4, 5, 6, 7, 8, 9, 10, 11, 12] rfl (by decide) rfl 0 rfl rfl rfl rfl hl.1 (Nat.le_of_ble_eq_true rfl) rfl dX3_restore_13 ⟨Nat.le_refl 0, Nat.le_refl 0⟩) hP hD hS hA [0, 1, 2, 3, 4, 5, 6, 7, 8, 9, 10, 11, 12] [] [0, 1, 2, 3, 4, 5, 6, 7, 8, 9, 10, 11, 12] rfl rfl (by decide) (by decide) (by decide) (fun _ => rfl) (fun _ => rfl) (fun r6 u H locs hw _ hP hD hS => ?_)
      obtain ⟨f_code_7, rfl⟩ : ∃ z, z = u := ⟨_, rfl⟩
      have hP : va_P D vwCl (mdl ad dA f_isSaved f_changes f_code_7 f_length f_fault f_signMany f_at f_place a_g a_kept a_saved a_input a_signs a_ways a_needs a_walk a_one a_several a_ragged a_nextLine) H := hP
      have hD : va_D A (mdl ad dA f_isSaved f_changes f_code_7 f_length f_fault f_signMany f_at f_place a_g a_kept a_saved a_input a_signs a_ways a_needs a_walk a_one a_several a_ragged a_nextLine) := hD
      refine lv_if_eq (tgt := 21) hx hb dX3_restore_16 (by decide) (fun c8 => ?_) (fun c8 => ?_)
      · have hw := hw.1 c8
        refine lv_aload_n hx hb dX3_restore_21 rfl (lv_at hl 0 rfl) ?_
        refine va_get (D := D) (ci := 2) (v := .ref (ad 3)) (C := RX3) (T := TX3) (N := 20) hx hb hts in_X3 hown hK hP 0 rfl rfl 2 (by decide) (hts _ q1743) (fun _ h9 => h9) rfl dX3_restore_22 ?_
        refine lv_iconst (v := (nI 0)) hx hb dX3_restore_25 (by decide) ?_
        refine lv_aload_n hx hb dX3_restore_26 rfl (lv_at hl 0 rfl) ?_
        refine va_get (D := D) (ci := 2) (v := .ref (ad 1)) (C := RX3) (T := TX3) (N := 20) hx hb hts in_X3 hown hK hP 0 rfl rfl 0 (by decide) (hts _ q1741) (fun _ h9 => h9) rfl dX3_restore_27 ?_
        refine lv_iconst (v := (nI 0)) hx hb dX3_restore_30 (by decide) ?_
        refine k_wv (wn := fun (u : (Nat → Int32)) => (mdl ad dA f_isSaved f_changes f_code_7 f_length f_fault f_signMany f_at f_place u a_kept a_saved a_input a_signs a_ways a_needs a_walk a_one a_several a_ragged a_nextLine)) (wr := (([0, 2, 4, 5, 6, 7, 8, 9, 10, 11, 12] : List Nat).filterMap (fun i => (mdl ad dA f_isSaved f_changes f_code_7 f_length f_fault f_signMany f_at f_place (fun _ => 0) a_kept a_saved a_input a_signs a_ways a_needs a_walk a_one a_several a_ragged a_nextLine)[i]?))) (k_wS (As := [.ref (ad 3), .int (nI 0), .ref (ad 1), .int (nI 0)]) (rest := []) hSx (met_X3_copies l D dA (ad 3) (ad 1) 188 188 _ a_saved a_g (nI 0) (nI 0) _ hw) gX3_58 hd_X3_copies ⟨Nat.le_of_ble_eq_true rfl, Nat.le_of_ble_eq_true rfl⟩ rfl rfl hP hK hD [3, 1] rfl (by decide) rfl rfl hl.1 (Nat.le_of_ble_eq_true rfl) rfl dX3_restore_31 ⟨Nat.le_refl 0, Nat.le_refl 0⟩) hP hD hS hA [3, 1] [0, 2, 4, 5, 6, 7, 8, 9, 10, 11, 12] [0, 12, 1, 11, 2, 3, 4, 5, 6, 7, 8, 9, 10] rfl rfl (by decide) (by decide) (by decide) (fun _ => rfl) (fun _ => rfl) (fun u H locs hw _ hP hD hS => ?_)
        obtain ⟨a_g_9, rfl⟩ : ∃ z, z = u := ⟨_, rfl⟩
        have hP : va_P D vwCl (mdl ad dA f_isSaved f_changes f_code_7 f_length f_fault f_signMany f_at f_place a_g_9 a_kept a_saved a_input a_signs a_ways a_needs a_walk a_one a_several a_ragged a_nextLine) H := hP
        have hD : va_D A (mdl ad dA f_isSaved f_changes f_code_7 f_length f_fault f_signMany f_at f_place a_g_9 a_kept a_saved a_input a_signs a_ways a_needs a_walk a_one a_several a_ragged a_nextLine) := hD
        refine lv_aload_n hx hb dX3_restore_34 rfl (lv_at hl 0 rfl) ?_
        refine lv_iconst (v := (nI 0)) hx hb dX3_restore_35 (by decide) ?_
        refine va_put (D := D) (ci := 2) (v := .int (nI 0)) (ty := .int) (C := RX3) (T := TX3) (N := 20) hx hb hts in_X3 tyX3 tyX3_ok nmX3 hown hK hP hD hS 0 rfl rfl 4 (by decide) (hts _ q1745) (fun _ h9 => h9) rfl (by decide +kernel) rfl rfl (Nat.le_of_ble_eq_true rfl) dX3_restore_36 (fun H locs hP hD hS => ?_)
        have hP : va_P D vwCl (mdl ad dA f_isSaved (nI 0) f_code_7 f_length f_fault f_signMany f_at f_place a_g_9 a_kept a_saved a_input a_signs a_ways a_needs a_walk a_one a_several a_ragged a_nextLine) H := hP
        have hD : va_D A (mdl ad dA f_isSaved (nI 0) f_code_7 f_length f_fault f_signMany f_at f_place a_g_9 a_kept a_saved a_input a_signs a_ways a_needs a_walk a_one a_several a_ragged a_nextLine) := hD
        refine lv_aload_n hx hb dX3_restore_39 rfl (lv_at hl 0 rfl) ?_
        refine va_get (D := D) (ci := 2) (v := .ref (ad 1)) (C := RX3) (T := TX3) (N := 20) hx hb hts in_X3 hown hK hP 0 rfl rfl 0 (by decide) (hts _ q1741) (fun _ h9 => h9) rfl dX3_restore_40 ?_
        refine lv_iconst (v := (nI 1)) hx hb dX3_restore_43 (by decide) ?_
        refine k_iald (k := 1) hx hb hK hP 1 0 rfl rfl (clK 1 (by decide)) (inK (by decide) (by decide)) dX3_restore_44 ?_
        exact W.iret (v := (a_g_9 1)) hx hb hr (fun t ht hW => ⟨⟨(a_g_9 1), ((nI 0), f_code_7, a_g_9), rfl, hw, by rw [ht]; exact hP, va_K.moved hW.alike hK, hD⟩, hS.F ht⟩) hS.2.2 dX3_restore_45
      · have hw := hw.2 c8
        refine lv_iconst (v := (nI 0)) hx hb dX3_restore_19 (by decide) ?_
        exact W.iret (v := (nI 0)) hx hb hr (fun t ht hW => ⟨⟨(nI 0), (f_changes, f_code_7, a_g), rfl, hw, by rw [ht]; exact hP, va_K.moved hW.alike hK, hD⟩, hS.F ht⟩) hS.2.2 dX3_restore_20
  refine lv_aload_n hx hb dX3_restore_0 rfl (lv_at hl 0 rfl) ?_
  refine lv_aload_n hx hb dX3_restore_1 rfl (lv_at hl 0 rfl) ?_
  refine va_get (D := D) (ci := 2) (v := .int f_isSaved) (C := RX3) (T := TX3) (N := 20) hx hb hts in_X3 hown hK hP 0 rfl rfl 3 (by decide) (hts _ q1744) (fun _ h9 => h9) rfl dX3_restore_2 ?_
  refine lv_if_eq (tgt := 12) hx hb dX3_restore_5 (by decide) (fun c10 => ?_) (fun c10 => ?_)
  · have hw := hw.1 c10
    refine lv_iconst (v := (nI 1)) hx hb dX3_restore_12 (by decide) ?_
    exact hL13  f_changes f_code a_g (nI 1) _ _ _ hP hD hS (lv_sub hl [0] rfl) hw
  · have hw := hw.2 c10
    refine lv_iconst (v := (nI 0)) hx hb dX3_restore_8 (by decide) ?_
    refine lv_goto (tgt := 13) hx hb dX3_restore_9 (by decide) ?_
    exact hL13  f_changes f_code a_g (nI 0) _ _ _ hP hD hS (lv_sub hl [0] rfl) hw
