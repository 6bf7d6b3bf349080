/-! THE MODEL: its contracts, walked (printed by wip/D-56275w/gen/model.py) -/
theorem gX3_103 : GoodIn lw_all (wsV RX3 103 RX3 yX3_counts (ws_ yX3_counts cX3_counts 4 (some .long))) := lw_V q1887 q1889 qs41 q84 q1890
theorem hd_X3_counts : yX3_counts.cls ≠ "java/lang/invoke/MethodHandle" ∧ yX3_counts.cls ≠ "java/lang/invoke/VarHandle" ∧ (parseMethodDescriptor yX3_counts.desc).map (fun d => d.parameters.length) = some 0 := by decide +kernel
def rm_X3_processions : Room := { frames := 4, cells := 0, slots := 0, locals := 91 }
set_option maxHeartbeats 4000000 in
set_option maxRecDepth 100000 in
theorem met_X3_processions (l : Launch) (D : va_G) (dA : Nat → ClassId) (ad : Nat → Nat) (sz : Nat) (f_isSaved : Int32) (f_changes : Int32) (f_code : Int32) (f_length : Int32) (f_fault : Int32) (f_signMany : Int32) (f_at : Int32) (f_place : Int32) (a_g : (Nat → Int32)) (a_kept : (Nat → Int32)) (a_saved : (Nat → Int32)) (a_input : (Nat → Int32)) (a_signs : (Nat → Int32)) (a_ways : (Nat → Int64)) (a_needs : (Nat → Int32)) (a_walk : (Nat → Int32)) (a_one : (Nat → Int32)) (a_several : (Nat → Int32)) (a_ragged : (Nat → Int32)) (a_nextLine : (Nat → Int32))  (post : Int64 → Int32 → (Nat → Int64) → (Nat → Int32) → Prop) (hw : w_X3_processions post f_code a_g a_ways a_needs) : Met l yX3_processions (ws_ yX3_processions cX3_processions 1 (some .long)) rm_X3_processions (va_Pc [.ref (ad 0)] (wrB D dA sz (mdl ad dA f_isSaved f_changes f_code f_length f_fault f_signMany f_at f_place a_g a_kept a_saved a_input a_signs a_ways a_needs a_walk a_one a_several a_ragged a_nextLine))) (va_Ql (fun (r : Int64) (u : Int32 × (Nat → Int64) × (Nat → Int32)) => post r u.1 u.2.1 u.2.2) (fun (u : Int32 × (Nat → Int64) × (Nat → Int32)) t => wrQ D dA (va_A (mdl ad dA f_isSaved f_changes f_code f_length f_fault f_signMany f_at f_place a_g a_kept a_saved a_input a_signs a_ways a_needs a_walk a_one a_several a_ragged a_nextLine) sz) (mdl ad dA f_isSaved f_changes u.1 f_length f_fault f_signMany f_at f_place a_g a_kept a_saved a_input a_signs u.2.1 u.2.2 a_walk a_one a_several a_ragged a_nextLine) t) (va_A (mdl ad dA f_isSaved f_changes f_code f_length f_fault f_signMany f_at f_place a_g a_kept a_saved a_input a_signs a_ways a_needs a_walk a_one a_several a_ragged a_nextLine) sz)) 0 0 (va_A (mdl ad dA f_isSaved f_changes f_code f_length f_fault f_signMany f_at f_place a_g a_kept a_saved a_input a_signs a_ways a_needs a_walk a_one a_several a_ragged a_nextLine) sz) := by
  refine Met.ofW (cc := cX3_processions) (maxL := 1) (ret := (some .long)) (by decide) rfl ?_
  intro p e s m args below meth c s₁ B hml hv
  obtain ⟨rfl, hsz, hP, hK, hD0⟩ := hv
  have hx := B.exec
  have hb := B.bytes
  have hr := B.returns
  have hts := atoms_spec (ws := (ws_ yX3_processions cX3_processions 1 (some .long))) B.pre
  have hts : ∀ w ∈ lw_all, w.before _ s = true := fun w h => hts w (List.mem_cons_of_mem _ h)
  have hown : s.vm.findClass RX3 = some m.cls := findClass_of_methodNamed B.named
  have hlocks := B.notSynchronized
  have hSx : CallFix p m c cX3_processions 1 s _ lw_all RX3 := ⟨hx, hb, hml, hown, hts⟩
  subst hsz
  have hD := hD0.self (sz := s.heap.size)
  generalize hAe : va_A (mdl ad dA f_isSaved f_changes f_code f_length f_fault f_signMany f_at f_place a_g a_kept a_saved a_input a_signs a_ways a_needs a_walk a_one a_several a_ragged a_nextLine) s.heap.size = A at hD ⊢
  have hA : ∀ q : Nat, s.heap.size ≤ q → A q := fun q h => by rw [← hAe]; exact Or.inr h
  have hS : va_S A s.heap s.heap [] := va_S.rf
  have hl := lv_entry ([.ref (ad 0)]) (n := 1) (Nat.le_of_ble_eq_true rfl)
  rw [lg_entry_eq]
  generalize (lg_sl ([.ref (ad 0)]) ++ List.replicate (1 - (lg_sl ([.ref (ad 0)])).length) Slot.unset).toArray = ls at hl ⊢
  have hl : lv_has ls 1 [(0, .ref (ad 0))] := hl
  refine lv_aload_n hx hb dX3_processions_0 rfl (lv_at hl 0 rfl) ?_
  refine k_wl (wn := fun (u : Int32 × (Nat → Int64) × (Nat → Int32)) => (mdl ad dA f_isSaved f_changes u.1 f_length f_fault f_signMany f_at f_place a_g a_kept a_saved a_input a_signs u.2.1 u.2.2 a_walk a_one a_several a_ragged a_nextLine)) (wr := []) (k_wV (As := []) (rest := []) hSx (met_X3_counts l D dA ad _ f_isSaved f_changes f_code f_length f_fault f_signMany f_at f_place a_g a_kept a_saved a_input a_signs a_ways a_needs a_walk a_one a_several a_ragged a_nextLine  _ hw) gX3_103 ⟨rfl, hd_X3_counts⟩ ⟨Nat.le_of_ble_eq_true rfl, Nat.le_of_ble_eq_true rfl⟩ rfl rfl hP hK hD [0, 1, 2, 3, 4, 5, 6, 7, 8, 9, 10, 11, 12] rfl (by decide) rfl 0 rfl rfl rfl rfl hl.1 (Nat.le_of_ble_eq_true rfl) rfl dX3_processions_1 ⟨Nat.le_refl 0, Nat.le_refl 0⟩) hP hD hS hA [0, 1, 2, 3, 4, 5, 6, 7, 8, 9, 10, 11, 12] [] [0, 1, 2, 3, 4, 5, 6, 7, 8, 9, 10, 11, 12] rfl rfl (by decide) (by decide) (by decide) (fun _ => rfl) (fun _ => rfl) (fun r5 u H locs hw _ hP hD hS => ?_)
  obtain ⟨f_code_6, a_ways_7, a_needs_8⟩ := u
  have hP : va_P D vwCl (mdl ad dA f_isSaved f_changes f_code_6 f_length f_fault f_signMany f_at f_place a_g a_kept a_saved a_input a_signs a_ways_7 a_needs_8 a_walk a_one a_several a_ragged a_nextLine) H := hP
  have hD : va_D A (mdl ad dA f_isSaved f_changes f_code_6 f_length f_fault f_signMany f_at f_place a_g a_kept a_saved a_input a_signs a_ways_7 a_needs_8 a_walk a_one a_several a_ragged a_nextLine) := hD
  exact W.lret (v := r5) hx hb hr (fun t ht hW => ⟨⟨r5, (f_code_6, a_ways_7, a_needs_8), rfl, hw, by rw [ht]; exact hP, va_K.moved hW.alike hK, hD⟩, hS.F ht⟩) hS.2.2 dX3_processions_4
def rm_X3_processionsByTrying : Room := { frames := 4, cells := 0, slots := 0, locals := 91 }
set_option maxHeartbeats 4000000 in
set_option maxRecDepth 100000 in
theorem met_X3_processionsByTrying (l : Launch) (D : va_G) (dA : Nat → ClassId) (ad : Nat → Nat) (sz : Nat) (f_isSaved : Int32) (f_changes : Int32) (f_code : Int32) (f_length : Int32) (f_fault : Int32) (f_signMany : Int32) (f_at : Int32) (f_place : Int32) (a_g : (Nat → Int32)) (a_kept : (Nat → Int32)) (a_saved : (Nat → Int32)) (a_input : (Nat → Int32)) (a_signs : (Nat → Int32)) (a_ways : (Nat → Int64)) (a_needs : (Nat → Int32)) (a_walk : (Nat → Int32)) (a_one : (Nat → Int32)) (a_several : (Nat → Int32)) (a_ragged : (Nat → Int32)) (a_nextLine : (Nat → Int32))  (post : Int64 → Int32 → (Nat → Int64) → (Nat → Int32) → Prop) (hw : w_X3_processionsByTrying post f_code a_g a_ways a_needs) : Met l yX3_processionsByTrying (ws_ yX3_processionsByTrying cX3_processionsByTrying 1 (some .long)) rm_X3_processionsByTrying (va_Pc [.ref (ad 0)] (wrB D dA sz (mdl ad dA f_isSaved f_changes f_code f_length f_fault f_signMany f_at f_place a_g a_kept a_saved a_input a_signs a_ways a_needs a_walk a_one a_several a_ragged a_nextLine))) (va_Ql (fun (r : Int64) (u : Int32 × (Nat → Int64) × (Nat → Int32)) => post r u.1 u.2.1 u.2.2) (fun (u : Int32 × (Nat → Int64) × (Nat → Int32)) t => wrQ D dA (va_A (mdl ad dA f_isSaved f_changes f_code f_length f_fault f_signMany f_at f_place a_g a_kept a_saved a_input a_signs a_ways a_needs a_walk a_one a_several a_ragged a_nextLine) sz) (mdl ad dA f_isSaved f_changes u.1 f_length f_fault f_signMany f_at f_place a_g a_kept a_saved a_input a_signs u.2.1 u.2.2 a_walk a_one a_several a_ragged a_nextLine) t) (va_A (mdl ad dA f_isSaved f_changes f_code f_length f_fault f_signMany f_at f_place a_g a_kept a_saved a_input a_signs a_ways a_needs a_walk a_one a_several a_ragged a_nextLine) sz)) 0 0 (va_A (mdl ad dA f_isSaved f_changes f_code f_length f_fault f_signMany f_at f_place a_g a_kept a_saved a_input a_signs a_ways a_needs a_walk a_one a_several a_ragged a_nextLine) sz) := by
  refine Met.ofW (cc := cX3_processionsByTrying) (maxL := 1) (ret := (some .long)) (by decide) rfl ?_
  intro p e s m args below meth c s₁ B hml hv
  obtain ⟨rfl, hsz, hP, hK, hD0⟩ := hv
  have hx := B.exec
  have hb := B.bytes
  have hr := B.returns
  have hts := atoms_spec (ws := (ws_ yX3_processionsByTrying cX3_processionsByTrying 1 (some .long))) B.pre
  have hts : ∀ w ∈ lw_all, w.before _ s = true := fun w h => hts w (List.mem_cons_of_mem _ h)
  have hown : s.vm.findClass RX3 = some m.cls := findClass_of_methodNamed B.named
  have hlocks := B.notSynchronized
  have hSx : CallFix p m c cX3_processionsByTrying 1 s _ lw_all RX3 := ⟨hx, hb, hml, hown, hts⟩
  subst hsz
  have hD := hD0.self (sz := s.heap.size)
  generalize hAe : va_A (mdl ad dA f_isSaved f_changes f_code f_length f_fault f_signMany f_at f_place a_g a_kept a_saved a_input a_signs a_ways a_needs a_walk a_one a_several a_ragged a_nextLine) s.heap.size = A at hD ⊢
  have hA : ∀ q : Nat, s.heap.size ≤ q → A q := fun q h => by rw [← hAe]; exact Or.inr h
  have hS : va_S A s.heap s.heap [] := va_S.rf
  have hl := lv_entry ([.ref (ad 0)]) (n := 1) (Nat.le_of_ble_eq_true rfl)
  rw [lg_entry_eq]
  generalize (lg_sl ([.ref (ad 0)]) ++ List.replicate (1 - (lg_sl ([.ref (ad 0)])).length) Slot.unset).toArray = ls at hl ⊢
  have hl : lv_has ls 1 [(0, .ref (ad 0))] := hl
  refine lv_aload_n hx hb dX3_processionsByTrying_0 rfl (lv_at hl 0 rfl) ?_
  refine k_wl (wn := fun (u : Int32 × (Nat → Int64) × (Nat → Int32)) => (mdl ad dA f_isSaved f_changes u.1 f_length f_fault f_signMany f_at f_place a_g a_kept a_saved a_input a_signs u.2.1 u.2.2 a_walk a_one a_several a_ragged a_nextLine)) (wr := []) (k_wV (As := []) (rest := []) hSx (met_X3_counts l D dA ad _ f_isSaved f_changes f_code f_length f_fault f_signMany f_at f_place a_g a_kept a_saved a_input a_signs a_ways a_needs a_walk a_one a_several a_ragged a_nextLine  _ hw) gX3_103 ⟨rfl, hd_X3_counts⟩ ⟨Nat.le_of_ble_eq_true rfl, Nat.le_of_ble_eq_true rfl⟩ rfl rfl hP hK hD [0, 1, 2, 3, 4, 5, 6, 7, 8, 9, 10, 11, 12] rfl (by decide) rfl 0 rfl rfl rfl rfl hl.1 (Nat.le_of_ble_eq_true rfl) rfl dX3_processionsByTrying_1 ⟨Nat.le_refl 0, Nat.le_refl 0⟩) hP hD hS hA [0, 1, 2, 3, 4, 5, 6, 7, 8, 9, 10, 11, 12] [] [0, 1, 2, 3, 4, 5, 6, 7, 8, 9, 10, 11, 12] rfl rfl (by decide) (by decide) (by decide) (fun _ => rfl) (fun _ => rfl) (fun r5 u H locs hw _ hP hD hS => ?_)
  obtain ⟨f_code_6, a_ways_7, a_needs_8⟩ := u
  have hP : va_P D vwCl (mdl ad dA f_isSaved f_changes f_code_6 f_length f_fault f_signMany f_at f_place a_g a_kept a_saved a_input a_signs a_ways_7 a_needs_8 a_walk a_one a_several a_ragged a_nextLine) H := hP
  have hD : va_D A (mdl ad dA f_isSaved f_changes f_code_6 f_length f_fault f_signMany f_at f_place a_g a_kept a_saved a_input a_signs a_ways_7 a_needs_8 a_walk a_one a_several a_ragged a_nextLine) := hD
  exact W.lret (v := r5) hx hb hr (fun t ht hW => ⟨⟨r5, (f_code_6, a_ways_7, a_needs_8), rfl, hw, by rw [ht]; exact hP, va_K.moved hW.alike hK, hD⟩, hS.F ht⟩) hS.2.2 dX3_processionsByTrying_4
def rm_X3_walks : Room := { frames := 3, cells := 0, slots := 0, locals := 68 }
set_option maxHeartbeats 4000000 in
set_option maxRecDepth 100000 in
theorem met_X3_walks (l : Launch) (D : va_G) (dA : Nat → ClassId) (ad : Nat → Nat) (sz : Nat) (f_isSaved : Int32) (f_changes : Int32) (f_code : Int32) (f_length : Int32) (f_fault : Int32) (f_signMany : Int32) (f_at : Int32) (f_place : Int32) (a_g : (Nat → Int32)) (a_kept : (Nat → Int32)) (a_saved : (Nat → Int32)) (a_input : (Nat → Int32)) (a_signs : (Nat → Int32)) (a_ways : (Nat → Int64)) (a_needs : (Nat → Int32)) (a_walk : (Nat → Int32)) (a_one : (Nat → Int32)) (a_several : (Nat → Int32)) (a_ragged : (Nat → Int32)) (a_nextLine : (Nat → Int32)) (p0 : Int32) (post : (Nat → Int32) → (Nat → Int32) → Prop) (hw : w_X3_walks post a_g a_needs a_walk p0) : Met l yX3_walks (ws_ yX3_walks cX3_walks 6 none) rm_X3_walks (va_Pc [.ref (ad 0), .int p0] (wrB D dA sz (mdl ad dA f_isSaved f_changes f_code f_length f_fault f_signMany f_at f_place a_g a_kept a_saved a_input a_signs a_ways a_needs a_walk a_one a_several a_ragged a_nextLine))) (va_Qv (fun (u : (Nat → Int32) × (Nat → Int32)) => post u.1 u.2) (fun (u : (Nat → Int32) × (Nat → Int32)) t => wrQ D dA (va_A (mdl ad dA f_isSaved f_changes f_code f_length f_fault f_signMany f_at f_place a_g a_kept a_saved a_input a_signs a_ways a_needs a_walk a_one a_several a_ragged a_nextLine) sz) (mdl ad dA f_isSaved f_changes f_code f_length f_fault f_signMany f_at f_place a_g a_kept a_saved a_input a_signs a_ways u.1 u.2 a_one a_several a_ragged a_nextLine) t) (va_A (mdl ad dA f_isSaved f_changes f_code f_length f_fault f_signMany f_at f_place a_g a_kept a_saved a_input a_signs a_ways a_needs a_walk a_one a_several a_ragged a_nextLine) sz)) 0 0 (va_A (mdl ad dA f_isSaved f_changes f_code f_length f_fault f_signMany f_at f_place a_g a_kept a_saved a_input a_signs a_ways a_needs a_walk a_one a_several a_ragged a_nextLine) sz) := by
  refine Met.ofW (cc := cX3_walks) (maxL := 6) (ret := none) (by decide) rfl ?_
  intro p e s m args below meth c s₁ B hml hv
  obtain ⟨rfl, hsz, hP, hK, hD0⟩ := hv
  have hx := B.exec
  have hb := B.bytes
  have hr := B.returns
  have hts := atoms_spec (ws := (ws_ yX3_walks cX3_walks 6 none)) B.pre
  have hts : ∀ w ∈ lw_all, w.before _ s = true := fun w h => hts w (List.mem_cons_of_mem _ h)
  have hown : s.vm.findClass RX3 = some m.cls := findClass_of_methodNamed B.named
  have hlocks := B.notSynchronized
  have hSx : CallFix p m c cX3_walks 6 s _ lw_all RX3 := ⟨hx, hb, hml, hown, hts⟩
  subst hsz
  have hD := hD0.self (sz := s.heap.size)
  generalize hAe : va_A (mdl ad dA f_isSaved f_changes f_code f_length f_fault f_signMany f_at f_place a_g a_kept a_saved a_input a_signs a_ways a_needs a_walk a_one a_several a_ragged a_nextLine) s.heap.size = A at hD ⊢
  have hA : ∀ q : Nat, s.heap.size ≤ q → A q := fun q h => by rw [← hAe]; exact Or.inr h
  have hS : va_S A s.heap s.heap [] := va_S.rf
  have hl := lv_entry ([.ref (ad 0), .int p0]) (n := 6) (Nat.le_of_ble_eq_true rfl)
  rw [lg_entry_eq]
  generalize (lg_sl ([.ref (ad 0), .int p0]) ++ List.replicate (6 - (lg_sl ([.ref (ad 0), .int p0])).length) Slot.unset).toArray = ls at hl ⊢
  have hl : lv_has ls 6 [(0, .ref (ad 0)), (1, .int p0)] := hl
  have hL98 : ∀ (k8 : (Nat → Int32) → (Nat → Int32) → Int32 → Int32 → Int32 → Prop) (hk8 : ∀ (a_needs : (Nat → Int32)) (a_walk : (Nat → Int32)) (v1 : Int32) (v2 : Int32) (v3 : Int32) (H : Heap) (locs : List Loc) (ls : Array Slot), va_P D vwCl (mdl ad dA f_isSaved f_changes f_code f_length f_fault f_signMany f_at f_place a_g a_kept a_saved a_input a_signs a_ways a_needs a_walk a_one a_several a_ragged a_nextLine) H → va_D A (mdl ad dA f_isSaved f_changes f_code f_length f_fault f_signMany f_at f_place a_g a_kept a_saved a_input a_signs a_ways a_needs a_walk a_one a_several a_ragged a_nextLine) → va_S A s.heap H locs → lv_has ls 6 [(0, .ref (ad 0)), (1, .int v1), (2, .int v2), (3, .int v3)] → k8 a_needs a_walk v1 v2 v3 → W p l e (headSpec (ws_ yX3_walks cX3_walks 6 none) rm_X3_walks).room s m ([.ref (ad 0), .int p0] : List Value).toArray below meth c H locs 0 0 (MQ below (va_Qv (fun (u : (Nat → Int32) × (Nat → Int32)) => post u.1 u.2) (fun (u : (Nat → Int32) × (Nat → Int32)) t => wrQ D dA A (mdl ad dA f_isSaved f_changes f_code f_length f_fault f_signMany f_at f_place a_g a_kept a_saved a_input a_signs a_ways u.1 u.2 a_one a_several a_ragged a_nextLine) t) A) ([.ref (ad 0), .int p0] : List Value).toArray s 0 0 A) (F0 m 8 ls [])) (k24 : (Nat → Int32) → (Nat → Int32) → Int32 → Int32 → Int32 → Int32 → Int32 → Prop) (hk24 : ∀ (a_needs : (Nat → Int32)) (a_walk : (Nat → Int32)) (v1 : Int32) (v2 : Int32) (v3 : Int32) (v4 : Int32) (v5 : Int32) (H : Heap) (locs : List Loc) (ls : Array Slot), va_P D vwCl (mdl ad dA f_isSaved f_changes f_code f_length f_fault f_signMany f_at f_place a_g a_kept a_saved a_input a_signs a_ways a_needs a_walk a_one a_several a_ragged a_nextLine) H → va_D A (mdl ad dA f_isSaved f_changes f_code f_length f_fault f_signMany f_at f_place a_g a_kept a_saved a_input a_signs a_ways a_needs a_walk a_one a_several a_ragged a_nextLine) → va_S A s.heap H locs → lv_has ls 6 [(0, .ref (ad 0)), (1, .int v1), (2, .int v2), (3, .int v3), (4, .int v4), (5, .int v5)] → k24 a_needs a_walk v1 v2 v3 v4 v5 → W p l e (headSpec (ws_ yX3_walks cX3_walks 6 none) rm_X3_walks).room s m ([.ref (ad 0), .int p0] : List Value).toArray below meth c H locs 0 0 (MQ below (va_Qv (fun (u : (Nat → Int32) × (Nat → Int32)) => post u.1 u.2) (fun (u : (Nat → Int32) × (Nat → Int32)) t => wrQ D dA A (mdl ad dA f_isSaved f_changes f_code f_length f_fault f_signMany f_at f_place a_g a_kept a_saved a_input a_signs a_ways u.1 u.2 a_one a_several a_ragged a_nextLine) t) A) ([.ref (ad 0), .int p0] : List Value).toArray s 0 0 A) (F0 m 24 ls [])) (a_needs : (Nat → Int32)) (a_walk : (Nat → Int32)) (v1 : Int32) (v2 : Int32) (v3 : Int32) (v4 : Int32) (v5 : Int32) (H : Heap) (locs : List Loc) (ls : Array Slot), va_P D vwCl (mdl ad dA f_isSaved f_changes f_code f_length f_fault f_signMany f_at f_place a_g a_kept a_saved a_input a_signs a_ways a_needs a_walk a_one a_several a_ragged a_nextLine) H → va_D A (mdl ad dA f_isSaved f_changes f_code f_length f_fault f_signMany f_at f_place a_g a_kept a_saved a_input a_signs a_ways a_needs a_walk a_one a_several a_ragged a_nextLine) → va_S A s.heap H locs → lv_has ls 6 [(0, .ref (ad 0)), (1, .int v1), (2, .int v2), (3, .int v3), (4, .int v4), (5, .int v5)] → (w_X3_walks_98 post a_g k8 k24) a_needs a_walk v1 v2 v3 v4 v5 → W p l e (headSpec (ws_ yX3_walks cX3_walks 6 none) rm_X3_walks).room s m ([.ref (ad 0), .int p0] : List Value).toArray below meth c H locs 0 0 (MQ below (va_Qv (fun (u : (Nat → Int32) × (Nat → Int32)) => post u.1 u.2) (fun (u : (Nat → Int32) × (Nat → Int32)) t => wrQ D dA A (mdl ad dA f_isSaved f_changes f_code f_length f_fault f_signMany f_at f_place a_g a_kept a_saved a_input a_signs a_ways u.1 u.2 a_one a_several a_ragged a_nextLine) t) A) ([.ref (ad 0), .int p0] : List Value).toArray s 0 0 A) (F0 m 98 ls []) := by
      intro k8 hk8 k24 hk24 a_needs a_walk v1 v2 v3 v4 v5 H locs ls hP hD hS hl hw
      refine lv_iinc (v := (v5 + (nI 1))) (lv' := [(5, .int (v5 + (nI 1))), (0, .ref (ad 0)), (1, .int v1), (2, .int v2), (3, .int v3), (4, .int v4)]) hx hb dX3_walks_98 hl (k := 5) rfl (congrArg (fun z => v5 + z) (by decide : Int32.ofInt (1) = (nI 1))) (by decide) rfl (fun ls hl => ?_)
      refine lv_goto (tgt := 24) hx hb dX3_walks_101 (by decide) ?_
      exact hk24 a_needs a_walk v1 v2 v3 v4 (v5 + (nI 1)) _ _ _ hP hD hS (lv_sub hl [1, 2, 3, 4, 5, 0] rfl) hw
  have hL94 : ∀ (k8 : (Nat → Int32) → (Nat → Int32) → Int32 → Int32 → Int32 → Prop) (hk8 : ∀ (a_needs : (Nat → Int32)) (a_walk : (Nat → Int32)) (v1 : Int32) (v2 : Int32) (v3 : Int32) (H : Heap) (locs : List Loc) (ls : Array Slot), va_P D vwCl (mdl ad dA f_isSaved f_changes f_code f_length f_fault f_signMany f_at f_place a_g a_kept a_saved a_input a_signs a_ways a_needs a_walk a_one a_several a_ragged a_nextLine) H → va_D A (mdl ad dA f_isSaved f_changes f_code f_length f_fault f_signMany f_at f_place a_g a_kept a_saved a_input a_signs a_ways a_needs a_walk a_one a_several a_ragged a_nextLine) → va_S A s.heap H locs → lv_has ls 6 [(0, .ref (ad 0)), (1, .int v1), (2, .int v2), (3, .int v3)] → k8 a_needs a_walk v1 v2 v3 → W p l e (headSpec (ws_ yX3_walks cX3_walks 6 none) rm_X3_walks).room s m ([.ref (ad 0), .int p0] : List Value).toArray below meth c H locs 0 0 (MQ below (va_Qv (fun (u : (Nat → Int32) × (Nat → Int32)) => post u.1 u.2) (fun (u : (Nat → Int32) × (Nat → Int32)) t => wrQ D dA A (mdl ad dA f_isSaved f_changes f_code f_length f_fault f_signMany f_at f_place a_g a_kept a_saved a_input a_signs a_ways u.1 u.2 a_one a_several a_ragged a_nextLine) t) A) ([.ref (ad 0), .int p0] : List Value).toArray s 0 0 A) (F0 m 8 ls [])) (k24 : (Nat → Int32) → (Nat → Int32) → Int32 → Int32 → Int32 → Int32 → Int32 → Prop) (hk24 : ∀ (a_needs : (Nat → Int32)) (a_walk : (Nat → Int32)) (v1 : Int32) (v2 : Int32) (v3 : Int32) (v4 : Int32) (v5 : Int32) (H : Heap) (locs : List Loc) (ls : Array Slot), va_P D vwCl (mdl ad dA f_isSaved f_changes f_code f_length f_fault f_signMany f_at f_place a_g a_kept a_saved a_input a_signs a_ways a_needs a_walk a_one a_several a_ragged a_nextLine) H → va_D A (mdl ad dA f_isSaved f_changes f_code f_length f_fault f_signMany f_at f_place a_g a_kept a_saved a_input a_signs a_ways a_needs a_walk a_one a_several a_ragged a_nextLine) → va_S A s.heap H locs → lv_has ls 6 [(0, .ref (ad 0)), (1, .int v1), (2, .int v2), (3, .int v3), (4, .int v4), (5, .int v5)] → k24 a_needs a_walk v1 v2 v3 v4 v5 → W p l e (headSpec (ws_ yX3_walks cX3_walks 6 none) rm_X3_walks).room s m ([.ref (ad 0), .int p0] : List Value).toArray below meth c H locs 0 0 (MQ below (va_Qv (fun (u : (Nat → Int32) × (Nat → Int32)) => post u.1 u.2) (fun (u : (Nat → Int32) × (Nat → Int32)) t => wrQ D dA A (mdl ad dA f_isSaved f_changes f_code f_length f_fault f_signMany f_at f_place a_g a_kept a_saved a_input a_signs a_ways u.1 u.2 a_one a_several a_ragged a_nextLine) t) A) ([.ref (ad 0), .int p0] : List Value).toArray s 0 0 A) (F0 m 24 ls [])) (a_needs : (Nat → Int32)) (a_walk : (Nat → Int32)) (v1 : Int32) (v2 : Int32) (v3 : Int32) (v5 : Int32) (H : Heap) (locs : List Loc) (ls : Array Slot), va_P D vwCl (mdl ad dA f_isSaved f_changes f_code f_length f_fault f_signMany f_at f_place a_g a_kept a_saved a_input a_signs a_ways a_needs a_walk a_one a_several a_ragged a_nextLine) H → va_D A (mdl ad dA f_isSaved f_changes f_code f_length f_fault f_signMany f_at f_place a_g a_kept a_saved a_input a_signs a_ways a_needs a_walk a_one a_several a_ragged a_nextLine) → va_S A s.heap H locs → lv_has ls 6 [(0, .ref (ad 0)), (1, .int v1), (2, .int v2), (3, .int v3), (5, .int v5)] → (w_X3_walks_94 post a_g k8 k24) a_needs a_walk v1 v2 v3 v5 → W p l e (headSpec (ws_ yX3_walks cX3_walks 6 none) rm_X3_walks).room s m ([.ref (ad 0), .int p0] : List Value).toArray below meth c H locs 0 0 (MQ below (va_Qv (fun (u : (Nat → Int32) × (Nat → Int32)) => post u.1 u.2) (fun (u : (Nat → Int32) × (Nat → Int32)) t => wrQ D dA A (mdl ad dA f_isSaved f_changes f_code f_length f_fault f_signMany f_at f_place a_g a_kept a_saved a_input a_signs a_ways u.1 u.2 a_one a_several a_ragged a_nextLine) t) A) ([.ref (ad 0), .int p0] : List Value).toArray s 0 0 A) (F0 m 94 ls []) := by
      intro k8 hk8 k24 hk24 a_needs a_walk v1 v2 v3 v5 H locs ls hP hD hS hl hw
      refine lv_iload hx hb dX3_walks_94 (lv_at hl 4 rfl) ?_
      refine lv_istore (lv' := [(4, .int v5), (0, .ref (ad 0)), (1, .int v1), (2, .int v2), (3, .int v3), (5, .int v5)]) hx hb dX3_walks_96 hl (by decide) rfl (fun ls hl => ?_)
      exact hL98 k8 hk8 k24 hk24 a_needs a_walk v1 v2 v3 v5 v5 _ _ _ hP hD hS (lv_sub hl [1, 2, 3, 4, 0, 5] rfl) hw
  have hL24 : ∀ (k8 : (Nat → Int32) → (Nat → Int32) → Int32 → Int32 → Int32 → Prop) (hk8 : ∀ (a_needs : (Nat → Int32)) (a_walk : (Nat → Int32)) (v1 : Int32) (v2 : Int32) (v3 : Int32) (H : Heap) (locs : List Loc) (ls : Array Slot), va_P D vwCl (mdl ad dA f_isSaved f_changes f_code f_length f_fault f_signMany f_at f_place a_g a_kept a_saved a_input a_signs a_ways a_needs a_walk a_one a_several a_ragged a_nextLine) H → va_D A (mdl ad dA f_isSaved f_changes f_code f_length f_fault f_signMany f_at f_place a_g a_kept a_saved a_input a_signs a_ways a_needs a_walk a_one a_several a_ragged a_nextLine) → va_S A s.heap H locs → lv_has ls 6 [(0, .ref (ad 0)), (1, .int v1), (2, .int v2), (3, .int v3)] → k8 a_needs a_walk v1 v2 v3 → W p l e (headSpec (ws_ yX3_walks cX3_walks 6 none) rm_X3_walks).room s m ([.ref (ad 0), .int p0] : List Value).toArray below meth c H locs 0 0 (MQ below (va_Qv (fun (u : (Nat → Int32) × (Nat → Int32)) => post u.1 u.2) (fun (u : (Nat → Int32) × (Nat → Int32)) t => wrQ D dA A (mdl ad dA f_isSaved f_changes f_code f_length f_fault f_signMany f_at f_place a_g a_kept a_saved a_input a_signs a_ways u.1 u.2 a_one a_several a_ragged a_nextLine) t) A) ([.ref (ad 0), .int p0] : List Value).toArray s 0 0 A) (F0 m 8 ls [])) (n : Nat) (a_needs : (Nat → Int32)) (a_walk : (Nat → Int32)) (v1 : Int32) (v2 : Int32) (v3 : Int32) (v4 : Int32) (v5 : Int32) (H : Heap) (locs : List Loc) (ls : Array Slot), va_P D vwCl (mdl ad dA f_isSaved f_changes f_code f_length f_fault f_signMany f_at f_place a_g a_kept a_saved a_input a_signs a_ways a_needs a_walk a_one a_several a_ragged a_nextLine) H → va_D A (mdl ad dA f_isSaved f_changes f_code f_length f_fault f_signMany f_at f_place a_g a_kept a_saved a_input a_signs a_ways a_needs a_walk a_one a_several a_ragged a_nextLine) → va_S A s.heap H locs → lv_has ls 6 [(0, .ref (ad 0)), (1, .int v1), (2, .int v2), (3, .int v3), (4, .int v4), (5, .int v5)] → lpF (fun _ _ _ _ _ _ _ => False) (w_X3_walks_24 post a_g k8) n a_needs a_walk v1 v2 v3 v4 v5 → W p l e (headSpec (ws_ yX3_walks cX3_walks 6 none) rm_X3_walks).room s m ([.ref (ad 0), .int p0] : List Value).toArray below meth c H locs 0 0 (MQ below (va_Qv (fun (u : (Nat → Int32) × (Nat → Int32)) => post u.1 u.2) (fun (u : (Nat → Int32) × (Nat → Int32)) t => wrQ D dA A (mdl ad dA f_isSaved f_changes f_code f_length f_fault f_signMany f_at f_place a_g a_kept a_saved a_input a_signs a_ways u.1 u.2 a_one a_several a_ragged a_nextLine) t) A) ([.ref (ad 0), .int p0] : List Value).toArray s 0 0 A) (F0 m 24 ls []) := by
    intro k8 hk8 n
    induction n with
    | zero => intro a_needs a_walk v1 v2 v3 v4 v5 H locs ls hP hD hS hl hw; exact absurd hw id
    | succ n hk24 =>
      intro a_needs a_walk v1 v2 v3 v4 v5 H locs ls hP hD hS hl hw
      generalize hk9 : lpF (fun _ _ _ _ _ _ _ => False) (w_X3_walks_24 post a_g k8) n = k24 at hk24
      have hw : (w_X3_walks_24 post a_g k8) k24 a_needs a_walk v1 v2 v3 v4 v5 := hk9 ▸ hw
      refine lv_iload hx hb dX3_walks_24 (lv_at hl 5 rfl) ?_
      refine lv_aload_n hx hb dX3_walks_26 rfl (lv_at hl 0 rfl) ?_
      refine va_get (D := D) (ci := 2) (v := .ref (ad 1)) (C := RX3) (T := TX3) (N := 20) hx hb hts in_X3 hown hK hP 0 rfl rfl 0 (by decide) (hts _ q1741) (fun _ h9 => h9) rfl dX3_walks_27 ?_
      refine lv_iconst (v := (nI 0)) hx hb dX3_walks_30 (by decide) ?_
      refine k_iald (k := 0) hx hb hK hP 1 0 rfl rfl (clK 0 (by decide)) (inK (by decide) (by decide)) dX3_walks_31 ?_
      refine lv_icmp_ge (tgt := 104) hx hb dX3_walks_32 (by decide) (fun c13 => ?_) (fun c13 => ?_)
      · have hw := hw.1 c13
        refine lv_aload_n hx hb dX3_walks_104 rfl (lv_at hl 0 rfl) ?_
        refine va_get (D := D) (ci := 2) (v := .ref (ad 8)) (C := RX3) (T := TX3) (N := 20) hx hb hts in_X3 hown hK hP 0 rfl rfl 13 (by decide) (hts _ q1754) (fun _ h9 => h9) rfl dX3_walks_105 ?_
        refine lv_iload_n hx hb dX3_walks_108 rfl (lv_at hl 3 rfl) ?_
        refine lv_iload hx hb dX3_walks_109 (lv_at hl 4 rfl) ?_
        obtain ⟨h14, hw⟩ := hw
        refine k_iast (k := v3.toNatClampNeg) hx hb hK hP hD hS 8 0 rfl rfl rfl h14 dX3_walks_111 (fun H locs hP hD hS => ?_)
        have hP : va_P D vwCl (mdl ad dA f_isSaved f_changes f_code f_length f_fault f_signMany f_at f_place a_g a_kept a_saved a_input a_signs a_ways a_needs (upd a_walk v3.toNatClampNeg v4) a_one a_several a_ragged a_nextLine) H := hP
        have hD : va_D A (mdl ad dA f_isSaved f_changes f_code f_length f_fault f_signMany f_at f_place a_g a_kept a_saved a_input a_signs a_ways a_needs (upd a_walk v3.toNatClampNeg v4) a_one a_several a_ragged a_nextLine) := hD
        refine lv_iload_n hx hb dX3_walks_112 rfl (lv_at hl 2 rfl) ?_
        refine lv_iconst (v := (nI 1)) hx hb dX3_walks_113 (by decide) ?_
        refine lv_iload hx hb dX3_walks_114 (lv_at hl 4 rfl) ?_
        refine lv_ishl hx hb dX3_walks_116 ?_
        refine lv_ior hx hb dX3_walks_117 ?_
        refine lv_istore_n (lv' := [(2, .int (v2 ||| ((nI 1) <<< (v4 &&& 31)))), (0, .ref (ad 0)), (1, .int v1), (3, .int v3), (4, .int v4), (5, .int v5)]) hx hb dX3_walks_118 rfl hl (by decide) rfl (fun ls hl => ?_)
        refine lv_iinc (v := (v3 + (nI 1))) (lv' := [(3, .int (v3 + (nI 1))), (2, .int (v2 ||| ((nI 1) <<< (v4 &&& 31)))), (0, .ref (ad 0)), (1, .int v1), (4, .int v4), (5, .int v5)]) hx hb dX3_walks_119 hl (k := 3) rfl (congrArg (fun z => v3 + z) (by decide : Int32.ofInt (1) = (nI 1))) (by decide) rfl (fun ls hl => ?_)
        refine lv_goto (tgt := 8) hx hb dX3_walks_122 (by decide) ?_
        exact hk8 a_needs (upd a_walk v3.toNatClampNeg v4) v1 (v2 ||| ((nI 1) <<< (v4 &&& 31))) (v3 + (nI 1)) _ _ _ hP hD hS (lv_sub hl [2, 3, 1, 0] rfl) hw
      · have hw := hw.2 c13
        refine lv_iload_n hx hb dX3_walks_35 rfl (lv_at hl 2 rfl) ?_
        refine lv_iload hx hb dX3_walks_36 (lv_at hl 5 rfl) ?_
        refine lv_ishr hx hb dX3_walks_38 ?_
        refine lv_iconst (v := (nI 1)) hx hb dX3_walks_39 (by decide) ?_
        refine lv_iand hx hb dX3_walks_40 ?_
        refine lv_iconst (v := (nI 1)) hx hb dX3_walks_41 (by decide) ?_
        refine lv_icmp_eq (tgt := 98) hx hb dX3_walks_42 (by decide) (fun c15 => ?_) (fun c15 => ?_)
        · have hw := hw.1 c15
          exact hL98 k8 hk8 k24 hk24 a_needs a_walk v1 v2 v3 v4 v5 _ _ _ hP hD hS (lv_sub hl [0, 1, 2, 3, 4, 5] rfl) hw
        · have hw := hw.2 c15
          refine lv_aload_n hx hb dX3_walks_45 rfl (lv_at hl 0 rfl) ?_
          refine va_get (D := D) (ci := 2) (v := .ref (ad 7)) (C := RX3) (T := TX3) (N := 20) hx hb hts in_X3 hown hK hP 0 rfl rfl 12 (by decide) (hts _ q1753) (fun _ h9 => h9) rfl dX3_walks_46 ?_
          refine lv_iload hx hb dX3_walks_49 (lv_at hl 5 rfl) ?_
          obtain ⟨h16, hw⟩ := hw
          refine k_iald (k := v5.toNatClampNeg) hx hb hK hP 7 0 rfl rfl rfl h16 dX3_walks_51 ?_
          refine lv_iload_n hx hb dX3_walks_52 rfl (lv_at hl 2 rfl) ?_
          refine lv_iconst (v := (-1)) hx hb dX3_walks_53 (by decide) ?_
          refine lv_ixor hx hb dX3_walks_54 ?_
          refine lv_iand hx hb dX3_walks_55 ?_
          refine lv_if_eq (tgt := 62) hx hb dX3_walks_56 (by decide) (fun c17 => ?_) (fun c17 => ?_)
          · have hw := hw.1 c17
            refine lv_iload hx hb dX3_walks_62 (lv_at hl 4 rfl) ?_
            refine lv_if_lt (tgt := 94) hx hb dX3_walks_64 (by decide) (fun c18 => ?_) (fun c18 => ?_)
            · have hw := hw.1 c18
              exact hL94 k8 hk8 k24 hk24 a_needs a_walk v1 v2 v3 v5 _ _ _ hP hD hS (lv_sub hl [0, 1, 2, 3, 5] rfl) hw
            · have hw := hw.2 c18
              refine lv_iload_n hx hb dX3_walks_67 rfl (lv_at hl 1 rfl) ?_
              refine lv_if_eq (tgt := 98) hx hb dX3_walks_68 (by decide) (fun c19 => ?_) (fun c19 => ?_)
              · have hw := hw.1 c19
                exact hL98 k8 hk8 k24 hk24 a_needs a_walk v1 v2 v3 v4 v5 _ _ _ hP hD hS (lv_sub hl [0, 1, 2, 3, 4, 5] rfl) hw
              · have hw := hw.2 c19
                refine lv_aload_n hx hb dX3_walks_71 rfl (lv_at hl 0 rfl) ?_
                refine va_get (D := D) (ci := 2) (v := .ref (ad 1)) (C := RX3) (T := TX3) (N := 20) hx hb hts in_X3 hown hK hP 0 rfl rfl 0 (by decide) (hts _ q1741) (fun _ h9 => h9) rfl dX3_walks_72 ?_
                refine lv_bipush (v := (nI 8)) hx hb dX3_walks_75 (by decide) ?_
                refine lv_iload hx hb dX3_walks_77 (lv_at hl 5 rfl) ?_
                refine lv_iadd hx hb dX3_walks_79 ?_
                obtain ⟨h20, hw⟩ := hw
                refine k_iald (k := ((nI 8) + v5).toNatClampNeg) hx hb hK hP 1 0 rfl rfl rfl h20 dX3_walks_80 ?_
                refine lv_aload_n hx hb dX3_walks_81 rfl (lv_at hl 0 rfl) ?_
                refine va_get (D := D) (ci := 2) (v := .ref (ad 1)) (C := RX3) (T := TX3) (N := 20) hx hb hts in_X3 hown hK hP 0 rfl rfl 0 (by decide) (hts _ q1741) (fun _ h9 => h9) rfl dX3_walks_82 ?_
                refine lv_bipush (v := (nI 8)) hx hb dX3_walks_85 (by decide) ?_
                refine lv_iload hx hb dX3_walks_87 (lv_at hl 4 rfl) ?_
                refine lv_iadd hx hb dX3_walks_89 ?_
                obtain ⟨h21, hw⟩ := hw
                refine k_iald (k := ((nI 8) + v4).toNatClampNeg) hx hb hK hP 1 0 rfl rfl rfl h21 dX3_walks_90 ?_
                refine lv_icmp_le (tgt := 98) hx hb dX3_walks_91 (by decide) (fun c22 => ?_) (fun c22 => ?_)
                · have hw := hw.1 c22
                  exact hL98 k8 hk8 k24 hk24 a_needs a_walk v1 v2 v3 v4 v5 _ _ _ hP hD hS (lv_sub hl [0, 1, 2, 3, 4, 5] rfl) hw
                · have hw := hw.2 c22
                  exact hL94 k8 hk8 k24 hk24 a_needs a_walk v1 v2 v3 v5 _ _ _ hP hD hS (lv_sub hl [0, 1, 2, 3, 5] rfl) hw
          · have hw := hw.2 c17
            refine lv_goto (tgt := 98) hx hb dX3_walks_59 (by decide) ?_
            exact hL98 k8 hk8 k24 hk24 a_needs a_walk v1 v2 v3 v4 v5 _ _ _ hP hD hS (lv_sub hl [0, 1, 2, 3, 4, 5] rfl) hw
  have hL8 : ∀  (n : Nat) (a_needs : (Nat → Int32)) (a_walk : (Nat → Int32)) (v1 : Int32) (v2 : Int32) (v3 : Int32) (H : Heap) (locs : List Loc) (ls : Array Slot), va_P D vwCl (mdl ad dA f_isSaved f_changes f_code f_length f_fault f_signMany f_at f_place a_g a_kept a_saved a_input a_signs a_ways a_needs a_walk a_one a_several a_ragged a_nextLine) H → va_D A (mdl ad dA f_isSaved f_changes f_code f_length f_fault f_signMany f_at f_place a_g a_kept a_saved a_input a_signs a_ways a_needs a_walk a_one a_several a_ragged a_nextLine) → va_S A s.heap H locs → lv_has ls 6 [(0, .ref (ad 0)), (1, .int v1), (2, .int v2), (3, .int v3)] → lpF (fun _ _ _ _ _ => False) (w_X3_walks_8 post a_g) n a_needs a_walk v1 v2 v3 → W p l e (headSpec (ws_ yX3_walks cX3_walks 6 none) rm_X3_walks).room s m ([.ref (ad 0), .int p0] : List Value).toArray below meth c H locs 0 0 (MQ below (va_Qv (fun (u : (Nat → Int32) × (Nat → Int32)) => post u.1 u.2) (fun (u : (Nat → Int32) × (Nat → Int32)) t => wrQ D dA A (mdl ad dA f_isSaved f_changes f_code f_length f_fault f_signMany f_at f_place a_g a_kept a_saved a_input a_signs a_ways u.1 u.2 a_one a_several a_ragged a_nextLine) t) A) ([.ref (ad 0), .int p0] : List Value).toArray s 0 0 A) (F0 m 8 ls []) := by
    intro  n
    induction n with
    | zero => intro a_needs a_walk v1 v2 v3 H locs ls hP hD hS hl hw; exact absurd hw id
    | succ n hk8 =>
      intro a_needs a_walk v1 v2 v3 H locs ls hP hD hS hl hw
      generalize hk9 : lpF (fun _ _ _ _ _ => False) (w_X3_walks_8 post a_g) n = k8 at hk8
      have hw : (w_X3_walks_8 post a_g) k8 a_needs a_walk v1 v2 v3 := hk9 ▸ hw
      refine lv_iload_n hx hb dX3_walks_8 rfl (lv_at hl 3 rfl) ?_
      refine lv_aload_n hx hb dX3_walks_9 rfl (lv_at hl 0 rfl) ?_
      refine va_get (D := D) (ci := 2) (v := .ref (ad 1)) (C := RX3) (T := TX3) (N := 20) hx hb hts in_X3 hown hK hP 0 rfl rfl 0 (by decide) (hts _ q1741) (fun _ h9 => h9) rfl dX3_walks_10 ?_
      refine lv_iconst (v := (nI 0)) hx hb dX3_walks_13 (by decide) ?_
      refine k_iald (k := 0) hx hb hK hP 1 0 rfl rfl (clK 0 (by decide)) (inK (by decide) (by decide)) dX3_walks_14 ?_
      refine lv_icmp_ge (tgt := 125) hx hb dX3_walks_15 (by decide) (fun c23 => ?_) (fun c23 => ?_)
      · have hw := hw.1 c23
        exact W.vret hx hb hr (fun t ht hW => ⟨⟨(a_needs, a_walk), rfl, hw, by rw [ht]; exact hP, va_K.moved hW.alike hK, hD⟩, hS.F ht⟩) hS.2.2 dX3_walks_125
      · have hw := hw.2 c23
        refine lv_iconst (v := (-1)) hx hb dX3_walks_18 (by decide) ?_
        refine lv_istore (lv' := [(4, .int (-1)), (0, .ref (ad 0)), (1, .int v1), (2, .int v2), (3, .int v3)]) hx hb dX3_walks_19 hl (by decide) rfl (fun ls hl => ?_)
        refine lv_iconst (v := (nI 0)) hx hb dX3_walks_21 (by decide) ?_
        refine lv_istore (lv' := [(5, .int (nI 0)), (4, .int (-1)), (0, .ref (ad 0)), (1, .int v1), (2, .int v2), (3, .int v3)]) hx hb dX3_walks_22 hl (by decide) rfl (fun ls hl => ?_)
        obtain ⟨n, hw⟩ := hw
        exact hL24 k8 hk8 n a_needs a_walk v1 v2 v3 (-1) (nI 0) _ _ _ hP hD hS (lv_sub hl [2, 3, 4, 5, 1, 0] rfl) hw
  refine lv_aload_n hx hb dX3_walks_0 rfl (lv_at hl 0 rfl) ?_
  refine k_wv (wn := fun (u : (Nat → Int32)) => (mdl ad dA f_isSaved f_changes f_code f_length f_fault f_signMany f_at f_place a_g a_kept a_saved a_input a_signs a_ways u a_walk a_one a_several a_ragged a_nextLine)) (wr := []) (k_wV (As := []) (rest := []) hSx (met_X3_layNeeds l D dA ad _ f_isSaved f_changes f_code f_length f_fault f_signMany f_at f_place a_g a_kept a_saved a_input a_signs a_ways a_needs a_walk a_one a_several a_ragged a_nextLine  _ hw) gX3_100 ⟨rfl, hd_X3_layNeeds⟩ ⟨Nat.le_of_ble_eq_true rfl, Nat.le_of_ble_eq_true rfl⟩ rfl rfl hP hK hD [0, 1, 2, 3, 4, 5, 6, 7, 8, 9, 10, 11, 12] rfl (by decide) rfl 0 rfl rfl rfl rfl hl.1 (Nat.le_of_ble_eq_true rfl) rfl dX3_walks_1 ⟨Nat.le_refl 0, Nat.le_refl 0⟩) hP hD hS hA [0, 1, 2, 3, 4, 5, 6, 7, 8, 9, 10, 11, 12] [] [0, 1, 2, 3, 4, 5, 6, 7, 8, 9, 10, 11, 12] rfl rfl (by decide) (by decide) (by decide) (fun _ => rfl) (fun _ => rfl) (fun u H locs hw _ hP hD hS => ?_)
  obtain ⟨a_needs_24, rfl⟩ : ∃ z, z = u := ⟨_, rfl⟩
  have hP : va_P D vwCl (mdl ad dA f_isSaved f_changes f_code f_length f_fault f_signMany f_at f_place a_g a_kept a_saved a_input a_signs a_ways a_needs_24 a_walk a_one a_several a_ragged a_nextLine) H := hP
  have hD : va_D A (mdl ad dA f_isSaved f_changes f_code f_length f_fault f_signMany f_at f_place a_g a_kept a_saved a_input a_signs a_ways a_needs_24 a_walk a_one a_several a_ragged a_nextLine) := hD
  refine lv_iconst (v := (nI 0)) hx hb dX3_walks_4 (by decide) ?_
  refine lv_istore_n (lv' := [(2, .int (nI 0)), (0, .ref (ad 0)), (1, .int p0)]) hx hb dX3_walks_5 rfl hl (by decide) rfl (fun ls hl => ?_)
  refine lv_iconst (v := (nI 0)) hx hb dX3_walks_6 (by decide) ?_
  refine lv_istore_n (lv' := [(3, .int (nI 0)), (2, .int (nI 0)), (0, .ref (ad 0)), (1, .int p0)]) hx hb dX3_walks_7 rfl hl (by decide) rfl (fun ls hl => ?_)
  obtain ⟨n, hw⟩ := hw
  exact hL8  n a_needs_24 a_walk p0 (nI 0) (nI 0) _ _ _ hP hD hS (lv_sub hl [2, 3, 1, 0] rfl) hw
theorem gX3_107 : GoodIn lw_all (wsV RX3 107 RX3 yX3_walks (ws_ yX3_walks cX3_walks 6 none)) := lw_V q1911 q1913 qs45 q84 q1914
theorem hd_X3_walks : yX3_walks.cls ≠ "java/lang/invoke/MethodHandle" ∧ yX3_walks.cls ≠ "java/lang/invoke/VarHandle" ∧ (parseMethodDescriptor yX3_walks.desc).map (fun d => d.parameters.length) = some 1 := by decide +kernel
def rm_X3_walker : Room := { frames := 4, cells := 0, slots := 0, locals := 93 }
set_option maxHeartbeats 4000000 in
set_option maxRecDepth 100000 in
theorem met_X3_walker (l : Launch) (D : va_G) (dA : Nat → ClassId) (ad : Nat → Nat) (sz : Nat) (f_isSaved : Int32) (f_changes : Int32) (f_code : Int32) (f_length : Int32) (f_fault : Int32) (f_signMany : Int32) (f_at : Int32) (f_place : Int32) (a_g : (Nat → Int32)) (a_kept : (Nat → Int32)) (a_saved : (Nat → Int32)) (a_input : (Nat → Int32)) (a_signs : (Nat → Int32)) (a_ways : (Nat → Int64)) (a_needs : (Nat → Int32)) (a_walk : (Nat → Int32)) (a_one : (Nat → Int32)) (a_several : (Nat → Int32)) (a_ragged : (Nat → Int32)) (a_nextLine : (Nat → Int32)) (p0 : Int32) (p1 : Int32) (post : Int32 → Int32 → (Nat → Int32) → (Nat → Int32) → Prop) (hw : w_X3_walker post f_code a_g a_needs a_walk p0 p1) : Met l yX3_walker (ws_ yX3_walker cX3_walker 3 (some .int)) rm_X3_walker (va_Pc [.ref (ad 0), .int p0, .int p1] (wrB D dA sz (mdl ad dA f_isSaved f_changes f_code f_length f_fault f_signMany f_at f_place a_g a_kept a_saved a_input a_signs a_ways a_needs a_walk a_one a_several a_ragged a_nextLine))) (va_Qi (fun (r : Int32) (u : Int32 × (Nat → Int32) × (Nat → Int32)) => post r u.1 u.2.1 u.2.2) (fun (u : Int32 × (Nat → Int32) × (Nat → Int32)) t => wrQ D dA (va_A (mdl ad dA f_isSaved f_changes f_code f_length f_fault f_signMany f_at f_place a_g a_kept a_saved a_input a_signs a_ways a_needs a_walk a_one a_several a_ragged a_nextLine) sz) (mdl ad dA f_isSaved f_changes u.1 f_length f_fault f_signMany f_at f_place a_g a_kept a_saved a_input a_signs a_ways u.2.1 u.2.2 a_one a_several a_ragged a_nextLine) t) (va_A (mdl ad dA f_isSaved f_changes f_code f_length f_fault f_signMany f_at f_place a_g a_kept a_saved a_input a_signs a_ways a_needs a_walk a_one a_several a_ragged a_nextLine) sz)) 0 0 (va_A (mdl ad dA f_isSaved f_changes f_code f_length f_fault f_signMany f_at f_place a_g a_kept a_saved a_input a_signs a_ways a_needs a_walk a_one a_several a_ragged a_nextLine) sz) := by
  refine Met.ofW (cc := cX3_walker) (maxL := 3) (ret := (some .int)) (by decide) rfl ?_
  intro p e s m args below meth c s₁ B hml hv
  obtain ⟨rfl, hsz, hP, hK, hD0⟩ := hv
  have hx := B.exec
  have hb := B.bytes
  have hr := B.returns
  have hts := atoms_spec (ws := (ws_ yX3_walker cX3_walker 3 (some .int))) B.pre
  have hts : ∀ w ∈ lw_all, w.before _ s = true := fun w h => hts w (List.mem_cons_of_mem _ h)
  have hown : s.vm.findClass RX3 = some m.cls := findClass_of_methodNamed B.named
  have hlocks := B.notSynchronized
  have hSx : CallFix p m c cX3_walker 3 s _ lw_all RX3 := ⟨hx, hb, hml, hown, hts⟩
  subst hsz
  have hD := hD0.self (sz := s.heap.size)
  generalize hAe : va_A (mdl ad dA f_isSaved f_changes f_code f_length f_fault f_signMany f_at f_place a_g a_kept a_saved a_input a_signs a_ways a_needs a_walk a_one a_several a_ragged a_nextLine) s.heap.size = A at hD ⊢
  have hA : ∀ q : Nat, s.heap.size ≤ q → A q := fun q h => by rw [← hAe]; exact Or.inr h
  have hS : va_S A s.heap s.heap [] := va_S.rf
  have hl := lv_entry ([.ref (ad 0), .int p0, .int p1]) (n := 3) (Nat.le_of_ble_eq_true rfl)
  rw [lg_entry_eq]
  generalize (lg_sl ([.ref (ad 0), .int p0, .int p1]) ++ List.replicate (3 - (lg_sl ([.ref (ad 0), .int p0, .int p1])).length) Slot.unset).toArray = ls at hl ⊢
  have hl : lv_has ls 3 [(0, .ref (ad 0)), (1, .int p0), (2, .int p1)] := hl
  have hL22 : ∀  (f_code : Int32) (a_needs : (Nat → Int32)) (a_walk : (Nat → Int32)) (v1 : Int32) (v2 : Int32) (s1 : Int32) (H : Heap) (locs : List Loc) (ls : Array Slot), va_P D vwCl (mdl ad dA f_isSaved f_changes f_code f_length f_fault f_signMany f_at f_place a_g a_kept a_saved a_input a_signs a_ways a_needs a_walk a_one a_several a_ragged a_nextLine) H → va_D A (mdl ad dA f_isSaved f_changes f_code f_length f_fault f_signMany f_at f_place a_g a_kept a_saved a_input a_signs a_ways a_needs a_walk a_one a_several a_ragged a_nextLine) → va_S A s.heap H locs → lv_has ls 3 [(0, .ref (ad 0)), (1, .int v1), (2, .int v2)] → (w_X3_walker_22 post a_g) f_code a_needs a_walk v1 v2 s1 → W p l e (headSpec (ws_ yX3_walker cX3_walker 3 (some .int)) rm_X3_walker).room s m ([.ref (ad 0), .int p0, .int p1] : List Value).toArray below meth c H locs 0 0 (MQ below (va_Qi (fun (r : Int32) (u : Int32 × (Nat → Int32) × (Nat → Int32)) => post r u.1 u.2.1 u.2.2) (fun (u : Int32 × (Nat → Int32) × (Nat → Int32)) t => wrQ D dA A (mdl ad dA f_isSaved f_changes u.1 f_length f_fault f_signMany f_at f_place a_g a_kept a_saved a_input a_signs a_ways u.2.1 u.2.2 a_one a_several a_ragged a_nextLine) t) A) ([.ref (ad 0), .int p0, .int p1] : List Value).toArray s 0 0 A) (F0 m 22 ls [.int s1, .ref (ad 0)]) := by
      intro  f_code a_needs a_walk v1 v2 s1 H locs ls hP hD hS hl hw
      refine k_wi (wn := fun (u : Int32) => (mdl ad dA f_isSaved f_changes u f_length f_fault f_signMany f_at f_place a_g a_kept a_saved a_input a_signs a_ways a_needs a_walk a_one a_several a_ragged a_nextLine)) (wr := []) (k_wV (As := [.int s1]) (rest := []) hSx (met_X3_fails l D dA ad _ f_isSaved f_changes f_code f_length f_fault f_signMany f_at f_place a_g a_kept a_saved a_input a_signs a_ways a_needs a_walk a_one a_several a_ragged a_nextLine s1 _ hw) gX3_70 ⟨rfl, hd_X3_fails⟩ ⟨Nat.le_of_ble_eq_true rfl, Nat.le_of_ble_eq_true rfl⟩ rfl rfl hP hK hD [0, 1, 2, 3, 4, 5, 6, 7, 8, 9, 10, 11, 12] rfl (by decide) rfl 0 rfl rfl rfl rfl hl.1 (Nat.le_of_ble_eq_true rfl) rfl dX3_walker_22 ⟨Nat.le_refl 0, Nat.le_refl 0⟩) hP hD hS hA [0, 1, 2, 3, 4, 5, 6, 7, 8, 9, 10, 11, 12] [] [0, 1, 2, 3, 4, 5, 6, 7, 8, 9, 10, 11, 12] rfl rfl (by decide) (by decide) (by decide) (fun _ => rfl) (fun _ => rfl) (fun r9 u H locs hw _ hP hD hS => ?_)
      obtain ⟨f_code_10, rfl⟩ : ∃ z, z = u := ⟨_, rfl⟩
      have hP : va_P D vwCl (mdl ad dA f_isSaved f_changes f_code_10 f_length f_fault f_signMany f_at f_place a_g a_kept a_saved a_input a_signs a_ways a_needs a_walk a_one a_several a_ragged a_nextLine) H := hP
      have hD : va_D A (mdl ad dA f_isSaved f_changes f_code_10 f_length f_fault f_signMany f_at f_place a_g a_kept a_saved a_input a_signs a_ways a_needs a_walk a_one a_several a_ragged a_nextLine) := hD
      refine lv_if_eq (tgt := 30) hx hb dX3_walker_25 (by decide) (fun c11 => ?_) (fun c11 => ?_)
      · have hw := hw.1 c11
        refine lv_aload_n hx hb dX3_walker_30 rfl (lv_at hl 0 rfl) ?_
        refine lv_iload_n hx hb dX3_walker_31 rfl (lv_at hl 2 rfl) ?_
        refine k_wv (wn := fun (u : (Nat → Int32) × (Nat → Int32)) => (mdl ad dA f_isSaved f_changes f_code_10 f_length f_fault f_signMany f_at f_place a_g a_kept a_saved a_input a_signs a_ways u.1 u.2 a_one a_several a_ragged a_nextLine)) (wr := []) (k_wV (As := [.int v2]) (rest := []) hSx (met_X3_walks l D dA ad _ f_isSaved f_changes f_code_10 f_length f_fault f_signMany f_at f_place a_g a_kept a_saved a_input a_signs a_ways a_needs a_walk a_one a_several a_ragged a_nextLine v2 _ hw) gX3_107 ⟨rfl, hd_X3_walks⟩ ⟨Nat.le_of_ble_eq_true rfl, Nat.le_of_ble_eq_true rfl⟩ rfl rfl hP hK hD [0, 1, 2, 3, 4, 5, 6, 7, 8, 9, 10, 11, 12] rfl (by decide) rfl 0 rfl rfl rfl rfl hl.1 (Nat.le_of_ble_eq_true rfl) rfl dX3_walker_32 ⟨Nat.le_refl 0, Nat.le_refl 0⟩) hP hD hS hA [0, 1, 2, 3, 4, 5, 6, 7, 8, 9, 10, 11, 12] [] [0, 1, 2, 3, 4, 5, 6, 7, 8, 9, 10, 11, 12] rfl rfl (by decide) (by decide) (by decide) (fun _ => rfl) (fun _ => rfl) (fun u H locs hw _ hP hD hS => ?_)
        obtain ⟨a_needs_12, a_walk_13⟩ := u
        have hP : va_P D vwCl (mdl ad dA f_isSaved f_changes f_code_10 f_length f_fault f_signMany f_at f_place a_g a_kept a_saved a_input a_signs a_ways a_needs_12 a_walk_13 a_one a_several a_ragged a_nextLine) H := hP
        have hD : va_D A (mdl ad dA f_isSaved f_changes f_code_10 f_length f_fault f_signMany f_at f_place a_g a_kept a_saved a_input a_signs a_ways a_needs_12 a_walk_13 a_one a_several a_ragged a_nextLine) := hD
        refine lv_aload_n hx hb dX3_walker_35 rfl (lv_at hl 0 rfl) ?_
        refine va_get (D := D) (ci := 2) (v := .ref (ad 8)) (C := RX3) (T := TX3) (N := 20) hx hb hts in_X3 hown hK hP 0 rfl rfl 13 (by decide) (hts _ q1754) (fun _ h9 => h9) rfl dX3_walker_36 ?_
        refine lv_iload_n hx hb dX3_walker_39 rfl (lv_at hl 1 rfl) ?_
        obtain ⟨h14, hw⟩ := hw
        refine k_iald (k := v1.toNatClampNeg) hx hb hK hP 8 0 rfl rfl rfl h14 dX3_walker_40 ?_
        exact W.iret (v := (a_walk_13 v1.toNatClampNeg)) hx hb hr (fun t ht hW => ⟨⟨(a_walk_13 v1.toNatClampNeg), (f_code_10, a_needs_12, a_walk_13), rfl, hw, by rw [ht]; exact hP, va_K.moved hW.alike hK, hD⟩, hS.F ht⟩) hS.2.2 dX3_walker_41
      · have hw := hw.2 c11
        refine lv_iconst (v := (nI 0)) hx hb dX3_walker_28 (by decide) ?_
        exact W.iret (v := (nI 0)) hx hb hr (fun t ht hW => ⟨⟨(nI 0), (f_code_10, a_needs, a_walk), rfl, hw, by rw [ht]; exact hP, va_K.moved hW.alike hK, hD⟩, hS.F ht⟩) hS.2.2 dX3_walker_29
  refine lv_aload_n hx hb dX3_walker_0 rfl (lv_at hl 0 rfl) ?_
  refine lv_iload_n hx hb dX3_walker_1 rfl (lv_at hl 1 rfl) ?_
  refine lv_iconst (v := (nI 0)) hx hb dX3_walker_2 (by decide) ?_
  refine lv_aload_n hx hb dX3_walker_3 rfl (lv_at hl 0 rfl) ?_
  refine va_get (D := D) (ci := 2) (v := .ref (ad 1)) (C := RX3) (T := TX3) (N := 20) hx hb hts in_X3 hown hK hP 0 rfl rfl 0 (by decide) (hts _ q1741) (fun _ h9 => h9) rfl dX3_walker_4 ?_
  refine lv_iconst (v := (nI 0)) hx hb dX3_walker_7 (by decide) ?_
  refine k_iald (k := 0) hx hb hK hP 1 0 rfl rfl (clK 0 (by decide)) (inK (by decide) (by decide)) dX3_walker_8 ?_
  refine lv_iconst (v := (nI 1)) hx hb dX3_walker_9 (by decide) ?_
  refine lv_isub hx hb dX3_walker_10 ?_
  refine k_ri (k_pS (As := [.int p0, .int (nI 0), .int ((a_g 0) - (nI 1))]) (rest := [.ref (ad 0)]) hSx (met_X3_in l p0 (nI 0) ((a_g 0) - (nI 1)) _ hw) gX3_62 hd_X3_in ⟨Nat.le_of_ble_eq_true rfl, Nat.le_of_ble_eq_true rfl⟩ rfl rfl rfl hl.1 (Nat.le_of_ble_eq_true rfl) rfl dX3_walker_11 ⟨Nat.le_refl 0, Nat.le_refl 0⟩) (fun r15 hw => ?_)
  refine lv_if_eq (tgt := 21) hx hb dX3_walker_14 (by decide) (fun c16 => ?_) (fun c16 => ?_)
  · have hw := hw.1 c16
    refine lv_iconst (v := (nI 1)) hx hb dX3_walker_21 (by decide) ?_
    exact hL22  f_code a_needs a_walk p0 p1 (nI 1) _ _ _ hP hD hS (lv_sub hl [0, 1, 2] rfl) hw
  · have hw := hw.2 c16
    refine lv_iconst (v := (nI 0)) hx hb dX3_walker_17 (by decide) ?_
    refine lv_goto (tgt := 22) hx hb dX3_walker_18 (by decide) ?_
    exact hL22  f_code a_needs a_walk p0 p1 (nI 0) _ _ _ hP hD hS (lv_sub hl [0, 1, 2] rfl) hw
theorem gX3_111 : GoodIn lw_all (wsV RX3 111 RX3 yX3_walker (ws_ yX3_walker cX3_walker 3 (some .int))) := lw_V q1907 q1909 qs44 q84 q1910
theorem hd_X3_walker : yX3_walker.cls ≠ "java/lang/invoke/MethodHandle" ∧ yX3_walker.cls ≠ "java/lang/invoke/VarHandle" ∧ (parseMethodDescriptor yX3_walker.desc).map (fun d => d.parameters.length) = some 2 := by decide +kernel
def rm_X3_firstProcessionAt : Room := { frames := 5, cells := 0, slots := 0, locals := 115 }
set_option maxHeartbeats 4000000 in
set_option maxRecDepth 100000 in
theorem met_X3_firstProcessionAt (l : Launch) (D : va_G) (dA : Nat → ClassId) (ad : Nat → Nat) (sz : Nat) (f_isSaved : Int32) (f_changes : Int32) (f_code : Int32) (f_length : Int32) (f_fault : Int32) (f_signMany : Int32) (f_at : Int32) (f_place : Int32) (a_g : (Nat → Int32)) (a_kept : (Nat → Int32)) (a_saved : (Nat → Int32)) (a_input : (Nat → Int32)) (a_signs : (Nat → Int32)) (a_ways : (Nat → Int64)) (a_needs : (Nat → Int32)) (a_walk : (Nat → Int32)) (a_one : (Nat → Int32)) (a_several : (Nat → Int32)) (a_ragged : (Nat → Int32)) (a_nextLine : (Nat → Int32)) (p0 : Int32) (post : Int32 → Int32 → (Nat → Int32) → (Nat → Int32) → Prop) (hw : w_X3_firstProcessionAt post f_code a_g a_needs a_walk p0) : Met l yX3_firstProcessionAt (ws_ yX3_firstProcessionAt cX3_firstProcessionAt 2 (some .int)) rm_X3_firstProcessionAt (va_Pc [.ref (ad 0), .int p0] (wrB D dA sz (mdl ad dA f_isSaved f_changes f_code f_length f_fault f_signMany f_at f_place a_g a_kept a_saved a_input a_signs a_ways a_needs a_walk a_one a_several a_ragged a_nextLine))) (va_Qi (fun (r : Int32) (u : Int32 × (Nat → Int32) × (Nat → Int32)) => post r u.1 u.2.1 u.2.2) (fun (u : Int32 × (Nat → Int32) × (Nat → Int32)) t => wrQ D dA (va_A (mdl ad dA f_isSaved f_changes f_code f_length f_fault f_signMany f_at f_place a_g a_kept a_saved a_input a_signs a_ways a_needs a_walk a_one a_several a_ragged a_nextLine) sz) (mdl ad dA f_isSaved f_changes u.1 f_length f_fault f_signMany f_at f_place a_g a_kept a_saved a_input a_signs a_ways u.2.1 u.2.2 a_one a_several a_ragged a_nextLine) t) (va_A (mdl ad dA f_isSaved f_changes f_code f_length f_fault f_signMany f_at f_place a_g a_kept a_saved a_input a_signs a_ways a_needs a_walk a_one a_several a_ragged a_nextLine) sz)) 0 0 (va_A (mdl ad dA f_isSaved f_changes f_code f_length f_fault f_signMany f_at f_place a_g a_kept a_saved a_input a_signs a_ways a_needs a_walk a_one a_several a_ragged a_nextLine) sz) := by
  refine Met.ofW (cc := cX3_firstProcessionAt) (maxL := 2) (ret := (some .int)) (by decide) rfl ?_
  intro p e s m args below meth c s₁ B hml hv
  obtain ⟨rfl, hsz, hP, hK, hD0⟩ := hv
  have hx := B.exec
  have hb := B.bytes
  have hr := B.returns
  have hts := atoms_spec (ws := (ws_ yX3_firstProcessionAt cX3_firstProcessionAt 2 (some .int))) B.pre
  have hts : ∀ w ∈ lw_all, w.before _ s = true := fun w h => hts w (List.mem_cons_of_mem _ h)
  have hown : s.vm.findClass RX3 = some m.cls := findClass_of_methodNamed B.named
  have hlocks := B.notSynchronized
  have hSx : CallFix p m c cX3_firstProcessionAt 2 s _ lw_all RX3 := ⟨hx, hb, hml, hown, hts⟩
  subst hsz
  have hD := hD0.self (sz := s.heap.size)
  generalize hAe : va_A (mdl ad dA f_isSaved f_changes f_code f_length f_fault f_signMany f_at f_place a_g a_kept a_saved a_input a_signs a_ways a_needs a_walk a_one a_several a_ragged a_nextLine) s.heap.size = A at hD ⊢
  have hA : ∀ q : Nat, s.heap.size ≤ q → A q := fun q h => by rw [← hAe]; exact Or.inr h
  have hS : va_S A s.heap s.heap [] := va_S.rf
  have hl := lv_entry ([.ref (ad 0), .int p0]) (n := 2) (Nat.le_of_ble_eq_true rfl)
  rw [lg_entry_eq]
  generalize (lg_sl ([.ref (ad 0), .int p0]) ++ List.replicate (2 - (lg_sl ([.ref (ad 0), .int p0])).length) Slot.unset).toArray = ls at hl ⊢
  have hl : lv_has ls 2 [(0, .ref (ad 0)), (1, .int p0)] := hl
  refine lv_aload_n hx hb dX3_firstProcessionAt_0 rfl (lv_at hl 0 rfl) ?_
  refine lv_iload_n hx hb dX3_firstProcessionAt_1 rfl (lv_at hl 1 rfl) ?_
  refine lv_iconst (v := (nI 0)) hx hb dX3_firstProcessionAt_2 (by decide) ?_
  refine k_wi (wn := fun (u : Int32 × (Nat → Int32) × (Nat → Int32)) => (mdl ad dA f_isSaved f_changes u.1 f_length f_fault f_signMany f_at f_place a_g a_kept a_saved a_input a_signs a_ways u.2.1 u.2.2 a_one a_several a_ragged a_nextLine)) (wr := []) (k_wV (As := [.int p0, .int (nI 0)]) (rest := []) hSx (met_X3_walker l D dA ad _ f_isSaved f_changes f_code f_length f_fault f_signMany f_at f_place a_g a_kept a_saved a_input a_signs a_ways a_needs a_walk a_one a_several a_ragged a_nextLine p0 (nI 0) _ hw) gX3_111 ⟨rfl, hd_X3_walker⟩ ⟨Nat.le_of_ble_eq_true rfl, Nat.le_of_ble_eq_true rfl⟩ rfl rfl hP hK hD [0, 1, 2, 3, 4, 5, 6, 7, 8, 9, 10, 11, 12] rfl (by decide) rfl 0 rfl rfl rfl rfl hl.1 (Nat.le_of_ble_eq_true rfl) rfl dX3_firstProcessionAt_3 ⟨Nat.le_refl 0, Nat.le_refl 0⟩) hP hD hS hA [0, 1, 2, 3, 4, 5, 6, 7, 8, 9, 10, 11, 12] [] [0, 1, 2, 3, 4, 5, 6, 7, 8, 9, 10, 11, 12] rfl rfl (by decide) (by decide) (by decide) (fun _ => rfl) (fun _ => rfl) (fun r5 u H locs hw _ hP hD hS => ?_)
  obtain ⟨f_code_6, a_needs_7, a_walk_8⟩ := u
  have hP : va_P D vwCl (mdl ad dA f_isSaved f_changes f_code_6 f_length f_fault f_signMany f_at f_place a_g a_kept a_saved a_input a_signs a_ways a_needs_7 a_walk_8 a_one a_several a_ragged a_nextLine) H := hP
  have hD : va_D A (mdl ad dA f_isSaved f_changes f_code_6 f_length f_fault f_signMany f_at f_place a_g a_kept a_saved a_input a_signs a_ways a_needs_7 a_walk_8 a_one a_several a_ragged a_nextLine) := hD
  exact W.iret (v := r5) hx hb hr (fun t ht hW => ⟨⟨r5, (f_code_6, a_needs_7, a_walk_8), rfl, hw, by rw [ht]; exact hP, va_K.moved hW.alike hK, hD⟩, hS.F ht⟩) hS.2.2 dX3_firstProcessionAt_6
def rm_X3_grandProcessionAt : Room := { frames := 5, cells := 0, slots := 0, locals := 115 }
set_option maxHeartbeats 4000000 in
set_option maxRecDepth 100000 in
theorem met_X3_grandProcessionAt (l : Launch) (D : va_G) (dA : Nat → ClassId) (ad : Nat → Nat) (sz : Nat) (f_isSaved : Int32) (f_changes : Int32) (f_code : Int32) (f_length : Int32) (f_fault : Int32) (f_signMany : Int32) (f_at : Int32) (f_place : Int32) (a_g : (Nat → Int32)) (a_kept : (Nat → Int32)) (a_saved : (Nat → Int32)) (a_input : (Nat → Int32)) (a_signs : (Nat → Int32)) (a_ways : (Nat → Int64)) (a_needs : (Nat → Int32)) (a_walk : (Nat → Int32)) (a_one : (Nat → Int32)) (a_several : (Nat → Int32)) (a_ragged : (Nat → Int32)) (a_nextLine : (Nat → Int32)) (p0 : Int32) (post : Int32 → Int32 → (Nat → Int32) → (Nat → Int32) → Prop) (hw : w_X3_grandProcessionAt post f_code a_g a_needs a_walk p0) : Met l yX3_grandProcessionAt (ws_ yX3_grandProcessionAt cX3_grandProcessionAt 2 (some .int)) rm_X3_grandProcessionAt (va_Pc [.ref (ad 0), .int p0] (wrB D dA sz (mdl ad dA f_isSaved f_changes f_code f_length f_fault f_signMany f_at f_place a_g a_kept a_saved a_input a_signs a_ways a_needs a_walk a_one a_several a_ragged a_nextLine))) (va_Qi (fun (r : Int32) (u : Int32 × (Nat → Int32) × (Nat → Int32)) => post r u.1 u.2.1 u.2.2) (fun (u : Int32 × (Nat → Int32) × (Nat → Int32)) t => wrQ D dA (va_A (mdl ad dA f_isSaved f_changes f_code f_length f_fault f_signMany f_at f_place a_g a_kept a_saved a_input a_signs a_ways a_needs a_walk a_one a_several a_ragged a_nextLine) sz) (mdl ad dA f_isSaved f_changes u.1 f_length f_fault f_signMany f_at f_place a_g a_kept a_saved a_input a_signs a_ways u.2.1 u.2.2 a_one a_several a_ragged a_nextLine) t) (va_A (mdl ad dA f_isSaved f_changes f_code f_length f_fault f_signMany f_at f_place a_g a_kept a_saved a_input a_signs a_ways a_needs a_walk a_one a_several a_ragged a_nextLine) sz)) 0 0 (va_A (mdl ad dA f_isSaved f_changes f_code f_length f_fault f_signMany f_at f_place a_g a_kept a_saved a_input a_signs a_ways a_needs a_walk a_one a_several a_ragged a_nextLine) sz) := by
  refine Met.ofW (cc := cX3_grandProcessionAt) (maxL := 2) (ret := (some .int)) (by decide) rfl ?_
  intro p e s m args below meth c s₁ B hml hv
  obtain ⟨rfl, hsz, hP, hK, hD0⟩ := hv
  have hx := B.exec
  have hb := B.bytes
  have hr := B.returns
  have hts := atoms_spec (ws := (ws_ yX3_grandProcessionAt cX3_grandProcessionAt 2 (some .int))) B.pre
  have hts : ∀ w ∈ lw_all, w.before _ s = true := fun w h => hts w (List.mem_cons_of_mem _ h)
  have hown : s.vm.findClass RX3 = some m.cls := findClass_of_methodNamed B.named
  have hlocks := B.notSynchronized
  have hSx : CallFix p m c cX3_grandProcessionAt 2 s _ lw_all RX3 := ⟨hx, hb, hml, hown, hts⟩
  subst hsz
  have hD := hD0.self (sz := s.heap.size)
  generalize hAe : va_A (mdl ad dA f_isSaved f_changes f_code f_length f_fault f_signMany f_at f_place a_g a_kept a_saved a_input a_signs a_ways a_needs a_walk a_one a_several a_ragged a_nextLine) s.heap.size = A at hD ⊢
  have hA : ∀ q : Nat, s.heap.size ≤ q → A q := fun q h => by rw [← hAe]; exact Or.inr h
  have hS : va_S A s.heap s.heap [] := va_S.rf
  have hl := lv_entry ([.ref (ad 0), .int p0]) (n := 2) (Nat.le_of_ble_eq_true rfl)
  rw [lg_entry_eq]
  generalize (lg_sl ([.ref (ad 0), .int p0]) ++ List.replicate (2 - (lg_sl ([.ref (ad 0), .int p0])).length) Slot.unset).toArray = ls at hl ⊢
  have hl : lv_has ls 2 [(0, .ref (ad 0)), (1, .int p0)] := hl
  refine lv_aload_n hx hb dX3_grandProcessionAt_0 rfl (lv_at hl 0 rfl) ?_
  refine lv_iload_n hx hb dX3_grandProcessionAt_1 rfl (lv_at hl 1 rfl) ?_
  refine lv_iconst (v := (nI 1)) hx hb dX3_grandProcessionAt_2 (by decide) ?_
  refine k_wi (wn := fun (u : Int32 × (Nat → Int32) × (Nat → Int32)) => (mdl ad dA f_isSaved f_changes u.1 f_length f_fault f_signMany f_at f_place a_g a_kept a_saved a_input a_signs a_ways u.2.1 u.2.2 a_one a_several a_ragged a_nextLine)) (wr := []) (k_wV (As := [.int p0, .int (nI 1)]) (rest := []) hSx (met_X3_walker l D dA ad _ f_isSaved f_changes f_code f_length f_fault f_signMany f_at f_place a_g a_kept a_saved a_input a_signs a_ways a_needs a_walk a_one a_several a_ragged a_nextLine p0 (nI 1) _ hw) gX3_111 ⟨rfl, hd_X3_walker⟩ ⟨Nat.le_of_ble_eq_true rfl, Nat.le_of_ble_eq_true rfl⟩ rfl rfl hP hK hD [0, 1, 2, 3, 4, 5, 6, 7, 8, 9, 10, 11, 12] rfl (by decide) rfl 0 rfl rfl rfl rfl hl.1 (Nat.le_of_ble_eq_true rfl) rfl dX3_grandProcessionAt_3 ⟨Nat.le_refl 0, Nat.le_refl 0⟩) hP hD hS hA [0, 1, 2, 3, 4, 5, 6, 7, 8, 9, 10, 11, 12] [] [0, 1, 2, 3, 4, 5, 6, 7, 8, 9, 10, 11, 12] rfl rfl (by decide) (by decide) (by decide) (fun _ => rfl) (fun _ => rfl) (fun r5 u H locs hw _ hP hD hS => ?_)
  obtain ⟨f_code_6, a_needs_7, a_walk_8⟩ := u
  have hP : va_P D vwCl (mdl ad dA f_isSaved f_changes f_code_6 f_length f_fault f_signMany f_at f_place a_g a_kept a_saved a_input a_signs a_ways a_needs_7 a_walk_8 a_one a_several a_ragged a_nextLine) H := hP
  have hD : va_D A (mdl ad dA f_isSaved f_changes f_code_6 f_length f_fault f_signMany f_at f_place a_g a_kept a_saved a_input a_signs a_ways a_needs_7 a_walk_8 a_one a_several a_ragged a_nextLine) := hD
  exact W.iret (v := r5) hx hb hr (fun t ht hW => ⟨⟨r5, (f_code_6, a_needs_7, a_walk_8), rfl, hw, by rw [ht]; exact hP, va_K.moved hW.alike hK, hD⟩, hS.F ht⟩) hS.2.2 dX3_grandProcessionAt_6
def rm_X3_lowestPlaceOf : Room := { frames := 3, cells := 0, slots := 0, locals := 64 }
set_option maxHeartbeats 4000000 in
set_option maxRecDepth 100000 in
theorem met_X3_lowestPlaceOf (l : Launch) (D : va_G) (dA : Nat → ClassId) (ad : Nat → Nat) (sz : Nat) (f_isSaved : Int32) (f_changes : Int32) (f_code : Int32) (f_length : Int32) (f_fault : Int32) (f_signMany : Int32) (f_at : Int32) (f_place : Int32) (a_g : (Nat → Int32)) (a_kept : (Nat → Int32)) (a_saved : (Nat → Int32)) (a_input : (Nat → Int32)) (a_signs : (Nat → Int32)) (a_ways : (Nat → Int64)) (a_needs : (Nat → Int32)) (a_walk : (Nat → Int32)) (a_one : (Nat → Int32)) (a_several : (Nat → Int32)) (a_ragged : (Nat → Int32)) (a_nextLine : (Nat → Int32)) (p0 : Int32) (post : Int32 → Int32 → Prop) (hw : w_X3_lowestPlaceOf post f_code a_g p0) : Met l yX3_lowestPlaceOf (ws_ yX3_lowestPlaceOf cX3_lowestPlaceOf 2 (some .int)) rm_X3_lowestPlaceOf (va_Pc [.ref (ad 0), .int p0] (wrB D dA sz (mdl ad dA f_isSaved f_changes f_code f_length f_fault f_signMany f_at f_place a_g a_kept a_saved a_input a_signs a_ways a_needs a_walk a_one a_several a_ragged a_nextLine))) (va_Qi (fun (r : Int32) (u : Int32) => post r u) (fun (u : Int32) t => wrQ D dA (va_A (mdl ad dA f_isSaved f_changes f_code f_length f_fault f_signMany f_at f_place a_g a_kept a_saved a_input a_signs a_ways a_needs a_walk a_one a_several a_ragged a_nextLine) sz) (mdl ad dA f_isSaved f_changes u f_length f_fault f_signMany f_at f_place a_g a_kept a_saved a_input a_signs a_ways a_needs a_walk a_one a_several a_ragged a_nextLine) t) (va_A (mdl ad dA f_isSaved f_changes f_code f_length f_fault f_signMany f_at f_place a_g a_kept a_saved a_input a_signs a_ways a_needs a_walk a_one a_several a_ragged a_nextLine) sz)) 0 0 (va_A (mdl ad dA f_isSaved f_changes f_code f_length f_fault f_signMany f_at f_place a_g a_kept a_saved a_input a_signs a_ways a_needs a_walk a_one a_several a_ragged a_nextLine) sz) := by
  refine Met.ofW (cc := cX3_lowestPlaceOf) (maxL := 2) (ret := (some .int)) (by decide) rfl ?_
  intro p e s m args below meth c s₁ B hml hv
  obtain ⟨rfl, hsz, hP, hK, hD0⟩ := hv
  have hx := B.exec
  have hb := B.bytes
  have hr := B.returns
  have hts := atoms_spec (ws := (ws_ yX3_lowestPlaceOf cX3_lowestPlaceOf 2 (some .int))) B.pre
  have hts : ∀ w ∈ lw_all, w.before _ s = true := fun w h => hts w (List.mem_cons_of_mem _ h)
  have hown : s.vm.findClass RX3 = some m.cls := findClass_of_methodNamed B.named
  have hlocks := B.notSynchronized
  have hSx : CallFix p m c cX3_lowestPlaceOf 2 s _ lw_all RX3 := ⟨hx, hb, hml, hown, hts⟩
  subst hsz
  have hD := hD0.self (sz := s.heap.size)
  generalize hAe : va_A (mdl ad dA f_isSaved f_changes f_code f_length f_fault f_signMany f_at f_place a_g a_kept a_saved a_input a_signs a_ways a_needs a_walk a_one a_several a_ragged a_nextLine) s.heap.size = A at hD ⊢
  have hA : ∀ q : Nat, s.heap.size ≤ q → A q := fun q h => by rw [← hAe]; exact Or.inr h
  have hS : va_S A s.heap s.heap [] := va_S.rf
  have hl := lv_entry ([.ref (ad 0), .int p0]) (n := 2) (Nat.le_of_ble_eq_true rfl)
  rw [lg_entry_eq]
  generalize (lg_sl ([.ref (ad 0), .int p0]) ++ List.replicate (2 - (lg_sl ([.ref (ad 0), .int p0])).length) Slot.unset).toArray = ls at hl ⊢
  have hl : lv_has ls 2 [(0, .ref (ad 0)), (1, .int p0)] := hl
  refine lv_aload_n hx hb dX3_lowestPlaceOf_0 rfl (lv_at hl 0 rfl) ?_
  refine lv_iload_n hx hb dX3_lowestPlaceOf_1 rfl (lv_at hl 1 rfl) ?_
  refine k_wi (wn := fun (u : Int32) => (mdl ad dA f_isSaved f_changes u f_length f_fault f_signMany f_at f_place a_g a_kept a_saved a_input a_signs a_ways a_needs a_walk a_one a_several a_ragged a_nextLine)) (wr := []) (k_wV (As := [.int p0]) (rest := []) hSx (met_X3_isNone l D dA ad _ f_isSaved f_changes f_code f_length f_fault f_signMany f_at f_place a_g a_kept a_saved a_input a_signs a_ways a_needs a_walk a_one a_several a_ragged a_nextLine p0 _ hw) gX3_94 ⟨rfl, hd_X3_isNone⟩ ⟨Nat.le_of_ble_eq_true rfl, Nat.le_of_ble_eq_true rfl⟩ rfl rfl hP hK hD [0, 1, 2, 3, 4, 5, 6, 7, 8, 9, 10, 11, 12] rfl (by decide) rfl 0 rfl rfl rfl rfl hl.1 (Nat.le_of_ble_eq_true rfl) rfl dX3_lowestPlaceOf_2 ⟨Nat.le_refl 0, Nat.le_refl 0⟩) hP hD hS hA [0, 1, 2, 3, 4, 5, 6, 7, 8, 9, 10, 11, 12] [] [0, 1, 2, 3, 4, 5, 6, 7, 8, 9, 10, 11, 12] rfl rfl (by decide) (by decide) (by decide) (fun _ => rfl) (fun _ => rfl) (fun r6 u H locs hw _ hP hD hS => ?_)
  obtain ⟨f_code_7, rfl⟩ : ∃ z, z = u := ⟨_, rfl⟩
  have hP : va_P D vwCl (mdl ad dA f_isSaved f_changes f_code_7 f_length f_fault f_signMany f_at f_place a_g a_kept a_saved a_input a_signs a_ways a_needs a_walk a_one a_several a_ragged a_nextLine) H := hP
  have hD : va_D A (mdl ad dA f_isSaved f_changes f_code_7 f_length f_fault f_signMany f_at f_place a_g a_kept a_saved a_input a_signs a_ways a_needs a_walk a_one a_several a_ragged a_nextLine) := hD
  refine lv_if_eq (tgt := 12) hx hb dX3_lowestPlaceOf_5 (by decide) (fun c8 => ?_) (fun c8 => ?_)
  · have hw := hw.1 c8
    refine lv_aload_n hx hb dX3_lowestPlaceOf_12 rfl (lv_at hl 0 rfl) ?_
    refine lv_iload_n hx hb dX3_lowestPlaceOf_13 rfl (lv_at hl 1 rfl) ?_
    refine k_ri (k_rV (As := [.int p0]) (rest := []) hSx (met_X3_ahead l D dA ad f_isSaved f_changes f_code_7 f_length f_fault f_signMany f_at f_place a_g a_kept a_saved a_input a_signs a_ways a_needs a_walk a_one a_several a_ragged a_nextLine p0 _ hw) gX3_97 ⟨rfl, hd_X3_ahead⟩ ⟨Nat.le_of_ble_eq_true rfl, Nat.le_of_ble_eq_true rfl⟩ rfl rfl hP hK [0, 1, 2, 3, 4, 5, 6, 7, 8, 9, 10, 11, 12] rfl 0 rfl rfl rfl rfl hl.1 (Nat.le_of_ble_eq_true rfl) rfl dX3_lowestPlaceOf_14 ⟨Nat.le_refl 0, Nat.le_refl 0⟩) (fun r9 hw => ?_)
    refine k_ri (k_pS (As := [.int r9]) (rest := []) hSx (met_X3_bits l r9 _ hw) gX3_80 hd_X3_bits ⟨Nat.le_of_ble_eq_true rfl, Nat.le_of_ble_eq_true rfl⟩ rfl rfl rfl hl.1 (Nat.le_of_ble_eq_true rfl) rfl dX3_lowestPlaceOf_17 ⟨Nat.le_refl 0, Nat.le_refl 0⟩) (fun r10 hw => ?_)
    exact W.iret (v := r10) hx hb hr (fun t ht hW => ⟨⟨r10, f_code_7, rfl, hw, by rw [ht]; exact hP, va_K.moved hW.alike hK, hD⟩, hS.F ht⟩) hS.2.2 dX3_lowestPlaceOf_20
  · have hw := hw.2 c8
    refine lv_iconst (v := (nI 0)) hx hb dX3_lowestPlaceOf_8 (by decide) ?_
    refine lv_goto (tgt := 20) hx hb dX3_lowestPlaceOf_9 (by decide) ?_
    exact W.iret (v := (nI 0)) hx hb hr (fun t ht hW => ⟨⟨(nI 0), f_code_7, rfl, hw, by rw [ht]; exact hP, va_K.moved hW.alike hK, hD⟩, hS.F ht⟩) hS.2.2 dX3_lowestPlaceOf_20
def rm_X3_type : Room := { frames := 1, cells := 0, slots := 0, locals := 22 }
set_option maxHeartbeats 4000000 in
set_option maxRecDepth 100000 in
theorem met_X3_type (l : Launch) (D : va_G) (dA : Nat → ClassId) (ad : Nat → Nat) (sz : Nat) (f_isSaved : Int32) (f_changes : Int32) (f_code : Int32) (f_length : Int32) (f_fault : Int32) (f_signMany : Int32) (f_at : Int32) (f_place : Int32) (a_g : (Nat → Int32)) (a_kept : (Nat → Int32)) (a_saved : (Nat → Int32)) (a_input : (Nat → Int32)) (a_signs : (Nat → Int32)) (a_ways : (Nat → Int64)) (a_needs : (Nat → Int32)) (a_walk : (Nat → Int32)) (a_one : (Nat → Int32)) (a_several : (Nat → Int32)) (a_ragged : (Nat → Int32)) (a_nextLine : (Nat → Int32)) (p0 : Int32) (post : Int32 → Int32 → Int32 → (Nat → Int32) → Prop) (hw : w_X3_type post f_code f_length a_input p0) : Met l yX3_type (ws_ yX3_type cX3_type 2 (some .int)) rm_X3_type (va_Pc [.ref (ad 0), .int p0] (wrB D dA sz (mdl ad dA f_isSaved f_changes f_code f_length f_fault f_signMany f_at f_place a_g a_kept a_saved a_input a_signs a_ways a_needs a_walk a_one a_several a_ragged a_nextLine))) (va_Qi (fun (r : Int32) (u : Int32 × Int32 × (Nat → Int32)) => post r u.1 u.2.1 u.2.2) (fun (u : Int32 × Int32 × (Nat → Int32)) t => wrQ D dA (va_A (mdl ad dA f_isSaved f_changes f_code f_length f_fault f_signMany f_at f_place a_g a_kept a_saved a_input a_signs a_ways a_needs a_walk a_one a_several a_ragged a_nextLine) sz) (mdl ad dA f_isSaved f_changes u.1 u.2.1 f_fault f_signMany f_at f_place a_g a_kept a_saved u.2.2 a_signs a_ways a_needs a_walk a_one a_several a_ragged a_nextLine) t) (va_A (mdl ad dA f_isSaved f_changes f_code f_length f_fault f_signMany f_at f_place a_g a_kept a_saved a_input a_signs a_ways a_needs a_walk a_one a_several a_ragged a_nextLine) sz)) 0 0 (va_A (mdl ad dA f_isSaved f_changes f_code f_length f_fault f_signMany f_at f_place a_g a_kept a_saved a_input a_signs a_ways a_needs a_walk a_one a_several a_ragged a_nextLine) sz) := by
  refine Met.ofW (cc := cX3_type) (maxL := 2) (ret := (some .int)) (by decide) rfl ?_
  intro p e s m args below meth c s₁ B hml hv
  obtain ⟨rfl, hsz, hP, hK, hD0⟩ := hv
  have hx := B.exec
  have hb := B.bytes
  have hr := B.returns
  have hts := atoms_spec (ws := (ws_ yX3_type cX3_type 2 (some .int))) B.pre
  have hts : ∀ w ∈ lw_all, w.before _ s = true := fun w h => hts w (List.mem_cons_of_mem _ h)
  have hown : s.vm.findClass RX3 = some m.cls := findClass_of_methodNamed B.named
  have hlocks := B.notSynchronized
  have hSx : CallFix p m c cX3_type 2 s _ lw_all RX3 := ⟨hx, hb, hml, hown, hts⟩
  subst hsz
  have hD := hD0.self (sz := s.heap.size)
  generalize hAe : va_A (mdl ad dA f_isSaved f_changes f_code f_length f_fault f_signMany f_at f_place a_g a_kept a_saved a_input a_signs a_ways a_needs a_walk a_one a_several a_ragged a_nextLine) s.heap.size = A at hD ⊢
  have hA : ∀ q : Nat, s.heap.size ≤ q → A q := fun q h => by rw [← hAe]; exact Or.inr h
  have hS : va_S A s.heap s.heap [] := va_S.rf
  have hl := lv_entry ([.ref (ad 0), .int p0]) (n := 2) (Nat.le_of_ble_eq_true rfl)
  rw [lg_entry_eq]
  generalize (lg_sl ([.ref (ad 0), .int p0]) ++ List.replicate (2 - (lg_sl ([.ref (ad 0), .int p0])).length) Slot.unset).toArray = ls at hl ⊢
  have hl : lv_has ls 2 [(0, .ref (ad 0)), (1, .int p0)] := hl
  have hL30 : ∀  (f_code : Int32) (f_length : Int32) (a_input : (Nat → Int32)) (v1 : Int32) (s1 : Int32) (H : Heap) (locs : List Loc) (ls : Array Slot), va_P D vwCl (mdl ad dA f_isSaved f_changes f_code f_length f_fault f_signMany f_at f_place a_g a_kept a_saved a_input a_signs a_ways a_needs a_walk a_one a_several a_ragged a_nextLine) H → va_D A (mdl ad dA f_isSaved f_changes f_code f_length f_fault f_signMany f_at f_place a_g a_kept a_saved a_input a_signs a_ways a_needs a_walk a_one a_several a_ragged a_nextLine) → va_S A s.heap H locs → lv_has ls 2 [(0, .ref (ad 0)), (1, .int v1)] → (w_X3_type_30 post) f_code f_length a_input v1 s1 → W p l e (headSpec (ws_ yX3_type cX3_type 2 (some .int)) rm_X3_type).room s m ([.ref (ad 0), .int p0] : List Value).toArray below meth c H locs 0 0 (MQ below (va_Qi (fun (r : Int32) (u : Int32 × Int32 × (Nat → Int32)) => post r u.1 u.2.1 u.2.2) (fun (u : Int32 × Int32 × (Nat → Int32)) t => wrQ D dA A (mdl ad dA f_isSaved f_changes u.1 u.2.1 f_fault f_signMany f_at f_place a_g a_kept a_saved u.2.2 a_signs a_ways a_needs a_walk a_one a_several a_ragged a_nextLine) t) A) ([.ref (ad 0), .int p0] : List Value).toArray s 0 0 A) (F0 m 30 ls [.int s1, .ref (ad 0)]) := by
      intro  f_code f_length a_input v1 s1 H locs ls hP hD hS hl hw
      refine k_wi (wn := fun (u : Int32) => (mdl ad dA f_isSaved f_changes u f_length f_fault f_signMany f_at f_place a_g a_kept a_saved a_input a_signs a_ways a_needs a_walk a_one a_several a_ragged a_nextLine)) (wr := []) (k_wV (As := [.int s1]) (rest := []) hSx (met_X3_fails l D dA ad _ f_isSaved f_changes f_code f_length f_fault f_signMany f_at f_place a_g a_kept a_saved a_input a_signs a_ways a_needs a_walk a_one a_several a_ragged a_nextLine s1 _ hw) gX3_70 ⟨rfl, hd_X3_fails⟩ ⟨Nat.le_of_ble_eq_true rfl, Nat.le_of_ble_eq_true rfl⟩ rfl rfl hP hK hD [0, 1, 2, 3, 4, 5, 6, 7, 8, 9, 10, 11, 12] rfl (by decide) rfl 0 rfl rfl rfl rfl hl.1 (Nat.le_of_ble_eq_true rfl) rfl dX3_type_30 ⟨Nat.le_refl 0, Nat.le_refl 0⟩) hP hD hS hA [0, 1, 2, 3, 4, 5, 6, 7, 8, 9, 10, 11, 12] [] [0, 1, 2, 3, 4, 5, 6, 7, 8, 9, 10, 11, 12] rfl rfl (by decide) (by decide) (by decide) (fun _ => rfl) (fun _ => rfl) (fun r8 u H locs hw _ hP hD hS => ?_)
      obtain ⟨f_code_9, rfl⟩ : ∃ z, z = u := ⟨_, rfl⟩
      have hP : va_P D vwCl (mdl ad dA f_isSaved f_changes f_code_9 f_length f_fault f_signMany f_at f_place a_g a_kept a_saved a_input a_signs a_ways a_needs a_walk a_one a_several a_ragged a_nextLine) H := hP
      have hD : va_D A (mdl ad dA f_isSaved f_changes f_code_9 f_length f_fault f_signMany f_at f_place a_g a_kept a_saved a_input a_signs a_ways a_needs a_walk a_one a_several a_ragged a_nextLine) := hD
      refine lv_if_eq (tgt := 38) hx hb dX3_type_33 (by decide) (fun c10 => ?_) (fun c10 => ?_)
      · have hw := hw.1 c10
        refine lv_aload_n hx hb dX3_type_38 rfl (lv_at hl 0 rfl) ?_
        refine va_get (D := D) (ci := 2) (v := .ref (ad 4)) (C := RX3) (T := TX3) (N := 20) hx hb hts in_X3 hown hK hP 0 rfl rfl 6 (by decide) (hts _ q1747) (fun _ h9 => h9) rfl dX3_type_39 ?_
        refine lv_aload_n hx hb dX3_type_42 rfl (lv_at hl 0 rfl) ?_
        refine va_get (D := D) (ci := 2) (v := .int f_length) (C := RX3) (T := TX3) (N := 20) hx hb hts in_X3 hown hK hP 0 rfl rfl 7 (by decide) (hts _ q1748) (fun _ h9 => h9) rfl dX3_type_43 ?_
        refine lv_iload_n hx hb dX3_type_46 rfl (lv_at hl 1 rfl) ?_
        obtain ⟨h11, hw⟩ := hw
        refine k_iast (k := f_length.toNatClampNeg) hx hb hK hP hD hS 4 0 rfl rfl rfl h11 dX3_type_47 (fun H locs hP hD hS => ?_)
        have hP : va_P D vwCl (mdl ad dA f_isSaved f_changes f_code_9 f_length f_fault f_signMany f_at f_place a_g a_kept a_saved (upd a_input f_length.toNatClampNeg v1) a_signs a_ways a_needs a_walk a_one a_several a_ragged a_nextLine) H := hP
        have hD : va_D A (mdl ad dA f_isSaved f_changes f_code_9 f_length f_fault f_signMany f_at f_place a_g a_kept a_saved (upd a_input f_length.toNatClampNeg v1) a_signs a_ways a_needs a_walk a_one a_several a_ragged a_nextLine) := hD
        refine lv_aload_n hx hb dX3_type_48 rfl (lv_at hl 0 rfl) ?_
        refine lv_dup hx hb dX3_type_49 rfl ?_
        refine va_get (D := D) (ci := 2) (v := .int f_length) (C := RX3) (T := TX3) (N := 20) hx hb hts in_X3 hown hK hP 0 rfl rfl 7 (by decide) (hts _ q1748) (fun _ h9 => h9) rfl dX3_type_50 ?_
        refine lv_iconst (v := (nI 1)) hx hb dX3_type_53 (by decide) ?_
        refine lv_iadd hx hb dX3_type_54 ?_
        refine va_put (D := D) (ci := 2) (v := .int (f_length + (nI 1))) (ty := .int) (C := RX3) (T := TX3) (N := 20) hx hb hts in_X3 tyX3 tyX3_ok nmX3 hown hK hP hD hS 0 rfl rfl 7 (by decide) (hts _ q1748) (fun _ h9 => h9) rfl (by decide +kernel) rfl rfl (Nat.le_of_ble_eq_true rfl) dX3_type_55 (fun H locs hP hD hS => ?_)
        have hP : va_P D vwCl (mdl ad dA f_isSaved f_changes f_code_9 (f_length + (nI 1)) f_fault f_signMany f_at f_place a_g a_kept a_saved (upd a_input f_length.toNatClampNeg v1) a_signs a_ways a_needs a_walk a_one a_several a_ragged a_nextLine) H := hP
        have hD : va_D A (mdl ad dA f_isSaved f_changes f_code_9 (f_length + (nI 1)) f_fault f_signMany f_at f_place a_g a_kept a_saved (upd a_input f_length.toNatClampNeg v1) a_signs a_ways a_needs a_walk a_one a_several a_ragged a_nextLine) := hD
        refine lv_aload_n hx hb dX3_type_58 rfl (lv_at hl 0 rfl) ?_
        refine va_get (D := D) (ci := 2) (v := .int (f_length + (nI 1))) (C := RX3) (T := TX3) (N := 20) hx hb hts in_X3 hown hK hP 0 rfl rfl 7 (by decide) (hts _ q1748) (fun _ h9 => h9) rfl dX3_type_59 ?_
        exact W.iret (v := (f_length + (nI 1))) hx hb hr (fun t ht hW => ⟨⟨(f_length + (nI 1)), (f_code_9, (f_length + (nI 1)), (upd a_input f_length.toNatClampNeg v1)), rfl, hw, by rw [ht]; exact hP, va_K.moved hW.alike hK, hD⟩, hS.F ht⟩) hS.2.2 dX3_type_62
      · have hw := hw.2 c10
        refine lv_iconst (v := (nI 0)) hx hb dX3_type_36 (by decide) ?_
        exact W.iret (v := (nI 0)) hx hb hr (fun t ht hW => ⟨⟨(nI 0), (f_code_9, f_length, a_input), rfl, hw, by rw [ht]; exact hP, va_K.moved hW.alike hK, hD⟩, hS.F ht⟩) hS.2.2 dX3_type_37
  refine lv_aload_n hx hb dX3_type_0 rfl (lv_at hl 0 rfl) ?_
  refine lv_iload_n hx hb dX3_type_1 rfl (lv_at hl 1 rfl) ?_
  refine lv_bipush (v := (nI 32)) hx hb dX3_type_2 (by decide) ?_
  refine lv_bipush (v := (nI 126)) hx hb dX3_type_4 (by decide) ?_
  refine k_ri (k_pS (As := [.int p0, .int (nI 32), .int (nI 126)]) (rest := [.ref (ad 0)]) hSx (met_X3_in l p0 (nI 32) (nI 126) _ hw) gX3_62 hd_X3_in ⟨Nat.le_of_ble_eq_true rfl, Nat.le_of_ble_eq_true rfl⟩ rfl rfl rfl hl.1 (Nat.le_of_ble_eq_true rfl) rfl dX3_type_6 ⟨Nat.le_refl 0, Nat.le_refl 0⟩) (fun r12 hw => ?_)
  refine lv_if_ne (tgt := 16) hx hb dX3_type_9 (by decide) (fun c13 => ?_) (fun c13 => ?_)
  · have hw := hw.2 c13
    refine lv_aload_n hx hb dX3_type_16 rfl (lv_at hl 0 rfl) ?_
    refine va_get (D := D) (ci := 2) (v := .int f_length) (C := RX3) (T := TX3) (N := 20) hx hb hts in_X3 hown hK hP 0 rfl rfl 7 (by decide) (hts _ q1748) (fun _ h9 => h9) rfl dX3_type_17 ?_
    refine lv_bipush (v := (nI 24)) hx hb dX3_type_20 (by decide) ?_
    refine lv_icmp_ne (tgt := 29) hx hb dX3_type_22 (by decide) (fun c14 => ?_) (fun c14 => ?_)
    · have hw := hw.2 c14
      refine lv_iconst (v := (nI 0)) hx hb dX3_type_29 (by decide) ?_
      exact hL30  f_code f_length a_input p0 (nI 0) _ _ _ hP hD hS (lv_sub hl [0, 1] rfl) hw
    · have hw := hw.1 c14
      refine lv_iconst (v := (nI 2)) hx hb dX3_type_25 (by decide) ?_
      refine lv_goto (tgt := 30) hx hb dX3_type_26 (by decide) ?_
      exact hL30  f_code f_length a_input p0 (nI 2) _ _ _ hP hD hS (lv_sub hl [0, 1] rfl) hw
  · have hw := hw.1 c13
    refine lv_iconst (v := (nI 1)) hx hb dX3_type_12 (by decide) ?_
    refine lv_goto (tgt := 30) hx hb dX3_type_13 (by decide) ?_
    exact hL30  f_code f_length a_input p0 (nI 1) _ _ _ hP hD hS (lv_sub hl [0, 1] rfl) hw
def rm_X3_clearText : Room := { frames := 0, cells := 0, slots := 0, locals := 0 }
set_option maxHeartbeats 4000000 in
set_option maxRecDepth 100000 in
theorem met_X3_clearText (l : Launch) (D : va_G) (dA : Nat → ClassId) (ad : Nat → Nat) (sz : Nat) (f_isSaved : Int32) (f_changes : Int32) (f_code : Int32) (f_length : Int32) (f_fault : Int32) (f_signMany : Int32) (f_at : Int32) (f_place : Int32) (a_g : (Nat → Int32)) (a_kept : (Nat → Int32)) (a_saved : (Nat → Int32)) (a_input : (Nat → Int32)) (a_signs : (Nat → Int32)) (a_ways : (Nat → Int64)) (a_needs : (Nat → Int32)) (a_walk : (Nat → Int32)) (a_one : (Nat → Int32)) (a_several : (Nat → Int32)) (a_ragged : (Nat → Int32)) (a_nextLine : (Nat → Int32))  (post : Int32 → Int32 → Int32 → Prop) (hw : w_X3_clearText post f_code f_length) : Met l yX3_clearText (ws_ yX3_clearText cX3_clearText 2 (some .int)) rm_X3_clearText (va_Pc [.ref (ad 0)] (wrB D dA sz (mdl ad dA f_isSaved f_changes f_code f_length f_fault f_signMany f_at f_place a_g a_kept a_saved a_input a_signs a_ways a_needs a_walk a_one a_several a_ragged a_nextLine))) (va_Qi (fun (r : Int32) (u : Int32 × Int32) => post r u.1 u.2) (fun (u : Int32 × Int32) t => wrQ D dA (va_A (mdl ad dA f_isSaved f_changes f_code f_length f_fault f_signMany f_at f_place a_g a_kept a_saved a_input a_signs a_ways a_needs a_walk a_one a_several a_ragged a_nextLine) sz) (mdl ad dA f_isSaved f_changes u.1 u.2 f_fault f_signMany f_at f_place a_g a_kept a_saved a_input a_signs a_ways a_needs a_walk a_one a_several a_ragged a_nextLine) t) (va_A (mdl ad dA f_isSaved f_changes f_code f_length f_fault f_signMany f_at f_place a_g a_kept a_saved a_input a_signs a_ways a_needs a_walk a_one a_several a_ragged a_nextLine) sz)) 0 0 (va_A (mdl ad dA f_isSaved f_changes f_code f_length f_fault f_signMany f_at f_place a_g a_kept a_saved a_input a_signs a_ways a_needs a_walk a_one a_several a_ragged a_nextLine) sz) := by
  refine Met.ofW (cc := cX3_clearText) (maxL := 2) (ret := (some .int)) (by decide) rfl ?_
  intro p e s m args below meth c s₁ B hml hv
  obtain ⟨rfl, hsz, hP, hK, hD0⟩ := hv
  have hx := B.exec
  have hb := B.bytes
  have hr := B.returns
  have hts := atoms_spec (ws := (ws_ yX3_clearText cX3_clearText 2 (some .int))) B.pre
  have hts : ∀ w ∈ lw_all, w.before _ s = true := fun w h => hts w (List.mem_cons_of_mem _ h)
  have hown : s.vm.findClass RX3 = some m.cls := findClass_of_methodNamed B.named
  have hlocks := B.notSynchronized
  have hSx : CallFix p m c cX3_clearText 2 s _ lw_all RX3 := ⟨hx, hb, hml, hown, hts⟩
  subst hsz
  have hD := hD0.self (sz := s.heap.size)
  generalize hAe : va_A (mdl ad dA f_isSaved f_changes f_code f_length f_fault f_signMany f_at f_place a_g a_kept a_saved a_input a_signs a_ways a_needs a_walk a_one a_several a_ragged a_nextLine) s.heap.size = A at hD ⊢
  have hA : ∀ q : Nat, s.heap.size ≤ q → A q := fun q h => by rw [← hAe]; exact Or.inr h
  have hS : va_S A s.heap s.heap [] := va_S.rf
  have hl := lv_entry ([.ref (ad 0)]) (n := 2) (Nat.le_of_ble_eq_true rfl)
  rw [lg_entry_eq]
  generalize (lg_sl ([.ref (ad 0)]) ++ List.replicate (2 - (lg_sl ([.ref (ad 0)])).length) Slot.unset).toArray = ls at hl ⊢
  have hl : lv_has ls 2 [(0, .ref (ad 0))] := hl
  refine lv_aload_n hx hb dX3_clearText_0 rfl (lv_at hl 0 rfl) ?_
  refine lv_iconst (v := (nI 0)) hx hb dX3_clearText_1 (by decide) ?_
  refine va_put (D := D) (ci := 2) (v := .int (nI 0)) (ty := .int) (C := RX3) (T := TX3) (N := 20) hx hb hts in_X3 tyX3 tyX3_ok nmX3 hown hK hP hD hS 0 rfl rfl 5 (by decide) (hts _ q1746) (fun _ h9 => h9) rfl (by decide +kernel) rfl rfl (Nat.le_of_ble_eq_true rfl) dX3_clearText_2 (fun H locs hP hD hS => ?_)
  have hP : va_P D vwCl (mdl ad dA f_isSaved f_changes (nI 0) f_length f_fault f_signMany f_at f_place a_g a_kept a_saved a_input a_signs a_ways a_needs a_walk a_one a_several a_ragged a_nextLine) H := hP
  have hD : va_D A (mdl ad dA f_isSaved f_changes (nI 0) f_length f_fault f_signMany f_at f_place a_g a_kept a_saved a_input a_signs a_ways a_needs a_walk a_one a_several a_ragged a_nextLine) := hD
  refine lv_aload_n hx hb dX3_clearText_5 rfl (lv_at hl 0 rfl) ?_
  refine va_get (D := D) (ci := 2) (v := .int f_length) (C := RX3) (T := TX3) (N := 20) hx hb hts in_X3 hown hK hP 0 rfl rfl 7 (by decide) (hts _ q1748) (fun _ h9 => h9) rfl dX3_clearText_6 ?_
  refine lv_istore_n (lv' := [(1, .int f_length), (0, .ref (ad 0))]) hx hb dX3_clearText_9 rfl hl (by decide) rfl (fun ls hl => ?_)
  refine lv_aload_n hx hb dX3_clearText_10 rfl (lv_at hl 1 rfl) ?_
  refine lv_iconst (v := (nI 0)) hx hb dX3_clearText_11 (by decide) ?_
  refine va_put (D := D) (ci := 2) (v := .int (nI 0)) (ty := .int) (C := RX3) (T := TX3) (N := 20) hx hb hts in_X3 tyX3 tyX3_ok nmX3 hown hK hP hD hS 0 rfl rfl 7 (by decide) (hts _ q1748) (fun _ h9 => h9) rfl (by decide +kernel) rfl rfl (Nat.le_of_ble_eq_true rfl) dX3_clearText_12 (fun H locs hP hD hS => ?_)
  have hP : va_P D vwCl (mdl ad dA f_isSaved f_changes (nI 0) (nI 0) f_fault f_signMany f_at f_place a_g a_kept a_saved a_input a_signs a_ways a_needs a_walk a_one a_several a_ragged a_nextLine) H := hP
  have hD : va_D A (mdl ad dA f_isSaved f_changes (nI 0) (nI 0) f_fault f_signMany f_at f_place a_g a_kept a_saved a_input a_signs a_ways a_needs a_walk a_one a_several a_ragged a_nextLine) := hD
  refine lv_iload_n hx hb dX3_clearText_15 rfl (lv_at hl 0 rfl) ?_
  exact W.iret (v := f_length) hx hb hr (fun t ht hW => ⟨⟨f_length, ((nI 0), (nI 0)), rfl, hw, by rw [ht]; exact hP, va_K.moved hW.alike hK, hD⟩, hS.F ht⟩) hS.2.2 dX3_clearText_16
def rm_X3_passes : Room := { frames := 0, cells := 0, slots := 0, locals := 0 }
set_option maxHeartbeats 4000000 in
set_option maxRecDepth 100000 in
theorem met_X3_passes (l : Launch) (D : va_G) (dA : Nat → ClassId) (ad : Nat → Nat) (sz : Nat) (f_isSaved : Int32) (f_changes : Int32) (f_code : Int32) (f_length : Int32) (f_fault : Int32) (f_signMany : Int32) (f_at : Int32) (f_place : Int32) (a_g : (Nat → Int32)) (a_kept : (Nat → Int32)) (a_saved : (Nat → Int32)) (a_input : (Nat → Int32)) (a_signs : (Nat → Int32)) (a_ways : (Nat → Int64)) (a_needs : (Nat → Int32)) (a_walk : (Nat → Int32)) (a_one : (Nat → Int32)) (a_several : (Nat → Int32)) (a_ragged : (Nat → Int32)) (a_nextLine : (Nat → Int32))  (post : Int32 → Prop) (hw : w_X3_passes post f_length f_at a_input) : Met l yX3_passes (ws_ yX3_passes cX3_passes 1 none) rm_X3_passes (va_Pc [.ref (ad 0)] (wrB D dA sz (mdl ad dA f_isSaved f_changes f_code f_length f_fault f_signMany f_at f_place a_g a_kept a_saved a_input a_signs a_ways a_needs a_walk a_one a_several a_ragged a_nextLine))) (va_Qv (fun (u : Int32) => post u) (fun (u : Int32) t => wrQ D dA (va_A (mdl ad dA f_isSaved f_changes f_code f_length f_fault f_signMany f_at f_place a_g a_kept a_saved a_input a_signs a_ways a_needs a_walk a_one a_several a_ragged a_nextLine) sz) (mdl ad dA f_isSaved f_changes f_code f_length f_fault f_signMany u f_place a_g a_kept a_saved a_input a_signs a_ways a_needs a_walk a_one a_several a_ragged a_nextLine) t) (va_A (mdl ad dA f_isSaved f_changes f_code f_length f_fault f_signMany f_at f_place a_g a_kept a_saved a_input a_signs a_ways a_needs a_walk a_one a_several a_ragged a_nextLine) sz)) 0 0 (va_A (mdl ad dA f_isSaved f_changes f_code f_length f_fault f_signMany f_at f_place a_g a_kept a_saved a_input a_signs a_ways a_needs a_walk a_one a_several a_ragged a_nextLine) sz) := by
  refine Met.ofW (cc := cX3_passes) (maxL := 1) (ret := none) (by decide) rfl ?_
  intro p e s m args below meth c s₁ B hml hv
  obtain ⟨rfl, hsz, hP, hK, hD0⟩ := hv
  have hx := B.exec
  have hb := B.bytes
  have hr := B.returns
  have hts := atoms_spec (ws := (ws_ yX3_passes cX3_passes 1 none)) B.pre
  have hts : ∀ w ∈ lw_all, w.before _ s = true := fun w h => hts w (List.mem_cons_of_mem _ h)
  have hown : s.vm.findClass RX3 = some m.cls := findClass_of_methodNamed B.named
  have hlocks := B.notSynchronized
  have hSx : CallFix p m c cX3_passes 1 s _ lw_all RX3 := ⟨hx, hb, hml, hown, hts⟩
  subst hsz
  have hD := hD0.self (sz := s.heap.size)
  generalize hAe : va_A (mdl ad dA f_isSaved f_changes f_code f_length f_fault f_signMany f_at f_place a_g a_kept a_saved a_input a_signs a_ways a_needs a_walk a_one a_several a_ragged a_nextLine) s.heap.size = A at hD ⊢
  have hA : ∀ q : Nat, s.heap.size ≤ q → A q := fun q h => by rw [← hAe]; exact Or.inr h
  have hS : va_S A s.heap s.heap [] := va_S.rf
  have hl := lv_entry ([.ref (ad 0)]) (n := 1) (Nat.le_of_ble_eq_true rfl)
  rw [lg_entry_eq]
  generalize (lg_sl ([.ref (ad 0)]) ++ List.replicate (1 - (lg_sl ([.ref (ad 0)])).length) Slot.unset).toArray = ls at hl ⊢
  have hl : lv_has ls 1 [(0, .ref (ad 0))] := hl
  have hL0 : ∀  (n : Nat) (f_at : Int32) (H : Heap) (locs : List Loc) (ls : Array Slot), va_P D vwCl (mdl ad dA f_isSaved f_changes f_code f_length f_fault f_signMany f_at f_place a_g a_kept a_saved a_input a_signs a_ways a_needs a_walk a_one a_several a_ragged a_nextLine) H → va_D A (mdl ad dA f_isSaved f_changes f_code f_length f_fault f_signMany f_at f_place a_g a_kept a_saved a_input a_signs a_ways a_needs a_walk a_one a_several a_ragged a_nextLine) → va_S A s.heap H locs → lv_has ls 1 [(0, .ref (ad 0))] → lpF (fun _ => False) (w_X3_passes_0 post f_length a_input) n f_at → W p l e (headSpec (ws_ yX3_passes cX3_passes 1 none) rm_X3_passes).room s m ([.ref (ad 0)] : List Value).toArray below meth c H locs 0 0 (MQ below (va_Qv (fun (u : Int32) => post u) (fun (u : Int32) t => wrQ D dA A (mdl ad dA f_isSaved f_changes f_code f_length f_fault f_signMany u f_place a_g a_kept a_saved a_input a_signs a_ways a_needs a_walk a_one a_several a_ragged a_nextLine) t) A) ([.ref (ad 0)] : List Value).toArray s 0 0 A) (F0 m 0 ls []) := by
    intro  n
    induction n with
    | zero => intro f_at H locs ls hP hD hS hl hw; exact absurd hw id
    | succ n hk0 =>
      intro f_at H locs ls hP hD hS hl hw
      generalize hk9 : lpF (fun _ => False) (w_X3_passes_0 post f_length a_input) n = k0 at hk0
      have hw : (w_X3_passes_0 post f_length a_input) k0 f_at := hk9 ▸ hw
      refine lv_aload_n hx hb dX3_passes_0 rfl (lv_at hl 0 rfl) ?_
      refine va_get (D := D) (ci := 2) (v := .int f_at) (C := RX3) (T := TX3) (N := 20) hx hb hts in_X3 hown hK hP 0 rfl rfl 14 (by decide) (hts _ q1755) (fun _ h9 => h9) rfl dX3_passes_1 ?_
      refine lv_aload_n hx hb dX3_passes_4 rfl (lv_at hl 0 rfl) ?_
      refine va_get (D := D) (ci := 2) (v := .int f_length) (C := RX3) (T := TX3) (N := 20) hx hb hts in_X3 hown hK hP 0 rfl rfl 7 (by decide) (hts _ q1748) (fun _ h9 => h9) rfl dX3_passes_5 ?_
      refine lv_icmp_ge (tgt := 38) hx hb dX3_passes_8 (by decide) (fun c7 => ?_) (fun c7 => ?_)
      · have hw := hw.1 c7
        exact W.vret hx hb hr (fun t ht hW => ⟨⟨f_at, rfl, hw, by rw [ht]; exact hP, va_K.moved hW.alike hK, hD⟩, hS.F ht⟩) hS.2.2 dX3_passes_38
      · have hw := hw.2 c7
        refine lv_aload_n hx hb dX3_passes_11 rfl (lv_at hl 0 rfl) ?_
        refine va_get (D := D) (ci := 2) (v := .ref (ad 4)) (C := RX3) (T := TX3) (N := 20) hx hb hts in_X3 hown hK hP 0 rfl rfl 6 (by decide) (hts _ q1747) (fun _ h9 => h9) rfl dX3_passes_12 ?_
        refine lv_aload_n hx hb dX3_passes_15 rfl (lv_at hl 0 rfl) ?_
        refine va_get (D := D) (ci := 2) (v := .int f_at) (C := RX3) (T := TX3) (N := 20) hx hb hts in_X3 hown hK hP 0 rfl rfl 14 (by decide) (hts _ q1755) (fun _ h9 => h9) rfl dX3_passes_16 ?_
        obtain ⟨h8, hw⟩ := hw
        refine k_iald (k := f_at.toNatClampNeg) hx hb hK hP 4 0 rfl rfl rfl h8 dX3_passes_19 ?_
        refine lv_bipush (v := (nI 33)) hx hb dX3_passes_20 (by decide) ?_
        refine lv_icmp_ne (tgt := 38) hx hb dX3_passes_22 (by decide) (fun c9 => ?_) (fun c9 => ?_)
        · have hw := hw.2 c9
          exact W.vret hx hb hr (fun t ht hW => ⟨⟨f_at, rfl, hw, by rw [ht]; exact hP, va_K.moved hW.alike hK, hD⟩, hS.F ht⟩) hS.2.2 dX3_passes_38
        · have hw := hw.1 c9
          refine lv_aload_n hx hb dX3_passes_25 rfl (lv_at hl 0 rfl) ?_
          refine lv_dup hx hb dX3_passes_26 rfl ?_
          refine va_get (D := D) (ci := 2) (v := .int f_at) (C := RX3) (T := TX3) (N := 20) hx hb hts in_X3 hown hK hP 0 rfl rfl 14 (by decide) (hts _ q1755) (fun _ h9 => h9) rfl dX3_passes_27 ?_
          refine lv_iconst (v := (nI 1)) hx hb dX3_passes_30 (by decide) ?_
          refine lv_iadd hx hb dX3_passes_31 ?_
          refine va_put (D := D) (ci := 2) (v := .int (f_at + (nI 1))) (ty := .int) (C := RX3) (T := TX3) (N := 20) hx hb hts in_X3 tyX3 tyX3_ok nmX3 hown hK hP hD hS 0 rfl rfl 14 (by decide) (hts _ q1755) (fun _ h9 => h9) rfl (by decide +kernel) rfl rfl (Nat.le_of_ble_eq_true rfl) dX3_passes_32 (fun H locs hP hD hS => ?_)
          have hP : va_P D vwCl (mdl ad dA f_isSaved f_changes f_code f_length f_fault f_signMany (f_at + (nI 1)) f_place a_g a_kept a_saved a_input a_signs a_ways a_needs a_walk a_one a_several a_ragged a_nextLine) H := hP
          have hD : va_D A (mdl ad dA f_isSaved f_changes f_code f_length f_fault f_signMany (f_at + (nI 1)) f_place a_g a_kept a_saved a_input a_signs a_ways a_needs a_walk a_one a_several a_ragged a_nextLine) := hD
          refine lv_goto (tgt := 0) hx hb dX3_passes_35 (by decide) ?_
          exact hk0 (f_at + (nI 1)) _ _ _ hP hD hS (lv_sub hl [0] rfl) hw
  obtain ⟨n, hw⟩ := hw
  exact hL0  n f_at _ _ _ hP hD hS (lv_sub hl [0] rfl) hw
theorem gX3_121 : GoodIn lw_all (wsV RX3 121 RX3 yX3_passes (ws_ yX3_passes cX3_passes 1 none)) := lw_V q1947 q1949 qs49 q84 q1950
theorem hd_X3_passes : yX3_passes.cls ≠ "java/lang/invoke/MethodHandle" ∧ yX3_passes.cls ≠ "java/lang/invoke/VarHandle" ∧ (parseMethodDescriptor yX3_passes.desc).map (fun d => d.parameters.length) = some 0 := by decide +kernel
def rm_X3_skips : Room := { frames := 1, cells := 0, slots := 0, locals := 20 }
set_option maxHeartbeats 4000000 in
set_option maxRecDepth 100000 in
theorem met_X3_skips (l : Launch) (D : va_G) (dA : Nat → ClassId) (ad : Nat → Nat) (sz : Nat) (f_isSaved : Int32) (f_changes : Int32) (f_code : Int32) (f_length : Int32) (f_fault : Int32) (f_signMany : Int32) (f_at : Int32) (f_place : Int32) (a_g : (Nat → Int32)) (a_kept : (Nat → Int32)) (a_saved : (Nat → Int32)) (a_input : (Nat → Int32)) (a_signs : (Nat → Int32)) (a_ways : (Nat → Int64)) (a_needs : (Nat → Int32)) (a_walk : (Nat → Int32)) (a_one : (Nat → Int32)) (a_several : (Nat → Int32)) (a_ragged : (Nat → Int32)) (a_nextLine : (Nat → Int32)) (p0 : Int32) (post : Int32 → Int32 → Prop) (hw : w_X3_skips post f_length f_at a_input p0) : Met l yX3_skips (ws_ yX3_skips cX3_skips 2 (some .boolean)) rm_X3_skips (va_Pc [.ref (ad 0), .int p0] (wrB D dA sz (mdl ad dA f_isSaved f_changes f_code f_length f_fault f_signMany f_at f_place a_g a_kept a_saved a_input a_signs a_ways a_needs a_walk a_one a_several a_ragged a_nextLine))) (va_Qi (fun (r : Int32) (u : Int32) => post r u) (fun (u : Int32) t => wrQ D dA (va_A (mdl ad dA f_isSaved f_changes f_code f_length f_fault f_signMany f_at f_place a_g a_kept a_saved a_input a_signs a_ways a_needs a_walk a_one a_several a_ragged a_nextLine) sz) (mdl ad dA f_isSaved f_changes f_code f_length f_fault f_signMany u f_place a_g a_kept a_saved a_input a_signs a_ways a_needs a_walk a_one a_several a_ragged a_nextLine) t) (va_A (mdl ad dA f_isSaved f_changes f_code f_length f_fault f_signMany f_at f_place a_g a_kept a_saved a_input a_signs a_ways a_needs a_walk a_one a_several a_ragged a_nextLine) sz)) 0 0 (va_A (mdl ad dA f_isSaved f_changes f_code f_length f_fault f_signMany f_at f_place a_g a_kept a_saved a_input a_signs a_ways a_needs a_walk a_one a_several a_ragged a_nextLine) sz) := by
  refine Met.ofW (cc := cX3_skips) (maxL := 2) (ret := (some .boolean)) (by decide) rfl ?_
  intro p e s m args below meth c s₁ B hml hv
  obtain ⟨rfl, hsz, hP, hK, hD0⟩ := hv
  have hx := B.exec
  have hb := B.bytes
  have hr := B.returns
  have hts := atoms_spec (ws := (ws_ yX3_skips cX3_skips 2 (some .boolean))) B.pre
  have hts : ∀ w ∈ lw_all, w.before _ s = true := fun w h => hts w (List.mem_cons_of_mem _ h)
  have hown : s.vm.findClass RX3 = some m.cls := findClass_of_methodNamed B.named
  have hlocks := B.notSynchronized
  have hSx : CallFix p m c cX3_skips 2 s _ lw_all RX3 := ⟨hx, hb, hml, hown, hts⟩
  subst hsz
  have hD := hD0.self (sz := s.heap.size)
  generalize hAe : va_A (mdl ad dA f_isSaved f_changes f_code f_length f_fault f_signMany f_at f_place a_g a_kept a_saved a_input a_signs a_ways a_needs a_walk a_one a_several a_ragged a_nextLine) s.heap.size = A at hD ⊢
  have hA : ∀ q : Nat, s.heap.size ≤ q → A q := fun q h => by rw [← hAe]; exact Or.inr h
  have hS : va_S A s.heap s.heap [] := va_S.rf
  have hl := lv_entry ([.ref (ad 0), .int p0]) (n := 2) (Nat.le_of_ble_eq_true rfl)
  rw [lg_entry_eq]
  generalize (lg_sl ([.ref (ad 0), .int p0]) ++ List.replicate (2 - (lg_sl ([.ref (ad 0), .int p0])).length) Slot.unset).toArray = ls at hl ⊢
  have hl : lv_has ls 2 [(0, .ref (ad 0)), (1, .int p0)] := hl
  refine lv_aload_n hx hb dX3_skips_0 rfl (lv_at hl 0 rfl) ?_
  refine k_wv (wn := fun (u : Int32) => (mdl ad dA f_isSaved f_changes f_code f_length f_fault f_signMany u f_place a_g a_kept a_saved a_input a_signs a_ways a_needs a_walk a_one a_several a_ragged a_nextLine)) (wr := []) (k_wV (As := []) (rest := []) hSx (met_X3_passes l D dA ad _ f_isSaved f_changes f_code f_length f_fault f_signMany f_at f_place a_g a_kept a_saved a_input a_signs a_ways a_needs a_walk a_one a_several a_ragged a_nextLine  _ hw) gX3_121 ⟨rfl, hd_X3_passes⟩ ⟨Nat.le_of_ble_eq_true rfl, Nat.le_of_ble_eq_true rfl⟩ rfl rfl hP hK hD [0, 1, 2, 3, 4, 5, 6, 7, 8, 9, 10, 11, 12] rfl (by decide) rfl 0 rfl rfl rfl rfl hl.1 (Nat.le_of_ble_eq_true rfl) rfl dX3_skips_1 ⟨Nat.le_refl 0, Nat.le_refl 0⟩) hP hD hS hA [0, 1, 2, 3, 4, 5, 6, 7, 8, 9, 10, 11, 12] [] [0, 1, 2, 3, 4, 5, 6, 7, 8, 9, 10, 11, 12] rfl rfl (by decide) (by decide) (by decide) (fun _ => rfl) (fun _ => rfl) (fun u H locs hw _ hP hD hS => ?_)
  obtain ⟨f_at_5, rfl⟩ : ∃ z, z = u := ⟨_, rfl⟩
  have hP : va_P D vwCl (mdl ad dA f_isSaved f_changes f_code f_length f_fault f_signMany f_at_5 f_place a_g a_kept a_saved a_input a_signs a_ways a_needs a_walk a_one a_several a_ragged a_nextLine) H := hP
  have hD : va_D A (mdl ad dA f_isSaved f_changes f_code f_length f_fault f_signMany f_at_5 f_place a_g a_kept a_saved a_input a_signs a_ways a_needs a_walk a_one a_several a_ragged a_nextLine) := hD
  refine lv_aload_n hx hb dX3_skips_4 rfl (lv_at hl 0 rfl) ?_
  refine va_get (D := D) (ci := 2) (v := .int f_at_5) (C := RX3) (T := TX3) (N := 20) hx hb hts in_X3 hown hK hP 0 rfl rfl 14 (by decide) (hts _ q1755) (fun _ h9 => h9) rfl dX3_skips_5 ?_
  refine lv_aload_n hx hb dX3_skips_8 rfl (lv_at hl 0 rfl) ?_
  refine va_get (D := D) (ci := 2) (v := .int f_length) (C := RX3) (T := TX3) (N := 20) hx hb hts in_X3 hown hK hP 0 rfl rfl 7 (by decide) (hts _ q1748) (fun _ h9 => h9) rfl dX3_skips_9 ?_
  refine lv_icmp_eq (tgt := 28) hx hb dX3_skips_12 (by decide) (fun c6 => ?_) (fun c6 => ?_)
  · have hw := hw.1 c6
    refine lv_iconst (v := (nI 0)) hx hb dX3_skips_28 (by decide) ?_
    exact W.zret (v := (nI 0)) hx hb hr rfl (fun t ht hW => ⟨⟨(nI 0), f_at_5, rfl, hw, by rw [ht]; exact hP, va_K.moved hW.alike hK, hD⟩, hS.F ht⟩) hS.2.2 dX3_skips_29
  · have hw := hw.2 c6
    refine lv_aload_n hx hb dX3_skips_15 rfl (lv_at hl 0 rfl) ?_
    refine va_get (D := D) (ci := 2) (v := .ref (ad 4)) (C := RX3) (T := TX3) (N := 20) hx hb hts in_X3 hown hK hP 0 rfl rfl 6 (by decide) (hts _ q1747) (fun _ h9 => h9) rfl dX3_skips_16 ?_
    refine lv_aload_n hx hb dX3_skips_19 rfl (lv_at hl 0 rfl) ?_
    refine va_get (D := D) (ci := 2) (v := .int f_at_5) (C := RX3) (T := TX3) (N := 20) hx hb hts in_X3 hown hK hP 0 rfl rfl 14 (by decide) (hts _ q1755) (fun _ h9 => h9) rfl dX3_skips_20 ?_
    obtain ⟨h7, hw⟩ := hw
    refine k_iald (k := f_at_5.toNatClampNeg) hx hb hK hP 4 0 rfl rfl rfl h7 dX3_skips_23 ?_
    refine lv_iload_n hx hb dX3_skips_24 rfl (lv_at hl 1 rfl) ?_
    refine lv_icmp_eq (tgt := 30) hx hb dX3_skips_25 (by decide) (fun c8 => ?_) (fun c8 => ?_)
    · have hw := hw.1 c8
      refine lv_aload_n hx hb dX3_skips_30 rfl (lv_at hl 0 rfl) ?_
      refine lv_dup hx hb dX3_skips_31 rfl ?_
      refine va_get (D := D) (ci := 2) (v := .int f_at_5) (C := RX3) (T := TX3) (N := 20) hx hb hts in_X3 hown hK hP 0 rfl rfl 14 (by decide) (hts _ q1755) (fun _ h9 => h9) rfl dX3_skips_32 ?_
      refine lv_iconst (v := (nI 1)) hx hb dX3_skips_35 (by decide) ?_
      refine lv_iadd hx hb dX3_skips_36 ?_
      refine va_put (D := D) (ci := 2) (v := .int (f_at_5 + (nI 1))) (ty := .int) (C := RX3) (T := TX3) (N := 20) hx hb hts in_X3 tyX3 tyX3_ok nmX3 hown hK hP hD hS 0 rfl rfl 14 (by decide) (hts _ q1755) (fun _ h9 => h9) rfl (by decide +kernel) rfl rfl (Nat.le_of_ble_eq_true rfl) dX3_skips_37 (fun H locs hP hD hS => ?_)
      have hP : va_P D vwCl (mdl ad dA f_isSaved f_changes f_code f_length f_fault f_signMany (f_at_5 + (nI 1)) f_place a_g a_kept a_saved a_input a_signs a_ways a_needs a_walk a_one a_several a_ragged a_nextLine) H := hP
      have hD : va_D A (mdl ad dA f_isSaved f_changes f_code f_length f_fault f_signMany (f_at_5 + (nI 1)) f_place a_g a_kept a_saved a_input a_signs a_ways a_needs a_walk a_one a_several a_ragged a_nextLine) := hD
      refine lv_iconst (v := (nI 1)) hx hb dX3_skips_40 (by decide) ?_
      exact W.zret (v := (nI 1)) hx hb hr rfl (fun t ht hW => ⟨⟨(nI 1), (f_at_5 + (nI 1)), rfl, hw, by rw [ht]; exact hP, va_K.moved hW.alike hK, hD⟩, hS.F ht⟩) hS.2.2 dX3_skips_41
    · have hw := hw.2 c8
      refine lv_iconst (v := (nI 0)) hx hb dX3_skips_28 (by decide) ?_
      exact W.zret (v := (nI 0)) hx hb hr rfl (fun t ht hW => ⟨⟨(nI 0), f_at_5, rfl, hw, by rw [ht]; exact hP, va_K.moved hW.alike hK, hD⟩, hS.F ht⟩) hS.2.2 dX3_skips_29
theorem gX3_124 : GoodIn lw_all (wsV RX3 124 RX3 yX3_skips (ws_ yX3_skips cX3_skips 2 (some .boolean))) := lw_V q1943 q1945 qs48 q84 q1946
theorem hd_X3_skips : yX3_skips.cls ≠ "java/lang/invoke/MethodHandle" ∧ yX3_skips.cls ≠ "java/lang/invoke/VarHandle" ∧ (parseMethodDescriptor yX3_skips.desc).map (fun d => d.parameters.length) = some 1 := by decide +kernel
theorem gX3_127 : GoodIn lw_all (wsV RX3 127 RX3 yX3_isRequest (ws_ yX3_isRequest cX3_isRequest 1 (some .boolean))) := lw_V q1939 q1941 qs47 q84 q1942
theorem hd_X3_isRequest : yX3_isRequest.cls ≠ "java/lang/invoke/MethodHandle" ∧ yX3_isRequest.cls ≠ "java/lang/invoke/VarHandle" ∧ (parseMethodDescriptor yX3_isRequest.desc).map (fun d => d.parameters.length) = some 0 := by decide +kernel
def rm_X3_isRequest (d : Nat) : Room := { frames := 2 + d, cells := 0, slots := 0, locals := 41 + 20 * d }
set_option maxHeartbeats 4000000 in
set_option maxRecDepth 100000 in
theorem met_X3_isRequest_r (l : Launch) (D : va_G) (dA : Nat → ClassId) : ∀ (d : Nat) (ad : Nat → Nat) (sz : Nat) (f_isSaved : Int32) (f_changes : Int32) (f_code : Int32) (f_length : Int32) (f_fault : Int32) (f_signMany : Int32) (f_at : Int32) (f_place : Int32) (a_g : (Nat → Int32)) (a_kept : (Nat → Int32)) (a_saved : (Nat → Int32)) (a_input : (Nat → Int32)) (a_signs : (Nat → Int32)) (a_ways : (Nat → Int64)) (a_needs : (Nat → Int32)) (a_walk : (Nat → Int32)) (a_one : (Nat → Int32)) (a_several : (Nat → Int32)) (a_ragged : (Nat → Int32)) (a_nextLine : (Nat → Int32))  (post : Int32 → Int32 → Prop) (hw : wR_X3_isRequest d post f_length f_at a_input), Met l yX3_isRequest (ws_ yX3_isRequest cX3_isRequest 1 (some .boolean)) (rm_X3_isRequest d) (va_Pc [.ref (ad 0)] (wrB D dA sz (mdl ad dA f_isSaved f_changes f_code f_length f_fault f_signMany f_at f_place a_g a_kept a_saved a_input a_signs a_ways a_needs a_walk a_one a_several a_ragged a_nextLine))) (va_Qi (fun (r : Int32) (u : Int32) => post r u) (fun (u : Int32) t => wrQ D dA (va_A (mdl ad dA f_isSaved f_changes f_code f_length f_fault f_signMany f_at f_place a_g a_kept a_saved a_input a_signs a_ways a_needs a_walk a_one a_several a_ragged a_nextLine) sz) (mdl ad dA f_isSaved f_changes f_code f_length f_fault f_signMany u f_place a_g a_kept a_saved a_input a_signs a_ways a_needs a_walk a_one a_several a_ragged a_nextLine) t) (va_A (mdl ad dA f_isSaved f_changes f_code f_length f_fault f_signMany f_at f_place a_g a_kept a_saved a_input a_signs a_ways a_needs a_walk a_one a_several a_ragged a_nextLine) sz)) 0 0 (va_A (mdl ad dA f_isSaved f_changes f_code f_length f_fault f_signMany f_at f_place a_g a_kept a_saved a_input a_signs a_ways a_needs a_walk a_one a_several a_ragged a_nextLine) sz) := by
  intro d
  induction d with
  | zero => intro ad sz f_isSaved f_changes f_code f_length f_fault f_signMany f_at f_place a_g a_kept a_saved a_input a_signs a_ways a_needs a_walk a_one a_several a_ragged a_nextLine  post hw; exact absurd hw id
  | succ d ih =>
  intro ad sz f_isSaved f_changes f_code f_length f_fault f_signMany f_at f_place a_g a_kept a_saved a_input a_signs a_ways a_needs a_walk a_one a_several a_ragged a_nextLine  post hw
  have hw : w_X3_isRequest (wR_X3_isRequest d) post f_length f_at a_input := hw
  refine Met.ofW (cc := cX3_isRequest) (maxL := 1) (ret := (some .boolean)) (by decide) rfl ?_
  intro p e s m args below meth c s₁ B hml hv
  obtain ⟨rfl, hsz, hP, hK, hD0⟩ := hv
  have hx := B.exec
  have hb := B.bytes
  have hr := B.returns
  have hts := atoms_spec (ws := (ws_ yX3_isRequest cX3_isRequest 1 (some .boolean))) B.pre
  have hts : ∀ w ∈ lw_all, w.before _ s = true := fun w h => hts w (List.mem_cons_of_mem _ h)
  have hown : s.vm.findClass RX3 = some m.cls := findClass_of_methodNamed B.named
  have hlocks := B.notSynchronized
  have hSx : CallFix p m c cX3_isRequest 1 s _ lw_all RX3 := ⟨hx, hb, hml, hown, hts⟩
  subst hsz
  have hD := hD0.self (sz := s.heap.size)
  generalize hAe : va_A (mdl ad dA f_isSaved f_changes f_code f_length f_fault f_signMany f_at f_place a_g a_kept a_saved a_input a_signs a_ways a_needs a_walk a_one a_several a_ragged a_nextLine) s.heap.size = A at hD ⊢
  have hA : ∀ q : Nat, s.heap.size ≤ q → A q := fun q h => by rw [← hAe]; exact Or.inr h
  have hS : va_S A s.heap s.heap [] := va_S.rf
  have hl := lv_entry ([.ref (ad 0)]) (n := 1) (Nat.le_of_ble_eq_true rfl)
  rw [lg_entry_eq]
  generalize (lg_sl ([.ref (ad 0)]) ++ List.replicate (1 - (lg_sl ([.ref (ad 0)])).length) Slot.unset).toArray = ls at hl ⊢
  have hl : lv_has ls 1 [(0, .ref (ad 0))] := hl
  have hL18 : ∀  (f_at : Int32) (H : Heap) (locs : List Loc) (ls : Array Slot), va_P D vwCl (mdl ad dA f_isSaved f_changes f_code f_length f_fault f_signMany f_at f_place a_g a_kept a_saved a_input a_signs a_ways a_needs a_walk a_one a_several a_ragged a_nextLine) H → va_D A (mdl ad dA f_isSaved f_changes f_code f_length f_fault f_signMany f_at f_place a_g a_kept a_saved a_input a_signs a_ways a_needs a_walk a_one a_several a_ragged a_nextLine) → va_S A s.heap H locs → lv_has ls 1 [(0, .ref (ad 0))] → (w_X3_isRequest_18 (wR_X3_isRequest d) post f_length a_input) f_at → W p l e (headSpec (ws_ yX3_isRequest cX3_isRequest 1 (some .boolean)) (rm_X3_isRequest (d + 1))).room s m ([.ref (ad 0)] : List Value).toArray below meth c H locs 0 0 (MQ below (va_Qi (fun (r : Int32) (u : Int32) => post r u) (fun (u : Int32) t => wrQ D dA A (mdl ad dA f_isSaved f_changes f_code f_length f_fault f_signMany u f_place a_g a_kept a_saved a_input a_signs a_ways a_needs a_walk a_one a_several a_ragged a_nextLine) t) A) ([.ref (ad 0)] : List Value).toArray s 0 0 A) (F0 m 18 ls []) := by
      intro  f_at H locs ls hP hD hS hl hw
      refine lv_aload_n hx hb dX3_isRequest_18 rfl (lv_at hl 0 rfl) ?_
      refine k_wi (wn := fun (u : Int32) => (mdl ad dA f_isSaved f_changes f_code f_length f_fault f_signMany u f_place a_g a_kept a_saved a_input a_signs a_ways a_needs a_walk a_one a_several a_ragged a_nextLine)) (wr := []) (k_wV (As := []) (rest := []) hSx (ih ad _ f_isSaved f_changes f_code f_length f_fault f_signMany f_at f_place a_g a_kept a_saved a_input a_signs a_ways a_needs a_walk a_one a_several a_ragged a_nextLine  _ hw) gX3_127 ⟨rfl, hd_X3_isRequest⟩ (by dsimp [headSpec, rm_X3_isRequest, rm_X3_isRequest]; omega) rfl rfl hP hK hD [0, 1, 2, 3, 4, 5, 6, 7, 8, 9, 10, 11, 12] rfl (by decide) rfl 0 rfl rfl rfl rfl hl.1 (Nat.le_of_ble_eq_true rfl) rfl dX3_isRequest_19 ⟨Nat.le_refl 0, Nat.le_refl 0⟩) hP hD hS hA [0, 1, 2, 3, 4, 5, 6, 7, 8, 9, 10, 11, 12] [] [0, 1, 2, 3, 4, 5, 6, 7, 8, 9, 10, 11, 12] rfl rfl (by decide) (by decide) (by decide) (fun _ => rfl) (fun _ => rfl) (fun r27 u H locs hw _ hP hD hS => ?_)
      obtain ⟨f_at_28, rfl⟩ : ∃ z, z = u := ⟨_, rfl⟩
      have hP : va_P D vwCl (mdl ad dA f_isSaved f_changes f_code f_length f_fault f_signMany f_at_28 f_place a_g a_kept a_saved a_input a_signs a_ways a_needs a_walk a_one a_several a_ragged a_nextLine) H := hP
      have hD : va_D A (mdl ad dA f_isSaved f_changes f_code f_length f_fault f_signMany f_at_28 f_place a_g a_kept a_saved a_input a_signs a_ways a_needs a_walk a_one a_several a_ragged a_nextLine) := hD
      obtain ⟨h29, hw⟩ := hw
      exact W.zret (v := r27) hx hb hr (isB_n h29) (fun t ht hW => ⟨⟨r27, f_at_28, rfl, hw, by rw [ht]; exact hP, va_K.moved hW.alike hK, hD⟩, hS.F ht⟩) hS.2.2 dX3_isRequest_22
  have hL32 : ∀  (n : Nat) (f_at : Int32) (H : Heap) (locs : List Loc) (ls : Array Slot), va_P D vwCl (mdl ad dA f_isSaved f_changes f_code f_length f_fault f_signMany f_at f_place a_g a_kept a_saved a_input a_signs a_ways a_needs a_walk a_one a_several a_ragged a_nextLine) H → va_D A (mdl ad dA f_isSaved f_changes f_code f_length f_fault f_signMany f_at f_place a_g a_kept a_saved a_input a_signs a_ways a_needs a_walk a_one a_several a_ragged a_nextLine) → va_S A s.heap H locs → lv_has ls 1 [(0, .ref (ad 0))] → lpF (fun _ => False) (w_X3_isRequest_32 (wR_X3_isRequest d) post f_length a_input) n f_at → W p l e (headSpec (ws_ yX3_isRequest cX3_isRequest 1 (some .boolean)) (rm_X3_isRequest (d + 1))).room s m ([.ref (ad 0)] : List Value).toArray below meth c H locs 0 0 (MQ below (va_Qi (fun (r : Int32) (u : Int32) => post r u) (fun (u : Int32) t => wrQ D dA A (mdl ad dA f_isSaved f_changes f_code f_length f_fault f_signMany u f_place a_g a_kept a_saved a_input a_signs a_ways a_needs a_walk a_one a_several a_ragged a_nextLine) t) A) ([.ref (ad 0)] : List Value).toArray s 0 0 A) (F0 m 32 ls []) := by
    intro  n
    induction n with
    | zero => intro f_at H locs ls hP hD hS hl hw; exact absurd hw id
    | succ n hk32 =>
      intro f_at H locs ls hP hD hS hl hw
      generalize hk9 : lpF (fun _ => False) (w_X3_isRequest_32 (wR_X3_isRequest d) post f_length a_input) n = k32 at hk32
      have hw : (w_X3_isRequest_32 (wR_X3_isRequest d) post f_length a_input) k32 f_at := hk9 ▸ hw
      refine lv_aload_n hx hb dX3_isRequest_32 rfl (lv_at hl 0 rfl) ?_
      refine k_wi (wn := fun (u : Int32) => (mdl ad dA f_isSaved f_changes f_code f_length f_fault f_signMany u f_place a_g a_kept a_saved a_input a_signs a_ways a_needs a_walk a_one a_several a_ragged a_nextLine)) (wr := []) (k_wV (As := []) (rest := []) hSx (ih ad _ f_isSaved f_changes f_code f_length f_fault f_signMany f_at f_place a_g a_kept a_saved a_input a_signs a_ways a_needs a_walk a_one a_several a_ragged a_nextLine  _ hw) gX3_127 ⟨rfl, hd_X3_isRequest⟩ (by dsimp [headSpec, rm_X3_isRequest, rm_X3_isRequest]; omega) rfl rfl hP hK hD [0, 1, 2, 3, 4, 5, 6, 7, 8, 9, 10, 11, 12] rfl (by decide) rfl 0 rfl rfl rfl rfl hl.1 (Nat.le_of_ble_eq_true rfl) rfl dX3_isRequest_33 ⟨Nat.le_refl 0, Nat.le_refl 0⟩) hP hD hS hA [0, 1, 2, 3, 4, 5, 6, 7, 8, 9, 10, 11, 12] [] [0, 1, 2, 3, 4, 5, 6, 7, 8, 9, 10, 11, 12] rfl rfl (by decide) (by decide) (by decide) (fun _ => rfl) (fun _ => rfl) (fun r30 u H locs hw _ hP hD hS => ?_)
      obtain ⟨f_at_31, rfl⟩ : ∃ z, z = u := ⟨_, rfl⟩
      have hP : va_P D vwCl (mdl ad dA f_isSaved f_changes f_code f_length f_fault f_signMany f_at_31 f_place a_g a_kept a_saved a_input a_signs a_ways a_needs a_walk a_one a_several a_ragged a_nextLine) H := hP
      have hD : va_D A (mdl ad dA f_isSaved f_changes f_code f_length f_fault f_signMany f_at_31 f_place a_g a_kept a_saved a_input a_signs a_ways a_needs a_walk a_one a_several a_ragged a_nextLine) := hD
      refine lv_if_ne (tgt := 41) hx hb dX3_isRequest_36 (by decide) (fun c32 => ?_) (fun c32 => ?_)
      · have hw := hw.2 c32
        refine lv_aload_n hx hb dX3_isRequest_41 rfl (lv_at hl 0 rfl) ?_
        refine lv_bipush (v := (nI 44)) hx hb dX3_isRequest_42 (by decide) ?_
        refine k_wi (wn := fun (u : Int32) => (mdl ad dA f_isSaved f_changes f_code f_length f_fault f_signMany u f_place a_g a_kept a_saved a_input a_signs a_ways a_needs a_walk a_one a_several a_ragged a_nextLine)) (wr := []) (k_wV (As := [.int (nI 44)]) (rest := []) hSx (met_X3_skips l D dA ad _ f_isSaved f_changes f_code f_length f_fault f_signMany f_at_31 f_place a_g a_kept a_saved a_input a_signs a_ways a_needs a_walk a_one a_several a_ragged a_nextLine (nI 44) _ hw) gX3_124 ⟨rfl, hd_X3_skips⟩ (by dsimp [headSpec, rm_X3_skips, rm_X3_isRequest]; omega) rfl rfl hP hK hD [0, 1, 2, 3, 4, 5, 6, 7, 8, 9, 10, 11, 12] rfl (by decide) rfl 0 rfl rfl rfl rfl hl.1 (Nat.le_of_ble_eq_true rfl) rfl dX3_isRequest_44 ⟨Nat.le_refl 0, Nat.le_refl 0⟩) hP hD hS hA [0, 1, 2, 3, 4, 5, 6, 7, 8, 9, 10, 11, 12] [] [0, 1, 2, 3, 4, 5, 6, 7, 8, 9, 10, 11, 12] rfl rfl (by decide) (by decide) (by decide) (fun _ => rfl) (fun _ => rfl) (fun r33 u H locs hw _ hP hD hS => ?_)
        obtain ⟨f_at_34, rfl⟩ : ∃ z, z = u := ⟨_, rfl⟩
        have hP : va_P D vwCl (mdl ad dA f_isSaved f_changes f_code f_length f_fault f_signMany f_at_34 f_place a_g a_kept a_saved a_input a_signs a_ways a_needs a_walk a_one a_several a_ragged a_nextLine) H := hP
        have hD : va_D A (mdl ad dA f_isSaved f_changes f_code f_length f_fault f_signMany f_at_34 f_place a_g a_kept a_saved a_input a_signs a_ways a_needs a_walk a_one a_several a_ragged a_nextLine) := hD
        refine lv_if_ne (tgt := 32) hx hb dX3_isRequest_47 (by decide) (fun c35 => ?_) (fun c35 => ?_)
        · have hw := hw.2 c35
          exact hk32 f_at_34 _ _ _ hP hD hS (lv_sub hl [0] rfl) hw
        · have hw := hw.1 c35
          refine lv_aload_n hx hb dX3_isRequest_50 rfl (lv_at hl 0 rfl) ?_
          refine lv_bipush (v := (nI 41)) hx hb dX3_isRequest_51 (by decide) ?_
          refine k_wi (wn := fun (u : Int32) => (mdl ad dA f_isSaved f_changes f_code f_length f_fault f_signMany u f_place a_g a_kept a_saved a_input a_signs a_ways a_needs a_walk a_one a_several a_ragged a_nextLine)) (wr := []) (k_wV (As := [.int (nI 41)]) (rest := []) hSx (met_X3_skips l D dA ad _ f_isSaved f_changes f_code f_length f_fault f_signMany f_at_34 f_place a_g a_kept a_saved a_input a_signs a_ways a_needs a_walk a_one a_several a_ragged a_nextLine (nI 41) _ hw) gX3_124 ⟨rfl, hd_X3_skips⟩ (by dsimp [headSpec, rm_X3_skips, rm_X3_isRequest]; omega) rfl rfl hP hK hD [0, 1, 2, 3, 4, 5, 6, 7, 8, 9, 10, 11, 12] rfl (by decide) rfl 0 rfl rfl rfl rfl hl.1 (Nat.le_of_ble_eq_true rfl) rfl dX3_isRequest_53 ⟨Nat.le_refl 0, Nat.le_refl 0⟩) hP hD hS hA [0, 1, 2, 3, 4, 5, 6, 7, 8, 9, 10, 11, 12] [] [0, 1, 2, 3, 4, 5, 6, 7, 8, 9, 10, 11, 12] rfl rfl (by decide) (by decide) (by decide) (fun _ => rfl) (fun _ => rfl) (fun r36 u H locs hw _ hP hD hS => ?_)
          obtain ⟨f_at_37, rfl⟩ : ∃ z, z = u := ⟨_, rfl⟩
          have hP : va_P D vwCl (mdl ad dA f_isSaved f_changes f_code f_length f_fault f_signMany f_at_37 f_place a_g a_kept a_saved a_input a_signs a_ways a_needs a_walk a_one a_several a_ragged a_nextLine) H := hP
          have hD : va_D A (mdl ad dA f_isSaved f_changes f_code f_length f_fault f_signMany f_at_37 f_place a_g a_kept a_saved a_input a_signs a_ways a_needs a_walk a_one a_several a_ragged a_nextLine) := hD
          obtain ⟨h38, hw⟩ := hw
          exact W.zret (v := r36) hx hb hr (isB_n h38) (fun t ht hW => ⟨⟨r36, f_at_37, rfl, hw, by rw [ht]; exact hP, va_K.moved hW.alike hK, hD⟩, hS.F ht⟩) hS.2.2 dX3_isRequest_56
      · have hw := hw.1 c32
        refine lv_iconst (v := (nI 0)) hx hb dX3_isRequest_39 (by decide) ?_
        exact W.zret (v := (nI 0)) hx hb hr rfl (fun t ht hW => ⟨⟨(nI 0), f_at_31, rfl, hw, by rw [ht]; exact hP, va_K.moved hW.alike hK, hD⟩, hS.F ht⟩) hS.2.2 dX3_isRequest_40
  refine lv_aload_n hx hb dX3_isRequest_0 rfl (lv_at hl 0 rfl) ?_
  refine lv_bipush (v := (nI 112)) hx hb dX3_isRequest_1 (by decide) ?_
  refine k_wi (wn := fun (u : Int32) => (mdl ad dA f_isSaved f_changes f_code f_length f_fault f_signMany u f_place a_g a_kept a_saved a_input a_signs a_ways a_needs a_walk a_one a_several a_ragged a_nextLine)) (wr := []) (k_wV (As := [.int (nI 112)]) (rest := []) hSx (met_X3_skips l D dA ad _ f_isSaved f_changes f_code f_length f_fault f_signMany f_at f_place a_g a_kept a_saved a_input a_signs a_ways a_needs a_walk a_one a_several a_ragged a_nextLine (nI 112) _ hw) gX3_124 ⟨rfl, hd_X3_skips⟩ (by dsimp [headSpec, rm_X3_skips, rm_X3_isRequest]; omega) rfl rfl hP hK hD [0, 1, 2, 3, 4, 5, 6, 7, 8, 9, 10, 11, 12] rfl (by decide) rfl 0 rfl rfl rfl rfl hl.1 (Nat.le_of_ble_eq_true rfl) rfl dX3_isRequest_3 ⟨Nat.le_refl 0, Nat.le_refl 0⟩) hP hD hS hA [0, 1, 2, 3, 4, 5, 6, 7, 8, 9, 10, 11, 12] [] [0, 1, 2, 3, 4, 5, 6, 7, 8, 9, 10, 11, 12] rfl rfl (by decide) (by decide) (by decide) (fun _ => rfl) (fun _ => rfl) (fun r39 u H locs hw _ hP hD hS => ?_)
  obtain ⟨f_at_40, rfl⟩ : ∃ z, z = u := ⟨_, rfl⟩
  have hP : va_P D vwCl (mdl ad dA f_isSaved f_changes f_code f_length f_fault f_signMany f_at_40 f_place a_g a_kept a_saved a_input a_signs a_ways a_needs a_walk a_one a_several a_ragged a_nextLine) H := hP
  have hD : va_D A (mdl ad dA f_isSaved f_changes f_code f_length f_fault f_signMany f_at_40 f_place a_g a_kept a_saved a_input a_signs a_ways a_needs a_walk a_one a_several a_ragged a_nextLine) := hD
  refine lv_if_ne (tgt := 18) hx hb dX3_isRequest_6 (by decide) (fun c41 => ?_) (fun c41 => ?_)
  · have hw := hw.2 c41
    exact hL18  f_at_40 _ _ _ hP hD hS (lv_sub hl [0] rfl) hw
  · have hw := hw.1 c41
    refine lv_aload_n hx hb dX3_isRequest_9 rfl (lv_at hl 0 rfl) ?_
    refine lv_bipush (v := (nI 98)) hx hb dX3_isRequest_10 (by decide) ?_
    refine k_wi (wn := fun (u : Int32) => (mdl ad dA f_isSaved f_changes f_code f_length f_fault f_signMany u f_place a_g a_kept a_saved a_input a_signs a_ways a_needs a_walk a_one a_several a_ragged a_nextLine)) (wr := []) (k_wV (As := [.int (nI 98)]) (rest := []) hSx (met_X3_skips l D dA ad _ f_isSaved f_changes f_code f_length f_fault f_signMany f_at_40 f_place a_g a_kept a_saved a_input a_signs a_ways a_needs a_walk a_one a_several a_ragged a_nextLine (nI 98) _ hw) gX3_124 ⟨rfl, hd_X3_skips⟩ (by dsimp [headSpec, rm_X3_skips, rm_X3_isRequest]; omega) rfl rfl hP hK hD [0, 1, 2, 3, 4, 5, 6, 7, 8, 9, 10, 11, 12] rfl (by decide) rfl 0 rfl rfl rfl rfl hl.1 (Nat.le_of_ble_eq_true rfl) rfl dX3_isRequest_12 ⟨Nat.le_refl 0, Nat.le_refl 0⟩) hP hD hS hA [0, 1, 2, 3, 4, 5, 6, 7, 8, 9, 10, 11, 12] [] [0, 1, 2, 3, 4, 5, 6, 7, 8, 9, 10, 11, 12] rfl rfl (by decide) (by decide) (by decide) (fun _ => rfl) (fun _ => rfl) (fun r42 u H locs hw _ hP hD hS => ?_)
    obtain ⟨f_at_43, rfl⟩ : ∃ z, z = u := ⟨_, rfl⟩
    have hP : va_P D vwCl (mdl ad dA f_isSaved f_changes f_code f_length f_fault f_signMany f_at_43 f_place a_g a_kept a_saved a_input a_signs a_ways a_needs a_walk a_one a_several a_ragged a_nextLine) H := hP
    have hD : va_D A (mdl ad dA f_isSaved f_changes f_code f_length f_fault f_signMany f_at_43 f_place a_g a_kept a_saved a_input a_signs a_ways a_needs a_walk a_one a_several a_ragged a_nextLine) := hD
    refine lv_if_eq (tgt := 23) hx hb dX3_isRequest_15 (by decide) (fun c44 => ?_) (fun c44 => ?_)
    · have hw := hw.1 c44
      refine lv_aload_n hx hb dX3_isRequest_23 rfl (lv_at hl 0 rfl) ?_
      refine lv_bipush (v := (nI 40)) hx hb dX3_isRequest_24 (by decide) ?_
      refine k_wi (wn := fun (u : Int32) => (mdl ad dA f_isSaved f_changes f_code f_length f_fault f_signMany u f_place a_g a_kept a_saved a_input a_signs a_ways a_needs a_walk a_one a_several a_ragged a_nextLine)) (wr := []) (k_wV (As := [.int (nI 40)]) (rest := []) hSx (met_X3_skips l D dA ad _ f_isSaved f_changes f_code f_length f_fault f_signMany f_at_43 f_place a_g a_kept a_saved a_input a_signs a_ways a_needs a_walk a_one a_several a_ragged a_nextLine (nI 40) _ hw) gX3_124 ⟨rfl, hd_X3_skips⟩ (by dsimp [headSpec, rm_X3_skips, rm_X3_isRequest]; omega) rfl rfl hP hK hD [0, 1, 2, 3, 4, 5, 6, 7, 8, 9, 10, 11, 12] rfl (by decide) rfl 0 rfl rfl rfl rfl hl.1 (Nat.le_of_ble_eq_true rfl) rfl dX3_isRequest_26 ⟨Nat.le_refl 0, Nat.le_refl 0⟩) hP hD hS hA [0, 1, 2, 3, 4, 5, 6, 7, 8, 9, 10, 11, 12] [] [0, 1, 2, 3, 4, 5, 6, 7, 8, 9, 10, 11, 12] rfl rfl (by decide) (by decide) (by decide) (fun _ => rfl) (fun _ => rfl) (fun r45 u H locs hw _ hP hD hS => ?_)
      obtain ⟨f_at_46, rfl⟩ : ∃ z, z = u := ⟨_, rfl⟩
      have hP : va_P D vwCl (mdl ad dA f_isSaved f_changes f_code f_length f_fault f_signMany f_at_46 f_place a_g a_kept a_saved a_input a_signs a_ways a_needs a_walk a_one a_several a_ragged a_nextLine) H := hP
      have hD : va_D A (mdl ad dA f_isSaved f_changes f_code f_length f_fault f_signMany f_at_46 f_place a_g a_kept a_saved a_input a_signs a_ways a_needs a_walk a_one a_several a_ragged a_nextLine) := hD
      refine lv_if_eq (tgt := 57) hx hb dX3_isRequest_29 (by decide) (fun c47 => ?_) (fun c47 => ?_)
      · have hw := hw.1 c47
        refine lv_aload_n hx hb dX3_isRequest_57 rfl (lv_at hl 0 rfl) ?_
        refine k_wv (wn := fun (u : Int32) => (mdl ad dA f_isSaved f_changes f_code f_length f_fault f_signMany u f_place a_g a_kept a_saved a_input a_signs a_ways a_needs a_walk a_one a_several a_ragged a_nextLine)) (wr := []) (k_wV (As := []) (rest := []) hSx (met_X3_passes l D dA ad _ f_isSaved f_changes f_code f_length f_fault f_signMany f_at_46 f_place a_g a_kept a_saved a_input a_signs a_ways a_needs a_walk a_one a_several a_ragged a_nextLine  _ hw) gX3_121 ⟨rfl, hd_X3_passes⟩ (by dsimp [headSpec, rm_X3_passes, rm_X3_isRequest]; omega) rfl rfl hP hK hD [0, 1, 2, 3, 4, 5, 6, 7, 8, 9, 10, 11, 12] rfl (by decide) rfl 0 rfl rfl rfl rfl hl.1 (Nat.le_of_ble_eq_true rfl) rfl dX3_isRequest_58 ⟨Nat.le_refl 0, Nat.le_refl 0⟩) hP hD hS hA [0, 1, 2, 3, 4, 5, 6, 7, 8, 9, 10, 11, 12] [] [0, 1, 2, 3, 4, 5, 6, 7, 8, 9, 10, 11, 12] rfl rfl (by decide) (by decide) (by decide) (fun _ => rfl) (fun _ => rfl) (fun u H locs hw _ hP hD hS => ?_)
        obtain ⟨f_at_48, rfl⟩ : ∃ z, z = u := ⟨_, rfl⟩
        have hP : va_P D vwCl (mdl ad dA f_isSaved f_changes f_code f_length f_fault f_signMany f_at_48 f_place a_g a_kept a_saved a_input a_signs a_ways a_needs a_walk a_one a_several a_ragged a_nextLine) H := hP
        have hD : va_D A (mdl ad dA f_isSaved f_changes f_code f_length f_fault f_signMany f_at_48 f_place a_g a_kept a_saved a_input a_signs a_ways a_needs a_walk a_one a_several a_ragged a_nextLine) := hD
        refine lv_aload_n hx hb dX3_isRequest_61 rfl (lv_at hl 0 rfl) ?_
        refine va_get (D := D) (ci := 2) (v := .int f_at_48) (C := RX3) (T := TX3) (N := 20) hx hb hts in_X3 hown hK hP 0 rfl rfl 14 (by decide) (hts _ q1755) (fun _ h9 => h9) rfl dX3_isRequest_62 ?_
        refine lv_aload_n hx hb dX3_isRequest_65 rfl (lv_at hl 0 rfl) ?_
        refine va_get (D := D) (ci := 2) (v := .int f_length) (C := RX3) (T := TX3) (N := 20) hx hb hts in_X3 hown hK hP 0 rfl rfl 7 (by decide) (hts _ q1748) (fun _ h9 => h9) rfl dX3_isRequest_66 ?_
        refine lv_icmp_eq (tgt := 91) hx hb dX3_isRequest_69 (by decide) (fun c49 => ?_) (fun c49 => ?_)
        · have hw := hw.1 c49
          refine lv_iconst (v := (nI 0)) hx hb dX3_isRequest_91 (by decide) ?_
          exact W.zret (v := (nI 0)) hx hb hr rfl (fun t ht hW => ⟨⟨(nI 0), f_at_48, rfl, hw, by rw [ht]; exact hP, va_K.moved hW.alike hK, hD⟩, hS.F ht⟩) hS.2.2 dX3_isRequest_92
        · have hw := hw.2 c49
          refine lv_aload_n hx hb dX3_isRequest_72 rfl (lv_at hl 0 rfl) ?_
          refine va_get (D := D) (ci := 2) (v := .ref (ad 4)) (C := RX3) (T := TX3) (N := 20) hx hb hts in_X3 hown hK hP 0 rfl rfl 6 (by decide) (hts _ q1747) (fun _ h9 => h9) rfl dX3_isRequest_73 ?_
          refine lv_aload_n hx hb dX3_isRequest_76 rfl (lv_at hl 0 rfl) ?_
          refine va_get (D := D) (ci := 2) (v := .int f_at_48) (C := RX3) (T := TX3) (N := 20) hx hb hts in_X3 hown hK hP 0 rfl rfl 14 (by decide) (hts _ q1755) (fun _ h9 => h9) rfl dX3_isRequest_77 ?_
          obtain ⟨h50, hw⟩ := hw
          refine k_iald (k := f_at_48.toNatClampNeg) hx hb hK hP 4 0 rfl rfl rfl h50 dX3_isRequest_80 ?_
          refine lv_bipush (v := (nI 48)) hx hb dX3_isRequest_81 (by decide) ?_
          refine lv_bipush (v := (nI 57)) hx hb dX3_isRequest_83 (by decide) ?_
          refine k_ri (k_pS (As := [.int (a_input f_at_48.toNatClampNeg), .int (nI 48), .int (nI 57)]) (rest := []) hSx (met_X3_in l (a_input f_at_48.toNatClampNeg) (nI 48) (nI 57) _ hw) gX3_62 hd_X3_in (by dsimp [headSpec, rm_X3_in, rm_X3_isRequest]; omega) rfl rfl rfl hl.1 (Nat.le_of_ble_eq_true rfl) rfl dX3_isRequest_85 ⟨Nat.le_refl 0, Nat.le_refl 0⟩) (fun r51 hw => ?_)
          refine lv_if_ne (tgt := 93) hx hb dX3_isRequest_88 (by decide) (fun c52 => ?_) (fun c52 => ?_)
          · have hw := hw.2 c52
            refine lv_aload_n hx hb dX3_isRequest_93 rfl (lv_at hl 0 rfl) ?_
            refine lv_dup hx hb dX3_isRequest_94 rfl ?_
            refine va_get (D := D) (ci := 2) (v := .int f_at_48) (C := RX3) (T := TX3) (N := 20) hx hb hts in_X3 hown hK hP 0 rfl rfl 14 (by decide) (hts _ q1755) (fun _ h9 => h9) rfl dX3_isRequest_95 ?_
            refine lv_iconst (v := (nI 1)) hx hb dX3_isRequest_98 (by decide) ?_
            refine lv_iadd hx hb dX3_isRequest_99 ?_
            refine va_put (D := D) (ci := 2) (v := .int (f_at_48 + (nI 1))) (ty := .int) (C := RX3) (T := TX3) (N := 20) hx hb hts in_X3 tyX3 tyX3_ok nmX3 hown hK hP hD hS 0 rfl rfl 14 (by decide) (hts _ q1755) (fun _ h9 => h9) rfl (by decide +kernel) rfl rfl (Nat.le_of_ble_eq_true rfl) dX3_isRequest_100 (fun H locs hP hD hS => ?_)
            have hP : va_P D vwCl (mdl ad dA f_isSaved f_changes f_code f_length f_fault f_signMany (f_at_48 + (nI 1)) f_place a_g a_kept a_saved a_input a_signs a_ways a_needs a_walk a_one a_several a_ragged a_nextLine) H := hP
            have hD : va_D A (mdl ad dA f_isSaved f_changes f_code f_length f_fault f_signMany (f_at_48 + (nI 1)) f_place a_g a_kept a_saved a_input a_signs a_ways a_needs a_walk a_one a_several a_ragged a_nextLine) := hD
            refine lv_iconst (v := (nI 1)) hx hb dX3_isRequest_103 (by decide) ?_
            exact W.zret (v := (nI 1)) hx hb hr rfl (fun t ht hW => ⟨⟨(nI 1), (f_at_48 + (nI 1)), rfl, hw, by rw [ht]; exact hP, va_K.moved hW.alike hK, hD⟩, hS.F ht⟩) hS.2.2 dX3_isRequest_104
          · have hw := hw.1 c52
            refine lv_iconst (v := (nI 0)) hx hb dX3_isRequest_91 (by decide) ?_
            exact W.zret (v := (nI 0)) hx hb hr rfl (fun t ht hW => ⟨⟨(nI 0), f_at_48, rfl, hw, by rw [ht]; exact hP, va_K.moved hW.alike hK, hD⟩, hS.F ht⟩) hS.2.2 dX3_isRequest_92
      · have hw := hw.2 c47
        obtain ⟨n, hw⟩ := hw
        exact hL32  n f_at_46 _ _ _ hP hD hS (lv_sub hl [0] rfl) hw
    · have hw := hw.2 c44
      exact hL18  f_at_43 _ _ _ hP hD hS (lv_sub hl [0] rfl) hw
set_option maxHeartbeats 4000000 in
theorem met_X3_isRequest (l : Launch) (D : va_G) (dA : Nat → ClassId) (ad : Nat → Nat) (sz : Nat) (f_isSaved : Int32) (f_changes : Int32) (f_code : Int32) (f_length : Int32) (f_fault : Int32) (f_signMany : Int32) (f_at : Int32) (f_place : Int32) (a_g : (Nat → Int32)) (a_kept : (Nat → Int32)) (a_saved : (Nat → Int32)) (a_input : (Nat → Int32)) (a_signs : (Nat → Int32)) (a_ways : (Nat → Int64)) (a_needs : (Nat → Int32)) (a_walk : (Nat → Int32)) (a_one : (Nat → Int32)) (a_several : (Nat → Int32)) (a_ragged : (Nat → Int32)) (a_nextLine : (Nat → Int32))  (post : Int32 → Int32 → Prop) (hw : wD_X3_isRequest post f_length f_at a_input) : Met l yX3_isRequest (ws_ yX3_isRequest cX3_isRequest 1 (some .boolean)) (rm_X3_isRequest 32) (va_Pc [.ref (ad 0)] (wrB D dA sz (mdl ad dA f_isSaved f_changes f_code f_length f_fault f_signMany f_at f_place a_g a_kept a_saved a_input a_signs a_ways a_needs a_walk a_one a_several a_ragged a_nextLine))) (va_Qi (fun (r : Int32) (u : Int32) => post r u) (fun (u : Int32) t => wrQ D dA (va_A (mdl ad dA f_isSaved f_changes f_code f_length f_fault f_signMany f_at f_place a_g a_kept a_saved a_input a_signs a_ways a_needs a_walk a_one a_several a_ragged a_nextLine) sz) (mdl ad dA f_isSaved f_changes f_code f_length f_fault f_signMany u f_place a_g a_kept a_saved a_input a_signs a_ways a_needs a_walk a_one a_several a_ragged a_nextLine) t) (va_A (mdl ad dA f_isSaved f_changes f_code f_length f_fault f_signMany f_at f_place a_g a_kept a_saved a_input a_signs a_ways a_needs a_walk a_one a_several a_ragged a_nextLine) sz)) 0 0 (va_A (mdl ad dA f_isSaved f_changes f_code f_length f_fault f_signMany f_at f_place a_g a_kept a_saved a_input a_signs a_ways a_needs a_walk a_one a_several a_ragged a_nextLine) sz) := met_X3_isRequest_r l D dA 32 ad sz f_isSaved f_changes f_code f_length f_fault f_signMany f_at f_place a_g a_kept a_saved a_input a_signs a_ways a_needs a_walk a_one a_several a_ragged a_nextLine  post hw
def rm_X3_reads : Room := { frames := 35, cells := 0, slots := 0, locals := 701 }
set_option maxHeartbeats 4000000 in
set_option maxRecDepth 100000 in
theorem met_X3_reads (l : Launch) (D : va_G) (dA : Nat → ClassId) (ad : Nat → Nat) (sz : Nat) (f_isSaved : Int32) (f_changes : Int32) (f_code : Int32) (f_length : Int32) (f_fault : Int32) (f_signMany : Int32) (f_at : Int32) (f_place : Int32) (a_g : (Nat → Int32)) (a_kept : (Nat → Int32)) (a_saved : (Nat → Int32)) (a_input : (Nat → Int32)) (a_signs : (Nat → Int32)) (a_ways : (Nat → Int64)) (a_needs : (Nat → Int32)) (a_walk : (Nat → Int32)) (a_one : (Nat → Int32)) (a_several : (Nat → Int32)) (a_ragged : (Nat → Int32)) (a_nextLine : (Nat → Int32))  (post : Int32 → Int32 → Prop) (hw : w_X3_reads post f_length f_at a_input) : Met l yX3_reads (ws_ yX3_reads cX3_reads 2 (some .boolean)) rm_X3_reads (va_Pc [.ref (ad 0)] (wrB D dA sz (mdl ad dA f_isSaved f_changes f_code f_length f_fault f_signMany f_at f_place a_g a_kept a_saved a_input a_signs a_ways a_needs a_walk a_one a_several a_ragged a_nextLine))) (va_Qi (fun (r : Int32) (u : Int32) => post r u) (fun (u : Int32) t => wrQ D dA (va_A (mdl ad dA f_isSaved f_changes f_code f_length f_fault f_signMany f_at f_place a_g a_kept a_saved a_input a_signs a_ways a_needs a_walk a_one a_several a_ragged a_nextLine) sz) (mdl ad dA f_isSaved f_changes f_code f_length f_fault f_signMany u f_place a_g a_kept a_saved a_input a_signs a_ways a_needs a_walk a_one a_several a_ragged a_nextLine) t) (va_A (mdl ad dA f_isSaved f_changes f_code f_length f_fault f_signMany f_at f_place a_g a_kept a_saved a_input a_signs a_ways a_needs a_walk a_one a_several a_ragged a_nextLine) sz)) 0 0 (va_A (mdl ad dA f_isSaved f_changes f_code f_length f_fault f_signMany f_at f_place a_g a_kept a_saved a_input a_signs a_ways a_needs a_walk a_one a_several a_ragged a_nextLine) sz) := by
  refine Met.ofW (cc := cX3_reads) (maxL := 2) (ret := (some .boolean)) (by decide) rfl ?_
  intro p e s m args below meth c s₁ B hml hv
  obtain ⟨rfl, hsz, hP, hK, hD0⟩ := hv
  have hx := B.exec
  have hb := B.bytes
  have hr := B.returns
  have hts := atoms_spec (ws := (ws_ yX3_reads cX3_reads 2 (some .boolean))) B.pre
  have hts : ∀ w ∈ lw_all, w.before _ s = true := fun w h => hts w (List.mem_cons_of_mem _ h)
  have hown : s.vm.findClass RX3 = some m.cls := findClass_of_methodNamed B.named
  have hlocks := B.notSynchronized
  have hSx : CallFix p m c cX3_reads 2 s _ lw_all RX3 := ⟨hx, hb, hml, hown, hts⟩
  subst hsz
  have hD := hD0.self (sz := s.heap.size)
  generalize hAe : va_A (mdl ad dA f_isSaved f_changes f_code f_length f_fault f_signMany f_at f_place a_g a_kept a_saved a_input a_signs a_ways a_needs a_walk a_one a_several a_ragged a_nextLine) s.heap.size = A at hD ⊢
  have hA : ∀ q : Nat, s.heap.size ≤ q → A q := fun q h => by rw [← hAe]; exact Or.inr h
  have hS : va_S A s.heap s.heap [] := va_S.rf
  have hl := lv_entry ([.ref (ad 0)]) (n := 2) (Nat.le_of_ble_eq_true rfl)
  rw [lg_entry_eq]
  generalize (lg_sl ([.ref (ad 0)]) ++ List.replicate (2 - (lg_sl ([.ref (ad 0)])).length) Slot.unset).toArray = ls at hl ⊢
  have hl : lv_has ls 2 [(0, .ref (ad 0))] := hl
  refine lv_aload_n hx hb dX3_reads_0 rfl (lv_at hl 0 rfl) ?_
  refine lv_iconst (v := (nI 0)) hx hb dX3_reads_1 (by decide) ?_
  refine va_put (D := D) (ci := 2) (v := .int (nI 0)) (ty := .int) (C := RX3) (T := TX3) (N := 20) hx hb hts in_X3 tyX3 tyX3_ok nmX3 hown hK hP hD hS 0 rfl rfl 14 (by decide) (hts _ q1755) (fun _ h9 => h9) rfl (by decide +kernel) rfl rfl (Nat.le_of_ble_eq_true rfl) dX3_reads_2 (fun H locs hP hD hS => ?_)
  have hP : va_P D vwCl (mdl ad dA f_isSaved f_changes f_code f_length f_fault f_signMany (nI 0) f_place a_g a_kept a_saved a_input a_signs a_ways a_needs a_walk a_one a_several a_ragged a_nextLine) H := hP
  have hD : va_D A (mdl ad dA f_isSaved f_changes f_code f_length f_fault f_signMany (nI 0) f_place a_g a_kept a_saved a_input a_signs a_ways a_needs a_walk a_one a_several a_ragged a_nextLine) := hD
  refine lv_aload_n hx hb dX3_reads_5 rfl (lv_at hl 0 rfl) ?_
  refine k_wi (wn := fun (u : Int32) => (mdl ad dA f_isSaved f_changes f_code f_length f_fault f_signMany u f_place a_g a_kept a_saved a_input a_signs a_ways a_needs a_walk a_one a_several a_ragged a_nextLine)) (wr := []) (k_wV (As := []) (rest := []) hSx (met_X3_isRequest l D dA ad _ f_isSaved f_changes f_code f_length f_fault f_signMany (nI 0) f_place a_g a_kept a_saved a_input a_signs a_ways a_needs a_walk a_one a_several a_ragged a_nextLine  _ hw) gX3_127 ⟨rfl, hd_X3_isRequest⟩ ⟨Nat.le_of_ble_eq_true rfl, Nat.le_of_ble_eq_true rfl⟩ rfl rfl hP hK hD [0, 1, 2, 3, 4, 5, 6, 7, 8, 9, 10, 11, 12] rfl (by decide) rfl 0 rfl rfl rfl rfl hl.1 (Nat.le_of_ble_eq_true rfl) rfl dX3_reads_6 ⟨Nat.le_refl 0, Nat.le_refl 0⟩) hP hD hS hA [0, 1, 2, 3, 4, 5, 6, 7, 8, 9, 10, 11, 12] [] [0, 1, 2, 3, 4, 5, 6, 7, 8, 9, 10, 11, 12] rfl rfl (by decide) (by decide) (by decide) (fun _ => rfl) (fun _ => rfl) (fun r6 u H locs hw _ hP hD hS => ?_)
  obtain ⟨f_at_7, rfl⟩ : ∃ z, z = u := ⟨_, rfl⟩
  have hP : va_P D vwCl (mdl ad dA f_isSaved f_changes f_code f_length f_fault f_signMany f_at_7 f_place a_g a_kept a_saved a_input a_signs a_ways a_needs a_walk a_one a_several a_ragged a_nextLine) H := hP
  have hD : va_D A (mdl ad dA f_isSaved f_changes f_code f_length f_fault f_signMany f_at_7 f_place a_g a_kept a_saved a_input a_signs a_ways a_needs a_walk a_one a_several a_ragged a_nextLine) := hD
  refine lv_istore_n (lv' := [(1, .int r6), (0, .ref (ad 0))]) hx hb dX3_reads_9 rfl hl (by decide) rfl (fun ls hl => ?_)
  refine lv_aload_n hx hb dX3_reads_10 rfl (lv_at hl 1 rfl) ?_
  refine k_wv (wn := fun (u : Int32) => (mdl ad dA f_isSaved f_changes f_code f_length f_fault f_signMany u f_place a_g a_kept a_saved a_input a_signs a_ways a_needs a_walk a_one a_several a_ragged a_nextLine)) (wr := []) (k_wV (As := []) (rest := []) hSx (met_X3_passes l D dA ad _ f_isSaved f_changes f_code f_length f_fault f_signMany f_at_7 f_place a_g a_kept a_saved a_input a_signs a_ways a_needs a_walk a_one a_several a_ragged a_nextLine  _ hw) gX3_121 ⟨rfl, hd_X3_passes⟩ ⟨Nat.le_of_ble_eq_true rfl, Nat.le_of_ble_eq_true rfl⟩ rfl rfl hP hK hD [0, 1, 2, 3, 4, 5, 6, 7, 8, 9, 10, 11, 12] rfl (by decide) rfl 0 rfl rfl rfl rfl hl.1 (Nat.le_of_ble_eq_true rfl) rfl dX3_reads_11 ⟨Nat.le_refl 0, Nat.le_refl 0⟩) hP hD hS hA [0, 1, 2, 3, 4, 5, 6, 7, 8, 9, 10, 11, 12] [] [0, 1, 2, 3, 4, 5, 6, 7, 8, 9, 10, 11, 12] rfl rfl (by decide) (by decide) (by decide) (fun _ => rfl) (fun _ => rfl) (fun u H locs hw _ hP hD hS => ?_)
  obtain ⟨f_at_8, rfl⟩ : ∃ z, z = u := ⟨_, rfl⟩
  have hP : va_P D vwCl (mdl ad dA f_isSaved f_changes f_code f_length f_fault f_signMany f_at_8 f_place a_g a_kept a_saved a_input a_signs a_ways a_needs a_walk a_one a_several a_ragged a_nextLine) H := hP
  have hD : va_D A (mdl ad dA f_isSaved f_changes f_code f_length f_fault f_signMany f_at_8 f_place a_g a_kept a_saved a_input a_signs a_ways a_needs a_walk a_one a_several a_ragged a_nextLine) := hD
  refine lv_iload_n hx hb dX3_reads_14 rfl (lv_at hl 0 rfl) ?_
  refine lv_if_eq (tgt := 33) hx hb dX3_reads_15 (by decide) (fun c9 => ?_) (fun c9 => ?_)
  · have hw := hw.1 c9
    refine lv_iconst (v := (nI 0)) hx hb dX3_reads_33 (by decide) ?_
    exact W.zret (v := (nI 0)) hx hb hr rfl (fun t ht hW => ⟨⟨(nI 0), f_at_8, rfl, hw, by rw [ht]; exact hP, va_K.moved hW.alike hK, hD⟩, hS.F ht⟩) hS.2.2 dX3_reads_34
  · have hw := hw.2 c9
    refine lv_aload_n hx hb dX3_reads_18 rfl (lv_at hl 1 rfl) ?_
    refine va_get (D := D) (ci := 2) (v := .int f_at_8) (C := RX3) (T := TX3) (N := 20) hx hb hts in_X3 hown hK hP 0 rfl rfl 14 (by decide) (hts _ q1755) (fun _ h9 => h9) rfl dX3_reads_19 ?_
    refine lv_aload_n hx hb dX3_reads_22 rfl (lv_at hl 1 rfl) ?_
    refine va_get (D := D) (ci := 2) (v := .int f_length) (C := RX3) (T := TX3) (N := 20) hx hb hts in_X3 hown hK hP 0 rfl rfl 7 (by decide) (hts _ q1748) (fun _ h9 => h9) rfl dX3_reads_23 ?_
    refine lv_icmp_ne (tgt := 33) hx hb dX3_reads_26 (by decide) (fun c10 => ?_) (fun c10 => ?_)
    · have hw := hw.2 c10
      refine lv_iconst (v := (nI 0)) hx hb dX3_reads_33 (by decide) ?_
      exact W.zret (v := (nI 0)) hx hb hr rfl (fun t ht hW => ⟨⟨(nI 0), f_at_8, rfl, hw, by rw [ht]; exact hP, va_K.moved hW.alike hK, hD⟩, hS.F ht⟩) hS.2.2 dX3_reads_34
    · have hw := hw.1 c10
      refine lv_iconst (v := (nI 1)) hx hb dX3_reads_29 (by decide) ?_
      refine lv_goto (tgt := 34) hx hb dX3_reads_30 (by decide) ?_
      exact W.zret (v := (nI 1)) hx hb hr rfl (fun t ht hW => ⟨⟨(nI 1), f_at_8, rfl, hw, by rw [ht]; exact hP, va_K.moved hW.alike hK, hD⟩, hS.F ht⟩) hS.2.2 dX3_reads_34
theorem gX3_131 : GoodIn lw_all (wsV RX3 131 RX3 yX3_reads (ws_ yX3_reads cX3_reads 2 (some .boolean))) := lw_V q1935 q1937 qs46 q84 q1938
theorem hd_X3_reads : yX3_reads.cls ≠ "java/lang/invoke/MethodHandle" ∧ yX3_reads.cls ≠ "java/lang/invoke/VarHandle" ∧ (parseMethodDescriptor yX3_reads.desc).map (fun d => d.parameters.length) = some 0 := by decide +kernel
def rm_X3_isReadable : Room := { frames := 36, cells := 0, slots := 0, locals := 722 }
set_option maxHeartbeats 4000000 in
set_option maxRecDepth 100000 in
theorem met_X3_isReadable (l : Launch) (D : va_G) (dA : Nat → ClassId) (ad : Nat → Nat) (sz : Nat) (f_isSaved : Int32) (f_changes : Int32) (f_code : Int32) (f_length : Int32) (f_fault : Int32) (f_signMany : Int32) (f_at : Int32) (f_place : Int32) (a_g : (Nat → Int32)) (a_kept : (Nat → Int32)) (a_saved : (Nat → Int32)) (a_input : (Nat → Int32)) (a_signs : (Nat → Int32)) (a_ways : (Nat → Int64)) (a_needs : (Nat → Int32)) (a_walk : (Nat → Int32)) (a_one : (Nat → Int32)) (a_several : (Nat → Int32)) (a_ragged : (Nat → Int32)) (a_nextLine : (Nat → Int32))  (post : Int32 → Int32 → Int32 → Prop) (hw : w_X3_isReadable post f_code f_length f_at a_input) : Met l yX3_isReadable (ws_ yX3_isReadable cX3_isReadable 1 (some .boolean)) rm_X3_isReadable (va_Pc [.ref (ad 0)] (wrB D dA sz (mdl ad dA f_isSaved f_changes f_code f_length f_fault f_signMany f_at f_place a_g a_kept a_saved a_input a_signs a_ways a_needs a_walk a_one a_several a_ragged a_nextLine))) (va_Qi (fun (r : Int32) (u : Int32 × Int32) => post r u.1 u.2) (fun (u : Int32 × Int32) t => wrQ D dA (va_A (mdl ad dA f_isSaved f_changes f_code f_length f_fault f_signMany f_at f_place a_g a_kept a_saved a_input a_signs a_ways a_needs a_walk a_one a_several a_ragged a_nextLine) sz) (mdl ad dA f_isSaved f_changes u.1 f_length f_fault f_signMany u.2 f_place a_g a_kept a_saved a_input a_signs a_ways a_needs a_walk a_one a_several a_ragged a_nextLine) t) (va_A (mdl ad dA f_isSaved f_changes f_code f_length f_fault f_signMany f_at f_place a_g a_kept a_saved a_input a_signs a_ways a_needs a_walk a_one a_several a_ragged a_nextLine) sz)) 0 0 (va_A (mdl ad dA f_isSaved f_changes f_code f_length f_fault f_signMany f_at f_place a_g a_kept a_saved a_input a_signs a_ways a_needs a_walk a_one a_several a_ragged a_nextLine) sz) := by
  refine Met.ofW (cc := cX3_isReadable) (maxL := 1) (ret := (some .boolean)) (by decide) rfl ?_
  intro p e s m args below meth c s₁ B hml hv
  obtain ⟨rfl, hsz, hP, hK, hD0⟩ := hv
  have hx := B.exec
  have hb := B.bytes
  have hr := B.returns
  have hts := atoms_spec (ws := (ws_ yX3_isReadable cX3_isReadable 1 (some .boolean))) B.pre
  have hts : ∀ w ∈ lw_all, w.before _ s = true := fun w h => hts w (List.mem_cons_of_mem _ h)
  have hown : s.vm.findClass RX3 = some m.cls := findClass_of_methodNamed B.named
  have hlocks := B.notSynchronized
  have hSx : CallFix p m c cX3_isReadable 1 s _ lw_all RX3 := ⟨hx, hb, hml, hown, hts⟩
  subst hsz
  have hD := hD0.self (sz := s.heap.size)
  generalize hAe : va_A (mdl ad dA f_isSaved f_changes f_code f_length f_fault f_signMany f_at f_place a_g a_kept a_saved a_input a_signs a_ways a_needs a_walk a_one a_several a_ragged a_nextLine) s.heap.size = A at hD ⊢
  have hA : ∀ q : Nat, s.heap.size ≤ q → A q := fun q h => by rw [← hAe]; exact Or.inr h
  have hS : va_S A s.heap s.heap [] := va_S.rf
  have hl := lv_entry ([.ref (ad 0)]) (n := 1) (Nat.le_of_ble_eq_true rfl)
  rw [lg_entry_eq]
  generalize (lg_sl ([.ref (ad 0)]) ++ List.replicate (1 - (lg_sl ([.ref (ad 0)])).length) Slot.unset).toArray = ls at hl ⊢
  have hl : lv_has ls 1 [(0, .ref (ad 0))] := hl
  refine lv_aload_n hx hb dX3_isReadable_0 rfl (lv_at hl 0 rfl) ?_
  refine lv_iconst (v := (nI 0)) hx hb dX3_isReadable_1 (by decide) ?_
  refine va_put (D := D) (ci := 2) (v := .int (nI 0)) (ty := .int) (C := RX3) (T := TX3) (N := 20) hx hb hts in_X3 tyX3 tyX3_ok nmX3 hown hK hP hD hS 0 rfl rfl 5 (by decide) (hts _ q1746) (fun _ h9 => h9) rfl (by decide +kernel) rfl rfl (Nat.le_of_ble_eq_true rfl) dX3_isReadable_2 (fun H locs hP hD hS => ?_)
  have hP : va_P D vwCl (mdl ad dA f_isSaved f_changes (nI 0) f_length f_fault f_signMany f_at f_place a_g a_kept a_saved a_input a_signs a_ways a_needs a_walk a_one a_several a_ragged a_nextLine) H := hP
  have hD : va_D A (mdl ad dA f_isSaved f_changes (nI 0) f_length f_fault f_signMany f_at f_place a_g a_kept a_saved a_input a_signs a_ways a_needs a_walk a_one a_several a_ragged a_nextLine) := hD
  refine lv_aload_n hx hb dX3_isReadable_5 rfl (lv_at hl 0 rfl) ?_
  refine k_wi (wn := fun (u : Int32) => (mdl ad dA f_isSaved f_changes (nI 0) f_length f_fault f_signMany u f_place a_g a_kept a_saved a_input a_signs a_ways a_needs a_walk a_one a_several a_ragged a_nextLine)) (wr := []) (k_wV (As := []) (rest := []) hSx (met_X3_reads l D dA ad _ f_isSaved f_changes (nI 0) f_length f_fault f_signMany f_at f_place a_g a_kept a_saved a_input a_signs a_ways a_needs a_walk a_one a_several a_ragged a_nextLine  _ hw) gX3_131 ⟨rfl, hd_X3_reads⟩ ⟨Nat.le_of_ble_eq_true rfl, Nat.le_of_ble_eq_true rfl⟩ rfl rfl hP hK hD [0, 1, 2, 3, 4, 5, 6, 7, 8, 9, 10, 11, 12] rfl (by decide) rfl 0 rfl rfl rfl rfl hl.1 (Nat.le_of_ble_eq_true rfl) rfl dX3_isReadable_6 ⟨Nat.le_refl 0, Nat.le_refl 0⟩) hP hD hS hA [0, 1, 2, 3, 4, 5, 6, 7, 8, 9, 10, 11, 12] [] [0, 1, 2, 3, 4, 5, 6, 7, 8, 9, 10, 11, 12] rfl rfl (by decide) (by decide) (by decide) (fun _ => rfl) (fun _ => rfl) (fun r4 u H locs hw _ hP hD hS => ?_)
  obtain ⟨f_at_5, rfl⟩ : ∃ z, z = u := ⟨_, rfl⟩
  have hP : va_P D vwCl (mdl ad dA f_isSaved f_changes (nI 0) f_length f_fault f_signMany f_at_5 f_place a_g a_kept a_saved a_input a_signs a_ways a_needs a_walk a_one a_several a_ragged a_nextLine) H := hP
  have hD : va_D A (mdl ad dA f_isSaved f_changes (nI 0) f_length f_fault f_signMany f_at_5 f_place a_g a_kept a_saved a_input a_signs a_ways a_needs a_walk a_one a_several a_ragged a_nextLine) := hD
  obtain ⟨h6, hw⟩ := hw
  exact W.zret (v := r4) hx hb hr (isB_n h6) (fun t ht hW => ⟨⟨r4, ((nI 0), f_at_5), rfl, hw, by rw [ht]; exact hP, va_K.moved hW.alike hK, hD⟩, hS.F ht⟩) hS.2.2 dX3_isReadable_9
def rm_X3_insults : Room := { frames := 0, cells := 0, slots := 0, locals := 0 }
set_option maxHeartbeats 4000000 in
set_option maxRecDepth 100000 in
theorem met_X3_insults (l : Launch) (D : va_G) (dA : Nat → ClassId) (ad : Nat → Nat) (f_isSaved : Int32) (f_changes : Int32) (f_code : Int32) (f_length : Int32) (f_fault : Int32) (f_signMany : Int32) (f_at : Int32) (f_place : Int32) (a_g : (Nat → Int32)) (a_kept : (Nat → Int32)) (a_saved : (Nat → Int32)) (a_input : (Nat → Int32)) (a_signs : (Nat → Int32)) (a_ways : (Nat → Int64)) (a_needs : (Nat → Int32)) (a_walk : (Nat → Int32)) (a_one : (Nat → Int32)) (a_several : (Nat → Int32)) (a_ragged : (Nat → Int32)) (a_nextLine : (Nat → Int32))  (post : Int32 → Prop) (hw : w_X3_insults post f_length a_input) : Met l yX3_insults (ws_ yX3_insults cX3_insults 3 (some .int)) rm_X3_insults (va_Pc [.ref (ad 0)] (rdB D dA (mdl ad dA f_isSaved f_changes f_code f_length f_fault f_signMany f_at f_place a_g a_kept a_saved a_input a_signs a_ways a_needs a_walk a_one a_several a_ragged a_nextLine))) (vp_Si (fun r => post r)) 0 0 (fun _ => False) := by
  refine Met.ofW (cc := cX3_insults) (maxL := 3) (ret := (some .int)) (by decide) rfl ?_
  intro p e s m args below meth c s₁ B hml hv
  obtain ⟨rfl, hP, hK⟩ := hv
  have hx := B.exec
  have hb := B.bytes
  have hr := B.returns
  have hts := atoms_spec (ws := (ws_ yX3_insults cX3_insults 3 (some .int))) B.pre
  have hts : ∀ w ∈ lw_all, w.before _ s = true := fun w h => hts w (List.mem_cons_of_mem _ h)
  have hown : s.vm.findClass RX3 = some m.cls := findClass_of_methodNamed B.named
  have hlocks := B.notSynchronized
  have hSx : CallFix p m c cX3_insults 3 s _ lw_all RX3 := ⟨hx, hb, hml, hown, hts⟩
  have hl := lv_entry ([.ref (ad 0)]) (n := 3) (Nat.le_of_ble_eq_true rfl)
  rw [lg_entry_eq]
  generalize (lg_sl ([.ref (ad 0)]) ++ List.replicate (3 - (lg_sl ([.ref (ad 0)])).length) Slot.unset).toArray = ls at hl ⊢
  have hl : lv_has ls 3 [(0, .ref (ad 0))] := hl
  have hL29 : ∀ (k4 : Int32 → Int32 → Prop) (hk4 : ∀ (v1 : Int32) (v2 : Int32) (ls : Array Slot), lv_has ls 3 [(0, .ref (ad 0)), (1, .int v1), (2, .int v2)] → k4 v1 v2 → W p l e (headSpec (ws_ yX3_insults cX3_insults 3 (some .int)) rm_X3_insults).room s m ([.ref (ad 0)] : List Value).toArray below meth c s.heap [] 0 0 (MQ below (vp_Si (fun r => post r)) ([.ref (ad 0)] : List Value).toArray s 0 0 (fun _ => False)) (F0 m 4 ls [])) (v2 : Int32) (s0 : Int32) (s1 : Int32) (ls : Array Slot), lv_has ls 3 [(0, .ref (ad 0)), (2, .int v2)] → (w_X3_insults_29 post f_length a_input k4) v2 s0 s1 → W p l e (headSpec (ws_ yX3_insults cX3_insults 3 (some .int)) rm_X3_insults).room s m ([.ref (ad 0)] : List Value).toArray below meth c s.heap [] 0 0 (MQ below (vp_Si (fun r => post r)) ([.ref (ad 0)] : List Value).toArray s 0 0 (fun _ => False)) (F0 m 29 ls [.int s1, .int s0]) := by
      intro k4 hk4 v2 s0 s1 ls hl hw
      refine lv_iadd hx hb dX3_insults_29 ?_
      refine lv_istore_n (lv' := [(1, .int (s0 + s1)), (0, .ref (ad 0)), (2, .int v2)]) hx hb dX3_insults_30 rfl hl (by decide) rfl (fun ls hl => ?_)
      refine lv_iinc (v := (v2 + (nI 1))) (lv' := [(2, .int (v2 + (nI 1))), (1, .int (s0 + s1)), (0, .ref (ad 0))]) hx hb dX3_insults_31 hl (k := 2) rfl (congrArg (fun z => v2 + z) (by decide : Int32.ofInt (1) = (nI 1))) (by decide) rfl (fun ls hl => ?_)
      refine lv_goto (tgt := 4) hx hb dX3_insults_34 (by decide) ?_
      exact hk4 (s0 + s1) (v2 + (nI 1)) _ (lv_sub hl [2, 1, 0] rfl) hw
  have hL4 : ∀  (n : Nat) (v1 : Int32) (v2 : Int32) (ls : Array Slot), lv_has ls 3 [(0, .ref (ad 0)), (1, .int v1), (2, .int v2)] → lpF (fun _ _ => False) (w_X3_insults_4 post f_length a_input) n v1 v2 → W p l e (headSpec (ws_ yX3_insults cX3_insults 3 (some .int)) rm_X3_insults).room s m ([.ref (ad 0)] : List Value).toArray below meth c s.heap [] 0 0 (MQ below (vp_Si (fun r => post r)) ([.ref (ad 0)] : List Value).toArray s 0 0 (fun _ => False)) (F0 m 4 ls []) := by
    intro  n
    induction n with
    | zero => intro v1 v2 ls hl hw; exact absurd hw id
    | succ n hk4 =>
      intro v1 v2 ls hl hw
      generalize hk9 : lpF (fun _ _ => False) (w_X3_insults_4 post f_length a_input) n = k4 at hk4
      have hw : (w_X3_insults_4 post f_length a_input) k4 v1 v2 := hk9 ▸ hw
      refine lv_iload_n hx hb dX3_insults_4 rfl (lv_at hl 2 rfl) ?_
      refine lv_aload_n hx hb dX3_insults_5 rfl (lv_at hl 0 rfl) ?_
      refine va_get (D := D) (ci := 2) (v := .int f_length) (C := RX3) (T := TX3) (N := 20) hx hb hts in_X3 hown hK hP 0 rfl rfl 7 (by decide) (hts _ q1748) (fun _ h9 => h9) rfl dX3_insults_6 ?_
      refine lv_icmp_ge (tgt := 37) hx hb dX3_insults_9 (by decide) (fun c4 => ?_) (fun c4 => ?_)
      · have hw := hw.1 c4
        refine lv_iload_n hx hb dX3_insults_37 rfl (lv_at hl 1 rfl) ?_
        exact W.iret (v := v1) hx hb hr (fun t ht hW => ⟨v1, rfl, hw, ht⟩) (fun _ h => by cases h) dX3_insults_38
      · have hw := hw.2 c4
        refine lv_iload_n hx hb dX3_insults_12 rfl (lv_at hl 1 rfl) ?_
        refine lv_aload_n hx hb dX3_insults_13 rfl (lv_at hl 0 rfl) ?_
        refine va_get (D := D) (ci := 2) (v := .ref (ad 4)) (C := RX3) (T := TX3) (N := 20) hx hb hts in_X3 hown hK hP 0 rfl rfl 6 (by decide) (hts _ q1747) (fun _ h9 => h9) rfl dX3_insults_14 ?_
        refine lv_iload_n hx hb dX3_insults_17 rfl (lv_at hl 2 rfl) ?_
        obtain ⟨h5, hw⟩ := hw
        refine k_iald (k := v2.toNatClampNeg) hx hb hK hP 4 0 rfl rfl rfl h5 dX3_insults_18 ?_
        refine lv_bipush (v := (nI 33)) hx hb dX3_insults_19 (by decide) ?_
        refine lv_icmp_ne (tgt := 28) hx hb dX3_insults_21 (by decide) (fun c6 => ?_) (fun c6 => ?_)
        · have hw := hw.2 c6
          refine lv_iconst (v := (nI 0)) hx hb dX3_insults_28 (by decide) ?_
          exact hL29 k4 hk4 v2 v1 (nI 0) _ (lv_sub hl [0, 2] rfl) hw
        · have hw := hw.1 c6
          refine lv_iconst (v := (nI 1)) hx hb dX3_insults_24 (by decide) ?_
          refine lv_goto (tgt := 29) hx hb dX3_insults_25 (by decide) ?_
          exact hL29 k4 hk4 v2 v1 (nI 1) _ (lv_sub hl [0, 2] rfl) hw
  refine lv_iconst (v := (nI 0)) hx hb dX3_insults_0 (by decide) ?_
  refine lv_istore_n (lv' := [(1, .int (nI 0)), (0, .ref (ad 0))]) hx hb dX3_insults_1 rfl hl (by decide) rfl (fun ls hl => ?_)
  refine lv_iconst (v := (nI 0)) hx hb dX3_insults_2 (by decide) ?_
  refine lv_istore_n (lv' := [(2, .int (nI 0)), (1, .int (nI 0)), (0, .ref (ad 0))]) hx hb dX3_insults_3 rfl hl (by decide) rfl (fun ls hl => ?_)
  obtain ⟨n, hw⟩ := hw
  exact hL4  n (nI 0) (nI 0) _ (lv_sub hl [2, 1, 0] rfl) hw
theorem gX3_134 : GoodIn lw_all (wsV RX3 134 RX3 yX3_insults (ws_ yX3_insults cX3_insults 3 (some .int))) := lw_V q1955 q1957 qs50 q84 q1958
theorem hd_X3_insults : yX3_insults.cls ≠ "java/lang/invoke/MethodHandle" ∧ yX3_insults.cls ≠ "java/lang/invoke/VarHandle" ∧ (parseMethodDescriptor yX3_insults.desc).map (fun d => d.parameters.length) = some 0 := by decide +kernel
def rm_X3_insultCount : Room := { frames := 1, cells := 0, slots := 0, locals := 22 }
set_option maxHeartbeats 4000000 in
set_option maxRecDepth 100000 in
theorem met_X3_insultCount (l : Launch) (D : va_G) (dA : Nat → ClassId) (ad : Nat → Nat) (sz : Nat) (f_isSaved : Int32) (f_changes : Int32) (f_code : Int32) (f_length : Int32) (f_fault : Int32) (f_signMany : Int32) (f_at : Int32) (f_place : Int32) (a_g : (Nat → Int32)) (a_kept : (Nat → Int32)) (a_saved : (Nat → Int32)) (a_input : (Nat → Int32)) (a_signs : (Nat → Int32)) (a_ways : (Nat → Int64)) (a_needs : (Nat → Int32)) (a_walk : (Nat → Int32)) (a_one : (Nat → Int32)) (a_several : (Nat → Int32)) (a_ragged : (Nat → Int32)) (a_nextLine : (Nat → Int32))  (post : Int32 → Int32 → Prop) (hw : w_X3_insultCount post f_code f_length a_input) : Met l yX3_insultCount (ws_ yX3_insultCount cX3_insultCount 1 (some .int)) rm_X3_insultCount (va_Pc [.ref (ad 0)] (wrB D dA sz (mdl ad dA f_isSaved f_changes f_code f_length f_fault f_signMany f_at f_place a_g a_kept a_saved a_input a_signs a_ways a_needs a_walk a_one a_several a_ragged a_nextLine))) (va_Qi (fun (r : Int32) (u : Int32) => post r u) (fun (u : Int32) t => wrQ D dA (va_A (mdl ad dA f_isSaved f_changes f_code f_length f_fault f_signMany f_at f_place a_g a_kept a_saved a_input a_signs a_ways a_needs a_walk a_one a_several a_ragged a_nextLine) sz) (mdl ad dA f_isSaved f_changes u f_length f_fault f_signMany f_at f_place a_g a_kept a_saved a_input a_signs a_ways a_needs a_walk a_one a_several a_ragged a_nextLine) t) (va_A (mdl ad dA f_isSaved f_changes f_code f_length f_fault f_signMany f_at f_place a_g a_kept a_saved a_input a_signs a_ways a_needs a_walk a_one a_several a_ragged a_nextLine) sz)) 0 0 (va_A (mdl ad dA f_isSaved f_changes f_code f_length f_fault f_signMany f_at f_place a_g a_kept a_saved a_input a_signs a_ways a_needs a_walk a_one a_several a_ragged a_nextLine) sz) := by
  refine Met.ofW (cc := cX3_insultCount) (maxL := 1) (ret := (some .int)) (by decide) rfl ?_
  intro p e s m args below meth c s₁ B hml hv
  obtain ⟨rfl, hsz, hP, hK, hD0⟩ := hv
  have hx := B.exec
  have hb := B.bytes
  have hr := B.returns
  have hts := atoms_spec (ws := (ws_ yX3_insultCount cX3_insultCount 1 (some .int))) B.pre
  have hts : ∀ w ∈ lw_all, w.before _ s = true := fun w h => hts w (List.mem_cons_of_mem _ h)
  have hown : s.vm.findClass RX3 = some m.cls := findClass_of_methodNamed B.named
  have hlocks := B.notSynchronized
  have hSx : CallFix p m c cX3_insultCount 1 s _ lw_all RX3 := ⟨hx, hb, hml, hown, hts⟩
  subst hsz
  have hD := hD0.self (sz := s.heap.size)
  generalize hAe : va_A (mdl ad dA f_isSaved f_changes f_code f_length f_fault f_signMany f_at f_place a_g a_kept a_saved a_input a_signs a_ways a_needs a_walk a_one a_several a_ragged a_nextLine) s.heap.size = A at hD ⊢
  have hA : ∀ q : Nat, s.heap.size ≤ q → A q := fun q h => by rw [← hAe]; exact Or.inr h
  have hS : va_S A s.heap s.heap [] := va_S.rf
  have hl := lv_entry ([.ref (ad 0)]) (n := 1) (Nat.le_of_ble_eq_true rfl)
  rw [lg_entry_eq]
  generalize (lg_sl ([.ref (ad 0)]) ++ List.replicate (1 - (lg_sl ([.ref (ad 0)])).length) Slot.unset).toArray = ls at hl ⊢
  have hl : lv_has ls 1 [(0, .ref (ad 0))] := hl
  refine lv_aload_n hx hb dX3_insultCount_0 rfl (lv_at hl 0 rfl) ?_
  refine lv_iconst (v := (nI 0)) hx hb dX3_insultCount_1 (by decide) ?_
  refine va_put (D := D) (ci := 2) (v := .int (nI 0)) (ty := .int) (C := RX3) (T := TX3) (N := 20) hx hb hts in_X3 tyX3 tyX3_ok nmX3 hown hK hP hD hS 0 rfl rfl 5 (by decide) (hts _ q1746) (fun _ h9 => h9) rfl (by decide +kernel) rfl rfl (Nat.le_of_ble_eq_true rfl) dX3_insultCount_2 (fun H locs hP hD hS => ?_)
  have hP : va_P D vwCl (mdl ad dA f_isSaved f_changes (nI 0) f_length f_fault f_signMany f_at f_place a_g a_kept a_saved a_input a_signs a_ways a_needs a_walk a_one a_several a_ragged a_nextLine) H := hP
  have hD : va_D A (mdl ad dA f_isSaved f_changes (nI 0) f_length f_fault f_signMany f_at f_place a_g a_kept a_saved a_input a_signs a_ways a_needs a_walk a_one a_several a_ragged a_nextLine) := hD
  refine lv_aload_n hx hb dX3_insultCount_5 rfl (lv_at hl 0 rfl) ?_
  refine k_ri (k_rV (As := []) (rest := []) hSx (met_X3_insults l D dA ad f_isSaved f_changes (nI 0) f_length f_fault f_signMany f_at f_place a_g a_kept a_saved a_input a_signs a_ways a_needs a_walk a_one a_several a_ragged a_nextLine  _ hw) gX3_134 ⟨rfl, hd_X3_insults⟩ ⟨Nat.le_of_ble_eq_true rfl, Nat.le_of_ble_eq_true rfl⟩ rfl rfl hP hK [0, 1, 2, 3, 4, 5, 6, 7, 8, 9, 10, 11, 12] rfl 0 rfl rfl rfl rfl hl.1 (Nat.le_of_ble_eq_true rfl) rfl dX3_insultCount_6 ⟨Nat.le_refl 0, Nat.le_refl 0⟩) (fun r2 hw => ?_)
  exact W.iret (v := r2) hx hb hr (fun t ht hW => ⟨⟨r2, (nI 0), rfl, hw, by rw [ht]; exact hP, va_K.moved hW.alike hK, hD⟩, hS.F ht⟩) hS.2.2 dX3_insultCount_9
def rm_X3_most : Room := { frames := 0, cells := 0, slots := 0, locals := 0 }
set_option maxHeartbeats 4000000 in
set_option maxRecDepth 100000 in
theorem met_X3_most (l : Launch)   (p0 : Int32) (p1 : Int32) (post : Int32 → Prop) (hw : w_X3_most post p0 p1) : Met l yX3_most (ws_ yX3_most cX3_most 2 (some .int)) rm_X3_most (va_Pc [.int p0, .int p1] (fun _ => True)) (vp_Si (fun r => post r)) 0 0 (fun _ => False) := by
  refine Met.ofW (cc := cX3_most) (maxL := 2) (ret := (some .int)) (by decide) rfl ?_
  intro p e s m args below meth c s₁ B hml hv
  obtain ⟨rfl, -⟩ := hv
  have hx := B.exec
  have hb := B.bytes
  have hr := B.returns
  have hts := atoms_spec (ws := (ws_ yX3_most cX3_most 2 (some .int))) B.pre
  have hts : ∀ w ∈ lw_all, w.before _ s = true := fun w h => hts w (List.mem_cons_of_mem _ h)
  have hown : s.vm.findClass RX3 = some m.cls := findClass_of_methodNamed B.named
  have hlocks := B.notSynchronized
  have hSx : CallFix p m c cX3_most 2 s _ lw_all RX3 := ⟨hx, hb, hml, hown, hts⟩
  have hl := lv_entry ([.int p0, .int p1]) (n := 2) (Nat.le_of_ble_eq_true rfl)
  rw [lg_entry_eq]
  generalize (lg_sl ([.int p0, .int p1]) ++ List.replicate (2 - (lg_sl ([.int p0, .int p1])).length) Slot.unset).toArray = ls at hl ⊢
  have hl : lv_has ls 2 [(0, .int p0), (1, .int p1)] := hl
  refine lv_iload_n hx hb dX3_most_0 rfl (lv_at hl 0 rfl) ?_
  refine lv_iload_n hx hb dX3_most_1 rfl (lv_at hl 1 rfl) ?_
  refine lv_icmp_le (tgt := 9) hx hb dX3_most_2 (by decide) (fun c2 => ?_) (fun c2 => ?_)
  · have hw := hw.1 c2
    refine lv_iload_n hx hb dX3_most_9 rfl (lv_at hl 1 rfl) ?_
    exact W.iret (v := p1) hx hb hr (fun t ht hW => ⟨p1, rfl, hw, ht⟩) (fun _ h => by cases h) dX3_most_10
  · have hw := hw.2 c2
    refine lv_iload_n hx hb dX3_most_5 rfl (lv_at hl 0 rfl) ?_
    refine lv_goto (tgt := 10) hx hb dX3_most_6 (by decide) ?_
    exact W.iret (v := p0) hx hb hr (fun t ht hW => ⟨p0, rfl, hw, ht⟩) (fun _ h => by cases h) dX3_most_10
theorem gX3_137 : GoodIn lw_all (va_wsS RX3 137 yX3_most (ws_ yX3_most cX3_most 2 (some .int))) := lw_S q1975 q1976 q84 q1977
theorem hd_X3_most : yX3_most.cls ≠ "java/lang/invoke/MethodHandle" ∧ yX3_most.cls ≠ "java/lang/invoke/VarHandle" ∧ (parseMethodDescriptor yX3_most.desc).map (fun d => d.parameters.length) = some 2 := by decide +kernel
def rm_X3_parts : Room := { frames := 1, cells := 0, slots := 0, locals := 22 }
set_option maxHeartbeats 4000000 in
set_option maxRecDepth 100000 in
theorem met_X3_parts (l : Launch) (D : va_G) (dA : Nat → ClassId) (ad : Nat → Nat) (sz : Nat) (f_isSaved : Int32) (f_changes : Int32) (f_code : Int32) (f_length : Int32) (f_fault : Int32) (f_signMany : Int32) (f_at : Int32) (f_place : Int32) (a_g : (Nat → Int32)) (a_kept : (Nat → Int32)) (a_saved : (Nat → Int32)) (a_input : (Nat → Int32)) (a_signs : (Nat → Int32)) (a_ways : (Nat → Int64)) (a_needs : (Nat → Int32)) (a_walk : (Nat → Int32)) (a_one : (Nat → Int32)) (a_several : (Nat → Int32)) (a_ragged : (Nat → Int32)) (a_nextLine : (Nat → Int32)) (p0 : Int32) (p1 : Int32) (post : (Nat → Int32) → (Nat → Int32) → Prop) (hw : w_X3_parts post a_input a_one a_several p0 p1) : Met l yX3_parts (ws_ yX3_parts cX3_parts 9 none) rm_X3_parts (va_Pc [.ref (ad 0), .int p0, .int p1] (wrB D dA sz (mdl ad dA f_isSaved f_changes f_code f_length f_fault f_signMany f_at f_place a_g a_kept a_saved a_input a_signs a_ways a_needs a_walk a_one a_several a_ragged a_nextLine))) (va_Qv (fun (u : (Nat → Int32) × (Nat → Int32)) => post u.1 u.2) (fun (u : (Nat → Int32) × (Nat → Int32)) t => wrQ D dA (va_A (mdl ad dA f_isSaved f_changes f_code f_length f_fault f_signMany f_at f_place a_g a_kept a_saved a_input a_signs a_ways a_needs a_walk a_one a_several a_ragged a_nextLine) sz) (mdl ad dA f_isSaved f_changes f_code f_length f_fault f_signMany f_at f_place a_g a_kept a_saved a_input a_signs a_ways a_needs a_walk u.1 u.2 a_ragged a_nextLine) t) (va_A (mdl ad dA f_isSaved f_changes f_code f_length f_fault f_signMany f_at f_place a_g a_kept a_saved a_input a_signs a_ways a_needs a_walk a_one a_several a_ragged a_nextLine) sz)) 0 0 (va_A (mdl ad dA f_isSaved f_changes f_code f_length f_fault f_signMany f_at f_place a_g a_kept a_saved a_input a_signs a_ways a_needs a_walk a_one a_several a_ragged a_nextLine) sz) := by
  refine Met.ofW (cc := cX3_parts) (maxL := 9) (ret := none) (by decide) rfl ?_
  intro p e s m args below meth c s₁ B hml hv
  obtain ⟨rfl, hsz, hP, hK, hD0⟩ := hv
  have hx := B.exec
  have hb := B.bytes
  have hr := B.returns
  have hts := atoms_spec (ws := (ws_ yX3_parts cX3_parts 9 none)) B.pre
  have hts : ∀ w ∈ lw_all, w.before _ s = true := fun w h => hts w (List.mem_cons_of_mem _ h)
  have hown : s.vm.findClass RX3 = some m.cls := findClass_of_methodNamed B.named
  have hlocks := B.notSynchronized
  have hSx : CallFix p m c cX3_parts 9 s _ lw_all RX3 := ⟨hx, hb, hml, hown, hts⟩
  subst hsz
  have hD := hD0.self (sz := s.heap.size)
  generalize hAe : va_A (mdl ad dA f_isSaved f_changes f_code f_length f_fault f_signMany f_at f_place a_g a_kept a_saved a_input a_signs a_ways a_needs a_walk a_one a_several a_ragged a_nextLine) s.heap.size = A at hD ⊢
  have hA : ∀ q : Nat, s.heap.size ≤ q → A q := fun q h => by rw [← hAe]; exact Or.inr h
  have hS : va_S A s.heap s.heap [] := va_S.rf
  have hl := lv_entry ([.ref (ad 0), .int p0, .int p1]) (n := 9) (Nat.le_of_ble_eq_true rfl)
  rw [lg_entry_eq]
  generalize (lg_sl ([.ref (ad 0), .int p0, .int p1]) ++ List.replicate (9 - (lg_sl ([.ref (ad 0), .int p0, .int p1])).length) Slot.unset).toArray = ls at hl ⊢
  have hl : lv_has ls 9 [(0, .ref (ad 0)), (1, .int p0), (2, .int p1)] := hl
  have hL245 : ∀ (k171 : (Nat → Int32) → (Nat → Int32) → Int32 → Int32 → Int32 → Int32 → Int32 → Prop) (hk171 : ∀ (a_one : (Nat → Int32)) (a_several : (Nat → Int32)) (v1 : Int32) (v2 : Int32) (v3 : Int32) (v4 : Int32) (v6 : Int32) (H : Heap) (locs : List Loc) (ls : Array Slot), va_P D vwCl (mdl ad dA f_isSaved f_changes f_code f_length f_fault f_signMany f_at f_place a_g a_kept a_saved a_input a_signs a_ways a_needs a_walk a_one a_several a_ragged a_nextLine) H → va_D A (mdl ad dA f_isSaved f_changes f_code f_length f_fault f_signMany f_at f_place a_g a_kept a_saved a_input a_signs a_ways a_needs a_walk a_one a_several a_ragged a_nextLine) → va_S A s.heap H locs → lv_has ls 9 [(0, .ref (ad 0)), (1, .int v1), (2, .int v2), (3, .int v3), (4, .int v4), (6, .int v6)] → k171 a_one a_several v1 v2 v3 v4 v6 → W p l e (headSpec (ws_ yX3_parts cX3_parts 9 none) rm_X3_parts).room s m ([.ref (ad 0), .int p0, .int p1] : List Value).toArray below meth c H locs 0 0 (MQ below (va_Qv (fun (u : (Nat → Int32) × (Nat → Int32)) => post u.1 u.2) (fun (u : (Nat → Int32) × (Nat → Int32)) t => wrQ D dA A (mdl ad dA f_isSaved f_changes f_code f_length f_fault f_signMany f_at f_place a_g a_kept a_saved a_input a_signs a_ways a_needs a_walk u.1 u.2 a_ragged a_nextLine) t) A) ([.ref (ad 0), .int p0, .int p1] : List Value).toArray s 0 0 A) (F0 m 171 ls [])) (a_one : (Nat → Int32)) (a_several : (Nat → Int32)) (v1 : Int32) (v2 : Int32) (v3 : Int32) (v4 : Int32) (v6 : Int32) (H : Heap) (locs : List Loc) (ls : Array Slot), va_P D vwCl (mdl ad dA f_isSaved f_changes f_code f_length f_fault f_signMany f_at f_place a_g a_kept a_saved a_input a_signs a_ways a_needs a_walk a_one a_several a_ragged a_nextLine) H → va_D A (mdl ad dA f_isSaved f_changes f_code f_length f_fault f_signMany f_at f_place a_g a_kept a_saved a_input a_signs a_ways a_needs a_walk a_one a_several a_ragged a_nextLine) → va_S A s.heap H locs → lv_has ls 9 [(0, .ref (ad 0)), (1, .int v1), (2, .int v2), (3, .int v3), (4, .int v4), (6, .int v6)] → (w_X3_parts_245 post a_input k171) a_one a_several v1 v2 v3 v4 v6 → W p l e (headSpec (ws_ yX3_parts cX3_parts 9 none) rm_X3_parts).room s m ([.ref (ad 0), .int p0, .int p1] : List Value).toArray below meth c H locs 0 0 (MQ below (va_Qv (fun (u : (Nat → Int32) × (Nat → Int32)) => post u.1 u.2) (fun (u : (Nat → Int32) × (Nat → Int32)) t => wrQ D dA A (mdl ad dA f_isSaved f_changes f_code f_length f_fault f_signMany f_at f_place a_g a_kept a_saved a_input a_signs a_ways a_needs a_walk u.1 u.2 a_ragged a_nextLine) t) A) ([.ref (ad 0), .int p0, .int p1] : List Value).toArray s 0 0 A) (F0 m 245 ls []) := by
      intro k171 hk171 a_one a_several v1 v2 v3 v4 v6 H locs ls hP hD hS hl hw
      refine lv_iinc (v := (v6 + (nI 1))) (lv' := [(6, .int (v6 + (nI 1))), (0, .ref (ad 0)), (1, .int v1), (2, .int v2), (3, .int v3), (4, .int v4)]) hx hb dX3_parts_245 hl (k := 5) rfl (congrArg (fun z => v6 + z) (by decide : Int32.ofInt (1) = (nI 1))) (by decide) rfl (fun ls hl => ?_)
      refine lv_goto (tgt := 171) hx hb dX3_parts_248 (by decide) ?_
      exact hk171 a_one a_several v1 v2 v3 v4 (v6 + (nI 1)) _ _ _ hP hD hS (lv_sub hl [1, 2, 3, 4, 5, 0] rfl) hw
  have hL171 : ∀  (n : Nat) (a_one : (Nat → Int32)) (a_several : (Nat → Int32)) (v1 : Int32) (v2 : Int32) (v3 : Int32) (v4 : Int32) (v6 : Int32) (H : Heap) (locs : List Loc) (ls : Array Slot), va_P D vwCl (mdl ad dA f_isSaved f_changes f_code f_length f_fault f_signMany f_at f_place a_g a_kept a_saved a_input a_signs a_ways a_needs a_walk a_one a_several a_ragged a_nextLine) H → va_D A (mdl ad dA f_isSaved f_changes f_code f_length f_fault f_signMany f_at f_place a_g a_kept a_saved a_input a_signs a_ways a_needs a_walk a_one a_several a_ragged a_nextLine) → va_S A s.heap H locs → lv_has ls 9 [(0, .ref (ad 0)), (1, .int v1), (2, .int v2), (3, .int v3), (4, .int v4), (6, .int v6)] → lpF (fun _ _ _ _ _ _ _ => False) (w_X3_parts_171 post a_input) n a_one a_several v1 v2 v3 v4 v6 → W p l e (headSpec (ws_ yX3_parts cX3_parts 9 none) rm_X3_parts).room s m ([.ref (ad 0), .int p0, .int p1] : List Value).toArray below meth c H locs 0 0 (MQ below (va_Qv (fun (u : (Nat → Int32) × (Nat → Int32)) => post u.1 u.2) (fun (u : (Nat → Int32) × (Nat → Int32)) t => wrQ D dA A (mdl ad dA f_isSaved f_changes f_code f_length f_fault f_signMany f_at f_place a_g a_kept a_saved a_input a_signs a_ways a_needs a_walk u.1 u.2 a_ragged a_nextLine) t) A) ([.ref (ad 0), .int p0, .int p1] : List Value).toArray s 0 0 A) (F0 m 171 ls []) := by
    intro  n
    induction n with
    | zero => intro a_one a_several v1 v2 v3 v4 v6 H locs ls hP hD hS hl hw; exact absurd hw id
    | succ n hk171 =>
      intro a_one a_several v1 v2 v3 v4 v6 H locs ls hP hD hS hl hw
      generalize hk9 : lpF (fun _ _ _ _ _ _ _ => False) (w_X3_parts_171 post a_input) n = k171 at hk171
      have hw : (w_X3_parts_171 post a_input) k171 a_one a_several v1 v2 v3 v4 v6 := hk9 ▸ hw
      refine lv_iload hx hb dX3_parts_171 (lv_at hl 5 rfl) ?_
      refine lv_iload_n hx hb dX3_parts_173 rfl (lv_at hl 2 rfl) ?_
      refine lv_iconst (v := (nI 1)) hx hb dX3_parts_174 (by decide) ?_
      refine lv_isub hx hb dX3_parts_175 ?_
      refine lv_icmp_ge (tgt := 251) hx hb dX3_parts_176 (by decide) (fun c33 => ?_) (fun c33 => ?_)
      · have hw := hw.1 c33
        refine lv_aload_n hx hb dX3_parts_251 rfl (lv_at hl 0 rfl) ?_
        refine va_get (D := D) (ci := 2) (v := .ref (ad 10)) (C := RX3) (T := TX3) (N := 20) hx hb hts in_X3 hown hK hP 0 rfl rfl 16 (by decide) (hts _ q1757) (fun _ h9 => h9) rfl dX3_parts_252 ?_
        refine lv_iload_n hx hb dX3_parts_255 rfl (lv_at hl 3 rfl) ?_
        refine lv_iload hx hb dX3_parts_256 (lv_at hl 4 rfl) ?_
        obtain ⟨h34, hw⟩ := hw
        refine k_iast (k := v3.toNatClampNeg) hx hb hK hP hD hS 10 0 rfl rfl rfl h34 dX3_parts_258 (fun H locs hP hD hS => ?_)
        have hP : va_P D vwCl (mdl ad dA f_isSaved f_changes f_code f_length f_fault f_signMany f_at f_place a_g a_kept a_saved a_input a_signs a_ways a_needs a_walk a_one (upd a_several v3.toNatClampNeg v4) a_ragged a_nextLine) H := hP
        have hD : va_D A (mdl ad dA f_isSaved f_changes f_code f_length f_fault f_signMany f_at f_place a_g a_kept a_saved a_input a_signs a_ways a_needs a_walk a_one (upd a_several v3.toNatClampNeg v4) a_ragged a_nextLine) := hD
        exact W.vret hx hb hr (fun t ht hW => ⟨⟨(a_one, (upd a_several v3.toNatClampNeg v4)), rfl, hw, by rw [ht]; exact hP, va_K.moved hW.alike hK, hD⟩, hS.F ht⟩) hS.2.2 dX3_parts_259
      · have hw := hw.2 c33
        refine lv_aload_n hx hb dX3_parts_179 rfl (lv_at hl 0 rfl) ?_
        refine va_get (D := D) (ci := 2) (v := .ref (ad 10)) (C := RX3) (T := TX3) (N := 20) hx hb hts in_X3 hown hK hP 0 rfl rfl 16 (by decide) (hts _ q1757) (fun _ h9 => h9) rfl dX3_parts_180 ?_
        refine lv_bipush (v := (nI 25)) hx hb dX3_parts_183 (by decide) ?_
        refine lv_iload_n hx hb dX3_parts_185 rfl (lv_at hl 1 rfl) ?_
        refine lv_imul hx hb dX3_parts_186 ?_
        refine lv_iload hx hb dX3_parts_187 (lv_at hl 5 rfl) ?_
        refine lv_iadd hx hb dX3_parts_189 ?_
        obtain ⟨h35, hw⟩ := hw
        refine k_iald (k := (((nI 25) * v1) + v6).toNatClampNeg) hx hb hK hP 10 0 rfl rfl rfl h35 dX3_parts_190 ?_
        refine lv_istore (lv' := [(7, .int (a_several (((nI 25) * v1) + v6).toNatClampNeg)), (0, .ref (ad 0)), (1, .int v1), (2, .int v2), (3, .int v3), (4, .int v4), (6, .int v6)]) hx hb dX3_parts_191 hl (by decide) rfl (fun ls hl => ?_)
        refine lv_aload_n hx hb dX3_parts_193 rfl (lv_at hl 1 rfl) ?_
        refine va_get (D := D) (ci := 2) (v := .ref (ad 9)) (C := RX3) (T := TX3) (N := 20) hx hb hts in_X3 hown hK hP 0 rfl rfl 15 (by decide) (hts _ q1756) (fun _ h9 => h9) rfl dX3_parts_194 ?_
        refine lv_bipush (v := (nI 25)) hx hb dX3_parts_197 (by decide) ?_
        refine lv_iload hx hb dX3_parts_199 (lv_at hl 6 rfl) ?_
        refine lv_iconst (v := (nI 1)) hx hb dX3_parts_201 (by decide) ?_
        refine lv_iadd hx hb dX3_parts_202 ?_
        refine lv_imul hx hb dX3_parts_203 ?_
        refine lv_iload_n hx hb dX3_parts_204 rfl (lv_at hl 3 rfl) ?_
        refine lv_iadd hx hb dX3_parts_205 ?_
        obtain ⟨h36, hw⟩ := hw
        refine k_iald (k := (((nI 25) * (v6 + (nI 1))) + v2).toNatClampNeg) hx hb hK hP 9 0 rfl rfl rfl h36 dX3_parts_206 ?_
        refine lv_topi (fun x37 ex37 => ?_)
        have hw := hw x37 ex37
        refine lv_istore (lv' := [(8, .int x37), (7, .int (a_several (((nI 25) * v1) + v6).toNatClampNeg)), (0, .ref (ad 0)), (1, .int v1), (2, .int v2), (3, .int v3), (4, .int v4), (6, .int v6)]) hx hb dX3_parts_207 hl (by decide) rfl (fun ls hl => ?_)
        refine lv_aload_n hx hb dX3_parts_209 rfl (lv_at hl 2 rfl) ?_
        refine va_get (D := D) (ci := 2) (v := .ref (ad 4)) (C := RX3) (T := TX3) (N := 20) hx hb hts in_X3 hown hK hP 0 rfl rfl 6 (by decide) (hts _ q1747) (fun _ h9 => h9) rfl dX3_parts_210 ?_
        refine lv_iload hx hb dX3_parts_213 (lv_at hl 7 rfl) ?_
        obtain ⟨h38, hw⟩ := hw
        refine k_iald (k := v6.toNatClampNeg) hx hb hK hP 4 0 rfl rfl rfl h38 dX3_parts_215 ?_
        refine lv_bipush (v := (nI 44)) hx hb dX3_parts_216 (by decide) ?_
        refine lv_icmp_ne (tgt := 245) hx hb dX3_parts_218 (by decide) (fun c39 => ?_) (fun c39 => ?_)
        · have hw := hw.2 c39
          exact hL245 k171 hk171 a_one a_several v1 v2 v3 v4 v6 _ _ _ hP hD hS (lv_sub hl [2, 3, 4, 5, 6, 7] rfl) hw
        · have hw := hw.1 c39
          refine lv_iload hx hb dX3_parts_221 (lv_at hl 1 rfl) ?_
          refine lv_if_le (tgt := 245) hx hb dX3_parts_223 (by decide) (fun c40 => ?_) (fun c40 => ?_)
          · have hw := hw.1 c40
            exact hL245 k171 hk171 a_one a_several v1 v2 v3 v4 v6 _ _ _ hP hD hS (lv_sub hl [2, 3, 4, 5, 6, 7] rfl) hw
          · have hw := hw.2 c40
            refine lv_iload hx hb dX3_parts_226 (lv_at hl 0 rfl) ?_
            refine lv_if_le (tgt := 245) hx hb dX3_parts_228 (by decide) (fun c41 => ?_) (fun c41 => ?_)
            · have hw := hw.1 c41
              exact hL245 k171 hk171 a_one a_several v1 v2 v3 v4 v6 _ _ _ hP hD hS (lv_sub hl [2, 3, 4, 5, 6, 7] rfl) hw
            · have hw := hw.2 c41
              refine lv_iload hx hb dX3_parts_231 (lv_at hl 6 rfl) ?_
              refine lv_iload hx hb dX3_parts_233 (lv_at hl 1 rfl) ?_
              refine lv_iconst (v := (nI 1)) hx hb dX3_parts_235 (by decide) ?_
              refine lv_iadd hx hb dX3_parts_236 ?_
              refine lv_iload hx hb dX3_parts_237 (lv_at hl 0 rfl) ?_
              refine lv_iadd hx hb dX3_parts_239 ?_
              refine k_ri (k_pS (As := [.int v4, .int (((a_several (((nI 25) * v1) + v6).toNatClampNeg) + (nI 1)) + x37)]) (rest := []) hSx (met_X3_most l v4 (((a_several (((nI 25) * v1) + v6).toNatClampNeg) + (nI 1)) + x37) _ hw) gX3_137 hd_X3_most ⟨Nat.le_of_ble_eq_true rfl, Nat.le_of_ble_eq_true rfl⟩ rfl rfl rfl hl.1 (Nat.le_of_ble_eq_true rfl) rfl dX3_parts_240 ⟨Nat.le_refl 0, Nat.le_refl 0⟩) (fun r42 hw => ?_)
              refine lv_istore (lv' := [(4, .int r42), (8, .int x37), (7, .int (a_several (((nI 25) * v1) + v6).toNatClampNeg)), (0, .ref (ad 0)), (1, .int v1), (2, .int v2), (3, .int v3), (6, .int v6)]) hx hb dX3_parts_243 hl (by decide) rfl (fun ls hl => ?_)
              exact hL245 k171 hk171 a_one a_several v1 v2 v3 r42 v6 _ _ _ hP hD hS (lv_sub hl [3, 4, 5, 6, 0, 7] rfl) hw
  have hL158 : ∀  (a_one : (Nat → Int32)) (a_several : (Nat → Int32)) (v1 : Int32) (v2 : Int32) (v3 : Int32) (v4 : Int32) (H : Heap) (locs : List Loc) (ls : Array Slot), va_P D vwCl (mdl ad dA f_isSaved f_changes f_code f_length f_fault f_signMany f_at f_place a_g a_kept a_saved a_input a_signs a_ways a_needs a_walk a_one a_several a_ragged a_nextLine) H → va_D A (mdl ad dA f_isSaved f_changes f_code f_length f_fault f_signMany f_at f_place a_g a_kept a_saved a_input a_signs a_ways a_needs a_walk a_one a_several a_ragged a_nextLine) → va_S A s.heap H locs → lv_has ls 9 [(0, .ref (ad 0)), (1, .int v1), (2, .int v2), (3, .int v3), (4, .int v4)] → (w_X3_parts_158 post a_input) a_one a_several v1 v2 v3 v4 → W p l e (headSpec (ws_ yX3_parts cX3_parts 9 none) rm_X3_parts).room s m ([.ref (ad 0), .int p0, .int p1] : List Value).toArray below meth c H locs 0 0 (MQ below (va_Qv (fun (u : (Nat → Int32) × (Nat → Int32)) => post u.1 u.2) (fun (u : (Nat → Int32) × (Nat → Int32)) t => wrQ D dA A (mdl ad dA f_isSaved f_changes f_code f_length f_fault f_signMany f_at f_place a_g a_kept a_saved a_input a_signs a_ways a_needs a_walk u.1 u.2 a_ragged a_nextLine) t) A) ([.ref (ad 0), .int p0, .int p1] : List Value).toArray s 0 0 A) (F0 m 158 ls []) := by
      intro  a_one a_several v1 v2 v3 v4 H locs ls hP hD hS hl hw
      refine lv_aload_n hx hb dX3_parts_158 rfl (lv_at hl 0 rfl) ?_
      refine va_get (D := D) (ci := 2) (v := .ref (ad 9)) (C := RX3) (T := TX3) (N := 20) hx hb hts in_X3 hown hK hP 0 rfl rfl 15 (by decide) (hts _ q1756) (fun _ h9 => h9) rfl dX3_parts_159 ?_
      refine lv_iload_n hx hb dX3_parts_162 rfl (lv_at hl 3 rfl) ?_
      refine lv_iload hx hb dX3_parts_163 (lv_at hl 4 rfl) ?_
      obtain ⟨h43, hw⟩ := hw
      refine k_iast (k := v3.toNatClampNeg) hx hb hK hP hD hS 9 0 rfl rfl rfl h43 dX3_parts_165 (fun H locs hP hD hS => ?_)
      have hP : va_P D vwCl (mdl ad dA f_isSaved f_changes f_code f_length f_fault f_signMany f_at f_place a_g a_kept a_saved a_input a_signs a_ways a_needs a_walk (upd a_one v3.toNatClampNeg v4) a_several a_ragged a_nextLine) H := hP
      have hD : va_D A (mdl ad dA f_isSaved f_changes f_code f_length f_fault f_signMany f_at f_place a_g a_kept a_saved a_input a_signs a_ways a_needs a_walk (upd a_one v3.toNatClampNeg v4) a_several a_ragged a_nextLine) := hD
      refine lv_iload_n hx hb dX3_parts_166 rfl (lv_at hl 1 rfl) ?_
      refine lv_iconst (v := (nI 1)) hx hb dX3_parts_167 (by decide) ?_
      refine lv_iadd hx hb dX3_parts_168 ?_
      refine lv_istore (lv' := [(6, .int (v1 + (nI 1))), (0, .ref (ad 0)), (1, .int v1), (2, .int v2), (3, .int v3), (4, .int v4)]) hx hb dX3_parts_169 hl (by decide) rfl (fun ls hl => ?_)
      obtain ⟨n, hw⟩ := hw
      exact hL171  n (upd a_one v3.toNatClampNeg v4) a_several v1 v2 v3 v4 (v1 + (nI 1)) _ _ _ hP hD hS (lv_sub hl [1, 2, 3, 4, 5, 0] rfl) hw
  have hL101 : ∀  (a_one : (Nat → Int32)) (a_several : (Nat → Int32)) (v1 : Int32) (v2 : Int32) (v3 : Int32) (v4 : Int32) (v5 : Int32) (H : Heap) (locs : List Loc) (ls : Array Slot), va_P D vwCl (mdl ad dA f_isSaved f_changes f_code f_length f_fault f_signMany f_at f_place a_g a_kept a_saved a_input a_signs a_ways a_needs a_walk a_one a_several a_ragged a_nextLine) H → va_D A (mdl ad dA f_isSaved f_changes f_code f_length f_fault f_signMany f_at f_place a_g a_kept a_saved a_input a_signs a_ways a_needs a_walk a_one a_several a_ragged a_nextLine) → va_S A s.heap H locs → lv_has ls 9 [(0, .ref (ad 0)), (1, .int v1), (2, .int v2), (3, .int v3), (4, .int v4), (5, .int v5)] → (w_X3_parts_101 post a_input) a_one a_several v1 v2 v3 v4 v5 → W p l e (headSpec (ws_ yX3_parts cX3_parts 9 none) rm_X3_parts).room s m ([.ref (ad 0), .int p0, .int p1] : List Value).toArray below meth c H locs 0 0 (MQ below (va_Qv (fun (u : (Nat → Int32) × (Nat → Int32)) => post u.1 u.2) (fun (u : (Nat → Int32) × (Nat → Int32)) t => wrQ D dA A (mdl ad dA f_isSaved f_changes f_code f_length f_fault f_signMany f_at f_place a_g a_kept a_saved a_input a_signs a_ways a_needs a_walk u.1 u.2 a_ragged a_nextLine) t) A) ([.ref (ad 0), .int p0, .int p1] : List Value).toArray s 0 0 A) (F0 m 101 ls []) := by
      intro  a_one a_several v1 v2 v3 v4 v5 H locs ls hP hD hS hl hw
      refine lv_iload hx hb dX3_parts_101 (lv_at hl 5 rfl) ?_
      refine lv_bipush (v := (nI 40)) hx hb dX3_parts_103 (by decide) ?_
      refine lv_icmp_ne (tgt := 158) hx hb dX3_parts_105 (by decide) (fun c44 => ?_) (fun c44 => ?_)
      · have hw := hw.2 c44
        exact hL158  a_one a_several v1 v2 v3 v4 _ _ _ hP hD hS (lv_sub hl [0, 1, 2, 3, 4] rfl) hw
      · have hw := hw.1 c44
        refine lv_iload_n hx hb dX3_parts_108 rfl (lv_at hl 2 rfl) ?_
        refine lv_iload_n hx hb dX3_parts_109 rfl (lv_at hl 1 rfl) ?_
        refine lv_isub hx hb dX3_parts_110 ?_
        refine lv_iconst (v := (nI 2)) hx hb dX3_parts_111 (by decide) ?_
        refine lv_icmp_le (tgt := 158) hx hb dX3_parts_112 (by decide) (fun c45 => ?_) (fun c45 => ?_)
        · have hw := hw.1 c45
          exact hL158  a_one a_several v1 v2 v3 v4 _ _ _ hP hD hS (lv_sub hl [0, 1, 2, 3, 4] rfl) hw
        · have hw := hw.2 c45
          refine lv_aload_n hx hb dX3_parts_115 rfl (lv_at hl 0 rfl) ?_
          refine va_get (D := D) (ci := 2) (v := .ref (ad 4)) (C := RX3) (T := TX3) (N := 20) hx hb hts in_X3 hown hK hP 0 rfl rfl 6 (by decide) (hts _ q1747) (fun _ h9 => h9) rfl dX3_parts_116 ?_
          refine lv_iload_n hx hb dX3_parts_119 rfl (lv_at hl 2 rfl) ?_
          refine lv_iconst (v := (nI 1)) hx hb dX3_parts_120 (by decide) ?_
          refine lv_isub hx hb dX3_parts_121 ?_
          obtain ⟨h46, hw⟩ := hw
          refine k_iald (k := (v2 - (nI 1)).toNatClampNeg) hx hb hK hP 4 0 rfl rfl rfl h46 dX3_parts_122 ?_
          refine lv_bipush (v := (nI 41)) hx hb dX3_parts_123 (by decide) ?_
          refine lv_icmp_ne (tgt := 158) hx hb dX3_parts_125 (by decide) (fun c47 => ?_) (fun c47 => ?_)
          · have hw := hw.2 c47
            exact hL158  a_one a_several v1 v2 v3 v4 _ _ _ hP hD hS (lv_sub hl [0, 1, 2, 3, 4] rfl) hw
          · have hw := hw.1 c47
            refine lv_aload_n hx hb dX3_parts_128 rfl (lv_at hl 0 rfl) ?_
            refine va_get (D := D) (ci := 2) (v := .ref (ad 10)) (C := RX3) (T := TX3) (N := 20) hx hb hts in_X3 hown hK hP 0 rfl rfl 16 (by decide) (hts _ q1757) (fun _ h9 => h9) rfl dX3_parts_129 ?_
            refine lv_iload_n hx hb dX3_parts_132 rfl (lv_at hl 3 rfl) ?_
            refine lv_bipush (v := (nI 24)) hx hb dX3_parts_133 (by decide) ?_
            refine lv_iadd hx hb dX3_parts_135 ?_
            obtain ⟨h48, hw⟩ := hw
            refine k_iald (k := (v3 + (nI 24)).toNatClampNeg) hx hb hK hP 10 0 rfl rfl rfl h48 dX3_parts_136 ?_
            refine lv_if_le (tgt := 158) hx hb dX3_parts_137 (by decide) (fun c49 => ?_) (fun c49 => ?_)
            · have hw := hw.1 c49
              exact hL158  a_one a_several v1 v2 v3 v4 _ _ _ hP hD hS (lv_sub hl [0, 1, 2, 3, 4] rfl) hw
            · have hw := hw.2 c49
              refine lv_iload hx hb dX3_parts_140 (lv_at hl 4 rfl) ?_
              refine lv_aload_n hx hb dX3_parts_142 rfl (lv_at hl 0 rfl) ?_
              refine va_get (D := D) (ci := 2) (v := .ref (ad 10)) (C := RX3) (T := TX3) (N := 20) hx hb hts in_X3 hown hK hP 0 rfl rfl 16 (by decide) (hts _ q1757) (fun _ h9 => h9) rfl dX3_parts_143 ?_
              refine lv_iload_n hx hb dX3_parts_146 rfl (lv_at hl 3 rfl) ?_
              refine lv_bipush (v := (nI 24)) hx hb dX3_parts_147 (by decide) ?_
              refine lv_iadd hx hb dX3_parts_149 ?_
              obtain ⟨h50, hw⟩ := hw
              refine k_iald (k := (v3 + (nI 24)).toNatClampNeg) hx hb hK hP 10 0 rfl rfl rfl h50 dX3_parts_150 ?_
              refine lv_iconst (v := (nI 2)) hx hb dX3_parts_151 (by decide) ?_
              refine lv_iadd hx hb dX3_parts_152 ?_
              refine k_ri (k_pS (As := [.int v4, .int ((a_several (v3 + (nI 24)).toNatClampNeg) + (nI 2))]) (rest := []) hSx (met_X3_most l v4 ((a_several (v3 + (nI 24)).toNatClampNeg) + (nI 2)) _ hw) gX3_137 hd_X3_most ⟨Nat.le_of_ble_eq_true rfl, Nat.le_of_ble_eq_true rfl⟩ rfl rfl rfl hl.1 (Nat.le_of_ble_eq_true rfl) rfl dX3_parts_153 ⟨Nat.le_refl 0, Nat.le_refl 0⟩) (fun r51 hw => ?_)
              refine lv_istore (lv' := [(4, .int r51), (0, .ref (ad 0)), (1, .int v1), (2, .int v2), (3, .int v3), (5, .int v5)]) hx hb dX3_parts_156 hl (by decide) rfl (fun ls hl => ?_)
              exact hL158  a_one a_several v1 v2 v3 r51 _ _ _ hP hD hS (lv_sub hl [1, 2, 3, 4, 0] rfl) hw
  have hL71 : ∀  (a_one : (Nat → Int32)) (a_several : (Nat → Int32)) (v1 : Int32) (v2 : Int32) (v3 : Int32) (v4 : Int32) (v5 : Int32) (H : Heap) (locs : List Loc) (ls : Array Slot), va_P D vwCl (mdl ad dA f_isSaved f_changes f_code f_length f_fault f_signMany f_at f_place a_g a_kept a_saved a_input a_signs a_ways a_needs a_walk a_one a_several a_ragged a_nextLine) H → va_D A (mdl ad dA f_isSaved f_changes f_code f_length f_fault f_signMany f_at f_place a_g a_kept a_saved a_input a_signs a_ways a_needs a_walk a_one a_several a_ragged a_nextLine) → va_S A s.heap H locs → lv_has ls 9 [(0, .ref (ad 0)), (1, .int v1), (2, .int v2), (3, .int v3), (4, .int v4), (5, .int v5)] → (w_X3_parts_71 post a_input) a_one a_several v1 v2 v3 v4 v5 → W p l e (headSpec (ws_ yX3_parts cX3_parts 9 none) rm_X3_parts).room s m ([.ref (ad 0), .int p0, .int p1] : List Value).toArray below meth c H locs 0 0 (MQ below (va_Qv (fun (u : (Nat → Int32) × (Nat → Int32)) => post u.1 u.2) (fun (u : (Nat → Int32) × (Nat → Int32)) t => wrQ D dA A (mdl ad dA f_isSaved f_changes f_code f_length f_fault f_signMany f_at f_place a_g a_kept a_saved a_input a_signs a_ways a_needs a_walk u.1 u.2 a_ragged a_nextLine) t) A) ([.ref (ad 0), .int p0, .int p1] : List Value).toArray s 0 0 A) (F0 m 71 ls []) := by
      intro  a_one a_several v1 v2 v3 v4 v5 H locs ls hP hD hS hl hw
      refine lv_aload_n hx hb dX3_parts_71 rfl (lv_at hl 0 rfl) ?_
      refine va_get (D := D) (ci := 2) (v := .ref (ad 9)) (C := RX3) (T := TX3) (N := 20) hx hb hts in_X3 hown hK hP 0 rfl rfl 15 (by decide) (hts _ q1756) (fun _ h9 => h9) rfl dX3_parts_72 ?_
      refine lv_iload_n hx hb dX3_parts_75 rfl (lv_at hl 3 rfl) ?_
      refine lv_bipush (v := (nI 25)) hx hb dX3_parts_76 (by decide) ?_
      refine lv_iadd hx hb dX3_parts_78 ?_
      obtain ⟨h52, hw⟩ := hw
      refine k_iald (k := (v3 + (nI 25)).toNatClampNeg) hx hb hK hP 9 0 rfl rfl rfl h52 dX3_parts_79 ?_
      refine lv_if_le (tgt := 101) hx hb dX3_parts_80 (by decide) (fun c53 => ?_) (fun c53 => ?_)
      · have hw := hw.1 c53
        exact hL101  a_one a_several v1 v2 v3 v4 v5 _ _ _ hP hD hS (lv_sub hl [0, 1, 2, 3, 4, 5] rfl) hw
      · have hw := hw.2 c53
        refine lv_iload hx hb dX3_parts_83 (lv_at hl 4 rfl) ?_
        refine lv_aload_n hx hb dX3_parts_85 rfl (lv_at hl 0 rfl) ?_
        refine va_get (D := D) (ci := 2) (v := .ref (ad 9)) (C := RX3) (T := TX3) (N := 20) hx hb hts in_X3 hown hK hP 0 rfl rfl 15 (by decide) (hts _ q1756) (fun _ h9 => h9) rfl dX3_parts_86 ?_
        refine lv_iload_n hx hb dX3_parts_89 rfl (lv_at hl 3 rfl) ?_
        refine lv_bipush (v := (nI 25)) hx hb dX3_parts_90 (by decide) ?_
        refine lv_iadd hx hb dX3_parts_92 ?_
        obtain ⟨h54, hw⟩ := hw
        refine k_iald (k := (v3 + (nI 25)).toNatClampNeg) hx hb hK hP 9 0 rfl rfl rfl h54 dX3_parts_93 ?_
        refine lv_iconst (v := (nI 1)) hx hb dX3_parts_94 (by decide) ?_
        refine lv_iadd hx hb dX3_parts_95 ?_
        refine k_ri (k_pS (As := [.int v4, .int ((a_one (v3 + (nI 25)).toNatClampNeg) + (nI 1))]) (rest := []) hSx (met_X3_most l v4 ((a_one (v3 + (nI 25)).toNatClampNeg) + (nI 1)) _ hw) gX3_137 hd_X3_most ⟨Nat.le_of_ble_eq_true rfl, Nat.le_of_ble_eq_true rfl⟩ rfl rfl rfl hl.1 (Nat.le_of_ble_eq_true rfl) rfl dX3_parts_96 ⟨Nat.le_refl 0, Nat.le_refl 0⟩) (fun r55 hw => ?_)
        refine lv_istore (lv' := [(4, .int r55), (0, .ref (ad 0)), (1, .int v1), (2, .int v2), (3, .int v3), (5, .int v5)]) hx hb dX3_parts_99 hl (by decide) rfl (fun ls hl => ?_)
        exact hL101  a_one a_several v1 v2 v3 r55 v5 _ _ _ hP hD hS (lv_sub hl [1, 2, 3, 4, 0, 5] rfl) hw
  have hL57 : ∀  (a_one : (Nat → Int32)) (a_several : (Nat → Int32)) (v1 : Int32) (v2 : Int32) (v3 : Int32) (v4 : Int32) (v5 : Int32) (H : Heap) (locs : List Loc) (ls : Array Slot), va_P D vwCl (mdl ad dA f_isSaved f_changes f_code f_length f_fault f_signMany f_at f_place a_g a_kept a_saved a_input a_signs a_ways a_needs a_walk a_one a_several a_ragged a_nextLine) H → va_D A (mdl ad dA f_isSaved f_changes f_code f_length f_fault f_signMany f_at f_place a_g a_kept a_saved a_input a_signs a_ways a_needs a_walk a_one a_several a_ragged a_nextLine) → va_S A s.heap H locs → lv_has ls 9 [(0, .ref (ad 0)), (1, .int v1), (2, .int v2), (3, .int v3), (4, .int v4), (5, .int v5)] → (w_X3_parts_57 post a_input) a_one a_several v1 v2 v3 v4 v5 → W p l e (headSpec (ws_ yX3_parts cX3_parts 9 none) rm_X3_parts).room s m ([.ref (ad 0), .int p0, .int p1] : List Value).toArray below meth c H locs 0 0 (MQ below (va_Qv (fun (u : (Nat → Int32) × (Nat → Int32)) => post u.1 u.2) (fun (u : (Nat → Int32) × (Nat → Int32)) t => wrQ D dA A (mdl ad dA f_isSaved f_changes f_code f_length f_fault f_signMany f_at f_place a_g a_kept a_saved a_input a_signs a_ways a_needs a_walk u.1 u.2 a_ragged a_nextLine) t) A) ([.ref (ad 0), .int p0, .int p1] : List Value).toArray s 0 0 A) (F0 m 57 ls []) := by
      intro  a_one a_several v1 v2 v3 v4 v5 H locs ls hP hD hS hl hw
      refine lv_iload hx hb dX3_parts_57 (lv_at hl 5 rfl) ?_
      refine lv_bipush (v := (nI 112)) hx hb dX3_parts_59 (by decide) ?_
      refine lv_icmp_eq (tgt := 71) hx hb dX3_parts_61 (by decide) (fun c56 => ?_) (fun c56 => ?_)
      · have hw := hw.1 c56
        exact hL71  a_one a_several v1 v2 v3 v4 v5 _ _ _ hP hD hS (lv_sub hl [0, 1, 2, 3, 4, 5] rfl) hw
      · have hw := hw.2 c56
        refine lv_iload hx hb dX3_parts_64 (lv_at hl 5 rfl) ?_
        refine lv_bipush (v := (nI 98)) hx hb dX3_parts_66 (by decide) ?_
        refine lv_icmp_ne (tgt := 101) hx hb dX3_parts_68 (by decide) (fun c57 => ?_) (fun c57 => ?_)
        · have hw := hw.2 c57
          exact hL101  a_one a_several v1 v2 v3 v4 v5 _ _ _ hP hD hS (lv_sub hl [0, 1, 2, 3, 4, 5] rfl) hw
        · have hw := hw.1 c57
          exact hL71  a_one a_several v1 v2 v3 v4 v5 _ _ _ hP hD hS (lv_sub hl [0, 1, 2, 3, 4, 5] rfl) hw
  refine lv_bipush (v := (nI 25)) hx hb dX3_parts_0 (by decide) ?_
  refine lv_iload_n hx hb dX3_parts_2 rfl (lv_at hl 1 rfl) ?_
  refine lv_imul hx hb dX3_parts_3 ?_
  refine lv_iload_n hx hb dX3_parts_4 rfl (lv_at hl 2 rfl) ?_
  refine lv_iadd hx hb dX3_parts_5 ?_
  refine lv_istore_n (lv' := [(3, .int (((nI 25) * p0) + p1)), (0, .ref (ad 0)), (1, .int p0), (2, .int p1)]) hx hb dX3_parts_6 rfl hl (by decide) rfl (fun ls hl => ?_)
  refine lv_aload_n hx hb dX3_parts_7 rfl (lv_at hl 1 rfl) ?_
  refine va_get (D := D) (ci := 2) (v := .ref (ad 9)) (C := RX3) (T := TX3) (N := 20) hx hb hts in_X3 hown hK hP 0 rfl rfl 15 (by decide) (hts _ q1756) (fun _ h9 => h9) rfl dX3_parts_8 ?_
  refine lv_iload_n hx hb dX3_parts_11 rfl (lv_at hl 0 rfl) ?_
  refine lv_bipush (v := (nI 25)) hx hb dX3_parts_12 (by decide) ?_
  refine lv_iadd hx hb dX3_parts_14 ?_
  obtain ⟨h58, hw⟩ := hw
  refine k_iald (k := ((((nI 25) * p0) + p1) + (nI 25)).toNatClampNeg) hx hb hK hP 9 0 rfl rfl rfl h58 dX3_parts_15 ?_
  refine lv_aload_n hx hb dX3_parts_16 rfl (lv_at hl 1 rfl) ?_
  refine va_get (D := D) (ci := 2) (v := .ref (ad 9)) (C := RX3) (T := TX3) (N := 20) hx hb hts in_X3 hown hK hP 0 rfl rfl 15 (by decide) (hts _ q1756) (fun _ h9 => h9) rfl dX3_parts_17 ?_
  refine lv_iload_n hx hb dX3_parts_20 rfl (lv_at hl 0 rfl) ?_
  refine lv_iconst (v := (nI 1)) hx hb dX3_parts_21 (by decide) ?_
  refine lv_isub hx hb dX3_parts_22 ?_
  obtain ⟨h59, hw⟩ := hw
  refine k_iald (k := ((((nI 25) * p0) + p1) - (nI 1)).toNatClampNeg) hx hb hK hP 9 0 rfl rfl rfl h59 dX3_parts_23 ?_
  refine k_ri (k_pS (As := [.int (a_one ((((nI 25) * p0) + p1) + (nI 25)).toNatClampNeg), .int (a_one ((((nI 25) * p0) + p1) - (nI 1)).toNatClampNeg)]) (rest := []) hSx (met_X3_most l (a_one ((((nI 25) * p0) + p1) + (nI 25)).toNatClampNeg) (a_one ((((nI 25) * p0) + p1) - (nI 1)).toNatClampNeg) _ hw) gX3_137 hd_X3_most ⟨Nat.le_of_ble_eq_true rfl, Nat.le_of_ble_eq_true rfl⟩ rfl rfl rfl hl.1 (Nat.le_of_ble_eq_true rfl) rfl dX3_parts_24 ⟨Nat.le_refl 0, Nat.le_refl 0⟩) (fun r60 hw => ?_)
  refine lv_istore (lv' := [(4, .int r60), (3, .int (((nI 25) * p0) + p1)), (0, .ref (ad 0)), (1, .int p0), (2, .int p1)]) hx hb dX3_parts_27 hl (by decide) rfl (fun ls hl => ?_)
  refine lv_aload_n hx hb dX3_parts_29 rfl (lv_at hl 2 rfl) ?_
  refine va_get (D := D) (ci := 2) (v := .ref (ad 4)) (C := RX3) (T := TX3) (N := 20) hx hb hts in_X3 hown hK hP 0 rfl rfl 6 (by decide) (hts _ q1747) (fun _ h9 => h9) rfl dX3_parts_30 ?_
  refine lv_iload_n hx hb dX3_parts_33 rfl (lv_at hl 3 rfl) ?_
  obtain ⟨h61, hw⟩ := hw
  refine k_iald (k := p0.toNatClampNeg) hx hb hK hP 4 0 rfl rfl rfl h61 dX3_parts_34 ?_
  refine lv_istore (lv' := [(5, .int (a_input p0.toNatClampNeg)), (4, .int r60), (3, .int (((nI 25) * p0) + p1)), (0, .ref (ad 0)), (1, .int p0), (2, .int p1)]) hx hb dX3_parts_35 hl (by decide) rfl (fun ls hl => ?_)
  refine lv_iload hx hb dX3_parts_37 (lv_at hl 0 rfl) ?_
  refine lv_bipush (v := (nI 48)) hx hb dX3_parts_39 (by decide) ?_
  refine lv_bipush (v := (nI 57)) hx hb dX3_parts_41 (by decide) ?_
  refine k_ri (k_pS (As := [.int (a_input p0.toNatClampNeg), .int (nI 48), .int (nI 57)]) (rest := []) hSx (met_X3_in l (a_input p0.toNatClampNeg) (nI 48) (nI 57) _ hw) gX3_62 hd_X3_in ⟨Nat.le_of_ble_eq_true rfl, Nat.le_of_ble_eq_true rfl⟩ rfl rfl rfl hl.1 (Nat.le_of_ble_eq_true rfl) rfl dX3_parts_43 ⟨Nat.le_refl 0, Nat.le_refl 0⟩) (fun r62 hw => ?_)
  refine lv_if_eq (tgt := 57) hx hb dX3_parts_46 (by decide) (fun c63 => ?_) (fun c63 => ?_)
  · have hw := hw.1 c63
    exact hL57  a_one a_several p0 p1 (((nI 25) * p0) + p1) r60 (a_input p0.toNatClampNeg) _ _ _ hP hD hS (lv_sub hl [3, 4, 5, 2, 1, 0] rfl) hw
  · have hw := hw.2 c63
    refine lv_iload hx hb dX3_parts_49 (lv_at hl 1 rfl) ?_
    refine lv_iconst (v := (nI 1)) hx hb dX3_parts_51 (by decide) ?_
    refine k_ri (k_pS (As := [.int r60, .int (nI 1)]) (rest := []) hSx (met_X3_most l r60 (nI 1) _ hw) gX3_137 hd_X3_most ⟨Nat.le_of_ble_eq_true rfl, Nat.le_of_ble_eq_true rfl⟩ rfl rfl rfl hl.1 (Nat.le_of_ble_eq_true rfl) rfl dX3_parts_52 ⟨Nat.le_refl 0, Nat.le_refl 0⟩) (fun r64 hw => ?_)
    refine lv_istore (lv' := [(4, .int r64), (5, .int (a_input p0.toNatClampNeg)), (3, .int (((nI 25) * p0) + p1)), (0, .ref (ad 0)), (1, .int p0), (2, .int p1)]) hx hb dX3_parts_55 hl (by decide) rfl (fun ls hl => ?_)
    exact hL57  a_one a_several p0 p1 (((nI 25) * p0) + p1) r64 (a_input p0.toNatClampNeg) _ _ _ hP hD hS (lv_sub hl [3, 4, 5, 2, 0, 1] rfl) hw
theorem gX3_141 : GoodIn lw_all (wsV RX3 141 RX3 yX3_parts (ws_ yX3_parts cX3_parts 9 none)) := lw_V q1971 q1973 qs53 q84 q1974
theorem hd_X3_parts : yX3_parts.cls ≠ "java/lang/invoke/MethodHandle" ∧ yX3_parts.cls ≠ "java/lang/invoke/VarHandle" ∧ (parseMethodDescriptor yX3_parts.desc).map (fun d => d.parameters.length) = some 2 := by decide +kernel
def rm_X3_longest : Room := { frames := 2, cells := 0, slots := 0, locals := 50 }
set_option maxHeartbeats 4000000 in
set_option maxRecDepth 100000 in
theorem met_X3_longest (l : Launch) (D : va_G) (dA : Nat → ClassId) (ad : Nat → Nat) (sz : Nat) (f_isSaved : Int32) (f_changes : Int32) (f_code : Int32) (f_length : Int32) (f_fault : Int32) (f_signMany : Int32) (f_at : Int32) (f_place : Int32) (a_g : (Nat → Int32)) (a_kept : (Nat → Int32)) (a_saved : (Nat → Int32)) (a_input : (Nat → Int32)) (a_signs : (Nat → Int32)) (a_ways : (Nat → Int64)) (a_needs : (Nat → Int32)) (a_walk : (Nat → Int32)) (a_one : (Nat → Int32)) (a_several : (Nat → Int32)) (a_ragged : (Nat → Int32)) (a_nextLine : (Nat → Int32))  (post : Int32 → (Nat → Int32) → (Nat → Int32) → Prop) (hw : w_X3_longest post f_length a_input a_one a_several) : Met l yX3_longest (ws_ yX3_longest cX3_longest 3 (some .int)) rm_X3_longest (va_Pc [.ref (ad 0)] (wrB D dA sz (mdl ad dA f_isSaved f_changes f_code f_length f_fault f_signMany f_at f_place a_g a_kept a_saved a_input a_signs a_ways a_needs a_walk a_one a_several a_ragged a_nextLine))) (va_Qi (fun (r : Int32) (u : (Nat → Int32) × (Nat → Int32)) => post r u.1 u.2) (fun (u : (Nat → Int32) × (Nat → Int32)) t => wrQ D dA (va_A (mdl ad dA f_isSaved f_changes f_code f_length f_fault f_signMany f_at f_place a_g a_kept a_saved a_input a_signs a_ways a_needs a_walk a_one a_several a_ragged a_nextLine) sz) (mdl ad dA f_isSaved f_changes f_code f_length f_fault f_signMany f_at f_place a_g a_kept a_saved a_input a_signs a_ways a_needs a_walk u.1 u.2 a_ragged a_nextLine) t) (va_A (mdl ad dA f_isSaved f_changes f_code f_length f_fault f_signMany f_at f_place a_g a_kept a_saved a_input a_signs a_ways a_needs a_walk a_one a_several a_ragged a_nextLine) sz)) 0 0 (va_A (mdl ad dA f_isSaved f_changes f_code f_length f_fault f_signMany f_at f_place a_g a_kept a_saved a_input a_signs a_ways a_needs a_walk a_one a_several a_ragged a_nextLine) sz) := by
  refine Met.ofW (cc := cX3_longest) (maxL := 3) (ret := (some .int)) (by decide) rfl ?_
  intro p e s m args below meth c s₁ B hml hv
  obtain ⟨rfl, hsz, hP, hK, hD0⟩ := hv
  have hx := B.exec
  have hb := B.bytes
  have hr := B.returns
  have hts := atoms_spec (ws := (ws_ yX3_longest cX3_longest 3 (some .int))) B.pre
  have hts : ∀ w ∈ lw_all, w.before _ s = true := fun w h => hts w (List.mem_cons_of_mem _ h)
  have hown : s.vm.findClass RX3 = some m.cls := findClass_of_methodNamed B.named
  have hlocks := B.notSynchronized
  have hSx : CallFix p m c cX3_longest 3 s _ lw_all RX3 := ⟨hx, hb, hml, hown, hts⟩
  subst hsz
  have hD := hD0.self (sz := s.heap.size)
  generalize hAe : va_A (mdl ad dA f_isSaved f_changes f_code f_length f_fault f_signMany f_at f_place a_g a_kept a_saved a_input a_signs a_ways a_needs a_walk a_one a_several a_ragged a_nextLine) s.heap.size = A at hD ⊢
  have hA : ∀ q : Nat, s.heap.size ≤ q → A q := fun q h => by rw [← hAe]; exact Or.inr h
  have hS : va_S A s.heap s.heap [] := va_S.rf
  have hl := lv_entry ([.ref (ad 0)]) (n := 3) (Nat.le_of_ble_eq_true rfl)
  rw [lg_entry_eq]
  generalize (lg_sl ([.ref (ad 0)]) ++ List.replicate (3 - (lg_sl ([.ref (ad 0)])).length) Slot.unset).toArray = ls at hl ⊢
  have hl : lv_has ls 3 [(0, .ref (ad 0))] := hl
  have hL41 : ∀ (k31 : (Nat → Int32) → (Nat → Int32) → Int32 → Prop) (hk31 : ∀ (a_one : (Nat → Int32)) (a_several : (Nat → Int32)) (v1 : Int32) (H : Heap) (locs : List Loc) (ls : Array Slot), va_P D vwCl (mdl ad dA f_isSaved f_changes f_code f_length f_fault f_signMany f_at f_place a_g a_kept a_saved a_input a_signs a_ways a_needs a_walk a_one a_several a_ragged a_nextLine) H → va_D A (mdl ad dA f_isSaved f_changes f_code f_length f_fault f_signMany f_at f_place a_g a_kept a_saved a_input a_signs a_ways a_needs a_walk a_one a_several a_ragged a_nextLine) → va_S A s.heap H locs → lv_has ls 3 [(0, .ref (ad 0)), (1, .int v1)] → k31 a_one a_several v1 → W p l e (headSpec (ws_ yX3_longest cX3_longest 3 (some .int)) rm_X3_longest).room s m ([.ref (ad 0)] : List Value).toArray below meth c H locs 0 0 (MQ below (va_Qi (fun (r : Int32) (u : (Nat → Int32) × (Nat → Int32)) => post r u.1 u.2) (fun (u : (Nat → Int32) × (Nat → Int32)) t => wrQ D dA A (mdl ad dA f_isSaved f_changes f_code f_length f_fault f_signMany f_at f_place a_g a_kept a_saved a_input a_signs a_ways a_needs a_walk u.1 u.2 a_ragged a_nextLine) t) A) ([.ref (ad 0)] : List Value).toArray s 0 0 A) (F0 m 31 ls [])) (n : Nat) (a_one : (Nat → Int32)) (a_several : (Nat → Int32)) (v1 : Int32) (v2 : Int32) (H : Heap) (locs : List Loc) (ls : Array Slot), va_P D vwCl (mdl ad dA f_isSaved f_changes f_code f_length f_fault f_signMany f_at f_place a_g a_kept a_saved a_input a_signs a_ways a_needs a_walk a_one a_several a_ragged a_nextLine) H → va_D A (mdl ad dA f_isSaved f_changes f_code f_length f_fault f_signMany f_at f_place a_g a_kept a_saved a_input a_signs a_ways a_needs a_walk a_one a_several a_ragged a_nextLine) → va_S A s.heap H locs → lv_has ls 3 [(0, .ref (ad 0)), (1, .int v1), (2, .int v2)] → lpF (fun _ _ _ _ => False) (w_X3_longest_41 post f_length a_input k31) n a_one a_several v1 v2 → W p l e (headSpec (ws_ yX3_longest cX3_longest 3 (some .int)) rm_X3_longest).room s m ([.ref (ad 0)] : List Value).toArray below meth c H locs 0 0 (MQ below (va_Qi (fun (r : Int32) (u : (Nat → Int32) × (Nat → Int32)) => post r u.1 u.2) (fun (u : (Nat → Int32) × (Nat → Int32)) t => wrQ D dA A (mdl ad dA f_isSaved f_changes f_code f_length f_fault f_signMany f_at f_place a_g a_kept a_saved a_input a_signs a_ways a_needs a_walk u.1 u.2 a_ragged a_nextLine) t) A) ([.ref (ad 0)] : List Value).toArray s 0 0 A) (F0 m 41 ls []) := by
    intro k31 hk31 n
    induction n with
    | zero => intro a_one a_several v1 v2 H locs ls hP hD hS hl hw; exact absurd hw id
    | succ n hk41 =>
      intro a_one a_several v1 v2 H locs ls hP hD hS hl hw
      generalize hk9 : lpF (fun _ _ _ _ => False) (w_X3_longest_41 post f_length a_input k31) n = k41 at hk41
      have hw : (w_X3_longest_41 post f_length a_input k31) k41 a_one a_several v1 v2 := hk9 ▸ hw
      refine lv_iload_n hx hb dX3_longest_41 rfl (lv_at hl 2 rfl) ?_
      refine lv_iload_n hx hb dX3_longest_42 rfl (lv_at hl 1 rfl) ?_
      refine lv_iadd hx hb dX3_longest_43 ?_
      refine lv_aload_n hx hb dX3_longest_44 rfl (lv_at hl 0 rfl) ?_
      refine va_get (D := D) (ci := 2) (v := .int f_length) (C := RX3) (T := TX3) (N := 20) hx hb hts in_X3 hown hK hP 0 rfl rfl 7 (by decide) (hts _ q1748) (fun _ h9 => h9) rfl dX3_longest_45 ?_
      refine lv_icmp_gt (tgt := 65) hx hb dX3_longest_48 (by decide) (fun c9 => ?_) (fun c9 => ?_)
      · have hw := hw.1 c9
        refine lv_iinc (v := (v1 + (nI 1))) (lv' := [(1, .int (v1 + (nI 1))), (0, .ref (ad 0)), (2, .int v2)]) hx hb dX3_longest_65 hl (k := 1) rfl (congrArg (fun z => v1 + z) (by decide : Int32.ofInt (1) = (nI 1))) (by decide) rfl (fun ls hl => ?_)
        refine lv_goto (tgt := 31) hx hb dX3_longest_68 (by decide) ?_
        exact hk31 a_one a_several (v1 + (nI 1)) _ _ _ hP hD hS (lv_sub hl [1, 0] rfl) hw
      · have hw := hw.2 c9
        refine lv_aload_n hx hb dX3_longest_51 rfl (lv_at hl 0 rfl) ?_
        refine lv_iload_n hx hb dX3_longest_52 rfl (lv_at hl 2 rfl) ?_
        refine lv_iload_n hx hb dX3_longest_53 rfl (lv_at hl 2 rfl) ?_
        refine lv_iload_n hx hb dX3_longest_54 rfl (lv_at hl 1 rfl) ?_
        refine lv_iadd hx hb dX3_longest_55 ?_
        refine k_wv (wn := fun (u : (Nat → Int32) × (Nat → Int32)) => (mdl ad dA f_isSaved f_changes f_code f_length f_fault f_signMany f_at f_place a_g a_kept a_saved a_input a_signs a_ways a_needs a_walk u.1 u.2 a_ragged a_nextLine)) (wr := []) (k_wV (As := [.int v2, .int (v2 + v1)]) (rest := []) hSx (met_X3_parts l D dA ad _ f_isSaved f_changes f_code f_length f_fault f_signMany f_at f_place a_g a_kept a_saved a_input a_signs a_ways a_needs a_walk a_one a_several a_ragged a_nextLine v2 (v2 + v1) _ hw) gX3_141 ⟨rfl, hd_X3_parts⟩ ⟨Nat.le_of_ble_eq_true rfl, Nat.le_of_ble_eq_true rfl⟩ rfl rfl hP hK hD [0, 1, 2, 3, 4, 5, 6, 7, 8, 9, 10, 11, 12] rfl (by decide) rfl 0 rfl rfl rfl rfl hl.1 (Nat.le_of_ble_eq_true rfl) rfl dX3_longest_56 ⟨Nat.le_refl 0, Nat.le_refl 0⟩) hP hD hS hA [0, 1, 2, 3, 4, 5, 6, 7, 8, 9, 10, 11, 12] [] [0, 1, 2, 3, 4, 5, 6, 7, 8, 9, 10, 11, 12] rfl rfl (by decide) (by decide) (by decide) (fun _ => rfl) (fun _ => rfl) (fun u H locs hw _ hP hD hS => ?_)
        obtain ⟨a_one_10, a_several_11⟩ := u
        have hP : va_P D vwCl (mdl ad dA f_isSaved f_changes f_code f_length f_fault f_signMany f_at f_place a_g a_kept a_saved a_input a_signs a_ways a_needs a_walk a_one_10 a_several_11 a_ragged a_nextLine) H := hP
        have hD : va_D A (mdl ad dA f_isSaved f_changes f_code f_length f_fault f_signMany f_at f_place a_g a_kept a_saved a_input a_signs a_ways a_needs a_walk a_one_10 a_several_11 a_ragged a_nextLine) := hD
        refine lv_iinc (v := (v2 + (nI 1))) (lv' := [(2, .int (v2 + (nI 1))), (0, .ref (ad 0)), (1, .int v1)]) hx hb dX3_longest_59 hl (k := 2) rfl (congrArg (fun z => v2 + z) (by decide : Int32.ofInt (1) = (nI 1))) (by decide) rfl (fun ls hl => ?_)
        refine lv_goto (tgt := 41) hx hb dX3_longest_62 (by decide) ?_
        exact hk41 a_one_10 a_several_11 v1 (v2 + (nI 1)) _ _ _ hP hD hS (lv_sub hl [1, 2, 0] rfl) hw
  have hL31 : ∀  (n : Nat) (a_one : (Nat → Int32)) (a_several : (Nat → Int32)) (v1 : Int32) (H : Heap) (locs : List Loc) (ls : Array Slot), va_P D vwCl (mdl ad dA f_isSaved f_changes f_code f_length f_fault f_signMany f_at f_place a_g a_kept a_saved a_input a_signs a_ways a_needs a_walk a_one a_several a_ragged a_nextLine) H → va_D A (mdl ad dA f_isSaved f_changes f_code f_length f_fault f_signMany f_at f_place a_g a_kept a_saved a_input a_signs a_ways a_needs a_walk a_one a_several a_ragged a_nextLine) → va_S A s.heap H locs → lv_has ls 3 [(0, .ref (ad 0)), (1, .int v1)] → lpF (fun _ _ _ => False) (w_X3_longest_31 post f_length a_input) n a_one a_several v1 → W p l e (headSpec (ws_ yX3_longest cX3_longest 3 (some .int)) rm_X3_longest).room s m ([.ref (ad 0)] : List Value).toArray below meth c H locs 0 0 (MQ below (va_Qi (fun (r : Int32) (u : (Nat → Int32) × (Nat → Int32)) => post r u.1 u.2) (fun (u : (Nat → Int32) × (Nat → Int32)) t => wrQ D dA A (mdl ad dA f_isSaved f_changes f_code f_length f_fault f_signMany f_at f_place a_g a_kept a_saved a_input a_signs a_ways a_needs a_walk u.1 u.2 a_ragged a_nextLine) t) A) ([.ref (ad 0)] : List Value).toArray s 0 0 A) (F0 m 31 ls []) := by
    intro  n
    induction n with
    | zero => intro a_one a_several v1 H locs ls hP hD hS hl hw; exact absurd hw id
    | succ n hk31 =>
      intro a_one a_several v1 H locs ls hP hD hS hl hw
      generalize hk9 : lpF (fun _ _ _ => False) (w_X3_longest_31 post f_length a_input) n = k31 at hk31
      have hw : (w_X3_longest_31 post f_length a_input) k31 a_one a_several v1 := hk9 ▸ hw
      refine lv_iload_n hx hb dX3_longest_31 rfl (lv_at hl 1 rfl) ?_
      refine lv_aload_n hx hb dX3_longest_32 rfl (lv_at hl 0 rfl) ?_
      refine va_get (D := D) (ci := 2) (v := .int f_length) (C := RX3) (T := TX3) (N := 20) hx hb hts in_X3 hown hK hP 0 rfl rfl 7 (by decide) (hts _ q1748) (fun _ h9 => h9) rfl dX3_longest_33 ?_
      refine lv_icmp_gt (tgt := 71) hx hb dX3_longest_36 (by decide) (fun c12 => ?_) (fun c12 => ?_)
      · have hw := hw.1 c12
        refine lv_aload_n hx hb dX3_longest_71 rfl (lv_at hl 0 rfl) ?_
        refine va_get (D := D) (ci := 2) (v := .ref (ad 9)) (C := RX3) (T := TX3) (N := 20) hx hb hts in_X3 hown hK hP 0 rfl rfl 15 (by decide) (hts _ q1756) (fun _ h9 => h9) rfl dX3_longest_72 ?_
        refine lv_aload_n hx hb dX3_longest_75 rfl (lv_at hl 0 rfl) ?_
        refine va_get (D := D) (ci := 2) (v := .int f_length) (C := RX3) (T := TX3) (N := 20) hx hb hts in_X3 hown hK hP 0 rfl rfl 7 (by decide) (hts _ q1748) (fun _ h9 => h9) rfl dX3_longest_76 ?_
        obtain ⟨h13, hw⟩ := hw
        refine k_iald (k := f_length.toNatClampNeg) hx hb hK hP 9 0 rfl rfl rfl h13 dX3_longest_79 ?_
        exact W.iret (v := (a_one f_length.toNatClampNeg)) hx hb hr (fun t ht hW => ⟨⟨(a_one f_length.toNatClampNeg), (a_one, a_several), rfl, hw, by rw [ht]; exact hP, va_K.moved hW.alike hK, hD⟩, hS.F ht⟩) hS.2.2 dX3_longest_80
      · have hw := hw.2 c12
        refine lv_iconst (v := (nI 0)) hx hb dX3_longest_39 (by decide) ?_
        refine lv_istore_n (lv' := [(2, .int (nI 0)), (0, .ref (ad 0)), (1, .int v1)]) hx hb dX3_longest_40 rfl hl (by decide) rfl (fun ls hl => ?_)
        obtain ⟨n, hw⟩ := hw
        exact hL41 k31 hk31 n a_one a_several v1 (nI 0) _ _ _ hP hD hS (lv_sub hl [1, 2, 0] rfl) hw
  have hL2 : ∀  (n : Nat) (a_one : (Nat → Int32)) (a_several : (Nat → Int32)) (v1 : Int32) (H : Heap) (locs : List Loc) (ls : Array Slot), va_P D vwCl (mdl ad dA f_isSaved f_changes f_code f_length f_fault f_signMany f_at f_place a_g a_kept a_saved a_input a_signs a_ways a_needs a_walk a_one a_several a_ragged a_nextLine) H → va_D A (mdl ad dA f_isSaved f_changes f_code f_length f_fault f_signMany f_at f_place a_g a_kept a_saved a_input a_signs a_ways a_needs a_walk a_one a_several a_ragged a_nextLine) → va_S A s.heap H locs → lv_has ls 3 [(0, .ref (ad 0)), (1, .int v1)] → lpF (fun _ _ _ => False) (w_X3_longest_2 post f_length a_input) n a_one a_several v1 → W p l e (headSpec (ws_ yX3_longest cX3_longest 3 (some .int)) rm_X3_longest).room s m ([.ref (ad 0)] : List Value).toArray below meth c H locs 0 0 (MQ below (va_Qi (fun (r : Int32) (u : (Nat → Int32) × (Nat → Int32)) => post r u.1 u.2) (fun (u : (Nat → Int32) × (Nat → Int32)) t => wrQ D dA A (mdl ad dA f_isSaved f_changes f_code f_length f_fault f_signMany f_at f_place a_g a_kept a_saved a_input a_signs a_ways a_needs a_walk u.1 u.2 a_ragged a_nextLine) t) A) ([.ref (ad 0)] : List Value).toArray s 0 0 A) (F0 m 2 ls []) := by
    intro  n
    induction n with
    | zero => intro a_one a_several v1 H locs ls hP hD hS hl hw; exact absurd hw id
    | succ n hk2 =>
      intro a_one a_several v1 H locs ls hP hD hS hl hw
      generalize hk9 : lpF (fun _ _ _ => False) (w_X3_longest_2 post f_length a_input) n = k2 at hk2
      have hw : (w_X3_longest_2 post f_length a_input) k2 a_one a_several v1 := hk9 ▸ hw
      refine lv_iload_n hx hb dX3_longest_2 rfl (lv_at hl 1 rfl) ?_
      refine lv_sipush (v := (nI 625)) hx hb dX3_longest_3 (by decide) ?_
      refine lv_icmp_ge (tgt := 29) hx hb dX3_longest_6 (by decide) (fun c14 => ?_) (fun c14 => ?_)
      · have hw := hw.1 c14
        refine lv_iconst (v := (nI 1)) hx hb dX3_longest_29 (by decide) ?_
        refine lv_istore_n (lv' := [(1, .int (nI 1)), (0, .ref (ad 0))]) hx hb dX3_longest_30 rfl hl (by decide) rfl (fun ls hl => ?_)
        obtain ⟨n, hw⟩ := hw
        exact hL31  n a_one a_several (nI 1) _ _ _ hP hD hS (lv_sub hl [1, 0] rfl) hw
      · have hw := hw.2 c14
        refine lv_aload_n hx hb dX3_longest_9 rfl (lv_at hl 0 rfl) ?_
        refine va_get (D := D) (ci := 2) (v := .ref (ad 9)) (C := RX3) (T := TX3) (N := 20) hx hb hts in_X3 hown hK hP 0 rfl rfl 15 (by decide) (hts _ q1756) (fun _ h9 => h9) rfl dX3_longest_10 ?_
        refine lv_iload_n hx hb dX3_longest_13 rfl (lv_at hl 1 rfl) ?_
        refine lv_iconst (v := (nI 0)) hx hb dX3_longest_14 (by decide) ?_
        obtain ⟨h15, hw⟩ := hw
        refine k_iast (k := v1.toNatClampNeg) hx hb hK hP hD hS 9 0 rfl rfl rfl h15 dX3_longest_15 (fun H locs hP hD hS => ?_)
        have hP : va_P D vwCl (mdl ad dA f_isSaved f_changes f_code f_length f_fault f_signMany f_at f_place a_g a_kept a_saved a_input a_signs a_ways a_needs a_walk (upd a_one v1.toNatClampNeg (nI 0)) a_several a_ragged a_nextLine) H := hP
        have hD : va_D A (mdl ad dA f_isSaved f_changes f_code f_length f_fault f_signMany f_at f_place a_g a_kept a_saved a_input a_signs a_ways a_needs a_walk (upd a_one v1.toNatClampNeg (nI 0)) a_several a_ragged a_nextLine) := hD
        refine lv_aload_n hx hb dX3_longest_16 rfl (lv_at hl 0 rfl) ?_
        refine va_get (D := D) (ci := 2) (v := .ref (ad 10)) (C := RX3) (T := TX3) (N := 20) hx hb hts in_X3 hown hK hP 0 rfl rfl 16 (by decide) (hts _ q1757) (fun _ h9 => h9) rfl dX3_longest_17 ?_
        refine lv_iload_n hx hb dX3_longest_20 rfl (lv_at hl 1 rfl) ?_
        refine lv_iconst (v := (nI 0)) hx hb dX3_longest_21 (by decide) ?_
        obtain ⟨h16, hw⟩ := hw
        refine k_iast (k := v1.toNatClampNeg) hx hb hK hP hD hS 10 0 rfl rfl rfl h16 dX3_longest_22 (fun H locs hP hD hS => ?_)
        have hP : va_P D vwCl (mdl ad dA f_isSaved f_changes f_code f_length f_fault f_signMany f_at f_place a_g a_kept a_saved a_input a_signs a_ways a_needs a_walk (upd a_one v1.toNatClampNeg (nI 0)) (upd a_several v1.toNatClampNeg (nI 0)) a_ragged a_nextLine) H := hP
        have hD : va_D A (mdl ad dA f_isSaved f_changes f_code f_length f_fault f_signMany f_at f_place a_g a_kept a_saved a_input a_signs a_ways a_needs a_walk (upd a_one v1.toNatClampNeg (nI 0)) (upd a_several v1.toNatClampNeg (nI 0)) a_ragged a_nextLine) := hD
        refine lv_iinc (v := (v1 + (nI 1))) (lv' := [(1, .int (v1 + (nI 1))), (0, .ref (ad 0))]) hx hb dX3_longest_23 hl (k := 1) rfl (congrArg (fun z => v1 + z) (by decide : Int32.ofInt (1) = (nI 1))) (by decide) rfl (fun ls hl => ?_)
        refine lv_goto (tgt := 2) hx hb dX3_longest_26 (by decide) ?_
        exact hk2 (upd a_one v1.toNatClampNeg (nI 0)) (upd a_several v1.toNatClampNeg (nI 0)) (v1 + (nI 1)) _ _ _ hP hD hS (lv_sub hl [1, 0] rfl) hw
  refine lv_iconst (v := (nI 0)) hx hb dX3_longest_0 (by decide) ?_
  refine lv_istore_n (lv' := [(1, .int (nI 0)), (0, .ref (ad 0))]) hx hb dX3_longest_1 rfl hl (by decide) rfl (fun ls hl => ?_)
  obtain ⟨n, hw⟩ := hw
  exact hL2  n a_one a_several (nI 0) _ _ _ hP hD hS (lv_sub hl [1, 0] rfl) hw
theorem gX3_145 : GoodIn lw_all (wsV RX3 145 RX3 yX3_longest (ws_ yX3_longest cX3_longest 3 (some .int))) := lw_V q1967 q1969 qs52 q84 q1970
theorem hd_X3_longest : yX3_longest.cls ≠ "java/lang/invoke/MethodHandle" ∧ yX3_longest.cls ≠ "java/lang/invoke/VarHandle" ∧ (parseMethodDescriptor yX3_longest.desc).map (fun d => d.parameters.length) = some 0 := by decide +kernel
def rm_X3_removes : Room := { frames := 3, cells := 0, slots := 0, locals := 72 }
set_option maxHeartbeats 4000000 in
set_option maxRecDepth 100000 in
theorem met_X3_removes (l : Launch) (D : va_G) (dA : Nat → ClassId) (ad : Nat → Nat) (sz : Nat) (f_isSaved : Int32) (f_changes : Int32) (f_code : Int32) (f_length : Int32) (f_fault : Int32) (f_signMany : Int32) (f_at : Int32) (f_place : Int32) (a_g : (Nat → Int32)) (a_kept : (Nat → Int32)) (a_saved : (Nat → Int32)) (a_input : (Nat → Int32)) (a_signs : (Nat → Int32)) (a_ways : (Nat → Int64)) (a_needs : (Nat → Int32)) (a_walk : (Nat → Int32)) (a_one : (Nat → Int32)) (a_several : (Nat → Int32)) (a_ragged : (Nat → Int32)) (a_nextLine : (Nat → Int32))  (post : Int32 → Int32 → (Nat → Int32) → (Nat → Int32) → Prop) (hw : w_X3_removes post f_code f_length a_input a_one a_several) : Met l yX3_removes (ws_ yX3_removes cX3_removes 2 (some .int)) rm_X3_removes (va_Pc [.ref (ad 0)] (wrB D dA sz (mdl ad dA f_isSaved f_changes f_code f_length f_fault f_signMany f_at f_place a_g a_kept a_saved a_input a_signs a_ways a_needs a_walk a_one a_several a_ragged a_nextLine))) (va_Qi (fun (r : Int32) (u : Int32 × (Nat → Int32) × (Nat → Int32)) => post r u.1 u.2.1 u.2.2) (fun (u : Int32 × (Nat → Int32) × (Nat → Int32)) t => wrQ D dA (va_A (mdl ad dA f_isSaved f_changes f_code f_length f_fault f_signMany f_at f_place a_g a_kept a_saved a_input a_signs a_ways a_needs a_walk a_one a_several a_ragged a_nextLine) sz) (mdl ad dA f_isSaved f_changes u.1 f_length f_fault f_signMany f_at f_place a_g a_kept a_saved a_input a_signs a_ways a_needs a_walk u.2.1 u.2.2 a_ragged a_nextLine) t) (va_A (mdl ad dA f_isSaved f_changes f_code f_length f_fault f_signMany f_at f_place a_g a_kept a_saved a_input a_signs a_ways a_needs a_walk a_one a_several a_ragged a_nextLine) sz)) 0 0 (va_A (mdl ad dA f_isSaved f_changes f_code f_length f_fault f_signMany f_at f_place a_g a_kept a_saved a_input a_signs a_ways a_needs a_walk a_one a_several a_ragged a_nextLine) sz) := by
  refine Met.ofW (cc := cX3_removes) (maxL := 2) (ret := (some .int)) (by decide) rfl ?_
  intro p e s m args below meth c s₁ B hml hv
  obtain ⟨rfl, hsz, hP, hK, hD0⟩ := hv
  have hx := B.exec
  have hb := B.bytes
  have hr := B.returns
  have hts := atoms_spec (ws := (ws_ yX3_removes cX3_removes 2 (some .int))) B.pre
  have hts : ∀ w ∈ lw_all, w.before _ s = true := fun w h => hts w (List.mem_cons_of_mem _ h)
  have hown : s.vm.findClass RX3 = some m.cls := findClass_of_methodNamed B.named
  have hlocks := B.notSynchronized
  have hSx : CallFix p m c cX3_removes 2 s _ lw_all RX3 := ⟨hx, hb, hml, hown, hts⟩
  subst hsz
  have hD := hD0.self (sz := s.heap.size)
  generalize hAe : va_A (mdl ad dA f_isSaved f_changes f_code f_length f_fault f_signMany f_at f_place a_g a_kept a_saved a_input a_signs a_ways a_needs a_walk a_one a_several a_ragged a_nextLine) s.heap.size = A at hD ⊢
  have hA : ∀ q : Nat, s.heap.size ≤ q → A q := fun q h => by rw [← hAe]; exact Or.inr h
  have hS : va_S A s.heap s.heap [] := va_S.rf
  have hl := lv_entry ([.ref (ad 0)]) (n := 2) (Nat.le_of_ble_eq_true rfl)
  rw [lg_entry_eq]
  generalize (lg_sl ([.ref (ad 0)]) ++ List.replicate (2 - (lg_sl ([.ref (ad 0)])).length) Slot.unset).toArray = ls at hl ⊢
  have hl : lv_has ls 2 [(0, .ref (ad 0))] := hl
  have hL15 : ∀  (f_code : Int32) (a_one : (Nat → Int32)) (a_several : (Nat → Int32)) (v1 : Int32) (s1 : Int32) (H : Heap) (locs : List Loc) (ls : Array Slot), va_P D vwCl (mdl ad dA f_isSaved f_changes f_code f_length f_fault f_signMany f_at f_place a_g a_kept a_saved a_input a_signs a_ways a_needs a_walk a_one a_several a_ragged a_nextLine) H → va_D A (mdl ad dA f_isSaved f_changes f_code f_length f_fault f_signMany f_at f_place a_g a_kept a_saved a_input a_signs a_ways a_needs a_walk a_one a_several a_ragged a_nextLine) → va_S A s.heap H locs → lv_has ls 2 [(0, .ref (ad 0)), (1, .int v1)] → (w_X3_removes_15 post f_length a_input) f_code a_one a_several v1 s1 → W p l e (headSpec (ws_ yX3_removes cX3_removes 2 (some .int)) rm_X3_removes).room s m ([.ref (ad 0)] : List Value).toArray below meth c H locs 0 0 (MQ below (va_Qi (fun (r : Int32) (u : Int32 × (Nat → Int32) × (Nat → Int32)) => post r u.1 u.2.1 u.2.2) (fun (u : Int32 × (Nat → Int32) × (Nat → Int32)) t => wrQ D dA A (mdl ad dA f_isSaved f_changes u.1 f_length f_fault f_signMany f_at f_place a_g a_kept a_saved a_input a_signs a_ways a_needs a_walk u.2.1 u.2.2 a_ragged a_nextLine) t) A) ([.ref (ad 0)] : List Value).toArray s 0 0 A) (F0 m 15 ls [.int s1, .ref (ad 0)]) := by
      intro  f_code a_one a_several v1 s1 H locs ls hP hD hS hl hw
      refine k_wi (wn := fun (u : Int32) => (mdl ad dA f_isSaved f_changes u f_length f_fault f_signMany f_at f_place a_g a_kept a_saved a_input a_signs a_ways a_needs a_walk a_one a_several a_ragged a_nextLine)) (wr := []) (k_wV (As := [.int s1]) (rest := []) hSx (met_X3_fails l D dA ad _ f_isSaved f_changes f_code f_length f_fault f_signMany f_at f_place a_g a_kept a_saved a_input a_signs a_ways a_needs a_walk a_one a_several a_ragged a_nextLine s1 _ hw) gX3_70 ⟨rfl, hd_X3_fails⟩ ⟨Nat.le_of_ble_eq_true rfl, Nat.le_of_ble_eq_true rfl⟩ rfl rfl hP hK hD [0, 1, 2, 3, 4, 5, 6, 7, 8, 9, 10, 11, 12] rfl (by decide) rfl 0 rfl rfl rfl rfl hl.1 (Nat.le_of_ble_eq_true rfl) rfl dX3_removes_15 ⟨Nat.le_refl 0, Nat.le_refl 0⟩) hP hD hS hA [0, 1, 2, 3, 4, 5, 6, 7, 8, 9, 10, 11, 12] [] [0, 1, 2, 3, 4, 5, 6, 7, 8, 9, 10, 11, 12] rfl rfl (by decide) (by decide) (by decide) (fun _ => rfl) (fun _ => rfl) (fun r8 u H locs hw _ hP hD hS => ?_)
      obtain ⟨f_code_9, rfl⟩ : ∃ z, z = u := ⟨_, rfl⟩
      have hP : va_P D vwCl (mdl ad dA f_isSaved f_changes f_code_9 f_length f_fault f_signMany f_at f_place a_g a_kept a_saved a_input a_signs a_ways a_needs a_walk a_one a_several a_ragged a_nextLine) H := hP
      have hD : va_D A (mdl ad dA f_isSaved f_changes f_code_9 f_length f_fault f_signMany f_at f_place a_g a_kept a_saved a_input a_signs a_ways a_needs a_walk a_one a_several a_ragged a_nextLine) := hD
      refine lv_if_eq (tgt := 25) hx hb dX3_removes_18 (by decide) (fun c10 => ?_) (fun c10 => ?_)
      · have hw := hw.1 c10
        refine lv_aload_n hx hb dX3_removes_25 rfl (lv_at hl 0 rfl) ?_
        refine va_get (D := D) (ci := 2) (v := .int f_length) (C := RX3) (T := TX3) (N := 20) hx hb hts in_X3 hown hK hP 0 rfl rfl 7 (by decide) (hts _ q1748) (fun _ h9 => h9) rfl dX3_removes_26 ?_
        refine lv_iload_n hx hb dX3_removes_29 rfl (lv_at hl 1 rfl) ?_
        refine lv_isub hx hb dX3_removes_30 ?_
        exact W.iret (v := (f_length - v1)) hx hb hr (fun t ht hW => ⟨⟨(f_length - v1), (f_code_9, a_one, a_several), rfl, hw, by rw [ht]; exact hP, va_K.moved hW.alike hK, hD⟩, hS.F ht⟩) hS.2.2 dX3_removes_31
      · have hw := hw.2 c10
        refine lv_iconst (v := (nI 0)) hx hb dX3_removes_21 (by decide) ?_
        refine lv_goto (tgt := 31) hx hb dX3_removes_22 (by decide) ?_
        exact W.iret (v := (nI 0)) hx hb hr (fun t ht hW => ⟨⟨(nI 0), (f_code_9, a_one, a_several), rfl, hw, by rw [ht]; exact hP, va_K.moved hW.alike hK, hD⟩, hS.F ht⟩) hS.2.2 dX3_removes_31
  refine lv_aload_n hx hb dX3_removes_0 rfl (lv_at hl 0 rfl) ?_
  refine k_wi (wn := fun (u : (Nat → Int32) × (Nat → Int32)) => (mdl ad dA f_isSaved f_changes f_code f_length f_fault f_signMany f_at f_place a_g a_kept a_saved a_input a_signs a_ways a_needs a_walk u.1 u.2 a_ragged a_nextLine)) (wr := []) (k_wV (As := []) (rest := []) hSx (met_X3_longest l D dA ad _ f_isSaved f_changes f_code f_length f_fault f_signMany f_at f_place a_g a_kept a_saved a_input a_signs a_ways a_needs a_walk a_one a_several a_ragged a_nextLine  _ hw) gX3_145 ⟨rfl, hd_X3_longest⟩ ⟨Nat.le_of_ble_eq_true rfl, Nat.le_of_ble_eq_true rfl⟩ rfl rfl hP hK hD [0, 1, 2, 3, 4, 5, 6, 7, 8, 9, 10, 11, 12] rfl (by decide) rfl 0 rfl rfl rfl rfl hl.1 (Nat.le_of_ble_eq_true rfl) rfl dX3_removes_1 ⟨Nat.le_refl 0, Nat.le_refl 0⟩) hP hD hS hA [0, 1, 2, 3, 4, 5, 6, 7, 8, 9, 10, 11, 12] [] [0, 1, 2, 3, 4, 5, 6, 7, 8, 9, 10, 11, 12] rfl rfl (by decide) (by decide) (by decide) (fun _ => rfl) (fun _ => rfl) (fun r11 u H locs hw _ hP hD hS => ?_)
  obtain ⟨a_one_12, a_several_13⟩ := u
  have hP : va_P D vwCl (mdl ad dA f_isSaved f_changes f_code f_length f_fault f_signMany f_at f_place a_g a_kept a_saved a_input a_signs a_ways a_needs a_walk a_one_12 a_several_13 a_ragged a_nextLine) H := hP
  have hD : va_D A (mdl ad dA f_isSaved f_changes f_code f_length f_fault f_signMany f_at f_place a_g a_kept a_saved a_input a_signs a_ways a_needs a_walk a_one_12 a_several_13 a_ragged a_nextLine) := hD
  refine lv_istore_n (lv' := [(1, .int r11), (0, .ref (ad 0))]) hx hb dX3_removes_4 rfl hl (by decide) rfl (fun ls hl => ?_)
  refine lv_aload_n hx hb dX3_removes_5 rfl (lv_at hl 1 rfl) ?_
  refine lv_iload_n hx hb dX3_removes_6 rfl (lv_at hl 0 rfl) ?_
  refine lv_if_ne (tgt := 14) hx hb dX3_removes_7 (by decide) (fun c14 => ?_) (fun c14 => ?_)
  · have hw := hw.2 c14
    refine lv_iconst (v := (nI 0)) hx hb dX3_removes_14 (by decide) ?_
    exact hL15  f_code a_one_12 a_several_13 r11 (nI 0) _ _ _ hP hD hS (lv_sub hl [1, 0] rfl) hw
  · have hw := hw.1 c14
    refine lv_iconst (v := (nI 1)) hx hb dX3_removes_10 (by decide) ?_
    refine lv_goto (tgt := 15) hx hb dX3_removes_11 (by decide) ?_
    exact hL15  f_code a_one_12 a_several_13 r11 (nI 1) _ _ _ hP hD hS (lv_sub hl [1, 0] rfl) hw
theorem gX3_148 : GoodIn lw_all (wsV RX3 148 RX3 yX3_removes (ws_ yX3_removes cX3_removes 2 (some .int))) := lw_V q1963 q1965 qs51 q84 q1966
theorem hd_X3_removes : yX3_removes.cls ≠ "java/lang/invoke/MethodHandle" ∧ yX3_removes.cls ≠ "java/lang/invoke/VarHandle" ∧ (parseMethodDescriptor yX3_removes.desc).map (fun d => d.parameters.length) = some 0 := by decide +kernel
def rm_X3_removals : Room := { frames := 4, cells := 0, slots := 0, locals := 93 }
set_option maxHeartbeats 4000000 in
set_option maxRecDepth 100000 in
theorem met_X3_removals (l : Launch) (D : va_G) (dA : Nat → ClassId) (ad : Nat → Nat) (sz : Nat) (f_isSaved : Int32) (f_changes : Int32) (f_code : Int32) (f_length : Int32) (f_fault : Int32) (f_signMany : Int32) (f_at : Int32) (f_place : Int32) (a_g : (Nat → Int32)) (a_kept : (Nat → Int32)) (a_saved : (Nat → Int32)) (a_input : (Nat → Int32)) (a_signs : (Nat → Int32)) (a_ways : (Nat → Int64)) (a_needs : (Nat → Int32)) (a_walk : (Nat → Int32)) (a_one : (Nat → Int32)) (a_several : (Nat → Int32)) (a_ragged : (Nat → Int32)) (a_nextLine : (Nat → Int32))  (post : Int32 → Int32 → (Nat → Int32) → (Nat → Int32) → Prop) (hw : w_X3_removals post f_code f_length a_input a_one a_several) : Met l yX3_removals (ws_ yX3_removals cX3_removals 1 (some .int)) rm_X3_removals (va_Pc [.ref (ad 0)] (wrB D dA sz (mdl ad dA f_isSaved f_changes f_code f_length f_fault f_signMany f_at f_place a_g a_kept a_saved a_input a_signs a_ways a_needs a_walk a_one a_several a_ragged a_nextLine))) (va_Qi (fun (r : Int32) (u : Int32 × (Nat → Int32) × (Nat → Int32)) => post r u.1 u.2.1 u.2.2) (fun (u : Int32 × (Nat → Int32) × (Nat → Int32)) t => wrQ D dA (va_A (mdl ad dA f_isSaved f_changes f_code f_length f_fault f_signMany f_at f_place a_g a_kept a_saved a_input a_signs a_ways a_needs a_walk a_one a_several a_ragged a_nextLine) sz) (mdl ad dA f_isSaved f_changes u.1 f_length f_fault f_signMany f_at f_place a_g a_kept a_saved a_input a_signs a_ways a_needs a_walk u.2.1 u.2.2 a_ragged a_nextLine) t) (va_A (mdl ad dA f_isSaved f_changes f_code f_length f_fault f_signMany f_at f_place a_g a_kept a_saved a_input a_signs a_ways a_needs a_walk a_one a_several a_ragged a_nextLine) sz)) 0 0 (va_A (mdl ad dA f_isSaved f_changes f_code f_length f_fault f_signMany f_at f_place a_g a_kept a_saved a_input a_signs a_ways a_needs a_walk a_one a_several a_ragged a_nextLine) sz) := by
  refine Met.ofW (cc := cX3_removals) (maxL := 1) (ret := (some .int)) (by decide) rfl ?_
  intro p e s m args below meth c s₁ B hml hv
  obtain ⟨rfl, hsz, hP, hK, hD0⟩ := hv
  have hx := B.exec
  have hb := B.bytes
  have hr := B.returns
  have hts := atoms_spec (ws := (ws_ yX3_removals cX3_removals 1 (some .int))) B.pre
  have hts : ∀ w ∈ lw_all, w.before _ s = true := fun w h => hts w (List.mem_cons_of_mem _ h)
  have hown : s.vm.findClass RX3 = some m.cls := findClass_of_methodNamed B.named
  have hlocks := B.notSynchronized
  have hSx : CallFix p m c cX3_removals 1 s _ lw_all RX3 := ⟨hx, hb, hml, hown, hts⟩
  subst hsz
  have hD := hD0.self (sz := s.heap.size)
  generalize hAe : va_A (mdl ad dA f_isSaved f_changes f_code f_length f_fault f_signMany f_at f_place a_g a_kept a_saved a_input a_signs a_ways a_needs a_walk a_one a_several a_ragged a_nextLine) s.heap.size = A at hD ⊢
  have hA : ∀ q : Nat, s.heap.size ≤ q → A q := fun q h => by rw [← hAe]; exact Or.inr h
  have hS : va_S A s.heap s.heap [] := va_S.rf
  have hl := lv_entry ([.ref (ad 0)]) (n := 1) (Nat.le_of_ble_eq_true rfl)
  rw [lg_entry_eq]
  generalize (lg_sl ([.ref (ad 0)]) ++ List.replicate (1 - (lg_sl ([.ref (ad 0)])).length) Slot.unset).toArray = ls at hl ⊢
  have hl : lv_has ls 1 [(0, .ref (ad 0))] := hl
  refine lv_aload_n hx hb dX3_removals_0 rfl (lv_at hl 0 rfl) ?_
  refine k_wi (wn := fun (u : Int32 × (Nat → Int32) × (Nat → Int32)) => (mdl ad dA f_isSaved f_changes u.1 f_length f_fault f_signMany f_at f_place a_g a_kept a_saved a_input a_signs a_ways a_needs a_walk u.2.1 u.2.2 a_ragged a_nextLine)) (wr := []) (k_wV (As := []) (rest := []) hSx (met_X3_removes l D dA ad _ f_isSaved f_changes f_code f_length f_fault f_signMany f_at f_place a_g a_kept a_saved a_input a_signs a_ways a_needs a_walk a_one a_several a_ragged a_nextLine  _ hw) gX3_148 ⟨rfl, hd_X3_removes⟩ ⟨Nat.le_of_ble_eq_true rfl, Nat.le_of_ble_eq_true rfl⟩ rfl rfl hP hK hD [0, 1, 2, 3, 4, 5, 6, 7, 8, 9, 10, 11, 12] rfl (by decide) rfl 0 rfl rfl rfl rfl hl.1 (Nat.le_of_ble_eq_true rfl) rfl dX3_removals_1 ⟨Nat.le_refl 0, Nat.le_refl 0⟩) hP hD hS hA [0, 1, 2, 3, 4, 5, 6, 7, 8, 9, 10, 11, 12] [] [0, 1, 2, 3, 4, 5, 6, 7, 8, 9, 10, 11, 12] rfl rfl (by decide) (by decide) (by decide) (fun _ => rfl) (fun _ => rfl) (fun r5 u H locs hw _ hP hD hS => ?_)
  obtain ⟨f_code_6, a_one_7, a_several_8⟩ := u
  have hP : va_P D vwCl (mdl ad dA f_isSaved f_changes f_code_6 f_length f_fault f_signMany f_at f_place a_g a_kept a_saved a_input a_signs a_ways a_needs a_walk a_one_7 a_several_8 a_ragged a_nextLine) H := hP
  have hD : va_D A (mdl ad dA f_isSaved f_changes f_code_6 f_length f_fault f_signMany f_at f_place a_g a_kept a_saved a_input a_signs a_ways a_needs a_walk a_one_7 a_several_8 a_ragged a_nextLine) := hD
  exact W.iret (v := r5) hx hb hr (fun t ht hW => ⟨⟨r5, (f_code_6, a_one_7, a_several_8), rfl, hw, by rw [ht]; exact hP, va_K.moved hW.alike hK, hD⟩, hS.F ht⟩) hS.2.2 dX3_removals_4
def rm_X3_removalsByParts : Room := { frames := 4, cells := 0, slots := 0, locals := 93 }
set_option maxHeartbeats 4000000 in
set_option maxRecDepth 100000 in
theorem met_X3_removalsByParts (l : Launch) (D : va_G) (dA : Nat → ClassId) (ad : Nat → Nat) (sz : Nat) (f_isSaved : Int32) (f_changes : Int32) (f_code : Int32) (f_length : Int32) (f_fault : Int32) (f_signMany : Int32) (f_at : Int32) (f_place : Int32) (a_g : (Nat → Int32)) (a_kept : (Nat → Int32)) (a_saved : (Nat → Int32)) (a_input : (Nat → Int32)) (a_signs : (Nat → Int32)) (a_ways : (Nat → Int64)) (a_needs : (Nat → Int32)) (a_walk : (Nat → Int32)) (a_one : (Nat → Int32)) (a_several : (Nat → Int32)) (a_ragged : (Nat → Int32)) (a_nextLine : (Nat → Int32))  (post : Int32 → Int32 → (Nat → Int32) → (Nat → Int32) → Prop) (hw : w_X3_removalsByParts post f_code f_length a_input a_one a_several) : Met l yX3_removalsByParts (ws_ yX3_removalsByParts cX3_removalsByParts 1 (some .int)) rm_X3_removalsByParts (va_Pc [.ref (ad 0)] (wrB D dA sz (mdl ad dA f_isSaved f_changes f_code f_length f_fault f_signMany f_at f_place a_g a_kept a_saved a_input a_signs a_ways a_needs a_walk a_one a_several a_ragged a_nextLine))) (va_Qi (fun (r : Int32) (u : Int32 × (Nat → Int32) × (Nat → Int32)) => post r u.1 u.2.1 u.2.2) (fun (u : Int32 × (Nat → Int32) × (Nat → Int32)) t => wrQ D dA (va_A (mdl ad dA f_isSaved f_changes f_code f_length f_fault f_signMany f_at f_place a_g a_kept a_saved a_input a_signs a_ways a_needs a_walk a_one a_several a_ragged a_nextLine) sz) (mdl ad dA f_isSaved f_changes u.1 f_length f_fault f_signMany f_at f_place a_g a_kept a_saved a_input a_signs a_ways a_needs a_walk u.2.1 u.2.2 a_ragged a_nextLine) t) (va_A (mdl ad dA f_isSaved f_changes f_code f_length f_fault f_signMany f_at f_place a_g a_kept a_saved a_input a_signs a_ways a_needs a_walk a_one a_several a_ragged a_nextLine) sz)) 0 0 (va_A (mdl ad dA f_isSaved f_changes f_code f_length f_fault f_signMany f_at f_place a_g a_kept a_saved a_input a_signs a_ways a_needs a_walk a_one a_several a_ragged a_nextLine) sz) := by
  refine Met.ofW (cc := cX3_removalsByParts) (maxL := 1) (ret := (some .int)) (by decide) rfl ?_
  intro p e s m args below meth c s₁ B hml hv
  obtain ⟨rfl, hsz, hP, hK, hD0⟩ := hv
  have hx := B.exec
  have hb := B.bytes
  have hr := B.returns
  have hts := atoms_spec (ws := (ws_ yX3_removalsByParts cX3_removalsByParts 1 (some .int))) B.pre
  have hts : ∀ w ∈ lw_all, w.before _ s = true := fun w h => hts w (List.mem_cons_of_mem _ h)
  have hown : s.vm.findClass RX3 = some m.cls := findClass_of_methodNamed B.named
  have hlocks := B.notSynchronized
  have hSx : CallFix p m c cX3_removalsByParts 1 s _ lw_all RX3 := ⟨hx, hb, hml, hown, hts⟩
  subst hsz
  have hD := hD0.self (sz := s.heap.size)
  generalize hAe : va_A (mdl ad dA f_isSaved f_changes f_code f_length f_fault f_signMany f_at f_place a_g a_kept a_saved a_input a_signs a_ways a_needs a_walk a_one a_several a_ragged a_nextLine) s.heap.size = A at hD ⊢
  have hA : ∀ q : Nat, s.heap.size ≤ q → A q := fun q h => by rw [← hAe]; exact Or.inr h
  have hS : va_S A s.heap s.heap [] := va_S.rf
  have hl := lv_entry ([.ref (ad 0)]) (n := 1) (Nat.le_of_ble_eq_true rfl)
  rw [lg_entry_eq]
  generalize (lg_sl ([.ref (ad 0)]) ++ List.replicate (1 - (lg_sl ([.ref (ad 0)])).length) Slot.unset).toArray = ls at hl ⊢
  have hl : lv_has ls 1 [(0, .ref (ad 0))] := hl
  refine lv_aload_n hx hb dX3_removalsByParts_0 rfl (lv_at hl 0 rfl) ?_
  refine k_wi (wn := fun (u : Int32 × (Nat → Int32) × (Nat → Int32)) => (mdl ad dA f_isSaved f_changes u.1 f_length f_fault f_signMany f_at f_place a_g a_kept a_saved a_input a_signs a_ways a_needs a_walk u.2.1 u.2.2 a_ragged a_nextLine)) (wr := []) (k_wV (As := []) (rest := []) hSx (met_X3_removes l D dA ad _ f_isSaved f_changes f_code f_length f_fault f_signMany f_at f_place a_g a_kept a_saved a_input a_signs a_ways a_needs a_walk a_one a_several a_ragged a_nextLine  _ hw) gX3_148 ⟨rfl, hd_X3_removes⟩ ⟨Nat.le_of_ble_eq_true rfl, Nat.le_of_ble_eq_true rfl⟩ rfl rfl hP hK hD [0, 1, 2, 3, 4, 5, 6, 7, 8, 9, 10, 11, 12] rfl (by decide) rfl 0 rfl rfl rfl rfl hl.1 (Nat.le_of_ble_eq_true rfl) rfl dX3_removalsByParts_1 ⟨Nat.le_refl 0, Nat.le_refl 0⟩) hP hD hS hA [0, 1, 2, 3, 4, 5, 6, 7, 8, 9, 10, 11, 12] [] [0, 1, 2, 3, 4, 5, 6, 7, 8, 9, 10, 11, 12] rfl rfl (by decide) (by decide) (by decide) (fun _ => rfl) (fun _ => rfl) (fun r5 u H locs hw _ hP hD hS => ?_)
  obtain ⟨f_code_6, a_one_7, a_several_8⟩ := u
  have hP : va_P D vwCl (mdl ad dA f_isSaved f_changes f_code_6 f_length f_fault f_signMany f_at f_place a_g a_kept a_saved a_input a_signs a_ways a_needs a_walk a_one_7 a_several_8 a_ragged a_nextLine) H := hP
  have hD : va_D A (mdl ad dA f_isSaved f_changes f_code_6 f_length f_fault f_signMany f_at f_place a_g a_kept a_saved a_input a_signs a_ways a_needs a_walk a_one_7 a_several_8 a_ragged a_nextLine) := hD
  exact W.iret (v := r5) hx hb hr (fun t ht hW => ⟨⟨r5, (f_code_6, a_one_7, a_several_8), rfl, hw, by rw [ht]; exact hP, va_K.moved hW.alike hK, hD⟩, hS.F ht⟩) hS.2.2 dX3_removalsByParts_4
