/-! THE MODEL: its contracts, walked (printed by wip/D-56275w/gen/model.py) -/
def rm_X3_requestByValue : Room := { frames := 36, cells := 0, slots := 0, locals := 823 }
set_option maxHeartbeats 4000000 in
set_option maxRecDepth 100000 in
theorem met_X3_requestByValue (l : Launch) (D : va_G) (dA : Nat → ClassId) (ad : Nat → Nat) (sz : Nat) (f_isSaved : Int32) (f_changes : Int32) (f_code : Int32) (f_length : Int32) (f_fault : Int32) (f_signMany : Int32) (f_at : Int32) (f_place : Int32) (a_g : (Nat → Int32)) (a_kept : (Nat → Int32)) (a_saved : (Nat → Int32)) (a_input : (Nat → Int32)) (a_signs : (Nat → Int32)) (a_ways : (Nat → Int64)) (a_needs : (Nat → Int32)) (a_walk : (Nat → Int32)) (a_one : (Nat → Int32)) (a_several : (Nat → Int32)) (a_ragged : (Nat → Int32)) (a_nextLine : (Nat → Int32)) (p0 : Int32) (post : Int32 → Int32 → Int32 → Prop) (hw : w_X3_requestByValue post f_code f_place a_g p0) : Met l yX3_requestByValue (ws_ yX3_requestByValue cX3_requestByValue 5 (some .int)) rm_X3_requestByValue (va_Pc [.ref (ad 0), .int p0] (wrB D dA sz (mdl ad dA f_isSaved f_changes f_code f_length f_fault f_signMany f_at f_place a_g a_kept a_saved a_input a_signs a_ways a_needs a_walk a_one a_several a_ragged a_nextLine))) (va_Qi (fun (r : Int32) (u : Int32 × Int32) => post r u.1 u.2) (fun (u : Int32 × Int32) t => wrQ D dA (va_A (mdl ad dA f_isSaved f_changes f_code f_length f_fault f_signMany f_at f_place a_g a_kept a_saved a_input a_signs a_ways a_needs a_walk a_one a_several a_ragged a_nextLine) sz) (mdl ad dA f_isSaved f_changes u.1 f_length f_fault f_signMany f_at u.2 a_g a_kept a_saved a_input a_signs a_ways a_needs a_walk a_one a_several a_ragged a_nextLine) t) (va_A (mdl ad dA f_isSaved f_changes f_code f_length f_fault f_signMany f_at f_place a_g a_kept a_saved a_input a_signs a_ways a_needs a_walk a_one a_several a_ragged a_nextLine) sz)) 0 0 (va_A (mdl ad dA f_isSaved f_changes f_code f_length f_fault f_signMany f_at f_place a_g a_kept a_saved a_input a_signs a_ways a_needs a_walk a_one a_several a_ragged a_nextLine) sz) := by
  refine Met.ofW (cc := cX3_requestByValue) (maxL := 5) (ret := (some .int)) (by decide) rfl ?_
  intro p e s m args below meth c s₁ B hml hv
  obtain ⟨rfl, hsz, hP, hK, hD0⟩ := hv
  have hx := B.exec
  have hb := B.bytes
  have hr := B.returns
  have hts := atoms_spec (ws := (ws_ yX3_requestByValue cX3_requestByValue 5 (some .int))) B.pre
  have hts : ∀ w ∈ lw_all, w.before _ s = true := fun w h => hts w (List.mem_cons_of_mem _ h)
  have hown : s.vm.findClass RX3 = some m.cls := findClass_of_methodNamed B.named
  have hlocks := B.notSynchronized
  have hSx : CallFix p m c cX3_requestByValue 5 s _ lw_all RX3 := ⟨hx, hb, hml, hown, hts⟩
  subst hsz
  have hD := hD0.self (sz := s.heap.size)
  generalize hAe : va_A (mdl ad dA f_isSaved f_changes f_code f_length f_fault f_signMany f_at f_place a_g a_kept a_saved a_input a_signs a_ways a_needs a_walk a_one a_several a_ragged a_nextLine) s.heap.size = A at hD ⊢
  have hA : ∀ q : Nat, s.heap.size ≤ q → A q := fun q h => by rw [← hAe]; exact Or.inr h
  have hS : va_S A s.heap s.heap [] := va_S.rf
  have hl := lv_entry ([.ref (ad 0), .int p0]) (n := 5) (Nat.le_of_ble_eq_true rfl)
  rw [lg_entry_eq]
  generalize (lg_sl ([.ref (ad 0), .int p0]) ++ List.replicate (5 - (lg_sl ([.ref (ad 0), .int p0])).length) Slot.unset).toArray = ls at hl ⊢
  have hl : lv_has ls 5 [(0, .ref (ad 0)), (1, .int p0)] := hl
  have hL68 : ∀ (k2 : Int32 → Int32 → Int32 → Int32 → Prop) (hk2 : ∀ (f_code : Int32) (f_place : Int32) (v1 : Int32) (v2 : Int32) (H : Heap) (locs : List Loc) (ls : Array Slot), va_P D vwCl (mdl ad dA f_isSaved f_changes f_code f_length f_fault f_signMany f_at f_place a_g a_kept a_saved a_input a_signs a_ways a_needs a_walk a_one a_several a_ragged a_nextLine) H → va_D A (mdl ad dA f_isSaved f_changes f_code f_length f_fault f_signMany f_at f_place a_g a_kept a_saved a_input a_signs a_ways a_needs a_walk a_one a_several a_ragged a_nextLine) → va_S A s.heap H locs → lv_has ls 5 [(0, .ref (ad 0)), (1, .int v1), (2, .int v2)] → k2 f_code f_place v1 v2 → W p l e (headSpec (ws_ yX3_requestByValue cX3_requestByValue 5 (some .int)) rm_X3_requestByValue).room s m ([.ref (ad 0), .int p0] : List Value).toArray below meth c H locs 0 0 (MQ below (va_Qi (fun (r : Int32) (u : Int32 × Int32) => post r u.1 u.2) (fun (u : Int32 × Int32) t => wrQ D dA A (mdl ad dA f_isSaved f_changes u.1 f_length f_fault f_signMany f_at u.2 a_g a_kept a_saved a_input a_signs a_ways a_needs a_walk a_one a_several a_ragged a_nextLine) t) A) ([.ref (ad 0), .int p0] : List Value).toArray s 0 0 A) (F0 m 2 ls [])) (k17 : Int32 → Int32 → Int32 → Int32 → Int32 → Int32 → Prop) (hk17 : ∀ (f_code : Int32) (f_place : Int32) (v1 : Int32) (v2 : Int32) (v3 : Int32) (v4 : Int32) (H : Heap) (locs : List Loc) (ls : Array Slot), va_P D vwCl (mdl ad dA f_isSaved f_changes f_code f_length f_fault f_signMany f_at f_place a_g a_kept a_saved a_input a_signs a_ways a_needs a_walk a_one a_several a_ragged a_nextLine) H → va_D A (mdl ad dA f_isSaved f_changes f_code f_length f_fault f_signMany f_at f_place a_g a_kept a_saved a_input a_signs a_ways a_needs a_walk a_one a_several a_ragged a_nextLine) → va_S A s.heap H locs → lv_has ls 5 [(0, .ref (ad 0)), (1, .int v1), (2, .int v2), (3, .int v3), (4, .int v4)] → k17 f_code f_place v1 v2 v3 v4 → W p l e (headSpec (ws_ yX3_requestByValue cX3_requestByValue 5 (some .int)) rm_X3_requestByValue).room s m ([.ref (ad 0), .int p0] : List Value).toArray below meth c H locs 0 0 (MQ below (va_Qi (fun (r : Int32) (u : Int32 × Int32) => post r u.1 u.2) (fun (u : Int32 × Int32) t => wrQ D dA A (mdl ad dA f_isSaved f_changes u.1 f_length f_fault f_signMany f_at u.2 a_g a_kept a_saved a_input a_signs a_ways a_needs a_walk a_one a_several a_ragged a_nextLine) t) A) ([.ref (ad 0), .int p0] : List Value).toArray s 0 0 A) (F0 m 17 ls [])) (f_code : Int32) (f_place : Int32) (v1 : Int32) (v2 : Int32) (v4 : Int32) (s0 : Int32) (s1 : Int32) (H : Heap) (locs : List Loc) (ls : Array Slot), va_P D vwCl (mdl ad dA f_isSaved f_changes f_code f_length f_fault f_signMany f_at f_place a_g a_kept a_saved a_input a_signs a_ways a_needs a_walk a_one a_several a_ragged a_nextLine) H → va_D A (mdl ad dA f_isSaved f_changes f_code f_length f_fault f_signMany f_at f_place a_g a_kept a_saved a_input a_signs a_ways a_needs a_walk a_one a_several a_ragged a_nextLine) → va_S A s.heap H locs → lv_has ls 5 [(0, .ref (ad 0)), (1, .int v1), (2, .int v2), (4, .int v4)] → (w_X3_requestByValue_68 post a_g k2 k17) f_code f_place v1 v2 v4 s0 s1 → W p l e (headSpec (ws_ yX3_requestByValue cX3_requestByValue 5 (some .int)) rm_X3_requestByValue).room s m ([.ref (ad 0), .int p0] : List Value).toArray below meth c H locs 0 0 (MQ below (va_Qi (fun (r : Int32) (u : Int32 × Int32) => post r u.1 u.2) (fun (u : Int32 × Int32) t => wrQ D dA A (mdl ad dA f_isSaved f_changes u.1 f_length f_fault f_signMany f_at u.2 a_g a_kept a_saved a_input a_signs a_ways a_needs a_walk a_one a_several a_ragged a_nextLine) t) A) ([.ref (ad 0), .int p0] : List Value).toArray s 0 0 A) (F0 m 68 ls [.int s1, .int s0]) := by
      intro k2 hk2 k17 hk17 f_code f_place v1 v2 v4 s0 s1 H locs ls hP hD hS hl hw
      refine lv_iadd hx hb dX3_requestByValue_68 ?_
      refine lv_istore_n (lv' := [(3, .int (s0 + s1)), (0, .ref (ad 0)), (1, .int v1), (2, .int v2), (4, .int v4)]) hx hb dX3_requestByValue_69 rfl hl (by decide) rfl (fun ls hl => ?_)
      refine lv_iinc (v := (v4 + (nI 1))) (lv' := [(4, .int (v4 + (nI 1))), (3, .int (s0 + s1)), (0, .ref (ad 0)), (1, .int v1), (2, .int v2)]) hx hb dX3_requestByValue_70 hl (k := 4) rfl (congrArg (fun z => v4 + z) (by decide : Int32.ofInt (1) = (nI 1))) (by decide) rfl (fun ls hl => ?_)
      refine lv_goto (tgt := 17) hx hb dX3_requestByValue_73 (by decide) ?_
      exact hk17 f_code f_place v1 v2 (s0 + s1) (v4 + (nI 1)) _ _ _ hP hD hS (lv_sub hl [2, 3, 4, 1, 0] rfl) hw
  have hL63 : ∀ (k2 : Int32 → Int32 → Int32 → Int32 → Prop) (hk2 : ∀ (f_code : Int32) (f_place : Int32) (v1 : Int32) (v2 : Int32) (H : Heap) (locs : List Loc) (ls : Array Slot), va_P D vwCl (mdl ad dA f_isSaved f_changes f_code f_length f_fault f_signMany f_at f_place a_g a_kept a_saved a_input a_signs a_ways a_needs a_walk a_one a_several a_ragged a_nextLine) H → va_D A (mdl ad dA f_isSaved f_changes f_code f_length f_fault f_signMany f_at f_place a_g a_kept a_saved a_input a_signs a_ways a_needs a_walk a_one a_several a_ragged a_nextLine) → va_S A s.heap H locs → lv_has ls 5 [(0, .ref (ad 0)), (1, .int v1), (2, .int v2)] → k2 f_code f_place v1 v2 → W p l e (headSpec (ws_ yX3_requestByValue cX3_requestByValue 5 (some .int)) rm_X3_requestByValue).room s m ([.ref (ad 0), .int p0] : List Value).toArray below meth c H locs 0 0 (MQ below (va_Qi (fun (r : Int32) (u : Int32 × Int32) => post r u.1 u.2) (fun (u : Int32 × Int32) t => wrQ D dA A (mdl ad dA f_isSaved f_changes u.1 f_length f_fault f_signMany f_at u.2 a_g a_kept a_saved a_input a_signs a_ways a_needs a_walk a_one a_several a_ragged a_nextLine) t) A) ([.ref (ad 0), .int p0] : List Value).toArray s 0 0 A) (F0 m 2 ls [])) (k17 : Int32 → Int32 → Int32 → Int32 → Int32 → Int32 → Prop) (hk17 : ∀ (f_code : Int32) (f_place : Int32) (v1 : Int32) (v2 : Int32) (v3 : Int32) (v4 : Int32) (H : Heap) (locs : List Loc) (ls : Array Slot), va_P D vwCl (mdl ad dA f_isSaved f_changes f_code f_length f_fault f_signMany f_at f_place a_g a_kept a_saved a_input a_signs a_ways a_needs a_walk a_one a_several a_ragged a_nextLine) H → va_D A (mdl ad dA f_isSaved f_changes f_code f_length f_fault f_signMany f_at f_place a_g a_kept a_saved a_input a_signs a_ways a_needs a_walk a_one a_several a_ragged a_nextLine) → va_S A s.heap H locs → lv_has ls 5 [(0, .ref (ad 0)), (1, .int v1), (2, .int v2), (3, .int v3), (4, .int v4)] → k17 f_code f_place v1 v2 v3 v4 → W p l e (headSpec (ws_ yX3_requestByValue cX3_requestByValue 5 (some .int)) rm_X3_requestByValue).room s m ([.ref (ad 0), .int p0] : List Value).toArray below meth c H locs 0 0 (MQ below (va_Qi (fun (r : Int32) (u : Int32 × Int32) => post r u.1 u.2) (fun (u : Int32 × Int32) t => wrQ D dA A (mdl ad dA f_isSaved f_changes u.1 f_length f_fault f_signMany f_at u.2 a_g a_kept a_saved a_input a_signs a_ways a_needs a_walk a_one a_several a_ragged a_nextLine) t) A) ([.ref (ad 0), .int p0] : List Value).toArray s 0 0 A) (F0 m 17 ls [])) (f_code : Int32) (f_place : Int32) (v1 : Int32) (v2 : Int32) (v4 : Int32) (s0 : Int32) (H : Heap) (locs : List Loc) (ls : Array Slot), va_P D vwCl (mdl ad dA f_isSaved f_changes f_code f_length f_fault f_signMany f_at f_place a_g a_kept a_saved a_input a_signs a_ways a_needs a_walk a_one a_several a_ragged a_nextLine) H → va_D A (mdl ad dA f_isSaved f_changes f_code f_length f_fault f_signMany f_at f_place a_g a_kept a_saved a_input a_signs a_ways a_needs a_walk a_one a_several a_ragged a_nextLine) → va_S A s.heap H locs → lv_has ls 5 [(0, .ref (ad 0)), (1, .int v1), (2, .int v2), (4, .int v4)] → (w_X3_requestByValue_63 post a_g k2 k17) f_code f_place v1 v2 v4 s0 → W p l e (headSpec (ws_ yX3_requestByValue cX3_requestByValue 5 (some .int)) rm_X3_requestByValue).room s m ([.ref (ad 0), .int p0] : List Value).toArray below meth c H locs 0 0 (MQ below (va_Qi (fun (r : Int32) (u : Int32 × Int32) => post r u.1 u.2) (fun (u : Int32 × Int32) t => wrQ D dA A (mdl ad dA f_isSaved f_changes u.1 f_length f_fault f_signMany f_at u.2 a_g a_kept a_saved a_input a_signs a_ways a_needs a_walk a_one a_several a_ragged a_nextLine) t) A) ([.ref (ad 0), .int p0] : List Value).toArray s 0 0 A) (F0 m 63 ls [.int s0]) := by
      intro k2 hk2 k17 hk17 f_code f_place v1 v2 v4 s0 H locs ls hP hD hS hl hw
      refine lv_iconst (v := (nI 1)) hx hb dX3_requestByValue_63 (by decide) ?_
      refine lv_goto (tgt := 68) hx hb dX3_requestByValue_64 (by decide) ?_
      exact hL68 k2 hk2 k17 hk17 f_code f_place v1 v2 v4 s0 (nI 1) _ _ _ hP hD hS (lv_sub hl [0, 1, 2, 3] rfl) hw
  have hL67 : ∀ (k2 : Int32 → Int32 → Int32 → Int32 → Prop) (hk2 : ∀ (f_code : Int32) (f_place : Int32) (v1 : Int32) (v2 : Int32) (H : Heap) (locs : List Loc) (ls : Array Slot), va_P D vwCl (mdl ad dA f_isSaved f_changes f_code f_length f_fault f_signMany f_at f_place a_g a_kept a_saved a_input a_signs a_ways a_needs a_walk a_one a_several a_ragged a_nextLine) H → va_D A (mdl ad dA f_isSaved f_changes f_code f_length f_fault f_signMany f_at f_place a_g a_kept a_saved a_input a_signs a_ways a_needs a_walk a_one a_several a_ragged a_nextLine) → va_S A s.heap H locs → lv_has ls 5 [(0, .ref (ad 0)), (1, .int v1), (2, .int v2)] → k2 f_code f_place v1 v2 → W p l e (headSpec (ws_ yX3_requestByValue cX3_requestByValue 5 (some .int)) rm_X3_requestByValue).room s m ([.ref (ad 0), .int p0] : List Value).toArray below meth c H locs 0 0 (MQ below (va_Qi (fun (r : Int32) (u : Int32 × Int32) => post r u.1 u.2) (fun (u : Int32 × Int32) t => wrQ D dA A (mdl ad dA f_isSaved f_changes u.1 f_length f_fault f_signMany f_at u.2 a_g a_kept a_saved a_input a_signs a_ways a_needs a_walk a_one a_several a_ragged a_nextLine) t) A) ([.ref (ad 0), .int p0] : List Value).toArray s 0 0 A) (F0 m 2 ls [])) (k17 : Int32 → Int32 → Int32 → Int32 → Int32 → Int32 → Prop) (hk17 : ∀ (f_code : Int32) (f_place : Int32) (v1 : Int32) (v2 : Int32) (v3 : Int32) (v4 : Int32) (H : Heap) (locs : List Loc) (ls : Array Slot), va_P D vwCl (mdl ad dA f_isSaved f_changes f_code f_length f_fault f_signMany f_at f_place a_g a_kept a_saved a_input a_signs a_ways a_needs a_walk a_one a_several a_ragged a_nextLine) H → va_D A (mdl ad dA f_isSaved f_changes f_code f_length f_fault f_signMany f_at f_place a_g a_kept a_saved a_input a_signs a_ways a_needs a_walk a_one a_several a_ragged a_nextLine) → va_S A s.heap H locs → lv_has ls 5 [(0, .ref (ad 0)), (1, .int v1), (2, .int v2), (3, .int v3), (4, .int v4)] → k17 f_code f_place v1 v2 v3 v4 → W p l e (headSpec (ws_ yX3_requestByValue cX3_requestByValue 5 (some .int)) rm_X3_requestByValue).room s m ([.ref (ad 0), .int p0] : List Value).toArray below meth c H locs 0 0 (MQ below (va_Qi (fun (r : Int32) (u : Int32 × Int32) => post r u.1 u.2) (fun (u : Int32 × Int32) t => wrQ D dA A (mdl ad dA f_isSaved f_changes u.1 f_length f_fault f_signMany f_at u.2 a_g a_kept a_saved a_input a_signs a_ways a_needs a_walk a_one a_several a_ragged a_nextLine) t) A) ([.ref (ad 0), .int p0] : List Value).toArray s 0 0 A) (F0 m 17 ls [])) (f_code : Int32) (f_place : Int32) (v1 : Int32) (v2 : Int32) (v4 : Int32) (s0 : Int32) (H : Heap) (locs : List Loc) (ls : Array Slot), va_P D vwCl (mdl ad dA f_isSaved f_changes f_code f_length f_fault f_signMany f_at f_place a_g a_kept a_saved a_input a_signs a_ways a_needs a_walk a_one a_several a_ragged a_nextLine) H → va_D A (mdl ad dA f_isSaved f_changes f_code f_length f_fault f_signMany f_at f_place a_g a_kept a_saved a_input a_signs a_ways a_needs a_walk a_one a_several a_ragged a_nextLine) → va_S A s.heap H locs → lv_has ls 5 [(0, .ref (ad 0)), (1, .int v1), (2, .int v2), (4, .int v4)] → (w_X3_requestByValue_67 post a_g k2 k17) f_code f_place v1 v2 v4 s0 → W p l e (headSpec (ws_ yX3_requestByValue cX3_requestByValue 5 (some .int)) rm_X3_requestByValue).room s m ([.ref (ad 0), .int p0] : List Value).toArray below meth c H locs 0 0 (MQ below (va_Qi (fun (r : Int32) (u : Int32 × Int32) => post r u.1 u.2) (fun (u : Int32 × Int32) t => wrQ D dA A (mdl ad dA f_isSaved f_changes u.1 f_length f_fault f_signMany f_at u.2 a_g a_kept a_saved a_input a_signs a_ways a_needs a_walk a_one a_several a_ragged a_nextLine) t) A) ([.ref (ad 0), .int p0] : List Value).toArray s 0 0 A) (F0 m 67 ls [.int s0]) := by
      intro k2 hk2 k17 hk17 f_code f_place v1 v2 v4 s0 H locs ls hP hD hS hl hw
      refine lv_iconst (v := (nI 0)) hx hb dX3_requestByValue_67 (by decide) ?_
      exact hL68 k2 hk2 k17 hk17 f_code f_place v1 v2 v4 s0 (nI 0) _ _ _ hP hD hS (lv_sub hl [0, 1, 2, 3] rfl) hw
  have hL17 : ∀ (k2 : Int32 → Int32 → Int32 → Int32 → Prop) (hk2 : ∀ (f_code : Int32) (f_place : Int32) (v1 : Int32) (v2 : Int32) (H : Heap) (locs : List Loc) (ls : Array Slot), va_P D vwCl (mdl ad dA f_isSaved f_changes f_code f_length f_fault f_signMany f_at f_place a_g a_kept a_saved a_input a_signs a_ways a_needs a_walk a_one a_several a_ragged a_nextLine) H → va_D A (mdl ad dA f_isSaved f_changes f_code f_length f_fault f_signMany f_at f_place a_g a_kept a_saved a_input a_signs a_ways a_needs a_walk a_one a_several a_ragged a_nextLine) → va_S A s.heap H locs → lv_has ls 5 [(0, .ref (ad 0)), (1, .int v1), (2, .int v2)] → k2 f_code f_place v1 v2 → W p l e (headSpec (ws_ yX3_requestByValue cX3_requestByValue 5 (some .int)) rm_X3_requestByValue).room s m ([.ref (ad 0), .int p0] : List Value).toArray below meth c H locs 0 0 (MQ below (va_Qi (fun (r : Int32) (u : Int32 × Int32) => post r u.1 u.2) (fun (u : Int32 × Int32) t => wrQ D dA A (mdl ad dA f_isSaved f_changes u.1 f_length f_fault f_signMany f_at u.2 a_g a_kept a_saved a_input a_signs a_ways a_needs a_walk a_one a_several a_ragged a_nextLine) t) A) ([.ref (ad 0), .int p0] : List Value).toArray s 0 0 A) (F0 m 2 ls [])) (n : Nat) (f_code : Int32) (f_place : Int32) (v1 : Int32) (v2 : Int32) (v3 : Int32) (v4 : Int32) (H : Heap) (locs : List Loc) (ls : Array Slot), va_P D vwCl (mdl ad dA f_isSaved f_changes f_code f_length f_fault f_signMany f_at f_place a_g a_kept a_saved a_input a_signs a_ways a_needs a_walk a_one a_several a_ragged a_nextLine) H → va_D A (mdl ad dA f_isSaved f_changes f_code f_length f_fault f_signMany f_at f_place a_g a_kept a_saved a_input a_signs a_ways a_needs a_walk a_one a_several a_ragged a_nextLine) → va_S A s.heap H locs → lv_has ls 5 [(0, .ref (ad 0)), (1, .int v1), (2, .int v2), (3, .int v3), (4, .int v4)] → lpF (fun _ _ _ _ _ _ => False) (w_X3_requestByValue_17 post a_g k2) n f_code f_place v1 v2 v3 v4 → W p l e (headSpec (ws_ yX3_requestByValue cX3_requestByValue 5 (some .int)) rm_X3_requestByValue).room s m ([.ref (ad 0), .int p0] : List Value).toArray below meth c H locs 0 0 (MQ below (va_Qi (fun (r : Int32) (u : Int32 × Int32) => post r u.1 u.2) (fun (u : Int32 × Int32) t => wrQ D dA A (mdl ad dA f_isSaved f_changes u.1 f_length f_fault f_signMany f_at u.2 a_g a_kept a_saved a_input a_signs a_ways a_needs a_walk a_one a_several a_ragged a_nextLine) t) A) ([.ref (ad 0), .int p0] : List Value).toArray s 0 0 A) (F0 m 17 ls []) := by
    intro k2 hk2 n
    induction n with
    | zero => intro f_code f_place v1 v2 v3 v4 H locs ls hP hD hS hl hw; exact absurd hw id
    | succ n hk17 =>
      intro f_code f_place v1 v2 v3 v4 H locs ls hP hD hS hl hw
      generalize hk9 : lpF (fun _ _ _ _ _ _ => False) (w_X3_requestByValue_17 post a_g k2) n = k17 at hk17
      have hw : (w_X3_requestByValue_17 post a_g k2) k17 f_code f_place v1 v2 v3 v4 := hk9 ▸ hw
      refine lv_iload hx hb dX3_requestByValue_17 (lv_at hl 4 rfl) ?_
      refine lv_aload_n hx hb dX3_requestByValue_19 rfl (lv_at hl 0 rfl) ?_
      refine va_get (D := D) (ci := 2) (v := .ref (ad 1)) (C := RX3) (T := TX3) (N := 20) hx hb hts in_X3 hown hK hP 0 rfl rfl 0 (by decide) (hts _ q1741) (fun _ h9 => h9) rfl dX3_requestByValue_20 ?_
      refine lv_iconst (v := (nI 1)) hx hb dX3_requestByValue_23 (by decide) ?_
      refine k_iald (k := 1) hx hb hK hP 1 0 rfl rfl (clK 1 (by decide)) (inK (by decide) (by decide)) dX3_requestByValue_24 ?_
      refine lv_icmp_ge (tgt := 76) hx hb dX3_requestByValue_25 (by decide) (fun c15 => ?_) (fun c15 => ?_)
      · have hw := hw.1 c15
        refine lv_iload_n hx hb dX3_requestByValue_76 rfl (lv_at hl 3 rfl) ?_
        refine lv_iload_n hx hb dX3_requestByValue_77 rfl (lv_at hl 1 rfl) ?_
        refine lv_icmp_eq (tgt := 84) hx hb dX3_requestByValue_78 (by decide) (fun c16 => ?_) (fun c16 => ?_)
        · have hw := hw.1 c16
          refine lv_aload_n hx hb dX3_requestByValue_84 rfl (lv_at hl 0 rfl) ?_
          refine lv_iconst (v := (nI 0)) hx hb dX3_requestByValue_85 (by decide) ?_
          refine va_put (D := D) (ci := 2) (v := .int (nI 0)) (ty := .int) (C := RX3) (T := TX3) (N := 20) hx hb hts in_X3 tyX3 tyX3_ok nmX3 hown hK hP hD hS 0 rfl rfl 5 (by decide) (hts _ q1746) (fun _ h9 => h9) rfl (by decide +kernel) rfl rfl (Nat.le_of_ble_eq_true rfl) dX3_requestByValue_86 (fun H locs hP hD hS => ?_)
          have hP : va_P D vwCl (mdl ad dA f_isSaved f_changes (nI 0) f_length f_fault f_signMany f_at f_place a_g a_kept a_saved a_input a_signs a_ways a_needs a_walk a_one a_several a_ragged a_nextLine) H := hP
          have hD : va_D A (mdl ad dA f_isSaved f_changes (nI 0) f_length f_fault f_signMany f_at f_place a_g a_kept a_saved a_input a_signs a_ways a_needs a_walk a_one a_several a_ragged a_nextLine) := hD
          refine lv_iload_n hx hb dX3_requestByValue_89 rfl (lv_at hl 2 rfl) ?_
          exact W.iret (v := v2) hx hb hr (fun t ht hW => ⟨⟨v2, ((nI 0), f_place), rfl, hw, by rw [ht]; exact hP, va_K.moved hW.alike hK, hD⟩, hS.F ht⟩) hS.2.2 dX3_requestByValue_90
        · have hw := hw.2 c16
          refine lv_goto (tgt := 91) hx hb dX3_requestByValue_81 (by decide) ?_
          refine lv_iinc (v := (v2 + (nI 1))) (lv' := [(2, .int (v2 + (nI 1))), (0, .ref (ad 0)), (1, .int v1), (3, .int v3), (4, .int v4)]) hx hb dX3_requestByValue_91 hl (k := 2) rfl (congrArg (fun z => v2 + z) (by decide : Int32.ofInt (1) = (nI 1))) (by decide) rfl (fun ls hl => ?_)
          refine lv_goto (tgt := 2) hx hb dX3_requestByValue_94 (by decide) ?_
          exact hk2 f_code f_place v1 (v2 + (nI 1)) _ _ _ hP hD hS (lv_sub hl [1, 2, 0] rfl) hw
      · have hw := hw.2 c15
        refine lv_iload_n hx hb dX3_requestByValue_28 rfl (lv_at hl 3 rfl) ?_
        refine lv_aload_n hx hb dX3_requestByValue_29 rfl (lv_at hl 0 rfl) ?_
        refine lv_iload hx hb dX3_requestByValue_30 (lv_at hl 4 rfl) ?_
        refine k_wi (wn := fun (u : Int32) => (mdl ad dA f_isSaved f_changes f_code f_length f_fault f_signMany f_at u a_g a_kept a_saved a_input a_signs a_ways a_needs a_walk a_one a_several a_ragged a_nextLine)) (wr := []) (k_wV (As := [.int v4]) (rest := [.int v3]) hSx (met_X3_value l D dA ad _ f_isSaved f_changes f_code f_length f_fault f_signMany f_at f_place a_g a_kept a_saved a_input a_signs a_ways a_needs a_walk a_one a_several a_ragged a_nextLine v4 _ hw) gX3_172 ⟨rfl, hd_X3_value⟩ ⟨Nat.le_of_ble_eq_true rfl, Nat.le_of_ble_eq_true rfl⟩ rfl rfl hP hK hD [0, 1, 2, 3, 4, 5, 6, 7, 8, 9, 10, 11, 12] rfl (by decide) rfl 0 rfl rfl rfl rfl hl.1 (Nat.le_of_ble_eq_true rfl) rfl dX3_requestByValue_32 ⟨Nat.le_refl 0, Nat.le_refl 0⟩) hP hD hS hA [0, 1, 2, 3, 4, 5, 6, 7, 8, 9, 10, 11, 12] [] [0, 1, 2, 3, 4, 5, 6, 7, 8, 9, 10, 11, 12] rfl rfl (by decide) (by decide) (by decide) (fun _ => rfl) (fun _ => rfl) (fun r17 u H locs hw _ hP hD hS => ?_)
        obtain ⟨f_place_18, rfl⟩ : ∃ z, z = u := ⟨_, rfl⟩
        have hP : va_P D vwCl (mdl ad dA f_isSaved f_changes f_code f_length f_fault f_signMany f_at f_place_18 a_g a_kept a_saved a_input a_signs a_ways a_needs a_walk a_one a_several a_ragged a_nextLine) H := hP
        have hD : va_D A (mdl ad dA f_isSaved f_changes f_code f_length f_fault f_signMany f_at f_place_18 a_g a_kept a_saved a_input a_signs a_ways a_needs a_walk a_one a_several a_ragged a_nextLine) := hD
        refine lv_aload_n hx hb dX3_requestByValue_35 rfl (lv_at hl 0 rfl) ?_
        refine lv_iload_n hx hb dX3_requestByValue_36 rfl (lv_at hl 2 rfl) ?_
        refine k_wi (wn := fun (u : Int32) => (mdl ad dA f_isSaved f_changes f_code f_length f_fault f_signMany f_at u a_g a_kept a_saved a_input a_signs a_ways a_needs a_walk a_one a_several a_ragged a_nextLine)) (wr := []) (k_wV (As := [.int v2]) (rest := [.int r17, .int v3]) hSx (met_X3_value l D dA ad _ f_isSaved f_changes f_code f_length f_fault f_signMany f_at f_place_18 a_g a_kept a_saved a_input a_signs a_ways a_needs a_walk a_one a_several a_ragged a_nextLine v2 _ hw) gX3_172 ⟨rfl, hd_X3_value⟩ ⟨Nat.le_of_ble_eq_true rfl, Nat.le_of_ble_eq_true rfl⟩ rfl rfl hP hK hD [0, 1, 2, 3, 4, 5, 6, 7, 8, 9, 10, 11, 12] rfl (by decide) rfl 0 rfl rfl rfl rfl hl.1 (Nat.le_of_ble_eq_true rfl) rfl dX3_requestByValue_37 ⟨Nat.le_refl 0, Nat.le_refl 0⟩) hP hD hS hA [0, 1, 2, 3, 4, 5, 6, 7, 8, 9, 10, 11, 12] [] [0, 1, 2, 3, 4, 5, 6, 7, 8, 9, 10, 11, 12] rfl rfl (by decide) (by decide) (by decide) (fun _ => rfl) (fun _ => rfl) (fun r19 u H locs hw _ hP hD hS => ?_)
        obtain ⟨f_place_20, rfl⟩ : ∃ z, z = u := ⟨_, rfl⟩
        have hP : va_P D vwCl (mdl ad dA f_isSaved f_changes f_code f_length f_fault f_signMany f_at f_place_20 a_g a_kept a_saved a_input a_signs a_ways a_needs a_walk a_one a_several a_ragged a_nextLine) H := hP
        have hD : va_D A (mdl ad dA f_isSaved f_changes f_code f_length f_fault f_signMany f_at f_place_20 a_g a_kept a_saved a_input a_signs a_ways a_needs a_walk a_one a_several a_ragged a_nextLine) := hD
        refine lv_icmp_gt (tgt := 63) hx hb dX3_requestByValue_40 (by decide) (fun c21 => ?_) (fun c21 => ?_)
        · have hw := hw.1 c21
          exact hL63 k2 hk2 k17 hk17 f_code f_place_20 v1 v2 v4 v3 _ _ _ hP hD hS (lv_sub hl [0, 1, 2, 4] rfl) hw
        · have hw := hw.2 c21
          refine lv_aload_n hx hb dX3_requestByValue_43 rfl (lv_at hl 0 rfl) ?_
          refine lv_iload hx hb dX3_requestByValue_44 (lv_at hl 4 rfl) ?_
          refine k_wi (wn := fun (u : Int32) => (mdl ad dA f_isSaved f_changes f_code f_length f_fault f_signMany f_at u a_g a_kept a_saved a_input a_signs a_ways a_needs a_walk a_one a_several a_ragged a_nextLine)) (wr := []) (k_wV (As := [.int v4]) (rest := [.int v3]) hSx (met_X3_value l D dA ad _ f_isSaved f_changes f_code f_length f_fault f_signMany f_at f_place_20 a_g a_kept a_saved a_input a_signs a_ways a_needs a_walk a_one a_several a_ragged a_nextLine v4 _ hw) gX3_172 ⟨rfl, hd_X3_value⟩ ⟨Nat.le_of_ble_eq_true rfl, Nat.le_of_ble_eq_true rfl⟩ rfl rfl hP hK hD [0, 1, 2, 3, 4, 5, 6, 7, 8, 9, 10, 11, 12] rfl (by decide) rfl 0 rfl rfl rfl rfl hl.1 (Nat.le_of_ble_eq_true rfl) rfl dX3_requestByValue_46 ⟨Nat.le_refl 0, Nat.le_refl 0⟩) hP hD hS hA [0, 1, 2, 3, 4, 5, 6, 7, 8, 9, 10, 11, 12] [] [0, 1, 2, 3, 4, 5, 6, 7, 8, 9, 10, 11, 12] rfl rfl (by decide) (by decide) (by decide) (fun _ => rfl) (fun _ => rfl) (fun r22 u H locs hw _ hP hD hS => ?_)
          obtain ⟨f_place_23, rfl⟩ : ∃ z, z = u := ⟨_, rfl⟩
          have hP : va_P D vwCl (mdl ad dA f_isSaved f_changes f_code f_length f_fault f_signMany f_at f_place_23 a_g a_kept a_saved a_input a_signs a_ways a_needs a_walk a_one a_several a_ragged a_nextLine) H := hP
          have hD : va_D A (mdl ad dA f_isSaved f_changes f_code f_length f_fault f_signMany f_at f_place_23 a_g a_kept a_saved a_input a_signs a_ways a_needs a_walk a_one a_several a_ragged a_nextLine) := hD
          refine lv_aload_n hx hb dX3_requestByValue_49 rfl (lv_at hl 0 rfl) ?_
          refine lv_iload_n hx hb dX3_requestByValue_50 rfl (lv_at hl 2 rfl) ?_
          refine k_wi (wn := fun (u : Int32) => (mdl ad dA f_isSaved f_changes f_code f_length f_fault f_signMany f_at u a_g a_kept a_saved a_input a_signs a_ways a_needs a_walk a_one a_several a_ragged a_nextLine)) (wr := []) (k_wV (As := [.int v2]) (rest := [.int r22, .int v3]) hSx (met_X3_value l D dA ad _ f_isSaved f_changes f_code f_length f_fault f_signMany f_at f_place_23 a_g a_kept a_saved a_input a_signs a_ways a_needs a_walk a_one a_several a_ragged a_nextLine v2 _ hw) gX3_172 ⟨rfl, hd_X3_value⟩ ⟨Nat.le_of_ble_eq_true rfl, Nat.le_of_ble_eq_true rfl⟩ rfl rfl hP hK hD [0, 1, 2, 3, 4, 5, 6, 7, 8, 9, 10, 11, 12] rfl (by decide) rfl 0 rfl rfl rfl rfl hl.1 (Nat.le_of_ble_eq_true rfl) rfl dX3_requestByValue_51 ⟨Nat.le_refl 0, Nat.le_refl 0⟩) hP hD hS hA [0, 1, 2, 3, 4, 5, 6, 7, 8, 9, 10, 11, 12] [] [0, 1, 2, 3, 4, 5, 6, 7, 8, 9, 10, 11, 12] rfl rfl (by decide) (by decide) (by decide) (fun _ => rfl) (fun _ => rfl) (fun r24 u H locs hw _ hP hD hS => ?_)
          obtain ⟨f_place_25, rfl⟩ : ∃ z, z = u := ⟨_, rfl⟩
          have hP : va_P D vwCl (mdl ad dA f_isSaved f_changes f_code f_length f_fault f_signMany f_at f_place_25 a_g a_kept a_saved a_input a_signs a_ways a_needs a_walk a_one a_several a_ragged a_nextLine) H := hP
          have hD : va_D A (mdl ad dA f_isSaved f_changes f_code f_length f_fault f_signMany f_at f_place_25 a_g a_kept a_saved a_input a_signs a_ways a_needs a_walk a_one a_several a_ragged a_nextLine) := hD
          refine lv_icmp_ne (tgt := 67) hx hb dX3_requestByValue_54 (by decide) (fun c26 => ?_) (fun c26 => ?_)
          · have hw := hw.2 c26
            exact hL67 k2 hk2 k17 hk17 f_code f_place_25 v1 v2 v4 v3 _ _ _ hP hD hS (lv_sub hl [0, 1, 2, 4] rfl) hw
          · have hw := hw.1 c26
            refine lv_iload hx hb dX3_requestByValue_57 (lv_at hl 4 rfl) ?_
            refine lv_iload_n hx hb dX3_requestByValue_59 rfl (lv_at hl 2 rfl) ?_
            refine lv_icmp_ge (tgt := 67) hx hb dX3_requestByValue_60 (by decide) (fun c27 => ?_) (fun c27 => ?_)
            · have hw := hw.1 c27
              exact hL67 k2 hk2 k17 hk17 f_code f_place_25 v1 v2 v4 v3 _ _ _ hP hD hS (lv_sub hl [0, 1, 2, 4] rfl) hw
            · have hw := hw.2 c27
              exact hL63 k2 hk2 k17 hk17 f_code f_place_25 v1 v2 v4 v3 _ _ _ hP hD hS (lv_sub hl [0, 1, 2, 4] rfl) hw
  have hL2 : ∀  (n : Nat) (f_code : Int32) (f_place : Int32) (v1 : Int32) (v2 : Int32) (H : Heap) (locs : List Loc) (ls : Array Slot), va_P D vwCl (mdl ad dA f_isSaved f_changes f_code f_length f_fault f_signMany f_at f_place a_g a_kept a_saved a_input a_signs a_ways a_needs a_walk a_one a_several a_ragged a_nextLine) H → va_D A (mdl ad dA f_isSaved f_changes f_code f_length f_fault f_signMany f_at f_place a_g a_kept a_saved a_input a_signs a_ways a_needs a_walk a_one a_several a_ragged a_nextLine) → va_S A s.heap H locs → lv_has ls 5 [(0, .ref (ad 0)), (1, .int v1), (2, .int v2)] → lpF (fun _ _ _ _ => False) (w_X3_requestByValue_2 post a_g) n f_code f_place v1 v2 → W p l e (headSpec (ws_ yX3_requestByValue cX3_requestByValue 5 (some .int)) rm_X3_requestByValue).room s m ([.ref (ad 0), .int p0] : List Value).toArray below meth c H locs 0 0 (MQ below (va_Qi (fun (r : Int32) (u : Int32 × Int32) => post r u.1 u.2) (fun (u : Int32 × Int32) t => wrQ D dA A (mdl ad dA f_isSaved f_changes u.1 f_length f_fault f_signMany f_at u.2 a_g a_kept a_saved a_input a_signs a_ways a_needs a_walk a_one a_several a_ragged a_nextLine) t) A) ([.ref (ad 0), .int p0] : List Value).toArray s 0 0 A) (F0 m 2 ls []) := by
    intro  n
    induction n with
    | zero => intro f_code f_place v1 v2 H locs ls hP hD hS hl hw; exact absurd hw id
    | succ n hk2 =>
      intro f_code f_place v1 v2 H locs ls hP hD hS hl hw
      generalize hk9 : lpF (fun _ _ _ _ => False) (w_X3_requestByValue_2 post a_g) n = k2 at hk2
      have hw : (w_X3_requestByValue_2 post a_g) k2 f_code f_place v1 v2 := hk9 ▸ hw
      refine lv_iload_n hx hb dX3_requestByValue_2 rfl (lv_at hl 2 rfl) ?_
      refine lv_aload_n hx hb dX3_requestByValue_3 rfl (lv_at hl 0 rfl) ?_
      refine va_get (D := D) (ci := 2) (v := .ref (ad 1)) (C := RX3) (T := TX3) (N := 20) hx hb hts in_X3 hown hK hP 0 rfl rfl 0 (by decide) (hts _ q1741) (fun _ h9 => h9) rfl dX3_requestByValue_4 ?_
      refine lv_iconst (v := (nI 1)) hx hb dX3_requestByValue_7 (by decide) ?_
      refine k_iald (k := 1) hx hb hK hP 1 0 rfl rfl (clK 1 (by decide)) (inK (by decide) (by decide)) dX3_requestByValue_8 ?_
      refine lv_icmp_ge (tgt := 97) hx hb dX3_requestByValue_9 (by decide) (fun c28 => ?_) (fun c28 => ?_)
      · have hw := hw.1 c28
        refine lv_aload_n hx hb dX3_requestByValue_97 rfl (lv_at hl 0 rfl) ?_
        refine lv_iconst (v := (nI 1)) hx hb dX3_requestByValue_98 (by decide) ?_
        refine va_put (D := D) (ci := 2) (v := .int (nI 1)) (ty := .int) (C := RX3) (T := TX3) (N := 20) hx hb hts in_X3 tyX3 tyX3_ok nmX3 hown hK hP hD hS 0 rfl rfl 5 (by decide) (hts _ q1746) (fun _ h9 => h9) rfl (by decide +kernel) rfl rfl (Nat.le_of_ble_eq_true rfl) dX3_requestByValue_99 (fun H locs hP hD hS => ?_)
        have hP : va_P D vwCl (mdl ad dA f_isSaved f_changes (nI 1) f_length f_fault f_signMany f_at f_place a_g a_kept a_saved a_input a_signs a_ways a_needs a_walk a_one a_several a_ragged a_nextLine) H := hP
        have hD : va_D A (mdl ad dA f_isSaved f_changes (nI 1) f_length f_fault f_signMany f_at f_place a_g a_kept a_saved a_input a_signs a_ways a_needs a_walk a_one a_several a_ragged a_nextLine) := hD
        refine lv_iconst (v := (nI 0)) hx hb dX3_requestByValue_102 (by decide) ?_
        exact W.iret (v := (nI 0)) hx hb hr (fun t ht hW => ⟨⟨(nI 0), ((nI 1), f_place), rfl, hw, by rw [ht]; exact hP, va_K.moved hW.alike hK, hD⟩, hS.F ht⟩) hS.2.2 dX3_requestByValue_103
      · have hw := hw.2 c28
        refine lv_iconst (v := (nI 0)) hx hb dX3_requestByValue_12 (by decide) ?_
        refine lv_istore_n (lv' := [(3, .int (nI 0)), (0, .ref (ad 0)), (1, .int v1), (2, .int v2)]) hx hb dX3_requestByValue_13 rfl hl (by decide) rfl (fun ls hl => ?_)
        refine lv_iconst (v := (nI 0)) hx hb dX3_requestByValue_14 (by decide) ?_
        refine lv_istore (lv' := [(4, .int (nI 0)), (3, .int (nI 0)), (0, .ref (ad 0)), (1, .int v1), (2, .int v2)]) hx hb dX3_requestByValue_15 hl (by decide) rfl (fun ls hl => ?_)
        obtain ⟨n, hw⟩ := hw
        exact hL17 k2 hk2 n f_code f_place v1 v2 (nI 0) (nI 0) _ _ _ hP hD hS (lv_sub hl [2, 3, 4, 1, 0] rfl) hw
  refine lv_iconst (v := (nI 0)) hx hb dX3_requestByValue_0 (by decide) ?_
  refine lv_istore_n (lv' := [(2, .int (nI 0)), (0, .ref (ad 0)), (1, .int p0)]) hx hb dX3_requestByValue_1 rfl hl (by decide) rfl (fun ls hl => ?_)
  obtain ⟨n, hw⟩ := hw
  exact hL2  n f_code f_place p0 (nI 0) _ _ _ hP hD hS (lv_sub hl [1, 2, 0] rfl) hw
def rm_X3_setWidth : Room := { frames := 2, cells := 0, slots := 0, locals := 45 }
set_option maxHeartbeats 4000000 in
set_option maxRecDepth 100000 in
theorem met_X3_setWidth (l : Launch) (D : va_G) (dA : Nat → ClassId) (ad : Nat → Nat) (sz : Nat) (f_isSaved : Int32) (f_changes : Int32) (f_code : Int32) (f_length : Int32) (f_fault : Int32) (f_signMany : Int32) (f_at : Int32) (f_place : Int32) (a_g : (Nat → Int32)) (a_kept : (Nat → Int32)) (a_saved : (Nat → Int32)) (a_input : (Nat → Int32)) (a_signs : (Nat → Int32)) (a_ways : (Nat → Int64)) (a_needs : (Nat → Int32)) (a_walk : (Nat → Int32)) (a_one : (Nat → Int32)) (a_several : (Nat → Int32)) (a_ragged : (Nat → Int32)) (a_nextLine : (Nat → Int32)) (p0 : Int32) (post : Int32 → Int32 → Int32 → (Nat → Int32) → (Nat → Int32) → Prop) (hw : w_X3_setWidth post f_changes f_code a_g a_kept p0) : Met l yX3_setWidth (ws_ yX3_setWidth cX3_setWidth 3 (some .int)) rm_X3_setWidth (va_Pc [.ref (ad 0), .int p0] (wrB D dA sz (mdl ad dA f_isSaved f_changes f_code f_length f_fault f_signMany f_at f_place a_g a_kept a_saved a_input a_signs a_ways a_needs a_walk a_one a_several a_ragged a_nextLine))) (va_Qi (fun (r : Int32) (u : Int32 × Int32 × (Nat → Int32) × (Nat → Int32)) => post r u.1 u.2.1 u.2.2.1 u.2.2.2) (fun (u : Int32 × Int32 × (Nat → Int32) × (Nat → Int32)) t => wrQ D dA (va_A (mdl ad dA f_isSaved f_changes f_code f_length f_fault f_signMany f_at f_place a_g a_kept a_saved a_input a_signs a_ways a_needs a_walk a_one a_several a_ragged a_nextLine) sz) (mdl ad dA f_isSaved u.1 u.2.1 f_length f_fault f_signMany f_at f_place u.2.2.1 u.2.2.2 a_saved a_input a_signs a_ways a_needs a_walk a_one a_several a_ragged a_nextLine) t) (va_A (mdl ad dA f_isSaved f_changes f_code f_length f_fault f_signMany f_at f_place a_g a_kept a_saved a_input a_signs a_ways a_needs a_walk a_one a_several a_ragged a_nextLine) sz)) 0 0 (va_A (mdl ad dA f_isSaved f_changes f_code f_length f_fault f_signMany f_at f_place a_g a_kept a_saved a_input a_signs a_ways a_needs a_walk a_one a_several a_ragged a_nextLine) sz) := by
  refine Met.ofW (cc := cX3_setWidth) (maxL := 3) (ret := (some .int)) (by decide) rfl ?_
  intro p e s m args below meth c s₁ B hml hv
  obtain ⟨rfl, hsz, hP, hK, hD0⟩ := hv
  have hx := B.exec
  have hb := B.bytes
  have hr := B.returns
  have hts := atoms_spec (ws := (ws_ yX3_setWidth cX3_setWidth 3 (some .int))) B.pre
  have hts : ∀ w ∈ lw_all, w.before _ s = true := fun w h => hts w (List.mem_cons_of_mem _ h)
  have hown : s.vm.findClass RX3 = some m.cls := findClass_of_methodNamed B.named
  have hlocks := B.notSynchronized
  have hSx : CallFix p m c cX3_setWidth 3 s _ lw_all RX3 := ⟨hx, hb, hml, hown, hts⟩
  subst hsz
  have hD := hD0.self (sz := s.heap.size)
  generalize hAe : va_A (mdl ad dA f_isSaved f_changes f_code f_length f_fault f_signMany f_at f_place a_g a_kept a_saved a_input a_signs a_ways a_needs a_walk a_one a_several a_ragged a_nextLine) s.heap.size = A at hD ⊢
  have hA : ∀ q : Nat, s.heap.size ≤ q → A q := fun q h => by rw [← hAe]; exact Or.inr h
  have hS : va_S A s.heap s.heap [] := va_S.rf
  have hl := lv_entry ([.ref (ad 0), .int p0]) (n := 3) (Nat.le_of_ble_eq_true rfl)
  rw [lg_entry_eq]
  generalize (lg_sl ([.ref (ad 0), .int p0]) ++ List.replicate (3 - (lg_sl ([.ref (ad 0), .int p0])).length) Slot.unset).toArray = ls at hl ⊢
  have hl : lv_has ls 3 [(0, .ref (ad 0)), (1, .int p0)] := hl
  have hL17 : ∀  (f_changes : Int32) (f_code : Int32) (a_g : (Nat → Int32)) (a_kept : (Nat → Int32)) (v1 : Int32) (s1 : Int32) (H : Heap) (locs : List Loc) (ls : Array Slot), va_P D vwCl (mdl ad dA f_isSaved f_changes f_code f_length f_fault f_signMany f_at f_place a_g a_kept a_saved a_input a_signs a_ways a_needs a_walk a_one a_several a_ragged a_nextLine) H → va_D A (mdl ad dA f_isSaved f_changes f_code f_length f_fault f_signMany f_at f_place a_g a_kept a_saved a_input a_signs a_ways a_needs a_walk a_one a_several a_ragged a_nextLine) → va_S A s.heap H locs → lv_has ls 3 [(0, .ref (ad 0)), (1, .int v1)] → (w_X3_setWidth_17 post) f_changes f_code a_g a_kept v1 s1 → W p l e (headSpec (ws_ yX3_setWidth cX3_setWidth 3 (some .int)) rm_X3_setWidth).room s m ([.ref (ad 0), .int p0] : List Value).toArray below meth c H locs 0 0 (MQ below (va_Qi (fun (r : Int32) (u : Int32 × Int32 × (Nat → Int32) × (Nat → Int32)) => post r u.1 u.2.1 u.2.2.1 u.2.2.2) (fun (u : Int32 × Int32 × (Nat → Int32) × (Nat → Int32)) t => wrQ D dA A (mdl ad dA f_isSaved u.1 u.2.1 f_length f_fault f_signMany f_at f_place u.2.2.1 u.2.2.2 a_saved a_input a_signs a_ways a_needs a_walk a_one a_several a_ragged a_nextLine) t) A) ([.ref (ad 0), .int p0] : List Value).toArray s 0 0 A) (F0 m 17 ls [.int s1, .ref (ad 0)]) := by
      intro  f_changes f_code a_g a_kept v1 s1 H locs ls hP hD hS hl hw
      refine k_wi (wn := fun (u : Int32) => (mdl ad dA f_isSaved f_changes u f_length f_fault f_signMany f_at f_place a_g a_kept a_saved a_input a_signs a_ways a_needs a_walk a_one a_several a_ragged a_nextLine)) (wr := []) (k_wV (As := [.int s1]) (rest := []) hSx (met_X3_fails l D dA ad _ f_isSaved f_changes f_code f_length f_fault f_signMany f_at f_place a_g a_kept a_saved a_input a_signs a_ways a_needs a_walk a_one a_several a_ragged a_nextLine s1 _ hw) gX3_70 ⟨rfl, hd_X3_fails⟩ ⟨Nat.le_of_ble_eq_true rfl, Nat.le_of_ble_eq_true rfl⟩ rfl rfl hP hK hD [0, 1, 2, 3, 4, 5, 6, 7, 8, 9, 10, 11, 12] rfl (by decide) rfl 0 rfl rfl rfl rfl hl.1 (Nat.le_of_ble_eq_true rfl) rfl dX3_setWidth_17 ⟨Nat.le_refl 0, Nat.le_refl 0⟩) hP hD hS hA [0, 1, 2, 3, 4, 5, 6, 7, 8, 9, 10, 11, 12] [] [0, 1, 2, 3, 4, 5, 6, 7, 8, 9, 10, 11, 12] rfl rfl (by decide) (by decide) (by decide) (fun _ => rfl) (fun _ => rfl) (fun r9 u H locs hw _ hP hD hS => ?_)
      obtain ⟨f_code_10, rfl⟩ : ∃ z, z = u := ⟨_, rfl⟩
      have hP : va_P D vwCl (mdl ad dA f_isSaved f_changes f_code_10 f_length f_fault f_signMany f_at f_place a_g a_kept a_saved a_input a_signs a_ways a_needs a_walk a_one a_several a_ragged a_nextLine) H := hP
      have hD : va_D A (mdl ad dA f_isSaved f_changes f_code_10 f_length f_fault f_signMany f_at f_place a_g a_kept a_saved a_input a_signs a_ways a_needs a_walk a_one a_several a_ragged a_nextLine) := hD
      refine lv_if_eq (tgt := 25) hx hb dX3_setWidth_20 (by decide) (fun c11 => ?_) (fun c11 => ?_)
      · have hw := hw.1 c11
        refine lv_aload_n hx hb dX3_setWidth_25 rfl (lv_at hl 0 rfl) ?_
        refine va_get (D := D) (ci := 2) (v := .ref (ad 1)) (C := RX3) (T := TX3) (N := 20) hx hb hts in_X3 hown hK hP 0 rfl rfl 0 (by decide) (hts _ q1741) (fun _ h9 => h9) rfl dX3_setWidth_26 ?_
        refine lv_iconst (v := (nI 2)) hx hb dX3_setWidth_29 (by decide) ?_
        refine k_iald (k := 2) hx hb hK hP 1 0 rfl rfl (clK 2 (by decide)) (inK (by decide) (by decide)) dX3_setWidth_30 ?_
        refine lv_istore_n (lv' := [(2, .int (a_g 2)), (0, .ref (ad 0)), (1, .int v1)]) hx hb dX3_setWidth_31 rfl hl (by decide) rfl (fun ls hl => ?_)
        refine lv_aload_n hx hb dX3_setWidth_32 rfl (lv_at hl 1 rfl) ?_
        refine k_wv (wn := fun (u : Int32 × Int32 × (Nat → Int32)) => (mdl ad dA f_isSaved u.1 u.2.1 f_length f_fault f_signMany f_at f_place a_g u.2.2 a_saved a_input a_signs a_ways a_needs a_walk a_one a_several a_ragged a_nextLine)) (wr := []) (k_wV (As := []) (rest := []) hSx (met_X3_keeps l D dA ad _ f_isSaved f_changes f_code_10 f_length f_fault f_signMany f_at f_place a_g a_kept a_saved a_input a_signs a_ways a_needs a_walk a_one a_several a_ragged a_nextLine  _ hw) gX3_77 ⟨rfl, hd_X3_keeps⟩ ⟨Nat.le_of_ble_eq_true rfl, Nat.le_of_ble_eq_true rfl⟩ rfl rfl hP hK hD [0, 1, 2, 3, 4, 5, 6, 7, 8, 9, 10, 11, 12] rfl (by decide) rfl 0 rfl rfl rfl rfl hl.1 (Nat.le_of_ble_eq_true rfl) rfl dX3_setWidth_33 ⟨Nat.le_refl 0, Nat.le_refl 0⟩) hP hD hS hA [0, 1, 2, 3, 4, 5, 6, 7, 8, 9, 10, 11, 12] [] [0, 1, 2, 3, 4, 5, 6, 7, 8, 9, 10, 11, 12] rfl rfl (by decide) (by decide) (by decide) (fun _ => rfl) (fun _ => rfl) (fun u H locs hw _ hP hD hS => ?_)
        obtain ⟨f_changes_12, f_code_13, a_kept_14⟩ := u
        have hP : va_P D vwCl (mdl ad dA f_isSaved f_changes_12 f_code_13 f_length f_fault f_signMany f_at f_place a_g a_kept_14 a_saved a_input a_signs a_ways a_needs a_walk a_one a_several a_ragged a_nextLine) H := hP
        have hD : va_D A (mdl ad dA f_isSaved f_changes_12 f_code_13 f_length f_fault f_signMany f_at f_place a_g a_kept_14 a_saved a_input a_signs a_ways a_needs a_walk a_one a_several a_ragged a_nextLine) := hD
        refine lv_aload_n hx hb dX3_setWidth_36 rfl (lv_at hl 1 rfl) ?_
        refine va_get (D := D) (ci := 2) (v := .ref (ad 1)) (C := RX3) (T := TX3) (N := 20) hx hb hts in_X3 hown hK hP 0 rfl rfl 0 (by decide) (hts _ q1741) (fun _ h9 => h9) rfl dX3_setWidth_37 ?_
        refine lv_iconst (v := (nI 2)) hx hb dX3_setWidth_40 (by decide) ?_
        refine lv_iload_n hx hb dX3_setWidth_41 rfl (lv_at hl 2 rfl) ?_
        refine k_iast (k := 2) hx hb hK hP hD hS 1 0 rfl rfl (clK 2 (by decide)) (inK (by decide) (by decide)) dX3_setWidth_42 (fun H locs hP hD hS => ?_)
        have hP : va_P D vwCl (mdl ad dA f_isSaved f_changes_12 f_code_13 f_length f_fault f_signMany f_at f_place (upd a_g 2 v1) a_kept_14 a_saved a_input a_signs a_ways a_needs a_walk a_one a_several a_ragged a_nextLine) H := hP
        have hD : va_D A (mdl ad dA f_isSaved f_changes_12 f_code_13 f_length f_fault f_signMany f_at f_place (upd a_g 2 v1) a_kept_14 a_saved a_input a_signs a_ways a_needs a_walk a_one a_several a_ragged a_nextLine) := hD
        refine lv_iload_n hx hb dX3_setWidth_43 rfl (lv_at hl 0 rfl) ?_
        exact W.iret (v := (a_g 2)) hx hb hr (fun t ht hW => ⟨⟨(a_g 2), (f_changes_12, f_code_13, (upd a_g 2 v1), a_kept_14), rfl, hw, by rw [ht]; exact hP, va_K.moved hW.alike hK, hD⟩, hS.F ht⟩) hS.2.2 dX3_setWidth_44
      · have hw := hw.2 c11
        refine lv_iconst (v := (nI 0)) hx hb dX3_setWidth_23 (by decide) ?_
        exact W.iret (v := (nI 0)) hx hb hr (fun t ht hW => ⟨⟨(nI 0), (f_changes, f_code_10, a_g, a_kept), rfl, hw, by rw [ht]; exact hP, va_K.moved hW.alike hK, hD⟩, hS.F ht⟩) hS.2.2 dX3_setWidth_24
  refine lv_aload_n hx hb dX3_setWidth_0 rfl (lv_at hl 0 rfl) ?_
  refine lv_iload_n hx hb dX3_setWidth_1 rfl (lv_at hl 1 rfl) ?_
  refine lv_bipush (v := (nI 8)) hx hb dX3_setWidth_2 (by decide) ?_
  refine lv_bipush (v := (nI 60)) hx hb dX3_setWidth_4 (by decide) ?_
  refine k_ri (k_pS (As := [.int p0, .int (nI 8), .int (nI 60)]) (rest := [.ref (ad 0)]) hSx (met_X3_in l p0 (nI 8) (nI 60) _ hw) gX3_62 hd_X3_in ⟨Nat.le_of_ble_eq_true rfl, Nat.le_of_ble_eq_true rfl⟩ rfl rfl rfl hl.1 (Nat.le_of_ble_eq_true rfl) rfl dX3_setWidth_6 ⟨Nat.le_refl 0, Nat.le_refl 0⟩) (fun r15 hw => ?_)
  refine lv_if_eq (tgt := 16) hx hb dX3_setWidth_9 (by decide) (fun c16 => ?_) (fun c16 => ?_)
  · have hw := hw.1 c16
    refine lv_iconst (v := (nI 1)) hx hb dX3_setWidth_16 (by decide) ?_
    exact hL17  f_changes f_code a_g a_kept p0 (nI 1) _ _ _ hP hD hS (lv_sub hl [0, 1] rfl) hw
  · have hw := hw.2 c16
    refine lv_iconst (v := (nI 0)) hx hb dX3_setWidth_12 (by decide) ?_
    refine lv_goto (tgt := 17) hx hb dX3_setWidth_13 (by decide) ?_
    exact hL17  f_changes f_code a_g a_kept p0 (nI 0) _ _ _ hP hD hS (lv_sub hl [0, 1] rfl) hw
def rm_X3_width : Room := { frames := 0, cells := 0, slots := 0, locals := 0 }
set_option maxHeartbeats 4000000 in
set_option maxRecDepth 100000 in
theorem met_X3_width (l : Launch) (D : va_G) (dA : Nat → ClassId) (ad : Nat → Nat) (sz : Nat) (f_isSaved : Int32) (f_changes : Int32) (f_code : Int32) (f_length : Int32) (f_fault : Int32) (f_signMany : Int32) (f_at : Int32) (f_place : Int32) (a_g : (Nat → Int32)) (a_kept : (Nat → Int32)) (a_saved : (Nat → Int32)) (a_input : (Nat → Int32)) (a_signs : (Nat → Int32)) (a_ways : (Nat → Int64)) (a_needs : (Nat → Int32)) (a_walk : (Nat → Int32)) (a_one : (Nat → Int32)) (a_several : (Nat → Int32)) (a_ragged : (Nat → Int32)) (a_nextLine : (Nat → Int32))  (post : Int32 → Int32 → Prop) (hw : w_X3_width post f_code a_g) : Met l yX3_width (ws_ yX3_width cX3_width 1 (some .int)) rm_X3_width (va_Pc [.ref (ad 0)] (wrB D dA sz (mdl ad dA f_isSaved f_changes f_code f_length f_fault f_signMany f_at f_place a_g a_kept a_saved a_input a_signs a_ways a_needs a_walk a_one a_several a_ragged a_nextLine))) (va_Qi (fun (r : Int32) (u : Int32) => post r u) (fun (u : Int32) t => wrQ D dA (va_A (mdl ad dA f_isSaved f_changes f_code f_length f_fault f_signMany f_at f_place a_g a_kept a_saved a_input a_signs a_ways a_needs a_walk a_one a_several a_ragged a_nextLine) sz) (mdl ad dA f_isSaved f_changes u f_length f_fault f_signMany f_at f_place a_g a_kept a_saved a_input a_signs a_ways a_needs a_walk a_one a_several a_ragged a_nextLine) t) (va_A (mdl ad dA f_isSaved f_changes f_code f_length f_fault f_signMany f_at f_place a_g a_kept a_saved a_input a_signs a_ways a_needs a_walk a_one a_several a_ragged a_nextLine) sz)) 0 0 (va_A (mdl ad dA f_isSaved f_changes f_code f_length f_fault f_signMany f_at f_place a_g a_kept a_saved a_input a_signs a_ways a_needs a_walk a_one a_several a_ragged a_nextLine) sz) := by
  refine Met.ofW (cc := cX3_width) (maxL := 1) (ret := (some .int)) (by decide) rfl ?_
  intro p e s m args below meth c s₁ B hml hv
  obtain ⟨rfl, hsz, hP, hK, hD0⟩ := hv
  have hx := B.exec
  have hb := B.bytes
  have hr := B.returns
  have hts := atoms_spec (ws := (ws_ yX3_width cX3_width 1 (some .int))) B.pre
  have hts : ∀ w ∈ lw_all, w.before _ s = true := fun w h => hts w (List.mem_cons_of_mem _ h)
  have hown : s.vm.findClass RX3 = some m.cls := findClass_of_methodNamed B.named
  have hlocks := B.notSynchronized
  have hSx : CallFix p m c cX3_width 1 s _ lw_all RX3 := ⟨hx, hb, hml, hown, hts⟩
  subst hsz
  have hD := hD0.self (sz := s.heap.size)
  generalize hAe : va_A (mdl ad dA f_isSaved f_changes f_code f_length f_fault f_signMany f_at f_place a_g a_kept a_saved a_input a_signs a_ways a_needs a_walk a_one a_several a_ragged a_nextLine) s.heap.size = A at hD ⊢
  have hA : ∀ q : Nat, s.heap.size ≤ q → A q := fun q h => by rw [← hAe]; exact Or.inr h
  have hS : va_S A s.heap s.heap [] := va_S.rf
  have hl := lv_entry ([.ref (ad 0)]) (n := 1) (Nat.le_of_ble_eq_true rfl)
  rw [lg_entry_eq]
  generalize (lg_sl ([.ref (ad 0)]) ++ List.replicate (1 - (lg_sl ([.ref (ad 0)])).length) Slot.unset).toArray = ls at hl ⊢
  have hl : lv_has ls 1 [(0, .ref (ad 0))] := hl
  refine lv_aload_n hx hb dX3_width_0 rfl (lv_at hl 0 rfl) ?_
  refine lv_iconst (v := (nI 0)) hx hb dX3_width_1 (by decide) ?_
  refine va_put (D := D) (ci := 2) (v := .int (nI 0)) (ty := .int) (C := RX3) (T := TX3) (N := 20) hx hb hts in_X3 tyX3 tyX3_ok nmX3 hown hK hP hD hS 0 rfl rfl 5 (by decide) (hts _ q1746) (fun _ h9 => h9) rfl (by decide +kernel) rfl rfl (Nat.le_of_ble_eq_true rfl) dX3_width_2 (fun H locs hP hD hS => ?_)
  have hP : va_P D vwCl (mdl ad dA f_isSaved f_changes (nI 0) f_length f_fault f_signMany f_at f_place a_g a_kept a_saved a_input a_signs a_ways a_needs a_walk a_one a_several a_ragged a_nextLine) H := hP
  have hD : va_D A (mdl ad dA f_isSaved f_changes (nI 0) f_length f_fault f_signMany f_at f_place a_g a_kept a_saved a_input a_signs a_ways a_needs a_walk a_one a_several a_ragged a_nextLine) := hD
  refine lv_aload_n hx hb dX3_width_5 rfl (lv_at hl 0 rfl) ?_
  refine va_get (D := D) (ci := 2) (v := .ref (ad 1)) (C := RX3) (T := TX3) (N := 20) hx hb hts in_X3 hown hK hP 0 rfl rfl 0 (by decide) (hts _ q1741) (fun _ h9 => h9) rfl dX3_width_6 ?_
  refine lv_iconst (v := (nI 2)) hx hb dX3_width_9 (by decide) ?_
  refine k_iald (k := 2) hx hb hK hP 1 0 rfl rfl (clK 2 (by decide)) (inK (by decide) (by decide)) dX3_width_10 ?_
  exact W.iret (v := (a_g 2)) hx hb hr (fun t ht hW => ⟨⟨(a_g 2), (nI 0), rfl, hw, by rw [ht]; exact hP, va_K.moved hW.alike hK, hD⟩, hS.F ht⟩) hS.2.2 dX3_width_11
def rm_X3_isTooLong : Room := { frames := 2, cells := 0, slots := 0, locals := 42 }
set_option maxHeartbeats 4000000 in
set_option maxRecDepth 100000 in
theorem met_X3_isTooLong (l : Launch) (D : va_G) (dA : Nat → ClassId) (ad : Nat → Nat) (sz : Nat) (f_isSaved : Int32) (f_changes : Int32) (f_code : Int32) (f_length : Int32) (f_fault : Int32) (f_signMany : Int32) (f_at : Int32) (f_place : Int32) (a_g : (Nat → Int32)) (a_kept : (Nat → Int32)) (a_saved : (Nat → Int32)) (a_input : (Nat → Int32)) (a_signs : (Nat → Int32)) (a_ways : (Nat → Int64)) (a_needs : (Nat → Int32)) (a_walk : (Nat → Int32)) (a_one : (Nat → Int32)) (a_several : (Nat → Int32)) (a_ragged : (Nat → Int32)) (a_nextLine : (Nat → Int32)) (p0 : Int32) (post : Int32 → Int32 → (Nat → Int32) → (Nat → Int32) → Prop) (hw : w_X3_isTooLong post f_code a_g a_ragged a_nextLine p0) : Met l yX3_isTooLong (ws_ yX3_isTooLong cX3_isTooLong 7 (some .boolean)) rm_X3_isTooLong (va_Pc [.ref (ad 0), .int p0] (wrB D dA sz (mdl ad dA f_isSaved f_changes f_code f_length f_fault f_signMany f_at f_place a_g a_kept a_saved a_input a_signs a_ways a_needs a_walk a_one a_several a_ragged a_nextLine))) (va_Qi (fun (r : Int32) (u : Int32 × (Nat → Int32) × (Nat → Int32)) => post r u.1 u.2.1 u.2.2) (fun (u : Int32 × (Nat → Int32) × (Nat → Int32)) t => wrQ D dA (va_A (mdl ad dA f_isSaved f_changes f_code f_length f_fault f_signMany f_at f_place a_g a_kept a_saved a_input a_signs a_ways a_needs a_walk a_one a_several a_ragged a_nextLine) sz) (mdl ad dA f_isSaved f_changes u.1 f_length f_fault f_signMany f_at f_place a_g a_kept a_saved a_input a_signs a_ways a_needs a_walk a_one a_several u.2.1 u.2.2) t) (va_A (mdl ad dA f_isSaved f_changes f_code f_length f_fault f_signMany f_at f_place a_g a_kept a_saved a_input a_signs a_ways a_needs a_walk a_one a_several a_ragged a_nextLine) sz)) 0 0 (va_A (mdl ad dA f_isSaved f_changes f_code f_length f_fault f_signMany f_at f_place a_g a_kept a_saved a_input a_signs a_ways a_needs a_walk a_one a_several a_ragged a_nextLine) sz) := by
  refine Met.ofW (cc := cX3_isTooLong) (maxL := 7) (ret := (some .boolean)) (by decide) rfl ?_
  intro p e s m args below meth c s₁ B hml hv
  obtain ⟨rfl, hsz, hP, hK, hD0⟩ := hv
  have hx := B.exec
  have hb := B.bytes
  have hr := B.returns
  have hts := atoms_spec (ws := (ws_ yX3_isTooLong cX3_isTooLong 7 (some .boolean))) B.pre
  have hts : ∀ w ∈ lw_all, w.before _ s = true := fun w h => hts w (List.mem_cons_of_mem _ h)
  have hown : s.vm.findClass RX3 = some m.cls := findClass_of_methodNamed B.named
  have hlocks := B.notSynchronized
  have hSx : CallFix p m c cX3_isTooLong 7 s _ lw_all RX3 := ⟨hx, hb, hml, hown, hts⟩
  subst hsz
  have hD := hD0.self (sz := s.heap.size)
  generalize hAe : va_A (mdl ad dA f_isSaved f_changes f_code f_length f_fault f_signMany f_at f_place a_g a_kept a_saved a_input a_signs a_ways a_needs a_walk a_one a_several a_ragged a_nextLine) s.heap.size = A at hD ⊢
  have hA : ∀ q : Nat, s.heap.size ≤ q → A q := fun q h => by rw [← hAe]; exact Or.inr h
  have hS : va_S A s.heap s.heap [] := va_S.rf
  have hl := lv_entry ([.ref (ad 0), .int p0]) (n := 7) (Nat.le_of_ble_eq_true rfl)
  rw [lg_entry_eq]
  generalize (lg_sl ([.ref (ad 0), .int p0]) ++ List.replicate (7 - (lg_sl ([.ref (ad 0), .int p0])).length) Slot.unset).toArray = ls at hl ⊢
  have hl : lv_has ls 7 [(0, .ref (ad 0)), (1, .int p0)] := hl
  have hL196 : ∀ (k64 : Int32 → (Nat → Int32) → (Nat → Int32) → Int32 → Prop) (hk64 : ∀ (f_code : Int32) (a_ragged : (Nat → Int32)) (a_nextLine : (Nat → Int32)) (v2 : Int32) (H : Heap) (locs : List Loc) (ls : Array Slot), va_P D vwCl (mdl ad dA f_isSaved f_changes f_code f_length f_fault f_signMany f_at f_place a_g a_kept a_saved a_input a_signs a_ways a_needs a_walk a_one a_several a_ragged a_nextLine) H → va_D A (mdl ad dA f_isSaved f_changes f_code f_length f_fault f_signMany f_at f_place a_g a_kept a_saved a_input a_signs a_ways a_needs a_walk a_one a_several a_ragged a_nextLine) → va_S A s.heap H locs → lv_has ls 7 [(0, .ref (ad 0)), (2, .int v2)] → k64 f_code a_ragged a_nextLine v2 → W p l e (headSpec (ws_ yX3_isTooLong cX3_isTooLong 7 (some .boolean)) rm_X3_isTooLong).room s m ([.ref (ad 0), .int p0] : List Value).toArray below meth c H locs 0 0 (MQ below (va_Qi (fun (r : Int32) (u : Int32 × (Nat → Int32) × (Nat → Int32)) => post r u.1 u.2.1 u.2.2) (fun (u : Int32 × (Nat → Int32) × (Nat → Int32)) t => wrQ D dA A (mdl ad dA f_isSaved f_changes u.1 f_length f_fault f_signMany f_at f_place a_g a_kept a_saved a_input a_signs a_ways a_needs a_walk a_one a_several u.2.1 u.2.2) t) A) ([.ref (ad 0), .int p0] : List Value).toArray s 0 0 A) (F0 m 64 ls [])) (f_code : Int32) (a_ragged : (Nat → Int32)) (a_nextLine : (Nat → Int32)) (v2 : Int32) (H : Heap) (locs : List Loc) (ls : Array Slot), va_P D vwCl (mdl ad dA f_isSaved f_changes f_code f_length f_fault f_signMany f_at f_place a_g a_kept a_saved a_input a_signs a_ways a_needs a_walk a_one a_several a_ragged a_nextLine) H → va_D A (mdl ad dA f_isSaved f_changes f_code f_length f_fault f_signMany f_at f_place a_g a_kept a_saved a_input a_signs a_ways a_needs a_walk a_one a_several a_ragged a_nextLine) → va_S A s.heap H locs → lv_has ls 7 [(0, .ref (ad 0)), (2, .int v2)] → (w_X3_isTooLong_196 post a_g k64) f_code a_ragged a_nextLine v2 → W p l e (headSpec (ws_ yX3_isTooLong cX3_isTooLong 7 (some .boolean)) rm_X3_isTooLong).room s m ([.ref (ad 0), .int p0] : List Value).toArray below meth c H locs 0 0 (MQ below (va_Qi (fun (r : Int32) (u : Int32 × (Nat → Int32) × (Nat → Int32)) => post r u.1 u.2.1 u.2.2) (fun (u : Int32 × (Nat → Int32) × (Nat → Int32)) t => wrQ D dA A (mdl ad dA f_isSaved f_changes u.1 f_length f_fault f_signMany f_at f_place a_g a_kept a_saved a_input a_signs a_ways a_needs a_walk a_one a_several u.2.1 u.2.2) t) A) ([.ref (ad 0), .int p0] : List Value).toArray s 0 0 A) (F0 m 196 ls []) := by
      intro k64 hk64 f_code a_ragged a_nextLine v2 H locs ls hP hD hS hl hw
      refine lv_iinc (v := (v2 + (-1))) (lv' := [(2, .int (v2 + (-1))), (0, .ref (ad 0))]) hx hb dX3_isTooLong_196 hl (k := 1) rfl (congrArg (fun z => v2 + z) (by decide : Int32.ofInt (-1) = (-1))) (by decide) rfl (fun ls hl => ?_)
      refine lv_goto (tgt := 64) hx hb dX3_isTooLong_199 (by decide) ?_
      exact hk64 f_code a_ragged a_nextLine (v2 + (-1)) _ _ _ hP hD hS (lv_sub hl [1, 0] rfl) hw
  have hL190 : ∀ (k64 : Int32 → (Nat → Int32) → (Nat → Int32) → Int32 → Prop) (hk64 : ∀ (f_code : Int32) (a_ragged : (Nat → Int32)) (a_nextLine : (Nat → Int32)) (v2 : Int32) (H : Heap) (locs : List Loc) (ls : Array Slot), va_P D vwCl (mdl ad dA f_isSaved f_changes f_code f_length f_fault f_signMany f_at f_place a_g a_kept a_saved a_input a_signs a_ways a_needs a_walk a_one a_several a_ragged a_nextLine) H → va_D A (mdl ad dA f_isSaved f_changes f_code f_length f_fault f_signMany f_at f_place a_g a_kept a_saved a_input a_signs a_ways a_needs a_walk a_one a_several a_ragged a_nextLine) → va_S A s.heap H locs → lv_has ls 7 [(0, .ref (ad 0)), (2, .int v2)] → k64 f_code a_ragged a_nextLine v2 → W p l e (headSpec (ws_ yX3_isTooLong cX3_isTooLong 7 (some .boolean)) rm_X3_isTooLong).room s m ([.ref (ad 0), .int p0] : List Value).toArray below meth c H locs 0 0 (MQ below (va_Qi (fun (r : Int32) (u : Int32 × (Nat → Int32) × (Nat → Int32)) => post r u.1 u.2.1 u.2.2) (fun (u : Int32 × (Nat → Int32) × (Nat → Int32)) t => wrQ D dA A (mdl ad dA f_isSaved f_changes u.1 f_length f_fault f_signMany f_at f_place a_g a_kept a_saved a_input a_signs a_ways a_needs a_walk a_one a_several u.2.1 u.2.2) t) A) ([.ref (ad 0), .int p0] : List Value).toArray s 0 0 A) (F0 m 64 ls [])) (k83 : Int32 → (Nat → Int32) → (Nat → Int32) → Int32 → Int32 → Int32 → Prop) (hk83 : ∀ (f_code : Int32) (a_ragged : (Nat → Int32)) (a_nextLine : (Nat → Int32)) (v2 : Int32) (v3 : Int32) (v4 : Int32) (H : Heap) (locs : List Loc) (ls : Array Slot), va_P D vwCl (mdl ad dA f_isSaved f_changes f_code f_length f_fault f_signMany f_at f_place a_g a_kept a_saved a_input a_signs a_ways a_needs a_walk a_one a_several a_ragged a_nextLine) H → va_D A (mdl ad dA f_isSaved f_changes f_code f_length f_fault f_signMany f_at f_place a_g a_kept a_saved a_input a_signs a_ways a_needs a_walk a_one a_several a_ragged a_nextLine) → va_S A s.heap H locs → lv_has ls 7 [(0, .ref (ad 0)), (2, .int v2), (3, .int v3), (4, .int v4)] → k83 f_code a_ragged a_nextLine v2 v3 v4 → W p l e (headSpec (ws_ yX3_isTooLong cX3_isTooLong 7 (some .boolean)) rm_X3_isTooLong).room s m ([.ref (ad 0), .int p0] : List Value).toArray below meth c H locs 0 0 (MQ below (va_Qi (fun (r : Int32) (u : Int32 × (Nat → Int32) × (Nat → Int32)) => post r u.1 u.2.1 u.2.2) (fun (u : Int32 × (Nat → Int32) × (Nat → Int32)) t => wrQ D dA A (mdl ad dA f_isSaved f_changes u.1 f_length f_fault f_signMany f_at f_place a_g a_kept a_saved a_input a_signs a_ways a_needs a_walk a_one a_several u.2.1 u.2.2) t) A) ([.ref (ad 0), .int p0] : List Value).toArray s 0 0 A) (F0 m 83 ls [])) (f_code : Int32) (a_ragged : (Nat → Int32)) (a_nextLine : (Nat → Int32)) (v2 : Int32) (v3 : Int32) (v4 : Int32) (H : Heap) (locs : List Loc) (ls : Array Slot), va_P D vwCl (mdl ad dA f_isSaved f_changes f_code f_length f_fault f_signMany f_at f_place a_g a_kept a_saved a_input a_signs a_ways a_needs a_walk a_one a_several a_ragged a_nextLine) H → va_D A (mdl ad dA f_isSaved f_changes f_code f_length f_fault f_signMany f_at f_place a_g a_kept a_saved a_input a_signs a_ways a_needs a_walk a_one a_several a_ragged a_nextLine) → va_S A s.heap H locs → lv_has ls 7 [(0, .ref (ad 0)), (2, .int v2), (3, .int v3), (4, .int v4)] → (w_X3_isTooLong_190 post a_g k64 k83) f_code a_ragged a_nextLine v2 v3 v4 → W p l e (headSpec (ws_ yX3_isTooLong cX3_isTooLong 7 (some .boolean)) rm_X3_isTooLong).room s m ([.ref (ad 0), .int p0] : List Value).toArray below meth c H locs 0 0 (MQ below (va_Qi (fun (r : Int32) (u : Int32 × (Nat → Int32) × (Nat → Int32)) => post r u.1 u.2.1 u.2.2) (fun (u : Int32 × (Nat → Int32) × (Nat → Int32)) t => wrQ D dA A (mdl ad dA f_isSaved f_changes u.1 f_length f_fault f_signMany f_at f_place a_g a_kept a_saved a_input a_signs a_ways a_needs a_walk a_one a_several u.2.1 u.2.2) t) A) ([.ref (ad 0), .int p0] : List Value).toArray s 0 0 A) (F0 m 190 ls []) := by
      intro k64 hk64 k83 hk83 f_code a_ragged a_nextLine v2 v3 v4 H locs ls hP hD hS hl hw
      refine lv_iinc (v := (v4 + (nI 1))) (lv' := [(4, .int (v4 + (nI 1))), (0, .ref (ad 0)), (2, .int v2), (3, .int v3)]) hx hb dX3_isTooLong_190 hl (k := 3) rfl (congrArg (fun z => v4 + z) (by decide : Int32.ofInt (1) = (nI 1))) (by decide) rfl (fun ls hl => ?_)
      refine lv_goto (tgt := 83) hx hb dX3_isTooLong_193 (by decide) ?_
      exact hk83 f_code a_ragged a_nextLine v2 v3 (v4 + (nI 1)) _ _ _ hP hD hS (lv_sub hl [1, 2, 3, 0] rfl) hw
  have hL158 : ∀ (k64 : Int32 → (Nat → Int32) → (Nat → Int32) → Int32 → Prop) (hk64 : ∀ (f_code : Int32) (a_ragged : (Nat → Int32)) (a_nextLine : (Nat → Int32)) (v2 : Int32) (H : Heap) (locs : List Loc) (ls : Array Slot), va_P D vwCl (mdl ad dA f_isSaved f_changes f_code f_length f_fault f_signMany f_at f_place a_g a_kept a_saved a_input a_signs a_ways a_needs a_walk a_one a_several a_ragged a_nextLine) H → va_D A (mdl ad dA f_isSaved f_changes f_code f_length f_fault f_signMany f_at f_place a_g a_kept a_saved a_input a_signs a_ways a_needs a_walk a_one a_several a_ragged a_nextLine) → va_S A s.heap H locs → lv_has ls 7 [(0, .ref (ad 0)), (2, .int v2)] → k64 f_code a_ragged a_nextLine v2 → W p l e (headSpec (ws_ yX3_isTooLong cX3_isTooLong 7 (some .boolean)) rm_X3_isTooLong).room s m ([.ref (ad 0), .int p0] : List Value).toArray below meth c H locs 0 0 (MQ below (va_Qi (fun (r : Int32) (u : Int32 × (Nat → Int32) × (Nat → Int32)) => post r u.1 u.2.1 u.2.2) (fun (u : Int32 × (Nat → Int32) × (Nat → Int32)) t => wrQ D dA A (mdl ad dA f_isSaved f_changes u.1 f_length f_fault f_signMany f_at f_place a_g a_kept a_saved a_input a_signs a_ways a_needs a_walk a_one a_several u.2.1 u.2.2) t) A) ([.ref (ad 0), .int p0] : List Value).toArray s 0 0 A) (F0 m 64 ls [])) (k83 : Int32 → (Nat → Int32) → (Nat → Int32) → Int32 → Int32 → Int32 → Prop) (hk83 : ∀ (f_code : Int32) (a_ragged : (Nat → Int32)) (a_nextLine : (Nat → Int32)) (v2 : Int32) (v3 : Int32) (v4 : Int32) (H : Heap) (locs : List Loc) (ls : Array Slot), va_P D vwCl (mdl ad dA f_isSaved f_changes f_code f_length f_fault f_signMany f_at f_place a_g a_kept a_saved a_input a_signs a_ways a_needs a_walk a_one a_several a_ragged a_nextLine) H → va_D A (mdl ad dA f_isSaved f_changes f_code f_length f_fault f_signMany f_at f_place a_g a_kept a_saved a_input a_signs a_ways a_needs a_walk a_one a_several a_ragged a_nextLine) → va_S A s.heap H locs → lv_has ls 7 [(0, .ref (ad 0)), (2, .int v2), (3, .int v3), (4, .int v4)] → k83 f_code a_ragged a_nextLine v2 v3 v4 → W p l e (headSpec (ws_ yX3_isTooLong cX3_isTooLong 7 (some .boolean)) rm_X3_isTooLong).room s m ([.ref (ad 0), .int p0] : List Value).toArray below meth c H locs 0 0 (MQ below (va_Qi (fun (r : Int32) (u : Int32 × (Nat → Int32) × (Nat → Int32)) => post r u.1 u.2.1 u.2.2) (fun (u : Int32 × (Nat → Int32) × (Nat → Int32)) t => wrQ D dA A (mdl ad dA f_isSaved f_changes u.1 f_length f_fault f_signMany f_at f_place a_g a_kept a_saved a_input a_signs a_ways a_needs a_walk a_one a_several u.2.1 u.2.2) t) A) ([.ref (ad 0), .int p0] : List Value).toArray s 0 0 A) (F0 m 83 ls [])) (f_code : Int32) (a_ragged : (Nat → Int32)) (a_nextLine : (Nat → Int32)) (v2 : Int32) (v3 : Int32) (v4 : Int32) (s0 : Int32) (H : Heap) (locs : List Loc) (ls : Array Slot), va_P D vwCl (mdl ad dA f_isSaved f_changes f_code f_length f_fault f_signMany f_at f_place a_g a_kept a_saved a_input a_signs a_ways a_needs a_walk a_one a_several a_ragged a_nextLine) H → va_D A (mdl ad dA f_isSaved f_changes f_code f_length f_fault f_signMany f_at f_place a_g a_kept a_saved a_input a_signs a_ways a_needs a_walk a_one a_several a_ragged a_nextLine) → va_S A s.heap H locs → lv_has ls 7 [(0, .ref (ad 0)), (2, .int v2), (3, .int v3), (4, .int v4)] → (w_X3_isTooLong_158 post a_g k64 k83) f_code a_ragged a_nextLine v2 v3 v4 s0 → W p l e (headSpec (ws_ yX3_isTooLong cX3_isTooLong 7 (some .boolean)) rm_X3_isTooLong).room s m ([.ref (ad 0), .int p0] : List Value).toArray below meth c H locs 0 0 (MQ below (va_Qi (fun (r : Int32) (u : Int32 × (Nat → Int32) × (Nat → Int32)) => post r u.1 u.2.1 u.2.2) (fun (u : Int32 × (Nat → Int32) × (Nat → Int32)) t => wrQ D dA A (mdl ad dA f_isSaved f_changes u.1 f_length f_fault f_signMany f_at f_place a_g a_kept a_saved a_input a_signs a_ways a_needs a_walk a_one a_several u.2.1 u.2.2) t) A) ([.ref (ad 0), .int p0] : List Value).toArray s 0 0 A) (F0 m 158 ls [.int s0]) := by
      intro k64 hk64 k83 hk83 f_code a_ragged a_nextLine v2 v3 v4 s0 H locs ls hP hD hS hl hw
      refine lv_istore (lv' := [(6, .int s0), (0, .ref (ad 0)), (2, .int v2), (3, .int v3), (4, .int v4)]) hx hb dX3_isTooLong_158 hl (by decide) rfl (fun ls hl => ?_)
      refine lv_iload hx hb dX3_isTooLong_160 (lv_at hl 0 rfl) ?_
      refine lv_aload_n hx hb dX3_isTooLong_162 rfl (lv_at hl 1 rfl) ?_
      refine va_get (D := D) (ci := 2) (v := .ref (ad 11)) (C := RX3) (T := TX3) (N := 20) hx hb hts in_X3 hown hK hP 0 rfl rfl 18 (by decide) (hts _ q1759) (fun _ h9 => h9) rfl dX3_isTooLong_163 ?_
      refine lv_iload_n hx hb dX3_isTooLong_166 rfl (lv_at hl 2 rfl) ?_
      obtain ⟨h19, hw⟩ := hw
      refine k_iald (k := v2.toNatClampNeg) hx hb hK hP 11 0 rfl rfl rfl h19 dX3_isTooLong_167 ?_
      refine lv_icmp_le (tgt := 174) hx hb dX3_isTooLong_168 (by decide) (fun c20 => ?_) (fun c20 => ?_)
      · have hw := hw.1 c20
        refine lv_aload_n hx hb dX3_isTooLong_174 rfl (lv_at hl 1 rfl) ?_
        refine va_get (D := D) (ci := 2) (v := .ref (ad 11)) (C := RX3) (T := TX3) (N := 20) hx hb hts in_X3 hown hK hP 0 rfl rfl 18 (by decide) (hts _ q1759) (fun _ h9 => h9) rfl dX3_isTooLong_175 ?_
        refine lv_iload_n hx hb dX3_isTooLong_178 rfl (lv_at hl 2 rfl) ?_
        refine lv_iload hx hb dX3_isTooLong_179 (lv_at hl 0 rfl) ?_
        obtain ⟨h21, hw⟩ := hw
        refine k_iast (k := v2.toNatClampNeg) hx hb hK hP hD hS 11 0 rfl rfl rfl h21 dX3_isTooLong_181 (fun H locs hP hD hS => ?_)
        have hP : va_P D vwCl (mdl ad dA f_isSaved f_changes f_code f_length f_fault f_signMany f_at f_place a_g a_kept a_saved a_input a_signs a_ways a_needs a_walk a_one a_several (upd a_ragged v2.toNatClampNeg s0) a_nextLine) H := hP
        have hD : va_D A (mdl ad dA f_isSaved f_changes f_code f_length f_fault f_signMany f_at f_place a_g a_kept a_saved a_input a_signs a_ways a_needs a_walk a_one a_several (upd a_ragged v2.toNatClampNeg s0) a_nextLine) := hD
        refine lv_aload_n hx hb dX3_isTooLong_182 rfl (lv_at hl 1 rfl) ?_
        refine va_get (D := D) (ci := 2) (v := .ref (ad 12)) (C := RX3) (T := TX3) (N := 20) hx hb hts in_X3 hown hK hP 0 rfl rfl 19 (by decide) (hts _ q1760) (fun _ h9 => h9) rfl dX3_isTooLong_183 ?_
        refine lv_iload_n hx hb dX3_isTooLong_186 rfl (lv_at hl 2 rfl) ?_
        refine lv_iload hx hb dX3_isTooLong_187 (lv_at hl 4 rfl) ?_
        obtain ⟨h22, hw⟩ := hw
        refine k_iast (k := v2.toNatClampNeg) hx hb hK hP hD hS 12 0 rfl rfl rfl h22 dX3_isTooLong_189 (fun H locs hP hD hS => ?_)
        have hP : va_P D vwCl (mdl ad dA f_isSaved f_changes f_code f_length f_fault f_signMany f_at f_place a_g a_kept a_saved a_input a_signs a_ways a_needs a_walk a_one a_several (upd a_ragged v2.toNatClampNeg s0) (upd a_nextLine v2.toNatClampNeg v4)) H := hP
        have hD : va_D A (mdl ad dA f_isSaved f_changes f_code f_length f_fault f_signMany f_at f_place a_g a_kept a_saved a_input a_signs a_ways a_needs a_walk a_one a_several (upd a_ragged v2.toNatClampNeg s0) (upd a_nextLine v2.toNatClampNeg v4)) := hD
        exact hL190 k64 hk64 k83 hk83 f_code (upd a_ragged v2.toNatClampNeg s0) (upd a_nextLine v2.toNatClampNeg v4) v2 v3 v4 _ _ _ hP hD hS (lv_sub hl [1, 2, 3, 4] rfl) hw
      · have hw := hw.2 c20
        refine lv_goto (tgt := 190) hx hb dX3_isTooLong_171 (by decide) ?_
        exact hL190 k64 hk64 k83 hk83 f_code a_ragged a_nextLine v2 v3 v4 _ _ _ hP hD hS (lv_sub hl [1, 2, 3, 4] rfl) hw
  have hL83 : ∀ (k64 : Int32 → (Nat → Int32) → (Nat → Int32) → Int32 → Prop) (hk64 : ∀ (f_code : Int32) (a_ragged : (Nat → Int32)) (a_nextLine : (Nat → Int32)) (v2 : Int32) (H : Heap) (locs : List Loc) (ls : Array Slot), va_P D vwCl (mdl ad dA f_isSaved f_changes f_code f_length f_fault f_signMany f_at f_place a_g a_kept a_saved a_input a_signs a_ways a_needs a_walk a_one a_several a_ragged a_nextLine) H → va_D A (mdl ad dA f_isSaved f_changes f_code f_length f_fault f_signMany f_at f_place a_g a_kept a_saved a_input a_signs a_ways a_needs a_walk a_one a_several a_ragged a_nextLine) → va_S A s.heap H locs → lv_has ls 7 [(0, .ref (ad 0)), (2, .int v2)] → k64 f_code a_ragged a_nextLine v2 → W p l e (headSpec (ws_ yX3_isTooLong cX3_isTooLong 7 (some .boolean)) rm_X3_isTooLong).room s m ([.ref (ad 0), .int p0] : List Value).toArray below meth c H locs 0 0 (MQ below (va_Qi (fun (r : Int32) (u : Int32 × (Nat → Int32) × (Nat → Int32)) => post r u.1 u.2.1 u.2.2) (fun (u : Int32 × (Nat → Int32) × (Nat → Int32)) t => wrQ D dA A (mdl ad dA f_isSaved f_changes u.1 f_length f_fault f_signMany f_at f_place a_g a_kept a_saved a_input a_signs a_ways a_needs a_walk a_one a_several u.2.1 u.2.2) t) A) ([.ref (ad 0), .int p0] : List Value).toArray s 0 0 A) (F0 m 64 ls [])) (n : Nat) (f_code : Int32) (a_ragged : (Nat → Int32)) (a_nextLine : (Nat → Int32)) (v2 : Int32) (v3 : Int32) (v4 : Int32) (H : Heap) (locs : List Loc) (ls : Array Slot), va_P D vwCl (mdl ad dA f_isSaved f_changes f_code f_length f_fault f_signMany f_at f_place a_g a_kept a_saved a_input a_signs a_ways a_needs a_walk a_one a_several a_ragged a_nextLine) H → va_D A (mdl ad dA f_isSaved f_changes f_code f_length f_fault f_signMany f_at f_place a_g a_kept a_saved a_input a_signs a_ways a_needs a_walk a_one a_several a_ragged a_nextLine) → va_S A s.heap H locs → lv_has ls 7 [(0, .ref (ad 0)), (2, .int v2), (3, .int v3), (4, .int v4)] → lpF (fun _ _ _ _ _ _ => False) (w_X3_isTooLong_83 post a_g k64) n f_code a_ragged a_nextLine v2 v3 v4 → W p l e (headSpec (ws_ yX3_isTooLong cX3_isTooLong 7 (some .boolean)) rm_X3_isTooLong).room s m ([.ref (ad 0), .int p0] : List Value).toArray below meth c H locs 0 0 (MQ below (va_Qi (fun (r : Int32) (u : Int32 × (Nat → Int32) × (Nat → Int32)) => post r u.1 u.2.1 u.2.2) (fun (u : Int32 × (Nat → Int32) × (Nat → Int32)) t => wrQ D dA A (mdl ad dA f_isSaved f_changes u.1 f_length f_fault f_signMany f_at f_place a_g a_kept a_saved a_input a_signs a_ways a_needs a_walk a_one a_several u.2.1 u.2.2) t) A) ([.ref (ad 0), .int p0] : List Value).toArray s 0 0 A) (F0 m 83 ls []) := by
    intro k64 hk64 n
    induction n with
    | zero => intro f_code a_ragged a_nextLine v2 v3 v4 H locs ls hP hD hS hl hw; exact absurd hw id
    | succ n hk83 =>
      intro f_code a_ragged a_nextLine v2 v3 v4 H locs ls hP hD hS hl hw
      generalize hk9 : lpF (fun _ _ _ _ _ _ => False) (w_X3_isTooLong_83 post a_g k64) n = k83 at hk83
      have hw : (w_X3_isTooLong_83 post a_g k64) k83 f_code a_ragged a_nextLine v2 v3 v4 := hk9 ▸ hw
      refine lv_iload hx hb dX3_isTooLong_83 (lv_at hl 3 rfl) ?_
      refine lv_aload_n hx hb dX3_isTooLong_85 rfl (lv_at hl 0 rfl) ?_
      refine va_get (D := D) (ci := 2) (v := .ref (ad 1)) (C := RX3) (T := TX3) (N := 20) hx hb hts in_X3 hown hK hP 0 rfl rfl 0 (by decide) (hts _ q1741) (fun _ h9 => h9) rfl dX3_isTooLong_86 ?_
      refine lv_iconst (v := (nI 1)) hx hb dX3_isTooLong_89 (by decide) ?_
      refine k_iald (k := 1) hx hb hK hP 1 0 rfl rfl (clK 1 (by decide)) (inK (by decide) (by decide)) dX3_isTooLong_90 ?_
      refine lv_icmp_gt (tgt := 196) hx hb dX3_isTooLong_91 (by decide) (fun c23 => ?_) (fun c23 => ?_)
      · have hw := hw.1 c23
        exact hL196 k64 hk64 f_code a_ragged a_nextLine v2 _ _ _ hP hD hS (lv_sub hl [0, 1] rfl) hw
      · have hw := hw.2 c23
        refine lv_iload_n hx hb dX3_isTooLong_94 rfl (lv_at hl 2 rfl) ?_
        refine lv_aload_n hx hb dX3_isTooLong_95 rfl (lv_at hl 0 rfl) ?_
        refine lv_iload hx hb dX3_isTooLong_96 (lv_at hl 3 rfl) ?_
        refine lv_iconst (v := (nI 1)) hx hb dX3_isTooLong_98 (by decide) ?_
        refine lv_isub hx hb dX3_isTooLong_99 ?_
        refine k_ri (k_rV (As := [.int (v4 - (nI 1))]) (rest := [.int v3]) hSx (met_X3_sizeOf l D dA ad f_isSaved f_changes f_code f_length f_fault f_signMany f_at f_place a_g a_kept a_saved a_input a_signs a_ways a_needs a_walk a_one a_several a_ragged a_nextLine (v4 - (nI 1)) _ hw) gX3_179 ⟨rfl, hd_X3_sizeOf⟩ ⟨Nat.le_of_ble_eq_true rfl, Nat.le_of_ble_eq_true rfl⟩ rfl rfl hP hK [0, 1, 2, 3, 4, 5, 6, 7, 8, 9, 10, 11, 12] rfl 0 rfl rfl rfl rfl hl.1 (Nat.le_of_ble_eq_true rfl) rfl dX3_isTooLong_100 ⟨Nat.le_refl 0, Nat.le_refl 0⟩) (fun r24 hw => ?_)
        refine lv_iconst (v := (nI 1)) hx hb dX3_isTooLong_103 (by decide) ?_
        refine lv_iadd hx hb dX3_isTooLong_104 ?_
        refine lv_iadd hx hb dX3_isTooLong_105 ?_
        refine lv_istore_n (lv' := [(3, .int (v3 + (r24 + (nI 1)))), (0, .ref (ad 0)), (2, .int v2), (4, .int v4)]) hx hb dX3_isTooLong_106 rfl hl (by decide) rfl (fun ls hl => ?_)
        refine lv_iload_n hx hb dX3_isTooLong_107 rfl (lv_at hl 0 rfl) ?_
        refine lv_aload_n hx hb dX3_isTooLong_108 rfl (lv_at hl 1 rfl) ?_
        refine va_get (D := D) (ci := 2) (v := .ref (ad 1)) (C := RX3) (T := TX3) (N := 20) hx hb hts in_X3 hown hK hP 0 rfl rfl 0 (by decide) (hts _ q1741) (fun _ h9 => h9) rfl dX3_isTooLong_109 ?_
        refine lv_iconst (v := (nI 2)) hx hb dX3_isTooLong_112 (by decide) ?_
        refine k_iald (k := 2) hx hb hK hP 1 0 rfl rfl (clK 2 (by decide)) (inK (by decide) (by decide)) dX3_isTooLong_113 ?_
        refine lv_icmp_le (tgt := 120) hx hb dX3_isTooLong_114 (by decide) (fun c25 => ?_) (fun c25 => ?_)
        · have hw := hw.1 c25
          refine lv_aload_n hx hb dX3_isTooLong_120 rfl (lv_at hl 1 rfl) ?_
          refine va_get (D := D) (ci := 2) (v := .ref (ad 1)) (C := RX3) (T := TX3) (N := 20) hx hb hts in_X3 hown hK hP 0 rfl rfl 0 (by decide) (hts _ q1741) (fun _ h9 => h9) rfl dX3_isTooLong_121 ?_
          refine lv_iconst (v := (nI 2)) hx hb dX3_isTooLong_124 (by decide) ?_
          refine k_iald (k := 2) hx hb hK hP 1 0 rfl rfl (clK 2 (by decide)) (inK (by decide) (by decide)) dX3_isTooLong_125 ?_
          refine lv_iload_n hx hb dX3_isTooLong_126 rfl (lv_at hl 0 rfl) ?_
          refine lv_isub hx hb dX3_isTooLong_127 ?_
          refine lv_istore (lv' := [(5, .int ((a_g 2) - (v3 + (r24 + (nI 1))))), (3, .int (v3 + (r24 + (nI 1)))), (0, .ref (ad 0)), (2, .int v2), (4, .int v4)]) hx hb dX3_isTooLong_128 hl (by decide) rfl (fun ls hl => ?_)
          refine lv_iload hx hb dX3_isTooLong_130 (lv_at hl 4 rfl) ?_
          refine lv_aload_n hx hb dX3_isTooLong_132 rfl (lv_at hl 2 rfl) ?_
          refine va_get (D := D) (ci := 2) (v := .ref (ad 1)) (C := RX3) (T := TX3) (N := 20) hx hb hts in_X3 hown hK hP 0 rfl rfl 0 (by decide) (hts _ q1741) (fun _ h9 => h9) rfl dX3_isTooLong_133 ?_
          refine lv_iconst (v := (nI 1)) hx hb dX3_isTooLong_136 (by decide) ?_
          refine k_iald (k := 1) hx hb hK hP 1 0 rfl rfl (clK 1 (by decide)) (inK (by decide) (by decide)) dX3_isTooLong_137 ?_
          refine lv_icmp_ne (tgt := 145) hx hb dX3_isTooLong_138 (by decide) (fun c26 => ?_) (fun c26 => ?_)
          · have hw := hw.2 c26
            refine lv_iload hx hb dX3_isTooLong_145 (lv_at hl 0 rfl) ?_
            refine lv_iload hx hb dX3_isTooLong_147 (lv_at hl 0 rfl) ?_
            refine lv_imul hx hb dX3_isTooLong_149 ?_
            refine lv_aload_n hx hb dX3_isTooLong_150 rfl (lv_at hl 2 rfl) ?_
            refine va_get (D := D) (ci := 2) (v := .ref (ad 11)) (C := RX3) (T := TX3) (N := 20) hx hb hts in_X3 hown hK hP 0 rfl rfl 18 (by decide) (hts _ q1759) (fun _ h9 => h9) rfl dX3_isTooLong_151 ?_
            refine lv_iload hx hb dX3_isTooLong_154 (lv_at hl 4 rfl) ?_
            obtain ⟨h27, hw⟩ := hw
            refine k_iald (k := v4.toNatClampNeg) hx hb hK hP 11 0 rfl rfl rfl h27 dX3_isTooLong_156 ?_
            refine lv_iadd hx hb dX3_isTooLong_157 ?_
            exact hL158 k64 hk64 k83 hk83 f_code a_ragged a_nextLine v2 (v3 + (r24 + (nI 1))) v4 ((((a_g 2) - (v3 + (r24 + (nI 1)))) * ((a_g 2) - (v3 + (r24 + (nI 1))))) + (a_ragged v4.toNatClampNeg)) _ _ _ hP hD hS (lv_sub hl [2, 3, 1, 4] rfl) hw
          · have hw := hw.1 c26
            refine lv_iconst (v := (nI 0)) hx hb dX3_isTooLong_141 (by decide) ?_
            refine lv_goto (tgt := 158) hx hb dX3_isTooLong_142 (by decide) ?_
            exact hL158 k64 hk64 k83 hk83 f_code a_ragged a_nextLine v2 (v3 + (r24 + (nI 1))) v4 (nI 0) _ _ _ hP hD hS (lv_sub hl [2, 3, 1, 4] rfl) hw
        · have hw := hw.2 c25
          refine lv_goto (tgt := 196) hx hb dX3_isTooLong_117 (by decide) ?_
          exact hL196 k64 hk64 f_code a_ragged a_nextLine v2 _ _ _ hP hD hS (lv_sub hl [1, 2] rfl) hw
  have hL64 : ∀  (n : Nat) (f_code : Int32) (a_ragged : (Nat → Int32)) (a_nextLine : (Nat → Int32)) (v2 : Int32) (H : Heap) (locs : List Loc) (ls : Array Slot), va_P D vwCl (mdl ad dA f_isSaved f_changes f_code f_length f_fault f_signMany f_at f_place a_g a_kept a_saved a_input a_signs a_ways a_needs a_walk a_one a_several a_ragged a_nextLine) H → va_D A (mdl ad dA f_isSaved f_changes f_code f_length f_fault f_signMany f_at f_place a_g a_kept a_saved a_input a_signs a_ways a_needs a_walk a_one a_several a_ragged a_nextLine) → va_S A s.heap H locs → lv_has ls 7 [(0, .ref (ad 0)), (2, .int v2)] → lpF (fun _ _ _ _ => False) (w_X3_isTooLong_64 post a_g) n f_code a_ragged a_nextLine v2 → W p l e (headSpec (ws_ yX3_isTooLong cX3_isTooLong 7 (some .boolean)) rm_X3_isTooLong).room s m ([.ref (ad 0), .int p0] : List Value).toArray below meth c H locs 0 0 (MQ below (va_Qi (fun (r : Int32) (u : Int32 × (Nat → Int32) × (Nat → Int32)) => post r u.1 u.2.1 u.2.2) (fun (u : Int32 × (Nat → Int32) × (Nat → Int32)) t => wrQ D dA A (mdl ad dA f_isSaved f_changes u.1 f_length f_fault f_signMany f_at f_place a_g a_kept a_saved a_input a_signs a_ways a_needs a_walk a_one a_several u.2.1 u.2.2) t) A) ([.ref (ad 0), .int p0] : List Value).toArray s 0 0 A) (F0 m 64 ls []) := by
    intro  n
    induction n with
    | zero => intro f_code a_ragged a_nextLine v2 H locs ls hP hD hS hl hw; exact absurd hw id
    | succ n hk64 =>
      intro f_code a_ragged a_nextLine v2 H locs ls hP hD hS hl hw
      generalize hk9 : lpF (fun _ _ _ _ => False) (w_X3_isTooLong_64 post a_g) n = k64 at hk64
      have hw : (w_X3_isTooLong_64 post a_g) k64 f_code a_ragged a_nextLine v2 := hk9 ▸ hw
      refine lv_iload_n hx hb dX3_isTooLong_64 rfl (lv_at hl 1 rfl) ?_
      refine lv_if_lt (tgt := 202) hx hb dX3_isTooLong_65 (by decide) (fun c28 => ?_) (fun c28 => ?_)
      · have hw := hw.1 c28
        refine lv_iconst (v := (nI 0)) hx hb dX3_isTooLong_202 (by decide) ?_
        exact W.zret (v := (nI 0)) hx hb hr rfl (fun t ht hW => ⟨⟨(nI 0), (f_code, a_ragged, a_nextLine), rfl, hw, by rw [ht]; exact hP, va_K.moved hW.alike hK, hD⟩, hS.F ht⟩) hS.2.2 dX3_isTooLong_203
      · have hw := hw.2 c28
        refine lv_iconst (v := (-1)) hx hb dX3_isTooLong_68 (by decide) ?_
        refine lv_istore_n (lv' := [(3, .int (-1)), (0, .ref (ad 0)), (2, .int v2)]) hx hb dX3_isTooLong_69 rfl hl (by decide) rfl (fun ls hl => ?_)
        refine lv_aload_n hx hb dX3_isTooLong_70 rfl (lv_at hl 1 rfl) ?_
        refine va_get (D := D) (ci := 2) (v := .ref (ad 11)) (C := RX3) (T := TX3) (N := 20) hx hb hts in_X3 hown hK hP 0 rfl rfl 18 (by decide) (hts _ q1759) (fun _ h9 => h9) rfl dX3_isTooLong_71 ?_
        refine lv_iload_n hx hb dX3_isTooLong_74 rfl (lv_at hl 2 rfl) ?_
        refine lv_ldc (v := (nI 100000000)) hx hb hown (hts _ q2089) dX3_isTooLong_75 ?_
        obtain ⟨h29, hw⟩ := hw
        refine k_iast (k := v2.toNatClampNeg) hx hb hK hP hD hS 11 0 rfl rfl rfl h29 dX3_isTooLong_77 (fun H locs hP hD hS => ?_)
        have hP : va_P D vwCl (mdl ad dA f_isSaved f_changes f_code f_length f_fault f_signMany f_at f_place a_g a_kept a_saved a_input a_signs a_ways a_needs a_walk a_one a_several (upd a_ragged v2.toNatClampNeg (nI 100000000)) a_nextLine) H := hP
        have hD : va_D A (mdl ad dA f_isSaved f_changes f_code f_length f_fault f_signMany f_at f_place a_g a_kept a_saved a_input a_signs a_ways a_needs a_walk a_one a_several (upd a_ragged v2.toNatClampNeg (nI 100000000)) a_nextLine) := hD
        refine lv_iload_n hx hb dX3_isTooLong_78 rfl (lv_at hl 2 rfl) ?_
        refine lv_iconst (v := (nI 1)) hx hb dX3_isTooLong_79 (by decide) ?_
        refine lv_iadd hx hb dX3_isTooLong_80 ?_
        refine lv_istore (lv' := [(4, .int (v2 + (nI 1))), (3, .int (-1)), (0, .ref (ad 0)), (2, .int v2)]) hx hb dX3_isTooLong_81 hl (by decide) rfl (fun ls hl => ?_)
        obtain ⟨n, hw⟩ := hw
        exact hL83 k64 hk64 n f_code (upd a_ragged v2.toNatClampNeg (nI 100000000)) a_nextLine v2 (-1) (v2 + (nI 1)) _ _ _ hP hD hS (lv_sub hl [2, 3, 1, 0] rfl) hw
  have hL2 : ∀  (n : Nat) (f_code : Int32) (a_ragged : (Nat → Int32)) (a_nextLine : (Nat → Int32)) (v1 : Int32) (v2 : Int32) (H : Heap) (locs : List Loc) (ls : Array Slot), va_P D vwCl (mdl ad dA f_isSaved f_changes f_code f_length f_fault f_signMany f_at f_place a_g a_kept a_saved a_input a_signs a_ways a_needs a_walk a_one a_several a_ragged a_nextLine) H → va_D A (mdl ad dA f_isSaved f_changes f_code f_length f_fault f_signMany f_at f_place a_g a_kept a_saved a_input a_signs a_ways a_needs a_walk a_one a_several a_ragged a_nextLine) → va_S A s.heap H locs → lv_has ls 7 [(0, .ref (ad 0)), (1, .int v1), (2, .int v2)] → lpF (fun _ _ _ _ _ => False) (w_X3_isTooLong_2 post a_g) n f_code a_ragged a_nextLine v1 v2 → W p l e (headSpec (ws_ yX3_isTooLong cX3_isTooLong 7 (some .boolean)) rm_X3_isTooLong).room s m ([.ref (ad 0), .int p0] : List Value).toArray below meth c H locs 0 0 (MQ below (va_Qi (fun (r : Int32) (u : Int32 × (Nat → Int32) × (Nat → Int32)) => post r u.1 u.2.1 u.2.2) (fun (u : Int32 × (Nat → Int32) × (Nat → Int32)) t => wrQ D dA A (mdl ad dA f_isSaved f_changes u.1 f_length f_fault f_signMany f_at f_place a_g a_kept a_saved a_input a_signs a_ways a_needs a_walk a_one a_several u.2.1 u.2.2) t) A) ([.ref (ad 0), .int p0] : List Value).toArray s 0 0 A) (F0 m 2 ls []) := by
    intro  n
    induction n with
    | zero => intro f_code a_ragged a_nextLine v1 v2 H locs ls hP hD hS hl hw; exact absurd hw id
    | succ n hk2 =>
      intro f_code a_ragged a_nextLine v1 v2 H locs ls hP hD hS hl hw
      generalize hk9 : lpF (fun _ _ _ _ _ => False) (w_X3_isTooLong_2 post a_g) n = k2 at hk2
      have hw : (w_X3_isTooLong_2 post a_g) k2 f_code a_ragged a_nextLine v1 v2 := hk9 ▸ hw
      refine lv_iload_n hx hb dX3_isTooLong_2 rfl (lv_at hl 2 rfl) ?_
      refine lv_aload_n hx hb dX3_isTooLong_3 rfl (lv_at hl 0 rfl) ?_
      refine va_get (D := D) (ci := 2) (v := .ref (ad 1)) (C := RX3) (T := TX3) (N := 20) hx hb hts in_X3 hown hK hP 0 rfl rfl 0 (by decide) (hts _ q1741) (fun _ h9 => h9) rfl dX3_isTooLong_4 ?_
      refine lv_iconst (v := (nI 1)) hx hb dX3_isTooLong_7 (by decide) ?_
      refine k_iald (k := 1) hx hb hK hP 1 0 rfl rfl (clK 1 (by decide)) (inK (by decide) (by decide)) dX3_isTooLong_8 ?_
      refine lv_icmp_ge (tgt := 38) hx hb dX3_isTooLong_9 (by decide) (fun c30 => ?_) (fun c30 => ?_)
      · have hw := hw.1 c30
        refine lv_aload_n hx hb dX3_isTooLong_38 rfl (lv_at hl 0 rfl) ?_
        refine lv_iconst (v := (nI 0)) hx hb dX3_isTooLong_39 (by decide) ?_
        refine va_put (D := D) (ci := 2) (v := .int (nI 0)) (ty := .int) (C := RX3) (T := TX3) (N := 20) hx hb hts in_X3 tyX3 tyX3_ok nmX3 hown hK hP hD hS 0 rfl rfl 5 (by decide) (hts _ q1746) (fun _ h9 => h9) rfl (by decide +kernel) rfl rfl (Nat.le_of_ble_eq_true rfl) dX3_isTooLong_40 (fun H locs hP hD hS => ?_)
        have hP : va_P D vwCl (mdl ad dA f_isSaved f_changes (nI 0) f_length f_fault f_signMany f_at f_place a_g a_kept a_saved a_input a_signs a_ways a_needs a_walk a_one a_several a_ragged a_nextLine) H := hP
        have hD : va_D A (mdl ad dA f_isSaved f_changes (nI 0) f_length f_fault f_signMany f_at f_place a_g a_kept a_saved a_input a_signs a_ways a_needs a_walk a_one a_several a_ragged a_nextLine) := hD
        refine lv_aload_n hx hb dX3_isTooLong_43 rfl (lv_at hl 0 rfl) ?_
        refine va_get (D := D) (ci := 2) (v := .ref (ad 11)) (C := RX3) (T := TX3) (N := 20) hx hb hts in_X3 hown hK hP 0 rfl rfl 18 (by decide) (hts _ q1759) (fun _ h9 => h9) rfl dX3_isTooLong_44 ?_
        refine lv_aload_n hx hb dX3_isTooLong_47 rfl (lv_at hl 0 rfl) ?_
        refine va_get (D := D) (ci := 2) (v := .ref (ad 1)) (C := RX3) (T := TX3) (N := 20) hx hb hts in_X3 hown hK hP 0 rfl rfl 0 (by decide) (hts _ q1741) (fun _ h9 => h9) rfl dX3_isTooLong_48 ?_
        refine lv_iconst (v := (nI 1)) hx hb dX3_isTooLong_51 (by decide) ?_
        refine k_iald (k := 1) hx hb hK hP 1 0 rfl rfl (clK 1 (by decide)) (inK (by decide) (by decide)) dX3_isTooLong_52 ?_
        refine lv_iconst (v := (nI 0)) hx hb dX3_isTooLong_53 (by decide) ?_
        obtain ⟨h31, hw⟩ := hw
        refine k_iast (k := (a_g 1).toNatClampNeg) hx hb hK hP hD hS 11 0 rfl rfl rfl h31 dX3_isTooLong_54 (fun H locs hP hD hS => ?_)
        have hP : va_P D vwCl (mdl ad dA f_isSaved f_changes (nI 0) f_length f_fault f_signMany f_at f_place a_g a_kept a_saved a_input a_signs a_ways a_needs a_walk a_one a_several (upd a_ragged (a_g 1).toNatClampNeg (nI 0)) a_nextLine) H := hP
        have hD : va_D A (mdl ad dA f_isSaved f_changes (nI 0) f_length f_fault f_signMany f_at f_place a_g a_kept a_saved a_input a_signs a_ways a_needs a_walk a_one a_several (upd a_ragged (a_g 1).toNatClampNeg (nI 0)) a_nextLine) := hD
        refine lv_aload_n hx hb dX3_isTooLong_55 rfl (lv_at hl 0 rfl) ?_
        refine va_get (D := D) (ci := 2) (v := .ref (ad 1)) (C := RX3) (T := TX3) (N := 20) hx hb hts in_X3 hown hK hP 0 rfl rfl 0 (by decide) (hts _ q1741) (fun _ h9 => h9) rfl dX3_isTooLong_56 ?_
        refine lv_iconst (v := (nI 1)) hx hb dX3_isTooLong_59 (by decide) ?_
        refine k_iald (k := 1) hx hb hK hP 1 0 rfl rfl (clK 1 (by decide)) (inK (by decide) (by decide)) dX3_isTooLong_60 ?_
        refine lv_iconst (v := (nI 1)) hx hb dX3_isTooLong_61 (by decide) ?_
        refine lv_isub hx hb dX3_isTooLong_62 ?_
        refine lv_istore_n (lv' := [(2, .int ((a_g 1) - (nI 1))), (0, .ref (ad 0)), (1, .int v1)]) hx hb dX3_isTooLong_63 rfl hl (by decide) rfl (fun ls hl => ?_)
        obtain ⟨n, hw⟩ := hw
        exact hL64  n (nI 0) (upd a_ragged (a_g 1).toNatClampNeg (nI 0)) a_nextLine ((a_g 1) - (nI 1)) _ _ _ hP hD hS (lv_sub hl [1, 0] rfl) hw
      · have hw := hw.2 c30
        refine lv_aload_n hx hb dX3_isTooLong_12 rfl (lv_at hl 0 rfl) ?_
        refine lv_iload_n hx hb dX3_isTooLong_13 rfl (lv_at hl 2 rfl) ?_
        refine k_ri (k_rV (As := [.int v2]) (rest := []) hSx (met_X3_sizeOf l D dA ad f_isSaved f_changes f_code f_length f_fault f_signMany f_at f_place a_g a_kept a_saved a_input a_signs a_ways a_needs a_walk a_one a_several a_ragged a_nextLine v2 _ hw) gX3_179 ⟨rfl, hd_X3_sizeOf⟩ ⟨Nat.le_of_ble_eq_true rfl, Nat.le_of_ble_eq_true rfl⟩ rfl rfl hP hK [0, 1, 2, 3, 4, 5, 6, 7, 8, 9, 10, 11, 12] rfl 0 rfl rfl rfl rfl hl.1 (Nat.le_of_ble_eq_true rfl) rfl dX3_isTooLong_14 ⟨Nat.le_refl 0, Nat.le_refl 0⟩) (fun r32 hw => ?_)
        refine lv_aload_n hx hb dX3_isTooLong_17 rfl (lv_at hl 0 rfl) ?_
        refine va_get (D := D) (ci := 2) (v := .ref (ad 1)) (C := RX3) (T := TX3) (N := 20) hx hb hts in_X3 hown hK hP 0 rfl rfl 0 (by decide) (hts _ q1741) (fun _ h9 => h9) rfl dX3_isTooLong_18 ?_
        refine lv_iconst (v := (nI 2)) hx hb dX3_isTooLong_21 (by decide) ?_
        refine k_iald (k := 2) hx hb hK hP 1 0 rfl rfl (clK 2 (by decide)) (inK (by decide) (by decide)) dX3_isTooLong_22 ?_
        refine lv_icmp_le (tgt := 32) hx hb dX3_isTooLong_23 (by decide) (fun c33 => ?_) (fun c33 => ?_)
        · have hw := hw.1 c33
          refine lv_iinc (v := (v2 + (nI 1))) (lv' := [(2, .int (v2 + (nI 1))), (0, .ref (ad 0)), (1, .int v1)]) hx hb dX3_isTooLong_32 hl (k := 2) rfl (congrArg (fun z => v2 + z) (by decide : Int32.ofInt (1) = (nI 1))) (by decide) rfl (fun ls hl => ?_)
          refine lv_goto (tgt := 2) hx hb dX3_isTooLong_35 (by decide) ?_
          exact hk2 f_code a_ragged a_nextLine v1 (v2 + (nI 1)) _ _ _ hP hD hS (lv_sub hl [1, 2, 0] rfl) hw
        · have hw := hw.2 c33
          refine lv_aload_n hx hb dX3_isTooLong_26 rfl (lv_at hl 0 rfl) ?_
          refine lv_iload_n hx hb dX3_isTooLong_27 rfl (lv_at hl 1 rfl) ?_
          refine k_wi (wn := fun (u : Int32) => (mdl ad dA f_isSaved f_changes u f_length f_fault f_signMany f_at f_place a_g a_kept a_saved a_input a_signs a_ways a_needs a_walk a_one a_several a_ragged a_nextLine)) (wr := []) (k_wV (As := [.int v1]) (rest := []) hSx (met_X3_fails l D dA ad _ f_isSaved f_changes f_code f_length f_fault f_signMany f_at f_place a_g a_kept a_saved a_input a_signs a_ways a_needs a_walk a_one a_several a_ragged a_nextLine v1 _ hw) gX3_70 ⟨rfl, hd_X3_fails⟩ ⟨Nat.le_of_ble_eq_true rfl, Nat.le_of_ble_eq_true rfl⟩ rfl rfl hP hK hD [0, 1, 2, 3, 4, 5, 6, 7, 8, 9, 10, 11, 12] rfl (by decide) rfl 0 rfl rfl rfl rfl hl.1 (Nat.le_of_ble_eq_true rfl) rfl dX3_isTooLong_28 ⟨Nat.le_refl 0, Nat.le_refl 0⟩) hP hD hS hA [0, 1, 2, 3, 4, 5, 6, 7, 8, 9, 10, 11, 12] [] [0, 1, 2, 3, 4, 5, 6, 7, 8, 9, 10, 11, 12] rfl rfl (by decide) (by decide) (by decide) (fun _ => rfl) (fun _ => rfl) (fun r34 u H locs hw _ hP hD hS => ?_)
          obtain ⟨f_code_35, rfl⟩ : ∃ z, z = u := ⟨_, rfl⟩
          have hP : va_P D vwCl (mdl ad dA f_isSaved f_changes f_code_35 f_length f_fault f_signMany f_at f_place a_g a_kept a_saved a_input a_signs a_ways a_needs a_walk a_one a_several a_ragged a_nextLine) H := hP
          have hD : va_D A (mdl ad dA f_isSaved f_changes f_code_35 f_length f_fault f_signMany f_at f_place a_g a_kept a_saved a_input a_signs a_ways a_needs a_walk a_one a_several a_ragged a_nextLine) := hD
          obtain ⟨h36, hw⟩ := hw
          exact W.zret (v := r34) hx hb hr (isB_n h36) (fun t ht hW => ⟨⟨r34, (f_code_35, a_ragged, a_nextLine), rfl, hw, by rw [ht]; exact hP, va_K.moved hW.alike hK, hD⟩, hS.F ht⟩) hS.2.2 dX3_isTooLong_31
  refine lv_iconst (v := (nI 0)) hx hb dX3_isTooLong_0 (by decide) ?_
  refine lv_istore_n (lv' := [(2, .int (nI 0)), (0, .ref (ad 0)), (1, .int p0)]) hx hb dX3_isTooLong_1 rfl hl (by decide) rfl (fun ls hl => ?_)
  obtain ⟨n, hw⟩ := hw
  exact hL2  n f_code a_ragged a_nextLine p0 (nI 0) _ _ _ hP hD hS (lv_sub hl [1, 2, 0] rfl) hw
theorem gX3_183 : GoodIn lw_all (wsV RX3 183 RX3 yX3_isTooLong (ws_ yX3_isTooLong cX3_isTooLong 7 (some .boolean))) := lw_V q2085 q2087 qs62 q84 q2088
theorem hd_X3_isTooLong : yX3_isTooLong.cls ≠ "java/lang/invoke/MethodHandle" ∧ yX3_isTooLong.cls ≠ "java/lang/invoke/VarHandle" ∧ (parseMethodDescriptor yX3_isTooLong.desc).map (fun d => d.parameters.length) = some 1 := by decide +kernel
def rm_X3_raggedness : Room := { frames := 3, cells := 0, slots := 0, locals := 68 }
set_option maxHeartbeats 4000000 in
set_option maxRecDepth 100000 in
theorem met_X3_raggedness (l : Launch) (D : va_G) (dA : Nat → ClassId) (ad : Nat → Nat) (sz : Nat) (f_isSaved : Int32) (f_changes : Int32) (f_code : Int32) (f_length : Int32) (f_fault : Int32) (f_signMany : Int32) (f_at : Int32) (f_place : Int32) (a_g : (Nat → Int32)) (a_kept : (Nat → Int32)) (a_saved : (Nat → Int32)) (a_input : (Nat → Int32)) (a_signs : (Nat → Int32)) (a_ways : (Nat → Int64)) (a_needs : (Nat → Int32)) (a_walk : (Nat → Int32)) (a_one : (Nat → Int32)) (a_several : (Nat → Int32)) (a_ragged : (Nat → Int32)) (a_nextLine : (Nat → Int32))  (post : Int32 → Int32 → (Nat → Int32) → (Nat → Int32) → Prop) (hw : w_X3_raggedness post f_code a_g a_ragged a_nextLine) : Met l yX3_raggedness (ws_ yX3_raggedness cX3_raggedness 1 (some .int)) rm_X3_raggedness (va_Pc [.ref (ad 0)] (wrB D dA sz (mdl ad dA f_isSaved f_changes f_code f_length f_fault f_signMany f_at f_place a_g a_kept a_saved a_input a_signs a_ways a_needs a_walk a_one a_several a_ragged a_nextLine))) (va_Qi (fun (r : Int32) (u : Int32 × (Nat → Int32) × (Nat → Int32)) => post r u.1 u.2.1 u.2.2) (fun (u : Int32 × (Nat → Int32) × (Nat → Int32)) t => wrQ D dA (va_A (mdl ad dA f_isSaved f_changes f_code f_length f_fault f_signMany f_at f_place a_g a_kept a_saved a_input a_signs a_ways a_needs a_walk a_one a_several a_ragged a_nextLine) sz) (mdl ad dA f_isSaved f_changes u.1 f_length f_fault f_signMany f_at f_place a_g a_kept a_saved a_input a_signs a_ways a_needs a_walk a_one a_several u.2.1 u.2.2) t) (va_A (mdl ad dA f_isSaved f_changes f_code f_length f_fault f_signMany f_at f_place a_g a_kept a_saved a_input a_signs a_ways a_needs a_walk a_one a_several a_ragged a_nextLine) sz)) 0 0 (va_A (mdl ad dA f_isSaved f_changes f_code f_length f_fault f_signMany f_at f_place a_g a_kept a_saved a_input a_signs a_ways a_needs a_walk a_one a_several a_ragged a_nextLine) sz) := by
  refine Met.ofW (cc := cX3_raggedness) (maxL := 1) (ret := (some .int)) (by decide) rfl ?_
  intro p e s m args below meth c s₁ B hml hv
  obtain ⟨rfl, hsz, hP, hK, hD0⟩ := hv
  have hx := B.exec
  have hb := B.bytes
  have hr := B.returns
  have hts := atoms_spec (ws := (ws_ yX3_raggedness cX3_raggedness 1 (some .int))) B.pre
  have hts : ∀ w ∈ lw_all, w.before _ s = true := fun w h => hts w (List.mem_cons_of_mem _ h)
  have hown : s.vm.findClass RX3 = some m.cls := findClass_of_methodNamed B.named
  have hlocks := B.notSynchronized
  have hSx : CallFix p m c cX3_raggedness 1 s _ lw_all RX3 := ⟨hx, hb, hml, hown, hts⟩
  subst hsz
  have hD := hD0.self (sz := s.heap.size)
  generalize hAe : va_A (mdl ad dA f_isSaved f_changes f_code f_length f_fault f_signMany f_at f_place a_g a_kept a_saved a_input a_signs a_ways a_needs a_walk a_one a_several a_ragged a_nextLine) s.heap.size = A at hD ⊢
  have hA : ∀ q : Nat, s.heap.size ≤ q → A q := fun q h => by rw [← hAe]; exact Or.inr h
  have hS : va_S A s.heap s.heap [] := va_S.rf
  have hl := lv_entry ([.ref (ad 0)]) (n := 1) (Nat.le_of_ble_eq_true rfl)
  rw [lg_entry_eq]
  generalize (lg_sl ([.ref (ad 0)]) ++ List.replicate (1 - (lg_sl ([.ref (ad 0)])).length) Slot.unset).toArray = ls at hl ⊢
  have hl : lv_has ls 1 [(0, .ref (ad 0))] := hl
  refine lv_aload_n hx hb dX3_raggedness_0 rfl (lv_at hl 0 rfl) ?_
  refine lv_iconst (v := (nI 1)) hx hb dX3_raggedness_1 (by decide) ?_
  refine k_wi (wn := fun (u : Int32 × (Nat → Int32) × (Nat → Int32)) => (mdl ad dA f_isSaved f_changes u.1 f_length f_fault f_signMany f_at f_place a_g a_kept a_saved a_input a_signs a_ways a_needs a_walk a_one a_several u.2.1 u.2.2)) (wr := []) (k_wV (As := [.int (nI 1)]) (rest := []) hSx (met_X3_isTooLong l D dA ad _ f_isSaved f_changes f_code f_length f_fault f_signMany f_at f_place a_g a_kept a_saved a_input a_signs a_ways a_needs a_walk a_one a_several a_ragged a_nextLine (nI 1) _ hw) gX3_183 ⟨rfl, hd_X3_isTooLong⟩ ⟨Nat.le_of_ble_eq_true rfl, Nat.le_of_ble_eq_true rfl⟩ rfl rfl hP hK hD [0, 1, 2, 3, 4, 5, 6, 7, 8, 9, 10, 11, 12] rfl (by decide) rfl 0 rfl rfl rfl rfl hl.1 (Nat.le_of_ble_eq_true rfl) rfl dX3_raggedness_2 ⟨Nat.le_refl 0, Nat.le_refl 0⟩) hP hD hS hA [0, 1, 2, 3, 4, 5, 6, 7, 8, 9, 10, 11, 12] [] [0, 1, 2, 3, 4, 5, 6, 7, 8, 9, 10, 11, 12] rfl rfl (by decide) (by decide) (by decide) (fun _ => rfl) (fun _ => rfl) (fun r6 u H locs hw _ hP hD hS => ?_)
  obtain ⟨f_code_7, a_ragged_8, a_nextLine_9⟩ := u
  have hP : va_P D vwCl (mdl ad dA f_isSaved f_changes f_code_7 f_length f_fault f_signMany f_at f_place a_g a_kept a_saved a_input a_signs a_ways a_needs a_walk a_one a_several a_ragged_8 a_nextLine_9) H := hP
  have hD : va_D A (mdl ad dA f_isSaved f_changes f_code_7 f_length f_fault f_signMany f_at f_place a_g a_kept a_saved a_input a_signs a_ways a_needs a_walk a_one a_several a_ragged_8 a_nextLine_9) := hD
  refine lv_if_eq (tgt := 12) hx hb dX3_raggedness_5 (by decide) (fun c10 => ?_) (fun c10 => ?_)
  · have hw := hw.1 c10
    refine lv_aload_n hx hb dX3_raggedness_12 rfl (lv_at hl 0 rfl) ?_
    refine va_get (D := D) (ci := 2) (v := .ref (ad 11)) (C := RX3) (T := TX3) (N := 20) hx hb hts in_X3 hown hK hP 0 rfl rfl 18 (by decide) (hts _ q1759) (fun _ h9 => h9) rfl dX3_raggedness_13 ?_
    refine lv_iconst (v := (nI 0)) hx hb dX3_raggedness_16 (by decide) ?_
    refine k_iald (k := 0) hx hb hK hP 11 0 rfl rfl (clK 0 (by decide)) (inK (by decide) (by decide)) dX3_raggedness_17 ?_
    exact W.iret (v := (a_ragged_8 0)) hx hb hr (fun t ht hW => ⟨⟨(a_ragged_8 0), (f_code_7, a_ragged_8, a_nextLine_9), rfl, hw, by rw [ht]; exact hP, va_K.moved hW.alike hK, hD⟩, hS.F ht⟩) hS.2.2 dX3_raggedness_18
  · have hw := hw.2 c10
    refine lv_iconst (v := (nI 0)) hx hb dX3_raggedness_8 (by decide) ?_
    refine lv_goto (tgt := 18) hx hb dX3_raggedness_9 (by decide) ?_
    exact W.iret (v := (nI 0)) hx hb hr (fun t ht hW => ⟨⟨(nI 0), (f_code_7, a_ragged_8, a_nextLine_9), rfl, hw, by rw [ht]; exact hP, va_K.moved hW.alike hK, hD⟩, hS.F ht⟩) hS.2.2 dX3_raggedness_18
def rm_X3_raggednessByTrying : Room := { frames := 3, cells := 0, slots := 0, locals := 68 }
set_option maxHeartbeats 4000000 in
set_option maxRecDepth 100000 in
theorem met_X3_raggednessByTrying (l : Launch) (D : va_G) (dA : Nat → ClassId) (ad : Nat → Nat) (sz : Nat) (f_isSaved : Int32) (f_changes : Int32) (f_code : Int32) (f_length : Int32) (f_fault : Int32) (f_signMany : Int32) (f_at : Int32) (f_place : Int32) (a_g : (Nat → Int32)) (a_kept : (Nat → Int32)) (a_saved : (Nat → Int32)) (a_input : (Nat → Int32)) (a_signs : (Nat → Int32)) (a_ways : (Nat → Int64)) (a_needs : (Nat → Int32)) (a_walk : (Nat → Int32)) (a_one : (Nat → Int32)) (a_several : (Nat → Int32)) (a_ragged : (Nat → Int32)) (a_nextLine : (Nat → Int32))  (post : Int32 → Int32 → (Nat → Int32) → (Nat → Int32) → Prop) (hw : w_X3_raggednessByTrying post f_code a_g a_ragged a_nextLine) : Met l yX3_raggednessByTrying (ws_ yX3_raggednessByTrying cX3_raggednessByTrying 1 (some .int)) rm_X3_raggednessByTrying (va_Pc [.ref (ad 0)] (wrB D dA sz (mdl ad dA f_isSaved f_changes f_code f_length f_fault f_signMany f_at f_place a_g a_kept a_saved a_input a_signs a_ways a_needs a_walk a_one a_several a_ragged a_nextLine))) (va_Qi (fun (r : Int32) (u : Int32 × (Nat → Int32) × (Nat → Int32)) => post r u.1 u.2.1 u.2.2) (fun (u : Int32 × (Nat → Int32) × (Nat → Int32)) t => wrQ D dA (va_A (mdl ad dA f_isSaved f_changes f_code f_length f_fault f_signMany f_at f_place a_g a_kept a_saved a_input a_signs a_ways a_needs a_walk a_one a_several a_ragged a_nextLine) sz) (mdl ad dA f_isSaved f_changes u.1 f_length f_fault f_signMany f_at f_place a_g a_kept a_saved a_input a_signs a_ways a_needs a_walk a_one a_several u.2.1 u.2.2) t) (va_A (mdl ad dA f_isSaved f_changes f_code f_length f_fault f_signMany f_at f_place a_g a_kept a_saved a_input a_signs a_ways a_needs a_walk a_one a_several a_ragged a_nextLine) sz)) 0 0 (va_A (mdl ad dA f_isSaved f_changes f_code f_length f_fault f_signMany f_at f_place a_g a_kept a_saved a_input a_signs a_ways a_needs a_walk a_one a_several a_ragged a_nextLine) sz) := by
  refine Met.ofW (cc := cX3_raggednessByTrying) (maxL := 1) (ret := (some .int)) (by decide) rfl ?_
  intro p e s m args below meth c s₁ B hml hv
  obtain ⟨rfl, hsz, hP, hK, hD0⟩ := hv
  have hx := B.exec
  have hb := B.bytes
  have hr := B.returns
  have hts := atoms_spec (ws := (ws_ yX3_raggednessByTrying cX3_raggednessByTrying 1 (some .int))) B.pre
  have hts : ∀ w ∈ lw_all, w.before _ s = true := fun w h => hts w (List.mem_cons_of_mem _ h)
  have hown : s.vm.findClass RX3 = some m.cls := findClass_of_methodNamed B.named
  have hlocks := B.notSynchronized
  have hSx : CallFix p m c cX3_raggednessByTrying 1 s _ lw_all RX3 := ⟨hx, hb, hml, hown, hts⟩
  subst hsz
  have hD := hD0.self (sz := s.heap.size)
  generalize hAe : va_A (mdl ad dA f_isSaved f_changes f_code f_length f_fault f_signMany f_at f_place a_g a_kept a_saved a_input a_signs a_ways a_needs a_walk a_one a_several a_ragged a_nextLine) s.heap.size = A at hD ⊢
  have hA : ∀ q : Nat, s.heap.size ≤ q → A q := fun q h => by rw [← hAe]; exact Or.inr h
  have hS : va_S A s.heap s.heap [] := va_S.rf
  have hl := lv_entry ([.ref (ad 0)]) (n := 1) (Nat.le_of_ble_eq_true rfl)
  rw [lg_entry_eq]
  generalize (lg_sl ([.ref (ad 0)]) ++ List.replicate (1 - (lg_sl ([.ref (ad 0)])).length) Slot.unset).toArray = ls at hl ⊢
  have hl : lv_has ls 1 [(0, .ref (ad 0))] := hl
  refine lv_aload_n hx hb dX3_raggednessByTrying_0 rfl (lv_at hl 0 rfl) ?_
  refine lv_iconst (v := (nI 1)) hx hb dX3_raggednessByTrying_1 (by decide) ?_
  refine k_wi (wn := fun (u : Int32 × (Nat → Int32) × (Nat → Int32)) => (mdl ad dA f_isSaved f_changes u.1 f_length f_fault f_signMany f_at f_place a_g a_kept a_saved a_input a_signs a_ways a_needs a_walk a_one a_several u.2.1 u.2.2)) (wr := []) (k_wV (As := [.int (nI 1)]) (rest := []) hSx (met_X3_isTooLong l D dA ad _ f_isSaved f_changes f_code f_length f_fault f_signMany f_at f_place a_g a_kept a_saved a_input a_signs a_ways a_needs a_walk a_one a_several a_ragged a_nextLine (nI 1) _ hw) gX3_183 ⟨rfl, hd_X3_isTooLong⟩ ⟨Nat.le_of_ble_eq_true rfl, Nat.le_of_ble_eq_true rfl⟩ rfl rfl hP hK hD [0, 1, 2, 3, 4, 5, 6, 7, 8, 9, 10, 11, 12] rfl (by decide) rfl 0 rfl rfl rfl rfl hl.1 (Nat.le_of_ble_eq_true rfl) rfl dX3_raggednessByTrying_2 ⟨Nat.le_refl 0, Nat.le_refl 0⟩) hP hD hS hA [0, 1, 2, 3, 4, 5, 6, 7, 8, 9, 10, 11, 12] [] [0, 1, 2, 3, 4, 5, 6, 7, 8, 9, 10, 11, 12] rfl rfl (by decide) (by decide) (by decide) (fun _ => rfl) (fun _ => rfl) (fun r6 u H locs hw _ hP hD hS => ?_)
  obtain ⟨f_code_7, a_ragged_8, a_nextLine_9⟩ := u
  have hP : va_P D vwCl (mdl ad dA f_isSaved f_changes f_code_7 f_length f_fault f_signMany f_at f_place a_g a_kept a_saved a_input a_signs a_ways a_needs a_walk a_one a_several a_ragged_8 a_nextLine_9) H := hP
  have hD : va_D A (mdl ad dA f_isSaved f_changes f_code_7 f_length f_fault f_signMany f_at f_place a_g a_kept a_saved a_input a_signs a_ways a_needs a_walk a_one a_several a_ragged_8 a_nextLine_9) := hD
  refine lv_if_eq (tgt := 12) hx hb dX3_raggednessByTrying_5 (by decide) (fun c10 => ?_) (fun c10 => ?_)
  · have hw := hw.1 c10
    refine lv_aload_n hx hb dX3_raggednessByTrying_12 rfl (lv_at hl 0 rfl) ?_
    refine va_get (D := D) (ci := 2) (v := .ref (ad 11)) (C := RX3) (T := TX3) (N := 20) hx hb hts in_X3 hown hK hP 0 rfl rfl 18 (by decide) (hts _ q1759) (fun _ h9 => h9) rfl dX3_raggednessByTrying_13 ?_
    refine lv_iconst (v := (nI 0)) hx hb dX3_raggednessByTrying_16 (by decide) ?_
    refine k_iald (k := 0) hx hb hK hP 11 0 rfl rfl (clK 0 (by decide)) (inK (by decide) (by decide)) dX3_raggednessByTrying_17 ?_
    exact W.iret (v := (a_ragged_8 0)) hx hb hr (fun t ht hW => ⟨⟨(a_ragged_8 0), (f_code_7, a_ragged_8, a_nextLine_9), rfl, hw, by rw [ht]; exact hP, va_K.moved hW.alike hK, hD⟩, hS.F ht⟩) hS.2.2 dX3_raggednessByTrying_18
  · have hw := hw.2 c10
    refine lv_iconst (v := (nI 0)) hx hb dX3_raggednessByTrying_8 (by decide) ?_
    refine lv_goto (tgt := 18) hx hb dX3_raggednessByTrying_9 (by decide) ?_
    exact W.iret (v := (nI 0)) hx hb hr (fun t ht hW => ⟨⟨(nI 0), (f_code_7, a_ragged_8, a_nextLine_9), rfl, hw, by rw [ht]; exact hP, va_K.moved hW.alike hK, hD⟩, hS.F ht⟩) hS.2.2 dX3_raggednessByTrying_18
def rm_X3_line : Room := { frames := 0, cells := 0, slots := 0, locals := 0 }
set_option maxHeartbeats 4000000 in
set_option maxRecDepth 100000 in
theorem met_X3_line (l : Launch) (D : va_G) (dA : Nat → ClassId) (ad : Nat → Nat) (f_isSaved : Int32) (f_changes : Int32) (f_code : Int32) (f_length : Int32) (f_fault : Int32) (f_signMany : Int32) (f_at : Int32) (f_place : Int32) (a_g : (Nat → Int32)) (a_kept : (Nat → Int32)) (a_saved : (Nat → Int32)) (a_input : (Nat → Int32)) (a_signs : (Nat → Int32)) (a_ways : (Nat → Int64)) (a_needs : (Nat → Int32)) (a_walk : (Nat → Int32)) (a_one : (Nat → Int32)) (a_several : (Nat → Int32)) (a_ragged : (Nat → Int32)) (a_nextLine : (Nat → Int32)) (p0 : Int32) (post : Int32 → Prop) (hw : w_X3_line post a_g a_nextLine p0) : Met l yX3_line (ws_ yX3_line cX3_line 4 (some .int)) rm_X3_line (va_Pc [.ref (ad 0), .int p0] (rdB D dA (mdl ad dA f_isSaved f_changes f_code f_length f_fault f_signMany f_at f_place a_g a_kept a_saved a_input a_signs a_ways a_needs a_walk a_one a_several a_ragged a_nextLine))) (vp_Si (fun r => post r)) 0 0 (fun _ => False) := by
  refine Met.ofW (cc := cX3_line) (maxL := 4) (ret := (some .int)) (by decide) rfl ?_
  intro p e s m args below meth c s₁ B hml hv
  obtain ⟨rfl, hP, hK⟩ := hv
  have hx := B.exec
  have hb := B.bytes
  have hr := B.returns
  have hts := atoms_spec (ws := (ws_ yX3_line cX3_line 4 (some .int))) B.pre
  have hts : ∀ w ∈ lw_all, w.before _ s = true := fun w h => hts w (List.mem_cons_of_mem _ h)
  have hown : s.vm.findClass RX3 = some m.cls := findClass_of_methodNamed B.named
  have hlocks := B.notSynchronized
  have hSx : CallFix p m c cX3_line 4 s _ lw_all RX3 := ⟨hx, hb, hml, hown, hts⟩
  have hl := lv_entry ([.ref (ad 0), .int p0]) (n := 4) (Nat.le_of_ble_eq_true rfl)
  rw [lg_entry_eq]
  generalize (lg_sl ([.ref (ad 0), .int p0]) ++ List.replicate (4 - (lg_sl ([.ref (ad 0), .int p0])).length) Slot.unset).toArray = ls at hl ⊢
  have hl : lv_has ls 4 [(0, .ref (ad 0)), (1, .int p0)] := hl
  have hL4 : ∀  (n : Nat) (v1 : Int32) (v2 : Int32) (v3 : Int32) (ls : Array Slot), lv_has ls 4 [(0, .ref (ad 0)), (1, .int v1), (2, .int v2), (3, .int v3)] → lpF (fun _ _ _ => False) (w_X3_line_4 post a_g a_nextLine) n v1 v2 v3 → W p l e (headSpec (ws_ yX3_line cX3_line 4 (some .int)) rm_X3_line).room s m ([.ref (ad 0), .int p0] : List Value).toArray below meth c s.heap [] 0 0 (MQ below (vp_Si (fun r => post r)) ([.ref (ad 0), .int p0] : List Value).toArray s 0 0 (fun _ => False)) (F0 m 4 ls []) := by
    intro  n
    induction n with
    | zero => intro v1 v2 v3 ls hl hw; exact absurd hw id
    | succ n hk4 =>
      intro v1 v2 v3 ls hl hw
      generalize hk9 : lpF (fun _ _ _ => False) (w_X3_line_4 post a_g a_nextLine) n = k4 at hk4
      have hw : (w_X3_line_4 post a_g a_nextLine) k4 v1 v2 v3 := hk9 ▸ hw
      refine lv_iload_n hx hb dX3_line_4 rfl (lv_at hl 3 rfl) ?_
      refine lv_aload_n hx hb dX3_line_5 rfl (lv_at hl 0 rfl) ?_
      refine va_get (D := D) (ci := 2) (v := .ref (ad 1)) (C := RX3) (T := TX3) (N := 20) hx hb hts in_X3 hown hK hP 0 rfl rfl 0 (by decide) (hts _ q1741) (fun _ h9 => h9) rfl dX3_line_6 ?_
      refine lv_iconst (v := (nI 1)) hx hb dX3_line_9 (by decide) ?_
      refine k_iald (k := 1) hx hb hK hP 1 0 rfl rfl (clK 1 (by decide)) (inK (by decide) (by decide)) dX3_line_10 ?_
      refine lv_icmp_ge (tgt := 37) hx hb dX3_line_11 (by decide) (fun c5 => ?_) (fun c5 => ?_)
      · have hw := hw.1 c5
        refine lv_iload_n hx hb dX3_line_37 rfl (lv_at hl 2 rfl) ?_
        exact W.iret (v := v2) hx hb hr (fun t ht hW => ⟨v2, rfl, hw, ht⟩) (fun _ h => by cases h) dX3_line_38
      · have hw := hw.2 c5
        refine lv_aload_n hx hb dX3_line_14 rfl (lv_at hl 0 rfl) ?_
        refine va_get (D := D) (ci := 2) (v := .ref (ad 12)) (C := RX3) (T := TX3) (N := 20) hx hb hts in_X3 hown hK hP 0 rfl rfl 19 (by decide) (hts _ q1760) (fun _ h9 => h9) rfl dX3_line_15 ?_
        refine lv_iload_n hx hb dX3_line_18 rfl (lv_at hl 3 rfl) ?_
        obtain ⟨h6, hw⟩ := hw
        refine k_iald (k := v3.toNatClampNeg) hx hb hK hP 12 0 rfl rfl rfl h6 dX3_line_19 ?_
        refine lv_iload_n hx hb dX3_line_20 rfl (lv_at hl 1 rfl) ?_
        refine lv_icmp_gt (tgt := 37) hx hb dX3_line_21 (by decide) (fun c7 => ?_) (fun c7 => ?_)
        · have hw := hw.1 c7
          refine lv_iload_n hx hb dX3_line_37 rfl (lv_at hl 2 rfl) ?_
          exact W.iret (v := v2) hx hb hr (fun t ht hW => ⟨v2, rfl, hw, ht⟩) (fun _ h => by cases h) dX3_line_38
        · have hw := hw.2 c7
          refine lv_aload_n hx hb dX3_line_24 rfl (lv_at hl 0 rfl) ?_
          refine va_get (D := D) (ci := 2) (v := .ref (ad 12)) (C := RX3) (T := TX3) (N := 20) hx hb hts in_X3 hown hK hP 0 rfl rfl 19 (by decide) (hts _ q1760) (fun _ h9 => h9) rfl dX3_line_25 ?_
          refine lv_iload_n hx hb dX3_line_28 rfl (lv_at hl 3 rfl) ?_
          obtain ⟨h8, hw⟩ := hw
          refine k_iald (k := v3.toNatClampNeg) hx hb hK hP 12 0 rfl rfl rfl h8 dX3_line_29 ?_
          refine lv_istore_n (lv' := [(3, .int (a_nextLine v3.toNatClampNeg)), (0, .ref (ad 0)), (1, .int v1), (2, .int v2)]) hx hb dX3_line_30 rfl hl (by decide) rfl (fun ls hl => ?_)
          refine lv_iinc (v := (v2 + (nI 1))) (lv' := [(2, .int (v2 + (nI 1))), (3, .int (a_nextLine v3.toNatClampNeg)), (0, .ref (ad 0)), (1, .int v1)]) hx hb dX3_line_31 hl (k := 3) rfl (congrArg (fun z => v2 + z) (by decide : Int32.ofInt (1) = (nI 1))) (by decide) rfl (fun ls hl => ?_)
          refine lv_goto (tgt := 4) hx hb dX3_line_34 (by decide) ?_
          exact hk4 v1 (v2 + (nI 1)) (a_nextLine v3.toNatClampNeg) _ (lv_sub hl [2, 3, 0, 1] rfl) hw
  refine lv_iconst (v := (nI 0)) hx hb dX3_line_0 (by decide) ?_
  refine lv_istore_n (lv' := [(2, .int (nI 0)), (0, .ref (ad 0)), (1, .int p0)]) hx hb dX3_line_1 rfl hl (by decide) rfl (fun ls hl => ?_)
  refine lv_iconst (v := (nI 0)) hx hb dX3_line_2 (by decide) ?_
  refine lv_istore_n (lv' := [(3, .int (nI 0)), (2, .int (nI 0)), (0, .ref (ad 0)), (1, .int p0)]) hx hb dX3_line_3 rfl hl (by decide) rfl (fun ls hl => ?_)
  obtain ⟨n, hw⟩ := hw
  exact hL4  n p0 (nI 0) (nI 0) _ (lv_sub hl [2, 3, 1, 0] rfl) hw
theorem gX3_186 : GoodIn lw_all (wsV RX3 186 RX3 yX3_line (ws_ yX3_line cX3_line 4 (some .int))) := lw_V q2098 q2100 qs63 q84 q2101
theorem hd_X3_line : yX3_line.cls ≠ "java/lang/invoke/MethodHandle" ∧ yX3_line.cls ≠ "java/lang/invoke/VarHandle" ∧ (parseMethodDescriptor yX3_line.desc).map (fun d => d.parameters.length) = some 1 := by decide +kernel
def rm_X3_lineCount : Room := { frames := 3, cells := 0, slots := 0, locals := 68 }
set_option maxHeartbeats 4000000 in
set_option maxRecDepth 100000 in
theorem met_X3_lineCount (l : Launch) (D : va_G) (dA : Nat → ClassId) (ad : Nat → Nat) (sz : Nat) (f_isSaved : Int32) (f_changes : Int32) (f_code : Int32) (f_length : Int32) (f_fault : Int32) (f_signMany : Int32) (f_at : Int32) (f_place : Int32) (a_g : (Nat → Int32)) (a_kept : (Nat → Int32)) (a_saved : (Nat → Int32)) (a_input : (Nat → Int32)) (a_signs : (Nat → Int32)) (a_ways : (Nat → Int64)) (a_needs : (Nat → Int32)) (a_walk : (Nat → Int32)) (a_one : (Nat → Int32)) (a_several : (Nat → Int32)) (a_ragged : (Nat → Int32)) (a_nextLine : (Nat → Int32))  (post : Int32 → Int32 → (Nat → Int32) → (Nat → Int32) → Prop) (hw : w_X3_lineCount post f_code a_g a_ragged a_nextLine) : Met l yX3_lineCount (ws_ yX3_lineCount cX3_lineCount 1 (some .int)) rm_X3_lineCount (va_Pc [.ref (ad 0)] (wrB D dA sz (mdl ad dA f_isSaved f_changes f_code f_length f_fault f_signMany f_at f_place a_g a_kept a_saved a_input a_signs a_ways a_needs a_walk a_one a_several a_ragged a_nextLine))) (va_Qi (fun (r : Int32) (u : Int32 × (Nat → Int32) × (Nat → Int32)) => post r u.1 u.2.1 u.2.2) (fun (u : Int32 × (Nat → Int32) × (Nat → Int32)) t => wrQ D dA (va_A (mdl ad dA f_isSaved f_changes f_code f_length f_fault f_signMany f_at f_place a_g a_kept a_saved a_input a_signs a_ways a_needs a_walk a_one a_several a_ragged a_nextLine) sz) (mdl ad dA f_isSaved f_changes u.1 f_length f_fault f_signMany f_at f_place a_g a_kept a_saved a_input a_signs a_ways a_needs a_walk a_one a_several u.2.1 u.2.2) t) (va_A (mdl ad dA f_isSaved f_changes f_code f_length f_fault f_signMany f_at f_place a_g a_kept a_saved a_input a_signs a_ways a_needs a_walk a_one a_several a_ragged a_nextLine) sz)) 0 0 (va_A (mdl ad dA f_isSaved f_changes f_code f_length f_fault f_signMany f_at f_place a_g a_kept a_saved a_input a_signs a_ways a_needs a_walk a_one a_several a_ragged a_nextLine) sz) := by
  refine Met.ofW (cc := cX3_lineCount) (maxL := 1) (ret := (some .int)) (by decide) rfl ?_
  intro p e s m args below meth c s₁ B hml hv
  obtain ⟨rfl, hsz, hP, hK, hD0⟩ := hv
  have hx := B.exec
  have hb := B.bytes
  have hr := B.returns
  have hts := atoms_spec (ws := (ws_ yX3_lineCount cX3_lineCount 1 (some .int))) B.pre
  have hts : ∀ w ∈ lw_all, w.before _ s = true := fun w h => hts w (List.mem_cons_of_mem _ h)
  have hown : s.vm.findClass RX3 = some m.cls := findClass_of_methodNamed B.named
  have hlocks := B.notSynchronized
  have hSx : CallFix p m c cX3_lineCount 1 s _ lw_all RX3 := ⟨hx, hb, hml, hown, hts⟩
  subst hsz
  have hD := hD0.self (sz := s.heap.size)
  generalize hAe : va_A (mdl ad dA f_isSaved f_changes f_code f_length f_fault f_signMany f_at f_place a_g a_kept a_saved a_input a_signs a_ways a_needs a_walk a_one a_several a_ragged a_nextLine) s.heap.size = A at hD ⊢
  have hA : ∀ q : Nat, s.heap.size ≤ q → A q := fun q h => by rw [← hAe]; exact Or.inr h
  have hS : va_S A s.heap s.heap [] := va_S.rf
  have hl := lv_entry ([.ref (ad 0)]) (n := 1) (Nat.le_of_ble_eq_true rfl)
  rw [lg_entry_eq]
  generalize (lg_sl ([.ref (ad 0)]) ++ List.replicate (1 - (lg_sl ([.ref (ad 0)])).length) Slot.unset).toArray = ls at hl ⊢
  have hl : lv_has ls 1 [(0, .ref (ad 0))] := hl
  refine lv_aload_n hx hb dX3_lineCount_0 rfl (lv_at hl 0 rfl) ?_
  refine lv_iconst (v := (nI 1)) hx hb dX3_lineCount_1 (by decide) ?_
  refine k_wi (wn := fun (u : Int32 × (Nat → Int32) × (Nat → Int32)) => (mdl ad dA f_isSaved f_changes u.1 f_length f_fault f_signMany f_at f_place a_g a_kept a_saved a_input a_signs a_ways a_needs a_walk a_one a_several u.2.1 u.2.2)) (wr := []) (k_wV (As := [.int (nI 1)]) (rest := []) hSx (met_X3_isTooLong l D dA ad _ f_isSaved f_changes f_code f_length f_fault f_signMany f_at f_place a_g a_kept a_saved a_input a_signs a_ways a_needs a_walk a_one a_several a_ragged a_nextLine (nI 1) _ hw) gX3_183 ⟨rfl, hd_X3_isTooLong⟩ ⟨Nat.le_of_ble_eq_true rfl, Nat.le_of_ble_eq_true rfl⟩ rfl rfl hP hK hD [0, 1, 2, 3, 4, 5, 6, 7, 8, 9, 10, 11, 12] rfl (by decide) rfl 0 rfl rfl rfl rfl hl.1 (Nat.le_of_ble_eq_true rfl) rfl dX3_lineCount_2 ⟨Nat.le_refl 0, Nat.le_refl 0⟩) hP hD hS hA [0, 1, 2, 3, 4, 5, 6, 7, 8, 9, 10, 11, 12] [] [0, 1, 2, 3, 4, 5, 6, 7, 8, 9, 10, 11, 12] rfl rfl (by decide) (by decide) (by decide) (fun _ => rfl) (fun _ => rfl) (fun r7 u H locs hw _ hP hD hS => ?_)
  obtain ⟨f_code_8, a_ragged_9, a_nextLine_10⟩ := u
  have hP : va_P D vwCl (mdl ad dA f_isSaved f_changes f_code_8 f_length f_fault f_signMany f_at f_place a_g a_kept a_saved a_input a_signs a_ways a_needs a_walk a_one a_several a_ragged_9 a_nextLine_10) H := hP
  have hD : va_D A (mdl ad dA f_isSaved f_changes f_code_8 f_length f_fault f_signMany f_at f_place a_g a_kept a_saved a_input a_signs a_ways a_needs a_walk a_one a_several a_ragged_9 a_nextLine_10) := hD
  refine lv_if_eq (tgt := 12) hx hb dX3_lineCount_5 (by decide) (fun c11 => ?_) (fun c11 => ?_)
  · have hw := hw.1 c11
    refine lv_aload_n hx hb dX3_lineCount_12 rfl (lv_at hl 0 rfl) ?_
    refine lv_aload_n hx hb dX3_lineCount_13 rfl (lv_at hl 0 rfl) ?_
    refine va_get (D := D) (ci := 2) (v := .ref (ad 1)) (C := RX3) (T := TX3) (N := 20) hx hb hts in_X3 hown hK hP 0 rfl rfl 0 (by decide) (hts _ q1741) (fun _ h9 => h9) rfl dX3_lineCount_14 ?_
    refine lv_iconst (v := (nI 1)) hx hb dX3_lineCount_17 (by decide) ?_
    refine k_iald (k := 1) hx hb hK hP 1 0 rfl rfl (clK 1 (by decide)) (inK (by decide) (by decide)) dX3_lineCount_18 ?_
    refine k_ri (k_rV (As := [.int (a_g 1)]) (rest := []) hSx (met_X3_line l D dA ad f_isSaved f_changes f_code_8 f_length f_fault f_signMany f_at f_place a_g a_kept a_saved a_input a_signs a_ways a_needs a_walk a_one a_several a_ragged_9 a_nextLine_10 (a_g 1) _ hw) gX3_186 ⟨rfl, hd_X3_line⟩ ⟨Nat.le_of_ble_eq_true rfl, Nat.le_of_ble_eq_true rfl⟩ rfl rfl hP hK [0, 1, 2, 3, 4, 5, 6, 7, 8, 9, 10, 11, 12] rfl 0 rfl rfl rfl rfl hl.1 (Nat.le_of_ble_eq_true rfl) rfl dX3_lineCount_19 ⟨Nat.le_refl 0, Nat.le_refl 0⟩) (fun r12 hw => ?_)
    exact W.iret (v := r12) hx hb hr (fun t ht hW => ⟨⟨r12, (f_code_8, a_ragged_9, a_nextLine_10), rfl, hw, by rw [ht]; exact hP, va_K.moved hW.alike hK, hD⟩, hS.F ht⟩) hS.2.2 dX3_lineCount_22
  · have hw := hw.2 c11
    refine lv_iconst (v := (nI 0)) hx hb dX3_lineCount_8 (by decide) ?_
    refine lv_goto (tgt := 22) hx hb dX3_lineCount_9 (by decide) ?_
    exact W.iret (v := (nI 0)) hx hb hr (fun t ht hW => ⟨⟨(nI 0), (f_code_8, a_ragged_9, a_nextLine_10), rfl, hw, by rw [ht]; exact hP, va_K.moved hW.alike hK, hD⟩, hS.F ht⟩) hS.2.2 dX3_lineCount_22
def rm_X3_lineOf : Room := { frames := 3, cells := 0, slots := 0, locals := 68 }
set_option maxHeartbeats 4000000 in
set_option maxRecDepth 100000 in
theorem met_X3_lineOf (l : Launch) (D : va_G) (dA : Nat → ClassId) (ad : Nat → Nat) (sz : Nat) (f_isSaved : Int32) (f_changes : Int32) (f_code : Int32) (f_length : Int32) (f_fault : Int32) (f_signMany : Int32) (f_at : Int32) (f_place : Int32) (a_g : (Nat → Int32)) (a_kept : (Nat → Int32)) (a_saved : (Nat → Int32)) (a_input : (Nat → Int32)) (a_signs : (Nat → Int32)) (a_ways : (Nat → Int64)) (a_needs : (Nat → Int32)) (a_walk : (Nat → Int32)) (a_one : (Nat → Int32)) (a_several : (Nat → Int32)) (a_ragged : (Nat → Int32)) (a_nextLine : (Nat → Int32)) (p0 : Int32) (post : Int32 → Int32 → (Nat → Int32) → (Nat → Int32) → Prop) (hw : w_X3_lineOf post f_code a_g a_ragged a_nextLine p0) : Met l yX3_lineOf (ws_ yX3_lineOf cX3_lineOf 2 (some .int)) rm_X3_lineOf (va_Pc [.ref (ad 0), .int p0] (wrB D dA sz (mdl ad dA f_isSaved f_changes f_code f_length f_fault f_signMany f_at f_place a_g a_kept a_saved a_input a_signs a_ways a_needs a_walk a_one a_several a_ragged a_nextLine))) (va_Qi (fun (r : Int32) (u : Int32 × (Nat → Int32) × (Nat → Int32)) => post r u.1 u.2.1 u.2.2) (fun (u : Int32 × (Nat → Int32) × (Nat → Int32)) t => wrQ D dA (va_A (mdl ad dA f_isSaved f_changes f_code f_length f_fault f_signMany f_at f_place a_g a_kept a_saved a_input a_signs a_ways a_needs a_walk a_one a_several a_ragged a_nextLine) sz) (mdl ad dA f_isSaved f_changes u.1 f_length f_fault f_signMany f_at f_place a_g a_kept a_saved a_input a_signs a_ways a_needs a_walk a_one a_several u.2.1 u.2.2) t) (va_A (mdl ad dA f_isSaved f_changes f_code f_length f_fault f_signMany f_at f_place a_g a_kept a_saved a_input a_signs a_ways a_needs a_walk a_one a_several a_ragged a_nextLine) sz)) 0 0 (va_A (mdl ad dA f_isSaved f_changes f_code f_length f_fault f_signMany f_at f_place a_g a_kept a_saved a_input a_signs a_ways a_needs a_walk a_one a_several a_ragged a_nextLine) sz) := by
  refine Met.ofW (cc := cX3_lineOf) (maxL := 2) (ret := (some .int)) (by decide) rfl ?_
  intro p e s m args below meth c s₁ B hml hv
  obtain ⟨rfl, hsz, hP, hK, hD0⟩ := hv
  have hx := B.exec
  have hb := B.bytes
  have hr := B.returns
  have hts := atoms_spec (ws := (ws_ yX3_lineOf cX3_lineOf 2 (some .int))) B.pre
  have hts : ∀ w ∈ lw_all, w.before _ s = true := fun w h => hts w (List.mem_cons_of_mem _ h)
  have hown : s.vm.findClass RX3 = some m.cls := findClass_of_methodNamed B.named
  have hlocks := B.notSynchronized
  have hSx : CallFix p m c cX3_lineOf 2 s _ lw_all RX3 := ⟨hx, hb, hml, hown, hts⟩
  subst hsz
  have hD := hD0.self (sz := s.heap.size)
  generalize hAe : va_A (mdl ad dA f_isSaved f_changes f_code f_length f_fault f_signMany f_at f_place a_g a_kept a_saved a_input a_signs a_ways a_needs a_walk a_one a_several a_ragged a_nextLine) s.heap.size = A at hD ⊢
  have hA : ∀ q : Nat, s.heap.size ≤ q → A q := fun q h => by rw [← hAe]; exact Or.inr h
  have hS : va_S A s.heap s.heap [] := va_S.rf
  have hl := lv_entry ([.ref (ad 0), .int p0]) (n := 2) (Nat.le_of_ble_eq_true rfl)
  rw [lg_entry_eq]
  generalize (lg_sl ([.ref (ad 0), .int p0]) ++ List.replicate (2 - (lg_sl ([.ref (ad 0), .int p0])).length) Slot.unset).toArray = ls at hl ⊢
  have hl : lv_has ls 2 [(0, .ref (ad 0)), (1, .int p0)] := hl
  refine lv_aload_n hx hb dX3_lineOf_0 rfl (lv_at hl 0 rfl) ?_
  refine lv_iload_n hx hb dX3_lineOf_1 rfl (lv_at hl 1 rfl) ?_
  refine k_wi (wn := fun (u : Int32) => (mdl ad dA f_isSaved f_changes u f_length f_fault f_signMany f_at f_place a_g a_kept a_saved a_input a_signs a_ways a_needs a_walk a_one a_several a_ragged a_nextLine)) (wr := []) (k_wV (As := [.int p0]) (rest := []) hSx (met_X3_isLost l D dA ad _ f_isSaved f_changes f_code f_length f_fault f_signMany f_at f_place a_g a_kept a_saved a_input a_signs a_ways a_needs a_walk a_one a_several a_ragged a_nextLine p0 _ hw) gX3_169 ⟨rfl, hd_X3_isLost⟩ ⟨Nat.le_of_ble_eq_true rfl, Nat.le_of_ble_eq_true rfl⟩ rfl rfl hP hK hD [0, 1, 2, 3, 4, 5, 6, 7, 8, 9, 10, 11, 12] rfl (by decide) rfl 0 rfl rfl rfl rfl hl.1 (Nat.le_of_ble_eq_true rfl) rfl dX3_lineOf_2 ⟨Nat.le_refl 0, Nat.le_refl 0⟩) hP hD hS hA [0, 1, 2, 3, 4, 5, 6, 7, 8, 9, 10, 11, 12] [] [0, 1, 2, 3, 4, 5, 6, 7, 8, 9, 10, 11, 12] rfl rfl (by decide) (by decide) (by decide) (fun _ => rfl) (fun _ => rfl) (fun r10 u H locs hw _ hP hD hS => ?_)
  obtain ⟨f_code_11, rfl⟩ : ∃ z, z = u := ⟨_, rfl⟩
  have hP : va_P D vwCl (mdl ad dA f_isSaved f_changes f_code_11 f_length f_fault f_signMany f_at f_place a_g a_kept a_saved a_input a_signs a_ways a_needs a_walk a_one a_several a_ragged a_nextLine) H := hP
  have hD : va_D A (mdl ad dA f_isSaved f_changes f_code_11 f_length f_fault f_signMany f_at f_place a_g a_kept a_saved a_input a_signs a_ways a_needs a_walk a_one a_several a_ragged a_nextLine) := hD
  refine lv_if_ne (tgt := 16) hx hb dX3_lineOf_5 (by decide) (fun c12 => ?_) (fun c12 => ?_)
  · have hw := hw.2 c12
    refine lv_iconst (v := (nI 0)) hx hb dX3_lineOf_16 (by decide) ?_
    refine lv_goto (tgt := 25) hx hb dX3_lineOf_17 (by decide) ?_
    exact W.iret (v := (nI 0)) hx hb hr (fun t ht hW => ⟨⟨(nI 0), (f_code_11, a_ragged, a_nextLine), rfl, hw, by rw [ht]; exact hP, va_K.moved hW.alike hK, hD⟩, hS.F ht⟩) hS.2.2 dX3_lineOf_25
  · have hw := hw.1 c12
    refine lv_aload_n hx hb dX3_lineOf_8 rfl (lv_at hl 0 rfl) ?_
    refine lv_iconst (v := (nI 2)) hx hb dX3_lineOf_9 (by decide) ?_
    refine k_wi (wn := fun (u : Int32 × (Nat → Int32) × (Nat → Int32)) => (mdl ad dA f_isSaved f_changes u.1 f_length f_fault f_signMany f_at f_place a_g a_kept a_saved a_input a_signs a_ways a_needs a_walk a_one a_several u.2.1 u.2.2)) (wr := []) (k_wV (As := [.int (nI 2)]) (rest := []) hSx (met_X3_isTooLong l D dA ad _ f_isSaved f_changes f_code_11 f_length f_fault f_signMany f_at f_place a_g a_kept a_saved a_input a_signs a_ways a_needs a_walk a_one a_several a_ragged a_nextLine (nI 2) _ hw) gX3_183 ⟨rfl, hd_X3_isTooLong⟩ ⟨Nat.le_of_ble_eq_true rfl, Nat.le_of_ble_eq_true rfl⟩ rfl rfl hP hK hD [0, 1, 2, 3, 4, 5, 6, 7, 8, 9, 10, 11, 12] rfl (by decide) rfl 0 rfl rfl rfl rfl hl.1 (Nat.le_of_ble_eq_true rfl) rfl dX3_lineOf_10 ⟨Nat.le_refl 0, Nat.le_refl 0⟩) hP hD hS hA [0, 1, 2, 3, 4, 5, 6, 7, 8, 9, 10, 11, 12] [] [0, 1, 2, 3, 4, 5, 6, 7, 8, 9, 10, 11, 12] rfl rfl (by decide) (by decide) (by decide) (fun _ => rfl) (fun _ => rfl) (fun r13 u H locs hw _ hP hD hS => ?_)
    obtain ⟨f_code_14, a_ragged_15, a_nextLine_16⟩ := u
    have hP : va_P D vwCl (mdl ad dA f_isSaved f_changes f_code_14 f_length f_fault f_signMany f_at f_place a_g a_kept a_saved a_input a_signs a_ways a_needs a_walk a_one a_several a_ragged_15 a_nextLine_16) H := hP
    have hD : va_D A (mdl ad dA f_isSaved f_changes f_code_14 f_length f_fault f_signMany f_at f_place a_g a_kept a_saved a_input a_signs a_ways a_needs a_walk a_one a_several a_ragged_15 a_nextLine_16) := hD
    refine lv_if_eq (tgt := 20) hx hb dX3_lineOf_13 (by decide) (fun c17 => ?_) (fun c17 => ?_)
    · have hw := hw.1 c17
      refine lv_aload_n hx hb dX3_lineOf_20 rfl (lv_at hl 0 rfl) ?_
      refine lv_iload_n hx hb dX3_lineOf_21 rfl (lv_at hl 1 rfl) ?_
      refine k_ri (k_rV (As := [.int p0]) (rest := []) hSx (met_X3_line l D dA ad f_isSaved f_changes f_code_14 f_length f_fault f_signMany f_at f_place a_g a_kept a_saved a_input a_signs a_ways a_needs a_walk a_one a_several a_ragged_15 a_nextLine_16 p0 _ hw) gX3_186 ⟨rfl, hd_X3_line⟩ ⟨Nat.le_of_ble_eq_true rfl, Nat.le_of_ble_eq_true rfl⟩ rfl rfl hP hK [0, 1, 2, 3, 4, 5, 6, 7, 8, 9, 10, 11, 12] rfl 0 rfl rfl rfl rfl hl.1 (Nat.le_of_ble_eq_true rfl) rfl dX3_lineOf_22 ⟨Nat.le_refl 0, Nat.le_refl 0⟩) (fun r18 hw => ?_)
      exact W.iret (v := r18) hx hb hr (fun t ht hW => ⟨⟨r18, (f_code_14, a_ragged_15, a_nextLine_16), rfl, hw, by rw [ht]; exact hP, va_K.moved hW.alike hK, hD⟩, hS.F ht⟩) hS.2.2 dX3_lineOf_25
    · have hw := hw.2 c17
      refine lv_iconst (v := (nI 0)) hx hb dX3_lineOf_16 (by decide) ?_
      refine lv_goto (tgt := 25) hx hb dX3_lineOf_17 (by decide) ?_
      exact W.iret (v := (nI 0)) hx hb hr (fun t ht hW => ⟨⟨(nI 0), (f_code_14, a_ragged_15, a_nextLine_16), rfl, hw, by rw [ht]; exact hP, va_K.moved hW.alike hK, hD⟩, hS.F ht⟩) hS.2.2 dX3_lineOf_25
def rm_X3_grantedCount : Room := { frames := 0, cells := 0, slots := 0, locals := 0 }
set_option maxHeartbeats 4000000 in
set_option maxRecDepth 100000 in
theorem met_X3_grantedCount (l : Launch) (D : va_G) (dA : Nat → ClassId) (ad : Nat → Nat) (sz : Nat) (f_isSaved : Int32) (f_changes : Int32) (f_code : Int32) (f_length : Int32) (f_fault : Int32) (f_signMany : Int32) (f_at : Int32) (f_place : Int32) (a_g : (Nat → Int32)) (a_kept : (Nat → Int32)) (a_saved : (Nat → Int32)) (a_input : (Nat → Int32)) (a_signs : (Nat → Int32)) (a_ways : (Nat → Int64)) (a_needs : (Nat → Int32)) (a_walk : (Nat → Int32)) (a_one : (Nat → Int32)) (a_several : (Nat → Int32)) (a_ragged : (Nat → Int32)) (a_nextLine : (Nat → Int32))  (post : Int32 → Int32 → Prop) (hw : w_X3_grantedCount post f_code a_g) : Met l yX3_grantedCount (ws_ yX3_grantedCount cX3_grantedCount 1 (some .int)) rm_X3_grantedCount (va_Pc [.ref (ad 0)] (wrB D dA sz (mdl ad dA f_isSaved f_changes f_code f_length f_fault f_signMany f_at f_place a_g a_kept a_saved a_input a_signs a_ways a_needs a_walk a_one a_several a_ragged a_nextLine))) (va_Qi (fun (r : Int32) (u : Int32) => post r u) (fun (u : Int32) t => wrQ D dA (va_A (mdl ad dA f_isSaved f_changes f_code f_length f_fault f_signMany f_at f_place a_g a_kept a_saved a_input a_signs a_ways a_needs a_walk a_one a_several a_ragged a_nextLine) sz) (mdl ad dA f_isSaved f_changes u f_length f_fault f_signMany f_at f_place a_g a_kept a_saved a_input a_signs a_ways a_needs a_walk a_one a_several a_ragged a_nextLine) t) (va_A (mdl ad dA f_isSaved f_changes f_code f_length f_fault f_signMany f_at f_place a_g a_kept a_saved a_input a_signs a_ways a_needs a_walk a_one a_several a_ragged a_nextLine) sz)) 0 0 (va_A (mdl ad dA f_isSaved f_changes f_code f_length f_fault f_signMany f_at f_place a_g a_kept a_saved a_input a_signs a_ways a_needs a_walk a_one a_several a_ragged a_nextLine) sz) := by
  refine Met.ofW (cc := cX3_grantedCount) (maxL := 1) (ret := (some .int)) (by decide) rfl ?_
  intro p e s m args below meth c s₁ B hml hv
  obtain ⟨rfl, hsz, hP, hK, hD0⟩ := hv
  have hx := B.exec
  have hb := B.bytes
  have hr := B.returns
  have hts := atoms_spec (ws := (ws_ yX3_grantedCount cX3_grantedCount 1 (some .int))) B.pre
  have hts : ∀ w ∈ lw_all, w.before _ s = true := fun w h => hts w (List.mem_cons_of_mem _ h)
  have hown : s.vm.findClass RX3 = some m.cls := findClass_of_methodNamed B.named
  have hlocks := B.notSynchronized
  have hSx : CallFix p m c cX3_grantedCount 1 s _ lw_all RX3 := ⟨hx, hb, hml, hown, hts⟩
  subst hsz
  have hD := hD0.self (sz := s.heap.size)
  generalize hAe : va_A (mdl ad dA f_isSaved f_changes f_code f_length f_fault f_signMany f_at f_place a_g a_kept a_saved a_input a_signs a_ways a_needs a_walk a_one a_several a_ragged a_nextLine) s.heap.size = A at hD ⊢
  have hA : ∀ q : Nat, s.heap.size ≤ q → A q := fun q h => by rw [← hAe]; exact Or.inr h
  have hS : va_S A s.heap s.heap [] := va_S.rf
  have hl := lv_entry ([.ref (ad 0)]) (n := 1) (Nat.le_of_ble_eq_true rfl)
  rw [lg_entry_eq]
  generalize (lg_sl ([.ref (ad 0)]) ++ List.replicate (1 - (lg_sl ([.ref (ad 0)])).length) Slot.unset).toArray = ls at hl ⊢
  have hl : lv_has ls 1 [(0, .ref (ad 0))] := hl
  refine lv_aload_n hx hb dX3_grantedCount_0 rfl (lv_at hl 0 rfl) ?_
  refine lv_iconst (v := (nI 0)) hx hb dX3_grantedCount_1 (by decide) ?_
  refine va_put (D := D) (ci := 2) (v := .int (nI 0)) (ty := .int) (C := RX3) (T := TX3) (N := 20) hx hb hts in_X3 tyX3 tyX3_ok nmX3 hown hK hP hD hS 0 rfl rfl 5 (by decide) (hts _ q1746) (fun _ h9 => h9) rfl (by decide +kernel) rfl rfl (Nat.le_of_ble_eq_true rfl) dX3_grantedCount_2 (fun H locs hP hD hS => ?_)
  have hP : va_P D vwCl (mdl ad dA f_isSaved f_changes (nI 0) f_length f_fault f_signMany f_at f_place a_g a_kept a_saved a_input a_signs a_ways a_needs a_walk a_one a_several a_ragged a_nextLine) H := hP
  have hD : va_D A (mdl ad dA f_isSaved f_changes (nI 0) f_length f_fault f_signMany f_at f_place a_g a_kept a_saved a_input a_signs a_ways a_needs a_walk a_one a_several a_ragged a_nextLine) := hD
  refine lv_aload_n hx hb dX3_grantedCount_5 rfl (lv_at hl 0 rfl) ?_
  refine va_get (D := D) (ci := 2) (v := .ref (ad 1)) (C := RX3) (T := TX3) (N := 20) hx hb hts in_X3 hown hK hP 0 rfl rfl 0 (by decide) (hts _ q1741) (fun _ h9 => h9) rfl dX3_grantedCount_6 ?_
  refine lv_iconst (v := (nI 3)) hx hb dX3_grantedCount_9 (by decide) ?_
  refine k_iald (k := 3) hx hb hK hP 1 0 rfl rfl (clK 3 (by decide)) (inK (by decide) (by decide)) dX3_grantedCount_10 ?_
  exact W.iret (v := (a_g 3)) hx hb hr (fun t ht hW => ⟨⟨(a_g 3), (nI 0), rfl, hw, by rw [ht]; exact hP, va_K.moved hW.alike hK, hD⟩, hS.F ht⟩) hS.2.2 dX3_grantedCount_11
def rm_X3_spent : Room := { frames := 0, cells := 0, slots := 0, locals := 0 }
set_option maxHeartbeats 4000000 in
set_option maxRecDepth 100000 in
theorem met_X3_spent (l : Launch) (D : va_G) (dA : Nat → ClassId) (ad : Nat → Nat) (sz : Nat) (f_isSaved : Int32) (f_changes : Int32) (f_code : Int32) (f_length : Int32) (f_fault : Int32) (f_signMany : Int32) (f_at : Int32) (f_place : Int32) (a_g : (Nat → Int32)) (a_kept : (Nat → Int32)) (a_saved : (Nat → Int32)) (a_input : (Nat → Int32)) (a_signs : (Nat → Int32)) (a_ways : (Nat → Int64)) (a_needs : (Nat → Int32)) (a_walk : (Nat → Int32)) (a_one : (Nat → Int32)) (a_several : (Nat → Int32)) (a_ragged : (Nat → Int32)) (a_nextLine : (Nat → Int32))  (post : Int64 → Int32 → Prop) (hw : w_X3_spent post f_code a_g) : Met l yX3_spent (ws_ yX3_spent cX3_spent 1 (some .long)) rm_X3_spent (va_Pc [.ref (ad 0)] (wrB D dA sz (mdl ad dA f_isSaved f_changes f_code f_length f_fault f_signMany f_at f_place a_g a_kept a_saved a_input a_signs a_ways a_needs a_walk a_one a_several a_ragged a_nextLine))) (va_Ql (fun (r : Int64) (u : Int32) => post r u) (fun (u : Int32) t => wrQ D dA (va_A (mdl ad dA f_isSaved f_changes f_code f_length f_fault f_signMany f_at f_place a_g a_kept a_saved a_input a_signs a_ways a_needs a_walk a_one a_several a_ragged a_nextLine) sz) (mdl ad dA f_isSaved f_changes u f_length f_fault f_signMany f_at f_place a_g a_kept a_saved a_input a_signs a_ways a_needs a_walk a_one a_several a_ragged a_nextLine) t) (va_A (mdl ad dA f_isSaved f_changes f_code f_length f_fault f_signMany f_at f_place a_g a_kept a_saved a_input a_signs a_ways a_needs a_walk a_one a_several a_ragged a_nextLine) sz)) 0 0 (va_A (mdl ad dA f_isSaved f_changes f_code f_length f_fault f_signMany f_at f_place a_g a_kept a_saved a_input a_signs a_ways a_needs a_walk a_one a_several a_ragged a_nextLine) sz) := by
  refine Met.ofW (cc := cX3_spent) (maxL := 1) (ret := (some .long)) (by decide) rfl ?_
  intro p e s m args below meth c s₁ B hml hv
  obtain ⟨rfl, hsz, hP, hK, hD0⟩ := hv
  have hx := B.exec
  have hb := B.bytes
  have hr := B.returns
  have hts := atoms_spec (ws := (ws_ yX3_spent cX3_spent 1 (some .long))) B.pre
  have hts : ∀ w ∈ lw_all, w.before _ s = true := fun w h => hts w (List.mem_cons_of_mem _ h)
  have hown : s.vm.findClass RX3 = some m.cls := findClass_of_methodNamed B.named
  have hlocks := B.notSynchronized
  have hSx : CallFix p m c cX3_spent 1 s _ lw_all RX3 := ⟨hx, hb, hml, hown, hts⟩
  subst hsz
  have hD := hD0.self (sz := s.heap.size)
  generalize hAe : va_A (mdl ad dA f_isSaved f_changes f_code f_length f_fault f_signMany f_at f_place a_g a_kept a_saved a_input a_signs a_ways a_needs a_walk a_one a_several a_ragged a_nextLine) s.heap.size = A at hD ⊢
  have hA : ∀ q : Nat, s.heap.size ≤ q → A q := fun q h => by rw [← hAe]; exact Or.inr h
  have hS : va_S A s.heap s.heap [] := va_S.rf
  have hl := lv_entry ([.ref (ad 0)]) (n := 1) (Nat.le_of_ble_eq_true rfl)
  rw [lg_entry_eq]
  generalize (lg_sl ([.ref (ad 0)]) ++ List.replicate (1 - (lg_sl ([.ref (ad 0)])).length) Slot.unset).toArray = ls at hl ⊢
  have hl : lv_has ls 1 [(0, .ref (ad 0))] := hl
  refine lv_aload_n hx hb dX3_spent_0 rfl (lv_at hl 0 rfl) ?_
  refine lv_iconst (v := (nI 0)) hx hb dX3_spent_1 (by decide) ?_
  refine va_put (D := D) (ci := 2) (v := .int (nI 0)) (ty := .int) (C := RX3) (T := TX3) (N := 20) hx hb hts in_X3 tyX3 tyX3_ok nmX3 hown hK hP hD hS 0 rfl rfl 5 (by decide) (hts _ q1746) (fun _ h9 => h9) rfl (by decide +kernel) rfl rfl (Nat.le_of_ble_eq_true rfl) dX3_spent_2 (fun H locs hP hD hS => ?_)
  have hP : va_P D vwCl (mdl ad dA f_isSaved f_changes (nI 0) f_length f_fault f_signMany f_at f_place a_g a_kept a_saved a_input a_signs a_ways a_needs a_walk a_one a_several a_ragged a_nextLine) H := hP
  have hD : va_D A (mdl ad dA f_isSaved f_changes (nI 0) f_length f_fault f_signMany f_at f_place a_g a_kept a_saved a_input a_signs a_ways a_needs a_walk a_one a_several a_ragged a_nextLine) := hD
  refine lv_aload_n hx hb dX3_spent_5 rfl (lv_at hl 0 rfl) ?_
  refine va_get (D := D) (ci := 2) (v := .ref (ad 1)) (C := RX3) (T := TX3) (N := 20) hx hb hts in_X3 hown hK hP 0 rfl rfl 0 (by decide) (hts _ q1741) (fun _ h9 => h9) rfl dX3_spent_6 ?_
  refine lv_iconst (v := (nI 4)) hx hb dX3_spent_9 (by decide) ?_
  refine k_iald (k := 4) hx hb hK hP 1 0 rfl rfl (clK 4 (by decide)) (inK (by decide) (by decide)) dX3_spent_10 ?_
  refine lv_i2l (v := ((a_g 4)).toInt64) hx hb dX3_spent_11 rfl ?_
  exact W.lret (v := ((a_g 4).toInt64)) hx hb hr (fun t ht hW => ⟨⟨((a_g 4).toInt64), (nI 0), rfl, hw, by rw [ht]; exact hP, va_K.moved hW.alike hK, hD⟩, hS.F ht⟩) hS.2.2 dX3_spent_12
def rm_X3_gained : Room := { frames := 0, cells := 0, slots := 0, locals := 0 }
set_option maxHeartbeats 4000000 in
set_option maxRecDepth 100000 in
theorem met_X3_gained (l : Launch) (D : va_G) (dA : Nat → ClassId) (ad : Nat → Nat) (sz : Nat) (f_isSaved : Int32) (f_changes : Int32) (f_code : Int32) (f_length : Int32) (f_fault : Int32) (f_signMany : Int32) (f_at : Int32) (f_place : Int32) (a_g : (Nat → Int32)) (a_kept : (Nat → Int32)) (a_saved : (Nat → Int32)) (a_input : (Nat → Int32)) (a_signs : (Nat → Int32)) (a_ways : (Nat → Int64)) (a_needs : (Nat → Int32)) (a_walk : (Nat → Int32)) (a_one : (Nat → Int32)) (a_several : (Nat → Int32)) (a_ragged : (Nat → Int32)) (a_nextLine : (Nat → Int32))  (post : Int32 → Int32 → Prop) (hw : w_X3_gained post f_code a_g) : Met l yX3_gained (ws_ yX3_gained cX3_gained 1 (some .int)) rm_X3_gained (va_Pc [.ref (ad 0)] (wrB D dA sz (mdl ad dA f_isSaved f_changes f_code f_length f_fault f_signMany f_at f_place a_g a_kept a_saved a_input a_signs a_ways a_needs a_walk a_one a_several a_ragged a_nextLine))) (va_Qi (fun (r : Int32) (u : Int32) => post r u) (fun (u : Int32) t => wrQ D dA (va_A (mdl ad dA f_isSaved f_changes f_code f_length f_fault f_signMany f_at f_place a_g a_kept a_saved a_input a_signs a_ways a_needs a_walk a_one a_several a_ragged a_nextLine) sz) (mdl ad dA f_isSaved f_changes u f_length f_fault f_signMany f_at f_place a_g a_kept a_saved a_input a_signs a_ways a_needs a_walk a_one a_several a_ragged a_nextLine) t) (va_A (mdl ad dA f_isSaved f_changes f_code f_length f_fault f_signMany f_at f_place a_g a_kept a_saved a_input a_signs a_ways a_needs a_walk a_one a_several a_ragged a_nextLine) sz)) 0 0 (va_A (mdl ad dA f_isSaved f_changes f_code f_length f_fault f_signMany f_at f_place a_g a_kept a_saved a_input a_signs a_ways a_needs a_walk a_one a_several a_ragged a_nextLine) sz) := by
  refine Met.ofW (cc := cX3_gained) (maxL := 1) (ret := (some .int)) (by decide) rfl ?_
  intro p e s m args below meth c s₁ B hml hv
  obtain ⟨rfl, hsz, hP, hK, hD0⟩ := hv
  have hx := B.exec
  have hb := B.bytes
  have hr := B.returns
  have hts := atoms_spec (ws := (ws_ yX3_gained cX3_gained 1 (some .int))) B.pre
  have hts : ∀ w ∈ lw_all, w.before _ s = true := fun w h => hts w (List.mem_cons_of_mem _ h)
  have hown : s.vm.findClass RX3 = some m.cls := findClass_of_methodNamed B.named
  have hlocks := B.notSynchronized
  have hSx : CallFix p m c cX3_gained 1 s _ lw_all RX3 := ⟨hx, hb, hml, hown, hts⟩
  subst hsz
  have hD := hD0.self (sz := s.heap.size)
  generalize hAe : va_A (mdl ad dA f_isSaved f_changes f_code f_length f_fault f_signMany f_at f_place a_g a_kept a_saved a_input a_signs a_ways a_needs a_walk a_one a_several a_ragged a_nextLine) s.heap.size = A at hD ⊢
  have hA : ∀ q : Nat, s.heap.size ≤ q → A q := fun q h => by rw [← hAe]; exact Or.inr h
  have hS : va_S A s.heap s.heap [] := va_S.rf
  have hl := lv_entry ([.ref (ad 0)]) (n := 1) (Nat.le_of_ble_eq_true rfl)
  rw [lg_entry_eq]
  generalize (lg_sl ([.ref (ad 0)]) ++ List.replicate (1 - (lg_sl ([.ref (ad 0)])).length) Slot.unset).toArray = ls at hl ⊢
  have hl : lv_has ls 1 [(0, .ref (ad 0))] := hl
  refine lv_aload_n hx hb dX3_gained_0 rfl (lv_at hl 0 rfl) ?_
  refine lv_iconst (v := (nI 0)) hx hb dX3_gained_1 (by decide) ?_
  refine va_put (D := D) (ci := 2) (v := .int (nI 0)) (ty := .int) (C := RX3) (T := TX3) (N := 20) hx hb hts in_X3 tyX3 tyX3_ok nmX3 hown hK hP hD hS 0 rfl rfl 5 (by decide) (hts _ q1746) (fun _ h9 => h9) rfl (by decide +kernel) rfl rfl (Nat.le_of_ble_eq_true rfl) dX3_gained_2 (fun H locs hP hD hS => ?_)
  have hP : va_P D vwCl (mdl ad dA f_isSaved f_changes (nI 0) f_length f_fault f_signMany f_at f_place a_g a_kept a_saved a_input a_signs a_ways a_needs a_walk a_one a_several a_ragged a_nextLine) H := hP
  have hD : va_D A (mdl ad dA f_isSaved f_changes (nI 0) f_length f_fault f_signMany f_at f_place a_g a_kept a_saved a_input a_signs a_ways a_needs a_walk a_one a_several a_ragged a_nextLine) := hD
  refine lv_aload_n hx hb dX3_gained_5 rfl (lv_at hl 0 rfl) ?_
  refine va_get (D := D) (ci := 2) (v := .ref (ad 1)) (C := RX3) (T := TX3) (N := 20) hx hb hts in_X3 hown hK hP 0 rfl rfl 0 (by decide) (hts _ q1741) (fun _ h9 => h9) rfl dX3_gained_6 ?_
  refine lv_iconst (v := (nI 5)) hx hb dX3_gained_9 (by decide) ?_
  refine k_iald (k := 5) hx hb hK hP 1 0 rfl rfl (clK 5 (by decide)) (inK (by decide) (by decide)) dX3_gained_10 ?_
  exact W.iret (v := (a_g 5)) hx hb hr (fun t ht hW => ⟨⟨(a_g 5), (nI 0), rfl, hw, by rw [ht]; exact hP, va_K.moved hW.alike hK, hD⟩, hS.F ht⟩) hS.2.2 dX3_gained_11
def rm_X3_lost : Room := { frames := 0, cells := 0, slots := 0, locals := 0 }
set_option maxHeartbeats 4000000 in
set_option maxRecDepth 100000 in
theorem met_X3_lost (l : Launch) (D : va_G) (dA : Nat → ClassId) (ad : Nat → Nat) (sz : Nat) (f_isSaved : Int32) (f_changes : Int32) (f_code : Int32) (f_length : Int32) (f_fault : Int32) (f_signMany : Int32) (f_at : Int32) (f_place : Int32) (a_g : (Nat → Int32)) (a_kept : (Nat → Int32)) (a_saved : (Nat → Int32)) (a_input : (Nat → Int32)) (a_signs : (Nat → Int32)) (a_ways : (Nat → Int64)) (a_needs : (Nat → Int32)) (a_walk : (Nat → Int32)) (a_one : (Nat → Int32)) (a_several : (Nat → Int32)) (a_ragged : (Nat → Int32)) (a_nextLine : (Nat → Int32))  (post : Int32 → Int32 → Prop) (hw : w_X3_lost post f_code a_g) : Met l yX3_lost (ws_ yX3_lost cX3_lost 1 (some .int)) rm_X3_lost (va_Pc [.ref (ad 0)] (wrB D dA sz (mdl ad dA f_isSaved f_changes f_code f_length f_fault f_signMany f_at f_place a_g a_kept a_saved a_input a_signs a_ways a_needs a_walk a_one a_several a_ragged a_nextLine))) (va_Qi (fun (r : Int32) (u : Int32) => post r u) (fun (u : Int32) t => wrQ D dA (va_A (mdl ad dA f_isSaved f_changes f_code f_length f_fault f_signMany f_at f_place a_g a_kept a_saved a_input a_signs a_ways a_needs a_walk a_one a_several a_ragged a_nextLine) sz) (mdl ad dA f_isSaved f_changes u f_length f_fault f_signMany f_at f_place a_g a_kept a_saved a_input a_signs a_ways a_needs a_walk a_one a_several a_ragged a_nextLine) t) (va_A (mdl ad dA f_isSaved f_changes f_code f_length f_fault f_signMany f_at f_place a_g a_kept a_saved a_input a_signs a_ways a_needs a_walk a_one a_several a_ragged a_nextLine) sz)) 0 0 (va_A (mdl ad dA f_isSaved f_changes f_code f_length f_fault f_signMany f_at f_place a_g a_kept a_saved a_input a_signs a_ways a_needs a_walk a_one a_several a_ragged a_nextLine) sz) := by
  refine Met.ofW (cc := cX3_lost) (maxL := 1) (ret := (some .int)) (by decide) rfl ?_
  intro p e s m args below meth c s₁ B hml hv
  obtain ⟨rfl, hsz, hP, hK, hD0⟩ := hv
  have hx := B.exec
  have hb := B.bytes
  have hr := B.returns
  have hts := atoms_spec (ws := (ws_ yX3_lost cX3_lost 1 (some .int))) B.pre
  have hts : ∀ w ∈ lw_all, w.before _ s = true := fun w h => hts w (List.mem_cons_of_mem _ h)
  have hown : s.vm.findClass RX3 = some m.cls := findClass_of_methodNamed B.named
  have hlocks := B.notSynchronized
  have hSx : CallFix p m c cX3_lost 1 s _ lw_all RX3 := ⟨hx, hb, hml, hown, hts⟩
  subst hsz
  have hD := hD0.self (sz := s.heap.size)
  generalize hAe : va_A (mdl ad dA f_isSaved f_changes f_code f_length f_fault f_signMany f_at f_place a_g a_kept a_saved a_input a_signs a_ways a_needs a_walk a_one a_several a_ragged a_nextLine) s.heap.size = A at hD ⊢
  have hA : ∀ q : Nat, s.heap.size ≤ q → A q := fun q h => by rw [← hAe]; exact Or.inr h
  have hS : va_S A s.heap s.heap [] := va_S.rf
  have hl := lv_entry ([.ref (ad 0)]) (n := 1) (Nat.le_of_ble_eq_true rfl)
  rw [lg_entry_eq]
  generalize (lg_sl ([.ref (ad 0)]) ++ List.replicate (1 - (lg_sl ([.ref (ad 0)])).length) Slot.unset).toArray = ls at hl ⊢
  have hl : lv_has ls 1 [(0, .ref (ad 0))] := hl
  refine lv_aload_n hx hb dX3_lost_0 rfl (lv_at hl 0 rfl) ?_
  refine lv_iconst (v := (nI 0)) hx hb dX3_lost_1 (by decide) ?_
  refine va_put (D := D) (ci := 2) (v := .int (nI 0)) (ty := .int) (C := RX3) (T := TX3) (N := 20) hx hb hts in_X3 tyX3 tyX3_ok nmX3 hown hK hP hD hS 0 rfl rfl 5 (by decide) (hts _ q1746) (fun _ h9 => h9) rfl (by decide +kernel) rfl rfl (Nat.le_of_ble_eq_true rfl) dX3_lost_2 (fun H locs hP hD hS => ?_)
  have hP : va_P D vwCl (mdl ad dA f_isSaved f_changes (nI 0) f_length f_fault f_signMany f_at f_place a_g a_kept a_saved a_input a_signs a_ways a_needs a_walk a_one a_several a_ragged a_nextLine) H := hP
  have hD : va_D A (mdl ad dA f_isSaved f_changes (nI 0) f_length f_fault f_signMany f_at f_place a_g a_kept a_saved a_input a_signs a_ways a_needs a_walk a_one a_several a_ragged a_nextLine) := hD
  refine lv_aload_n hx hb dX3_lost_5 rfl (lv_at hl 0 rfl) ?_
  refine va_get (D := D) (ci := 2) (v := .ref (ad 1)) (C := RX3) (T := TX3) (N := 20) hx hb hts in_X3 hown hK hP 0 rfl rfl 0 (by decide) (hts _ q1741) (fun _ h9 => h9) rfl dX3_lost_6 ?_
  refine lv_bipush (v := (nI 6)) hx hb dX3_lost_9 (by decide) ?_
  refine k_iald (k := 6) hx hb hK hP 1 0 rfl rfl (clK 6 (by decide)) (inK (by decide) (by decide)) dX3_lost_11 ?_
  exact W.iret (v := (a_g 6)) hx hb hr (fun t ht hW => ⟨⟨(a_g 6), (nI 0), rfl, hw, by rw [ht]; exact hP, va_K.moved hW.alike hK, hD⟩, hS.F ht⟩) hS.2.2 dX3_lost_12
def rm_X3_meanValue : Room := { frames := 36, cells := 0, slots := 0, locals := 823 }
set_option maxHeartbeats 4000000 in
set_option maxRecDepth 100000 in
theorem met_X3_meanValue (l : Launch) (D : va_G) (dA : Nat → ClassId) (ad : Nat → Nat) (sz : Nat) (f_isSaved : Int32) (f_changes : Int32) (f_code : Int32) (f_length : Int32) (f_fault : Int32) (f_signMany : Int32) (f_at : Int32) (f_place : Int32) (a_g : (Nat → Int32)) (a_kept : (Nat → Int32)) (a_saved : (Nat → Int32)) (a_input : (Nat → Int32)) (a_signs : (Nat → Int32)) (a_ways : (Nat → Int64)) (a_needs : (Nat → Int32)) (a_walk : (Nat → Int32)) (a_one : (Nat → Int32)) (a_several : (Nat → Int32)) (a_ragged : (Nat → Int32)) (a_nextLine : (Nat → Int32))  (post : UInt64 → Int32 → Int32 → Prop) (hw : w_X3_meanValue post f_code f_place a_g) : Met l yX3_meanValue (ws_ yX3_meanValue cX3_meanValue 3 (some .double)) rm_X3_meanValue (va_Pc [.ref (ad 0)] (wrB D dA sz (mdl ad dA f_isSaved f_changes f_code f_length f_fault f_signMany f_at f_place a_g a_kept a_saved a_input a_signs a_ways a_needs a_walk a_one a_several a_ragged a_nextLine))) (va_Qd (fun (r : UInt64) (u : Int32 × Int32) => post r u.1 u.2) (fun (u : Int32 × Int32) t => wrQ D dA (va_A (mdl ad dA f_isSaved f_changes f_code f_length f_fault f_signMany f_at f_place a_g a_kept a_saved a_input a_signs a_ways a_needs a_walk a_one a_several a_ragged a_nextLine) sz) (mdl ad dA f_isSaved f_changes u.1 f_length f_fault f_signMany f_at u.2 a_g a_kept a_saved a_input a_signs a_ways a_needs a_walk a_one a_several a_ragged a_nextLine) t) (va_A (mdl ad dA f_isSaved f_changes f_code f_length f_fault f_signMany f_at f_place a_g a_kept a_saved a_input a_signs a_ways a_needs a_walk a_one a_several a_ragged a_nextLine) sz)) 0 0 (va_A (mdl ad dA f_isSaved f_changes f_code f_length f_fault f_signMany f_at f_place a_g a_kept a_saved a_input a_signs a_ways a_needs a_walk a_one a_several a_ragged a_nextLine) sz) := by
  refine Met.ofW (cc := cX3_meanValue) (maxL := 3) (ret := (some .double)) (by decide) rfl ?_
  intro p e s m args below meth c s₁ B hml hv
  obtain ⟨rfl, hsz, hP, hK, hD0⟩ := hv
  have hx := B.exec
  have hb := B.bytes
  have hr := B.returns
  have hts := atoms_spec (ws := (ws_ yX3_meanValue cX3_meanValue 3 (some .double))) B.pre
  have hts : ∀ w ∈ lw_all, w.before _ s = true := fun w h => hts w (List.mem_cons_of_mem _ h)
  have hown : s.vm.findClass RX3 = some m.cls := findClass_of_methodNamed B.named
  have hlocks := B.notSynchronized
  have hSx : CallFix p m c cX3_meanValue 3 s _ lw_all RX3 := ⟨hx, hb, hml, hown, hts⟩
  subst hsz
  have hD := hD0.self (sz := s.heap.size)
  generalize hAe : va_A (mdl ad dA f_isSaved f_changes f_code f_length f_fault f_signMany f_at f_place a_g a_kept a_saved a_input a_signs a_ways a_needs a_walk a_one a_several a_ragged a_nextLine) s.heap.size = A at hD ⊢
  have hA : ∀ q : Nat, s.heap.size ≤ q → A q := fun q h => by rw [← hAe]; exact Or.inr h
  have hS : va_S A s.heap s.heap [] := va_S.rf
  have hl := lv_entry ([.ref (ad 0)]) (n := 3) (Nat.le_of_ble_eq_true rfl)
  rw [lg_entry_eq]
  generalize (lg_sl ([.ref (ad 0)]) ++ List.replicate (3 - (lg_sl ([.ref (ad 0)])).length) Slot.unset).toArray = ls at hl ⊢
  have hl : lv_has ls 3 [(0, .ref (ad 0))] := hl
  have hL27 : ∀  (n : Nat) (f_code : Int32) (f_place : Int32) (v1 : Int32) (v2 : Int32) (H : Heap) (locs : List Loc) (ls : Array Slot), va_P D vwCl (mdl ad dA f_isSaved f_changes f_code f_length f_fault f_signMany f_at f_place a_g a_kept a_saved a_input a_signs a_ways a_needs a_walk a_one a_several a_ragged a_nextLine) H → va_D A (mdl ad dA f_isSaved f_changes f_code f_length f_fault f_signMany f_at f_place a_g a_kept a_saved a_input a_signs a_ways a_needs a_walk a_one a_several a_ragged a_nextLine) → va_S A s.heap H locs → lv_has ls 3 [(0, .ref (ad 0)), (1, .int v1), (2, .int v2)] → lpF (fun _ _ _ _ => False) (w_X3_meanValue_27 post a_g) n f_code f_place v1 v2 → W p l e (headSpec (ws_ yX3_meanValue cX3_meanValue 3 (some .double)) rm_X3_meanValue).room s m ([.ref (ad 0)] : List Value).toArray below meth c H locs 0 0 (MQ below (va_Qd (fun (r : UInt64) (u : Int32 × Int32) => post r u.1 u.2) (fun (u : Int32 × Int32) t => wrQ D dA A (mdl ad dA f_isSaved f_changes u.1 f_length f_fault f_signMany f_at u.2 a_g a_kept a_saved a_input a_signs a_ways a_needs a_walk a_one a_several a_ragged a_nextLine) t) A) ([.ref (ad 0)] : List Value).toArray s 0 0 A) (F0 m 27 ls []) := by
    intro  n
    induction n with
    | zero => intro f_code f_place v1 v2 H locs ls hP hD hS hl hw; exact absurd hw id
    | succ n hk27 =>
      intro f_code f_place v1 v2 H locs ls hP hD hS hl hw
      generalize hk9 : lpF (fun _ _ _ _ => False) (w_X3_meanValue_27 post a_g) n = k27 at hk27
      have hw : (w_X3_meanValue_27 post a_g) k27 f_code f_place v1 v2 := hk9 ▸ hw
      refine lv_iload_n hx hb dX3_meanValue_27 rfl (lv_at hl 2 rfl) ?_
      refine lv_aload_n hx hb dX3_meanValue_28 rfl (lv_at hl 0 rfl) ?_
      refine va_get (D := D) (ci := 2) (v := .ref (ad 1)) (C := RX3) (T := TX3) (N := 20) hx hb hts in_X3 hown hK hP 0 rfl rfl 0 (by decide) (hts _ q1741) (fun _ h9 => h9) rfl dX3_meanValue_29 ?_
      refine lv_iconst (v := (nI 1)) hx hb dX3_meanValue_32 (by decide) ?_
      refine k_iald (k := 1) hx hb hK hP 1 0 rfl rfl (clK 1 (by decide)) (inK (by decide) (by decide)) dX3_meanValue_33 ?_
      refine lv_icmp_ge (tgt := 51) hx hb dX3_meanValue_34 (by decide) (fun c9 => ?_) (fun c9 => ?_)
      · have hw := hw.1 c9
        refine lv_iload_n hx hb dX3_meanValue_51 rfl (lv_at hl 1 rfl) ?_
        refine lv_i2d hx hb dX3_meanValue_52 ?_
        refine lv_aload_n hx hb dX3_meanValue_53 rfl (lv_at hl 0 rfl) ?_
        refine va_get (D := D) (ci := 2) (v := .ref (ad 1)) (C := RX3) (T := TX3) (N := 20) hx hb hts in_X3 hown hK hP 0 rfl rfl 0 (by decide) (hts _ q1741) (fun _ h9 => h9) rfl dX3_meanValue_54 ?_
        refine lv_iconst (v := (nI 1)) hx hb dX3_meanValue_57 (by decide) ?_
        refine k_iald (k := 1) hx hb hK hP 1 0 rfl rfl (clK 1 (by decide)) (inK (by decide) (by decide)) dX3_meanValue_58 ?_
        refine lv_i2d hx hb dX3_meanValue_59 ?_
        obtain ⟨h10, hw⟩ := hw
        refine lv_ddiv hx hb dX3_meanValue_60 h10 ?_
        exact W.dret (v := (FP.ddiv (FP.i2d v1) (FP.i2d (a_g 1)))) hx hb hr (fun t ht hW => ⟨⟨(FP.ddiv (FP.i2d v1) (FP.i2d (a_g 1))), (f_code, f_place), rfl, hw, by rw [ht]; exact hP, va_K.moved hW.alike hK, hD⟩, hS.F ht⟩) hS.2.2 dX3_meanValue_61
      · have hw := hw.2 c9
        refine lv_iload_n hx hb dX3_meanValue_37 rfl (lv_at hl 1 rfl) ?_
        refine lv_aload_n hx hb dX3_meanValue_38 rfl (lv_at hl 0 rfl) ?_
        refine lv_iload_n hx hb dX3_meanValue_39 rfl (lv_at hl 2 rfl) ?_
        refine k_wi (wn := fun (u : Int32) => (mdl ad dA f_isSaved f_changes f_code f_length f_fault f_signMany f_at u a_g a_kept a_saved a_input a_signs a_ways a_needs a_walk a_one a_several a_ragged a_nextLine)) (wr := []) (k_wV (As := [.int v2]) (rest := [.int v1]) hSx (met_X3_value l D dA ad _ f_isSaved f_changes f_code f_length f_fault f_signMany f_at f_place a_g a_kept a_saved a_input a_signs a_ways a_needs a_walk a_one a_several a_ragged a_nextLine v2 _ hw) gX3_172 ⟨rfl, hd_X3_value⟩ ⟨Nat.le_of_ble_eq_true rfl, Nat.le_of_ble_eq_true rfl⟩ rfl rfl hP hK hD [0, 1, 2, 3, 4, 5, 6, 7, 8, 9, 10, 11, 12] rfl (by decide) rfl 0 rfl rfl rfl rfl hl.1 (Nat.le_of_ble_eq_true rfl) rfl dX3_meanValue_40 ⟨Nat.le_refl 0, Nat.le_refl 0⟩) hP hD hS hA [0, 1, 2, 3, 4, 5, 6, 7, 8, 9, 10, 11, 12] [] [0, 1, 2, 3, 4, 5, 6, 7, 8, 9, 10, 11, 12] rfl rfl (by decide) (by decide) (by decide) (fun _ => rfl) (fun _ => rfl) (fun r11 u H locs hw _ hP hD hS => ?_)
        obtain ⟨f_place_12, rfl⟩ : ∃ z, z = u := ⟨_, rfl⟩
        have hP : va_P D vwCl (mdl ad dA f_isSaved f_changes f_code f_length f_fault f_signMany f_at f_place_12 a_g a_kept a_saved a_input a_signs a_ways a_needs a_walk a_one a_several a_ragged a_nextLine) H := hP
        have hD : va_D A (mdl ad dA f_isSaved f_changes f_code f_length f_fault f_signMany f_at f_place_12 a_g a_kept a_saved a_input a_signs a_ways a_needs a_walk a_one a_several a_ragged a_nextLine) := hD
        refine lv_iadd hx hb dX3_meanValue_43 ?_
        refine lv_istore_n (lv' := [(1, .int (v1 + r11)), (0, .ref (ad 0)), (2, .int v2)]) hx hb dX3_meanValue_44 rfl hl (by decide) rfl (fun ls hl => ?_)
        refine lv_iinc (v := (v2 + (nI 1))) (lv' := [(2, .int (v2 + (nI 1))), (1, .int (v1 + r11)), (0, .ref (ad 0))]) hx hb dX3_meanValue_45 hl (k := 2) rfl (congrArg (fun z => v2 + z) (by decide : Int32.ofInt (1) = (nI 1))) (by decide) rfl (fun ls hl => ?_)
        refine lv_goto (tgt := 27) hx hb dX3_meanValue_48 (by decide) ?_
        exact hk27 f_code f_place_12 (v1 + r11) (v2 + (nI 1)) _ _ _ hP hD hS (lv_sub hl [2, 1, 0] rfl) hw
  have hL15 : ∀  (f_code : Int32) (f_place : Int32) (s1 : Int32) (H : Heap) (locs : List Loc) (ls : Array Slot), va_P D vwCl (mdl ad dA f_isSaved f_changes f_code f_length f_fault f_signMany f_at f_place a_g a_kept a_saved a_input a_signs a_ways a_needs a_walk a_one a_several a_ragged a_nextLine) H → va_D A (mdl ad dA f_isSaved f_changes f_code f_length f_fault f_signMany f_at f_place a_g a_kept a_saved a_input a_signs a_ways a_needs a_walk a_one a_several a_ragged a_nextLine) → va_S A s.heap H locs → lv_has ls 3 [(0, .ref (ad 0))] → (w_X3_meanValue_15 post a_g) f_code f_place s1 → W p l e (headSpec (ws_ yX3_meanValue cX3_meanValue 3 (some .double)) rm_X3_meanValue).room s m ([.ref (ad 0)] : List Value).toArray below meth c H locs 0 0 (MQ below (va_Qd (fun (r : UInt64) (u : Int32 × Int32) => post r u.1 u.2) (fun (u : Int32 × Int32) t => wrQ D dA A (mdl ad dA f_isSaved f_changes u.1 f_length f_fault f_signMany f_at u.2 a_g a_kept a_saved a_input a_signs a_ways a_needs a_walk a_one a_several a_ragged a_nextLine) t) A) ([.ref (ad 0)] : List Value).toArray s 0 0 A) (F0 m 15 ls [.int s1, .ref (ad 0)]) := by
      intro  f_code f_place s1 H locs ls hP hD hS hl hw
      refine k_wi (wn := fun (u : Int32) => (mdl ad dA f_isSaved f_changes u f_length f_fault f_signMany f_at f_place a_g a_kept a_saved a_input a_signs a_ways a_needs a_walk a_one a_several a_ragged a_nextLine)) (wr := []) (k_wV (As := [.int s1]) (rest := []) hSx (met_X3_fails l D dA ad _ f_isSaved f_changes f_code f_length f_fault f_signMany f_at f_place a_g a_kept a_saved a_input a_signs a_ways a_needs a_walk a_one a_several a_ragged a_nextLine s1 _ hw) gX3_70 ⟨rfl, hd_X3_fails⟩ ⟨Nat.le_of_ble_eq_true rfl, Nat.le_of_ble_eq_true rfl⟩ rfl rfl hP hK hD [0, 1, 2, 3, 4, 5, 6, 7, 8, 9, 10, 11, 12] rfl (by decide) rfl 0 rfl rfl rfl rfl hl.1 (Nat.le_of_ble_eq_true rfl) rfl dX3_meanValue_15 ⟨Nat.le_refl 0, Nat.le_refl 0⟩) hP hD hS hA [0, 1, 2, 3, 4, 5, 6, 7, 8, 9, 10, 11, 12] [] [0, 1, 2, 3, 4, 5, 6, 7, 8, 9, 10, 11, 12] rfl rfl (by decide) (by decide) (by decide) (fun _ => rfl) (fun _ => rfl) (fun r13 u H locs hw _ hP hD hS => ?_)
      obtain ⟨f_code_14, rfl⟩ : ∃ z, z = u := ⟨_, rfl⟩
      have hP : va_P D vwCl (mdl ad dA f_isSaved f_changes f_code_14 f_length f_fault f_signMany f_at f_place a_g a_kept a_saved a_input a_signs a_ways a_needs a_walk a_one a_several a_ragged a_nextLine) H := hP
      have hD : va_D A (mdl ad dA f_isSaved f_changes f_code_14 f_length f_fault f_signMany f_at f_place a_g a_kept a_saved a_input a_signs a_ways a_needs a_walk a_one a_several a_ragged a_nextLine) := hD
      refine lv_if_eq (tgt := 23) hx hb dX3_meanValue_18 (by decide) (fun c15 => ?_) (fun c15 => ?_)
      · have hw := hw.1 c15
        refine lv_iconst (v := (nI 0)) hx hb dX3_meanValue_23 (by decide) ?_
        refine lv_istore_n (lv' := [(1, .int (nI 0)), (0, .ref (ad 0))]) hx hb dX3_meanValue_24 rfl hl (by decide) rfl (fun ls hl => ?_)
        refine lv_iconst (v := (nI 0)) hx hb dX3_meanValue_25 (by decide) ?_
        refine lv_istore_n (lv' := [(2, .int (nI 0)), (1, .int (nI 0)), (0, .ref (ad 0))]) hx hb dX3_meanValue_26 rfl hl (by decide) rfl (fun ls hl => ?_)
        obtain ⟨n, hw⟩ := hw
        exact hL27  n f_code_14 f_place (nI 0) (nI 0) _ _ _ hP hD hS (lv_sub hl [2, 1, 0] rfl) hw
      · have hw := hw.2 c15
        refine lv_dconst0 hx hb dX3_meanValue_21 ?_
        exact W.dret (v := FP.dconst0) hx hb hr (fun t ht hW => ⟨⟨FP.dconst0, (f_code_14, f_place), rfl, hw, by rw [ht]; exact hP, va_K.moved hW.alike hK, hD⟩, hS.F ht⟩) hS.2.2 dX3_meanValue_22
  refine lv_aload_n hx hb dX3_meanValue_0 rfl (lv_at hl 0 rfl) ?_
  refine lv_aload_n hx hb dX3_meanValue_1 rfl (lv_at hl 0 rfl) ?_
  refine va_get (D := D) (ci := 2) (v := .ref (ad 1)) (C := RX3) (T := TX3) (N := 20) hx hb hts in_X3 hown hK hP 0 rfl rfl 0 (by decide) (hts _ q1741) (fun _ h9 => h9) rfl dX3_meanValue_2 ?_
  refine lv_iconst (v := (nI 1)) hx hb dX3_meanValue_5 (by decide) ?_
  refine k_iald (k := 1) hx hb hK hP 1 0 rfl rfl (clK 1 (by decide)) (inK (by decide) (by decide)) dX3_meanValue_6 ?_
  refine lv_if_ne (tgt := 14) hx hb dX3_meanValue_7 (by decide) (fun c16 => ?_) (fun c16 => ?_)
  · have hw := hw.2 c16
    refine lv_iconst (v := (nI 0)) hx hb dX3_meanValue_14 (by decide) ?_
    exact hL15  f_code f_place (nI 0) _ _ _ hP hD hS (lv_sub hl [0] rfl) hw
  · have hw := hw.1 c16
    refine lv_iconst (v := (nI 1)) hx hb dX3_meanValue_10 (by decide) ?_
    refine lv_goto (tgt := 15) hx hb dX3_meanValue_11 (by decide) ?_
    exact hL15  f_code f_place (nI 1) _ _ _ hP hD hS (lv_sub hl [0] rfl) hw
def rm_X3_allFavor : Room := { frames := 0, cells := 0, slots := 0, locals := 0 }
set_option maxHeartbeats 4000000 in
set_option maxRecDepth 100000 in
theorem met_X3_allFavor (l : Launch) (D : va_G) (dA : Nat → ClassId) (ad : Nat → Nat) (f_isSaved : Int32) (f_changes : Int32) (f_code : Int32) (f_length : Int32) (f_fault : Int32) (f_signMany : Int32) (f_at : Int32) (f_place : Int32) (a_g : (Nat → Int32)) (a_kept : (Nat → Int32)) (a_saved : (Nat → Int32)) (a_input : (Nat → Int32)) (a_signs : (Nat → Int32)) (a_ways : (Nat → Int64)) (a_needs : (Nat → Int32)) (a_walk : (Nat → Int32)) (a_one : (Nat → Int32)) (a_several : (Nat → Int32)) (a_ragged : (Nat → Int32)) (a_nextLine : (Nat → Int32))  (post : Int32 → Prop) (hw : w_X3_allFavor post a_g) : Met l yX3_allFavor (ws_ yX3_allFavor cX3_allFavor 3 (some .int)) rm_X3_allFavor (va_Pc [.ref (ad 0)] (rdB D dA (mdl ad dA f_isSaved f_changes f_code f_length f_fault f_signMany f_at f_place a_g a_kept a_saved a_input a_signs a_ways a_needs a_walk a_one a_several a_ragged a_nextLine))) (vp_Si (fun r => post r)) 0 0 (fun _ => False) := by
  refine Met.ofW (cc := cX3_allFavor) (maxL := 3) (ret := (some .int)) (by decide) rfl ?_
  intro p e s m args below meth c s₁ B hml hv
  obtain ⟨rfl, hP, hK⟩ := hv
  have hx := B.exec
  have hb := B.bytes
  have hr := B.returns
  have hts := atoms_spec (ws := (ws_ yX3_allFavor cX3_allFavor 3 (some .int))) B.pre
  have hts : ∀ w ∈ lw_all, w.before _ s = true := fun w h => hts w (List.mem_cons_of_mem _ h)
  have hown : s.vm.findClass RX3 = some m.cls := findClass_of_methodNamed B.named
  have hlocks := B.notSynchronized
  have hSx : CallFix p m c cX3_allFavor 3 s _ lw_all RX3 := ⟨hx, hb, hml, hown, hts⟩
  have hl := lv_entry ([.ref (ad 0)]) (n := 3) (Nat.le_of_ble_eq_true rfl)
  rw [lg_entry_eq]
  generalize (lg_sl ([.ref (ad 0)]) ++ List.replicate (3 - (lg_sl ([.ref (ad 0)])).length) Slot.unset).toArray = ls at hl ⊢
  have hl : lv_has ls 3 [(0, .ref (ad 0))] := hl
  have hL4 : ∀  (n : Nat) (v1 : Int32) (v2 : Int32) (ls : Array Slot), lv_has ls 3 [(0, .ref (ad 0)), (1, .int v1), (2, .int v2)] → lpF (fun _ _ => False) (w_X3_allFavor_4 post a_g) n v1 v2 → W p l e (headSpec (ws_ yX3_allFavor cX3_allFavor 3 (some .int)) rm_X3_allFavor).room s m ([.ref (ad 0)] : List Value).toArray below meth c s.heap [] 0 0 (MQ below (vp_Si (fun r => post r)) ([.ref (ad 0)] : List Value).toArray s 0 0 (fun _ => False)) (F0 m 4 ls []) := by
    intro  n
    induction n with
    | zero => intro v1 v2 ls hl hw; exact absurd hw id
    | succ n hk4 =>
      intro v1 v2 ls hl hw
      generalize hk9 : lpF (fun _ _ => False) (w_X3_allFavor_4 post a_g) n = k4 at hk4
      have hw : (w_X3_allFavor_4 post a_g) k4 v1 v2 := hk9 ▸ hw
      refine lv_iload_n hx hb dX3_allFavor_4 rfl (lv_at hl 2 rfl) ?_
      refine lv_bipush (v := (nI 8)) hx hb dX3_allFavor_5 (by decide) ?_
      refine lv_icmp_ge (tgt := 28) hx hb dX3_allFavor_7 (by decide) (fun c3 => ?_) (fun c3 => ?_)
      · have hw := hw.1 c3
        refine lv_iload_n hx hb dX3_allFavor_28 rfl (lv_at hl 1 rfl) ?_
        exact W.iret (v := v1) hx hb hr (fun t ht hW => ⟨v1, rfl, hw, ht⟩) (fun _ h => by cases h) dX3_allFavor_29
      · have hw := hw.2 c3
        refine lv_iload_n hx hb dX3_allFavor_10 rfl (lv_at hl 1 rfl) ?_
        refine lv_aload_n hx hb dX3_allFavor_11 rfl (lv_at hl 0 rfl) ?_
        refine va_get (D := D) (ci := 2) (v := .ref (ad 1)) (C := RX3) (T := TX3) (N := 20) hx hb hts in_X3 hown hK hP 0 rfl rfl 0 (by decide) (hts _ q1741) (fun _ h9 => h9) rfl dX3_allFavor_12 ?_
        refine lv_bipush (v := (nI 16)) hx hb dX3_allFavor_15 (by decide) ?_
        refine lv_iload_n hx hb dX3_allFavor_17 rfl (lv_at hl 2 rfl) ?_
        refine lv_iadd hx hb dX3_allFavor_18 ?_
        obtain ⟨h4, hw⟩ := hw
        refine k_iald (k := ((nI 16) + v2).toNatClampNeg) hx hb hK hP 1 0 rfl rfl rfl h4 dX3_allFavor_19 ?_
        refine lv_iadd hx hb dX3_allFavor_20 ?_
        refine lv_istore_n (lv' := [(1, .int (v1 + (a_g ((nI 16) + v2).toNatClampNeg))), (0, .ref (ad 0)), (2, .int v2)]) hx hb dX3_allFavor_21 rfl hl (by decide) rfl (fun ls hl => ?_)
        refine lv_iinc (v := (v2 + (nI 1))) (lv' := [(2, .int (v2 + (nI 1))), (1, .int (v1 + (a_g ((nI 16) + v2).toNatClampNeg))), (0, .ref (ad 0))]) hx hb dX3_allFavor_22 hl (k := 2) rfl (congrArg (fun z => v2 + z) (by decide : Int32.ofInt (1) = (nI 1))) (by decide) rfl (fun ls hl => ?_)
        refine lv_goto (tgt := 4) hx hb dX3_allFavor_25 (by decide) ?_
        exact hk4 (v1 + (a_g ((nI 16) + v2).toNatClampNeg)) (v2 + (nI 1)) _ (lv_sub hl [2, 1, 0] rfl) hw
  refine lv_iconst (v := (nI 0)) hx hb dX3_allFavor_0 (by decide) ?_
  refine lv_istore_n (lv' := [(1, .int (nI 0)), (0, .ref (ad 0))]) hx hb dX3_allFavor_1 rfl hl (by decide) rfl (fun ls hl => ?_)
  refine lv_iconst (v := (nI 0)) hx hb dX3_allFavor_2 (by decide) ?_
  refine lv_istore_n (lv' := [(2, .int (nI 0)), (1, .int (nI 0)), (0, .ref (ad 0))]) hx hb dX3_allFavor_3 rfl hl (by decide) rfl (fun ls hl => ?_)
  obtain ⟨n, hw⟩ := hw
  exact hL4  n (nI 0) (nI 0) _ (lv_sub hl [2, 1, 0] rfl) hw
theorem gX3_189 : GoodIn lw_all (wsV RX3 189 RX3 yX3_allFavor (ws_ yX3_allFavor cX3_allFavor 3 (some .int))) := lw_V q2130 q2132 qs64 q84 q2133
theorem hd_X3_allFavor : yX3_allFavor.cls ≠ "java/lang/invoke/MethodHandle" ∧ yX3_allFavor.cls ≠ "java/lang/invoke/VarHandle" ∧ (parseMethodDescriptor yX3_allFavor.desc).map (fun d => d.parameters.length) = some 0 := by decide +kernel
def rm_X3_favorShare : Room := { frames := 2, cells := 0, slots := 0, locals := 43 }
set_option maxHeartbeats 4000000 in
set_option maxRecDepth 100000 in
theorem met_X3_favorShare (l : Launch) (D : va_G) (dA : Nat → ClassId) (ad : Nat → Nat) (sz : Nat) (f_isSaved : Int32) (f_changes : Int32) (f_code : Int32) (f_length : Int32) (f_fault : Int32) (f_signMany : Int32) (f_at : Int32) (f_place : Int32) (a_g : (Nat → Int32)) (a_kept : (Nat → Int32)) (a_saved : (Nat → Int32)) (a_input : (Nat → Int32)) (a_signs : (Nat → Int32)) (a_ways : (Nat → Int64)) (a_needs : (Nat → Int32)) (a_walk : (Nat → Int32)) (a_one : (Nat → Int32)) (a_several : (Nat → Int32)) (a_ragged : (Nat → Int32)) (a_nextLine : (Nat → Int32)) (p0 : Int32) (post : UInt32 → Int32 → Prop) (hw : w_X3_favorShare post f_code a_g p0) : Met l yX3_favorShare (ws_ yX3_favorShare cX3_favorShare 2 (some .float)) rm_X3_favorShare (va_Pc [.ref (ad 0), .int p0] (wrB D dA sz (mdl ad dA f_isSaved f_changes f_code f_length f_fault f_signMany f_at f_place a_g a_kept a_saved a_input a_signs a_ways a_needs a_walk a_one a_several a_ragged a_nextLine))) (va_Qf (fun (r : UInt32) (u : Int32) => post r u) (fun (u : Int32) t => wrQ D dA (va_A (mdl ad dA f_isSaved f_changes f_code f_length f_fault f_signMany f_at f_place a_g a_kept a_saved a_input a_signs a_ways a_needs a_walk a_one a_several a_ragged a_nextLine) sz) (mdl ad dA f_isSaved f_changes u f_length f_fault f_signMany f_at f_place a_g a_kept a_saved a_input a_signs a_ways a_needs a_walk a_one a_several a_ragged a_nextLine) t) (va_A (mdl ad dA f_isSaved f_changes f_code f_length f_fault f_signMany f_at f_place a_g a_kept a_saved a_input a_signs a_ways a_needs a_walk a_one a_several a_ragged a_nextLine) sz)) 0 0 (va_A (mdl ad dA f_isSaved f_changes f_code f_length f_fault f_signMany f_at f_place a_g a_kept a_saved a_input a_signs a_ways a_needs a_walk a_one a_several a_ragged a_nextLine) sz) := by
  refine Met.ofW (cc := cX3_favorShare) (maxL := 2) (ret := (some .float)) (by decide) rfl ?_
  intro p e s m args below meth c s₁ B hml hv
  obtain ⟨rfl, hsz, hP, hK, hD0⟩ := hv
  have hx := B.exec
  have hb := B.bytes
  have hr := B.returns
  have hts := atoms_spec (ws := (ws_ yX3_favorShare cX3_favorShare 2 (some .float))) B.pre
  have hts : ∀ w ∈ lw_all, w.before _ s = true := fun w h => hts w (List.mem_cons_of_mem _ h)
  have hown : s.vm.findClass RX3 = some m.cls := findClass_of_methodNamed B.named
  have hlocks := B.notSynchronized
  have hSx : CallFix p m c cX3_favorShare 2 s _ lw_all RX3 := ⟨hx, hb, hml, hown, hts⟩
  subst hsz
  have hD := hD0.self (sz := s.heap.size)
  generalize hAe : va_A (mdl ad dA f_isSaved f_changes f_code f_length f_fault f_signMany f_at f_place a_g a_kept a_saved a_input a_signs a_ways a_needs a_walk a_one a_several a_ragged a_nextLine) s.heap.size = A at hD ⊢
  have hA : ∀ q : Nat, s.heap.size ≤ q → A q := fun q h => by rw [← hAe]; exact Or.inr h
  have hS : va_S A s.heap s.heap [] := va_S.rf
  have hl := lv_entry ([.ref (ad 0), .int p0]) (n := 2) (Nat.le_of_ble_eq_true rfl)
  rw [lg_entry_eq]
  generalize (lg_sl ([.ref (ad 0), .int p0]) ++ List.replicate (2 - (lg_sl ([.ref (ad 0), .int p0])).length) Slot.unset).toArray = ls at hl ⊢
  have hl : lv_has ls 2 [(0, .ref (ad 0)), (1, .int p0)] := hl
  have hL25 : ∀  (f_code : Int32) (v1 : Int32) (s1 : Int32) (H : Heap) (locs : List Loc) (ls : Array Slot), va_P D vwCl (mdl ad dA f_isSaved f_changes f_code f_length f_fault f_signMany f_at f_place a_g a_kept a_saved a_input a_signs a_ways a_needs a_walk a_one a_several a_ragged a_nextLine) H → va_D A (mdl ad dA f_isSaved f_changes f_code f_length f_fault f_signMany f_at f_place a_g a_kept a_saved a_input a_signs a_ways a_needs a_walk a_one a_several a_ragged a_nextLine) → va_S A s.heap H locs → lv_has ls 2 [(0, .ref (ad 0)), (1, .int v1)] → (w_X3_favorShare_25 post a_g) f_code v1 s1 → W p l e (headSpec (ws_ yX3_favorShare cX3_favorShare 2 (some .float)) rm_X3_favorShare).room s m ([.ref (ad 0), .int p0] : List Value).toArray below meth c H locs 0 0 (MQ below (va_Qf (fun (r : UInt32) (u : Int32) => post r u) (fun (u : Int32) t => wrQ D dA A (mdl ad dA f_isSaved f_changes u f_length f_fault f_signMany f_at f_place a_g a_kept a_saved a_input a_signs a_ways a_needs a_walk a_one a_several a_ragged a_nextLine) t) A) ([.ref (ad 0), .int p0] : List Value).toArray s 0 0 A) (F0 m 25 ls [.int s1, .ref (ad 0)]) := by
      intro  f_code v1 s1 H locs ls hP hD hS hl hw
      refine k_wi (wn := fun (u : Int32) => (mdl ad dA f_isSaved f_changes u f_length f_fault f_signMany f_at f_place a_g a_kept a_saved a_input a_signs a_ways a_needs a_walk a_one a_several a_ragged a_nextLine)) (wr := []) (k_wV (As := [.int s1]) (rest := []) hSx (met_X3_fails l D dA ad _ f_isSaved f_changes f_code f_length f_fault f_signMany f_at f_place a_g a_kept a_saved a_input a_signs a_ways a_needs a_walk a_one a_several a_ragged a_nextLine s1 _ hw) gX3_70 ⟨rfl, hd_X3_fails⟩ ⟨Nat.le_of_ble_eq_true rfl, Nat.le_of_ble_eq_true rfl⟩ rfl rfl hP hK hD [0, 1, 2, 3, 4, 5, 6, 7, 8, 9, 10, 11, 12] rfl (by decide) rfl 0 rfl rfl rfl rfl hl.1 (Nat.le_of_ble_eq_true rfl) rfl dX3_favorShare_25 ⟨Nat.le_refl 0, Nat.le_refl 0⟩) hP hD hS hA [0, 1, 2, 3, 4, 5, 6, 7, 8, 9, 10, 11, 12] [] [0, 1, 2, 3, 4, 5, 6, 7, 8, 9, 10, 11, 12] rfl rfl (by decide) (by decide) (by decide) (fun _ => rfl) (fun _ => rfl) (fun r11 u H locs hw _ hP hD hS => ?_)
      obtain ⟨f_code_12, rfl⟩ : ∃ z, z = u := ⟨_, rfl⟩
      have hP : va_P D vwCl (mdl ad dA f_isSaved f_changes f_code_12 f_length f_fault f_signMany f_at f_place a_g a_kept a_saved a_input a_signs a_ways a_needs a_walk a_one a_several a_ragged a_nextLine) H := hP
      have hD : va_D A (mdl ad dA f_isSaved f_changes f_code_12 f_length f_fault f_signMany f_at f_place a_g a_kept a_saved a_input a_signs a_ways a_needs a_walk a_one a_several a_ragged a_nextLine) := hD
      refine lv_if_eq (tgt := 35) hx hb dX3_favorShare_28 (by decide) (fun c13 => ?_) (fun c13 => ?_)
      · have hw := hw.1 c13
        refine lv_aload_n hx hb dX3_favorShare_35 rfl (lv_at hl 0 rfl) ?_
        refine va_get (D := D) (ci := 2) (v := .ref (ad 1)) (C := RX3) (T := TX3) (N := 20) hx hb hts in_X3 hown hK hP 0 rfl rfl 0 (by decide) (hts _ q1741) (fun _ h9 => h9) rfl dX3_favorShare_36 ?_
        refine lv_bipush (v := (nI 16)) hx hb dX3_favorShare_39 (by decide) ?_
        refine lv_iload_n hx hb dX3_favorShare_41 rfl (lv_at hl 1 rfl) ?_
        refine lv_iadd hx hb dX3_favorShare_42 ?_
        obtain ⟨h14, hw⟩ := hw
        refine k_iald (k := ((nI 16) + v1).toNatClampNeg) hx hb hK hP 1 0 rfl rfl rfl h14 dX3_favorShare_43 ?_
        refine lv_i2f hx hb dX3_favorShare_44 ?_
        refine lv_aload_n hx hb dX3_favorShare_45 rfl (lv_at hl 0 rfl) ?_
        refine k_ri (k_rV (As := []) (rest := [.float (FP.i2f (a_g ((nI 16) + v1).toNatClampNeg))]) hSx (met_X3_allFavor l D dA ad f_isSaved f_changes f_code_12 f_length f_fault f_signMany f_at f_place a_g a_kept a_saved a_input a_signs a_ways a_needs a_walk a_one a_several a_ragged a_nextLine  _ hw) gX3_189 ⟨rfl, hd_X3_allFavor⟩ ⟨Nat.le_of_ble_eq_true rfl, Nat.le_of_ble_eq_true rfl⟩ rfl rfl hP hK [0, 1, 2, 3, 4, 5, 6, 7, 8, 9, 10, 11, 12] rfl 0 rfl rfl rfl rfl hl.1 (Nat.le_of_ble_eq_true rfl) rfl dX3_favorShare_46 ⟨Nat.le_refl 0, Nat.le_refl 0⟩) (fun r15 hw => ?_)
        refine lv_i2f hx hb dX3_favorShare_49 ?_
        obtain ⟨h16, hw⟩ := hw
        refine lv_fdiv hx hb dX3_favorShare_50 h16 ?_
        exact W.fret (v := (FP.fdiv (FP.i2f (a_g ((nI 16) + v1).toNatClampNeg)) (FP.i2f r15))) hx hb hr (fun t ht hW => ⟨⟨(FP.fdiv (FP.i2f (a_g ((nI 16) + v1).toNatClampNeg)) (FP.i2f r15)), f_code_12, rfl, hw, by rw [ht]; exact hP, va_K.moved hW.alike hK, hD⟩, hS.F ht⟩) hS.2.2 dX3_favorShare_51
      · have hw := hw.2 c13
        refine lv_fconst0 hx hb dX3_favorShare_31 ?_
        refine lv_goto (tgt := 51) hx hb dX3_favorShare_32 (by decide) ?_
        exact W.fret (v := FP.fconst0) hx hb hr (fun t ht hW => ⟨⟨FP.fconst0, f_code_12, rfl, hw, by rw [ht]; exact hP, va_K.moved hW.alike hK, hD⟩, hS.F ht⟩) hS.2.2 dX3_favorShare_51
  refine lv_aload_n hx hb dX3_favorShare_0 rfl (lv_at hl 0 rfl) ?_
  refine lv_aload_n hx hb dX3_favorShare_1 rfl (lv_at hl 0 rfl) ?_
  refine lv_iload_n hx hb dX3_favorShare_2 rfl (lv_at hl 1 rfl) ?_
  refine k_ri (k_rV (As := [.int p0]) (rest := [.ref (ad 0)]) hSx (met_X3_isCourtier l D dA ad f_isSaved f_changes f_code f_length f_fault f_signMany f_at f_place a_g a_kept a_saved a_input a_signs a_ways a_needs a_walk a_one a_several a_ragged a_nextLine p0 _ hw) gX3_66 ⟨rfl, hd_X3_isCourtier⟩ ⟨Nat.le_of_ble_eq_true rfl, Nat.le_of_ble_eq_true rfl⟩ rfl rfl hP hK [0, 1, 2, 3, 4, 5, 6, 7, 8, 9, 10, 11, 12] rfl 0 rfl rfl rfl rfl hl.1 (Nat.le_of_ble_eq_true rfl) rfl dX3_favorShare_3 ⟨Nat.le_refl 0, Nat.le_refl 0⟩) (fun r17 hw => ?_)
  refine lv_if_ne (tgt := 13) hx hb dX3_favorShare_6 (by decide) (fun c18 => ?_) (fun c18 => ?_)
  · have hw := hw.2 c18
    refine lv_aload_n hx hb dX3_favorShare_13 rfl (lv_at hl 0 rfl) ?_
    refine k_ri (k_rV (As := []) (rest := [.ref (ad 0)]) hSx (met_X3_allFavor l D dA ad f_isSaved f_changes f_code f_length f_fault f_signMany f_at f_place a_g a_kept a_saved a_input a_signs a_ways a_needs a_walk a_one a_several a_ragged a_nextLine  _ hw) gX3_189 ⟨rfl, hd_X3_allFavor⟩ ⟨Nat.le_of_ble_eq_true rfl, Nat.le_of_ble_eq_true rfl⟩ rfl rfl hP hK [0, 1, 2, 3, 4, 5, 6, 7, 8, 9, 10, 11, 12] rfl 0 rfl rfl rfl rfl hl.1 (Nat.le_of_ble_eq_true rfl) rfl dX3_favorShare_14 ⟨Nat.le_refl 0, Nat.le_refl 0⟩) (fun r19 hw => ?_)
    refine lv_if_ne (tgt := 24) hx hb dX3_favorShare_17 (by decide) (fun c20 => ?_) (fun c20 => ?_)
    · have hw := hw.2 c20
      refine lv_iconst (v := (nI 0)) hx hb dX3_favorShare_24 (by decide) ?_
      exact hL25  f_code p0 (nI 0) _ _ _ hP hD hS (lv_sub hl [0, 1] rfl) hw
    · have hw := hw.1 c20
      refine lv_iconst (v := (nI 2)) hx hb dX3_favorShare_20 (by decide) ?_
      refine lv_goto (tgt := 25) hx hb dX3_favorShare_21 (by decide) ?_
      exact hL25  f_code p0 (nI 2) _ _ _ hP hD hS (lv_sub hl [0, 1] rfl) hw
  · have hw := hw.1 c18
    refine lv_iconst (v := (nI 1)) hx hb dX3_favorShare_9 (by decide) ?_
    refine lv_goto (tgt := 25) hx hb dX3_favorShare_10 (by decide) ?_
    exact hL25  f_code p0 (nI 1) _ _ _ hP hD hS (lv_sub hl [0, 1] rfl) hw
def rm_X3_writes : Room := { frames := 0, cells := 0, slots := 0, locals := 0 }
set_option maxHeartbeats 4000000 in
set_option maxRecDepth 100000 in
theorem met_X3_writes (l : Launch) (D : va_G) (dA : Nat → ClassId) (ad : Nat → Nat) (sz : Nat) (f_isSaved : Int32) (f_changes : Int32) (f_code : Int32) (f_length : Int32) (f_fault : Int32) (f_signMany : Int32) (f_at : Int32) (f_place : Int32) (a_g : (Nat → Int32)) (a_kept : (Nat → Int32)) (a_saved : (Nat → Int32)) (a_input : (Nat → Int32)) (a_signs : (Nat → Int32)) (a_ways : (Nat → Int64)) (a_needs : (Nat → Int32)) (a_walk : (Nat → Int32)) (a_one : (Nat → Int32)) (a_several : (Nat → Int32)) (a_ragged : (Nat → Int32)) (a_nextLine : (Nat → Int32)) (p0 : Int32) (post : Int32 → (Nat → Int32) → Prop) (hw : w_X3_writes post f_signMany a_signs p0) : Met l yX3_writes (ws_ yX3_writes cX3_writes 2 none) rm_X3_writes (va_Pc [.ref (ad 0), .int p0] (wrB D dA sz (mdl ad dA f_isSaved f_changes f_code f_length f_fault f_signMany f_at f_place a_g a_kept a_saved a_input a_signs a_ways a_needs a_walk a_one a_several a_ragged a_nextLine))) (va_Qv (fun (u : Int32 × (Nat → Int32)) => post u.1 u.2) (fun (u : Int32 × (Nat → Int32)) t => wrQ D dA (va_A (mdl ad dA f_isSaved f_changes f_code f_length f_fault f_signMany f_at f_place a_g a_kept a_saved a_input a_signs a_ways a_needs a_walk a_one a_several a_ragged a_nextLine) sz) (mdl ad dA f_isSaved f_changes f_code f_length f_fault u.1 f_at f_place a_g a_kept a_saved a_input u.2 a_ways a_needs a_walk a_one a_several a_ragged a_nextLine) t) (va_A (mdl ad dA f_isSaved f_changes f_code f_length f_fault f_signMany f_at f_place a_g a_kept a_saved a_input a_signs a_ways a_needs a_walk a_one a_several a_ragged a_nextLine) sz)) 0 0 (va_A (mdl ad dA f_isSaved f_changes f_code f_length f_fault f_signMany f_at f_place a_g a_kept a_saved a_input a_signs a_ways a_needs a_walk a_one a_several a_ragged a_nextLine) sz) := by
  refine Met.ofW (cc := cX3_writes) (maxL := 2) (ret := none) (by decide) rfl ?_
  intro p e s m args below meth c s₁ B hml hv
  obtain ⟨rfl, hsz, hP, hK, hD0⟩ := hv
  have hx := B.exec
  have hb := B.bytes
  have hr := B.returns
  have hts := atoms_spec (ws := (ws_ yX3_writes cX3_writes 2 none)) B.pre
  have hts : ∀ w ∈ lw_all, w.before _ s = true := fun w h => hts w (List.mem_cons_of_mem _ h)
  have hown : s.vm.findClass RX3 = some m.cls := findClass_of_methodNamed B.named
  have hlocks := B.notSynchronized
  have hSx : CallFix p m c cX3_writes 2 s _ lw_all RX3 := ⟨hx, hb, hml, hown, hts⟩
  subst hsz
  have hD := hD0.self (sz := s.heap.size)
  generalize hAe : va_A (mdl ad dA f_isSaved f_changes f_code f_length f_fault f_signMany f_at f_place a_g a_kept a_saved a_input a_signs a_ways a_needs a_walk a_one a_several a_ragged a_nextLine) s.heap.size = A at hD ⊢
  have hA : ∀ q : Nat, s.heap.size ≤ q → A q := fun q h => by rw [← hAe]; exact Or.inr h
  have hS : va_S A s.heap s.heap [] := va_S.rf
  have hl := lv_entry ([.ref (ad 0), .int p0]) (n := 2) (Nat.le_of_ble_eq_true rfl)
  rw [lg_entry_eq]
  generalize (lg_sl ([.ref (ad 0), .int p0]) ++ List.replicate (2 - (lg_sl ([.ref (ad 0), .int p0])).length) Slot.unset).toArray = ls at hl ⊢
  have hl : lv_has ls 2 [(0, .ref (ad 0)), (1, .int p0)] := hl
  refine lv_aload_n hx hb dX3_writes_0 rfl (lv_at hl 0 rfl) ?_
  refine va_get (D := D) (ci := 2) (v := .ref (ad 5)) (C := RX3) (T := TX3) (N := 20) hx hb hts in_X3 hown hK hP 0 rfl rfl 9 (by decide) (hts _ q1750) (fun _ h9 => h9) rfl dX3_writes_1 ?_
  refine lv_aload_n hx hb dX3_writes_4 rfl (lv_at hl 0 rfl) ?_
  refine va_get (D := D) (ci := 2) (v := .int f_signMany) (C := RX3) (T := TX3) (N := 20) hx hb hts in_X3 hown hK hP 0 rfl rfl 10 (by decide) (hts _ q1751) (fun _ h9 => h9) rfl dX3_writes_5 ?_
  refine lv_iload_n hx hb dX3_writes_8 rfl (lv_at hl 1 rfl) ?_
  refine lv_i2c (v := ((p0.toUInt32 % 65536).toInt32)) hx hb dX3_writes_9 rfl ?_
  obtain ⟨h2, hw⟩ := hw
  refine k_cast (k := f_signMany.toNatClampNeg) hx hb hK hP hD hS 5 1 rfl rfl rfl h2 dX3_writes_10 (fun H locs hP hD hS => ?_)
  have hP : va_P D vwCl (mdl ad dA f_isSaved f_changes f_code f_length f_fault f_signMany f_at f_place a_g a_kept a_saved a_input (upd a_signs f_signMany.toNatClampNeg (vp_nar .char ((p0.toUInt32 % 65536).toInt32))) a_ways a_needs a_walk a_one a_several a_ragged a_nextLine) H := hP
  have hD : va_D A (mdl ad dA f_isSaved f_changes f_code f_length f_fault f_signMany f_at f_place a_g a_kept a_saved a_input (upd a_signs f_signMany.toNatClampNeg (vp_nar .char ((p0.toUInt32 % 65536).toInt32))) a_ways a_needs a_walk a_one a_several a_ragged a_nextLine) := hD
  refine lv_aload_n hx hb dX3_writes_11 rfl (lv_at hl 0 rfl) ?_
  refine lv_dup hx hb dX3_writes_12 rfl ?_
  refine va_get (D := D) (ci := 2) (v := .int f_signMany) (C := RX3) (T := TX3) (N := 20) hx hb hts in_X3 hown hK hP 0 rfl rfl 10 (by decide) (hts _ q1751) (fun _ h9 => h9) rfl dX3_writes_13 ?_
  refine lv_iconst (v := (nI 1)) hx hb dX3_writes_16 (by decide) ?_
  refine lv_iadd hx hb dX3_writes_17 ?_
  refine va_put (D := D) (ci := 2) (v := .int (f_signMany + (nI 1))) (ty := .int) (C := RX3) (T := TX3) (N := 20) hx hb hts in_X3 tyX3 tyX3_ok nmX3 hown hK hP hD hS 0 rfl rfl 10 (by decide) (hts _ q1751) (fun _ h9 => h9) rfl (by decide +kernel) rfl rfl (Nat.le_of_ble_eq_true rfl) dX3_writes_18 (fun H locs hP hD hS => ?_)
  have hP : va_P D vwCl (mdl ad dA f_isSaved f_changes f_code f_length f_fault (f_signMany + (nI 1)) f_at f_place a_g a_kept a_saved a_input (upd a_signs f_signMany.toNatClampNeg (vp_nar .char ((p0.toUInt32 % 65536).toInt32))) a_ways a_needs a_walk a_one a_several a_ragged a_nextLine) H := hP
  have hD : va_D A (mdl ad dA f_isSaved f_changes f_code f_length f_fault (f_signMany + (nI 1)) f_at f_place a_g a_kept a_saved a_input (upd a_signs f_signMany.toNatClampNeg (vp_nar .char ((p0.toUInt32 % 65536).toInt32))) a_ways a_needs a_walk a_one a_several a_ragged a_nextLine) := hD
  exact W.vret hx hb hr (fun t ht hW => ⟨⟨((f_signMany + (nI 1)), (upd a_signs f_signMany.toNatClampNeg (vp_nar .char ((p0.toUInt32 % 65536).toInt32)))), rfl, hw, by rw [ht]; exact hP, va_K.moved hW.alike hK, hD⟩, hS.F ht⟩) hS.2.2 dX3_writes_21
theorem gX3_195 : GoodIn lw_all (wsV RX3 195 RX3 yX3_writes (ws_ yX3_writes cX3_writes 2 none)) := lw_V q2138 q2140 qs65 q84 q2141
theorem hd_X3_writes : yX3_writes.cls ≠ "java/lang/invoke/MethodHandle" ∧ yX3_writes.cls ≠ "java/lang/invoke/VarHandle" ∧ (parseMethodDescriptor yX3_writes.desc).map (fun d => d.parameters.length) = some 1 := by decide +kernel
def rm_X3_writeLine : Room := { frames := 3, cells := 0, slots := 0, locals := 68 }
set_option maxHeartbeats 4000000 in
set_option maxRecDepth 100000 in
theorem met_X3_writeLine (l : Launch) (D : va_G) (dA : Nat → ClassId) (ad : Nat → Nat) (sz : Nat) (f_isSaved : Int32) (f_changes : Int32) (f_code : Int32) (f_length : Int32) (f_fault : Int32) (f_signMany : Int32) (f_at : Int32) (f_place : Int32) (a_g : (Nat → Int32)) (a_kept : (Nat → Int32)) (a_saved : (Nat → Int32)) (a_input : (Nat → Int32)) (a_signs : (Nat → Int32)) (a_ways : (Nat → Int64)) (a_needs : (Nat → Int32)) (a_walk : (Nat → Int32)) (a_one : (Nat → Int32)) (a_several : (Nat → Int32)) (a_ragged : (Nat → Int32)) (a_nextLine : (Nat → Int32)) (p0 : Int32) (post : Int32 → Int32 → Int32 → (Nat → Int32) → (Nat → Int32) → (Nat → Int32) → Prop) (hw : w_X3_writeLine post f_code f_signMany a_g a_signs a_ragged a_nextLine p0) : Met l yX3_writeLine (ws_ yX3_writeLine cX3_writeLine 4 (some .int)) rm_X3_writeLine (va_Pc [.ref (ad 0), .int p0] (wrB D dA sz (mdl ad dA f_isSaved f_changes f_code f_length f_fault f_signMany f_at f_place a_g a_kept a_saved a_input a_signs a_ways a_needs a_walk a_one a_several a_ragged a_nextLine))) (va_Qi (fun (r : Int32) (u : Int32 × Int32 × (Nat → Int32) × (Nat → Int32) × (Nat → Int32)) => post r u.1 u.2.1 u.2.2.1 u.2.2.2.1 u.2.2.2.2) (fun (u : Int32 × Int32 × (Nat → Int32) × (Nat → Int32) × (Nat → Int32)) t => wrQ D dA (va_A (mdl ad dA f_isSaved f_changes f_code f_length f_fault f_signMany f_at f_place a_g a_kept a_saved a_input a_signs a_ways a_needs a_walk a_one a_several a_ragged a_nextLine) sz) (mdl ad dA f_isSaved f_changes u.1 f_length f_fault u.2.1 f_at f_place a_g a_kept a_saved a_input u.2.2.1 a_ways a_needs a_walk a_one a_several u.2.2.2.1 u.2.2.2.2) t) (va_A (mdl ad dA f_isSaved f_changes f_code f_length f_fault f_signMany f_at f_place a_g a_kept a_saved a_input a_signs a_ways a_needs a_walk a_one a_several a_ragged a_nextLine) sz)) 0 0 (va_A (mdl ad dA f_isSaved f_changes f_code f_length f_fault f_signMany f_at f_place a_g a_kept a_saved a_input a_signs a_ways a_needs a_walk a_one a_several a_ragged a_nextLine) sz) := by
  refine Met.ofW (cc := cX3_writeLine) (maxL := 4) (ret := (some .int)) (by decide) rfl ?_
  intro p e s m args below meth c s₁ B hml hv
  obtain ⟨rfl, hsz, hP, hK, hD0⟩ := hv
  have hx := B.exec
  have hb := B.bytes
  have hr := B.returns
  have hts := atoms_spec (ws := (ws_ yX3_writeLine cX3_writeLine 4 (some .int))) B.pre
  have hts : ∀ w ∈ lw_all, w.before _ s = true := fun w h => hts w (List.mem_cons_of_mem _ h)
  have hown : s.vm.findClass RX3 = some m.cls := findClass_of_methodNamed B.named
  have hlocks := B.notSynchronized
  have hSx : CallFix p m c cX3_writeLine 4 s _ lw_all RX3 := ⟨hx, hb, hml, hown, hts⟩
  subst hsz
  have hD := hD0.self (sz := s.heap.size)
  generalize hAe : va_A (mdl ad dA f_isSaved f_changes f_code f_length f_fault f_signMany f_at f_place a_g a_kept a_saved a_input a_signs a_ways a_needs a_walk a_one a_several a_ragged a_nextLine) s.heap.size = A at hD ⊢
  have hA : ∀ q : Nat, s.heap.size ≤ q → A q := fun q h => by rw [← hAe]; exact Or.inr h
  have hS : va_S A s.heap s.heap [] := va_S.rf
  have hl := lv_entry ([.ref (ad 0), .int p0]) (n := 4) (Nat.le_of_ble_eq_true rfl)
  rw [lg_entry_eq]
  generalize (lg_sl ([.ref (ad 0), .int p0]) ++ List.replicate (4 - (lg_sl ([.ref (ad 0), .int p0])).length) Slot.unset).toArray = ls at hl ⊢
  have hl : lv_has ls 4 [(0, .ref (ad 0)), (1, .int p0)] := hl
  have hL111 : ∀ (k49 : Int32 → Int32 → (Nat → Int32) → (Nat → Int32) → (Nat → Int32) → Int32 → Int32 → Prop) (hk49 : ∀ (f_code : Int32) (f_signMany : Int32) (a_signs : (Nat → Int32)) (a_ragged : (Nat → Int32)) (a_nextLine : (Nat → Int32)) (v1 : Int32) (v2 : Int32) (H : Heap) (locs : List Loc) (ls : Array Slot), va_P D vwCl (mdl ad dA f_isSaved f_changes f_code f_length f_fault f_signMany f_at f_place a_g a_kept a_saved a_input a_signs a_ways a_needs a_walk a_one a_several a_ragged a_nextLine) H → va_D A (mdl ad dA f_isSaved f_changes f_code f_length f_fault f_signMany f_at f_place a_g a_kept a_saved a_input a_signs a_ways a_needs a_walk a_one a_several a_ragged a_nextLine) → va_S A s.heap H locs → lv_has ls 4 [(0, .ref (ad 0)), (1, .int v1), (2, .int v2)] → k49 f_code f_signMany a_signs a_ragged a_nextLine v1 v2 → W p l e (headSpec (ws_ yX3_writeLine cX3_writeLine 4 (some .int)) rm_X3_writeLine).room s m ([.ref (ad 0), .int p0] : List Value).toArray below meth c H locs 0 0 (MQ below (va_Qi (fun (r : Int32) (u : Int32 × Int32 × (Nat → Int32) × (Nat → Int32) × (Nat → Int32)) => post r u.1 u.2.1 u.2.2.1 u.2.2.2.1 u.2.2.2.2) (fun (u : Int32 × Int32 × (Nat → Int32) × (Nat → Int32) × (Nat → Int32)) t => wrQ D dA A (mdl ad dA f_isSaved f_changes u.1 f_length f_fault u.2.1 f_at f_place a_g a_kept a_saved a_input u.2.2.1 a_ways a_needs a_walk a_one a_several u.2.2.2.1 u.2.2.2.2) t) A) ([.ref (ad 0), .int p0] : List Value).toArray s 0 0 A) (F0 m 49 ls [])) (f_code : Int32) (f_signMany : Int32) (a_signs : (Nat → Int32)) (a_ragged : (Nat → Int32)) (a_nextLine : (Nat → Int32)) (v1 : Int32) (v2 : Int32) (H : Heap) (locs : List Loc) (ls : Array Slot), va_P D vwCl (mdl ad dA f_isSaved f_changes f_code f_length f_fault f_signMany f_at f_place a_g a_kept a_saved a_input a_signs a_ways a_needs a_walk a_one a_several a_ragged a_nextLine) H → va_D A (mdl ad dA f_isSaved f_changes f_code f_length f_fault f_signMany f_at f_place a_g a_kept a_saved a_input a_signs a_ways a_needs a_walk a_one a_several a_ragged a_nextLine) → va_S A s.heap H locs → lv_has ls 4 [(0, .ref (ad 0)), (1, .int v1), (2, .int v2)] → (w_X3_writeLine_111 post a_g k49) f_code f_signMany a_signs a_ragged a_nextLine v1 v2 → W p l e (headSpec (ws_ yX3_writeLine cX3_writeLine 4 (some .int)) rm_X3_writeLine).room s m ([.ref (ad 0), .int p0] : List Value).toArray below meth c H locs 0 0 (MQ below (va_Qi (fun (r : Int32) (u : Int32 × Int32 × (Nat → Int32) × (Nat → Int32) × (Nat → Int32)) => post r u.1 u.2.1 u.2.2.1 u.2.2.2.1 u.2.2.2.2) (fun (u : Int32 × Int32 × (Nat → Int32) × (Nat → Int32) × (Nat → Int32)) t => wrQ D dA A (mdl ad dA f_isSaved f_changes u.1 f_length f_fault u.2.1 f_at f_place a_g a_kept a_saved a_input u.2.2.1 a_ways a_needs a_walk a_one a_several u.2.2.2.1 u.2.2.2.2) t) A) ([.ref (ad 0), .int p0] : List Value).toArray s 0 0 A) (F0 m 111 ls []) := by
      intro k49 hk49 f_code f_signMany a_signs a_ragged a_nextLine v1 v2 H locs ls hP hD hS hl hw
      refine lv_iinc (v := (v2 + (nI 1))) (lv' := [(2, .int (v2 + (nI 1))), (0, .ref (ad 0)), (1, .int v1)]) hx hb dX3_writeLine_111 hl (k := 2) rfl (congrArg (fun z => v2 + z) (by decide : Int32.ofInt (1) = (nI 1))) (by decide) rfl (fun ls hl => ?_)
      refine lv_goto (tgt := 49) hx hb dX3_writeLine_114 (by decide) ?_
      exact hk49 f_code f_signMany a_signs a_ragged a_nextLine v1 (v2 + (nI 1)) _ _ _ hP hD hS (lv_sub hl [1, 2, 0] rfl) hw
  have hL86 : ∀ (k49 : Int32 → Int32 → (Nat → Int32) → (Nat → Int32) → (Nat → Int32) → Int32 → Int32 → Prop) (hk49 : ∀ (f_code : Int32) (f_signMany : Int32) (a_signs : (Nat → Int32)) (a_ragged : (Nat → Int32)) (a_nextLine : (Nat → Int32)) (v1 : Int32) (v2 : Int32) (H : Heap) (locs : List Loc) (ls : Array Slot), va_P D vwCl (mdl ad dA f_isSaved f_changes f_code f_length f_fault f_signMany f_at f_place a_g a_kept a_saved a_input a_signs a_ways a_needs a_walk a_one a_several a_ragged a_nextLine) H → va_D A (mdl ad dA f_isSaved f_changes f_code f_length f_fault f_signMany f_at f_place a_g a_kept a_saved a_input a_signs a_ways a_needs a_walk a_one a_several a_ragged a_nextLine) → va_S A s.heap H locs → lv_has ls 4 [(0, .ref (ad 0)), (1, .int v1), (2, .int v2)] → k49 f_code f_signMany a_signs a_ragged a_nextLine v1 v2 → W p l e (headSpec (ws_ yX3_writeLine cX3_writeLine 4 (some .int)) rm_X3_writeLine).room s m ([.ref (ad 0), .int p0] : List Value).toArray below meth c H locs 0 0 (MQ below (va_Qi (fun (r : Int32) (u : Int32 × Int32 × (Nat → Int32) × (Nat → Int32) × (Nat → Int32)) => post r u.1 u.2.1 u.2.2.1 u.2.2.2.1 u.2.2.2.2) (fun (u : Int32 × Int32 × (Nat → Int32) × (Nat → Int32) × (Nat → Int32)) t => wrQ D dA A (mdl ad dA f_isSaved f_changes u.1 f_length f_fault u.2.1 f_at f_place a_g a_kept a_saved a_input u.2.2.1 a_ways a_needs a_walk a_one a_several u.2.2.2.1 u.2.2.2.2) t) A) ([.ref (ad 0), .int p0] : List Value).toArray s 0 0 A) (F0 m 49 ls [])) (n : Nat) (f_code : Int32) (f_signMany : Int32) (a_signs : (Nat → Int32)) (a_ragged : (Nat → Int32)) (a_nextLine : (Nat → Int32)) (v1 : Int32) (v2 : Int32) (v3 : Int32) (H : Heap) (locs : List Loc) (ls : Array Slot), va_P D vwCl (mdl ad dA f_isSaved f_changes f_code f_length f_fault f_signMany f_at f_place a_g a_kept a_saved a_input a_signs a_ways a_needs a_walk a_one a_several a_ragged a_nextLine) H → va_D A (mdl ad dA f_isSaved f_changes f_code f_length f_fault f_signMany f_at f_place a_g a_kept a_saved a_input a_signs a_ways a_needs a_walk a_one a_several a_ragged a_nextLine) → va_S A s.heap H locs → lv_has ls 4 [(0, .ref (ad 0)), (1, .int v1), (2, .int v2), (3, .int v3)] → lpF (fun _ _ _ _ _ _ _ _ => False) (w_X3_writeLine_86 post a_g k49) n f_code f_signMany a_signs a_ragged a_nextLine v1 v2 v3 → W p l e (headSpec (ws_ yX3_writeLine cX3_writeLine 4 (some .int)) rm_X3_writeLine).room s m ([.ref (ad 0), .int p0] : List Value).toArray below meth c H locs 0 0 (MQ below (va_Qi (fun (r : Int32) (u : Int32 × Int32 × (Nat → Int32) × (Nat → Int32) × (Nat → Int32)) => post r u.1 u.2.1 u.2.2.1 u.2.2.2.1 u.2.2.2.2) (fun (u : Int32 × Int32 × (Nat → Int32) × (Nat → Int32) × (Nat → Int32)) t => wrQ D dA A (mdl ad dA f_isSaved f_changes u.1 f_length f_fault u.2.1 f_at f_place a_g a_kept a_saved a_input u.2.2.1 a_ways a_needs a_walk a_one a_several u.2.2.2.1 u.2.2.2.2) t) A) ([.ref (ad 0), .int p0] : List Value).toArray s 0 0 A) (F0 m 86 ls []) := by
    intro k49 hk49 n
    induction n with
    | zero => intro f_code f_signMany a_signs a_ragged a_nextLine v1 v2 v3 H locs ls hP hD hS hl hw; exact absurd hw id
    | succ n hk86 =>
      intro f_code f_signMany a_signs a_ragged a_nextLine v1 v2 v3 H locs ls hP hD hS hl hw
      generalize hk9 : lpF (fun _ _ _ _ _ _ _ _ => False) (w_X3_writeLine_86 post a_g k49) n = k86 at hk86
      have hw : (w_X3_writeLine_86 post a_g k49) k86 f_code f_signMany a_signs a_ragged a_nextLine v1 v2 v3 := hk9 ▸ hw
      refine lv_iload_n hx hb dX3_writeLine_86 rfl (lv_at hl 3 rfl) ?_
      refine lv_aload_n hx hb dX3_writeLine_87 rfl (lv_at hl 0 rfl) ?_
      refine lv_iload_n hx hb dX3_writeLine_88 rfl (lv_at hl 2 rfl) ?_
      refine k_ri (k_rV (As := [.int v2]) (rest := [.int v3]) hSx (met_X3_sizeOf l D dA ad f_isSaved f_changes f_code f_length f_fault f_signMany f_at f_place a_g a_kept a_saved a_input a_signs a_ways a_needs a_walk a_one a_several a_ragged a_nextLine v2 _ hw) gX3_179 ⟨rfl, hd_X3_sizeOf⟩ ⟨Nat.le_of_ble_eq_true rfl, Nat.le_of_ble_eq_true rfl⟩ rfl rfl hP hK [0, 1, 2, 3, 4, 5, 6, 7, 8, 9, 10, 11, 12] rfl 0 rfl rfl rfl rfl hl.1 (Nat.le_of_ble_eq_true rfl) rfl dX3_writeLine_89 ⟨Nat.le_refl 0, Nat.le_refl 0⟩) (fun r23 hw => ?_)
      refine lv_icmp_ge (tgt := 111) hx hb dX3_writeLine_92 (by decide) (fun c24 => ?_) (fun c24 => ?_)
      · have hw := hw.1 c24
        exact hL111 k49 hk49 f_code f_signMany a_signs a_ragged a_nextLine v1 v2 _ _ _ hP hD hS (lv_sub hl [0, 1, 2] rfl) hw
      · have hw := hw.2 c24
        refine lv_aload_n hx hb dX3_writeLine_95 rfl (lv_at hl 0 rfl) ?_
        refine lv_aload_n hx hb dX3_writeLine_96 rfl (lv_at hl 0 rfl) ?_
        refine lv_iload_n hx hb dX3_writeLine_97 rfl (lv_at hl 2 rfl) ?_
        refine lv_iload_n hx hb dX3_writeLine_98 rfl (lv_at hl 3 rfl) ?_
        refine k_ri (k_rV (As := [.int v2, .int v3]) (rest := [.ref (ad 0)]) hSx (met_X3_signOf l D dA ad f_isSaved f_changes f_code f_length f_fault f_signMany f_at f_place a_g a_kept a_saved a_input a_signs a_ways a_needs a_walk a_one a_several a_ragged a_nextLine v2 v3 _ hw) gX3_163 ⟨rfl, hd_X3_signOf⟩ ⟨Nat.le_of_ble_eq_true rfl, Nat.le_of_ble_eq_true rfl⟩ rfl rfl hP hK [0, 1, 2, 3, 4, 5, 6, 7, 8, 9, 10, 11, 12] rfl 0 rfl rfl rfl rfl hl.1 (Nat.le_of_ble_eq_true rfl) rfl dX3_writeLine_99 ⟨Nat.le_refl 0, Nat.le_refl 0⟩) (fun r25 hw => ?_)
        refine k_wv (wn := fun (u : Int32 × (Nat → Int32)) => (mdl ad dA f_isSaved f_changes f_code f_length f_fault u.1 f_at f_place a_g a_kept a_saved a_input u.2 a_ways a_needs a_walk a_one a_several a_ragged a_nextLine)) (wr := []) (k_wV (As := [.int r25]) (rest := []) hSx (met_X3_writes l D dA ad _ f_isSaved f_changes f_code f_length f_fault f_signMany f_at f_place a_g a_kept a_saved a_input a_signs a_ways a_needs a_walk a_one a_several a_ragged a_nextLine r25 _ hw) gX3_195 ⟨rfl, hd_X3_writes⟩ ⟨Nat.le_of_ble_eq_true rfl, Nat.le_of_ble_eq_true rfl⟩ rfl rfl hP hK hD [0, 1, 2, 3, 4, 5, 6, 7, 8, 9, 10, 11, 12] rfl (by decide) rfl 0 rfl rfl rfl rfl hl.1 (Nat.le_of_ble_eq_true rfl) rfl dX3_writeLine_102 ⟨Nat.le_refl 0, Nat.le_refl 0⟩) hP hD hS hA [0, 1, 2, 3, 4, 5, 6, 7, 8, 9, 10, 11, 12] [] [0, 1, 2, 3, 4, 5, 6, 7, 8, 9, 10, 11, 12] rfl rfl (by decide) (by decide) (by decide) (fun _ => rfl) (fun _ => rfl) (fun u H locs hw _ hP hD hS => ?_)
        obtain ⟨f_signMany_26, a_signs_27⟩ := u
        have hP : va_P D vwCl (mdl ad dA f_isSaved f_changes f_code f_length f_fault f_signMany_26 f_at f_place a_g a_kept a_saved a_input a_signs_27 a_ways a_needs a_walk a_one a_several a_ragged a_nextLine) H := hP
        have hD : va_D A (mdl ad dA f_isSaved f_changes f_code f_length f_fault f_signMany_26 f_at f_place a_g a_kept a_saved a_input a_signs_27 a_ways a_needs a_walk a_one a_several a_ragged a_nextLine) := hD
        refine lv_iinc (v := (v3 + (nI 1))) (lv' := [(3, .int (v3 + (nI 1))), (0, .ref (ad 0)), (1, .int v1), (2, .int v2)]) hx hb dX3_writeLine_105 hl (k := 3) rfl (congrArg (fun z => v3 + z) (by decide : Int32.ofInt (1) = (nI 1))) (by decide) rfl (fun ls hl => ?_)
        refine lv_goto (tgt := 86) hx hb dX3_writeLine_108 (by decide) ?_
        exact hk86 f_code f_signMany_26 a_signs_27 a_ragged a_nextLine v1 v2 (v3 + (nI 1)) _ _ _ hP hD hS (lv_sub hl [1, 2, 3, 0] rfl) hw
  have hL84 : ∀ (k49 : Int32 → Int32 → (Nat → Int32) → (Nat → Int32) → (Nat → Int32) → Int32 → Int32 → Prop) (hk49 : ∀ (f_code : Int32) (f_signMany : Int32) (a_signs : (Nat → Int32)) (a_ragged : (Nat → Int32)) (a_nextLine : (Nat → Int32)) (v1 : Int32) (v2 : Int32) (H : Heap) (locs : List Loc) (ls : Array Slot), va_P D vwCl (mdl ad dA f_isSaved f_changes f_code f_length f_fault f_signMany f_at f_place a_g a_kept a_saved a_input a_signs a_ways a_needs a_walk a_one a_several a_ragged a_nextLine) H → va_D A (mdl ad dA f_isSaved f_changes f_code f_length f_fault f_signMany f_at f_place a_g a_kept a_saved a_input a_signs a_ways a_needs a_walk a_one a_several a_ragged a_nextLine) → va_S A s.heap H locs → lv_has ls 4 [(0, .ref (ad 0)), (1, .int v1), (2, .int v2)] → k49 f_code f_signMany a_signs a_ragged a_nextLine v1 v2 → W p l e (headSpec (ws_ yX3_writeLine cX3_writeLine 4 (some .int)) rm_X3_writeLine).room s m ([.ref (ad 0), .int p0] : List Value).toArray below meth c H locs 0 0 (MQ below (va_Qi (fun (r : Int32) (u : Int32 × Int32 × (Nat → Int32) × (Nat → Int32) × (Nat → Int32)) => post r u.1 u.2.1 u.2.2.1 u.2.2.2.1 u.2.2.2.2) (fun (u : Int32 × Int32 × (Nat → Int32) × (Nat → Int32) × (Nat → Int32)) t => wrQ D dA A (mdl ad dA f_isSaved f_changes u.1 f_length f_fault u.2.1 f_at f_place a_g a_kept a_saved a_input u.2.2.1 a_ways a_needs a_walk a_one a_several u.2.2.2.1 u.2.2.2.2) t) A) ([.ref (ad 0), .int p0] : List Value).toArray s 0 0 A) (F0 m 49 ls [])) (f_code : Int32) (f_signMany : Int32) (a_signs : (Nat → Int32)) (a_ragged : (Nat → Int32)) (a_nextLine : (Nat → Int32)) (v1 : Int32) (v2 : Int32) (H : Heap) (locs : List Loc) (ls : Array Slot), va_P D vwCl (mdl ad dA f_isSaved f_changes f_code f_length f_fault f_signMany f_at f_place a_g a_kept a_saved a_input a_signs a_ways a_needs a_walk a_one a_several a_ragged a_nextLine) H → va_D A (mdl ad dA f_isSaved f_changes f_code f_length f_fault f_signMany f_at f_place a_g a_kept a_saved a_input a_signs a_ways a_needs a_walk a_one a_several a_ragged a_nextLine) → va_S A s.heap H locs → lv_has ls 4 [(0, .ref (ad 0)), (1, .int v1), (2, .int v2)] → (w_X3_writeLine_84 post a_g k49) f_code f_signMany a_signs a_ragged a_nextLine v1 v2 → W p l e (headSpec (ws_ yX3_writeLine cX3_writeLine 4 (some .int)) rm_X3_writeLine).room s m ([.ref (ad 0), .int p0] : List Value).toArray below meth c H locs 0 0 (MQ below (va_Qi (fun (r : Int32) (u : Int32 × Int32 × (Nat → Int32) × (Nat → Int32) × (Nat → Int32)) => post r u.1 u.2.1 u.2.2.1 u.2.2.2.1 u.2.2.2.2) (fun (u : Int32 × Int32 × (Nat → Int32) × (Nat → Int32) × (Nat → Int32)) t => wrQ D dA A (mdl ad dA f_isSaved f_changes u.1 f_length f_fault u.2.1 f_at f_place a_g a_kept a_saved a_input u.2.2.1 a_ways a_needs a_walk a_one a_several u.2.2.2.1 u.2.2.2.2) t) A) ([.ref (ad 0), .int p0] : List Value).toArray s 0 0 A) (F0 m 84 ls []) := by
      intro k49 hk49 f_code f_signMany a_signs a_ragged a_nextLine v1 v2 H locs ls hP hD hS hl hw
      refine lv_iconst (v := (nI 0)) hx hb dX3_writeLine_84 (by decide) ?_
      refine lv_istore_n (lv' := [(3, .int (nI 0)), (0, .ref (ad 0)), (1, .int v1), (2, .int v2)]) hx hb dX3_writeLine_85 rfl hl (by decide) rfl (fun ls hl => ?_)
      obtain ⟨n, hw⟩ := hw
      exact hL86 k49 hk49 n f_code f_signMany a_signs a_ragged a_nextLine v1 v2 (nI 0) _ _ _ hP hD hS (lv_sub hl [1, 2, 3, 0] rfl) hw
  have hL49 : ∀  (n : Nat) (f_code : Int32) (f_signMany : Int32) (a_signs : (Nat → Int32)) (a_ragged : (Nat → Int32)) (a_nextLine : (Nat → Int32)) (v1 : Int32) (v2 : Int32) (H : Heap) (locs : List Loc) (ls : Array Slot), va_P D vwCl (mdl ad dA f_isSaved f_changes f_code f_length f_fault f_signMany f_at f_place a_g a_kept a_saved a_input a_signs a_ways a_needs a_walk a_one a_several a_ragged a_nextLine) H → va_D A (mdl ad dA f_isSaved f_changes f_code f_length f_fault f_signMany f_at f_place a_g a_kept a_saved a_input a_signs a_ways a_needs a_walk a_one a_several a_ragged a_nextLine) → va_S A s.heap H locs → lv_has ls 4 [(0, .ref (ad 0)), (1, .int v1), (2, .int v2)] → lpF (fun _ _ _ _ _ _ _ => False) (w_X3_writeLine_49 post a_g) n f_code f_signMany a_signs a_ragged a_nextLine v1 v2 → W p l e (headSpec (ws_ yX3_writeLine cX3_writeLine 4 (some .int)) rm_X3_writeLine).room s m ([.ref (ad 0), .int p0] : List Value).toArray below meth c H locs 0 0 (MQ below (va_Qi (fun (r : Int32) (u : Int32 × Int32 × (Nat → Int32) × (Nat → Int32) × (Nat → Int32)) => post r u.1 u.2.1 u.2.2.1 u.2.2.2.1 u.2.2.2.2) (fun (u : Int32 × Int32 × (Nat → Int32) × (Nat → Int32) × (Nat → Int32)) t => wrQ D dA A (mdl ad dA f_isSaved f_changes u.1 f_length f_fault u.2.1 f_at f_place a_g a_kept a_saved a_input u.2.2.1 a_ways a_needs a_walk a_one a_several u.2.2.2.1 u.2.2.2.2) t) A) ([.ref (ad 0), .int p0] : List Value).toArray s 0 0 A) (F0 m 49 ls []) := by
    intro  n
    induction n with
    | zero => intro f_code f_signMany a_signs a_ragged a_nextLine v1 v2 H locs ls hP hD hS hl hw; exact absurd hw id
    | succ n hk49 =>
      intro f_code f_signMany a_signs a_ragged a_nextLine v1 v2 H locs ls hP hD hS hl hw
      generalize hk9 : lpF (fun _ _ _ _ _ _ _ => False) (w_X3_writeLine_49 post a_g) n = k49 at hk49
      have hw : (w_X3_writeLine_49 post a_g) k49 f_code f_signMany a_signs a_ragged a_nextLine v1 v2 := hk9 ▸ hw
      refine lv_iload_n hx hb dX3_writeLine_49 rfl (lv_at hl 2 rfl) ?_
      refine lv_aload_n hx hb dX3_writeLine_50 rfl (lv_at hl 0 rfl) ?_
      refine va_get (D := D) (ci := 2) (v := .ref (ad 1)) (C := RX3) (T := TX3) (N := 20) hx hb hts in_X3 hown hK hP 0 rfl rfl 0 (by decide) (hts _ q1741) (fun _ h9 => h9) rfl dX3_writeLine_51 ?_
      refine lv_iconst (v := (nI 1)) hx hb dX3_writeLine_54 (by decide) ?_
      refine k_iald (k := 1) hx hb hK hP 1 0 rfl rfl (clK 1 (by decide)) (inK (by decide) (by decide)) dX3_writeLine_55 ?_
      refine lv_icmp_ge (tgt := 117) hx hb dX3_writeLine_56 (by decide) (fun c28 => ?_) (fun c28 => ?_)
      · have hw := hw.1 c28
        refine lv_aload_n hx hb dX3_writeLine_117 rfl (lv_at hl 0 rfl) ?_
        refine va_get (D := D) (ci := 2) (v := .int f_signMany) (C := RX3) (T := TX3) (N := 20) hx hb hts in_X3 hown hK hP 0 rfl rfl 10 (by decide) (hts _ q1751) (fun _ h9 => h9) rfl dX3_writeLine_118 ?_
        exact W.iret (v := f_signMany) hx hb hr (fun t ht hW => ⟨⟨f_signMany, (f_code, f_signMany, a_signs, a_ragged, a_nextLine), rfl, hw, by rw [ht]; exact hP, va_K.moved hW.alike hK, hD⟩, hS.F ht⟩) hS.2.2 dX3_writeLine_121
      · have hw := hw.2 c28
        refine lv_aload_n hx hb dX3_writeLine_59 rfl (lv_at hl 0 rfl) ?_
        refine lv_iload_n hx hb dX3_writeLine_60 rfl (lv_at hl 2 rfl) ?_
        refine k_ri (k_rV (As := [.int v2]) (rest := []) hSx (met_X3_line l D dA ad f_isSaved f_changes f_code f_length f_fault f_signMany f_at f_place a_g a_kept a_saved a_input a_signs a_ways a_needs a_walk a_one a_several a_ragged a_nextLine v2 _ hw) gX3_186 ⟨rfl, hd_X3_line⟩ ⟨Nat.le_of_ble_eq_true rfl, Nat.le_of_ble_eq_true rfl⟩ rfl rfl hP hK [0, 1, 2, 3, 4, 5, 6, 7, 8, 9, 10, 11, 12] rfl 0 rfl rfl rfl rfl hl.1 (Nat.le_of_ble_eq_true rfl) rfl dX3_writeLine_61 ⟨Nat.le_refl 0, Nat.le_refl 0⟩) (fun r29 hw => ?_)
        refine lv_iload_n hx hb dX3_writeLine_64 rfl (lv_at hl 1 rfl) ?_
        refine lv_icmp_eq (tgt := 71) hx hb dX3_writeLine_65 (by decide) (fun c30 => ?_) (fun c30 => ?_)
        · have hw := hw.1 c30
          refine lv_aload_n hx hb dX3_writeLine_71 rfl (lv_at hl 0 rfl) ?_
          refine va_get (D := D) (ci := 2) (v := .int f_signMany) (C := RX3) (T := TX3) (N := 20) hx hb hts in_X3 hown hK hP 0 rfl rfl 10 (by decide) (hts _ q1751) (fun _ h9 => h9) rfl dX3_writeLine_72 ?_
          refine lv_if_le (tgt := 84) hx hb dX3_writeLine_75 (by decide) (fun c31 => ?_) (fun c31 => ?_)
          · have hw := hw.1 c31
            exact hL84 k49 hk49 f_code f_signMany a_signs a_ragged a_nextLine v1 v2 _ _ _ hP hD hS (lv_sub hl [0, 1, 2] rfl) hw
          · have hw := hw.2 c31
            refine lv_aload_n hx hb dX3_writeLine_78 rfl (lv_at hl 0 rfl) ?_
            refine lv_bipush (v := (nI 32)) hx hb dX3_writeLine_79 (by decide) ?_
            refine k_wv (wn := fun (u : Int32 × (Nat → Int32)) => (mdl ad dA f_isSaved f_changes f_code f_length f_fault u.1 f_at f_place a_g a_kept a_saved a_input u.2 a_ways a_needs a_walk a_one a_several a_ragged a_nextLine)) (wr := []) (k_wV (As := [.int (nI 32)]) (rest := []) hSx (met_X3_writes l D dA ad _ f_isSaved f_changes f_code f_length f_fault f_signMany f_at f_place a_g a_kept a_saved a_input a_signs a_ways a_needs a_walk a_one a_several a_ragged a_nextLine (nI 32) _ hw) gX3_195 ⟨rfl, hd_X3_writes⟩ ⟨Nat.le_of_ble_eq_true rfl, Nat.le_of_ble_eq_true rfl⟩ rfl rfl hP hK hD [0, 1, 2, 3, 4, 5, 6, 7, 8, 9, 10, 11, 12] rfl (by decide) rfl 0 rfl rfl rfl rfl hl.1 (Nat.le_of_ble_eq_true rfl) rfl dX3_writeLine_81 ⟨Nat.le_refl 0, Nat.le_refl 0⟩) hP hD hS hA [0, 1, 2, 3, 4, 5, 6, 7, 8, 9, 10, 11, 12] [] [0, 1, 2, 3, 4, 5, 6, 7, 8, 9, 10, 11, 12] rfl rfl (by decide) (by decide) (by decide) (fun _ => rfl) (fun _ => rfl) (fun u H locs hw _ hP hD hS => ?_)
            obtain ⟨f_signMany_32, a_signs_33⟩ := u
            have hP : va_P D vwCl (mdl ad dA f_isSaved f_changes f_code f_length f_fault f_signMany_32 f_at f_place a_g a_kept a_saved a_input a_signs_33 a_ways a_needs a_walk a_one a_several a_ragged a_nextLine) H := hP
            have hD : va_D A (mdl ad dA f_isSaved f_changes f_code f_length f_fault f_signMany_32 f_at f_place a_g a_kept a_saved a_input a_signs_33 a_ways a_needs a_walk a_one a_several a_ragged a_nextLine) := hD
            exact hL84 k49 hk49 f_code f_signMany_32 a_signs_33 a_ragged a_nextLine v1 v2 _ _ _ hP hD hS (lv_sub hl [0, 1, 2] rfl) hw
        · have hw := hw.2 c30
          refine lv_goto (tgt := 111) hx hb dX3_writeLine_68 (by decide) ?_
          exact hL111 k49 hk49 f_code f_signMany a_signs a_ragged a_nextLine v1 v2 _ _ _ hP hD hS (lv_sub hl [0, 1, 2] rfl) hw
  have hL34 : ∀  (f_code : Int32) (f_signMany : Int32) (a_signs : (Nat → Int32)) (a_ragged : (Nat → Int32)) (a_nextLine : (Nat → Int32)) (v1 : Int32) (s1 : Int32) (H : Heap) (locs : List Loc) (ls : Array Slot), va_P D vwCl (mdl ad dA f_isSaved f_changes f_code f_length f_fault f_signMany f_at f_place a_g a_kept a_saved a_input a_signs a_ways a_needs a_walk a_one a_several a_ragged a_nextLine) H → va_D A (mdl ad dA f_isSaved f_changes f_code f_length f_fault f_signMany f_at f_place a_g a_kept a_saved a_input a_signs a_ways a_needs a_walk a_one a_several a_ragged a_nextLine) → va_S A s.heap H locs → lv_has ls 4 [(0, .ref (ad 0)), (1, .int v1)] → (w_X3_writeLine_34 post a_g) f_code f_signMany a_signs a_ragged a_nextLine v1 s1 → W p l e (headSpec (ws_ yX3_writeLine cX3_writeLine 4 (some .int)) rm_X3_writeLine).room s m ([.ref (ad 0), .int p0] : List Value).toArray below meth c H locs 0 0 (MQ below (va_Qi (fun (r : Int32) (u : Int32 × Int32 × (Nat → Int32) × (Nat → Int32) × (Nat → Int32)) => post r u.1 u.2.1 u.2.2.1 u.2.2.2.1 u.2.2.2.2) (fun (u : Int32 × Int32 × (Nat → Int32) × (Nat → Int32) × (Nat → Int32)) t => wrQ D dA A (mdl ad dA f_isSaved f_changes u.1 f_length f_fault u.2.1 f_at f_place a_g a_kept a_saved a_input u.2.2.1 a_ways a_needs a_walk a_one a_several u.2.2.2.1 u.2.2.2.2) t) A) ([.ref (ad 0), .int p0] : List Value).toArray s 0 0 A) (F0 m 34 ls [.int s1, .ref (ad 0)]) := by
      intro  f_code f_signMany a_signs a_ragged a_nextLine v1 s1 H locs ls hP hD hS hl hw
      refine k_wi (wn := fun (u : Int32) => (mdl ad dA f_isSaved f_changes u f_length f_fault f_signMany f_at f_place a_g a_kept a_saved a_input a_signs a_ways a_needs a_walk a_one a_several a_ragged a_nextLine)) (wr := []) (k_wV (As := [.int s1]) (rest := []) hSx (met_X3_fails l D dA ad _ f_isSaved f_changes f_code f_length f_fault f_signMany f_at f_place a_g a_kept a_saved a_input a_signs a_ways a_needs a_walk a_one a_several a_ragged a_nextLine s1 _ hw) gX3_70 ⟨rfl, hd_X3_fails⟩ ⟨Nat.le_of_ble_eq_true rfl, Nat.le_of_ble_eq_true rfl⟩ rfl rfl hP hK hD [0, 1, 2, 3, 4, 5, 6, 7, 8, 9, 10, 11, 12] rfl (by decide) rfl 0 rfl rfl rfl rfl hl.1 (Nat.le_of_ble_eq_true rfl) rfl dX3_writeLine_34 ⟨Nat.le_refl 0, Nat.le_refl 0⟩) hP hD hS hA [0, 1, 2, 3, 4, 5, 6, 7, 8, 9, 10, 11, 12] [] [0, 1, 2, 3, 4, 5, 6, 7, 8, 9, 10, 11, 12] rfl rfl (by decide) (by decide) (by decide) (fun _ => rfl) (fun _ => rfl) (fun r34 u H locs hw _ hP hD hS => ?_)
      obtain ⟨f_code_35, rfl⟩ : ∃ z, z = u := ⟨_, rfl⟩
      have hP : va_P D vwCl (mdl ad dA f_isSaved f_changes f_code_35 f_length f_fault f_signMany f_at f_place a_g a_kept a_saved a_input a_signs a_ways a_needs a_walk a_one a_several a_ragged a_nextLine) H := hP
      have hD : va_D A (mdl ad dA f_isSaved f_changes f_code_35 f_length f_fault f_signMany f_at f_place a_g a_kept a_saved a_input a_signs a_ways a_needs a_walk a_one a_several a_ragged a_nextLine) := hD
      refine lv_if_eq (tgt := 42) hx hb dX3_writeLine_37 (by decide) (fun c36 => ?_) (fun c36 => ?_)
      · have hw := hw.1 c36
        refine lv_aload_n hx hb dX3_writeLine_42 rfl (lv_at hl 0 rfl) ?_
        refine lv_iconst (v := (nI 0)) hx hb dX3_writeLine_43 (by decide) ?_
        refine va_put (D := D) (ci := 2) (v := .int (nI 0)) (ty := .int) (C := RX3) (T := TX3) (N := 20) hx hb hts in_X3 tyX3 tyX3_ok nmX3 hown hK hP hD hS 0 rfl rfl 10 (by decide) (hts _ q1751) (fun _ h9 => h9) rfl (by decide +kernel) rfl rfl (Nat.le_of_ble_eq_true rfl) dX3_writeLine_44 (fun H locs hP hD hS => ?_)
        have hP : va_P D vwCl (mdl ad dA f_isSaved f_changes f_code_35 f_length f_fault (nI 0) f_at f_place a_g a_kept a_saved a_input a_signs a_ways a_needs a_walk a_one a_several a_ragged a_nextLine) H := hP
        have hD : va_D A (mdl ad dA f_isSaved f_changes f_code_35 f_length f_fault (nI 0) f_at f_place a_g a_kept a_saved a_input a_signs a_ways a_needs a_walk a_one a_several a_ragged a_nextLine) := hD
        refine lv_iconst (v := (nI 0)) hx hb dX3_writeLine_47 (by decide) ?_
        refine lv_istore_n (lv' := [(2, .int (nI 0)), (0, .ref (ad 0)), (1, .int v1)]) hx hb dX3_writeLine_48 rfl hl (by decide) rfl (fun ls hl => ?_)
        obtain ⟨n, hw⟩ := hw
        exact hL49  n f_code_35 (nI 0) a_signs a_ragged a_nextLine v1 (nI 0) _ _ _ hP hD hS (lv_sub hl [1, 2, 0] rfl) hw
      · have hw := hw.2 c36
        refine lv_iconst (v := (nI 0)) hx hb dX3_writeLine_40 (by decide) ?_
        exact W.iret (v := (nI 0)) hx hb hr (fun t ht hW => ⟨⟨(nI 0), (f_code_35, f_signMany, a_signs, a_ragged, a_nextLine), rfl, hw, by rw [ht]; exact hP, va_K.moved hW.alike hK, hD⟩, hS.F ht⟩) hS.2.2 dX3_writeLine_41
  refine lv_aload_n hx hb dX3_writeLine_0 rfl (lv_at hl 0 rfl) ?_
  refine lv_iconst (v := (nI 1)) hx hb dX3_writeLine_1 (by decide) ?_
  refine k_wi (wn := fun (u : Int32 × (Nat → Int32) × (Nat → Int32)) => (mdl ad dA f_isSaved f_changes u.1 f_length f_fault f_signMany f_at f_place a_g a_kept a_saved a_input a_signs a_ways a_needs a_walk a_one a_several u.2.1 u.2.2)) (wr := []) (k_wV (As := [.int (nI 1)]) (rest := []) hSx (met_X3_isTooLong l D dA ad _ f_isSaved f_changes f_code f_length f_fault f_signMany f_at f_place a_g a_kept a_saved a_input a_signs a_ways a_needs a_walk a_one a_several a_ragged a_nextLine (nI 1) _ hw) gX3_183 ⟨rfl, hd_X3_isTooLong⟩ ⟨Nat.le_of_ble_eq_true rfl, Nat.le_of_ble_eq_true rfl⟩ rfl rfl hP hK hD [0, 1, 2, 3, 4, 5, 6, 7, 8, 9, 10, 11, 12] rfl (by decide) rfl 0 rfl rfl rfl rfl hl.1 (Nat.le_of_ble_eq_true rfl) rfl dX3_writeLine_2 ⟨Nat.le_refl 0, Nat.le_refl 0⟩) hP hD hS hA [0, 1, 2, 3, 4, 5, 6, 7, 8, 9, 10, 11, 12] [] [0, 1, 2, 3, 4, 5, 6, 7, 8, 9, 10, 11, 12] rfl rfl (by decide) (by decide) (by decide) (fun _ => rfl) (fun _ => rfl) (fun r37 u H locs hw _ hP hD hS => ?_)
  obtain ⟨f_code_38, a_ragged_39, a_nextLine_40⟩ := u
  have hP : va_P D vwCl (mdl ad dA f_isSaved f_changes f_code_38 f_length f_fault f_signMany f_at f_place a_g a_kept a_saved a_input a_signs a_ways a_needs a_walk a_one a_several a_ragged_39 a_nextLine_40) H := hP
  have hD : va_D A (mdl ad dA f_isSaved f_changes f_code_38 f_length f_fault f_signMany f_at f_place a_g a_kept a_saved a_input a_signs a_ways a_needs a_walk a_one a_several a_ragged_39 a_nextLine_40) := hD
  refine lv_if_ne (tgt := 40) hx hb dX3_writeLine_5 (by decide) (fun c41 => ?_) (fun c41 => ?_)
  · have hw := hw.2 c41
    refine lv_iconst (v := (nI 0)) hx hb dX3_writeLine_40 (by decide) ?_
    exact W.iret (v := (nI 0)) hx hb hr (fun t ht hW => ⟨⟨(nI 0), (f_code_38, f_signMany, a_signs, a_ragged_39, a_nextLine_40), rfl, hw, by rw [ht]; exact hP, va_K.moved hW.alike hK, hD⟩, hS.F ht⟩) hS.2.2 dX3_writeLine_41
  · have hw := hw.1 c41
    refine lv_aload_n hx hb dX3_writeLine_8 rfl (lv_at hl 0 rfl) ?_
    refine lv_iload_n hx hb dX3_writeLine_9 rfl (lv_at hl 1 rfl) ?_
    refine lv_iconst (v := (nI 0)) hx hb dX3_writeLine_10 (by decide) ?_
    refine lv_aload_n hx hb dX3_writeLine_11 rfl (lv_at hl 0 rfl) ?_
    refine lv_aload_n hx hb dX3_writeLine_12 rfl (lv_at hl 0 rfl) ?_
    refine va_get (D := D) (ci := 2) (v := .ref (ad 1)) (C := RX3) (T := TX3) (N := 20) hx hb hts in_X3 hown hK hP 0 rfl rfl 0 (by decide) (hts _ q1741) (fun _ h9 => h9) rfl dX3_writeLine_13 ?_
    refine lv_iconst (v := (nI 1)) hx hb dX3_writeLine_16 (by decide) ?_
    refine k_iald (k := 1) hx hb hK hP 1 0 rfl rfl (clK 1 (by decide)) (inK (by decide) (by decide)) dX3_writeLine_17 ?_
    refine k_ri (k_rV (As := [.int (a_g 1)]) (rest := [.int (nI 0), .int p0, .ref (ad 0)]) hSx (met_X3_line l D dA ad f_isSaved f_changes f_code_38 f_length f_fault f_signMany f_at f_place a_g a_kept a_saved a_input a_signs a_ways a_needs a_walk a_one a_several a_ragged_39 a_nextLine_40 (a_g 1) _ hw) gX3_186 ⟨rfl, hd_X3_line⟩ ⟨Nat.le_of_ble_eq_true rfl, Nat.le_of_ble_eq_true rfl⟩ rfl rfl hP hK [0, 1, 2, 3, 4, 5, 6, 7, 8, 9, 10, 11, 12] rfl 0 rfl rfl rfl rfl hl.1 (Nat.le_of_ble_eq_true rfl) rfl dX3_writeLine_18 ⟨Nat.le_refl 0, Nat.le_refl 0⟩) (fun r42 hw => ?_)
    refine lv_iconst (v := (nI 1)) hx hb dX3_writeLine_21 (by decide) ?_
    refine lv_isub hx hb dX3_writeLine_22 ?_
    refine k_ri (k_pS (As := [.int p0, .int (nI 0), .int (r42 - (nI 1))]) (rest := [.ref (ad 0)]) hSx (met_X3_in l p0 (nI 0) (r42 - (nI 1)) _ hw) gX3_62 hd_X3_in ⟨Nat.le_of_ble_eq_true rfl, Nat.le_of_ble_eq_true rfl⟩ rfl rfl rfl hl.1 (Nat.le_of_ble_eq_true rfl) rfl dX3_writeLine_23 ⟨Nat.le_refl 0, Nat.le_refl 0⟩) (fun r43 hw => ?_)
    refine lv_if_eq (tgt := 33) hx hb dX3_writeLine_26 (by decide) (fun c44 => ?_) (fun c44 => ?_)
    · have hw := hw.1 c44
      refine lv_iconst (v := (nI 1)) hx hb dX3_writeLine_33 (by decide) ?_
      exact hL34  f_code_38 f_signMany a_signs a_ragged_39 a_nextLine_40 p0 (nI 1) _ _ _ hP hD hS (lv_sub hl [0, 1] rfl) hw
    · have hw := hw.2 c44
      refine lv_iconst (v := (nI 0)) hx hb dX3_writeLine_29 (by decide) ?_
      refine lv_goto (tgt := 34) hx hb dX3_writeLine_30 (by decide) ?_
      exact hL34  f_code_38 f_signMany a_signs a_ragged_39 a_nextLine_40 p0 (nI 0) _ _ _ hP hD hS (lv_sub hl [0, 1] rfl) hw
def rm_X3_writeProcession : Room := { frames := 4, cells := 0, slots := 0, locals := 93 }
set_option maxHeartbeats 4000000 in
set_option maxRecDepth 100000 in
theorem met_X3_writeProcession (l : Launch) (D : va_G) (dA : Nat → ClassId) (ad : Nat → Nat) (sz : Nat) (f_isSaved : Int32) (f_changes : Int32) (f_code : Int32) (f_length : Int32) (f_fault : Int32) (f_signMany : Int32) (f_at : Int32) (f_place : Int32) (a_g : (Nat → Int32)) (a_kept : (Nat → Int32)) (a_saved : (Nat → Int32)) (a_input : (Nat → Int32)) (a_signs : (Nat → Int32)) (a_ways : (Nat → Int64)) (a_needs : (Nat → Int32)) (a_walk : (Nat → Int32)) (a_one : (Nat → Int32)) (a_several : (Nat → Int32)) (a_ragged : (Nat → Int32)) (a_nextLine : (Nat → Int32))  (post : Int32 → Int32 → Int32 → (Nat → Int32) → (Nat → Int32) → (Nat → Int32) → Prop) (hw : w_X3_writeProcession post f_code f_signMany a_g a_signs a_needs a_walk) : Met l yX3_writeProcession (ws_ yX3_writeProcession cX3_writeProcession 2 (some .int)) rm_X3_writeProcession (va_Pc [.ref (ad 0)] (wrB D dA sz (mdl ad dA f_isSaved f_changes f_code f_length f_fault f_signMany f_at f_place a_g a_kept a_saved a_input a_signs a_ways a_needs a_walk a_one a_several a_ragged a_nextLine))) (va_Qi (fun (r : Int32) (u : Int32 × Int32 × (Nat → Int32) × (Nat → Int32) × (Nat → Int32)) => post r u.1 u.2.1 u.2.2.1 u.2.2.2.1 u.2.2.2.2) (fun (u : Int32 × Int32 × (Nat → Int32) × (Nat → Int32) × (Nat → Int32)) t => wrQ D dA (va_A (mdl ad dA f_isSaved f_changes f_code f_length f_fault f_signMany f_at f_place a_g a_kept a_saved a_input a_signs a_ways a_needs a_walk a_one a_several a_ragged a_nextLine) sz) (mdl ad dA f_isSaved f_changes u.1 f_length f_fault u.2.1 f_at f_place a_g a_kept a_saved a_input u.2.2.1 a_ways u.2.2.2.1 u.2.2.2.2 a_one a_several a_ragged a_nextLine) t) (va_A (mdl ad dA f_isSaved f_changes f_code f_length f_fault f_signMany f_at f_place a_g a_kept a_saved a_input a_signs a_ways a_needs a_walk a_one a_several a_ragged a_nextLine) sz)) 0 0 (va_A (mdl ad dA f_isSaved f_changes f_code f_length f_fault f_signMany f_at f_place a_g a_kept a_saved a_input a_signs a_ways a_needs a_walk a_one a_several a_ragged a_nextLine) sz) := by
  refine Met.ofW (cc := cX3_writeProcession) (maxL := 2) (ret := (some .int)) (by decide) rfl ?_
  intro p e s m args below meth c s₁ B hml hv
  obtain ⟨rfl, hsz, hP, hK, hD0⟩ := hv
  have hx := B.exec
  have hb := B.bytes
  have hr := B.returns
  have hts := atoms_spec (ws := (ws_ yX3_writeProcession cX3_writeProcession 2 (some .int))) B.pre
  have hts : ∀ w ∈ lw_all, w.before _ s = true := fun w h => hts w (List.mem_cons_of_mem _ h)
  have hown : s.vm.findClass RX3 = some m.cls := findClass_of_methodNamed B.named
  have hlocks := B.notSynchronized
  have hSx : CallFix p m c cX3_writeProcession 2 s _ lw_all RX3 := ⟨hx, hb, hml, hown, hts⟩
  subst hsz
  have hD := hD0.self (sz := s.heap.size)
  generalize hAe : va_A (mdl ad dA f_isSaved f_changes f_code f_length f_fault f_signMany f_at f_place a_g a_kept a_saved a_input a_signs a_ways a_needs a_walk a_one a_several a_ragged a_nextLine) s.heap.size = A at hD ⊢
  have hA : ∀ q : Nat, s.heap.size ≤ q → A q := fun q h => by rw [← hAe]; exact Or.inr h
  have hS : va_S A s.heap s.heap [] := va_S.rf
  have hl := lv_entry ([.ref (ad 0)]) (n := 2) (Nat.le_of_ble_eq_true rfl)
  rw [lg_entry_eq]
  generalize (lg_sl ([.ref (ad 0)]) ++ List.replicate (2 - (lg_sl ([.ref (ad 0)])).length) Slot.unset).toArray = ls at hl ⊢
  have hl : lv_has ls 2 [(0, .ref (ad 0))] := hl
  have hL67 : ∀ (k17 : Int32 → Int32 → (Nat → Int32) → (Nat → Int32) → (Nat → Int32) → Int32 → Prop) (hk17 : ∀ (f_code : Int32) (f_signMany : Int32) (a_signs : (Nat → Int32)) (a_needs : (Nat → Int32)) (a_walk : (Nat → Int32)) (v1 : Int32) (H : Heap) (locs : List Loc) (ls : Array Slot), va_P D vwCl (mdl ad dA f_isSaved f_changes f_code f_length f_fault f_signMany f_at f_place a_g a_kept a_saved a_input a_signs a_ways a_needs a_walk a_one a_several a_ragged a_nextLine) H → va_D A (mdl ad dA f_isSaved f_changes f_code f_length f_fault f_signMany f_at f_place a_g a_kept a_saved a_input a_signs a_ways a_needs a_walk a_one a_several a_ragged a_nextLine) → va_S A s.heap H locs → lv_has ls 2 [(0, .ref (ad 0)), (1, .int v1)] → k17 f_code f_signMany a_signs a_needs a_walk v1 → W p l e (headSpec (ws_ yX3_writeProcession cX3_writeProcession 2 (some .int)) rm_X3_writeProcession).room s m ([.ref (ad 0)] : List Value).toArray below meth c H locs 0 0 (MQ below (va_Qi (fun (r : Int32) (u : Int32 × Int32 × (Nat → Int32) × (Nat → Int32) × (Nat → Int32)) => post r u.1 u.2.1 u.2.2.1 u.2.2.2.1 u.2.2.2.2) (fun (u : Int32 × Int32 × (Nat → Int32) × (Nat → Int32) × (Nat → Int32)) t => wrQ D dA A (mdl ad dA f_isSaved f_changes u.1 f_length f_fault u.2.1 f_at f_place a_g a_kept a_saved a_input u.2.2.1 a_ways u.2.2.2.1 u.2.2.2.2 a_one a_several a_ragged a_nextLine) t) A) ([.ref (ad 0)] : List Value).toArray s 0 0 A) (F0 m 17 ls [])) (f_code : Int32) (f_signMany : Int32) (a_signs : (Nat → Int32)) (a_needs : (Nat → Int32)) (a_walk : (Nat → Int32)) (v1 : Int32) (H : Heap) (locs : List Loc) (ls : Array Slot), va_P D vwCl (mdl ad dA f_isSaved f_changes f_code f_length f_fault f_signMany f_at f_place a_g a_kept a_saved a_input a_signs a_ways a_needs a_walk a_one a_several a_ragged a_nextLine) H → va_D A (mdl ad dA f_isSaved f_changes f_code f_length f_fault f_signMany f_at f_place a_g a_kept a_saved a_input a_signs a_ways a_needs a_walk a_one a_several a_ragged a_nextLine) → va_S A s.heap H locs → lv_has ls 2 [(0, .ref (ad 0)), (1, .int v1)] → (w_X3_writeProcession_67 post a_g k17) f_code f_signMany a_signs a_needs a_walk v1 → W p l e (headSpec (ws_ yX3_writeProcession cX3_writeProcession 2 (some .int)) rm_X3_writeProcession).room s m ([.ref (ad 0)] : List Value).toArray below meth c H locs 0 0 (MQ below (va_Qi (fun (r : Int32) (u : Int32 × Int32 × (Nat → Int32) × (Nat → Int32) × (Nat → Int32)) => post r u.1 u.2.1 u.2.2.1 u.2.2.2.1 u.2.2.2.2) (fun (u : Int32 × Int32 × (Nat → Int32) × (Nat → Int32) × (Nat → Int32)) t => wrQ D dA A (mdl ad dA f_isSaved f_changes u.1 f_length f_fault u.2.1 f_at f_place a_g a_kept a_saved a_input u.2.2.1 a_ways u.2.2.2.1 u.2.2.2.2 a_one a_several a_ragged a_nextLine) t) A) ([.ref (ad 0)] : List Value).toArray s 0 0 A) (F0 m 67 ls []) := by
      intro k17 hk17 f_code f_signMany a_signs a_needs a_walk v1 H locs ls hP hD hS hl hw
      refine lv_aload_n hx hb dX3_writeProcession_67 rfl (lv_at hl 0 rfl) ?_
      refine lv_bipush (v := (nI 48)) hx hb dX3_writeProcession_68 (by decide) ?_
      refine lv_aload_n hx hb dX3_writeProcession_70 rfl (lv_at hl 0 rfl) ?_
      refine va_get (D := D) (ci := 2) (v := .ref (ad 8)) (C := RX3) (T := TX3) (N := 20) hx hb hts in_X3 hown hK hP 0 rfl rfl 13 (by decide) (hts _ q1754) (fun _ h9 => h9) rfl dX3_writeProcession_71 ?_
      refine lv_iload_n hx hb dX3_writeProcession_74 rfl (lv_at hl 1 rfl) ?_
      obtain ⟨h14, hw⟩ := hw
      refine k_iald (k := v1.toNatClampNeg) hx hb hK hP 8 0 rfl rfl rfl h14 dX3_writeProcession_75 ?_
      refine lv_iadd hx hb dX3_writeProcession_76 ?_
      refine k_wv (wn := fun (u : Int32 × (Nat → Int32)) => (mdl ad dA f_isSaved f_changes f_code f_length f_fault u.1 f_at f_place a_g a_kept a_saved a_input u.2 a_ways a_needs a_walk a_one a_several a_ragged a_nextLine)) (wr := []) (k_wV (As := [.int ((nI 48) + (a_walk v1.toNatClampNeg))]) (rest := []) hSx (met_X3_writes l D dA ad _ f_isSaved f_changes f_code f_length f_fault f_signMany f_at f_place a_g a_kept a_saved a_input a_signs a_ways a_needs a_walk a_one a_several a_ragged a_nextLine ((nI 48) + (a_walk v1.toNatClampNeg)) _ hw) gX3_195 ⟨rfl, hd_X3_writes⟩ ⟨Nat.le_of_ble_eq_true rfl, Nat.le_of_ble_eq_true rfl⟩ rfl rfl hP hK hD [0, 1, 2, 3, 4, 5, 6, 7, 8, 9, 10, 11, 12] rfl (by decide) rfl 0 rfl rfl rfl rfl hl.1 (Nat.le_of_ble_eq_true rfl) rfl dX3_writeProcession_77 ⟨Nat.le_refl 0, Nat.le_refl 0⟩) hP hD hS hA [0, 1, 2, 3, 4, 5, 6, 7, 8, 9, 10, 11, 12] [] [0, 1, 2, 3, 4, 5, 6, 7, 8, 9, 10, 11, 12] rfl rfl (by decide) (by decide) (by decide) (fun _ => rfl) (fun _ => rfl) (fun u H locs hw _ hP hD hS => ?_)
      obtain ⟨f_signMany_15, a_signs_16⟩ := u
      have hP : va_P D vwCl (mdl ad dA f_isSaved f_changes f_code f_length f_fault f_signMany_15 f_at f_place a_g a_kept a_saved a_input a_signs_16 a_ways a_needs a_walk a_one a_several a_ragged a_nextLine) H := hP
      have hD : va_D A (mdl ad dA f_isSaved f_changes f_code f_length f_fault f_signMany_15 f_at f_place a_g a_kept a_saved a_input a_signs_16 a_ways a_needs a_walk a_one a_several a_ragged a_nextLine) := hD
      refine lv_iinc (v := (v1 + (nI 1))) (lv' := [(1, .int (v1 + (nI 1))), (0, .ref (ad 0))]) hx hb dX3_writeProcession_80 hl (k := 1) rfl (congrArg (fun z => v1 + z) (by decide : Int32.ofInt (1) = (nI 1))) (by decide) rfl (fun ls hl => ?_)
      refine lv_goto (tgt := 17) hx hb dX3_writeProcession_83 (by decide) ?_
      exact hk17 f_code f_signMany_15 a_signs_16 a_needs a_walk (v1 + (nI 1)) _ _ _ hP hD hS (lv_sub hl [1, 0] rfl) hw
  have hL64 : ∀ (k17 : Int32 → Int32 → (Nat → Int32) → (Nat → Int32) → (Nat → Int32) → Int32 → Prop) (hk17 : ∀ (f_code : Int32) (f_signMany : Int32) (a_signs : (Nat → Int32)) (a_needs : (Nat → Int32)) (a_walk : (Nat → Int32)) (v1 : Int32) (H : Heap) (locs : List Loc) (ls : Array Slot), va_P D vwCl (mdl ad dA f_isSaved f_changes f_code f_length f_fault f_signMany f_at f_place a_g a_kept a_saved a_input a_signs a_ways a_needs a_walk a_one a_several a_ragged a_nextLine) H → va_D A (mdl ad dA f_isSaved f_changes f_code f_length f_fault f_signMany f_at f_place a_g a_kept a_saved a_input a_signs a_ways a_needs a_walk a_one a_several a_ragged a_nextLine) → va_S A s.heap H locs → lv_has ls 2 [(0, .ref (ad 0)), (1, .int v1)] → k17 f_code f_signMany a_signs a_needs a_walk v1 → W p l e (headSpec (ws_ yX3_writeProcession cX3_writeProcession 2 (some .int)) rm_X3_writeProcession).room s m ([.ref (ad 0)] : List Value).toArray below meth c H locs 0 0 (MQ below (va_Qi (fun (r : Int32) (u : Int32 × Int32 × (Nat → Int32) × (Nat → Int32) × (Nat → Int32)) => post r u.1 u.2.1 u.2.2.1 u.2.2.2.1 u.2.2.2.2) (fun (u : Int32 × Int32 × (Nat → Int32) × (Nat → Int32) × (Nat → Int32)) t => wrQ D dA A (mdl ad dA f_isSaved f_changes u.1 f_length f_fault u.2.1 f_at f_place a_g a_kept a_saved a_input u.2.2.1 a_ways u.2.2.2.1 u.2.2.2.2 a_one a_several a_ragged a_nextLine) t) A) ([.ref (ad 0)] : List Value).toArray s 0 0 A) (F0 m 17 ls [])) (f_code : Int32) (f_signMany : Int32) (a_signs : (Nat → Int32)) (a_needs : (Nat → Int32)) (a_walk : (Nat → Int32)) (v1 : Int32) (s1 : Int32) (H : Heap) (locs : List Loc) (ls : Array Slot), va_P D vwCl (mdl ad dA f_isSaved f_changes f_code f_length f_fault f_signMany f_at f_place a_g a_kept a_saved a_input a_signs a_ways a_needs a_walk a_one a_several a_ragged a_nextLine) H → va_D A (mdl ad dA f_isSaved f_changes f_code f_length f_fault f_signMany f_at f_place a_g a_kept a_saved a_input a_signs a_ways a_needs a_walk a_one a_several a_ragged a_nextLine) → va_S A s.heap H locs → lv_has ls 2 [(0, .ref (ad 0)), (1, .int v1)] → (w_X3_writeProcession_64 post a_g k17) f_code f_signMany a_signs a_needs a_walk v1 s1 → W p l e (headSpec (ws_ yX3_writeProcession cX3_writeProcession 2 (some .int)) rm_X3_writeProcession).room s m ([.ref (ad 0)] : List Value).toArray below meth c H locs 0 0 (MQ below (va_Qi (fun (r : Int32) (u : Int32 × Int32 × (Nat → Int32) × (Nat → Int32) × (Nat → Int32)) => post r u.1 u.2.1 u.2.2.1 u.2.2.2.1 u.2.2.2.2) (fun (u : Int32 × Int32 × (Nat → Int32) × (Nat → Int32) × (Nat → Int32)) t => wrQ D dA A (mdl ad dA f_isSaved f_changes u.1 f_length f_fault u.2.1 f_at f_place a_g a_kept a_saved a_input u.2.2.1 a_ways u.2.2.2.1 u.2.2.2.2 a_one a_several a_ragged a_nextLine) t) A) ([.ref (ad 0)] : List Value).toArray s 0 0 A) (F0 m 64 ls [.int s1, .ref (ad 0)]) := by
      intro k17 hk17 f_code f_signMany a_signs a_needs a_walk v1 s1 H locs ls hP hD hS hl hw
      refine k_wv (wn := fun (u : Int32 × (Nat → Int32)) => (mdl ad dA f_isSaved f_changes f_code f_length f_fault u.1 f_at f_place a_g a_kept a_saved a_input u.2 a_ways a_needs a_walk a_one a_several a_ragged a_nextLine)) (wr := []) (k_wV (As := [.int s1]) (rest := []) hSx (met_X3_writes l D dA ad _ f_isSaved f_changes f_code f_length f_fault f_signMany f_at f_place a_g a_kept a_saved a_input a_signs a_ways a_needs a_walk a_one a_several a_ragged a_nextLine s1 _ hw) gX3_195 ⟨rfl, hd_X3_writes⟩ ⟨Nat.le_of_ble_eq_true rfl, Nat.le_of_ble_eq_true rfl⟩ rfl rfl hP hK hD [0, 1, 2, 3, 4, 5, 6, 7, 8, 9, 10, 11, 12] rfl (by decide) rfl 0 rfl rfl rfl rfl hl.1 (Nat.le_of_ble_eq_true rfl) rfl dX3_writeProcession_64 ⟨Nat.le_refl 0, Nat.le_refl 0⟩) hP hD hS hA [0, 1, 2, 3, 4, 5, 6, 7, 8, 9, 10, 11, 12] [] [0, 1, 2, 3, 4, 5, 6, 7, 8, 9, 10, 11, 12] rfl rfl (by decide) (by decide) (by decide) (fun _ => rfl) (fun _ => rfl) (fun u H locs hw _ hP hD hS => ?_)
      obtain ⟨f_signMany_17, a_signs_18⟩ := u
      have hP : va_P D vwCl (mdl ad dA f_isSaved f_changes f_code f_length f_fault f_signMany_17 f_at f_place a_g a_kept a_saved a_input a_signs_18 a_ways a_needs a_walk a_one a_several a_ragged a_nextLine) H := hP
      have hD : va_D A (mdl ad dA f_isSaved f_changes f_code f_length f_fault f_signMany_17 f_at f_place a_g a_kept a_saved a_input a_signs_18 a_ways a_needs a_walk a_one a_several a_ragged a_nextLine) := hD
      exact hL67 k17 hk17 f_code f_signMany_17 a_signs_18 a_needs a_walk v1 _ _ _ hP hD hS (lv_sub hl [0, 1] rfl) hw
  have hL17 : ∀  (n : Nat) (f_code : Int32) (f_signMany : Int32) (a_signs : (Nat → Int32)) (a_needs : (Nat → Int32)) (a_walk : (Nat → Int32)) (v1 : Int32) (H : Heap) (locs : List Loc) (ls : Array Slot), va_P D vwCl (mdl ad dA f_isSaved f_changes f_code f_length f_fault f_signMany f_at f_place a_g a_kept a_saved a_input a_signs a_ways a_needs a_walk a_one a_several a_ragged a_nextLine) H → va_D A (mdl ad dA f_isSaved f_changes f_code f_length f_fault f_signMany f_at f_place a_g a_kept a_saved a_input a_signs a_ways a_needs a_walk a_one a_several a_ragged a_nextLine) → va_S A s.heap H locs → lv_has ls 2 [(0, .ref (ad 0)), (1, .int v1)] → lpF (fun _ _ _ _ _ _ => False) (w_X3_writeProcession_17 post a_g) n f_code f_signMany a_signs a_needs a_walk v1 → W p l e (headSpec (ws_ yX3_writeProcession cX3_writeProcession 2 (some .int)) rm_X3_writeProcession).room s m ([.ref (ad 0)] : List Value).toArray below meth c H locs 0 0 (MQ below (va_Qi (fun (r : Int32) (u : Int32 × Int32 × (Nat → Int32) × (Nat → Int32) × (Nat → Int32)) => post r u.1 u.2.1 u.2.2.1 u.2.2.2.1 u.2.2.2.2) (fun (u : Int32 × Int32 × (Nat → Int32) × (Nat → Int32) × (Nat → Int32)) t => wrQ D dA A (mdl ad dA f_isSaved f_changes u.1 f_length f_fault u.2.1 f_at f_place a_g a_kept a_saved a_input u.2.2.1 a_ways u.2.2.2.1 u.2.2.2.2 a_one a_several a_ragged a_nextLine) t) A) ([.ref (ad 0)] : List Value).toArray s 0 0 A) (F0 m 17 ls []) := by
    intro  n
    induction n with
    | zero => intro f_code f_signMany a_signs a_needs a_walk v1 H locs ls hP hD hS hl hw; exact absurd hw id
    | succ n hk17 =>
      intro f_code f_signMany a_signs a_needs a_walk v1 H locs ls hP hD hS hl hw
      generalize hk9 : lpF (fun _ _ _ _ _ _ => False) (w_X3_writeProcession_17 post a_g) n = k17 at hk17
      have hw : (w_X3_writeProcession_17 post a_g) k17 f_code f_signMany a_signs a_needs a_walk v1 := hk9 ▸ hw
      refine lv_iload_n hx hb dX3_writeProcession_17 rfl (lv_at hl 1 rfl) ?_
      refine lv_aload_n hx hb dX3_writeProcession_18 rfl (lv_at hl 0 rfl) ?_
      refine va_get (D := D) (ci := 2) (v := .ref (ad 1)) (C := RX3) (T := TX3) (N := 20) hx hb hts in_X3 hown hK hP 0 rfl rfl 0 (by decide) (hts _ q1741) (fun _ h9 => h9) rfl dX3_writeProcession_19 ?_
      refine lv_iconst (v := (nI 0)) hx hb dX3_writeProcession_22 (by decide) ?_
      refine k_iald (k := 0) hx hb hK hP 1 0 rfl rfl (clK 0 (by decide)) (inK (by decide) (by decide)) dX3_writeProcession_23 ?_
      refine lv_icmp_ge (tgt := 86) hx hb dX3_writeProcession_24 (by decide) (fun c19 => ?_) (fun c19 => ?_)
      · have hw := hw.1 c19
        refine lv_aload_n hx hb dX3_writeProcession_86 rfl (lv_at hl 0 rfl) ?_
        refine va_get (D := D) (ci := 2) (v := .int f_signMany) (C := RX3) (T := TX3) (N := 20) hx hb hts in_X3 hown hK hP 0 rfl rfl 10 (by decide) (hts _ q1751) (fun _ h9 => h9) rfl dX3_writeProcession_87 ?_
        exact W.iret (v := f_signMany) hx hb hr (fun t ht hW => ⟨⟨f_signMany, (f_code, f_signMany, a_signs, a_needs, a_walk), rfl, hw, by rw [ht]; exact hP, va_K.moved hW.alike hK, hD⟩, hS.F ht⟩) hS.2.2 dX3_writeProcession_90
      · have hw := hw.2 c19
        refine lv_iload_n hx hb dX3_writeProcession_27 rfl (lv_at hl 1 rfl) ?_
        refine lv_if_le (tgt := 67) hx hb dX3_writeProcession_28 (by decide) (fun c20 => ?_) (fun c20 => ?_)
        · have hw := hw.1 c20
          exact hL67 k17 hk17 f_code f_signMany a_signs a_needs a_walk v1 _ _ _ hP hD hS (lv_sub hl [0, 1] rfl) hw
        · have hw := hw.2 c20
          refine lv_aload_n hx hb dX3_writeProcession_31 rfl (lv_at hl 0 rfl) ?_
          refine lv_aload_n hx hb dX3_writeProcession_32 rfl (lv_at hl 0 rfl) ?_
          refine lv_aload_n hx hb dX3_writeProcession_33 rfl (lv_at hl 0 rfl) ?_
          refine va_get (D := D) (ci := 2) (v := .ref (ad 8)) (C := RX3) (T := TX3) (N := 20) hx hb hts in_X3 hown hK hP 0 rfl rfl 13 (by decide) (hts _ q1754) (fun _ h9 => h9) rfl dX3_writeProcession_34 ?_
          refine lv_iload_n hx hb dX3_writeProcession_37 rfl (lv_at hl 1 rfl) ?_
          refine lv_iconst (v := (nI 1)) hx hb dX3_writeProcession_38 (by decide) ?_
          refine lv_isub hx hb dX3_writeProcession_39 ?_
          obtain ⟨h21, hw⟩ := hw
          refine k_iald (k := (v1 - (nI 1)).toNatClampNeg) hx hb hK hP 8 0 rfl rfl rfl h21 dX3_writeProcession_40 ?_
          refine k_ri (k_rV (As := [.int (a_walk (v1 - (nI 1)).toNatClampNeg)]) (rest := [.ref (ad 0)]) hSx (met_X3_behind l D dA ad f_isSaved f_changes f_code f_length f_fault f_signMany f_at f_place a_g a_kept a_saved a_input a_signs a_ways a_needs a_walk a_one a_several a_ragged a_nextLine (a_walk (v1 - (nI 1)).toNatClampNeg) _ hw) gX3_73 ⟨rfl, hd_X3_behind⟩ ⟨Nat.le_of_ble_eq_true rfl, Nat.le_of_ble_eq_true rfl⟩ rfl rfl hP hK [0, 1, 2, 3, 4, 5, 6, 7, 8, 9, 10, 11, 12] rfl 0 rfl rfl rfl rfl hl.1 (Nat.le_of_ble_eq_true rfl) rfl dX3_writeProcession_41 ⟨Nat.le_refl 0, Nat.le_refl 0⟩) (fun r22 hw => ?_)
          refine lv_aload_n hx hb dX3_writeProcession_44 rfl (lv_at hl 0 rfl) ?_
          refine va_get (D := D) (ci := 2) (v := .ref (ad 8)) (C := RX3) (T := TX3) (N := 20) hx hb hts in_X3 hown hK hP 0 rfl rfl 13 (by decide) (hts _ q1754) (fun _ h9 => h9) rfl dX3_writeProcession_45 ?_
          refine lv_iload_n hx hb dX3_writeProcession_48 rfl (lv_at hl 1 rfl) ?_
          obtain ⟨h23, hw⟩ := hw
          refine k_iald (k := v1.toNatClampNeg) hx hb hK hP 8 0 rfl rfl rfl h23 dX3_writeProcession_49 ?_
          refine lv_ishr hx hb dX3_writeProcession_50 ?_
          refine lv_iconst (v := (nI 1)) hx hb dX3_writeProcession_51 (by decide) ?_
          refine lv_iand hx hb dX3_writeProcession_52 ?_
          refine lv_iconst (v := (nI 1)) hx hb dX3_writeProcession_53 (by decide) ?_
          refine lv_icmp_ne (tgt := 62) hx hb dX3_writeProcession_54 (by decide) (fun c24 => ?_) (fun c24 => ?_)
          · have hw := hw.2 c24
            refine lv_bipush (v := (nI 44)) hx hb dX3_writeProcession_62 (by decide) ?_
            exact hL64 k17 hk17 f_code f_signMany a_signs a_needs a_walk v1 (nI 44) _ _ _ hP hD hS (lv_sub hl [0, 1] rfl) hw
          · have hw := hw.1 c24
            refine lv_bipush (v := (nI 62)) hx hb dX3_writeProcession_57 (by decide) ?_
            refine lv_goto (tgt := 64) hx hb dX3_writeProcession_59 (by decide) ?_
            exact hL64 k17 hk17 f_code f_signMany a_signs a_needs a_walk v1 (nI 62) _ _ _ hP hD hS (lv_sub hl [0, 1] rfl) hw
  refine lv_aload_n hx hb dX3_writeProcession_0 rfl (lv_at hl 0 rfl) ?_
  refine lv_iconst (v := (nI 0)) hx hb dX3_writeProcession_1 (by decide) ?_
  refine va_put (D := D) (ci := 2) (v := .int (nI 0)) (ty := .int) (C := RX3) (T := TX3) (N := 20) hx hb hts in_X3 tyX3 tyX3_ok nmX3 hown hK hP hD hS 0 rfl rfl 5 (by decide) (hts _ q1746) (fun _ h9 => h9) rfl (by decide +kernel) rfl rfl (Nat.le_of_ble_eq_true rfl) dX3_writeProcession_2 (fun H locs hP hD hS => ?_)
  have hP : va_P D vwCl (mdl ad dA f_isSaved f_changes (nI 0) f_length f_fault f_signMany f_at f_place a_g a_kept a_saved a_input a_signs a_ways a_needs a_walk a_one a_several a_ragged a_nextLine) H := hP
  have hD : va_D A (mdl ad dA f_isSaved f_changes (nI 0) f_length f_fault f_signMany f_at f_place a_g a_kept a_saved a_input a_signs a_ways a_needs a_walk a_one a_several a_ragged a_nextLine) := hD
  refine lv_aload_n hx hb dX3_writeProcession_5 rfl (lv_at hl 0 rfl) ?_
  refine lv_iconst (v := (nI 1)) hx hb dX3_writeProcession_6 (by decide) ?_
  refine k_wv (wn := fun (u : (Nat → Int32) × (Nat → Int32)) => (mdl ad dA f_isSaved f_changes (nI 0) f_length f_fault f_signMany f_at f_place a_g a_kept a_saved a_input a_signs a_ways u.1 u.2 a_one a_several a_ragged a_nextLine)) (wr := []) (k_wV (As := [.int (nI 1)]) (rest := []) hSx (met_X3_walks l D dA ad _ f_isSaved f_changes (nI 0) f_length f_fault f_signMany f_at f_place a_g a_kept a_saved a_input a_signs a_ways a_needs a_walk a_one a_several a_ragged a_nextLine (nI 1) _ hw) gX3_107 ⟨rfl, hd_X3_walks⟩ ⟨Nat.le_of_ble_eq_true rfl, Nat.le_of_ble_eq_true rfl⟩ rfl rfl hP hK hD [0, 1, 2, 3, 4, 5, 6, 7, 8, 9, 10, 11, 12] rfl (by decide) rfl 0 rfl rfl rfl rfl hl.1 (Nat.le_of_ble_eq_true rfl) rfl dX3_writeProcession_7 ⟨Nat.le_refl 0, Nat.le_refl 0⟩) hP hD hS hA [0, 1, 2, 3, 4, 5, 6, 7, 8, 9, 10, 11, 12] [] [0, 1, 2, 3, 4, 5, 6, 7, 8, 9, 10, 11, 12] rfl rfl (by decide) (by decide) (by decide) (fun _ => rfl) (fun _ => rfl) (fun u H locs hw _ hP hD hS => ?_)
  obtain ⟨a_needs_25, a_walk_26⟩ := u
  have hP : va_P D vwCl (mdl ad dA f_isSaved f_changes (nI 0) f_length f_fault f_signMany f_at f_place a_g a_kept a_saved a_input a_signs a_ways a_needs_25 a_walk_26 a_one a_several a_ragged a_nextLine) H := hP
  have hD : va_D A (mdl ad dA f_isSaved f_changes (nI 0) f_length f_fault f_signMany f_at f_place a_g a_kept a_saved a_input a_signs a_ways a_needs_25 a_walk_26 a_one a_several a_ragged a_nextLine) := hD
  refine lv_aload_n hx hb dX3_writeProcession_10 rfl (lv_at hl 0 rfl) ?_
  refine lv_iconst (v := (nI 0)) hx hb dX3_writeProcession_11 (by decide) ?_
  refine va_put (D := D) (ci := 2) (v := .int (nI 0)) (ty := .int) (C := RX3) (T := TX3) (N := 20) hx hb hts in_X3 tyX3 tyX3_ok nmX3 hown hK hP hD hS 0 rfl rfl 10 (by decide) (hts _ q1751) (fun _ h9 => h9) rfl (by decide +kernel) rfl rfl (Nat.le_of_ble_eq_true rfl) dX3_writeProcession_12 (fun H locs hP hD hS => ?_)
  have hP : va_P D vwCl (mdl ad dA f_isSaved f_changes (nI 0) f_length f_fault (nI 0) f_at f_place a_g a_kept a_saved a_input a_signs a_ways a_needs_25 a_walk_26 a_one a_several a_ragged a_nextLine) H := hP
  have hD : va_D A (mdl ad dA f_isSaved f_changes (nI 0) f_length f_fault (nI 0) f_at f_place a_g a_kept a_saved a_input a_signs a_ways a_needs_25 a_walk_26 a_one a_several a_ragged a_nextLine) := hD
  refine lv_iconst (v := (nI 0)) hx hb dX3_writeProcession_15 (by decide) ?_
  refine lv_istore_n (lv' := [(1, .int (nI 0)), (0, .ref (ad 0))]) hx hb dX3_writeProcession_16 rfl hl (by decide) rfl (fun ls hl => ?_)
  obtain ⟨n, hw⟩ := hw
  exact hL17  n (nI 0) (nI 0) a_signs a_needs_25 a_walk_26 (nI 0) _ _ _ hP hD hS (lv_sub hl [1, 0] rfl) hw
def rm_X3_outputAt : Room := { frames := 1, cells := 0, slots := 0, locals := 22 }
set_option maxHeartbeats 4000000 in
set_option maxRecDepth 100000 in
theorem met_X3_outputAt (l : Launch) (D : va_G) (dA : Nat → ClassId) (ad : Nat → Nat) (sz : Nat) (f_isSaved : Int32) (f_changes : Int32) (f_code : Int32) (f_length : Int32) (f_fault : Int32) (f_signMany : Int32) (f_at : Int32) (f_place : Int32) (a_g : (Nat → Int32)) (a_kept : (Nat → Int32)) (a_saved : (Nat → Int32)) (a_input : (Nat → Int32)) (a_signs : (Nat → Int32)) (a_ways : (Nat → Int64)) (a_needs : (Nat → Int32)) (a_walk : (Nat → Int32)) (a_one : (Nat → Int32)) (a_several : (Nat → Int32)) (a_ragged : (Nat → Int32)) (a_nextLine : (Nat → Int32)) (p0 : Int32) (post : Int32 → Int32 → Prop) (hw : w_X3_outputAt post f_code f_signMany a_signs p0) : Met l yX3_outputAt (ws_ yX3_outputAt cX3_outputAt 2 (some .char)) rm_X3_outputAt (va_Pc [.ref (ad 0), .int p0] (wrB D dA sz (mdl ad dA f_isSaved f_changes f_code f_length f_fault f_signMany f_at f_place a_g a_kept a_saved a_input a_signs a_ways a_needs a_walk a_one a_several a_ragged a_nextLine))) (va_Qi (fun (r : Int32) (u : Int32) => post r u) (fun (u : Int32) t => wrQ D dA (va_A (mdl ad dA f_isSaved f_changes f_code f_length f_fault f_signMany f_at f_place a_g a_kept a_saved a_input a_signs a_ways a_needs a_walk a_one a_several a_ragged a_nextLine) sz) (mdl ad dA f_isSaved f_changes u f_length f_fault f_signMany f_at f_place a_g a_kept a_saved a_input a_signs a_ways a_needs a_walk a_one a_several a_ragged a_nextLine) t) (va_A (mdl ad dA f_isSaved f_changes f_code f_length f_fault f_signMany f_at f_place a_g a_kept a_saved a_input a_signs a_ways a_needs a_walk a_one a_several a_ragged a_nextLine) sz)) 0 0 (va_A (mdl ad dA f_isSaved f_changes f_code f_length f_fault f_signMany f_at f_place a_g a_kept a_saved a_input a_signs a_ways a_needs a_walk a_one a_several a_ragged a_nextLine) sz) := by
  refine Met.ofW (cc := cX3_outputAt) (maxL := 2) (ret := (some .char)) (by decide) rfl ?_
  intro p e s m args below meth c s₁ B hml hv
  obtain ⟨rfl, hsz, hP, hK, hD0⟩ := hv
  have hx := B.exec
  have hb := B.bytes
  have hr := B.returns
  have hts := atoms_spec (ws := (ws_ yX3_outputAt cX3_outputAt 2 (some .char))) B.pre
  have hts : ∀ w ∈ lw_all, w.before _ s = true := fun w h => hts w (List.mem_cons_of_mem _ h)
  have hown : s.vm.findClass RX3 = some m.cls := findClass_of_methodNamed B.named
  have hlocks := B.notSynchronized
  have hSx : CallFix p m c cX3_outputAt 2 s _ lw_all RX3 := ⟨hx, hb, hml, hown, hts⟩
  subst hsz
  have hD := hD0.self (sz := s.heap.size)
  generalize hAe : va_A (mdl ad dA f_isSaved f_changes f_code f_length f_fault f_signMany f_at f_place a_g a_kept a_saved a_input a_signs a_ways a_needs a_walk a_one a_several a_ragged a_nextLine) s.heap.size = A at hD ⊢
  have hA : ∀ q : Nat, s.heap.size ≤ q → A q := fun q h => by rw [← hAe]; exact Or.inr h
  have hS : va_S A s.heap s.heap [] := va_S.rf
  have hl := lv_entry ([.ref (ad 0), .int p0]) (n := 2) (Nat.le_of_ble_eq_true rfl)
  rw [lg_entry_eq]
  generalize (lg_sl ([.ref (ad 0), .int p0]) ++ List.replicate (2 - (lg_sl ([.ref (ad 0), .int p0])).length) Slot.unset).toArray = ls at hl ⊢
  have hl : lv_has ls 2 [(0, .ref (ad 0)), (1, .int p0)] := hl
  have hL20 : ∀  (f_code : Int32) (v1 : Int32) (s1 : Int32) (H : Heap) (locs : List Loc) (ls : Array Slot), va_P D vwCl (mdl ad dA f_isSaved f_changes f_code f_length f_fault f_signMany f_at f_place a_g a_kept a_saved a_input a_signs a_ways a_needs a_walk a_one a_several a_ragged a_nextLine) H → va_D A (mdl ad dA f_isSaved f_changes f_code f_length f_fault f_signMany f_at f_place a_g a_kept a_saved a_input a_signs a_ways a_needs a_walk a_one a_several a_ragged a_nextLine) → va_S A s.heap H locs → lv_has ls 2 [(0, .ref (ad 0)), (1, .int v1)] → (w_X3_outputAt_20 post f_signMany a_signs) f_code v1 s1 → W p l e (headSpec (ws_ yX3_outputAt cX3_outputAt 2 (some .char)) rm_X3_outputAt).room s m ([.ref (ad 0), .int p0] : List Value).toArray below meth c H locs 0 0 (MQ below (va_Qi (fun (r : Int32) (u : Int32) => post r u) (fun (u : Int32) t => wrQ D dA A (mdl ad dA f_isSaved f_changes u f_length f_fault f_signMany f_at f_place a_g a_kept a_saved a_input a_signs a_ways a_needs a_walk a_one a_several a_ragged a_nextLine) t) A) ([.ref (ad 0), .int p0] : List Value).toArray s 0 0 A) (F0 m 20 ls [.int s1, .ref (ad 0)]) := by
      intro  f_code v1 s1 H locs ls hP hD hS hl hw
      refine k_wi (wn := fun (u : Int32) => (mdl ad dA f_isSaved f_changes u f_length f_fault f_signMany f_at f_place a_g a_kept a_saved a_input a_signs a_ways a_needs a_walk a_one a_several a_ragged a_nextLine)) (wr := []) (k_wV (As := [.int s1]) (rest := []) hSx (met_X3_fails l D dA ad _ f_isSaved f_changes f_code f_length f_fault f_signMany f_at f_place a_g a_kept a_saved a_input a_signs a_ways a_needs a_walk a_one a_several a_ragged a_nextLine s1 _ hw) gX3_70 ⟨rfl, hd_X3_fails⟩ ⟨Nat.le_of_ble_eq_true rfl, Nat.le_of_ble_eq_true rfl⟩ rfl rfl hP hK hD [0, 1, 2, 3, 4, 5, 6, 7, 8, 9, 10, 11, 12] rfl (by decide) rfl 0 rfl rfl rfl rfl hl.1 (Nat.le_of_ble_eq_true rfl) rfl dX3_outputAt_20 ⟨Nat.le_refl 0, Nat.le_refl 0⟩) hP hD hS hA [0, 1, 2, 3, 4, 5, 6, 7, 8, 9, 10, 11, 12] [] [0, 1, 2, 3, 4, 5, 6, 7, 8, 9, 10, 11, 12] rfl rfl (by decide) (by decide) (by decide) (fun _ => rfl) (fun _ => rfl) (fun r8 u H locs hw _ hP hD hS => ?_)
      obtain ⟨f_code_9, rfl⟩ : ∃ z, z = u := ⟨_, rfl⟩
      have hP : va_P D vwCl (mdl ad dA f_isSaved f_changes f_code_9 f_length f_fault f_signMany f_at f_place a_g a_kept a_saved a_input a_signs a_ways a_needs a_walk a_one a_several a_ragged a_nextLine) H := hP
      have hD : va_D A (mdl ad dA f_isSaved f_changes f_code_9 f_length f_fault f_signMany f_at f_place a_g a_kept a_saved a_input a_signs a_ways a_needs a_walk a_one a_several a_ragged a_nextLine) := hD
      refine lv_if_eq (tgt := 31) hx hb dX3_outputAt_23 (by decide) (fun c10 => ?_) (fun c10 => ?_)
      · have hw := hw.1 c10
        refine lv_aload_n hx hb dX3_outputAt_31 rfl (lv_at hl 0 rfl) ?_
        refine va_get (D := D) (ci := 2) (v := .ref (ad 5)) (C := RX3) (T := TX3) (N := 20) hx hb hts in_X3 hown hK hP 0 rfl rfl 9 (by decide) (hts _ q1750) (fun _ h9 => h9) rfl dX3_outputAt_32 ?_
        refine lv_iload_n hx hb dX3_outputAt_35 rfl (lv_at hl 1 rfl) ?_
        obtain ⟨h11, hw⟩ := hw
        refine k_cald (k := v1.toNatClampNeg) hx hb hK hP 5 1 rfl rfl rfl h11 dX3_outputAt_36 ?_
        obtain ⟨h12, hw⟩ := hw
        exact W.zret (v := (a_signs v1.toNatClampNeg)) hx hb hr h12 (fun t ht hW => ⟨⟨(a_signs v1.toNatClampNeg), f_code_9, rfl, hw, by rw [ht]; exact hP, va_K.moved hW.alike hK, hD⟩, hS.F ht⟩) hS.2.2 dX3_outputAt_37
      · have hw := hw.2 c10
        refine lv_bipush (v := (nI 32)) hx hb dX3_outputAt_26 (by decide) ?_
        refine lv_goto (tgt := 37) hx hb dX3_outputAt_28 (by decide) ?_
        exact W.zret (v := (nI 32)) hx hb hr rfl (fun t ht hW => ⟨⟨(nI 32), f_code_9, rfl, hw, by rw [ht]; exact hP, va_K.moved hW.alike hK, hD⟩, hS.F ht⟩) hS.2.2 dX3_outputAt_37
  refine lv_aload_n hx hb dX3_outputAt_0 rfl (lv_at hl 0 rfl) ?_
  refine lv_iload_n hx hb dX3_outputAt_1 rfl (lv_at hl 1 rfl) ?_
  refine lv_iconst (v := (nI 0)) hx hb dX3_outputAt_2 (by decide) ?_
  refine lv_aload_n hx hb dX3_outputAt_3 rfl (lv_at hl 0 rfl) ?_
  refine va_get (D := D) (ci := 2) (v := .int f_signMany) (C := RX3) (T := TX3) (N := 20) hx hb hts in_X3 hown hK hP 0 rfl rfl 10 (by decide) (hts _ q1751) (fun _ h9 => h9) rfl dX3_outputAt_4 ?_
  refine lv_iconst (v := (nI 1)) hx hb dX3_outputAt_7 (by decide) ?_
  refine lv_isub hx hb dX3_outputAt_8 ?_
  refine k_ri (k_pS (As := [.int p0, .int (nI 0), .int (f_signMany - (nI 1))]) (rest := [.ref (ad 0)]) hSx (met_X3_in l p0 (nI 0) (f_signMany - (nI 1)) _ hw) gX3_62 hd_X3_in ⟨Nat.le_of_ble_eq_true rfl, Nat.le_of_ble_eq_true rfl⟩ rfl rfl rfl hl.1 (Nat.le_of_ble_eq_true rfl) rfl dX3_outputAt_9 ⟨Nat.le_refl 0, Nat.le_refl 0⟩) (fun r13 hw => ?_)
  refine lv_if_eq (tgt := 19) hx hb dX3_outputAt_12 (by decide) (fun c14 => ?_) (fun c14 => ?_)
  · have hw := hw.1 c14
    refine lv_iconst (v := (nI 1)) hx hb dX3_outputAt_19 (by decide) ?_
    exact hL20  f_code p0 (nI 1) _ _ _ hP hD hS (lv_sub hl [0, 1] rfl) hw
  · have hw := hw.2 c14
    refine lv_iconst (v := (nI 0)) hx hb dX3_outputAt_15 (by decide) ?_
    refine lv_goto (tgt := 20) hx hb dX3_outputAt_16 (by decide) ?_
    exact hL20  f_code p0 (nI 0) _ _ _ hP hD hS (lv_sub hl [0, 1] rfl) hw
def rm_X3_isConsistent : Room := { frames := 1, cells := 0, slots := 0, locals := 22 }
set_option maxHeartbeats 4000000 in
set_option maxRecDepth 100000 in
theorem met_X3_isConsistent (l : Launch) (D : va_G) (dA : Nat → ClassId) (ad : Nat → Nat) (sz : Nat) (f_isSaved : Int32) (f_changes : Int32) (f_code : Int32) (f_length : Int32) (f_fault : Int32) (f_signMany : Int32) (f_at : Int32) (f_place : Int32) (a_g : (Nat → Int32)) (a_kept : (Nat → Int32)) (a_saved : (Nat → Int32)) (a_input : (Nat → Int32)) (a_signs : (Nat → Int32)) (a_ways : (Nat → Int64)) (a_needs : (Nat → Int32)) (a_walk : (Nat → Int32)) (a_one : (Nat → Int32)) (a_several : (Nat → Int32)) (a_ragged : (Nat → Int32)) (a_nextLine : (Nat → Int32))  (post : Int32 → Int32 → Prop) (hw : w_X3_isConsistent post f_code a_g) : Met l yX3_isConsistent (ws_ yX3_isConsistent cX3_isConsistent 1 (some .boolean)) rm_X3_isConsistent (va_Pc [.ref (ad 0)] (wrB D dA sz (mdl ad dA f_isSaved f_changes f_code f_length f_fault f_signMany f_at f_place a_g a_kept a_saved a_input a_signs a_ways a_needs a_walk a_one a_several a_ragged a_nextLine))) (va_Qi (fun (r : Int32) (u : Int32) => post r u) (fun (u : Int32) t => wrQ D dA (va_A (mdl ad dA f_isSaved f_changes f_code f_length f_fault f_signMany f_at f_place a_g a_kept a_saved a_input a_signs a_ways a_needs a_walk a_one a_several a_ragged a_nextLine) sz) (mdl ad dA f_isSaved f_changes u f_length f_fault f_signMany f_at f_place a_g a_kept a_saved a_input a_signs a_ways a_needs a_walk a_one a_several a_ragged a_nextLine) t) (va_A (mdl ad dA f_isSaved f_changes f_code f_length f_fault f_signMany f_at f_place a_g a_kept a_saved a_input a_signs a_ways a_needs a_walk a_one a_several a_ragged a_nextLine) sz)) 0 0 (va_A (mdl ad dA f_isSaved f_changes f_code f_length f_fault f_signMany f_at f_place a_g a_kept a_saved a_input a_signs a_ways a_needs a_walk a_one a_several a_ragged a_nextLine) sz) := by
  refine Met.ofW (cc := cX3_isConsistent) (maxL := 1) (ret := (some .boolean)) (by decide) rfl ?_
  intro p e s m args below meth c s₁ B hml hv
  obtain ⟨rfl, hsz, hP, hK, hD0⟩ := hv
  have hx := B.exec
  have hb := B.bytes
  have hr := B.returns
  have hts := atoms_spec (ws := (ws_ yX3_isConsistent cX3_isConsistent 1 (some .boolean))) B.pre
  have hts : ∀ w ∈ lw_all, w.before _ s = true := fun w h => hts w (List.mem_cons_of_mem _ h)
  have hown : s.vm.findClass RX3 = some m.cls := findClass_of_methodNamed B.named
  have hlocks := B.notSynchronized
  have hSx : CallFix p m c cX3_isConsistent 1 s _ lw_all RX3 := ⟨hx, hb, hml, hown, hts⟩
  subst hsz
  have hD := hD0.self (sz := s.heap.size)
  generalize hAe : va_A (mdl ad dA f_isSaved f_changes f_code f_length f_fault f_signMany f_at f_place a_g a_kept a_saved a_input a_signs a_ways a_needs a_walk a_one a_several a_ragged a_nextLine) s.heap.size = A at hD ⊢
  have hA : ∀ q : Nat, s.heap.size ≤ q → A q := fun q h => by rw [← hAe]; exact Or.inr h
  have hS : va_S A s.heap s.heap [] := va_S.rf
  have hl := lv_entry ([.ref (ad 0)]) (n := 1) (Nat.le_of_ble_eq_true rfl)
  rw [lg_entry_eq]
  generalize (lg_sl ([.ref (ad 0)]) ++ List.replicate (1 - (lg_sl ([.ref (ad 0)])).length) Slot.unset).toArray = ls at hl ⊢
  have hl : lv_has ls 1 [(0, .ref (ad 0))] := hl
  refine lv_aload_n hx hb dX3_isConsistent_0 rfl (lv_at hl 0 rfl) ?_
  refine lv_iconst (v := (nI 0)) hx hb dX3_isConsistent_1 (by decide) ?_
  refine va_put (D := D) (ci := 2) (v := .int (nI 0)) (ty := .int) (C := RX3) (T := TX3) (N := 20) hx hb hts in_X3 tyX3 tyX3_ok nmX3 hown hK hP hD hS 0 rfl rfl 5 (by decide) (hts _ q1746) (fun _ h9 => h9) rfl (by decide +kernel) rfl rfl (Nat.le_of_ble_eq_true rfl) dX3_isConsistent_2 (fun H locs hP hD hS => ?_)
  have hP : va_P D vwCl (mdl ad dA f_isSaved f_changes (nI 0) f_length f_fault f_signMany f_at f_place a_g a_kept a_saved a_input a_signs a_ways a_needs a_walk a_one a_several a_ragged a_nextLine) H := hP
  have hD : va_D A (mdl ad dA f_isSaved f_changes (nI 0) f_length f_fault f_signMany f_at f_place a_g a_kept a_saved a_input a_signs a_ways a_needs a_walk a_one a_several a_ragged a_nextLine) := hD
  refine lv_aload_n hx hb dX3_isConsistent_5 rfl (lv_at hl 0 rfl) ?_
  refine k_ri (k_rV (As := []) (rest := []) hSx (met_X3_allFavor l D dA ad f_isSaved f_changes (nI 0) f_length f_fault f_signMany f_at f_place a_g a_kept a_saved a_input a_signs a_ways a_needs a_walk a_one a_several a_ragged a_nextLine  _ hw) gX3_189 ⟨rfl, hd_X3_allFavor⟩ ⟨Nat.le_of_ble_eq_true rfl, Nat.le_of_ble_eq_true rfl⟩ rfl rfl hP hK [0, 1, 2, 3, 4, 5, 6, 7, 8, 9, 10, 11, 12] rfl 0 rfl rfl rfl rfl hl.1 (Nat.le_of_ble_eq_true rfl) rfl dX3_isConsistent_6 ⟨Nat.le_refl 0, Nat.le_refl 0⟩) (fun r3 hw => ?_)
  refine lv_bipush (v := (nI 20)) hx hb dX3_isConsistent_9 (by decide) ?_
  refine lv_aload_n hx hb dX3_isConsistent_11 rfl (lv_at hl 0 rfl) ?_
  refine va_get (D := D) (ci := 2) (v := .ref (ad 1)) (C := RX3) (T := TX3) (N := 20) hx hb hts in_X3 hown hK hP 0 rfl rfl 0 (by decide) (hts _ q1741) (fun _ h9 => h9) rfl dX3_isConsistent_12 ?_
  refine lv_iconst (v := (nI 0)) hx hb dX3_isConsistent_15 (by decide) ?_
  refine k_iald (k := 0) hx hb hK hP 1 0 rfl rfl (clK 0 (by decide)) (inK (by decide) (by decide)) dX3_isConsistent_16 ?_
  refine lv_imul hx hb dX3_isConsistent_17 ?_
  refine lv_aload_n hx hb dX3_isConsistent_18 rfl (lv_at hl 0 rfl) ?_
  refine va_get (D := D) (ci := 2) (v := .ref (ad 1)) (C := RX3) (T := TX3) (N := 20) hx hb hts in_X3 hown hK hP 0 rfl rfl 0 (by decide) (hts _ q1741) (fun _ h9 => h9) rfl dX3_isConsistent_19 ?_
  refine lv_iconst (v := (nI 5)) hx hb dX3_isConsistent_22 (by decide) ?_
  refine k_iald (k := 5) hx hb hK hP 1 0 rfl rfl (clK 5 (by decide)) (inK (by decide) (by decide)) dX3_isConsistent_23 ?_
  refine lv_iadd hx hb dX3_isConsistent_24 ?_
  refine lv_aload_n hx hb dX3_isConsistent_25 rfl (lv_at hl 0 rfl) ?_
  refine va_get (D := D) (ci := 2) (v := .ref (ad 1)) (C := RX3) (T := TX3) (N := 20) hx hb hts in_X3 hown hK hP 0 rfl rfl 0 (by decide) (hts _ q1741) (fun _ h9 => h9) rfl dX3_isConsistent_26 ?_
  refine lv_bipush (v := (nI 6)) hx hb dX3_isConsistent_29 (by decide) ?_
  refine k_iald (k := 6) hx hb hK hP 1 0 rfl rfl (clK 6 (by decide)) (inK (by decide) (by decide)) dX3_isConsistent_31 ?_
  refine lv_isub hx hb dX3_isConsistent_32 ?_
  refine lv_aload_n hx hb dX3_isConsistent_33 rfl (lv_at hl 0 rfl) ?_
  refine va_get (D := D) (ci := 2) (v := .ref (ad 1)) (C := RX3) (T := TX3) (N := 20) hx hb hts in_X3 hown hK hP 0 rfl rfl 0 (by decide) (hts _ q1741) (fun _ h9 => h9) rfl dX3_isConsistent_34 ?_
  refine lv_iconst (v := (nI 4)) hx hb dX3_isConsistent_37 (by decide) ?_
  refine k_iald (k := 4) hx hb hK hP 1 0 rfl rfl (clK 4 (by decide)) (inK (by decide) (by decide)) dX3_isConsistent_38 ?_
  refine lv_isub hx hb dX3_isConsistent_39 ?_
  refine lv_icmp_ne (tgt := 47) hx hb dX3_isConsistent_40 (by decide) (fun c4 => ?_) (fun c4 => ?_)
  · have hw := hw.2 c4
    refine lv_iconst (v := (nI 0)) hx hb dX3_isConsistent_47 (by decide) ?_
    exact W.zret (v := (nI 0)) hx hb hr rfl (fun t ht hW => ⟨⟨(nI 0), (nI 0), rfl, hw, by rw [ht]; exact hP, va_K.moved hW.alike hK, hD⟩, hS.F ht⟩) hS.2.2 dX3_isConsistent_48
  · have hw := hw.1 c4
    refine lv_iconst (v := (nI 1)) hx hb dX3_isConsistent_43 (by decide) ?_
    refine lv_goto (tgt := 48) hx hb dX3_isConsistent_44 (by decide) ?_
    exact W.zret (v := (nI 1)) hx hb hr rfl (fun t ht hW => ⟨⟨(nI 1), (nI 0), rfl, hw, by rw [ht]; exact hP, va_K.moved hW.alike hK, hD⟩, hS.F ht⟩) hS.2.2 dX3_isConsistent_48
