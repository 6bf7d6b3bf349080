/-! CHECKS: what its methods compute, its contracts, walked (printed by a program of wip/D-56275w/gen) -/
def w_X1_checkArgument (post : Prop) (px : String → Int32 → Prop) (bc bs : Nat) (x0 : Int32) : Prop :=
  ((x0 = 0 → (1 ≤ bc ∧ (6 ≤ bs ∧ px "java/lang/IllegalArgumentException" (nI 0) ))) ∧ (¬ x0 = 0 → post ))
set_option maxRecDepth 100000 in
theorem at_X1_56 {args : Array Value} {s : State} (hts : ∀ w ∈ lw_all, w.before args s = true) (hNW : NWx s) : ∀ w ∈ vx_at0 "RoyalCourt" 56 "java/lang/IllegalArgumentException" ["java/lang/RuntimeException", "java/lang/Exception"], w.before args s = true := at_places _ [77, 282, 291, 301, 304, 306, 283, 284, 111, 112, 285, 290, 302, 322, 272, 323, 274, 324, 276, 286, 288, 278, 1149, 1150, 1151, 825, 263, 825, 826, 827, 828, 265, 828, 829, 830, 283, 267, 1148, 637, 638, 639, 296, 640, 641, 642, 643, 320, 280, 644] (by decide +kernel) (by decide +kernel) hts hNW
theorem at_X1_56_g : ∀ w ∈ Cond.classLink "RoyalCourt" 54 "java/lang/IllegalArgumentException" :: Cond.initialized "java/lang/IllegalArgumentException" :: vx_at0 "RoyalCourt" 56 "java/lang/IllegalArgumentException" ["java/lang/RuntimeException", "java/lang/Exception"], vx_ot w = true := by decide +kernel
def rm_X1_checkArgument (bc0 bs0 : Nat) : Room := { frames := 6, cells := bc0, slots := bs0, locals := 89 }
set_option maxHeartbeats 4000000 in
set_option maxRecDepth 100000 in
theorem met_X1_checkArgument (l : Launch) (hst : l.stackTraces = false) (D : va_G) (dA : Nat → ClassId) (cx : CXt) (sz : Nat) (bc0 bs0 : Nat) (x0 : Int32) (post : Prop) (px : String → Int32 → Prop) (hw : w_X1_checkArgument post px bc0 bs0 x0) : vx_Met l yX1_checkArgument (ws_ yX1_checkArgument cX1_checkArgument 1 none) (rm_X1_checkArgument bc0 bs0) (va_Pc [.int x0] (wrC D dA cx sz [])) (va_Qv (fun (u : Unit) => post ) (fun (u : Unit) t => wrQ D dA (va_A [] sz) [] t) (va_A [] sz)) (vx_X (fun (u : String × Int32 × Unit) => px u.1 u.2.1 ) (xcB D dA (va_A [] sz) (["java/lang/IllegalArgumentException"] : List String) (fun (u : String × Int32 × Unit) => [])) (va_A [] sz)) bc0 bs0 (va_A [] sz) := by
  refine vx_ofW (cc := cX1_checkArgument) (maxL := 1) (ret := none) (by decide) rfl ?_
  intro p e s m args below meth c s₁ B hml htab hv
  obtain ⟨rfl, hsz, hP, hK, hD0, hC⟩ := hv
  have hx := B.exec
  have hb := B.bytes
  have hr := B.returns
  have hts := atoms_spec (ws := (ws_ yX1_checkArgument cX1_checkArgument 1 none)) B.pre
  have hts : ∀ w ∈ lw_all, w.before _ s = true := fun w h => hts w (List.mem_cons_of_mem _ h)
  have hown : s.vm.findClass RX1 = some m.cls := findClass_of_methodNamed B.named
  have hlocks := B.notSynchronized
  have hSx : CallFix p m c cX1_checkArgument 1 s _ lw_all RX1 := ⟨hx, hb, hml, hown, hts⟩
  subst hsz
  have hD := hD0.self (sz := s.heap.size)
  generalize hAe : va_A [] s.heap.size = A at hD hC ⊢
  have hA : ∀ q : Nat, s.heap.size ≤ q → A q := fun q h => by rw [← hAe]; exact Or.inr h
  have hS : va_S A s.heap s.heap [] := va_S.rf
  have hbud : 0 + bc0 ≤ bc0 ∧ 0 + bs0 ≤ bs0 := by omega
  have hNW := hC.1
  have hl := lv_entry ([.int x0]) (n := 1) (Nat.le_of_ble_eq_true rfl)
  rw [lg_entry_eq]
  generalize (lg_sl ([.int x0]) ++ List.replicate (1 - (lg_sl ([.int x0])).length) Slot.unset).toArray = ls at hl ⊢
  have hl : lv_has ls 1 [(0, .int x0)] := hl
  refine lv_iload_n hx hb dX1_checkArgument_0 rfl (lv_at hl 0 rfl) ?_
  refine lv_if_ne (tgt := 12) hx hb dX1_checkArgument_1 (by decide) (fun c2 => ?_) (fun c2 => ?_)
  · have hw := hw.2 c2
    refine W.widen (k := bc0) (n := bs0) (by omega) (by omega) ?_
    refine vx_ret ?_
    exact W.vret hx hb hr (fun t ht hW => ⟨⟨(), rfl, hw, by rw [ht]; exact hP.sub [] rfl, va_K.moved hW.alike hK, hD.sub [] (by decide) rfl⟩, hS.F ht⟩) hS.2.2 dX1_checkArgument_12
  · have hw := hw.1 c2
    obtain ⟨h3, hw⟩ := hw
    obtain ⟨h4, hw⟩ := hw
    refine W.widen (k := 0) (n := 0) (by omega) (by omega) ?_
    exact kx_throw0 (cls := "java/lang/IllegalArgumentException") (names := ["java/lang/RuntimeException", "java/lang/Exception"]) hSx hst (by decide +kernel) (by decide +kernel) q1147 q88 (at_X1_56 hts hNW) at_X1_56_g hC hS hl.1 dX1_checkArgument_4 dX1_checkArgument_7 dX1_checkArgument_8 dX1_checkArgument_11 (fun x hx => (htab x hx).elim) (Nat.le_of_ble_eq_true rfl) (Nat.le_of_ble_eq_true rfl) (show 0 + 1 ≤ bc0 by omega) (show 0 + 6 ≤ bs0 by omega) hlocks ("java/lang/IllegalArgumentException", nI 0, ()) rfl (by decide) hw (by decide) (hP.sub [] rfl) hK (hD.sub [] (by decide) rfl) (show 0 + 1 ≤ bc0 by omega) (show 0 + 6 ≤ bs0 by omega)
def w_X1_checkElement (post : Prop) (px : String → Int32 → Prop) (bc bs : Nat) (x0 : Int32) : Prop :=
  ((x0 = 0 → (1 ≤ bc ∧ (6 ≤ bs ∧ px "java/util/NoSuchElementException" (nI 0) ))) ∧ (¬ x0 = 0 → post ))
set_option maxRecDepth 100000 in
theorem at_X1_59 {args : Array Value} {s : State} (hts : ∀ w ∈ lw_all, w.before args s = true) (hNW : NWx s) : ∀ w ∈ vx_at0 "RoyalCourt" 59 "java/util/NoSuchElementException" ["java/lang/RuntimeException", "java/lang/Exception"], w.before args s = true := at_places _ [77, 282, 291, 301, 304, 306, 283, 284, 111, 112, 285, 290, 302, 322, 272, 323, 274, 324, 276, 286, 288, 278, 1006, 1007, 1008, 825, 263, 825, 826, 827, 828, 265, 828, 829, 830, 283, 267, 1231, 997, 998, 999, 300, 1000, 1001, 1002, 1003, 320, 280, 1004] (by decide +kernel) (by decide +kernel) hts hNW
theorem at_X1_59_g : ∀ w ∈ Cond.classLink "RoyalCourt" 57 "java/util/NoSuchElementException" :: Cond.initialized "java/util/NoSuchElementException" :: vx_at0 "RoyalCourt" 59 "java/util/NoSuchElementException" ["java/lang/RuntimeException", "java/lang/Exception"], vx_ot w = true := by decide +kernel
def rm_X1_checkElement (bc0 bs0 : Nat) : Room := { frames := 6, cells := bc0, slots := bs0, locals := 89 }
set_option maxHeartbeats 4000000 in
set_option maxRecDepth 100000 in
theorem met_X1_checkElement (l : Launch) (hst : l.stackTraces = false) (D : va_G) (dA : Nat → ClassId) (cx : CXt) (sz : Nat) (bc0 bs0 : Nat) (x0 : Int32) (post : Prop) (px : String → Int32 → Prop) (hw : w_X1_checkElement post px bc0 bs0 x0) : vx_Met l yX1_checkElement (ws_ yX1_checkElement cX1_checkElement 1 none) (rm_X1_checkElement bc0 bs0) (va_Pc [.int x0] (wrC D dA cx sz [])) (va_Qv (fun (u : Unit) => post ) (fun (u : Unit) t => wrQ D dA (va_A [] sz) [] t) (va_A [] sz)) (vx_X (fun (u : String × Int32 × Unit) => px u.1 u.2.1 ) (xcB D dA (va_A [] sz) (["java/util/NoSuchElementException"] : List String) (fun (u : String × Int32 × Unit) => [])) (va_A [] sz)) bc0 bs0 (va_A [] sz) := by
  refine vx_ofW (cc := cX1_checkElement) (maxL := 1) (ret := none) (by decide) rfl ?_
  intro p e s m args below meth c s₁ B hml htab hv
  obtain ⟨rfl, hsz, hP, hK, hD0, hC⟩ := hv
  have hx := B.exec
  have hb := B.bytes
  have hr := B.returns
  have hts := atoms_spec (ws := (ws_ yX1_checkElement cX1_checkElement 1 none)) B.pre
  have hts : ∀ w ∈ lw_all, w.before _ s = true := fun w h => hts w (List.mem_cons_of_mem _ h)
  have hown : s.vm.findClass RX1 = some m.cls := findClass_of_methodNamed B.named
  have hlocks := B.notSynchronized
  have hSx : CallFix p m c cX1_checkElement 1 s _ lw_all RX1 := ⟨hx, hb, hml, hown, hts⟩
  subst hsz
  have hD := hD0.self (sz := s.heap.size)
  generalize hAe : va_A [] s.heap.size = A at hD hC ⊢
  have hA : ∀ q : Nat, s.heap.size ≤ q → A q := fun q h => by rw [← hAe]; exact Or.inr h
  have hS : va_S A s.heap s.heap [] := va_S.rf
  have hbud : 0 + bc0 ≤ bc0 ∧ 0 + bs0 ≤ bs0 := by omega
  have hNW := hC.1
  have hl := lv_entry ([.int x0]) (n := 1) (Nat.le_of_ble_eq_true rfl)
  rw [lg_entry_eq]
  generalize (lg_sl ([.int x0]) ++ List.replicate (1 - (lg_sl ([.int x0])).length) Slot.unset).toArray = ls at hl ⊢
  have hl : lv_has ls 1 [(0, .int x0)] := hl
  refine lv_iload_n hx hb dX1_checkElement_0 rfl (lv_at hl 0 rfl) ?_
  refine lv_if_ne (tgt := 12) hx hb dX1_checkElement_1 (by decide) (fun c2 => ?_) (fun c2 => ?_)
  · have hw := hw.2 c2
    refine W.widen (k := bc0) (n := bs0) (by omega) (by omega) ?_
    refine vx_ret ?_
    exact W.vret hx hb hr (fun t ht hW => ⟨⟨(), rfl, hw, by rw [ht]; exact hP.sub [] rfl, va_K.moved hW.alike hK, hD.sub [] (by decide) rfl⟩, hS.F ht⟩) hS.2.2 dX1_checkElement_12
  · have hw := hw.1 c2
    obtain ⟨h3, hw⟩ := hw
    obtain ⟨h4, hw⟩ := hw
    refine W.widen (k := 0) (n := 0) (by omega) (by omega) ?_
    exact kx_throw0 (cls := "java/util/NoSuchElementException") (names := ["java/lang/RuntimeException", "java/lang/Exception"]) hSx hst (by decide +kernel) (by decide +kernel) q1230 q86 (at_X1_59 hts hNW) at_X1_59_g hC hS hl.1 dX1_checkElement_4 dX1_checkElement_7 dX1_checkElement_8 dX1_checkElement_11 (fun x hx => (htab x hx).elim) (Nat.le_of_ble_eq_true rfl) (Nat.le_of_ble_eq_true rfl) (show 0 + 1 ≤ bc0 by omega) (show 0 + 6 ≤ bs0 by omega) hlocks ("java/util/NoSuchElementException", nI 0, ()) rfl (by decide) hw (by decide) (hP.sub [] rfl) hK (hD.sub [] (by decide) rfl) (show 0 + 1 ≤ bc0 by omega) (show 0 + 6 ≤ bs0 by omega)
def w_X1_checkState (post : Prop) (px : String → Int32 → Prop) (bc bs : Nat) (x0 : Int32) : Prop :=
  ((x0 = 0 → (1 ≤ bc ∧ (6 ≤ bs ∧ px "java/lang/IllegalStateException" (nI 0) ))) ∧ (¬ x0 = 0 → post ))
set_option maxRecDepth 100000 in
theorem at_X1_62 {args : Array Value} {s : State} (hts : ∀ w ∈ lw_all, w.before args s = true) (hNW : NWx s) : ∀ w ∈ vx_at0 "RoyalCourt" 62 "java/lang/IllegalStateException" ["java/lang/RuntimeException", "java/lang/Exception"], w.before args s = true := at_places _ [77, 282, 291, 301, 304, 306, 283, 284, 111, 112, 285, 290, 302, 322, 272, 323, 274, 324, 276, 286, 288, 278, 1157, 1158, 1159, 825, 263, 825, 826, 827, 828, 265, 828, 829, 830, 283, 267, 1156, 261, 262, 269, 270, 271, 273, 275, 277, 320, 280, 279] (by decide +kernel) (by decide +kernel) hts hNW
theorem at_X1_62_g : ∀ w ∈ Cond.classLink "RoyalCourt" 60 "java/lang/IllegalStateException" :: Cond.initialized "java/lang/IllegalStateException" :: vx_at0 "RoyalCourt" 62 "java/lang/IllegalStateException" ["java/lang/RuntimeException", "java/lang/Exception"], vx_ot w = true := by decide +kernel
def rm_X1_checkState (bc0 bs0 : Nat) : Room := { frames := 6, cells := bc0, slots := bs0, locals := 89 }
set_option maxHeartbeats 4000000 in
set_option maxRecDepth 100000 in
theorem met_X1_checkState (l : Launch) (hst : l.stackTraces = false) (D : va_G) (dA : Nat → ClassId) (cx : CXt) (sz : Nat) (bc0 bs0 : Nat) (x0 : Int32) (post : Prop) (px : String → Int32 → Prop) (hw : w_X1_checkState post px bc0 bs0 x0) : vx_Met l yX1_checkState (ws_ yX1_checkState cX1_checkState 1 none) (rm_X1_checkState bc0 bs0) (va_Pc [.int x0] (wrC D dA cx sz [])) (va_Qv (fun (u : Unit) => post ) (fun (u : Unit) t => wrQ D dA (va_A [] sz) [] t) (va_A [] sz)) (vx_X (fun (u : String × Int32 × Unit) => px u.1 u.2.1 ) (xcB D dA (va_A [] sz) (["java/lang/IllegalStateException"] : List String) (fun (u : String × Int32 × Unit) => [])) (va_A [] sz)) bc0 bs0 (va_A [] sz) := by
  refine vx_ofW (cc := cX1_checkState) (maxL := 1) (ret := none) (by decide) rfl ?_
  intro p e s m args below meth c s₁ B hml htab hv
  obtain ⟨rfl, hsz, hP, hK, hD0, hC⟩ := hv
  have hx := B.exec
  have hb := B.bytes
  have hr := B.returns
  have hts := atoms_spec (ws := (ws_ yX1_checkState cX1_checkState 1 none)) B.pre
  have hts : ∀ w ∈ lw_all, w.before _ s = true := fun w h => hts w (List.mem_cons_of_mem _ h)
  have hown : s.vm.findClass RX1 = some m.cls := findClass_of_methodNamed B.named
  have hlocks := B.notSynchronized
  have hSx : CallFix p m c cX1_checkState 1 s _ lw_all RX1 := ⟨hx, hb, hml, hown, hts⟩
  subst hsz
  have hD := hD0.self (sz := s.heap.size)
  generalize hAe : va_A [] s.heap.size = A at hD hC ⊢
  have hA : ∀ q : Nat, s.heap.size ≤ q → A q := fun q h => by rw [← hAe]; exact Or.inr h
  have hS : va_S A s.heap s.heap [] := va_S.rf
  have hbud : 0 + bc0 ≤ bc0 ∧ 0 + bs0 ≤ bs0 := by omega
  have hNW := hC.1
  have hl := lv_entry ([.int x0]) (n := 1) (Nat.le_of_ble_eq_true rfl)
  rw [lg_entry_eq]
  generalize (lg_sl ([.int x0]) ++ List.replicate (1 - (lg_sl ([.int x0])).length) Slot.unset).toArray = ls at hl ⊢
  have hl : lv_has ls 1 [(0, .int x0)] := hl
  refine lv_iload_n hx hb dX1_checkState_0 rfl (lv_at hl 0 rfl) ?_
  refine lv_if_ne (tgt := 12) hx hb dX1_checkState_1 (by decide) (fun c2 => ?_) (fun c2 => ?_)
  · have hw := hw.2 c2
    refine W.widen (k := bc0) (n := bs0) (by omega) (by omega) ?_
    refine vx_ret ?_
    exact W.vret hx hb hr (fun t ht hW => ⟨⟨(), rfl, hw, by rw [ht]; exact hP.sub [] rfl, va_K.moved hW.alike hK, hD.sub [] (by decide) rfl⟩, hS.F ht⟩) hS.2.2 dX1_checkState_12
  · have hw := hw.1 c2
    obtain ⟨h3, hw⟩ := hw
    obtain ⟨h4, hw⟩ := hw
    refine W.widen (k := 0) (n := 0) (by omega) (by omega) ?_
    exact kx_throw0 (cls := "java/lang/IllegalStateException") (names := ["java/lang/RuntimeException", "java/lang/Exception"]) hSx hst (by decide +kernel) (by decide +kernel) q1155 q80 (at_X1_62 hts hNW) at_X1_62_g hC hS hl.1 dX1_checkState_4 dX1_checkState_7 dX1_checkState_8 dX1_checkState_11 (fun x hx => (htab x hx).elim) (Nat.le_of_ble_eq_true rfl) (Nat.le_of_ble_eq_true rfl) (show 0 + 1 ≤ bc0 by omega) (show 0 + 6 ≤ bs0 by omega) hlocks ("java/lang/IllegalStateException", nI 0, ()) rfl (by decide) hw (by decide) (hP.sub [] rfl) hK (hD.sub [] (by decide) rfl) (show 0 + 1 ≤ bc0 by omega) (show 0 + 6 ≤ bs0 by omega)
def w_X1_checkIndex (post : Prop) (px : String → Int32 → Prop) (bc bs : Nat) (x0 : Int32) : Prop :=
  ((x0 = 0 → (1 ≤ bc ∧ (6 ≤ bs ∧ px "java/lang/IndexOutOfBoundsException" (nI 0) ))) ∧ (¬ x0 = 0 → post ))
set_option maxRecDepth 100000 in
theorem at_X1_65 {args : Array Value} {s : State} (hts : ∀ w ∈ lw_all, w.before args s = true) (hNW : NWx s) : ∀ w ∈ vx_at0 "RoyalCourt" 65 "java/lang/IndexOutOfBoundsException" ["java/lang/RuntimeException", "java/lang/Exception"], w.before args s = true := at_places _ [77, 282, 291, 301, 304, 306, 283, 284, 111, 112, 285, 290, 302, 322, 272, 323, 274, 324, 276, 286, 288, 278, 1210, 1211, 1212, 825, 263, 825, 826, 827, 828, 265, 828, 829, 830, 283, 267, 1209, 1201, 1202, 1203, 297, 1204, 1205, 1206, 1207, 320, 280, 1208] (by decide +kernel) (by decide +kernel) hts hNW
theorem at_X1_65_g : ∀ w ∈ Cond.classLink "RoyalCourt" 63 "java/lang/IndexOutOfBoundsException" :: Cond.initialized "java/lang/IndexOutOfBoundsException" :: vx_at0 "RoyalCourt" 65 "java/lang/IndexOutOfBoundsException" ["java/lang/RuntimeException", "java/lang/Exception"], vx_ot w = true := by decide +kernel
def rm_X1_checkIndex (bc0 bs0 : Nat) : Room := { frames := 6, cells := bc0, slots := bs0, locals := 89 }
set_option maxHeartbeats 4000000 in
set_option maxRecDepth 100000 in
theorem met_X1_checkIndex (l : Launch) (hst : l.stackTraces = false) (D : va_G) (dA : Nat → ClassId) (cx : CXt) (sz : Nat) (bc0 bs0 : Nat) (x0 : Int32) (post : Prop) (px : String → Int32 → Prop) (hw : w_X1_checkIndex post px bc0 bs0 x0) : vx_Met l yX1_checkIndex (ws_ yX1_checkIndex cX1_checkIndex 1 none) (rm_X1_checkIndex bc0 bs0) (va_Pc [.int x0] (wrC D dA cx sz [])) (va_Qv (fun (u : Unit) => post ) (fun (u : Unit) t => wrQ D dA (va_A [] sz) [] t) (va_A [] sz)) (vx_X (fun (u : String × Int32 × Unit) => px u.1 u.2.1 ) (xcB D dA (va_A [] sz) (["java/lang/IndexOutOfBoundsException"] : List String) (fun (u : String × Int32 × Unit) => [])) (va_A [] sz)) bc0 bs0 (va_A [] sz) := by
  refine vx_ofW (cc := cX1_checkIndex) (maxL := 1) (ret := none) (by decide) rfl ?_
  intro p e s m args below meth c s₁ B hml htab hv
  obtain ⟨rfl, hsz, hP, hK, hD0, hC⟩ := hv
  have hx := B.exec
  have hb := B.bytes
  have hr := B.returns
  have hts := atoms_spec (ws := (ws_ yX1_checkIndex cX1_checkIndex 1 none)) B.pre
  have hts : ∀ w ∈ lw_all, w.before _ s = true := fun w h => hts w (List.mem_cons_of_mem _ h)
  have hown : s.vm.findClass RX1 = some m.cls := findClass_of_methodNamed B.named
  have hlocks := B.notSynchronized
  have hSx : CallFix p m c cX1_checkIndex 1 s _ lw_all RX1 := ⟨hx, hb, hml, hown, hts⟩
  subst hsz
  have hD := hD0.self (sz := s.heap.size)
  generalize hAe : va_A [] s.heap.size = A at hD hC ⊢
  have hA : ∀ q : Nat, s.heap.size ≤ q → A q := fun q h => by rw [← hAe]; exact Or.inr h
  have hS : va_S A s.heap s.heap [] := va_S.rf
  have hbud : 0 + bc0 ≤ bc0 ∧ 0 + bs0 ≤ bs0 := by omega
  have hNW := hC.1
  have hl := lv_entry ([.int x0]) (n := 1) (Nat.le_of_ble_eq_true rfl)
  rw [lg_entry_eq]
  generalize (lg_sl ([.int x0]) ++ List.replicate (1 - (lg_sl ([.int x0])).length) Slot.unset).toArray = ls at hl ⊢
  have hl : lv_has ls 1 [(0, .int x0)] := hl
  refine lv_iload_n hx hb dX1_checkIndex_0 rfl (lv_at hl 0 rfl) ?_
  refine lv_if_ne (tgt := 12) hx hb dX1_checkIndex_1 (by decide) (fun c2 => ?_) (fun c2 => ?_)
  · have hw := hw.2 c2
    refine W.widen (k := bc0) (n := bs0) (by omega) (by omega) ?_
    refine vx_ret ?_
    exact W.vret hx hb hr (fun t ht hW => ⟨⟨(), rfl, hw, by rw [ht]; exact hP.sub [] rfl, va_K.moved hW.alike hK, hD.sub [] (by decide) rfl⟩, hS.F ht⟩) hS.2.2 dX1_checkIndex_12
  · have hw := hw.1 c2
    obtain ⟨h3, hw⟩ := hw
    obtain ⟨h4, hw⟩ := hw
    refine W.widen (k := 0) (n := 0) (by omega) (by omega) ?_
    exact kx_throw0 (cls := "java/lang/IndexOutOfBoundsException") (names := ["java/lang/RuntimeException", "java/lang/Exception"]) hSx hst (by decide +kernel) (by decide +kernel) q1200 q89 (at_X1_65 hts hNW) at_X1_65_g hC hS hl.1 dX1_checkIndex_4 dX1_checkIndex_7 dX1_checkIndex_8 dX1_checkIndex_11 (fun x hx => (htab x hx).elim) (Nat.le_of_ble_eq_true rfl) (Nat.le_of_ble_eq_true rfl) (show 0 + 1 ≤ bc0 by omega) (show 0 + 6 ≤ bs0 by omega) hlocks ("java/lang/IndexOutOfBoundsException", nI 0, ()) rfl (by decide) hw (by decide) (hP.sub [] rfl) hK (hD.sub [] (by decide) rfl) (show 0 + 1 ≤ bc0 by omega) (show 0 + 6 ≤ bs0 by omega)
def w_X1_checkSupported (post : Prop) (px : String → Int32 → Prop) (bc bs : Nat) (x0 : Int32) : Prop :=
  ((x0 = 0 → (1 ≤ bc ∧ (6 ≤ bs ∧ px "java/lang/UnsupportedOperationException" (nI 0) ))) ∧ (¬ x0 = 0 → post ))
set_option maxRecDepth 100000 in
theorem at_X1_68 {args : Array Value} {s : State} (hts : ∀ w ∈ lw_all, w.before args s = true) (hNW : NWx s) : ∀ w ∈ vx_at0 "RoyalCourt" 68 "java/lang/UnsupportedOperationException" ["java/lang/RuntimeException", "java/lang/Exception"], w.before args s = true := at_places _ [77, 282, 291, 301, 304, 306, 283, 284, 111, 112, 285, 290, 302, 322, 272, 323, 274, 324, 276, 286, 288, 278, 1489, 1490, 1491, 825, 263, 825, 826, 827, 828, 265, 828, 829, 830, 283, 267, 1488, 1480, 1481, 1482, 299, 1483, 1484, 1485, 1486, 320, 280, 1487] (by decide +kernel) (by decide +kernel) hts hNW
theorem at_X1_68_g : ∀ w ∈ Cond.classLink "RoyalCourt" 66 "java/lang/UnsupportedOperationException" :: Cond.initialized "java/lang/UnsupportedOperationException" :: vx_at0 "RoyalCourt" 68 "java/lang/UnsupportedOperationException" ["java/lang/RuntimeException", "java/lang/Exception"], vx_ot w = true := by decide +kernel
def rm_X1_checkSupported (bc0 bs0 : Nat) : Room := { frames := 6, cells := bc0, slots := bs0, locals := 89 }
set_option maxHeartbeats 4000000 in
set_option maxRecDepth 100000 in
theorem met_X1_checkSupported (l : Launch) (hst : l.stackTraces = false) (D : va_G) (dA : Nat → ClassId) (cx : CXt) (sz : Nat) (bc0 bs0 : Nat) (x0 : Int32) (post : Prop) (px : String → Int32 → Prop) (hw : w_X1_checkSupported post px bc0 bs0 x0) : vx_Met l yX1_checkSupported (ws_ yX1_checkSupported cX1_checkSupported 1 none) (rm_X1_checkSupported bc0 bs0) (va_Pc [.int x0] (wrC D dA cx sz [])) (va_Qv (fun (u : Unit) => post ) (fun (u : Unit) t => wrQ D dA (va_A [] sz) [] t) (va_A [] sz)) (vx_X (fun (u : String × Int32 × Unit) => px u.1 u.2.1 ) (xcB D dA (va_A [] sz) (["java/lang/UnsupportedOperationException"] : List String) (fun (u : String × Int32 × Unit) => [])) (va_A [] sz)) bc0 bs0 (va_A [] sz) := by
  refine vx_ofW (cc := cX1_checkSupported) (maxL := 1) (ret := none) (by decide) rfl ?_
  intro p e s m args below meth c s₁ B hml htab hv
  obtain ⟨rfl, hsz, hP, hK, hD0, hC⟩ := hv
  have hx := B.exec
  have hb := B.bytes
  have hr := B.returns
  have hts := atoms_spec (ws := (ws_ yX1_checkSupported cX1_checkSupported 1 none)) B.pre
  have hts : ∀ w ∈ lw_all, w.before _ s = true := fun w h => hts w (List.mem_cons_of_mem _ h)
  have hown : s.vm.findClass RX1 = some m.cls := findClass_of_methodNamed B.named
  have hlocks := B.notSynchronized
  have hSx : CallFix p m c cX1_checkSupported 1 s _ lw_all RX1 := ⟨hx, hb, hml, hown, hts⟩
  subst hsz
  have hD := hD0.self (sz := s.heap.size)
  generalize hAe : va_A [] s.heap.size = A at hD hC ⊢
  have hA : ∀ q : Nat, s.heap.size ≤ q → A q := fun q h => by rw [← hAe]; exact Or.inr h
  have hS : va_S A s.heap s.heap [] := va_S.rf
  have hbud : 0 + bc0 ≤ bc0 ∧ 0 + bs0 ≤ bs0 := by omega
  have hNW := hC.1
  have hl := lv_entry ([.int x0]) (n := 1) (Nat.le_of_ble_eq_true rfl)
  rw [lg_entry_eq]
  generalize (lg_sl ([.int x0]) ++ List.replicate (1 - (lg_sl ([.int x0])).length) Slot.unset).toArray = ls at hl ⊢
  have hl : lv_has ls 1 [(0, .int x0)] := hl
  refine lv_iload_n hx hb dX1_checkSupported_0 rfl (lv_at hl 0 rfl) ?_
  refine lv_if_ne (tgt := 12) hx hb dX1_checkSupported_1 (by decide) (fun c2 => ?_) (fun c2 => ?_)
  · have hw := hw.2 c2
    refine W.widen (k := bc0) (n := bs0) (by omega) (by omega) ?_
    refine vx_ret ?_
    exact W.vret hx hb hr (fun t ht hW => ⟨⟨(), rfl, hw, by rw [ht]; exact hP.sub [] rfl, va_K.moved hW.alike hK, hD.sub [] (by decide) rfl⟩, hS.F ht⟩) hS.2.2 dX1_checkSupported_12
  · have hw := hw.1 c2
    obtain ⟨h3, hw⟩ := hw
    obtain ⟨h4, hw⟩ := hw
    refine W.widen (k := 0) (n := 0) (by omega) (by omega) ?_
    exact kx_throw0 (cls := "java/lang/UnsupportedOperationException") (names := ["java/lang/RuntimeException", "java/lang/Exception"]) hSx hst (by decide +kernel) (by decide +kernel) q1479 q102 (at_X1_68 hts hNW) at_X1_68_g hC hS hl.1 dX1_checkSupported_4 dX1_checkSupported_7 dX1_checkSupported_8 dX1_checkSupported_11 (fun x hx => (htab x hx).elim) (Nat.le_of_ble_eq_true rfl) (Nat.le_of_ble_eq_true rfl) (show 0 + 1 ≤ bc0 by omega) (show 0 + 6 ≤ bs0 by omega) hlocks ("java/lang/UnsupportedOperationException", nI 0, ()) rfl (by decide) hw (by decide) (hP.sub [] rfl) hK (hD.sub [] (by decide) rfl) (show 0 + 1 ≤ bc0 by omega) (show 0 + 6 ≤ bs0 by omega)
def w_X1_checkAny (post : Prop) (px : String → Int32 → Prop) (bc bs : Nat) (x0 : Int32) : Prop :=
  ((x0 = 0 → (1 ≤ bc ∧ (6 ≤ bs ∧ px "java/lang/ArithmeticException" (nI 0) ))) ∧ (¬ x0 = 0 → post ))
set_option maxRecDepth 100000 in
theorem at_X1_75 {args : Array Value} {s : State} (hts : ∀ w ∈ lw_all, w.before args s = true) (hNW : NWx s) : ∀ w ∈ vx_at0 "RoyalCourt" 75 "java/lang/ArithmeticException" ["java/lang/RuntimeException", "java/lang/Exception"], w.before args s = true := at_places _ [77, 282, 291, 301, 304, 306, 283, 284, 111, 112, 285, 290, 302, 322, 272, 323, 274, 324, 276, 286, 288, 278, 1676, 1677, 1678, 825, 263, 825, 826, 827, 828, 265, 828, 829, 830, 283, 267, 1675, 1654, 1665, 1666, 294, 1660, 1661, 1663, 1659, 320, 280, 1658] (by decide +kernel) (by decide +kernel) hts hNW
theorem at_X1_75_g : ∀ w ∈ Cond.classLink "RoyalCourt" 73 "java/lang/ArithmeticException" :: Cond.initialized "java/lang/ArithmeticException" :: vx_at0 "RoyalCourt" 75 "java/lang/ArithmeticException" ["java/lang/RuntimeException", "java/lang/Exception"], vx_ot w = true := by decide +kernel
def rm_X1_checkAny (bc0 bs0 : Nat) : Room := { frames := 6, cells := bc0, slots := bs0, locals := 89 }
set_option maxHeartbeats 4000000 in
set_option maxRecDepth 100000 in
theorem met_X1_checkAny (l : Launch) (hst : l.stackTraces = false) (D : va_G) (dA : Nat → ClassId) (cx : CXt) (sz : Nat) (bc0 bs0 : Nat) (x0 : Int32) (post : Prop) (px : String → Int32 → Prop) (hw : w_X1_checkAny post px bc0 bs0 x0) : vx_Met l yX1_checkAny (ws_ yX1_checkAny cX1_checkAny 1 none) (rm_X1_checkAny bc0 bs0) (va_Pc [.int x0] (wrC D dA cx sz [])) (va_Qv (fun (u : Unit) => post ) (fun (u : Unit) t => wrQ D dA (va_A [] sz) [] t) (va_A [] sz)) (vx_X (fun (u : String × Int32 × Unit) => px u.1 u.2.1 ) (xcB D dA (va_A [] sz) (["java/lang/ArithmeticException"] : List String) (fun (u : String × Int32 × Unit) => [])) (va_A [] sz)) bc0 bs0 (va_A [] sz) := by
  refine vx_ofW (cc := cX1_checkAny) (maxL := 1) (ret := none) (by decide) rfl ?_
  intro p e s m args below meth c s₁ B hml htab hv
  obtain ⟨rfl, hsz, hP, hK, hD0, hC⟩ := hv
  have hx := B.exec
  have hb := B.bytes
  have hr := B.returns
  have hts := atoms_spec (ws := (ws_ yX1_checkAny cX1_checkAny 1 none)) B.pre
  have hts : ∀ w ∈ lw_all, w.before _ s = true := fun w h => hts w (List.mem_cons_of_mem _ h)
  have hown : s.vm.findClass RX1 = some m.cls := findClass_of_methodNamed B.named
  have hlocks := B.notSynchronized
  have hSx : CallFix p m c cX1_checkAny 1 s _ lw_all RX1 := ⟨hx, hb, hml, hown, hts⟩
  subst hsz
  have hD := hD0.self (sz := s.heap.size)
  generalize hAe : va_A [] s.heap.size = A at hD hC ⊢
  have hA : ∀ q : Nat, s.heap.size ≤ q → A q := fun q h => by rw [← hAe]; exact Or.inr h
  have hS : va_S A s.heap s.heap [] := va_S.rf
  have hbud : 0 + bc0 ≤ bc0 ∧ 0 + bs0 ≤ bs0 := by omega
  have hNW := hC.1
  have hl := lv_entry ([.int x0]) (n := 1) (Nat.le_of_ble_eq_true rfl)
  rw [lg_entry_eq]
  generalize (lg_sl ([.int x0]) ++ List.replicate (1 - (lg_sl ([.int x0])).length) Slot.unset).toArray = ls at hl ⊢
  have hl : lv_has ls 1 [(0, .int x0)] := hl
  refine lv_iload_n hx hb dX1_checkAny_0 rfl (lv_at hl 0 rfl) ?_
  refine lv_if_ne (tgt := 12) hx hb dX1_checkAny_1 (by decide) (fun c2 => ?_) (fun c2 => ?_)
  · have hw := hw.2 c2
    refine W.widen (k := bc0) (n := bs0) (by omega) (by omega) ?_
    refine vx_ret ?_
    exact W.vret hx hb hr (fun t ht hW => ⟨⟨(), rfl, hw, by rw [ht]; exact hP.sub [] rfl, va_K.moved hW.alike hK, hD.sub [] (by decide) rfl⟩, hS.F ht⟩) hS.2.2 dX1_checkAny_12
  · have hw := hw.1 c2
    obtain ⟨h3, hw⟩ := hw
    obtain ⟨h4, hw⟩ := hw
    refine W.widen (k := 0) (n := 0) (by omega) (by omega) ?_
    exact kx_throw0 (cls := "java/lang/ArithmeticException") (names := ["java/lang/RuntimeException", "java/lang/Exception"]) hSx hst (by decide +kernel) (by decide +kernel) q1674 q104 (at_X1_75 hts hNW) at_X1_75_g hC hS hl.1 dX1_checkAny_4 dX1_checkAny_7 dX1_checkAny_8 dX1_checkAny_11 (fun x hx => (htab x hx).elim) (Nat.le_of_ble_eq_true rfl) (Nat.le_of_ble_eq_true rfl) (show 0 + 1 ≤ bc0 by omega) (show 0 + 6 ≤ bs0 by omega) hlocks ("java/lang/ArithmeticException", nI 0, ()) rfl (by decide) hw (by decide) (hP.sub [] rfl) hK (hD.sub [] (by decide) rfl) (show 0 + 1 ≤ bc0 by omega) (show 0 + 6 ≤ bs0 by omega)
def w_X1_found_10 (post : Int32 → Prop) (px : String → Int32 → Prop) (x0 : Int32)  (bc bs : Nat) (s0 : Int32) : Prop :=
  (∃ b17 b18 : Nat, b17 ≤ bc ∧ b18 ≤ bs ∧ w_X1_checkElement (post x0) (fun E15 o16 => px E15 o16 ) b17 b18 s0)
def w_X1_found (post : Int32 → Prop) (px : String → Int32 → Prop) (bc bs : Nat) (x0 : Int32) : Prop :=
  ((x0 = (-1) → (w_X1_found_10 post px x0) bc bs (nI 0)) ∧ (¬ x0 = (-1) → (w_X1_found_10 post px x0) bc bs (nI 1)))
theorem hd_X1_checkElement : yX1_checkElement.cls ≠ "java/lang/invoke/MethodHandle" ∧ yX1_checkElement.cls ≠ "java/lang/invoke/VarHandle" ∧ (parseMethodDescriptor yX1_checkElement.desc).map (fun d => d.parameters.length) = some 1 := by decide +kernel
theorem gX1_69 : GoodIn lw_all (va_wsS RX1 69 yX1_checkElement (ws_ yX1_checkElement cX1_checkElement 1 none)) := lw_S q1270 q1228 q67 q1229
def rm_X1_found (bc0 bs0 : Nat) : Room := { frames := 7, cells := bc0, slots := bs0, locals := 109 }
set_option maxHeartbeats 4000000 in
set_option maxRecDepth 100000 in
theorem met_X1_found (l : Launch) (hst : l.stackTraces = false) (D : va_G) (dA : Nat → ClassId) (cx : CXt) (sz : Nat) (bc0 bs0 : Nat) (x0 : Int32) (post : Int32 → Prop) (px : String → Int32 → Prop) (hw : w_X1_found post px bc0 bs0 x0) : vx_Met l yX1_found (ws_ yX1_found cX1_found 1 (some .int)) (rm_X1_found bc0 bs0) (va_Pc [.int x0] (wrC D dA cx sz [])) (va_Qi (fun (r : Int32) (u : Unit) => post r ) (fun (u : Unit) t => wrQ D dA (va_A [] sz) [] t) (va_A [] sz)) (vx_X (fun (u : String × Int32 × Unit) => px u.1 u.2.1 ) (xcB D dA (va_A [] sz) (["java/util/NoSuchElementException"] : List String) (fun (u : String × Int32 × Unit) => [])) (va_A [] sz)) bc0 bs0 (va_A [] sz) := by
  refine vx_ofW (cc := cX1_found) (maxL := 1) (ret := (some .int)) (by decide) rfl ?_
  intro p e s m args below meth c s₁ B hml htab hv
  obtain ⟨rfl, hsz, hP, hK, hD0, hC⟩ := hv
  have hx := B.exec
  have hb := B.bytes
  have hr := B.returns
  have hts := atoms_spec (ws := (ws_ yX1_found cX1_found 1 (some .int))) B.pre
  have hts : ∀ w ∈ lw_all, w.before _ s = true := fun w h => hts w (List.mem_cons_of_mem _ h)
  have hown : s.vm.findClass RX1 = some m.cls := findClass_of_methodNamed B.named
  have hlocks := B.notSynchronized
  have hSx : CallFix p m c cX1_found 1 s _ lw_all RX1 := ⟨hx, hb, hml, hown, hts⟩
  subst hsz
  have hD := hD0.self (sz := s.heap.size)
  generalize hAe : va_A [] s.heap.size = A at hD hC ⊢
  have hA : ∀ q : Nat, s.heap.size ≤ q → A q := fun q h => by rw [← hAe]; exact Or.inr h
  have hS : va_S A s.heap s.heap [] := va_S.rf
  have hbud : 0 + bc0 ≤ bc0 ∧ 0 + bs0 ≤ bs0 := by omega
  have hNW := hC.1
  have hl := lv_entry ([.int x0]) (n := 1) (Nat.le_of_ble_eq_true rfl)
  rw [lg_entry_eq]
  generalize (lg_sl ([.int x0]) ++ List.replicate (1 - (lg_sl ([.int x0])).length) Slot.unset).toArray = ls at hl ⊢
  have hl : lv_has ls 1 [(0, .int x0)] := hl
  have hL10 : ∀  (bc bs kc ks : Nat) (s0 : Int32) (H : Heap) (locs : List Loc) (ls : Array Slot), kc + bc ≤ bc0 ∧ ks + bs ≤ bs0 → va_P D vwCl [] H → va_D A [] → va_S A s.heap H locs → lv_has ls 1 [(0, .int x0)] → (w_X1_found_10 post px x0) bc bs s0 → W p l e (headSpec (ws_ yX1_found cX1_found 1 (some .int)) (rm_X1_found bc0 bs0)).room s m ([.int x0] : List Value).toArray below meth c H locs kc ks (vx_MQ below (va_Qi (fun (r : Int32) (u : Unit) => post r ) (fun (u : Unit) t => wrQ D dA A [] t) A) (vx_X (fun (u : String × Int32 × Unit) => px u.1 u.2.1 ) (xcB D dA A (["java/util/NoSuchElementException"] : List String) (fun (u : String × Int32 × Unit) => [])) A) ([.int x0] : List Value).toArray s bc0 bs0 A) (F0 m 10 ls [.int s0]) := by
      intro  bc bs kc ks s0 H locs ls hbud hP hD hS hl hw
      obtain ⟨b17, b18, h19, h20, hw⟩ := hw
      refine kx_wv (wn := fun (u : Unit) => []) (wxn := fun (u : String × Int32 × Unit) => []) (wr := []) (xc_wS (As := [.int s0]) (rest := []) hSx (met_X1_checkElement l hst D dA cx _ b17 b18 s0 _ _ hw) gX1_69 hd_X1_checkElement ⟨Nat.le_of_ble_eq_true rfl, Nat.le_of_ble_eq_true rfl⟩ rfl rfl hP hK hD hS hA (hC.kept hS.2.1) [] rfl (by decide) rfl rfl hl.1 (Nat.le_of_ble_eq_true rfl) rfl dX1_found_10 ⟨(show kc + b17 ≤ bc0 by omega), (show ks + b18 ≤ bs0 by omega)⟩) hP hD hS hA [] [] rfl rfl (by decide) (by decide) (fun _ => rfl) (fun _ => rfl) (fun u q9 ce H locs hw hin hpo _ hP hD hS hce hcv hcl => ?_) (fun u H locs hw _ hP hD hS => ?_)
      · obtain ⟨E15, o16, u9⟩ := u
        have hP : va_P D vwCl [] H := hP
        have hD : va_D A [] := hD
        have hbud : (kc + b17) + (bc - b17) ≤ bc0 ∧ (ks + b18) + (bs - b18) ≤ bs0 := by omega
        refine vx_widen (k := bc0) (n := bs0) (by omega) (by omega) ?_
        exact kx_out (fun x hx => (htab x hx).elim) hlocks (E15, o16, ()) hce hcv hcl hw ((show ∀ z ∈ (["java/util/NoSuchElementException"] : List String), z ∈ (["java/util/NoSuchElementException"] : List String) from by decide) _ hin) hpo (hP.sub [] rfl) hK (hD.sub [] (by decide) rfl) hS (Nat.le_refl _) (Nat.le_refl _)
      · have h0 := trivial
        have hP : va_P D vwCl [] H := hP
        have hD : va_D A [] := hD
        have hbud : (kc + b17) + (bc - b17) ≤ bc0 ∧ (ks + b18) + (bs - b18) ≤ bs0 := by omega
        refine lv_iload_n hx hb dX1_found_13 rfl (lv_at hl 0 rfl) ?_
        refine W.widen (k := bc0) (n := bs0) (by omega) (by omega) ?_
        refine vx_ret ?_
        exact W.iret (v := x0) hx hb hr (fun t ht hW => ⟨⟨x0, (), rfl, hw, by rw [ht]; exact hP.sub [] rfl, va_K.moved hW.alike hK, hD.sub [] (by decide) rfl⟩, hS.F ht⟩) hS.2.2 dX1_found_14
  refine lv_iload_n hx hb dX1_found_0 rfl (lv_at hl 0 rfl) ?_
  refine lv_iconst (v := (-1)) hx hb dX1_found_1 (by decide) ?_
  refine lv_icmp_eq (tgt := 9) hx hb dX1_found_2 (by decide) (fun c21 => ?_) (fun c21 => ?_)
  · have hw := hw.1 c21
    refine lv_iconst (v := (nI 0)) hx hb dX1_found_9 (by decide) ?_
    exact hL10  bc0 bs0 0 0 (nI 0) _ _ _ hbud (hP.sub [] rfl) (hD.sub [] (by decide) rfl) hS (lv_sub hl [0] rfl) hw
  · have hw := hw.2 c21
    refine lv_iconst (v := (nI 1)) hx hb dX1_found_5 (by decide) ?_
    refine lv_goto (tgt := 10) hx hb dX1_found_6 (by decide) ?_
    exact hL10  bc0 bs0 0 0 (nI 1) _ _ _ hbud (hP.sub [] rfl) (hD.sub [] (by decide) rfl) hS (lv_sub hl [0] rfl) hw
