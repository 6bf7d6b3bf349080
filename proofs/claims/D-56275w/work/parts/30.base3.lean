/-! calls that may throw, throws (a SyntaxError tells its position) -/
def xcSE : String := "RoyalCourt$SyntaxError"
/-- the world where something was thrown: its class, of a SyntaxError the position, the cells -/
def xcB {T : Type} (D : va_G) (dA : Nat → ClassId) (A : Nat → Prop) (Xs : List String) (w : String × Int32 × T → va_W) : String → Addr → String × Int32 × T → State → Prop :=
  fun E q u t => E = u.1 ∧ u.1 ∈ Xs ∧ (u.1 = xcSE → ∃ fs, va_P D vwCl [(q, .inr (4, fs))] t.heap ∧ fs[6]? = some (.int u.2.1)) ∧ wrQ D dA A (w u) t
section KX3
variable {p : Program} {l : Launch} {e : Env} {R : Room} {s : State} {m : MethodId} {args : Array Value} {below : List Frame} {meth : Method} {c : Code} {H : Heap} {locs : List Loc} {cells slots : Nat} {Q : State → Prop}
variable {pc : Nat} {ls : Array Slot} {rest st0 : List Value} {cc bytes : ByteArray} {D : va_G} {dA : Nat → ClassId} {cx : CXt} {ws wc wr : va_W} {a : Array Value} {A0 : Nat → Prop} {H0 : Heap} {cl : List vw_C} {tys : List (ClassId × FieldType)} {ad : Nat} {A : Nat → Prop}
variable {own C host : String} {idx maxL n nL mc ms : Nat} {y : MethodName} {ret : Option FieldType} {rm : Room} {Qc : Array Value → State → Outcome → State → Prop} {free : Addr → Prop} {b : Nat} {As : List Value}

variable {XC : String → Addr → State → State → Prop}
theorem xc_wV (S : CallFix p m c cc nL s args lw_all own) (hM : vx_Met l y (ws_ y bytes maxL ret) rm (va_Pc (.ref b :: As) (wrC D dA cx H.size wc)) Qc XC mc ms free) (hG : GoodIn lw_all (wsV own idx C y (ws_ y bytes maxL ret))) (hd : y.cls = C ∧ y.cls ≠ "java/lang/invoke/MethodHandle" ∧ y.cls ≠ "java/lang/invoke/VarHandle" ∧ (parseMethodDescriptor y.desc).map (fun d => d.parameters.length) = some n) (hR : rm.frames + 1 ≤ R.frames ∧ 8 + (maxL + 11) + rm.locals ≤ R.locals) (hrc : rm.cells = mc) (hrs : rm.slots = ms) (hP : va_P D vwCl ws H) (hK : va_K D vwCl (tysG dA) s) (hD : va_D A0 ws) (hS : va_S A0 H0 H locs) (hA : ∀ q, H0.size ≤ q → A0 q) (hC : CX D dA cx A0 s H) (isC : List Nat) (hCs : isC.filterMap (fun i => ws[i]?) = wc) (hn2 : va_nd isC = true) (hC2 : isC.map (fun i => ws[i]?) = wc.map some) (q0 : Nat) {ci : Nat} {q : vw_C} {fs : List Value} (he : ws[q0]? = some (b, .inr (ci, fs))) (hc : vwCl[ci]? = some q) (hq : q.1 = C) (hn : As.length = n) (hsize : ls.size = nL) (hW : (rest.map fun v => v.category).sum ≤ 8) (hst : st0 = As.reverse ++ .ref b :: rest) (hdg : decode cc pc = .ok (.invokevirtual idx, 3)) (hf : cells + mc ≤ R.cells ∧ slots + ms ≤ R.slots) :
    vx_Run p l e R s m args below meth c H locs cells slots mc ms (F0 m pc ls st0) rest (Qc (Value.ref b :: As).toArray) XC free :=
  vx_runV (C := C) (As := As) (rest := rest) S hM (cwV n S.2.2.2.2 hG rfl hrc hrs hd hR) ⟨wrC_blind, by rw [← hq]; exact va_recv hK hP hc he, (fun U hU hW => ⟨rfl, by rw [hU], by rw [hU]; exact hP.sub isC hCs, va_K.moved hW.alike hK, (hD.sub isC hn2 hC2).weaken (fun _ _ _ _ => trivial), by rw [hU]; exact (hC.narrow (va_free (wc := wc) hD hS hA isC hC2)).warm hW⟩)⟩ rfl hn hsize hst (lv_room hW) hdg hf
theorem xc_wS (S : CallFix p m c cc nL s args lw_all own) (hM : vx_Met l y (ws_ y bytes maxL ret) rm (va_Pc As (wrC D dA cx H.size wc)) Qc XC mc ms free) (hG : GoodIn lw_all (va_wsS own idx y (ws_ y bytes maxL ret))) (hd : y.cls ≠ "java/lang/invoke/MethodHandle" ∧ y.cls ≠ "java/lang/invoke/VarHandle" ∧ (parseMethodDescriptor y.desc).map (fun d => d.parameters.length) = some n) (hR : rm.frames + 1 ≤ R.frames ∧ 8 + (maxL + 11) + rm.locals ≤ R.locals) (hrc : rm.cells = mc) (hrs : rm.slots = ms) (hP : va_P D vwCl ws H) (hK : va_K D vwCl (tysG dA) s) (hD : va_D A0 ws) (hS : va_S A0 H0 H locs) (hA : ∀ q, H0.size ≤ q → A0 q) (hC : CX D dA cx A0 s H) (isC : List Nat) (hCs : isC.filterMap (fun i => ws[i]?) = wc) (hn2 : va_nd isC = true) (hC2 : isC.map (fun i => ws[i]?) = wc.map some) (hn : As.length = n) (hsize : ls.size = nL) (hW : (rest.map fun v => v.category).sum ≤ 8) (hst : st0 = As.reverse ++ rest) (hdg : decode cc pc = .ok (.invokestatic idx, 3)) (hf : cells + mc ≤ R.cells ∧ slots + ms ≤ R.slots) :
    vx_Run p l e R s m args below meth c H locs cells slots mc ms (F0 m pc ls st0) rest (Qc As.toArray) XC free :=
  vx_runS (As := As) (rest := rest) S hM (va_cwS n S.2.2.2.2 hG rfl hrc hrs hd hR) ⟨wrC_blind, (fun U hU hW => ⟨rfl, by rw [hU], by rw [hU]; exact hP.sub isC hCs, va_K.moved hW.alike hK, (hD.sub isC hn2 hC2).weaken (fun _ _ _ _ => trivial), by rw [hU]; exact (hC.narrow (va_free (wc := wc) hD hS hA isC hC2)).warm hW⟩)⟩ rfl hn hsize hst (lv_room hW) hdg hf
theorem xc_wVN (S : CallFix p m c cc nL s args lw_all own) (hM : vx_Met l y (ws_ y bytes maxL ret) rm (va_Pc (.ref b :: As) (wrC D dA cx H.size wc)) Qc XC mc ms free) (hNW : NWx s) (hl : Cond.methodLinkNest own idx y host ∈ lw_tbl) (hcode : Cond.code y bytes maxL ret ∈ lw_all) (hini : Cond.initialized y.cls ∈ lw_all) (hi1 : Cond.instanceMethod y ∈ lw_all) (hi2 : Cond.selects C y y ∈ lw_all) (hd : y.cls ≠ "java/lang/invoke/MethodHandle" ∧ y.cls ≠ "java/lang/invoke/VarHandle" ∧ (parseMethodDescriptor y.desc).map (fun d => d.parameters.length) = some n) (hR : rm.frames + 1 ≤ R.frames ∧ 8 + (maxL + 11) + rm.locals ≤ R.locals) (hrc : rm.cells = mc) (hrs : rm.slots = ms) (hP : va_P D vwCl ws H) (hK : va_K D vwCl (tysG dA) s) (hD : va_D A0 ws) (hS : va_S A0 H0 H locs) (hA : ∀ q, H0.size ≤ q → A0 q) (hC : CX D dA cx A0 s H) (isC : List Nat) (hCs : isC.filterMap (fun i => ws[i]?) = wc) (hn2 : va_nd isC = true) (hC2 : isC.map (fun i => ws[i]?) = wc.map some) (q0 : Nat) {ci : Nat} {q : vw_C} {fs : List Value} (he : ws[q0]? = some (b, .inr (ci, fs))) (hc : vwCl[ci]? = some q) (hq : q.1 = C) (hn : As.length = n) (hsize : ls.size = nL) (hW : (rest.map fun v => v.category).sum ≤ 8) (hst : st0 = As.reverse ++ .ref b :: rest) (hdg : decode cc pc = .ok (.invokevirtual idx, 3)) (hf : cells + mc ≤ R.cells ∧ slots + ms ≤ R.slots) :
    vx_Run p l e R s m args below meth c H locs cells slots mc ms (F0 m pc ls st0) rest (Qc (Value.ref b :: As).toArray) XC free :=
  vx_runVN (C := C) (host := host) (As := As) (rest := rest) S hM ⟨(va_cnB n S.2.2.2.2 (lw_meth hcode) rfl hrc hrs (hNW _ hl rfl) (S.2.2.2.2 _ hini) hd hR), S.2.2.2.2 _ hi1, S.2.2.2.2 _ hi2⟩ ⟨wrC_blind, by rw [← hq]; exact va_recv hK hP hc he, (fun U hU hW => ⟨rfl, by rw [hU], by rw [hU]; exact hP.sub isC hCs, va_K.moved hW.alike hK, (hD.sub isC hn2 hC2).weaken (fun _ _ _ _ => trivial), by rw [hU]; exact (hC.narrow (va_free (wc := wc) hD hS hA isC hC2)).warm hW⟩)⟩ rfl hn hsize hst (lv_room hW) hdg hf
theorem xc_wSN (S : CallFix p m c cc nL s args lw_all own) (hM : vx_Met l y (ws_ y bytes maxL ret) rm (va_Pc As (wrC D dA cx H.size wc)) Qc XC mc ms free) (hNW : NWx s) (hl : Cond.methodLinkNest own idx y host ∈ lw_tbl) (hcode : Cond.code y bytes maxL ret ∈ lw_all) (hini : Cond.initialized y.cls ∈ lw_all) (hi1 : Cond.static y ∈ lw_all) (hd : y.cls ≠ "java/lang/invoke/MethodHandle" ∧ y.cls ≠ "java/lang/invoke/VarHandle" ∧ (parseMethodDescriptor y.desc).map (fun d => d.parameters.length) = some n) (hR : rm.frames + 1 ≤ R.frames ∧ 8 + (maxL + 11) + rm.locals ≤ R.locals) (hrc : rm.cells = mc) (hrs : rm.slots = ms) (hP : va_P D vwCl ws H) (hK : va_K D vwCl (tysG dA) s) (hD : va_D A0 ws) (hS : va_S A0 H0 H locs) (hA : ∀ q, H0.size ≤ q → A0 q) (hC : CX D dA cx A0 s H) (isC : List Nat) (hCs : isC.filterMap (fun i => ws[i]?) = wc) (hn2 : va_nd isC = true) (hC2 : isC.map (fun i => ws[i]?) = wc.map some) (hn : As.length = n) (hsize : ls.size = nL) (hW : (rest.map fun v => v.category).sum ≤ 8) (hst : st0 = As.reverse ++ rest) (hdg : decode cc pc = .ok (.invokestatic idx, 3)) (hf : cells + mc ≤ R.cells ∧ slots + ms ≤ R.slots) :
    vx_Run p l e R s m args below meth c H locs cells slots mc ms (F0 m pc ls st0) rest (Qc As.toArray) XC free :=
  vx_runSN (host := host) (As := As) (rest := rest) S hM ⟨(va_cnB n S.2.2.2.2 (lw_meth hcode) rfl hrc hrs (hNW _ hl rfl) (S.2.2.2.2 _ hini) hd hR), S.2.2.2.2 _ hi1, trivial⟩ ⟨wrC_blind, (fun U hU hW => ⟨rfl, by rw [hU], by rw [hU]; exact hP.sub isC hCs, va_K.moved hW.alike hK, (hD.sub isC hn2 hC2).weaken (fun _ _ _ _ => trivial), by rw [hU]; exact (hC.narrow (va_free (wc := wc) hD hS hA isC hC2)).warm hW⟩)⟩ rfl hn hsize hst (lv_room hW) hdg hf
theorem kx_wi {S T : Type} {post : Int32 → S → Prop} {px : String × Int32 × T → Prop} {Xs : List String} {w1 wn : S → va_W} {wx wxn : String × Int32 × T → va_W} (hr : vx_Run p l e R s m args below meth c H locs cells slots mc ms (F0 m pc ls st0) rest (va_Qi post (fun u t => wrQ D dA (va_A wc H.size) (w1 u) t) (va_A wc H.size) a) (vx_X px (xcB D dA (va_A wc H.size) Xs wx) (va_A wc H.size)) (va_A wc H.size)) (hP : va_P D vwCl ws H) (hD : va_D A0 ws) (hS : va_S A0 H0 H locs) (hA : ∀ q, H0.size ≤ q → A0 q)
    (isC isR : List Nat) (hC : isC.map (fun i => ws[i]?) = wc.map some) (hR : isR.map (fun i => ws[i]?) = wr.map some) (hn : va_nd isR = true) (hdis : ∀ i ∈ isR, i ∉ isC) (hwn : ∀ u, wr ++ w1 u = wn u) (hwx : ∀ u, wr ++ wx u = wxn u)
    (kx : ∀ (u : String × Int32 × T) (q9 : Addr) (ce : Cell) (H1 : Heap) (locs1 : List Loc), px u → u.1 ∈ Xs → (u.1 = xcSE → ∃ fs, va_P D vwCl [(q9, .inr (4, fs))] H1 ∧ fs[6]? = some (.int u.2.1)) → H.size ≤ H1.size → va_P D vwCl (wxn u) H1 → va_D A0 (wxn u) → va_S A0 H0 H1 locs1 → H1[q9]? = some ce → ce.vm = .none → s.vm.findClass u.1 = some ce.cls → vx_W p l e R s m args below meth c H1 locs1 (cells + mc) (slots + ms) Q (F0 m pc ls rest) q9)
    (kk : ∀ (r : Int32) (u : S) (H1 : Heap) (locs1 : List Loc), post r u → H.size ≤ H1.size → va_P D vwCl (wn u) H1 → va_D A0 (wn u) → va_S A0 H0 H1 locs1 → W p l e R s m args below meth c H1 locs1 (cells + mc) (slots + ms) Q (F0 m (pc + 3) ls (.int r :: rest))) : W p l e R s m args below meth c H locs cells slots Q (F0 m pc ls st0) := by
  have hF := va_free (wc := wc) hD hS hA isC hC
  refine vx_calli hr hS (fun q _ h => hF q h) hF (fun q _ h => hF q h) (fun E ce q9 u t H1 locs1 ht hvm hpx hB hz hk hS1 hce hcv hcl => ?_) (fun r u t H1 locs1 ht hvm hw hB hz hk hS1 => ?_)
  · obtain ⟨rfl, hin, hpo, hP1, -, hD1⟩ := hB
    rw [ht] at hP1 hpo
    obtain ⟨hP2, hD2⟩ := va_join (wr := wr) (w1 := wx u) hP hD isC isR hC hR hn hdis hk hF hP1 hD1
    rw [hwx] at hP2 hD2
    exact kx u q9 ce H1 locs1 hpx hin hpo hz hP2 hD2 hS1 hce hcv hcl
  · obtain ⟨hP1, -, hD1⟩ := hB
    rw [ht] at hP1
    obtain ⟨hP2, hD2⟩ := va_join (wr := wr) (w1 := w1 u) hP hD isC isR hC hR hn hdis hk hF hP1 hD1
    rw [hwn] at hP2 hD2
    exact kk r u H1 locs1 hw hz hP2 hD2 hS1
theorem kx_wl {S T : Type} {post : Int64 → S → Prop} {px : String × Int32 × T → Prop} {Xs : List String} {w1 wn : S → va_W} {wx wxn : String × Int32 × T → va_W} (hr : vx_Run p l e R s m args below meth c H locs cells slots mc ms (F0 m pc ls st0) rest (va_Ql post (fun u t => wrQ D dA (va_A wc H.size) (w1 u) t) (va_A wc H.size) a) (vx_X px (xcB D dA (va_A wc H.size) Xs wx) (va_A wc H.size)) (va_A wc H.size)) (hP : va_P D vwCl ws H) (hD : va_D A0 ws) (hS : va_S A0 H0 H locs) (hA : ∀ q, H0.size ≤ q → A0 q)
    (isC isR : List Nat) (hC : isC.map (fun i => ws[i]?) = wc.map some) (hR : isR.map (fun i => ws[i]?) = wr.map some) (hn : va_nd isR = true) (hdis : ∀ i ∈ isR, i ∉ isC) (hwn : ∀ u, wr ++ w1 u = wn u) (hwx : ∀ u, wr ++ wx u = wxn u)
    (kx : ∀ (u : String × Int32 × T) (q9 : Addr) (ce : Cell) (H1 : Heap) (locs1 : List Loc), px u → u.1 ∈ Xs → (u.1 = xcSE → ∃ fs, va_P D vwCl [(q9, .inr (4, fs))] H1 ∧ fs[6]? = some (.int u.2.1)) → H.size ≤ H1.size → va_P D vwCl (wxn u) H1 → va_D A0 (wxn u) → va_S A0 H0 H1 locs1 → H1[q9]? = some ce → ce.vm = .none → s.vm.findClass u.1 = some ce.cls → vx_W p l e R s m args below meth c H1 locs1 (cells + mc) (slots + ms) Q (F0 m pc ls rest) q9)
    (kk : ∀ (r : Int64) (u : S) (H1 : Heap) (locs1 : List Loc), post r u → H.size ≤ H1.size → va_P D vwCl (wn u) H1 → va_D A0 (wn u) → va_S A0 H0 H1 locs1 → W p l e R s m args below meth c H1 locs1 (cells + mc) (slots + ms) Q (F0 m (pc + 3) ls (.long r :: rest))) : W p l e R s m args below meth c H locs cells slots Q (F0 m pc ls st0) := by
  have hF := va_free (wc := wc) hD hS hA isC hC
  refine vx_calll hr hS (fun q _ h => hF q h) hF (fun q _ h => hF q h) (fun E ce q9 u t H1 locs1 ht hvm hpx hB hz hk hS1 hce hcv hcl => ?_) (fun r u t H1 locs1 ht hvm hw hB hz hk hS1 => ?_)
  · obtain ⟨rfl, hin, hpo, hP1, -, hD1⟩ := hB
    rw [ht] at hP1 hpo
    obtain ⟨hP2, hD2⟩ := va_join (wr := wr) (w1 := wx u) hP hD isC isR hC hR hn hdis hk hF hP1 hD1
    rw [hwx] at hP2 hD2
    exact kx u q9 ce H1 locs1 hpx hin hpo hz hP2 hD2 hS1 hce hcv hcl
  · obtain ⟨hP1, -, hD1⟩ := hB
    rw [ht] at hP1
    obtain ⟨hP2, hD2⟩ := va_join (wr := wr) (w1 := w1 u) hP hD isC isR hC hR hn hdis hk hF hP1 hD1
    rw [hwn] at hP2 hD2
    exact kk r u H1 locs1 hw hz hP2 hD2 hS1
theorem kx_wf {S T : Type} {post : UInt32 → S → Prop} {px : String × Int32 × T → Prop} {Xs : List String} {w1 wn : S → va_W} {wx wxn : String × Int32 × T → va_W} (hr : vx_Run p l e R s m args below meth c H locs cells slots mc ms (F0 m pc ls st0) rest (va_Qf post (fun u t => wrQ D dA (va_A wc H.size) (w1 u) t) (va_A wc H.size) a) (vx_X px (xcB D dA (va_A wc H.size) Xs wx) (va_A wc H.size)) (va_A wc H.size)) (hP : va_P D vwCl ws H) (hD : va_D A0 ws) (hS : va_S A0 H0 H locs) (hA : ∀ q, H0.size ≤ q → A0 q)
    (isC isR : List Nat) (hC : isC.map (fun i => ws[i]?) = wc.map some) (hR : isR.map (fun i => ws[i]?) = wr.map some) (hn : va_nd isR = true) (hdis : ∀ i ∈ isR, i ∉ isC) (hwn : ∀ u, wr ++ w1 u = wn u) (hwx : ∀ u, wr ++ wx u = wxn u)
    (kx : ∀ (u : String × Int32 × T) (q9 : Addr) (ce : Cell) (H1 : Heap) (locs1 : List Loc), px u → u.1 ∈ Xs → (u.1 = xcSE → ∃ fs, va_P D vwCl [(q9, .inr (4, fs))] H1 ∧ fs[6]? = some (.int u.2.1)) → H.size ≤ H1.size → va_P D vwCl (wxn u) H1 → va_D A0 (wxn u) → va_S A0 H0 H1 locs1 → H1[q9]? = some ce → ce.vm = .none → s.vm.findClass u.1 = some ce.cls → vx_W p l e R s m args below meth c H1 locs1 (cells + mc) (slots + ms) Q (F0 m pc ls rest) q9)
    (kk : ∀ (r : UInt32) (u : S) (H1 : Heap) (locs1 : List Loc), post r u → H.size ≤ H1.size → va_P D vwCl (wn u) H1 → va_D A0 (wn u) → va_S A0 H0 H1 locs1 → W p l e R s m args below meth c H1 locs1 (cells + mc) (slots + ms) Q (F0 m (pc + 3) ls (.float r :: rest))) : W p l e R s m args below meth c H locs cells slots Q (F0 m pc ls st0) := by
  have hF := va_free (wc := wc) hD hS hA isC hC
  refine vx_callf hr hS (fun q _ h => hF q h) hF (fun q _ h => hF q h) (fun E ce q9 u t H1 locs1 ht hvm hpx hB hz hk hS1 hce hcv hcl => ?_) (fun r u t H1 locs1 ht hvm hw hB hz hk hS1 => ?_)
  · obtain ⟨rfl, hin, hpo, hP1, -, hD1⟩ := hB
    rw [ht] at hP1 hpo
    obtain ⟨hP2, hD2⟩ := va_join (wr := wr) (w1 := wx u) hP hD isC isR hC hR hn hdis hk hF hP1 hD1
    rw [hwx] at hP2 hD2
    exact kx u q9 ce H1 locs1 hpx hin hpo hz hP2 hD2 hS1 hce hcv hcl
  · obtain ⟨hP1, -, hD1⟩ := hB
    rw [ht] at hP1
    obtain ⟨hP2, hD2⟩ := va_join (wr := wr) (w1 := w1 u) hP hD isC isR hC hR hn hdis hk hF hP1 hD1
    rw [hwn] at hP2 hD2
    exact kk r u H1 locs1 hw hz hP2 hD2 hS1
theorem kx_wd {S T : Type} {post : UInt64 → S → Prop} {px : String × Int32 × T → Prop} {Xs : List String} {w1 wn : S → va_W} {wx wxn : String × Int32 × T → va_W} (hr : vx_Run p l e R s m args below meth c H locs cells slots mc ms (F0 m pc ls st0) rest (va_Qd post (fun u t => wrQ D dA (va_A wc H.size) (w1 u) t) (va_A wc H.size) a) (vx_X px (xcB D dA (va_A wc H.size) Xs wx) (va_A wc H.size)) (va_A wc H.size)) (hP : va_P D vwCl ws H) (hD : va_D A0 ws) (hS : va_S A0 H0 H locs) (hA : ∀ q, H0.size ≤ q → A0 q)
    (isC isR : List Nat) (hC : isC.map (fun i => ws[i]?) = wc.map some) (hR : isR.map (fun i => ws[i]?) = wr.map some) (hn : va_nd isR = true) (hdis : ∀ i ∈ isR, i ∉ isC) (hwn : ∀ u, wr ++ w1 u = wn u) (hwx : ∀ u, wr ++ wx u = wxn u)
    (kx : ∀ (u : String × Int32 × T) (q9 : Addr) (ce : Cell) (H1 : Heap) (locs1 : List Loc), px u → u.1 ∈ Xs → (u.1 = xcSE → ∃ fs, va_P D vwCl [(q9, .inr (4, fs))] H1 ∧ fs[6]? = some (.int u.2.1)) → H.size ≤ H1.size → va_P D vwCl (wxn u) H1 → va_D A0 (wxn u) → va_S A0 H0 H1 locs1 → H1[q9]? = some ce → ce.vm = .none → s.vm.findClass u.1 = some ce.cls → vx_W p l e R s m args below meth c H1 locs1 (cells + mc) (slots + ms) Q (F0 m pc ls rest) q9)
    (kk : ∀ (r : UInt64) (u : S) (H1 : Heap) (locs1 : List Loc), post r u → H.size ≤ H1.size → va_P D vwCl (wn u) H1 → va_D A0 (wn u) → va_S A0 H0 H1 locs1 → W p l e R s m args below meth c H1 locs1 (cells + mc) (slots + ms) Q (F0 m (pc + 3) ls (.double r :: rest))) : W p l e R s m args below meth c H locs cells slots Q (F0 m pc ls st0) := by
  have hF := va_free (wc := wc) hD hS hA isC hC
  refine vx_calld hr hS (fun q _ h => hF q h) hF (fun q _ h => hF q h) (fun E ce q9 u t H1 locs1 ht hvm hpx hB hz hk hS1 hce hcv hcl => ?_) (fun r u t H1 locs1 ht hvm hw hB hz hk hS1 => ?_)
  · obtain ⟨rfl, hin, hpo, hP1, -, hD1⟩ := hB
    rw [ht] at hP1 hpo
    obtain ⟨hP2, hD2⟩ := va_join (wr := wr) (w1 := wx u) hP hD isC isR hC hR hn hdis hk hF hP1 hD1
    rw [hwx] at hP2 hD2
    exact kx u q9 ce H1 locs1 hpx hin hpo hz hP2 hD2 hS1 hce hcv hcl
  · obtain ⟨hP1, -, hD1⟩ := hB
    rw [ht] at hP1
    obtain ⟨hP2, hD2⟩ := va_join (wr := wr) (w1 := w1 u) hP hD isC isR hC hR hn hdis hk hF hP1 hD1
    rw [hwn] at hP2 hD2
    exact kk r u H1 locs1 hw hz hP2 hD2 hS1
theorem kx_wv {S T : Type} {post : S → Prop} {px : String × Int32 × T → Prop} {Xs : List String} {w1 wn : S → va_W} {wx wxn : String × Int32 × T → va_W} (hr : vx_Run p l e R s m args below meth c H locs cells slots mc ms (F0 m pc ls st0) rest (va_Qv post (fun u t => wrQ D dA (va_A wc H.size) (w1 u) t) (va_A wc H.size) a) (vx_X px (xcB D dA (va_A wc H.size) Xs wx) (va_A wc H.size)) (va_A wc H.size)) (hP : va_P D vwCl ws H) (hD : va_D A0 ws) (hS : va_S A0 H0 H locs) (hA : ∀ q, H0.size ≤ q → A0 q)
    (isC isR : List Nat) (hC : isC.map (fun i => ws[i]?) = wc.map some) (hR : isR.map (fun i => ws[i]?) = wr.map some) (hn : va_nd isR = true) (hdis : ∀ i ∈ isR, i ∉ isC) (hwn : ∀ u, wr ++ w1 u = wn u) (hwx : ∀ u, wr ++ wx u = wxn u)
    (kx : ∀ (u : String × Int32 × T) (q9 : Addr) (ce : Cell) (H1 : Heap) (locs1 : List Loc), px u → u.1 ∈ Xs → (u.1 = xcSE → ∃ fs, va_P D vwCl [(q9, .inr (4, fs))] H1 ∧ fs[6]? = some (.int u.2.1)) → H.size ≤ H1.size → va_P D vwCl (wxn u) H1 → va_D A0 (wxn u) → va_S A0 H0 H1 locs1 → H1[q9]? = some ce → ce.vm = .none → s.vm.findClass u.1 = some ce.cls → vx_W p l e R s m args below meth c H1 locs1 (cells + mc) (slots + ms) Q (F0 m pc ls rest) q9)
    (kk : ∀ (u : S) (H1 : Heap) (locs1 : List Loc), post u → H.size ≤ H1.size → va_P D vwCl (wn u) H1 → va_D A0 (wn u) → va_S A0 H0 H1 locs1 → W p l e R s m args below meth c H1 locs1 (cells + mc) (slots + ms) Q (F0 m (pc + 3) ls (rest))) : W p l e R s m args below meth c H locs cells slots Q (F0 m pc ls st0) := by
  have hF := va_free (wc := wc) hD hS hA isC hC
  refine vx_callv hr hS (fun q _ h => hF q h) hF (fun q _ h => hF q h) (fun E ce q9 u t H1 locs1 ht hvm hpx hB hz hk hS1 hce hcv hcl => ?_) (fun u t H1 locs1 ht hvm hw hB hz hk hS1 => ?_)
  · obtain ⟨rfl, hin, hpo, hP1, -, hD1⟩ := hB
    rw [ht] at hP1 hpo
    obtain ⟨hP2, hD2⟩ := va_join (wr := wr) (w1 := wx u) hP hD isC isR hC hR hn hdis hk hF hP1 hD1
    rw [hwx] at hP2 hD2
    exact kx u q9 ce H1 locs1 hpx hin hpo hz hP2 hD2 hS1 hce hcv hcl
  · obtain ⟨hP1, -, hD1⟩ := hB
    rw [ht] at hP1
    obtain ⟨hP2, hD2⟩ := va_join (wr := wr) (w1 := w1 u) hP hD isC isR hC hR hn hdis hk hF hP1 hD1
    rw [hwn] at hP2 hD2
    exact kk u H1 locs1 hw hz hP2 hD2 hS1
theorem kx_wr {S T : Type} {post : S → Prop} {px : String × Int32 × T → Prop} {Xs : List String} {w1 wn : S → va_W} {ra : S → Nat} {wx wxn : String × Int32 × T → va_W} (hr : vx_Run p l e R s m args below meth c H locs cells slots mc ms (F0 m pc ls st0) rest (va_Qr post (fun u a9 t => a9 = ra u ∧ wrQ D dA (va_A wc H.size) (w1 u) t) (va_A wc H.size) a) (vx_X px (xcB D dA (va_A wc H.size) Xs wx) (va_A wc H.size)) (va_A wc H.size)) (hP : va_P D vwCl ws H) (hD : va_D A0 ws) (hS : va_S A0 H0 H locs) (hA : ∀ q, H0.size ≤ q → A0 q)
    (isC isR : List Nat) (hC : isC.map (fun i => ws[i]?) = wc.map some) (hR : isR.map (fun i => ws[i]?) = wr.map some) (hn : va_nd isR = true) (hdis : ∀ i ∈ isR, i ∉ isC) (hwn : ∀ u, wr ++ w1 u = wn u) (hwx : ∀ u, wr ++ wx u = wxn u)
    (kx : ∀ (u : String × Int32 × T) (q9 : Addr) (ce : Cell) (H1 : Heap) (locs1 : List Loc), px u → u.1 ∈ Xs → (u.1 = xcSE → ∃ fs, va_P D vwCl [(q9, .inr (4, fs))] H1 ∧ fs[6]? = some (.int u.2.1)) → H.size ≤ H1.size → va_P D vwCl (wxn u) H1 → va_D A0 (wxn u) → va_S A0 H0 H1 locs1 → H1[q9]? = some ce → ce.vm = .none → s.vm.findClass u.1 = some ce.cls → vx_W p l e R s m args below meth c H1 locs1 (cells + mc) (slots + ms) Q (F0 m pc ls rest) q9)
    (kk : ∀ (u : S) (H1 : Heap) (locs1 : List Loc), post u → H.size ≤ H1.size → va_P D vwCl (wn u) H1 → va_D A0 (wn u) → va_S A0 H0 H1 locs1 → W p l e R s m args below meth c H1 locs1 (cells + mc) (slots + ms) Q (F0 m (pc + 3) ls (.ref (ra u) :: rest))) : W p l e R s m args below meth c H locs cells slots Q (F0 m pc ls st0) := by
  have hF := va_free (wc := wc) hD hS hA isC hC
  intro T0 hT X
  rcases hr T0 hT X with ⟨v, st₀, t, T', L, h0, X', hL, e1, e2, ⟨⟨u, ra9, hv, hp, hb⟩, hFr⟩, st⟩ | ⟨q, st₀, t, T', L, E, ce, h0, X', hL, e1, e2, ⟨u, hp, hb, hFr⟩, hce, hcv, hcl, st⟩
  · cases hv
    obtain ⟨k1, k2, k3⟩ := vx_keep h0 e1 hS (fun q _ h => hF q h) hF hL hFr
    obtain ⟨rfl, hP1, -, hD1⟩ := hb
    rw [← e1] at hP1
    obtain ⟨hP2, hD2⟩ := va_join (wr := wr) (w1 := w1 u) hP hD isC isR hC hR hn hdis k2 hF hP1 hD1
    rw [hwn] at hP2 hD2
    obtain ⟨t2, a1, b1⟩ := kk u T'.heap (locs ++ L) hp k1 hP2 hD2 k3 T' rfl X'
    exact ⟨t2, st t2 a1, b1⟩
  · obtain ⟨k1, k2, k3⟩ := vx_keep h0 e1 hS (fun q _ h => hF q h) hF hL hFr
    obtain ⟨rfl, hin, hpo, hP1, -, hD1⟩ := hb
    rw [← e1] at hP1 hpo
    obtain ⟨hP2, hD2⟩ := va_join (wr := wr) (w1 := wx u) hP hD isC isR hC hR hn hdis k2 hF hP1 hD1
    rw [hwx] at hP2 hD2
    obtain ⟨t2, a1, b1⟩ := kx u q ce T'.heap (locs ++ L) hp hin hpo k1 hP2 hD2 k3 (by rw [e1]; exact hce) hcv hcl T' rfl X'
    exact ⟨t2, st.trans a1, b1⟩
/-- not caught here: on to the caller -/
theorem kx_out {T : Type} {px : String × Int32 × T → Prop} {Xs : List String} {wx : String × Int32 × T → va_W} (hout : ∀ x ∈ c.exceptionTable.toList, covers x pc = false) (hlocks : meth.locks = false) (u : String × Int32 × T) {q : Addr} {ce : Cell} (hcell : H[q]? = some ce) (hv : ce.vm = .none) (hcl : s.vm.findClass u.1 = some ce.cls) (hpx : px u) (hin : u.1 ∈ Xs)
    (hpo : u.1 = xcSE → ∃ fs, va_P D vwCl [(q, .inr (4, fs))] H ∧ fs[6]? = some (.int u.2.1)) (hP : va_P D vwCl (wx u) H) (hK : va_K D vwCl (tysG dA) s) (hD : va_D A (wx u)) (hS : va_S A s.heap H locs) (hc : cells ≤ mc) (hs : slots ≤ ms) :
    vx_W p l e R s m args below meth c H locs cells slots (vx_MQ below Qc (vx_X px (xcB D dA A Xs wx) A) args s mc ms A) (F0 m pc ls rest) q :=
  vx_out hout hlocks hcell hv hcl (fun t ht hW => ⟨u, hpx, ⟨rfl, hin, fun h => by rw [ht]; exact hpo h, by rw [ht]; exact hP, va_K.moved hW hK, hD⟩, hS.F ht⟩) hS.2.2 hc hs
/-- throw new E() -/
theorem kx_throw0 {T : Type} {px : String × Int32 × T → Prop} {Xs : List String} {wx : String × Int32 × T → va_W} {cx : CXt} (S : CallFix p m c cc nL s args lw_all own) (hl : l.stackTraces = false) {cls : String} {names : List String} {ik ic : Nat} (hcls : Bundle.fit cls = true) (hnames : ∀ n ∈ names, Bundle.fit n = true)
    (hk : Cond.classLink own ik cls ∈ lw_all) (hini : Cond.initialized cls ∈ lw_all) (hat : ∀ w ∈ vx_at0 own ic cls names, w.before args s = true) (hgood : ∀ w ∈ Cond.classLink own ik cls :: Cond.initialized cls :: vx_at0 own ic cls names, vx_ot w = true)
    (hC : CX D dA cx A s s.heap) (hS : va_S A s.heap H locs) (hsz : ls.size = nL) (d0 : decode cc pc = .ok (.new ik, 3)) (d3 : decode cc (pc + 3) = .ok (.dup, 1)) (d4 : decode cc (pc + 4) = .ok (.invokespecial ic, 3)) (d7 : decode cc (pc + 7) = .ok (.athrow, 1))
    (hout : ∀ x ∈ c.exceptionTable.toList, covers x (pc + 7) = false) (hRf : names.length + 3 < R.frames) (hRl : (rest.map fun v => v.category).sum + (13 * (names.length + 1) + 42) ≤ R.locals) (hRc : cells + 1 ≤ R.cells) (hRs : slots + 6 ≤ R.slots) (hlocks : meth.locks = false)
    (u : String × Int32 × T) (hu : u.1 = cls) (hne : cls ≠ xcSE) (hpx : px u) (hin : u.1 ∈ Xs) (hP : va_P D vwCl (wx u) H) (hK : va_K D vwCl (tysG dA) s) (hD : va_D A (wx u)) (hc : cells + 1 ≤ mc) (hs : slots + 6 ≤ ms) :
    W p l e R s m args below meth c H locs cells slots (vx_MQ below Qc (vx_X px (xcB D dA A Xs wx) A) args s mc ms A) (F0 m pc ls rest) := by
  refine vx_throw0 S.1 S.2.1 hl S.2.2.2.1 hcls hnames (S.2.2.2.2 _ hk) (S.2.2.2.2 _ hini) hat hgood hC.un hC.su hS (hsz.trans S.2.2.1.symm) d0 d3 d4 d7 hout hRf hRl hRc hRs hlocks (fun t hW h1 h2 => ?_) hS.2.2 hc hs
  refine ⟨u, hpx, ⟨hu.symm, hin, fun h => absurd (hu.symm.trans h) hne, fun k q hk9 => (hP k q hk9).kept (h2 q.1 (hP k q hk9).lt), va_K.moved hW hK, hD⟩, Nat.le_trans hS.1 h1, fun q g1 g2 => ?_⟩
  rw [h2 q (Nat.lt_of_lt_of_le g1 hS.1)]
  exact hS.2.1 q g1 g2
end KX3
