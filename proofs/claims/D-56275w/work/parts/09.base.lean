/-! the base of every module here: the table of classes, loops as fixed points of a step, rows and calls in one piece -/
def vwCl : List vw_C := [(RX1, TX1, 9), (RX2, TX2, 11), (RX3, TX3, 20), (RX4, TX4, 6), (RX5, TX5, 7), (RX6, TX6, 2), (RX7, TX7, 3), (RX8, TX8, 4), (RX9, TX9, 3), (RJ2, TJ2, 3), (RJ3, TJ3, 3), (RJ5, TJ5, 4), (RJ14, TJ14, 4), (RJ6, TJ6, 4), (RJ11, TJ11, 6), (RJ15, TJ15, 6), (RJ17, TJ17, 6), (RJ18, TJ18, 6), (RJ25, TJ25, 6), (RJ26, TJ26, 6)]
/-- the array classes: 0 int, 1 char, 2 long, 3 byte, 4 Object, 5 int[], 6 double -/
def tysG (dA : Nat → ClassId) : List (ClassId × FieldType) := [(dA 0, .int), (dA 1, .char), (dA 2, .long), (dA 3, .byte), (dA 4, .object "java/lang/Object"), (dA 5, .array .int), (dA 6, .double)]
/-- a loop: its step, taken n times at most -/
def lpF {α : Type} (bot : α) (F : α → α) : Nat → α
  | 0 => bot
  | n + 1 => F (lpF bot F n)
theorem lpF_0 {α : Type} (bot : α) (F : α → α) : lpF bot F 0 = bot := rfl
theorem lpF_s {α : Type} (bot : α) (F : α → α) (n : Nat) : lpF bot F (n + 1) = F (lpF bot F n) := rfl
def isB (r : Int32) : Prop := r = nI 0 ∨ r = nI 1
def isC (r : Int32) : Prop := narrow .char (.int r) = .int r
theorem isB_n {r : Int32} (h : isB r) : narrow .boolean (.int r) = .int r := by
  rcases h with rfl | rfl <;> rfl
theorem isB_f {r : Int32} (h : isB r) : fits .boolean (.int r) = true := by
  rcases h with rfl | rfl <;> rfl
theorem clK (n : Nat) (h : n < 2 ^ 31) : (nI n).toNatClampNeg = n := nI_clamp h
theorem inK {n N : Nat} (h : n < N) (hN : N < 2 ^ 31) : vp_in (nI n) N := vp_in_nI h hN
/-- what a method that reads asks of its world -/
def rdB (D : va_G) (dA : Nat → ClassId) (ws : va_W) (U : State) : Prop := va_P D vwCl ws U.heap ∧ va_K D vwCl (tysG dA) U
/-- what a method that writes asks -/
def wrB (D : va_G) (dA : Nat → ClassId) (sz : Nat) (ws : va_W) (U : State) : Prop := U.heap.size = sz ∧ va_P D vwCl ws U.heap ∧ va_K D vwCl (tysG dA) U ∧ va_D (fun _ => True) ws
/-- the world behind it -/
def wrQ (D : va_G) (dA : Nat → ClassId) (A : Nat → Prop) (ws : va_W) (t : State) : Prop := va_P D vwCl ws t.heap ∧ va_K D vwCl (tysG dA) t ∧ va_D A ws
theorem rdB_blind {D : va_G} {dA : Nat → ClassId} {ws : va_W} {av : List Value} : FrameBlind (va_Pc av (rdB D dA ws)) := fun a U g mk q => by
  obtain ⟨q0, qP, qK⟩ := q
  exact ⟨q0, qP, va_K.moved (u := U) (U := U.calling g mk a) (Vm.Alike.refl U.vm) qK⟩
theorem wrB_blind {D : va_G} {dA : Nat → ClassId} {sz : Nat} {ws : va_W} {av : List Value} : FrameBlind (va_Pc av (wrB D dA sz ws)) := fun a U g mk q => by
  obtain ⟨q0, q1, qP, qK, qD⟩ := q
  exact ⟨q0, q1, qP, va_K.moved (u := U) (U := U.calling g mk a) (Vm.Alike.refl U.vm) qK, qD⟩
theorem noB_blind {av : List Value} : FrameBlind (va_Pc av (fun _ => True)) := fun a U g mk q => ⟨q.1, trivial⟩
section KB
variable {p : Program} {l : Launch} {e : Env} {R : Room} {s : State} {m : MethodId} {args : Array Value} {below : List Frame} {meth : Method} {c : Code} {H : Heap} {locs : List Loc} {cells slots : Nat} {Q : State → Prop}
variable {pc : Nat} {ls : Array Slot} {rest : List Value} {cc : ByteArray} {D : va_G} {cl : List vw_C} {tys : List (ClassId × FieldType)} {ws : va_W} {a : Nat} {A : Nat → Prop} {H0 : Heap}
theorem k_iald (hexec : p.tables.exec = Jvm.exec) (hb : c.code = cc) (hK : va_K D cl tys s) (hP : va_P D cl ws H) (q0 t0 : Nat) {cA : ClassId} {n : Nat} {f : Nat → Int32} (ha : ws[q0]? = some (a, .inl (cA, n, .inl f))) (ht : tys[t0]? = some (cA, .int)) {i : Int32} {k : Nat} (hi : i.toNatClampNeg = k) (hin : vp_in i n) (hdg : decode cc pc = .ok (.iaload, 1))
    (kk : W p l e R s m args below meth c H locs cells slots Q (F0 m (pc + 1) ls (.int (f k) :: rest))) : W p l e R s m args below meth c H locs cells slots Q (F0 m pc ls (.int i :: .ref a :: rest)) := by
  subst hi; exact va_iald hexec hb hK hP q0 t0 ha ht hin hdg kk
theorem k_cald (hexec : p.tables.exec = Jvm.exec) (hb : c.code = cc) (hK : va_K D cl tys s) (hP : va_P D cl ws H) (q0 t0 : Nat) {cA : ClassId} {n : Nat} {f : Nat → Int32} (ha : ws[q0]? = some (a, .inl (cA, n, .inl f))) (ht : tys[t0]? = some (cA, .char)) {i : Int32} {k : Nat} (hi : i.toNatClampNeg = k) (hin : vp_in i n) (hdg : decode cc pc = .ok (.caload, 1))
    (kk : W p l e R s m args below meth c H locs cells slots Q (F0 m (pc + 1) ls (.int (f k) :: rest))) : W p l e R s m args below meth c H locs cells slots Q (F0 m pc ls (.int i :: .ref a :: rest)) := by
  subst hi; exact va_cald hexec hb hK hP q0 t0 ha ht hin hdg kk
theorem k_bald (hexec : p.tables.exec = Jvm.exec) (hb : c.code = cc) (hK : va_K D cl tys s) (hP : va_P D cl ws H) (q0 t0 : Nat) {cA : ClassId} {n : Nat} {f : Nat → Int32} (ha : ws[q0]? = some (a, .inl (cA, n, .inl f))) (ht : tys[t0]? = some (cA, .byte)) {i : Int32} {k : Nat} (hi : i.toNatClampNeg = k) (hin : vp_in i n) (hdg : decode cc pc = .ok (.baload, 1))
    (kk : W p l e R s m args below meth c H locs cells slots Q (F0 m (pc + 1) ls (.int (f k) :: rest))) : W p l e R s m args below meth c H locs cells slots Q (F0 m pc ls (.int i :: .ref a :: rest)) := by
  subst hi; exact va_bald hexec hb hK hP q0 t0 ha ht hin hdg kk
theorem k_lald (hexec : p.tables.exec = Jvm.exec) (hb : c.code = cc) (hK : va_K D cl tys s) (hP : va_P D cl ws H) (q0 t0 : Nat) {cA : ClassId} {n : Nat} {f : Nat → Int64} (ha : ws[q0]? = some (a, .inl (cA, n, .inr (.inl f)))) (ht : tys[t0]? = some (cA, .long)) {i : Int32} {k : Nat} (hi : i.toNatClampNeg = k) (hin : vp_in i n) (hdg : decode cc pc = .ok (.laload, 1))
    (kk : W p l e R s m args below meth c H locs cells slots Q (F0 m (pc + 1) ls (.long (f k) :: rest))) : W p l e R s m args below meth c H locs cells slots Q (F0 m pc ls (.int i :: .ref a :: rest)) := by
  subst hi; exact va_lald hexec hb hK hP q0 t0 ha ht hin hdg kk
theorem k_iast (hexec : p.tables.exec = Jvm.exec) (hb : c.code = cc) (hK : va_K D cl tys s) (hP : va_P D cl ws H) (hD : va_D A ws) (hS : va_S A H0 H locs) (q0 t0 : Nat) {cA : ClassId} {n : Nat} {f : Nat → Int32} (ha : ws[q0]? = some (a, .inl (cA, n, .inl f))) (ht : tys[t0]? = some (cA, .int)) {i x : Int32} {k : Nat} (hi : i.toNatClampNeg = k) (hin : vp_in i n) (hdg : decode cc pc = .ok (.iastore, 1))
    (kk : ∀ (H1 : Heap) (locs1 : List Loc), va_P D cl (ws.set q0 (a, .inl (cA, n, .inl (upd f k x)))) H1 → va_D A (ws.set q0 (a, .inl (cA, n, .inl (upd f k x)))) → va_S A H0 H1 locs1 → W p l e R s m args below meth c H1 locs1 cells slots Q (F0 m (pc + 1) ls rest)) : W p l e R s m args below meth c H locs cells slots Q (F0 m pc ls (.int x :: .int i :: .ref a :: rest)) := by
  subst hi; exact va_iast hexec hb hK hP hD hS q0 t0 ha ht hin hdg kk
theorem k_cast (hexec : p.tables.exec = Jvm.exec) (hb : c.code = cc) (hK : va_K D cl tys s) (hP : va_P D cl ws H) (hD : va_D A ws) (hS : va_S A H0 H locs) (q0 t0 : Nat) {cA : ClassId} {n : Nat} {f : Nat → Int32} (ha : ws[q0]? = some (a, .inl (cA, n, .inl f))) (ht : tys[t0]? = some (cA, .char)) {i x : Int32} {k : Nat} (hi : i.toNatClampNeg = k) (hin : vp_in i n) (hdg : decode cc pc = .ok (.castore, 1))
    (kk : ∀ (H1 : Heap) (locs1 : List Loc), va_P D cl (ws.set q0 (a, .inl (cA, n, .inl (upd f k (vp_nar .char x))))) H1 → va_D A (ws.set q0 (a, .inl (cA, n, .inl (upd f k (vp_nar .char x))))) → va_S A H0 H1 locs1 → W p l e R s m args below meth c H1 locs1 cells slots Q (F0 m (pc + 1) ls rest)) : W p l e R s m args below meth c H locs cells slots Q (F0 m pc ls (.int x :: .int i :: .ref a :: rest)) := by
  subst hi; exact va_cast hexec hb hK hP hD hS q0 t0 ha ht hin hdg kk
theorem k_last (hexec : p.tables.exec = Jvm.exec) (hb : c.code = cc) (hK : va_K D cl tys s) (hP : va_P D cl ws H) (hD : va_D A ws) (hS : va_S A H0 H locs) (q0 t0 : Nat) {cA : ClassId} {n : Nat} {f : Nat → Int64} (ha : ws[q0]? = some (a, .inl (cA, n, .inr (.inl f)))) (ht : tys[t0]? = some (cA, .long)) {i : Int32} {x : Int64} {k : Nat} (hi : i.toNatClampNeg = k) (hin : vp_in i n) (hdg : decode cc pc = .ok (.lastore, 1))
    (kk : ∀ (H1 : Heap) (locs1 : List Loc), va_P D cl (ws.set q0 (a, .inl (cA, n, .inr (.inl (vp_updL f k x))))) H1 → va_D A (ws.set q0 (a, .inl (cA, n, .inr (.inl (vp_updL f k x))))) → va_S A H0 H1 locs1 → W p l e R s m args below meth c H1 locs1 cells slots Q (F0 m (pc + 1) ls rest)) : W p l e R s m args below meth c H locs cells slots Q (F0 m pc ls (.long x :: .int i :: .ref a :: rest)) := by
  subst hi; exact va_last hexec hb hK hP hD hS q0 t0 ha ht hin hdg kk
end KB
