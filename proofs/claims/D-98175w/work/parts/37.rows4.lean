/-! ===== throws, handlers; nest mates, interfaces, inherited ones; strings, statics; casts ===== -/
/-- something was thrown at pc: v tells what -/
def WX (g : GW) (d : Nat) (y : MethodName) (cc : ByteArray) (nL : Nat) (ret : Option FieldType) (pc : Nat) (ls : List (Option Value)) (h : AH) (c n : Nat) (v : Option Value) (Q : Option Value → AH → Prop) : Prop :=
  ∀ (p : Program) (l : Launch) (e : Env) (R : Room) (s : State) (m : MethodId) (args : Array Value) (below : List Frame) (meth : Method) (cd : Code) (H : Heap) (locs : List Loc) (cells slots : Nat) (arr : Array Slot) (E : String) (q : Nat) (ce : Cell) (rest : List Value),
    g_C g d y cc nL ret p l R s m args meth cd → va_S (g_A g) s.heap H locs → g_P g h H → lv_has arr nL (g_lv g 0 ls) → cells + c ≤ R.cells → slots + n ≤ R.slots → g_th g v E q h → H[q]? = some ce → ce.vm = .none → s.vm.findClass E = some ce.cls →
    vx_W p l e R s m args below meth cd H locs cells slots (vx_MQ below (g_Q g Q) (g_X g Q) args s R.cells R.slots (g_A g)) (F0 m pc arr rest) q
theorem g_th.nt {g : GW} {v : Option Value} {E : String} {q : Nat} {h : AH} (t : g_th g v E q h) : g_nt v = false := by
  cases v with
  | none => exact absurd t id
  | some v => cases v <;> first | rfl | exact absurd t id
section RT
variable {g : GW} {d : Nat} {y : MethodName} {cc : ByteArray} {nL : Nat} {ret : Option FieldType} {pc pc0 : Nat} {ls : List (Option Value)} {st : List Value} {h h1 : AH} {c n : Nat} {Q : Option Value → AH → Prop}
variable {b ci idx n2 d2 c2 m2 nL2 : Nat} {y2 : MethodName} {cc2 : ByteArray} {ret2 : Option FieldType} {as rest fs : List Value} {r : vw_C} {v : Value} {Q2 : Option Value → AH → Prop}
theorem g_C.tbl {p : Program} {l : Launch} {R : Room} {s : State} {m : MethodId} {args : Array Value} {meth : Method} {cd : Code} (C : g_C g d y cc nL ret p l R s m args meth cd) : cd.exceptionTable.toList = tableOf (g_tb y) := C.2.2.2.2.2.2.2.2.2.2.2.2.2.2
theorem g_C.lk {p : Program} {l : Launch} {R : Room} {s : State} {m : MethodId} {args : Array Value} {meth : Method} {cd : Code} (C : g_C g d y cc nL ret p l R s m args meth cd) : meth.locks = false := C.2.2.2.2.2.2.1
theorem g_C.T {p : Program} {l : Launch} {R : Room} {s : State} {m : MethodId} {args : Array Value} {meth : Method} {cd : Code} (C : g_C g d y cc nL ret p l R s m args meth cd) : g_T g s s.heap := C.sta.2.2.2.2.2.2
/-- not caught here -/
theorem WX.out {v : Option Value} (k : Q v h) (ht : ∀ x ∈ tableOf (g_tb y), covers x pc = false) : WX g d y cc nL ret pc ls h c n v Q := by
  intro p l e R s m args below meth cd H locs cells slots arr E q ce rest C hS hP hl hc hn hth hce hv hcl
  exact vx_out (E := E) (ce := ce) (by rw [C.tbl]; exact ht) C.lk hce hv hcl (fun t ht' hA => ⟨v, h, hth, k, by rw [ht']; exact hP, hS.F ht'⟩) hS.2.2 (by omega) (by omega)
theorem WX.out0 {v : Option Value} (k : Q v h) (htb : g_tb y = [] := by rfl) : WX g d y cc nL ret pc ls h c n v Q := WX.out k (by rw [htb]; intro x hx; cases hx)
/-- an object of the machine's goes by a table that does not take it -/
theorem WX.pass {nn : UInt32} (k : Q (some (.float nn)) h) (ht : ∀ z ∈ tableOf (g_tb y), covers z pc = false ∨ (z.catchType ≠ 0 ∧ ∃ nm : String, Cond.classLink y.cls z.catchType nm ∈ lw_all ∧ (exN nn, nm) ∈ ncT)) : WX g d y cc nL ret pc ls h c n (some (.float nn)) Q := by
  intro p l e R s m args below meth cd H locs cells slots arr E q ce rest C hS hP hl hc hn hth hce hv hcl
  refine vx_outP (own := y.cls) (E := E) (ce := ce) C.ow C.lk (fun z hz => ?_) hce hv hcl (fun t ht' hA => ⟨some (.float nn), h, hth, k, by rw [ht']; exact hP, hS.F ht'⟩) hS.2.2 (by omega) (by omega)
  rw [C.tbl] at hz
  have e1 : E = exN nn := hth
  rcases ht z hz with q1 | ⟨q1, nm, q2, q3⟩
  · exact Or.inl q1
  · exact Or.inr ⟨q1, nm, C.ts _ q2, by rw [e1]; exact C.T.1.2 _ q3⟩
/-- caught: a cell's object -/
theorem WX.catch {a : Nat} {nm : String} (x : ExceptionTableEntry) (suf : List ExceptionTableEntry) (hsp : tableOf (g_tb y) = x :: suf) (hx : covers x pc = true) (h0 : x.catchType ≠ 0) (hl : Cond.classLink y.cls x.catchType nm ∈ lw_all) (ha : h[a]? = some (.inr (ci, fs))) (hr : clT[ci]? = some r) (hca : Cond.castable r.1 nm ∈ lw_tbl) (kk : WP g d y cc nL ret x.handlerPc ls [.ref a] h c n Q) : WX g d y cc nL ret pc ls h c n (some (.retAddr a)) Q := by
  intro p l e R s m args below meth cd H locs cells slots arr E q ce rest C hS hP hl' hc hn hth hce hv hcl
  obtain ⟨rfl, ci', fs', r', t1, t2, rfl⟩ := hth
  cases ha.symm.trans t1
  cases hr.symm.trans t2
  exact vx_catch (own := y.cls) C.ow [] x suf (by rw [C.tbl]; exact hsp) (fun z hz => by cases hz) hx h0 (C.ts _ hl) (va_Nw.use rfl (C.sta.2.1 _ hca rfl)) hce hv hcl (kk p l e R s m args below meth cd H locs cells slots arr C hS hP hl' hc hn)
theorem g_st0 {i : Nat} {w : Value} (hp : pv1 ls i) (q : Nat × Value) (hq : q ∈ g_lv g 0 (ls.set i none)) : q ∈ (i, w) :: (g_lv g 0 ls).filter (fun q => !(q.1 == i) && !(q.1 + 1 == i && q.2.category == 2)) := by
  obtain ⟨j, u, h1, rfl⟩ := (g_lv_mem g _ 0 q).mp hq
  rw [Nat.zero_add]
  have hji : ¬ j = i := by
    intro e
    subst e
    have hlt := (List.getElem?_eq_some_iff.mp h1).1
    rw [List.length_set] at hlt
    rw [List.getElem?_set_self hlt] at h1
    cases h1
  rw [List.getElem?_set_ne (Ne.symm hji)] at h1
  refine List.mem_cons_of_mem _ (List.mem_filter.mpr ⟨(g_lv_mem g ls 0 _).mpr ⟨j, u, h1, by rw [Nat.zero_add]⟩, ?_⟩)
  have h2 : j + 1 = i → u.category = 1 := fun e => hp j u e h1
  by_cases h3 : j + 1 = i
  · simp [hji, h3, g_cv_cat, h2 h3]
  · simp [hji, h3]
/-- caught: an object of the machine's; the handler lays it into a local (k: fewer than 4) and never looks at it -/
theorem WX.catchF {nn : UInt32} {nm : String} {i : Nat} {k4 : Fin 4} {ls' : List (Option Value)} (pre : List ExceptionTableEntry) (x : ExceptionTableEntry) (suf : List ExceptionTableEntry) (hsp : tableOf (g_tb y) = pre ++ x :: suf) (hpre : ∀ z ∈ pre, covers z pc = false ∨ (z.catchType ≠ 0 ∧ ∃ nm : String, Cond.classLink y.cls z.catchType nm ∈ lw_all ∧ (exN nn, nm) ∈ ncT)) (hx : covers x pc = true) (h0 : x.catchType ≠ 0) (hl : Cond.classLink y.cls x.catchType nm ∈ lw_all) (hca : Cond.castable (exN nn) nm ∈ lw_tbl)
    (hd : decode cc x.handlerPc = .ok (.astore_n k4, 1)) (hi : (k4 : Nat) = i) (hL : i < nL) (hp : pv1 ls i) (hls : ls.set i none = ls') (kk : WP g d y cc nL ret (x.handlerPc + 1) ls' [] h c n Q) : WX g d y cc nL ret pc ls h c n (some (.float nn)) Q := by
  subst hls
  intro p l e R s m args below meth cd H locs cells slots arr E q ce rest C hS hP hl' hc hn hth hce hv hcl
  have e1 : E = exN nn := hth
  subst e1
  refine vx_catch (own := y.cls) C.ow pre x suf (by rw [C.tbl]; exact hsp) (fun z hz => ?_) hx h0 (C.ts _ hl) (va_Nw.use rfl (C.sta.2.1 _ hca rfl)) hce hv hcl ?_
  · rcases hpre z hz with q1 | ⟨q1, nm, q2, q3⟩
    · exact Or.inl q1
    · exact Or.inr ⟨q1, nm, C.ts _ q2, C.T.1.2 _ q3⟩
  · exact lv_astore_n C.1 C.2.1 hd hi hl' hL rfl (fun arr1 hl1 => kk p l e R s m args below meth cd H locs cells slots arr1 C hS hP (hl1.less (g_st0 hp)) hc hn)
theorem wp_athrow {a : Nat} (hd : decode cc pc0 = .ok (.athrow, 1)) (e : pc = pc0) (ha : h[a]? = some (.inr (ci, fs))) (hr : clT[ci]? = some r) (k : WX g d y cc nL ret pc0 ls h c n (some (.retAddr a)) Q) : WP g d y cc nL ret pc ls (.ref a :: st) h c n Q := by
  subst e
  intro p l e R s m args below meth cd H locs cells slots arr C hS hP hl hc hn
  obtain ⟨q', t1, cell, g1, g2, g3, -⟩ := hP.2.1 _ _ (g_P.at ha (nj hr))
  exact vx_athrow C.1 C.2.1 hd (k p l e R s m args below meth cd H locs cells slots arr r.1 (g_ad g a) cell _ C hS hP hl hc hn ⟨rfl, ci, fs, r, ha, hr, rfl⟩ g1 g3 (by rw [g2]; exact (C.K.1 ci _ hr).2.1))
theorem g_callX {p : Program} {l : Launch} {e : Env} {R : Room} {s : State} {m : MethodId} {args : Array Value} {below : List Frame} {meth : Method} {cd : Code} {H : Heap} {locs : List Loc} {cells slots mc ms : Nat} {Z : State → Prop} {arr : Array Slot} {st0 rest : List Value} {a : Array Value} (hS : va_S (g_A g) s.heap H locs) (hr : vx_Run p l e R s m args below meth cd H locs cells slots mc ms (F0 m pc arr st0) rest (g_Q g Q2 a) (g_X g Q2) (g_A g))
    (kk : ∀ (v : Option Value) (h1 : AH) (H1 : Heap) (locs1 : List Loc), Q2 v h1 → g_nt v = true → va_S (g_A g) s.heap H1 locs1 → g_P g h1 H1 → W p l e R s m args below meth cd H1 locs1 (cells + mc) (slots + ms) Z (F0 m (pc + 3) arr ((v.map (g_cv g)).toList ++ rest)))
    (kx : ∀ (v : Option Value) (h1 : AH) (E : String) (q : Nat) (ce : Cell) (H1 : Heap) (locs1 : List Loc), g_th g v E q h1 → Q2 v h1 → va_S (g_A g) s.heap H1 locs1 → g_P g h1 H1 → H1[q]? = some ce → ce.vm = .none → s.vm.findClass E = some ce.cls → vx_W p l e R s m args below meth cd H1 locs1 (cells + mc) (slots + ms) Z (F0 m pc arr rest) q) : W p l e R s m args below meth cd H locs cells slots Z (F0 m pc arr st0) := by
  intro T hT X
  have keep : ∀ {st₀ t T' : State} {L : List Loc}, st₀.heap = H → T'.heap = t.heap → (∀ q ∈ L, g_A g q.base) → va_F (g_A g) st₀ t → va_S (g_A g) s.heap T'.heap (locs ++ L) := by
    intro st₀ t T' L h0 e1 hL hF
    obtain ⟨hz, hk⟩ := hF
    rw [h0] at hz hk
    exact ⟨Nat.le_trans hS.1 (by rw [e1]; exact hz), fun q g1 g2 => by rw [e1, hk q (Nat.lt_of_lt_of_le g1 hS.1) g2]; exact hS.2.1 q g1 g2, fun q hq => by
      rcases List.mem_append.mp hq with h | h
      · exact hS.2.2 q h
      · exact hL q h⟩
  rcases hr T hT X with ⟨v, st₀, t, T', L, h0, X', hL, e1, e2, ⟨v1, h1, ⟨hv, hnt⟩, hq, hp, hF⟩, stp⟩ | ⟨q, st₀, t, T', L, E, ce, h0, X', hL, e1, e2, ⟨v1, h1, hth, hq, hp, hF⟩, hce, hcv, hcl, stp⟩
  · have hv1 : v = v1.map (g_cv g) := by cases hv; rfl
    subst hv1
    obtain ⟨t2, a1, b1⟩ := kk v1 h1 T'.heap (locs ++ L) hq hnt (keep h0 e1 hL hF) (by rw [e1]; exact hp) T' rfl X'
    exact ⟨t2, stp t2 a1, b1⟩
  · obtain ⟨t2, a1, b1⟩ := kx v1 h1 E q ce T'.heap (locs ++ L) hth hq (keep h0 e1 hL hF) (by rw [e1]; exact hp) (by rw [e1]; exact hce) hcv hcl T' rfl X'
    exact ⟨t2, stp.trans a1, b1⟩
/-- a call that may throw -/
theorem wp_cvT (hd : decode cc pc0 = .ok (.invokevirtual idx, 3)) (e : pc = pc0) (hl : Cond.methodLink y.cls idx y2 ∈ lw_all) (hM : MV y2 cc2 nL2 ret2 n2) (hb : h[b]? = some (.inr (ci, fs))) (hr : clT[ci]? = some r) (hr1 : r.1 = y2.cls) (hsp : SP g d2 c2 m2 y2 cc2 nL2 ret2 (.ref b :: as) h Q2) (hst : as.reverse ++ .ref b :: rest = st) (hlen : as.length = n2) (hdd : d2 + 1 ≤ d) (hw : (rest.map fun v => v.category).sum ≤ 8) (hc2 : c2 ≤ c) (hm2 : m2 ≤ n)
    (kk : ∀ (v : Option Value) (h1 : AH), Q2 v h1 → g_nt v = true → WP g d y cc nL ret (pc0 + 3) ls (v.toList ++ rest) h1 (c - c2) (n - m2) Q) (kx : ∀ (v : Option Value) (h1 : AH), Q2 v h1 → g_nt v = false → WX g d y cc nL ret pc0 ls h1 (c - c2) (n - m2) v Q) : WP g d y cc nL ret pc ls st h c n Q := by
  subst e
  subst hst
  intro p l e R s m args below meth cd H locs cells slots arr C hS hP hl' hc hn
  obtain ⟨w1, w2, w3, w4, ⟨x1, x2, x3⟩, x4⟩ := hM
  rw [g_args]
  refine W.loose (Nat.le_refl _) fun hz => ?_
  refine g_callX (rest := rest.map (g_cv g)) hS (vx_runV (Ts := lw_all) (As := as.map (g_cv g)) ⟨C.1, C.2.1, C.ml, C.ow, C.ts⟩ (hsp l C.lst) (cwV n2 C.ts (lw_V hl w1 w2 w3 w4) rfl rfl rfl ⟨rfl, x1, x2, x3⟩ ⟨Nat.le_trans hdd C.2.2.2.2.2.2.2.2.2.1, ?_⟩) ⟨g_blind, ?_, ?_⟩ rfl (by rw [List.length_map]; exact hlen) hl'.1 rfl (lv_room (by rw [g_cats]; exact hw)) hd ⟨by omega, by omega⟩) (fun v h1 H1 locs1 q1 q0 q2 q3 => ?_) (fun v h1 E q ce H1 locs1 t1 q1 q2 q3 q4 q5 q6 => ?_)
  · have h1 := C.2.2.2.2.2.2.2.2.2.2.1
    show 8 + (nL2 + 11) + 40 * d2 ≤ R.locals
    omega
  · rw [← hr1]
    exact g_recv C hP hb hr
  · have h1 := C.2.2.2.2.2.2.2.2.2.2.2.1
    exact g_pcs (as := .ref b :: as) C hS hP (by omega)
  · rw [g_stk]
    exact kk v h1 q1 q0 p l e R s m args below meth cd H1 locs1 (cells + c2) (slots + m2) arr C q2 q3 hl' (by omega) (by omega)
  · exact kx v h1 q1 t1.nt p l e R s m args below meth cd H1 locs1 (cells + c2) (slots + m2) arr E q ce _ C q2 q3 hl' (by omega) (by omega) t1 q4 q5 q6
/-- an instance method with handlers -/
def MVW (y : MethodName) (cc : ByteArray) (nL : Nat) (ret : Option FieldType) (n : Nat) : Prop := Cond.instanceMethod y ∈ lw_all ∧ Cond.selects y.cls y y ∈ lw_all ∧ Cond.initialized y.cls ∈ lw_all ∧ Cond.codeWith y cc nL ret (g_tb y) ∈ lw_all ∧ notMH y n ∧ nL ≤ 21
theorem wp_cvTW (hd : decode cc pc0 = .ok (.invokevirtual idx, 3)) (e : pc = pc0) (hl : Cond.methodLink y.cls idx y2 ∈ lw_all) (hM : MVW y2 cc2 nL2 ret2 n2) (hb : h[b]? = some (.inr (ci, fs))) (hr : clT[ci]? = some r) (hr1 : r.1 = y2.cls) (hsp : SPW g d2 c2 m2 y2 cc2 nL2 ret2 (.ref b :: as) h Q2) (hst : as.reverse ++ .ref b :: rest = st) (hlen : as.length = n2) (hdd : d2 + 1 ≤ d) (hw : (rest.map fun v => v.category).sum ≤ 8) (hc2 : c2 ≤ c) (hm2 : m2 ≤ n)
    (kk : ∀ (v : Option Value) (h1 : AH), Q2 v h1 → g_nt v = true → WP g d y cc nL ret (pc0 + 3) ls (v.toList ++ rest) h1 (c - c2) (n - m2) Q) (kx : ∀ (v : Option Value) (h1 : AH), Q2 v h1 → g_nt v = false → WX g d y cc nL ret pc0 ls h1 (c - c2) (n - m2) v Q) : WP g d y cc nL ret pc ls st h c n Q := by
  subst e
  subst hst
  intro p l e R s m args below meth cd H locs cells slots arr C hS hP hl' hc hn
  obtain ⟨w1, w2, w3, w4, ⟨x1, x2, x3⟩, x4⟩ := hM
  rw [g_args]
  refine W.loose (Nat.le_refl _) fun hz => ?_
  refine g_callX (rest := rest.map (g_cv g)) hS (vx_runVX (Ts := lw_all) (As := as.map (g_cv g)) ⟨C.1, C.2.1, C.ml, C.ow, C.ts⟩ (hsp l C.lst) (vx_cwVW n2 C.ts (lw_VW hl w1 w2 w3 w4) rfl rfl rfl ⟨rfl, x1, x2, x3⟩ ⟨Nat.le_trans hdd C.2.2.2.2.2.2.2.2.2.1, ?_⟩) ⟨g_blind, ?_, ?_⟩ rfl (by rw [List.length_map]; exact hlen) hl'.1 rfl (lv_room (by rw [g_cats]; exact hw)) hd ⟨by omega, by omega⟩) (fun v h1 H1 locs1 q1 q0 q2 q3 => ?_) (fun v h1 E q ce H1 locs1 t1 q1 q2 q3 q4 q5 q6 => ?_)
  · have h1 := C.2.2.2.2.2.2.2.2.2.2.1
    show 8 + (nL2 + 11) + 40 * d2 ≤ R.locals
    omega
  · rw [← hr1]
    exact g_recv C hP hb hr
  · have h1 := C.2.2.2.2.2.2.2.2.2.2.2.1
    exact g_pcs (as := .ref b :: as) C hS hP (by omega)
  · rw [g_stk]
    exact kk v h1 q1 q0 p l e R s m args below meth cd H1 locs1 (cells + c2) (slots + m2) arr C q2 q3 hl' (by omega) (by omega)
  · exact kx v h1 q1 t1.nt p l e R s m args below meth cd H1 locs1 (cells + c2) (slots + m2) arr E q ce _ C q2 q3 hl' (by omega) (by omega) t1 q4 q5 q6
/-! nest mates -/
theorem wp_callVN {host : String} (hd : decode cc pc0 = .ok (.invokevirtual idx, 3)) (e : pc = pc0) (hl : Cond.methodLinkNest y.cls idx y2 host ∈ lw_tbl) (hM : MV y2 cc2 nL2 ret2 n2) (hb : h[b]? = some (.inr (ci, fs))) (hr : clT[ci]? = some r) (hr1 : r.1 = y2.cls) (hsp : SP g d2 c2 m2 y2 cc2 nL2 ret2 (.ref b :: as) h Q2) (hst : as.reverse ++ .ref b :: rest = st) (hlen : as.length = n2) (hdd : d2 + 1 ≤ d) (hw : (rest.map fun v => v.category).sum ≤ 8) (hc2 : c2 ≤ c) (hm2 : m2 ≤ n) (hnt : ∀ v h1, Q2 v h1 → g_nt v = true) (kk : ∀ (v : Option Value) (h1 : AH), Q2 v h1 → WP g d y cc nL ret (pc0 + 3) ls (v.toList ++ rest) h1 (c - c2) (n - m2) Q) : WP g d y cc nL ret pc ls st h c n Q := by
  subst e
  subst hst
  intro p l e R s m args below meth cd H locs cells slots arr C hS hP hl' hc hn
  obtain ⟨w1, w2, w3, w4, ⟨x1, x2, x3⟩, x4⟩ := hM
  rw [g_args]
  refine W.loose (Nat.le_refl _) fun hz => ?_
  refine g_call (rest := rest.map (g_cv g)) hS (va_runVN (Ts := lw_all) (As := as.map (g_cv g)) ⟨C.1, C.2.1, C.ml, C.ow, C.ts⟩ (hsp.met hnt l C.lst) ⟨va_cnB n2 C.ts (lw_meth w4) rfl rfl rfl (C.sta.2.1 _ hl rfl) (C.ts _ w3) ⟨x1, x2, x3⟩ ⟨Nat.le_trans hdd C.2.2.2.2.2.2.2.2.2.1, ?_⟩, C.ts _ w1, C.ts _ w2⟩ ⟨g_blind, ?_, ?_⟩ rfl (by rw [List.length_map]; exact hlen) hl'.1 rfl (lv_room (by rw [g_cats]; exact hw)) hd ⟨by omega, by omega⟩) (fun v h1 H1 locs1 q1 q2 q3 => ?_)
  · have h1 := C.2.2.2.2.2.2.2.2.2.2.1
    show 8 + (nL2 + 11) + 40 * d2 ≤ R.locals
    omega
  · rw [← hr1]
    exact g_recv C hP hb hr
  · have h1 := C.2.2.2.2.2.2.2.2.2.2.2.1
    exact g_pcs (as := .ref b :: as) C hS hP (by omega)
  · rw [g_stk]
    exact kk v h1 q1 p l e R s m args below meth cd H1 locs1 (cells + c2) (slots + m2) arr C q2 q3 hl' (by omega) (by omega)
theorem wp_callSN {host : String} (hd : decode cc pc0 = .ok (.invokestatic idx, 3)) (e : pc = pc0) (hl : Cond.methodLinkNest y.cls idx y2 host ∈ lw_tbl) (hM : MS y2 cc2 nL2 ret2 n2) (hsp : SP g d2 c2 m2 y2 cc2 nL2 ret2 as h Q2) (hst : as.reverse ++ rest = st) (hlen : as.length = n2) (hdd : d2 + 1 ≤ d) (hw : (rest.map fun v => v.category).sum ≤ 8) (hc2 : c2 ≤ c) (hm2 : m2 ≤ n) (hnt : ∀ v h1, Q2 v h1 → g_nt v = true) (kk : ∀ (v : Option Value) (h1 : AH), Q2 v h1 → WP g d y cc nL ret (pc0 + 3) ls (v.toList ++ rest) h1 (c - c2) (n - m2) Q) : WP g d y cc nL ret pc ls st h c n Q := by
  subst e
  subst hst
  intro p l e R s m args below meth cd H locs cells slots arr C hS hP hl' hc hn
  obtain ⟨w1, w3, w4, ⟨x1, x2, x3⟩, x4⟩ := hM
  rw [List.map_append, List.map_reverse]
  refine W.loose (Nat.le_refl _) fun hz => ?_
  refine g_call (rest := rest.map (g_cv g)) hS (va_runSN (Ts := lw_all) (own := y.cls) (As := as.map (g_cv g)) ⟨C.1, C.2.1, C.ml, C.ow, C.ts⟩ (hsp.met hnt l C.lst) ⟨va_cnB n2 C.ts (lw_meth w4) rfl rfl rfl (C.sta.2.1 _ hl rfl) (C.ts _ w3) ⟨x1, x2, x3⟩ ⟨Nat.le_trans hdd C.2.2.2.2.2.2.2.2.2.1, ?_⟩, C.ts _ w1, trivial⟩ ⟨g_blind, ?_⟩ rfl (by rw [List.length_map]; exact hlen) hl'.1 rfl (lv_room (by rw [g_cats]; exact hw)) hd ⟨by omega, by omega⟩) (fun v h1 H1 locs1 q1 q2 q3 => ?_)
  · have h1 := C.2.2.2.2.2.2.2.2.2.2.1
    show 8 + (nL2 + 11) + 40 * d2 ≤ R.locals
    omega
  · have h1 := C.2.2.2.2.2.2.2.2.2.2.2.1
    exact g_pcs (as := as) C hS hP (by omega)
  · rw [g_stk]
    exact kk v h1 q1 p l e R s m args below meth cd H1 locs1 (cells + c2) (slots + m2) arr C q2 q3 hl' (by omega) (by omega)
theorem wp_callIN {host : String} (hd : decode cc pc0 = .ok (.invokespecial idx, 3)) (e : pc = pc0) (hl : Cond.methodLinkNest y.cls idx y2 host ∈ lw_tbl) (hM : MI y2 cc2 nL2 n2) (hsp : SP g d2 c2 m2 y2 cc2 nL2 none (.ref b :: as) h Q2) (hst : as.reverse ++ .ref b :: rest = st) (hlen : as.length = n2) (hdd : d2 + 1 ≤ d) (hw : (rest.map fun v => v.category).sum ≤ 8) (hc2 : c2 ≤ c) (hm2 : m2 ≤ n) (hnt : ∀ v h1, Q2 v h1 → g_nt v = true) (kk : ∀ (v : Option Value) (h1 : AH), Q2 v h1 → WP g d y cc nL ret (pc0 + 3) ls (v.toList ++ rest) h1 (c - c2) (n - m2) Q) : WP g d y cc nL ret pc ls st h c n Q := by
  subst e
  subst hst
  intro p l e R s m args below meth cd H locs cells slots arr C hS hP hl' hc hn
  obtain ⟨w1, w2, w3, w4, ⟨x1, x2, x3⟩, x4⟩ := hM
  rw [g_args]
  refine W.loose (Nat.le_refl _) fun hz => ?_
  refine g_call (rest := rest.map (g_cv g)) hS (va_runIN (Ts := lw_all) (own := y.cls) (As := as.map (g_cv g)) ⟨C.1, C.2.1, C.ml, C.ow, C.ts⟩ (hsp.met hnt l C.lst) ⟨va_cnB n2 C.ts (lw_meth w4) rfl rfl rfl (C.sta.2.1 _ hl rfl) (C.ts _ w3) ⟨x1, x2, x3⟩ ⟨Nat.le_trans hdd C.2.2.2.2.2.2.2.2.2.1, ?_⟩, w2, C.ts _ w1⟩ ⟨g_blind, ?_⟩ rfl (by rw [List.length_map]; exact hlen) hl'.1 rfl (lv_room (by rw [g_cats]; exact hw)) hd ⟨by omega, by omega⟩) (fun v h1 H1 locs1 q1 q2 q3 => ?_)
  · have h1 := C.2.2.2.2.2.2.2.2.2.2.1
    show 8 + (nL2 + 11) + 40 * d2 ≤ R.locals
    omega
  · have h1 := C.2.2.2.2.2.2.2.2.2.2.2.1
    exact g_pcs (as := .ref b :: as) C hS hP (by omega)
  · rw [g_stk]
    exact kk v h1 q1 p l e R s m args below meth cd H1 locs1 (cells + c2) (slots + m2) arr C q2 q3 hl' (by omega) (by omega)
/-! interfaces, and methods found by the receiver's class -/
theorem lw_F {own : String} {i : Nat} {C : String} {x y : MethodName} {b : ByteArray} {L : Nat} {r : Option FieldType} (h1 : Cond.methodLink own i x ∈ lw_all) (h2 : Cond.selects C x y ∈ lw_all) (h3 : Cond.instanceMethod y ∈ lw_all) (h4 : Cond.initialized y.cls ∈ lw_all) (h5 : Cond.code y b L r ∈ lw_all) : GoodIn lw_all (va_wsF own i C x y (ws_ y b L r)) := by
  refine lw_app ?_ (lw_meth h5)
  intro w hw
  simp only [List.mem_cons, List.not_mem_nil, or_false] at hw
  rcases hw with e | e | e | e
  · rw [e]; exact h1
  · rw [e]; exact h2
  · rw [e]; exact h3
  · rw [e]; exact h4
theorem lw_U {own : String} {i : Nat} {C owner : String} {x y : MethodName} {b : ByteArray} {L : Nat} {r : Option FieldType} (h1 : Cond.methodLink own i x ∈ lw_all) (h0 : Cond.sameMethod x.cls owner x.name x.desc ∈ lw_all) (h2 : Cond.selects C x y ∈ lw_all) (h3 : Cond.instanceMethod y ∈ lw_all) (h4 : Cond.initialized y.cls ∈ lw_all) (h5 : Cond.code y b L r ∈ lw_all) : GoodIn lw_all (va_wsU own i C owner x y (ws_ y b L r)) := by
  refine lw_app ?_ (lw_meth h5)
  intro w hw
  simp only [List.mem_cons, List.not_mem_nil, or_false] at hw
  rcases hw with e | e | e | e | e
  · rw [e]; exact h1
  · rw [e]; exact h0
  · rw [e]; exact h2
  · rw [e]; exact h3
  · rw [e]; exact h4
variable {x2 : MethodName} {C2 : String}
/-- x2 of an interface is y2 for objects of the class C2 -/
def MF (C2 : String) (x2 y : MethodName) (cc : ByteArray) (nL : Nat) (ret : Option FieldType) (n : Nat) : Prop := (C2, x2, y) ∈ fwT ∧ Cond.selects C2 x2 y ∈ lw_all ∧ Cond.instanceMethod y ∈ lw_all ∧ Cond.initialized y.cls ∈ lw_all ∧ Cond.code y cc nL ret ∈ lw_all ∧ (parseMethodDescriptor x2.desc).map (fun d => d.parameters.length) = some n ∧ nL ≤ 21
theorem wp_callF {cnt : Nat} (hd : decode cc pc0 = .ok (.invokeinterface idx cnt, 5)) (e : pc = pc0) (hl : Cond.methodLink y.cls idx x2 ∈ lw_all) (hM : MF C2 x2 y2 cc2 nL2 ret2 n2) (hb : h[b]? = some (.inr (ci, fs))) (hr : clT[ci]? = some r) (hr1 : r.1 = C2) (hsp : SP g d2 c2 m2 y2 cc2 nL2 ret2 (.ref b :: as) h Q2) (hst : as.reverse ++ .ref b :: rest = st) (hlen : as.length = n2) (hdd : d2 + 1 ≤ d) (hw : (rest.map fun v => v.category).sum ≤ 8) (hc2 : c2 ≤ c) (hm2 : m2 ≤ n) (hnt : ∀ v h1, Q2 v h1 → g_nt v = true) (kk : ∀ (v : Option Value) (h1 : AH), Q2 v h1 → WP g d y cc nL ret (pc0 + 5) ls (v.toList ++ rest) h1 (c - c2) (n - m2) Q) : WP g d y cc nL ret pc ls st h c n Q := by
  subst e
  subst hst
  subst hr1
  intro p l e R s m args below meth cd H locs cells slots arr C hS hP hl' hc hn
  obtain ⟨w0, w2, w1, w3, w4, x3, x4⟩ := hM
  have x1 := fwT_ok _ w0
  rw [g_args]
  refine W.loose (Nat.le_refl _) fun hz => ?_
  refine g_call5 (rest := rest.map (g_cv g)) hS (va_runF (Ts := lw_all) (As := as.map (g_cv g)) (C.K.1 ci _ hr).2 ⟨C.1, C.2.1, C.ml, C.ow, C.ts⟩ (hsp.met hnt l C.lst) (va_cwF n2 C.ts (lw_F hl w2 w1 w3 w4) rfl rfl rfl (C.sta.2.2.1 _ w0) ⟨x1.1, x1.2, x3⟩ ⟨Nat.le_trans hdd C.2.2.2.2.2.2.2.2.2.1, ?_⟩) ⟨g_blind, g_recv C hP hb hr, ?_⟩ rfl (by rw [List.length_map]; exact hlen) hl'.1 rfl (lv_room (by rw [g_cats]; exact hw)) hd ⟨by omega, by omega⟩) (fun v h1 H1 locs1 q1 q2 q3 => ?_)
  · have h1 := C.2.2.2.2.2.2.2.2.2.2.1
    show 8 + (nL2 + 11) + 40 * d2 ≤ R.locals
    omega
  · have h1 := C.2.2.2.2.2.2.2.2.2.2.2.1
    exact g_pcs (as := .ref b :: as) C hS hP (by omega)
  · rw [g_stk]
    exact kk v h1 q1 p l e R s m args below meth cd H1 locs1 (cells + c2) (slots + m2) arr C q2 q3 hl' (by omega) (by omega)
/-- x2 is y2 for objects of the class C2; it is declared in owner (with a body that is y2's, or with none) -/
def MU (C2 owner : String) (x2 y : MethodName) (cc : ByteArray) (nL : Nat) (ret : Option FieldType) (n : Nat) : Prop := Cond.sameMethod x2.cls owner x2.name x2.desc ∈ lw_all ∧ Cond.selects C2 x2 y ∈ lw_all ∧ Cond.instanceMethod y ∈ lw_all ∧ Cond.initialized y.cls ∈ lw_all ∧ Cond.code y cc nL ret ∈ lw_all ∧ (owner ≠ "java/lang/invoke/MethodHandle" ∧ owner ≠ "java/lang/invoke/VarHandle" ∧ (parseMethodDescriptor x2.desc).map (fun d => d.parameters.length) = some n) ∧ nL ≤ 21 ∧ (y = ⟨owner, x2.name, x2.desc⟩ ∨ Cond.declares ⟨owner, x2.name, x2.desc⟩ ∈ lw_tbl)
theorem wp_callU {owner : String} (hd : decode cc pc0 = .ok (.invokevirtual idx, 3)) (e : pc = pc0) (hl : Cond.methodLink y.cls idx x2 ∈ lw_all) (hM : MU C2 owner x2 y2 cc2 nL2 ret2 n2) (hb : h[b]? = some (.inr (ci, fs))) (hr : clT[ci]? = some r) (hr1 : r.1 = C2) (hsp : SP g d2 c2 m2 y2 cc2 nL2 ret2 (.ref b :: as) h Q2) (hst : as.reverse ++ .ref b :: rest = st) (hlen : as.length = n2) (hdd : d2 + 1 ≤ d) (hw : (rest.map fun v => v.category).sum ≤ 8) (hc2 : c2 ≤ c) (hm2 : m2 ≤ n) (hnt : ∀ v h1, Q2 v h1 → g_nt v = true) (kk : ∀ (v : Option Value) (h1 : AH), Q2 v h1 → WP g d y cc nL ret (pc0 + 3) ls (v.toList ++ rest) h1 (c - c2) (n - m2) Q) : WP g d y cc nL ret pc ls st h c n Q := by
  subst e
  subst hst
  subst hr1
  intro p l e R s m args below meth cd H locs cells slots arr C hS hP hl' hc hn
  obtain ⟨w5, w2, w1, w3, w4, x3, x4, x5⟩ := hM
  rw [g_args]
  refine W.loose (Nat.le_refl _) fun hz => ?_
  have h1 := C.2.2.2.2.2.2.2.2.2.2.1
  have hroom : 8 + (nL2 + 11) + 40 * d2 ≤ R.locals := by omega
  have cw : va_CU R s args y.cls r.1 owner idx x2 y2 cc2 nL2 ret2 (ws_ y2 cc2 nL2 ret2) ({ frames := d2, cells := c2, slots := m2, locals := 40 * d2 }) c2 m2 n2 := by
    rcases x5 with x5 | x5
    · exact va_cwU n2 C.ts (lw_U hl w5 w2 w1 w3 w4) rfl rfl rfl x5 x3 ⟨Nat.le_trans hdd C.2.2.2.2.2.2.2.2.2.1, hroom⟩
    · exact va_cwA n2 C.ts (lw_U hl w5 w2 w1 w3 w4) rfl rfl rfl (C.sta.2.1 _ x5 rfl) x3 ⟨Nat.le_trans hdd C.2.2.2.2.2.2.2.2.2.1, hroom⟩
  refine g_call (rest := rest.map (g_cv g)) hS (va_runU (Ts := lw_all) (As := as.map (g_cv g)) ⟨C.1, C.2.1, C.ml, C.ow, C.ts⟩ (hsp.met hnt l C.lst) cw ⟨g_blind, g_recv C hP hb hr, ?_⟩ rfl (by rw [List.length_map]; exact hlen) hl'.1 rfl (lv_room (by rw [g_cats]; exact hw)) hd ⟨by omega, by omega⟩) (fun v h1 H1 locs1 q1 q2 q3 => ?_)
  · have h1 := C.2.2.2.2.2.2.2.2.2.2.2.1
    exact g_pcs (as := .ref b :: as) C hS hP (by omega)
  · rw [g_stk]
    exact kk v h1 q1 p l e R s m args below meth cd H1 locs1 (cells + c2) (slots + m2) arr C q2 q3 hl' (by omega) (by omega)
/-! statics, strings -/
theorem g_adP (g : GW) (k : Nat) : g_ad g (1000000000 + k) = g_pre g k := by
  unfold g_ad
  rw [if_neg (by omega), Nat.add_sub_cancel_left]
theorem g_cvP (g : GW) (k : Nat) : g_cv g (.ref (1000000000 + k)) = .ref (g_pre g k) := congrArg Value.ref (g_adP g k)
theorem wp_gets {C3 n3 d3 : String} {i : Nat} (hd : decode cc pc0 = .ok (.getstatic idx, 3)) (e : pc = pc0) (hl : Cond.fieldLink y.cls idx C3 n3 d3 ∈ lw_all) (hz : (C3, n3, d3, i) ∈ zT) (kk : ∀ v : Value, (v = .null ∨ v = .ref (1000000000 + i)) → WP g d y cc nL ret (pc0 + 3) ls (v :: st) h c n Q) : WP g d y cc nL ret pc ls st h c n Q := by
  subst e
  intro p l e R s m args below meth cd H locs cells slots arr C hS hP hl' hc hn
  rcases C.T.1.1 _ hz with q | q
  · exact va_gets C.1 C.2.1 q hS C.ow (C.ts _ hl) (fun x hx => hx) hd (kk .null (Or.inl rfl) p l e R s m args below meth cd H locs cells slots arr C hS hP hl' hc hn)
  · refine va_gets C.1 C.2.1 q hS C.ow (C.ts _ hl) (fun x hx => hx) hd ?_
    have k1 := kk (.ref (1000000000 + i)) (Or.inr rfl) p l e R s m args below meth cd H locs cells slots arr C hS hP hl' hc hn
    rw [List.map_cons, g_cvP] at k1
    exact k1
theorem wp_getsC (hd : decode cc pc0 = .ok (.getstatic idx, 3)) (e : pc = pc0) (hl : Cond.fieldLink y.cls idx "java/lang/String" "COMPACT_STRINGS" "Z" ∈ lw_all) (kk : WP g d y cc nL ret (pc0 + 3) ls (.int 1 :: st) h c n Q) : WP g d y cc nL ret pc ls st h c n Q := by
  subst e
  intro p l e R s m args below meth cd H locs cells slots arr C hS hP hl' hc hn
  exact va_gets C.1 C.2.1 C.T.2.2.1 hS C.ow (C.ts _ hl) (fun x hx => hx) hd (kk p l e R s m args below meth cd H locs cells slots arr C hS hP hl' hc hn)
theorem wp_ldcS {w : Nat} (hd : decode cc pc0 = .ok (.ldc idx, 2)) (e : pc = pc0) (hs : (y.cls, idx, w) ∈ srT) (kk : WP g d y cc nL ret (pc0 + 2) ls (.ref (1000000000 + (100 + w)) :: st) h c n Q) : WP g d y cc nL ret pc ls st h c n Q := by
  subst e
  intro p l e R s m args below meth cd H locs cells slots arr C hS hP hl' hc hn
  have k1 := kk p l e R s m args below meth cd H locs cells slots arr C hS hP hl' hc hn
  rw [List.map_cons, g_cvP] at k1
  exact va_ldcS C.1 C.2.1 C.ow (C.T.2.2.2.2 _ hs) hd k1
theorem wp_getfSv {w : Nat} (hd : decode cc pc0 = .ok (.getfield idx, 3)) (e : pc = pc0) (hl : Cond.fieldLink y.cls idx "java/lang/String" "value" "[B" ∈ lw_all) (hw : w < stT.length) (kk : WP g d y cc nL ret (pc0 + 3) ls (.ref (1000000000 + (200 + w)) :: st) h c n Q) : WP g d y cc nL ret pc ls (.ref (1000000000 + (100 + w)) :: st) h c n Q := by
  subst e
  intro p l e R s m args below meth cd H locs cells slots arr C hS hP hl' hc hn
  have k1 := kk p l e R s m args below meth cd H locs cells slots arr C hS hP hl' hc hn
  rw [List.map_cons, g_cvP] at k1
  rw [List.map_cons, g_cvP]
  exact vk_getf C.1 C.2.1 (C.T.2.2.2.1.1 w hw).2.2.1 hS C.ow (C.ts _ hl) (fun x hx => hx) hd k1
theorem wp_getfSc {w : Nat} (hd : decode cc pc0 = .ok (.getfield idx, 3)) (e : pc = pc0) (hl : Cond.fieldLink y.cls idx "java/lang/String" "coder" "B" ∈ lw_all) (hw : w < stT.length) (kk : WP g d y cc nL ret (pc0 + 3) ls (.int 0 :: st) h c n Q) : WP g d y cc nL ret pc ls (.ref (1000000000 + (100 + w)) :: st) h c n Q := by
  subst e
  intro p l e R s m args below meth cd H locs cells slots arr C hS hP hl' hc hn
  have k1 := kk p l e R s m args below meth cd H locs cells slots arr C hS hP hl' hc hn
  rw [List.map_cons, g_cvP]
  exact vk_getf C.1 C.2.1 (C.T.2.2.2.1.1 w hw).2.1 hS C.ow (C.ts _ hl) (fun x hx => hx) hd k1
theorem wp_alenS {w : Nat} (hd : decode cc pc0 = .ok (.arraylength, 1)) (e : pc = pc0) (hw : w < stT.length) (kk : WP g d y cc nL ret (pc0 + 1) ls (.int (nI (stL.getD w 0)) :: st) h c n Q) : WP g d y cc nL ret pc ls (.ref (1000000000 + (200 + w)) :: st) h c n Q := by
  subst e
  intro p l e R s m args below meth cd H locs cells slots arr C hS hP hl' hc hn
  have k1 := kk p l e R s m args below meth cd H locs cells slots arr C hS hP hl' hc hn
  rw [List.map_cons, g_cvP]
  exact va_tlen C.1 C.2.1 (C.T.2.2.2.1.1 w hw).2.2.2 hS rfl hd k1
theorem wp_baloadS {w j : Nat} {i : Int32} (hd : decode cc pc0 = .ok (.baload, 1)) (e : pc = pc0) (hw : w < stT.length) (hx : i = nI j) (hj : j < stL.getD w 0) (hl2 : stL.getD w 0 < 2147483648) (kk : WP g d y cc nL ret (pc0 + 1) ls (.int ((stB.getD w []).getD j 0) :: st) h c n Q) : WP g d y cc nL ret pc ls (.int i :: .ref (1000000000 + (200 + w)) :: st) h c n Q := by
  subst e
  subst hx
  intro p l e R s m args below meth cd H locs cells slots arr C hS hP hl' hc hn
  have k1 := kk p l e R s m args below meth cd H locs cells slots arr C hS hP hl' hc hn
  rw [List.map_cons, List.map_cons, g_cvP]
  exact va_tb C.1 C.2.1 (C.T.2.2.2.1.1 w hw).2.2.2 hS (vp_in_nI hj hl2) (by rw [nI_clamp (by omega)]; rfl) hd k1
/-- a call on a string constant -/
theorem wp_callVS {w : Nat} (hd : decode cc pc0 = .ok (.invokevirtual idx, 3)) (e : pc = pc0) (hl : Cond.methodLink y.cls idx y2 ∈ lw_all) (hM : MV y2 cc2 nL2 ret2 n2) (hwl : w < stT.length) (hr1 : y2.cls = "java/lang/String") (hsp : SPx g d2 0 0 y2 cc2 nL2 ret2 (.ref (1000000000 + (100 + w)) :: as) h (some v) h) (hst : as.reverse ++ .ref (1000000000 + (100 + w)) :: rest = st) (hlen : as.length = n2) (hdd : d2 + 1 ≤ d) (hw : (rest.map fun v => v.category).sum ≤ 8) (kk : WP g d y cc nL ret (pc0 + 3) ls (v :: rest) h c n Q) (hnt : g_nt (some v) = true := by rfl) : WP g d y cc nL ret pc ls st h c n Q := by
  subst e
  subst hst
  intro p l e R s m args below meth cd H locs cells slots arr C hS hP hl' hc hn
  obtain ⟨w1, w2, w3, w4, ⟨x1, x2, x3⟩, x4⟩ := hM
  rw [g_args]
  refine W.loose (Nat.le_refl _) fun hz => ?_
  refine g_call (rest := rest.map (g_cv g)) hS (va_runV (Ts := lw_all) (As := as.map (g_cv g)) ⟨C.1, C.2.1, C.ml, C.ow, C.ts⟩ (SP.met hsp (fun v' h' q => by rw [q.1]; exact hnt) l C.lst) (cwV n2 C.ts (lw_V hl w1 w2 w3 w4) rfl rfl rfl ⟨rfl, x1, x2, x3⟩ ⟨Nat.le_trans hdd C.2.2.2.2.2.2.2.2.2.1, ?_⟩) ⟨g_blind, ?_, ?_⟩ rfl (by rw [List.length_map]; exact hlen) hl'.1 rfl (lv_room (by rw [g_cats]; exact hw)) hd ⟨by omega, by omega⟩) (fun v' h1 H1 locs1 q1 q2 q3 => ?_)
  · have h1 := C.2.2.2.2.2.2.2.2.2.2.1
    show 8 + (nL2 + 11) + 40 * d2 ≤ R.locals
    omega
  · rw [hr1, g_adP]
    have q := vk_recv (i := w) C.T.2.2.2.1 hwl hS
    exact q
  · have h1 := C.2.2.2.2.2.2.2.2.2.2.2.1
    exact g_pcs (as := .ref _ :: as) C hS hP (by omega)
  · rw [g_stk]
    obtain ⟨rfl, rfl⟩ := q1
    exact kk p l e R s m args below meth cd H1 locs1 (cells + 0) (slots + 0) arr C q2 q3 hl' (by omega) (by omega)
/-! casts, new objects' first call -/
theorem wp_castO {a : Nat} (hd : decode cc pc0 = .ok (.checkcast idx, 3)) (e : pc = pc0) (hl : Cond.classLink y.cls idx r.1 ∈ lw_all) (hb : h[a]? = some (.inr (ci, fs))) (hr : clT[ci]? = some r) (kk : WP g d y cc nL ret (pc0 + 3) ls (.ref a :: st) h c n Q) : WP g d y cc nL ret pc ls (.ref a :: st) h c n Q := by
  subst e
  exact WP.lift (fun C hS hP hl' k => va_castE C.1 C.2.1 C.ow (C.ts _ hl) (g_recv C hP hb hr) hd k) kk
theorem g_RAn {U : State} {cA : ClassId} {ty : FieldType} (h : va_RA U cA ty) (hp : refKind ty = false) : U.vm.findClass ("[" ++ ty.toString) = some cA := by cases ty <;> first | exact h | cases hp
theorem wp_castA {a t : Nat} {x : AV} {ty : FieldType} (hd : decode cc pc0 = .ok (.checkcast idx, 3)) (e : pc = pc0) (hl : Cond.classLink y.cls idx ("[" ++ ty.toString) ∈ lw_all) (ht : (g_tys g)[t]? = some (g.2.1 t, ty)) (hp : refKind ty = false) (ha : h[a]? = some (.inl (t, x))) (kk : WP g d y cc nL ret (pc0 + 3) ls (.ref a :: st) h c n Q) : WP g d y cc nL ret pc ls (.ref a :: st) h c n Q := by
  subst e
  exact WP.lift (fun C hS hP hl' k => va_castA C.1 C.2.1 C.ow (C.ts _ hl) hP.2.1 (g_ix h a) (g_P.at ha rfl) (g_RAn (C.K.2 t _ ht).2 hp) hd k) kk
theorem wp_castN (hd : decode cc pc0 = .ok (.checkcast idx, 3)) (e : pc = pc0) (kk : WP g d y cc nL ret (pc0 + 3) ls (.null :: st) h c n Q) : WP g d y cc nL ret pc ls (.null :: st) h c n Q := by
  subst e
  refine WP.lift (fun {p l e R s m args below meth cd H locs cells slots arr Z} C hS hP hl' k => ?_) kk
  intro T hT X
  obtain ⟨t, a1, b1⟩ := k T hT X
  exact ⟨t, X.checkcastNull C.1 (g := F0 m pc arr (.null :: st.map (g_cv g))) rfl rfl (by rw [C.2.1]; exact hd) t a1, b1⟩
theorem g_cellA {U : State} {H : Heap} {t a : Nat} {x : AV} {ty : FieldType} (hK : va_K g.1 clT (g_tys g) U) (hP : g_P g h H) (ht : (g_tys g)[t]? = some (g.2.1 t, ty)) (hp : refKind ty = false) (ha : h[a]? = some (.inl (t, x))) : ∃ cell : Cell, H[g_ad g a]? = some cell ∧ cell.vm.isStatics = false ∧ U.vm.findClass ("[" ++ ty.toString) = some cell.cls := by
  have h1 : H[g_ad g a]? = some (vp_cell (g.2.1 t) (g_va g x)) := hP.2.1 _ _ (g_P.at ha rfl)
  refine ⟨_, h1, ?_, ?_⟩
  · obtain ⟨n, f | f | f⟩ := x <;> rfl
  · rw [g_RAn (hK.2 t _ ht).2 hp]
    obtain ⟨n, f | f | f⟩ := x <;> rfl
theorem wp_instA {a t : Nat} {x : AV} {ty : FieldType} (hd : decode cc pc0 = .ok (.instanceof idx, 3)) (e : pc = pc0) (hl : Cond.classLink y.cls idx ("[" ++ ty.toString) ∈ lw_all) (ht : (g_tys g)[t]? = some (g.2.1 t, ty)) (hp : refKind ty = false) (ha : h[a]? = some (.inl (t, x))) (kk : WP g d y cc nL ret (pc0 + 3) ls (.int 1 :: st) h c n Q) : WP g d y cc nL ret pc ls (.ref a :: st) h c n Q := by
  subst e
  exact WP.lift (fun C hS hP hl' k => va_instE C.1 C.2.1 C.ow (C.ts _ hl) (g_cellA C.K hP ht hp ha) hd k) kk
theorem wp_instA0 {a t : Nat} {x : AV} {ty : FieldType} {nm : String} (hd : decode cc pc0 = .ok (.instanceof idx, 3)) (e : pc = pc0) (hl : Cond.classLink y.cls idx nm ∈ lw_all) (ht : (g_tys g)[t]? = some (g.2.1 t, ty)) (hp : refKind ty = false) (hnc : ("[" ++ ty.toString, nm) ∈ ncT) (ha : h[a]? = some (.inl (t, x))) (kk : WP g d y cc nL ret (pc0 + 3) ls (.int 0 :: st) h c n Q) : WP g d y cc nL ret pc ls (.ref a :: st) h c n Q := by
  subst e
  exact WP.lift (fun C hS hP hl' k => va_instNo C.1 C.2.1 C.ow (C.ts _ hl) (C.T.1.2 _ hnc) (g_cellA C.K hP ht hp ha) hd k) kk
theorem wp_instN (hd : decode cc pc0 = .ok (.instanceof idx, 3)) (e : pc = pc0) (kk : WP g d y cc nL ret (pc0 + 3) ls (.int 0 :: st) h c n Q) : WP g d y cc nL ret pc ls (.null :: st) h c n Q := by
  subst e
  refine WP.lift (fun {p l e R s m args below meth cd H locs cells slots arr Z} C hS hP hl' k => ?_) kk
  intro T hT X
  obtain ⟨t, a1, b1⟩ := k T hT X
  exact ⟨t, X.instanceofNull C.1 (g := F0 m pc arr (.null :: st.map (g_cv g))) rfl rfl (by rw [C.2.1]; exact hd) t a1, b1⟩
end RT
