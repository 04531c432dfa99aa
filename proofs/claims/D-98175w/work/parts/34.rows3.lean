/-! ===== making cells; calls ===== -/
section RC
variable {g : GW} {d : Nat} {y : MethodName} {cc : ByteArray} {nL : Nat} {ret : Option FieldType} {pc pc0 : Nat} {ls : List (Option Value)} {st : List Value} {h h' : AH} {c n : Nat} {Q : Option Value → AH → Prop}
theorem g_new {p : Program} {l : Launch} {e : Env} {R : Room} {s : State} {m : MethodId} {args : Array Value} {below : List Frame} {meth : Method} {cd : Code} {H : Heap} {locs : List Loc} {cells slots c1 n1 : Nat} {Z : State → Prop} {j : JFrame} {j1 : Nat → JFrame} {e1 : AE} (hP : g_P g h H) (hS : va_S (g_A g) s.heap H locs) (hR : s.heap.size + R.cells ≤ g_sz g + 999999999) (hc : cells + (1 + c1) ≤ R.cells) (he : isJ e1 = false)
    (row : (∀ H1 : Heap, H1.size = H.size + 1 → (∀ x : Nat, x < H.size → H1[x]? = H[x]?) → va_at g.1 clT (H.size, g_ce g e1) H1 → W p l e R s m args below meth cd H1 locs (cells + 1) (slots + n1) Z (j1 H.size)) → W p l e R s m args below meth cd H locs cells slots Z j)
    (kk : ∀ H1 : Heap, va_S (g_A g) s.heap H1 locs → g_P g (h ++ [e1]) H1 → W p l e R s m args below meth cd H1 locs (cells + 1) (slots + n1) Z (j1 (g_ad g h.length))) : W p l e R s m args below meth cd H locs cells slots Z j := by
  refine W.loose (Nat.le_refl _) fun hz => row fun H1 z1 o1 hat => ?_
  have h1 := hP.1
  obtain ⟨e2, h2⟩ := hP.push z1 o1 (by omega) he hat
  rw [e2]
  exact kk H1 ⟨Nat.le_trans hS.1 (by omega), fun x g1 g2 => (o1 x (Nat.lt_of_lt_of_le g1 hS.1)).trans (hS.2.1 x g1 g2), hS.2.2⟩ h2
/-- new: an object of a class of clT with its fields' first values -/
def NW (ci : Nat) (C : String) (fs : List Value) : Prop := ∃ (T : u_T) (N : Nat) (ty : Nat → FieldType), clT[ci]? = some (C, T, N) ∧ fs.length = N ∧ (∀ w ∈ u_ws C T N, w ∈ lw_all) ∧ (∀ k, k < N → parseFieldDescriptor (T k).2.2.1 = some (ty k)) ∧ Cond.instantiable C N ∈ lw_all ∧ Cond.initialized C ∈ lw_all ∧ (∀ j, j < N → defaultValue (ty j) = vp_V fs j)
theorem dflt_cv (g : GW) (ty : FieldType) : g_cv g (defaultValue ty) = defaultValue ty := by cases ty <;> rfl
theorem wp_new {idx ci : Nat} {C : String} {fs : List Value} (hd : decode cc pc0 = .ok (.new idx, 3)) (e : pc = pc0) (hl : Cond.classLink y.cls idx C ∈ lw_all) (hN : NW ci C fs) (kk : WP g d y cc nL ret (pc0 + 3) ls (.ref h.length :: st) (h ++ [.inr (ci, fs)]) c n Q) : WP g d y cc nL ret pc ls st h (1 + c) (fs.length + n) Q := by
  subst e
  obtain ⟨T, N, ty, q1, q2, q3, q4, q5, q6, q7⟩ := hN
  intro p l e R s m args below meth cd H locs cells slots arr C1 hS hP hl' hc hn
  refine g_new (e1 := .inr (ci, fs)) (n1 := N) (j1 := fun q => F0 m (pc + 3) arr (.ref q :: st.map (g_cv g))) hP hS C1.2.2.2.2.2.2.2.2.2.2.2.1 hc (nj q1) (fun kr => ?_) (fun H1 g1 g2 => kk p l e R s m args below meth cd H1 locs (cells + 1) (slots + N) arr C1 g1 g2 hl' (by omega) (by omega))
  have hKn := C1.K.1 ci _ q1
  refine W.newcK C1.1 C1.2.1 C1.ow (C1.ts _ hl) (C1.ts _ q5) (C1.ts _ q6) rfl hd (by omega) (by omega) hKn.2.1 rfl fun H1 kC hkC e1 z1 o1 => ?_
  refine kr H1 z1 o1 ⟨_, q1, (u_born ty C1.ts q3 hKn hkC e1 q4).to (fun j hj => ?_)⟩
  rw [q7 j hj]
  unfold vp_V
  rw [List.getD_eq_getElem?_getD, List.getD_eq_getElem?_getD, List.getElem?_map]
  have h2 := q7 j hj
  unfold vp_V at h2
  rw [List.getD_eq_getElem?_getD] at h2
  cases hf : fs[j]? with
  | none => rfl
  | some v =>
    rw [hf] at h2
    show v = g_cv g v
    have h3 : defaultValue (ty j) = v := h2
    rw [← h3, dflt_cv]
theorem g_aty {g : GW} {s : State} {t : Nat} {ty : FieldType} {cA : ClassId} (h1 : va_RA s (g.2.1 t) ty) (h2 : va_RA s cA ty) : cA = g.2.1 t := by
  cases ty with
  | object C =>
    obtain ⟨_, _, -, -, -, h3⟩ := h1
    obtain ⟨_, _, -, -, -, h4⟩ := h2
    exact Option.some.inj (h4.symm.trans h3)
  | _ => exact Option.some.inj (Eq.trans (Eq.symm h2) h1)
theorem wp_newarray {t N : Nat} {a : Int32} {at_ : ArrayType} {ty : FieldType} (x : AV) (hd : decode cc pc0 = .ok (.newarray at_, 2)) (e : pc = pc0) (hw : Cond.arrayClass (newarray.typeOf at_) ∈ lw_all) (hty : newarray.typeOf at_ = ty) (ht : (g_tys g)[t]? = some (g.2.1 t, ty)) (hx : ∀ cA : ClassId, vp_cell cA (g_va g x) = arrV cA N (fun _ => defaultValue ty)) (h0 : ¬ a < 0) (hN : a.toNatClampNeg = N) (hb : N * componentBytes ty ≤ 536870912) (kk : WP g d y cc nL ret (pc0 + 2) ls (.ref h.length :: st) (h ++ [.inl (t, x)]) c n Q) : WP g d y cc nL ret pc ls (.int a :: st) h (1 + c) (N + n) Q := by
  subst e
  subst hty
  intro p l e R s m args below meth cd H locs cells slots arr C1 hS hP hl' hc hn
  refine g_new (e1 := .inl (t, x)) (n1 := N) (j1 := fun q => F0 m (pc + 2) arr (.ref q :: st.map (g_cv g))) hP hS C1.2.2.2.2.2.2.2.2.2.2.2.1 hc rfl (fun kr => ?_) (fun H1 g1 g2 => kk p l e R s m args below meth cd H1 locs (cells + 1) (slots + N) arr C1 g1 g2 hl' (by omega) (by omega))
  refine va_newaK C1.1 C1.2.1 (C1.ts _ hw) rfl hd rfl h0 hN hb (by omega) (by omega) rfl fun H1 cA e1 z1 o1 hAr hNm => ?_
  have e2 : cA = g.2.1 t := g_aty (C1.K.2 t _ ht).2 (by cases at_ <;> exact hNm)
  subst e2
  refine kr H1 z1 o1 ?_
  show H1[H.size]? = some (vp_cell _ _)
  rw [hx]
  exact e1
theorem wp_anewarray {t N idx : Nat} {a : Int32} {E : String} (hd : decode cc pc0 = .ok (.anewarray idx, 3)) (e : pc = pc0) (hl : Cond.classLink y.cls idx E ∈ lw_all) (ho : E ∈ aoT) (ht : (g_tys g)[t]? = some (g.2.1 t, .object E)) (h0 : ¬ a < 0) (hN : a.toNatClampNeg = N) (hb : N ≤ 134217728) (kk : WP g d y cc nL ret (pc0 + 3) ls (.ref h.length :: st) (h ++ [.inl (t, N, .inr (.inr (fun _ => none)))]) c n Q) : WP g d y cc nL ret pc ls (.int a :: st) h (1 + c) (N + n) Q := by
  subst e
  subst hN
  intro p l e R s m args below meth cd H locs cells slots arr C1 hS hP hl' hc hn
  refine g_new (e1 := .inl (t, a.toNatClampNeg, .inr (.inr (fun _ => none)))) (n1 := a.toNatClampNeg) (j1 := fun q => F0 m (pc + 3) arr (.ref q :: st.map (g_cv g))) hP hS C1.2.2.2.2.2.2.2.2.2.2.2.1 hc rfl (fun kr => ?_) (fun H1 g1 g2 => kk p l e R s m args below meth cd H1 locs (cells + 1) (slots + a.toNatClampNeg) arr C1 g1 g2 hl' (by omega) (by omega))
  refine W.anew C1.1 C1.2.1 C1.ow (C1.ts _ hl) (va_AO.use (C1.sta.2.2.2.1.1 _ ho)) rfl hd rfl h0 (by omega) (by omega) (by omega) fun cA kA comp f1 f2 f3 f4 => ?_
  have e2 : cA = g.2.1 t := g_aty (C1.K.2 t _ ht).2 ⟨kA, comp, f2, f3, f4, f1⟩
  generalize hH1 : H.push ({ cls := cA, slots := Array.replicate a.toNatClampNeg .null, vm := .none } : Cell) = H1
  refine kr H1 (by rw [← hH1, Array.size_push]) (fun q hq => by rw [← hH1, Array.getElem?_push, if_neg (Nat.ne_of_lt hq)]) ?_
  show H1[H.size]? = some (arrV (g.2.1 t) a.toNatClampNeg (fun _ => .null))
  rw [← e2, ← hH1, Array.getElem?_push_size, ← arrV_new]
/-! calls -/
theorem g_blind {as : List Value} {c : Nat} : FrameBlind (g_Pc g as h c) := fun a U j mk q => ⟨q.1, q.2.1, g_S.same (u := U) (U := U.calling j mk a) rfl q.2.2.1, q.2.2.2⟩
theorem g_pcs {p : Program} {l : Launch} {R : Room} {s : State} {m : MethodId} {args : Array Value} {meth : Method} {cd : Code} {H : Heap} {locs : List Loc} {as : List Value} {c2 : Nat} (C : g_C g d y cc nL ret p l R s m args meth cd) (hS : va_S (g_A g) s.heap H locs) (hP : g_P g h H) (hz : H.size + c2 ≤ g_sz g + 999999999) : ∀ U : State, U.heap = H → s.WarmedH U.vm → g_Pc g as h c2 (as.map (g_cv g)).toArray U := by
  intro U hU hW
  refine ⟨rfl, by rw [hU]; exact hP, ?_, by rw [hU]; exact hz⟩
  rw [hU]
  have hge : g_sz g ≤ s.heap.size := C.2.2.2.2.2.2.2.2.2.2.2.2.1
  exact g_S.warm hW (C.sta.kept (fun a ha => hS.2.1 a (Nat.lt_of_lt_of_le ha hge) (Nat.not_le.mpr ha)))
theorem g_call {p : Program} {l : Launch} {e : Env} {R : Room} {s : State} {m : MethodId} {args : Array Value} {below : List Frame} {meth : Method} {cd : Code} {H : Heap} {locs : List Loc} {cells slots mc ms : Nat} {Z : State → Prop} {arr : Array Slot} {st0 rest : List Value} {a : Array Value} {Q2 : Option Value → AH → Prop} (hS : va_S (g_A g) s.heap H locs) (hr : va_Run p l e R s m args below meth cd H locs cells slots mc ms (F0 m pc arr st0) rest (g_Q g Q2 a) (g_A g))
    (kk : ∀ (v : Option Value) (h1 : AH) (H1 : Heap) (locs1 : List Loc), Q2 v h1 → va_S (g_A g) s.heap H1 locs1 → g_P g h1 H1 → W p l e R s m args below meth cd H1 locs1 (cells + mc) (slots + ms) Z (F0 m (pc + 3) arr ((v.map (g_cv g)).toList ++ rest))) : W p l e R s m args below meth cd H locs cells slots Z (F0 m pc arr st0) := by
  intro T hT X
  obtain ⟨v, st₀, t, T', L, h0, X', hL, e1, e2, ⟨v1, h1, hv, hq, hp, hz, hk⟩, stp⟩ := hr T hT X
  have hv1 : v = v1.map (g_cv g) := by cases hv.1; rfl
  subst hv1
  rw [h0] at hz hk
  obtain ⟨t2, a1, b1⟩ := kk v1 h1 T'.heap (locs ++ L) hq ⟨Nat.le_trans hS.1 (by rw [e1]; exact hz), fun q g1 g2 => by rw [e1, hk q (Nat.lt_of_lt_of_le g1 hS.1) g2]; exact hS.2.1 q g1 g2, fun q hq => by
      rcases List.mem_append.mp hq with h | h
      · exact hS.2.2 q h
      · exact hL q h⟩ (by rw [e1]; exact hp) T' rfl X'
  exact ⟨t2, stp t2 a1, b1⟩
theorem g_call5 {p : Program} {l : Launch} {e : Env} {R : Room} {s : State} {m : MethodId} {args : Array Value} {below : List Frame} {meth : Method} {cd : Code} {H : Heap} {locs : List Loc} {cells slots mc ms : Nat} {Z : State → Prop} {arr : Array Slot} {st0 rest : List Value} {a : Array Value} {Q2 : Option Value → AH → Prop} (hS : va_S (g_A g) s.heap H locs) (hr : va_Run5 p l e R s m args below meth cd H locs cells slots mc ms (F0 m pc arr st0) rest (g_Q g Q2 a) (g_A g))
    (kk : ∀ (v : Option Value) (h1 : AH) (H1 : Heap) (locs1 : List Loc), Q2 v h1 → va_S (g_A g) s.heap H1 locs1 → g_P g h1 H1 → W p l e R s m args below meth cd H1 locs1 (cells + mc) (slots + ms) Z (F0 m (pc + 5) arr ((v.map (g_cv g)).toList ++ rest))) : W p l e R s m args below meth cd H locs cells slots Z (F0 m pc arr st0) := by
  intro T hT X
  obtain ⟨v, st₀, t, T', L, h0, X', hL, e1, e2, ⟨v1, h1, hv, hq, hp, hz, hk⟩, stp⟩ := hr T hT X
  have hv1 : v = v1.map (g_cv g) := by cases hv.1; rfl
  subst hv1
  rw [h0] at hz hk
  obtain ⟨t2, a1, b1⟩ := kk v1 h1 T'.heap (locs ++ L) hq ⟨Nat.le_trans hS.1 (by rw [e1]; exact hz), fun q g1 g2 => by rw [e1, hk q (Nat.lt_of_lt_of_le g1 hS.1) g2]; exact hS.2.1 q g1 g2, fun q hq => by
      rcases List.mem_append.mp hq with h | h
      · exact hS.2.2 q h
      · exact hL q h⟩ (by rw [e1]; exact hp) T' rfl X'
  exact ⟨t2, stp t2 a1, b1⟩
theorem g_stk (g : GW) (v : Option Value) (rest : List Value) : ((v.map (g_cv g)).toList ++ rest.map (g_cv g)) = (v.toList ++ rest).map (g_cv g) := by cases v <;> rfl
theorem g_args (g : GW) (as : List Value) (b : Nat) (rest : List Value) : (as.reverse ++ .ref b :: rest).map (g_cv g) = (as.map (g_cv g)).reverse ++ .ref (g_ad g b) :: rest.map (g_cv g) := by
  rw [List.map_append, List.map_reverse]
  rfl
theorem g_recv {p : Program} {l : Launch} {R : Room} {s : State} {m : MethodId} {args : Array Value} {meth : Method} {cd : Code} {H : Heap} {b ci : Nat} {fs : List Value} {r : vw_C} (C : g_C g d y cc nL ret p l R s m args meth cd) (hP : g_P g h H) (hb : h[b]? = some (.inr (ci, fs))) (hr : clT[ci]? = some r) : ∃ cell : Cell, H[g_ad g b]? = some cell ∧ cell.vm.isStatics = false ∧ s.vm.findClass r.1 = some cell.cls := va_recv C.K hP.2.1 hr (g_P.at hb (nj hr))
/-- a callee that does not throw -/
theorem SP.met {as : List Value} {Q2 : Option Value → AH → Prop} {d2 c2 m2 nL2 : Nat} {y2 : MethodName} {cc2 : ByteArray} {ret2 : Option FieldType} (hsp : SP g d2 c2 m2 y2 cc2 nL2 ret2 as h Q2) (hnt : ∀ v h1, Q2 v h1 → g_nt v = true) (l : Launch) (hl : l.stackTraces = false) : Met l y2 (ws_ y2 cc2 nL2 ret2) ({ frames := d2, cells := c2, slots := m2, locals := 40 * d2 }) (g_Pc g as h c2) (g_Q g Q2) c2 m2 (g_A g) := by
  intro p e a1 a2 a3 s m args below b1 b2 b3 b4
  obtain ⟨n, o, w1, w2, w3, w4⟩ := hsp l hl p e a1 a2 a3 s m args below b1 b2 b3 b4
  refine ⟨n, o, w1, w2, w3, ?_⟩
  rcases w4 with w4 | ⟨q, rfl, E, ce, L, ⟨v, h', x1, x2, -⟩, -⟩
  · exact w4
  · have x3 := hnt v h' x2
    cases v with
    | none => exact absurd x1 id
    | some v => cases v <;> first | exact absurd x1 id | cases x3
def notMH (y : MethodName) (n : Nat) : Prop := y.cls ≠ "java/lang/invoke/MethodHandle" ∧ y.cls ≠ "java/lang/invoke/VarHandle" ∧ (parseMethodDescriptor y.desc).map (fun d => d.parameters.length) = some n
/-- an instance method, called at its own class -/
def MV (y : MethodName) (cc : ByteArray) (nL : Nat) (ret : Option FieldType) (n : Nat) : Prop := Cond.instanceMethod y ∈ lw_all ∧ Cond.selects y.cls y y ∈ lw_all ∧ Cond.initialized y.cls ∈ lw_all ∧ Cond.code y cc nL ret ∈ lw_all ∧ notMH y n ∧ nL ≤ 21
def MS (y : MethodName) (cc : ByteArray) (nL : Nat) (ret : Option FieldType) (n : Nat) : Prop := Cond.static y ∈ lw_all ∧ Cond.initialized y.cls ∈ lw_all ∧ Cond.code y cc nL ret ∈ lw_all ∧ notMH y n ∧ nL ≤ 21
def MI (y : MethodName) (cc : ByteArray) (nL : Nat) (n : Nat) : Prop := Cond.instanceMethod y ∈ lw_all ∧ y.name = "<init>" ∧ Cond.initialized y.cls ∈ lw_all ∧ Cond.code y cc nL none ∈ lw_all ∧ notMH y n ∧ nL ≤ 21
variable {b ci idx n2 d2 c2 m2 nL2 : Nat} {y2 : MethodName} {cc2 : ByteArray} {ret2 : Option FieldType} {as rest fs : List Value} {r : vw_C} {Q2 : Option Value → AH → Prop}
theorem wp_callV (hd : decode cc pc0 = .ok (.invokevirtual idx, 3)) (e : pc = pc0) (hl : Cond.methodLink y.cls idx y2 ∈ lw_all) (hM : MV y2 cc2 nL2 ret2 n2) (hb : h[b]? = some (.inr (ci, fs))) (hr : clT[ci]? = some r) (hr1 : r.1 = y2.cls) (hsp : SP g d2 c2 m2 y2 cc2 nL2 ret2 (.ref b :: as) h Q2) (hst : as.reverse ++ .ref b :: rest = st) (hlen : as.length = n2) (hdd : d2 + 1 ≤ d) (hw : (rest.map fun v => v.category).sum ≤ 8) (hc2 : c2 ≤ c) (hm2 : m2 ≤ n) (hnt : ∀ v h1, Q2 v h1 → g_nt v = true) (kk : ∀ (v : Option Value) (h1 : AH), Q2 v h1 → WP g d y cc nL ret (pc0 + 3) ls (v.toList ++ rest) h1 (c - c2) (n - m2) Q) : WP g d y cc nL ret pc ls st h c n Q := by
  subst e
  subst hst
  intro p l e R s m args below meth cd H locs cells slots arr C hS hP hl' hc hn
  obtain ⟨w1, w2, w3, w4, ⟨x1, x2, x3⟩, x4⟩ := hM
  rw [g_args]
  refine W.loose (Nat.le_refl _) fun hz => ?_
  refine g_call (rest := rest.map (g_cv g)) hS (va_runV (Ts := lw_all) (As := as.map (g_cv g)) ⟨C.1, C.2.1, C.ml, C.ow, C.ts⟩ (hsp.met hnt l C.lst) (cwV n2 C.ts (lw_V hl w1 w2 w3 w4) rfl rfl rfl ⟨rfl, x1, x2, x3⟩ ⟨Nat.le_trans hdd C.2.2.2.2.2.2.2.2.2.1, ?_⟩) ⟨g_blind, ?_, ?_⟩ rfl (by rw [List.length_map]; exact hlen) hl'.1 rfl (lv_room (by rw [g_cats]; exact hw)) hd ⟨by omega, by omega⟩) (fun v h1 H1 locs1 q1 q2 q3 => ?_)
  · have h1 := C.2.2.2.2.2.2.2.2.2.2.1
    show 8 + (nL2 + 11) + 40 * d2 ≤ R.locals
    omega
  · rw [← hr1]
    exact g_recv C hP hb hr
  · have h1 := C.2.2.2.2.2.2.2.2.2.2.2.1
    exact g_pcs (as := .ref b :: as) C hS hP (by omega)
  · rw [g_stk]
    exact kk v h1 q1 p l e R s m args below meth cd H1 locs1 (cells + c2) (slots + m2) arr C q2 q3 hl' (by omega) (by omega)
theorem wp_callS (hd : decode cc pc0 = .ok (.invokestatic idx, 3)) (e : pc = pc0) (hl : Cond.methodLink y.cls idx y2 ∈ lw_all) (hM : MS y2 cc2 nL2 ret2 n2) (hsp : SP g d2 c2 m2 y2 cc2 nL2 ret2 as h Q2) (hst : as.reverse ++ rest = st) (hlen : as.length = n2) (hdd : d2 + 1 ≤ d) (hw : (rest.map fun v => v.category).sum ≤ 8) (hc2 : c2 ≤ c) (hm2 : m2 ≤ n) (hnt : ∀ v h1, Q2 v h1 → g_nt v = true) (kk : ∀ (v : Option Value) (h1 : AH), Q2 v h1 → WP g d y cc nL ret (pc0 + 3) ls (v.toList ++ rest) h1 (c - c2) (n - m2) Q) : WP g d y cc nL ret pc ls st h c n Q := by
  subst e
  subst hst
  intro p l e R s m args below meth cd H locs cells slots arr C hS hP hl' hc hn
  obtain ⟨w1, w3, w4, ⟨x1, x2, x3⟩, x4⟩ := hM
  rw [List.map_append, List.map_reverse]
  refine W.loose (Nat.le_refl _) fun hz => ?_
  refine g_call (rest := rest.map (g_cv g)) hS (va_runS (Ts := lw_all) (own := y.cls) (As := as.map (g_cv g)) ⟨C.1, C.2.1, C.ml, C.ow, C.ts⟩ (hsp.met hnt l C.lst) (va_cwS n2 C.ts (lw_S hl w1 w3 w4) rfl rfl rfl ⟨x1, x2, x3⟩ ⟨Nat.le_trans hdd C.2.2.2.2.2.2.2.2.2.1, ?_⟩) ⟨g_blind, ?_⟩ rfl (by rw [List.length_map]; exact hlen) hl'.1 rfl (lv_room (by rw [g_cats]; exact hw)) hd ⟨by omega, by omega⟩) (fun v h1 H1 locs1 q1 q2 q3 => ?_)
  · have h1 := C.2.2.2.2.2.2.2.2.2.2.1
    show 8 + (nL2 + 11) + 40 * d2 ≤ R.locals
    omega
  · have h1 := C.2.2.2.2.2.2.2.2.2.2.2.1
    exact g_pcs (as := as) C hS hP (by omega)
  · rw [g_stk]
    exact kk v h1 q1 p l e R s m args below meth cd H1 locs1 (cells + c2) (slots + m2) arr C q2 q3 hl' (by omega) (by omega)
theorem wp_callI (hd : decode cc pc0 = .ok (.invokespecial idx, 3)) (e : pc = pc0) (hl : Cond.methodLink y.cls idx y2 ∈ lw_all) (hM : MI y2 cc2 nL2 n2) (hsp : SP g d2 c2 m2 y2 cc2 nL2 none (.ref b :: as) h Q2) (hst : as.reverse ++ .ref b :: rest = st) (hlen : as.length = n2) (hdd : d2 + 1 ≤ d) (hw : (rest.map fun v => v.category).sum ≤ 8) (hc2 : c2 ≤ c) (hm2 : m2 ≤ n) (hnt : ∀ v h1, Q2 v h1 → g_nt v = true) (kk : ∀ (v : Option Value) (h1 : AH), Q2 v h1 → WP g d y cc nL ret (pc0 + 3) ls (v.toList ++ rest) h1 (c - c2) (n - m2) Q) : WP g d y cc nL ret pc ls st h c n Q := by
  subst e
  subst hst
  intro p l e R s m args below meth cd H locs cells slots arr C hS hP hl' hc hn
  obtain ⟨w1, w2, w3, w4, ⟨x1, x2, x3⟩, x4⟩ := hM
  rw [g_args]
  refine W.loose (Nat.le_refl _) fun hz => ?_
  refine g_call (rest := rest.map (g_cv g)) hS (va_runI (Ts := lw_all) (own := y.cls) (As := as.map (g_cv g)) ⟨C.1, C.2.1, C.ml, C.ow, C.ts⟩ (hsp.met hnt l C.lst) (cwI n2 C.ts (lw_meth w4) rfl rfl rfl (C.ts _ w3) (C.ts _ hl) (C.ts _ w1) w2 ⟨x1, x2, x3⟩ ⟨Nat.le_trans hdd C.2.2.2.2.2.2.2.2.2.1, ?_⟩) ⟨g_blind, ?_⟩ rfl (by rw [List.length_map]; exact hlen) hl'.1 rfl (lv_room (by rw [g_cats]; exact hw)) hd ⟨by omega, by omega⟩) (fun v h1 H1 locs1 q1 q2 q3 => ?_)
  · have h1 := C.2.2.2.2.2.2.2.2.2.2.1
    show 8 + (nL2 + 11) + 40 * d2 ≤ R.locals
    omega
  · have h1 := C.2.2.2.2.2.2.2.2.2.2.2.1
    exact g_pcs (as := .ref b :: as) C hS hP (by omega)
  · rw [g_stk]
    exact kk v h1 q1 p l e R s m args below meth cd H1 locs1 (cells + c2) (slots + m2) arr C q2 q3 hl' (by omega) (by omega)
end RC
