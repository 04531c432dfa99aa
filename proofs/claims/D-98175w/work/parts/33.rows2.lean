/-! ===== rows of the heap ===== -/
/-- field k of class ci, as a field reference names it -/
def FK (ci k : Nat) (ref nm ds : String) : Prop := ∃ (C : String) (T : u_T) (N : Nat), clT[ci]? = some (C, T, N) ∧ k < N ∧ (T k).2.1 = nm ∧ (T k).2.2.1 = ds ∧ (∀ w ∈ u_ws C T N, w ∈ lw_all) ∧ ((T k).1 = ref ∨ Cond.sameField ref (T k).1 nm ds ∈ lw_all)
/-- the same, to write: final or not, its type, its declarer -/
def FP (ci k : Nat) (ref nm ds : String) (fin : Bool) (ty : FieldType) (dcl : String) : Prop := ∃ (C : String) (T : u_T) (N : Nat) (ty0 : Nat → FieldType), clT[ci]? = some (C, T, N) ∧ k < N ∧ (T k).2.1 = nm ∧ (T k).2.2.1 = ds ∧ (∀ w ∈ u_ws C T N, w ∈ lw_all) ∧ ((T k).1 = ref ∨ Cond.sameField ref (T k).1 nm ds ∈ lw_all) ∧
  (∀ k, k < N → parseFieldDescriptor (T k).2.2.1 = some (ty0 k)) ∧ (∀ a, a < N → ∀ b, b < N → a ≠ b → (T a).2.1 ≠ (T b).2.1) ∧ (T k).2.2.2 = fin ∧ ty0 k = ty ∧ (T k).1 = dcl
theorem narrow_cv (g : GW) {ty : FieldType} {v : Value} (h : narrow ty v = v) : narrow ty (g_cv g v) = g_cv g v := by
  cases v with
  | ref a => cases ty <;> rfl
  | _ => exact h
theorem fits_cv (g : GW) {ty : FieldType} {v : Value} (h : fits ty v = true) : fits ty (g_cv g v) = true := by
  cases v with
  | ref a => cases ty <;> first | rfl | simp [fits] at h
  | _ => exact h
section TW
variable {p : Program} {l : Launch} {e : Env} {R : Room} {s : State} {m : MethodId} {args : Array Value} {below : List Frame} {meth : Method} {c : Code} {H : Heap} {locs : List Loc} {cells slots : Nat} {Z : State → Prop} {g : JFrame}
/-- the count of new cells made exact -/
theorem W.tight (h : ∀ k : Nat, H.size = s.heap.size + k → k ≤ cells → W p l e R s m args below meth c H locs k slots Z g) : W p l e R s m args below meth c H locs cells slots Z g := by
  intro T hT X
  have h1 : s.heap.size ≤ T.heap.size := X.same.2.1
  have h2 : T.heap.size ≤ s.heap.size + cells := X.heapSize
  obtain ⟨k, hk⟩ : ∃ k, T.heap.size = s.heap.size + k := ⟨T.heap.size - s.heap.size, by omega⟩
  exact h k (by rw [← hT]; exact hk) (by omega) T hT { X with same := ⟨X.same.1, X.same.2.1, Nat.le_of_eq hk, X.same.2.2.2⟩ }
theorem W.loose {k : Nat} (hk : k ≤ cells) (h : H.size ≤ s.heap.size + k → W p l e R s m args below meth c H locs cells slots Z g) : W p l e R s m args below meth c H locs k slots Z g :=
  fun T hT X => h (by rw [← hT]; exact X.heapSize) T hT (stand_widen X hk (Nat.le_refl _))
end TW
theorem va_S.base {A : Nat → Prop} {H0 H : Heap} {locs : List Loc} (h : va_S A H0 H locs) : va_S A H H locs := ⟨Nat.le_refl _, fun _ _ _ => rfl, h.2.2⟩
theorem va_S.on {A : Nat → Prop} {H0 H H1 : Heap} {locs locs1 : List Loc} (h : va_S A H0 H locs) (h1 : va_S A H H1 locs1) : va_S A H0 H1 locs1 :=
  ⟨Nat.le_trans h.1 h1.1, fun q a b => (h1.2.1 q (Nat.lt_of_lt_of_le a h.1) b).trans (h.2.1 q a b), h1.2.2⟩
/-- a cell was written -/
theorem g_P.set {g : GW} {h : AH} {H H1 : Heap} {i : Nat} {e0 e : AE} {x : Nat × va_E} (hP : g_P g h H) (hi : h[i]? = some e0) (hj0 : isJ e0 = false) (hj : isJ e = false) (hz : H1.size = H.size) (hx : x = (g_ad g i, g_ce g e)) (hP1 : va_P g.1 clT ((g_wsf g 0 h).set (g_ix h i) x) H1) (hD1 : va_D (g_A g) ((g_wsf g 0 h).set (g_ix h i) x)) : g_P g (h.set i e) H1 := by
  subst hx
  have e1 := g_wsf_set g h 0 i e0 e hi hj0 hj
  rw [Nat.zero_add] at e1
  rw [e1] at hP1 hD1
  exact ⟨by rw [hz, hP.1, List.length_set], hP1, hD1⟩
theorem g_ad_lt {g : GW} {i : Nat} (h : i < 1000000000) : g_ad g i = g_sz g + i := by unfold g_ad; rw [if_pos h]
/-- a cell was made: it is the next one -/
theorem g_P.push {g : GW} {h : AH} {H H1 : Heap} {e : AE} (hP : g_P g h H) (z1 : H1.size = H.size + 1) (o1 : ∀ x : Nat, x < H.size → H1[x]? = H[x]?) (hlen : h.length < 1000000000) (he : isJ e = false) (hat : va_at g.1 clT (H.size, g_ce g e) H1) : H.size = g_ad g h.length ∧ g_P g (h ++ [e]) H1 := by
  have had : H.size = g_ad g h.length := by rw [g_ad_lt hlen]; exact hP.1
  refine ⟨had, by rw [z1, hP.1, List.length_append, List.length_singleton, Nat.add_assoc], ?_, ?_⟩
  · rw [g_wsf_app g h 0 e he, Nat.zero_add]
    refine (hP.2.1.kept (fun k x hx => o1 x.1 ((hP.2.1 k x hx).lt))).app (fun k x hx => ?_)
    have hz : k < 1 := (List.getElem?_eq_some_iff.mp hx).1
    rw [show k = 0 by omega] at hx
    cases hx
    rw [← had]
    exact hat
  · rw [g_wsf_app g h 0 e he, Nat.zero_add]
    exact hP.2.2.push hP.2.1 had.symm (by show g_sz g ≤ g_ad g h.length; rw [g_ad_lt hlen]; exact Nat.le_add_right _ _)
/-- cells were made of which nothing is known -/
theorem g_P.junk {g : GW} {h : AH} {H H1 : Heap} (hP : g_P g h H) (hz : H.size ≤ H1.size) (o1 : ∀ x : Nat, x < H.size → H1[x]? = H[x]?) : g_P g (h ++ List.replicate (H1.size - H.size) jk) H1 := by
  refine ⟨?_, ?_, ?_⟩
  · have := hP.1
    rw [List.length_append, List.length_replicate]
    omega
  · rw [g_wsf_jks]
    exact hP.2.1.kept (fun k x hx => o1 x.1 ((hP.2.1 k x hx).lt))
  · rw [g_wsf_jks]
    exact hP.2.2
section RH
variable {g : GW} {d : Nat} {y : MethodName} {cc : ByteArray} {nL : Nat} {ret : Option FieldType} {pc pc0 : Nat} {ls : List (Option Value)} {st : List Value} {h h' : AH} {c n : Nat} {Q : Option Value → AH → Prop}
theorem FK.same {ci k : Nat} {ref nm ds : String} {s : State} {args : Array Value} {T : u_T} (ht : ∀ w ∈ lw_all, w.before args s = true) (h2 : (T k).2.1 = nm) (h3 : (T k).2.2.1 = ds) (h : (T k).1 = ref ∨ Cond.sameField ref (T k).1 nm ds ∈ lw_all) : ∀ x, s.fieldFound? (T k).1 (T k).2.1 (T k).2.2.1 = some x → s.fieldFound? ref (T k).2.1 (T k).2.2.1 = some x := by
  intro x hx
  rcases h with h | h
  · rw [← h]; exact hx
  · rw [h2, h3] at hx ⊢
    exact u_same (ht _ h) x hx
theorem wp_getf {a ci k idx : Nat} {fs : List Value} {v : Value} {ref nm ds : String} (hd : decode cc pc0 = .ok (.getfield idx, 3)) (e : pc = pc0) (hl : Cond.fieldLink y.cls idx ref nm ds ∈ lw_all) (hk : FK ci k ref nm ds) (ha : h[a]? = some (.inr (ci, fs))) (hv : fs[k]? = some v) (kk : WP g d y cc nL ret (pc0 + 3) ls (v :: st) h c n Q) : WP g d y cc nL ret pc ls (.ref a :: st) h c n Q := by
  subst e
  obtain ⟨C0, T, N, q1, q2, q3, q4, q5, q6⟩ := hk
  exact WP.lift (fun C hS hP hl' k => va_get C.1 C.2.1 C.ts q5 C.ow C.K hP.2.1 (g_ix h a) (g_P.at ha (nj q1)) q1 _ q2 (by rw [q3, q4]; exact C.ts _ hl) (FK.same (ci := ci) C.ts q3 q4 q6) (by show (fs.map (g_cv g))[_]? = _; rw [List.getElem?_map, hv]; rfl) hd k) kk
theorem wp_getfN {a ci k idx : Nat} {fs : List Value} {v : Value} {ref nm ds host : String} (hd : decode cc pc0 = .ok (.getfield idx, 3)) (e : pc = pc0) (hl : Cond.fieldLinkNest y.cls idx ref nm ds host ∈ lw_tbl) (hk : FK ci k ref nm ds) (ha : h[a]? = some (.inr (ci, fs))) (hv : fs[k]? = some v) (kk : WP g d y cc nL ret (pc0 + 3) ls (v :: st) h c n Q) : WP g d y cc nL ret pc ls (.ref a :: st) h c n Q := by
  subst e
  obtain ⟨C0, T, N, q1, q2, q3, q4, q5, q6⟩ := hk
  exact WP.lift (fun C hS hP hl' k => va_getN C.1 C.2.1 C.ts q5 C.ow C.K hP.2.1 (g_ix h a) (g_P.at ha (nj q1)) q1 _ q2 (by rw [q3, q4]; exact va_Nw.use rfl (C.sta.2.1 _ hl rfl)) (FK.same (ci := ci) C.ts q3 q4 q6) (by show (fs.map (g_cv g))[_]? = _; rw [List.getElem?_map, hv]; rfl) hd k) kk
theorem g_fset (g : GW) (a ci k : Nat) (fs : List Value) (v : Value) : ((g_ad g a, .inr (ci, (fs.map (g_cv g)).set k (g_cv g v))) : Nat × va_E) = (g_ad g a, g_ce g (.inr (ci, fs.set k v))) := by
  show _ = (g_ad g a, (.inr (ci, (fs.set k v).map (g_cv g)) : va_E))
  rw [List.map_set]
/-- after a store: the same number of cells -/
theorem g_store {p : Program} {l : Launch} {e : Env} {R : Room} {s : State} {m : MethodId} {args : Array Value} {below : List Frame} {meth : Method} {cd : Code} {H : Heap} {locs : List Loc} {cells slots : Nat} {Z : State → Prop} {j j1 : JFrame} {i : Nat} {e0 e1 : AE} {x : Nat × va_E} (hP : g_P g h H) (hi : h[i]? = some e0) (hj0 : isJ e0 = false) (hj1 : isJ e1 = false) (hS : va_S (g_A g) s.heap H locs) (hx : x = (g_ad g i, g_ce g e1))
    (row : ∀ k : Nat, (∀ (H1 : Heap) (locs1 : List Loc), va_P g.1 clT ((g_wsf g 0 h).set (g_ix h i) x) H1 → va_D (g_A g) ((g_wsf g 0 h).set (g_ix h i) x) → va_S (g_A g) H H1 locs1 → W p l e R s m args below meth cd H1 locs1 k slots Z j1) → W p l e R s m args below meth cd H locs k slots Z j)
    (kk : ∀ (H1 : Heap) (locs1 : List Loc), va_S (g_A g) s.heap H1 locs1 → g_P g (h.set i e1) H1 → W p l e R s m args below meth cd H1 locs1 cells slots Z j1) : W p l e R s m args below meth cd H locs cells slots Z j := by
  refine W.tight fun k hk hkc => row k fun H1 locs1 g1 g2 g3 => W.loose hkc fun hz => ?_
  exact kk H1 locs1 (hS.on g3) (hP.set hi hj0 hj1 (by have := g3.1; omega) hx g1 g2)
theorem wp_putf {a ci k idx : Nat} {fs : List Value} {v : Value} {ref nm ds dcl : String} {ty : FieldType} (hd : decode cc pc0 = .ok (.putfield idx, 3)) (e : pc = pc0) (hl : Cond.fieldLink y.cls idx ref nm ds ∈ lw_all) (hk : FP ci k ref nm ds false ty dcl) (ha : h[a]? = some (.inr (ci, fs))) (hn1 : narrow ty v = v) (hf : fits ty v = true) (hlt : k < fs.length) (hh : h.set a (.inr (ci, fs.set k v)) = h') (kk : WP g d y cc nL ret (pc0 + 3) ls st h' c n Q) : WP g d y cc nL ret pc ls (v :: .ref a :: st) h c n Q := by
  subst e
  subst hh
  obtain ⟨C0, T, N, ty0, q1, q2, q3, q4, q5, q6, q7, q8, q9, q10, q11⟩ := hk
  intro p l e R s m args below meth cd H locs cells slots arr C hS hP hl' hc hn
  exact g_store hP ha (nj q1) (nj q1) hS (g_fset g a ci k fs v) (fun k1 kr => va_put C.1 C.2.1 C.ts q5 ty0 q7 q8 C.ow C.K hP.2.1 hP.2.2 hS.base (g_ix h a) (g_P.at ha (nj q1)) q1 _ q2 (by rw [q3, q4]; exact C.ts _ hl) (FK.same (ci := ci) C.ts q3 q4 q6) q9 (by rw [q7 _ q2, q10]) (narrow_cv g hn1) (fits_cv g hf) (by rw [List.length_map]; exact hlt) hd kr)
    (fun H1 locs1 g3 g4 => kk p l e R s m args below meth cd H1 locs1 cells slots arr C g3 g4 hl' hc hn)
theorem wp_putfN {a ci k idx : Nat} {fs : List Value} {v : Value} {ref nm ds dcl host : String} {ty : FieldType} (hd : decode cc pc0 = .ok (.putfield idx, 3)) (e : pc = pc0) (hl : Cond.fieldLinkNest y.cls idx ref nm ds host ∈ lw_tbl) (hk : FP ci k ref nm ds false ty dcl) (ha : h[a]? = some (.inr (ci, fs))) (hn1 : narrow ty v = v) (hf : fits ty v = true) (hlt : k < fs.length) (hh : h.set a (.inr (ci, fs.set k v)) = h') (kk : WP g d y cc nL ret (pc0 + 3) ls st h' c n Q) : WP g d y cc nL ret pc ls (v :: .ref a :: st) h c n Q := by
  subst e
  subst hh
  obtain ⟨C0, T, N, ty0, q1, q2, q3, q4, q5, q6, q7, q8, q9, q10, q11⟩ := hk
  intro p l e R s m args below meth cd H locs cells slots arr C hS hP hl' hc hn
  exact g_store hP ha (nj q1) (nj q1) hS (g_fset g a ci k fs v) (fun k1 kr => va_putN C.1 C.2.1 C.ts q5 ty0 q7 q8 C.ow C.K hP.2.1 hP.2.2 hS.base (g_ix h a) (g_P.at ha (nj q1)) q1 _ q2 (by rw [q3, q4]; exact va_Nw.use rfl (C.sta.2.1 _ hl rfl)) (FK.same (ci := ci) C.ts q3 q4 q6) q9 (by rw [q7 _ q2, q10]) (narrow_cv g hn1) (fits_cv g hf) (by rw [List.length_map]; exact hlt) hd kr)
    (fun H1 locs1 g3 g4 => kk p l e R s m args below meth cd H1 locs1 cells slots arr C g3 g4 hl' hc hn)
/-- a final field, in a constructor of its class -/
theorem wp_putfF {a ci k idx : Nat} {fs : List Value} {v : Value} {ref nm ds dcl : String} {ty : FieldType} (hd : decode cc pc0 = .ok (.putfield idx, 3)) (e : pc = pc0) (hl : Cond.fieldLink y.cls idx ref nm ds ∈ lw_all) (hk : FP ci k ref nm ds true ty dcl) (hi : y.name = "<init>") (hdc : dcl = y.cls) (ha : h[a]? = some (.inr (ci, fs))) (hn1 : narrow ty v = v) (hf : fits ty v = true) (hlt : k < fs.length) (hh : h.set a (.inr (ci, fs.set k v)) = h') (kk : WP g d y cc nL ret (pc0 + 3) ls st h' c n Q) : WP g d y cc nL ret pc ls (v :: .ref a :: st) h c n Q := by
  subst e
  subst hh
  obtain ⟨C0, T, N, ty0, q1, q2, q3, q4, q5, q6, q7, q8, q9, q10, q11⟩ := hk
  intro p l e R s m args below meth cd H locs cells slots arr C hS hP hl' hc hn
  exact g_store hP ha (nj q1) (nj q1) hS (g_fset g a ci k fs v) (fun k1 kr => va_putF C.1 C.2.1 C.ts q5 ty0 q7 q8 C.ow C.K hP.2.1 hP.2.2 hS.base (g_ix h a) (g_P.at ha (nj q1)) q1 _ q2 (by rw [q3, q4]; exact C.ts _ hl) (FK.same (ci := ci) C.ts q3 q4 q6) q9 (C.nm.trans hi) (q11.trans hdc) (by rw [q7 _ q2, q10]) (narrow_cv g hn1) (fits_cv g hf) (by rw [List.length_map]; exact hlt) hd kr)
    (fun H1 locs1 g3 g4 => kk p l e R s m args below meth cd H1 locs1 cells slots arr C g3 g4 hl' hc hn)
theorem wp_iaload {a len : Nat} {i : Int32} {f : Nat → Int32} (j : Nat) (hd : decode cc pc0 = .ok (.iaload, 1)) (e : pc = pc0) (ha : h[a]? = some (.inl (0, len, .inl f))) (hj : i.toNatClampNeg = j) (hi : vp_in i len) (kk : WP g d y cc nL ret (pc0 + 1) ls ((.int (f j)) :: st) h c n Q) : WP g d y cc nL ret pc ls (.int i :: .ref a :: st) h c n Q := by
  subst e
  subst hj
  exact WP.lift (fun C hS hP hl' k => va_iald C.1 C.2.1 C.K hP.2.1 (g_ix h a) 0 (g_P.at ha rfl) rfl hi hd k) kk
theorem wp_baload {a len : Nat} {i : Int32} {f : Nat → Int32} (j : Nat) (hd : decode cc pc0 = .ok (.baload, 1)) (e : pc = pc0) (ha : h[a]? = some (.inl (1, len, .inl f))) (hj : i.toNatClampNeg = j) (hi : vp_in i len) (kk : WP g d y cc nL ret (pc0 + 1) ls ((.int (f j)) :: st) h c n Q) : WP g d y cc nL ret pc ls (.int i :: .ref a :: st) h c n Q := by
  subst e
  subst hj
  exact WP.lift (fun C hS hP hl' k => va_bald C.1 C.2.1 C.K hP.2.1 (g_ix h a) 1 (g_P.at ha rfl) rfl hi hd k) kk
theorem wp_zaload {a len : Nat} {i : Int32} {f : Nat → Int32} (j : Nat) (hd : decode cc pc0 = .ok (.baload, 1)) (e : pc = pc0) (ha : h[a]? = some (.inl (4, len, .inl f))) (hj : i.toNatClampNeg = j) (hi : vp_in i len) (kk : WP g d y cc nL ret (pc0 + 1) ls ((.int (f j)) :: st) h c n Q) : WP g d y cc nL ret pc ls (.int i :: .ref a :: st) h c n Q := by
  subst e
  subst hj
  exact WP.lift (fun C hS hP hl' k => va_zald C.1 C.2.1 C.K hP.2.1 (g_ix h a) 4 (g_P.at ha rfl) rfl hi hd k) kk
theorem wp_saload {a len : Nat} {i : Int32} {f : Nat → Int32} (j : Nat) (hd : decode cc pc0 = .ok (.saload, 1)) (e : pc = pc0) (ha : h[a]? = some (.inl (2, len, .inl f))) (hj : i.toNatClampNeg = j) (hi : vp_in i len) (kk : WP g d y cc nL ret (pc0 + 1) ls ((.int (f j)) :: st) h c n Q) : WP g d y cc nL ret pc ls (.int i :: .ref a :: st) h c n Q := by
  subst e
  subst hj
  exact WP.lift (fun C hS hP hl' k => va_sald C.1 C.2.1 C.K hP.2.1 (g_ix h a) 2 (g_P.at ha rfl) rfl hi hd k) kk
theorem wp_laload {a len : Nat} {i : Int32} {f : Nat → Int64} (j : Nat) (hd : decode cc pc0 = .ok (.laload, 1)) (e : pc = pc0) (ha : h[a]? = some (.inl (3, len, .inr (.inl f)))) (hj : i.toNatClampNeg = j) (hi : vp_in i len) (kk : WP g d y cc nL ret (pc0 + 1) ls ((.long (f j)) :: st) h c n Q) : WP g d y cc nL ret pc ls (.int i :: .ref a :: st) h c n Q := by
  subst e
  subst hj
  exact WP.lift (fun C hS hP hl' k => va_lald C.1 C.2.1 C.K hP.2.1 (g_ix h a) 3 (g_P.at ha rfl) rfl hi hd k) kk
theorem wp_iastore {a len : Nat} {i : Int32} {x : Int32} {f : Nat → Int32} (j : Nat) (hd : decode cc pc0 = .ok (.iastore, 1)) (e : pc = pc0) (ha : h[a]? = some (.inl (0, len, .inl f))) (hj : i.toNatClampNeg = j) (hi : vp_in i len) (hh : h.set a (.inl (0, len, .inl (upd f j x))) = h') (kk : WP g d y cc nL ret (pc0 + 1) ls st h' c n Q) : WP g d y cc nL ret pc ls (.int x :: .int i :: .ref a :: st) h c n Q := by
  subst e
  subst hj
  subst hh
  intro p l e R s m args below meth cd H locs cells slots arr C hS hP hl' hc hn
  exact g_store (e1 := .inl (0, len, .inl (upd f i.toNatClampNeg x))) hP ha rfl rfl hS rfl (fun k1 kr => va_iast C.1 C.2.1 C.K hP.2.1 hP.2.2 hS.base (g_ix h a) 0 (g_P.at ha rfl) rfl hi hd kr)
    (fun H1 locs1 g3 g4 => kk p l e R s m args below meth cd H1 locs1 cells slots arr C g3 g4 hl' hc hn)
theorem wp_bastore {a len : Nat} {i : Int32} {x : Int32} {f : Nat → Int32} (j : Nat) (hd : decode cc pc0 = .ok (.bastore, 1)) (e : pc = pc0) (ha : h[a]? = some (.inl (1, len, .inl f))) (hj : i.toNatClampNeg = j) (hi : vp_in i len) (hh : h.set a (.inl (1, len, .inl (upd f j (vp_nar .byte x)))) = h') (kk : WP g d y cc nL ret (pc0 + 1) ls st h' c n Q) : WP g d y cc nL ret pc ls (.int x :: .int i :: .ref a :: st) h c n Q := by
  subst e
  subst hj
  subst hh
  intro p l e R s m args below meth cd H locs cells slots arr C hS hP hl' hc hn
  exact g_store (e1 := .inl (1, len, .inl (upd f i.toNatClampNeg (vp_nar .byte x)))) hP ha rfl rfl hS rfl (fun k1 kr => va_bast C.1 C.2.1 C.K hP.2.1 hP.2.2 hS.base (g_ix h a) 1 (g_P.at ha rfl) rfl hi hd kr)
    (fun H1 locs1 g3 g4 => kk p l e R s m args below meth cd H1 locs1 cells slots arr C g3 g4 hl' hc hn)
theorem wp_zastore {a len : Nat} {i : Int32} {x : Int32} {f : Nat → Int32} (j : Nat) (hd : decode cc pc0 = .ok (.bastore, 1)) (e : pc = pc0) (ha : h[a]? = some (.inl (4, len, .inl f))) (hj : i.toNatClampNeg = j) (hi : vp_in i len) (hh : h.set a (.inl (4, len, .inl (upd f j (vp_nar .boolean x)))) = h') (kk : WP g d y cc nL ret (pc0 + 1) ls st h' c n Q) : WP g d y cc nL ret pc ls (.int x :: .int i :: .ref a :: st) h c n Q := by
  subst e
  subst hj
  subst hh
  intro p l e R s m args below meth cd H locs cells slots arr C hS hP hl' hc hn
  exact g_store (e1 := .inl (4, len, .inl (upd f i.toNatClampNeg (vp_nar .boolean x)))) hP ha rfl rfl hS rfl (fun k1 kr => va_zast C.1 C.2.1 C.K hP.2.1 hP.2.2 hS.base (g_ix h a) 4 (g_P.at ha rfl) rfl hi hd kr)
    (fun H1 locs1 g3 g4 => kk p l e R s m args below meth cd H1 locs1 cells slots arr C g3 g4 hl' hc hn)
theorem wp_sastore {a len : Nat} {i : Int32} {x : Int32} {f : Nat → Int32} (j : Nat) (hd : decode cc pc0 = .ok (.sastore, 1)) (e : pc = pc0) (ha : h[a]? = some (.inl (2, len, .inl f))) (hj : i.toNatClampNeg = j) (hi : vp_in i len) (hh : h.set a (.inl (2, len, .inl (upd f j (vp_nar .short x)))) = h') (kk : WP g d y cc nL ret (pc0 + 1) ls st h' c n Q) : WP g d y cc nL ret pc ls (.int x :: .int i :: .ref a :: st) h c n Q := by
  subst e
  subst hj
  subst hh
  intro p l e R s m args below meth cd H locs cells slots arr C hS hP hl' hc hn
  exact g_store (e1 := .inl (2, len, .inl (upd f i.toNatClampNeg (vp_nar .short x)))) hP ha rfl rfl hS rfl (fun k1 kr => va_sast C.1 C.2.1 C.K hP.2.1 hP.2.2 hS.base (g_ix h a) 2 (g_P.at ha rfl) rfl hi hd kr)
    (fun H1 locs1 g3 g4 => kk p l e R s m args below meth cd H1 locs1 cells slots arr C g3 g4 hl' hc hn)
theorem wp_lastore {a len : Nat} {i : Int32} {x : Int64} {f : Nat → Int64} (j : Nat) (hd : decode cc pc0 = .ok (.lastore, 1)) (e : pc = pc0) (ha : h[a]? = some (.inl (3, len, .inr (.inl f)))) (hj : i.toNatClampNeg = j) (hi : vp_in i len) (hh : h.set a (.inl (3, len, .inr (.inl (vp_updL f j x)))) = h') (kk : WP g d y cc nL ret (pc0 + 1) ls st h' c n Q) : WP g d y cc nL ret pc ls (.long x :: .int i :: .ref a :: st) h c n Q := by
  subst e
  subst hj
  subst hh
  intro p l e R s m args below meth cd H locs cells slots arr C hS hP hl' hc hn
  exact g_store (e1 := .inl (3, len, .inr (.inl (vp_updL f i.toNatClampNeg x)))) hP ha rfl rfl hS rfl (fun k1 kr => va_last C.1 C.2.1 C.K hP.2.1 hP.2.2 hS.base (g_ix h a) 3 (g_P.at ha rfl) rfl hi hd kr)
    (fun H1 locs1 g3 g4 => kk p l e R s m args below meth cd H1 locs1 cells slots arr C g3 g4 hl' hc hn)
theorem wp_aaload {a len t : Nat} {i : Int32} {f : Nat → Option Nat} {ty : FieldType} (j : Nat) (hd : decode cc pc0 = .ok (.aaload, 1)) (e : pc = pc0) (ht : (g_tys g)[t]? = some (g.2.1 t, ty)) (hty : refKind ty = true) (ha : h[a]? = some (.inl (t, len, .inr (.inr f)))) (hj : i.toNatClampNeg = j) (hi : vp_in i len) (kk : WP g d y cc nL ret (pc0 + 1) ls (va_rf (f j) :: st) h c n Q) : WP g d y cc nL ret pc ls (.int i :: .ref a :: st) h c n Q := by
  subst e
  subst hj
  have hlt : i.toNatClampNeg < len := Nat.not_le.mp fun q => hi (Or.inr q)
  refine WP.lift (fun C hS hP hl' k => ?_) kk
  have hx := g_P.at (g := g) (i := a) ha rfl
  refine W.aald (v := g_cv g (va_rf (f i.toNatClampNeg))) (ty := ty) C.1 C.2.1 (hP.2.1 (g_ix h a) _ hx) ((C.K.2 t _ ht).1 len (fun j => va_rf (g_cr g f j))) (by cases ty <;> first | rfl | cases hty) (fun q => by cases q) ?_ ?_ rfl rfl hd k
  · show ¬ (i < 0 ∨ (arrV _ _ _).slots.size ≤ _)
    rw [arrV_size]
    exact hi
  · show (arrV (g.2.1 t) len (fun j => va_rf (g_cr g f j))).slots[_]? = _
    rw [arrV_read _ _ hlt]
    exact congrArg some (g_cr_rf g _)
theorem wp_alen {a t : Nat} {x : AV} {ty : FieldType} (v : Int32) (hd : decode cc pc0 = .ok (.arraylength, 1)) (e : pc = pc0) (ht : (g_tys g)[t]? = some (g.2.1 t, ty)) (ha : h[a]? = some (.inl (t, x))) (hv : Int32.ofNat x.1 = v) (kk : WP g d y cc nL ret (pc0 + 1) ls (.int v :: st) h c n Q) : WP g d y cc nL ret pc ls (.ref a :: st) h c n Q := by
  subst e
  exact WP.lift (fun C hS hP hl' k => va_alen C.1 C.2.1 C.K hP.2.1 (g_ix h a) t (g_P.at ha rfl) ht hv hd k) kk
theorem g_cr_up (g : GW) (f : Nat → Option Nat) (j : Nat) (r : Option Nat) : g_cr g (va_up f j r) = va_up (g_cr g f) j (r.map (g_ad g)) := by
  funext i
  unfold g_cr va_up
  by_cases h : i = j
  · rw [if_pos h, if_pos h]
  · rw [if_neg h, if_neg h]
/-- an object into an array of its own class -/
theorem wp_aastore {a b t len ci : Nat} {i : Int32} {f : Nat → Option Nat} {fs : List Value} {r : vw_C} (j : Nat) (hd : decode cc pc0 = .ok (.aastore, 1)) (e : pc = pc0) (ht : (g_tys g)[t]? = some (g.2.1 t, .object r.1)) (hr : clT[ci]? = some r) (ha : h[a]? = some (.inl (t, len, .inr (.inr f)))) (hb : h[b]? = some (.inr (ci, fs))) (hj : i.toNatClampNeg = j) (hi : vp_in i len) (hh : h.set a (.inl (t, len, .inr (.inr (va_up f j (some b))))) = h') (kk : WP g d y cc nL ret (pc0 + 1) ls st h' c n Q) : WP g d y cc nL ret pc ls (.ref b :: .int i :: .ref a :: st) h c n Q := by
  subst e
  subst hj
  subst hh
  intro p l e R s m args below meth cd H locs cells slots arr C hS hP hl' hc hn
  refine g_store hP ha rfl rfl hS (x := (g_ad g a, .inl (g.2.1 t, len, .inr (.inr (.inr (.inr (va_up (g_cr g f) i.toNatClampNeg (some (g_ad g b))))))))) ?_ (fun k1 kr => va_astq C.1 C.2.1 C.K hP.2.1 hP.2.2 hS.base (g_ix h a) t (g_ix h b) ci (g_P.at ha rfl) ht (g_P.at hb (nj hr)) hr hi hd kr)
    (fun H1 locs1 g3 g4 => kk p l e R s m args below meth cd H1 locs1 cells slots arr C g3 g4 hl' hc hn)
  show _ = (g_ad g a, (.inl (g.2.1 t, len, .inr (.inr (.inr (.inr (g_cr g (va_up f i.toNatClampNeg (some b))))))) : va_E))
  rw [g_cr_up]
  rfl
/-- an object into an array of Object -/
theorem wp_aastoreO {a b t len ci : Nat} {i : Int32} {f : Nat → Option Nat} {fs : List Value} {r : vw_C} {E : String} (j : Nat) (hd : decode cc pc0 = .ok (.aastore, 1)) (e : pc = pc0) (ht : (g_tys g)[t]? = some (g.2.1 t, .object E)) (hca : Cond.castable r.1 E ∈ lw_tbl) (hr : clT[ci]? = some r) (ha : h[a]? = some (.inl (t, len, .inr (.inr f)))) (hb : h[b]? = some (.inr (ci, fs))) (hj : i.toNatClampNeg = j) (hi : vp_in i len) (hh : h.set a (.inl (t, len, .inr (.inr (va_up f j (some b))))) = h') (kk : WP g d y cc nL ret (pc0 + 1) ls st h' c n Q) : WP g d y cc nL ret pc ls (.ref b :: .int i :: .ref a :: st) h c n Q := by
  subst e
  subst hj
  subst hh
  intro p l e R s m args below meth cd H locs cells slots arr C hS hP hl' hc hn
  refine g_store hP ha rfl rfl hS (x := (g_ad g a, .inl (g.2.1 t, len, .inr (.inr (.inr (.inr (va_up (g_cr g f) i.toNatClampNeg (some (g_ad g b))))))))) ?_ (fun k1 kr => va_astqO C.1 C.2.1 C.K hP.2.1 hP.2.2 hS.base (g_ix h a) t (g_ix h b) ci (g_P.at ha rfl) ht (C.sta.2.1 _ hca rfl) (g_P.at hb (nj hr)) hr hi hd kr)
    (fun H1 locs1 g3 g4 => kk p l e R s m args below meth cd H1 locs1 cells slots arr C g3 g4 hl' hc hn)
  show _ = (g_ad g a, (.inl (g.2.1 t, len, .inr (.inr (.inr (.inr (g_cr g (va_up f i.toNatClampNeg (some b))))))) : va_E))
  rw [g_cr_up]
  rfl
end RH
