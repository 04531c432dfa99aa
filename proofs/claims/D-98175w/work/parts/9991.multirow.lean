-- PART 9991.multirow
/-! ===== multianewarray of two dimensions ===== -/
section MR
variable {g : GW} {d : Nat} {y : MethodName} {cc : ByteArray} {nL : Nat} {ret : Option FieldType} {pc pc0 : Nat} {ls : List (Option Value)} {st : List Value} {h h' : AH} {c n : Nat} {Q : Option Value → AH → Prop}
theorem g_pre_get (H : Heap) {m a : Nat} (h : a < m) : (H.extract 0 m)[a]? = H[a]? := by
  rw [Array.getElem?_extract]
  by_cases h2 : a < H.size
  · rw [if_pos (by omega), Nat.zero_add]
  · rw [if_neg (by omega), Array.getElem?_eq_none (by omega)]
theorem g_pre_size (H : Heap) {m : Nat} (h : m ≤ H.size) : (H.extract 0 m).size = m := by
  rw [Array.size_extract]
  omega
theorem g_P.pushes {g : GW} {H' : Heap} : ∀ (es : List AE) (h : AH) (H : Heap), g_P g h H → H'.size = H.size + es.length → (∀ x : Nat, x < H.size → H'[x]? = H[x]?) → h.length + es.length < 1000000000 → (∀ e ∈ es, isJ e = false) → (∀ j e, es[j]? = some e → va_at g.1 clT (H.size + j, g_ce g e) H') → g_P g (h ++ es) H' := by
  intro es
  induction es with
  | nil =>
    intro h H hP hz ho hl hj ha
    have hz : H'.size = H.size := hz
    have e : H' = H := by
      apply Array.ext_getElem?
      intro i
      by_cases q : i < H.size
      · exact ho i q
      · rw [Array.getElem?_eq_none (by omega), Array.getElem?_eq_none (Nat.not_lt.mp q)]
    rw [List.append_nil, e]
    exact hP
  | cons e es ih =>
    intro h H hP hz ho hl hj ha
    rw [List.length_cons] at hz hl
    have z1 : (H'.extract 0 (H.size + 1)).size = H.size + 1 := g_pre_size H' (by omega)
    obtain ⟨-, h2⟩ := hP.push (e := e) z1 (fun x hx => (g_pre_get H' (by omega)).trans (ho x hx)) (by omega) (hj e List.mem_cons_self) ((ha 0 e rfl).kept (g_pre_get H' (show H.size < H.size + 1 by omega)))
    rw [show h ++ e :: es = (h ++ [e]) ++ es by rw [List.append_assoc]; rfl]
    refine ih (h ++ [e]) _ h2 (by rw [z1]; omega) (fun x hx => (g_pre_get H' (by rw [z1] at hx; exact hx)).symm) (by rw [List.length_append]; show h.length + 1 + es.length < _; omega) (fun q hq => hj q (List.mem_cons_of_mem _ hq)) (fun j q hq => ?_)
    rw [z1, Nat.add_assoc, Nat.add_comm 1 j]
    exact ha (j + 1) q hq
theorem outer_like (cA : ClassId) (N h0 : Nat) : ∀ i, Jvm.Free.Multi.outerC cA N h0 i = { cls := cA, slots := (Jvm.Free.Multi.outerC cA N h0 i).slots, vm := .none }
  | 0 => rfl
  | i + 1 => by
    show (Jvm.Free.Multi.outerC cA N h0 i).setSlot i _ = _
    rw [outer_like cA N h0 i]
    rfl
theorem outer_eq {g : GW} {cA : ClassId} {N a h0 : Nat} (he : h0 = g_ad g a) (hl : a + 1 + N < 1000000000) : Jvm.Free.Multi.outerC cA N h0 N = vp_cell cA (g_va g (N, .inr (.inr (cn_ N (a + 1))))) := by
  obtain ⟨o1, o2, o3⟩ := Jvm.Free.Multi.outerC_facts cA N h0 N
  have os := fun (j : Nat) (hj : j < N) => Jvm.Free.Multi.outerC_slot cA N h0 N j hj
  rw [outer_like]
  generalize (Jvm.Free.Multi.outerC cA N h0 N).slots = sl at *
  show ({ cls := cA, slots := sl, vm := .none } : Cell) = { cls := cA, slots := Array.ofFn (n := N) fun j => va_rf (g_cr g (cn_ N (a + 1)) j.val), vm := .none }
  have e : sl = Array.ofFn (n := N) fun j => va_rf (g_cr g (cn_ N (a + 1)) j.val) := by
    apply Array.ext_getElem?
    intro j
    by_cases q : j < N
    · rw [os j q, if_pos q, Array.getElem?_ofFn, dif_pos q]
      unfold g_cr cn_
      dsimp only
      rw [if_pos q, he, g_ad_lt (by omega)]
      show some (Value.ref (g_sz g + a + 1 + j)) = some (Value.ref (g_ad g (a + 1 + j)))
      rw [g_ad_lt (by omega), Nat.add_assoc, Nat.add_assoc, Nat.add_assoc]
    · rw [Array.getElem?_eq_none (by omega), Array.getElem?_eq_none (by rw [Array.size_ofFn]; omega)]
  rw [e]
theorem wp_multi {D : String} {t1 t2 N K idx : Nat} {a b : Int32} {ty : FieldType} (x : AV) (hd : decode cc pc0 = .ok (.multianewarray idx 2, 4)) (e : pc = pc0) (hl : Cond.classLink y.cls idx D ∈ lw_all) (hD : D = "[" ++ (FieldType.array ty).toString) (ho : (FieldType.array ty) ∈ aaT) (hw : Cond.arrayClass ty ∈ lw_all) (ht1 : (g_tys g)[t1]? = some (g.2.1 t1, .array ty)) (ht2 : (g_tys g)[t2]? = some (g.2.1 t2, ty)) (hra : ∀ (U : State) (q : ClassId), U.vm.findClass (FieldType.array ty).toString = some q → va_RA U q ty) (hx : ∀ cA : ClassId, vp_cell cA (g_va g x) = arrV cA K (fun _ => defaultValue ty)) (h0 : ¬ a < 0) (k0 : ¬ b < 0) (hN : a.toNatClampNeg = N) (hK : b.toNatClampNeg = K) (hb1 : N * 4 ≤ 536870912) (hb2 : K * componentBytes ty ≤ 536870912) (hb3 : K ≤ 536870912) (hdf : fits ty (defaultValue ty) = true) (hdd : (defaultValue ty).isDefault = true)
    (hc1 : 1 + N ≤ c) (hn1 : N + N * K ≤ n) (kk : WP g d y cc nL ret (pc0 + 4) ls (.ref h.length :: st) (h ++ (.inl (t1, N, .inr (.inr (cn_ N (h.length + 1)))) :: List.replicate N (.inl (t2, x)))) (c - (1 + N)) (n - (N + N * K)) Q) : WP g d y cc nL ret pc ls (.int b :: .int a :: st) h c n Q := by
  subst e
  subst hD
  subst hN
  subst hK
  intro p l e R s m args below meth cd H locs cells slots arr C hS hP hl' hc hn
  refine W.loose (Nat.le_refl _) fun hz => ?_
  intro T hT X
  subst hT
  obtain ⟨vm₁, cA, comp, hW, hfA, hfC, hO, hI, X1, step⟩ := X.multianewarray2F C.1 C.ow (C.ts _ hl) (va_AA.use (C.sta.2.2.2.1.2 _ ho)) (C.ts _ hw) (g := F0 m pc arr (.int b :: .int a :: st.map (g_cv g))) rfl (by rw [C.2.1]; exact hd) rfl h0 k0 hb1 hb2 hb3 hdf hdd (by omega) (by omega)
  have e1 : cA = g.2.1 t1 := g_aty (C.K.2 t1 _ ht1).2 hfA
  have e2 : comp = g.2.1 t2 := g_aty (C.K.2 t2 _ ht2).2 (hra _ _ hfC)
  subst e1
  subst e2
  obtain ⟨f1, f2, f3, f4⟩ := Jvm.Free.Multi.fill_facts (T.setVm vm₁) (g.2.1 t1) (g.2.1 t2) a.toNatClampNeg b.toNatClampNeg (defaultValue ty) a.toNatClampNeg
  have fo := fun (q : Addr) (hq : q < T.heap.size) => Jvm.Free.Multi.fill_old (T.setVm vm₁) (g.2.1 t1) (g.2.1 t2) a.toNatClampNeg b.toNatClampNeg (defaultValue ty) (a := q) hq a.toNatClampNeg
  have fi := fun (j : Nat) (hj : j < a.toNatClampNeg) => Jvm.Free.Multi.fill_inner (T.setVm vm₁) (g.2.1 t1) (g.2.1 t2) a.toNatClampNeg b.toNatClampNeg (defaultValue ty) a.toNatClampNeg j hj
  generalize Jvm.Free.Multi.fill (T.setVm vm₁) (g.2.1 t1) (g.2.1 t2) a.toNatClampNeg b.toNatClampNeg (defaultValue ty) a.toNatClampNeg = T2 at *
  have hR := C.2.2.2.2.2.2.2.2.2.2.2.1
  have hsz := hP.1
  have had : T.heap.size = g_ad g h.length := by rw [g_ad_lt (by omega)]; exact hP.1
  have hP2 : g_P g (h ++ (.inl (t1, a.toNatClampNeg, .inr (.inr (cn_ a.toNatClampNeg (h.length + 1)))) :: List.replicate a.toNatClampNeg (.inl (t2, x)))) T2.heap := by
    refine g_P.pushes _ h T.heap hP (by rw [f1, List.length_cons, List.length_replicate, Nat.add_assoc, Nat.add_comm 1]; rfl) fo (by rw [List.length_cons, List.length_replicate]; omega) (fun q hq => ?_) (fun j q hq => ?_)
    · rcases List.mem_cons.mp hq with z | z
      · rw [z]; rfl
      · rw [(List.mem_replicate.mp z).2]; rfl
    · cases j with
      | zero =>
        cases hq
        show T2.heap[T.heap.size + 0]? = some (vp_cell (g.2.1 t1) (g_va g (a.toNatClampNeg, .inr (.inr (cn_ a.toNatClampNeg (h.length + 1))))))
        rw [← outer_eq (h0 := T.heap.size) had (by omega)]
        exact f2
      | succ j =>
        have hq : (List.replicate a.toNatClampNeg (.inl (t2, x) : AE))[j]? = some q := hq
        rw [List.getElem?_replicate] at hq
        by_cases hj : j < a.toNatClampNeg
        · rw [if_pos hj] at hq
          cases hq
          show T2.heap[T.heap.size + (j + 1)]? = some (vp_cell (g.2.1 t2) (g_va g x))
          rw [hx, ← arrV_new, show T.heap.size + (j + 1) = T.heap.size + 1 + j by omega]
          exact fi j hj
        · rw [if_neg hj] at hq
          cases hq
  obtain ⟨t, a1, b1⟩ := kk p l e R s m args below meth cd T2.heap locs (cells + 1 + a.toNatClampNeg) (slots + a.toNatClampNeg + a.toNatClampNeg * b.toNatClampNeg) arr C ⟨Nat.le_trans hS.1 (by rw [f1]; show T.heap.size ≤ T.heap.size + 1 + _; omega), fun q g1 g2 => (fo q (Nat.lt_of_lt_of_le g1 hS.1)).trans (hS.2.1 q g1 g2), hS.2.2⟩ hP2 hl' (by omega) (by omega) T2 rfl X1
  refine ⟨t, step t ?_, b1⟩
  have a2 := a1
  rw [show (Value.ref h.length :: st).map (g_cv g) = .ref T.heap.size :: st.map (g_cv g) by rw [had]; rfl] at a2
  exact a2
end MR
