-- PART 86.mutpic
/-! ===== boards that change: plain laws; sets that hold shut holes ===== -/
theorem DX.other {X : AH} {lo hi a b : Nat} {e e0 e' : AE} (h : DX X lo hi a e) (hb : X[b]? = some e0) (hne : e ≠ e0) : DX (X.set b e') lo hi a e := h.set (fun q => hne (by have h1 := h.1; rw [← q, hb] at h1; exact (Option.some.inj h1).symm))
theorem BD.obj {X : AH} {lo hi b : Nat} {A : BA} {W W' : Nat → Int32} (h : BD X lo hi b A W) (e : ∀ j, j = 4 ∨ j = 5 ∨ j = 6 ∨ 12 ≤ j → W' j = W j) (te : W' 0 ≠ 0 → A.tk = W' 10 ∧ A.ec = W' 11) : BD (X.set b (.inr (2, bfl A W'))) lo hi b A W' := by
  have e4 : nW W' 4 = nW W 4 := nW_c (e 4 (by omega))
  have e5 : nW W' 5 = nW W 5 := nW_c (e 5 (by omega))
  have e6 : nW W' 6 = nW W 6 := nW_c (e 6 (by omega))
  have hb := h.ob.1
  refine ⟨h.dy, h.ob.set_s, ?_, h.oq.other hb (by simp), ?_, h.orr.other hb (by simp), h.of.other hb (by simp), h.os.other hb (by simp), h.fs, te, ?_, ?_, ?_, fun k hk => ?_, fun j k hj hk q => h.mi j k (by omega) (by omega) q, fun k hk => ?_, fun j k hj hk q => h.pj j k (by omega) (by omega) q, fun k hk => ?_⟩
  · rw [e5]; exact h.od.other hb (by simp)
  · rw [e6]; exact h.op.other hb (by simp)
  · rw [e5, e 5 (by omega)]; exact h.n5
  · rw [e6, e 6 (by omega)]; exact h.n6
  · rw [e4, e 4 (by omega)]; exact h.n4
  · rw [e5] at hk
    obtain ⟨h1, h2⟩ := h.mo k hk
    unfold mofl at h2 ⊢
    rw [e (24 + 3 * k) (by omega), e (24 + 3 * k + 1) (by omega), e (24 + 3 * k + 2) (by omega)]
    exact ⟨h1, h2.other hb (by simp)⟩
  · rw [e6] at hk
    obtain ⟨h1, h2, h3, h4⟩ := h.pl k hk
    exact ⟨h1, h2.other hb (by simp), h3.other hb (by simp), fun j hj => by rw [e (96 + 5 * k + j) (by omega)]; exact h4 j hj⟩
  · rw [e4] at hk
    rw [e (12 + 2 * k) (by omega), e (12 + 2 * k + 1) (by omega)]
    exact h.st k hk
theorem WFl.cg {W W' : Nat → Int32} {L : Nat} (h : WFl W L) (e : ∀ j, j = 0 ∨ j = 1 ∨ j = 2 ∨ j = 9 ∨ j = 10 ∨ j = 11 → W' j = W j) (hb : bdW W = true) : WFl W' L := by
  obtain ⟨m, h1, h2, h3, h4⟩ := h
  have hm : 0 < m := by
    rcases Nat.eq_zero_or_pos m with q | q
    · unfold bdW at hb
      rw [h3 q 0] at hb
      exact absurd hb (by decide)
    · exact q
  refine ⟨m, by rw [e 9 (by omega)]; exact h1, h2, fun q => by omega, fun q => ?_⟩
  obtain ⟨a1, a2, a3, a, b, a4, a5, a6⟩ := h4 hm
  rw [nW_c (e 0 (by omega)), nW_c (e 1 (by omega)), nW_c (e 2 (by omega)), e 10 (by omega), e 11 (by omega)]
  exact ⟨a1, a2, a3, a, b, a4, a5, a6⟩
theorem WFa.bd {W : Nat → Int32} (h : WFa W) {j : Nat} (hj : j < 116 ∨ True) (hne : ¬ W j = 0) : bdW W = true := by
  obtain ⟨m, h1, h2, h3, h4⟩ := h.2
  rcases Nat.eq_zero_or_pos m with q | q
  · exact absurd (h3 q j) hne
  · have h5 := (h4 q).1
    unfold bdW
    rw [decide_eq_true_eq, h.1.1.wi.1]
    exact nI_lt (a := 0) (by omega) (by have := h.1.1.wi.2; omega)
theorem WFa.w11 {W : Nat → Int32} (h : WFa W) (hb : bdW W = true) : ∃ a b, W 10 = nI a ∧ W 11 = nI b ∧ 1 ≤ a ∧ a ≤ 99 ∧ 1 ≤ b ∧ b ≤ 500 := by
  obtain ⟨m, h1, h2, h3, h4⟩ := h.2
  rcases Nat.eq_zero_or_pos m with q | q
  · unfold bdW at hb
    rw [h3 q 0] at hb
    exact absurd hb (by decide)
  · exact (h4 q).2.2.2
theorem WFa.u8 {W : Nat → Int32} (h : WFa W) {k : Nat} (hk : k < nW W 5) : WFa (upd W 8 (nI k)) := by
  have e : ∀ j, j ≠ 8 → upd W 8 (nI k) j = W j := fun j hj => pk_un hj
  have h24 := h.1.1.nc.2
  have hb : bdW W = true := h.bd (j := 5) (Or.inr trivial) (by rw [h.1.1.nc.1]; exact nI_ne0 (by omega) (by omega))
  obtain ⟨a1, a2, a3, a4, a5, a6⟩ := h.1
  refine ⟨⟨a1.u8 (by omega), a2.cg (fun j hj => e j (by omega)), a3.cg (fun j hj => e j (by omega)) a1.nc.2, a4.u8 _, fun j hj => by rw [e j (by omega)]; exact a5 j hj, Or.inl ?_⟩, h.2.cg (fun j hj => e j (by omega)) hb⟩
  rw [nW_c (e 5 (by omega)), nW_n (show upd W 8 (nI k) 8 = nI k from pk_us) (by omega)]
  exact hk
theorem EV.u8 {C : SC} {X : AH} {lo hi b : Nat} {A : BA} {W : Nat → Int32} (h : EV C X lo hi b A W) {k : Nat} (hk : k < nW W 5) : EV C (X.set b (.inr (2, bfl A (upd W 8 (nI k))))) lo hi b A (upd W 8 (nI k)) :=
  ⟨by rw [List.length_set]; exact h.X, h.n, h.B.obj (fun j hj => pk_un (by omega)) (fun q => h.B.te q), h.w.u8 hk⟩
/-! a run is the same for holes that are the same where comings are -/
theorem his_cg {P P' : RP} {o : Int32} (h : o = -1 ∨ ((P.2.2.2.1 >>> (o &&& 31)) &&& 1) = ((P'.2.2.2.1 >>> (o &&& 31)) &&& 1)) : hisR P o = hisR P' o := by
  unfold hisR
  rcases h with h | h
  · simp only [h, decide_true, Bool.not_true, Bool.false_and]
  · rw [h]
theorem awR_cg {G : GF} {P P' : RP} (h1 : P.1 = P'.1) (h2 : P.2.1 = P'.2.1) (i : Nat) : awR G P i = awR G P' i := by unfold awR; rw [h1, h2]
theorem ouR_cg {G : GF} {P P' : RP} (h1 : P.1 = P'.1) (h2 : P.2.1 = P'.2.1) (i : Nat) (t : RT) : ouR G P i t = ouR G P' i t := by unfold ouR; rw [awR_cg h1 h2]
theorem thR_cg {W : Nat → Int32} {G : GF} {P P' : RP} (h1 : P.1 = P'.1) (h2 : P.2.1 = P'.2.1) (i : Nat) (o : Int32) (t : RT) : thR W G P i o t = thR W G P' i o t := by unfold thR; rw [ouR_cg h1 h2, h1]
theorem okR_cg {W : Nat → Int32} {G : GF} {P P' : RP} (h1 : P.1 = P'.1) (h2 : P.2.1 = P'.2.1) (i : Nat) (o : Int32) (t : RT) : okR W G P i o t = okR W G P' i o t := by unfold okR; rw [thR_cg h1 h2]
theorem goR_cg {W : Nat → Int32} {G : GF} {P P' : RP} (h1 : P.1 = P'.1) (h2 : P.2.1 = P'.2.1) (i : Nat) (o : Int32) (t : RT) : goR W G P i o t = goR W G P' i o t := by unfold goR; rw [thR_cg h1 h2, okR_cg h1 h2]
theorem gfR_cg {W : Nat → Int32} {G : GF} {P P' : RP} (h1 : P.1 = P'.1) (h2 : P.2.1 = P'.2.1) {i : Nat} (t : RT) (e1 : hisR P (gH G i) = hisR P' (gH G i)) (e2 : hisR P (gO G i) = hisR P' (gO G i)) : gfR W G P i t = gfR W G P' i t := by
  unfold gfR
  rw [e1, e2]
  simp only [goR_cg h1 h2, okR_cg h1 h2]
theorem ruF_cg {W : Nat → Int32} {G : GF} {P P' : RP} (h1 : P.1 = P'.1) (h2 : P.2.1 = P'.2.1) (h4 : P.2.2.2.2 = P'.2.2.2.2) {i : Nat} (t : RT) (e1 : hisR P (gH G i) = hisR P' (gH G i)) (e2 : hisR P (gO G i) = hisR P' (gO G i)) : ruF W G P i t = ruF W G P' i t := by
  unfold ruF
  rw [gfR_cg h1 h2 _ e1 e2, h4]
theorem itr_cg2 {α : Type} {f g : Nat → α → α} {N : Nat} (h : ∀ i a, i < N → f i a = g i a) : ∀ (k i : Nat) (a : α), i + k ≤ N → itr f k i a = itr g k i a := by
  intro k
  induction k with
  | zero => intro i a _; rfl
  | succ k ih =>
    intro i a hi
    show itr f k (i + 1) (f i a) = itr g k (i + 1) (g i a)
    rw [h i a (by omega)]
    exact ih _ _ (by omega)
theorem ruW_cg {W : Nat → Int32} {G : GA} {P P' : RP} (h1 : P.1 = P'.1) (h2 : P.2.1 = P'.2.1) (h3 : P.2.2.1 = P'.2.2.1) (h4 : P.2.2.2.2 = P'.2.2.2.2) (hh : ∀ i, i < G.1 → hisR P (gH G.2 i) = hisR P' (gH G.2 i) ∧ hisR P (gO G.2 i) = hisR P' (gO G.2 i)) : ruW W G P = ruW W G P' := by
  have e : ru0 P = ru0 P' := by unfold ru0; rw [h3]
  unfold ruW
  rw [itr_cg2 (N := G.1) (fun i t hi => ruF_cg h1 h2 h4 t (hh i hi).1 (hh i hi).2) G.1 0 _ (by omega), e]
theorem EV.put {C C' : SC} {S : SM} {X : AH} {lo hi b : Nat} {A : BA} {W : Nat → Int32} (h : EV C X lo hi b A W) {e : AE} : (cH C' S X).set b e = cH C' S (X.set b e) := cH_dset (h.B.dy.dyn h.B.ob.2.1 h.B.ob.2.2)
theorem EV.v8 {C : SC} {X : AH} {lo hi b : Nat} {A : BA} {W : Nat → Int32} (h : EV C X lo hi b A W) {v : Int32} (hw : WFa (upd W 8 v)) : EV C (X.set b (.inr (2, bfl A (upd W 8 v)))) lo hi b A (upd W 8 v) :=
  ⟨by rw [List.length_set]; exact h.X, h.n, h.B.obj (fun j hj => pk_un (by omega)) (fun q => h.B.te q), hw⟩
theorem upd_me (W : Nat → Int32) (j : Nat) : upd W j (W j) = W := by
  funext k
  by_cases q : k = j
  · rw [q, pk_us]
  · rw [pk_un q]
theorem set_me {α : Type} {X : List α} {b : Nat} {e : α} (h : X[b]? = some e) : X.set b e = X := by
  apply List.ext_getElem?
  intro i
  by_cases q : b = i
  · subst q
    rw [List.getElem?_set_self (List.getElem?_eq_some_iff.mp h).1, h]
  · rw [List.getElem?_set_ne q]
theorem EV.me {C : SC} {X : AH} {lo hi b : Nat} {A : BA} {W : Nat → Int32} (h : EV C X lo hi b A W) : X.set b (.inr (2, bfl A (upd W 8 (W 8)))) = X := by
  rw [upd_me]
  exact set_me h.B.ob.1
