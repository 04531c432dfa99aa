-- PART 994.boardpic
/-! ===== boards in the making ===== -/
theorem BD.it {X : AH} {lo hi b t : Nat} {A : BA} {W : Nat → Int32} {fs : List Value} {e' : AE} (h : BD X lo hi b A W) (hb : X[t]? = some (.inr (13, fs))) : BD (X.set t e') lo hi b A W :=
  ⟨h.dy, h.ob.other hb (by simp), h.od.other hb (by simp), h.oq.other hb (by simp), h.op.other hb (by simp), h.orr.other hb (by simp), h.of.other hb (by simp), h.os.other hb (by simp), h.fs, h.te, h.n5, h.n6, h.n4, fun k hk => ⟨(h.mo k hk).1, (h.mo k hk).2.other hb (by simp)⟩, h.mi, fun k hk => ⟨(h.pl k hk).1, (h.pl k hk).2.1.other hb (by simp), (h.pl k hk).2.2.1.other hb (by simp), (h.pl k hk).2.2.2⟩, h.pj, h.st⟩
theorem BD.dp {X : AH} {lo hi b : Nat} {A : BA} {W : Nat → Int32} (h : BD X lo hi b A W) : A.p ≠ A.d := fun z => by
  have h1 := h.op.1
  rw [z, h.od.1] at h1
  have e : A.dq = A.pq := by
    injection h1 with h1
    injection h1 with h1
    injection h1 with _ h1
    injection h1 with _ h1
    injection h1 with h1 _
    injection h1
  have h2 := h.oq.1
  rw [e, h.orr.1] at h2
  simp at h2
theorem DX.wide {X : AH} {lo hi hi' a : Nat} {e : AE} (h : DX X lo hi a e) (q : hi ≤ hi') : DX X lo hi' a e := ⟨h.1, h.2.1, Nat.lt_of_lt_of_le h.2.2 q⟩
theorem BD.wide {X : AH} {lo hi hi' b : Nat} {A : BA} {W : Nat → Int32} (h : BD X lo hi b A W) (q : hi ≤ hi') (h2 : 108 ≤ lo) : BD X lo hi' b A W :=
  ⟨Or.inr h2, h.ob.wide q, h.od.wide q, h.oq.wide q, h.op.wide q, h.orr.wide q, h.of.wide q, h.os.wide q, h.fs, h.te, h.n5, h.n6, h.n4, fun k hk => ⟨(h.mo k hk).1, (h.mo k hk).2.wide q⟩, h.mi, fun k hk => ⟨(h.pl k hk).1, (h.pl k hk).2.1.wide q, (h.pl k hk).2.2.1.wide q, (h.pl k hk).2.2.2⟩, h.pj, h.st⟩
def BA.am (A : BA) (r k : Nat) : BA := (A.1, (fun i => if i = 0 then upd0 A.mo k r else A.2.1 i), (upd A.2.2.1 0 (A.dm + 1)), (va_up A.df k (some r), A.pf), A.2.2.2.2)
where upd0 (f : Nat → Nat) (k r : Nat) : Nat → Nat := fun j => if j = k then r else f j
def BA.ap (A : BA) (r q k : Nat) (f : Nat → Int32) : BA := (A.1, (fun i => if i = 1 then BA.am.upd0 A.pl k r else if i = 2 then BA.am.upd0 A.pi k q else A.2.1 i), (upd A.2.2.1 1 (A.pm + 1)), (A.df, va_up A.pf k (some r)), va_up A.pv k f, A.2.2.2.2.2)
/-- a coming is added: r its object -/
theorem BD.addm {X : AH} {lo hi b : Nat} {A : BA} {W W' : Nat → Int32} (h : BD X lo hi b A W) {k r : Nat} (hk : nW W 5 = k) (hk24 : k < 24) (hr : lo ≤ r) (hrh : r < hi) (hx : X[r]? = some (.inr (14, mofl W' k))) (hnew : ∀ j, j < k → A.mo j ≠ r) (e : ∀ j, j ≠ 5 → (j < 24 + 3 * k ∨ 24 + 3 * k + 3 ≤ j) → W' j = W j) (e5 : W' 5 = nI (k + 1)) : BD ((X.set A.dq (.inl (6, 24, .inr (.inr (va_up A.df k (some r)))))).set A.d (.inr (3, [.int (A.dm + 1), .ref A.dq, .int (nI (k + 1))]))) lo hi b (A.am r k) W' := by
  have h4 := h.n4.2
  have n5 : nW W' 5 = k + 1 := nW_n e5 (by omega)
  have n6 : nW W' 6 = nW W 6 := nW_c (e 6 (by omega) (by omega))
  have n4 : nW W' 4 = nW W 4 := nW_c (e 4 (by omega) (by omega))
  have hq := h.oq.1
  have hd := h.od.1
  have hdq : A.dq ≠ A.d := fun z => by rw [z, hd] at hq; cases hq
  have hd1 : (X.set A.dq (.inl (6, 24, .inr (.inr (va_up A.df k (some r))))))[A.d]? = some (.inr (3, [.int A.dm, .ref A.dq, .int (nI (nW W 5))])) := (List.getElem?_set_ne hdq).trans hd
  have two : ∀ {a : Nat} {x : AE}, DX X lo hi a x → x ≠ .inl (6, 24, .inr (.inr A.df)) → x ≠ .inr (3, [.int A.dm, .ref A.dq, .int (nI (nW W 5))]) → DX ((X.set A.dq (.inl (6, 24, .inr (.inr (va_up A.df k (some r)))))).set A.d (.inr (3, [.int (A.dm + 1), .ref A.dq, .int (nI (k + 1))]))) lo hi a x := fun d h1 h2 => (d.other hq h1).other hd1 h2
  have ob : bfl (A.am r k) W' = bfl A W := by
    unfold bfl
    rw [e 0 (by omega) (by omega), e 1 (by omega) (by omega), e 2 (by omega) (by omega), e 3 (by omega) (by omega), e 4 (by omega) (by omega), e 7 (by omega) (by omega), e 8 (by omega) (by omega), e 9 (by omega) (by omega)]
    rfl
  refine ⟨h.dy, ?_, ?_, ?_, ?_, two h.orr (by simp) (by simp), two h.of (by simp) (by simp), two h.os (by simp) (by simp), h.fs, fun q => ?_, ?_, ?_, ?_, fun j hj => ?_, fun i j hi hj q => ?_, fun j hj => ?_, fun i j hi hj q => h.pj i j (by omega) (by omega) q, fun j hj => ?_⟩
  · rw [ob]; exact two h.ob (by simp) (by simp)
  · rw [n5]
    exact ⟨List.getElem?_set_self (by rw [List.length_set]; exact (List.getElem?_eq_some_iff.mp hd).1), h.od.2⟩
  · exact (h.oq.set_s (e' := .inl (6, 24, .inr (.inr (va_up A.df k (some r)))))).other hd1 (by simp)
  · rw [n6]
    refine ⟨?_, h.op.2⟩
    have hp := h.op.1
    by_cases z : A.p = A.d
    · exact absurd z (h.dp)
    · show ((X.set A.dq _).set A.d _)[A.p]? = _
      rw [List.getElem?_set_ne (fun q => z q.symm), List.getElem?_set_ne (fun q => by rw [q, hp] at hq; cases hq)]
      exact hp
  · rw [e 0 (by omega) (by omega)] at q
    rw [e 10 (by omega) (by omega), e 11 (by omega) (by omega)]
    exact h.te q
  · rw [n5]; exact ⟨e5, by omega⟩
  · rw [n6, e 6 (by omega) (by omega)]; exact h.n6
  · rw [n4, e 4 (by omega) (by omega)]; exact h.n4
  · rw [n5] at hj
    by_cases z : j = k
    · subst z
      refine ⟨(va_up_self A.df j (some r)).trans (congrArg some (if_pos rfl).symm), ?_⟩
      show DX _ lo hi ((A.am r j).mo j) _
      have e1 : (A.am r j).mo j = r := if_pos rfl
      rw [e1]
      exact two ⟨hx, hr, hrh⟩ (by simp) (by simp)
    · have hj2 : j < nW W 5 := by omega
      have e1 : (A.am r k).mo j = A.mo j := if_neg z
      have e2 : mofl W' j = mofl W j := by
        unfold mofl
        rw [e _ (by omega) (by omega), e _ (by omega) (by omega), e _ (by omega) (by omega)]
      rw [e1, e2]
      exact ⟨(va_up_ne _ _ z).trans (h.mo j hj2).1, two (h.mo j hj2).2 (by simp) (by simp)⟩
  · rw [n5] at hi hj
    have m1 : ∀ x, (A.am r k).mo x = if x = k then r else A.mo x := fun x => rfl
    rw [m1, m1] at q
    by_cases z1 : i = k
    · by_cases z2 : j = k
      · omega
      · rw [if_pos z1, if_neg z2] at q
        exact absurd q.symm (hnew j (by omega))
    · by_cases z2 : j = k
      · rw [if_neg z1, if_pos z2] at q
        exact absurd q (hnew i (by omega))
      · rw [if_neg z1, if_neg z2] at q
        exact h.mi i j (by omega) (by omega) q
  · rw [n6] at hj
    have h46 := h.n6.2
    obtain ⟨h1, h2, h3, h5⟩ := h.pl j hj
    exact ⟨h1, two h2 (by simp) (by simp), two h3 (by simp) (by simp), fun i hi => by rw [e _ (by omega) (by omega)]; exact h5 i hi⟩
  · rw [n4] at hj
    rw [e _ (by omega) (by omega), e _ (by omega) (by omega)]
    exact h.st j hj
/-- a player is added: r his object, p his numbers -/
theorem BD.addp {X : AH} {lo hi b : Nat} {A : BA} {W W' : Nat → Int32} (h : BD X lo hi b A W) {k r p : Nat} {f : Nat → Int32} (hk : nW W 6 = k) (hk4 : k < 4) (hr : lo ≤ r) (hrh : r < hi) (hp0 : lo ≤ p) (hph : p < hi) (hx : X[r]? = some (.inr (15, [.ref p]))) (hy : X[p]? = some (.inl (0, 5, .inl f))) (hnew : ∀ j, j < k → A.pi j ≠ p) (hf : ∀ i, i < 5 → f i = W' (96 + 5 * k + i)) (e : ∀ j, j ≠ 6 → (j < 96 + 5 * k ∨ 96 + 5 * k + 5 ≤ j) → W' j = W j) (e6 : W' 6 = nI (k + 1)) : BD ((X.set A.pq (.inl (6, 4, .inr (.inr (va_up A.pf k (some r)))))).set A.p (.inr (3, [.int (A.pm + 1), .ref A.pq, .int (nI (k + 1))]))) lo hi b (A.ap r p k f) W' := by
  have h4 := h.n4.2
  have h24 := h.n5.2
  have n6 : nW W' 6 = k + 1 := nW_n e6 (by omega)
  have n5 : nW W' 5 = nW W 5 := nW_c (e 5 (by omega) (by omega))
  have n4 : nW W' 4 = nW W 4 := nW_c (e 4 (by omega) (by omega))
  have hq := h.orr.1
  have hd := h.op.1
  have hdq : A.pq ≠ A.p := fun z => by rw [z, hd] at hq; cases hq
  have hd1 : (X.set A.pq (.inl (6, 4, .inr (.inr (va_up A.pf k (some r))))))[A.p]? = some (.inr (3, [.int A.pm, .ref A.pq, .int (nI (nW W 6))])) := (List.getElem?_set_ne hdq).trans hd
  have two : ∀ {a : Nat} {x : AE}, DX X lo hi a x → x ≠ .inl (6, 4, .inr (.inr A.pf)) → x ≠ .inr (3, [.int A.pm, .ref A.pq, .int (nI (nW W 6))]) → DX ((X.set A.pq (.inl (6, 4, .inr (.inr (va_up A.pf k (some r)))))).set A.p (.inr (3, [.int (A.pm + 1), .ref A.pq, .int (nI (k + 1))]))) lo hi a x := fun d h1 h2 => (d.other hq h1).other hd1 h2
  have ob : bfl (A.ap r p k f) W' = bfl A W := by
    unfold bfl
    rw [e 0 (by omega) (by omega), e 1 (by omega) (by omega), e 2 (by omega) (by omega), e 3 (by omega) (by omega), e 4 (by omega) (by omega), e 7 (by omega) (by omega), e 8 (by omega) (by omega), e 9 (by omega) (by omega)]
    rfl
  refine ⟨h.dy, ?_, ?_, two h.oq (by simp) (by simp), ?_, ?_, two h.of (by simp) (by simp), two h.os (by simp) (by simp), h.fs, fun q => ?_, ?_, ?_, ?_, fun j hj => ?_, fun i j hi hj q => h.mi i j (by omega) (by omega) q, fun j hj => ?_, fun i j hi hj q => ?_, fun j hj => ?_⟩
  · rw [ob]; exact two h.ob (by simp) (by simp)
  · rw [n5]
    refine ⟨?_, h.od.2⟩
    have hp := h.od.1
    by_cases z : A.p = A.d
    · exact absurd z (h.dp)
    · show ((X.set A.pq _).set A.p _)[A.d]? = _
      rw [List.getElem?_set_ne z, List.getElem?_set_ne (fun q => by rw [q, hp] at hq; cases hq)]
      exact hp
  · rw [n6]
    exact ⟨List.getElem?_set_self (by rw [List.length_set]; exact (List.getElem?_eq_some_iff.mp hd).1), h.op.2⟩
  · exact (h.orr.set_s (e' := .inl (6, 4, .inr (.inr (va_up A.pf k (some r)))))).other hd1 (by simp)
  · rw [e 0 (by omega) (by omega)] at q
    rw [e 10 (by omega) (by omega), e 11 (by omega) (by omega)]
    exact h.te q
  · rw [n5, e 5 (by omega) (by omega)]; exact h.n5
  · rw [n6]; exact ⟨e6, by omega⟩
  · rw [n4, e 4 (by omega) (by omega)]; exact h.n4
  · rw [n5] at hj
    have e2 : mofl W' j = mofl W j := by
      unfold mofl
      rw [e _ (by omega) (by omega), e _ (by omega) (by omega), e _ (by omega) (by omega)]
    rw [e2]
    exact ⟨(h.mo j hj).1, two (h.mo j hj).2 (by simp) (by simp)⟩
  · rw [n6] at hj
    have m1 : ∀ x, (A.ap r p k f).pl x = if x = k then r else A.pl x := fun x => rfl
    have m2 : ∀ x, (A.ap r p k f).pi x = if x = k then p else A.pi x := fun x => rfl
    have m3 : (A.ap r p k f).pv j = va_up A.pv k f j := rfl
    have m4 : (A.ap r p k f).pf j = va_up A.pf k (some r) j := rfl
    rw [m1, m2, m3, m4]
    by_cases z : j = k
    · subst z
      rw [if_pos rfl, if_pos rfl, va_up_self, va_up_self]
      exact ⟨rfl, two ⟨hx, hr, hrh⟩ (by simp) (by simp), two ⟨hy, hp0, hph⟩ (by simp) (by simp), hf⟩
    · rw [if_neg z, if_neg z, va_up_ne _ _ z, va_up_ne _ _ z]
      obtain ⟨h1, h2, h3, h5⟩ := h.pl j (by omega)
      exact ⟨h1, two h2 (by simp) (by simp), two h3 (by simp) (by simp), fun i hi => by rw [e _ (by omega) (by omega)]; exact h5 i hi⟩
  · rw [n6] at hi hj
    have m2 : ∀ x, (A.ap r p k f).pi x = if x = k then p else A.pi x := fun x => rfl
    rw [m2, m2] at q
    by_cases z1 : i = k
    · by_cases z2 : j = k
      · omega
      · rw [if_pos z1, if_neg z2] at q
        exact absurd q.symm (hnew j (by omega))
    · by_cases z2 : j = k
      · rw [if_neg z1, if_pos z2] at q
        exact absurd q (hnew i (by omega))
      · rw [if_neg z1, if_neg z2] at q
        exact h.pj i j (by omega) (by omega) q
  · rw [n4] at hj
    rw [e _ (by omega) (by omega), e _ (by omega) (by omega)]
    exact h.st j hj
/-- all cells that were there are as they were -/
def XE (X X' : AH) : Prop := ∀ (a : Nat) (e : AE), X[a]? = some e → X'[a]? = some e
theorem XE.rf (X : AH) : XE X X := fun _ _ h => h
theorem XE.tr {X X' X'' : AH} (h : XE X X') (h' : XE X' X'') : XE X X'' := fun a e q => h' a e (h a e q)
theorem XE.app (X Z : AH) : XE X (X ++ Z) := fun a e h => (List.getElem?_append_left (List.getElem?_eq_some_iff.mp h).1).trans h
theorem XE.apr {X X' : AH} (h : XE X X') (Z : AH) : XE X (X' ++ Z) := h.tr (XE.app X' Z)
theorem XE.set {X X' : AH} (h : XE X X') {a : Nat} {e : AE} (ha : X.length ≤ a) : XE X (X'.set a e) := fun q e' z => (List.getElem?_set_ne (by have := (List.getElem?_eq_some_iff.mp z).1; omega)).trans (h q e' z)
theorem XE.bd {X X' : AH} (q : XE X X') {lo hi b : Nat} {A : BA} {W : Nat → Int32} (h : BD X lo hi b A W) : BD X' lo hi b A W := h.sub (fun a e _ _ z => q a e z)
/-- no board, in cells n .. n + 6 -/
def bNew (n : Nat) : AH := [.inr (2, [.ref (n + 1), .ref (n + 3), .ref (n + 5), .ref (n + 6), .int 0, .int 0, .int 0, .int 0, .int 0, .int 0, .int 1, .int 100, .int 0, .int 0]), .inr (3, [.int 0, .ref (n + 2), .int 0]), .inl (6, 24, .inr (.inr (fun _ => none))), .inr (3, [.int 0, .ref (n + 4), .int 0]), .inl (6, 4, .inr (.inr (fun _ => none))), .inl (0, 6, .inl (fun _ => 0)), .inl (0, 6, .inl (fun _ => 0))]
def A0 (n : Nat) : BA := ((fun i => if i = 0 then n + 1 else if i = 1 then n + 2 else if i = 2 then n + 3 else if i = 3 then n + 4 else if i = 4 then n + 5 else n + 6), (fun _ _ => 0), (fun i => if i = 2 then 1 else if i = 3 then 100 else 0), ((fun _ => none), fun _ => none), (fun _ _ => 0), (fun _ => 0), fun _ => 0)
theorem BD.new {X : AH} (hX : 108 ≤ X.length) {W : Nat → Int32} (h : ∀ k, W k = 0) : BD (X ++ bNew X.length) X.length (X.length + 7) X.length (A0 X.length) W := by
  have n0 : ∀ j, nW W j = 0 := fun j => by unfold nW; rw [h]; rfl
  have key : ∀ j e, (bNew X.length)[j]? = some e → j < 7 → DX (X ++ bNew X.length) X.length (X.length + 7) (X.length + j) e := fun j e q hj => ⟨by rw [List.getElem?_append_right (by omega), Nat.add_sub_cancel_left]; exact q, by omega, by omega⟩
  have z : ∀ k, W k = nI 0 := h
  have ob : bfl (A0 X.length) W = [.ref (X.length + 1), .ref (X.length + 3), .ref (X.length + 5), .ref (X.length + 6), .int 0, .int 0, .int 0, .int 0, .int 0, .int 0, .int 1, .int 100, .int 0, .int 0] := by
    unfold bfl
    simp only [h]
    rfl
  refine ⟨Or.inr hX, ?_, ?_, key 2 _ rfl (by omega), ?_, key 4 _ rfl (by omega), key 5 _ rfl (by omega), key 6 _ rfl (by omega), ?_, fun q => absurd (h 0) q, ?_, ?_, ?_, fun k hk => ?_, fun j k hj => ?_, fun k hk => ?_, fun j k hj => ?_, fun k hk => ?_⟩
  · rw [ob]; exact key 0 _ rfl (by omega)
  · rw [n0]; exact key 1 _ rfl (by omega)
  · rw [n0]; exact key 3 _ rfl (by omega)
  · show X.length + 5 ≠ X.length + 6
    omega
  · rw [n0]; exact ⟨z 5, by omega⟩
  · rw [n0]; exact ⟨z 6, by omega⟩
  · rw [n0]; exact ⟨z 4, by omega⟩
  · rw [n0] at hk; exact absurd hk (Nat.not_lt_zero k)
  · rw [n0] at hj; exact absurd hj (Nat.not_lt_zero j)
  · rw [n0] at hk; exact absurd hk (Nat.not_lt_zero k)
  · rw [n0] at hj; exact absurd hj (Nat.not_lt_zero j)
  · rw [n0] at hk; exact absurd hk (Nat.not_lt_zero k)
