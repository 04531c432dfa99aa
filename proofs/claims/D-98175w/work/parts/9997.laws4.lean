-- PART 9997.laws4
/-! ===== plain laws: lots, the class's sums ===== -/
set_option maxRecDepth 100000
theorem s3_at {W : Nat → Int32} {law : Int32} {a f : Nat} {m : Int64} {h b : Nat} : ∀ (k i : Nat) (T : LQ), itr (s3 W law a f m) k i T h b = T h b + (if b = a ∧ i ≤ h ∧ h < i + k ∧ leW W law (nI h) (nI a) (fz f) = true then m else 0) := by
  intro k
  induction k with
  | zero =>
    intro i T
    rw [if_neg (by omega), Int64.add_zero]
    rfl
  | succ k ih =>
    intro i T
    show itr (s3 W law a f m) k (i + 1) (s3 W law a f m i T) h b = _
    rw [ih]
    unfold s3
    by_cases hl : leW W law (nI i) (nI a) (fz f) = true
    · rw [if_pos hl]
      by_cases e : h = i
      · subst e
        by_cases e2 : b = a
        · subst e2
          rw [if_neg (by omega), if_pos ⟨rfl, by omega, by omega, hl⟩]
          show (if h = h then vp_updL (T h) b (T h b + m) else T h) b + 0 = _
          rw [if_pos rfl, pk_uLs, Int64.add_zero]
        · rw [if_neg (by omega), if_neg (fun q => e2 q.1)]
          show (if h = h then vp_updL (T h) a (T h a + m) else T h) b + 0 = _
          rw [if_pos rfl, pk_uLn e2]
      · show (if h = i then vp_updL (T i) a (T i a + m) else T h) b + _ = _
        rw [if_neg e]
        congr 1
        by_cases q : b = a ∧ i + 1 ≤ h ∧ h < i + 1 + k ∧ leW W law (nI h) (nI a) (fz f) = true
        · rw [if_pos q, if_pos ⟨q.1, by omega, by omega, q.2.2.2⟩]
        · rw [if_neg q, if_neg (fun z => q ⟨z.1, by omega, by omega, z.2.2.2⟩)]
    · rw [if_neg hl]
      congr 1
      by_cases q : b = a ∧ i + 1 ≤ h ∧ h < i + 1 + k ∧ leW W law (nI h) (nI a) (fz f) = true
      · rw [if_pos q, if_pos ⟨q.1, by omega, by omega, q.2.2.2⟩]
      · rw [if_neg q, if_neg (fun z => ?_)]
        rcases Nat.eq_or_lt_of_le z.2.1 with w | w
        · subst w; exact hl z.2.2.2
        · exact q ⟨z.1, by omega, by omega, z.2.2.2⟩
/-- what one column's entry becomes, f by f -/
def sm2 (W : Nat → Int32) (law : Int32) (R : LQ) (h a : Nat) (f : Nat) (s : Int64) : Int64 := s + (if h < hoN W ∧ leW W law (nI h) (nI a) (fz f) = true then R a f else 0)
theorem s2_at {W : Nat → Int32} {law : Int32} {R : LQ} {a h b f : Nat} {T : LQ} : s2 W law R a f T h b = if b = a then sm2 W law R h a f (T h b) else T h b := by
  unfold s2 sm2
  by_cases hz : R a f = 0
  · rw [if_pos hz, hz, ite_self, Int64.add_zero, ite_self]
  · rw [if_neg hz, s3_at]
    by_cases e : b = a
    · rw [if_pos e]
      congr 1
      by_cases q : h < hoN W ∧ leW W law (nI h) (nI a) (fz f) = true
      · rw [if_pos ⟨e, by omega, by omega, q.2⟩, if_pos q]
      · rw [if_neg q, if_neg (fun z => q ⟨by omega, z.2.2.2⟩)]
    · rw [if_neg e, if_neg (fun z => e z.1), Int64.add_zero]
theorem s1_at {W : Nat → Int32} {law : Int32} {R : LQ} {a h b : Nat} : ∀ (k i : Nat) (T : LQ), itr (s2 W law R a) k i T h b = if b = a then itr (sm2 W law R h a) k i (T h b) else T h b := by
  intro k
  induction k with
  | zero => intro i T; by_cases e : b = a <;> simp [e, itr]
  | succ k ih =>
    intro i T
    show itr (s2 W law R a) k (i + 1) (s2 W law R a i T) h b = _
    rw [ih, s2_at]
    by_cases e : b = a
    · rw [if_pos e, if_pos e, if_pos e]; rfl
    · rw [if_neg e, if_neg e, if_neg e]
theorem sT_at {W : Nat → Int32} {law : Int32} {R : LQ} {h b : Nat} : ∀ (k i : Nat) (T : LQ), itr (s1 W law R) k i T h b = if i ≤ b ∧ b < i + k then itr (sm2 W law R h b) 13 0 (T h b) else T h b := by
  intro k
  induction k with
  | zero => intro i T; rw [if_neg (by omega)]; rfl
  | succ k ih =>
    intro i T
    show itr (s1 W law R) k (i + 1) (s1 W law R i T) h b = _
    rw [ih]
    have e0 : s1 W law R i T h b = if b = i then itr (sm2 W law R h i) 13 0 (T h b) else T h b := s1_at 13 0 T
    by_cases e : b = i
    · subst e
      rw [if_neg (by omega), if_pos (by omega), e0, if_pos rfl]
    · by_cases q : i + 1 ≤ b ∧ b < i + 1 + k
      · rw [if_pos q, if_pos (by omega), e0, if_neg e]
      · rw [if_neg q, if_neg (by omega), e0, if_neg e]
/-- the class's step: the sums -/
theorem sT_c {W : Nat → Int32} {law : Int32} {R : LQ} {h b : Nat} : sT W law R h b = if b < hoN W then itr (sm2 W law R h b) 13 0 0 else 0 := by
  unfold sT
  rw [sT_at]
  by_cases q : b < hoN W
  · rw [if_pos q, if_pos (by omega)]
  · rw [if_neg q, if_neg (by omega)]
/-! the reference's sums -/
theorem rh3_at {W : Nat → Int32} {law : Int32} {a f : Nat} {m : Int64} {h b : Nat} (ha : a < 13) (hb : b < 13) : ∀ (k i : Nat) (T : LT), itr (rh3 W law a f m) k i T (13 * (h + 1) + b) = T (13 * (h + 1) + b) + (if b = a ∧ i ≤ h ∧ h < i + k ∧ leW W law (nI h) (nI a - 1) (nI f - 1) = true then m else 0) := by
  intro k
  induction k with
  | zero =>
    intro i T
    rw [if_neg (by omega), Int64.add_zero]
    rfl
  | succ k ih =>
    intro i T
    show itr (rh3 W law a f m) k (i + 1) (rh3 W law a f m i T) (13 * (h + 1) + b) = _
    rw [ih]
    unfold rh3
    by_cases hl : leW W law (nI i) (nI a - 1) (nI f - 1) = true
    · rw [if_pos hl]
      by_cases e : h = i ∧ b = a
      · obtain ⟨e, e2⟩ := e
        subst e
        subst e2
        rw [if_neg (by omega), if_pos ⟨rfl, by omega, by omega, hl⟩, pk_uLs, Int64.add_zero]
      · rw [pk_uLn (by omega)]
        congr 1
        by_cases q : b = a ∧ i + 1 ≤ h ∧ h < i + 1 + k ∧ leW W law (nI h) (nI a - 1) (nI f - 1) = true
        · rw [if_pos q, if_pos ⟨q.1, by omega, by omega, q.2.2.2⟩]
        · rw [if_neg q, if_neg (fun z => q ⟨z.1, by omega, by omega, z.2.2.2⟩)]
    · rw [if_neg hl]
      congr 1
      by_cases q : b = a ∧ i + 1 ≤ h ∧ h < i + 1 + k ∧ leW W law (nI h) (nI a - 1) (nI f - 1) = true
      · rw [if_pos q, if_pos ⟨q.1, by omega, by omega, q.2.2.2⟩]
      · rw [if_neg q, if_neg (fun z => ?_)]
        rcases Nat.eq_or_lt_of_le z.2.1 with w | w
        · subst w; exact hl z.2.2.2
        · exact q ⟨z.1, by omega, by omega, z.2.2.2⟩
def smM (W : Nat → Int32) (law : Int32) (R : LT) (h a : Nat) (f : Nat) (s : Int64) : Int64 := s + (if h < hoN W ∧ leW W law (nI h) (nI a - 1) (nI f - 1) = true then R (13 * a + f) else 0)
theorem rh2_at {W : Nat → Int32} {law : Int32} {R : LT} {a h b f : Nat} {T : LT} (ha : a < 13) (hb : b < 13) : rh2 W law R a f T (13 * (h + 1) + b) = if b = a then smM W law R h a f (T (13 * (h + 1) + b)) else T (13 * (h + 1) + b) := by
  unfold rh2 smM
  by_cases hz : R (13 * a + f) = 0
  · rw [if_pos hz, hz, ite_self, Int64.add_zero, ite_self]
  · rw [if_neg hz, rh3_at ha hb]
    by_cases e : b = a
    · rw [if_pos e]
      congr 1
      by_cases q : h < hoN W ∧ leW W law (nI h) (nI a - 1) (nI f - 1) = true
      · rw [if_pos ⟨e, by omega, by omega, q.2⟩, if_pos q]
      · rw [if_neg q, if_neg (fun z => q ⟨by omega, z.2.2.2⟩)]
    · rw [if_neg e, if_neg (fun z => e z.1), Int64.add_zero]
theorem rh1_at {W : Nat → Int32} {law : Int32} {R : LT} {a h b : Nat} (ha : a < 13) (hb : b < 13) : ∀ (k i : Nat) (T : LT), itr (rh2 W law R a) k i T (13 * (h + 1) + b) = if b = a then itr (smM W law R h a) k i (T (13 * (h + 1) + b)) else T (13 * (h + 1) + b) := by
  intro k
  induction k with
  | zero => intro i T; by_cases e : b = a <;> simp [e, itr]
  | succ k ih =>
    intro i T
    show itr (rh2 W law R a) k (i + 1) (rh2 W law R a i T) (13 * (h + 1) + b) = _
    rw [ih, rh2_at ha hb]
    by_cases e : b = a
    · rw [if_pos e, if_pos e, if_pos e]; rfl
    · rw [if_neg e, if_neg e, if_neg e]
theorem rhT_at {W : Nat → Int32} {law : Int32} {R : LT} {h b : Nat} (hb : b < 13) : ∀ (k i : Nat) (T : LT), i + k ≤ 13 → itr (rh1 W law R) k i T (13 * (h + 1) + b) = if i ≤ b ∧ b < i + k then itr (smM W law R h b) (hoN W + 1) 0 (T (13 * (h + 1) + b)) else T (13 * (h + 1) + b) := by
  intro k
  induction k with
  | zero => intro i T _; rw [if_neg (by omega)]; rfl
  | succ k ih =>
    intro i T hik
    show itr (rh1 W law R) k (i + 1) (rh1 W law R i T) (13 * (h + 1) + b) = _
    rw [ih _ _ (by omega)]
    have e0 : rh1 W law R i T (13 * (h + 1) + b) = if b = i then itr (smM W law R h i) (hoN W + 1) 0 (T (13 * (h + 1) + b)) else T (13 * (h + 1) + b) := rh1_at (by omega) hb (hoN W + 1) 0 T
    by_cases e : b = i
    · subst e
      rw [if_neg (by omega), if_pos (by omega), e0, if_pos rfl]
    · by_cases q : i + 1 ≤ b ∧ b < i + 1 + k
      · rw [if_pos q, if_pos (by omega), e0, if_neg e]
      · rw [if_neg q, if_neg (by omega), e0, if_neg e]
theorem rhT_c {W : Nat → Int32} {law : Int32} {R : LT} {h b : Nat} (hs : hoN W ≤ 12) (hb : b < 13) : rhT W law R (13 * (h + 1) + b) = if b < hoN W + 1 then itr (smM W law R h b) (hoN W + 1) 0 0 else 0 := by
  unfold rhT
  rw [rhT_at hb _ _ _ (by omega)]
  by_cases q : b < hoN W + 1
  · rw [if_pos q, if_pos (by omega)]
  · rw [if_neg q, if_neg (by omega)]
/-! the sums alike -/
def aF (g : Nat → Int64) (f : Nat) (s : Int64) : Int64 := s + g f
theorem aF_add {g : Nat → Int64} : ∀ (k i : Nat) (s t : Int64), itr (aF g) k i (s + t) = s + itr (aF g) k i t := by
  intro k
  induction k with
  | zero => intro i s t; rfl
  | succ k ih =>
    intro i s t
    show itr (aF g) k (i + 1) (s + t + g i) = s + itr (aF g) k (i + 1) (t + g i)
    rw [Int64.add_assoc, ih]
theorem aF_split {g : Nat → Int64} : ∀ (k l i : Nat) (s : Int64), itr (aF g) (k + l) i s = itr (aF g) l (i + k) (itr (aF g) k i s) := by
  intro k
  induction k with
  | zero => intro l i s; rw [Nat.zero_add]; rfl
  | succ k ih =>
    intro l i s
    rw [show k + 1 + l = (k + l) + 1 by omega]
    show itr (aF g) (k + l) (i + 1) (aF g i s) = itr (aF g) l (i + (k + 1)) (itr (aF g) k (i + 1) (aF g i s))
    rw [ih, show i + 1 + k = i + (k + 1) by omega]
theorem aF_shift {g g' : Nat → Int64} : ∀ (k i i' : Nat) (s : Int64), (∀ j, j < k → g (i + j) = g' (i' + j)) → itr (aF g) k i s = itr (aF g') k i' s := by
  intro k
  induction k with
  | zero => intro i i' s _; rfl
  | succ k ih =>
    intro i i' s h
    show itr (aF g) k (i + 1) (s + g i) = itr (aF g') k (i' + 1) (s + g' i')
    rw [show g i = g' i' from h 0 (by omega)]
    exact ih _ _ _ (fun j hj => by have := h (j + 1) (by omega); rwa [show i + (j + 1) = i + 1 + j by omega, show i' + (j + 1) = i' + 1 + j by omega] at this)
theorem aF_zero {g : Nat → Int64} : ∀ (k i : Nat) (s : Int64), (∀ j, j < k → g (i + j) = 0) → itr (aF g) k i s = s := by
  intro k
  induction k with
  | zero => intro i s _; rfl
  | succ k ih =>
    intro i s h
    show itr (aF g) k (i + 1) (s + g i) = s
    rw [show g i = 0 from h 0 (by omega), Int64.add_zero]
    exact ih _ _ (fun j hj => by have := h (j + 1) (by omega); rwa [show i + (j + 1) = i + 1 + j by omega] at this)
/-- entries for all before and the one of none: first or last -/
theorem aF_turn {g g' : Nat → Int64} {n : Nat} (hn : n ≤ 12) (h1 : ∀ f, f < n → g f = g' (f + 1)) (h2 : ∀ f, n ≤ f → f < 12 → g f = 0) (h3 : g 12 = g' 0) : itr (aF g) 13 0 0 = itr (aF g') (n + 1) 0 0 := by
  rw [show 13 = (n + (12 - n)) + 1 by omega, aF_split, aF_split, aF_zero (12 - n) _ _ (fun j hj => h2 _ (by omega) (by omega)), aF_shift n 0 1 0 (g' := g') (fun j hj => by rw [Nat.zero_add, Nat.add_comm 1 j]; exact h1 j hj)]
  show itr (aF g') n 1 0 + g (0 + (n + (12 - n))) = itr (aF g') n 1 (0 + g' 0)
  rw [show 0 + (n + (12 - n)) = 12 by omega, h3, Int64.add_comm 0 (g' 0), aF_add, Int64.add_comm]
/-- the two tables alike -/
def Lo (W : Nat → Int32) (R : LQ) (R' : LT) : Prop := ∀ a, a < 12 → (∀ f, f < 12 → R a f = R' (13 * (a + 1) + (f + 1))) ∧ R a 12 = R' (13 * (a + 1)) ∧ (∀ f, hoN W ≤ f → f < 12 → R a f = 0)
theorem Lo.sums {W : Nat → Int32} {law : Int32} {R : LQ} {R' : LT} (hs : hoN W ≤ 12) (hr : Lo W R R') {h a : Nat} (ha : a < 12) : itr (sm2 W law R h a) 13 0 0 = itr (smM W law R' h (a + 1)) (hoN W + 1) 0 0 := by
  obtain ⟨h1, h2, h3⟩ := hr a ha
  refine aF_turn (g := fun f => if h < hoN W ∧ leW W law (nI h) (nI a) (fz f) = true then R a f else 0) (g' := fun b => if h < hoN W ∧ leW W law (nI h) (nI (a + 1) - 1) (nI b - 1) = true then R' (13 * (a + 1) + b) else 0) hs (fun f hf => ?_) (fun f hf1 hf2 => ?_) ?_
  · rw [show nI (a + 1) - 1 = nI a from pk_sub (b := 1) (by omega), show nI (f + 1) - 1 = nI f from pk_sub (b := 1) (by omega), show fz f = nI f from if_neg (by omega), h1 f (by omega)]
  · rw [h3 f hf1 hf2, ite_self]
  · rw [show nI (a + 1) - 1 = nI a from pk_sub (b := 1) (by omega), show nI 0 - 1 = (-1 : Int32) from by decide, show fz 12 = -1 from if_pos rfl, h2]
    rfl
theorem rh_row0 {W : Nat → Int32} {law : Int32} {R : LT} {j : Nat} (hj : j < 13) : rhT W law R j = 0 := by
  have k3 : ∀ (a f : Nat) (m : Int64) (k i : Nat) (T : LT), itr (rh3 W law a f m) k i T j = T j := by
    intro a f m k
    induction k with
    | zero => intro i T; rfl
    | succ k ih =>
      intro i T
      show itr (rh3 W law a f m) k (i + 1) (rh3 W law a f m i T) j = _
      rw [ih]
      unfold rh3
      split
      · rw [pk_uLn (by omega)]
      · rfl
  have k2 : ∀ (a k i : Nat) (T : LT), itr (rh2 W law R a) k i T j = T j := by
    intro a k
    induction k with
    | zero => intro i T; rfl
    | succ k ih =>
      intro i T
      show itr (rh2 W law R a) k (i + 1) (rh2 W law R a i T) j = _
      rw [ih]
      unfold rh2
      split
      · rfl
      · exact k3 _ _ _ _ _ _
  have k1 : ∀ (k i : Nat) (T : LT), itr (rh1 W law R) k i T j = T j := by
    intro k
    induction k with
    | zero => intro i T; rfl
    | succ k ih =>
      intro i T
      show itr (rh1 W law R) k (i + 1) (rh1 W law R i T) j = _
      rw [ih]
      exact k2 _ _ _ _
  exact k1 _ _ _
theorem Lo.step {W : Nat → Int32} {law : Int32} {R : LQ} {R' : LT} (hs : hoN W ≤ 12) (hr : Lo W R R') (h0 : ∀ f, f < 13 → R' f = 0) : Lo W (sT W law R) (rhT W law R') := by
  intro h hh
  refine ⟨fun f hf => ?_, ?_, fun f hf1 hf2 => ?_⟩
  · rw [sT_c, rhT_c hs (by omega)]
    by_cases q : f < hoN W
    · rw [if_pos q, if_pos (by omega)]
      exact hr.sums hs hf
    · rw [if_neg q, if_neg (by omega)]
  · have e := rhT_c (W := W) (law := law) (R := R') (h := h) (b := 0) hs (by omega)
    rw [Nat.add_zero] at e
    rw [sT_c, if_neg (by omega), e, if_pos (by omega)]
    refine (aF_zero (g := fun b => if h < hoN W ∧ leW W law (nI h) (nI 0 - 1) (nI b - 1) = true then R' (13 * 0 + b) else 0) (hoN W + 1) 0 0 (fun j hj => ?_)).symm
    rw [Nat.mul_zero, Nat.zero_add, Nat.zero_add, h0 j (by omega), ite_self]
  · rw [sT_c, if_neg (by omega)]
