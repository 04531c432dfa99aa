-- PART 9979.readrel2
/-! ===== the reader's board: what each line writes ===== -/
set_option maxRecDepth 100000
theorem RDS.db {X0 X : AH} {r b n : Nat} {x : LX × (Nat → Int32)} {A : BA} (h : RDS X0 r b n X x A) : dyn b := Or.inr (by have := h.x0; have := h.bd.ob.2.1; omega)
theorem RDS.br {X0 X : AH} {r b n : Nat} {x : LX × (Nat → Int32)} {A : BA} (h : RDS X0 r b n X x A) : b ≠ r := h.nb h.bd.ob.1 (by simp [lxo, ro])
/-- only the board's cells are written -/
theorem RDS.up {X0 X X' : AH} {r b n : Nat} {L : LX} {W W' : Nat → Int32} {A A' : BA} (h : RDS X0 r b n X (L, W) A) (hl : X'.length = X.length) (hx : XE X0 X') (hr : X'[r]? = X[r]?) (hb : BD X' X0.length X.length b A' W') : RDS X0 r b n X' (L, W') A' :=
  ⟨hx, h.x0, h.rl, hr.trans h.rr, h.2.2.2.2.1, by rw [hl]; exact hb⟩
theorem RDS.put {X0 X : AH} {r b n : Nat} {L : LX} {W W' : Nat → Int32} {A : BA} (h : RDS X0 r b n X (L, W) A) (e : ∀ j, j = 4 ∨ j = 5 ∨ j = 6 ∨ 12 ≤ j → W' j = W j) (te : W' 0 ≠ 0 → A.tk = W' 10 ∧ A.ec = W' 11) : RDS X0 r b n (X.set b (.inr (2, bfl A W'))) (L, W') A :=
  h.up List.length_set (h.xe.set h.bd.ob.2.1) (List.getElem?_set_ne h.br) (h.bd.obj e te)
theorem RDS.same {X0 X : AH} {r b n : Nat} {L : LX} {W W' : Nat → Int32} {A : BA} (h : RDS X0 r b n X (L, W) A) (e : ∀ j, j ≠ 10 → j ≠ 11 → W' j = W j) (te : W' 0 ≠ 0 → A.tk = W' 10 ∧ A.ec = W' 11) : RDS X0 r b n X (L, W') A := by
  have q := h.put (W' := W') (fun j hj => e j (by omega) (by omega)) te
  have eb : bfl A W' = bfl A W := by
    unfold bfl
    rw [e 0 (by omega) (by omega), e 1 (by omega) (by omega), e 2 (by omega) (by omega), e 3 (by omega) (by omega), e 4 (by omega) (by omega), e 7 (by omega) (by omega), e 8 (by omega) (by omega), e 9 (by omega) (by omega)]
  rw [eb, x_set h.bd.ob.1] at q
  exact q
section RW
variable {T : Nat → Int32} {n : Nat} {L L1 : LX} {W W1 : Nat → Int32}
theorem ne_W {w : Nat} (h : pNe T n w (.inr (L, W)) = .inr (L1, W1)) : W1 = W := by
  obtain ⟨x, h1, h2, -⟩ := pNe_c h
  cases h1
  exact h2
theorem nu_W {lo hi : Int32} (h : (pNu T n lo hi (.inr (L, W))).2 = .inr (L1, W1)) : W1 = W := by
  obtain ⟨x, h1, -, h2, -⟩ := pNu_c (T := T) (n := n) (lo := lo) (hi := hi) (v := (pNu T n lo hi (.inr (L, W))).1) (s := .inr (L, W)) (y := (L1, W1)) (by rw [← h])
  cases h1
  exact h2
theorem to_W {w : Nat} {lo hi : Int32} (h : (pTo T n w lo hi (.inr (L, W))).2 = .inr (L1, W1)) : W1 = W := by
  obtain ⟨x, h1, -, h2, -⟩ := pTo_c (T := T) (n := n) (w := w) (lo := lo) (hi := hi) (v := (pTo T n w lo hi (.inr (L, W))).1) (s := .inr (L, W)) (y := (L1, W1)) (by rw [← h])
  cases h1
  exact h2
/-- what a number was -/
theorem nu_is {lo hi : Int32} {y : LX × (Nat → Int32)} (h : (pNu T n lo hi (.inr (L, W))).2 = .inr y) : lTk L = 2 ∧ inI (lVa L) lo hi = true ∧ (pNu T n lo hi (.inr (L, W))).1 = lVa L := by
  by_cases h1 : lTk L = 2
  · cases h2 : inI (lVa L) lo hi with
    | false => rw [num_f2 h1 h2] at h; cases h
    | true => exact ⟨h1, rfl, by rw [num_2 h1 h2]⟩
  · rw [num_f1 h1] at h; cases h
theorem ho_W {bad : LX → (Nat → Int32) → Bool} (h : (pHo T n bad (.inr (L, W))).2 = .inr (L1, W1)) : W1 = W := by
  cases h2 : pHoF bad (.inr (L, W)) with
  | inl f => rw [pHo_b h2] at h; cases h
  | inr y =>
    have hy : y = (L, W) := by
      have h3 : (if hoL L W = true ∧ bad L W = true then (.inl (2, nI (lFr L)) : PX) else .inr (L, W)) = .inr y := h2
      split at h3
      · cases h3
      · cases h3; rfl
    subst hy
    rw [pHo_n h2] at h
    exact nu_W h
theorem room_W {q : Bool} (h : pRoom T n q (.inr (L, W)) = .inr (L1, W1)) : q = true ∧ L1 = lx T n (lAt L) ∧ W1 = W := by
  have h3 : (if q = true then pGo T n L W else .inl (3, nI (lFr L))) = .inr (L1, W1) := h
  split at h3
  · rename_i h4
    cases h3
    exact ⟨h4, rfl, rfl⟩
  · cases h3
theorem ts_go {w k : Nat} {lo hi : Int32} (h : (pTo T n w lo hi (.inr (L, W))).2 = .inr (L1, W1)) : pTs T n w lo hi k (.inr (L, W)) = .inr (L1, upd W k (pTo T n w lo hi (.inr (L, W))).1) := by
  have e := to_W h
  subst e
  rw [pTs, h]
  rfl
theorem ts_f {w k : Nat} {lo hi : Int32} {s : PX} {f : FT} (h : (pTo T n w lo hi s).2 = .inl f) : pTs T n w lo hi k s = .inl f := by
  rw [pTs, h]
  rfl
/-! the first line: tickets and what each costs may be laid at its beginning -/
def pTE (s : PX) : PX := pSt 11 100 (pSt 10 1 s)
theorem pNu_st {lo hi : Int32} {k : Nat} {v : Int32} {s : PX} : pNu T n lo hi (pSt k v s) = ((pNu T n lo hi s).1, pSt k v (pNu T n lo hi s).2) := by
  cases s with
  | inl f => rfl
  | inr x =>
    obtain ⟨L, W⟩ := x
    show pNu T n lo hi (.inr (L, upd W k v)) = _
    by_cases h1 : lTk L = 2
    · cases h2 : inI (lVa L) lo hi with
      | false => rw [num_f2 h1 h2, num_f2 h1 h2]; rfl
      | true => rw [num_2 h1 h2, num_2 h1 h2]; rfl
    · rw [num_f1 h1, num_f1 h1]; rfl
theorem pNe_st {w : Nat} {k : Nat} {v : Int32} {s : PX} : pNe T n w (pSt k v s) = pSt k v (pNe T n w s) := by
  cases s with
  | inl f => rfl
  | inr x =>
    obtain ⟨L, W⟩ := x
    show (if isB T w L = true then pGo T n L (upd W k v) else .inl (1, nI (lFr L))) = pSt k v (if isB T w L = true then pGo T n L W else .inl (1, nI (lFr L)))
    split <;> rfl
theorem pSt_cm {k l : Nat} {v u : Int32} {s : PX} (h : k ≠ l) : pSt k v (pSt l u s) = pSt l u (pSt k v s) := by
  cases s with
  | inl f => rfl
  | inr x =>
    obtain ⟨L, W⟩ := x
    show Sum.inr (L, upd (upd W l u) k v) = Sum.inr (L, upd (upd W k v) l u)
    have e : upd (upd W l u) k v = upd (upd W k v) l u := by
      funext j
      unfold upd
      by_cases h1 : j = k
      · subst h1; rw [if_pos rfl, if_neg h, if_pos rfl]
      · rw [if_neg h1, if_neg h1]
    rw [e]
theorem pTs_st {w k l : Nat} {lo hi u : Int32} {s : PX} (h : k ≠ l) : pTs T n w lo hi k (pSt l u s) = pSt l u (pTs T n w lo hi k s) := by
  unfold pTs pTo
  rw [pNe_st, pNu_st]
  exact pSt_cm h
theorem pTs_te {w k : Nat} {lo hi : Int32} {s : PX} (h : k < 10) : pTs T n w lo hi k (pTE s) = pTE (pTs T n w lo hi k s) := by
  unfold pTE
  rw [pTs_st (by omega), pTs_st (by omega)]
theorem pFi_te {s : PX} : pFi T n s = pTs T n 8 0 9 3 (pTs T n 14 1 200 2 (pTs T n 4 1 3 1 (pTs T n 18 1 4 0 (pTE (pNe T n 0 s))))) := by
  rw [pTs_te (by omega), pTs_te (by omega), pTs_te (by omega), pTs_te (by omega)]
  rfl
end RW
