-- PART 9987.readall
/-! ===== the reader: lines, one by one ===== -/
set_option maxRecDepth 100000
section RL2
variable {T : Nat → Int32} {n : Nat} {L L1 : LX} {W W1 : Nat → Int32}
def pLn (T : Nat → Int32) (n : Nat) (L : LX) (W : Nat → Int32) : PX := if W 9 = 0 then pFi T n (.inr (L, W)) else pLin T n (.inr (L, W))
theorem one_eq : pOne T n (.inr (L, W)) = pIn 9 (pNx T n (pSem (pLn T n L W))) := rfl
theorem one_f {f : FT} (h : pLn T n L W = .inl f) : pOne T n (.inr (L, W)) = .inl f := by
  rw [one_eq, h]
  rfl
theorem one_s (h : pLn T n L W = .inr (L1, W1)) (h2 : ¬ lTk L1 = 3) : pOne T n (.inr (L, W)) = .inl (1, nI (lFr L1)) := by
  rw [one_eq, h, show pSem (.inr (L1, W1)) = .inl (1, nI (lFr L1)) from if_neg h2]
  rfl
theorem one_n (h : pLn T n L W = .inr (L1, W1)) (h2 : lTk L1 = 3) : pOne T n (.inr (L, W)) = .inr (lx T n (lAt L1), upd W1 9 (W1 9 + 1)) := by
  rw [one_eq, h, show pSem (.inr (L1, W1)) = .inr (L1, W1) from if_pos h2]
  rfl
theorem all_0 {m : Nat} (h : lTk L = 0) : pAll T n (m + 1) (.inr (L, W)) = .inr (L, W) := if_neg (by show ¬ (!decide (lTk L = 0)) = true; rw [decide_eq_true h]; decide)
theorem all_1 {m : Nat} (h : ¬ lTk L = 0) : pAll T n (m + 1) (.inr (L, W)) = pAll T n m (pOne T n (.inr (L, W))) := if_pos (by show (!decide (lTk L = 0)) = true; rw [decide_eq_false h]; rfl)
theorem is_len {w : Nat} (h : isB T w L = true) : lAt L = lFr L + stN_ w := by
  unfold isB at h
  rw [Bool.and_eq_true, Bool.and_eq_true, decide_eq_true_eq, decide_eq_true_eq] at h
  exact h.1.2
theorem ne_len {w : Nat} {y : LX × (Nat → Int32)} (h : pNe T n w (.inr (L, W)) = .inr y) : lAt L = lFr L + stN_ w := by
  have h3 : (if isB T w L = true then pGo T n L W else .inl (1, nI (lFr L))) = .inr y := h
  split at h3
  · rename_i q
    exact is_len q
  · cases h3
theorem pTs_i {w k : Nat} {lo hi : Int32} {s : PX} {y : LX × (Nat → Int32)} (h : pTs T n w lo hi k s = .inr y) : ∃ x, s = .inr x := by
  obtain ⟨x, v, h1, -⟩ := pTs_c h
  exact ⟨x, h1⟩
/-- a line that is right begins with a word of three letters or more -/
theorem ln_len {y : LX × (Nat → Int32)} (h : pLn T n L W = .inr y) : lFr L + 3 ≤ lAt L := by
  have len : ∀ {w : Nat}, isB T w L = true → 3 ≤ stN_ w → lFr L + 3 ≤ lAt L := fun a b => by rw [is_len a]; omega
  unfold pLn at h
  split at h
  · rw [pFi_te] at h
    obtain ⟨x1, e1⟩ := pTs_i h
    obtain ⟨x2, e2⟩ := pTs_i e1
    obtain ⟨x3, e3⟩ := pTs_i e2
    obtain ⟨x4, e4⟩ := pTs_i e3
    cases hq : pNe T n 0 (.inr (L, W)) with
    | inl f => rw [hq] at e4; cases e4
    | inr z =>
      rw [ne_len hq]
      have : 3 ≤ stN_ 0 := by decide
      omega
  · cases h12 : isB T 12 L with
    | true => exact len h12 (by decide)
    | false =>
    cases h11 : isB T 11 L with
    | true => exact len h11 (by decide)
    | false =>
    cases h3 : isB T 3 L with
    | true => exact len h3 (by decide)
    | false =>
    cases h10 : isB T 10 L with
    | true => exact len h10 (by decide)
    | false =>
    cases h16 : isB T 16 L with
    | true => exact len h16 (by decide)
    | false =>
    cases h9 : isB T 9 L with
    | true => exact len h9 (by decide)
    | false =>
    rw [lin_5 h12 h11 h3 h10 h16 h9] at h
    cases hq : pNe T n 13 (.inr (L, W)) with
    | inl f => rw [hq] at h; cases h
    | inr z =>
      rw [ne_len hq]
      have : 3 ≤ stN_ 13 := by decide
      omega
theorem ln_adv {y : LX × (Nat → Int32)} (hL : lAt L ≤ n) (hb : WFb W) (hl : WFl W (lAt L)) (h : pLn T n L W = .inr y) : Adv T n L y.1 ∧ y.2 9 = W 9 := by
  unfold pLn at h
  split at h
  · obtain ⟨⟨a, b, c, d, -, -, -, -, e⟩, h2⟩ := pFi_c (x := (L, W)) hL h
    exact ⟨h2, by rw [e]; rfl⟩
  · obtain ⟨q, h2⟩ := pLin_c (x := (L, W)) hL hb.1 h
    refine ⟨h2, ?_⟩
    rcases q with ⟨t, m, -, -, -, e⟩ | ⟨x, -, -, -, e⟩ | ⟨a, o, c, -, -, -, -, e⟩ | ⟨a, b, c, d, x, -, -, -, -, -, -, e⟩ | ⟨a, b, -, -, e⟩
    · rw [e]
      dsimp only
      cases q : frS W (nI t) with
      | some k => rw [stU_s9 q, upd, if_neg (by omega), upd, if_neg (by omega)]
      | none => rw [stU_n9 q, upd, if_neg (by omega), upd, if_neg (by omega), upd, if_neg (by omega)]
    · rw [e]; rfl
    · rw [e]
      unfold coU
      dsimp only
      rw [upd, if_neg (by omega), upd, if_neg (by omega), upd, if_neg (by omega), upd, if_neg (by omega)]
    · rw [e]
      dsimp only
      rw [upd, if_neg (by omega), upd, if_neg (by omega), upd, if_neg (by omega), upd, if_neg (by omega), upd, if_neg (by omega), upd, if_neg (by omega)]
    · rw [e]; rfl
theorem ln_fr (hL : lAt L ≤ n) (hb : WFb W) (hl : WFl W (lAt L)) (h : pLn T n L W = .inr (L1, W1)) (h3 : lTk L1 = 3) : lFr L + 4 ≤ lFr (lx T n (lAt L1)) := by
  have h1 := ln_len h
  obtain ⟨⟨i, a1, a2, e⟩, -⟩ := ln_adv hL hb hl h
  dsimp only at e
  have h5 := lx_fr (T := T) a2
  have h6 := lx_ok (T := T) a2
  rw [e] at h3
  have h4 := lx_sg h3
  rw [← e] at h4 h5 h6
  have h7 := lx_fr (T := T) h6.2.1
  omega
theorem ln_9 (hL : lAt L ≤ n) (hn : n ≤ 1200) (hb : WFb W) (hl : WFl W (lAt L)) (h : pLn T n L W = .inr (L1, W1)) : ¬ upd W1 9 (W1 9 + 1) 9 = 0 := by
  have e := (ln_adv hL hb hl h).2
  dsimp only at e
  obtain ⟨m, h1, h2, -⟩ := hl
  show ¬ W1 9 + 1 = 0
  rw [e, h1, nI_1]
  intro q
  have := nI_ij (b := 0) (by omega) (by omega) q
  omega
end RL2
