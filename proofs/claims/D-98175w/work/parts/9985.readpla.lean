-- PART 9985.readpla
/-! ===== the reader's board: a player's numbers; a line's word ===== -/
set_option maxRecDepth 100000
section PL
variable {X0 X : AH} {r b n : Nat} {L : LX} {V : Nat → Int32} {A : BA}
theorem pla_step (R : RDS X0 r b n X (L, V) A) {t q j : Nat} {F : Nat → Int32} {e1 : AE} (hj : j < 5) (ht : X[t]? = some (.inr (15, [.ref (t + 1)]))) (hp : X[t + 1]? = some (.inl (0, 5, .inl F))) (h0 : X0.length ≤ t) (hq : nW V 6 = q) (hold : ∀ k, k < q → A.pi k ≠ t + 1) (hv : ∀ i, i < j → F i = V (96 + 5 * q + i)) (v : Int32) :
    RDS X0 r b n (X.set (t + 1) (.inl (0, 5, .inl (upd F j v)))) (L, upd V (96 + 5 * q + j) v) A ∧ (X.set (t + 1) (.inl (0, 5, .inl (upd F j v))))[t]? = some (.inr (15, [.ref (t + 1)])) ∧ (X.set (t + 1) (.inl (0, 5, .inl (upd F j v))))[t + 1]? = some (.inl (0, 5, .inl (upd F j v))) ∧ nW (upd V (96 + 5 * q + j) v) 6 = q ∧ (∀ i, i < j + 1 → upd F j v i = upd V (96 + 5 * q + j) v (96 + 5 * q + i)) := by
  refine ⟨(R.fr5 hp (by omega) (fun k hk => hold k (by omega))).hid (fun i hi => ?_), (List.getElem?_set_ne (by omega)).trans ht, List.getElem?_set_self (List.getElem?_eq_some_iff.mp hp).1, (nW_c (by rw [upd, if_neg (by omega)])).trans hq, fun i hi => ?_⟩
  · rw [upd, if_neg (by omega)]
  · by_cases z : i = j
    · subst z; rw [upd, if_pos rfl, upd, if_pos rfl]
    · rw [upd, if_neg z, upd, if_neg (by omega)]
      exact hv i (by omega)
end PL
section PM
variable {T : Nat → Int32} {n : Nat} {L : LX} {W : Nat → Int32}
theorem pla_eq {q : Nat} {s : PX} : pPla T n q s = pIn 6 (pTs T n 17 0 (pOf (fun W => hoW W - 1) (pTs T n 5 0 9 (96 + 5 * q + 3) (pTs T n 15 0 99 (96 + 5 * q + 2) (pTs T n 6 0 20 (96 + 5 * q + 1) (pTs T n 7 1 9 (96 + 5 * q) s))))) (96 + 5 * q + 4) (pTs T n 5 0 9 (96 + 5 * q + 3) (pTs T n 15 0 99 (96 + 5 * q + 2) (pTs T n 6 0 20 (96 + 5 * q + 1) (pTs T n 7 1 9 (96 + 5 * q) s))))) := rfl
theorem pla_n {V : Nat → Int32} {L1 : LX} {k : Nat} {y : LX × (Nat → Int32)} (h1 : pNe T n 17 (.inr (L, V)) = .inr (L1, V)) (h2 : (pNu T n 0 (hoW V - 1) (.inr (L1, V))).2 = .inr y) : pTs T n 17 0 (pOf (fun W => hoW W - 1) (.inr (L, V))) k (.inr (L, V)) = .inr (y.1, upd y.2 k (pNu T n 0 (hoW V - 1) (.inr (L1, V))).1) := by
  rw [pTs, pTo, h1]
  show pSt k _ (pNu T n 0 (hoW V - 1) (.inr (L1, V))).2 = _
  rw [h2]
  rfl
theorem pla_f1 {V : Nat → Int32} {k : Nat} {f : FT} (h1 : pNe T n 17 (.inr (L, V)) = .inl f) : pTs T n 17 0 (pOf (fun W => hoW W - 1) (.inr (L, V))) k (.inr (L, V)) = .inl f := by
  rw [pTs, pTo, h1]
  rfl
theorem pla_f2 {V : Nat → Int32} {L1 : LX} {k : Nat} {f : FT} (h1 : pNe T n 17 (.inr (L, V)) = .inr (L1, V)) (h2 : (pNu T n 0 (hoW V - 1) (.inr (L1, V))).2 = .inl f) : pTs T n 17 0 (pOf (fun W => hoW W - 1) (.inr (L, V))) k (.inr (L, V)) = .inl f := by
  rw [pTs, pTo, h1]
  show pSt k _ (pNu T n 0 (hoW V - 1) (.inr (L1, V))).2 = _
  rw [h2]
  rfl
/-! a line's word -/
theorem lin_1 (h : isB T 12 L = true) : pLin T n (.inr (L, W)) = pStay T n (pGo T n L W) := if_pos h
theorem lin_2 (h1 : isB T 12 L = false) (h : isB T 11 L = true) : pLin T n (.inr (L, W)) = pShut T n (pGo T n L W) := (if_neg (by rw [h1]; decide)).trans (if_pos h)
theorem lin_3 (h1 : isB T 12 L = false) (h2 : isB T 11 L = false) (h : isB T 3 L = true ∨ isB T 10 L = true ∨ isB T 16 L = true) : pLin T n (.inr (L, W)) = if W 5 = 24 then .inl (3, nI (lFr L)) else pCom T n (isB T 10 L) (isB T 16 L) (pGo T n L W) := (if_neg (by rw [h1]; decide)).trans ((if_neg (by rw [h2]; decide)).trans (if_pos h))
theorem lin_4 (h1 : isB T 12 L = false) (h2 : isB T 11 L = false) (h3 : isB T 3 L = false) (h4 : isB T 10 L = false) (h5 : isB T 16 L = false) (h : isB T 9 L = true) : pLin T n (.inr (L, W)) = if W 6 = 4 then .inl (3, nI (lFr L)) else pPla T n (nW W 6) (pGo T n L W) :=
  (if_neg (by rw [h1]; decide)).trans ((if_neg (by rw [h2]; decide)).trans ((if_neg (by rw [h3, h4, h5]; decide)).trans (if_pos h)))
theorem lin_5 (h1 : isB T 12 L = false) (h2 : isB T 11 L = false) (h3 : isB T 3 L = false) (h4 : isB T 10 L = false) (h5 : isB T 16 L = false) (h6 : isB T 9 L = false) : pLin T n (.inr (L, W)) = pTic T n (pNe T n 13 (.inr (L, W))) := by
  refine ((if_neg (by rw [h1]; decide)).trans ((if_neg (by rw [h2]; decide)).trans ((if_neg (by rw [h3, h4, h5]; decide)).trans (if_neg (by rw [h6]; decide))))).trans ?_
  show (if isB T 13 L = true then pTic T n (pGo T n L W) else .inl (1, nI (lFr L))) = pTic T n (if isB T 13 L = true then pGo T n L W else .inl (1, nI (lFr L)))
  split <;> rfl
theorem tic_n {L1 L2 : LX} (h1 : (pNu T n 1 99 (.inr (L, W))).2 = .inr (L1, W)) (h2 : (pTo T n 1 1 500 (.inr (L1, W))).2 = .inr (L2, W)) : pTic T n (.inr (L, W)) = .inr (L2, upd (upd W 11 (pTo T n 1 1 500 (.inr (L1, W))).1) 10 (pNu T n 1 99 (.inr (L, W))).1) := by
  rw [pTic, h1, pTs_st (by omega), ts_go h2]
  rfl
theorem tic_f1 {s : PX} {f : FT} (h1 : (pNu T n 1 99 s).2 = .inl f) : pTic T n s = .inl f := by
  rw [pTic, h1]
  rfl
theorem tic_f2 {L1 : LX} {f : FT} (h1 : (pNu T n 1 99 (.inr (L, W))).2 = .inr (L1, W)) (h2 : (pTo T n 1 1 500 (.inr (L1, W))).2 = .inl f) : pTic T n (.inr (L, W)) = .inl f := by
  rw [pTic, h1, pTs_st (by omega), ts_f h2]
  rfl
end PM
/-! tickets and what each costs -/
def BA.tke (A : BA) (t e : Int32) : BA := (A.1, A.2.1, upd (upd A.2.2.1 3 e) 2 t, A.2.2.2)
theorem BD.tke {X : AH} {lo hi b : Nat} {A : BA} {W : Nat → Int32} (h : BD X lo hi b A W) (t e : Int32) : BD (X.set b (.inr (2, ((bfl A W).set 10 (.int t)).set 11 (.int e)))) lo hi b (A.tke t e) (upd (upd W 11 e) 10 t) := by
  have hb := h.ob.1
  have e4 : nW (upd (upd W 11 e) 10 t) 4 = nW W 4 := rfl
  have e5 : nW (upd (upd W 11 e) 10 t) 5 = nW W 5 := rfl
  have e6 : nW (upd (upd W 11 e) 10 t) 6 = nW W 6 := rfl
  have ee : ∀ j, 12 ≤ j → upd (upd W 11 e) 10 t j = W j := fun j hj => by rw [upd, if_neg (by omega), upd, if_neg (by omega)]
  refine ⟨h.dy, ?_, h.od.other hb (by simp), h.oq.other hb (by simp), h.op.other hb (by simp), h.orr.other hb (by simp), h.of.other hb (by simp), h.os.other hb (by simp), h.fs, fun _ => ⟨rfl, rfl⟩, h.n5, h.n6, h.n4, fun k hk => ?_, h.mi, fun k hk => ?_, h.pj, fun k hk => ?_⟩
  · exact h.ob.set_s
  · obtain ⟨h1, h2⟩ := h.mo k hk
    unfold mofl at h2 ⊢
    rw [ee (24 + 3 * k) (by omega), ee (24 + 3 * k + 1) (by omega), ee (24 + 3 * k + 2) (by omega)]
    exact ⟨h1, h2.other hb (by simp)⟩
  · obtain ⟨h1, h2, h3, h4⟩ := h.pl k hk
    exact ⟨h1, h2.other hb (by simp), h3.other hb (by simp), fun i hi => (h4 i hi).trans (ee _ (by omega)).symm⟩
  · rw [ee (12 + 2 * k) (by omega), ee (12 + 2 * k + 1) (by omega)]
    exact h.st k hk
theorem RDS.tke {X0 X : AH} {r b n : Nat} {L : LX} {W : Nat → Int32} {A : BA} (h : RDS X0 r b n X (L, W) A) (t e : Int32) : RDS X0 r b n (X.set b (.inr (2, ((bfl A W).set 10 (.int t)).set 11 (.int e)))) (L, upd (upd W 11 e) 10 t) (A.tke t e) :=
  h.up List.length_set (h.xe.set h.bd.ob.2.1) (List.getElem?_set_ne h.br) (h.bd.tke t e)
