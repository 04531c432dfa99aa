-- PART 9983.readadd
/-! ===== the reader's board: comings and players added ===== -/
set_option maxRecDepth 100000
theorem BD.free14 {X : AH} {lo hi b t : Nat} {A : BA} {W : Nat → Int32} {fs : List Value} {e' : AE} (h : BD X lo hi b A W) (hb : X[t]? = some (.inr (14, fs))) (hk : ∀ k, k < nW W 5 → A.mo k ≠ t) : BD (X.set t e') lo hi b A W :=
  ⟨h.dy, h.ob.other hb (by simp), h.od.other hb (by simp), h.oq.other hb (by simp), h.op.other hb (by simp), h.orr.other hb (by simp), h.of.other hb (by simp), h.os.other hb (by simp), h.fs, h.te, h.n5, h.n6, h.n4, fun k q => ⟨(h.mo k q).1, (h.mo k q).2.set (fun z => hk k q z.symm)⟩, h.mi, fun k q => ⟨(h.pl k q).1, (h.pl k q).2.1.other hb (by simp), (h.pl k q).2.2.1.other hb (by simp), (h.pl k q).2.2.2⟩, h.pj, h.st⟩
theorem BD.free5 {X : AH} {lo hi b t : Nat} {A : BA} {W : Nat → Int32} {f : Nat → Int32} {e' : AE} (h : BD X lo hi b A W) (hb : X[t]? = some (.inl (0, 5, .inl f))) (hk : ∀ k, k < nW W 6 → A.pi k ≠ t) : BD (X.set t e') lo hi b A W :=
  ⟨h.dy, h.ob.other hb (by simp), h.od.other hb (by simp), h.oq.other hb (by simp), h.op.other hb (by simp), h.orr.other hb (by simp), h.of.other hb (by simp), h.os.other hb (by simp), h.fs, h.te, h.n5, h.n6, h.n4, fun k q => ⟨(h.mo k q).1, (h.mo k q).2.other hb (by simp)⟩, h.mi, fun k q => ⟨(h.pl k q).1, (h.pl k q).2.1.other hb (by simp), (h.pl k q).2.2.1.set (fun z => hk k q z.symm), (h.pl k q).2.2.2⟩, h.pj, h.st⟩
section RA
variable {X0 X : AH} {r b n : Nat} {L : LX} {W W' : Nat → Int32} {A : BA}
theorem RDS.fr14 (h : RDS X0 r b n X (L, W) A) {t : Nat} {fs : List Value} {e' : AE} (ht : X[t]? = some (.inr (14, fs))) (h0 : X0.length ≤ t) (hk : ∀ k, k < nW W 5 → A.mo k ≠ t) : RDS X0 r b n (X.set t e') (L, W) A :=
  h.up List.length_set (h.xe.set h0) (List.getElem?_set_ne (h.nb ht (by simp [lxo, ro]))) (h.bd.free14 ht hk)
theorem RDS.fr5 (h : RDS X0 r b n X (L, W) A) {t : Nat} {f : Nat → Int32} {e' : AE} (ht : X[t]? = some (.inl (0, 5, .inl f))) (h0 : X0.length ≤ t) (hk : ∀ k, k < nW W 6 → A.pi k ≠ t) : RDS X0 r b n (X.set t e') (L, W) A :=
  h.up List.length_set (h.xe.set h0) (List.getElem?_set_ne (h.nb ht (by simp [lxo, ro]))) (h.bd.free5 ht hk)
/-- what lies behind the players is not seen -/
theorem RDS.hid (h : RDS X0 r b n X (L, W) A) (e : ∀ j, j < 96 + 5 * nW W 6 → W' j = W j) : RDS X0 r b n X (L, W') A := by
  have q := h.bd
  dsimp only at q
  have e5 : nW W' 5 = nW W 5 := nW_c (e 5 (by omega))
  have e6 : nW W' 6 = nW W 6 := nW_c (e 6 (by omega))
  have e4 : nW W' 4 = nW W 4 := nW_c (e 4 (by omega))
  have h5 := q.n5
  have h6 := q.n6
  have h4 := q.n4
  have ob : bfl A W' = bfl A W := by
    unfold bfl
    rw [e 0 (by omega), e 1 (by omega), e 2 (by omega), e 3 (by omega), e 4 (by omega), e 7 (by omega), e 8 (by omega), e 9 (by omega)]
  refine h.up rfl h.xe rfl ⟨q.dy, by rw [ob]; exact q.ob, by rw [e5]; exact q.od, q.oq, by rw [e6]; exact q.op, q.orr, q.of, q.os, q.fs, fun z => ?_, by rw [e5, e 5 (by omega)]; exact h5, by rw [e6, e 6 (by omega)]; exact h6, by rw [e4, e 4 (by omega)]; exact h4, fun k hk => ?_, fun i j hi hj z => q.mi i j (by omega) (by omega) z, fun k hk => ?_, fun i j hi hj z => q.pj i j (by omega) (by omega) z, fun k hk => ?_⟩
  · rw [e 0 (by omega)] at z
    rw [e 10 (by omega), e 11 (by omega)]
    exact q.te z
  · rw [e5] at hk
    obtain ⟨h1, h2⟩ := q.mo k hk
    unfold mofl at h2 ⊢
    rw [e (24 + 3 * k) (by omega), e (24 + 3 * k + 1) (by omega), e (24 + 3 * k + 2) (by omega)]
    exact ⟨h1, h2⟩
  · rw [e6] at hk
    obtain ⟨h1, h2, h3, h4⟩ := q.pl k hk
    exact ⟨h1, h2, h3, fun i hi => (h4 i hi).trans (e _ (by omega)).symm⟩
  · rw [e4] at hk
    rw [e (12 + 2 * k) (by omega), e (12 + 2 * k + 1) (by omega)]
    exact q.st k hk
theorem RDS.addm (h : RDS X0 r b n X (L, W) A) {t : Nat} {a z c : Int32} (ht : X[t]? = some (.inr (14, [.int a, .int z, .int c]))) (h0 : X0.length ≤ t) (hk : ∀ k, k < nW W 5 → A.mo k ≠ t) (h24 : nW W 5 < 24) : RDS X0 r b n ((X.set A.dq (.inl (6, 24, .inr (.inr (va_up A.df (nW W 5) (some t)))))).set A.d (.inr (3, [.int (A.dm + 1), .ref A.dq, .int (nI (nW W 5 + 1))]))) (L, coU W a z c) (A.am t (nW W 5)) := by
  have q := h.bd
  dsimp only at q
  refine h.up (by rw [List.length_set, List.length_set]) ((h.xe.set q.oq.2.1).set q.od.2.1) ?_ (q.addm rfl h24 h0 (List.getElem?_eq_some_iff.mp ht).1 ?_ hk ?_ ?_)
  · rw [List.getElem?_set_ne (h.nb q.od.1 (by simp [lxo, ro])), List.getElem?_set_ne (h.nb q.oq.1 (by simp [lxo, ro]))]
  · rw [ht]
    unfold mofl coU
    rw [upd, if_neg (by omega), upd, if_neg (by omega), upd, if_neg (by omega), upd, if_pos rfl, upd, if_neg (by omega), upd, if_neg (by omega), upd, if_pos rfl, upd, if_neg (by omega), upd, if_pos rfl]
  · intro j h1 h2
    unfold coU
    rw [upd, if_neg h1, upd, if_neg (by omega), upd, if_neg (by omega), upd, if_neg (by omega)]
  · unfold coU
    rw [upd, if_pos rfl, ← nI_1, ← q.n5.1]
theorem RDS.addp (h : RDS X0 r b n X (L, W) A) {t p : Nat} {f : Nat → Int32} (ht : X[t]? = some (.inr (15, [.ref p]))) (hp : X[p]? = some (.inl (0, 5, .inl f))) (h0 : X0.length ≤ t) (h1 : X0.length ≤ p) (hk : ∀ k, k < nW W 6 → A.pi k ≠ p) (h4 : nW W 6 < 4) (e : ∀ j, j < 96 + 5 * nW W 6 → j ≠ 6 → W' j = W j) (e6 : W' 6 = W 6 + 1) (hz : ∀ j, 96 + 5 * nW W 6 + 5 ≤ j → W' j = W j) (hf : ∀ i, i < 5 → f i = W' (96 + 5 * nW W 6 + i)) : RDS X0 r b n ((X.set A.pq (.inl (6, 4, .inr (.inr (va_up A.pf (nW W 6) (some t)))))).set A.p (.inr (3, [.int (A.pm + 1), .ref A.pq, .int (nI (nW W 6 + 1))]))) (L, W') (A.ap t p (nW W 6) f) := by
  have q := h.bd
  dsimp only at q
  refine h.up (by rw [List.length_set, List.length_set]) ((h.xe.set q.orr.2.1).set q.op.2.1) ?_ (q.addp rfl h4 h0 (List.getElem?_eq_some_iff.mp ht).1 h1 (List.getElem?_eq_some_iff.mp hp).1 ht hp hk hf ?_ ?_)
  · rw [List.getElem?_set_ne (h.nb q.op.1 (by simp [lxo, ro])), List.getElem?_set_ne (h.nb q.orr.1 (by simp [lxo, ro]))]
  · intro j h2 h3
    rcases h3 with h3 | h3
    · exact e j h3 h2
    · exact hz j h3
  · rw [e6, ← nI_1, ← q.n6.1]
end RA
section RB
variable {T : Nat → Int32} {n : Nat} {L L1 : LX} {W W1 : Nat → Int32}
theorem room_t : pRoom T n true (.inr (L, W)) = .inr (lx T n (lAt L), W) := rfl
theorem room_f : pRoom T n false (.inr (L, W)) = .inl (3, nI (lFr L)) := rfl
theorem com_f1 {red tw : Bool} {s : PX} {f : FT} (h : (pHo T n (badO (-1)) s).2 = .inl f) : pCom T n red tw s = .inl f := by
  show pCoE (pHo T n (badO (-1)) s).1 (pSec T n tw (pHo T n (badO (-1)) s).1 (pHo T n (badO (-1)) s).2).1 (b2i red) (pSec T n tw (pHo T n (badO (-1)) s).1 (pHo T n (badO (-1)) s).2).2 = _
  rw [h]
  cases tw <;> rfl
theorem com_f2 {red : Bool} {s : PX} {f : FT} (h : (pHo T n (badO (-1)) s).2 = .inr (L, W)) (h2 : (pHo T n (badO (pHo T n (badO (-1)) s).1) (.inr (L, W))).2 = .inl f) : pCom T n red true s = .inl f := by
  show pCoE (pHo T n (badO (-1)) s).1 (pSec T n true (pHo T n (badO (-1)) s).1 (pHo T n (badO (-1)) s).2).1 (b2i red) (pSec T n true (pHo T n (badO (-1)) s).1 (pHo T n (badO (-1)) s).2).2 = _
  rw [h]
  show pCoE _ _ _ (pHo T n (badO (pHo T n (badO (-1)) s).1) (.inr (L, W))).2 = _
  rw [h2]
  rfl
theorem com_t {red : Bool} {s : PX} (h : (pHo T n (badO (-1)) s).2 = .inr (L, W)) (h2 : (pHo T n (badO (pHo T n (badO (-1)) s).1) (.inr (L, W))).2 = .inr (L1, W1)) : pCom T n red true s = .inr (L1, coU W1 (pHo T n (badO (-1)) s).1 (pHo T n (badO (pHo T n (badO (-1)) s).1) (.inr (L, W))).1 (b2i red)) := by
  show pCoE (pHo T n (badO (-1)) s).1 (pSec T n true (pHo T n (badO (-1)) s).1 (pHo T n (badO (-1)) s).2).1 (b2i red) (pSec T n true (pHo T n (badO (-1)) s).1 (pHo T n (badO (-1)) s).2).2 = _
  rw [h]
  show pCoE _ (pHo T n (badO (pHo T n (badO (-1)) s).1) (.inr (L, W))).1 _ (pHo T n (badO (pHo T n (badO (-1)) s).1) (.inr (L, W))).2 = _
  rw [h2]
  rfl
theorem com_n {red : Bool} {s : PX} (h : (pHo T n (badO (-1)) s).2 = .inr (L, W)) : pCom T n red false s = .inr (L, coU W (pHo T n (badO (-1)) s).1 (-1) (b2i red)) := by
  show pCoE (pHo T n (badO (-1)) s).1 (pSec T n false (pHo T n (badO (-1)) s).1 (pHo T n (badO (-1)) s).2).1 (b2i red) (pSec T n false (pHo T n (badO (-1)) s).1 (pHo T n (badO (-1)) s).2).2 = _
  rw [h]
  rfl
end RB
