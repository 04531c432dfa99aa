-- PART 9989.boardpic2
/-! ===== a reader begins; a board is read ===== -/
set_option maxRecDepth 100000
theorem DX.low {X : AH} {lo lo' hi a : Nat} {e : AE} (h : DX X lo hi a e) (q : lo' ≤ lo) : DX X lo' hi a e := ⟨h.1, Nat.le_trans q h.2.1, h.2.2⟩
theorem BD.low {X : AH} {lo lo' hi b : Nat} {A : BA} {W : Nat → Int32} (h : BD X lo hi b A W) (q : lo' ≤ lo) (h2 : 108 ≤ lo') : BD X lo' hi b A W :=
  ⟨Or.inr h2, h.ob.low q, h.od.low q, h.oq.low q, h.op.low q, h.orr.low q, h.of.low q, h.os.low q, h.fs, h.te, h.n5, h.n6, h.n4, fun k hk => ⟨(h.mo k hk).1, (h.mo k hk).2.low q⟩, h.mi, fun k hk => ⟨(h.pl k hk).1, (h.pl k hk).2.1.low q, (h.pl k hk).2.2.1.low q, (h.pl k hk).2.2.2⟩, h.pj, h.st⟩
theorem EV.xe {C : SC} {X X' : AH} {lo hi b : Nat} {A : BA} {W : Nat → Int32} (h : EV C X lo hi b A W) (q : XE X X') : EV C X' lo hi b A W := ⟨Nat.le_trans h.X q.len, h.n, q.bd h.B, h.w⟩
def rdr0 : AE := .inr (11, [.null, .int 0, .null, .int 0, .int 0, .int 0, .int 0])
/-- the reader made -/
theorem RDS.new {X : AH} {n : Nat} {T : Nat → Int32} (hX : 108 ≤ X.length) : RDS X X.length (X.length + 1) n (((X ++ [rdr0]) ++ bNew (X.length + 1)).set X.length (lxo (X.length + 1) n (lx T n 0))) (lx T n 0, fun _ => 0) (A0 (X.length + 1)) := by
  have hl : (X ++ [rdr0]).length = X.length + 1 := by rw [List.length_append]; rfl
  have hb := BD.new (X := X ++ [rdr0]) (by omega) (W := fun _ => 0) (fun _ => rfl)
  rw [hl] at hb
  have hr : ((X ++ [rdr0]) ++ bNew (X.length + 1))[X.length]? = some rdr0 := by
    rw [List.getElem?_append_left (by omega), List.getElem?_append_right (Nat.le_refl _), Nat.sub_self]
    rfl
  have hlen : ((X ++ [rdr0]) ++ bNew (X.length + 1)).length = X.length + 8 := by rw [List.length_append, hl]; rfl
  have hb2 := (hb.rdr (e' := lxo (X.length + 1) n (lx T n 0)) hr).low (lo' := X.length) (by omega) hX
  refine ⟨(((XE.app X [rdr0])).apr _).set (Nat.le_refl _), hX, Nat.le_refl _, List.getElem?_set_self (by omega), lx_ok4 (Nat.zero_le n), ?_⟩
  rw [List.length_set, hlen]
  exact hb2
theorem A0_te (n : Nat) : (A0 n).tk = 1 ∧ (A0 n).ec = 100 := ⟨rfl, rfl⟩
/-- what board() leaves -/
def QBo (C : SC) (S : SM) (X : AH) (s : PX) : Option Value → AH → Prop := fun v h1 => match s with
  | .inl f => v = some (.int (-4)) ∧ ∃ X', h1 = cH (cF 0 0 (cF 2 f.2 (cF 1 f.1 C))) S X' ∧ XE X X'
  | .inr x => v = some (.int (x.2 9)) ∧ ∃ X' b A, h1 = cH (cF 0 0 (cF 2 (-1) (cF 1 0 (cR 0 (some b) C)))) S X' ∧ XE X X' ∧ BD X' X.length X'.length b A x.2
