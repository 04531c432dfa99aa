-- PART 9977.readrel
/-! ===== the class's reader: what stands while it reads ===== -/
set_option maxRecDepth 100000
theorem num_v {T : Nat → Int32} {n : Nat} : ∀ (f k j : Nat), j ≤ 99999 → ∃ i : Nat, i ≤ 99999 ∧ (numK T n f k (nI j)).2 = nI i := by
  intro f
  induction f with
  | zero => intro k j hj; exact ⟨j, hj, rfl⟩
  | succ f ih =>
    intro k j hj
    by_cases hp : dgB T n k = true
    · rw [num_c hp]
      have hp2 := hp
      unfold dgB at hp2
      rw [show (48 : Int64) = (48 : Int32).toInt64 from rfl, show (57 : Int64) = (57 : Int32).toInt64 from rfl, inL_i] at hp2
      obtain ⟨s, h1, h2, e⟩ := in_n (a := 48) (b := 57) (by omega) (by omega) hp2
      have ev : vaF T n k (nI j) = nI (if 99999 ≤ 10 * j + s - 48 then 99999 else 10 * j + s - 48) := by
        rw [vaF, e, show (10 : Int32) = nI 10 from rfl, pk_mul, nI_add, show (48 : Int32) = nI 48 from rfl, pk_sub (by omega), mn32, show (99999 : Int32) = nI 99999 from rfl]
        by_cases q : 99999 ≤ 10 * j + s - 48
        · rw [if_pos q, if_neg (Int32.not_lt.mpr ((nI_leI (by omega) (by omega)).mpr q))]
        · rw [if_neg q, if_pos (nI_lt (by omega) (by omega))]
      rw [ev]
      exact ih (k + 1) _ (by split <;> omega)
    · exact ⟨j, hj, by rw [show numK T n (f + 1) k (nI j) = (k, nI j) from if_neg hp]⟩
theorem lx_ok4 {T : Nat → Int32} {n i : Nat} (hi : i ≤ n) : lFr (lx T n i) ≤ lAt (lx T n i) ∧ lAt (lx T n i) ≤ n ∧ lTk (lx T n i) ≤ 4 ∧ ∃ j : Nat, j ≤ 99999 ∧ lVa (lx T n i) = nI j := by
  obtain ⟨h1, h2, h3⟩ := lx_ok (T := T) hi
  refine ⟨h1, h2, h3, ?_⟩
  unfold lx lxF
  split
  · exact ⟨0, by omega, rfl⟩
  · split
    · exact ⟨0, by omega, rfl⟩
    · split
      · exact num_v _ _ 0 (by omega)
      · exact ⟨0, by omega, rfl⟩
def XR (r : Nat) (X X' : AH) : Prop := ∀ (a : Nat) (e : AE), X[a]? = some e → a ≠ r → X'[a]? = some e
theorem XR.tr {r : Nat} {X X' X'' : AH} (h : XR r X X') (h' : XR r X' X'') : XR r X X'' := fun a e q z => h' a e (h a e q z) z
theorem XR.set (r : Nat) (X : AH) (e : AE) : XR r X (X.set r e) := fun a e' q z => (List.getElem?_set_ne (fun w => z w.symm)).trans q
def XQ (r : Nat) (X : AH) (A : BA) : AH → BA → Prop := fun X' A' => XR r X X' ∧ A' = A
def TrX : AH → BA → Prop := fun _ _ => True
def RDS (X0 : AH) (r b n : Nat) (X : AH) (x : LX × (Nat → Int32)) (A : BA) : Prop :=
  XE X0 X ∧ 108 ≤ X0.length ∧ X0.length ≤ r ∧ X[r]? = some (lxo b n x.1) ∧ (lFr x.1 ≤ lAt x.1 ∧ lAt x.1 ≤ n ∧ lTk x.1 ≤ 4 ∧ ∃ j : Nat, j ≤ 99999 ∧ lVa x.1 = nI j) ∧ BD X X0.length X.length b A x.2
section RSs
variable {C : SC} {S : SM} {X0 X : AH} {r b n : Nat} {x : LX × (Nat → Int32)} {A : BA} {T : Nat → Int32}
theorem RDS.xe (h : RDS X0 r b n X x A) : XE X0 X := h.1
theorem RDS.x0 (h : RDS X0 r b n X x A) : 108 ≤ X0.length := h.2.1
theorem RDS.rl (h : RDS X0 r b n X x A) : X0.length ≤ r := h.2.2.1
theorem RDS.rr (h : RDS X0 r b n X x A) : X[r]? = some (lxo b n x.1) := h.2.2.2.1
theorem RDS.lk (h : RDS X0 r b n X x A) : lFr x.1 ≤ lAt x.1 ∧ lAt x.1 ≤ n ∧ lTk x.1 ≤ 4 := ⟨h.2.2.2.2.1.1, h.2.2.2.2.1.2.1, h.2.2.2.2.1.2.2.1⟩
theorem RDS.va (h : RDS X0 r b n X x A) : ∃ j : Nat, j ≤ 99999 ∧ lVa x.1 = nI j := h.2.2.2.2.1.2.2.2
theorem RDS.bd (h : RDS X0 r b n X x A) : BD X X0.length X.length b A x.2 := h.2.2.2.2.2
theorem RDS.lt (h : RDS X0 r b n X x A) : r < X.length := (List.getElem?_eq_some_iff.mp h.rr).1
theorem RDS.X8 (h : RDS X0 r b n X x A) : 108 ≤ X.length := Nat.le_trans h.x0 h.xe.len
theorem RDS.dr (h : RDS X0 r b n X x A) : dyn r := Or.inr (by have := h.x0; have := h.rl; omega)
theorem RDS.at (h : RDS X0 r b n X x A) : (cH C S X)[r]? = some (.inr (11, [.ref 14, .int (nI n), .ref b, .int (nI (lAt x.1)), .int (nI (lFr x.1)), .int (nI (lTk x.1)), .int (lVa x.1)])) := (cH_dyn h.dr).trans h.rr
theorem RDS.ob (h : RDS X0 r b n X x A) : (cH C S X)[b]? = some (.inr (2, bfl A x.2)) := h.bd.ob.at h.bd.dy
theorem RDS.nb (h : RDS X0 r b n X x A) {a : Nat} {e : AE} (q : X[a]? = some e) (hne : e ≠ lxo b n x.1) : a ≠ r := fun z => hne (by subst z; exact Option.some.inj (q.symm.trans h.rr))
/-- a cell of the reader's class written: the board stays -/
theorem BD.rdr {lo hi : Nat} {A : BA} {W : Nat → Int32} {t : Nat} {fs : List Value} {e' : AE} (h : BD X lo hi b A W) (hb : X[t]? = some (.inr (11, fs))) : BD (X.set t e') lo hi b A W :=
  ⟨h.dy, h.ob.other hb (by simp), h.od.other hb (by simp), h.oq.other hb (by simp), h.op.other hb (by simp), h.orr.other hb (by simp), h.of.other hb (by simp), h.os.other hb (by simp), h.fs, h.te, h.n5, h.n6, h.n4, fun k hk => ⟨(h.mo k hk).1, (h.mo k hk).2.other hb (by simp)⟩, h.mi, fun k hk => ⟨(h.pl k hk).1, (h.pl k hk).2.1.other hb (by simp), (h.pl k hk).2.2.1.other hb (by simp), (h.pl k hk).2.2.2⟩, h.pj, h.st⟩
/-- the token goes on -/
theorem RDS.go (h : RDS X0 r b n X x A) : RDS X0 r b n (X.set r (lxo b n (lx T n (lAt x.1)))) (lx T n (lAt x.1), x.2) A :=
  ⟨h.xe.set h.rl, h.x0, h.rl, List.getElem?_set_self h.lt, lx_ok4 h.lk.2.1, by rw [List.length_set]; exact h.bd.rdr h.rr⟩
/-- cells are added -/
theorem RDS.app (h : RDS X0 r b n X x A) (Z : AH) : RDS X0 r b n (X ++ Z) x A :=
  ⟨h.xe.apr Z, h.x0, h.rl, XE.app X Z _ _ h.rr, h.2.2.2.2.1, h.bd.app.wide (by rw [List.length_append]; omega) h.x0⟩
def FlT (C : SC) (S : SM) (X0 : AH) (f : FT) : Option Value → AH → Prop := fun v h1 => ∃ X a, v = some (.retAddr a) ∧ h1 = cH C S X ∧ XE X0 X ∧ X0.length ≤ a ∧ X[a]? = some (fltC f.1 f.2)
def RDQ (C : SC) (S : SM) (X0 : AH) (r b n : Nat) (P : AH → BA → Prop) (v : Option Value) (s : PX) : Option Value → AH → Prop := fun v' h1 => match s with
  | .inl f => FlT C S X0 f v' h1
  | .inr x => v' = v ∧ ∃ X A, h1 = cH C S X ∧ RDS X0 r b n X x A ∧ P X A
variable {P P' : AH → BA → Prop}
theorem RDQ.ok {v v' : Option Value} {s : PX} {h1 : AH} (h : RDQ C S X0 r b n P v s v' h1) (q : g_nt v' = true) : ∃ x, s = .inr x ∧ v' = v ∧ ∃ X A, h1 = cH C S X ∧ RDS X0 r b n X x A ∧ P X A := by
  cases s with
  | inl f =>
    obtain ⟨X, a, e, -⟩ := h
    rw [e] at q
    cases q
  | inr x => exact ⟨x, rfl, h⟩
theorem RDQ.no {v v' : Option Value} {s : PX} {h1 : AH} (h : RDQ C S X0 r b n P v s v' h1) (q : g_nt v' = false) (hv : g_nt v = true) : ∃ f, s = .inl f ∧ FlT C S X0 f v' h1 := by
  cases s with
  | inl f => exact ⟨f, rfl, h⟩
  | inr x =>
    rw [h.1, hv] at q
    cases q
theorem RDQ.mk {v : Option Value} {s : PX} (e : s = .inr x) (h : RDS X0 r b n X x A) (p : P X A) : RDQ C S X0 r b n P v s v (cH C S X) := by
  rw [e]
  exact ⟨rfl, X, A, rfl, h, p⟩
theorem RDQ.fl {v v' : Option Value} {s : PX} {f : FT} {h1 : AH} (e : s = .inl f) (h : FlT C S X0 f v' h1) : RDQ C S X0 r b n P v s v' h1 := by
  rw [e]
  exact h
theorem RDQ.to {v v' w : Option Value} {s s' : PX} {h1 : AH} (h : RDQ C S X0 r b n P v s v' h1) (q : g_nt v' = false) (hv : g_nt v = true) (e : ∀ f, s = .inl f → s' = .inl f) : RDQ C S X0 r b n P' w s' v' h1 := by
  obtain ⟨f, e1, h2⟩ := h.no q hv
  exact RDQ.fl (e f e1) h2
theorem RDS.flt (h : RDS X0 r b n X x A) {v : Option Value} {s : PX} {k : Int32} (e : s = .inl (k, nI (lFr x.1))) : RDQ C S X0 r b n P v s (some (.retAddr X.length)) (cH C S (X ++ [fltC k (nI (lFr x.1))])) :=
  RDQ.fl e ⟨_, X.length, rfl, rfl, h.xe.apr _, h.xe.len, by rw [List.getElem?_append_right (Nat.le_refl _), Nat.sub_self]; rfl⟩
theorem RDS.gone (h : RDS X0 r b n X x A) {v : Option Value} {s : PX} (e : s = .inr (lx T n (lAt x.1), x.2)) : RDQ C S X0 r b n (XQ r X A) v s v (cH C S (X.set r (lxo b n (lx T n (lAt x.1))))) := RDQ.mk e h.go ⟨XR.set _ _ _, rfl⟩
end RSs
section RSc
variable {g : GW} {C : SC} {S : SM} {X0 X : AH} {r b n : Nat} {x : LX × (Nat → Int32)} {A : BA}
theorem s_next (hn : n ≤ 1200) (hT : TB (C.2.1 14)) (h : RDS X0 r b n X x A) : SPx g 4 0 0 yX11_next cX11_next 1 none [.ref r] (cH C S X) none (cH C S (X.set r (lxo b n (lx (C.2.1 14) n (lAt x.1))))) := by
  have q := r_next (g := g) (C := C) (S := S) (b := b) h.X8 h.lt h.dr hn hT (a := lAt x.1) (f := lFr x.1) (t := nI (lTk x.1)) (v := lVa x.1) h.lk.2.1
  rw [show X.set r (ro b n (lAt x.1) (lFr x.1) (nI (lTk x.1)) (lVa x.1)) = X from x_set h.rr] at q
  exact q
theorem s_fault (hn : n ≤ 1200) (hT : TB (C.2.1 14)) (h : RDS X0 r b n X x A) {k : Int32} : SPx g 6 1 8 yX11_fault cX11_fault 2 (some (.object "MoleBoard$Fault")) [.ref r, .int k] (cH C S X) (some (.ref X.length)) (cH C S (X ++ [fltC k (nI (lFr x.1))])) := by
  have q := r_fault (g := g) (C := C) (S := S) (b := b) h.X8 h.lt h.dr hn hT (a := lAt x.1) (f := lFr x.1) (t := nI (lTk x.1)) (v := lVa x.1) (k := k)
  rw [show X.set r (ro b n (lAt x.1) (lFr x.1) (nI (lTk x.1)) (lVa x.1)) = X from x_set h.rr] at q
  exact q
theorem s_is (hn : n ≤ 1200) (hT : TB (C.2.1 14)) (h : RDS X0 r b n X x A) {w : Nat} (hw : w < stT.length) : SPx g 5 0 0 yX11_is cX11_is 3 (some .boolean) [.ref r, .ref (1000000000 + (100 + w))] (cH C S X) (some (.int (b2i (isB (C.2.1 14) w x.1)))) (cH C S X) := by
  have q := r_is (g := g) (C := C) (S := S) (b := b) h.X8 h.lt h.dr hn hT hw h.lk
  rw [x_set h.rr] at q
  exact q
theorem f_at (h : RDS X0 r b n X x A) {k p : Int32} : (cH C S (X ++ [fltC k p]))[X.length]? = some (.inr (12, [.null, .null, .null, .null, .null, .int 0, .int k, .int p])) := by
  refine (cH_dyn (Or.inr (by have := h.X8; omega))).trans ?_
  rw [List.getElem?_append_right (Nat.le_refl _), Nat.sub_self]
  rfl
end RSc
theorem num_2 {T : Nat → Int32} {n : Nat} {lo hi : Int32} {L : LX} {W : Nat → Int32} (h : lTk L = 2) (h2 : inI (lVa L) lo hi = true) : pNu T n lo hi (.inr (L, W)) = (lVa L, pGo T n L W) := by
  show (if lTk L = 2 then (if inI (lVa L) lo hi = true then (lVa L, pGo T n L W) else (0, .inl (2, nI (lFr L)))) else (0, .inl (1, nI (lFr L)))) = _
  rw [if_pos h, if_pos h2]
theorem num_f2 {T : Nat → Int32} {n : Nat} {lo hi : Int32} {L : LX} {W : Nat → Int32} (h : lTk L = 2) (h2 : inI (lVa L) lo hi = false) : pNu T n lo hi (.inr (L, W)) = (0, .inl (2, nI (lFr L))) := by
  show (if lTk L = 2 then (if inI (lVa L) lo hi = true then (lVa L, pGo T n L W) else (0, .inl (2, nI (lFr L)))) else (0, .inl (1, nI (lFr L)))) = _
  rw [if_pos h, if_neg (by rw [h2]; decide)]
theorem num_f1 {T : Nat → Int32} {n : Nat} {lo hi : Int32} {L : LX} {W : Nat → Int32} (h : ¬ lTk L = 2) : pNu T n lo hi (.inr (L, W)) = (0, .inl (1, nI (lFr L))) := by
  show (if lTk L = 2 then (if inI (lVa L) lo hi = true then (lVa L, pGo T n L W) else (0, .inl (2, nI (lFr L)))) else (0, .inl (1, nI (lFr L)))) = _
  rw [if_neg h]
/-- room: a fault, or the next token -/
def pRoom (T : Nat → Int32) (n : Nat) (q : Bool) (s : PX) : PX := match s with
  | .inl f => .inl f
  | .inr x => if q = true then pGo T n x.1 x.2 else .inl (3, nI (lFr x.1))
theorem hoF_b {bad : LX → (Nat → Int32) → Bool} {L : LX} {W : Nat → Int32} (h : hoL L W = true) (h2 : bad L W = true) : pHoF bad (.inr (L, W)) = .inl (2, nI (lFr L)) := if_pos ⟨h, h2⟩
theorem hoF_n {bad : LX → (Nat → Int32) → Bool} {L : LX} {W : Nat → Int32} (h : hoL L W = false) : pHoF bad (.inr (L, W)) = .inr (L, W) := if_neg (fun q => by rw [h] at q; cases q.1)
theorem hoF_g {bad : LX → (Nat → Int32) → Bool} {L : LX} {W : Nat → Int32} (h2 : bad L W = false) : pHoF bad (.inr (L, W)) = .inr (L, W) := if_neg (fun q => by rw [h2] at q; cases q.2)
theorem pHo_b {T : Nat → Int32} {n : Nat} {bad : LX → (Nat → Int32) → Bool} {s : PX} {f : FT} (h : pHoF bad s = .inl f) : pHo T n bad s = (0, .inl f) := by rw [pHo, h]; rfl
theorem pHo_n {T : Nat → Int32} {n : Nat} {bad : LX → (Nat → Int32) → Bool} {s : PX} {L : LX} {W : Nat → Int32} (h : pHoF bad s = .inr (L, W)) : pHo T n bad s = pNu T n 0 (hoW W - 1) (.inr (L, W)) := by rw [pHo, h]; rfl
