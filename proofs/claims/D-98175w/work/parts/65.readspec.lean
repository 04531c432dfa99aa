-- PART 65.readspec
/-! ===== reading: plain functions; T: the text's bytes, n: how many ===== -/
def seT (T : Nat → Int32) (n k : Nat) : Int32 := if k < n then T k &&& 255 else -1
theorem se_out {T : Nat → Int32} {n k : Nat} (h : n ≤ k) : seT T n k = -1 := if_neg (Nat.not_lt.mpr h)
theorem and255_ne (x : Int32) : ¬ x &&& 255 = -1 := fun h => by
  have h1 : x &&& 255 &&& 255 = x &&& 255 := by rw [Int32.and_assoc]; rfl
  rw [h] at h1
  exact absurd h1 (by decide)
theorem se_in {T : Nat → Int32} {n k : Nat} (h : ¬ seT T n k = -1) : k < n := Nat.not_le.mp (fun q => h (se_out q))
theorem se_end {T : Nat → Int32} {n k : Nat} (h : seT T n k = -1) : n ≤ k := Nat.not_lt.mp (fun q => by rw [seT, if_pos q] at h; exact and255_ne _ h)
def wsB (T : Nat → Int32) (n k : Nat) : Bool := decide (seT T n k = 32) || decide (seT T n k = 10)
def azB (T : Nat → Int32) (n k : Nat) : Bool := inL (seT T n k).toInt64 97 122
def dgB (T : Nat → Int32) (n k : Nat) : Bool := inL (seT T n k).toInt64 48 57
theorem ws_1 {T : Nat → Int32} {n k : Nat} (h : seT T n k = 32) : wsB T n k = true := by rw [wsB, decide_eq_true h, Bool.true_or]
theorem ws_2 {T : Nat → Int32} {n k : Nat} (h : seT T n k = 10) : wsB T n k = true := by rw [wsB, decide_eq_true h, Bool.or_true]
theorem ws_0 {T : Nat → Int32} {n k : Nat} (h : ¬ seT T n k = 32) (h2 : ¬ seT T n k = 10) : wsB T n k = false := by rw [wsB, decide_eq_false h, decide_eq_false h2]; rfl
theorem ws_out {T : Nat → Int32} {n k : Nat} (h : n ≤ k) : wsB T n k = false := ws_0 (by rw [se_out h]; decide) (by rw [se_out h]; decide)
theorem az_out {T : Nat → Int32} {n k : Nat} (h : n ≤ k) : azB T n k = false := by rw [azB, se_out h]; decide
theorem dg_out {T : Nat → Int32} {n k : Nat} (h : n ≤ k) : dgB T n k = false := by rw [dgB, se_out h]; decide
def vaF (T : Nat → Int32) (n k : Nat) (v : Int32) : Int32 := mn32 99999 (10 * v + seT T n k - 48)
/-- a number's end and value -/
def numK (T : Nat → Int32) (n : Nat) : Nat → Nat → Int32 → Nat × Int32
  | 0, k, v => (k, v)
  | f + 1, k, v => if dgB T n k = true then numK T n f (k + 1) (vaF T n k v) else (k, v)
theorem num_c {T : Nat → Int32} {n f k : Nat} {v : Int32} (h : dgB T n k = true) : numK T n (f + 1) k v = numK T n f (k + 1) (vaF T n k v) := if_pos h
theorem num_0 {T : Nat → Int32} {n f k : Nat} {v : Int32} (h : dgB T n k = false) : numK T n f k v = (k, v) := by cases f with | zero => rfl | succ f => exact if_neg (by rw [h]; decide)
/-- a token: where it begins, where it ends, its kind (end, word, number, sign, bad), a number's value -/
abbrev LX : Type := Nat × Nat × Nat × Int32
def lFr (L : LX) : Nat := L.1
def lAt (L : LX) : Nat := L.2.1
def lTk (L : LX) : Nat := L.2.2.1
def lVa (L : LX) : Int32 := L.2.2.2
def lxF (T : Nat → Int32) (n f : Nat) : LX :=
  if seT T n f = -1 then (f, f, 0, 0)
  else if azB T n f = true then (f, cntK (azB T n) n f, 1, 0)
  else if dgB T n f = true then (f, (numK T n n f 0).1, 2, (numK T n n f 0).2)
  else (f, f + 1, if seT T n f = 59 then 3 else 4, 0)
def lx (T : Nat → Int32) (n i : Nat) : LX := lxF T n (cntK (wsB T n) n i)
theorem cntK_le {p : Nat → Bool} {n : Nat} (h : ∀ k, n ≤ k → p k = false) : ∀ (f k : Nat), k ≤ n → k ≤ cntK p f k ∧ cntK p f k ≤ n := by
  intro f
  induction f with
  | zero => intro k hk; exact ⟨Nat.le_refl _, hk⟩
  | succ f ih =>
    intro k hk
    by_cases hp : p k = true
    · have h1 : k < n := Nat.not_le.mp (fun q => by rw [h k q] at hp; cases hp)
      have := ih (k + 1) h1
      rw [itr_c hp]
      exact ⟨by omega, this.2⟩
    · have h1 : cntK p (f + 1) k = k := if_neg hp
      rw [h1]
      exact ⟨Nat.le_refl _, hk⟩
theorem numK_le {T : Nat → Int32} {n : Nat} : ∀ (f k : Nat) (v : Int32), k ≤ n → k ≤ (numK T n f k v).1 ∧ (numK T n f k v).1 ≤ n := by
  intro f
  induction f with
  | zero => intro k v hk; exact ⟨Nat.le_refl _, hk⟩
  | succ f ih =>
    intro k v hk
    by_cases hp : dgB T n k = true
    · have h1 : k < n := Nat.not_le.mp (fun q => by rw [dg_out q] at hp; cases hp)
      have := ih (k + 1) (vaF T n k v) h1
      rw [num_c hp]
      exact ⟨by omega, this.2⟩
    · have h1 : numK T n (f + 1) k v = (k, v) := if_neg hp
      rw [h1]
      exact ⟨Nat.le_refl _, hk⟩
theorem lxF_ok {T : Nat → Int32} {n f : Nat} (hf : f ≤ n) : lFr (lxF T n f) ≤ lAt (lxF T n f) ∧ lAt (lxF T n f) ≤ n ∧ lTk (lxF T n f) ≤ 4 := by
  unfold lxF
  split
  · exact ⟨Nat.le_refl _, hf, Nat.zero_le 4⟩
  · rename_i h
    have h1 := se_in h
    split
    · have := cntK_le (p := azB T n) (n := n) (fun k q => az_out q) n f hf
      exact ⟨this.1, this.2, by show (1 : Nat) ≤ 4; omega⟩
    · split
      · have := numK_le (T := T) (n := n) n f 0 hf
        exact ⟨this.1, this.2, by show (2 : Nat) ≤ 4; omega⟩
      · refine ⟨Nat.le_succ f, h1, ?_⟩
        show (if seT T n f = 59 then 3 else 4) ≤ 4
        split <;> omega
theorem lx_ok {T : Nat → Int32} {n i : Nat} (hi : i ≤ n) : lFr (lx T n i) ≤ lAt (lx T n i) ∧ lAt (lx T n i) ≤ n ∧ lTk (lx T n i) ≤ 4 := lxF_ok (cntK_le (p := wsB T n) (n := n) (fun k q => ws_out q) n i hi).2
/-! words, by their numbers in stT -/
def eqK (p : Nat → Bool) : Nat → Nat → Bool
  | 0, _ => true
  | k + 1, i => if p i = true then eqK p k (i + 1) else false
def isB (T : Nat → Int32) (w : Nat) (L : LX) : Bool := decide (lTk L = 1) && decide (lAt L = lFr L + stN_ w) && eqK (fun k => decide (T (lFr L + k) = stC w k)) (stN_ w) 0
/-! the state of a reading: a fault (kind, place), or a token and the board so far -/
abbrev FT : Type := Int32 × Int32
abbrev PX : Type := FT ⊕ (LX × (Nat → Int32))
section PR
variable (T : Nat → Int32) (n : Nat)
def pGo (L : LX) (W : Nat → Int32) : PX := .inr (lx T n (lAt L), W)
def pEr (kind : Int32) (s : PX) : PX := match s with
  | .inl f => .inl f
  | .inr x => .inl (kind, nI (lFr x.1))
def pNe (w : Nat) (s : PX) : PX := match s with
  | .inl f => .inl f
  | .inr x => if isB T w x.1 = true then pGo T n x.1 x.2 else .inl (1, nI (lFr x.1))
def pNu (lo hi : Int32) (s : PX) : Int32 × PX := match s with
  | .inl f => (0, .inl f)
  | .inr x => if lTk x.1 = 2 then (if inI (lVa x.1) lo hi = true then (lVa x.1, pGo T n x.1 x.2) else (0, .inl (2, nI (lFr x.1)))) else (0, .inl (1, nI (lFr x.1)))
def pTo (w : Nat) (lo hi : Int32) (s : PX) : Int32 × PX := pNu T n lo hi (pNe T n w s)
def pSt (k : Nat) (v : Int32) (s : PX) : PX := match s with
  | .inl f => .inl f
  | .inr x => .inr (x.1, upd x.2 k v)
def pIn (k : Nat) (s : PX) : PX := match s with
  | .inl f => .inl f
  | .inr x => .inr (x.1, upd x.2 k (x.2 k + 1))
def pNx (s : PX) : PX := match s with
  | .inl f => .inl f
  | .inr x => pGo T n x.1 x.2
/-- a number's bound out of the board; of a fault: 0 -/
def pOf (f : (Nat → Int32) → Int32) (s : PX) : Int32 := match s with
  | .inl _ => 0
  | .inr x => f x.2
/-- told and laid in a place of the board -/
def pTs (w : Nat) (lo hi : Int32) (k : Nat) (s : PX) : PX := pSt k (pTo T n w lo hi s).1 (pTo T n w lo hi s).2
/-- board .. -/
def pFi (s : PX) : PX := pSt 11 100 (pSt 10 1 (pTs T n 8 0 9 3 (pTs T n 14 1 200 2 (pTs T n 4 1 3 1 (pTs T n 18 1 4 0 (pNe T n 0 s))))))
def frI (W : Nat → Int32) (t : Int32) : Nat → Nat → Option Nat
  | 0, _ => none
  | k + 1, i => if W (12 + 2 * i) = t then some i else frI W t k (i + 1)
def frS (W : Nat → Int32) (t : Int32) : Option Nat := frI W t (nW W 4) 0
def pStF (s : PX) : PX := match s with
  | .inl f => .inl f
  | .inr x => if lTk x.1 = 2 ∧ lVa x.1 < x.2 2 ∧ x.2 4 = 6 ∧ frS x.2 (lVa x.1) = none then .inl (3, nI (lFr x.1)) else .inr x
def stU (W : Nat → Int32) (t m : Int32) : Nat → Int32 := match frS W t with
  | some k => upd (upd W (12 + 2 * k) t) (12 + 2 * k + 1) m
  | none => upd (upd (upd W 4 (W 4 + 1)) (12 + 2 * nW W 4) t) (12 + 2 * nW W 4 + 1) m
def pStE (t m : Int32) (s : PX) : PX := match s with
  | .inl f => .inl f
  | .inr x => .inr (x.1, stU x.2 t m)
/-- stay .. (the word is taken) -/
def pStay (s : PX) : PX :=
  let a := pNu T n 1 40 s
  let b := pStF (pNe T n 2 a.2)
  let c := pNu T n 0 (pOf (fun W => W 2 - 1) b) b
  pStE c.1 a.1 c.2
/-- whether the token is a hole's number -/
def hoL (L : LX) (W : Nat → Int32) : Bool := decide (lTk L = 2) && decide (lVa L < hoW W)
/-- shut or, by what is said, taken -/
def pHoF (bad : LX → (Nat → Int32) → Bool) (s : PX) : PX := match s with
  | .inl f => .inl f
  | .inr x => if hoL x.1 x.2 = true ∧ bad x.1 x.2 = true then .inl (2, nI (lFr x.1)) else .inr x
def isCo (W : Nat → Int32) (h : Int32) : Bool := !eqK (fun k => !(decide (W (24 + 3 * k) = h) || decide (W (24 + 3 * k + 1) = h))) (nW W 5) 0
def pHo (bad : LX → (Nat → Int32) → Bool) (s : PX) : Int32 × PX := pNu T n 0 (pOf (fun W => hoW W - 1) (pHoF bad s)) (pHoF bad s)
def badS (L : LX) (W : Nat → Int32) : Bool := decide ((W 7 >>> (lVa L &&& 31)) &&& 1 = 1) || isCo W (lVa L)
def badO (but : Int32) (L : LX) (W : Nat → Int32) : Bool := decide ((W 7 >>> (lVa L &&& 31)) &&& 1 = 1) || decide (lVa L = but)
def pShE (h : Int32) (s : PX) : PX := match s with
  | .inl f => .inl f
  | .inr x => .inr (x.1, upd x.2 7 (x.2 7 ||| ((1 : Int32) <<< (h &&& 31))))
/-- shut .. -/
def pShut (s : PX) : PX := pShE (pHo T n badS s).1 (pHo T n badS s).2
def coU (W : Nat → Int32) (a b r : Int32) : Nat → Int32 := upd (upd (upd (upd W (24 + 3 * nW W 5) a) (24 + 3 * nW W 5 + 1) b) (24 + 3 * nW W 5 + 2) r) 5 (W 5 + 1)
def pCoE (a b r : Int32) (s : PX) : PX := match s with
  | .inl f => .inl f
  | .inr x => .inr (x.1, coU x.2 a b r)
def pSec (twin : Bool) (a : Int32) (s : PX) : Int32 × PX := if twin = true then pHo T n (badO a) s else (-1, s)
/-- good, red, twin .. -/
def pCom (red twin : Bool) (s : PX) : PX :=
  let a := pHo T n (badO (-1)) s
  let b := pSec T n twin a.1 a.2
  pCoE a.1 b.1 (b2i red) b.2
/-- player .. ; q: how many there are -/
def pPla (q : Nat) (s : PX) : PX :=
  let e := pTs T n 5 0 9 (96 + 5 * q + 3) (pTs T n 15 0 99 (96 + 5 * q + 2) (pTs T n 6 0 20 (96 + 5 * q + 1) (pTs T n 7 1 9 (96 + 5 * q) s)))
  pIn 6 (pTs T n 17 0 (pOf (fun W => hoW W - 1) e) (96 + 5 * q + 4) e)
/-- tickets .. -/
def pTic (s : PX) : PX := pTs T n 1 1 500 11 (pSt 10 (pNu T n 1 99 s).1 (pNu T n 1 99 s).2)
/-- a line behind the first: which word, and whether there is room -/
def pLin (s : PX) : PX := match s with
  | .inl f => .inl f
  | .inr x =>
    if isB T 12 x.1 = true then pStay T n (pGo T n x.1 x.2)
    else if isB T 11 x.1 = true then pShut T n (pGo T n x.1 x.2)
    else if isB T 3 x.1 = true ∨ isB T 10 x.1 = true ∨ isB T 16 x.1 = true then (if x.2 5 = 24 then .inl (3, nI (lFr x.1)) else pCom T n (isB T 10 x.1) (isB T 16 x.1) (pGo T n x.1 x.2))
    else if isB T 9 x.1 = true then (if x.2 6 = 4 then .inl (3, nI (lFr x.1)) else pPla T n (nW x.2 6) (pGo T n x.1 x.2))
    else if isB T 13 x.1 = true then pTic T n (pGo T n x.1 x.2)
    else .inl (1, nI (lFr x.1))
def pSem (s : PX) : PX := match s with
  | .inl f => .inl f
  | .inr x => if lTk x.1 = 3 then .inr x else .inl (1, nI (lFr x.1))
/-- one line with its sign -/
def pOne (s : PX) : PX := match s with
  | .inl f => .inl f
  | .inr x => pIn 9 (pNx T n (pSem (if x.2 9 = 0 then pFi T n s else pLin T n s)))
def pGoing (s : PX) : Bool := match s with
  | .inl _ => false
  | .inr x => !decide (lTk x.1 = 0)
/-- all lines, k at most -/
def pAll : Nat → PX → PX
  | 0, s => s
  | k + 1, s => if pGoing s = true then pAll k (pOne T n s) else s
def pRead : PX := pAll T n (n + 1) (.inr (lx T n 0, fun _ => 0))
end PR
