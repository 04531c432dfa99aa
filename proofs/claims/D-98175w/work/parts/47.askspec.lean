-- PART 47.askspec
/-! ===== answers about runs ===== -/
def WFp (W : Nat → Int32) : Prop := ∀ p, p < nW W 6 → (W (96 + 5 * p) = nI (nW W (96 + 5 * p)) ∧ 1 ≤ nW W (96 + 5 * p) ∧ nW W (96 + 5 * p) ≤ 9) ∧ (W (96 + 5 * p + 1) = nI (nW W (96 + 5 * p + 1)) ∧ nW W (96 + 5 * p + 1) ≤ 20) ∧ (W (96 + 5 * p + 2) = nI (nW W (96 + 5 * p + 2)) ∧ nW W (96 + 5 * p + 2) ≤ 99) ∧ (W (96 + 5 * p + 3) = nI (nW W (96 + 5 * p + 3)) ∧ nW W (96 + 5 * p + 3) ≤ 9) ∧ (W (96 + 5 * p + 4) = nI (nW W (96 + 5 * p + 4)) ∧ nW W (96 + 5 * p + 4) < hoN W)
theorem WFp.w0 {W : Nat → Int32} (hs : WFs W) (h : WFp W) {p : Nat} (hp : p < nW W 6) : ¬ W 0 = 0 := hs.w0ne (h p hp).2.2.2.2.2
def fstK (p : Nat → Bool) : Nat → Nat → Option Nat
  | 0, _ => none
  | k + 1, i => if p i = true then some i else fstK p k (i + 1)
def onI : Option Nat → Int32
  | some i => nI i
  | none => -1
/-- his run through the drum's game -/
def ruD (W : Nat → Int32) (p : Nat) : RT := ruW W (dgW W) (tpW W p)
def qhits (W : Nat → Int32) (p : Int32) : Int32 := if plW W p = true then nI (tSt (ruD W p.toNatClampNeg)) else -2
def qhit (W : Nat → Int32) (p i : Int32) : Int32 := if plW W p = true then (if inI i 0 (nI (dgM W) - 1) = true then tHt (ruD W p.toNatClampNeg) i.toNatClampNeg else -1) else -2
def qtwice (W : Nat → Int32) (p i : Int32) : Int32 := if plW W p = true then (if inI i 0 (nI (dgM W) - 1) = true then tHm (ruD W p.toNatClampNeg) i.toNatClampNeg else -1) else -2
def whF (t : RT) (x : Int32) (i : Nat) (h : Int32) : Int32 := if x < tSk t i then h else tSh t i
def qwhere (W : Nat → Int32) (p x : Int32) : Int32 := if plW W p = true ∧ tkL W x.toInt64 = true then itr (whF (ruD W p.toNatClampNeg) x) (tSt (ruD W p.toNatClampNeg)) 0 (W (96 + 5 * p.toNatClampNeg + 4)) else -2
def miP (G : GF) (t : RT) (i : Nat) : Bool := decide (gR G i = 0) && decide (tHm t i < if gO G i = -1 then 1 else 2)
def qmissed (W : Nat → Int32) (p : Int32) : Int32 := if plW W p = true then onI (fstK (miP (dgF W) (ruD W p.toNatClampNeg)) (dgM W) 0) else -2
def qwalked (W : Nat → Int32) (p : Int32) : Int32 := if plW W p = true then tWe (ruD W p.toNatClampNeg) else -2
def qaware (W : Nat → Int32) (p i : Int32) : Int32 := if plW W p = true then (if inI i 0 (nI (dgM W) - 1) = true then awR (dgF W) (tpW W p.toNatClampNeg) i.toNatClampNeg else -1) else -2
theorem fst_t {p : Nat → Bool} {k i : Nat} (h : p i = true) : fstK p (k + 1) i = some i := if_pos h
theorem fst_f {p : Nat → Bool} {k i : Nat} (h : p i = false) : fstK p (k + 1) i = fstK p k (i + 1) := if_neg (by rw [h]; decide)
/-! what he is told to be, otherwise -/
def lnP (W : Nat → Int32) (p n : Nat) : RP := ((p, n), (tpW W p).2)
def wtP (W : Nat → Int32) (p : Nat) (h : Int32) : RP := ((tpW W p).1, (tpW W p).2.1, h, 4095, 0)
def lgP (W : Nat → Int32) (p : Nat) (x : Int32) : RP := ((tpW W p).1, x, (tpW W p).2.2)
def raP (W : Nat → Int32) (p : Nat) : RP := ((tpW W p).1, (tpW W p).2.1, (tpW W p).2.2.1, 4095, 1)
def lkP (W : Nat → Int32) (p : Nat) (x : Int32) : RP := ((p, 0), W (96 + 5 * p + 1) + x, (tpW W p).2.2)
def hoP (W : Nat → Int32) (p : Nat) (x : Int32) : RP := ((tpW W p).1, (tpW W p).2.1, (tpW W p).2.2.1, x, 0)
def stG (W : Nat → Int32) (P : RP) : Nat := tSt (ruW W (dgW W) P)
def raV (W : Nat → Int32) (p : Nat) : Int32 := 10 * (nI (stG W (raP W p)) - tRd (ruW W (dgW W) (raP W p))) - 20 * tRd (ruW W (dgW W) (raP W p))
def lkV (W : Nat → Int32) (p : Nat) (x : Int32) : Int32 := 10 * nI (stG W (lkP W p x))
def dnK (p : Nat → Bool) : Nat → Option Nat
  | 0 => none
  | k + 1 => if p k = true then some k else dnK p k
theorem dn_t {p : Nat → Bool} {k : Nat} (h : p k = true) : dnK p (k + 1) = some k := if_pos h
theorem dn_f {p : Nat → Bool} {k : Nat} (h : p k = false) : dnK p (k + 1) = dnK p k := if_neg (by rw [h]; decide)
def lnB (W : Nat → Int32) (p : Nat) (i b : Nat) : Bool := decide (stG W (lnP W p b) < stG W (lnP W p i))
def wtB (W : Nat → Int32) (p : Nat) (i b : Nat) : Bool := decide (stG W (wtP W p (nI b)) < stG W (wtP W p (nI i)))
def slB (W : Nat → Int32) (p : Nat) (i b : Nat) : Bool := decide (stG W (lgP W p (nI i)) = stG W (lgP W p 0))
def qlearns (W : Nat → Int32) (p n : Int32) : Int32 := if plW W p = true ∧ inL n.toInt64 0 9 = true then nI (stG W (lnP W p.toNatClampNeg n.toNatClampNeg)) else -2
def qenough (W : Nat → Int32) (p : Int32) : Int32 := if plW W p = true then nI (itr (beF (lnB W p.toNatClampNeg)) 9 1 0) else -2
def qwaits (W : Nat → Int32) (p w : Int32) : Int32 := if plW W p = true ∧ inL w.toInt64 0 1 = true then (if w = 0 then nI (beN (wtB W p.toNatClampNeg) (hoN W)) else nI (stG W (wtP W p.toNatClampNeg (nI (beN (wtB W p.toNatClampNeg) (hoN W)))))) else -2
def qslack (W : Nat → Int32) (p : Int32) : Int32 := if plW W p = true then nI (itr (beF (slB W p.toNatClampNeg)) 20 1 0) else -2
def qrash (W : Nat → Int32) (p : Int32) : Int32 := if plW W p = true then raV W p.toNatClampNeg else -2000
def qlook (W : Nat → Int32) (p n : Int32) : Int32 := if plW W p = true ∧ inL n.toInt64 0 20 = true then lkV W p.toNatClampNeg n else -2000
def qline (W : Nat → Int32) (p : Int32) : Int32 := if plW W p = true then onI (dnK (fun i => decide (raV W p.toNatClampNeg ≤ lkV W p.toNatClampNeg (nI i))) 21) else -2
def allW (W : Nat → Int32) : Int32 := ((1 : Int32) <<< (hoW W &&& 31)) - 1
def twV (W : Nat → Int32) (p o i : Nat) : Int32 := nI (stG W (hoP W p (nI i))) + nI (stG W (hoP W o (allW W &&& (nI i ^^^ (-1)))))
def twF (W : Nat → Int32) (p o : Nat) (i : Nat) (a : Int32 × Int32) : Int32 × Int32 := if twV W p o i ≤ a.2 then a else (nI i, twV W p o i)
def qtwo (W : Nat → Int32) (p o w : Int32) : Int32 := if (plW W p = true ∧ plW W o = true) ∧ (¬ p = o ∧ inL w.toInt64 0 1 = true) then (if w = 0 then (itr (twF W p.toNatClampNeg o.toNatClampNeg) (2 ^ hoN W) 0 (0, -1)).2 else (itr (twF W p.toNatClampNeg o.toNatClampNeg) (2 ^ hoN W) 0 (0, -1)).1) else -2
def tiW (W : Nat → Int32) (p : Nat) : Int32 := 10 * nI (tSt (ruD W p)) / W 11
def qtickets (W : Nat → Int32) (p : Int32) : Int32 := if plW W p = true then tiW W p.toNatClampNeg else -2
def qprize (W : Nat → Int32) (p : Int32) : Int32 := if plW W p = true then (if tiW W p.toNatClampNeg = 0 then -1 else (W 10 + tiW W p.toNatClampNeg - 1) / tiW W p.toNatClampNeg) else -2
def luF (W : Nat → Int32) (p : Nat) (i : Nat) (a : Int32 × Int32) : Int32 × Int32 := if nI (tSt (ruD (upd W 8 (nI i)) p)) ≤ a.2 then a else (nI i, nI (tSt (ruD (upd W 8 (nI i)) p)))
def qlucky (W : Nat → Int32) (p : Int32) : Int32 := if plW W p = true then (itr (luF W p.toNatClampNeg) (nW W 5) 0 (-1, -1)).1 else -2
theorem all_n {W : Nat → Int32} (hs : WFs W) : allW W = nI (2 ^ hoN W - 1) := by
  have h := hs.ho12
  unfold allW
  rw [hs.ho]
  generalize hoN W = N at h
  match N, h with
  | 0, _ => rfl
  | 1, _ => rfl
  | 2, _ => rfl
  | 3, _ => rfl
  | 4, _ => rfl
  | 5, _ => rfl
  | 6, _ => rfl
  | 7, _ => rfl
  | 8, _ => rfl
  | 9, _ => rfl
  | 10, _ => rfl
  | 11, _ => rfl
  | 12, _ => rfl
theorem ruW_st (W : Nat → Int32) (G : GA) (P : RP) : tSt (ruW W G P) ≤ 2 * G.1 := by
  have := itr_inv (fun i t => tSt t ≤ 2 * i) (ruF W G.2 P) G.1 (fun i t _ h => ruF_st W G.2 P i t h) G.1 0 (ru0 P) (by omega) (Nat.zero_le _)
  rw [Nat.zero_add] at this
  exact this
theorem cnt_le {p : Nat → Bool} {B : Nat} (hb : ∀ k, p k = true → k < B) : ∀ (f k : Nat), k ≤ B → cntK p f k ≤ B := by
  intro f
  induction f with
  | zero => intro k h; exact h
  | succ f ih =>
    intro k h
    unfold cntK
    split
    · exact ih _ (hb k (by assumption))
    · exact h
theorem dgM_le (W : Nat → Int32) : dgM W ≤ 60 := by
  unfold dgM
  split
  · refine cnt_le (fun k h => ?_) 60 0 (by omega)
    rw [mayK, Bool.and_eq_true, decide_eq_true_eq] at h
    exact h.1
  · omega
theorem stG_le (W : Nat → Int32) (P : RP) : stG W P ≤ 120 := by
  have := ruW_st W (dgW W) P
  have h2 := dgM_le W
  have h3 : (dgW W).1 = dgM W := rfl
  unfold stG
  omega
/-- a question's state on its way: the game, the board, and what lasts -/
def LSt (S0 S : SM) (G : GA) (Wd : Nat → Int32) : Prop := GS S G ∧ wd S = Wd ∧ KP S0 S
theorem LSt.on {S0 S S' : SM} {G : GA} {Wd : Nat → Int32} {f a : List Nat} (l : LSt S0 S G Wd) (h : KX f a S S') (h1 : 18 ∉ f) (h2 : 7 ∉ a ∧ 8 ∉ a ∧ 9 ∉ a) (h3 : 5 ∉ f ∧ 12 ∉ f ∧ 13 ∉ f) (h4 : 1 ∉ a ∧ 2 ∉ a ∧ 3 ∉ a ∧ 4 ∉ a ∧ 19 ∉ a ∧ 20 ∉ a) : LSt S0 S' G Wd := ⟨h.gs h1 h2 l.1, (h.wd h4.1).trans l.2.1, l.2.2.tr (h.KP h3 h4)⟩
theorem two_lt {W : Nat → Int32} (hs : WFs W) : 1 ≤ 2 ^ hoN W ∧ 2 ^ hoN W ≤ 4096 := by
  have h := hs.ho12
  exact ⟨Nat.one_le_two_pow, Nat.pow_le_pow_right (by omega) h⟩
