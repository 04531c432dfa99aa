-- PART 53.heardspec
/-! ===== what was heard: plain functions; my: how many of each slot; nu: numbers ===== -/
def alK (p : Nat → Bool) : Nat → Nat → Bool
  | 0, _ => true
  | k + 1, i => if p i = true then alK p k (i + 1) else false
theorem al_t {p : Nat → Bool} {k i : Nat} (h : p i = true) : alK p (k + 1) i = alK p k (i + 1) := if_pos h
theorem al_f {p : Nat → Bool} {k i : Nat} (h : p i = false) : alK p (k + 1) i = false := if_neg (by rw [h]; decide)
def ctF (p : Nat → Bool) (i : Nat) (n : Int32) : Int32 := n + (if p i = true then 1 else 0)
def mN (my : Nat → Int32) (s : Nat) : Nat := (my s).toNatClampNeg
def WFm (my : Nat → Int32) : Prop := ∀ s, s < 4 → my s = -1 ∨ (my s = nI (mN my s) ∧ mN my s ≤ 60)
def ahV (W : Nat → Int32) (my : Nat → Int32) (nu : LT) (slot : Int32) : Int32 := if laL slot = true ∧ bdW W = true then (if my slot.toNatClampNeg = -1 then -6 else if alK (fun i => hlL W (nu (60 * slot.toNatClampNeg + i))) (mN my slot.toNatClampNeg) 0 = true then 0 else -2) else -2
def peP (nu : LT) (s p i : Nat) : Bool := decide (nu (60 * s + i) = nu (60 * s + (i - p)))
def ipV (nu : LT) (s m p : Nat) : Bool := alK (peP nu s p) (m - p) p
def lpV (nu : LT) (s m : Nat) : Option Nat := fstK (ipV nu s m) (m - 1) 1
def hrd (W my : Nat → Int32) (nu : LT) (slot : Int32) (f : Nat → Nat → Int32) : Int32 := if ahV W my nu slot < 0 then ahV W my nu slot else f slot.toNatClampNeg (mN my slot.toNatClampNeg)
def qperiod (W my : Nat → Int32) (nu : LT) (slot : Int32) : Int32 := hrd W my nu slot (fun s m => onI (lpV nu s m))
def qperiods (W my : Nat → Int32) (nu : LT) (slot : Int32) : Int32 := hrd W my nu slot (fun s m => itr (ctF (ipV nu s m)) (m - 1) 1 0)
def luK (o : Int64) : Nat → Int64 → Int32
  | 0, v => v.toInt32
  | k + 1, v => if 1000000000 < v * o then -1 else luK o k (v * o)
def luV (W : Nat → Int32) (nu : LT) (s m : Nat) : Int32 := match lpV nu s m with
  | none => -1
  | some p => luK (nI (opN W)).toInt64 (m - p) 1
def qluck (W my : Nat → Int32) (nu : LT) (slot : Int32) : Int32 := hrd W my nu slot (fun s m => luV W nu s m)
def hA (W : Nat → Int32) (j : Nat) : Int32 := hoA W (nI j)
def fiP (W : Nat → Int32) (nu : LT) (s k i : Nat) : Bool := decide ((hA W (k + i)).toInt64 = nu (60 * s + i))
def fiV (W : Nat → Int32) (nu : LT) (s m k : Nat) : Bool := alK (fiP W nu s k) m 0
def qfits (W my : Nat → Int32) (nu : LT) (slot : Int32) : Int32 := hrd W my nu slot (fun s m => itr (ctF (fiV W nu s m)) (nW W 5) 0 0)
def plK (p : Nat → Bool) : Nat → Nat → Int32 → Int32
  | 0, _, _ => -1
  | k + 1, d, left => if left < 0 then -1 else if p d = true then (if left = 0 then nI d else plK p k (d + 1) (left - 1)) else plK p k (d + 1) left
def qplace (W my : Nat → Int32) (nu : LT) (slot i : Int32) : Int32 := hrd W my nu slot (fun s m => plK (fiV W nu s m) (nW W 5) 0 i)
def nxK (p : Nat → Bool) (f : Nat → Int32) : Nat → Nat → Int32 → Int32
  | 0, _, h => h
  | k + 1, d, h => if p d = true then (if ¬ h = -1 ∧ ¬ f d = h then -1 else nxK p f k (d + 1) (f d)) else nxK p f k (d + 1) h
def qnext (W my : Nat → Int32) (nu : LT) (slot : Int32) : Int32 := hrd W my nu slot (fun s m => nxK (fiV W nu s m) (fun d => hA W (d + m)) (nW W 5) 0 (-1))
def gaP (W : Nat → Int32) (a b i : Nat) : Bool := decide (hA W (a + i) = hA W (b + i))
def gaV (W : Nat → Int32) (a b n : Nat) : Bool := alK (gaP W a b) n 0
def ncV (W : Nat → Int32) (k n : Nat) : Int32 := itr (ctF (fun o => gaV W k o n)) (nW W 5) 0 0
def neV (W : Nat → Int32) (k : Nat) : Int32 := onI (fstK (fun n => decide (ncV W k n = 1)) (nW W 5 + 1) 0)
def qneeded (W : Nat → Int32) (k : Int32) : Int32 := if cmW W k = true then neV W k.toNatClampNeg else -2
def kwK (f : Nat → Int32) : Nat → Nat → Int32 → Int32
  | 0, _, a => a
  | k + 1, i, a => if f i = -1 then -1 else kwK f k (i + 1) (mx32 a (f i))
def qknown (W : Nat → Int32) : Int32 := if bdW W = true then kwK (neV W) (nW W 5) 0 (-1) else -2
theorem hrd_n {W my : Nat → Int32} {nu : LT} {slot : Int32} {f : Nat → Nat → Int32} (h : ahV W my nu slot < 0) : hrd W my nu slot f = ahV W my nu slot := if_pos h
theorem hrd_p {W my : Nat → Int32} {nu : LT} {slot : Int32} {f : Nat → Nat → Int32} (h : ¬ ahV W my nu slot < 0) : hrd W my nu slot f = f slot.toNatClampNeg (mN my slot.toNatClampNeg) := if_neg h
theorem la_of {x : Int32} (h : laL x = true) : ∃ j : Nat, j < 4 ∧ x = nI j := by
  obtain ⟨j, hj, e⟩ := in_ofk (x := x) (n := 3) (by omega) (by rw [inL_0]; exact h)
  exact ⟨j, by omega, e⟩
/-- a slot that may be heard -/
theorem ah_of {W my : Nat → Int32} {nu : LT} {slot : Int32} (hw : WFm my) (h : ¬ ahV W my nu slot < 0) : ∃ s, s < 4 ∧ slot = nI s ∧ my s = nI (mN my s) ∧ mN my s ≤ 60 ∧ bdW W = true := by
  unfold ahV at h
  split at h
  · rename_i q
    obtain ⟨s, hs, rfl⟩ := la_of q.1
    rw [nI_clamp (by omega)] at h
    split at h
    · exact absurd (by decide) h
    · rename_i q2
      rcases hw s hs with q3 | q3
      · exact absurd q3 q2
      · exact ⟨s, hs, rfl, q3.1, q3.2, q.2⟩
  · exact absurd (by decide) h
