-- PART 59.slotspec
/-! ===== slots, images, tape: plain functions ===== -/
/-- what lasts is as it was, but for fields f, arrays a, numbers (l) -/
def KA (f a l : List Nat) (S S' : SM) : Prop := (∀ k, k = 5 ∨ k = 12 ∨ k = 13 → k ∉ f → S'.1 k = S.1 k) ∧ (∀ j, j = 1 ∨ j = 2 ∨ j = 3 ∨ j = 4 ∨ j = 19 ∨ j = 20 → j ∉ a → S'.2.1 j = S.2.1 j) ∧ (l = [] → S'.2.2.1 21 = S.2.2.1 21)
theorem KA.rf (f a l : List Nat) (S : SM) : KA f a l S S := ⟨fun _ _ _ => rfl, fun _ _ _ => rfl, fun _ => rfl⟩
theorem KA.tr {f a l : List Nat} {S S' S'' : SM} (h : KA f a l S S') (h' : KA f a l S' S'') : KA f a l S S'' := ⟨fun k p q => (h'.1 k p q).trans (h.1 k p q), fun k p q => (h'.2.1 k p q).trans (h.2.1 k p q), fun q => (h'.2.2 q).trans (h.2.2 q)⟩
theorem KA.arr {f a l : List Nat} (j i : Nat) (v : Int32) (S : SM) (h : j ∈ a ∨ ¬ (j = 1 ∨ j = 2 ∨ j = 3 ∨ j = 4 ∨ j = 19 ∨ j = 20)) : KA f a l S (sA j i v S) := ⟨fun _ _ _ => rfl, fun q p z => by
  have : q ≠ j := fun e => by
    subst e
    rcases h with h | h
    · exact z h
    · exact h p
  simp [sA, va_up, this], fun _ => rfl⟩
theorem KA.fld {f a l : List Nat} (k : Nat) (v : Int32) (S : SM) (h : k ∈ f ∨ ¬ (k = 5 ∨ k = 12 ∨ k = 13)) : KA f a l S (sF k v S) := ⟨fun q p z => by
  have : q ≠ k := fun e => by
    subst e
    rcases h with h | h
    · exact z h
    · exact h p
  exact sF1x v S this, fun _ _ _ => rfl, fun _ => rfl⟩
theorem KA.lng {f a l : List Nat} (j i : Nat) (v : Int64) (S : SM) (h : l ≠ [] ∨ j ≠ 21) : KA f a l S (sL j i v S) := ⟨fun _ _ _ => rfl, fun _ _ _ => rfl, fun q => by
  rcases h with h | h
  · exact absurd q h
  · exact sL_o (fun e => h e.symm) i v S⟩
theorem sA_s (j i : Nat) (v : Int32) (S : SM) : (sA j i v S).2.1 j = upd (S.2.1 j) i v := by simp [sA, va_up]
theorem sA_o {j q : Nat} (h : q ≠ j) (i : Nat) (v : Int32) (S : SM) : (sA j i v S).2.1 q = S.2.1 q := by simp [sA, va_up, h]
def QV (M : Nat) (pre post : AH) (v : Value) (R : SM → Prop) : Option Value → AH → Prop := fun v' h1 => v' = some v ∧ ∃ S', h1 = mH M pre S' post ∧ R S'
/-! slots: how many, widths, numbers -/
abbrev SLt : Type := (Nat → Int32) × (Nat → Int32) × LT
def slS (S : SM) : SLt := (S.2.1 19, S.2.1 20, S.2.2.1 21)
def z60 (s i : Nat) (T : LT) : LT := vp_updL T (60 * s + i) 0
def qrow (slot w n : Int32) : Int32 := if laL slot = true ∧ (laL w = true ∧ n ≤ 60) then (if n < 0 then -3 else 0) else -2
def wrow (sl : SLt) (slot w n : Int32) : SLt := if (laL slot = true ∧ (laL w = true ∧ n ≤ 60)) ∧ ¬ n < 0 then (upd sl.1 slot.toNatClampNeg n, upd sl.2.1 slot.toNatClampNeg w, itr (z60 slot.toNatClampNeg) 60 0 sl.2.2) else sl
def cutV (v : Int64) (w : Int32) : Int64 := (v <<< ((64 - (8 : Int32) <<< (w &&& 31)).toInt64 &&& 63)) >>> ((64 - (8 : Int32) <<< (w &&& 31)).toInt64 &&& 63)
def qwrite (sl : SLt) (slot i : Int32) : Int32 := if laL slot = true then (if sl.1 slot.toNatClampNeg = -1 then -6 else if inI i 0 (sl.1 slot.toNatClampNeg - 1) = true then 0 else -7) else -2
def wwrite (sl : SLt) (slot i : Int32) (v : Int64) : SLt := if qwrite sl slot i = 0 then (sl.1, sl.2.1, vp_updL sl.2.2 (60 * slot.toNatClampNeg + i.toNatClampNeg) (cutV v (sl.2.1 slot.toNatClampNeg))) else sl
def pbB (my : Nat → Int32) (s t : Nat) (i k n : Int32) : Bool := decide (i < 0) || (decide (k < 0) || (decide (n < 0) || (decide ((my s).toInt64 < i.toInt64 + n.toInt64) || decide ((my t).toInt64 < k.toInt64 + n.toInt64))))
def qpaste (sl : SLt) (slot i to k n : Int32) : Int32 := if laL slot = true ∧ laL to = true then (if sl.1 slot.toNatClampNeg = -1 ∨ sl.1 to.toNatClampNeg = -1 then -6 else if sl.2.1 slot.toNatClampNeg = sl.2.1 to.toNatClampNeg then (if pbB sl.1 slot.toNatClampNeg to.toNatClampNeg i k n = true then -7 else 0) else -8) else -2
def paN (nu : LT) (s i t k n : Nat) : LT := fun j => if 60 * t + k ≤ j ∧ j < 60 * t + k + n then nu (60 * s + i + (j - (60 * t + k))) else nu j
def wpaste (sl : SLt) (slot i to k n : Int32) : SLt := if qpaste sl slot i to k n = 0 then (sl.1, sl.2.1, paN sl.2.2 slot.toNatClampNeg i.toNatClampNeg to.toNatClampNeg k.toNatClampNeg n.toNatClampNeg) else sl
/-! images -/
def imF (W : Nat → Int32) (k i : Nat) (A : Nat → Int32) : Nat → Int32 := upd A (116 * k + i) (W i)
def baF2 (A : Nat → Int32) (k i : Nat) (W : Nat → Int32) : Nat → Int32 := upd W i (A (116 * k + i))
def qimage (k : Int32) : Int32 := if inL k.toInt64 0 2 = true then 0 else -2
def qback (hs : Nat → Int32) (k : Int32) : Int32 := if inL k.toInt64 0 2 = true then (if hs k.toNatClampNeg = 0 then -6 else 0) else -2
/-! the tape -/
def bit8 (v : Nat → Int32) (i : Nat) : Int32 := (v (i / 4) >>> ((24 - 8 * nI (i % 4)) &&& 31)).toInt8.toInt32
def teF (v : Nat → Int32) (a i : Nat) (T : Nat → Int32) : Nat → Int32 := upd T (a + i) (bit8 v i)
def qcount (W my : Nat → Int32) (ta x : Int32) : Int32 := if x = 0 then W 0 else if x = 1 then W 1 else if x = 2 then W 2 else if x = 3 then W 3 else if x = 4 then W 5 else if x = 5 then W 6 else if x = 6 then W 7 else if x = 7 then W 8 else if x = 8 then W 9 else if x = 9 then ta else if x = 10 then itr (fun s n => n + (if my s = -1 then 0 else 1)) 4 0 0 else -1
theorem n64_add {a b : Nat} (ha : a < 2147483648) (hb : b < 2147483648) : ((nI a).toInt64 + (nI b).toInt64).toInt = (a : Int) + b := by
  rw [Int64.toInt_add, Int32.toInt_toInt64, Int32.toInt_toInt64, nI_toInt ha, nI_toInt hb]
  simp only [Int.bmod]
  split <;> omega
theorem n64_le {a b m : Nat} (ha : a < 2147483648) (hb : b < 2147483648) (hm : m < 2147483648) : (nI a).toInt64 + (nI b).toInt64 ≤ (nI m).toInt64 ↔ a + b ≤ m := by
  rw [Int64.le_iff_toInt_le, n64_add ha hb, Int32.toInt_toInt64, nI_toInt hm]
  omega
