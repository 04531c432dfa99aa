-- PART 51.lotspec
/-! ===== lots: plain functions ===== -/
def fm32 (x y : Int32) : Int32 := if 0 ≤ x ^^^ y then rm32 x y else if rm32 x y = 0 then rm32 x y else rm32 x y + y
theorem sg32 (x : Int32) : 0 ≤ x ↔ x.toBitVec.msb = false := by
  rw [Int32.le_iff_toInt_le, BitVec.msb_eq_toInt, decide_eq_false_iff_not, Int.not_lt]
  exact Iff.rfl
theorem xs32 (x y : Int32) (h : 0 ≤ y) : 0 ≤ x ^^^ y ↔ 0 ≤ x := by
  rw [sg32] at h
  rw [sg32, sg32, Int32.toBitVec_xor, BitVec.msb_xor, h, Bool.xor_false]
theorem rm32_t (x : Int32) {n : Nat} (h0 : 0 < n) (hn : n < 1000000000) : rm32 x (nI n) = Int32.ofInt (x.toInt.tmod n) := by
  have hx1 := Int32.minValue_le_toInt x
  have hx2 := Int32.toInt_le x
  have e1 : x = Int32.ofInt x.toInt := (Int32.ofInt_toInt x).symm
  have e2 : nI n = Int32.ofInt (n : Int) := rfl
  unfold rm32
  have e3 : x / nI n = Int32.ofInt (x.toInt.tdiv (n : Int)) := by
    rw [Int32.ofInt_tdiv hx1 hx2 (by show (-2147483648 : Int) ≤ n; omega) (by show (n : Int) ≤ 2147483647; omega), ← e1, e2]
  rw [e3, e2]
  conv => lhs; lhs; rw [e1]
  rw [← Int32.ofInt_mul, ← Int32.ofInt_sub]
  congr 1
  rw [Int.tmod_def, Int.mul_comm]
theorem fm_in (x : Int32) {n : Nat} (h0 : 0 < n) (hn : n < 1000000000) : ∃ j : Nat, j < n ∧ fm32 x (nI n) = nI j := by
  have hp : (0 : Int32) ≤ nI n := nI_pos' (by omega)
  have hr := rm32_t x h0 hn
  have hb : x.toInt.tmod n < n := Int.tmod_lt_of_pos _ (by omega)
  have hb2 : -(n : Int) < x.toInt.tmod n := by
    have := Int.lt_tmod_of_pos x.toInt (b := (n : Int)) (by omega)
    omega
  unfold fm32
  rw [hr]
  by_cases hx : 0 ≤ x
  · rw [if_pos ((xs32 x _ hp).mpr hx)]
    have h1 : 0 ≤ x.toInt := Int32.le_iff_toInt_le.mp hx
    have h2 : 0 ≤ x.toInt.tmod n := Int.tmod_nonneg _ h1
    refine ⟨(x.toInt.tmod n).toNat, by omega, ?_⟩
    have e : x.toInt.tmod n = (((x.toInt.tmod n).toNat : Nat) : Int) := by omega
    conv => lhs; rw [e]
    rfl
  · rw [if_neg (fun q => hx ((xs32 x _ hp).mp q))]
    have h1 : x.toInt ≤ 0 := by
      rw [Int32.le_iff_toInt_le] at hx
      have : (0 : Int32).toInt = 0 := rfl
      omega
    have h2 : x.toInt.tmod n ≤ 0 := by
      have := Int.tmod_nonneg (n : Int) (show 0 ≤ -x.toInt by omega)
      rw [Int.neg_tmod] at this
      omega
    split
    · refine ⟨0, h0, ?_⟩
      assumption
    · refine ⟨(x.toInt.tmod n + n).toNat, ?_, ?_⟩
      · rename_i hz
        have : x.toInt.tmod n ≠ 0 := fun q => hz (by rw [q]; rfl)
        omega
      · have e : x.toInt.tmod n + n = (((x.toInt.tmod n + n).toNat : Nat) : Int) := by omega
        have e2 : nI n = Int32.ofInt (n : Int) := rfl
        rw [e2, ← Int32.ofInt_add, e]
        rfl
def leW (W : Nat → Int32) (law h one two : Int32) : Bool := !shW W h && (if law = 1 then !decide (h = one) else if law = 2 then decide (one = -1) || decide (1 < stW W h one) else decide (law = 0) || (!decide (h = one) && !decide (h = two)))
def hoA (W : Nat → Int32) (x : Int32) : Int32 := W (24 + 3 * (fm32 x (W 5)).toNatClampNeg + 0)
/-! rows by their last two holes -/
abbrev LT : Type := Nat → Int64
def rh3 (W : Nat → Int32) (law : Int32) (a b : Nat) (m : Int64) (h : Nat) (T : LT) : LT := if leW W law (nI h) (nI a - 1) (nI b - 1) = true then vp_updL T (13 * (h + 1) + a) (T (13 * (h + 1) + a) + m) else T
def rh2 (W : Nat → Int32) (law : Int32) (R : LT) (a b : Nat) (T : LT) : LT := if R (13 * a + b) = 0 then T else itr (rh3 W law a b (R (13 * a + b))) (hoN W) 0 T
def rh1 (W : Nat → Int32) (law : Int32) (R : LT) (a : Nat) (T : LT) : LT := itr (rh2 W law R a) (hoN W + 1) 0 T
def rhT (W : Nat → Int32) (law : Int32) (R : LT) : LT := itr (rh1 W law R) (hoN W + 1) 0 (fun _ => 0)
def roT (W : Nat → Int32) (law : Int32) : Nat → LT
  | 0 => fun k => if k = 0 then 1 else 0
  | n + 1 => rhT W law (roT W law n)
def enF (T : LT) (h : Nat) (b : Nat) (s : Int64) : Int64 := s + T (13 * (h + 1) + b)
def enT (T : LT) (h : Nat) : Int64 := itr (enF T h) 13 0 0
def alF (T : LT) (h : Nat) (s : Int64) : Int64 := s + enT T h
def laL (law : Int32) : Bool := inI law 0 3
def qrows (W : Nat → Int32) (law n : Int32) : Int64 := if bdW W = true ∧ (laL law = true ∧ inL n.toInt64 1 12 = true) then itr (alF (roT W law n.toNatClampNeg)) (hoN W) 0 0 else -2
def qends (W : Nat → Int32) (law n h : Int32) : Int64 := if hlL W h.toInt64 = true ∧ (laL law = true ∧ inL n.toInt64 1 12 = true) then enT (roT W law n.toNatClampNeg) h.toNatClampNeg else -2
/-- the first hole that breaks evenness: some none -/
def faF (W : Nat → Int32) (T : LT) : Nat → Nat → Option Nat → Bool
  | 0, _, _ => true
  | k + 1, h, f => if shW W (nI h) = true then faF W T k (h + 1) f else if enT T h = enT T (f.getD h) then faF W T k (h + 1) (some (f.getD h)) else false
def faW (W : Nat → Int32) (law : Int32) : Nat → Nat → Bool
  | 0, _ => true
  | k + 1, n => if faF W (roT W law n) (hoN W) 0 none = true then faW W law k (n + 1) else false
def qfair (W : Nat → Int32) (law : Int32) : Int32 := if bdW W = true ∧ laL law = true then b2i (faW W law 12 1) else -2
def brP (W : Nat → Int32) (law : Int32) (k : Nat) : Bool := !leW W law (hoA W (nI k)) (hoA W (nI k - 1)) (hoA W (nI k - 2))
def qbreaks (W : Nat → Int32) (law : Int32) : Int32 := if bdW W = true ∧ laL law = true then onI (fstK (brP W law) (nW W 5) 0) else -2
/-! how the tables lie -/
def KL (S S' : SM) : Prop := S'.1 = S.1 ∧ S'.2.1 = S.2.1 ∧ S'.2.2.2 = S.2.2.2 ∧ ∀ j, j ≠ 16 → j ≠ 17 → S'.2.2.1 j = S.2.2.1 j
theorem KL.rf (S : SM) : KL S S := ⟨rfl, rfl, rfl, fun _ _ _ => rfl⟩
theorem KL.tr {S S' S'' : SM} (h : KL S S') (h' : KL S' S'') : KL S S'' := ⟨h'.1.trans h.1, h'.2.1.trans h.2.1, h'.2.2.1.trans h.2.2.1, fun j a b => (h'.2.2.2 j a b).trans (h.2.2.2 j a b)⟩
theorem KL.wd {S S' : SM} (h : KL S S') : wd S' = wd S := congrFun h.2.1 1
theorem KL.KP {S S' : SM} (h : KL S S') : KP S S' := ⟨by rw [h.1]; exact ⟨rfl, rfl, rfl⟩, fun j _ => congrFun h.2.1 j, h.2.2.2 21 (by decide) (by decide)⟩
theorem KL.set {S S' : SM} (h : KL S S') {j i : Nat} {v : Int64} (hj : j = 16 ∨ j = 17) : KL S (sL j i v S') := ⟨h.1, h.2.1, h.2.2.1, fun q a b => by
  show va_up S'.2.2.1 j _ q = _
  rw [← h.2.2.2 q a b]
  have : q ≠ j := by omega
  simp [va_up, this]⟩
def AG (f T : LT) : Prop := ∀ k, k < 169 → f k = T k
theorem sL_s (j i : Nat) (v : Int64) (S : SM) : (sL j i v S).2.2.1 j = vp_updL (S.2.2.1 j) i v := by simp [sL, va_up]
theorem sL_o {j q : Nat} (h : q ≠ j) (i : Nat) (v : Int64) (S : SM) : (sL j i v S).2.2.1 q = S.2.2.1 q := by simp [sL, va_up, h]
theorem AG.set {f T : LT} (h : AG f T) (i : Nat) (v : Int64) : AG (vp_updL f i v) (vp_updL T i v) := fun k hk => by
  simp only [vp_updL]
  split
  · rfl
  · exact h k hk
theorem ix13 (a b : Nat) : (13 : Int32) * (nI a - 1 + 1) + (nI b - 1) + 1 = nI (13 * a + b) := by
  have : nI (13 * a + b) = 13 * nI a + nI b := by rw [← nI_add, ← pk_mul]; rfl
  rw [this]
  grind
theorem ix13h (h a : Nat) : (13 : Int32) * (nI h + 1) + (nI a - 1) + 1 = nI (13 * (h + 1) + a) := by
  have : nI (13 * (h + 1) + a) = 13 * nI (h + 1) + nI a := by rw [← nI_add, ← pk_mul]; rfl
  rw [this, nI_1 h |>.symm]
  grind
theorem ix13e (h b : Nat) : (13 : Int32) * (nI h + 1) + nI b = nI (13 * (h + 1) + b) := by
  have : nI (13 * (h + 1) + b) = 13 * nI (h + 1) + nI b := by rw [← nI_add, ← pk_mul]; rfl
  rw [this, nI_1 h |>.symm]
theorem rh_R {W : Nat → Int32} {law : Int32} {R R' : LT} (h : AG R R') (hn : hoN W ≤ 12) {a : Nat} (ha : a ≤ 12) (T : LT) {k b : Nat} (hb : b + k ≤ hoN W + 1) : itr (rh2 W law R a) k b T = itr (rh2 W law R' a) k b T := by
  induction k generalizing b T with
  | zero => rfl
  | succ k ih =>
    show itr _ k (b + 1) (rh2 W law R a b T) = itr _ k (b + 1) (rh2 W law R' a b T)
    rw [rh2, rh2, h (13 * a + b) (by omega)]
    exact ih _ (by omega)
