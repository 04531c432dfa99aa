-- PART 9975.readpic
/-! ===== the class's reader ===== -/
set_option maxRecDepth 100000
def ro (b n a f : Nat) (t v : Int32) : AE := .inr (11, [.ref 14, .int (nI n), .ref b, .int (nI a), .int (nI f), .int t, .int v])
def lxo (b n : Nat) (L : LX) : AE := ro b n (lAt L) (lFr L) (nI (lTk L)) (lVa L)
def atB (T : Nat → Int32) (n a : Nat) (lo hi : Int32) : Bool := decide (a < n) && inL (T a).toInt64 lo.toInt64 hi.toInt64
/-- the text is bytes -/
def TB (T : Nat → Int32) : Prop := ∀ k, ∃ j : Nat, j < 256 ∧ T k = (Int8.ofNat j).toInt32
theorem tb_az {T : Nat → Int32} (hT : TB T) (k : Nat) : inL (T k).toInt64 97 122 = inL (T k &&& 255).toInt64 97 122 := by
  obtain ⟨j, hj, e⟩ := hT k
  rw [e]
  exact (by decide +kernel : ∀ j : Nat, j < 256 → inL ((Int8.ofNat j).toInt32).toInt64 97 122 = inL ((Int8.ofNat j).toInt32 &&& 255).toInt64 97 122) j hj
theorem tb_dg {T : Nat → Int32} (hT : TB T) (k : Nat) : inL (T k).toInt64 48 57 = inL (T k &&& 255).toInt64 48 57 := by
  obtain ⟨j, hj, e⟩ := hT k
  rw [e]
  exact (by decide +kernel : ∀ j : Nat, j < 256 → inL ((Int8.ofNat j).toInt32).toInt64 48 57 = inL ((Int8.ofNat j).toInt32 &&& 255).toInt64 48 57) j hj
theorem tb_32 {T : Nat → Int32} (hT : TB T) (k : Nat) : inL (T k).toInt64 32 32 = decide (T k &&& 255 = 32) := by
  obtain ⟨j, hj, e⟩ := hT k
  rw [e]
  exact (by decide +kernel : ∀ j : Nat, j < 256 → inL ((Int8.ofNat j).toInt32).toInt64 32 32 = decide ((Int8.ofNat j).toInt32 &&& 255 = 32)) j hj
theorem tb_10 {T : Nat → Int32} (hT : TB T) (k : Nat) : inL (T k).toInt64 10 10 = decide (T k &&& 255 = 10) := by
  obtain ⟨j, hj, e⟩ := hT k
  rw [e]
  exact (by decide +kernel : ∀ j : Nat, j < 256 → inL ((Int8.ofNat j).toInt32).toInt64 10 10 = decide ((Int8.ofNat j).toInt32 &&& 255 = 10)) j hj
theorem tb_59 {T : Nat → Int32} (hT : TB T) (k : Nat) : inL (T k).toInt64 59 59 = decide (T k &&& 255 = 59) := by
  obtain ⟨j, hj, e⟩ := hT k
  rw [e]
  exact (by decide +kernel : ∀ j : Nat, j < 256 → inL ((Int8.ofNat j).toInt32).toInt64 59 59 = decide ((Int8.ofNat j).toInt32 &&& 255 = 59)) j hj
theorem tb_dv {T : Nat → Int32} (hT : TB T) (k : Nat) : inL (T k &&& 255).toInt64 48 57 = true → T k &&& 255 = T k := by
  obtain ⟨j, hj, e⟩ := hT k
  rw [e]
  exact (by decide +kernel : ∀ j : Nat, j < 256 → inL ((Int8.ofNat j).toInt32 &&& 255).toInt64 48 57 = true → (Int8.ofNat j).toInt32 &&& 255 = (Int8.ofNat j).toInt32) j hj
theorem at_az {T : Nat → Int32} (hT : TB T) (n k : Nat) : atB T n k 97 122 = azB T n k := by
  unfold atB azB seT
  by_cases h : k < n
  · rw [decide_eq_true h, if_pos h, Bool.true_and]; exact tb_az hT k
  · rw [decide_eq_false h, if_neg h]; rfl
theorem at_dg {T : Nat → Int32} (hT : TB T) (n k : Nat) : atB T n k 48 57 = dgB T n k := by
  unfold atB dgB seT
  by_cases h : k < n
  · rw [decide_eq_true h, if_pos h, Bool.true_and]; exact tb_dg hT k
  · rw [decide_eq_false h, if_neg h]; rfl
theorem at_32 {T : Nat → Int32} (hT : TB T) (n k : Nat) : atB T n k 32 32 = decide (seT T n k = 32) := by
  unfold atB seT
  by_cases h : k < n
  · rw [decide_eq_true h, if_pos h, Bool.true_and]; exact tb_32 hT k
  · rw [decide_eq_false h, if_neg h]; rfl
theorem at_10 {T : Nat → Int32} (hT : TB T) (n k : Nat) : atB T n k 10 10 = decide (seT T n k = 10) := by
  unfold atB seT
  by_cases h : k < n
  · rw [decide_eq_true h, if_pos h, Bool.true_and]; exact tb_10 hT k
  · rw [decide_eq_false h, if_neg h]; rfl
theorem at_59 {T : Nat → Int32} (hT : TB T) (n k : Nat) : atB T n k 59 59 = decide (seT T n k = 59) := by
  unfold atB seT
  by_cases h : k < n
  · rw [decide_eq_true h, if_pos h, Bool.true_and]; exact tb_59 hT k
  · rw [decide_eq_false h, if_neg h]; rfl
theorem ws_lt {T : Nat → Int32} {n k : Nat} (h : wsB T n k = true) : k < n := Nat.not_le.mp (fun q => by rw [ws_out q] at h; cases h)
theorem az_lt {T : Nat → Int32} {n k : Nat} (h : azB T n k = true) : k < n := Nat.not_le.mp (fun q => by rw [az_out q] at h; cases h)
theorem dg_lt {T : Nat → Int32} {n k : Nat} (h : dgB T n k = true) : k < n := Nat.not_le.mp (fun q => by rw [dg_out q] at h; cases h)
theorem dg_va {T : Nat → Int32} (hT : TB T) {n k : Nat} (h : dgB T n k = true) : seT T n k = T k := by
  have hl := dg_lt h
  unfold dgB at h
  rw [seT, if_pos hl] at h ⊢
  exact tb_dv hT k h
theorem cnk_0 {p : Nat → Bool} {k f : Nat} (h : p k = false) : cntK p f k = k := by
  cases f with
  | zero => rfl
  | succ f => exact if_neg (by rw [h]; decide)
theorem lx_e {T : Nat → Int32} {n k : Nat} (h : n ≤ k) : lxF T n k = (k, k, 0, 0) := if_pos (se_out h)
theorem lx_nb {T : Nat → Int32} {n k : Nat} (h : k < n) : ¬ seT T n k = -1 := fun q => absurd (se_end q) (by omega)
theorem lx_w {T : Nat → Int32} {n k : Nat} (h : azB T n k = true) : lxF T n k = (k, cntK (azB T n) n k, 1, 0) := by
  rw [lxF, if_neg (lx_nb (az_lt h)), if_pos h]
theorem lx_d {T : Nat → Int32} {n k : Nat} (h : azB T n k = false) (h2 : dgB T n k = true) : lxF T n k = (k, (numK T n n k 0).1, 2, (numK T n n k 0).2) := by
  rw [lxF, if_neg (lx_nb (dg_lt h2)), if_neg (by rw [h]; decide), if_pos h2]
theorem lx_s3 {T : Nat → Int32} {n k : Nat} (h0 : k < n) (h : azB T n k = false) (h2 : dgB T n k = false) (h3 : decide (seT T n k = 59) = true) : lxF T n k = (k, k + 1, 3, 0) := by
  rw [lxF, if_neg (lx_nb h0), if_neg (by rw [h]; decide), if_neg (by rw [h2]; decide), if_pos (of_decide_eq_true h3)]
theorem lx_s4 {T : Nat → Int32} {n k : Nat} (h0 : k < n) (h : azB T n k = false) (h2 : dgB T n k = false) (h3 : decide (seT T n k = 59) = false) : lxF T n k = (k, k + 1, 4, 0) := by
  rw [lxF, if_neg (lx_nb h0), if_neg (by rw [h]; decide), if_neg (by rw [h2]; decide), if_neg (of_decide_eq_false h3)]
theorem rg {C : SC} {S : SM} {X : AH} {r : Nat} {E : AE} (hr : r < X.length) (hd : dyn r) : (cH C S (X.set r E))[r]? = some E := (cH_dyn hd).trans (List.getElem?_set_self hr)
theorem rs {C : SC} {S : SM} {X : AH} {r : Nat} {E E' : AE} (hd : dyn r) : (cH C S (X.set r E)).set r E' = cH C S (X.set r E') := (cH_dset hd).trans (by rw [List.set_set])
theorem x_set {X : AH} {r : Nat} {E : AE} (h : X[r]? = some E) : X.set r E = X := by
  apply List.ext_getElem?
  intro i
  by_cases q : r = i
  · subst q; rw [List.getElem?_set_self (List.getElem?_eq_some_iff.mp h).1, h]
  · rw [List.getElem?_set_ne q]
theorem xs_len {X : AH} {r : Nat} {E : AE} (h : 108 ≤ X.length) : 108 ≤ (X.set r E).length := by rw [List.length_set]; exact h
