/-! ===== plain functions: what both sides compute; W: a board as a row of 116 ints ===== -/
def ab32 (x : Int32) : Int32 := if 0 ≤ x then x else -x
def mx32 (a b : Int32) : Int32 := if a < b then b else a
def mn32 (a b : Int32) : Int32 := if b < a then b else a
def rm32 (a b : Int32) : Int32 := a - a / b * b
def inL (v lo hi : Int64) : Bool := decide (lo ≤ v) && decide (v ≤ hi)
def inI (v lo hi : Int32) : Bool := decide (lo ≤ v) && decide (v ≤ hi)
theorem lg_lt (a b : Int64) : lg_cmp a b < 0 ↔ a < b := by
  have := lg_cmp_ge a b
  rw [← Int32.not_le, this, Int64.not_le]
theorem lg_gt (a b : Int64) : 0 < lg_cmp a b ↔ b < a := by
  unfold lg_cmp
  by_cases h : b < a
  · rw [if_pos h]; exact ⟨fun _ => h, fun _ => by decide⟩
  · rw [if_neg h]
    by_cases h2 : a = b
    · rw [if_pos h2]; exact ⟨fun q => absurd q (by decide), fun q => absurd q h⟩
    · rw [if_neg h2]; exact ⟨fun q => absurd q (by decide), fun q => absurd q h⟩
theorem inL_i (a b c : Int32) : inL a.toInt64 b.toInt64 c.toInt64 = inI a b c := by
  unfold inL inI
  congr 1 <;> rw [decide_eq_decide, Int64.le_iff_toInt_le, Int32.le_iff_toInt_le, Int32.toInt_toInt64, Int32.toInt_toInt64]
theorem inL_0 (a c : Int32) : inL a.toInt64 0 c.toInt64 = inI a 0 c := inL_i a 0 c
def wd (S : SM) : Nat → Int32 := S.2.1 1
def hoW (W : Nat → Int32) : Int32 := W 0 * W 1
def shW (W : Nat → Int32) (h : Int32) : Bool := decide ((W 7 >>> (h &&& 31)) &&& 1 = 1)
def cmW (W : Nat → Int32) (k : Int32) : Bool := inI k 0 (W 5 - 1)
def plW (W : Nat → Int32) (p : Int32) : Bool := inI p 0 (W 6 - 1)
def tkL (W : Nat → Int32) (t : Int64) : Bool := inL t 0 (W 2 - 1).toInt64
def hlL (W : Nat → Int32) (h : Int64) : Bool := inL h 0 (hoW W - 1).toInt64
def bdW (W : Nat → Int32) : Bool := decide (0 < W 0)
/-- k steps, from place i on -/
def itr {α : Type} (f : Nat → α → α) : Nat → Nat → α → α
  | 0, _, a => a
  | k + 1, i, a => itr f k (i + 1) (f i a)
def stW (W : Nat → Int32) (a b : Int32) : Int32 := ab32 (rm32 a (W 0) - rm32 b (W 0)) + ab32 (a / W 0 - b / W 0)
/-- holes that aren't shut, of the first n -/
def opF (W : Nat → Int32) (i : Nat) (n : Int32) : Int32 := n + (if shW W (nI i) = true then 0 else 1)
def saF (W : Nat → Int32) (h : Int32) (i : Nat) (n : Int32) : Int32 := n + (if shW W (nI i) = true then 0 else stW W h (nI i))
theorem nI_cl {x : Int32} (h : 0 ≤ x) : x = nI x.toNatClampNeg := by
  obtain ⟨j, hj, rfl⟩ := nI_of (Int32.not_lt.mpr h)
  rw [nI_clamp hj]
def siF (W : Nat → Int32) (t : Int32) (i : Nat) (a : Int32 × Int32) : Int32 × Int32 := if t < W (12 + 2 * i) ∨ W (12 + 2 * i) < a.1 then a else (W (12 + 2 * i), W (12 + 2 * i + 1))
/-- how long a coming stays in a tick -/
def stayW (W : Nat → Int32) (t : Int32) : Int32 := (itr (siF W t) (W 4).toNatClampNeg 0 (-1, 7)).2
/-! numbers of a board -/
def nW (W : Nat → Int32) (j : Nat) : Nat := (W j).toNatClampNeg
/-- the sizes are in their bounds -/
def WFs (W : Nat → Int32) : Prop := (W 0 = nI (nW W 0) ∧ nW W 0 ≤ 4) ∧ (W 1 = nI (nW W 1) ∧ nW W 1 ≤ 3) ∧ (W 2 = nI (nW W 2) ∧ nW W 2 ≤ 200) ∧ (W 3 = nI (nW W 3) ∧ nW W 3 ≤ 9) ∧ (W 4 = nI (nW W 4) ∧ nW W 4 ≤ 6) ∧ (W 5 = nI (nW W 5) ∧ nW W 5 ≤ 24) ∧ (W 6 = nI (nW W 6) ∧ nW W 6 ≤ 4) ∧ (W 7 = nI (nW W 7) ∧ nW W 7 < 4096) ∧ (W 8 = nI (nW W 8) ∧ nW W 8 ≤ 24)
theorem WFs.wi {W : Nat → Int32} (h : WFs W) : W 0 = nI (nW W 0) ∧ nW W 0 ≤ 4 := h.1
theorem WFs.hi {W : Nat → Int32} (h : WFs W) : W 1 = nI (nW W 1) ∧ nW W 1 ≤ 3 := h.2.1
theorem WFs.tk {W : Nat → Int32} (h : WFs W) : W 2 = nI (nW W 2) ∧ nW W 2 ≤ 200 := h.2.2.1
theorem WFs.pz {W : Nat → Int32} (h : WFs W) : W 3 = nI (nW W 3) ∧ nW W 3 ≤ 9 := h.2.2.2.1
theorem WFs.ns {W : Nat → Int32} (h : WFs W) : W 4 = nI (nW W 4) ∧ nW W 4 ≤ 6 := h.2.2.2.2.1
theorem WFs.nc {W : Nat → Int32} (h : WFs W) : W 5 = nI (nW W 5) ∧ nW W 5 ≤ 24 := h.2.2.2.2.2.1
theorem WFs.np {W : Nat → Int32} (h : WFs W) : W 6 = nI (nW W 6) ∧ nW W 6 ≤ 4 := h.2.2.2.2.2.2.1
theorem WFs.sh {W : Nat → Int32} (h : WFs W) : W 7 = nI (nW W 7) ∧ nW W 7 < 4096 := h.2.2.2.2.2.2.2.1
theorem WFs.sd {W : Nat → Int32} (h : WFs W) : W 8 = nI (nW W 8) ∧ nW W 8 ≤ 24 := h.2.2.2.2.2.2.2.2
def hoN (W : Nat → Int32) : Nat := nW W 0 * nW W 1
theorem WFs.ho {W : Nat → Int32} (h : WFs W) : hoW W = nI (hoN W) := by unfold hoW hoN; rw [h.1.1, h.2.1.1, pk_mul]
theorem WFs.ho12 {W : Nat → Int32} (h : WFs W) : hoN W ≤ 12 := Nat.mul_le_mul h.1.2 h.2.1.2
theorem WFs.w0 {W : Nat → Int32} (h : WFs W) {i : Nat} (hi : i < hoN W) : 0 < nW W 0 := by
  rcases Nat.eq_zero_or_pos (nW W 0) with q | q
  · unfold hoN at hi; rw [q, Nat.zero_mul] at hi; omega
  · exact q
theorem WFs.w0ne {W : Nat → Int32} (h : WFs W) {i : Nat} (hi : i < hoN W) : ¬ W 0 = 0 := by
  rw [h.1.1]; exact nI_ne0 (h.w0 hi) (by have := h.1.2; omega)
theorem in_of {x : Int32} {n : Nat} (hn : n < 2147483648) (h : inI x 0 (nI n - 1) = true) : ∃ j : Nat, j < n ∧ x = nI j := by
  unfold inI at h
  rw [Bool.and_eq_true, decide_eq_true_eq, decide_eq_true_eq] at h
  obtain ⟨j, hj, rfl⟩ := nI_of (Int32.not_lt.mpr h.1)
  cases n with
  | zero => exact absurd h.2 (by rw [Int32.le_iff_toInt_le, nI_toInt hj]; show ¬ ((j : Int) ≤ -1); omega)
  | succ n =>
    rw [nI_pred] at h
    exact ⟨j, by have := (nI_leI hj (by omega)).mp h.2; omega, rfl⟩
theorem in_is {j n : Nat} (hn : n < 2147483648) (hj : j < n) : inI (nI j) 0 (nI n - 1) = true := by
  unfold inI
  rw [Bool.and_eq_true, decide_eq_true_eq, decide_eq_true_eq]
  obtain ⟨m, rfl⟩ : ∃ m, n = m + 1 := ⟨n - 1, by omega⟩
  rw [nI_pred]
  exact ⟨nI_pos' (by omega), nI_le (by omega) (by omega)⟩
theorem in_ofk {x : Int32} {n : Nat} (hn : n < 2147483648) (h : inL x.toInt64 0 (nI n).toInt64 = true) : ∃ j : Nat, j ≤ n ∧ x = nI j := by
  rw [inL_0] at h
  unfold inI at h
  rw [Bool.and_eq_true, decide_eq_true_eq, decide_eq_true_eq] at h
  obtain ⟨j, hj, rfl⟩ := nI_of (Int32.not_lt.mpr h.1)
  exact ⟨j, (nI_leI hj hn).mp h.2, rfl⟩
theorem cmW_of {W : Nat → Int32} (hs : WFs W) {x : Int32} (h : cmW W x = true) : ∃ j : Nat, j < nW W 5 ∧ x = nI j := in_of (n := nW W 5) (by have := hs.nc.2; omega) (by rw [← hs.nc.1]; exact h)
theorem plW_of {W : Nat → Int32} (hs : WFs W) {x : Int32} (h : plW W x = true) : ∃ j : Nat, j < nW W 6 ∧ x = nI j := in_of (n := nW W 6) (by have := hs.np.2; omega) (by rw [← hs.np.1]; exact h)
theorem tkL_of {W : Nat → Int32} (hs : WFs W) {x : Int32} (h : tkL W x.toInt64 = true) : ∃ j : Nat, j < nW W 2 ∧ x = nI j := in_of (n := nW W 2) (by have := hs.tk.2; omega) (by rw [← hs.tk.1, ← inL_0]; exact h)
theorem hlL_of {W : Nat → Int32} (hs : WFs W) {x : Int32} (h : hlL W x.toInt64 = true) : ∃ j : Nat, j < hoN W ∧ x = nI j := in_of (n := hoN W) (by have := hs.ho12; omega) (by rw [← hs.ho, ← inL_0]; exact h)
theorem in01_of {x : Int32} (h : inL x.toInt64 0 1 = true) : ∃ j : Nat, j ≤ 1 ∧ x = nI j := in_ofk (n := 1) (by omega) h
theorem in2_of {x : Int32} (h : inL x.toInt64 0 2 = true) : ∃ j : Nat, j ≤ 2 ∧ x = nI j := in_ofk (n := 2) (by omega) h
theorem in4_of {x : Int32} (h : inL x.toInt64 0 4 = true) : ∃ j : Nat, j ≤ 4 ∧ x = nI j := in_ofk (n := 4) (by omega) h
/-- steps between holes, as numbers -/
def dfN (a b : Nat) : Nat := (a - b) + (b - a)
def stN (w a b : Nat) : Nat := dfN (a % w) (b % w) + dfN (a / w) (b / w)
theorem ab_n {a b : Nat} (ha : a < 1000000000) (hb : b < 1000000000) : ab32 (nI a - nI b) = nI (dfN a b) := by
  unfold ab32 dfN
  by_cases h : b ≤ a
  · rw [pk_sub h, if_pos (nI_pos' (by omega))]
    congr 1; omega
  · have h1 := pk_sneg (a := a) (b := b) (by omega) (by omega)
    rw [if_neg (Int32.not_le.mpr h1)]
    have e : -(nI a - nI b) = nI b - nI a := by grind
    rw [e, pk_sub (by omega)]
    congr 1; omega
theorem stW_n {W : Nat → Int32} (hs : WFs W) {a b : Nat} (h0 : 0 < nW W 0) (ha : a < 1000000000) (hb : b < 1000000000) : stW W (nI a) (nI b) = nI (stN (nW W 0) a b) := by
  have h4 := hs.1.2
  unfold stW rm32 stN
  rw [hs.1.1, pk_rem (by omega) h0 (by omega), pk_rem (by omega) h0 (by omega), pk_div (by omega) h0 (by omega), pk_div (by omega) h0 (by omega)]
  rw [ab_n (by have := Nat.mod_lt a h0; omega) (by have := Nat.mod_lt b h0; omega), ab_n (by have := Nat.div_le_self a (nW W 0); omega) (by have := Nat.div_le_self b (nW W 0); omega), nI_add]
def opN (W : Nat → Int32) : Nat := itr (fun i n => n + (if shW W (nI i) = true then 0 else 1)) (hoN W) 0 0
def saN (W : Nat → Int32) (h : Nat) : Nat := itr (fun i n => n + (if shW W (nI i) = true then 0 else stN (nW W 0) h i)) (hoN W) 0 0
def pcW (W : Nat → Int32) (p : Nat) (t : Int32) : Int32 := W (96 + 5 * p) + (if W (96 + 5 * p + 2) = 0 then 0 else t / W (96 + 5 * p + 2))
def bitF (x : Int32) (i : Nat) (n : Int32) : Int32 := n + (x >>> (nI i &&& 31) &&& 1)
def bitW (x : Int32) : Int32 := itr (bitF x) 12 0 0
def reF (W : Nat → Int32) (p : Nat) (h : Int32) (i : Nat) (b : Int32) : Int32 := if shW W (nI i) = false ∧ W (96 + 5 * p + 1) + stW W h (nI i) * pcW W p (W (96 + 5 * p + 1)) ≤ stayW W 0 - 1 then b ||| ((1 : Int32) <<< (nI i &&& 31)) else b
def reW (W : Nat → Int32) (p : Nat) (h : Int32) : Int32 := itr (reF W p h) (hoN W) 0 0
/-- the best of the places 1 .. N - 1, beginning with 0: a later one must be better -/
def beF (better : Nat → Nat → Bool) (i : Nat) (b : Nat) : Nat := if better i b = true then i else b
def beN (better : Nat → Nat → Bool) (N : Nat) : Nat := itr (beF better) (N - 1) 1 0
theorem itr_le {α : Type} (P : α → Prop) (f : Nat → α → α) (N : Nat) (hf : ∀ i a, i < N → P a → P (f i a)) : ∀ (k i : Nat) (a : α), i + k ≤ N → P a → P (itr f k i a) := by
  intro k
  induction k with
  | zero => intro i a _ h; exact h
  | succ k ih => intro i a h1 h2; exact ih (i + 1) _ (by omega) (hf i a (by omega) h2)
/-! answers -/
def qdrum (W : Nat → Int32) (k w : Int32) : Int32 := if cmW W k = true ∧ inL w.toInt64 0 2 = true then W (24 + 3 * k.toNatClampNeg + w.toNatClampNeg) else -2
def qplayer (W : Nat → Int32) (k w : Int32) : Int32 := if plW W k = true ∧ inL w.toInt64 0 4 = true then W (96 + 5 * k.toNatClampNeg + w.toNatClampNeg) else -2
def qstay (W : Nat → Int32) (t : Int32) : Int32 := if tkL W t.toInt64 = true then stayW W t else -2
def qsteps (W : Nat → Int32) (a b : Int32) : Int32 := if hlL W a.toInt64 = true ∧ hlL W b.toInt64 = true then stW W a b else -2
def qpace (W : Nat → Int32) (p t : Int32) : Int32 := if plW W p = true ∧ tkL W t.toInt64 = true then pcW W p.toNatClampNeg t else -2
def qmean (W : Nat → Int32) (h w : Int32) : Int32 := if hlL W h.toInt64 = true ∧ inL w.toInt64 0 1 = true then (if opN W = 0 then -1 else (if w = 0 then nI (saN W h.toNatClampNeg) else nI (opN W)) / nI (Nat.gcd (saN W h.toNatClampNeg) (opN W))) else -2
def qmiddle (W : Nat → Int32) (w : Int32) : Int32 := if bdW W = true ∧ inL w.toInt64 0 1 = true then (if opN W = 0 then -1 else nI (beN (fun i b => if w = 0 then decide (saN W i < saN W b) else decide (saN W b < saN W i)) (hoN W))) else -2
def qreach (W : Nat → Int32) (p h : Int32) : Int32 := if plW W p = true ∧ hlL W h.toInt64 = true then reW W p.toNatClampNeg h else -2
def qpost (W : Nat → Int32) (p : Int32) : Int32 := if plW W p = true then nI (beN (fun i b => decide (bitW (reW W p.toNatClampNeg (nI b)) < bitW (reW W p.toNatClampNeg (nI i)))) (hoN W)) else -2
theorem itr_inv {α : Type} (P : Nat → α → Prop) (f : Nat → α → α) (N : Nat) (hf : ∀ i a, i < N → P i a → P (i + 1) (f i a)) : ∀ (k i : Nat) (a : α), i + k ≤ N → P i a → P (i + k) (itr f k i a) := by
  intro k
  induction k with
  | zero => intro i a _ h; exact h
  | succ k ih =>
    intro i a h1 h2
    have h3 := ih (i + 1) _ (by omega) (hf i a (by omega) h2)
    rw [show i + (k + 1) = i + 1 + k by omega]
    exact h3
theorem opN_le (W : Nat → Int32) : opN W ≤ hoN W := by
  have := itr_inv (fun i a => a ≤ i) (fun i n => n + (if shW W (nI i) = true then 0 else 1)) (hoN W) (fun i a _ h => by show a + _ ≤ i + 1; split <;> omega) (hoN W) 0 0 (by omega) (Nat.le_refl 0)
  simpa [opN] using this
theorem dfN_le {a b k : Nat} (ha : a ≤ k) (hb : b ≤ k) : dfN a b ≤ k := by unfold dfN; omega
theorem stN_le {w a b : Nat} (ha : a < 12) (hb : b < 12) : stN w a b ≤ 24 := by
  have h1 := dfN_le (k := 12) (Nat.le_trans (Nat.mod_le a w) (by omega)) (Nat.le_trans (Nat.mod_le b w) (by omega))
  have h2 := dfN_le (k := 12) (Nat.le_trans (Nat.div_le_self a w) (by omega)) (Nat.le_trans (Nat.div_le_self b w) (by omega))
  unfold stN
  omega
theorem saN_le {W : Nat → Int32} (hs : WFs W) {h : Nat} (hh : h < 12) : saN W h ≤ 288 := by
  have h12 := hs.ho12
  have := itr_inv (fun i a => a ≤ 24 * i) (fun i n => n + (if shW W (nI i) = true then 0 else stN (nW W 0) h i)) (hoN W) (fun i a hi h => by
    show a + _ ≤ 24 * (i + 1)
    have := stN_le (w := nW W 0) hh (show i < 12 by omega)
    split <;> omega) (hoN W) 0 0 (by omega) (Nat.le_refl 0)
  rw [Nat.zero_add] at this
  show itr _ _ _ _ ≤ 288
  omega
theorem beF_lt {better : Nat → Nat → Bool} {i b n : Nat} (hi : i < n) (hb : b < n) : beF better i b < n := by unfold beF; split <;> omega
/-! games: how many; hole, other, red; first and last tick of each -/
abbrev GF : Type := (Nat → Int32) × (Nat → Int32) × (Nat → Int32) × (Nat → Int32) × (Nat → Int32)
abbrev GA : Type := Nat × GF
def gH (G : GF) : Nat → Int32 := G.1
def gO (G : GF) : Nat → Int32 := G.2.1
def gR (G : GF) : Nat → Int32 := G.2.2.1
def gF (G : GF) : Nat → Int32 := G.2.2.2.1
def gE (G : GF) : Nat → Int32 := G.2.2.2.2
def gC (G : GF) (w i : Nat) : Int32 := match w with
  | 0 => gH G i
  | 1 => gO G i
  | _ => gR G i
/-- the reference holds the game -/
def GS (S : SM) (G : GA) : Prop := S.1 18 = nI G.1 ∧ G.1 ≤ 60 ∧ ∀ i, i < G.1 → (S.2.1 7 (3 * i) = gH G.2 i ∧ S.2.1 7 (3 * i + 1) = gO G.2 i ∧ S.2.1 7 (3 * i + 2) = gR G.2 i) ∧ S.2.1 8 i = gF G.2 i ∧ S.2.1 9 i = gE G.2 i
/-- all but the game is as it was -/
def KG (S S' : SM) : Prop := (∀ k, k ≠ 18 → S'.1 k = S.1 k) ∧ (∀ j, j ≠ 7 → j ≠ 8 → j ≠ 9 → S'.2.1 j = S.2.1 j) ∧ S'.2.2 = S.2.2
theorem KG.rf (S : SM) : KG S S := ⟨fun _ _ => rfl, fun _ _ _ _ => rfl, rfl⟩
theorem KG.wd {S S' : SM} (h : KG S S') : wd S' = wd S := h.2.1 1 (by decide) (by decide) (by decide)
theorem KG.tr {S S' S'' : SM} (h : KG S S') (h' : KG S' S'') : KG S S'' := ⟨fun k q => (h'.1 k q).trans (h.1 k q), fun j a b c => (h'.2.1 j a b c).trans (h.2.1 j a b c), h'.2.2.trans h.2.2⟩
def ntS (m : Nat) (S : SM) : Int32 := if m = 0 then 0 else S.2.1 9 (m - 1) + wd S 3 + 1
def comeS (m : Nat) (h o r : Int32) (S : SM) : SM := sF 18 (S.1 18 + 1) (sA 9 m (ntS m S + stayW (wd S) (ntS m S) - 1) (sA 8 m (ntS m S) (sA 7 (3 * m + 2) r (sA 7 (3 * m + 1) o (sA 7 (3 * m + 0) h S)))))
theorem comeS_KG (m : Nat) (h o r : Int32) (S : SM) : KG S (comeS m h o r S) := by
  refine ⟨fun k q => ?_, fun j a b c => ?_, rfl⟩
  · show upd S.1 18 _ k = S.1 k
    exact pk_un q
  · show va_up (va_up (va_up (va_up (va_up S.2.1 7 _) 7 _) 7 _) 8 _) 9 _ j = S.2.1 j
    simp [va_up, a, b, c]
theorem comeS_GS {m : Nat} {h o r : Int32} {S : SM} {G : GF} (hg : GS S (m, G)) (hm : m < 60) (e1 : h = gH G m) (e2 : o = gO G m) (e3 : r = gR G m) (e4 : ntS m S = gF G m) (e5 : ntS m S + stayW (wd S) (ntS m S) - 1 = gE G m) : GS (comeS m h o r S) (m + 1, G) := by
  obtain ⟨h1, h2, h3⟩ := hg
  refine ⟨?_, hm, fun i hi => ?_⟩
  · show upd S.1 18 (S.1 18 + 1) 18 = _
    rw [pk_us, h1]
    exact nI_1 m
  · have hi : i < m + 1 := hi
    by_cases him : i = m
    · subst him
      subst e1; subst e2; subst e3
      refine ⟨⟨?_, ?_, ?_⟩, ?_, ?_⟩
      · simp [comeS, sF, sA, va_up, upd]
      · simp [comeS, sF, sA, va_up, upd]
      · simp [comeS, sF, sA, va_up, upd]
      · simp [comeS, sF, sA, va_up, upd, e4]
      · rw [← e5]; simp [comeS, sF, sA, va_up, upd]
    · have hlt : i < m := by omega
      obtain ⟨⟨a1, a2, a3⟩, a4, a5⟩ := h3 i hlt
      have b1 : ¬ (3 * i = 3 * m) := by omega
      have b2 : ¬ (3 * i = 3 * m + 1) := by omega
      have b3 : ¬ (3 * i = 3 * m + 2) := by omega
      have b4 : ¬ (3 * i + 1 = 3 * m) := by omega
      have b6 : ¬ (3 * i + 1 = 3 * m + 2) := by omega
      have b7 : ¬ (3 * i + 2 = 3 * m) := by omega
      have b8 : ¬ (3 * i + 2 = 3 * m + 1) := by omega
      refine ⟨⟨?_, ?_, ?_⟩, ?_, ?_⟩
      · rw [← a1]; simp [comeS, sF, sA, va_up, upd, b1, b2, b3]
      · rw [← a2]; simp [comeS, sF, sA, va_up, upd, b1, b2, b4, him, b6]
      · rw [← a3]; simp [comeS, sF, sA, va_up, upd, b1, b7, b8, him]
      · rw [← a4]; simp [comeS, sF, sA, va_up, upd, him]
      · rw [← a5]; simp [comeS, sF, sA, va_up, upd, him]
/-- ticks of comings in turn -/
def gT (W : Nat → Int32) : Nat → Int32
  | 0 => 0
  | k + 1 => gT W k + stayW W (gT W k) - 1 + W 3 + 1
def gTe (W : Nat → Int32) (k : Nat) : Int32 := gT W k + stayW W (gT W k) - 1
def mayK (W : Nat → Int32) (k : Nat) : Bool := decide (k < 60) && decide (gTe W k ≤ W 2 - 1)
def cntK (p : Nat → Bool) : Nat → Nat → Nat
  | 0, k => k
  | f + 1, k => if p k = true then cntK p f (k + 1) else k
def dgI (W : Nat → Int32) (k : Nat) : Nat := (nW W 8 + k) % nW W 5
def dgF (W : Nat → Int32) : GF := (fun k => W (24 + 3 * dgI W k + 0), fun k => W (24 + 3 * dgI W k + 1), fun k => W (24 + 3 * dgI W k + 2), gT W, gTe W)
theorem itr_c {p : Nat → Bool} {f k : Nat} (h : p k = true) : cntK p (f + 1) k = cntK p f (k + 1) := if_pos h
theorem cnt_0 {p : Nat → Bool} {f k : Nat} (h : p k = false) : cntK p f k = k := by cases f with | zero => rfl | succ f => exact if_neg (by rw [h]; decide)
def dgM (W : Nat → Int32) : Nat := if 0 < W 5 then cntK (mayK W) 60 0 else 0
def dgW (W : Nat → Int32) : GA := (dgM W, dgF W)
theorem GS.nt {S : SM} {W : Nat → Int32} {m : Nat} (hg : GS S (m, dgF W)) (hw : wd S = W) : ntS m S = gT W m := by
  unfold ntS
  by_cases h : m = 0
  · rw [if_pos h, h]; rfl
  · rw [if_neg h, hw]
    obtain ⟨j, rfl⟩ : ∃ j, m = j + 1 := ⟨m - 1, by omega⟩
    have := (hg.2.2 j (Nat.lt_succ_self j)).2.2
    rw [Nat.add_sub_cancel, this]
    rfl
def upF (G : GF) (t : Int32) (i : Nat) (b : Int32) : Int32 := if inL t.toInt64 (gF G i).toInt64 (gE G i).toInt64 = true then (if gO G i = -1 then b ||| ((1 : Int32) <<< (gH G i &&& 31)) else b ||| ((1 : Int32) <<< (gH G i &&& 31)) ||| ((1 : Int32) <<< (gO G i &&& 31))) else b
def upG (G : GA) (t : Int32) : Int32 := itr (upF G.2 t) G.1 0 0
/-- what lasts is as it was: tape, faults, world, images, rows of numbers -/
def KP (S S' : SM) : Prop := (S'.1 5 = S.1 5 ∧ S'.1 12 = S.1 12 ∧ S'.1 13 = S.1 13) ∧ (∀ j, j = 1 ∨ j = 2 ∨ j = 3 ∨ j = 4 ∨ j = 19 ∨ j = 20 → S'.2.1 j = S.2.1 j) ∧ S'.2.2.1 21 = S.2.2.1 21
theorem KP.rf (S : SM) : KP S S := ⟨⟨rfl, rfl, rfl⟩, fun _ _ => rfl, rfl⟩
theorem KP.tr {S S' S'' : SM} (h : KP S S') (h' : KP S' S'') : KP S S'' := ⟨⟨h'.1.1.trans h.1.1, h'.1.2.1.trans h.1.2.1, h'.1.2.2.trans h.1.2.2⟩, fun j q => (h'.2.1 j q).trans (h.2.1 j q), h'.2.2.trans h.2.2⟩
theorem KP.wd {S S' : SM} (h : KP S S') : wd S' = wd S := h.2.1 1 (by simp)
theorem KG.KP {S S' : SM} (h : KG S S') : KP S S' := ⟨⟨h.1 5 (by decide), h.1 12 (by decide), h.1 13 (by decide)⟩, fun j q => h.2.1 j (by omega) (by omega) (by omega), by rw [h.2.2]⟩
def QM (M : Nat) (pre post : AH) (S : SM) (v : Value) : Option Value → AH → Prop := fun v' h1 => v' = some v ∧ ∃ S', h1 = mH M pre S' post ∧ KP S S'
def qcomings (W : Nat → Int32) : Int32 := if bdW W = true then nI (dgM W) else -2
def gC5 (G : GF) (w i : Nat) : Int32 := if w < 3 then gC G w i else if w = 3 then gF G i else gE G i
def qcomes (W : Nat → Int32) (i w : Int32) : Int32 := if bdW W = true ∧ inL w.toInt64 0 4 = true then (if inI i 0 (nI (dgM W) - 1) = true then gC5 (dgF W) w.toNatClampNeg i.toNatClampNeg else -1) else -2
def qup (W : Nat → Int32) (t : Int32) : Int32 := if tkL W t.toInt64 = true then upG (dgW W) t else -2
def clF (G : GA) (i : Nat) (n : Int32) : Int32 := n + (if upG G (nI i) = 0 then 1 else 0)
def qcalm (W : Nat → Int32) : Int32 := if bdW W = true then itr (clF (dgW W)) (nW W 2) 0 0 else -2
theorem GS.at {S : SM} {G : GA} (h : GS S G) {i w : Nat} (hi : i < G.1) (hw : w < 3) : S.2.1 7 (3 * i + w) = gC G.2 w i := by
  obtain ⟨⟨a, b, c⟩, -⟩ := h.2.2 i hi
  match w, hw with
  | 0, _ => exact a
  | 1, _ => exact b
  | 2, _ => exact c
theorem GS.f {S : SM} {G : GA} (h : GS S G) {i : Nat} (hi : i < G.1) : S.2.1 8 i = gF G.2 i := (h.2.2 i hi).2.1
theorem GS.e {S : SM} {G : GA} (h : GS S G) {i : Nat} (hi : i < G.1) : S.2.1 9 i = gE G.2 i := (h.2.2 i hi).2.2
theorem GS.in {S : SM} {G : GA} (h : GS S G) {x : Int32} (hx : inI x 0 (S.1 18 - 1) = true) : ∃ j : Nat, j < G.1 ∧ x = nI j := in_of (n := G.1) (by have := h.2.1; omega) (by rw [← h.1]; exact hx)
