-- PART 80.askpic
/-! ===== plain laws for the class's small questions ===== -/
theorem red_told {W : Nat → Int32} {k : Nat} (hc : WFc W) (hk : k < nW W 5) : (if W (24 + 3 * k + 2) = 0 then (0 : Int32) else 1) = W (24 + 3 * k + 2) := by
  obtain ⟨a, o, r, -, -, e, -⟩ := hc k hk
  rw [e]
  cases r <;> rfl
theorem tld_W {W : Nat → Int32} {k w : Nat} (hc : WFc W) (hk : k < nW W 5) (hw : w ≤ 2) : (if nI w = 0 then W (24 + 3 * k) else if nI w = 1 then W (24 + 3 * k + 1) else if W (24 + 3 * k + 2) = 0 then (0 : Int32) else 1) = W (24 + 3 * k + w) := by
  match w, hw with
  | 0, _ => rfl
  | 1, _ => rfl
  | 2, _ =>
    rw [if_neg (by decide), if_neg (by decide)]
    exact red_told hc hk
theorem lt_le1 {x : Int32} {s : Nat} (h1 : 1 ≤ s) (h2 : s ≤ 40) : x < nI s ↔ x ≤ nI s - 1 := by
  rw [show (1 : Int32) = nI 1 from rfl, pk_sub h1, Int32.lt_iff_toInt_lt, Int32.le_iff_toInt_le, nI_toInt (by omega), nI_toInt (by omega)]
  omega
theorem reW_n {W : Nat → Int32} (hs : WFs W) (p : Nat) (h : Int32) : ∃ n, reW W p h = nI n ∧ n < 4096 := by
  have h12 := hs.ho12
  refine itr_le (fun b : Int32 => ∃ n, b = nI n ∧ n < 4096) (reF W p h) (hoN W) (fun i a hi ha => ?_) (hoN W) 0 0 (by omega) ⟨0, rfl, by omega⟩
  obtain ⟨n, e, hn⟩ := ha
  unfold reF
  split
  · refine ⟨n ||| 2 ^ i, ?_, Nat.or_lt_two_pow (n := 12) hn (Nat.pow_lt_pow_right (by omega) (by omega))⟩
    rw [e, bit_n (by omega), nx_or2]
  · exact ⟨n, e, hn⟩
def bcV (x : Int32) : Int32 :=
  let a := x - ((x.toUInt32 >>> (Int32.toUInt32 1 &&& Int32.toUInt32 31)).toInt32 &&& 1431655765)
  let b := (a &&& 858993459) + ((a.toUInt32 >>> (Int32.toUInt32 2 &&& Int32.toUInt32 31)).toInt32 &&& 858993459)
  let c := (b + (b.toUInt32 >>> (Int32.toUInt32 4 &&& Int32.toUInt32 31)).toInt32) &&& 252645135
  let d := c + (c.toUInt32 >>> (Int32.toUInt32 8 &&& Int32.toUInt32 31)).toInt32
  let e := d + (d.toUInt32 >>> (Int32.toUInt32 16 &&& Int32.toUInt32 31)).toInt32
  e &&& 63
theorem bcV_2 : ∀ a : Nat, a < 64 → ∀ b : Nat, b < 64 → bcV (nI (64 * a + b)) = bitW (nI (64 * a + b)) := by decide +kernel
theorem bcV_n (n : Nat) (h : n < 4096) : bcV (nI n) = bitW (nI n) := by
  have := bcV_2 (n / 64) (by omega) (n % 64) (by omega)
  rw [show 64 * (n / 64) + n % 64 = n by omega] at this
  exact this
