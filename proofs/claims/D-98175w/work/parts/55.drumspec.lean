-- PART 55.drumspec
/-! ===== the drum: plain functions ===== -/
def ofF (W : Nat → Int32) (x : Int32) (i : Nat) (n : Int32) : Int32 := n + (if W (24 + 3 * i + 0) = x ∨ W (24 + 3 * i + 1) = x then 1 else 0)
def ofW (W : Nat → Int32) (x : Int32) : Int32 := itr (ofF W x) (nW W 5) 0 0
def qoften (W : Nat → Int32) (h : Int32) : Int32 := if hlL W h.toInt64 = true then ofW W h else -2
def baF (W : Nat → Int32) (i : Nat) (a : Int32 × Int32) : Int32 × Int32 := if shW W (nI i) = true then a else (mn32 a.1 (ofW W (nI i)), mx32 a.2 (ofW W (nI i)))
def qbalance (W : Nat → Int32) : Int32 := if bdW W = true then (if (itr (baF W) (hoN W) 0 (1000000, -1)).2 = -1 then -1 else (itr (baF W) (hoN W) 0 (1000000, -1)).2 - (itr (baF W) (hoN W) 0 (1000000, -1)).1) else -2
def paF (W : Nat → Int32) (i : Nat) (n : Int32) : Int32 := n + stW W (hoA W (nI i)) (hoA W (nI i + 1))
def paW (W : Nat → Int32) : Int32 := itr (paF W) (nW W 5) 0 0
def qpath (W : Nat → Int32) : Int32 := if bdW W = true then paW W else -2
def trF (k l w : Nat) (S : SM) : SM := sA 1 (24 + 3 * l + w) (wd S (24 + 3 * k + w)) (sA 1 (24 + 3 * k + w) (wd S (24 + 3 * l + w)) S)
def trS (k l : Nat) (S : SM) : SM := itr (trF k l) 3 0 S
/-- comings k and l in each other's places -/
def swW (k l : Nat) (W : Nat → Int32) : Nat → Int32 := fun j => if 24 + 3 * k ≤ j ∧ j < 24 + 3 * k + 3 then W (j - 3 * k + 3 * l) else if 24 + 3 * l ≤ j ∧ j < 24 + 3 * l + 3 then W (j - 3 * l + 3 * k) else W j
theorem wd_sA (j : Nat) (v : Int32) (S : SM) : wd (sA 1 j v S) = upd (wd S) j v := by simp [sA, va_up, wd]
theorem wd_trF (k l w : Nat) (S : SM) : wd (trF k l w S) = upd (upd (wd S) (24 + 3 * k + w) (wd S (24 + 3 * l + w))) (24 + 3 * l + w) (wd S (24 + 3 * k + w)) := by
  rw [trF, wd_sA, wd_sA]
theorem wd_trS (k l : Nat) (S : SM) : wd (trS k l S) = swW k l (wd S) := by
  show wd (trF k l 2 (trF k l 1 (trF k l 0 S))) = _
  rw [wd_trF, wd_trF, wd_trF]
  funext j
  simp only [upd, swW]
  by_cases h1 : 24 + 3 * k ≤ j ∧ j < 24 + 3 * k + 3
  · rw [if_pos h1]
    by_cases e : k = l
    · subst e
      rw [show j - 3 * k + 3 * k = j by omega]
      repeat' split
      all_goals first | rfl | (exfalso; omega) | (congr 1; omega)
    · repeat' split
      all_goals first | (exfalso; omega) | (congr 1; omega)
  · rw [if_neg h1]
    by_cases h2 : 24 + 3 * l ≤ j ∧ j < 24 + 3 * l + 3
    · rw [if_pos h2]
      repeat' split
      all_goals first | (exfalso; omega) | (congr 1; omega)
    · rw [if_neg h2]
      repeat' split
      all_goals first | rfl | (exfalso; omega) | (congr 1; omega)
theorem swW_sw (k l : Nat) (W : Nat → Int32) : swW k l (swW k l W) = W := by
  funext j
  simp only [swW]
  repeat' split
  all_goals first | rfl | (exfalso; omega) | (congr 1; omega)
/-- all that lasts is as it was, but for the world -/
def KW (S S' : SM) : Prop := (S'.1 5 = S.1 5 ∧ S'.1 12 = S.1 12 ∧ S'.1 13 = S.1 13) ∧ (∀ j, j = 2 ∨ j = 3 ∨ j = 4 ∨ j = 19 ∨ j = 20 → S'.2.1 j = S.2.1 j) ∧ S'.2.2.1 21 = S.2.2.1 21
theorem KW.rf (S : SM) : KW S S := ⟨⟨rfl, rfl, rfl⟩, fun _ _ => rfl, rfl⟩
theorem KW.tr {S S' S'' : SM} (h : KW S S') (h' : KW S' S'') : KW S S'' := ⟨⟨h'.1.1.trans h.1.1, h'.1.2.1.trans h.1.2.1, h'.1.2.2.trans h.1.2.2⟩, fun j q => (h'.2.1 j q).trans (h.2.1 j q), h'.2.2.trans h.2.2⟩
theorem KW.set (j : Nat) (v : Int32) (S : SM) : KW S (sA 1 j v S) := ⟨⟨rfl, rfl, rfl⟩, fun q h => sA1_o (by omega) _ _ _, rfl⟩
theorem KW.trF (k l w : Nat) (S : SM) : KW S (trF k l w S) := (KW.set _ _ S).tr (KW.set _ _ _)
theorem KW.trS (k l : Nat) (S : SM) : KW S (trS k l S) := ((KW.trF k l 0 S).tr (KW.trF k l 1 _)).tr (KW.trF k l 2 _)
theorem KW.KP {S S' : SM} (h : KW S S') (e : wd S' = wd S) : KP S S' := ⟨h.1, fun j q => by
  rcases q with rfl | q
  · exact e
  · exact h.2.1 j q, h.2.2⟩
def QW (M : Nat) (pre post : AH) (S : SM) (v : Value) (W' : Nat → Int32) : Option Value → AH → Prop := fun v' h1 => v' = some v ∧ ∃ S', h1 = mH M pre S' post ∧ KW S S' ∧ wd S' = W'
theorem KP_tr2 (k l : Nat) (S : SM) : KP S (trS k l (trS k l S)) := ((KW.trS k l S).tr (KW.trS k l _)).KP (by rw [wd_trS, wd_trS, swW_sw])
def beB (z v now : Int32) : Bool := if z = 0 then decide (v ≤ now) else decide (now ≤ v)
def beT (W : Nat → Int32) (z : Int32) (k l : Nat) (a : Int32 × Int32) : Int32 × Int32 := if beB z (paW (swW k l W)) a.2 = true then a else (100 * nI k + nI l, paW (swW k l W))
def beK (W : Nat → Int32) (z : Int32) (k : Nat) (a : Int32 × Int32) : Int32 × Int32 := itr (beT W z k) (nW W 5 - (k + 1)) (k + 1) a
def qbetter (W : Nat → Int32) (z : Int32) : Int32 := if bdW W = true ∧ inL z.toInt64 0 1 = true then (itr (beK W z) (nW W 5) 0 (-1, paW W)).1 else -2
def qswap (W : Nat → Int32) (k l : Int32) : Int32 := if cmW W k = true ∧ cmW W l = true then 0 else -2
def wswap (W : Nat → Int32) (k l : Int32) : Nat → Int32 := if cmW W k = true ∧ cmW W l = true then swW k.toNatClampNeg l.toNatClampNeg W else W
def okP (W : Nat → Int32) (k v : Int32) : Bool := cmW W k && inL v.toInt64 0 1 && decide (W (24 + 3 * k.toNatClampNeg + 1) = -1)
def qpaint (W : Nat → Int32) (k v : Int32) : Int32 := if okP W k v = true then W (24 + 3 * k.toNatClampNeg + 2) else -2
def wpaint (W : Nat → Int32) (k v : Int32) : Nat → Int32 := if okP W k v = true then upd W (24 + 3 * k.toNatClampNeg + 2) v else W
def qturn (W : Nat → Int32) (k : Int32) : Int32 := if cmW W k = true then W 8 else -2
def wturn (W : Nat → Int32) (k : Int32) : Nat → Int32 := if cmW W k = true then upd W 8 k else W
def okH (W : Nat → Int32) (h v : Int32) : Bool := hlL W h.toInt64 && inL v.toInt64 0 1 && decide (ofW W h ≤ 0)
def qshut (W : Nat → Int32) (h v : Int32) : Int32 := if okH W h v = true then (if shW W h = true then 1 else 0) else -2
def wshut (W : Nat → Int32) (h v : Int32) : Nat → Int32 := if okH W h v = true then upd W 7 (W 7 &&& (((1 : Int32) <<< (h &&& 31)) ^^^ (-1)) ||| (v <<< (h &&& 31))) else W
def inT (W : Nat → Int32) (x n : Int32) : Bool := if x = 0 then inL n.toInt64 1 9 else if x = 1 then inL n.toInt64 0 20 else if x = 2 then inL n.toInt64 0 99 else if x = 3 then inL n.toInt64 0 9 else decide (x = 4) && hlL W n.toInt64
def qtrain (W : Nat → Int32) (p x n : Int32) : Int32 := if plW W p = true ∧ inT W x n = true then W (96 + 5 * p.toNatClampNeg + x.toNatClampNeg) else -2
def wtrain (W : Nat → Int32) (p x n : Int32) : Nat → Int32 := if plW W p = true ∧ inT W x n = true then upd W (96 + 5 * p.toNatClampNeg + x.toNatClampNeg) n else W
