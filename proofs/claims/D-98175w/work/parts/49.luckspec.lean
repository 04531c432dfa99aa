-- PART 49.luckspec
/-! ===== a question that tries the drum's other places ===== -/
/-- all that lasts is as it was, but for where the drum stands -/
def L8 (S0 S : SM) : Prop := (S.1 5 = S0.1 5 ∧ S.1 12 = S0.1 12 ∧ S.1 13 = S0.1 13) ∧ (∀ j, j = 2 ∨ j = 3 ∨ j = 4 ∨ j = 19 ∨ j = 20 → S.2.1 j = S0.2.1 j) ∧ S.2.2.1 21 = S0.2.2.1 21 ∧ ∀ j, j ≠ 8 → wd S j = wd S0 j
theorem L8.rf (S : SM) : L8 S S := ⟨⟨rfl, rfl, rfl⟩, fun _ _ => rfl, rfl, fun _ _ => rfl⟩
theorem L8.on {S0 S S' : SM} (h : L8 S0 S) (k : KP S S') : L8 S0 S' := ⟨⟨k.1.1.trans h.1.1, k.1.2.1.trans h.1.2.1, k.1.2.2.trans h.1.2.2⟩, fun j q => (k.2.1 j (Or.inr q)).trans (h.2.1 j q), k.2.2.trans h.2.2.1, fun j q => by rw [k.wd]; exact h.2.2.2 j q⟩
theorem wd_s8 (v : Int32) (S : SM) : wd (sA 1 8 v S) = upd (wd S) 8 v := by
  simp [sA, va_up, wd]
theorem sA1_o {j : Nat} (h : j ≠ 1) (i : Nat) (v : Int32) (S : SM) : (sA 1 i v S).2.1 j = S.2.1 j := by
  simp [sA, va_up, h]
theorem L8.set {S0 S : SM} (h : L8 S0 S) (v : Int32) : L8 S0 (sA 1 8 v S) := ⟨h.1, fun j q => by rw [sA1_o (by omega)]; exact h.2.1 j q, h.2.2.1, fun j q => by rw [wd_s8, pk_un q]; exact h.2.2.2 j q⟩
theorem L8.wdv {S0 S : SM} (h : L8 S0 S) (v : Int32) : wd (sA 1 8 v S) = upd (wd S0) 8 v := by
  rw [wd_s8]
  funext j
  by_cases q : j = 8
  · rw [q, pk_us, pk_us]
  · rw [pk_un q, pk_un q, h.2.2.2 j q]
theorem L8.back {S0 S : SM} (h : L8 S0 S) : KP S0 (sA 1 8 (wd S0 8) S) := ⟨h.1, fun j q => by
  by_cases q1 : j = 1
  · subst q1
    have e := h.wdv (wd S0 8)
    show wd _ = _
    rw [e]
    funext i
    by_cases q : i = 8
    · rw [q, pk_us]; rfl
    · rw [pk_un q]; rfl
  · rw [sA1_o q1]; exact h.2.1 j (by omega), h.2.2.1⟩
theorem WFs.u8 {W : Nat → Int32} (h : WFs W) {i : Nat} (hi : i ≤ 24) : WFs (upd W 8 (nI i)) := by
  have e : ∀ j, j < 8 → upd W 8 (nI i) j = W j := fun j hj => pk_un (by omega)
  have e8 : upd W 8 (nI i) 8 = nI i := pk_us
  unfold WFs nW
  rw [e 0 (by omega), e 1 (by omega), e 2 (by omega), e 3 (by omega), e 4 (by omega), e 5 (by omega), e 6 (by omega), e 7 (by omega), e8, nI_clamp (by omega)]
  exact ⟨h.1, h.2.1, h.2.2.1, h.2.2.2.1, h.2.2.2.2.1, h.2.2.2.2.2.1, h.2.2.2.2.2.2.1, h.2.2.2.2.2.2.2.1, rfl, hi⟩
theorem hoN_u8 (W : Nat → Int32) (x : Int32) : hoN (upd W 8 x) = hoN W := by
  have e : ∀ j, j < 8 → upd W 8 x j = W j := fun j hj => pk_un (by omega)
  unfold hoN nW
  rw [e 0 (by omega), e 1 (by omega)]
theorem WFp.u8 {W : Nat → Int32} (h : WFp W) (x : Int32) : WFp (upd W 8 x) := by
  intro p hp
  have e : ∀ j, j ≠ 8 → upd W 8 x j = W j := fun j hj => pk_un hj
  have hp : p < nW W 6 := by unfold nW at hp ⊢; rw [e 6 (by omega)] at hp; exact hp
  have h := h p hp
  rw [hoN_u8]
  unfold nW at h ⊢
  rw [e (96 + 5 * p) (by omega), e (96 + 5 * p + 1) (by omega), e (96 + 5 * p + 2) (by omega), e (96 + 5 * p + 3) (by omega), e (96 + 5 * p + 4) (by omega)]
  exact h
