-- PART 9993.laws1
/-! ===== plain laws: place, calm ===== -/
set_option maxRecDepth 100000
theorem plC_no {p : Nat → Bool} : ∀ (k d : Nat) (left : Int32), k < 2147483648 → (∀ j, j < k → left ≠ nI j) → plC p k d left = -1 := by
  intro k
  induction k with
  | zero => intro d left _ _; rfl
  | succ k ih =>
    intro d left hk h
    unfold plC
    by_cases hp : p d = true
    · rw [if_pos hp, if_neg (show ¬ left = 0 from h 0 (by omega))]
      refine ih _ _ (by omega) (fun j hj q => h (j + 1) (by omega) ?_)
      rw [← nI_1, ← q, Int32.sub_add_cancel]
    · rw [if_neg hp]
      exact ih _ _ (by omega) (fun j hj => h j (by omega))
theorem plC_K {p : Nat → Bool} : ∀ (k d : Nat) (left : Int32), k < 2147483648 → plC p k d left = plK p k d left := by
  intro k
  induction k with
  | zero => intro d left _; rfl
  | succ k ih =>
    intro d left hk
    by_cases hl : left < 0
    · rw [plC_no (k + 1) d left hk (fun j hj q => absurd hl (by rw [q]; exact Int32.not_lt.mpr (nI_pos' (by omega)))), plK, if_pos hl]
    · unfold plC plK
      rw [if_neg hl, ih _ _ (by omega), ih _ _ (by omega)]
theorem pla0_eq {W my : Nat → Int32} {nu : LT} {slot i : Int32} (h : nW W 5 ≤ 24) : pla0 W my nu slot i = qplace W my nu slot i := by
  unfold pla0 qplace
  congr 1
  funext s m
  exact plC_K _ _ _ (by omega)
/-! games: comings lie behind each other -/
theorem cnt_all {p : Nat → Bool} : ∀ (f k j : Nat), k ≤ j → j < cntK p f k → p j = true := by
  intro f
  induction f with
  | zero => intro k j h1 h2; exact absurd h2 (Nat.not_lt.mpr h1)
  | succ f ih =>
    intro k j h1 h2
    unfold cntK at h2
    split at h2
    · rename_i hp
      rcases Nat.eq_or_lt_of_le h1 with q | q
      · rw [← q]; exact hp
      · exact ih (k + 1) j q h2
    · exact absurd h2 (Nat.not_lt.mpr h1)
theorem dg_may {W : Nat → Int32} {j : Nat} (h : j < dgM W) : mayK W j = true := by
  unfold dgM at h
  split at h
  · exact cnt_all 60 0 j (Nat.zero_le j) h
  · exact absurd h (Nat.not_lt_zero j)
def fN (W : Nat → Int32) (i : Nat) : Nat := (gT W i).toNatClampNeg
def eN (W : Nat → Int32) (i : Nat) : Nat := (gTe W i).toNatClampNeg
theorem dg_n {W : Nat → Int32} (hs : WFs W) (ht : WFt W) {i : Nat} (h : i < dgM W) : gT W i = nI (fN W i) ∧ gTe W i = nI (eN W i) ∧ fN W i ≤ eN W i ∧ eN W i < nW W 2 ∧ (∀ f, fN W (i + 1) = f → gT W (i + 1) = nI f → eN W i < f) := by
  obtain ⟨t, e1, h2⟩ := gT_n hs ht i (fun j hj => dg_may (by omega))
  obtain ⟨s, e2, s1, s2⟩ := stay_n ht (gT W i)
  have hm := dg_may h
  rw [mayK_n hs e1 h2 (by rw [← e1]; exact e2) s1 s2, Bool.and_eq_true, decide_eq_true_eq, decide_eq_true_eq] at hm
  have e3 : gTe W i = nI (t + s - 1) := by
    unfold gTe
    rw [e2, e1, nI_add, show (1 : Int32) = nI 1 from rfl, pk_sub (by omega)]
  have f1 : fN W i = t := by unfold fN; rw [e1, nI_clamp (by omega)]
  have f2 : eN W i = t + s - 1 := by unfold eN; rw [e3, nI_clamp (by omega)]
  refine ⟨by rw [f1]; exact e1, by rw [f2]; exact e3, by omega, by have := hs.tk.2; omega, fun f hf hf2 => ?_⟩
  have e4 : gT W (i + 1) = nI (t + s - 1 + nW W 3 + 1) := by
    show gTe W i + W 3 + 1 = _
    rw [e3, hs.pz.1, nI_add, nI_1]
  have f3 : fN W (i + 1) = t + s - 1 + nW W 3 + 1 := by unfold fN; rw [e4, nI_clamp (by have := hs.pz.2; have := hs.tk.2; omega)]
  omega
theorem dgx_lt {W : Nat → Int32} (hs : WFs W) (ht : WFt W) {i : Nat} : ∀ j, i < j → j < dgM W → eN W i < fN W j := by
  intro j
  induction j with
  | zero => intro h; exact absurd h (Nat.not_lt_zero i)
  | succ j ih =>
    intro h1 h2
    have h3 := (dg_n hs ht h2).1
    rcases Nat.eq_or_lt_of_le (Nat.le_of_lt_succ h1) with q | q
    · subst q
      exact (dg_n hs ht (by omega : i < dgM W)).2.2.2.2 _ rfl h3
    · have h4 := ih q (by omega)
      have h5 := dg_n hs ht (by omega : j < dgM W)
      have := h5.2.2.2.2 _ rfl h3
      have := h5.2.2.1
      omega
/-! counting -/
def cnP (p : Nat → Bool) : Nat → Nat
  | 0 => 0
  | k + 1 => cnP p k + (if p k = true then 1 else 0)
theorem cnP_le (p : Nat → Bool) : ∀ k, cnP p k ≤ k := by
  intro k
  induction k with
  | zero => exact Nat.le_refl 0
  | succ k ih => unfold cnP; split <;> omega
theorem cnP_or {p q r : Nat → Bool} (h : ∀ t, r t = (p t || q t)) (hd : ∀ t, p t = true → q t = false) : ∀ k, cnP r k = cnP p k + cnP q k := by
  intro k
  induction k with
  | zero => rfl
  | succ k ih =>
    unfold cnP
    rw [ih, h]
    cases hp : p k with
    | true => rw [hd k hp]; simp; omega
    | false => cases q k <;> simp <;> omega
theorem cnP_iv (a e : Nat) (h : a ≤ e) : ∀ k, cnP (fun t => decide (a ≤ t) && decide (t ≤ e)) k = min k (e + 1) - min k a := by
  intro k
  induction k with
  | zero => rfl
  | succ k ih =>
    unfold cnP
    rw [ih]
    by_cases h1 : a ≤ k
    · by_cases h2 : k ≤ e
      · simp [h1, h2]; omega
      · simp [h1, h2]; omega
    · simp [h1]; omega
theorem cnP_not (p : Nat → Bool) : ∀ k, cnP (fun t => !p t) k = k - cnP p k := by
  intro k
  induction k with
  | zero => rfl
  | succ k ih =>
    have := cnP_le p k
    unfold cnP
    rw [ih]
    cases p k <;> simp <;> omega
/-- whether one of the first m is up -/
def upB (W : Nat → Int32) : Nat → Nat → Bool
  | 0, _ => false
  | m + 1, t => upB W m t || (decide (fN W m ≤ t) && decide (t ≤ eN W m))
theorem upB_le {W : Nat → Int32} {t : Nat} : ∀ m, upB W m t = true → ∃ i, i < m ∧ fN W i ≤ t ∧ t ≤ eN W i := by
  intro m
  induction m with
  | zero => intro h; cases h
  | succ m ih =>
    intro h
    unfold upB at h
    rcases (Bool.or_eq_true _ _).mp h with h | h
    · obtain ⟨i, h1, h2⟩ := ih h
      exact ⟨i, by omega, h2⟩
    · rw [Bool.and_eq_true, decide_eq_true_eq, decide_eq_true_eq] at h
      exact ⟨m, by omega, h⟩
theorem cnP_up {W : Nat → Int32} (hs : WFs W) (ht : WFt W) {m : Nat} (h : m < dgM W) : cnP (upB W (m + 1)) (nW W 2) = cnP (upB W m) (nW W 2) + (eN W m + 1 - fN W m) := by
  have hm := dg_n hs ht h
  rw [cnP_or (r := upB W (m + 1)) (p := upB W m) (q := fun t => decide (fN W m ≤ t) && decide (t ≤ eN W m)) (fun t => rfl) (fun t hp => ?_), cnP_iv _ _ hm.2.2.1]
  · have := hm.2.2.2.1
    have := hm.2.2.1
    omega
  · obtain ⟨i, h1, h2, h3⟩ := upB_le m hp
    have := dgx_lt hs ht m h1 h
    show (decide (fN W m ≤ t) && decide (t ≤ eN W m)) = false
    rw [decide_eq_false (by omega), Bool.false_and]
theorem itr_ix {α : Type} {f : Nat → α → α} (P : Nat → α → Prop) (N : Nat) (h : ∀ i a, i < N → P i a → P (i + 1) (f i a)) {a : α} (h0 : P 0 a) : P N (itr f N 0 a) := by
  have q := itr_inv P f N h N 0 a (by omega) h0
  rw [Nat.zero_add] at q
  exact q
theorem calm_c {W : Nat → Int32} (hs : WFs W) (ht : WFt W) : itr (caF W) (dgM W) 0 (W 2) = nI (nW W 2 - cnP (upB W (dgM W)) (nW W 2)) := by
  refine itr_ix (fun m a => a = nI (nW W 2 - cnP (upB W m) (nW W 2))) (dgM W) (fun m a hm ha => ?_) ?_
  · have h1 := dg_n hs ht hm
    have h2 := cnP_up hs ht hm
    have h3 := cnP_le (upB W (m + 1)) (nW W 2)
    have h12 := hs.tk.2
    unfold caF
    rw [ha]
    show nI _ - (gTe W m - gT W m + 1) = _
    rw [h1.1, h1.2.1, pk_sub h1.2.2.1, nI_1, pk_sub (by omega), h2]
    congr 1
    omega
  · show W 2 = nI (nW W 2 - cnP (fun _ => false) (nW W 2))
    have : ∀ k, cnP (fun _ => false) k = 0 := by
      intro k
      induction k with
      | zero => rfl
      | succ k ih => unfold cnP; rw [ih]; rfl
    rw [this, Nat.sub_zero]
    exact hs.tk.1
theorem or_nz {b x : Int32} (h : ¬ x = 0) : ¬ b ||| x = 0 := fun q => h (by
  have h2 := congrArg Int32.toBitVec q
  rw [Int32.toBitVec_or] at h2
  have h3 : b.toBitVec ||| x.toBitVec = 0#32 := h2
  exact Int32.toBitVec_inj.mp ((BitVec.or_eq_zero_iff.mp h3).2))
theorem bit_nz {h : Nat} (hh : h < 12) : ¬ ((1 : Int32) <<< (nI h &&& 31)) = 0 := by
  rw [bit_n hh]
  intro q
  have h2 : 2 ^ h < 4096 := Nat.pow_lt_pow_right (by omega) hh
  have h3 : 0 < 2 ^ h := Nat.pow_pos (by omega)
  have := nI_ij (a := 2 ^ h) (b := 0) (by omega) (by omega) q
  omega
theorem dgH_n {W : Nat → Int32} (hs : WFs W) (hc : WFc W) {i : Nat} (h : i < dgM W) : ∃ a : Nat, a < 12 ∧ gH (dgF W) i = nI a := by
  have h5 : 0 < nW W 5 := by
    unfold dgM at h
    split at h
    · rename_i q
      rw [hs.nc.1] at q
      rcases Nat.eq_zero_or_pos (nW W 5) with z | z
      · rw [z] at q; exact absurd q (by decide)
      · exact z
    · exact absurd h (Nat.not_lt_zero i)
  obtain ⟨a, o, r, h1, -, -, h4, -⟩ := hc (dgI W i) (Nat.mod_lt _ h5)
  exact ⟨a, by have := hs.ho12; omega, h1⟩
theorem in_nn {t a e : Nat} (ht : t < 2147483648) (ha : a < 2147483648) (he : e < 2147483648) : inL (nI t).toInt64 (nI a).toInt64 (nI e).toInt64 = (decide (a ≤ t) && decide (t ≤ e)) := by
  rw [inL_i, inI]
  congr 1
  · rw [decide_eq_decide]; exact nI_leI ha ht
  · rw [decide_eq_decide]; exact nI_leI ht he
theorem upG_0 {W : Nat → Int32} (hs : WFs W) (ht : WFt W) (hc : WFc W) {t : Nat} (h9 : t < 2147483648) : upG (dgW W) (nI t) = 0 ↔ upB W (dgM W) t = false := by
  refine itr_ix (f := upF (dgF W) (nI t)) (fun m b => b = 0 ↔ upB W m t = false) (dgM W) (fun m b hm hb => ?_) (Iff.intro (fun _ => rfl) (fun _ => rfl))
  have h1 := dg_n hs ht hm
  have h12 := hs.tk.2
  obtain ⟨a, ha, e⟩ := dgH_n hs hc hm
  have hin : inL (nI t).toInt64 (gF (dgF W) m).toInt64 (gE (dgF W) m).toInt64 = (decide (fN W m ≤ t) && decide (t ≤ eN W m)) := by
    show inL (nI t).toInt64 (gT W m).toInt64 (gTe W m).toInt64 = _
    rw [h1.1, h1.2.1]
    exact in_nn h9 (by omega) (by omega)
  unfold upF
  rw [hin]
  show _ ↔ (upB W m t || (decide (fN W m ≤ t) && decide (t ≤ eN W m))) = false
  cases hq : (decide (fN W m ≤ t) && decide (t ≤ eN W m)) with
  | false =>
    rw [if_neg (by decide), Bool.or_false]
    exact hb
  | true =>
    rw [if_pos rfl, Bool.or_true, e]
    have hn := bit_nz ha
    split
    · exact Iff.intro (fun q => absurd q (or_nz hn)) (fun q => by cases q)
    · refine Iff.intro (fun q => absurd q ?_) (fun q => by cases q)
      intro z
      have h2 := congrArg Int32.toBitVec z
      rw [Int32.toBitVec_or] at h2
      have h3 : (b ||| 1 <<< (nI a &&& 31)).toBitVec ||| ((1 : Int32) <<< (gO (dgF W) m &&& 31)).toBitVec = 0#32 := h2
      exact or_nz hn (Int32.toBitVec_inj.mp (BitVec.or_eq_zero_iff.mp h3).1)
theorem calm_m {W : Nat → Int32} (hs : WFs W) (ht : WFt W) (hc : WFc W) : itr (clF (dgW W)) (nW W 2) 0 0 = nI (cnP (fun t => !upB W (dgM W) t) (nW W 2)) := by
  refine itr_ix (fun t a => a = nI (cnP (fun t => !upB W (dgM W) t) t)) (nW W 2) (fun t a hm ha => ?_) rfl
  have h12 := hs.tk.2
  have h1 := upG_0 hs ht hc (t := t) (by omega)
  unfold clF
  show _ = nI (cnP (fun t => !upB W (dgM W) t) t + if (!upB W (dgM W) t) = true then 1 else 0)
  rw [ha]
  cases hu : upB W (dgM W) t with
  | false => rw [if_pos (h1.mpr hu)]; exact nI_1 _
  | true => rw [if_neg (fun q => by have := h1.mp q; rw [hu] at this; cases this)]; exact nI_add _ 0
theorem caV_eq {W : Nat → Int32} (hs : WFs W) (ht : WFt W) (hc : WFc W) : caV W = qcalm W := by
  unfold caV qcalm
  split
  · rw [calm_c hs ht, calm_m hs ht hc, cnP_not]
  · rfl
