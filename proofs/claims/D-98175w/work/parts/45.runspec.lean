-- PART 45.runspec
/-! ===== runs: plain functions ===== -/
/-- all but these fields and arrays is as it was -/
def KX (f a : List Nat) (S S' : SM) : Prop := (∀ k, k ∉ f → S'.1 k = S.1 k) ∧ (∀ j, j ∉ a → S'.2.1 j = S.2.1 j) ∧ S'.2.2 = S.2.2
theorem KX.rf (f a : List Nat) (S : SM) : KX f a S S := ⟨fun _ _ => rfl, fun _ _ => rfl, rfl⟩
theorem KX.tr {f a f' a' : List Nat} {S S' S'' : SM} (h : KX f a S S') (h' : KX f' a' S' S'') : KX (f ++ f') (a ++ a') S S'' :=
  ⟨fun k q => (h'.1 k (fun z => q (List.mem_append_right _ z))).trans (h.1 k (fun z => q (List.mem_append_left _ z))), fun k q => (h'.2.1 k (fun z => q (List.mem_append_right _ z))).trans (h.2.1 k (fun z => q (List.mem_append_left _ z))), h'.2.2.trans h.2.2⟩
theorem KX.sub {f a f' a' : List Nat} {S S' : SM} (h : KX f a S S') (hf : ∀ k ∈ f, k ∈ f') (ha : ∀ k ∈ a, k ∈ a') : KX f' a' S S' := ⟨fun k q => h.1 k (fun z => q (hf k z)), fun k q => h.2.1 k (fun z => q (ha k z)), h.2.2⟩
theorem KX.wd {f a : List Nat} {S S' : SM} (h : KX f a S S') (q : 1 ∉ a) : wd S' = wd S := h.2.1 1 q
theorem KX.KP {f a : List Nat} {S S' : SM} (h : KX f a S S') (hf : 5 ∉ f ∧ 12 ∉ f ∧ 13 ∉ f) (ha : 1 ∉ a ∧ 2 ∉ a ∧ 3 ∉ a ∧ 4 ∉ a ∧ 19 ∉ a ∧ 20 ∉ a) : KP S S' :=
  ⟨⟨h.1 5 hf.1, h.1 12 hf.2.1, h.1 13 hf.2.2⟩, fun j q => by
    rcases q with rfl | rfl | rfl | rfl | rfl | rfl
    · exact h.2.1 _ ha.1
    · exact h.2.1 _ ha.2.1
    · exact h.2.1 _ ha.2.2.1
    · exact h.2.1 _ ha.2.2.2.1
    · exact h.2.1 _ ha.2.2.2.2.1
    · exact h.2.1 _ ha.2.2.2.2.2, by rw [h.2.2]⟩
theorem KX.gs {f a : List Nat} {S S' : SM} {G : GA} (h : KX f a S S') (hf : 18 ∉ f) (ha : 7 ∉ a ∧ 8 ∉ a ∧ 9 ∉ a) (hg : GS S G) : GS S' G := by
  unfold GS at hg ⊢
  rw [h.1 18 hf, h.2.1 7 ha.1, h.2.1 8 ha.2.1, h.2.1 9 ha.2.2]
  exact hg
/-- what he is told to be: player, knows; lag, waits, holes, red -/
abbrev RP : Type := (Nat × Nat) × Int32 × Int32 × Int32 × Int32
def PS (S : SM) (P : RP) : Prop := S.1 19 = nI P.1.1 ∧ S.1 20 = P.2.1 ∧ S.1 21 = nI P.1.2 ∧ S.1 22 = P.2.2.1 ∧ S.1 23 = P.2.2.2.1 ∧ S.1 24 = P.2.2.2.2
theorem KX.ps {f a : List Nat} {S S' : SM} {P : RP} (h : KX f a S S') (hf : 19 ∉ f ∧ 20 ∉ f ∧ 21 ∉ f ∧ 22 ∉ f ∧ 23 ∉ f ∧ 24 ∉ f) (hg : PS S P) : PS S' P := by
  unfold PS at hg ⊢
  rw [h.1 19 hf.1, h.1 20 hf.2.1, h.1 21 hf.2.2.1, h.1 22 hf.2.2.2.1, h.1 23 hf.2.2.2.2.1, h.1 24 hf.2.2.2.2.2]
  exact hg
/-- a run: place, free, strikes, red ones, steps; hits and tick of each coming; tick and hole of each strike -/
abbrev RT : Type := (Int32 × Int32 × Nat × Int32 × Int32) × (Nat → Int32) × (Nat → Int32) × (Nat → Int32) × (Nat → Int32)
def tPl (t : RT) : Int32 := t.1.1
def tFr (t : RT) : Int32 := t.1.2.1
def tSt (t : RT) : Nat := t.1.2.2.1
def tRd (t : RT) : Int32 := t.1.2.2.2.1
def tWe (t : RT) : Int32 := t.1.2.2.2.2
def tHm (t : RT) : Nat → Int32 := t.2.1
def tHt (t : RT) : Nat → Int32 := t.2.2.1
def tSk (t : RT) : Nat → Int32 := t.2.2.2.1
def tSh (t : RT) : Nat → Int32 := t.2.2.2.2
def RS (S : SM) (t : RT) (m : Nat) : Prop := S.1 31 = tPl t ∧ S.1 32 = tFr t ∧ S.1 29 = nI (tSt t) ∧ S.1 30 = tRd t ∧ S.1 33 = tWe t ∧ (∀ j, j < m → S.2.1 10 j = tHm t j ∧ S.2.1 11 j = tHt t j) ∧ ∀ j, j < tSt t → S.2.1 12 j = tSk t j ∧ S.2.1 13 j = tSh t j
def awR (G : GF) (P : RP) (i : Nat) : Int32 := if P.1.2 = 0 then gF G i + P.2.1 else mn32 (gF G i + P.2.1) (if i < P.1.2 then 0 else gF G (i - P.1.2))
def ouR (G : GF) (P : RP) (i : Nat) (t : RT) : Int32 := mx32 (tFr t) (awR G P i)
def thR (W : Nat → Int32) (G : GF) (P : RP) (i : Nat) (o : Int32) (t : RT) : Int32 := mx32 (ouR G P i t + stW W (tPl t) o * pcW W P.1.1 (ouR G P i t)) (gF G i)
def okR (W : Nat → Int32) (G : GF) (P : RP) (i : Nat) (o : Int32) (t : RT) : Bool := decide (thR W G P i o t ≤ gE G i)
def goR (W : Nat → Int32) (G : GF) (P : RP) (i : Nat) (o : Int32) (t : RT) : RT :=
  if okR W G P i o t = true then ((o, thR W G P i o t + 1, tSt t + 1, tRd t + gR G i, tWe t + stW W (tPl t) o), upd (tHm t) i (tHm t i + 1), upd (tHt t) i (thR W G P i o t), upd (tSk t) (tSt t) (thR W G P i o t), upd (tSh t) (tSt t) o) else t
def hisR (P : RP) (o : Int32) : Bool := !decide (o = -1) && decide ((P.2.2.2.1 >>> (o &&& 31)) &&& 1 = 1)
def gfR (W : Nat → Int32) (G : GF) (P : RP) (i : Nat) (t : RT) : RT :=
  if hisR P (gH G i) = true ∧ hisR P (gO G i) = true then
    (if stW W (tPl t) (gH G i) ≤ stW W (tPl t) (gO G i) then (if okR W G P i (gH G i) t = true then goR W G P i (gO G i) (goR W G P i (gH G i) t) else t)
     else (if okR W G P i (gO G i) t = true then goR W G P i (gH G i) (goR W G P i (gO G i) t) else t))
  else if hisR P (gH G i) = true then goR W G P i (gH G i) t else if hisR P (gO G i) = true then goR W G P i (gO G i) t else t
def rsR (i : Nat) (t : RT) : RT := (t.1, upd (tHm t) i 0, upd (tHt t) i (-1), t.2.2.2)
def ruF (W : Nat → Int32) (G : GF) (P : RP) (i : Nat) (t : RT) : RT := if gR G i = 0 ∨ ¬ P.2.2.2.2 = 0 then gfR W G P i (rsR i t) else rsR i t
def ru0 (P : RP) : RT := ((P.2.2.1, 0, 0, 0, 0), fun _ => 0, fun _ => 0, fun _ => 0, fun _ => 0)
def ruW (W : Nat → Int32) (G : GA) (P : RP) : RT := itr (ruF W G.2 P) G.1 0 (ru0 P)
/-- a player as the board tells him to be -/
def tpW (W : Nat → Int32) (p : Nat) : RP := ((p, nW W (96 + 5 * p + 3)), W (96 + 5 * p + 1), W (96 + 5 * p + 4), 4095, 0)
def goS (i k : Nat) (o th w : Int32) (S : SM) : SM := sF 30 (S.1 30 + S.2.1 7 (3 * i + 2)) (sF 29 (S.1 29 + 1) (sA 13 k o (sA 12 k th (sA 11 i th (sA 10 i (S.2.1 10 i + 1) (sF 32 (th + 1) (sF 31 o (sF 33 (S.1 33 + w) S))))))))
theorem goS_KX (i k : Nat) (o th w : Int32) (S : SM) : KX [29, 30, 31, 32, 33] [10, 11, 12, 13] S (goS i k o th w S) := by
  refine ⟨fun q h => ?_, fun j h => ?_, rfl⟩
  · simp only [List.mem_cons, List.not_mem_nil, or_false, not_or] at h
    simp [goS, sF, sA, upd, h]
  · simp only [List.mem_cons, List.not_mem_nil, or_false, not_or] at h
    simp [goS, sF, sA, va_up, h]
theorem goS_RS {W : Nat → Int32} {G : GA} {P : RP} {S : SM} {t : RT} {i : Nat} {o : Int32} (hg : GS S G) (hi : i < G.1) (hr : RS S t (i + 1)) (hw : wd S = W) (hok : okR W G.2 P i o t = true) : RS (goS i (tSt t) o (thR W G.2 P i o t) (stW W (tPl t) o) S) (goR W G.2 P i o t) (i + 1) := by
  obtain ⟨h1, h2, h3, h4, h5, h6, h7⟩ := hr
  rw [goR, if_pos hok]
  have e2 : S.2.1 7 (3 * i + 2) = gR G.2 i := hg.at (w := 2) hi (by omega)
  refine ⟨?_, ?_, ?_, ?_, ?_, fun j hj => ?_, fun j hj => ?_⟩
  · simp [goS, sF, sA, upd, tPl]
  · simp [goS, sF, sA, upd, tFr]
  · simp [goS, sF, sA, upd, tSt, h3]
    exact nI_1 _
  · simp [goS, sF, sA, upd, tRd, h4, e2]
  · simp [goS, sF, sA, upd, tWe, h5]
  · obtain ⟨a, b⟩ := h6 j hj
    by_cases hji : j = i
    · subst hji
      simp [goS, sF, sA, va_up, upd, tHm, tHt, a]
    · simp [goS, sF, sA, va_up, upd, tHm, tHt, hji]
      exact ⟨a, b⟩
  · have hj : j < tSt t + 1 := hj
    by_cases hjk : j = tSt t
    · subst hjk
      simp [goS, sF, sA, va_up, upd, tSk, tSh]
    · obtain ⟨a, b⟩ := h7 j (by omega)
      simp [goS, sF, sA, va_up, upd, tSk, tSh]
      have hjk2 : ¬ j = t.1.2.2.1 := hjk
      exact ⟨by rw [if_neg hjk, if_neg hjk]; exact a, by rw [if_neg hjk, if_neg hjk]; exact b⟩
theorem goR_st (W : Nat → Int32) (G : GF) (P : RP) (i : Nat) (o : Int32) (t : RT) : tSt (goR W G P i o t) ≤ tSt t + 1 := by
  unfold goR
  split
  · exact Nat.le_refl _
  · exact Nat.le_succ _
theorem gfR_st (W : Nat → Int32) (G : GF) (P : RP) (i : Nat) (t : RT) : tSt (gfR W G P i t) ≤ tSt t + 2 := by
  have h := goR_st W G P i
  unfold gfR
  split
  · split <;> split
    · exact Nat.le_trans (h _ _) (Nat.succ_le_succ (h _ _))
    · omega
    · exact Nat.le_trans (h _ _) (Nat.succ_le_succ (h _ _))
    · omega
  · split
    · exact Nat.le_trans (h _ _) (Nat.le_succ _)
    · split
      · exact Nat.le_trans (h _ _) (Nat.le_succ _)
      · omega
theorem ruF_st (W : Nat → Int32) (G : GF) (P : RP) (i : Nat) (t : RT) (h : tSt t ≤ 2 * i) : tSt (ruF W G P i t) ≤ 2 * (i + 1) := by
  unfold ruF
  have := gfR_st W G P i (rsR i t)
  have e : tSt (rsR i t) = tSt t := rfl
  split <;> omega
def rsS (i : Nat) (S : SM) : SM := sA 11 i (-1) (sA 10 i 0 S)
theorem rsS_KX (i : Nat) (S : SM) : KX [29, 30, 31, 32, 33] [10, 11, 12, 13] S (rsS i S) := by
  refine ⟨fun q h => rfl, fun j h => ?_, rfl⟩
  simp only [List.mem_cons, List.not_mem_nil, or_false, not_or] at h
  simp [rsS, sA, va_up, h]
theorem rsS_RS {S : SM} {t : RT} {i : Nat} (hr : RS S t i) : RS (rsS i S) (rsR i t) (i + 1) := by
  obtain ⟨h1, h2, h3, h4, h5, h6, h7⟩ := hr
  refine ⟨h1, h2, h3, h4, h5, fun j hj => ?_, fun j hj => h7 j hj⟩
  by_cases hji : j = i
  · subst hji
    simp [rsS, rsR, sA, va_up, upd, tHm, tHt]
  · obtain ⟨a, b⟩ := h6 j (by omega)
    simp [rsS, rsR, sA, va_up, upd, tHm, tHt, hji]
    exact ⟨a, b⟩
def ruS (w : Int32) (S : SM) : SM := sF 31 w (sF 32 0 (sF 33 0 (sF 30 0 (sF 29 0 S))))
theorem ruS_KX (w : Int32) (S : SM) : KX [29, 30, 31, 32, 33] [10, 11, 12, 13] S (ruS w S) := by
  refine ⟨fun q h => ?_, fun j h => rfl, rfl⟩
  simp only [List.mem_cons, List.not_mem_nil, or_false, not_or] at h
  simp [ruS, sF, upd, h]
theorem ruS_RS (P : RP) (S : SM) : RS (ruS P.2.2.1 S) (ru0 P) 0 := ⟨rfl, rfl, rfl, rfl, rfl, fun j hj => absurd hj (Nat.not_lt_zero j), fun j hj => absurd hj (Nat.not_lt_zero j)⟩
