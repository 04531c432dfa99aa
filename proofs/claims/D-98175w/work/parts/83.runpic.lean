-- PART 83.runpic
/-! ===== the class's runs: what he is told, how he does ===== -/
def PC (C : SC) (A : BA) (P : RP) : Prop := C.2.2.2.1 24 = some (A.pl P.1.1) ∧ C.1 6 = P.2.1 ∧ C.1 7 = nI P.1.2 ∧ C.1 8 = P.2.2.1 ∧ C.1 9 = P.2.2.2.1 ∧ C.1 16 = P.2.2.2.2
def RC (C : SC) (t : RT) (m : Nat) : Prop := C.1 10 = tPl t ∧ C.1 11 = tFr t ∧ C.1 14 = nI (tSt t) ∧ C.1 13 = tRd t ∧ C.1 15 = tWe t ∧ C.1 12 = nI (tSt t) - tRd t ∧ (∀ j, j < m → C.2.1 25 j = tHm t j ∧ C.2.1 26 j = tHt t j) ∧ ∀ j, j < tSt t → C.2.1 28 j = tSk t j ∧ C.2.1 27 j = tSh t j
/-- what a run changes -/
def CR (C C' : SC) : Prop := CK [10, 11, 12, 13, 14, 15] [25, 26, 27, 28] [] [] [] C C'
theorem CR.rf (C : SC) : CR C C := CK.rf _ _ _ _ _ _
theorem CR.tr {C C' C'' : SC} (h : CR C C') (h' : CR C' C'') : CR C C'' := CK.tr h h'
theorem CR.pc {C C' : SC} {A : BA} {P : RP} (h : CR C C') (hp : PC C A P) : PC C' A P := by
  obtain ⟨h1, h2, h3, h4, h5⟩ := h
  unfold PC at hp ⊢
  rw [h4 24 (by decide), h1 6 (by decide), h1 7 (by decide), h1 8 (by decide), h1 9 (by decide), h1 16 (by decide)]
  exact hp
theorem CR.ev {C C' : SC} {X : AH} {lo hi b : Nat} {A : BA} {W : Nat → Int32} (h : CR C C') (hE : EV C X lo hi b A W) : EV C' X lo hi b A W := CK.ev h (by decide) hE
theorem CR.g4 {C C' : SC} {X : AH} {G : GA} (h : CR C C') (hG : GM 3 16 17 18 C X G) : GM 3 16 17 18 C' X G := hG.to (h.1 3 (by decide)) (h.2.2.2.2 16 (by decide)) (h.2.1 17 (by decide)) (h.2.1 18 (by decide))
theorem CR.g5 {C C' : SC} {X : AH} {G : GA} (h : CR C C') (hG : GM 4 20 21 22 C X G) : GM 4 20 21 22 C' X G := hG.to (h.1 4 (by decide)) (h.2.2.2.2 20 (by decide)) (h.2.1 21 (by decide)) (h.2.1 22 (by decide))
theorem CR.kc {C C' : SC} (h : CR C C') : KC C C' := CK.kc h (by decide) (by decide) (by decide) (by decide)
def goC (i k : Nat) (o th w : Int32) (C : SC) : SC := cF 14 (C.1 14 + 1) (cA 28 k th (cA 27 k o (cA 26 i th (cA 25 i (C.2.1 25 i + 1) (cF 15 (C.1 15 + w) (cF 11 (th + 1) (cF 10 o C)))))))
theorem goC_CR (i k : Nat) (o th w : Int32) (C : SC) : CR C (goC i k o th w C) := (((((((CK.rf [10, 11, 12, 13, 14, 15] [25, 26, 27, 28] [] [] [] C).F _ (by decide)).F _ (by decide)).F _ (by decide)).A _ _ (by decide)).A _ _ (by decide)).A _ _ (by decide)).A _ _ (by decide) |>.F _ (by decide)
/-- comings are red or not -/
def GR (G : GA) : Prop := ∀ i, i < G.1 → gR G.2 i = 0 ∨ gR G.2 i = 1
theorem goC_RC {W : Nat → Int32} {G : GA} {P : RP} {C : SC} {t : RT} {i : Nat} {o : Int32} {r hh : Int32} (hr : RC C t (i + 1)) (hok : okR W G.2 P i o t = true) (hred : r = tRd t + gR G.2 i) (hhit : hh = nI (tSt t) + 1 - (tRd t + gR G.2 i)) {C' : SC} (h13 : C'.1 13 = r) (h12 : C'.1 12 = hh) (hoth : ∀ k, k ≠ 12 → k ≠ 13 → C'.1 k = (goC i (tSt t) o (thR W G.2 P i o t) (stW W (tPl t) o) C).1 k) (hA : C'.2.1 = (goC i (tSt t) o (thR W G.2 P i o t) (stW W (tPl t) o) C).2.1) : RC C' (goR W G.2 P i o t) (i + 1) := by
  obtain ⟨h1, h2, h3, h4, h5, h5b, h6, h7⟩ := hr
  rw [goR, if_pos hok]
  refine ⟨?_, ?_, ?_, ?_, ?_, ?_, fun j hj => ?_, fun j hj => ?_⟩
  · rw [hoth 10 (by decide) (by decide)]; rfl
  · rw [hoth 11 (by decide) (by decide)]; rfl
  · rw [hoth 14 (by decide) (by decide)]
    show C.1 14 + 1 = nI (tSt t + 1)
    rw [h3]; exact nI_1 _
  · rw [h13, hred]; rfl
  · rw [hoth 15 (by decide) (by decide)]
    show C.1 15 + _ = tWe t + _
    rw [h5]
  · rw [h12, hhit]
    show _ = nI (tSt t + 1) - (tRd t + gR G.2 i)
    rw [nI_1]
  · rw [hA]
    obtain ⟨a, b⟩ := h6 j hj
    have e1 : (goC i (tSt t) o (thR W G.2 P i o t) (stW W (tPl t) o) C).2.1 25 j = upd (C.2.1 25) i (C.2.1 25 i + 1) j := rfl
    have e2 : (goC i (tSt t) o (thR W G.2 P i o t) (stW W (tPl t) o) C).2.1 26 j = upd (C.2.1 26) i (thR W G.2 P i o t) j := rfl
    rw [e1, e2]
    show upd _ _ _ j = upd (tHm t) i (tHm t i + 1) j ∧ upd _ _ _ j = upd (tHt t) i _ j
    by_cases hji : j = i
    · subst hji
      rw [pk_us, pk_us, pk_us, pk_us, a]
      exact ⟨rfl, rfl⟩
    · rw [pk_un hji, pk_un hji, pk_un hji, pk_un hji]
      exact ⟨a, b⟩
  · rw [hA]
    have e1 : (goC i (tSt t) o (thR W G.2 P i o t) (stW W (tPl t) o) C).2.1 28 j = upd (C.2.1 28) (tSt t) (thR W G.2 P i o t) j := rfl
    have e2 : (goC i (tSt t) o (thR W G.2 P i o t) (stW W (tPl t) o) C).2.1 27 j = upd (C.2.1 27) (tSt t) o j := rfl
    rw [e1, e2]
    have hj : j < tSt t + 1 := hj
    show upd _ _ _ j = upd (tSk t) (tSt t) _ j ∧ upd _ _ _ j = upd (tSh t) (tSt t) o j
    by_cases hjk : j = tSt t
    · subst hjk
      rw [pk_us, pk_us, pk_us, pk_us]
      exact ⟨rfl, rfl⟩
    · rw [pk_un hjk, pk_un hjk, pk_un hjk, pk_un hjk]
      exact h7 j (by omega)
theorem hit_r (n : Nat) (d : Int32) {x : Int32} (h : x = nI n - d) : x = nI n + 1 - (d + 1) := by rw [h]; grind
theorem hit_n (n : Nat) (d : Int32) {x : Int32} (h : x = nI n - d) : x + 1 = nI n + 1 - (d + 0) := by rw [h]; grind
def rsC (i : Nat) (C : SC) : SC := cA 26 i (-1) (cA 25 i 0 C)
theorem rsC_CR (i : Nat) (C : SC) : CR C (rsC i C) := ((CK.rf [10, 11, 12, 13, 14, 15] [25, 26, 27, 28] [] [] [] C).A _ _ (by decide)).A _ _ (by decide)
theorem rsC_RC {C : SC} {t : RT} {i : Nat} (hr : RC C t i) : RC (rsC i C) (rsR i t) (i + 1) := by
  obtain ⟨h1, h2, h3, h4, h5, h5b, h6, h7⟩ := hr
  refine ⟨h1, h2, h3, h4, h5, h5b, fun j hj => ?_, fun j hj => h7 j hj⟩
  have e1 : (rsC i C).2.1 25 j = upd (C.2.1 25) i 0 j := rfl
  have e2 : (rsC i C).2.1 26 j = upd (C.2.1 26) i (-1) j := rfl
  rw [e1, e2]
  show upd _ _ _ j = upd (tHm t) i 0 j ∧ upd _ _ _ j = upd (tHt t) i (-1) j
  by_cases hji : j = i
  · subst hji
    rw [pk_us, pk_us, pk_us, pk_us]
    exact ⟨rfl, rfl⟩
  · rw [pk_un hji, pk_un hji, pk_un hji, pk_un hji]
    exact h6 j (by omega)
/-- a game whose comings' holes are holes, a twin's two are apart, and red is red or not -/
def WG2 (G : GA) : Prop := GR G ∧ ∀ i, i < G.1 → ¬ gH G.2 i = -1 ∧ ¬ gO G.2 i = gH G.2 i
theorem dg_wg {W : Nat → Int32} (hs : WFs W) (hc : WFc W) : WG2 (dgW W) := by
  have key : ∀ i, i < (dgW W).1 → ∃ a o r, CoK W (dgI W i) a o r := fun i hi => by
    have h5 : 0 < nW W 5 := by
      rcases Nat.eq_zero_or_pos (nW W 5) with q | q
      · have hi : i < dgM W := hi
        unfold dgM at hi
        rw [hs.nc.1, q, if_neg (by decide)] at hi
        omega
      · exact q
    exact hc _ (Nat.mod_lt _ h5)
  have h12 := hs.ho12
  refine ⟨fun i hi => ?_, fun i hi => ?_⟩
  · obtain ⟨a, o, r, -, -, e, -⟩ := key i hi
    show W (24 + 3 * dgI W i + 2) = 0 ∨ W (24 + 3 * dgI W i + 2) = 1
    rw [e]
    cases r
    · exact Or.inl rfl
    · exact Or.inr rfl
  · obtain ⟨a, o, r, e1, e2, -, h1, -, h3⟩ := key i hi
    show ¬ W (24 + 3 * dgI W i) = -1 ∧ ¬ W (24 + 3 * dgI W i + 1) = W (24 + 3 * dgI W i)
    rw [e1, e2]
    refine ⟨nI_m1 (by omega), fun q => ?_⟩
    cases o with
    | none => exact nI_m1 (k := a) (by omega) q.symm
    | some b =>
      obtain ⟨h4, -, h5⟩ := h3 b rfl
      exact h5 ((nI_eq (a := b) (b := a) (by omega) (by omega)).mp q)
def ruC (w : Int32) (C : SC) : SC := cF 15 0 (cF 14 0 (cF 13 0 (cF 12 0 (cF 11 0 (cF 10 w C)))))
theorem ruC_CR (w : Int32) (C : SC) : CR C (ruC w C) := ((((((CK.rf [10, 11, 12, 13, 14, 15] [25, 26, 27, 28] [] [] [] C).F _ (by decide)).F _ (by decide)).F _ (by decide)).F _ (by decide)).F _ (by decide)).F _ (by decide)
theorem ruC_RC (P : RP) (C : SC) : RC (ruC P.2.2.1 C) (ru0 P) 0 := ⟨rfl, rfl, rfl, rfl, rfl, (by show (0 : Int32) = nI 0 - 0; decide), fun j hj => absurd hj (Nat.not_lt_zero j), fun j hj => absurd hj (Nat.not_lt_zero j)⟩
/-- what he is told changes -/
def CP (C C' : SC) : Prop := CK [6, 7, 8, 9, 16] [] [] [24] [] C C'
theorem CP.ev {C C' : SC} {X : AH} {lo hi b : Nat} {A : BA} {W : Nat → Int32} (h : CP C C') (hE : EV C X lo hi b A W) : EV C' X lo hi b A W := CK.ev h (by decide) hE
theorem CP.g4 {C C' : SC} {X : AH} {G : GA} (h : CP C C') (hG : GM 3 16 17 18 C X G) : GM 3 16 17 18 C' X G := hG.to (h.1 3 (by decide)) (h.2.2.2.2 16 (by decide)) (h.2.1 17 (by decide)) (h.2.1 18 (by decide))
theorem CP.g5 {C C' : SC} {X : AH} {G : GA} (h : CP C C') (hG : GM 4 20 21 22 C X G) : GM 4 20 21 22 C' X G := hG.to (h.1 4 (by decide)) (h.2.2.2.2 20 (by decide)) (h.2.1 21 (by decide)) (h.2.1 22 (by decide))
theorem CP.kc {C C' : SC} (h : CP C C') : KC C C' := CK.kc h (by decide) (by decide) (by decide) (by decide)
theorem LD.pc {C C' : SC} {A : BA} {P : RP} (h : CK [3] [17, 18] [] [] [16] C C') (hp : PC C A P) : PC C' A P := by
  obtain ⟨h1, h2, h3, h4, h5⟩ := h
  unfold PC at hp ⊢
  rw [h4 24 (by decide), h1 6 (by decide), h1 7 (by decide), h1 8 (by decide), h1 9 (by decide), h1 16 (by decide)]
  exact hp
theorem KC.ev {C C' : SC} {X : AH} {lo hi b : Nat} {A : BA} {W : Nat → Int32} (h : KC C C') (hE : EV C X lo hi b A W) : EV C' X lo hi b A W := hE.to (h.2.2.1 0 (by omega))
/-- what lasts is as it was, nothing was made -/
def HQ (C : SC) (S : SM) (X : AH) : AH → Prop := fun h1 => ∃ C', h1 = cH C' S X ∧ KC C C'
theorem HQ.qc {C C' : SC} {S : SM} {X : AH} (h : KC C C') : HQ C S X (cH C' S X) := ⟨C', rfl, h⟩
theorem pl1 {W : Nat → Int32} (hp : WFp W) {p : Nat} (h : p < nW W 6) : W (96 + 5 * p + 3) = nI (nW W (96 + 5 * p + 3)) ∧ nW W (96 + 5 * p + 3) < 1000 := by
  obtain ⟨b1, b2⟩ := (hp p h).2.2.2.1
  exact ⟨b1, by omega⟩
/-- who is not after red ones hits none -/
theorem goR_rd {W : Nat → Int32} {G : GF} {P : RP} {i : Nat} {o : Int32} {t : RT} (h : gR G i = 0) (ht : tRd t = 0) : tRd (goR W G P i o t) = 0 := by
  unfold goR
  split
  · show tRd t + gR G i = 0
    rw [h, ht]; rfl
  · exact ht
theorem gfR_rd {W : Nat → Int32} {G : GF} {P : RP} {i : Nat} {t : RT} (h : gR G i = 0) (ht : tRd t = 0) : tRd (gfR W G P i t) = 0 := by
  unfold gfR
  split
  · split <;> split
    · exact goR_rd h (goR_rd h ht)
    · exact ht
    · exact goR_rd h (goR_rd h ht)
    · exact ht
  · split
    · exact goR_rd h ht
    · split
      · exact goR_rd h ht
      · exact ht
theorem ruW_rd {W : Nat → Int32} {G : GA} {P : RP} (hP : P.2.2.2.2 = 0) : tRd (ruW W G P) = 0 := by
  refine itr_le (fun t : RT => tRd t = 0) (ruF W G.2 P) G.1 (fun i t _ ht => ?_) G.1 0 (ru0 P) (by omega) rfl
  have ht2 : tRd (rsR i t) = 0 := ht
  unfold ruF
  split
  · rename_i q
    exact gfR_rd (q.resolve_right (fun z => z hP)) ht2
  · exact ht2
theorem RC.hits {W : Nat → Int32} {G : GA} {P : RP} {C : SC} {m : Nat} (h : RC C (ruW W G P) m) (hP : P.2.2.2.2 = 0) : C.1 12 = nI (tSt (ruW W G P)) := by
  rw [h.2.2.2.2.2.1, ruW_rd hP]
  grind
