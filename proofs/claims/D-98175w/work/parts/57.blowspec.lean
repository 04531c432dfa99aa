-- PART 57.blowspec
/-! ===== blows: plain functions ===== -/
def abP (W : Nat → Int32) (nu : LT) (s j : Nat) : Bool := hlL W (nu (60 * s + 2 * j)) && tkL W (nu (60 * s + (2 * j + 1)))
def abV (W my : Nat → Int32) (nu : LT) (slot : Int32) : Int32 := if laL slot = true ∧ bdW W = true then (if my slot.toNatClampNeg = -1 then -6 else if rm32 (my slot.toNatClampNeg) 2 = 0 then (if alK (abP W nu slot.toNatClampNeg) (mN my slot.toNatClampNeg / 2) 0 = true then 0 else -2) else -2) else -2
def hrb (W my : Nat → Int32) (nu : LT) (slot : Int32) (f : Nat → Nat → Int32) : Int32 := if abV W my nu slot < 0 then abV W my nu slot else f slot.toNatClampNeg (mN my slot.toNatClampNeg)
theorem hrb_n {W my : Nat → Int32} {nu : LT} {slot : Int32} {f : Nat → Nat → Int32} (h : abV W my nu slot < 0) : hrb W my nu slot f = abV W my nu slot := if_pos h
theorem hrb_p {W my : Nat → Int32} {nu : LT} {slot : Int32} {f : Nat → Nat → Int32} (h : ¬ abV W my nu slot < 0) : hrb W my nu slot f = f slot.toNatClampNeg (mN my slot.toNatClampNeg) := if_neg h
theorem ev_of {x : Int32} {m : Nat} (h : x = nI m) (hm : m ≤ 60) (e : rm32 x 2 = 0) : ∃ q, m = 2 * q := by
  rw [h] at e
  have e2 : rm32 (nI m) 2 = nI (m % 2) := pk_rem (d := 2) (by omega) (by omega) (by omega)
  rw [e2] at e
  have := (nI_eq (a := m % 2) (b := 0) (by omega) (by omega)).mp e
  exact ⟨m / 2, by omega⟩
theorem ab_of {W my : Nat → Int32} {nu : LT} {slot : Int32} (hw : WFm my) (h : ¬ abV W my nu slot < 0) : ∃ s, s < 4 ∧ slot = nI s ∧ my s = nI (mN my s) ∧ mN my s ≤ 60 ∧ bdW W = true ∧ ∃ q, mN my s = 2 * q := by
  unfold abV at h
  split at h
  · rename_i q
    obtain ⟨s, hs, rfl⟩ := la_of q.1
    rw [nI_clamp (by omega)] at h
    split at h
    · exact absurd (by decide) h
    · rename_i q2
      rcases hw s hs with q3 | q3
      · exact absurd q3 q2
      · split at h
        · rename_i q4
          exact ⟨s, hs, rfl, q3.1, q3.2, q.2, ev_of q3.1 q3.2 q4⟩
        · exact absurd (by decide) h
  · exact absurd (by decide) h
abbrev BT : Type := (Int32 × Int32 × Int32) × (Nat → Int32)
def BS (S : SM) (t : BT) (m : Nat) : Prop := S.1 39 = t.1.1 ∧ S.1 40 = t.1.2.1 ∧ S.1 41 = t.1.2.2 ∧ ∀ i, i < m → S.2.1 18 i = t.2 i
def sideB (G : GF) (i : Nat) (x : Int32) : Int32 := if gH G i = x then 1 else if gO G i = x then 2 else 0
def misB (G : GF) (x z : Int32) (i : Nat) (t : BT) : Bool := decide (sideB G i x = 0) || (!inL z.toInt64 (gF G i).toInt64 (gE G i).toInt64 || !decide (t.2 i &&& sideB G i x = 0))
def hitB (G : GF) (z lag : Int32) (i : Nat) (sd : Int32) (t : BT) : BT := ((t.1.1 + (1 - gR G i), t.1.2.1 + gR G i, t.1.2.2 + (if z - gF G i < lag then 1 else 0)), upd t.2 i (t.2 i ||| sd))
def skK (G : GF) (x z lag : Int32) : Nat → Nat → BT → BT
  | 0, _, t => t
  | k + 1, i, t => if misB G x z i t = true then skK G x z lag k (i + 1) t else hitB G z lag i (sideB G i x) t
theorem sk_m {G : GF} {x z lag : Int32} {k i : Nat} {t : BT} (h : misB G x z i t = true) : skK G x z lag (k + 1) i t = skK G x z lag k (i + 1) t := if_pos h
theorem sk_h {G : GF} {x z lag : Int32} {k i : Nat} {t : BT} (h : misB G x z i t = false) : skK G x z lag (k + 1) i t = hitB G z lag i (sideB G i x) t := if_neg (by rw [h]; decide)
def hitS (i : Nat) (sd e : Int32) (S : SM) : SM := sF 41 (S.1 41 + e) (sF 40 (S.1 40 + S.2.1 7 (3 * i + 2)) (sF 39 (S.1 39 + (1 - S.2.1 7 (3 * i + 2))) (sA 18 i (S.2.1 18 i ||| sd) S)))
theorem hitS_KX (i : Nat) (sd e : Int32) (S : SM) : KX [39, 40, 41] [18] S (hitS i sd e S) := by
  refine ⟨fun q h => ?_, fun j h => ?_, rfl⟩
  · simp only [List.mem_cons, List.not_mem_nil, or_false, not_or] at h
    simp [hitS, sF, sA, upd, h]
  · simp only [List.mem_cons, List.not_mem_nil, or_false] at h
    simp [hitS, sF, sA, va_up, h]
theorem hitS_BS {G : GA} {S : SM} {t : BT} {i : Nat} {z lag sd : Int32} (hg : GS S G) (hb : BS S t G.1) (hi : i < G.1) : BS (hitS i sd (if z - gF G.2 i < lag then 1 else 0) S) (hitB G.2 z lag i sd t) G.1 := by
  obtain ⟨h1, h2, h3, h4⟩ := hb
  have e2 : S.2.1 7 (3 * i + 2) = gR G.2 i := hg.at (w := 2) hi (by omega)
  refine ⟨?_, ?_, ?_, fun j hj => ?_⟩
  · simp [hitS, hitB, sF, sA, upd, h1, e2]
  · simp [hitS, hitB, sF, sA, upd, h2, e2]
  · simp [hitS, hitB, sF, sA, upd, h3]
  · by_cases q : j = i
    · subst q
      simp [hitS, hitB, sF, sA, va_up, upd, h4 j hj]
    · simp [hitS, hitB, sF, sA, va_up, upd, q, h4 j hj]
def bl0 : BT := ((0, 0, 0), fun _ => 0)
def blF (G : GA) (nu : LT) (s : Nat) (lag : Int32) (j : Nat) (t : BT) : BT := skK G.2 (nu (60 * s + 2 * j)).toInt32 (nu (60 * s + (2 * j + 1))).toInt32 lag G.1 0 t
def blW (G : GA) (nu : LT) (s m : Nat) (lag : Int32) : BT := itr (blF G nu s lag) (m / 2) 0 bl0
def qcounted (W my : Nat → Int32) (nu : LT) (slot : Int32) : Int32 := hrb W my nu slot (fun s m => (blW (dgW W) nu s m 0).1.1)
def qscored (W my : Nat → Int32) (nu : LT) (slot : Int32) : Int32 := if abV W my nu slot < 0 then 1000 * abV W my nu slot else hrb W my nu slot (fun s m => 10 * (blW (dgW W) nu s m 0).1.1 - 20 * (blW (dgW W) nu s m 0).1.2.1)
def qearly (W my : Nat → Int32) (nu : LT) (slot lag : Int32) : Int32 := if inL lag.toInt64 0 20 = true then hrb W my nu slot (fun s m => (blW (dgW W) nu s m lag).1.2.2) else -2
def bl0S (S : SM) : SM := sF 41 0 (sF 40 0 (sF 39 0 S))
theorem bl0S_KX (S : SM) : KX [39, 40, 41] [18] S (bl0S S) := by
  refine ⟨fun q h => ?_, fun j h => rfl, rfl⟩
  simp only [List.mem_cons, List.not_mem_nil, or_false, not_or] at h
  simp [bl0S, sF, upd, h]
theorem KX.s18 (i : Nat) (v : Int32) (S : SM) : KX [] [18] S (sA 18 i v S) := by
  refine ⟨fun q h => rfl, fun j h => ?_, rfl⟩
  simp only [List.mem_cons, List.not_mem_nil, or_false] at h
  simp [sA, va_up, h]
theorem sA18_s (i : Nat) (v : Int32) (S : SM) : (sA 18 i v S).2.1 18 = upd (S.2.1 18) i v := by simp [sA, va_up]
