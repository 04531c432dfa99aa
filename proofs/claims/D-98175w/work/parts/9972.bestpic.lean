-- PART 9972.bestpic
/-! ===== the class's best runs: plain functions, how they lie ===== -/
abbrev IQ : Type := Nat → Nat → Int32
def up2i (T : IQ) (h a : Nat) (v : Int32) : IQ := va_up T h (upd (T h) a v)
def skV (W : Nat → Int32) (G : GF) (p i : Nat) (fr t ho : Int32) : Int32 := mx32 (t + stW W fr ho * pcW W p t) (gF G i)
def hA1 (W : Nat → Int32) (G : GF) (p i h : Nat) (tick : Int32) (n t : Nat) (T : IQ) : IQ := up2i T t (n + 1) (mn32 (T t (n + 1)) (skV W G p i (nI h) tick (nI t) + 1))
def hA2 (W : Nat → Int32) (G : GF) (p i : Nat) (a : Int32) (n t : Nat) (on : Int32) (T : IQ) : IQ := if gE G i < skV W G p i (nI t) a on then T else up2i T on.toNatClampNeg (n + 2) (mn32 (T on.toNatClampNeg (n + 2)) (skV W G p i (nI t) a on + 1))
def hF1 (W : Nat → Int32) (G : GF) (p i h : Nat) (tick : Int32) (n t : Nat) (on : Int32) (T : IQ) : IQ := if gE G i < skV W G p i (nI h) tick (nI t) then T else if on = -1 ∨ 118 < n then hA1 W G p i h tick n t T else hA2 W G p i (skV W G p i (nI h) tick (nI t) + 1) n t on (hA1 W G p i h tick n t T)
def bF2 (W : Nat → Int32) (G : GF) (p i : Nat) (R : IQ) (h n : Nat) (T : IQ) : IQ := if R h n = 1000000 then T else if gO G i = -1 then hF1 W G p i h (R h n) n (gH G i).toNatClampNeg (gO G i) T else hF1 W G p i h (R h n) n (gO G i).toNatClampNeg (gH G i) (hF1 W G p i h (R h n) n (gH G i).toNatClampNeg (gO G i) T)
def bF1 (W : Nat → Int32) (G : GF) (p i : Nat) (R : IQ) (h : Nat) (T : IQ) : IQ := itr (bF2 W G p i R h) 120 0 T
def bT (W : Nat → Int32) (G : GF) (p i : Nat) (R : IQ) : IQ := itr (bF1 W G p i R) (hoN W) 0 R
def bR (W : Nat → Int32) (G : GF) (p i : Nat) (R : IQ) : IQ := if gR G i = 0 then bT W G p i R else R
def b0C (w : Nat) : IQ := fun h n => if h = w ∧ n = 0 then 0 else 1000000
def moC (T : IQ) (h n : Nat) (m : Int32) : Int32 := if T h n < 1000000 then mx32 m (nI n) else m
def moT (T : IQ) : Int32 := itr (fun h m => itr (moC T h) 121 0 m) 12 0 0
def boC (W : Nat → Int32) (p n : Nat) : Int32 := moT (itr (bR W (dgF W) p) (min n (dgM W)) 0 (b0C (nW W (96 + 5 * p + 4))))
def best0 (W : Nat → Int32) (p : Int32) : Int32 := if plW W p = true then boC W p.toNatClampNeg 60 else -2
def ahead0 (W : Nat → Int32) (p n : Int32) : Int32 := if plW W p = true ∧ inL n.toInt64 0 60 = true then boC W p.toNatClampNeg n.toNatClampNeg else -2
def IC (b : Nat) (C : SC) (T : IQ) : Prop := ∀ h, h < 12 → ∀ n, n < 121 → C.2.1 (b + h) n = T h n
/-- only the tables changed -/
def CBs (C C' : SC) : Prop := C'.1 = C.1 ∧ (∀ j, j < 44 ∨ 55 < j → C'.2.1 j = C.2.1 j) ∧ C'.2.2 = C.2.2
theorem CBs.rf (C : SC) : CBs C C := ⟨rfl, fun _ _ => rfl, rfl⟩
theorem CBs.tr {C C' C'' : SC} (h : CBs C C') (h' : CBs C' C'') : CBs C C'' := ⟨h'.1.trans h.1, fun j q => (h'.2.1 j q).trans (h.2.1 j q), h'.2.2.trans h.2.2⟩
def CBt (C C' : SC) : Prop := C'.1 = C.1 ∧ (∀ j, j < 31 ∨ 55 < j → C'.2.1 j = C.2.1 j) ∧ C'.2.2 = C.2.2
theorem CBt.rf (C : SC) : CBt C C := ⟨rfl, fun _ _ => rfl, rfl⟩
theorem CBt.tr {C C' C'' : SC} (h : CBt C C') (h' : CBt C' C'') : CBt C C'' := ⟨h'.1.trans h.1, fun j q => (h'.2.1 j q).trans (h.2.1 j q), h'.2.2.trans h.2.2⟩
theorem CBs.t {C C' : SC} (h : CBs C C') : CBt C C' := ⟨h.1, fun j q => h.2.1 j (by omega), h.2.2⟩
theorem CBt.ev {C C' : SC} {X : AH} {lo hi b : Nat} {A : BA} {W : Nat → Int32} (h : CBt C C') (hE : EV C X lo hi b A W) : EV C' X lo hi b A W := hE.to (by rw [h.2.2])
theorem CBt.g4 {C C' : SC} {X : AH} {G : GA} (h : CBt C C') (hG : GM 3 16 17 18 C X G) : GM 3 16 17 18 C' X G := hG.to (by rw [h.1]) (by rw [h.2.2]) (h.2.1 17 (by omega)) (h.2.1 18 (by omega))
theorem CBt.kc {C C' : SC} (h : CBt C C') : KC C C' := ⟨by rw [h.1]; exact ⟨rfl, rfl, rfl⟩, h.2.1 14 (by omega), fun k _ => by rw [h.2.2], by rw [h.2.2]⟩
theorem CBt.r {C C' : SC} (h : CBt C C') (k : Nat) : C'.2.2.2.1 k = C.2.2.2.1 k := by rw [h.2.2]
theorem up2i_at (T : IQ) (h a : Nat) (v : Int32) (h' f : Nat) : up2i T h a v h' f = if h' = h ∧ f = a then v else T h' f := by
  unfold up2i va_up upd
  by_cases q : h' = h
  · subst q
    by_cases q2 : f = a
    · rw [if_pos rfl, if_pos q2, if_pos ⟨rfl, q2⟩]
    · rw [if_pos rfl, if_neg q2, if_neg (fun z => q2 z.2)]
  · rw [if_neg q, if_neg (fun z => q z.1)]
theorem cA_at (j i : Nat) (v : Int32) (C : SC) (j' i' : Nat) : (cA j i v C).2.1 j' i' = if j' = j ∧ i' = i then v else C.2.1 j' i' := up2i_at C.2.1 j i v j' i'
theorem cAs_at (j : Nat) (f : Nat → Int32) (C : SC) (j' : Nat) : (cAs j f C).2.1 j' = if j' = j then f else C.2.1 j' := rfl
theorem CBs.A {t : Nat} (ht : t < 12) (n : Nat) (v : Int32) (C : SC) : CBs C (cA (44 + t) n v C) := ⟨rfl, fun j q => va_up_ne _ _ (by omega), rfl⟩
theorem CBt.A1 {t : Nat} (ht : t < 12) (n : Nat) (v : Int32) (C : SC) : CBt C (cA (31 + t) n v C) := ⟨rfl, fun j q => va_up_ne _ _ (by omega), rfl⟩
theorem CBt.As1 {t : Nat} (ht : t < 12) (f : Nat → Int32) (C : SC) : CBt C (cAs (31 + t) f C) := ⟨rfl, fun j q => va_up_ne _ _ (by omega), rfl⟩
theorem CBs.As {t : Nat} (ht : t < 12) (f : Nat → Int32) (C : SC) : CBs C (cAs (44 + t) f C) := ⟨rfl, fun j q => va_up_ne _ _ (by omega), rfl⟩
theorem IC.w44 {C : SC} {T : IQ} (h : IC 44 C T) (q a : Nat) (v : Int32) : IC 44 (cA (44 + q) a v C) (up2i T q a v) := fun h' hh f hf => by
  rw [cA_at, up2i_at, h h' hh f hf]
  by_cases e : h' = q ∧ f = a
  · rw [if_pos e, if_pos ⟨by omega, e.2⟩]
  · rw [if_neg e, if_neg (fun z => e ⟨by omega, z.2⟩)]
theorem IC.s31 {C C' : SC} {R : IQ} (h : IC 31 C R) (k : CBs C C') : IC 31 C' R := fun h' hh f hf => by
  rw [k.2.1 (31 + h') (by omega)]
  exact h h' hh f hf
theorem IC.k44s {C : SC} {R : IQ} (h : IC 44 C R) {q : Nat} (hq : q < 12) (F : Nat → Int32) : IC 44 (cAs (31 + q) F C) R := fun h' hh f hf => by
  rw [cAs_at, if_neg (by omega)]
  exact h h' hh f hf
theorem hF1_0 {W : Nat → Int32} {G : GF} {p i h : Nat} {tick : Int32} {n t : Nat} {on : Int32} {T : IQ} (q : gE G i < skV W G p i (nI h) tick (nI t)) : hF1 W G p i h tick n t on T = T := if_pos q
theorem hF1_1 {W : Nat → Int32} {G : GF} {p i h : Nat} {tick : Int32} {n t : Nat} {on : Int32} {T : IQ} (q : ¬ gE G i < skV W G p i (nI h) tick (nI t)) (q2 : on = -1 ∨ 118 < n) : hF1 W G p i h tick n t on T = hA1 W G p i h tick n t T := (if_neg q).trans (if_pos q2)
theorem hF1_2 {W : Nat → Int32} {G : GF} {p i h : Nat} {tick : Int32} {n t : Nat} {on : Int32} {T : IQ} (q : ¬ gE G i < skV W G p i (nI h) tick (nI t)) (q2 : ¬ on = -1) (q3 : n ≤ 118) : hF1 W G p i h tick n t on T = hA2 W G p i (skV W G p i (nI h) tick (nI t) + 1) n t on (hA1 W G p i h tick n t T) := (if_neg q).trans (if_neg (fun z => z.elim q2 (by omega)))
theorem dg_WG {W : Nat → Int32} (hs : WFs W) (hc : WFc W) : WG (dgW W) := fun i hi => by
  have h5 : 0 < nW W 5 := by
    rcases Nat.eq_zero_or_pos (nW W 5) with q | q
    · have hi : i < dgM W := hi
      unfold dgM at hi
      rw [hs.nc.1, q, if_neg (by decide)] at hi
      omega
    · exact q
  obtain ⟨a, o, r, e1, e2, -, h1, -, h3⟩ := hc (dgI W i) (Nat.mod_lt _ h5)
  have h12 := hs.ho12
  have g1 : gH (dgF W) i = nI a := e1
  have g2 : gO (dgF W) i = onI o := e2
  have n1 : hNt (dgF W) i = a := by unfold hNt; rw [g1, nI_clamp (by omega)]
  have n2 : oNt (dgF W) i = o := by
    unfold oNt
    rw [g2]
    cases o with
    | none => exact if_pos rfl
    | some b =>
      have h4 := (h3 b rfl).1
      show (if nI b = -1 then none else some (nI b).toNatClampNeg) = some b
      rw [if_neg (nI_m1 (by omega)), nI_clamp (by omega)]
  refine ⟨⟨by show gH (dgF W) i = nI (hNt (dgF W) i); rw [n1]; exact g1, by show hNt (dgF W) i < 12; rw [n1]; omega⟩, by show gO (dgF W) i = onI (oNt (dgF W) i); rw [n2]; exact g2, fun s hs9 => ?_⟩
  have hs9 : oNt (dgF W) i = some s := hs9
  rw [n2] at hs9
  have := (h3 s hs9).1
  omega
theorem onI_no {o : Option Nat} (h : ∀ s, o = some s → s < 12) (q : ¬ onI o = -1) : ∃ s, s < 12 ∧ onI o = nI s := by
  cases o with
  | none => exact absurd rfl q
  | some s => exact ⟨s, h s rfl, rfl⟩
