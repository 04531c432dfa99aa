-- PART 63.bestspec
/-! ===== the best run: plain functions ===== -/
/-- when he is free behind a hit; 1000000: it is none -/
def bhW (W : Nat → Int32) (G : GF) (p i : Nat) (fr t ho : Int32) : Int32 := if t = 1000000 then 1000000 else if gE G i < mx32 (gF G i) (t + stW W fr ho * pcW W p t) then 1000000 else mx32 (gF G i) (t + stW W fr ho * pcW W p t) + 1
def soF (h n : Nat) (t : Int32) (T : Nat → Int32) : Nat → Int32 := upd T (121 * h + n) (mn32 (T (121 * h + n)) t)
def mhF2 (W : Nat → Int32) (G : GF) (p i fs : Nat) (sn : Option Nat) (R : Nat → Int32) (h n : Nat) (T : Nat → Int32) : Nat → Int32 := match sn with
  | none => soF fs (n + 1) (bhW W G p i (nI h) (R (121 * h + n)) (nI fs)) T
  | some s => soF s (n + 2) (bhW W G p i (nI fs) (bhW W G p i (nI h) (R (121 * h + n)) (nI fs)) (nI s)) (soF fs (n + 1) (bhW W G p i (nI h) (R (121 * h + n)) (nI fs)) T)
def mhF1 (W : Nat → Int32) (G : GF) (p i fs : Nat) (sn : Option Nat) (R : Nat → Int32) (h : Nat) (T : Nat → Int32) : Nat → Int32 := itr (mhF2 W G p i fs sn R h) 119 0 T
def mhT (W : Nat → Int32) (G : GF) (p i fs : Nat) (sn : Option Nat) (R T : Nat → Int32) : Nat → Int32 := itr (mhF1 W G p i fs sn R) (hoN W) 0 T
theorem KX.s14 (i : Nat) (v : Int32) (S : SM) : KX [] [14] S (sA 14 i v S) := by
  refine ⟨fun q h => rfl, fun j h => ?_, rfl⟩
  simp only [List.mem_cons, List.not_mem_nil, or_false] at h
  simp [sA, va_up, h]
theorem so_s (q k : Nat) (t : Int32) (S : SM) : (sA 14 (121 * q + k) (mn32 (S.2.1 14 (121 * q + k)) t) S).2.1 14 = soF q k t (S.2.1 14) := by simp [sA, va_up, soF]
/-- the same in the cells that there are -/
def AI (f T : Nat → Int32) : Prop := ∀ k, k < 1452 → f k = T k
theorem itr_rel {α β : Type} (P : α → β → Prop) {f : Nat → α → α} {g : Nat → β → β} (N : Nat) (h : ∀ i a b, i < N → P a b → P (f i a) (g i b)) : ∀ (k i : Nat) (a : α) (b : β), i + k ≤ N → P a b → P (itr f k i a) (itr g k i b) := by
  intro k
  induction k with
  | zero => intro i a b _ q; exact q
  | succ k ih => intro i a b hi q; exact ih (i + 1) _ _ (by omega) (h i a b (by omega) q)
theorem soF_AI {f T : Nat → Int32} (h : AI f T) {q k : Nat} (t : Int32) (hq : q < 12) (hk : k < 121) : AI (soF q k t f) (soF q k t T) := fun j hj => by
  simp only [soF, upd]
  split
  · rw [h _ (by omega)]
  · exact h j hj
theorem mhF2_AI {W : Nat → Int32} {G : GF} {p i fs : Nat} {sn : Option Nat} (hf : fs < 12) (hsn : ∀ s, sn = some s → s < 12) {R R' : Nat → Int32} (hR : AI R R') {h n : Nat} (hh : h < 12) (hn : n < 119) {f T : Nat → Int32} (hT : AI f T) : AI (mhF2 W G p i fs sn R h n f) (mhF2 W G p i fs sn R' h n T) := by
  have e := hR (121 * h + n) (by omega)
  cases sn with
  | none =>
    simp only [mhF2, e]
    exact soF_AI hT _ hf (by omega)
  | some s =>
    simp only [mhF2, e]
    exact soF_AI (soF_AI hT _ hf (by omega)) _ (hsn s rfl) (by omega)
theorem mhF1_AI {W : Nat → Int32} {G : GF} {p i fs : Nat} {sn : Option Nat} (hf : fs < 12) (hsn : ∀ s, sn = some s → s < 12) {R R' : Nat → Int32} (hR : AI R R') {h : Nat} (hh : h < 12) {f T : Nat → Int32} (hT : AI f T) : AI (mhF1 W G p i fs sn R h f) (mhF1 W G p i fs sn R' h T) := by
  unfold mhF1
  exact itr_rel (f := mhF2 W G p i fs sn R h) (g := mhF2 W G p i fs sn R' h) AI 119 (fun n a b hn q => mhF2_AI hf hsn hR hh hn q) 119 0 f T (by omega) hT
theorem mhT_AI {W : Nat → Int32} {G : GF} {p i fs : Nat} {sn : Option Nat} (h12 : hoN W ≤ 12) (hf : fs < 12) (hsn : ∀ s, sn = some s → s < 12) {R R' : Nat → Int32} (hR : AI R R') {f T : Nat → Int32} (hT : AI f T) : AI (mhT W G p i fs sn R f) (mhT W G p i fs sn R' T) := by
  unfold mhT
  exact itr_rel (f := mhF1 W G p i fs sn R) (g := mhF1 W G p i fs sn R') AI (hoN W) (fun h a b hh q => mhF1_AI hf hsn hR (by omega) q) (hoN W) 0 f T (by omega) hT
def hNt (G : GF) (i : Nat) : Nat := (gH G i).toNatClampNeg
def oNt (G : GF) (i : Nat) : Option Nat := if gO G i = -1 then none else some (gO G i).toNatClampNeg
/-- comings' holes are holes -/
def WG (G : GA) : Prop := ∀ i, i < G.1 → (gH G.2 i = nI (hNt G.2 i) ∧ hNt G.2 i < 12) ∧ (gO G.2 i = onI (oNt G.2 i) ∧ ∀ s, oNt G.2 i = some s → s < 12)
def boF (W : Nat → Int32) (G : GF) (p i : Nat) (T : Nat → Int32) : Nat → Int32 := if gR G i = 1 then T else match oNt G i with
  | none => mhT W G p i (hNt G i) none T T
  | some s => mhT W G p i s (some (hNt G i)) T (mhT W G p i (hNt G i) (some s) T T)
def bo0 (w : Nat) : Nat → Int32 := upd (fun _ => 1000000) (121 * w) 0
def moF (T : Nat → Int32) (h k : Nat) (m : Int32) : Int32 := if 1000000 ≤ T (121 * h + k) then m else mx32 m (nI k)
def moW (W : Nat → Int32) (T : Nat → Int32) : Int32 := itr (fun h m => itr (moF T h) 121 0 m) (hoN W) 0 0
/-- most hits in the first n comings -/
def boW (W : Nat → Int32) (p n : Nat) : Int32 := moW W (itr (boF W (dgF W) p) (min (dgM W) n) 0 (bo0 (nW W (96 + 5 * p + 4))))
def qbest (W : Nat → Int32) (p : Int32) : Int32 := if plW W p = true then boW W p.toNatClampNeg 60 else -2
def qahead (W : Nat → Int32) (p n : Int32) : Int32 := if plW W p = true ∧ inL n.toInt64 0 60 = true then boW W p.toNatClampNeg n.toNatClampNeg else -2
