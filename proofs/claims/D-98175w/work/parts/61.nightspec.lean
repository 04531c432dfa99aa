-- PART 61.nightspec
/-! ===== nights drawn: plain functions ===== -/
def rm64 (x y : Int64) : Int64 := x - x / y * y
def drD (v : Int64) : Int64 := rm64 (1103515245 * v + 12345) 2147483648
def drN (v : Int64) (n : Int32) : Int32 := (rm64 (drD v / 65536) n.toInt64).toInt32
def leP (W : Nat → Int32) (law one two : Int32) (h : Nat) : Bool := leW W law (nI h) one two
def leC (W : Nat → Int32) (law one two : Int32) : Int32 := itr (ctF (leP W law one two)) (hoN W) 0 0
def pkK (p : Nat → Bool) : Nat → Nat → Int32 → Int32
  | 0, _, _ => -1
  | k + 1, h, left => if p h = true then (if left = 0 then nI h else pkK p k (h + 1) (left - 1)) else pkK p k (h + 1) left
/-- holes of a night so far, by its number; who comes behind one and two of them -/
def onN (f : Nat → Int32) (m : Nat) : Int32 := if m < 1 then -1 else f (m - 1)
def twN (f : Nat → Int32) (m : Nat) : Int32 := if m < 2 then -1 else f (m - 2)
def hbV (W : Nat → Int32) (law one two : Int32) (v : Int64) : Int32 := if leC W law one two = 0 then -1 else pkK (leP W law one two) (hoN W) 0 (drN v (leC W law one two))
def hbD (W : Nat → Int32) (law one two : Int32) (v : Int64) : Int64 := if leC W law one two = 0 then v else drD v
def niF (W : Nat → Int32) (f : Nat → Int32) : GF := (f, fun _ => -1, fun _ => 0, gT W, gTe W)
abbrev NT : Type := Nat × (Nat → Int32) × Int64
def niR (W : Nat → Int32) (law : Int32) : Nat → NT → Nat × (Nat → Int32)
  | 0, t => (t.1, t.2.1)
  | k + 1, t => if mayK W t.1 = true then (if hbV W law (onN t.2.1 t.1) (twN t.2.1 t.1) t.2.2 = -1 then (t.1, t.2.1) else niR W law k (t.1 + 1, upd t.2.1 t.1 (hbV W law (onN t.2.1 t.1) (twN t.2.1 t.1) t.2.2), hbD W law (onN t.2.1 t.1) (twN t.2.1 t.1) t.2.2)) else (t.1, t.2.1)
def niW (W : Nat → Int32) (law : Int32) (v : Int64) : GA := ((niR W law 60 (0, (fun _ => 0), v)).1, niF W (niR W law 60 (0, (fun _ => 0), v)).2)
def seB (x : Int32) : Bool := inI x 0 2000000000
def qdrawn (W : Nat → Int32) (seed law i : Int32) : Int32 := if bdW W = true ∧ (seB seed = true ∧ laL law = true) then (if inI i 0 (nI (niW W law seed.toInt64).1 - 1) = true then gH (niW W law seed.toInt64).2 i.toNatClampNeg else -1) else -2
def ngV (W : Nat → Int32) (law : Int32) (p : Nat) (v : Int64) : Int32 := nI (tSt (ruW W (niW W law v) (tpW W p)))
def qnight (W : Nat → Int32) (seed law p : Int32) : Int32 := if seB seed = true ∧ (laL law = true ∧ plW W p = true) then ngV W law p.toNatClampNeg seed.toInt64 else -2
def yeF (W : Nat → Int32) (law : Int32) (p : Nat) (seed : Int32) (k : Nat) (a : Int32) : Int32 := a + ngV W law p (seed.toInt64 + (nI k).toInt64)
def qyears (W : Nat → Int32) (seed n law p : Int32) : Int32 := if seB seed = true ∧ (inL n.toInt64 1 20 = true ∧ (laL law = true ∧ plW W p = true)) then itr (yeF W law p.toNatClampNeg seed) n.toNatClampNeg 0 0 else -2
theorem n64_0 {x : Int32} (h : ¬ x = 0) : ¬ x.toInt64 = 0 := fun q => h (by
  have := congrArg Int64.toInt q
  rw [Int32.toInt_toInt64] at this
  exact Int32.toInt_inj.mp this)
theorem GS.nt2 {S : SM} {W f : Nat → Int32} {m : Nat} (hg : GS S (m, niF W f)) (hw : wd S = W) : ntS m S = gT W m := by
  unfold ntS
  by_cases h : m = 0
  · rw [if_pos h, h]; rfl
  · rw [if_neg h, hw]
    obtain ⟨j, rfl⟩ : ∃ j, m = j + 1 := ⟨m - 1, by omega⟩
    have := (hg.2.2 j (Nat.lt_succ_self j)).2.2
    rw [Nat.add_sub_cancel, this]
    rfl
theorem mayS_N {S : SM} {W f : Nat → Int32} {m : Nat} (hg : GS S (m, niF W f)) (hw : wd S = W) : mayS m S = mayK W m := by
  unfold mayS mayK
  rw [hg.nt2 hw, hw]
  congr 1
  rw [hg.1, decide_eq_decide]
  exact nI_ltI (b := 60) (by have := hg.2.1; have : m ≤ 60 := this; omega) (by omega)
theorem GS.up {S : SM} {W f : Nat → Int32} {m : Nat} (hg : GS S (m, niF W f)) (x : Int32) : GS S (m, niF W (upd f m x)) := ⟨hg.1, hg.2.1, fun i hi => by
  have hi : i < m := hi
  obtain ⟨⟨a, b, c⟩, d, e⟩ := hg.2.2 i hi
  exact ⟨⟨by rw [a]; show f i = upd f m x i; rw [pk_un (by omega)], b, c⟩, d, e⟩⟩
theorem GS.sD {S : SM} {G : GA} (h : GS S G) (v : Int64) : GS (sD v S) G := h
