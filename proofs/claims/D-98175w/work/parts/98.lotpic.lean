-- PART 98.lotpic
/-! ===== the class's lots: plain functions, how they lie ===== -/
abbrev LQ : Type := Nat → Nat → Int64
def up2 (T : LQ) (h a : Nat) (v : Int64) : LQ := va_up T h (vp_updL (T h) a v)
def fz (f : Nat) : Int32 := if f = 12 then -1 else nI f
def s3 (W : Nat → Int32) (law : Int32) (a f : Nat) (m : Int64) (h : Nat) (T : LQ) : LQ := if leW W law (nI h) (nI a) (fz f) = true then up2 T h a (T h a + m) else T
def s2 (W : Nat → Int32) (law : Int32) (R : LQ) (a f : Nat) (T : LQ) : LQ := if R a f = 0 then T else itr (s3 W law a f (R a f)) (hoN W) 0 T
def s1 (W : Nat → Int32) (law : Int32) (R : LQ) (a : Nat) (T : LQ) : LQ := itr (s2 W law R a) 13 0 T
def sT (W : Nat → Int32) (law : Int32) (R : LQ) : LQ := itr (s1 W law R) (hoN W) 0 (fun _ _ => 0)
def r1 (W : Nat → Int32) : LQ := fun h f => if f = 12 ∧ h < hoN W ∧ shW W (nI h) = false then 1 else 0
def rO (W : Nat → Int32) (law : Int32) (n : Nat) : LQ := itr (fun _ R => sT W law R) (n - 1) 1 (r1 W)
def enC (T : LQ) (h : Nat) : Int64 := itr (fun f s => s + T h f) 13 0 0
def alC (W : Nat → Int32) (T : LQ) : Int64 := itr (fun h s => s + enC T h) (hoN W) 0 0
def evC (W : Nat → Int32) (T : LQ) : Nat → Nat → Int64 → Bool
  | 0, _, _ => true
  | k + 1, i, s => if shW W (nI i) = true then evC W T k (i + 1) s else if ¬ s = -1 ∧ ¬ enC T i = s then false else evC W T k (i + 1) (enC T i)
def faC (W : Nat → Int32) (law : Int32) : Nat → Nat → Bool
  | 0, _ => true
  | k + 1, n => if evC W (rO W law n) (hoN W) 0 (-1) = true then faC W law k (n + 1) else false
def rows0 (W : Nat → Int32) (law n : Int32) : Int64 := if bdW W = true ∧ (laL law = true ∧ inL n.toInt64 1 12 = true) then alC W (rO W law n.toNatClampNeg) else -2
def ends0 (W : Nat → Int32) (law n h : Int32) : Int64 := if hlL W h.toInt64 = true ∧ (laL law = true ∧ inL n.toInt64 1 12 = true) then enC (rO W law n.toNatClampNeg) h.toNatClampNeg else -2
def fair0 (W : Nat → Int32) (law : Int32) : Int32 := if bdW W = true ∧ laL law = true then b2i (faC W law 12 1) else -2
/-- where they lie: b = 58 rows, b = 71 then -/
def LC (b : Nat) (C : SC) (T : LQ) : Prop := ∀ h, h < 12 → ∀ f, f < 13 → C.2.2.1 (b + h) f = T h f
/-- only long arrays changed -/
def CLt (C C' : SC) : Prop := C'.1 = C.1 ∧ C'.2.1 = C.2.1 ∧ C'.2.2.2 = C.2.2.2
theorem CLt.rf (C : SC) : CLt C C := ⟨rfl, rfl, rfl⟩
theorem CLt.tr {C C' C'' : SC} (h : CLt C C') (h' : CLt C' C'') : CLt C C'' := ⟨h'.1.trans h.1, h'.2.1.trans h.2.1, h'.2.2.trans h.2.2⟩
theorem CLt.ev {C C' : SC} {X : AH} {lo hi b : Nat} {A : BA} {W : Nat → Int32} (h : CLt C C') (hE : EV C X lo hi b A W) : EV C' X lo hi b A W := hE.to (by rw [h.2.2])
theorem CLt.kc {C C' : SC} (h : CLt C C') : KC C C' := ⟨by rw [h.1]; exact ⟨rfl, rfl, rfl⟩, by rw [h.2.1], fun k _ => by rw [h.2.2], by rw [h.2.2]⟩
theorem up2_at (T : LQ) (h a : Nat) (v : Int64) (h' f : Nat) : up2 T h a v h' f = if h' = h ∧ f = a then v else T h' f := by
  unfold up2 va_up vp_updL
  by_cases q : h' = h
  · subst q
    by_cases q2 : f = a
    · rw [if_pos rfl, if_pos q2, if_pos ⟨rfl, q2⟩]
    · rw [if_pos rfl, if_neg q2, if_neg (fun z => q2 z.2)]
  · rw [if_neg q, if_neg (fun z => q z.1)]
theorem cL_at (j i : Nat) (v : Int64) (C : SC) (j' i' : Nat) : (cL j i v C).2.2.1 j' i' = if j' = j ∧ i' = i then v else C.2.2.1 j' i' := up2_at C.2.2.1 j i v j' i'
theorem cLs_at (j : Nat) (f : Nat → Int64) (C : SC) (j' : Nat) : (cLs j f C).2.2.1 j' = if j' = j then f else C.2.2.1 j' := rfl
theorem LC.w71 {C : SC} {T : LQ} (h : LC 71 C T) (q a : Nat) (v : Int64) : LC 71 (cL (71 + q) a v C) (up2 T q a v) := fun h' hh f hf => by
  rw [cL_at, up2_at, h h' hh f hf]
  by_cases e : h' = q ∧ f = a
  · rw [if_pos e, if_pos ⟨by omega, e.2⟩]
  · rw [if_neg e, if_neg (fun z => e ⟨by omega, z.2⟩)]
theorem LC.k58 {C : SC} {R : LQ} (h : LC 58 C R) {q : Nat} (a : Nat) (v : Int64) : LC 58 (cL (71 + q) a v C) R := fun h' hh f hf => by
  rw [cL_at, if_neg (by omega)]
  exact h h' hh f hf
theorem LC.k58s {C : SC} {R : LQ} (h : LC 58 C R) {q : Nat} (F : Nat → Int64) : LC 58 (cLs (71 + q) F C) R := fun h' hh f hf => by
  rw [cLs_at, if_neg (by omega)]
  exact h h' hh f hf
theorem LC.k71s {C : SC} {R : LQ} (h : LC 71 C R) {q : Nat} (hq : q < 12) (F : Nat → Int64) : LC 71 (cLs (58 + q) F C) R := fun h' hh f hf => by
  rw [cLs_at, if_neg (by omega)]
  exact h h' hh f hf
theorem s3_t {W : Nat → Int32} {law : Int32} {a f : Nat} {m : Int64} {h : Nat} {T : LQ} (q : leW W law (nI h) (nI a) (fz f) = true) : s3 W law a f m h T = up2 T h a (T h a + m) := if_pos q
theorem s3_f {W : Nat → Int32} {law : Int32} {a f : Nat} {m : Int64} {h : Nat} {T : LQ} (q : leW W law (nI h) (nI a) (fz f) = false) : s3 W law a f m h T = T := if_neg (by rw [q]; decide)
theorem fz_12 : fz 12 = -1 := rfl
theorem fz_n {f : Nat} (h : ¬ f = 12) : fz f = nI f := if_neg h
theorem rO_s (W : Nat → Int32) (law : Int32) (n : Nat) (h : 1 ≤ n) : rO W law (n + 1) = sT W law (rO W law n) := by
  unfold rO
  rw [show n + 1 - 1 = (n - 1) + 1 by omega, itr_snoc]
theorem cn_at {n a i : Nat} (h : i < n) : va_rf (cn_ n a i) = .ref (a + i) := by
  rw [show cn_ n a i = some (a + i) from if_pos h]
  rfl
