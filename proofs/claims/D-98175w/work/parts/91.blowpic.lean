-- PART 91.blowpic
/-! ===== the class's blows: plain functions ===== -/
def fiI (v : Int32) (len : Nat) (f : Nat → Int32) : Nat → Int32 := itr (fun i F => upd F i v) len 0 f
def fiL (v : Int64) (len : Nat) (f : Nat → Int64) : Nat → Int64 := itr (fun i F => vp_updL F i v) len 0 f
theorem fiI_at {v : Int32} {len : Nat} {f : Nat → Int32} {j : Nat} (hj : j < len) : fiI v len f j = v := by
  have := itr_inv (fun i (F : Nat → Int32) => ∀ q, q < i → F q = v) (fun i F => upd F i v) len (fun i F _ h q hq => by
    by_cases e : q = i
    · rw [e, pk_us]
    · rw [pk_un e]; exact h q (by omega)) len 0 f (by omega) (fun q hq => absurd hq (Nat.not_lt_zero q))
  exact this j (by omega)
theorem fiL_at {v : Int64} {len : Nat} {f : Nat → Int64} {j : Nat} (hj : j < len) : fiL v len f j = v := by
  have := itr_inv (fun i (F : Nat → Int64) => ∀ q, q < i → F q = v) (fun i F => vp_updL F i v) len (fun i F _ h q hq => by
    by_cases e : q = i
    · rw [e, pk_uLs]
    · rw [pk_uLn e]; exact h q (by omega)) len 0 f (by omega) (fun q hq => absurd hq (Nat.not_lt_zero q))
  exact this j (by omega)
def misC (G : GF) (x z : Int32) (i : Nat) (t : BT) : Bool := !inL z.toInt64 (gF G i).toInt64 (gE G i).toInt64 || (!(decide (x = gH G i) || decide (x = gO G i)) || onB (t.2 i) x)
def hitC (G : GF) (x z lag : Int32) (i : Nat) (t : BT) : BT := ((t.1.1 + (1 - gR G i), t.1.2.1 + gR G i, t.1.2.2 + (if z - gF G i < lag then 1 else 0)), upd t.2 i (t.2 i ||| ((1 : Int32) <<< (x &&& 31))))
def skF (G : GF) (x z lag : Int32) (i : Nat) (t : BT) : BT := if misC G x z i t = true then t else hitC G x z lag i t
def skC (G : GA) (x z lag : Int32) (t : BT) : BT := itr (skF G.2 x z lag) G.1 0 t
/-- class's blows hold t -/
def BC (C : SC) (t : BT) (m : Nat) : Prop := C.1 17 = t.1.1 ∧ C.1 18 = t.1.2.1 ∧ C.1 19 = t.1.2.2 ∧ ∀ i, i < m → C.2.1 84 i = t.2 i
def CB (C C' : SC) : Prop := CK [17, 18, 19] [84] [] [] [] C C'
theorem CB.tr {C C' C'' : SC} (h : CB C C') (h' : CB C' C'') : CB C C'' := CK.tr h h'
theorem CB.ev {C C' : SC} {X : AH} {lo hi b : Nat} {A : BA} {W : Nat → Int32} (h : CB C C') (hE : EV C X lo hi b A W) : EV C' X lo hi b A W := CK.ev h (by decide) hE
theorem CB.g4 {C C' : SC} {X : AH} {G : GA} (h : CB C C') (hG : GM 3 16 17 18 C X G) : GM 3 16 17 18 C' X G := hG.to (h.1 3 (by decide)) (h.2.2.2.2 16 (by decide)) (h.2.1 17 (by decide)) (h.2.1 18 (by decide))
theorem CB.kc {C C' : SC} (h : CB C C') : KC C C' := CK.kc h (by decide) (by decide) (by decide) (by decide)
theorem hitC_BC {G : GA} {C C' : SC} {t : BT} {i : Nat} {x z lag : Int32} (hb : BC C t G.1) (h1 : C'.1 17 = C.1 17 + (1 - gR G.2 i)) (h2 : C'.1 18 = C.1 18 + gR G.2 i) (h3 : C'.1 19 = C.1 19 + (if z - gF G.2 i < lag then 1 else 0)) (h4 : C'.2.1 84 = upd (C.2.1 84) i (C.2.1 84 i ||| ((1 : Int32) <<< (x &&& 31)))) (hi : i < G.1) : BC C' (hitC G.2 x z lag i t) G.1 := by
  obtain ⟨b1, b2, b3, b4⟩ := hb
  refine ⟨by rw [h1, b1]; rfl, by rw [h2, b2]; rfl, by rw [h3, b3]; rfl, fun j hj => ?_⟩
  rw [h4]
  show upd _ _ _ j = upd t.2 i (t.2 i ||| _) j
  by_cases e : j = i
  · rw [e, pk_us, pk_us, b4 i hi]
  · rw [pk_un e, pk_un e]; exact b4 j hj
def blC (G : GA) (nu : LT) (s : Nat) (lag : Int32) (j : Nat) (t : BT) : BT := skC G (nu (60 * s + 2 * j)).toInt32 (nu (60 * s + (2 * j + 1))).toInt32 lag t
def blV (G : GA) (nu : LT) (s m : Nat) (lag : Int32) : BT := itr (blC G nu s lag) (m / 2) 0 bl0
