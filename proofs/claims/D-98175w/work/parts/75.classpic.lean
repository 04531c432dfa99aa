/-! ===== the class: its fixed cells overlaid by a state C; boards, lists, what is held are told by lookups in X ===== -/
set_option maxRecDepth 100000
abbrev SC : Type := (Nat → Int32) × (Nat → Nat → Int32) × (Nat → Nat → Int64) × (Nat → Option Nat) × (Nat → Nat → Option Nat) × Int64
def cn_ (n a : Nat) : Nat → Option Nat := fun i => if i < n then some (a + i) else none
def cce (C : SC) : List (Option AE) := [some (.inr (0, [.ref 1, va_rf (C.2.2.2.1 0), .ref 13, .ref 14, .int (C.1 0), .int (C.1 1), .int (C.1 2), .ref 15, .ref 19, .ref 24, .ref 29, .ref 56, .ref 83])), some (.inl (5, 4, .inr (.inr (cn_ 4 2)))), some (.inr (1, [va_rf (C.2.2.2.1 2)])), some (.inr (1, [va_rf (C.2.2.2.1 3)])), some (.inr (1, [va_rf (C.2.2.2.1 4)])), some (.inr (1, [va_rf (C.2.2.2.1 5)])), none, none, none, none, none, none, none, some (.inl (7, 3, .inr (.inr (C.2.2.2.2.1 13)))), some (.inl (1, 1200, .inl (C.2.1 14))), some (.inr (4, [.ref 16, .ref 17, .ref 18, .int (C.1 3), .ref 0, .ref 0])), some (.inl (8, 60, .inr (.inr (C.2.2.2.2.1 16)))), some (.inl (0, 60, .inl (C.2.1 17))), some (.inl (0, 60, .inl (C.2.1 18))), some (.inr (5, [.ref 20, .ref 21, .ref 22, .int (C.1 4), .ref 0, .ref 23, .int (C.1 5), .long C.2.2.2.2.2, .ref 0])), some (.inl (8, 60, .inr (.inr (C.2.2.2.2.1 20)))), some (.inl (0, 60, .inl (C.2.1 21))), some (.inl (0, 60, .inl (C.2.1 22))), some (.inl (0, 60, .inl (C.2.1 23))), some (.inr (6, [.ref 25, .ref 26, .ref 27, .ref 28, va_rf (C.2.2.2.1 24), .int (C.1 6), .int (C.1 7), .int (C.1 8), .int (C.1 9), .int (C.1 10), .int (C.1 11), .int (C.1 12), .int (C.1 13), .int (C.1 14), .int (C.1 15), .int (C.1 16), .ref 0])), some (.inl (0, 60, .inl (C.2.1 25))), some (.inl (0, 60, .inl (C.2.1 26))), some (.inl (0, 120, .inl (C.2.1 27))), some (.inl (0, 120, .inl (C.2.1 28))), some (.inr (7, [.ref 30, .ref 43, va_rf (C.2.2.2.1 29), va_rf (C.2.2.2.1 30), .ref 0])), some (.inl (9, 12, .inr (.inr (cn_ 12 31)))), some (.inl (0, 121, .inl (C.2.1 31))), some (.inl (0, 121, .inl (C.2.1 32))), some (.inl (0, 121, .inl (C.2.1 33))), some (.inl (0, 121, .inl (C.2.1 34))), some (.inl (0, 121, .inl (C.2.1 35))), some (.inl (0, 121, .inl (C.2.1 36))), some (.inl (0, 121, .inl (C.2.1 37))), some (.inl (0, 121, .inl (C.2.1 38))), some (.inl (0, 121, .inl (C.2.1 39))), some (.inl (0, 121, .inl (C.2.1 40))), some (.inl (0, 121, .inl (C.2.1 41))), some (.inl (0, 121, .inl (C.2.1 42))), some (.inl (9, 12, .inr (.inr (cn_ 12 44)))), some (.inl (0, 121, .inl (C.2.1 44))), some (.inl (0, 121, .inl (C.2.1 45))), some (.inl (0, 121, .inl (C.2.1 46))), some (.inl (0, 121, .inl (C.2.1 47))), some (.inl (0, 121, .inl (C.2.1 48))), some (.inl (0, 121, .inl (C.2.1 49))), some (.inl (0, 121, .inl (C.2.1 50))), some (.inl (0, 121, .inl (C.2.1 51))), some (.inl (0, 121, .inl (C.2.1 52))), some (.inl (0, 121, .inl (C.2.1 53))), some (.inl (0, 121, .inl (C.2.1 54))), some (.inl (0, 121, .inl (C.2.1 55))), some (.inr (8, [.ref 57, .ref 70, .ref 0])), some (.inl (10, 12, .inr (.inr (cn_ 12 58)))), some (.inl (3, 13, .inr (.inl (C.2.2.1 58)))), some (.inl (3, 13, .inr (.inl (C.2.2.1 59)))), some (.inl (3, 13, .inr (.inl (C.2.2.1 60)))), some (.inl (3, 13, .inr (.inl (C.2.2.1 61)))), some (.inl (3, 13, .inr (.inl (C.2.2.1 62)))), some (.inl (3, 13, .inr (.inl (C.2.2.1 63)))), some (.inl (3, 13, .inr (.inl (C.2.2.1 64)))), some (.inl (3, 13, .inr (.inl (C.2.2.1 65)))), some (.inl (3, 13, .inr (.inl (C.2.2.1 66)))), some (.inl (3, 13, .inr (.inl (C.2.2.1 67)))), some (.inl (3, 13, .inr (.inl (C.2.2.1 68)))), some (.inl (3, 13, .inr (.inl (C.2.2.1 69)))), some (.inl (10, 12, .inr (.inr (cn_ 12 71)))), some (.inl (3, 13, .inr (.inl (C.2.2.1 71)))), some (.inl (3, 13, .inr (.inl (C.2.2.1 72)))), some (.inl (3, 13, .inr (.inl (C.2.2.1 73)))), some (.inl (3, 13, .inr (.inl (C.2.2.1 74)))), some (.inl (3, 13, .inr (.inl (C.2.2.1 75)))), some (.inl (3, 13, .inr (.inl (C.2.2.1 76)))), some (.inl (3, 13, .inr (.inl (C.2.2.1 77)))), some (.inl (3, 13, .inr (.inl (C.2.2.1 78)))), some (.inl (3, 13, .inr (.inl (C.2.2.1 79)))), some (.inl (3, 13, .inr (.inl (C.2.2.1 80)))), some (.inl (3, 13, .inr (.inl (C.2.2.1 81)))), some (.inl (3, 13, .inr (.inl (C.2.2.1 82)))), some (.inr (9, [.ref 84, .int (C.1 17), .int (C.1 18), .int (C.1 19), .ref 0])), some (.inl (0, 60, .inl (C.2.1 84)))]
def ovl : List (Option AE) → AH → AH
  | some e :: t, _ :: x => e :: ovl t x
  | none :: t, a :: x => a :: ovl t x
  | [], x => x
  | _, [] => []
theorem ovl_nil (l : List (Option AE)) : ovl l [] = [] := by cases l with | nil => rfl | cons a t => cases a <;> rfl
theorem ovl_len : ∀ (l : List (Option AE)) (x : AH), (ovl l x).length = x.length := by
  intro l
  induction l with
  | nil => intro x; rfl
  | cons a t ih =>
    intro x
    cases x with
    | nil => cases a <;> rfl
    | cons b x => cases a <;> simp [ovl, ih]
theorem ovl_some : ∀ (l : List (Option AE)) (x : AH) (i : Nat) (e : AE), l[i]? = some (some e) → i < x.length → (ovl l x)[i]? = some e := by
  intro l
  induction l with
  | nil => intro x i e h; cases h
  | cons a t ih =>
    intro x i e h hx
    cases x with
    | nil => cases hx
    | cons b x =>
      cases i with
      | zero =>
        cases a with
        | none => cases h
        | some w => exact Option.some.inj h
      | succ i => cases a <;> exact ih x i e h (Nat.lt_of_succ_lt_succ hx)
theorem ovl_none : ∀ (l : List (Option AE)) (x : AH) (i : Nat), (∀ e, l[i]? ≠ some (some e)) → (ovl l x)[i]? = x[i]? := by
  intro l
  induction l with
  | nil => intro x i h; rfl
  | cons a t ih =>
    intro x i h
    cases x with
    | nil => rw [ovl_nil]
    | cons b x =>
      cases i with
      | zero =>
        cases a with
        | none => rfl
        | some w => exact absurd rfl (h w)
      | succ i => cases a <;> exact ih x i h
theorem ovl_app : ∀ (l : List (Option AE)) (x z : AH), l.length ≤ x.length → ovl l (x ++ z) = ovl l x ++ z := by
  intro l
  induction l with
  | nil => intro x z _; rfl
  | cons a t ih =>
    intro x z h
    cases x with
    | nil => exact absurd h (by simp)
    | cons b x => cases a <;> simp [ovl, ih x z (Nat.le_of_succ_le_succ h)]
theorem ovl_set : ∀ (l : List (Option AE)) (x : AH) (i : Nat) (e e' : AE), l[i]? = some (some e) → (ovl l x).set i e' = ovl (l.set i (some e')) x := by
  intro l
  induction l with
  | nil => intro x i e e' h; cases h
  | cons a t ih =>
    intro x i e e' h
    cases x with
    | nil => rw [ovl_nil, ovl_nil]; rfl
    | cons b x =>
      cases i with
      | zero =>
        cases a with
        | none => cases h
        | some w => rfl
      | succ i => cases a <;> simp [ovl, ih x i e e' h]
theorem ovl_put : ∀ (l : List (Option AE)) (x : AH) (i : Nat) (e' : AE), (∀ e, l[i]? ≠ some (some e)) → (ovl l x).set i e' = ovl l (x.set i e') := by
  intro l
  induction l with
  | nil => intro x i e' h; rfl
  | cons a t ih =>
    intro x i e' h
    cases x with
    | nil => rw [ovl_nil]; exact (ovl_nil _).symm
    | cons b x =>
      cases i with
      | zero =>
        cases a with
        | none => rfl
        | some w => exact absurd rfl (h w)
      | succ i => cases a <;> simp [ovl, ih x i e' h]
def cla (C : SC) (S : SM) : List (Option AE) := cce C ++ (mce 85 S).map some
def cH (C : SC) (S : SM) (X : AH) : AH := ovl (cla C S) X
/-- a cell that is not fixed -/
def dyn (a : Nat) : Prop := (5 < a ∧ a < 13) ∨ 107 < a
def cF (k : Nat) (v : Int32) (C : SC) : SC := (upd C.1 k v, C.2)
def cA (j i : Nat) (v : Int32) (C : SC) : SC := (C.1, va_up C.2.1 j (upd (C.2.1 j) i v), C.2.2)
def cL (j i : Nat) (v : Int64) (C : SC) : SC := (C.1, C.2.1, va_up C.2.2.1 j (vp_updL (C.2.2.1 j) i v), C.2.2.2)
def cR (k : Nat) (r : Option Nat) (C : SC) : SC := (C.1, C.2.1, C.2.2.1, va_up C.2.2.2.1 k r, C.2.2.2.2)
def cM (j i : Nat) (r : Option Nat) (C : SC) : SC := (C.1, C.2.1, C.2.2.1, C.2.2.2.1, va_up C.2.2.2.2.1 j (va_up (C.2.2.2.2.1 j) i r), C.2.2.2.2.2)
def cX (v : Int64) (C : SC) : SC := (C.1, C.2.1, C.2.2.1, C.2.2.2.1, C.2.2.2.2.1, v)
/-- an array's contents as a whole -/
def cAs (j : Nat) (f : Nat → Int32) (C : SC) : SC := (C.1, va_up C.2.1 j f, C.2.2)
def cLs (j : Nat) (f : Nat → Int64) (C : SC) : SC := (C.1, C.2.1, va_up C.2.2.1 j f, C.2.2.2)
section CC
variable {C : SC} {S : SM} {X : AH}
theorem cH_len : (cH C S X).length = X.length := ovl_len _ _
theorem cla_len : (cla C S).length = 108 := rfl
theorem cH_fix {i : Nat} {e : AE} (hi : i < 85) (h : (cce C)[i]? = some (some e)) (hX : 108 ≤ X.length) : (cH C S X)[i]? = some e :=
  ovl_some _ _ _ _ ((List.getElem?_append_left (show i < (cce C).length from hi)).trans h) (by omega)
theorem cH_put {i : Nat} {e e' : AE} {C' : SC} (hi : i < 85) (h : (cce C)[i]? = some (some e)) (h2 : (cce C).set i (some e') = cce C') : (cH C S X).set i e' = cH C' S X := by
  unfold cH cla
  rw [ovl_set _ _ _ _ _ ((List.getElem?_append_left (show i < (cce C).length from hi)).trans h)]
  rw [List.set_append_left _ _ (show i < (cce C).length from hi), h2]
theorem cla_dyn {a : Nat} (h : dyn a) : ∀ e, (cla C S)[a]? ≠ some (some e) := by
  intro e q
  rcases h with ⟨h1, h2⟩ | h
  · match a, h1, h2 with
    | 6, _, _ => cases q
    | 7, _, _ => cases q
    | 8, _, _ => cases q
    | 9, _, _ => cases q
    | 10, _, _ => cases q
    | 11, _, _ => cases q
    | 12, _, _ => cases q
  · rw [List.getElem?_eq_none (by rw [cla_len]; omega)] at q
    cases q
theorem cH_dyn {a : Nat} (h : dyn a) : (cH C S X)[a]? = X[a]? := ovl_none _ _ _ (cla_dyn h)
theorem cH_dset {a : Nat} {e : AE} (h : dyn a) : (cH C S X).set a e = cH C S (X.set a e) := ovl_put _ _ _ _ (cla_dyn h)
theorem cH_app {Z : AH} (hX : 108 ≤ X.length) : cH C S X ++ Z = cH C S (X ++ Z) := (ovl_app _ _ _ (by rw [cla_len]; exact hX)).symm
/-- the model's view -/
theorem cH_mH (hX : 108 ≤ X.length) : cH C S X = mH 85 ((cH C S X).take 85) S (X.drop 108) := by
  apply List.ext_getElem?
  intro i
  unfold mH
  have hl : ((cH C S X).take 85).length = 85 := by rw [List.length_take, cH_len]; omega
  by_cases h1 : i < 85
  · rw [List.getElem?_append_left (by omega), List.getElem?_take_of_lt h1]
  · rw [List.getElem?_append_right (by omega), hl]
    have hm : (mce 85 S).length = 23 := rfl
    by_cases h2 : i < 108
    · rw [List.getElem?_append_left (by omega)]
      have h3 : i - 85 < (mce 85 S).length := by omega
      have e1 : (cla C S)[i]? = some (some ((mce 85 S)[i - 85])) := by
        unfold cla
        rw [List.getElem?_append_right (show (cce C).length ≤ i by show 85 ≤ i; omega), List.getElem?_map, show (cce C).length = 85 from rfl, List.getElem?_eq_getElem h3]
        rfl
      rw [show (cH C S X)[i]? = some ((mce 85 S)[i - 85]) from ovl_some _ _ _ _ e1 (by omega), List.getElem?_eq_getElem h3]
    · rw [List.getElem?_append_right (by omega), hm, List.getElem?_drop, cH_dyn (Or.inr (by omega))]
      congr 1
      omega
theorem mH_cH (hX : 108 ≤ X.length) {S' : SM} : mH 85 ((cH C S X).take 85) S' (X.drop 108) = cH C S' X := by
  rw [cH_mH (S := S') hX]
  congr 1
  apply List.ext_getElem?
  intro i
  by_cases h1 : i < 85
  · rw [List.getElem?_take_of_lt h1, List.getElem?_take_of_lt h1]
    by_cases h2 : dyn i
    · rw [cH_dyn h2, cH_dyn h2]
    · cases hc : (cce C)[i]? with
      | none => exact absurd (List.getElem?_eq_none_iff.mp hc) (by show ¬ 85 ≤ i; omega)
      | some w =>
        cases w with
        | none =>
          have hn : ∀ (T : SM) (e : AE), (cla C T)[i]? ≠ some (some e) := fun T e q => by
            rw [show (cla C T)[i]? = (cce C)[i]? from List.getElem?_append_left (show i < (cce C).length from h1), hc] at q
            cases q
          rw [show (cH C S X)[i]? = X[i]? from ovl_none _ _ _ (hn S), show (cH C S' X)[i]? = X[i]? from ovl_none _ _ _ (hn S')]
        | some e => rw [cH_fix h1 hc hX, cH_fix h1 hc hX]
  · rw [List.getElem?_eq_none (by rw [List.length_take]; omega), List.getElem?_eq_none (by rw [List.length_take]; omega)]
theorem cg_0 (hX : 108 ≤ X.length) : (cH C S X)[0]? = some (.inr (0, [.ref 1, va_rf (C.2.2.2.1 0), .ref 13, .ref 14, .int (C.1 0), .int (C.1 1), .int (C.1 2), .ref 15, .ref 19, .ref 24, .ref 29, .ref 56, .ref 83])) := cH_fix (by decide) rfl hX
theorem cg_1 (hX : 108 ≤ X.length) : (cH C S X)[1]? = some (.inl (5, 4, .inr (.inr (cn_ 4 2)))) := cH_fix (by decide) rfl hX
theorem cg_2 (hX : 108 ≤ X.length) : (cH C S X)[2]? = some (.inr (1, [va_rf (C.2.2.2.1 2)])) := cH_fix (by decide) rfl hX
theorem cg_3 (hX : 108 ≤ X.length) : (cH C S X)[3]? = some (.inr (1, [va_rf (C.2.2.2.1 3)])) := cH_fix (by decide) rfl hX
theorem cg_4 (hX : 108 ≤ X.length) : (cH C S X)[4]? = some (.inr (1, [va_rf (C.2.2.2.1 4)])) := cH_fix (by decide) rfl hX
theorem cg_5 (hX : 108 ≤ X.length) : (cH C S X)[5]? = some (.inr (1, [va_rf (C.2.2.2.1 5)])) := cH_fix (by decide) rfl hX
theorem cg_13 (hX : 108 ≤ X.length) : (cH C S X)[13]? = some (.inl (7, 3, .inr (.inr (C.2.2.2.2.1 13)))) := cH_fix (by decide) rfl hX
theorem cg_14 (hX : 108 ≤ X.length) : (cH C S X)[14]? = some (.inl (1, 1200, .inl (C.2.1 14))) := cH_fix (by decide) rfl hX
theorem cg_15 (hX : 108 ≤ X.length) : (cH C S X)[15]? = some (.inr (4, [.ref 16, .ref 17, .ref 18, .int (C.1 3), .ref 0, .ref 0])) := cH_fix (by decide) rfl hX
theorem cg_16 (hX : 108 ≤ X.length) : (cH C S X)[16]? = some (.inl (8, 60, .inr (.inr (C.2.2.2.2.1 16)))) := cH_fix (by decide) rfl hX
theorem cg_17 (hX : 108 ≤ X.length) : (cH C S X)[17]? = some (.inl (0, 60, .inl (C.2.1 17))) := cH_fix (by decide) rfl hX
theorem cg_18 (hX : 108 ≤ X.length) : (cH C S X)[18]? = some (.inl (0, 60, .inl (C.2.1 18))) := cH_fix (by decide) rfl hX
theorem cg_19 (hX : 108 ≤ X.length) : (cH C S X)[19]? = some (.inr (5, [.ref 20, .ref 21, .ref 22, .int (C.1 4), .ref 0, .ref 23, .int (C.1 5), .long C.2.2.2.2.2, .ref 0])) := cH_fix (by decide) rfl hX
theorem cg_20 (hX : 108 ≤ X.length) : (cH C S X)[20]? = some (.inl (8, 60, .inr (.inr (C.2.2.2.2.1 20)))) := cH_fix (by decide) rfl hX
theorem cg_21 (hX : 108 ≤ X.length) : (cH C S X)[21]? = some (.inl (0, 60, .inl (C.2.1 21))) := cH_fix (by decide) rfl hX
theorem cg_22 (hX : 108 ≤ X.length) : (cH C S X)[22]? = some (.inl (0, 60, .inl (C.2.1 22))) := cH_fix (by decide) rfl hX
theorem cg_23 (hX : 108 ≤ X.length) : (cH C S X)[23]? = some (.inl (0, 60, .inl (C.2.1 23))) := cH_fix (by decide) rfl hX
theorem cg_24 (hX : 108 ≤ X.length) : (cH C S X)[24]? = some (.inr (6, [.ref 25, .ref 26, .ref 27, .ref 28, va_rf (C.2.2.2.1 24), .int (C.1 6), .int (C.1 7), .int (C.1 8), .int (C.1 9), .int (C.1 10), .int (C.1 11), .int (C.1 12), .int (C.1 13), .int (C.1 14), .int (C.1 15), .int (C.1 16), .ref 0])) := cH_fix (by decide) rfl hX
theorem cg_25 (hX : 108 ≤ X.length) : (cH C S X)[25]? = some (.inl (0, 60, .inl (C.2.1 25))) := cH_fix (by decide) rfl hX
theorem cg_26 (hX : 108 ≤ X.length) : (cH C S X)[26]? = some (.inl (0, 60, .inl (C.2.1 26))) := cH_fix (by decide) rfl hX
theorem cg_27 (hX : 108 ≤ X.length) : (cH C S X)[27]? = some (.inl (0, 120, .inl (C.2.1 27))) := cH_fix (by decide) rfl hX
theorem cg_28 (hX : 108 ≤ X.length) : (cH C S X)[28]? = some (.inl (0, 120, .inl (C.2.1 28))) := cH_fix (by decide) rfl hX
theorem cg_29 (hX : 108 ≤ X.length) : (cH C S X)[29]? = some (.inr (7, [.ref 30, .ref 43, va_rf (C.2.2.2.1 29), va_rf (C.2.2.2.1 30), .ref 0])) := cH_fix (by decide) rfl hX
theorem cg_30 (hX : 108 ≤ X.length) : (cH C S X)[30]? = some (.inl (9, 12, .inr (.inr (cn_ 12 31)))) := cH_fix (by decide) rfl hX
theorem cg_31 (hX : 108 ≤ X.length) : (cH C S X)[31]? = some (.inl (0, 121, .inl (C.2.1 31))) := cH_fix (by decide) rfl hX
theorem cg_32 (hX : 108 ≤ X.length) : (cH C S X)[32]? = some (.inl (0, 121, .inl (C.2.1 32))) := cH_fix (by decide) rfl hX
theorem cg_33 (hX : 108 ≤ X.length) : (cH C S X)[33]? = some (.inl (0, 121, .inl (C.2.1 33))) := cH_fix (by decide) rfl hX
theorem cg_34 (hX : 108 ≤ X.length) : (cH C S X)[34]? = some (.inl (0, 121, .inl (C.2.1 34))) := cH_fix (by decide) rfl hX
theorem cg_35 (hX : 108 ≤ X.length) : (cH C S X)[35]? = some (.inl (0, 121, .inl (C.2.1 35))) := cH_fix (by decide) rfl hX
theorem cg_36 (hX : 108 ≤ X.length) : (cH C S X)[36]? = some (.inl (0, 121, .inl (C.2.1 36))) := cH_fix (by decide) rfl hX
theorem cg_37 (hX : 108 ≤ X.length) : (cH C S X)[37]? = some (.inl (0, 121, .inl (C.2.1 37))) := cH_fix (by decide) rfl hX
theorem cg_38 (hX : 108 ≤ X.length) : (cH C S X)[38]? = some (.inl (0, 121, .inl (C.2.1 38))) := cH_fix (by decide) rfl hX
theorem cg_39 (hX : 108 ≤ X.length) : (cH C S X)[39]? = some (.inl (0, 121, .inl (C.2.1 39))) := cH_fix (by decide) rfl hX
theorem cg_40 (hX : 108 ≤ X.length) : (cH C S X)[40]? = some (.inl (0, 121, .inl (C.2.1 40))) := cH_fix (by decide) rfl hX
theorem cg_41 (hX : 108 ≤ X.length) : (cH C S X)[41]? = some (.inl (0, 121, .inl (C.2.1 41))) := cH_fix (by decide) rfl hX
theorem cg_42 (hX : 108 ≤ X.length) : (cH C S X)[42]? = some (.inl (0, 121, .inl (C.2.1 42))) := cH_fix (by decide) rfl hX
theorem cg_43 (hX : 108 ≤ X.length) : (cH C S X)[43]? = some (.inl (9, 12, .inr (.inr (cn_ 12 44)))) := cH_fix (by decide) rfl hX
theorem cg_44 (hX : 108 ≤ X.length) : (cH C S X)[44]? = some (.inl (0, 121, .inl (C.2.1 44))) := cH_fix (by decide) rfl hX
theorem cg_45 (hX : 108 ≤ X.length) : (cH C S X)[45]? = some (.inl (0, 121, .inl (C.2.1 45))) := cH_fix (by decide) rfl hX
theorem cg_46 (hX : 108 ≤ X.length) : (cH C S X)[46]? = some (.inl (0, 121, .inl (C.2.1 46))) := cH_fix (by decide) rfl hX
theorem cg_47 (hX : 108 ≤ X.length) : (cH C S X)[47]? = some (.inl (0, 121, .inl (C.2.1 47))) := cH_fix (by decide) rfl hX
theorem cg_48 (hX : 108 ≤ X.length) : (cH C S X)[48]? = some (.inl (0, 121, .inl (C.2.1 48))) := cH_fix (by decide) rfl hX
theorem cg_49 (hX : 108 ≤ X.length) : (cH C S X)[49]? = some (.inl (0, 121, .inl (C.2.1 49))) := cH_fix (by decide) rfl hX
theorem cg_50 (hX : 108 ≤ X.length) : (cH C S X)[50]? = some (.inl (0, 121, .inl (C.2.1 50))) := cH_fix (by decide) rfl hX
theorem cg_51 (hX : 108 ≤ X.length) : (cH C S X)[51]? = some (.inl (0, 121, .inl (C.2.1 51))) := cH_fix (by decide) rfl hX
theorem cg_52 (hX : 108 ≤ X.length) : (cH C S X)[52]? = some (.inl (0, 121, .inl (C.2.1 52))) := cH_fix (by decide) rfl hX
theorem cg_53 (hX : 108 ≤ X.length) : (cH C S X)[53]? = some (.inl (0, 121, .inl (C.2.1 53))) := cH_fix (by decide) rfl hX
theorem cg_54 (hX : 108 ≤ X.length) : (cH C S X)[54]? = some (.inl (0, 121, .inl (C.2.1 54))) := cH_fix (by decide) rfl hX
theorem cg_55 (hX : 108 ≤ X.length) : (cH C S X)[55]? = some (.inl (0, 121, .inl (C.2.1 55))) := cH_fix (by decide) rfl hX
theorem cg_56 (hX : 108 ≤ X.length) : (cH C S X)[56]? = some (.inr (8, [.ref 57, .ref 70, .ref 0])) := cH_fix (by decide) rfl hX
theorem cg_57 (hX : 108 ≤ X.length) : (cH C S X)[57]? = some (.inl (10, 12, .inr (.inr (cn_ 12 58)))) := cH_fix (by decide) rfl hX
theorem cg_58 (hX : 108 ≤ X.length) : (cH C S X)[58]? = some (.inl (3, 13, .inr (.inl (C.2.2.1 58)))) := cH_fix (by decide) rfl hX
theorem cg_59 (hX : 108 ≤ X.length) : (cH C S X)[59]? = some (.inl (3, 13, .inr (.inl (C.2.2.1 59)))) := cH_fix (by decide) rfl hX
theorem cg_60 (hX : 108 ≤ X.length) : (cH C S X)[60]? = some (.inl (3, 13, .inr (.inl (C.2.2.1 60)))) := cH_fix (by decide) rfl hX
theorem cg_61 (hX : 108 ≤ X.length) : (cH C S X)[61]? = some (.inl (3, 13, .inr (.inl (C.2.2.1 61)))) := cH_fix (by decide) rfl hX
theorem cg_62 (hX : 108 ≤ X.length) : (cH C S X)[62]? = some (.inl (3, 13, .inr (.inl (C.2.2.1 62)))) := cH_fix (by decide) rfl hX
theorem cg_63 (hX : 108 ≤ X.length) : (cH C S X)[63]? = some (.inl (3, 13, .inr (.inl (C.2.2.1 63)))) := cH_fix (by decide) rfl hX
theorem cg_64 (hX : 108 ≤ X.length) : (cH C S X)[64]? = some (.inl (3, 13, .inr (.inl (C.2.2.1 64)))) := cH_fix (by decide) rfl hX
theorem cg_65 (hX : 108 ≤ X.length) : (cH C S X)[65]? = some (.inl (3, 13, .inr (.inl (C.2.2.1 65)))) := cH_fix (by decide) rfl hX
theorem cg_66 (hX : 108 ≤ X.length) : (cH C S X)[66]? = some (.inl (3, 13, .inr (.inl (C.2.2.1 66)))) := cH_fix (by decide) rfl hX
theorem cg_67 (hX : 108 ≤ X.length) : (cH C S X)[67]? = some (.inl (3, 13, .inr (.inl (C.2.2.1 67)))) := cH_fix (by decide) rfl hX
theorem cg_68 (hX : 108 ≤ X.length) : (cH C S X)[68]? = some (.inl (3, 13, .inr (.inl (C.2.2.1 68)))) := cH_fix (by decide) rfl hX
theorem cg_69 (hX : 108 ≤ X.length) : (cH C S X)[69]? = some (.inl (3, 13, .inr (.inl (C.2.2.1 69)))) := cH_fix (by decide) rfl hX
theorem cg_70 (hX : 108 ≤ X.length) : (cH C S X)[70]? = some (.inl (10, 12, .inr (.inr (cn_ 12 71)))) := cH_fix (by decide) rfl hX
theorem cg_71 (hX : 108 ≤ X.length) : (cH C S X)[71]? = some (.inl (3, 13, .inr (.inl (C.2.2.1 71)))) := cH_fix (by decide) rfl hX
theorem cg_72 (hX : 108 ≤ X.length) : (cH C S X)[72]? = some (.inl (3, 13, .inr (.inl (C.2.2.1 72)))) := cH_fix (by decide) rfl hX
theorem cg_73 (hX : 108 ≤ X.length) : (cH C S X)[73]? = some (.inl (3, 13, .inr (.inl (C.2.2.1 73)))) := cH_fix (by decide) rfl hX
theorem cg_74 (hX : 108 ≤ X.length) : (cH C S X)[74]? = some (.inl (3, 13, .inr (.inl (C.2.2.1 74)))) := cH_fix (by decide) rfl hX
theorem cg_75 (hX : 108 ≤ X.length) : (cH C S X)[75]? = some (.inl (3, 13, .inr (.inl (C.2.2.1 75)))) := cH_fix (by decide) rfl hX
theorem cg_76 (hX : 108 ≤ X.length) : (cH C S X)[76]? = some (.inl (3, 13, .inr (.inl (C.2.2.1 76)))) := cH_fix (by decide) rfl hX
theorem cg_77 (hX : 108 ≤ X.length) : (cH C S X)[77]? = some (.inl (3, 13, .inr (.inl (C.2.2.1 77)))) := cH_fix (by decide) rfl hX
theorem cg_78 (hX : 108 ≤ X.length) : (cH C S X)[78]? = some (.inl (3, 13, .inr (.inl (C.2.2.1 78)))) := cH_fix (by decide) rfl hX
theorem cg_79 (hX : 108 ≤ X.length) : (cH C S X)[79]? = some (.inl (3, 13, .inr (.inl (C.2.2.1 79)))) := cH_fix (by decide) rfl hX
theorem cg_80 (hX : 108 ≤ X.length) : (cH C S X)[80]? = some (.inl (3, 13, .inr (.inl (C.2.2.1 80)))) := cH_fix (by decide) rfl hX
theorem cg_81 (hX : 108 ≤ X.length) : (cH C S X)[81]? = some (.inl (3, 13, .inr (.inl (C.2.2.1 81)))) := cH_fix (by decide) rfl hX
theorem cg_82 (hX : 108 ≤ X.length) : (cH C S X)[82]? = some (.inl (3, 13, .inr (.inl (C.2.2.1 82)))) := cH_fix (by decide) rfl hX
theorem cg_83 (hX : 108 ≤ X.length) : (cH C S X)[83]? = some (.inr (9, [.ref 84, .int (C.1 17), .int (C.1 18), .int (C.1 19), .ref 0])) := cH_fix (by decide) rfl hX
theorem cg_84 (hX : 108 ≤ X.length) : (cH C S X)[84]? = some (.inl (0, 60, .inl (C.2.1 84))) := cH_fix (by decide) rfl hX
theorem cs_0_1 {r : Nat} : (cH C S X).set 0 (.inr (0, [.ref 1, va_rf (C.2.2.2.1 0), .ref 13, .ref 14, .int (C.1 0), .int (C.1 1), .int (C.1 2), .ref 15, .ref 19, .ref 24, .ref 29, .ref 56, .ref 83].set 1 (.ref r))) = cH (cR 0 (some r) C) S X := cH_put (by decide) rfl rfl
theorem cs_0_4 {v : Int32} : (cH C S X).set 0 (.inr (0, [.ref 1, va_rf (C.2.2.2.1 0), .ref 13, .ref 14, .int (C.1 0), .int (C.1 1), .int (C.1 2), .ref 15, .ref 19, .ref 24, .ref 29, .ref 56, .ref 83].set 4 (.int v))) = cH (cF 0 v C) S X := cH_put (by decide) rfl rfl
theorem cs_0_5 {v : Int32} : (cH C S X).set 0 (.inr (0, [.ref 1, va_rf (C.2.2.2.1 0), .ref 13, .ref 14, .int (C.1 0), .int (C.1 1), .int (C.1 2), .ref 15, .ref 19, .ref 24, .ref 29, .ref 56, .ref 83].set 5 (.int v))) = cH (cF 1 v C) S X := cH_put (by decide) rfl rfl
theorem cs_0_6 {v : Int32} : (cH C S X).set 0 (.inr (0, [.ref 1, va_rf (C.2.2.2.1 0), .ref 13, .ref 14, .int (C.1 0), .int (C.1 1), .int (C.1 2), .ref 15, .ref 19, .ref 24, .ref 29, .ref 56, .ref 83].set 6 (.int v))) = cH (cF 2 v C) S X := cH_put (by decide) rfl rfl
theorem cs_2_0 {r : Nat} : (cH C S X).set 2 (.inr (1, [va_rf (C.2.2.2.1 2)].set 0 (.ref r))) = cH (cR 2 (some r) C) S X := cH_put (by decide) rfl rfl
theorem cs_3_0 {r : Nat} : (cH C S X).set 3 (.inr (1, [va_rf (C.2.2.2.1 3)].set 0 (.ref r))) = cH (cR 3 (some r) C) S X := cH_put (by decide) rfl rfl
theorem cs_4_0 {r : Nat} : (cH C S X).set 4 (.inr (1, [va_rf (C.2.2.2.1 4)].set 0 (.ref r))) = cH (cR 4 (some r) C) S X := cH_put (by decide) rfl rfl
theorem cs_5_0 {r : Nat} : (cH C S X).set 5 (.inr (1, [va_rf (C.2.2.2.1 5)].set 0 (.ref r))) = cH (cR 5 (some r) C) S X := cH_put (by decide) rfl rfl
theorem cs_15_3 {v : Int32} : (cH C S X).set 15 (.inr (4, [.ref 16, .ref 17, .ref 18, .int (C.1 3), .ref 0, .ref 0].set 3 (.int v))) = cH (cF 3 v C) S X := cH_put (by decide) rfl rfl
theorem cs_19_3 {v : Int32} : (cH C S X).set 19 (.inr (5, [.ref 20, .ref 21, .ref 22, .int (C.1 4), .ref 0, .ref 23, .int (C.1 5), .long C.2.2.2.2.2, .ref 0].set 3 (.int v))) = cH (cF 4 v C) S X := cH_put (by decide) rfl rfl
theorem cs_19_6 {v : Int32} : (cH C S X).set 19 (.inr (5, [.ref 20, .ref 21, .ref 22, .int (C.1 4), .ref 0, .ref 23, .int (C.1 5), .long C.2.2.2.2.2, .ref 0].set 6 (.int v))) = cH (cF 5 v C) S X := cH_put (by decide) rfl rfl
theorem cs_19_7 {v : Int64} : (cH C S X).set 19 (.inr (5, [.ref 20, .ref 21, .ref 22, .int (C.1 4), .ref 0, .ref 23, .int (C.1 5), .long C.2.2.2.2.2, .ref 0].set 7 (.long v))) = cH (cX v C) S X := cH_put (by decide) rfl rfl
theorem cs_24_4 {r : Nat} : (cH C S X).set 24 (.inr (6, [.ref 25, .ref 26, .ref 27, .ref 28, va_rf (C.2.2.2.1 24), .int (C.1 6), .int (C.1 7), .int (C.1 8), .int (C.1 9), .int (C.1 10), .int (C.1 11), .int (C.1 12), .int (C.1 13), .int (C.1 14), .int (C.1 15), .int (C.1 16), .ref 0].set 4 (.ref r))) = cH (cR 24 (some r) C) S X := cH_put (by decide) rfl rfl
theorem cs_24_5 {v : Int32} : (cH C S X).set 24 (.inr (6, [.ref 25, .ref 26, .ref 27, .ref 28, va_rf (C.2.2.2.1 24), .int (C.1 6), .int (C.1 7), .int (C.1 8), .int (C.1 9), .int (C.1 10), .int (C.1 11), .int (C.1 12), .int (C.1 13), .int (C.1 14), .int (C.1 15), .int (C.1 16), .ref 0].set 5 (.int v))) = cH (cF 6 v C) S X := cH_put (by decide) rfl rfl
theorem cs_24_6 {v : Int32} : (cH C S X).set 24 (.inr (6, [.ref 25, .ref 26, .ref 27, .ref 28, va_rf (C.2.2.2.1 24), .int (C.1 6), .int (C.1 7), .int (C.1 8), .int (C.1 9), .int (C.1 10), .int (C.1 11), .int (C.1 12), .int (C.1 13), .int (C.1 14), .int (C.1 15), .int (C.1 16), .ref 0].set 6 (.int v))) = cH (cF 7 v C) S X := cH_put (by decide) rfl rfl
theorem cs_24_7 {v : Int32} : (cH C S X).set 24 (.inr (6, [.ref 25, .ref 26, .ref 27, .ref 28, va_rf (C.2.2.2.1 24), .int (C.1 6), .int (C.1 7), .int (C.1 8), .int (C.1 9), .int (C.1 10), .int (C.1 11), .int (C.1 12), .int (C.1 13), .int (C.1 14), .int (C.1 15), .int (C.1 16), .ref 0].set 7 (.int v))) = cH (cF 8 v C) S X := cH_put (by decide) rfl rfl
theorem cs_24_8 {v : Int32} : (cH C S X).set 24 (.inr (6, [.ref 25, .ref 26, .ref 27, .ref 28, va_rf (C.2.2.2.1 24), .int (C.1 6), .int (C.1 7), .int (C.1 8), .int (C.1 9), .int (C.1 10), .int (C.1 11), .int (C.1 12), .int (C.1 13), .int (C.1 14), .int (C.1 15), .int (C.1 16), .ref 0].set 8 (.int v))) = cH (cF 9 v C) S X := cH_put (by decide) rfl rfl
theorem cs_24_9 {v : Int32} : (cH C S X).set 24 (.inr (6, [.ref 25, .ref 26, .ref 27, .ref 28, va_rf (C.2.2.2.1 24), .int (C.1 6), .int (C.1 7), .int (C.1 8), .int (C.1 9), .int (C.1 10), .int (C.1 11), .int (C.1 12), .int (C.1 13), .int (C.1 14), .int (C.1 15), .int (C.1 16), .ref 0].set 9 (.int v))) = cH (cF 10 v C) S X := cH_put (by decide) rfl rfl
theorem cs_24_10 {v : Int32} : (cH C S X).set 24 (.inr (6, [.ref 25, .ref 26, .ref 27, .ref 28, va_rf (C.2.2.2.1 24), .int (C.1 6), .int (C.1 7), .int (C.1 8), .int (C.1 9), .int (C.1 10), .int (C.1 11), .int (C.1 12), .int (C.1 13), .int (C.1 14), .int (C.1 15), .int (C.1 16), .ref 0].set 10 (.int v))) = cH (cF 11 v C) S X := cH_put (by decide) rfl rfl
theorem cs_24_11 {v : Int32} : (cH C S X).set 24 (.inr (6, [.ref 25, .ref 26, .ref 27, .ref 28, va_rf (C.2.2.2.1 24), .int (C.1 6), .int (C.1 7), .int (C.1 8), .int (C.1 9), .int (C.1 10), .int (C.1 11), .int (C.1 12), .int (C.1 13), .int (C.1 14), .int (C.1 15), .int (C.1 16), .ref 0].set 11 (.int v))) = cH (cF 12 v C) S X := cH_put (by decide) rfl rfl
theorem cs_24_12 {v : Int32} : (cH C S X).set 24 (.inr (6, [.ref 25, .ref 26, .ref 27, .ref 28, va_rf (C.2.2.2.1 24), .int (C.1 6), .int (C.1 7), .int (C.1 8), .int (C.1 9), .int (C.1 10), .int (C.1 11), .int (C.1 12), .int (C.1 13), .int (C.1 14), .int (C.1 15), .int (C.1 16), .ref 0].set 12 (.int v))) = cH (cF 13 v C) S X := cH_put (by decide) rfl rfl
theorem cs_24_13 {v : Int32} : (cH C S X).set 24 (.inr (6, [.ref 25, .ref 26, .ref 27, .ref 28, va_rf (C.2.2.2.1 24), .int (C.1 6), .int (C.1 7), .int (C.1 8), .int (C.1 9), .int (C.1 10), .int (C.1 11), .int (C.1 12), .int (C.1 13), .int (C.1 14), .int (C.1 15), .int (C.1 16), .ref 0].set 13 (.int v))) = cH (cF 14 v C) S X := cH_put (by decide) rfl rfl
theorem cs_24_14 {v : Int32} : (cH C S X).set 24 (.inr (6, [.ref 25, .ref 26, .ref 27, .ref 28, va_rf (C.2.2.2.1 24), .int (C.1 6), .int (C.1 7), .int (C.1 8), .int (C.1 9), .int (C.1 10), .int (C.1 11), .int (C.1 12), .int (C.1 13), .int (C.1 14), .int (C.1 15), .int (C.1 16), .ref 0].set 14 (.int v))) = cH (cF 15 v C) S X := cH_put (by decide) rfl rfl
theorem cs_24_15 {v : Int32} : (cH C S X).set 24 (.inr (6, [.ref 25, .ref 26, .ref 27, .ref 28, va_rf (C.2.2.2.1 24), .int (C.1 6), .int (C.1 7), .int (C.1 8), .int (C.1 9), .int (C.1 10), .int (C.1 11), .int (C.1 12), .int (C.1 13), .int (C.1 14), .int (C.1 15), .int (C.1 16), .ref 0].set 15 (.int v))) = cH (cF 16 v C) S X := cH_put (by decide) rfl rfl
theorem cs_29_2 {r : Nat} : (cH C S X).set 29 (.inr (7, [.ref 30, .ref 43, va_rf (C.2.2.2.1 29), va_rf (C.2.2.2.1 30), .ref 0].set 2 (.ref r))) = cH (cR 29 (some r) C) S X := cH_put (by decide) rfl rfl
theorem cs_29_3 {r : Nat} : (cH C S X).set 29 (.inr (7, [.ref 30, .ref 43, va_rf (C.2.2.2.1 29), va_rf (C.2.2.2.1 30), .ref 0].set 3 (.ref r))) = cH (cR 30 (some r) C) S X := cH_put (by decide) rfl rfl
theorem cs_83_1 {v : Int32} : (cH C S X).set 83 (.inr (9, [.ref 84, .int (C.1 17), .int (C.1 18), .int (C.1 19), .ref 0].set 1 (.int v))) = cH (cF 17 v C) S X := cH_put (by decide) rfl rfl
theorem cs_83_2 {v : Int32} : (cH C S X).set 83 (.inr (9, [.ref 84, .int (C.1 17), .int (C.1 18), .int (C.1 19), .ref 0].set 2 (.int v))) = cH (cF 18 v C) S X := cH_put (by decide) rfl rfl
theorem cs_83_3 {v : Int32} : (cH C S X).set 83 (.inr (9, [.ref 84, .int (C.1 17), .int (C.1 18), .int (C.1 19), .ref 0].set 3 (.int v))) = cH (cF 19 v C) S X := cH_put (by decide) rfl rfl
theorem cs_13 {i r : Nat} : (cH C S X).set 13 (.inl (7, 3, .inr (.inr (va_up (C.2.2.2.2.1 13) i (some r))))) = cH (cM 13 i (some r) C) S X := cH_put (by decide) rfl rfl
theorem cs_14 {i : Nat} {v : Int32} : (cH C S X).set 14 (.inl (1, 1200, .inl (upd (C.2.1 14) i v))) = cH (cA 14 i v C) S X := cH_put (by decide) rfl rfl
theorem ct_14 {f : Nat → Int32} : (cH C S X).set 14 (.inl (1, 1200, .inl f)) = cH (cAs 14 f C) S X := cH_put (by decide) rfl rfl
theorem cs_16 {i r : Nat} : (cH C S X).set 16 (.inl (8, 60, .inr (.inr (va_up (C.2.2.2.2.1 16) i (some r))))) = cH (cM 16 i (some r) C) S X := cH_put (by decide) rfl rfl
theorem cs_17 {i : Nat} {v : Int32} : (cH C S X).set 17 (.inl (0, 60, .inl (upd (C.2.1 17) i v))) = cH (cA 17 i v C) S X := cH_put (by decide) rfl rfl
theorem ct_17 {f : Nat → Int32} : (cH C S X).set 17 (.inl (0, 60, .inl f)) = cH (cAs 17 f C) S X := cH_put (by decide) rfl rfl
theorem cs_18 {i : Nat} {v : Int32} : (cH C S X).set 18 (.inl (0, 60, .inl (upd (C.2.1 18) i v))) = cH (cA 18 i v C) S X := cH_put (by decide) rfl rfl
theorem ct_18 {f : Nat → Int32} : (cH C S X).set 18 (.inl (0, 60, .inl f)) = cH (cAs 18 f C) S X := cH_put (by decide) rfl rfl
theorem cs_20 {i r : Nat} : (cH C S X).set 20 (.inl (8, 60, .inr (.inr (va_up (C.2.2.2.2.1 20) i (some r))))) = cH (cM 20 i (some r) C) S X := cH_put (by decide) rfl rfl
theorem cs_21 {i : Nat} {v : Int32} : (cH C S X).set 21 (.inl (0, 60, .inl (upd (C.2.1 21) i v))) = cH (cA 21 i v C) S X := cH_put (by decide) rfl rfl
theorem ct_21 {f : Nat → Int32} : (cH C S X).set 21 (.inl (0, 60, .inl f)) = cH (cAs 21 f C) S X := cH_put (by decide) rfl rfl
theorem cs_22 {i : Nat} {v : Int32} : (cH C S X).set 22 (.inl (0, 60, .inl (upd (C.2.1 22) i v))) = cH (cA 22 i v C) S X := cH_put (by decide) rfl rfl
theorem ct_22 {f : Nat → Int32} : (cH C S X).set 22 (.inl (0, 60, .inl f)) = cH (cAs 22 f C) S X := cH_put (by decide) rfl rfl
theorem cs_23 {i : Nat} {v : Int32} : (cH C S X).set 23 (.inl (0, 60, .inl (upd (C.2.1 23) i v))) = cH (cA 23 i v C) S X := cH_put (by decide) rfl rfl
theorem ct_23 {f : Nat → Int32} : (cH C S X).set 23 (.inl (0, 60, .inl f)) = cH (cAs 23 f C) S X := cH_put (by decide) rfl rfl
theorem cs_25 {i : Nat} {v : Int32} : (cH C S X).set 25 (.inl (0, 60, .inl (upd (C.2.1 25) i v))) = cH (cA 25 i v C) S X := cH_put (by decide) rfl rfl
theorem ct_25 {f : Nat → Int32} : (cH C S X).set 25 (.inl (0, 60, .inl f)) = cH (cAs 25 f C) S X := cH_put (by decide) rfl rfl
theorem cs_26 {i : Nat} {v : Int32} : (cH C S X).set 26 (.inl (0, 60, .inl (upd (C.2.1 26) i v))) = cH (cA 26 i v C) S X := cH_put (by decide) rfl rfl
theorem ct_26 {f : Nat → Int32} : (cH C S X).set 26 (.inl (0, 60, .inl f)) = cH (cAs 26 f C) S X := cH_put (by decide) rfl rfl
theorem cs_27 {i : Nat} {v : Int32} : (cH C S X).set 27 (.inl (0, 120, .inl (upd (C.2.1 27) i v))) = cH (cA 27 i v C) S X := cH_put (by decide) rfl rfl
theorem ct_27 {f : Nat → Int32} : (cH C S X).set 27 (.inl (0, 120, .inl f)) = cH (cAs 27 f C) S X := cH_put (by decide) rfl rfl
theorem cs_28 {i : Nat} {v : Int32} : (cH C S X).set 28 (.inl (0, 120, .inl (upd (C.2.1 28) i v))) = cH (cA 28 i v C) S X := cH_put (by decide) rfl rfl
theorem ct_28 {f : Nat → Int32} : (cH C S X).set 28 (.inl (0, 120, .inl f)) = cH (cAs 28 f C) S X := cH_put (by decide) rfl rfl
theorem cs_31 {i : Nat} {v : Int32} : (cH C S X).set 31 (.inl (0, 121, .inl (upd (C.2.1 31) i v))) = cH (cA 31 i v C) S X := cH_put (by decide) rfl rfl
theorem ct_31 {f : Nat → Int32} : (cH C S X).set 31 (.inl (0, 121, .inl f)) = cH (cAs 31 f C) S X := cH_put (by decide) rfl rfl
theorem cs_32 {i : Nat} {v : Int32} : (cH C S X).set 32 (.inl (0, 121, .inl (upd (C.2.1 32) i v))) = cH (cA 32 i v C) S X := cH_put (by decide) rfl rfl
theorem ct_32 {f : Nat → Int32} : (cH C S X).set 32 (.inl (0, 121, .inl f)) = cH (cAs 32 f C) S X := cH_put (by decide) rfl rfl
theorem cs_33 {i : Nat} {v : Int32} : (cH C S X).set 33 (.inl (0, 121, .inl (upd (C.2.1 33) i v))) = cH (cA 33 i v C) S X := cH_put (by decide) rfl rfl
theorem ct_33 {f : Nat → Int32} : (cH C S X).set 33 (.inl (0, 121, .inl f)) = cH (cAs 33 f C) S X := cH_put (by decide) rfl rfl
theorem cs_34 {i : Nat} {v : Int32} : (cH C S X).set 34 (.inl (0, 121, .inl (upd (C.2.1 34) i v))) = cH (cA 34 i v C) S X := cH_put (by decide) rfl rfl
theorem ct_34 {f : Nat → Int32} : (cH C S X).set 34 (.inl (0, 121, .inl f)) = cH (cAs 34 f C) S X := cH_put (by decide) rfl rfl
theorem cs_35 {i : Nat} {v : Int32} : (cH C S X).set 35 (.inl (0, 121, .inl (upd (C.2.1 35) i v))) = cH (cA 35 i v C) S X := cH_put (by decide) rfl rfl
theorem ct_35 {f : Nat → Int32} : (cH C S X).set 35 (.inl (0, 121, .inl f)) = cH (cAs 35 f C) S X := cH_put (by decide) rfl rfl
theorem cs_36 {i : Nat} {v : Int32} : (cH C S X).set 36 (.inl (0, 121, .inl (upd (C.2.1 36) i v))) = cH (cA 36 i v C) S X := cH_put (by decide) rfl rfl
theorem ct_36 {f : Nat → Int32} : (cH C S X).set 36 (.inl (0, 121, .inl f)) = cH (cAs 36 f C) S X := cH_put (by decide) rfl rfl
theorem cs_37 {i : Nat} {v : Int32} : (cH C S X).set 37 (.inl (0, 121, .inl (upd (C.2.1 37) i v))) = cH (cA 37 i v C) S X := cH_put (by decide) rfl rfl
theorem ct_37 {f : Nat → Int32} : (cH C S X).set 37 (.inl (0, 121, .inl f)) = cH (cAs 37 f C) S X := cH_put (by decide) rfl rfl
theorem cs_38 {i : Nat} {v : Int32} : (cH C S X).set 38 (.inl (0, 121, .inl (upd (C.2.1 38) i v))) = cH (cA 38 i v C) S X := cH_put (by decide) rfl rfl
theorem ct_38 {f : Nat → Int32} : (cH C S X).set 38 (.inl (0, 121, .inl f)) = cH (cAs 38 f C) S X := cH_put (by decide) rfl rfl
theorem cs_39 {i : Nat} {v : Int32} : (cH C S X).set 39 (.inl (0, 121, .inl (upd (C.2.1 39) i v))) = cH (cA 39 i v C) S X := cH_put (by decide) rfl rfl
theorem ct_39 {f : Nat → Int32} : (cH C S X).set 39 (.inl (0, 121, .inl f)) = cH (cAs 39 f C) S X := cH_put (by decide) rfl rfl
theorem cs_40 {i : Nat} {v : Int32} : (cH C S X).set 40 (.inl (0, 121, .inl (upd (C.2.1 40) i v))) = cH (cA 40 i v C) S X := cH_put (by decide) rfl rfl
theorem ct_40 {f : Nat → Int32} : (cH C S X).set 40 (.inl (0, 121, .inl f)) = cH (cAs 40 f C) S X := cH_put (by decide) rfl rfl
theorem cs_41 {i : Nat} {v : Int32} : (cH C S X).set 41 (.inl (0, 121, .inl (upd (C.2.1 41) i v))) = cH (cA 41 i v C) S X := cH_put (by decide) rfl rfl
theorem ct_41 {f : Nat → Int32} : (cH C S X).set 41 (.inl (0, 121, .inl f)) = cH (cAs 41 f C) S X := cH_put (by decide) rfl rfl
theorem cs_42 {i : Nat} {v : Int32} : (cH C S X).set 42 (.inl (0, 121, .inl (upd (C.2.1 42) i v))) = cH (cA 42 i v C) S X := cH_put (by decide) rfl rfl
theorem ct_42 {f : Nat → Int32} : (cH C S X).set 42 (.inl (0, 121, .inl f)) = cH (cAs 42 f C) S X := cH_put (by decide) rfl rfl
theorem cs_44 {i : Nat} {v : Int32} : (cH C S X).set 44 (.inl (0, 121, .inl (upd (C.2.1 44) i v))) = cH (cA 44 i v C) S X := cH_put (by decide) rfl rfl
theorem ct_44 {f : Nat → Int32} : (cH C S X).set 44 (.inl (0, 121, .inl f)) = cH (cAs 44 f C) S X := cH_put (by decide) rfl rfl
theorem cs_45 {i : Nat} {v : Int32} : (cH C S X).set 45 (.inl (0, 121, .inl (upd (C.2.1 45) i v))) = cH (cA 45 i v C) S X := cH_put (by decide) rfl rfl
theorem ct_45 {f : Nat → Int32} : (cH C S X).set 45 (.inl (0, 121, .inl f)) = cH (cAs 45 f C) S X := cH_put (by decide) rfl rfl
theorem cs_46 {i : Nat} {v : Int32} : (cH C S X).set 46 (.inl (0, 121, .inl (upd (C.2.1 46) i v))) = cH (cA 46 i v C) S X := cH_put (by decide) rfl rfl
theorem ct_46 {f : Nat → Int32} : (cH C S X).set 46 (.inl (0, 121, .inl f)) = cH (cAs 46 f C) S X := cH_put (by decide) rfl rfl
theorem cs_47 {i : Nat} {v : Int32} : (cH C S X).set 47 (.inl (0, 121, .inl (upd (C.2.1 47) i v))) = cH (cA 47 i v C) S X := cH_put (by decide) rfl rfl
theorem ct_47 {f : Nat → Int32} : (cH C S X).set 47 (.inl (0, 121, .inl f)) = cH (cAs 47 f C) S X := cH_put (by decide) rfl rfl
theorem cs_48 {i : Nat} {v : Int32} : (cH C S X).set 48 (.inl (0, 121, .inl (upd (C.2.1 48) i v))) = cH (cA 48 i v C) S X := cH_put (by decide) rfl rfl
theorem ct_48 {f : Nat → Int32} : (cH C S X).set 48 (.inl (0, 121, .inl f)) = cH (cAs 48 f C) S X := cH_put (by decide) rfl rfl
theorem cs_49 {i : Nat} {v : Int32} : (cH C S X).set 49 (.inl (0, 121, .inl (upd (C.2.1 49) i v))) = cH (cA 49 i v C) S X := cH_put (by decide) rfl rfl
theorem ct_49 {f : Nat → Int32} : (cH C S X).set 49 (.inl (0, 121, .inl f)) = cH (cAs 49 f C) S X := cH_put (by decide) rfl rfl
theorem cs_50 {i : Nat} {v : Int32} : (cH C S X).set 50 (.inl (0, 121, .inl (upd (C.2.1 50) i v))) = cH (cA 50 i v C) S X := cH_put (by decide) rfl rfl
theorem ct_50 {f : Nat → Int32} : (cH C S X).set 50 (.inl (0, 121, .inl f)) = cH (cAs 50 f C) S X := cH_put (by decide) rfl rfl
theorem cs_51 {i : Nat} {v : Int32} : (cH C S X).set 51 (.inl (0, 121, .inl (upd (C.2.1 51) i v))) = cH (cA 51 i v C) S X := cH_put (by decide) rfl rfl
theorem ct_51 {f : Nat → Int32} : (cH C S X).set 51 (.inl (0, 121, .inl f)) = cH (cAs 51 f C) S X := cH_put (by decide) rfl rfl
theorem cs_52 {i : Nat} {v : Int32} : (cH C S X).set 52 (.inl (0, 121, .inl (upd (C.2.1 52) i v))) = cH (cA 52 i v C) S X := cH_put (by decide) rfl rfl
theorem ct_52 {f : Nat → Int32} : (cH C S X).set 52 (.inl (0, 121, .inl f)) = cH (cAs 52 f C) S X := cH_put (by decide) rfl rfl
theorem cs_53 {i : Nat} {v : Int32} : (cH C S X).set 53 (.inl (0, 121, .inl (upd (C.2.1 53) i v))) = cH (cA 53 i v C) S X := cH_put (by decide) rfl rfl
theorem ct_53 {f : Nat → Int32} : (cH C S X).set 53 (.inl (0, 121, .inl f)) = cH (cAs 53 f C) S X := cH_put (by decide) rfl rfl
theorem cs_54 {i : Nat} {v : Int32} : (cH C S X).set 54 (.inl (0, 121, .inl (upd (C.2.1 54) i v))) = cH (cA 54 i v C) S X := cH_put (by decide) rfl rfl
theorem ct_54 {f : Nat → Int32} : (cH C S X).set 54 (.inl (0, 121, .inl f)) = cH (cAs 54 f C) S X := cH_put (by decide) rfl rfl
theorem cs_55 {i : Nat} {v : Int32} : (cH C S X).set 55 (.inl (0, 121, .inl (upd (C.2.1 55) i v))) = cH (cA 55 i v C) S X := cH_put (by decide) rfl rfl
theorem ct_55 {f : Nat → Int32} : (cH C S X).set 55 (.inl (0, 121, .inl f)) = cH (cAs 55 f C) S X := cH_put (by decide) rfl rfl
theorem cs_58 {i : Nat} {v : Int64} : (cH C S X).set 58 (.inl (3, 13, .inr (.inl (vp_updL (C.2.2.1 58) i v)))) = cH (cL 58 i v C) S X := cH_put (by decide) rfl rfl
theorem ct_58 {f : Nat → Int64} : (cH C S X).set 58 (.inl (3, 13, .inr (.inl f))) = cH (cLs 58 f C) S X := cH_put (by decide) rfl rfl
theorem cs_59 {i : Nat} {v : Int64} : (cH C S X).set 59 (.inl (3, 13, .inr (.inl (vp_updL (C.2.2.1 59) i v)))) = cH (cL 59 i v C) S X := cH_put (by decide) rfl rfl
theorem ct_59 {f : Nat → Int64} : (cH C S X).set 59 (.inl (3, 13, .inr (.inl f))) = cH (cLs 59 f C) S X := cH_put (by decide) rfl rfl
theorem cs_60 {i : Nat} {v : Int64} : (cH C S X).set 60 (.inl (3, 13, .inr (.inl (vp_updL (C.2.2.1 60) i v)))) = cH (cL 60 i v C) S X := cH_put (by decide) rfl rfl
theorem ct_60 {f : Nat → Int64} : (cH C S X).set 60 (.inl (3, 13, .inr (.inl f))) = cH (cLs 60 f C) S X := cH_put (by decide) rfl rfl
theorem cs_61 {i : Nat} {v : Int64} : (cH C S X).set 61 (.inl (3, 13, .inr (.inl (vp_updL (C.2.2.1 61) i v)))) = cH (cL 61 i v C) S X := cH_put (by decide) rfl rfl
theorem ct_61 {f : Nat → Int64} : (cH C S X).set 61 (.inl (3, 13, .inr (.inl f))) = cH (cLs 61 f C) S X := cH_put (by decide) rfl rfl
theorem cs_62 {i : Nat} {v : Int64} : (cH C S X).set 62 (.inl (3, 13, .inr (.inl (vp_updL (C.2.2.1 62) i v)))) = cH (cL 62 i v C) S X := cH_put (by decide) rfl rfl
theorem ct_62 {f : Nat → Int64} : (cH C S X).set 62 (.inl (3, 13, .inr (.inl f))) = cH (cLs 62 f C) S X := cH_put (by decide) rfl rfl
theorem cs_63 {i : Nat} {v : Int64} : (cH C S X).set 63 (.inl (3, 13, .inr (.inl (vp_updL (C.2.2.1 63) i v)))) = cH (cL 63 i v C) S X := cH_put (by decide) rfl rfl
theorem ct_63 {f : Nat → Int64} : (cH C S X).set 63 (.inl (3, 13, .inr (.inl f))) = cH (cLs 63 f C) S X := cH_put (by decide) rfl rfl
theorem cs_64 {i : Nat} {v : Int64} : (cH C S X).set 64 (.inl (3, 13, .inr (.inl (vp_updL (C.2.2.1 64) i v)))) = cH (cL 64 i v C) S X := cH_put (by decide) rfl rfl
theorem ct_64 {f : Nat → Int64} : (cH C S X).set 64 (.inl (3, 13, .inr (.inl f))) = cH (cLs 64 f C) S X := cH_put (by decide) rfl rfl
theorem cs_65 {i : Nat} {v : Int64} : (cH C S X).set 65 (.inl (3, 13, .inr (.inl (vp_updL (C.2.2.1 65) i v)))) = cH (cL 65 i v C) S X := cH_put (by decide) rfl rfl
theorem ct_65 {f : Nat → Int64} : (cH C S X).set 65 (.inl (3, 13, .inr (.inl f))) = cH (cLs 65 f C) S X := cH_put (by decide) rfl rfl
theorem cs_66 {i : Nat} {v : Int64} : (cH C S X).set 66 (.inl (3, 13, .inr (.inl (vp_updL (C.2.2.1 66) i v)))) = cH (cL 66 i v C) S X := cH_put (by decide) rfl rfl
theorem ct_66 {f : Nat → Int64} : (cH C S X).set 66 (.inl (3, 13, .inr (.inl f))) = cH (cLs 66 f C) S X := cH_put (by decide) rfl rfl
theorem cs_67 {i : Nat} {v : Int64} : (cH C S X).set 67 (.inl (3, 13, .inr (.inl (vp_updL (C.2.2.1 67) i v)))) = cH (cL 67 i v C) S X := cH_put (by decide) rfl rfl
theorem ct_67 {f : Nat → Int64} : (cH C S X).set 67 (.inl (3, 13, .inr (.inl f))) = cH (cLs 67 f C) S X := cH_put (by decide) rfl rfl
theorem cs_68 {i : Nat} {v : Int64} : (cH C S X).set 68 (.inl (3, 13, .inr (.inl (vp_updL (C.2.2.1 68) i v)))) = cH (cL 68 i v C) S X := cH_put (by decide) rfl rfl
theorem ct_68 {f : Nat → Int64} : (cH C S X).set 68 (.inl (3, 13, .inr (.inl f))) = cH (cLs 68 f C) S X := cH_put (by decide) rfl rfl
theorem cs_69 {i : Nat} {v : Int64} : (cH C S X).set 69 (.inl (3, 13, .inr (.inl (vp_updL (C.2.2.1 69) i v)))) = cH (cL 69 i v C) S X := cH_put (by decide) rfl rfl
theorem ct_69 {f : Nat → Int64} : (cH C S X).set 69 (.inl (3, 13, .inr (.inl f))) = cH (cLs 69 f C) S X := cH_put (by decide) rfl rfl
theorem cs_71 {i : Nat} {v : Int64} : (cH C S X).set 71 (.inl (3, 13, .inr (.inl (vp_updL (C.2.2.1 71) i v)))) = cH (cL 71 i v C) S X := cH_put (by decide) rfl rfl
theorem ct_71 {f : Nat → Int64} : (cH C S X).set 71 (.inl (3, 13, .inr (.inl f))) = cH (cLs 71 f C) S X := cH_put (by decide) rfl rfl
theorem cs_72 {i : Nat} {v : Int64} : (cH C S X).set 72 (.inl (3, 13, .inr (.inl (vp_updL (C.2.2.1 72) i v)))) = cH (cL 72 i v C) S X := cH_put (by decide) rfl rfl
theorem ct_72 {f : Nat → Int64} : (cH C S X).set 72 (.inl (3, 13, .inr (.inl f))) = cH (cLs 72 f C) S X := cH_put (by decide) rfl rfl
theorem cs_73 {i : Nat} {v : Int64} : (cH C S X).set 73 (.inl (3, 13, .inr (.inl (vp_updL (C.2.2.1 73) i v)))) = cH (cL 73 i v C) S X := cH_put (by decide) rfl rfl
theorem ct_73 {f : Nat → Int64} : (cH C S X).set 73 (.inl (3, 13, .inr (.inl f))) = cH (cLs 73 f C) S X := cH_put (by decide) rfl rfl
theorem cs_74 {i : Nat} {v : Int64} : (cH C S X).set 74 (.inl (3, 13, .inr (.inl (vp_updL (C.2.2.1 74) i v)))) = cH (cL 74 i v C) S X := cH_put (by decide) rfl rfl
theorem ct_74 {f : Nat → Int64} : (cH C S X).set 74 (.inl (3, 13, .inr (.inl f))) = cH (cLs 74 f C) S X := cH_put (by decide) rfl rfl
theorem cs_75 {i : Nat} {v : Int64} : (cH C S X).set 75 (.inl (3, 13, .inr (.inl (vp_updL (C.2.2.1 75) i v)))) = cH (cL 75 i v C) S X := cH_put (by decide) rfl rfl
theorem ct_75 {f : Nat → Int64} : (cH C S X).set 75 (.inl (3, 13, .inr (.inl f))) = cH (cLs 75 f C) S X := cH_put (by decide) rfl rfl
theorem cs_76 {i : Nat} {v : Int64} : (cH C S X).set 76 (.inl (3, 13, .inr (.inl (vp_updL (C.2.2.1 76) i v)))) = cH (cL 76 i v C) S X := cH_put (by decide) rfl rfl
theorem ct_76 {f : Nat → Int64} : (cH C S X).set 76 (.inl (3, 13, .inr (.inl f))) = cH (cLs 76 f C) S X := cH_put (by decide) rfl rfl
theorem cs_77 {i : Nat} {v : Int64} : (cH C S X).set 77 (.inl (3, 13, .inr (.inl (vp_updL (C.2.2.1 77) i v)))) = cH (cL 77 i v C) S X := cH_put (by decide) rfl rfl
theorem ct_77 {f : Nat → Int64} : (cH C S X).set 77 (.inl (3, 13, .inr (.inl f))) = cH (cLs 77 f C) S X := cH_put (by decide) rfl rfl
theorem cs_78 {i : Nat} {v : Int64} : (cH C S X).set 78 (.inl (3, 13, .inr (.inl (vp_updL (C.2.2.1 78) i v)))) = cH (cL 78 i v C) S X := cH_put (by decide) rfl rfl
theorem ct_78 {f : Nat → Int64} : (cH C S X).set 78 (.inl (3, 13, .inr (.inl f))) = cH (cLs 78 f C) S X := cH_put (by decide) rfl rfl
theorem cs_79 {i : Nat} {v : Int64} : (cH C S X).set 79 (.inl (3, 13, .inr (.inl (vp_updL (C.2.2.1 79) i v)))) = cH (cL 79 i v C) S X := cH_put (by decide) rfl rfl
theorem ct_79 {f : Nat → Int64} : (cH C S X).set 79 (.inl (3, 13, .inr (.inl f))) = cH (cLs 79 f C) S X := cH_put (by decide) rfl rfl
theorem cs_80 {i : Nat} {v : Int64} : (cH C S X).set 80 (.inl (3, 13, .inr (.inl (vp_updL (C.2.2.1 80) i v)))) = cH (cL 80 i v C) S X := cH_put (by decide) rfl rfl
theorem ct_80 {f : Nat → Int64} : (cH C S X).set 80 (.inl (3, 13, .inr (.inl f))) = cH (cLs 80 f C) S X := cH_put (by decide) rfl rfl
theorem cs_81 {i : Nat} {v : Int64} : (cH C S X).set 81 (.inl (3, 13, .inr (.inl (vp_updL (C.2.2.1 81) i v)))) = cH (cL 81 i v C) S X := cH_put (by decide) rfl rfl
theorem ct_81 {f : Nat → Int64} : (cH C S X).set 81 (.inl (3, 13, .inr (.inl f))) = cH (cLs 81 f C) S X := cH_put (by decide) rfl rfl
theorem cs_82 {i : Nat} {v : Int64} : (cH C S X).set 82 (.inl (3, 13, .inr (.inl (vp_updL (C.2.2.1 82) i v)))) = cH (cL 82 i v C) S X := cH_put (by decide) rfl rfl
theorem ct_82 {f : Nat → Int64} : (cH C S X).set 82 (.inl (3, 13, .inr (.inl f))) = cH (cLs 82 f C) S X := cH_put (by decide) rfl rfl
theorem cs_84 {i : Nat} {v : Int32} : (cH C S X).set 84 (.inl (0, 60, .inl (upd (C.2.1 84) i v))) = cH (cA 84 i v C) S X := cH_put (by decide) rfl rfl
theorem ct_84 {f : Nat → Int32} : (cH C S X).set 84 (.inl (0, 60, .inl f)) = cH (cAs 84 f C) S X := cH_put (by decide) rfl rfl
theorem cgr_31 (hX : 108 ≤ X.length) {k : Nat} (hk : k < 12) : (cH C S X)[31 + k]? = some (.inl (0, 121, .inl (C.2.1 (31 + k)))) := by
  match k, hk with
  | 0, _ => exact cg_31 hX
  | 1, _ => exact cg_32 hX
  | 2, _ => exact cg_33 hX
  | 3, _ => exact cg_34 hX
  | 4, _ => exact cg_35 hX
  | 5, _ => exact cg_36 hX
  | 6, _ => exact cg_37 hX
  | 7, _ => exact cg_38 hX
  | 8, _ => exact cg_39 hX
  | 9, _ => exact cg_40 hX
  | 10, _ => exact cg_41 hX
  | 11, _ => exact cg_42 hX
theorem csr_31 {k : Nat} (hk : k < 12) {i : Nat} {v : Int32} : (cH C S X).set (31 + k) (.inl (0, 121, .inl (upd (C.2.1 (31 + k)) i v))) = cH (cA (31 + k) i v C) S X := by
  match k, hk with
  | 0, _ => exact cs_31
  | 1, _ => exact cs_32
  | 2, _ => exact cs_33
  | 3, _ => exact cs_34
  | 4, _ => exact cs_35
  | 5, _ => exact cs_36
  | 6, _ => exact cs_37
  | 7, _ => exact cs_38
  | 8, _ => exact cs_39
  | 9, _ => exact cs_40
  | 10, _ => exact cs_41
  | 11, _ => exact cs_42
theorem ctr_31 {k : Nat} (hk : k < 12) {f : Nat → Int32} : (cH C S X).set (31 + k) (.inl (0, 121, .inl f)) = cH (cAs (31 + k) f C) S X := by
  match k, hk with
  | 0, _ => exact ct_31
  | 1, _ => exact ct_32
  | 2, _ => exact ct_33
  | 3, _ => exact ct_34
  | 4, _ => exact ct_35
  | 5, _ => exact ct_36
  | 6, _ => exact ct_37
  | 7, _ => exact ct_38
  | 8, _ => exact ct_39
  | 9, _ => exact ct_40
  | 10, _ => exact ct_41
  | 11, _ => exact ct_42
theorem cgr_44 (hX : 108 ≤ X.length) {k : Nat} (hk : k < 12) : (cH C S X)[44 + k]? = some (.inl (0, 121, .inl (C.2.1 (44 + k)))) := by
  match k, hk with
  | 0, _ => exact cg_44 hX
  | 1, _ => exact cg_45 hX
  | 2, _ => exact cg_46 hX
  | 3, _ => exact cg_47 hX
  | 4, _ => exact cg_48 hX
  | 5, _ => exact cg_49 hX
  | 6, _ => exact cg_50 hX
  | 7, _ => exact cg_51 hX
  | 8, _ => exact cg_52 hX
  | 9, _ => exact cg_53 hX
  | 10, _ => exact cg_54 hX
  | 11, _ => exact cg_55 hX
theorem csr_44 {k : Nat} (hk : k < 12) {i : Nat} {v : Int32} : (cH C S X).set (44 + k) (.inl (0, 121, .inl (upd (C.2.1 (44 + k)) i v))) = cH (cA (44 + k) i v C) S X := by
  match k, hk with
  | 0, _ => exact cs_44
  | 1, _ => exact cs_45
  | 2, _ => exact cs_46
  | 3, _ => exact cs_47
  | 4, _ => exact cs_48
  | 5, _ => exact cs_49
  | 6, _ => exact cs_50
  | 7, _ => exact cs_51
  | 8, _ => exact cs_52
  | 9, _ => exact cs_53
  | 10, _ => exact cs_54
  | 11, _ => exact cs_55
theorem ctr_44 {k : Nat} (hk : k < 12) {f : Nat → Int32} : (cH C S X).set (44 + k) (.inl (0, 121, .inl f)) = cH (cAs (44 + k) f C) S X := by
  match k, hk with
  | 0, _ => exact ct_44
  | 1, _ => exact ct_45
  | 2, _ => exact ct_46
  | 3, _ => exact ct_47
  | 4, _ => exact ct_48
  | 5, _ => exact ct_49
  | 6, _ => exact ct_50
  | 7, _ => exact ct_51
  | 8, _ => exact ct_52
  | 9, _ => exact ct_53
  | 10, _ => exact ct_54
  | 11, _ => exact ct_55
theorem cgr_58 (hX : 108 ≤ X.length) {k : Nat} (hk : k < 12) : (cH C S X)[58 + k]? = some (.inl (3, 13, .inr (.inl (C.2.2.1 (58 + k))))) := by
  match k, hk with
  | 0, _ => exact cg_58 hX
  | 1, _ => exact cg_59 hX
  | 2, _ => exact cg_60 hX
  | 3, _ => exact cg_61 hX
  | 4, _ => exact cg_62 hX
  | 5, _ => exact cg_63 hX
  | 6, _ => exact cg_64 hX
  | 7, _ => exact cg_65 hX
  | 8, _ => exact cg_66 hX
  | 9, _ => exact cg_67 hX
  | 10, _ => exact cg_68 hX
  | 11, _ => exact cg_69 hX
theorem csr_58 {k : Nat} (hk : k < 12) {i : Nat} {v : Int64} : (cH C S X).set (58 + k) (.inl (3, 13, .inr (.inl (vp_updL (C.2.2.1 (58 + k)) i v)))) = cH (cL (58 + k) i v C) S X := by
  match k, hk with
  | 0, _ => exact cs_58
  | 1, _ => exact cs_59
  | 2, _ => exact cs_60
  | 3, _ => exact cs_61
  | 4, _ => exact cs_62
  | 5, _ => exact cs_63
  | 6, _ => exact cs_64
  | 7, _ => exact cs_65
  | 8, _ => exact cs_66
  | 9, _ => exact cs_67
  | 10, _ => exact cs_68
  | 11, _ => exact cs_69
theorem ctr_58 {k : Nat} (hk : k < 12) {f : Nat → Int64} : (cH C S X).set (58 + k) (.inl (3, 13, .inr (.inl f))) = cH (cLs (58 + k) f C) S X := by
  match k, hk with
  | 0, _ => exact ct_58
  | 1, _ => exact ct_59
  | 2, _ => exact ct_60
  | 3, _ => exact ct_61
  | 4, _ => exact ct_62
  | 5, _ => exact ct_63
  | 6, _ => exact ct_64
  | 7, _ => exact ct_65
  | 8, _ => exact ct_66
  | 9, _ => exact ct_67
  | 10, _ => exact ct_68
  | 11, _ => exact ct_69
theorem cgr_71 (hX : 108 ≤ X.length) {k : Nat} (hk : k < 12) : (cH C S X)[71 + k]? = some (.inl (3, 13, .inr (.inl (C.2.2.1 (71 + k))))) := by
  match k, hk with
  | 0, _ => exact cg_71 hX
  | 1, _ => exact cg_72 hX
  | 2, _ => exact cg_73 hX
  | 3, _ => exact cg_74 hX
  | 4, _ => exact cg_75 hX
  | 5, _ => exact cg_76 hX
  | 6, _ => exact cg_77 hX
  | 7, _ => exact cg_78 hX
  | 8, _ => exact cg_79 hX
  | 9, _ => exact cg_80 hX
  | 10, _ => exact cg_81 hX
  | 11, _ => exact cg_82 hX
theorem csr_71 {k : Nat} (hk : k < 12) {i : Nat} {v : Int64} : (cH C S X).set (71 + k) (.inl (3, 13, .inr (.inl (vp_updL (C.2.2.1 (71 + k)) i v)))) = cH (cL (71 + k) i v C) S X := by
  match k, hk with
  | 0, _ => exact cs_71
  | 1, _ => exact cs_72
  | 2, _ => exact cs_73
  | 3, _ => exact cs_74
  | 4, _ => exact cs_75
  | 5, _ => exact cs_76
  | 6, _ => exact cs_77
  | 7, _ => exact cs_78
  | 8, _ => exact cs_79
  | 9, _ => exact cs_80
  | 10, _ => exact cs_81
  | 11, _ => exact cs_82
theorem ctr_71 {k : Nat} (hk : k < 12) {f : Nat → Int64} : (cH C S X).set (71 + k) (.inl (3, 13, .inr (.inl f))) = cH (cLs (71 + k) f C) S X := by
  match k, hk with
  | 0, _ => exact ct_71
  | 1, _ => exact ct_72
  | 2, _ => exact ct_73
  | 3, _ => exact ct_74
  | 4, _ => exact ct_75
  | 5, _ => exact ct_76
  | 6, _ => exact ct_77
  | 7, _ => exact ct_78
  | 8, _ => exact ct_79
  | 9, _ => exact ct_80
  | 10, _ => exact ct_81
  | 11, _ => exact ct_82
end CC
/-! boards: a board object at b, its lists, comings, players, rows of stays; all in cells lo .. hi - 1 -/
/-- where a board's parts lie: drum list, its array, players' list, its array, from, stay; comings, players, their numbers; how often the lists changed; what the arrays hold -/
abbrev BA : Type := (Nat → Nat) × (Nat → Nat → Nat) × (Nat → Int32) × ((Nat → Option Nat) × (Nat → Option Nat)) × (Nat → Nat → Int32) × (Nat → Int32) × (Nat → Int32)
def BA.d (A : BA) : Nat := A.1 0
def BA.dq (A : BA) : Nat := A.1 1
def BA.p (A : BA) : Nat := A.1 2
def BA.pq (A : BA) : Nat := A.1 3
def BA.f (A : BA) : Nat := A.1 4
def BA.s (A : BA) : Nat := A.1 5
def BA.mo (A : BA) : Nat → Nat := A.2.1 0
def BA.pl (A : BA) : Nat → Nat := A.2.1 1
def BA.pi (A : BA) : Nat → Nat := A.2.1 2
def BA.dm (A : BA) : Int32 := A.2.2.1 0
def BA.pm (A : BA) : Int32 := A.2.2.1 1
def BA.tk (A : BA) : Int32 := A.2.2.1 2
def BA.ec (A : BA) : Int32 := A.2.2.1 3
def BA.df (A : BA) : Nat → Option Nat := A.2.2.2.1.1
def BA.pf (A : BA) : Nat → Option Nat := A.2.2.2.1.2
def BA.pv (A : BA) : Nat → Nat → Int32 := A.2.2.2.2.1
def BA.ff (A : BA) : Nat → Int32 := A.2.2.2.2.2.1
def BA.sf (A : BA) : Nat → Int32 := A.2.2.2.2.2.2
def DX (X : AH) (lo hi a : Nat) (e : AE) : Prop := X[a]? = some e ∧ lo ≤ a ∧ a < hi
def DY (lo hi : Nat) : Prop := (6 ≤ lo ∧ hi ≤ 13) ∨ 108 ≤ lo
def bfl (A : BA) (W : Nat → Int32) : List Value := [.ref A.d, .ref A.p, .ref A.f, .ref A.s, .int (W 0), .int (W 1), .int (W 2), .int (W 3), .int (W 4), .int (W 7), .int A.tk, .int A.ec, .int (W 9), .int (W 8)]
def mofl (W : Nat → Int32) (k : Nat) : List Value := [.int (W (24 + 3 * k)), .int (W (24 + 3 * k + 1)), .int (W (24 + 3 * k + 2))]
def BD (X : AH) (lo hi b : Nat) (A : BA) (W : Nat → Int32) : Prop := (DY lo hi) ∧ (DX X lo hi b (.inr (2, bfl A W))) ∧ (DX X lo hi A.d (.inr (3, [.int A.dm, .ref A.dq, .int (nI (nW W 5))]))) ∧ (DX X lo hi A.dq (.inl (6, 24, .inr (.inr A.df)))) ∧ (DX X lo hi A.p (.inr (3, [.int A.pm, .ref A.pq, .int (nI (nW W 6))]))) ∧ (DX X lo hi A.pq (.inl (6, 4, .inr (.inr A.pf)))) ∧ (DX X lo hi A.f (.inl (0, 6, .inl A.ff))) ∧ (DX X lo hi A.s (.inl (0, 6, .inl A.sf))) ∧ (A.f ≠ A.s) ∧ (W 0 ≠ 0 → A.tk = W 10 ∧ A.ec = W 11) ∧ (W 5 = nI (nW W 5) ∧ nW W 5 ≤ 24) ∧ (W 6 = nI (nW W 6) ∧ nW W 6 ≤ 4) ∧ (W 4 = nI (nW W 4) ∧ nW W 4 ≤ 6) ∧ (∀ k, k < nW W 5 → A.df k = some (A.mo k) ∧ DX X lo hi (A.mo k) (.inr (14, mofl W k))) ∧ (∀ j k, j < nW W 5 → k < nW W 5 → A.mo j = A.mo k → j = k) ∧ (∀ k, k < nW W 6 → A.pf k = some (A.pl k) ∧ DX X lo hi (A.pl k) (.inr (15, [.ref (A.pi k)])) ∧ DX X lo hi (A.pi k) (.inl (0, 5, .inl (A.pv k))) ∧ ∀ j, j < 5 → A.pv k j = W (96 + 5 * k + j)) ∧ (∀ j k, j < nW W 6 → k < nW W 6 → A.pi j = A.pi k → j = k) ∧ (∀ k, k < nW W 4 → A.ff k = W (12 + 2 * k) ∧ A.sf k = W (12 + 2 * k + 1))
theorem BD.dy {X : AH} {lo hi b : Nat} {A : BA} {W : Nat → Int32} (h : BD X lo hi b A W) : DY lo hi := h.1
theorem BD.ob {X : AH} {lo hi b : Nat} {A : BA} {W : Nat → Int32} (h : BD X lo hi b A W) : DX X lo hi b (.inr (2, bfl A W)) := h.2.1
theorem BD.od {X : AH} {lo hi b : Nat} {A : BA} {W : Nat → Int32} (h : BD X lo hi b A W) : DX X lo hi A.d (.inr (3, [.int A.dm, .ref A.dq, .int (nI (nW W 5))])) := h.2.2.1
theorem BD.oq {X : AH} {lo hi b : Nat} {A : BA} {W : Nat → Int32} (h : BD X lo hi b A W) : DX X lo hi A.dq (.inl (6, 24, .inr (.inr A.df))) := h.2.2.2.1
theorem BD.op {X : AH} {lo hi b : Nat} {A : BA} {W : Nat → Int32} (h : BD X lo hi b A W) : DX X lo hi A.p (.inr (3, [.int A.pm, .ref A.pq, .int (nI (nW W 6))])) := h.2.2.2.2.1
theorem BD.orr {X : AH} {lo hi b : Nat} {A : BA} {W : Nat → Int32} (h : BD X lo hi b A W) : DX X lo hi A.pq (.inl (6, 4, .inr (.inr A.pf))) := h.2.2.2.2.2.1
theorem BD.of {X : AH} {lo hi b : Nat} {A : BA} {W : Nat → Int32} (h : BD X lo hi b A W) : DX X lo hi A.f (.inl (0, 6, .inl A.ff)) := h.2.2.2.2.2.2.1
theorem BD.os {X : AH} {lo hi b : Nat} {A : BA} {W : Nat → Int32} (h : BD X lo hi b A W) : DX X lo hi A.s (.inl (0, 6, .inl A.sf)) := h.2.2.2.2.2.2.2.1
theorem BD.fs {X : AH} {lo hi b : Nat} {A : BA} {W : Nat → Int32} (h : BD X lo hi b A W) : A.f ≠ A.s := h.2.2.2.2.2.2.2.2.1
theorem BD.te {X : AH} {lo hi b : Nat} {A : BA} {W : Nat → Int32} (h : BD X lo hi b A W) : W 0 ≠ 0 → A.tk = W 10 ∧ A.ec = W 11 := h.2.2.2.2.2.2.2.2.2.1
theorem BD.n5 {X : AH} {lo hi b : Nat} {A : BA} {W : Nat → Int32} (h : BD X lo hi b A W) : W 5 = nI (nW W 5) ∧ nW W 5 ≤ 24 := h.2.2.2.2.2.2.2.2.2.2.1
theorem BD.n6 {X : AH} {lo hi b : Nat} {A : BA} {W : Nat → Int32} (h : BD X lo hi b A W) : W 6 = nI (nW W 6) ∧ nW W 6 ≤ 4 := h.2.2.2.2.2.2.2.2.2.2.2.1
theorem BD.n4 {X : AH} {lo hi b : Nat} {A : BA} {W : Nat → Int32} (h : BD X lo hi b A W) : W 4 = nI (nW W 4) ∧ nW W 4 ≤ 6 := h.2.2.2.2.2.2.2.2.2.2.2.2.1
theorem BD.mo {X : AH} {lo hi b : Nat} {A : BA} {W : Nat → Int32} (h : BD X lo hi b A W) : ∀ k, k < nW W 5 → A.df k = some (A.mo k) ∧ DX X lo hi (A.mo k) (.inr (14, mofl W k)) := h.2.2.2.2.2.2.2.2.2.2.2.2.2.1
theorem BD.mi {X : AH} {lo hi b : Nat} {A : BA} {W : Nat → Int32} (h : BD X lo hi b A W) : ∀ j k, j < nW W 5 → k < nW W 5 → A.mo j = A.mo k → j = k := h.2.2.2.2.2.2.2.2.2.2.2.2.2.2.1
theorem BD.pl {X : AH} {lo hi b : Nat} {A : BA} {W : Nat → Int32} (h : BD X lo hi b A W) : ∀ k, k < nW W 6 → A.pf k = some (A.pl k) ∧ DX X lo hi (A.pl k) (.inr (15, [.ref (A.pi k)])) ∧ DX X lo hi (A.pi k) (.inl (0, 5, .inl (A.pv k))) ∧ ∀ j, j < 5 → A.pv k j = W (96 + 5 * k + j) := h.2.2.2.2.2.2.2.2.2.2.2.2.2.2.2.1
theorem BD.pj {X : AH} {lo hi b : Nat} {A : BA} {W : Nat → Int32} (h : BD X lo hi b A W) : ∀ j k, j < nW W 6 → k < nW W 6 → A.pi j = A.pi k → j = k := h.2.2.2.2.2.2.2.2.2.2.2.2.2.2.2.2.1
theorem BD.st {X : AH} {lo hi b : Nat} {A : BA} {W : Nat → Int32} (h : BD X lo hi b A W) : ∀ k, k < nW W 4 → A.ff k = W (12 + 2 * k) ∧ A.sf k = W (12 + 2 * k + 1) := h.2.2.2.2.2.2.2.2.2.2.2.2.2.2.2.2.2
theorem DY.dyn {lo hi a : Nat} (h : DY lo hi) (h1 : lo ≤ a) (h2 : a < hi) : dyn a := by
  rcases h with ⟨h, h3⟩ | h
  · exact Or.inl ⟨by omega, by omega⟩
  · exact Or.inr (by omega)
theorem DX.at {C : SC} {S : SM} {X : AH} {lo hi a : Nat} {e : AE} (h : DX X lo hi a e) (hy : DY lo hi) : (cH C S X)[a]? = some e := (cH_dyn (hy.dyn h.2.1 h.2.2)).trans h.1
theorem DX.app {X Z : AH} {lo hi a : Nat} {e : AE} (h : DX X lo hi a e) : DX (X ++ Z) lo hi a e := ⟨(List.getElem?_append_left (List.getElem?_eq_some_iff.mp h.1).1).trans h.1, h.2⟩
theorem DX.set {X : AH} {lo hi a b : Nat} {e e' : AE} (h : DX X lo hi a e) (hb : b ≠ a) : DX (X.set b e') lo hi a e := ⟨(List.getElem?_set_ne hb).trans h.1, h.2⟩
theorem DX.set_s {X : AH} {lo hi a : Nat} {e e' : AE} (h : DX X lo hi a e) : DX (X.set a e') lo hi a e' := ⟨List.getElem?_set_self (List.getElem?_eq_some_iff.mp h.1).1, h.2⟩
/-- X' holds all cells from lo to hi of X -/
def SubX (X X' : AH) (lo hi : Nat) : Prop := ∀ a e, lo ≤ a → a < hi → X[a]? = some e → X'[a]? = some e
theorem DX.sub {X X' : AH} {lo hi a : Nat} {e : AE} (h : DX X lo hi a e) (q : SubX X X' lo hi) : DX X' lo hi a e := ⟨q a e h.2.1 h.2.2 h.1, h.2⟩
theorem SubX.app (X Z : AH) (lo hi : Nat) : SubX X (X ++ Z) lo hi := fun a e _ _ h => (List.getElem?_append_left (List.getElem?_eq_some_iff.mp h).1).trans h
theorem SubX.set {X : AH} {lo hi b : Nat} {e' : AE} (h : b < lo ∨ hi ≤ b) : SubX X (X.set b e') lo hi := fun a e h1 h2 q => (List.getElem?_set_ne (by omega)).trans q
theorem SubX.tr {X X' X'' : AH} {lo hi : Nat} (h : SubX X X' lo hi) (h' : SubX X' X'' lo hi) : SubX X X'' lo hi := fun a e h1 h2 q => h' a e h1 h2 (h a e h1 h2 q)
theorem BD.sub {X X' : AH} {lo hi b : Nat} {A : BA} {W : Nat → Int32} (h : BD X lo hi b A W) (q : SubX X X' lo hi) : BD X' lo hi b A W := ⟨h.dy, h.ob.sub q, h.od.sub q, h.oq.sub q, h.op.sub q, h.orr.sub q, h.of.sub q, h.os.sub q, h.fs, h.te, h.n5, h.n6, h.n4, fun k hk => ⟨(h.mo k hk).1, (h.mo k hk).2.sub q⟩, h.mi, fun k hk => ⟨(h.pl k hk).1, (h.pl k hk).2.1.sub q, (h.pl k hk).2.2.1.sub q, (h.pl k hk).2.2.2⟩, h.pj, h.st⟩
theorem BD.app {X Z : AH} {lo hi b : Nat} {A : BA} {W : Nat → Int32} (h : BD X lo hi b A W) : BD (X ++ Z) lo hi b A W := h.sub (SubX.app X Z lo hi)
theorem BD.drum {C : SC} {S : SM} {X : AH} {lo hi b : Nat} {A : BA} {W : Nat → Int32} (h : BD X lo hi b A W) : LI (cH C S X) A.d A.dq 24 (nW W 5) A.dm A.df := ⟨h.od.at h.dy, h.oq.at h.dy, h.n5.2, by decide⟩
theorem BD.plas {C : SC} {S : SM} {X : AH} {lo hi b : Nat} {A : BA} {W : Nat → Int32} (h : BD X lo hi b A W) : LI (cH C S X) A.p A.pq 4 (nW W 6) A.pm A.pf := ⟨h.op.at h.dy, h.orr.at h.dy, h.n6.2, by decide⟩
/-- the board now is b, a picture of W -/
def EV (C : SC) (X : AH) (lo hi b : Nat) (A : BA) (W : Nat → Int32) : Prop := (108 ≤ X.length) ∧ (C.2.2.2.1 0 = some b) ∧ (BD X lo hi b A W) ∧ (WFa W)
theorem EV.X {C : SC} {X : AH} {lo hi b : Nat} {A : BA} {W : Nat → Int32} (h : EV C X lo hi b A W) : 108 ≤ X.length := h.1
theorem EV.n {C : SC} {X : AH} {lo hi b : Nat} {A : BA} {W : Nat → Int32} (h : EV C X lo hi b A W) : C.2.2.2.1 0 = some b := h.2.1
theorem EV.B {C : SC} {X : AH} {lo hi b : Nat} {A : BA} {W : Nat → Int32} (h : EV C X lo hi b A W) : BD X lo hi b A W := h.2.2.1
theorem EV.w {C : SC} {X : AH} {lo hi b : Nat} {A : BA} {W : Nat → Int32} (h : EV C X lo hi b A W) : WFa W := h.2.2.2
theorem EV.s {C : SC} {X : AH} {lo hi b : Nat} {A : BA} {W : Nat → Int32} (h : EV C X lo hi b A W) : WFs W := h.w.1.1
theorem EV.t {C : SC} {X : AH} {lo hi b : Nat} {A : BA} {W : Nat → Int32} (h : EV C X lo hi b A W) : WFt W := h.w.1.2.1
theorem EV.c {C : SC} {X : AH} {lo hi b : Nat} {A : BA} {W : Nat → Int32} (h : EV C X lo hi b A W) : WFc W := h.w.1.2.2.1
theorem EV.p {C : SC} {X : AH} {lo hi b : Nat} {A : BA} {W : Nat → Int32} (h : EV C X lo hi b A W) : WFp W := h.w.1.2.2.2.1
theorem EV.mol {C C' : SC} {S : SM} {X : AH} {lo hi b : Nat} {A : BA} {W : Nat → Int32} (h : EV C X lo hi b A W) {k : Nat} (hk : k < nW W 5) : (cH C' S X)[A.mo k]? = some (.inr (14, mofl W k)) := (h.B.mo k hk).2.at h.B.dy
theorem EV.pla {C C' : SC} {S : SM} {X : AH} {lo hi b : Nat} {A : BA} {W : Nat → Int32} (h : EV C X lo hi b A W) {k : Nat} (hk : k < nW W 6) : (cH C' S X)[A.pl k]? = some (.inr (15, [.ref (A.pi k)])) := (h.B.pl k hk).2.1.at h.B.dy
theorem EV.pis {C C' : SC} {S : SM} {X : AH} {lo hi b : Nat} {A : BA} {W : Nat → Int32} (h : EV C X lo hi b A W) {k : Nat} (hk : k < nW W 6) : (cH C' S X)[A.pi k]? = some (.inl (0, 5, .inl (A.pv k))) := (h.B.pl k hk).2.2.1.at h.B.dy
theorem EV.isb {C : SC} {X : AH} {lo hi b : Nat} {A : BA} {W : Nat → Int32} (h : EV C X lo hi b A W) : (0 < W 9) ↔ bdW W = true := by
  obtain ⟨m, h1, h2, h3, h4⟩ := h.w.2
  unfold bdW
  rw [decide_eq_true_eq, h1]
  rcases Nat.eq_zero_or_pos m with q | q
  · rw [h3 q 0, q]; decide
  · have h5 := (h4 q).1
    have h6 := h.s.wi
    rw [h6.1]
    exact ⟨fun _ => nI_lt (a := 0) (by omega) (by omega), fun _ => nI_lt (a := 0) q (by omega)⟩
theorem EV.o0 {C C' : SC} {S : SM} {X : AH} {lo hi b : Nat} {A : BA} {W : Nat → Int32} (h : EV C X lo hi b A W) (q : C'.2.2.2.1 0 = C.2.2.2.1 0 := by rfl) : (cH C' S X)[0]? = some (.inr (0, [.ref 1, .ref b, .ref 13, .ref 14, .int (C'.1 0), .int (C'.1 1), .int (C'.1 2), .ref 15, .ref 19, .ref 24, .ref 29, .ref 56, .ref 83])) := by
  have h1 := cg_0 (C := C') (S := S) h.X
  rw [q, h.n] at h1
  exact h1
theorem EV.ob {C C' : SC} {S : SM} {X : AH} {lo hi b : Nat} {A : BA} {W : Nat → Int32} (h : EV C X lo hi b A W) : (cH C' S X)[b]? = some (.inr (2, bfl A W)) := h.B.ob.at h.B.dy
theorem EV.ap {C : SC} {X Z : AH} {lo hi b : Nat} {A : BA} {W : Nat → Int32} (h : EV C X lo hi b A W) : EV C (X ++ Z) lo hi b A W := ⟨by rw [List.length_append]; have := h.X; omega, h.n, h.B.app, h.w⟩
theorem EV.to {C C' : SC} {X : AH} {lo hi b : Nat} {A : BA} {W : Nat → Int32} (h : EV C X lo hi b A W) (q : C'.2.2.2.1 0 = C.2.2.2.1 0) : EV C' X lo hi b A W := ⟨h.X, q.trans h.n, h.B, h.w⟩

