-- PART 88.slotpic
/-! ===== what a slot holds ===== -/
theorem nmB : "[" ++ FieldType.byte.toString = "[B" := by decide +kernel
theorem nmS : "[" ++ FieldType.short.toString = "[S" := by decide +kernel
theorem nmI : "[" ++ FieldType.int.toString = "[I" := by decide +kernel
theorem nmJ : "[" ++ FieldType.long.toString = "[J" := by decide +kernel
section RI
variable {g : GW} {d : Nat} {y : MethodName} {cc : ByteArray} {nL : Nat} {ret : Option FieldType} {pc pc0 : Nat} {ls : List (Option Value)} {st : List Value} {h : AH} {c n : Nat} {Q : Option Value → AH → Prop} {idx : Nat}
theorem wp_instY {a t : Nat} {x : AV} {ty : FieldType} {nm : String} (hd : decode cc pc0 = .ok (.instanceof idx, 3)) (e : pc = pc0) (hl : Cond.classLink y.cls idx nm ∈ lw_all) (hn : "[" ++ ty.toString = nm) (ht : (g_tys g)[t]? = some (g.2.1 t, ty)) (hp : refKind ty = false) (ha : h[a]? = some (.inl (t, x))) (kk : WP g d y cc nL ret (pc0 + 3) ls (.int 1 :: st) h c n Q) : WP g d y cc nL ret pc ls (.ref a :: st) h c n Q := wp_instA hd e (by rw [hn]; exact hl) ht hp ha kk
theorem wp_instZ {a t : Nat} {x : AV} {ty : FieldType} {nm nm0 : String} (hd : decode cc pc0 = .ok (.instanceof idx, 3)) (e : pc = pc0) (hl : Cond.classLink y.cls idx nm ∈ lw_all) (hn : "[" ++ ty.toString = nm0) (ht : (g_tys g)[t]? = some (g.2.1 t, ty)) (hp : refKind ty = false) (hnc : (nm0, nm) ∈ ncT) (ha : h[a]? = some (.inl (t, x))) (kk : WP g d y cc nL ret (pc0 + 3) ls (.int 0 :: st) h c n Q) : WP g d y cc nL ret pc ls (.ref a :: st) h c n Q := wp_instA0 hd e hl ht hp (by rw [hn]; exact hnc) ha kk
theorem wp_castY {a t : Nat} {x : AV} {ty : FieldType} {nm : String} (hd : decode cc pc0 = .ok (.checkcast idx, 3)) (e : pc = pc0) (hl : Cond.classLink y.cls idx nm ∈ lw_all) (hn : "[" ++ ty.toString = nm) (ht : (g_tys g)[t]? = some (g.2.1 t, ty)) (hp : refKind ty = false) (ha : h[a]? = some (.inl (t, x))) (kk : WP g d y cc nL ret (pc0 + 3) ls (.ref a :: st) h c n Q) : WP g d y cc nL ret pc ls (.ref a :: st) h c n Q := wp_castA hd e (by rw [hn]; exact hl) ht hp ha kk
end RI
theorem cgs {C : SC} {S : SM} {X : AH} (hX : 108 ≤ X.length) {s : Nat} (hs : s < 4) : (cH C S X)[2 + s]? = some (.inr (1, [va_rf (C.2.2.2.1 (2 + s))])) := by
  match s, hs with
  | 0, _ => exact cg_2 hX
  | 1, _ => exact cg_3 hX
  | 2, _ => exact cg_4 hX
  | 3, _ => exact cg_5 hX
theorem css {C : SC} {S : SM} {X : AH} {s : Nat} (hs : s < 4) {r : Nat} {v : Value} : (cH C S X).set (2 + s) (.inr (1, [v].set 0 (.ref r))) = cH (cR (2 + s) (some r) C) S X := by
  match s, hs with
  | 0, _ => exact cs_2_0
  | 1, _ => exact cs_3_0
  | 2, _ => exact cs_4_0
  | 3, _ => exact cs_5_0
/-- the cells a holds n numbers nu of width w -/
def HE (X : AH) (a n : Nat) (w : Int32) (nu : Nat → Int64) : Prop := dyn a ∧ n ≤ 60 ∧ ((w = 0 ∧ ∃ f, X[a]? = some (.inl (1, n, .inl f)) ∧ ∀ i, i < n → (f i).toInt64 = nu i) ∨ (w = 1 ∧ ∃ f, X[a]? = some (.inl (2, n, .inl f)) ∧ ∀ i, i < n → (f i).toInt64 = nu i) ∨ (w = 2 ∧ ∃ f, X[a]? = some (.inl (0, n, .inl f)) ∧ ∀ i, i < n → (f i).toInt64 = nu i) ∨ (w = 3 ∧ ∃ f, X[a]? = some (.inl (3, n, .inr (.inl f))) ∧ ∀ i, i < n → f i = nu i))
theorem HE.app {X Z : AH} {a n : Nat} {w : Int32} {nu : Nat → Int64} (h : HE X a n w nu) : HE (X ++ Z) a n w nu := by
  have key : ∀ e, X[a]? = some e → (X ++ Z)[a]? = some e := fun e q => (List.getElem?_append_left (List.getElem?_eq_some_iff.mp q).1).trans q
  refine ⟨h.1, h.2.1, ?_⟩
  rcases h.2.2 with ⟨e, f, h1, h2⟩ | ⟨e, f, h1, h2⟩ | ⟨e, f, h1, h2⟩ | ⟨e, f, h1, h2⟩
  · exact Or.inl ⟨e, f, key _ h1, h2⟩
  · exact Or.inr (Or.inl ⟨e, f, key _ h1, h2⟩)
  · exact Or.inr (Or.inr (Or.inl ⟨e, f, key _ h1, h2⟩))
  · exact Or.inr (Or.inr (Or.inr ⟨e, f, key _ h1, h2⟩))
/-- slot s holds nothing (m = -1) or m numbers -/
def HS (C : SC) (X : AH) (s : Nat) (m w : Int32) (nu : Nat → Int64) : Prop := (m = -1 ∧ C.2.2.2.1 (2 + s) = none) ∨ ∃ a n, m = nI n ∧ C.2.2.2.1 (2 + s) = some a ∧ HE X a n w nu
/-- all slots: sl as the reference has it -/
def HSS (C : SC) (X : AH) (sl : SLt) : Prop := ∀ s, s < 4 → HS C X s (sl.1 s) (sl.2.1 s) (fun i => sl.2.2 (60 * s + i))
theorem HSS.kc {C C' : SC} {X : AH} {sl : SLt} (h : HSS C X sl) (k : KC C C') : HSS C' X sl := fun s hs => by
  have e := k.2.2.1 (2 + s) (by omega)
  unfold HSS HS at h
  unfold HS
  rw [e]
  exact h s hs
theorem HSS.app {C : SC} {X Z : AH} {sl : SLt} (h : HSS C X sl) : HSS C (X ++ Z) sl := fun s hs => by
  rcases h s hs with q | ⟨a, n, h1, h2, h3⟩
  · exact Or.inl q
  · exact Or.inr ⟨a, n, h1, h2, h3.app⟩
