-- PART 74.rowsg
/-! ===== stores into objects that have two fields of one name (final ones, of two declarers) ===== -/
def pubN (T : u_T) (a b : Nat) : Bool := !decide ((T a).2.1 = (T b).2.1) || ((T a).2.2.2 && ((T b).2.2.2 && !decide ((T a).1 = (T b).1)))
def FG (ci k : Nat) (ref nm ds : String) (fin : Bool) (ty : FieldType) (dcl : String) : Prop := ∃ (C : String) (T : u_T) (N : Nat) (ty0 : Nat → FieldType), clT[ci]? = some (C, T, N) ∧ k < N ∧ (T k).2.1 = nm ∧ (T k).2.2.1 = ds ∧ (∀ w ∈ u_ws C T N, w ∈ lw_all) ∧ ((T k).1 = ref ∨ Cond.sameField ref (T k).1 nm ds ∈ lw_all) ∧
  (∀ k, k < N → parseFieldDescriptor (T k).2.2.1 = some (ty0 k)) ∧ (∀ a, a < N → ∀ b, b < N → a ≠ b → pubN T a b = true) ∧ (T k).2.2.2 = fin ∧ ty0 k = ty ∧ (T k).1 = dcl
theorem found_name {s : State} {o n d : String} {c i : Nat} {k : Class} {f : Field} (h : s.fieldFound? o n d = some (c, k, i, f)) (hc : s.vm.findClass o = some c) : k.name = o := by
  obtain ⟨k2, h1, h2⟩ := Vm.findClass_spec hc
  unfold State.fieldFound? at h
  cases e1 : ClassFile.parseFieldDescriptor d with
  | none => rw [e1] at h; cases h
  | some t =>
    rw [e1] at h
    simp only [hc, Option.pure_def, Option.bind_eq_bind, Option.bind_some] at h
    cases e2 : lookupField s.vm n t (s.vm.classes.size + 1) c with
    | none => rw [e2] at h; cases h
    | some x =>
      rw [e2] at h
      simp only [Option.bind_some] at h
      cases e3 : s.vm.classes[x.1]? with
      | none => rw [e3] at h; cases h
      | some k3 =>
        rw [e3] at h
        simp only [Option.bind_some] at h
        cases e4 : k3.fields[x.2]? with
        | none => rw [e4] at h; cases h
        | some f4 =>
          rw [e4] at h
          simp only [Option.bind_some, Option.some.injEq, Prod.mk.injEq] at h
          obtain ⟨h5, h6, -, -⟩ := h
          rw [h5, h1] at e3
          cases e3
          rw [← h6, h2]
theorem fin_apart {args : Array Value} {s : State} {C o n d o' n' d' : String} (h : (Cond.laysFinal C o n d).before args s = true) (h' : (Cond.laysFinal C o' n' d').before args s = true)
    {cf kf fi fd cf' kf' fi' fd'} (hi : s.fieldFound? o n d = some (cf, kf, fi, fd)) (hi' : s.fieldFound? o' n' d' = some (cf', kf', fi', fd')) (hne : o ≠ o') : fd.slot ≠ fd'.slot := by
  obtain ⟨c, k, c1, k1, i1, f1, a1, a2, a3, -, -, -, a4, -, e, a5, a6, -⟩ := Cond.laysFinal_spec h
  obtain ⟨c', k', c2, k2, i2, f2, b1, b2, b3, -, -, -, b4, -, e', b5, b6, -⟩ := Cond.laysFinal_spec h'
  cases a1.symm.trans b1
  cases hi.symm.trans a3
  cases hi'.symm.trans b3
  intro q
  rw [q] at a5
  cases a5.symm.trans b5
  refine hne ?_
  rw [← found_name a3 a4, ← found_name b3 b4, ← a6, ← b6]
theorem lay_fin {T : u_T} {C : String} {k : Nat} (h : (T k).2.2.2 = true) : u_lay C T k = .laysFinal C (T k).1 (T k).2.1 (T k).2.2.1 := by
  unfold u_lay
  rw [if_pos h]
section RG
variable {g : GW} {d : Nat} {y : MethodName} {cc : ByteArray} {nL : Nat} {ret : Option FieldType} {pc pc0 : Nat} {ls : List (Option Value)} {st : List Value} {h h' : AH} {c n : Nat} {Q : Option Value → AH → Prop}
theorem g_apart {s : State} {args : Array Value} {own C : String} {T : u_T} {N ci : Nat} {Ts : List Cond} {D : va_G} {cl : List vw_C} {tys : List (ClassId × FieldType)} (hts : ∀ w ∈ Ts, w.before args s = true) (hin : ∀ w ∈ u_ws C T N, w ∈ Ts) (ty : Nat → FieldType) (hty : ∀ k, k < N → parseFieldDescriptor (T k).2.2.1 = some (ty k)) (hnm : ∀ a, a < N → ∀ b, b < N → a ≠ b → pubN T a b = true) (hK : va_K D cl tys s) (hc : cl[ci]? = some (C, T, N)) : ∀ x y, x < N → y < N → x ≠ y → (D.2 ci) x ≠ (D.2 ci) y := by
  intro x y hx hy hne
  obtain ⟨hS, -⟩ := hK.1 ci _ hc
  obtain ⟨_, _, _, fa, hia, ea⟩ := hS x hx
  obtain ⟨_, _, _, fb, hib, eb⟩ := hS y hy
  rw [← ea, ← eb]
  have hp := hnm x hx y hy hne
  unfold pubN at hp
  rw [Bool.or_eq_true, Bool.and_eq_true, Bool.and_eq_true, Bool.not_eq_true', Bool.not_eq_true', decide_eq_false_iff_not, decide_eq_false_iff_not] at hp
  rcases hp with hp | ⟨h1, h2, h3⟩
  · refine u_apart (u_lays hts hin hx) (u_lays hts hin hy) hia hib ?_
    rw [(State.fieldFound?_type hia (hty x hx)).1, (State.fieldFound?_type hib (hty y hy)).1]
    exact hp
  · have l1 := hts _ (hin _ (u_in_lay hx))
    have l2 := hts _ (hin _ (u_in_lay hy))
    rw [lay_fin h1] at l1
    rw [lay_fin h2] at l2
    exact fin_apart l1 l2 hia hib h3
theorem wp_putfG {a ci k idx : Nat} {fs : List Value} {v : Value} {ref nm ds dcl : String} {ty : FieldType} (hd : decode cc pc0 = .ok (.putfield idx, 3)) (e : pc = pc0) (hl : Cond.fieldLink y.cls idx ref nm ds ∈ lw_all) (hk : FG ci k ref nm ds false ty dcl) (ha : h[a]? = some (.inr (ci, fs))) (hn1 : narrow ty v = v) (hf : fits ty v = true) (hlt : k < fs.length) (hh : h.set a (.inr (ci, fs.set k v)) = h') (kk : WP g d y cc nL ret (pc0 + 3) ls st h' c n Q) : WP g d y cc nL ret pc ls (v :: .ref a :: st) h c n Q := by
  subst e
  subst hh
  obtain ⟨C0, T, N, ty0, q1, q2, q3, q4, q5, q6, q7, q8, q9, q10, q11⟩ := hk
  intro p l e R s m args below meth cd H locs cells slots arr C hS hP hl' hc hn
  refine g_store hP ha (nj q1) (nj q1) hS (g_fset g a ci k fs v) (fun k1 kr => ?_)
    (fun H1 locs1 g3 g4 => kk p l e R s m args below meth cd H1 locs1 cells slots arr C g3 g4 hl' hc hn)
  have he := g_P.at (g := g) ha (nj q1)
  have hap := g_apart C.ts q5 ty0 q7 q8 C.K q1 (own := C0)
  obtain ⟨r, h1, cell, p1, p2, p3, p4⟩ := hP.2.1 (g_ix h a) _ he
  have hr : r = (C0, T, N) := Option.some.inj (h1.symm.trans q1)
  subst hr
  obtain ⟨hS1, hfc, kC, hkC, hkind⟩ := C.K.1 ci _ q1
  obtain ⟨cf, kf, fi, f, hi, hsl⟩ := hS1 k q2
  have hlay := C.ts _ (q5 _ (u_in_lay q2))
  unfold u_lay at hlay
  rw [if_neg (by rw [q9]; decide)] at hlay
  have hst := (u_facts hfc hkC (u_lays C.ts q5 q2) hi).1
  have h6 := u_store hfc hkC hkind hlay hi (by rw [q7 _ q2, q10]) (narrow_cv g hn1) (fits_cv g hf)
  refine W.putK C.1 C.2.1 (f := f) ⟨C.ow, (by rw [q3, q4]; exact C.ts _ hl), ⟨_, _, _, FK.same (ci := ci) C.ts q3 q4 q6 _ hi⟩, hst⟩ (by rw [p2]; exact h6) p1 p3 (by rw [hsl]; exact k2_hasslot (p4 k q2)) rfl rfl hd fun H' e1 e2 e3 => ?_
  rw [hsl] at e1 ⊢
  exact kr H' _ (hP.2.1.set hP.2.2 he ⟨_, q1, t_OB.to (V := updV (vp_V (fs.map (g_cv g))) k (g_cv g v)) ⟨_, e1, p2, p3, t_set p4 hap q2 _⟩ (fun j _ => vp_updV_set (by rw [List.length_map]; exact hlt) _ j)⟩ e3) (hP.2.2.set he) (hS.base.put e2 e3 (hP.2.2.2 (g_ix h a) _ he))
theorem wp_putfGF {a ci k idx : Nat} {fs : List Value} {v : Value} {ref nm ds dcl : String} {ty : FieldType} (hd : decode cc pc0 = .ok (.putfield idx, 3)) (e : pc = pc0) (hl : Cond.fieldLink y.cls idx ref nm ds ∈ lw_all) (hk : FG ci k ref nm ds true ty dcl) (hi0 : y.name = "<init>") (hdc : dcl = y.cls) (ha : h[a]? = some (.inr (ci, fs))) (hn1 : narrow ty v = v) (hf : fits ty v = true) (hlt : k < fs.length) (hh : h.set a (.inr (ci, fs.set k v)) = h') (kk : WP g d y cc nL ret (pc0 + 3) ls st h' c n Q) : WP g d y cc nL ret pc ls (v :: .ref a :: st) h c n Q := by
  subst e
  subst hh
  obtain ⟨C0, T, N, ty0, q1, q2, q3, q4, q5, q6, q7, q8, q9, q10, q11⟩ := hk
  intro p l e R s m args below meth cd H locs cells slots arr C hS hP hl' hc hn
  refine g_store hP ha (nj q1) (nj q1) hS (g_fset g a ci k fs v) (fun k1 kr => ?_)
    (fun H1 locs1 g3 g4 => kk p l e R s m args below meth cd H1 locs1 cells slots arr C g3 g4 hl' hc hn)
  have he := g_P.at (g := g) ha (nj q1)
  have hap := g_apart C.ts q5 ty0 q7 q8 C.K q1 (own := C0)
  obtain ⟨r, h1, cell, p1, p2, p3, p4⟩ := hP.2.1 (g_ix h a) _ he
  have hr : r = (C0, T, N) := Option.some.inj (h1.symm.trans q1)
  subst hr
  obtain ⟨hS1, hfc, kC, hkC, hkind⟩ := C.K.1 ci _ q1
  obtain ⟨cf, kf, fi, f, hi, hsl⟩ := hS1 k q2
  have hlay := C.ts _ (q5 _ (u_in_lay q2))
  rw [lay_fin q9] at hlay
  have hst := (u_facts hfc hkC (u_lays C.ts q5 q2) hi).1
  have hcf : m.cls = cf := by
    obtain ⟨_, _, c', _, _, _, -, -, hf', -, -, -, hown2, -⟩ := Cond.laysFinal_spec hlay
    have e1 : c' = cf := by have := hi.symm.trans hf'; simp at this; exact this.1.symm
    rw [q11, hdc] at hown2
    rw [← e1]
    exact Option.some.inj (C.ow.symm.trans hown2)
  have h6 := u_fits hfc hkC hkind (Or.inr hlay) hi (by rw [q7 _ q2, q10]) (narrow_cv g hn1) (fits_cv g hf)
  refine W.putFinK C.1 C.2.1 C.ow (by rw [q3, q4]; exact C.ts _ hl) (FK.same (ci := ci) C.ts q3 q4 q6 _ hi) hst hcf (C.nm.trans hi0) (by rw [p2]; exact h6) p1 p3 (by rw [hsl]; exact k2_hasslot (p4 k q2)) rfl rfl hd fun H' e1 e2 e3 => ?_
  rw [hsl] at e1 ⊢
  exact kr H' _ (hP.2.1.set hP.2.2 he ⟨_, q1, t_OB.to (V := updV (vp_V (fs.map (g_cv g))) k (g_cv g v)) ⟨_, e1, p2, p3, t_set p4 hap q2 _⟩ (fun j _ => vp_updV_set (by rw [List.length_map]; exact hlt) _ j)⟩ e3) (hP.2.2.set he) (hS.base.put e2 e3 (hP.2.2.2 (g_ix h a) _ he))
end RG
