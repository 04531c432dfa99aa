-- PART 97.copyrows
/-! ===== System.arraycopy ===== -/
section CY
variable {g : GW} {d : Nat} {y : MethodName} {cc : ByteArray} {nL : Nat} {ret : Option FieldType} {pc pc0 : Nat} {ls : List (Option Value)} {st : List Value} {h h' : AH} {c n : Nat} {Q : Option Value → AH → Prop}
theorem nfw7 : nativeFrameWords "java/lang/System" "arraycopy" 5 = 7 := by decide
theorem wp_copyI {a b t n0 n1 idx : Nat} {ty : FieldType} {f f2 : Nat → Int32} {sp dp m : Int32} (hd : decode cc pc0 = .ok (.invokestatic idx, 3)) (e : pc = pc0) (hl : Cond.methodLink y.cls idx arraycopyName ∈ lw_all) (ht : (g_tys g)[t]? = some (g.2.1 t, ty)) (hp : refKind ty = false) (ha : h[a]? = some (.inl (t, n0, .inl f))) (hb : h[b]? = some (.inl (t, n1, .inl f2))) (hd1 : 1 ≤ d) (hw : (st.map fun v => v.category).sum ≤ 8) (h1 : ¬ sp < 0) (h2 : ¬ dp < 0) (h3 : ¬ m < 0) (h4 : sp.toNatClampNeg + m.toNatClampNeg ≤ n0) (h5 : dp.toNatClampNeg + m.toNatClampNeg ≤ n1) (hfit : ∀ i, i < m.toNatClampNeg → fits ty (.int (f (sp.toNatClampNeg + i))) = true) (hh : h.set b (.inl (t, n1, .inl (va_cpy f f2 sp.toNatClampNeg dp.toNatClampNeg m.toNatClampNeg))) = h') (kk : WP g d y cc nL ret (pc0 + 3) ls st h' c n Q) : WP g d y cc nL ret pc ls (.int m :: .int dp :: .ref b :: .int sp :: .ref a :: st) h c n Q := by
  subst e
  subst hh
  intro p l e R s m0 args below meth cd H locs cells slots arr C hS hP hl' hc hn
  refine g_store (e1 := .inl (t, n1, .inl (va_cpy f f2 sp.toNatClampNeg dp.toNatClampNeg m.toNatClampNeg))) hP hb rfl rfl hS rfl (fun k1 kr => va_copyi C.1 C.2.1 (C.ml.trans hl'.1.symm) C.ow (C.ts _ hl) (C.ts _ q382) (C.ts _ q381) (C.ts _ q173) C.K hP.2.1 hP.2.2 hS.base (g_ix h a) (g_ix h b) t t (g_P.at ha rfl) (g_P.at hb rfl) ht ht hp h1 h2 h3 h4 h5 hfit (Nat.le_trans hd1 C.2.2.2.2.2.2.2.2.2.1) ?_ hd kr)
    (fun H1 locs1 g3 g4 => kk p l e R s m0 args below meth cd H1 locs1 cells slots arr C g3 g4 hl' hc hn)
  rw [nfw7, g_cats]
  have h40 := C.2.2.2.2.2.2.2.2.2.2.1
  omega
theorem wp_copyL {a b n0 n1 idx : Nat} {f f2 : Nat → Int64} {sp dp m : Int32} (hd : decode cc pc0 = .ok (.invokestatic idx, 3)) (e : pc = pc0) (hl : Cond.methodLink y.cls idx arraycopyName ∈ lw_all) (ha : h[a]? = some (.inl (3, n0, .inr (.inl f)))) (hb : h[b]? = some (.inl (3, n1, .inr (.inl f2)))) (hd1 : 1 ≤ d) (hw : (st.map fun v => v.category).sum ≤ 8) (h1 : ¬ sp < 0) (h2 : ¬ dp < 0) (h3 : ¬ m < 0) (h4 : sp.toNatClampNeg + m.toNatClampNeg ≤ n0) (h5 : dp.toNatClampNeg + m.toNatClampNeg ≤ n1) (hh : h.set b (.inl (3, n1, .inr (.inl (va_cpy f f2 sp.toNatClampNeg dp.toNatClampNeg m.toNatClampNeg)))) = h') (kk : WP g d y cc nL ret (pc0 + 3) ls st h' c n Q) : WP g d y cc nL ret pc ls (.int m :: .int dp :: .ref b :: .int sp :: .ref a :: st) h c n Q := by
  subst e
  subst hh
  intro p l e R s m0 args below meth cd H locs cells slots arr C hS hP hl' hc hn
  refine g_store (e1 := .inl (3, n1, .inr (.inl (va_cpy f f2 sp.toNatClampNeg dp.toNatClampNeg m.toNatClampNeg)))) hP hb rfl rfl hS rfl (fun k1 kr => va_copyl C.1 C.2.1 (C.ml.trans hl'.1.symm) C.ow (C.ts _ hl) (C.ts _ q382) (C.ts _ q381) (C.ts _ q173) C.K hP.2.1 hP.2.2 hS.base (g_ix h a) (g_ix h b) 3 3 (g_P.at ha rfl) (g_P.at hb rfl) rfl rfl rfl h1 h2 h3 h4 h5 (fun _ _ => rfl) (Nat.le_trans hd1 C.2.2.2.2.2.2.2.2.2.1) ?_ hd kr)
    (fun H1 locs1 g3 g4 => kk p l e R s m0 args below meth cd H1 locs1 cells slots arr C g3 g4 hl' hc hn)
  rw [nfw7, g_cats]
  have h40 := C.2.2.2.2.2.2.2.2.2.2.1
  omega
end CY
