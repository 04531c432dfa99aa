/-! ===== boards copied; images ===== -/
set_option maxRecDepth 100000
theorem BD.ll {X : AH} {lo hi b : Nat} {A : BA} {W : Nat → Int32} (h : BD X lo hi b A W) : 108 ≤ lo → dyn b ∧ dyn A.d ∧ dyn A.dq ∧ dyn A.p ∧ dyn A.pq ∧ dyn A.f ∧ dyn A.s := fun q =>
  ⟨Or.inr (by have := h.ob.2; omega), Or.inr (by have := h.od.2; omega), Or.inr (by have := h.oq.2; omega), Or.inr (by have := h.op.2; omega), Or.inr (by have := h.orr.2; omega), Or.inr (by have := h.of.2; omega), Or.inr (by have := h.os.2; omega)⟩
theorem ny_a {X : AH} (hX : 108 ≤ X.length) {n : Nat} (h : X.length ≤ n) : dyn n := Or.inr (by omega)
theorem red_b {W : Nat → Int32} (hc : WFc W) {k : Nat} (hk : k < nW W 5) : ∃ r, W (24 + 3 * k + 2) = b2i r := by
  obtain ⟨a, p, r, -, -, e, -⟩ := hc k hk
  exact ⟨r, e⟩
theorem bL_same1 {g : GW} {C : SC} {S : SM} {X0 : AH} {lo hi b : Nat} {A : BA} {W : Nat → Int32} (hX0 : 108 ≤ X0.length) (hB : BD X0 lo hi b A W) (hc : WFc W) {t : Nat} (htn : X0.length ≤ t) {c n : Nat} {Q : Option Value → AH → Prop} : ∀ (k : Nat) (X : AH) (AN : BA) (i : Nat) (la : Int32) (v3 : Option Value), i + k = nW W 5 → XE X0 X → BD X X0.length X.length X0.length AN (pW W i 0) → X[t]? = some (itc i la A.dm A.d) → (∀ X' AN' v3, XE X0 X' → BD X' X0.length X'.length X0.length AN' (pW W (nW W 5) 0) → WP g 6 yX2_same cX2_same 4 (some (.object "MoleBoard$Board")) 54 [some (.ref b), some (.ref X0.length), some (.ref t), v3] [] (cH C S X') c n Q) → WP g 6 yX2_same cX2_same 4 (some (.object "MoleBoard$Board")) 18 [some (.ref b), some (.ref X0.length), some (.ref t), v3] [] (cH C S X) (k + c) (3 * k + n) Q := by
  intro k
  induction k with
  | zero =>
    intro X AN i la v3 hi0 hx hN ht hq
    have hX : 108 ≤ X.length := by have := hx.len; omega
    have h24 := hB.n5.2
    have HT : (cH C S X)[t]? = some (.inr (13, [.int (nI i), .int la, .int A.dm, .ref A.d])) := (cH_dyn (ny_a hX0 htn)).trans ht
    have hB2 := hx.bd hB
    refine wp_aload_2 dX2_same_18 rfl ?_
    refine wp_FxR dX2_same_19 rfl q992 mf_J11_hasNext HT rfl rfl (j_hasNext HT hB2.drum (by omega)) rfl rfl (Nat.le_of_ble_eq_true rfl) (Nat.le_of_ble_eq_true rfl) (Nat.zero_le _) (Nat.zero_le _) ?_
    refine wp_ifeq_b 54 dX2_same_24 rfl rfl (fun c24 => ?_) (fun c24 => ?_)
    · refine WP.mono (by omega) (by omega) (hq X AN _ hx (by rw [show nW W 5 = i by omega]; exact hN))
    · rw [decide_eq_true (show i = nW W 5 by omega)] at c24; exact absurd c24 (by decide)
  | succ k ih =>
    intro X AN i la v3 hi0 hx hN ht hq
    have hX : 108 ≤ X.length := by have := hx.len; omega
    have h24 := hB.n5.2
    have HT : (cH C S X)[t]? = some (.inr (13, [.int (nI i), .int la, .int A.dm, .ref A.d])) := (cH_dyn (ny_a hX0 htn)).trans ht
    have hB2 := hx.bd hB
    refine wp_aload_2 dX2_same_18 rfl ?_
    refine wp_FxR dX2_same_19 rfl q992 mf_J11_hasNext HT rfl rfl (j_hasNext HT hB2.drum (by omega)) rfl rfl (Nat.le_of_ble_eq_true rfl) (Nat.le_of_ble_eq_true rfl) (Nat.zero_le _) (Nat.zero_le _) ?_
    refine wp_ifeq_b 54 dX2_same_24 rfl rfl (fun c24 => ?_) (fun c24 => ?_)
    · rw [decide_eq_false (show ¬ i = nW W 5 by omega)] at c24; exact absurd c24 (by decide)
    · have hi5 : i < nW W 5 := by omega
      refine wp_aload_2 dX2_same_27 rfl ?_
      refine wp_FxR dX2_same_28 rfl q1002 mf_J11_next HT rfl rfl (j_next HT hB2.drum hi5 (hB.mo i hi5).1) rfl rfl (Nat.le_of_ble_eq_true rfl) (Nat.le_of_ble_eq_true rfl) (Nat.zero_le _) (Nat.zero_le _) ?_
      rw [cH_dset (ny_a hX0 htn)]
      have hx3 : XE X0 (X.set t (itc (i + 1) (nI i) A.dm A.d)) := hx.set htn
      have hN3 : BD (X.set t (itc (i + 1) (nI i) A.dm A.d)) X0.length X.length X0.length AN (pW W i 0) := hN.it ht
      have ht3 : (X.set t (itc (i + 1) (nI i) A.dm A.d))[t]? = some (itc (i + 1) (nI i) A.dm A.d) := List.getElem?_set_self (List.getElem?_eq_some_iff.mp ht).1
      have hl3 : (X.set t (itc (i + 1) (nI i) A.dm A.d)).length = X.length := List.length_set
      generalize X.set t (itc (i + 1) (nI i) A.dm A.d) = X3 at *
      have hB3 := hx3.bd hB
      have hX3 : 108 ≤ X3.length := by omega
      have hmo3 := (hB3.mo i hi5).2
      refine wp_castO (r := (RX13, TX13, 3)) dX2_same_33 rfl q1014 (hmo3.at hB.dy) rfl ?_
      refine wp_astore_3 dX2_same_36 rfl (by decide) rfl ?_
      refine wp_aload_1 dX2_same_37 rfl ?_
      refine wp_getf dX2_same_38 rfl q437 fk2_0 (hN3.ob.at hN3.dy) rfl ?_
      refine wp_aload_3 dX2_same_41 rfl ?_
      refine wp_VxR dX2_same_42 rfl q1805 mv_X13_same (hmo3.at hB.dy) rfl rfl (c_mSame (hmo3.at hB.dy) (red_b hc hi5)) rfl rfl (Nat.le_of_ble_eq_true rfl) (Nat.le_of_ble_eq_true rfl) (by omega) (by omega) ?_
      rw [cH_app hX3, cH_len]
      have hx4 : XE X0 (X3 ++ ([.inr (14, mofl W i)] : AH)) := hx3.apr _
      have hN4 : BD (X3 ++ ([.inr (14, mofl W i)] : AH)) X0.length (X3.length + 1) X0.length AN (pW W i 0) := hN3.app.wide (by omega) hX0
      have ht4 : (X3 ++ ([.inr (14, mofl W i)] : AH))[t]? = some (itc (i + 1) (nI i) A.dm A.d) := XE.app X3 _ _ _ ht3
      have hm4 : (X3 ++ ([.inr (14, mofl W i)] : AH))[X3.length]? = some (.inr (14, mofl W i)) := g_last
      have hl4 : (X3 ++ ([.inr (14, mofl W i)] : AH)).length = X3.length + 1 := by rw [List.length_append]; rfl
      change WP g 6 _ _ _ _ _ _ _ (cH C S (X3 ++ ([.inr (14, mofl W i)] : AH))) _ _ Q
      have hold4 : ∀ j, j < i → AN.mo j ≠ X3.length := fun j hj z => by
        have q := (hN3.mo j (by rw [pW_n5 W 0 (by omega)]; exact hj)).2.2.2
        omega
      generalize X3 ++ ([.inr (14, mofl W i)] : AH) = X4 at *
      have hX4 : 108 ≤ X4.length := by omega
      obtain ⟨d1, d2, d3, d4, d5, d6, d7⟩ := hN4.ll hX0
      refine wp_FxR dX2_same_45 rfl q1812 mf_J2_add (hN4.od.at hN4.dy) rfl rfl (j_add14 hN4.drum (by rw [pW_n5 W 0 (by omega)]; omega) ((cH_dyn (Or.inr (by omega))).trans hm4)) rfl rfl (Nat.le_of_ble_eq_true rfl) (Nat.le_of_ble_eq_true rfl) (Nat.zero_le _) (Nat.zero_le _) ?_
      rw [cH_dset d3, cH_dset d2, pW_n5 W 0 (by omega)]
      have hN5 := hN4.addm (W' := pW W (i + 1) 0) (k := i) (r := X3.length) (pW_n5 W 0 (by omega)) (by omega) (by have := hx3.len; omega) (by omega) (by rw [pW_m (show i < i + 1 by omega)]; exact hm4) hold4 (pW_am W i 0 (by omega)) rfl
      have hod4 := hN4.od.1
      have ht5 := set2_it (e1 := .inl (6, 24, .inr (.inr (va_up AN.df i (some X3.length))))) (e2 := .inr (3, [.int (AN.dm + 1), .ref AN.dq, .int (nI (i + 1))])) ht4 hN4.oq.1 (by simp) hod4
      have hx5 : XE X0 ((X4.set AN.dq (.inl (6, 24, .inr (.inr (va_up AN.df i (some X3.length)))))).set AN.d (.inr (3, [.int (AN.dm + 1), .ref AN.dq, .int (nI (i + 1))]))) := (hx4.set hN4.oq.2.1).set hN4.od.2.1
      have hl5 : ((X4.set AN.dq (.inl (6, 24, .inr (.inr (va_up AN.df i (some X3.length)))))).set AN.d (.inr (3, [.int (AN.dm + 1), .ref AN.dq, .int (nI (i + 1))]))).length = X3.length + 1 := by rw [List.length_set, List.length_set]; exact hl4
      generalize (X4.set AN.dq (.inl (6, 24, .inr (.inr (va_up AN.df i (some X3.length)))))).set AN.d (.inr (3, [.int (AN.dm + 1), .ref AN.dq, .int (nI (i + 1))])) = X5 at *
      refine wp_pop dX2_same_50 rfl rfl ?_
      refine wp_goto 18 dX2_same_51 rfl rfl ?_
      exact WP.mono (by omega) (by omega) (ih X5 (AN.am X3.length i) (i + 1) (nI i) _ (by omega) hx5 (by rw [hl5]; exact hN5) ht5 hq)
theorem bL_same2 {g : GW} {C : SC} {S : SM} {X0 : AH} {lo hi b : Nat} {A : BA} {W : Nat → Int32} (hX0 : 108 ≤ X0.length) (hB : BD X0 lo hi b A W) {t : Nat} (htn : X0.length ≤ t) {c n : Nat} {Q : Option Value → AH → Prop} : ∀ (k : Nat) (X : AH) (AN : BA) (i : Nat) (la : Int32) (v3 : Option Value), i + k = nW W 6 → XE X0 X → BD X X0.length X.length X0.length AN (pW W (nW W 5) i) → X[t]? = some (itc i la A.pm A.p) → (∀ X' AN' v3, XE X0 X' → BD X' X0.length X'.length X0.length AN' (pW W (nW W 5) (nW W 6)) → WP g 6 yX2_same cX2_same 4 (some (.object "MoleBoard$Board")) 100 [some (.ref b), some (.ref X0.length), some (.ref t), v3] [] (cH C S X') c n Q) → WP g 6 yX2_same cX2_same 4 (some (.object "MoleBoard$Board")) 64 [some (.ref b), some (.ref X0.length), some (.ref t), v3] [] (cH C S X) (2 * k + c) (6 * k + n) Q := by
  intro k
  induction k with
  | zero =>
    intro X AN i la v3 hi0 hx hN ht hq
    have hX : 108 ≤ X.length := by have := hx.len; omega
    have h24 := hB.n5.2
    have h46 := hB.n6.2
    have HT : (cH C S X)[t]? = some (.inr (13, [.int (nI i), .int la, .int A.pm, .ref A.p])) := (cH_dyn (ny_a hX0 htn)).trans ht
    have hB2 := hx.bd hB
    refine wp_aload_2 dX2_same_64 rfl ?_
    refine wp_FxR dX2_same_65 rfl q992 mf_J11_hasNext HT rfl rfl (j_hasNext HT hB2.plas (by omega)) rfl rfl (Nat.le_of_ble_eq_true rfl) (Nat.le_of_ble_eq_true rfl) (Nat.zero_le _) (Nat.zero_le _) ?_
    refine wp_ifeq_b 100 dX2_same_70 rfl rfl (fun c70 => ?_) (fun c70 => ?_)
    · refine WP.mono (by omega) (by omega) (hq X AN _ hx (by rw [show nW W 6 = i by omega]; exact hN))
    · rw [decide_eq_true (show i = nW W 6 by omega)] at c70; exact absurd c70 (by decide)
  | succ k ih =>
    intro X AN i la v3 hi0 hx hN ht hq
    have hX : 108 ≤ X.length := by have := hx.len; omega
    have h24 := hB.n5.2
    have h46 := hB.n6.2
    have HT : (cH C S X)[t]? = some (.inr (13, [.int (nI i), .int la, .int A.pm, .ref A.p])) := (cH_dyn (ny_a hX0 htn)).trans ht
    have hB2 := hx.bd hB
    refine wp_aload_2 dX2_same_64 rfl ?_
    refine wp_FxR dX2_same_65 rfl q992 mf_J11_hasNext HT rfl rfl (j_hasNext HT hB2.plas (by omega)) rfl rfl (Nat.le_of_ble_eq_true rfl) (Nat.le_of_ble_eq_true rfl) (Nat.zero_le _) (Nat.zero_le _) ?_
    refine wp_ifeq_b 100 dX2_same_70 rfl rfl (fun c70 => ?_) (fun c70 => ?_)
    · rw [decide_eq_false (show ¬ i = nW W 6 by omega)] at c70; exact absurd c70 (by decide)
    · have hi6 : i < nW W 6 := by omega
      refine wp_aload_2 dX2_same_73 rfl ?_
      refine wp_FxR dX2_same_74 rfl q1002 mf_J11_next HT rfl rfl (j_next HT hB2.plas hi6 (hB.pl i hi6).1) rfl rfl (Nat.le_of_ble_eq_true rfl) (Nat.le_of_ble_eq_true rfl) (Nat.zero_le _) (Nat.zero_le _) ?_
      rw [cH_dset (ny_a hX0 htn)]
      have hx3 : XE X0 (X.set t (itc (i + 1) (nI i) A.pm A.p)) := hx.set htn
      have hN3 : BD (X.set t (itc (i + 1) (nI i) A.pm A.p)) X0.length X.length X0.length AN (pW W (nW W 5) i) := hN.it ht
      have ht3 : (X.set t (itc (i + 1) (nI i) A.pm A.p))[t]? = some (itc (i + 1) (nI i) A.pm A.p) := List.getElem?_set_self (List.getElem?_eq_some_iff.mp ht).1
      have hl3 : (X.set t (itc (i + 1) (nI i) A.pm A.p)).length = X.length := List.length_set
      generalize X.set t (itc (i + 1) (nI i) A.pm A.p) = X3 at *
      have hB3 := hx3.bd hB
      have hX3 : 108 ≤ X3.length := by omega
      obtain ⟨-, hpl3, hpi3, hpv3⟩ := hB3.pl i hi6
      refine wp_castO (r := (RX14, TX14, 1)) dX2_same_79 rfl q1813 (hpl3.at hB.dy) rfl ?_
      refine wp_astore_3 dX2_same_82 rfl (by decide) rfl ?_
      refine wp_aload_1 dX2_same_83 rfl ?_
      refine wp_getf dX2_same_84 rfl q441 fk2_1 (hN3.ob.at hN3.dy) rfl ?_
      refine wp_aload_3 dX2_same_87 rfl ?_
      refine wp_VxR dX2_same_88 rfl q1814 mv_X14_same (hpl3.at hB.dy) rfl rfl (c_pSame (hpl3.at hB.dy) (hpi3.at hB.dy)) rfl rfl (Nat.le_of_ble_eq_true rfl) (Nat.le_of_ble_eq_true rfl) (by omega) (by omega) ?_
      rw [cH_app hX3, cH_len]
      have hx4 : XE X0 (X3 ++ ([.inr (15, [.ref (X3.length + 1)]), .inl (0, 5, .inl (va_cpy (A.pv i) (fun _ => 0) 0 0 5))] : AH)) := hx3.apr _
      have hN4 : BD (X3 ++ ([.inr (15, [.ref (X3.length + 1)]), .inl (0, 5, .inl (va_cpy (A.pv i) (fun _ => 0) 0 0 5))] : AH)) X0.length (X3.length + 2) X0.length AN (pW W (nW W 5) i) := hN3.app.wide (by omega) hX0
      have ht4 : (X3 ++ ([.inr (15, [.ref (X3.length + 1)]), .inl (0, 5, .inl (va_cpy (A.pv i) (fun _ => 0) 0 0 5))] : AH))[t]? = some (itc (i + 1) (nI i) A.pm A.p) := XE.app X3 _ _ _ ht3
      have hm4 : (X3 ++ ([.inr (15, [.ref (X3.length + 1)]), .inl (0, 5, .inl (va_cpy (A.pv i) (fun _ => 0) 0 0 5))] : AH))[X3.length]? = some (.inr (15, [.ref (X3.length + 1)])) := by
        rw [List.getElem?_append_right (Nat.le_refl _), Nat.sub_self]; rfl
      have hp4 : (X3 ++ ([.inr (15, [.ref (X3.length + 1)]), .inl (0, 5, .inl (va_cpy (A.pv i) (fun _ => 0) 0 0 5))] : AH))[X3.length + 1]? = some (.inl (0, 5, .inl (va_cpy (A.pv i) (fun _ => 0) 0 0 5))) := by
        rw [List.getElem?_append_right (by omega), Nat.add_sub_cancel_left]; rfl
      have hl4 : (X3 ++ ([.inr (15, [.ref (X3.length + 1)]), .inl (0, 5, .inl (va_cpy (A.pv i) (fun _ => 0) 0 0 5))] : AH)).length = X3.length + 2 := by rw [List.length_append]; rfl
      have hold4 : ∀ j, j < i → AN.pi j ≠ X3.length + 1 := fun j hj z => by
        have q := (hN3.pl j (by rw [pW_n6 W (nW W 5) (by omega)]; exact hj)).2.2.1.2.2
        omega
      generalize X3 ++ ([.inr (15, [.ref (X3.length + 1)]), .inl (0, 5, .inl (va_cpy (A.pv i) (fun _ => 0) 0 0 5))] : AH) = X4 at *
      have hX4 : 108 ≤ X4.length := by omega
      obtain ⟨d1, d2, d3, d4, d5, d6, d7⟩ := hN4.ll hX0
      refine wp_FxR dX2_same_91 rfl q1812 mf_J2_add (hN4.op.at hN4.dy) rfl rfl (j_add15 hN4.plas (by rw [pW_n6 W (nW W 5) (by omega)]; omega) ((cH_dyn (Or.inr (by omega))).trans hm4)) rfl rfl (Nat.le_of_ble_eq_true rfl) (Nat.le_of_ble_eq_true rfl) (Nat.zero_le _) (Nat.zero_le _) ?_
      rw [cH_dset d5, cH_dset d4, pW_n6 W (nW W 5) (by omega)]
      have hN5 := hN4.addp (W' := pW W (nW W 5) (i + 1)) (k := i) (r := X3.length) (p := X3.length + 1) (pW_n6 W (nW W 5) (by omega)) (by omega) (by have := hx3.len; omega) (by omega) (by have := hx3.len; omega) (by omega) hm4 hp4 hold4 (fun w hw => by rw [pW_p (show i < i + 1 by omega) hw h24, ← hpv3 w hw, va_cpy, if_pos (by omega), Nat.zero_add, Nat.sub_zero]) (pW_ap W (nW W 5) i h24) rfl
      have hod4 := hN4.op.1
      have ht5 := set2_it (e1 := .inl (6, 4, .inr (.inr (va_up AN.pf i (some X3.length))))) (e2 := .inr (3, [.int (AN.pm + 1), .ref AN.pq, .int (nI (i + 1))])) ht4 hN4.orr.1 (by simp) hod4
      have hx5 : XE X0 ((X4.set AN.pq (.inl (6, 4, .inr (.inr (va_up AN.pf i (some X3.length)))))).set AN.p (.inr (3, [.int (AN.pm + 1), .ref AN.pq, .int (nI (i + 1))]))) := (hx4.set hN4.orr.2.1).set hN4.op.2.1
      have hl5 : ((X4.set AN.pq (.inl (6, 4, .inr (.inr (va_up AN.pf i (some X3.length)))))).set AN.p (.inr (3, [.int (AN.pm + 1), .ref AN.pq, .int (nI (i + 1))]))).length = X3.length + 2 := by rw [List.length_set, List.length_set]; exact hl4
      generalize (X4.set AN.pq (.inl (6, 4, .inr (.inr (va_up AN.pf i (some X3.length)))))).set AN.p (.inr (3, [.int (AN.pm + 1), .ref AN.pq, .int (nI (i + 1))])) = X5 at *
      refine wp_pop dX2_same_96 rfl rfl ?_
      refine wp_goto 64 dX2_same_97 rfl rfl ?_
      exact WP.mono (by omega) (by omega) (ih X5 (AN.ap X3.length (X3.length + 1) i (va_cpy (A.pv i) (fun _ => 0) 0 0 5)) (i + 1) (nI i) _ (by omega) hx5 (by rw [hl5]; exact hN5) ht5 hq)
theorem b_same {g : GW} {C : SC} {S : SM} {X0 : AH} {lo hi b : Nat} {A : BA} {W : Nat → Int32} (hX0 : 108 ≤ X0.length) (hB : BD X0 lo hi b A W) (hc : WFc W) : SP g 6 41 200 yX2_same cX2_same 4 (some (.object "MoleBoard$Board")) [.ref b] (cH C S X0) (fun v h1 => v = some (.ref X0.length) ∧ ∃ X' A', h1 = cH C S X' ∧ XE X0 X' ∧ BD X' X0.length X'.length X0.length A' W) := by
  refine SP.intro [some (.ref b), none, none, none] (pfn (by decide)) rfl (Nat.le_of_ble_eq_true rfl) ?_
  refine wp_new1 dX2_same_0 rfl q1803 nw2 (by omega) (Nat.le_of_ble_eq_true rfl) ?_
  change WP g 6 _ _ _ _ _ _ _ _ 40 186 _
  refine wp_dup dX2_same_3 rfl rfl ?_
  refine wp_Ix0 dX2_same_4 rfl q1804 mi_X2_init (c_bInit (pre := cH C S X0) rfl) rfl rfl (Nat.le_of_ble_eq_true rfl) (Nat.le_of_ble_eq_true rfl) (by omega) (by omega) ?_
  rw [cH_app hX0, cH_len]
  have hx := XE.app X0 (bNew X0.length)
  have hN := BD.new hX0 (W := pW W 0 0) (pW_0 W)
  have hl : (X0 ++ bNew X0.length).length = X0.length + 7 := by rw [List.length_append]; rfl
  generalize X0 ++ bNew X0.length = X at *
  have hX : 108 ≤ X.length := by omega
  have hB1 := hx.bd hB
  refine wp_astore_1 dX2_same_7 rfl (by decide) rfl ?_
  refine wp_aload_0 dX2_same_8 rfl ?_
  refine wp_getf dX2_same_9 rfl q437 fk2_0 (hB1.ob.at hB.dy) rfl ?_
  refine wp_FxR dX2_same_12 rfl q963 mf_J2_iterator (hB1.od.at hB.dy) rfl rfl (j_iterator (hB1.od.at hB.dy)) rfl rfl (Nat.le_of_ble_eq_true rfl) (Nat.le_of_ble_eq_true rfl) (by omega) (by omega) ?_
  rw [cH_app hX, cH_len]
  have hx := hx.apr [itc 0 (-1) A.dm A.d]
  have hN : BD (X ++ [itc 0 (-1) A.dm A.d]) X0.length (X ++ [itc 0 (-1) A.dm A.d]).length X0.length (A0 X0.length) (pW W 0 0) := hN.app.wide (by rw [List.length_append]; omega) hX0
  refine wp_astore_2 dX2_same_17 rfl (by decide) rfl ?_
  have h24 := hB.n5.2
  have h46 := hB.n6.2
  refine WP.mono (c' := nW W 5 + 9) (n' := 3 * nW W 5 + 28) (by omega) (by omega) (bL_same1 hX0 hB hc (t := X.length) (by have := hl; omega) (nW W 5) _ (A0 X0.length) 0 (-1) none (Nat.zero_add _) hx hN (by exact g_last) (fun X AN v3 hx hN => ?_))
  have hX : 108 ≤ X.length := by have := hx.len; omega
  have hB1 := hx.bd hB
  refine wp_aload_0 dX2_same_54 rfl ?_
  refine wp_getf dX2_same_55 rfl q441 fk2_1 (hB1.ob.at hB.dy) rfl ?_
  refine wp_FxR dX2_same_58 rfl q963 mf_J2_iterator (hB1.op.at hB.dy) rfl rfl (j_iterator (hB1.op.at hB.dy)) rfl rfl (Nat.le_of_ble_eq_true rfl) (Nat.le_of_ble_eq_true rfl) (by omega) (by omega) ?_
  rw [cH_app hX, cH_len]
  have hxl0 := hx.len
  have hx := hx.apr [itc 0 (-1) A.pm A.p]
  have hN : BD (X ++ [itc 0 (-1) A.pm A.p]) X0.length (X ++ [itc 0 (-1) A.pm A.p]).length X0.length AN (pW W (nW W 5) 0) := hN.app.wide (by rw [List.length_append]; omega) hX0
  refine wp_astore_2 dX2_same_63 rfl (by decide) rfl ?_
  refine WP.mono (c' := 2 * nW W 6 + 0) (n' := 6 * nW W 6 + 0) (by omega) (by omega) (bL_same2 hX0 hB (t := X.length) hxl0 (nW W 6) _ AN 0 (-1) _ (Nat.zero_add _) hx hN (by exact g_last) (fun X AN v3 hx hN => ?_))
  have hX : 108 ≤ X.length := by have := hx.len; omega
  have hB1 := hx.bd hB
  obtain ⟨d1, d2, d3, d4, d5, d6, d7⟩ := hN.ll hX0
  refine wp_aload_0 dX2_same_100 rfl ?_
  refine wp_getf dX2_same_101 rfl q444 fk2_2 (hB1.ob.at hB.dy) rfl ?_
  refine wp_iconst 0 dX2_same_104 rfl rfl ?_
  refine wp_aload_1 dX2_same_105 rfl ?_
  refine wp_getf dX2_same_106 rfl q444 fk2_2 (hN.ob.at hN.dy) rfl ?_
  refine wp_iconst 0 dX2_same_109 rfl rfl ?_
  refine wp_bipush 6 dX2_same_110 rfl rfl ?_
  refine wp_copyI (t := 0) dX2_same_112 rfl q1821 rfl rfl (hB1.of.at hB.dy) (hN.of.at hN.dy) (Nat.le_of_ble_eq_true rfl) (Nat.le_of_ble_eq_true rfl) (by decide) (by decide) (by decide) (by decide) (by decide) (fun _ _ => rfl) (cH_dset d6) ?_
  have hx1 : XE X0 (X.set AN.f (.inl (0, 6, .inl (va_cpy A.ff AN.ff 0 0 6)))) := hx.set hN.of.2.1
  have hb1 : (X.set AN.f (.inl (0, 6, .inl (va_cpy A.ff AN.ff 0 0 6))))[X0.length]? = some (.inr (2, bfl AN (pW W (nW W 5) (nW W 6)))) := (hN.ob.other hN.of.1 (by simp)).1
  have hs1 : (X.set AN.f (.inl (0, 6, .inl (va_cpy A.ff AN.ff 0 0 6))))[AN.s]? = some (.inl (0, 6, .inl AN.sf)) := (List.getElem?_set_ne hN.fs).trans hN.os.1
  have hB1 := hx1.bd hB
  refine wp_aload_0 dX2_same_115 rfl ?_
  refine wp_getf dX2_same_116 rfl q446 fk2_3 (hB1.ob.at hB.dy) rfl ?_
  refine wp_iconst 0 dX2_same_119 rfl rfl ?_
  refine wp_aload_1 dX2_same_120 rfl ?_
  refine wp_getf dX2_same_121 rfl q446 fk2_3 ((cH_dyn d1).trans hb1) rfl ?_
  refine wp_iconst 0 dX2_same_124 rfl rfl ?_
  refine wp_bipush 6 dX2_same_125 rfl rfl ?_
  refine wp_copyI (t := 0) dX2_same_127 rfl q1821 rfl rfl (hB1.os.at hB.dy) ((cH_dyn d7).trans hs1) (Nat.le_of_ble_eq_true rfl) (Nat.le_of_ble_eq_true rfl) (by decide) (by decide) (by decide) (by decide) (by decide) (fun _ _ => rfl) (cH_dset d7) ?_
  have hxn : ∀ e, XE X0 (((X.set AN.f (.inl (0, 6, .inl (va_cpy A.ff AN.ff 0 0 6)))).set AN.s (.inl (0, 6, .inl (va_cpy A.sf AN.sf 0 0 6)))).set X0.length e) := fun e => (hx1.set hN.os.2.1).set (Nat.le_refl _)
  have hb2 : ((X.set AN.f (.inl (0, 6, .inl (va_cpy A.ff AN.ff 0 0 6)))).set AN.s (.inl (0, 6, .inl (va_cpy A.sf AN.sf 0 0 6))))[X0.length]? = some (.inr (2, bfl AN (pW W (nW W 5) (nW W 6)))) := (List.getElem?_set_ne (fun z => by rw [z, hb1] at hs1; cases hs1)).trans hb1
  have hnl := (List.getElem?_eq_some_iff.mp hb2).1
  have hB1 := (hx1.set (e := .inl (0, 6, .inl (va_cpy A.sf AN.sf 0 0 6))) hN.os.2.1).bd hB
  have hfin := hN.fin (F1 := va_cpy A.ff AN.ff 0 0 6) (F2 := va_cpy A.sf AN.sf 0 0 6) (tk := A.tk) (ec := A.ec) (W := W) hB.n5.1 hB.n6.1 (fun k hk => pW_m hk) (fun k i hk hi => pW_p hk hi hB.n5.2) hB.n4 (fun k hk => by
    have h4 := hB.n4.2
    rw [va_cpy, va_cpy, if_pos (by omega), if_pos (by omega), Nat.zero_add, Nat.sub_zero]
    exact hB.st k hk) hB.te
  have hlen : ((X.set AN.f (.inl (0, 6, .inl (va_cpy A.ff AN.ff 0 0 6)))).set AN.s (.inl (0, 6, .inl (va_cpy A.sf AN.sf 0 0 6)))).length = X.length := by rw [List.length_set, List.length_set]
  have hxf := hx1.set (e := .inl (0, 6, .inl (va_cpy A.sf AN.sf 0 0 6))) hN.os.2.1
  change WP g 6 _ _ _ _ _ _ _ (cH C S ((X.set AN.f (.inl (0, 6, .inl (va_cpy A.ff AN.ff 0 0 6)))).set AN.s (.inl (0, 6, .inl (va_cpy A.sf AN.sf 0 0 6))))) _ _ _
  generalize (X.set AN.f (.inl (0, 6, .inl (va_cpy A.ff AN.ff 0 0 6)))).set AN.s (.inl (0, 6, .inl (va_cpy A.sf AN.sf 0 0 6))) = X at *
  refine wp_aload_1 dX2_same_130 rfl ?_
  refine wp_aload_0 dX2_same_131 rfl ?_
  refine wp_getf dX2_same_132 rfl q448 fk2_4 (hB1.ob.at hB.dy) rfl ?_
  refine wp_putf dX2_same_135 rfl q448 fp2_4 ((cH_dyn d1).trans hb2) rfl rfl (Nat.le_of_ble_eq_true rfl) (cH_dset d1) ?_
  change WP g 6 _ _ _ _ _ _ _ (cH C S (X.set X0.length (.inr (2, [.ref AN.d, .ref AN.p, .ref AN.f, .ref AN.s, .int (W 0), .int (pW W (nW W 5) (nW W 6) 1), .int (pW W (nW W 5) (nW W 6) 2), .int (pW W (nW W 5) (nW W 6) 3), .int (pW W (nW W 5) (nW W 6) 4), .int (pW W (nW W 5) (nW W 6) 7), .int AN.tk, .int AN.ec, .int (pW W (nW W 5) (nW W 6) 9), .int (pW W (nW W 5) (nW W 6) 8)])))) _ _ _
  refine wp_aload_1 dX2_same_138 rfl ?_
  refine wp_aload_0 dX2_same_139 rfl ?_
  refine wp_getf dX2_same_140 rfl q451 fk2_5 (((hxn (.inr (2, [.ref AN.d, .ref AN.p, .ref AN.f, .ref AN.s, .int (W 0), .int (pW W (nW W 5) (nW W 6) 1), .int (pW W (nW W 5) (nW W 6) 2), .int (pW W (nW W 5) (nW W 6) 3), .int (pW W (nW W 5) (nW W 6) 4), .int (pW W (nW W 5) (nW W 6) 7), .int AN.tk, .int AN.ec, .int (pW W (nW W 5) (nW W 6) 9), .int (pW W (nW W 5) (nW W 6) 8)]))).bd hB).ob.at hB.dy) rfl ?_
  refine wp_putf dX2_same_143 rfl q451 fp2_5 ((cH_dyn d1).trans (List.getElem?_set_self hnl)) rfl rfl (Nat.le_of_ble_eq_true rfl) ((cH_dset d1).trans (congrArg (cH C S) (List.set_set _))) ?_
  change WP g 6 _ _ _ _ _ _ _ (cH C S (X.set X0.length (.inr (2, [.ref AN.d, .ref AN.p, .ref AN.f, .ref AN.s, .int (W 0), .int (W 1), .int (pW W (nW W 5) (nW W 6) 2), .int (pW W (nW W 5) (nW W 6) 3), .int (pW W (nW W 5) (nW W 6) 4), .int (pW W (nW W 5) (nW W 6) 7), .int AN.tk, .int AN.ec, .int (pW W (nW W 5) (nW W 6) 9), .int (pW W (nW W 5) (nW W 6) 8)])))) _ _ _
  refine wp_aload_1 dX2_same_146 rfl ?_
  refine wp_aload_0 dX2_same_147 rfl ?_
  refine wp_getf dX2_same_148 rfl q455 fk2_6 (((hxn (.inr (2, [.ref AN.d, .ref AN.p, .ref AN.f, .ref AN.s, .int (W 0), .int (W 1), .int (pW W (nW W 5) (nW W 6) 2), .int (pW W (nW W 5) (nW W 6) 3), .int (pW W (nW W 5) (nW W 6) 4), .int (pW W (nW W 5) (nW W 6) 7), .int AN.tk, .int AN.ec, .int (pW W (nW W 5) (nW W 6) 9), .int (pW W (nW W 5) (nW W 6) 8)]))).bd hB).ob.at hB.dy) rfl ?_
  refine wp_putf dX2_same_151 rfl q455 fp2_6 ((cH_dyn d1).trans (List.getElem?_set_self hnl)) rfl rfl (Nat.le_of_ble_eq_true rfl) ((cH_dset d1).trans (congrArg (cH C S) (List.set_set _))) ?_
  change WP g 6 _ _ _ _ _ _ _ (cH C S (X.set X0.length (.inr (2, [.ref AN.d, .ref AN.p, .ref AN.f, .ref AN.s, .int (W 0), .int (W 1), .int (W 2), .int (pW W (nW W 5) (nW W 6) 3), .int (pW W (nW W 5) (nW W 6) 4), .int (pW W (nW W 5) (nW W 6) 7), .int AN.tk, .int AN.ec, .int (pW W (nW W 5) (nW W 6) 9), .int (pW W (nW W 5) (nW W 6) 8)])))) _ _ _
  refine wp_aload_1 dX2_same_154 rfl ?_
  refine wp_aload_0 dX2_same_155 rfl ?_
  refine wp_getf dX2_same_156 rfl q459 fk2_7 (((hxn (.inr (2, [.ref AN.d, .ref AN.p, .ref AN.f, .ref AN.s, .int (W 0), .int (W 1), .int (W 2), .int (pW W (nW W 5) (nW W 6) 3), .int (pW W (nW W 5) (nW W 6) 4), .int (pW W (nW W 5) (nW W 6) 7), .int AN.tk, .int AN.ec, .int (pW W (nW W 5) (nW W 6) 9), .int (pW W (nW W 5) (nW W 6) 8)]))).bd hB).ob.at hB.dy) rfl ?_
  refine wp_putf dX2_same_159 rfl q459 fp2_7 ((cH_dyn d1).trans (List.getElem?_set_self hnl)) rfl rfl (Nat.le_of_ble_eq_true rfl) ((cH_dset d1).trans (congrArg (cH C S) (List.set_set _))) ?_
  change WP g 6 _ _ _ _ _ _ _ (cH C S (X.set X0.length (.inr (2, [.ref AN.d, .ref AN.p, .ref AN.f, .ref AN.s, .int (W 0), .int (W 1), .int (W 2), .int (W 3), .int (pW W (nW W 5) (nW W 6) 4), .int (pW W (nW W 5) (nW W 6) 7), .int AN.tk, .int AN.ec, .int (pW W (nW W 5) (nW W 6) 9), .int (pW W (nW W 5) (nW W 6) 8)])))) _ _ _
  refine wp_aload_1 dX2_same_162 rfl ?_
  refine wp_aload_0 dX2_same_163 rfl ?_
  refine wp_getf dX2_same_164 rfl q462 fk2_8 (((hxn (.inr (2, [.ref AN.d, .ref AN.p, .ref AN.f, .ref AN.s, .int (W 0), .int (W 1), .int (W 2), .int (W 3), .int (pW W (nW W 5) (nW W 6) 4), .int (pW W (nW W 5) (nW W 6) 7), .int AN.tk, .int AN.ec, .int (pW W (nW W 5) (nW W 6) 9), .int (pW W (nW W 5) (nW W 6) 8)]))).bd hB).ob.at hB.dy) rfl ?_
  refine wp_putf dX2_same_167 rfl q462 fp2_8 ((cH_dyn d1).trans (List.getElem?_set_self hnl)) rfl rfl (Nat.le_of_ble_eq_true rfl) ((cH_dset d1).trans (congrArg (cH C S) (List.set_set _))) ?_
  change WP g 6 _ _ _ _ _ _ _ (cH C S (X.set X0.length (.inr (2, [.ref AN.d, .ref AN.p, .ref AN.f, .ref AN.s, .int (W 0), .int (W 1), .int (W 2), .int (W 3), .int (W 4), .int (pW W (nW W 5) (nW W 6) 7), .int AN.tk, .int AN.ec, .int (pW W (nW W 5) (nW W 6) 9), .int (pW W (nW W 5) (nW W 6) 8)])))) _ _ _
  refine wp_aload_1 dX2_same_170 rfl ?_
  refine wp_aload_0 dX2_same_171 rfl ?_
  refine wp_getf dX2_same_172 rfl q464 fk2_9 (((hxn (.inr (2, [.ref AN.d, .ref AN.p, .ref AN.f, .ref AN.s, .int (W 0), .int (W 1), .int (W 2), .int (W 3), .int (W 4), .int (pW W (nW W 5) (nW W 6) 7), .int AN.tk, .int AN.ec, .int (pW W (nW W 5) (nW W 6) 9), .int (pW W (nW W 5) (nW W 6) 8)]))).bd hB).ob.at hB.dy) rfl ?_
  refine wp_putf dX2_same_175 rfl q464 fp2_9 ((cH_dyn d1).trans (List.getElem?_set_self hnl)) rfl rfl (Nat.le_of_ble_eq_true rfl) ((cH_dset d1).trans (congrArg (cH C S) (List.set_set _))) ?_
  change WP g 6 _ _ _ _ _ _ _ (cH C S (X.set X0.length (.inr (2, [.ref AN.d, .ref AN.p, .ref AN.f, .ref AN.s, .int (W 0), .int (W 1), .int (W 2), .int (W 3), .int (W 4), .int (W 7), .int AN.tk, .int AN.ec, .int (pW W (nW W 5) (nW W 6) 9), .int (pW W (nW W 5) (nW W 6) 8)])))) _ _ _
  refine wp_aload_1 dX2_same_178 rfl ?_
  refine wp_aload_0 dX2_same_179 rfl ?_
  refine wp_getf dX2_same_180 rfl q467 fk2_10 (((hxn (.inr (2, [.ref AN.d, .ref AN.p, .ref AN.f, .ref AN.s, .int (W 0), .int (W 1), .int (W 2), .int (W 3), .int (W 4), .int (W 7), .int AN.tk, .int AN.ec, .int (pW W (nW W 5) (nW W 6) 9), .int (pW W (nW W 5) (nW W 6) 8)]))).bd hB).ob.at hB.dy) rfl ?_
  refine wp_putf dX2_same_183 rfl q467 fp2_10 ((cH_dyn d1).trans (List.getElem?_set_self hnl)) rfl rfl (Nat.le_of_ble_eq_true rfl) ((cH_dset d1).trans (congrArg (cH C S) (List.set_set _))) ?_
  change WP g 6 _ _ _ _ _ _ _ (cH C S (X.set X0.length (.inr (2, [.ref AN.d, .ref AN.p, .ref AN.f, .ref AN.s, .int (W 0), .int (W 1), .int (W 2), .int (W 3), .int (W 4), .int (W 7), .int A.tk, .int AN.ec, .int (pW W (nW W 5) (nW W 6) 9), .int (pW W (nW W 5) (nW W 6) 8)])))) _ _ _
  refine wp_aload_1 dX2_same_186 rfl ?_
  refine wp_aload_0 dX2_same_187 rfl ?_
  refine wp_getf dX2_same_188 rfl q470 fk2_11 (((hxn (.inr (2, [.ref AN.d, .ref AN.p, .ref AN.f, .ref AN.s, .int (W 0), .int (W 1), .int (W 2), .int (W 3), .int (W 4), .int (W 7), .int A.tk, .int AN.ec, .int (pW W (nW W 5) (nW W 6) 9), .int (pW W (nW W 5) (nW W 6) 8)]))).bd hB).ob.at hB.dy) rfl ?_
  refine wp_putf dX2_same_191 rfl q470 fp2_11 ((cH_dyn d1).trans (List.getElem?_set_self hnl)) rfl rfl (Nat.le_of_ble_eq_true rfl) ((cH_dset d1).trans (congrArg (cH C S) (List.set_set _))) ?_
  change WP g 6 _ _ _ _ _ _ _ (cH C S (X.set X0.length (.inr (2, [.ref AN.d, .ref AN.p, .ref AN.f, .ref AN.s, .int (W 0), .int (W 1), .int (W 2), .int (W 3), .int (W 4), .int (W 7), .int A.tk, .int A.ec, .int (pW W (nW W 5) (nW W 6) 9), .int (pW W (nW W 5) (nW W 6) 8)])))) _ _ _
  refine wp_aload_1 dX2_same_194 rfl ?_
  refine wp_aload_0 dX2_same_195 rfl ?_
  refine wp_getf dX2_same_196 rfl q473 fk2_12 (((hxn (.inr (2, [.ref AN.d, .ref AN.p, .ref AN.f, .ref AN.s, .int (W 0), .int (W 1), .int (W 2), .int (W 3), .int (W 4), .int (W 7), .int A.tk, .int A.ec, .int (pW W (nW W 5) (nW W 6) 9), .int (pW W (nW W 5) (nW W 6) 8)]))).bd hB).ob.at hB.dy) rfl ?_
  refine wp_putf dX2_same_199 rfl q473 fp2_12 ((cH_dyn d1).trans (List.getElem?_set_self hnl)) rfl rfl (Nat.le_of_ble_eq_true rfl) ((cH_dset d1).trans (congrArg (cH C S) (List.set_set _))) ?_
  change WP g 6 _ _ _ _ _ _ _ (cH C S (X.set X0.length (.inr (2, [.ref AN.d, .ref AN.p, .ref AN.f, .ref AN.s, .int (W 0), .int (W 1), .int (W 2), .int (W 3), .int (W 4), .int (W 7), .int A.tk, .int A.ec, .int (W 9), .int (pW W (nW W 5) (nW W 6) 8)])))) _ _ _
  refine wp_aload_1 dX2_same_202 rfl ?_
  refine wp_aload_0 dX2_same_203 rfl ?_
  refine wp_getf dX2_same_204 rfl q477 fk2_13 (((hxn (.inr (2, [.ref AN.d, .ref AN.p, .ref AN.f, .ref AN.s, .int (W 0), .int (W 1), .int (W 2), .int (W 3), .int (W 4), .int (W 7), .int A.tk, .int A.ec, .int (W 9), .int (pW W (nW W 5) (nW W 6) 8)]))).bd hB).ob.at hB.dy) rfl ?_
  refine wp_putf dX2_same_207 rfl q477 fp2_13 ((cH_dyn d1).trans (List.getElem?_set_self hnl)) rfl rfl (Nat.le_of_ble_eq_true rfl) ((cH_dset d1).trans (congrArg (cH C S) (List.set_set _))) ?_
  change WP g 6 _ _ _ _ _ _ _ (cH C S (X.set X0.length (.inr (2, [.ref AN.d, .ref AN.p, .ref AN.f, .ref AN.s, .int (W 0), .int (W 1), .int (W 2), .int (W 3), .int (W 4), .int (W 7), .int A.tk, .int A.ec, .int (W 9), .int (W 8)])))) _ _ _
  refine wp_aload_1 dX2_same_210 rfl ?_
  exact wp_areturn_r dX2_same_211 rfl (Or.inl ⟨_, rfl⟩) ⟨rfl, _, _, rfl, hxn _, by rw [List.length_set, hlen]; exact hfin⟩
