/-! ===== the reference: lots ===== -/
set_option maxRecDepth 100000
theorem lot_1 (b : Nat) : nI (b + 1) - 1 = nI b - 1 + 1 := by
  rw [← nI_1 b]
  grind
theorem lot_ge {n b : Nat} (h : b < n + 1) (hn : n < 1000000) : ¬ (nI n ≤ nI b - 1) := by
  rcases Nat.eq_zero_or_pos b with q | q
  · subst q
    intro h2
    have h3 := nI_pos' (n := n) (by omega)
    exact absurd (Int32.le_trans h3 h2) (by decide)
  · obtain ⟨b', rfl⟩ : ∃ b', b = b' + 1 := ⟨b - 1, by omega⟩
    rw [nI_pred]
    exact nI_ge (by omega) (by omega)
theorem m_isLaw {g : GW} {h : AH} {x : Int32} : SPx g 2 0 0 yX10_isLaw cX10_isLaw 1 (some .boolean) [.int x] h (some (.int (b2i (laL x)))) h := by
  refine SPx.intro [some (.int x)] (pfn (by decide)) rfl (Nat.le_of_ble_eq_true rfl) ?_
  refine wp_iload_0 dX10_isLaw_0 rfl ?_
  refine wp_i2l dX10_isLaw_1 rfl ?_
  refine wp_lconst 0 dX10_isLaw_2 rfl rfl ?_
  refine wp_ldc2_w dX10_isLaw_3 rfl q2383 ?_
  refine wp_csR dX10_isLaw_6 rfl q1979 ms_X10_in m_in rfl rfl (Nat.le_of_ble_eq_true rfl) (Nat.le_of_ble_eq_true rfl) ?_
  exact wp_zreturn dX10_isLaw_9 rfl (nz_b2i _) ⟨by rw [show inL x.toInt64 0 3 = laL x from inL_i x 0 3], rfl⟩
theorem j_floorMod {g : GW} {h : AH} {x z : Int32} (h0 : ¬ z = 0) : SPx g 1 0 0 yJ3_floorMod cJ3_floorMod 3 (some .int) [.int x, .int z] h (some (.int (fm32 x z))) h := by
  refine SPx.intro [some (.int x), some (.int z), none] (by decide +kernel) rfl (Nat.le_of_ble_eq_true rfl) ?_
  refine wp_iload_0 dJ3_floorMod_0 rfl ?_
  refine wp_iload_1 dJ3_floorMod_1 rfl ?_
  refine wp_irem dJ3_floorMod_2 rfl h0 ?_
  refine wp_istore_2 dJ3_floorMod_3 rfl (by decide) rfl ?_
  refine wp_iload_0 dJ3_floorMod_4 rfl ?_
  refine wp_iload_1 dJ3_floorMod_5 rfl ?_
  refine wp_ixor dJ3_floorMod_6 rfl ?_
  refine wp_if_ge 18 dJ3_floorMod_7 rfl rfl (fun c7 => ?_) (fun c7 => ?_)
  · refine wp_iload_2 dJ3_floorMod_18 rfl ?_
    exact wp_ireturn dJ3_floorMod_19 rfl ⟨by simp [fm32, rm32, *], rfl⟩
  · refine wp_iload_2 dJ3_floorMod_10 rfl ?_
    refine wp_if_eq 18 dJ3_floorMod_11 rfl rfl (fun c11 => ?_) (fun c11 => ?_)
    · refine wp_iload_2 dJ3_floorMod_18 rfl ?_
      exact wp_ireturn dJ3_floorMod_19 rfl ⟨by simp [fm32, rm32, *], rfl⟩
    · refine wp_iload_2 dJ3_floorMod_14 rfl ?_
      refine wp_iload_1 dJ3_floorMod_15 rfl ?_
      refine wp_iadd dJ3_floorMod_16 rfl ?_
      exact wp_ireturn dJ3_floorMod_17 rfl ⟨by simp [fm32, rm32, *], rfl⟩
theorem m_lets {g : GW} {M : Nat} {pre post : AH} {S : SM} (hm : pre.length = M) {w h x z : Int32} (h0 : ¬ wd S 0 = 0) : SPx g 3 0 0 yX10_lets cX10_lets 5 (some .boolean) [.ref M, .int w, .int h, .int x, .int z] (mH M pre S post) (some (.int (b2i (leW (wd S) w h x z)))) (mH M pre S post) := by
  refine SPx.intro [some (.ref M), some (.int w), some (.int h), some (.int x), some (.int z)] (pfn (by decide)) rfl (Nat.le_of_ble_eq_true rfl) ?_
  refine wp_aload_0 dX10_lets_0 rfl ?_
  refine wp_iload_2 dX10_lets_1 rfl ?_
  refine wp_cvR dX10_lets_2 rfl q2338 mv_X10_isShut (mg_0 hm) rfl rfl (m_isShut hm) rfl rfl (Nat.le_of_ble_eq_true rfl) (Nat.le_of_ble_eq_true rfl) ?_
  refine wp_ifeq_b 10 dX10_lets_5 rfl rfl (fun c5 => ?_) (fun c5 => ?_)
  · refine wp_iload_1 dX10_lets_10 rfl ?_
    refine wp_iconst 1 dX10_lets_11 rfl rfl ?_
    refine wp_icmp_ne 26 dX10_lets_12 rfl rfl (fun c12 => ?_) (fun c12 => ?_)
    · refine wp_iload_1 dX10_lets_26 rfl ?_
      refine wp_iconst 2 dX10_lets_27 rfl rfl ?_
      refine wp_icmp_ne 52 dX10_lets_28 rfl rfl (fun c28 => ?_) (fun c28 => ?_)
      · refine wp_iload_1 dX10_lets_52 rfl ?_
        refine wp_if_eq 67 dX10_lets_53 rfl rfl (fun c53 => ?_) (fun c53 => ?_)
        · refine wp_iconst 1 dX10_lets_67 rfl rfl ?_
          refine wp_goto 72 dX10_lets_68 rfl rfl ?_
          exact wp_zreturn dX10_lets_72 rfl rfl ⟨by simp [leW, b2i, ← Int32.not_le, *], rfl⟩
        · refine wp_iload_2 dX10_lets_56 rfl ?_
          refine wp_iload_3 dX10_lets_57 rfl ?_
          refine wp_icmp_eq 71 dX10_lets_58 rfl rfl (fun c58 => ?_) (fun c58 => ?_)
          · refine wp_iconst 0 dX10_lets_71 rfl rfl ?_
            exact wp_zreturn dX10_lets_72 rfl rfl ⟨by simp [leW, b2i, ← Int32.not_le, *], rfl⟩
          · refine wp_iload_2 dX10_lets_61 rfl ?_
            refine wp_iload_4 dX10_lets_62 rfl ?_
            refine wp_icmp_eq 71 dX10_lets_64 rfl rfl (fun c64 => ?_) (fun c64 => ?_)
            · refine wp_iconst 0 dX10_lets_71 rfl rfl ?_
              exact wp_zreturn dX10_lets_72 rfl rfl ⟨by simp [leW, b2i, ← Int32.not_le, *], rfl⟩
            · refine wp_iconst 1 dX10_lets_67 rfl rfl ?_
              refine wp_goto 72 dX10_lets_68 rfl rfl ?_
              exact wp_zreturn dX10_lets_72 rfl rfl ⟨by simp [leW, b2i, ← Int32.not_le, *], rfl⟩
      · refine wp_iload_3 dX10_lets_31 rfl ?_
        refine wp_iconst (-1) dX10_lets_32 rfl rfl ?_
        refine wp_icmp_eq 46 dX10_lets_33 rfl rfl (fun c33 => ?_) (fun c33 => ?_)
        · refine wp_iconst 1 dX10_lets_46 rfl rfl ?_
          refine wp_goto 51 dX10_lets_47 rfl rfl ?_
          exact wp_zreturn dX10_lets_51 rfl rfl ⟨by simp [leW, b2i, ← Int32.not_le, *], rfl⟩
        · refine wp_aload_0 dX10_lets_36 rfl ?_
          refine wp_iload_2 dX10_lets_37 rfl ?_
          refine wp_iload_3 dX10_lets_38 rfl ?_
          refine wp_cvR dX10_lets_39 rfl q2210 mv_X10_stepsOf (mg_0 hm) rfl rfl (m_stepsOf hm h0) rfl rfl (Nat.le_of_ble_eq_true rfl) (Nat.le_of_ble_eq_true rfl) ?_
          refine wp_iconst 1 dX10_lets_42 rfl rfl ?_
          refine wp_icmp_le 50 dX10_lets_43 rfl rfl (fun c43 => ?_) (fun c43 => ?_)
          · refine wp_iconst 0 dX10_lets_50 rfl rfl ?_
            exact wp_zreturn dX10_lets_51 rfl rfl ⟨by simp [leW, b2i, ← Int32.not_le, *], rfl⟩
          · refine wp_iconst 1 dX10_lets_46 rfl rfl ?_
            refine wp_goto 51 dX10_lets_47 rfl rfl ?_
            exact wp_zreturn dX10_lets_51 rfl rfl ⟨by simp [leW, b2i, ← Int32.not_le, *], rfl⟩
    · refine wp_iload_2 dX10_lets_15 rfl ?_
      refine wp_iload_3 dX10_lets_16 rfl ?_
      refine wp_icmp_eq 24 dX10_lets_17 rfl rfl (fun c17 => ?_) (fun c17 => ?_)
      · refine wp_iconst 0 dX10_lets_24 rfl rfl ?_
        exact wp_zreturn dX10_lets_25 rfl rfl ⟨by simp [leW, b2i, ← Int32.not_le, *], rfl⟩
      · refine wp_iconst 1 dX10_lets_20 rfl rfl ?_
        refine wp_goto 25 dX10_lets_21 rfl rfl ?_
        exact wp_zreturn dX10_lets_25 rfl rfl ⟨by simp [leW, b2i, ← Int32.not_le, *], rfl⟩
  · refine wp_iconst 0 dX10_lets_8 rfl rfl ?_
    exact wp_zreturn dX10_lets_9 rfl rfl ⟨by simp [leW, b2i, ← Int32.not_le, *], rfl⟩
theorem m_holeAt {g : GW} {M : Nat} {pre post : AH} {S : SM} (hm : pre.length = M) {x : Int32} (h5 : 0 < nW (wd S) 5) (hs : WFs (wd S)) : SPx g 2 0 0 yX10_holeAt cX10_holeAt 2 (some .int) [.ref M, .int x] (mH M pre S post) (some (.int (hoA (wd S) x))) (mH M pre S post) := by
  refine SPx.intro [some (.ref M), some (.int x)] (pfn (by decide)) rfl (Nat.le_of_ble_eq_true rfl) ?_
  refine wp_aload_0 dX10_holeAt_0 rfl ?_
  refine wp_iload_1 dX10_holeAt_1 rfl ?_
  refine wp_aload_0 dX10_holeAt_2 rfl ?_
  refine wp_getf dX10_holeAt_3 rfl q1832 fk10_1 (mg_0 hm) rfl ?_
  refine wp_iconst 5 dX10_holeAt_6 rfl rfl ?_
  refine wp_ialoadn 5 dX10_holeAt_7 rfl (mg_1 hm) rfl (by decide) (by decide) ?_
  refine wp_csR dX10_holeAt_8 rfl q2414 ms_J3_floorMod (j_floorMod (by show ¬ wd S 5 = 0; rw [hs.nc.1]; exact nI_ne0 h5 (by have := hs.nc.2; omega))) rfl rfl (Nat.le_of_ble_eq_true rfl) (Nat.le_of_ble_eq_true rfl) ?_
  obtain ⟨j, hj, ej⟩ := fm_in x h5 (by have := hs.nc.2; omega)
  rw [show S.2.1 1 5 = nI (nW (wd S) 5) from hs.nc.1, ej]
  refine wp_iconst 0 dX10_holeAt_11 rfl rfl ?_
  refine wp_cvR dX10_holeAt_12 rfl q2121 mv_X10_ofComing (mg_0 hm) rfl rfl (m_ofComing (w := 0) hm (by have := hs.nc.2; omega) (by omega)) rfl rfl (Nat.le_of_ble_eq_true rfl) (Nat.le_of_ble_eq_true rfl) ?_
  exact wp_ireturn dX10_holeAt_15 rfl ⟨by rw [hoA, hs.nc.1, ej, nI_clamp (by have := hs.nc.2; omega)], rfl⟩
theorem mL_fill0 {g : GW} {M : Nat} {pre post : AH} (hm : pre.length = M) {S0 : SM} {law : Int32} {N : Nat} {c n : Nat} {Q : Option Value → AH → Prop} : ∀ (k : Nat) (S : SM) (k2 : Nat), k2 + k = 169 → KL S0 S → (∀ j, j < k2 → S.2.2.1 16 j = if j = 0 then 1 else 0) → (∀ S', KL S0 S' → AG (S'.2.2.1 16) (fun j => if j = 0 then 1 else 0) → WP g 4 yX10_fillRows cX10_fillRows 9 none 32 [some (.ref M), some (.int law), some (.int (nI N)), some (.int (nI 169)), none, none, none, none, none] [] (mH M pre S' post) c n Q) → WP g 4 yX10_fillRows cX10_fillRows 9 none 2 [some (.ref M), some (.int law), some (.int (nI N)), some (.int (nI k2)), none, none, none, none, none] [] (mH M pre S post) c n Q := by
  intro k
  induction k with
  | zero =>
    intro S k2 hi kl ha hq
    refine wp_iload_3 dX10_fillRows_2 rfl ?_
    refine wp_aload_0 dX10_fillRows_3 rfl ?_
    refine wp_getf dX10_fillRows_4 rfl q1867 fk10_36 (mg_0 hm) rfl ?_
    refine wp_alen (nI 169) dX10_fillRows_7 rfl rfl (mg_16 hm) rfl ?_
    refine wp_icmp_ge 32 dX10_fillRows_8 rfl rfl (fun c8 => ?_) (fun c8 => ?_)
    · obtain rfl : k2 = 169 := by omega
      exact hq S kl ha
    · exact absurd (show nI 169 ≤ nI k2 by rw [show k2 = 169 by omega]; exact Int32.le_refl _) c8
  | succ k ih =>
    intro S k2 hi kl ha hq
    refine wp_iload_3 dX10_fillRows_2 rfl ?_
    refine wp_aload_0 dX10_fillRows_3 rfl ?_
    refine wp_getf dX10_fillRows_4 rfl q1867 fk10_36 (mg_0 hm) rfl ?_
    refine wp_alen (nI 169) dX10_fillRows_7 rfl rfl (mg_16 hm) rfl ?_
    refine wp_icmp_ge 32 dX10_fillRows_8 rfl rfl (fun c8 => ?_) (fun c8 => ?_)
    · exact absurd c8 (nI_ge (by omega) (by omega))
    · refine wp_aload_0 dX10_fillRows_11 rfl ?_
      refine wp_getf dX10_fillRows_12 rfl q1867 fk10_36 (mg_0 hm) rfl ?_
      refine wp_iload_3 dX10_fillRows_15 rfl ?_
      refine wp_iload_3 dX10_fillRows_16 rfl ?_
      refine wp_if_ne_k 24 dX10_fillRows_17 rfl rfl (by omega) (fun c17 => ?_) (fun c17 => ?_)
      · refine wp_lconst 0 dX10_fillRows_24 rfl rfl ?_
        refine wp_lastoren k2 dX10_fillRows_25 rfl (mg_16 hm) rfl (by omega) (by decide) (ms_A16 hm) ?_
        refine wp_iinc_3 1 dX10_fillRows_26 rfl rfl (by decide) rfl ?_
        refine wp_goto 2 dX10_fillRows_29 rfl rfl ?_
        exact WP.cast (by rw [nI_1]) (ih _ (k2 + 1) (by omega) (kl.set (Or.inl rfl)) (fun j hj => by
          rw [sL_s]
          simp only [vp_updL]
          by_cases q : j = k2
          · rw [if_pos q, q]; simp [*]
          · rw [if_neg q]; exact ha j (by omega)) hq)
      · refine wp_lconst 1 dX10_fillRows_20 rfl rfl ?_
        refine wp_goto 25 dX10_fillRows_21 rfl rfl ?_
        refine wp_lastoren k2 dX10_fillRows_25 rfl (mg_16 hm) rfl (by omega) (by decide) (ms_A16 hm) ?_
        refine wp_iinc_3 1 dX10_fillRows_26 rfl rfl (by decide) rfl ?_
        refine wp_goto 2 dX10_fillRows_29 rfl rfl ?_
        exact WP.cast (by rw [nI_1]) (ih _ (k2 + 1) (by omega) (kl.set (Or.inl rfl)) (fun j hj => by
          rw [sL_s]
          simp only [vp_updL]
          by_cases q : j = k2
          · rw [if_pos q, q]; simp [*]
          · rw [if_neg q]; exact ha j (by omega)) hq)
theorem mL_fill1 {g : GW} {M : Nat} {pre post : AH} (hm : pre.length = M) {S0 : SM} {R : LT} {law : Int32} {N i : Nat} {v5 v6 v8 : Option Value} {c n : Nat} {Q : Option Value → AH → Prop} : ∀ (k : Nat) (S : SM) (k2 : Nat), k2 + k = 169 → KL S0 S → (∀ j, j < k2 → S.2.2.1 17 j = R j ∧ S.2.2.1 16 j = 0) → (∀ j, k2 ≤ j → j < 169 → S.2.2.1 16 j = R j) → (∀ S', KL S0 S' → AG (S'.2.2.1 17) R → AG (S'.2.2.1 16) (fun _ => 0) → WP g 4 yX10_fillRows cX10_fillRows 9 none 80 [some (.ref M), some (.int law), some (.int (nI N)), some (.int (nI i)), some (.int (nI 169)), v5, v6, none, v8] [] (mH M pre S' post) c n Q) → WP g 4 yX10_fillRows cX10_fillRows 9 none 42 [some (.ref M), some (.int law), some (.int (nI N)), some (.int (nI i)), some (.int (nI k2)), v5, v6, none, v8] [] (mH M pre S post) c n Q := by
  intro k
  induction k with
  | zero =>
    intro S k2 hi kl ha hb hq
    refine wp_iload_4 dX10_fillRows_42 rfl ?_
    refine wp_aload_0 dX10_fillRows_44 rfl ?_
    refine wp_getf dX10_fillRows_45 rfl q1867 fk10_36 (mg_0 hm) rfl ?_
    refine wp_alen (nI 169) dX10_fillRows_48 rfl rfl (mg_16 hm) rfl ?_
    refine wp_icmp_ge 80 dX10_fillRows_49 rfl rfl (fun c49 => ?_) (fun c49 => ?_)
    · obtain rfl : k2 = 169 := by omega
      exact hq S kl (fun j hj => (ha j hj).1) (fun j hj => (ha j hj).2)
    · exact absurd (show nI 169 ≤ nI k2 by rw [show k2 = 169 by omega]; exact Int32.le_refl _) c49
  | succ k ih =>
    intro S k2 hi kl ha hb hq
    refine wp_iload_4 dX10_fillRows_42 rfl ?_
    refine wp_aload_0 dX10_fillRows_44 rfl ?_
    refine wp_getf dX10_fillRows_45 rfl q1867 fk10_36 (mg_0 hm) rfl ?_
    refine wp_alen (nI 169) dX10_fillRows_48 rfl rfl (mg_16 hm) rfl ?_
    refine wp_icmp_ge 80 dX10_fillRows_49 rfl rfl (fun c49 => ?_) (fun c49 => ?_)
    · exact absurd c49 (nI_ge (by omega) (by omega))
    · refine wp_aload_0 dX10_fillRows_52 rfl ?_
      refine wp_getf dX10_fillRows_53 rfl q1868 fk10_37 (mg_0 hm) rfl ?_
      refine wp_iload_4 dX10_fillRows_56 rfl ?_
      refine wp_aload_0 dX10_fillRows_58 rfl ?_
      refine wp_getf dX10_fillRows_59 rfl q1867 fk10_36 (mg_0 hm) rfl ?_
      refine wp_iload_4 dX10_fillRows_62 rfl ?_
      refine wp_laloadn k2 dX10_fillRows_64 rfl (mg_16 hm) rfl (by omega) (by decide) ?_
      refine wp_lastoren k2 dX10_fillRows_65 rfl (mg_17 hm) rfl (by omega) (by decide) (ms_A17 hm) ?_
      refine wp_aload_0 dX10_fillRows_66 rfl ?_
      refine wp_getf dX10_fillRows_67 rfl q1867 fk10_36 (mg_0 hm) rfl ?_
      refine wp_iload_4 dX10_fillRows_70 rfl ?_
      refine wp_lconst 0 dX10_fillRows_72 rfl rfl ?_
      refine wp_lastoren k2 dX10_fillRows_73 rfl (mg_16 hm) rfl (by omega) (by decide) (ms_A16 hm) ?_
      refine wp_iinc_4 1 dX10_fillRows_74 rfl rfl (by decide) rfl ?_
      refine wp_goto 42 dX10_fillRows_77 rfl rfl ?_
      exact WP.cast (by rw [nI_1]) (ih _ (k2 + 1) (by omega) ((kl.set (Or.inr rfl)).set (Or.inl rfl)) (fun j hj => by
        rw [sL_s, sL_o (by decide), sL_s, sL_o (by decide)]
        simp only [vp_updL]
        by_cases q : j = k2
        · rw [if_pos q, if_pos q, q]; exact ⟨hb k2 (by omega) (by omega), rfl⟩
        · rw [if_neg q, if_neg q]; exact ha j (by omega)) (fun j h1 h2 => by
        rw [sL_s, sL_o (by decide)]
        simp only [vp_updL]
        rw [if_neg (by omega)]
        exact hb j (by omega) h2) hq)
theorem mL_fill4 {g : GW} {M : Nat} {pre post : AH} (hm : pre.length = M) {S0 : SM} {Wd : Nat → Int32} (hw0 : wd S0 = Wd) (hs : WFs Wd) (h0 : ¬ Wd 0 = 0) {law : Int32} {N i a b : Nat} {m : Int64} {R : LT} (ha : a ≤ 12) {c n : Nat} {Q : Option Value → AH → Prop} : ∀ (k : Nat) (S : SM) (h : Nat) (T : LT), h + k = hoN Wd → KL S0 S → AG (S.2.2.1 16) T → AG (S.2.2.1 17) R → (∀ S' h', KL S0 S' → AG (S'.2.2.1 16) (itr (rh3 Wd law a b m) k h T) → AG (S'.2.2.1 17) R → WP g 4 yX10_fillRows cX10_fillRows 9 none 187 [some (.ref M), some (.int law), some (.int (nI N)), some (.int (nI i)), some (.int (nI a - 1)), some (.int (nI b - 1)), some (.long m), none, some (.int (nI h'))] [] (mH M pre S' post) c n Q) → WP g 4 yX10_fillRows cX10_fillRows 9 none 136 [some (.ref M), some (.int law), some (.int (nI N)), some (.int (nI i)), some (.int (nI a - 1)), some (.int (nI b - 1)), some (.long m), none, some (.int (nI h))] [] (mH M pre S post) c n Q := by
  intro k
  induction k with
  | zero =>
    intro S h T hi kl hg hn hq
    have ew : wd S = Wd := kl.wd.trans hw0
    have b12 := hs.ho12
    have e0 : hoW (wd S) = nI (hoN Wd) := by rw [ew]; exact hs.ho
    refine wp_iload_8 dX10_fillRows_136 rfl ?_
    refine wp_aload_0 dX10_fillRows_138 rfl ?_
    refine wp_cvR dX10_fillRows_139 rfl q2206 mv_X10_holes (mg_0 hm) rfl rfl (m_holes hm) rfl rfl (Nat.le_of_ble_eq_true rfl) (Nat.le_of_ble_eq_true rfl) ?_
    refine wp_icmp_ge 187 dX10_fillRows_142 rfl rfl (fun c142 => ?_) (fun c142 => ?_)
    · exact hq S h kl hg hn
    · exact absurd (show hoW (wd S) ≤ nI h by rw [e0]; exact nI_le (by omega) (by omega)) c142
  | succ k ih =>
    intro S h T hi kl hg hn hq
    have ew : wd S = Wd := kl.wd.trans hw0
    have b12 := hs.ho12
    have e0 : hoW (wd S) = nI (hoN Wd) := by rw [ew]; exact hs.ho
    refine wp_iload_8 dX10_fillRows_136 rfl ?_
    refine wp_aload_0 dX10_fillRows_138 rfl ?_
    refine wp_cvR dX10_fillRows_139 rfl q2206 mv_X10_holes (mg_0 hm) rfl rfl (m_holes hm) rfl rfl (Nat.le_of_ble_eq_true rfl) (Nat.le_of_ble_eq_true rfl) ?_
    refine wp_icmp_ge 187 dX10_fillRows_142 rfl rfl (fun c142 => ?_) (fun c142 => ?_)
    · exact absurd c142 (show ¬ (hoW (wd S) ≤ nI h) by rw [e0]; exact nI_ge (by omega) (by omega))
    · refine wp_aload_0 dX10_fillRows_145 rfl ?_
      refine wp_iload_1 dX10_fillRows_146 rfl ?_
      refine wp_iload_8 dX10_fillRows_147 rfl ?_
      refine wp_iload_4 dX10_fillRows_149 rfl ?_
      refine wp_iload_5 dX10_fillRows_151 rfl ?_
      refine wp_cvR dX10_fillRows_153 rfl q2390 mv_X10_lets (mg_0 hm) rfl rfl (m_lets hm (by rw [ew]; exact h0)) rfl rfl (Nat.le_of_ble_eq_true rfl) (Nat.le_of_ble_eq_true rfl) ?_
      refine wp_ifeq_b 181 dX10_fillRows_156 rfl rfl (fun c156 => ?_) (fun c156 => ?_)
      · refine wp_iinc_8 1 dX10_fillRows_181 rfl rfl (by decide) rfl ?_
        refine wp_goto 136 dX10_fillRows_184 rfl rfl ?_
        rw [ew] at c156
        first
        | exact WP.cast (by rw [nI_1]) (ih _ (h + 1) (rh3 Wd law a b m h T) (by omega) (kl.set (Or.inl rfl)) (by rw [rh3, if_pos c156, sL_s, hg (13 * (h + 1) + a) (by omega)]; exact hg.set _ _) (by rw [sL_o (by decide)]; exact hn) hq)
        | exact WP.cast (by rw [nI_1]) (ih S (h + 1) (rh3 Wd law a b m h T) (by omega) kl (by rw [rh3, if_neg (by rw [c156]; decide)]; exact hg) hn hq)
      · refine wp_aload_0 dX10_fillRows_159 rfl ?_
        refine wp_getf dX10_fillRows_160 rfl q1867 fk10_36 (mg_0 hm) rfl ?_
        refine wp_bipush 13 dX10_fillRows_163 rfl rfl ?_
        refine wp_iload_8 dX10_fillRows_165 rfl ?_
        refine wp_iconst 1 dX10_fillRows_167 rfl rfl ?_
        refine wp_iadd dX10_fillRows_168 rfl ?_
        refine wp_imul dX10_fillRows_169 rfl ?_
        refine wp_iload_4 dX10_fillRows_170 rfl ?_
        refine wp_iadd dX10_fillRows_172 rfl ?_
        refine wp_iconst 1 dX10_fillRows_173 rfl rfl ?_
        refine wp_iadd dX10_fillRows_174 rfl ?_
        refine wp_dup2 dX10_fillRows_175 rfl rfl rfl ?_
        refine wp_laloadn (13 * (h + 1) + a) dX10_fillRows_176 rfl (mg_16 hm) (ix13h h a) (by omega) (by decide) ?_
        refine wp_lload_6 dX10_fillRows_177 rfl ?_
        refine wp_ladd dX10_fillRows_179 rfl ?_
        refine wp_lastoren (13 * (h + 1) + a) dX10_fillRows_180 rfl (mg_16 hm) (ix13h h a) (by omega) (by decide) (ms_A16 hm) ?_
        refine wp_iinc_8 1 dX10_fillRows_181 rfl rfl (by decide) rfl ?_
        refine wp_goto 136 dX10_fillRows_184 rfl rfl ?_
        rw [ew] at c156
        first
        | exact WP.cast (by rw [nI_1]) (ih _ (h + 1) (rh3 Wd law a b m h T) (by omega) (kl.set (Or.inl rfl)) (by rw [rh3, if_pos c156, sL_s, hg (13 * (h + 1) + a) (by omega)]; exact hg.set _ _) (by rw [sL_o (by decide)]; exact hn) hq)
        | exact WP.cast (by rw [nI_1]) (ih S (h + 1) (rh3 Wd law a b m h T) (by omega) kl (by rw [rh3, if_neg (by rw [c156]; decide)]; exact hg) hn hq)
theorem mL_fill3 {g : GW} {M : Nat} {pre post : AH} (hm : pre.length = M) {S0 : SM} {Wd : Nat → Int32} (hw0 : wd S0 = Wd) (hs : WFs Wd) (h0 : ¬ Wd 0 = 0) {law : Int32} {N i a : Nat} {R : LT} (ha : a ≤ 12) {c n : Nat} {Q : Option Value → AH → Prop} : ∀ (k : Nat) (S : SM) (b : Nat) (T : LT) (w6 w8 : Option Value), b + k = hoN Wd + 1 → KL S0 S → AG (S.2.2.1 16) T → AG (S.2.2.1 17) R → (∀ S' b' w6' w8', KL S0 S' → AG (S'.2.2.1 16) (itr (rh2 Wd law R a) k b T) → AG (S'.2.2.1 17) R → WP g 4 yX10_fillRows cX10_fillRows 9 none 193 [some (.ref M), some (.int law), some (.int (nI N)), some (.int (nI i)), some (.int (nI a - 1)), some (.int (nI b' - 1)), w6', none, w8'] [] (mH M pre S' post) c n Q) → WP g 4 yX10_fillRows cX10_fillRows 9 none 95 [some (.ref M), some (.int law), some (.int (nI N)), some (.int (nI i)), some (.int (nI a - 1)), some (.int (nI b - 1)), w6, none, w8] [] (mH M pre S post) c n Q := by
  intro k
  induction k with
  | zero =>
    intro S b T w6 w8 hi kl hg hn hq
    have ew : wd S = Wd := kl.wd.trans hw0
    have b12 := hs.ho12
    have e0 : hoW (wd S) = nI (hoN Wd) := by rw [ew]; exact hs.ho
    refine wp_iload_5 dX10_fillRows_95 rfl ?_
    refine wp_aload_0 dX10_fillRows_97 rfl ?_
    refine wp_cvR dX10_fillRows_98 rfl q2206 mv_X10_holes (mg_0 hm) rfl rfl (m_holes hm) rfl rfl (Nat.le_of_ble_eq_true rfl) (Nat.le_of_ble_eq_true rfl) ?_
    refine wp_icmp_ge 193 dX10_fillRows_101 rfl rfl (fun c101 => ?_) (fun c101 => ?_)
    · exact hq S b w6 w8 kl hg hn
    · exact absurd (show hoW (wd S) ≤ nI b - 1 by rw [e0, show b = hoN Wd + 1 by omega, nI_pred]; exact Int32.le_refl _) c101
  | succ k ih =>
    intro S b T w6 w8 hi kl hg hn hq
    have ew : wd S = Wd := kl.wd.trans hw0
    have b12 := hs.ho12
    have e0 : hoW (wd S) = nI (hoN Wd) := by rw [ew]; exact hs.ho
    refine wp_iload_5 dX10_fillRows_95 rfl ?_
    refine wp_aload_0 dX10_fillRows_97 rfl ?_
    refine wp_cvR dX10_fillRows_98 rfl q2206 mv_X10_holes (mg_0 hm) rfl rfl (m_holes hm) rfl rfl (Nat.le_of_ble_eq_true rfl) (Nat.le_of_ble_eq_true rfl) ?_
    refine wp_icmp_ge 193 dX10_fillRows_101 rfl rfl (fun c101 => ?_) (fun c101 => ?_)
    · exact absurd c101 (by show ¬ (hoW (wd S) ≤ nI b - 1); rw [e0]; exact lot_ge (by omega) (by omega))
    · refine wp_aload_0 dX10_fillRows_104 rfl ?_
      refine wp_getf dX10_fillRows_105 rfl q1868 fk10_37 (mg_0 hm) rfl ?_
      refine wp_bipush 13 dX10_fillRows_108 rfl rfl ?_
      refine wp_iload_4 dX10_fillRows_110 rfl ?_
      refine wp_iconst 1 dX10_fillRows_112 rfl rfl ?_
      refine wp_iadd dX10_fillRows_113 rfl ?_
      refine wp_imul dX10_fillRows_114 rfl ?_
      refine wp_iload_5 dX10_fillRows_115 rfl ?_
      refine wp_iadd dX10_fillRows_117 rfl ?_
      refine wp_iconst 1 dX10_fillRows_118 rfl rfl ?_
      refine wp_iadd dX10_fillRows_119 rfl ?_
      refine wp_laloadn (13 * a + b) dX10_fillRows_120 rfl (mg_17 hm) (ix13 a b) (by omega) (by decide) ?_
      rw [hn (13 * a + b) (by omega)]
      refine wp_lstore_6 dX10_fillRows_121 rfl (by decide) rfl ?_
      refine wp_lload_6 dX10_fillRows_123 rfl ?_
      refine wp_lconst 0 dX10_fillRows_125 rfl rfl ?_
      refine wp_lcmp dX10_fillRows_126 rfl ?_
      refine wp_if_ne 133 dX10_fillRows_127 rfl rfl (fun c127 => ?_) (fun c127 => ?_)
      · have hm0 : ¬ R (13 * a + b) = 0 := fun q => c127 ((lg_cmp_eq _ _).mpr q)
        refine wp_iconst 0 dX10_fillRows_133 rfl rfl ?_
        refine wp_istore_8 dX10_fillRows_134 rfl (by decide) rfl ?_
        refine mL_fill4 (N := N) (i := i) (a := a) (b := b) hm hw0 hs h0 ha (hoN Wd) S 0 T (Nat.zero_add _) kl hg hn (fun S' h' kl' hg' hn' => ?_)
        refine wp_iinc_5 1 dX10_fillRows_187 rfl rfl (by decide) rfl ?_
        refine wp_goto 95 dX10_fillRows_190 rfl rfl ?_
        have ef : rh2 Wd law R a b T = itr (rh3 Wd law a b (R (13 * a + b))) (hoN Wd) 0 T := if_neg hm0
        exact WP.cast (by rw [lot_1]) (ih S' (b + 1) (rh2 Wd law R a b T) (some (.long (R (13 * a + b)))) (some (.int (nI h'))) (by omega) kl' (by rw [ef]; exact hg') hn' hq)
      · have hm0 : R (13 * a + b) = 0 := (lg_cmp_eq _ _).mp c127
        refine wp_goto 187 dX10_fillRows_130 rfl rfl ?_
        refine wp_iinc_5 1 dX10_fillRows_187 rfl rfl (by decide) rfl ?_
        refine wp_goto 95 dX10_fillRows_190 rfl rfl ?_
        exact WP.cast (by rw [lot_1]) (ih S (b + 1) (rh2 Wd law R a b T) (some (.long (R (13 * a + b)))) w8 (by omega) kl (by rw [rh2, if_pos hm0]; exact hg) hn hq)
theorem mL_fill2 {g : GW} {M : Nat} {pre post : AH} (hm : pre.length = M) {S0 : SM} {Wd : Nat → Int32} (hw0 : wd S0 = Wd) (hs : WFs Wd) (h0 : ¬ Wd 0 = 0) {law : Int32} {N i : Nat} {R : LT} {c n : Nat} {Q : Option Value → AH → Prop} : ∀ (k : Nat) (S : SM) (a : Nat) (T : LT) (w5 w6 w8 : Option Value), a + k = hoN Wd + 1 → KL S0 S → AG (S.2.2.1 16) T → AG (S.2.2.1 17) R → (∀ S' a' w5' w6' w8', KL S0 S' → AG (S'.2.2.1 16) (itr (rh1 Wd law R) k a T) → WP g 4 yX10_fillRows cX10_fillRows 9 none 199 [some (.ref M), some (.int law), some (.int (nI N)), some (.int (nI i)), some (.int (nI a' - 1)), w5', w6', none, w8'] [] (mH M pre S' post) c n Q) → WP g 4 yX10_fillRows cX10_fillRows 9 none 83 [some (.ref M), some (.int law), some (.int (nI N)), some (.int (nI i)), some (.int (nI a - 1)), w5, w6, none, w8] [] (mH M pre S post) c n Q := by
  intro k
  induction k with
  | zero =>
    intro S a T w5 w6 w8 hi kl hg hn hq
    have ew : wd S = Wd := kl.wd.trans hw0
    have b12 := hs.ho12
    have e0 : hoW (wd S) = nI (hoN Wd) := by rw [ew]; exact hs.ho
    refine wp_iload_4 dX10_fillRows_83 rfl ?_
    refine wp_aload_0 dX10_fillRows_85 rfl ?_
    refine wp_cvR dX10_fillRows_86 rfl q2206 mv_X10_holes (mg_0 hm) rfl rfl (m_holes hm) rfl rfl (Nat.le_of_ble_eq_true rfl) (Nat.le_of_ble_eq_true rfl) ?_
    refine wp_icmp_ge 199 dX10_fillRows_89 rfl rfl (fun c89 => ?_) (fun c89 => ?_)
    · exact hq S a w5 w6 w8 kl hg
    · exact absurd (show hoW (wd S) ≤ nI a - 1 by rw [e0, show a = hoN Wd + 1 by omega, nI_pred]; exact Int32.le_refl _) c89
  | succ k ih =>
    intro S a T w5 w6 w8 hi kl hg hn hq
    have ew : wd S = Wd := kl.wd.trans hw0
    have b12 := hs.ho12
    have e0 : hoW (wd S) = nI (hoN Wd) := by rw [ew]; exact hs.ho
    refine wp_iload_4 dX10_fillRows_83 rfl ?_
    refine wp_aload_0 dX10_fillRows_85 rfl ?_
    refine wp_cvR dX10_fillRows_86 rfl q2206 mv_X10_holes (mg_0 hm) rfl rfl (m_holes hm) rfl rfl (Nat.le_of_ble_eq_true rfl) (Nat.le_of_ble_eq_true rfl) ?_
    refine wp_icmp_ge 199 dX10_fillRows_89 rfl rfl (fun c89 => ?_) (fun c89 => ?_)
    · exact absurd c89 (by show ¬ (hoW (wd S) ≤ nI a - 1); rw [e0]; exact lot_ge (by omega) (by omega))
    · refine wp_iconst (-1) dX10_fillRows_92 rfl rfl ?_
      refine wp_istore_5 dX10_fillRows_93 rfl (by decide) rfl ?_
      refine mL_fill3 (N := N) (i := i) (a := a) hm hw0 hs h0 (by omega) (hoN Wd + 1) S 0 T w6 w8 (Nat.zero_add _) kl hg hn (fun S' b' w6' w8' kl' hg' hn' => ?_)
      refine wp_iinc_4 1 dX10_fillRows_193 rfl rfl (by decide) rfl ?_
      refine wp_goto 83 dX10_fillRows_196 rfl rfl ?_
      exact WP.cast (by rw [lot_1]) (ih S' (a + 1) (rh1 Wd law R a T) (some (.int (nI b' - 1))) w6' w8' (by omega) kl' hg' hn' hq)
theorem mL_fillR {g : GW} {M : Nat} {pre post : AH} (hm : pre.length = M) {S0 : SM} {Wd : Nat → Int32} (hw0 : wd S0 = Wd) (hs : WFs Wd) (h0 : ¬ Wd 0 = 0) {law : Int32} {N : Nat} (hN : N ≤ 12) {c n : Nat} {Q : Option Value → AH → Prop} : ∀ (k : Nat) (S : SM) (i : Nat) (w4 w5 w6 w8 : Option Value), i + k = N → KL S0 S → AG (S.2.2.1 16) (roT Wd law i) → (∀ S', KL S0 S' → AG (S'.2.2.1 16) (roT Wd law N) → Q none (mH M pre S' post)) → WP g 4 yX10_fillRows cX10_fillRows 9 none 34 [some (.ref M), some (.int law), some (.int (nI N)), some (.int (nI i)), w4, w5, w6, none, w8] [] (mH M pre S post) c n Q := by
  intro k
  induction k with
  | zero =>
    intro S i w4 w5 w6 w8 hi kl hg hq
    have ew : wd S = Wd := kl.wd.trans hw0
    refine wp_iload_3 dX10_fillRows_34 rfl ?_
    refine wp_iload_2 dX10_fillRows_35 rfl ?_
    refine wp_icmp_ge 205 dX10_fillRows_36 rfl rfl (fun c36 => ?_) (fun c36 => ?_)
    · exact wp_return dX10_fillRows_205 rfl (by have := hq S kl; rw [show i = N by omega] at hg; exact this hg)
    · exact absurd (nI_le (show N ≤ i by omega) (by omega)) c36
  | succ k ih =>
    intro S i w4 w5 w6 w8 hi kl hg hq
    have ew : wd S = Wd := kl.wd.trans hw0
    refine wp_iload_3 dX10_fillRows_34 rfl ?_
    refine wp_iload_2 dX10_fillRows_35 rfl ?_
    refine wp_icmp_ge 205 dX10_fillRows_36 rfl rfl (fun c36 => ?_) (fun c36 => ?_)
    · exact absurd c36 (nI_ge (by omega) (by omega))
    · refine wp_iconst 0 dX10_fillRows_39 rfl rfl ?_
      refine wp_istore_4 dX10_fillRows_40 rfl (by decide) rfl ?_
      refine mL_fill1 (N := N) (i := i) (R := roT Wd law i) hm 169 S 0 (Nat.zero_add _) kl (fun j hj => absurd hj (Nat.not_lt_zero j)) (fun j _ hj => hg j hj) (fun S1 kl1 hn1 hg1 => ?_)
      refine wp_iconst (-1) dX10_fillRows_80 rfl rfl ?_
      refine wp_istore_4 dX10_fillRows_81 rfl (by decide) rfl ?_
      refine mL_fill2 (N := N) (i := i) hm hw0 hs h0 (hoN Wd + 1) S1 0 (fun _ => 0) w5 w6 w8 (Nat.zero_add _) kl1 hg1 hn1 (fun S2 a' w5' w6' w8' kl2 hg2 => ?_)
      refine wp_iinc_3 1 dX10_fillRows_199 rfl rfl (by decide) rfl ?_
      refine wp_goto 34 dX10_fillRows_202 rfl rfl ?_
      exact WP.cast (by rw [nI_1]) (ih S2 (i + 1) (some (.int (nI a' - 1))) w5' w6' w8' (by omega) kl2 hg2 hq)
theorem m_fillRows {g : GW} {M : Nat} {pre post : AH} {S : SM} (hm : pre.length = M) {law : Int32} {N : Nat} {Wd : Nat → Int32} (hw : wd S = Wd) (hs : WFs Wd) (h0 : ¬ Wd 0 = 0) (hN : N ≤ 12) : SP g 4 0 0 yX10_fillRows cX10_fillRows 9 none [.ref M, .int law, .int (nI N)] (mH M pre S post) (fun v h1 => v = none ∧ ∃ S', h1 = mH M pre S' post ∧ KL S S' ∧ AG (S'.2.2.1 16) (roT Wd law N)) := by
  refine SP.intro [some (.ref M), some (.int law), some (.int (nI N)), none, none, none, none, none, none] (pfn (by decide)) rfl (Nat.le_of_ble_eq_true rfl) ?_
  refine wp_iconst 0 dX10_fillRows_0 rfl rfl ?_
  refine wp_istore_3 dX10_fillRows_1 rfl (by decide) rfl ?_
  refine mL_fill0 (N := N) hm 169 S 0 (Nat.zero_add _) (KL.rf S) (fun j hj => absurd hj (Nat.not_lt_zero j)) (fun S1 kl1 hg1 => ?_)
  refine wp_iconst 0 dX10_fillRows_32 rfl rfl ?_
  refine wp_istore_3 dX10_fillRows_33 rfl (by decide) rfl ?_
  exact mL_fillR hm hw hs h0 hN N S1 0 none none none none (Nat.zero_add _) kl1 hg1 (fun S2 kl2 hg2 => ⟨rfl, S2, rfl, kl2, hg2⟩)
theorem mL_endingIn {g : GW} {M : Nat} {pre post : AH} {S : SM} (hm : pre.length = M) {h : Nat} (hh : h < 12) {R : LT} (hg : AG (S.2.2.1 16) R) {c n : Nat} {Q : Option Value → AH → Prop} : ∀ (k : Nat) (b : Nat) (s : Int64), b + k = 13 → Q (some (.long (itr (enF R h) k b s))) (mH M pre S post) → WP g 1 yX10_endingIn cX10_endingIn 5 (some .long) 5 [some (.ref M), some (.int (nI h)), some (.long s), none, some (.int (nI b))] [] (mH M pre S post) c n Q := by
  intro k
  induction k with
  | zero =>
    intro b s hi hq
    refine wp_iload_4 dX10_endingIn_5 rfl ?_
    refine wp_bipush 13 dX10_endingIn_7 rfl rfl ?_
    refine wp_icmp_ge 35 dX10_endingIn_9 rfl rfl (fun c9 => ?_) (fun c9 => ?_)
    · refine wp_lload_2 dX10_endingIn_35 rfl ?_
      exact wp_lreturn dX10_endingIn_36 rfl hq
    · exact absurd (show (13 : Int32) ≤ nI b by rw [show b = 13 by omega]; decide) c9
  | succ k ih =>
    intro b s hi hq
    refine wp_iload_4 dX10_endingIn_5 rfl ?_
    refine wp_bipush 13 dX10_endingIn_7 rfl rfl ?_
    refine wp_icmp_ge 35 dX10_endingIn_9 rfl rfl (fun c9 => ?_) (fun c9 => ?_)
    · exact absurd c9 (show ¬ ((13 : Int32) ≤ nI b) from nI_ge (a := b) (b := 13) (by omega) (by omega))
    · refine wp_lload_2 dX10_endingIn_12 rfl ?_
      refine wp_aload_0 dX10_endingIn_13 rfl ?_
      refine wp_getf dX10_endingIn_14 rfl q1867 fk10_36 (mg_0 hm) rfl ?_
      refine wp_bipush 13 dX10_endingIn_17 rfl rfl ?_
      refine wp_iload_1 dX10_endingIn_19 rfl ?_
      refine wp_iconst 1 dX10_endingIn_20 rfl rfl ?_
      refine wp_iadd dX10_endingIn_21 rfl ?_
      refine wp_imul dX10_endingIn_22 rfl ?_
      refine wp_iload_4 dX10_endingIn_23 rfl ?_
      refine wp_iadd dX10_endingIn_25 rfl ?_
      refine wp_laloadn (13 * (h + 1) + b) dX10_endingIn_26 rfl (mg_16 hm) (ix13e h b) (by omega) (by decide) ?_
      rw [hg (13 * (h + 1) + b) (by omega)]
      refine wp_ladd dX10_endingIn_27 rfl ?_
      refine wp_lstore_2 dX10_endingIn_28 rfl (by decide) rfl ?_
      refine wp_iinc_4 1 dX10_endingIn_29 rfl rfl (by decide) rfl ?_
      refine wp_goto 5 dX10_endingIn_32 rfl rfl ?_
      exact WP.cast (by rw [nI_1]; rfl) (ih (b + 1) (enF R h b s) (by omega) hq)
theorem m_endingIn {g : GW} {M : Nat} {pre post : AH} {S : SM} (hm : pre.length = M) {h : Nat} (hh : h < 12) {R : LT} (hg : AG (S.2.2.1 16) R) : SPx g 1 0 0 yX10_endingIn cX10_endingIn 5 (some .long) [.ref M, .int (nI h)] (mH M pre S post) (some (.long (enT R h))) (mH M pre S post) := by
  refine SPx.intro [some (.ref M), some (.int (nI h)), none, none, none] (pfn (by decide)) rfl (Nat.le_of_ble_eq_true rfl) ?_
  refine wp_lconst 0 dX10_endingIn_0 rfl rfl ?_
  refine wp_lstore_2 dX10_endingIn_1 rfl (by decide) rfl ?_
  refine wp_iconst 0 dX10_endingIn_2 rfl rfl ?_
  refine wp_istore_4 dX10_endingIn_3 rfl (by decide) rfl ?_
  exact mL_endingIn hm hh hg 13 0 0 rfl ⟨rfl, rfl⟩
theorem mL_rows {g : GW} {M : Nat} {pre post : AH} {S : SM} (hm : pre.length = M) {Wd : Nat → Int32} (ew : wd S = Wd) (hs : WFs Wd) {law : Int32} {N : Nat} {R : LT} (hg : AG (S.2.2.1 16) R) {c n : Nat} {Q : Option Value → AH → Prop} : ∀ (k : Nat) (h : Nat) (s : Int64), h + k = hoN Wd → Q (some (.long (itr (alF R) k h s))) (mH M pre S post) → WP g 5 yX10_rows cX10_rows 6 (some .long) 41 [some (.ref M), some (.int law), some (.int (nI N)), some (.long s), none, some (.int (nI h))] [] (mH M pre S post) c n Q := by
  intro k
  induction k with
  | zero =>
    intro h s hi hq
    have e0 : hoW (wd S) = nI (hoN Wd) := by rw [ew]; exact hs.ho
    have b12 := hs.ho12
    refine wp_iload_5 dX10_rows_41 rfl ?_
    refine wp_aload_0 dX10_rows_43 rfl ?_
    refine wp_cvR dX10_rows_44 rfl q2206 mv_X10_holes (mg_0 hm) rfl rfl (m_holes hm) rfl rfl (Nat.le_of_ble_eq_true rfl) (Nat.le_of_ble_eq_true rfl) ?_
    refine wp_icmp_ge 65 dX10_rows_47 rfl rfl (fun c47 => ?_) (fun c47 => ?_)
    · refine wp_lload_3 dX10_rows_65 rfl ?_
      exact wp_lreturn dX10_rows_66 rfl hq
    · exact absurd (show hoW (wd S) ≤ nI h by rw [e0]; exact nI_le (by omega) (by omega)) c47
  | succ k ih =>
    intro h s hi hq
    have e0 : hoW (wd S) = nI (hoN Wd) := by rw [ew]; exact hs.ho
    have b12 := hs.ho12
    refine wp_iload_5 dX10_rows_41 rfl ?_
    refine wp_aload_0 dX10_rows_43 rfl ?_
    refine wp_cvR dX10_rows_44 rfl q2206 mv_X10_holes (mg_0 hm) rfl rfl (m_holes hm) rfl rfl (Nat.le_of_ble_eq_true rfl) (Nat.le_of_ble_eq_true rfl) ?_
    refine wp_icmp_ge 65 dX10_rows_47 rfl rfl (fun c47 => ?_) (fun c47 => ?_)
    · exact absurd c47 (show ¬ (hoW (wd S) ≤ nI h) by rw [e0]; exact nI_ge (by omega) (by omega))
    · refine wp_lload_3 dX10_rows_50 rfl ?_
      refine wp_aload_0 dX10_rows_51 rfl ?_
      refine wp_iload_5 dX10_rows_52 rfl ?_
      refine wp_cvR dX10_rows_54 rfl q2394 mv_X10_endingIn (mg_0 hm) rfl rfl (m_endingIn hm (by omega) hg) rfl rfl (Nat.le_of_ble_eq_true rfl) (Nat.le_of_ble_eq_true rfl) ?_
      refine wp_ladd dX10_rows_57 rfl ?_
      refine wp_lstore_3 dX10_rows_58 rfl (by decide) rfl ?_
      refine wp_iinc_5 1 dX10_rows_59 rfl rfl (by decide) rfl ?_
      refine wp_goto 41 dX10_rows_62 rfl rfl ?_
      exact WP.cast (by rw [nI_1]; rfl) (ih (h + 1) (alF R h s) (by omega) hq)
theorem in112_of {x : Int32} (h : inL x.toInt64 1 12 = true) : ∃ j : Nat, j ≤ 12 ∧ x = nI j := by
  have h : inI x 1 12 = true := by rw [← inL_i]; exact h
  unfold inI at h
  rw [Bool.and_eq_true, decide_eq_true_eq, decide_eq_true_eq] at h
  obtain ⟨j, hj, rfl⟩ := nI_of (Int32.not_lt.mpr (Int32.le_trans (by decide) h.1))
  exact ⟨j, (nI_leI (b := 12) hj (by omega)).mp h.2, rfl⟩
theorem bd_0 {W : Nat → Int32} (h : bdW W = true) : ¬ W 0 = 0 := fun q => by
  unfold bdW at h
  rw [q] at h
  exact absurd h (by decide)
theorem nI_n1 {j : Nat} (h : j < 1000000) : ¬ nI j = -1 := fun q => by
  have := nI_pos' (n := j) (by omega)
  rw [q] at this
  exact absurd this (by decide)
theorem q_m_rows {g : GW} {M : Nat} {pre post : AH} {S : SM} (hm : pre.length = M) {x z : Int32} (hs : WFs (wd S)) : SP g 5 0 0 yX10_rows cX10_rows 6 (some .long) [.ref M, .int x, .int z] (mH M pre S post) (QM M pre post S (.long (qrows (wd S) x z))) := by
  refine SP.intro [some (.ref M), some (.int x), some (.int z), none, none, none] (pfn (by decide)) rfl (Nat.le_of_ble_eq_true rfl) ?_
  refine wp_aload_0 dX10_rows_0 rfl ?_
  refine wp_cvR dX10_rows_1 rfl q2154 mv_X10_isBoard (mg_0 hm) rfl rfl (m_isBoard hm) rfl rfl (Nat.le_of_ble_eq_true rfl) (Nat.le_of_ble_eq_true rfl) ?_
  refine wp_ifeq_b 26 dX10_rows_4 rfl rfl (fun c4 => ?_) (fun c4 => ?_)
  · refine wp_ldc2_w dX10_rows_26 rfl q2385 ?_
    exact wp_lreturn dX10_rows_29 rfl ⟨by rw [qrows, if_neg (by simp [*])], S, rfl, KP.rf S⟩
  · refine wp_iload_1 dX10_rows_7 rfl ?_
    refine wp_csR dX10_rows_8 rfl q2380 ms_X10_isLaw m_isLaw rfl rfl (Nat.le_of_ble_eq_true rfl) (Nat.le_of_ble_eq_true rfl) ?_
    refine wp_ifeq_b 26 dX10_rows_11 rfl rfl (fun c11 => ?_) (fun c11 => ?_)
    · refine wp_ldc2_w dX10_rows_26 rfl q2385 ?_
      exact wp_lreturn dX10_rows_29 rfl ⟨by rw [qrows, if_neg (by simp [*])], S, rfl, KP.rf S⟩
    · refine wp_iload_2 dX10_rows_14 rfl ?_
      refine wp_i2l dX10_rows_15 rfl ?_
      refine wp_lconst 1 dX10_rows_16 rfl rfl ?_
      refine wp_ldc2_w dX10_rows_17 rfl q2384 ?_
      refine wp_csR dX10_rows_20 rfl q1979 ms_X10_in m_in rfl rfl (Nat.le_of_ble_eq_true rfl) (Nat.le_of_ble_eq_true rfl) ?_
      refine wp_ifne_b 30 dX10_rows_23 rfl rfl (fun c23 => ?_) (fun c23 => ?_)
      · obtain ⟨N, hN, rfl⟩ := in112_of c23
        have h0 := bd_0 c4
        refine wp_aload_0 dX10_rows_30 rfl ?_
        refine wp_iload_1 dX10_rows_31 rfl ?_
        refine wp_iload_2 dX10_rows_32 rfl ?_
        refine wp_cvE dX10_rows_33 rfl q2386 mv_X10_fillRows (mg_0 hm) rfl rfl (m_fillRows hm rfl hs h0 hN) rfl rfl (Nat.le_of_ble_eq_true rfl) (Nat.le_of_ble_eq_true rfl) (fun h1 hq => ?_)
        obtain ⟨S1, rfl, kl, hg⟩ := hq
        refine wp_lconst 0 dX10_rows_36 rfl rfl ?_
        refine wp_lstore_3 dX10_rows_37 rfl (by decide) rfl ?_
        refine wp_iconst 0 dX10_rows_38 rfl rfl ?_
        refine wp_istore_5 dX10_rows_39 rfl (by decide) rfl ?_
        refine mL_rows hm kl.wd hs hg (hoN (wd S)) 0 0 (Nat.zero_add _) ?_
        exact ⟨by rw [qrows, if_pos ⟨c4, c11, c23⟩, nI_clamp (by omega)], S1, rfl, kl.KP⟩
      · refine wp_ldc2_w dX10_rows_26 rfl q2385 ?_
        exact wp_lreturn dX10_rows_29 rfl ⟨by rw [qrows, if_neg (by simp [*])], S, rfl, KP.rf S⟩
theorem q_m_ends {g : GW} {M : Nat} {pre post : AH} {S : SM} (hm : pre.length = M) {x z w : Int32} (hs : WFs (wd S)) : SP g 5 0 0 yX10_ends cX10_ends 4 (some .long) [.ref M, .int x, .int z, .int w] (mH M pre S post) (QM M pre post S (.long (qends (wd S) x z w))) := by
  refine SP.intro [some (.ref M), some (.int x), some (.int z), some (.int w)] (pfn (by decide)) rfl (Nat.le_of_ble_eq_true rfl) ?_
  refine wp_aload_0 dX10_ends_0 rfl ?_
  refine wp_iload_3 dX10_ends_1 rfl ?_
  refine wp_i2l dX10_ends_2 rfl ?_
  refine wp_cvR dX10_ends_3 rfl q2202 mv_X10_isHole (mg_0 hm) rfl rfl (m_isHole hm) rfl rfl (Nat.le_of_ble_eq_true rfl) (Nat.le_of_ble_eq_true rfl) ?_
  refine wp_ifeq_b 28 dX10_ends_6 rfl rfl (fun c6 => ?_) (fun c6 => ?_)
  · refine wp_ldc2_w dX10_ends_28 rfl q2385 ?_
    exact wp_lreturn dX10_ends_31 rfl ⟨by rw [qends, if_neg (by simp [*])], S, rfl, KP.rf S⟩
  · refine wp_iload_1 dX10_ends_9 rfl ?_
    refine wp_csR dX10_ends_10 rfl q2380 ms_X10_isLaw m_isLaw rfl rfl (Nat.le_of_ble_eq_true rfl) (Nat.le_of_ble_eq_true rfl) ?_
    refine wp_ifeq_b 28 dX10_ends_13 rfl rfl (fun c13 => ?_) (fun c13 => ?_)
    · refine wp_ldc2_w dX10_ends_28 rfl q2385 ?_
      exact wp_lreturn dX10_ends_31 rfl ⟨by rw [qends, if_neg (by simp [*])], S, rfl, KP.rf S⟩
    · refine wp_iload_2 dX10_ends_16 rfl ?_
      refine wp_i2l dX10_ends_17 rfl ?_
      refine wp_lconst 1 dX10_ends_18 rfl rfl ?_
      refine wp_ldc2_w dX10_ends_19 rfl q2384 ?_
      refine wp_csR dX10_ends_22 rfl q1979 ms_X10_in m_in rfl rfl (Nat.le_of_ble_eq_true rfl) (Nat.le_of_ble_eq_true rfl) ?_
      refine wp_ifne_b 32 dX10_ends_25 rfl rfl (fun c25 => ?_) (fun c25 => ?_)
      · obtain ⟨N, hN, rfl⟩ := in112_of c25
        obtain ⟨h, hh, rfl⟩ := hlL_of hs c6
        have b12 := hs.ho12
        have h0 := hs.w0ne hh
        refine wp_aload_0 dX10_ends_32 rfl ?_
        refine wp_iload_1 dX10_ends_33 rfl ?_
        refine wp_iload_2 dX10_ends_34 rfl ?_
        refine wp_cvE dX10_ends_35 rfl q2386 mv_X10_fillRows (mg_0 hm) rfl rfl (m_fillRows hm rfl hs h0 hN) rfl rfl (Nat.le_of_ble_eq_true rfl) (Nat.le_of_ble_eq_true rfl) (fun h1 hq => ?_)
        obtain ⟨S1, rfl, kl, hg⟩ := hq
        refine wp_aload_0 dX10_ends_38 rfl ?_
        refine wp_iload_3 dX10_ends_39 rfl ?_
        refine wp_cvR dX10_ends_40 rfl q2394 mv_X10_endingIn (mg_0 hm) rfl rfl (m_endingIn hm (show h < 12 by omega) hg) rfl rfl (Nat.le_of_ble_eq_true rfl) (Nat.le_of_ble_eq_true rfl) ?_
        exact wp_lreturn dX10_ends_43 rfl ⟨by rw [qends, if_pos ⟨c6, c13, c25⟩, nI_clamp (by omega), nI_clamp (by omega)], S1, rfl, kl.KP⟩
      · refine wp_ldc2_w dX10_ends_28 rfl q2385 ?_
        exact wp_lreturn dX10_ends_31 rfl ⟨by rw [qends, if_neg (by simp [*])], S, rfl, KP.rf S⟩
theorem mL_fair2 {g : GW} {M : Nat} {pre post : AH} (hm : pre.length = M) {S : SM} {Wd : Nat → Int32} (ew : wd S = Wd) (hs : WFs Wd) {law : Int32} {n2 : Nat} {R : LT} (hg : AG (S.2.2.1 16) R) {c n : Nat} {Q : Option Value → AH → Prop} : ∀ (k : Nat)  (h : Nat) (f : Option Nat), h + k = hoN Wd → (∀ j, f = some j → j < 12) → (faF Wd R k h f = true → ∀ f', WP g 5 yX10_fair cX10_fair 5 (some .int) 92 [some (.ref M), some (.int law), some (.int (nI n2)), some (.int (onI f')), some (.int (nI (hoN Wd)))] [] (mH M pre S post) c n Q) → (faF Wd R k h f = false → Q (some (.int 0)) (mH M pre S post)) → WP g 5 yX10_fair cX10_fair 5 (some .int) 36 [some (.ref M), some (.int law), some (.int (nI n2)), some (.int (onI f)), some (.int (nI h))] [] (mH M pre S post) c n Q := by
  intro k
  induction k with
  | zero =>
    intro  h f hi hf hq1 hq0
    have e0 : hoW (wd S) = nI (hoN Wd) := by rw [ew]; exact hs.ho
    have b12 := hs.ho12
    refine wp_iload_4 dX10_fair_36 rfl ?_
    refine wp_aload_0 dX10_fair_38 rfl ?_
    refine wp_cvR dX10_fair_39 rfl q2206 mv_X10_holes (mg_0 hm) rfl rfl (m_holes hm) rfl rfl (Nat.le_of_ble_eq_true rfl) (Nat.le_of_ble_eq_true rfl) ?_
    refine wp_icmp_ge 92 dX10_fair_42 rfl rfl (fun c42 => ?_) (fun c42 => ?_)
    · obtain rfl : h = hoN Wd := by omega
      exact hq1 rfl f
    · exact absurd (show hoW (wd S) ≤ nI h by rw [e0]; exact nI_le (by omega) (by omega)) c42
  | succ k ih =>
    intro  h f hi hf hq1 hq0
    have e0 : hoW (wd S) = nI (hoN Wd) := by rw [ew]; exact hs.ho
    have b12 := hs.ho12
    refine wp_iload_4 dX10_fair_36 rfl ?_
    refine wp_aload_0 dX10_fair_38 rfl ?_
    refine wp_cvR dX10_fair_39 rfl q2206 mv_X10_holes (mg_0 hm) rfl rfl (m_holes hm) rfl rfl (Nat.le_of_ble_eq_true rfl) (Nat.le_of_ble_eq_true rfl) ?_
    refine wp_icmp_ge 92 dX10_fair_42 rfl rfl (fun c42 => ?_) (fun c42 => ?_)
    · exact absurd c42 (show ¬ (hoW (wd S) ≤ nI h) by rw [e0]; exact nI_ge (by omega) (by omega))
    · refine wp_aload_0 dX10_fair_45 rfl ?_
      refine wp_iload_4 dX10_fair_46 rfl ?_
      refine wp_cvR dX10_fair_48 rfl q2338 mv_X10_isShut (mg_0 hm) rfl rfl (m_isShut hm) rfl rfl (Nat.le_of_ble_eq_true rfl) (Nat.le_of_ble_eq_true rfl) ?_
      refine wp_ifeq_b 57 dX10_fair_51 rfl rfl (fun c51 => ?_) (fun c51 => ?_)
      · rw [ew] at c51
        refine wp_iload_3 dX10_fair_57 rfl ?_
        refine wp_iconst (-1) dX10_fair_58 rfl rfl ?_
        refine wp_icmp_ne 67 dX10_fair_59 rfl rfl (fun c59 => ?_) (fun c59 => ?_)
        · obtain ⟨j, rfl⟩ : ∃ j, f = some j := by
            cases f with
            | none => exact absurd rfl c59
            | some j => exact ⟨j, rfl⟩
          refine wp_iload_3 dX10_fair_67 rfl ?_
          refine wp_istore_3 dX10_fair_68 rfl (by decide) rfl ?_
          refine wp_aload_0 dX10_fair_69 rfl ?_
          refine wp_iload_4 dX10_fair_70 rfl ?_
          refine wp_cvR dX10_fair_72 rfl q2394 mv_X10_endingIn (mg_0 hm) rfl rfl (m_endingIn hm (show h < 12 by omega) hg) rfl rfl (Nat.le_of_ble_eq_true rfl) (Nat.le_of_ble_eq_true rfl) ?_
          refine wp_aload_0 dX10_fair_75 rfl ?_
          refine wp_iload_3 dX10_fair_76 rfl ?_
          refine wp_cvR dX10_fair_77 rfl q2394 mv_X10_endingIn (mg_0 hm) rfl rfl (m_endingIn hm (by first | exact hf _ rfl | omega) hg) rfl rfl (Nat.le_of_ble_eq_true rfl) (Nat.le_of_ble_eq_true rfl) ?_
          refine wp_lcmp dX10_fair_80 rfl ?_
          refine wp_if_eq 86 dX10_fair_81 rfl rfl (fun c81 => ?_) (fun c81 => ?_)
          · have hE := (lg_cmp_eq _ _).mp c81
            refine wp_iinc_4 1 dX10_fair_86 rfl rfl (by decide) rfl ?_
            refine wp_goto 36 dX10_fair_89 rfl rfl ?_
            first
            | exact WP.cast (by simp only [nI_1]) (ih (h + 1) f (by omega) hf (fun q => hq1 (by rw [faF, if_pos c51]; exact q)) (fun q => hq0 (by rw [faF, if_pos c51]; exact q)))
            | exact WP.cast (by simp only [nI_1]; rfl) (ih (h + 1) (some h) (by omega) (fun j q => by cases q; omega) (fun q => hq1 (by rw [faF, if_neg (by rw [c51]; decide)]; exact (if_pos hE).trans q)) (fun q => hq0 (by rw [faF, if_neg (by rw [c51]; decide)]; exact (if_pos hE).trans q)))
            | exact WP.cast (by simp only [nI_1]) (ih (h + 1) (some j) (by omega) hf (fun q => hq1 (by rw [faF, if_neg (by rw [c51]; decide)]; exact (if_pos hE).trans q)) (fun q => hq0 (by rw [faF, if_neg (by rw [c51]; decide)]; exact (if_pos hE).trans q)))
          · have hE := fun q => c81 ((lg_cmp_eq _ _).mpr q)
            refine wp_iconst 0 dX10_fair_84 rfl rfl ?_
            exact wp_ireturn dX10_fair_85 rfl (hq0 (by rw [faF, if_neg (by rw [c51]; decide)]; exact if_neg hE))
        · obtain rfl : f = none := by
            cases f with
            | none => rfl
            | some j => exact absurd c59 (nI_n1 (by have := hf j rfl; omega))
          refine wp_iload_4 dX10_fair_62 rfl ?_
          refine wp_goto 68 dX10_fair_64 rfl rfl ?_
          refine wp_istore_3 dX10_fair_68 rfl (by decide) rfl ?_
          refine wp_aload_0 dX10_fair_69 rfl ?_
          refine wp_iload_4 dX10_fair_70 rfl ?_
          refine wp_cvR dX10_fair_72 rfl q2394 mv_X10_endingIn (mg_0 hm) rfl rfl (m_endingIn hm (show h < 12 by omega) hg) rfl rfl (Nat.le_of_ble_eq_true rfl) (Nat.le_of_ble_eq_true rfl) ?_
          refine wp_aload_0 dX10_fair_75 rfl ?_
          refine wp_iload_3 dX10_fair_76 rfl ?_
          refine wp_cvR dX10_fair_77 rfl q2394 mv_X10_endingIn (mg_0 hm) rfl rfl (m_endingIn hm (by first | exact hf _ rfl | omega) hg) rfl rfl (Nat.le_of_ble_eq_true rfl) (Nat.le_of_ble_eq_true rfl) ?_
          refine wp_lcmp dX10_fair_80 rfl ?_
          refine wp_if_eq 86 dX10_fair_81 rfl rfl (fun c81 => ?_) (fun c81 => ?_)
          · have hE := (lg_cmp_eq _ _).mp c81
            refine wp_iinc_4 1 dX10_fair_86 rfl rfl (by decide) rfl ?_
            refine wp_goto 36 dX10_fair_89 rfl rfl ?_
            first
            | exact WP.cast (by simp only [nI_1]) (ih (h + 1) f (by omega) hf (fun q => hq1 (by rw [faF, if_pos c51]; exact q)) (fun q => hq0 (by rw [faF, if_pos c51]; exact q)))
            | exact WP.cast (by simp only [nI_1]; rfl) (ih (h + 1) (some h) (by omega) (fun j q => by cases q; omega) (fun q => hq1 (by rw [faF, if_neg (by rw [c51]; decide)]; exact (if_pos hE).trans q)) (fun q => hq0 (by rw [faF, if_neg (by rw [c51]; decide)]; exact (if_pos hE).trans q)))
            | exact WP.cast (by simp only [nI_1]) (ih (h + 1) (some j) (by omega) hf (fun q => hq1 (by rw [faF, if_neg (by rw [c51]; decide)]; exact (if_pos hE).trans q)) (fun q => hq0 (by rw [faF, if_neg (by rw [c51]; decide)]; exact (if_pos hE).trans q)))
          · have hE := fun q => c81 ((lg_cmp_eq _ _).mpr q)
            refine wp_iconst 0 dX10_fair_84 rfl rfl ?_
            exact wp_ireturn dX10_fair_85 rfl (hq0 (by rw [faF, if_neg (by rw [c51]; decide)]; exact if_neg hE))
      · rw [ew] at c51
        refine wp_goto 86 dX10_fair_54 rfl rfl ?_
        refine wp_iinc_4 1 dX10_fair_86 rfl rfl (by decide) rfl ?_
        refine wp_goto 36 dX10_fair_89 rfl rfl ?_
        first
        | exact WP.cast (by simp only [nI_1]) (ih (h + 1) f (by omega) hf (fun q => hq1 (by rw [faF, if_pos c51]; exact q)) (fun q => hq0 (by rw [faF, if_pos c51]; exact q)))
        | exact WP.cast (by simp only [nI_1]; rfl) (ih (h + 1) (some h) (by omega) (fun j q => by cases q; omega) (fun q => hq1 (by rw [faF, if_neg (by rw [c51]; decide)]; exact (if_pos hE).trans q)) (fun q => hq0 (by rw [faF, if_neg (by rw [c51]; decide)]; exact (if_pos hE).trans q)))
        | exact WP.cast (by simp only [nI_1]) (ih (h + 1) (some j) (by omega) hf (fun q => hq1 (by rw [faF, if_neg (by rw [c51]; decide)]; exact (if_pos hE).trans q)) (fun q => hq0 (by rw [faF, if_neg (by rw [c51]; decide)]; exact (if_pos hE).trans q)))
theorem mL_fair {g : GW} {M : Nat} {pre post : AH} (hm : pre.length = M) {S0 : SM} {Wd : Nat → Int32} (ew0 : wd S0 = Wd) (hs : WFs Wd) (h0 : ¬ Wd 0 = 0) {law : Int32} {c n : Nat} {Q : Option Value → AH → Prop} : ∀ (k : Nat) (S : SM) (n2 : Nat) (w3 w4 : Option Value), n2 + k = 13 → KL S0 S → (∀ S', KL S0 S' → Q (some (.int (b2i (faW Wd law k n2)))) (mH M pre S' post)) → WP g 5 yX10_fair cX10_fair 5 (some .int) 19 [some (.ref M), some (.int law), some (.int (nI n2)), w3, w4] [] (mH M pre S post) c n Q := by
  intro k
  induction k with
  | zero =>
    intro S n2 w3 w4 hi kl hq
    refine wp_iload_2 dX10_fair_19 rfl ?_
    refine wp_bipush 12 dX10_fair_20 rfl rfl ?_
    refine wp_icmp_gt 98 dX10_fair_22 rfl rfl (fun c22 => ?_) (fun c22 => ?_)
    · refine wp_iconst 1 dX10_fair_98 rfl rfl ?_
      exact wp_ireturn dX10_fair_99 rfl (hq S kl)
    · exact absurd (show (12 : Int32) < nI n2 by rw [show n2 = 13 by omega]; decide) c22
  | succ k ih =>
    intro S n2 w3 w4 hi kl hq
    refine wp_iload_2 dX10_fair_19 rfl ?_
    refine wp_bipush 12 dX10_fair_20 rfl rfl ?_
    refine wp_icmp_gt 98 dX10_fair_22 rfl rfl (fun c22 => ?_) (fun c22 => ?_)
    · exact absurd c22 (Int32.not_lt.mpr (show nI n2 ≤ (12 : Int32) from nI_le (b := 12) (by omega) (by omega)))
    · refine wp_aload_0 dX10_fair_25 rfl ?_
      refine wp_iload_1 dX10_fair_26 rfl ?_
      refine wp_iload_2 dX10_fair_27 rfl ?_
      refine wp_cvE dX10_fair_28 rfl q2386 mv_X10_fillRows (mg_0 hm) rfl rfl (m_fillRows (N := n2) (law := law) hm (kl.wd.trans ew0) hs h0 (by omega)) rfl rfl (Nat.le_of_ble_eq_true rfl) (Nat.le_of_ble_eq_true rfl) (fun h1 hq => ?_)
      obtain ⟨S1, rfl, kl1, hg⟩ := hq
      refine wp_iconst (-1) dX10_fair_31 rfl rfl ?_
      refine wp_istore_3 dX10_fair_32 rfl (by decide) rfl ?_
      refine wp_iconst 0 dX10_fair_33 rfl rfl ?_
      refine wp_istore_4 dX10_fair_34 rfl (by decide) rfl ?_
      refine mL_fair2 (S := S1) (n2 := n2) hm (kl1.wd.trans (kl.wd.trans ew0)) hs hg (hoN Wd) 0 none (Nat.zero_add _) (fun j q => by cases q) (fun q f' => ?_) (fun q => by have := hq S1 (kl.tr kl1); rw [faW, if_neg (by rw [q]; decide)] at this; exact this)
      refine wp_iinc_2 1 dX10_fair_92 rfl rfl (by decide) rfl ?_
      refine wp_goto 19 dX10_fair_95 rfl rfl ?_
      exact WP.cast (by rw [nI_1]) (ih S1 (n2 + 1) (some (.int (onI f'))) (some (.int (nI (hoN Wd)))) (by omega) (kl.tr kl1) (fun S2 k2 => by have := hq S2 k2; rw [faW, if_pos q] at this; exact this))
theorem q_m_fair {g : GW} {M : Nat} {pre post : AH} {S : SM} (hm : pre.length = M) {x : Int32} (hs : WFs (wd S)) : SP g 5 0 0 yX10_fair cX10_fair 5 (some .int) [.ref M, .int x] (mH M pre S post) (QM M pre post S (.int (qfair (wd S) x))) := by
  refine SP.intro [some (.ref M), some (.int x), none, none, none] (pfn (by decide)) rfl (Nat.le_of_ble_eq_true rfl) ?_
  refine wp_aload_0 dX10_fair_0 rfl ?_
  refine wp_cvR dX10_fair_1 rfl q2154 mv_X10_isBoard (mg_0 hm) rfl rfl (m_isBoard hm) rfl rfl (Nat.le_of_ble_eq_true rfl) (Nat.le_of_ble_eq_true rfl) ?_
  refine wp_ifeq_b 14 dX10_fair_4 rfl rfl (fun c4 => ?_) (fun c4 => ?_)
  · refine wp_bipush (-2) dX10_fair_14 rfl rfl ?_
    exact wp_ireturn dX10_fair_16 rfl ⟨by rw [qfair, if_neg (by simp [*])], S, rfl, KP.rf S⟩
  · refine wp_iload_1 dX10_fair_7 rfl ?_
    refine wp_csR dX10_fair_8 rfl q2380 ms_X10_isLaw m_isLaw rfl rfl (Nat.le_of_ble_eq_true rfl) (Nat.le_of_ble_eq_true rfl) ?_
    refine wp_ifne_b 17 dX10_fair_11 rfl rfl (fun c11 => ?_) (fun c11 => ?_)
    · refine wp_iconst 1 dX10_fair_17 rfl rfl ?_
      refine wp_istore_2 dX10_fair_18 rfl (by decide) rfl ?_
      exact mL_fair hm rfl hs (bd_0 c4) 12 S 1 none none rfl (KL.rf S) (fun S2 k2 => ⟨by rw [qfair, if_pos ⟨c4, c11⟩], S2, rfl, k2.KP⟩)
    · refine wp_bipush (-2) dX10_fair_14 rfl rfl ?_
      exact wp_ireturn dX10_fair_16 rfl ⟨by rw [qfair, if_neg (by simp [*])], S, rfl, KP.rf S⟩
theorem mL_breaks {g : GW} {M : Nat} {pre post : AH} {S : SM} (hm : pre.length = M) (hs : WFs (wd S)) (h0 : ¬ wd S 0 = 0) {law : Int32} {c n : Nat} {Q : Option Value → AH → Prop} : ∀ (k : Nat) (i : Nat), i + k = nW (wd S) 5 → Q (some (.int (onI (fstK (brP (wd S) law) k i)))) (mH M pre S post) → WP g 5 yX10_breaks cX10_breaks 3 (some .int) 19 [some (.ref M), some (.int law), some (.int (nI i))] [] (mH M pre S post) c n Q := by
  intro k
  induction k with
  | zero =>
    intro i hi hq
    have b24 := hs.nc.2
    have e5 : S.2.1 1 5 = nI (nW (wd S) 5) := hs.nc.1
    refine wp_iload_2 dX10_breaks_19 rfl ?_
    refine wp_aload_0 dX10_breaks_20 rfl ?_
    refine wp_getf dX10_breaks_21 rfl q1832 fk10_1 (mg_0 hm) rfl ?_
    refine wp_iconst 5 dX10_breaks_24 rfl rfl ?_
    refine wp_ialoadn 5 dX10_breaks_25 rfl (mg_1 hm) rfl (by decide) (by decide) ?_
    refine wp_icmp_ge 64 dX10_breaks_26 rfl rfl (fun c26 => ?_) (fun c26 => ?_)
    · refine wp_iconst (-1) dX10_breaks_64 rfl rfl ?_
      exact wp_ireturn dX10_breaks_65 rfl hq
    · exact absurd (show S.2.1 1 5 ≤ nI i by rw [e5]; exact nI_le (by omega) (by omega)) c26
  | succ k ih =>
    intro i hi hq
    have b24 := hs.nc.2
    have e5 : S.2.1 1 5 = nI (nW (wd S) 5) := hs.nc.1
    refine wp_iload_2 dX10_breaks_19 rfl ?_
    refine wp_aload_0 dX10_breaks_20 rfl ?_
    refine wp_getf dX10_breaks_21 rfl q1832 fk10_1 (mg_0 hm) rfl ?_
    refine wp_iconst 5 dX10_breaks_24 rfl rfl ?_
    refine wp_ialoadn 5 dX10_breaks_25 rfl (mg_1 hm) rfl (by decide) (by decide) ?_
    refine wp_icmp_ge 64 dX10_breaks_26 rfl rfl (fun c26 => ?_) (fun c26 => ?_)
    · exact absurd c26 (show ¬ (S.2.1 1 5 ≤ nI i) by rw [e5]; exact nI_ge (by omega) (by omega))
    · have h5 : 0 < nW (wd S) 5 := by omega
      refine wp_aload_0 dX10_breaks_29 rfl ?_
      refine wp_iload_1 dX10_breaks_30 rfl ?_
      refine wp_aload_0 dX10_breaks_31 rfl ?_
      refine wp_iload_2 dX10_breaks_32 rfl ?_
      refine wp_cvR dX10_breaks_33 rfl q2410 mv_X10_holeAt (mg_0 hm) rfl rfl (m_holeAt hm h5 hs) rfl rfl (Nat.le_of_ble_eq_true rfl) (Nat.le_of_ble_eq_true rfl) ?_
      refine wp_aload_0 dX10_breaks_36 rfl ?_
      refine wp_iload_2 dX10_breaks_37 rfl ?_
      refine wp_iconst 1 dX10_breaks_38 rfl rfl ?_
      refine wp_isub dX10_breaks_39 rfl ?_
      refine wp_cvR dX10_breaks_40 rfl q2410 mv_X10_holeAt (mg_0 hm) rfl rfl (m_holeAt hm h5 hs) rfl rfl (Nat.le_of_ble_eq_true rfl) (Nat.le_of_ble_eq_true rfl) ?_
      refine wp_aload_0 dX10_breaks_43 rfl ?_
      refine wp_iload_2 dX10_breaks_44 rfl ?_
      refine wp_iconst 2 dX10_breaks_45 rfl rfl ?_
      refine wp_isub dX10_breaks_46 rfl ?_
      refine wp_cvR dX10_breaks_47 rfl q2410 mv_X10_holeAt (mg_0 hm) rfl rfl (m_holeAt hm h5 hs) rfl rfl (Nat.le_of_ble_eq_true rfl) (Nat.le_of_ble_eq_true rfl) ?_
      refine wp_cvR dX10_breaks_50 rfl q2390 mv_X10_lets (mg_0 hm) rfl rfl (m_lets hm h0) rfl rfl (Nat.le_of_ble_eq_true rfl) (Nat.le_of_ble_eq_true rfl) ?_
      refine wp_ifne_b 58 dX10_breaks_53 rfl rfl (fun c53 => ?_) (fun c53 => ?_)
      · refine wp_iinc_2 1 dX10_breaks_58 rfl rfl (by decide) rfl ?_
        refine wp_goto 19 dX10_breaks_61 rfl rfl ?_
        exact WP.cast (by rw [nI_1]) (ih (i + 1) (by omega) (by rw [fst_f (by rw [brP, c53]; rfl)] at hq; exact hq))
      · refine wp_iload_2 dX10_breaks_56 rfl ?_
        exact wp_ireturn dX10_breaks_57 rfl (by rw [fst_t (by rw [brP, c53]; rfl)] at hq; exact hq)
theorem q_m_breaks {g : GW} {M : Nat} {pre post : AH} {S : SM} (hm : pre.length = M) {x : Int32} (hs : WFs (wd S)) : SP g 5 0 0 yX10_breaks cX10_breaks 3 (some .int) [.ref M, .int x] (mH M pre S post) (QM M pre post S (.int (qbreaks (wd S) x))) := by
  refine SP.intro [some (.ref M), some (.int x), none] (pfn (by decide)) rfl (Nat.le_of_ble_eq_true rfl) ?_
  refine wp_aload_0 dX10_breaks_0 rfl ?_
  refine wp_cvR dX10_breaks_1 rfl q2154 mv_X10_isBoard (mg_0 hm) rfl rfl (m_isBoard hm) rfl rfl (Nat.le_of_ble_eq_true rfl) (Nat.le_of_ble_eq_true rfl) ?_
  refine wp_ifeq_b 14 dX10_breaks_4 rfl rfl (fun c4 => ?_) (fun c4 => ?_)
  · refine wp_bipush (-2) dX10_breaks_14 rfl rfl ?_
    exact wp_ireturn dX10_breaks_16 rfl ⟨by rw [qbreaks, if_neg (by simp [*])], S, rfl, KP.rf S⟩
  · refine wp_iload_1 dX10_breaks_7 rfl ?_
    refine wp_csR dX10_breaks_8 rfl q2380 ms_X10_isLaw m_isLaw rfl rfl (Nat.le_of_ble_eq_true rfl) (Nat.le_of_ble_eq_true rfl) ?_
    refine wp_ifne_b 17 dX10_breaks_11 rfl rfl (fun c11 => ?_) (fun c11 => ?_)
    · refine wp_iconst 0 dX10_breaks_17 rfl rfl ?_
      refine wp_istore_2 dX10_breaks_18 rfl (by decide) rfl ?_
      refine mL_breaks hm hs (bd_0 c4) (nW (wd S) 5) 0 (Nat.zero_add _) ?_
      exact ⟨by rw [qbreaks, if_pos ⟨c4, c11⟩], S, rfl, KP.rf S⟩
    · refine wp_bipush (-2) dX10_breaks_14 rfl rfl ?_
      exact wp_ireturn dX10_breaks_16 rfl ⟨by rw [qbreaks, if_neg (by simp [*])], S, rfl, KP.rf S⟩
