/-! ===== the reference: the best run ===== -/
set_option maxRecDepth 100000
theorem m_cell {g : GW} {h : AH} {h2 n2 : Nat} : SPx g 1 0 0 yX10_cell cX10_cell 2 (some .int) [.int (nI h2), .int (nI n2)] h (some (.int (nI (121 * h2 + n2)))) h := by
  refine SPx.intro [some (.int (nI h2)), some (.int (nI n2))] (pfn (by decide)) rfl (Nat.le_of_ble_eq_true rfl) ?_
  refine wp_bipush 121 dX10_cell_0 rfl rfl ?_
  refine wp_iload_0 dX10_cell_2 rfl ?_
  refine wp_imul dX10_cell_3 rfl ?_
  refine wp_iload_1 dX10_cell_4 rfl ?_
  refine wp_iadd dX10_cell_5 rfl ?_
  exact wp_ireturn dX10_cell_6 rfl ⟨by rw [show (121 : Int32) = nI 121 from rfl, pk_mul, nI_add], rfl⟩
theorem m_sooner {g : GW} {M : Nat} {pre post : AH} {S : SM} (hm : pre.length = M) {q k : Nat} {t : Int32} (hq : q < 12) (hk : k < 121) : SPx g 2 0 0 yX10_sooner cX10_sooner 4 none [.ref M, .int (nI q), .int (nI k), .int t] (mH M pre S post) none (mH M pre (sA 14 (121 * q + k) (mn32 (S.2.1 14 (121 * q + k)) t) S) post) := by
  refine SPx.intro [some (.ref M), some (.int (nI q)), some (.int (nI k)), some (.int t)] (pfn (by decide)) rfl (Nat.le_of_ble_eq_true rfl) ?_
  refine wp_aload_0 dX10_sooner_0 rfl ?_
  refine wp_getf dX10_sooner_1 rfl q1865 fk10_34 (mg_0 hm) rfl ?_
  refine wp_iload_1 dX10_sooner_4 rfl ?_
  refine wp_iload_2 dX10_sooner_5 rfl ?_
  refine wp_csR dX10_sooner_6 rfl q2289 ms_X10_cell m_cell rfl rfl (Nat.le_of_ble_eq_true rfl) (Nat.le_of_ble_eq_true rfl) ?_
  refine wp_aload_0 dX10_sooner_9 rfl ?_
  refine wp_getf dX10_sooner_10 rfl q1865 fk10_34 (mg_0 hm) rfl ?_
  refine wp_iload_1 dX10_sooner_13 rfl ?_
  refine wp_iload_2 dX10_sooner_14 rfl ?_
  refine wp_csR dX10_sooner_15 rfl q2289 ms_X10_cell m_cell rfl rfl (Nat.le_of_ble_eq_true rfl) (Nat.le_of_ble_eq_true rfl) ?_
  refine wp_ialoadn (121 * q + k) dX10_sooner_18 rfl (mg_14 hm) rfl (by omega) (by decide) ?_
  refine wp_iload_3 dX10_sooner_19 rfl ?_
  refine wp_csR dX10_sooner_20 rfl q2015 ms_J3_min j_min rfl rfl (Nat.le_of_ble_eq_true rfl) (Nat.le_of_ble_eq_true rfl) ?_
  refine wp_iastoren (121 * q + k) dX10_sooner_23 rfl (mg_14 hm) rfl (by omega) (by decide) (ms_A14 hm) ?_
  exact wp_return dX10_sooner_24 rfl ⟨rfl, rfl⟩
theorem m_behind {g : GW} {M : Nat} {pre post : AH} {S : SM} (hm : pre.length = M) {i p : Nat} {x t z : Int32} {G : GA} (hg : GS S G) (hi : i < G.1) (hr : S.1 19 = nI p) (hp : p < 4) (h0 : ¬ wd S 0 = 0) : SPx g 3 0 0 yX10_behind cX10_behind 6 (some .int) [.ref M, .int (nI i), .int x, .int t, .int z] (mH M pre S post) (some (.int (bhW (wd S) G.2 p i x t z))) (mH M pre S post) := by
  refine SPx.intro [some (.ref M), some (.int (nI i)), some (.int x), some (.int t), some (.int z), none] (pfn (by decide)) rfl (Nat.le_of_ble_eq_true rfl) ?_
  refine wp_iload_3 dX10_behind_0 rfl ?_
  refine wp_ldc_w dX10_behind_1 rfl q2288 ?_
  refine wp_icmp_ne 11 dX10_behind_4 rfl rfl (fun c4 => ?_) (fun c4 => ?_)
  · have hi60 : i < 60 := Nat.lt_of_lt_of_le hi hg.2.1
    refine wp_aload_0 dX10_behind_11 rfl ?_
    refine wp_getf dX10_behind_12 rfl q1847 fk10_16 (mg_0 hm) rfl ?_
    refine wp_iload_1 dX10_behind_15 rfl ?_
    refine wp_ialoadn i dX10_behind_16 rfl (mg_8 hm) rfl hi60 (by decide) ?_
    rw [show S.2.1 8 i = gF G.2 i from hg.f hi]
    refine wp_iload_3 dX10_behind_17 rfl ?_
    refine wp_aload_0 dX10_behind_18 rfl ?_
    refine wp_iload_2 dX10_behind_19 rfl ?_
    refine wp_iload_4 dX10_behind_20 rfl ?_
    refine wp_cvR dX10_behind_22 rfl q2210 mv_X10_stepsOf (mg_0 hm) rfl rfl (m_stepsOf hm h0) rfl rfl (Nat.le_of_ble_eq_true rfl) (Nat.le_of_ble_eq_true rfl) ?_
    refine wp_aload_0 dX10_behind_25 rfl ?_
    refine wp_aload_0 dX10_behind_26 rfl ?_
    refine wp_getf dX10_behind_27 rfl q1850 fk10_19 (mg_0 hm) rfl ?_
    rw [hr]
    refine wp_iload_3 dX10_behind_30 rfl ?_
    refine wp_cvR dX10_behind_31 rfl q2219 mv_X10_paceIn (mg_0 hm) rfl rfl (m_paceIn hm hp) rfl rfl (Nat.le_of_ble_eq_true rfl) (Nat.le_of_ble_eq_true rfl) ?_
    refine wp_imul dX10_behind_34 rfl ?_
    refine wp_iadd dX10_behind_35 rfl ?_
    refine wp_csR dX10_behind_36 rfl q2259 ms_J3_max j_max rfl rfl (Nat.le_of_ble_eq_true rfl) (Nat.le_of_ble_eq_true rfl) ?_
    refine wp_istore_5 dX10_behind_39 rfl (by decide) rfl ?_
    refine wp_iload_5 dX10_behind_41 rfl ?_
    refine wp_aload_0 dX10_behind_43 rfl ?_
    refine wp_getf dX10_behind_44 rfl q1848 fk10_17 (mg_0 hm) rfl ?_
    refine wp_iload_1 dX10_behind_47 rfl ?_
    refine wp_ialoadn i dX10_behind_48 rfl (mg_9 hm) rfl hi60 (by decide) ?_
    rw [show S.2.1 9 i = gE G.2 i from hg.e hi]
    refine wp_icmp_le 58 dX10_behind_49 rfl rfl (fun c49 => ?_) (fun c49 => ?_)
    · refine wp_iload_5 dX10_behind_58 rfl ?_
      refine wp_iconst 1 dX10_behind_60 rfl rfl ?_
      refine wp_iadd dX10_behind_61 rfl ?_
      exact wp_ireturn dX10_behind_62 rfl ⟨by simp [bhW, ← Int32.not_le, *], rfl⟩
    · refine wp_ldc_w dX10_behind_52 rfl q2288 ?_
      refine wp_goto 62 dX10_behind_55 rfl rfl ?_
      exact wp_ireturn dX10_behind_62 rfl ⟨by simp [bhW, ← Int32.not_le, *], rfl⟩
  · refine wp_ldc_w dX10_behind_7 rfl q2288 ?_
    exact wp_ireturn dX10_behind_10 rfl ⟨by simp [bhW, ← Int32.not_le, *], rfl⟩
theorem mL_may2 {g : GW} {M : Nat} {pre post : AH} (hm : pre.length = M) {S0 : SM} {Wd : Nat → Int32} {G : GA} {p i fs : Nat} {sn : Option Nat} (hg0 : GS S0 G) (hi0 : i < G.1) (hr0 : S0.1 19 = nI p) (hp : p < 4) (hs : WFs Wd) (hw0 : wd S0 = Wd) (h00 : ¬ Wd 0 = 0) (hf : fs < 12) (hsn : ∀ s, sn = some s → s < 12) {h : Nat} (hh : h < 12) {c n : Nat} {Q : Option Value → AH → Prop} : ∀ (k : Nat) (S : SM) (n2 : Nat) (v6 : Option Value), n2 + k = 119 → KX [] [14] S0 S → (∀ S' n' v', KX [] [14] S0 S' → S'.2.1 14 = itr (mhF2 Wd G.2 p i fs sn (S0.2.1 15) h) k n2 (S.2.1 14) → WP g 4 yX10_mayHit cX10_mayHit 7 none 86 [some (.ref M), some (.int (nI i)), some (.int (nI fs)), some (.int (onI sn)), some (.int (nI h)), some (.int (nI n')), v'] [] (mH M pre S' post) c n Q) → WP g 4 yX10_mayHit cX10_mayHit 7 none 15 [some (.ref M), some (.int (nI i)), some (.int (nI fs)), some (.int (onI sn)), some (.int (nI h)), some (.int (nI n2)), v6] [] (mH M pre S post) c n Q := by
  intro k
  induction k with
  | zero =>
    intro S n2 v6 hi kx hq
    have ew : wd S = Wd := (kx.wd (by decide)).trans hw0
    have hg := kx.gs (by decide) (by decide) hg0
    have hr : S.1 19 = nI p := (kx.1 19 (by decide)).trans hr0
    have h0 : ¬ wd S 0 = 0 := by rw [ew]; exact h00
    have b12 := hs.ho12
    have e0 : hoW (wd S) = nI (hoN Wd) := by rw [ew]; exact hs.ho
    have e15 : S.2.1 15 = S0.2.1 15 := kx.2.1 15 (by decide)
    refine wp_iload_5 dX10_mayHit_15 rfl ?_
    refine wp_iconst 2 dX10_mayHit_17 rfl rfl ?_
    refine wp_iadd dX10_mayHit_18 rfl ?_
    rw [show nI n2 + 2 = nI (n2 + 2) from nI_add n2 2]
    refine wp_bipush 121 dX10_mayHit_19 rfl rfl ?_
    refine wp_icmp_ge 86 dX10_mayHit_21 rfl rfl (fun c21 => ?_) (fun c21 => ?_)
    · exact hq S n2 v6 kx rfl
    · exact absurd (show (121 : Int32) ≤ nI (n2 + 2) by rw [show n2 = 119 by omega]; decide) c21
  | succ k ih =>
    intro S n2 v6 hi kx hq
    have ew : wd S = Wd := (kx.wd (by decide)).trans hw0
    have hg := kx.gs (by decide) (by decide) hg0
    have hr : S.1 19 = nI p := (kx.1 19 (by decide)).trans hr0
    have h0 : ¬ wd S 0 = 0 := by rw [ew]; exact h00
    have b12 := hs.ho12
    have e0 : hoW (wd S) = nI (hoN Wd) := by rw [ew]; exact hs.ho
    have e15 : S.2.1 15 = S0.2.1 15 := kx.2.1 15 (by decide)
    refine wp_iload_5 dX10_mayHit_15 rfl ?_
    refine wp_iconst 2 dX10_mayHit_17 rfl rfl ?_
    refine wp_iadd dX10_mayHit_18 rfl ?_
    rw [show nI n2 + 2 = nI (n2 + 2) from nI_add n2 2]
    refine wp_bipush 121 dX10_mayHit_19 rfl rfl ?_
    refine wp_icmp_ge 86 dX10_mayHit_21 rfl rfl (fun c21 => ?_) (fun c21 => ?_)
    · exact absurd c21 (show ¬ ((121 : Int32) ≤ nI (n2 + 2)) from nI_ge (a := n2 + 2) (b := 121) (by omega) (by omega))
    · refine wp_aload_0 dX10_mayHit_24 rfl ?_
      refine wp_iload_1 dX10_mayHit_25 rfl ?_
      refine wp_iload_4 dX10_mayHit_26 rfl ?_
      refine wp_aload_0 dX10_mayHit_28 rfl ?_
      refine wp_getf dX10_mayHit_29 rfl q1866 fk10_35 (mg_0 hm) rfl ?_
      refine wp_iload_4 dX10_mayHit_32 rfl ?_
      refine wp_iload_5 dX10_mayHit_34 rfl ?_
      refine wp_csR dX10_mayHit_36 rfl q2289 ms_X10_cell m_cell rfl rfl (Nat.le_of_ble_eq_true rfl) (Nat.le_of_ble_eq_true rfl) ?_
      refine wp_ialoadn (121 * h + n2) dX10_mayHit_39 rfl (mg_15 hm) rfl (by omega) (by decide) ?_
      rw [e15]
      refine wp_iload_2 dX10_mayHit_40 rfl ?_
      refine wp_cvR dX10_mayHit_41 rfl q2296 mv_X10_behind (mg_0 hm) rfl rfl (m_behind hm hg hi0 hr hp h0) rfl rfl (Nat.le_of_ble_eq_true rfl) (Nat.le_of_ble_eq_true rfl) ?_
      rw [ew]
      refine wp_istore_6 dX10_mayHit_44 rfl (by decide) rfl ?_
      refine wp_aload_0 dX10_mayHit_46 rfl ?_
      refine wp_iload_2 dX10_mayHit_47 rfl ?_
      refine wp_iload_5 dX10_mayHit_48 rfl ?_
      refine wp_iconst 1 dX10_mayHit_50 rfl rfl ?_
      refine wp_iadd dX10_mayHit_51 rfl ?_
      rw [nI_1]
      refine wp_iload_6 dX10_mayHit_52 rfl ?_
      refine wp_cv0 dX10_mayHit_54 rfl q2300 mv_X10_sooner (mg_0 hm) rfl rfl (m_sooner (q := fs) (k := n2 + 1) hm hf (by omega)) rfl rfl (Nat.le_of_ble_eq_true rfl) (Nat.le_of_ble_eq_true rfl) ?_
      have kx1 := kx.tr (KX.s14 (121 * fs + (n2 + 1)) (mn32 (S.2.1 14 (121 * fs + (n2 + 1))) (bhW Wd G.2 p i (nI h) (S0.2.1 15 (121 * h + n2)) (nI fs))) S)
      have et := so_s fs (n2 + 1) (bhW Wd G.2 p i (nI h) (S0.2.1 15 (121 * h + n2)) (nI fs)) S
      generalize sA 14 (121 * fs + (n2 + 1)) (mn32 (S.2.1 14 (121 * fs + (n2 + 1))) (bhW Wd G.2 p i (nI h) (S0.2.1 15 (121 * h + n2)) (nI fs))) S = S1 at *
      refine wp_iload_3 dX10_mayHit_57 rfl ?_
      refine wp_iconst (-1) dX10_mayHit_58 rfl rfl ?_
      refine wp_icmp_eq 80 dX10_mayHit_59 rfl rfl (fun c59 => ?_) (fun c59 => ?_)
      · obtain rfl : sn = none := by
          cases sn with
          | none => rfl
          | some s => exact absurd c59 (nI_n1 (by have := hsn s rfl; omega))
        refine wp_iinc_5 1 dX10_mayHit_80 rfl rfl (by decide) rfl ?_
        refine wp_goto 15 dX10_mayHit_83 rfl rfl ?_
        first
        | exact WP.cast (by rw [nI_1]) (ih S1 (n2 + 1) (some (.int (bhW Wd G.2 p i (nI h) (S0.2.1 15 (121 * h + n2)) (nI fs)))) (by omega) (kx1.sub (by decide) (by decide)) (fun S2 n' v' k2 e2 => hq S2 n' v' k2 (by rw [e2, et]; rfl)))
        | exact WP.cast (by rw [nI_1]) (ih _ (n2 + 1) (some (.int (bhW Wd G.2 p i (nI h) (S0.2.1 15 (121 * h + n2)) (nI fs)))) (by omega) ((kx1.tr (KX.s14 _ _ S1)).sub (by decide) (by decide)) (fun S2 n' v' k2 e2 => hq S2 n' v' k2 (by rw [e2, so_s, et]; rfl)))
      · obtain ⟨s, rfl⟩ : ∃ s, sn = some s := by
          cases sn with
          | none => exact absurd rfl c59
          | some s => exact ⟨s, rfl⟩
        have hs12 := hsn s rfl
        have ew1 : wd S1 = Wd := (kx1.wd (by decide)).trans hw0
        refine wp_aload_0 dX10_mayHit_62 rfl ?_
        refine wp_iload_3 dX10_mayHit_63 rfl ?_
        refine wp_iload_5 dX10_mayHit_64 rfl ?_
        refine wp_iconst 2 dX10_mayHit_66 rfl rfl ?_
        refine wp_iadd dX10_mayHit_67 rfl ?_
        rw [show nI n2 + 2 = nI (n2 + 2) from nI_add n2 2]
        refine wp_aload_0 dX10_mayHit_68 rfl ?_
        refine wp_iload_1 dX10_mayHit_69 rfl ?_
        refine wp_iload_2 dX10_mayHit_70 rfl ?_
        refine wp_iload_6 dX10_mayHit_71 rfl ?_
        refine wp_iload_3 dX10_mayHit_73 rfl ?_
        refine wp_cvR dX10_mayHit_74 rfl q2296 mv_X10_behind (mg_0 hm) rfl rfl (m_behind hm (kx1.gs (by decide) (by decide) hg0) hi0 ((kx1.1 19 (by decide)).trans hr0) hp (by rw [ew1]; exact h00)) rfl rfl (Nat.le_of_ble_eq_true rfl) (Nat.le_of_ble_eq_true rfl) ?_
        rw [ew1]
        refine wp_cv0 dX10_mayHit_77 rfl q2300 mv_X10_sooner (mg_0 hm) rfl rfl (m_sooner (q := s) (k := n2 + 2) hm hs12 (by omega)) rfl rfl (Nat.le_of_ble_eq_true rfl) (Nat.le_of_ble_eq_true rfl) ?_
        refine wp_iinc_5 1 dX10_mayHit_80 rfl rfl (by decide) rfl ?_
        refine wp_goto 15 dX10_mayHit_83 rfl rfl ?_
        first
        | exact WP.cast (by rw [nI_1]) (ih S1 (n2 + 1) (some (.int (bhW Wd G.2 p i (nI h) (S0.2.1 15 (121 * h + n2)) (nI fs)))) (by omega) (kx1.sub (by decide) (by decide)) (fun S2 n' v' k2 e2 => hq S2 n' v' k2 (by rw [e2, et]; rfl)))
        | exact WP.cast (by rw [nI_1]) (ih _ (n2 + 1) (some (.int (bhW Wd G.2 p i (nI h) (S0.2.1 15 (121 * h + n2)) (nI fs)))) (by omega) ((kx1.tr (KX.s14 _ _ S1)).sub (by decide) (by decide)) (fun S2 n' v' k2 e2 => hq S2 n' v' k2 (by rw [e2, so_s, et]; rfl)))
theorem mL_may1 {g : GW} {M : Nat} {pre post : AH} (hm : pre.length = M) {S0 : SM} {Wd : Nat → Int32} {G : GA} {p i fs : Nat} {sn : Option Nat} (hg0 : GS S0 G) (hi0 : i < G.1) (hr0 : S0.1 19 = nI p) (hp : p < 4) (hs : WFs Wd) (hw0 : wd S0 = Wd) (h00 : ¬ Wd 0 = 0) (hf : fs < 12) (hsn : ∀ s, sn = some s → s < 12) {c n : Nat} {Q : Option Value → AH → Prop} : ∀ (k : Nat) (S : SM) (h : Nat) (v5 v6 : Option Value), h + k = hoN Wd → KX [] [14] S0 S → (∀ S', KX [] [14] S0 S' → S'.2.1 14 = itr (mhF1 Wd G.2 p i fs sn (S0.2.1 15)) k h (S.2.1 14) → Q none (mH M pre S' post)) → WP g 4 yX10_mayHit cX10_mayHit 7 none 3 [some (.ref M), some (.int (nI i)), some (.int (nI fs)), some (.int (onI sn)), some (.int (nI h)), v5, v6] [] (mH M pre S post) c n Q := by
  intro k
  induction k with
  | zero =>
    intro S h v5 v6 hi kx hq
    have ew : wd S = Wd := (kx.wd (by decide)).trans hw0
    have hg := kx.gs (by decide) (by decide) hg0
    have hr : S.1 19 = nI p := (kx.1 19 (by decide)).trans hr0
    have h0 : ¬ wd S 0 = 0 := by rw [ew]; exact h00
    have b12 := hs.ho12
    have e0 : hoW (wd S) = nI (hoN Wd) := by rw [ew]; exact hs.ho
    have e15 : S.2.1 15 = S0.2.1 15 := kx.2.1 15 (by decide)
    refine wp_iload_4 dX10_mayHit_3 rfl ?_
    refine wp_aload_0 dX10_mayHit_5 rfl ?_
    refine wp_cvR dX10_mayHit_6 rfl q2206 mv_X10_holes (mg_0 hm) rfl rfl (m_holes hm) rfl rfl (Nat.le_of_ble_eq_true rfl) (Nat.le_of_ble_eq_true rfl) ?_
    refine wp_icmp_ge 92 dX10_mayHit_9 rfl rfl (fun c9 => ?_) (fun c9 => ?_)
    · exact wp_return dX10_mayHit_92 rfl (hq S kx rfl)
    · exact absurd (show hoW (wd S) ≤ nI h by rw [e0]; exact nI_le (by omega) (by omega)) c9
  | succ k ih =>
    intro S h v5 v6 hi kx hq
    have ew : wd S = Wd := (kx.wd (by decide)).trans hw0
    have hg := kx.gs (by decide) (by decide) hg0
    have hr : S.1 19 = nI p := (kx.1 19 (by decide)).trans hr0
    have h0 : ¬ wd S 0 = 0 := by rw [ew]; exact h00
    have b12 := hs.ho12
    have e0 : hoW (wd S) = nI (hoN Wd) := by rw [ew]; exact hs.ho
    have e15 : S.2.1 15 = S0.2.1 15 := kx.2.1 15 (by decide)
    refine wp_iload_4 dX10_mayHit_3 rfl ?_
    refine wp_aload_0 dX10_mayHit_5 rfl ?_
    refine wp_cvR dX10_mayHit_6 rfl q2206 mv_X10_holes (mg_0 hm) rfl rfl (m_holes hm) rfl rfl (Nat.le_of_ble_eq_true rfl) (Nat.le_of_ble_eq_true rfl) ?_
    refine wp_icmp_ge 92 dX10_mayHit_9 rfl rfl (fun c9 => ?_) (fun c9 => ?_)
    · exact absurd c9 (show ¬ (hoW (wd S) ≤ nI h) by rw [e0]; exact nI_ge (by omega) (by omega))
    · refine wp_iconst 0 dX10_mayHit_12 rfl rfl ?_
      refine wp_istore_5 dX10_mayHit_13 rfl (by decide) rfl ?_
      refine mL_may2 hm hg0 hi0 hr0 hp hs hw0 h00 hf hsn (h := h) (by omega) 119 S 0 v6 rfl kx (fun S1 n' v' k1 e1 => ?_)
      refine wp_iinc_4 1 dX10_mayHit_86 rfl rfl (by decide) rfl ?_
      refine wp_goto 3 dX10_mayHit_89 rfl rfl ?_
      exact WP.cast (by rw [nI_1]) (ih S1 (h + 1) (some (.int (nI n'))) v' (by omega) k1 (fun S2 k2 e2 => hq S2 k2 (by rw [e2, e1]; rfl)))
theorem m_mayHit {g : GW} {M : Nat} {pre post : AH} {S : SM} (hm : pre.length = M) {Wd : Nat → Int32} {G : GA} {p i fs : Nat} {sn : Option Nat} (hg : GS S G) (hi0 : i < G.1) (hr : S.1 19 = nI p) (hp : p < 4) (hs : WFs Wd) (hw : wd S = Wd) (h0 : ¬ Wd 0 = 0) (hf : fs < 12) (hsn : ∀ s, sn = some s → s < 12) : SP g 4 0 0 yX10_mayHit cX10_mayHit 7 none [.ref M, .int (nI i), .int (nI fs), .int (onI sn)] (mH M pre S post) (fun v h1 => v = none ∧ ∃ S', h1 = mH M pre S' post ∧ KX [] [14] S S' ∧ S'.2.1 14 = mhT Wd G.2 p i fs sn (S.2.1 15) (S.2.1 14)) := by
  refine SP.intro [some (.ref M), some (.int (nI i)), some (.int (nI fs)), some (.int (onI sn)), none, none, none] (pfn (by decide)) rfl (Nat.le_of_ble_eq_true rfl) ?_
  refine wp_iconst 0 dX10_mayHit_0 rfl rfl ?_
  refine wp_istore_4 dX10_mayHit_1 rfl (by decide) rfl ?_
  exact mL_may1 hm hg hi0 hr hp hs hw h0 hf hsn (hoN Wd) S 0 none none (Nat.zero_add _) (KX.rf _ _ S) (fun S1 k1 e1 => ⟨rfl, S1, rfl, k1, e1⟩)
theorem moF_AI {f T : Nat → Int32} (h : AI f T) {q k : Nat} (hq : q < 12) (hk : k < 121) (m : Int32) : moF f q k m = moF T q k m := by
  unfold moF
  rw [h _ (by omega)]
theorem moW_AI {W f T : Nat → Int32} (h12 : hoN W ≤ 12) (h : AI f T) : moW W f = moW W T := by
  unfold moW
  refine itr_rel (fun a b => a = b) (hoN W) (fun q a b hq e => ?_) (hoN W) 0 0 0 (by omega) rfl
  subst e
  exact itr_rel (fun a b => a = b) 121 (fun k a b hk e => by subst e; exact moF_AI h (by omega) hk a) 121 0 a a (by omega) rfl
theorem KX.s15 (i : Nat) (v : Int32) (S : SM) : KX [] [15] S (sA 15 i v S) := by
  refine ⟨fun q h => rfl, fun j h => ?_, rfl⟩
  simp only [List.mem_cons, List.not_mem_nil, or_false] at h
  simp [sA, va_up, h]
theorem mL_best0 {g : GW} {M : Nat} {pre post : AH} (hm : pre.length = M) {p : Nat} {x : Int32} {S0 : SM} {c n : Nat} {Q : Option Value → AH → Prop} : ∀ (k : Nat) (S : SM) (k2 : Nat), k2 + k = 1452 → KX [] [14] S0 S → (∀ j, j < k2 → S.2.1 14 j = 1000000) → (∀ S', KX [] [14] S0 S' → AI (S'.2.1 14) (fun _ => 1000000) → WP g 7 yX10_bestOf cX10_bestOf 6 (some .int) 35 [some (.ref M), some (.int (nI p)), some (.int x), some (.int (nI 1452)), none, none] [] (mH M pre S' post) c n Q) → WP g 7 yX10_bestOf cX10_bestOf 6 (some .int) 11 [some (.ref M), some (.int (nI p)), some (.int x), some (.int (nI k2)), none, none] [] (mH M pre S post) c n Q := by
  intro k
  induction k with
  | zero =>
    intro S k2 hi kx ha hq
    refine wp_iload_3 dX10_bestOf_11 rfl ?_
    refine wp_aload_0 dX10_bestOf_12 rfl ?_
    refine wp_getf dX10_bestOf_13 rfl q1865 fk10_34 (mg_0 hm) rfl ?_
    refine wp_alen (nI 1452) dX10_bestOf_16 rfl rfl (mg_14 hm) rfl ?_
    refine wp_icmp_ge 35 dX10_bestOf_17 rfl rfl (fun c17 => ?_) (fun c17 => ?_)
    · obtain rfl : k2 = 1452 := by omega
      exact hq S kx ha
    · exact absurd (show nI 1452 ≤ nI k2 by rw [show k2 = 1452 by omega]; exact Int32.le_refl _) c17
  | succ k ih =>
    intro S k2 hi kx ha hq
    refine wp_iload_3 dX10_bestOf_11 rfl ?_
    refine wp_aload_0 dX10_bestOf_12 rfl ?_
    refine wp_getf dX10_bestOf_13 rfl q1865 fk10_34 (mg_0 hm) rfl ?_
    refine wp_alen (nI 1452) dX10_bestOf_16 rfl rfl (mg_14 hm) rfl ?_
    refine wp_icmp_ge 35 dX10_bestOf_17 rfl rfl (fun c17 => ?_) (fun c17 => ?_)
    · exact absurd c17 (nI_ge (by omega) (by omega))
    · refine wp_aload_0 dX10_bestOf_20 rfl ?_
      refine wp_getf dX10_bestOf_21 rfl q1865 fk10_34 (mg_0 hm) rfl ?_
      refine wp_iload_3 dX10_bestOf_24 rfl ?_
      refine wp_ldc_w dX10_bestOf_25 rfl q2288 ?_
      refine wp_iastoren k2 dX10_bestOf_28 rfl (mg_14 hm) rfl (by omega) (by decide) (ms_A14 hm) ?_
      refine wp_iinc_3 1 dX10_bestOf_29 rfl rfl (by decide) rfl ?_
      refine wp_goto 11 dX10_bestOf_32 rfl rfl ?_
      exact WP.cast (by rw [nI_1]) (ih _ (k2 + 1) (by omega) ((kx.tr (KX.s14 _ _ _)).sub (by decide) (by decide)) (fun j hj => by
        by_cases q : j = k2
        · simp [sA, va_up, upd, q]
        · simp [sA, va_up, upd, q]
          exact ha j (by omega)) hq)
theorem mL_bestC {g : GW} {M : Nat} {pre post : AH} (hm : pre.length = M) {p : Nat} {x : Int32} {S0 : SM} {i : Nat} {v5 : Option Value} {c n : Nat} {Q : Option Value → AH → Prop} : ∀ (k : Nat) (S : SM) (k2 : Nat), k2 + k = 1452 → KX [] [15] S0 S → (∀ j, j < k2 → S.2.1 15 j = S0.2.1 14 j) → (∀ S', KX [] [15] S0 S' → AI (S'.2.1 15) (S0.2.1 14) → WP g 7 yX10_bestOf cX10_bestOf 6 (some .int) 112 [some (.ref M), some (.int (nI p)), some (.int x), some (.int (nI i)), some (.int (nI 1452)), v5] [] (mH M pre S' post) c n Q) → WP g 7 yX10_bestOf cX10_bestOf 6 (some .int) 82 [some (.ref M), some (.int (nI p)), some (.int x), some (.int (nI i)), some (.int (nI k2)), v5] [] (mH M pre S post) c n Q := by
  intro k
  induction k with
  | zero =>
    intro S k2 hi kx ha hq
    refine wp_iload_4 dX10_bestOf_82 rfl ?_
    refine wp_aload_0 dX10_bestOf_84 rfl ?_
    refine wp_getf dX10_bestOf_85 rfl q1865 fk10_34 (mg_0 hm) rfl ?_
    refine wp_alen (nI 1452) dX10_bestOf_88 rfl rfl (mg_14 hm) rfl ?_
    refine wp_icmp_ge 112 dX10_bestOf_89 rfl rfl (fun c89 => ?_) (fun c89 => ?_)
    · obtain rfl : k2 = 1452 := by omega
      exact hq S kx ha
    · exact absurd (show nI 1452 ≤ nI k2 by rw [show k2 = 1452 by omega]; exact Int32.le_refl _) c89
  | succ k ih =>
    intro S k2 hi kx ha hq
    refine wp_iload_4 dX10_bestOf_82 rfl ?_
    refine wp_aload_0 dX10_bestOf_84 rfl ?_
    refine wp_getf dX10_bestOf_85 rfl q1865 fk10_34 (mg_0 hm) rfl ?_
    refine wp_alen (nI 1452) dX10_bestOf_88 rfl rfl (mg_14 hm) rfl ?_
    refine wp_icmp_ge 112 dX10_bestOf_89 rfl rfl (fun c89 => ?_) (fun c89 => ?_)
    · exact absurd c89 (nI_ge (by omega) (by omega))
    · refine wp_aload_0 dX10_bestOf_92 rfl ?_
      refine wp_getf dX10_bestOf_93 rfl q1866 fk10_35 (mg_0 hm) rfl ?_
      refine wp_iload_4 dX10_bestOf_96 rfl ?_
      refine wp_aload_0 dX10_bestOf_98 rfl ?_
      refine wp_getf dX10_bestOf_99 rfl q1865 fk10_34 (mg_0 hm) rfl ?_
      refine wp_iload_4 dX10_bestOf_102 rfl ?_
      refine wp_ialoadn k2 dX10_bestOf_104 rfl (mg_14 hm) rfl (by omega) (by decide) ?_
      rw [show S.2.1 14 k2 = S0.2.1 14 k2 by rw [kx.2.1 14 (by decide)]]
      refine wp_iastoren k2 dX10_bestOf_105 rfl (mg_15 hm) rfl (by omega) (by decide) (ms_A15 hm) ?_
      refine wp_iinc_4 1 dX10_bestOf_106 rfl rfl (by decide) rfl ?_
      refine wp_goto 82 dX10_bestOf_109 rfl rfl ?_
      exact WP.cast (by rw [nI_1]) (ih _ (k2 + 1) (by omega) ((kx.tr (KX.s15 _ _ _)).sub (by decide) (by decide)) (fun j hj => by
        by_cases q : j = k2
        · simp [sA, va_up, upd, q]
        · simp [sA, va_up, upd, q]
          exact ha j (by omega)) hq)
theorem mL_bestB {g : GW} {M : Nat} {pre post : AH} (hm : pre.length = M) {p n2 : Nat} {S0 : SM} {Wd : Nat → Int32} {G : GA} (hn2 : n2 ≤ 60) (hg0 : GS S0 G) (hr0 : S0.1 19 = nI p) (hp : p < 4) (hs : WFs Wd) (hw0 : wd S0 = Wd) (h00 : ¬ Wd 0 = 0) (hwg : WG G) {c n : Nat} {Q : Option Value → AH → Prop} : ∀ (k : Nat) (S : SM) (i : Nat) (T2 : Nat → Int32) (v4 v5 : Option Value), i + k = min G.1 n2 → KX [] [14, 15] S0 S → AI (S.2.1 14) T2 → (∀ S' i' v4' v5', KX [] [14, 15] S0 S' → AI (S'.2.1 14) (itr (boF Wd G.2 p) k i T2) → WP g 7 yX10_bestOf cX10_bestOf 6 (some .int) 162 [some (.ref M), some (.int (nI p)), some (.int (nI n2)), some (.int (nI i')), v4', v5'] [] (mH M pre S' post) c n Q) → WP g 7 yX10_bestOf cX10_bestOf 6 (some .int) 53 [some (.ref M), some (.int (nI p)), some (.int (nI n2)), some (.int (nI i)), v4, v5] [] (mH M pre S post) c n Q := by
  intro k
  induction k with
  | zero =>
    intro S i T2 v4 v5 hi kx ha hq
    have ew : wd S = Wd := (kx.wd (by decide)).trans hw0
    have hg := kx.gs (by decide) (by decide) hg0
    have hr : S.1 19 = nI p := (kx.1 19 (by decide)).trans hr0
    have h60 := hg.2.1
    have b12 := hs.ho12
    refine wp_iload_3 dX10_bestOf_53 rfl ?_
    refine wp_aload_0 dX10_bestOf_54 rfl ?_
    refine wp_getf dX10_bestOf_55 rfl q1849 fk10_18 (mg_0 hm) rfl ?_
    rw [show S.1 18 = nI G.1 from hg.1]
    refine wp_icmp_ge_k 162 dX10_bestOf_58 rfl rfl (by omega) (by omega) (fun c58 => ?_) (fun c58 => ?_)
    · exact hq S i v4 v5 kx ha
    · refine wp_iload_3 dX10_bestOf_61 rfl ?_
      refine wp_iload_2 dX10_bestOf_62 rfl ?_
      refine wp_icmp_ge_k 162 dX10_bestOf_63 rfl rfl (by omega) (by omega) (fun c63 => ?_) (fun c63 => ?_)
      · exact hq S i v4 v5 kx ha
      · omega
  | succ k ih =>
    intro S i T2 v4 v5 hi kx ha hq
    have ew : wd S = Wd := (kx.wd (by decide)).trans hw0
    have hg := kx.gs (by decide) (by decide) hg0
    have hr : S.1 19 = nI p := (kx.1 19 (by decide)).trans hr0
    have h60 := hg.2.1
    have b12 := hs.ho12
    refine wp_iload_3 dX10_bestOf_53 rfl ?_
    refine wp_aload_0 dX10_bestOf_54 rfl ?_
    refine wp_getf dX10_bestOf_55 rfl q1849 fk10_18 (mg_0 hm) rfl ?_
    rw [show S.1 18 = nI G.1 from hg.1]
    refine wp_icmp_ge_k 162 dX10_bestOf_58 rfl rfl (by omega) (by omega) (fun c58 => ?_) (fun c58 => ?_)
    · omega
    · refine wp_iload_3 dX10_bestOf_61 rfl ?_
      refine wp_iload_2 dX10_bestOf_62 rfl ?_
      refine wp_icmp_ge_k 162 dX10_bestOf_63 rfl rfl (by omega) (by omega) (fun c63 => ?_) (fun c63 => ?_)
      · omega
      · have hi : i < G.1 := by omega
        have hi60 : i < 60 := by omega
        obtain ⟨⟨eh, bh⟩, eo, bo⟩ := hwg i hi
        refine wp_aload_0 dX10_bestOf_66 rfl ?_
        refine wp_iload_3 dX10_bestOf_67 rfl ?_
        refine wp_iconst 2 dX10_bestOf_68 rfl rfl ?_
        
        refine wp_cvR dX10_bestOf_69 rfl q2182 mv_X10_inGame (mg_0 hm) rfl rfl (m_inGame (w := 2) hm hi60 (by omega)) rfl rfl (Nat.le_of_ble_eq_true rfl) (Nat.le_of_ble_eq_true rfl) ?_
        rw [show S.2.1 7 (3 * i + 2) = gR G.2 i from hg.at (w := 2) hi (by omega)]
        refine wp_iconst 1 dX10_bestOf_72 rfl rfl ?_
        refine wp_icmp_ne 79 dX10_bestOf_73 rfl rfl (fun c73 => ?_) (fun c73 => ?_)
        · refine wp_iconst 0 dX10_bestOf_79 rfl rfl ?_
          refine wp_istore_4 dX10_bestOf_80 rfl (by decide) rfl ?_
          refine mL_bestC (x := nI n2) (S0 := S) hm 1452 S 0 (Nat.zero_add _) (KX.rf _ _ S) (fun j hj => absurd hj (Nat.not_lt_zero j)) (fun S2 hk2 hc2 => ?_)
          have kx2 : KX [] [14, 15] S0 S2 := (kx.tr hk2).sub (by decide) (by decide)
          have hg2 := kx2.gs (by decide) (by decide) hg0
          have hr2 : S2.1 19 = nI p := (kx2.1 19 (by decide)).trans hr0
          have ew2 : wd S2 = Wd := (kx2.wd (by decide)).trans hw0
          have a15 : AI (S2.2.1 15) T2 := fun k hk => (hc2 k hk).trans (ha k hk)
          have a14 : AI (S2.2.1 14) T2 := fun k hk => by rw [hk2.2.1 14 (by decide)]; exact ha k hk
          refine wp_aload_0 dX10_bestOf_112 rfl ?_
          refine wp_iload_3 dX10_bestOf_113 rfl ?_
          refine wp_aload_0 dX10_bestOf_114 rfl ?_
          refine wp_iload_3 dX10_bestOf_115 rfl ?_
          refine wp_iconst 0 dX10_bestOf_116 rfl rfl ?_
          refine wp_cvR dX10_bestOf_117 rfl q2182 mv_X10_inGame (mg_0 hm) rfl rfl (m_inGame (w := 0) hm hi60 (by omega)) rfl rfl (Nat.le_of_ble_eq_true rfl) (Nat.le_of_ble_eq_true rfl) ?_
          rw [show S2.2.1 7 (3 * i + 0) = nI (hNt G.2 i) from (hg2.at (w := 0) hi (by omega)).trans eh]
          refine wp_aload_0 dX10_bestOf_120 rfl ?_
          refine wp_iload_3 dX10_bestOf_121 rfl ?_
          refine wp_iconst 1 dX10_bestOf_122 rfl rfl ?_
          refine wp_cvR dX10_bestOf_123 rfl q2182 mv_X10_inGame (mg_0 hm) rfl rfl (m_inGame (w := 1) hm hi60 (by omega)) rfl rfl (Nat.le_of_ble_eq_true rfl) (Nat.le_of_ble_eq_true rfl) ?_
          rw [show S2.2.1 7 (3 * i + 1) = onI (oNt G.2 i) from (hg2.at (w := 1) hi (by omega)).trans eo]
          refine wp_cvE dX10_bestOf_126 rfl q2292 mv_X10_mayHit (mg_0 hm) rfl rfl (m_mayHit hm hg2 hi hr2 hp hs ew2 h00 bh bo) rfl rfl (Nat.le_of_ble_eq_true rfl) (Nat.le_of_ble_eq_true rfl) (fun h1 hq => ?_)
          obtain ⟨S3, rfl, hk3, e3⟩ := hq
          have kx3 : KX [] [14, 15] S0 S3 := (kx2.tr hk3).sub (by decide) (by decide)
          have hg3 := kx3.gs (by decide) (by decide) hg0
          have a3 : AI (S3.2.1 14) (mhT Wd G.2 p i (hNt G.2 i) (oNt G.2 i) T2 T2) := by rw [e3]; exact mhT_AI b12 bh bo a15 a14
          refine wp_aload_0 dX10_bestOf_129 rfl ?_
          refine wp_iload_3 dX10_bestOf_130 rfl ?_
          refine wp_iconst 1 dX10_bestOf_131 rfl rfl ?_
          refine wp_cvR dX10_bestOf_132 rfl q2182 mv_X10_inGame (mg_0 hm) rfl rfl (m_inGame (w := 1) hm hi60 (by omega)) rfl rfl (Nat.le_of_ble_eq_true rfl) (Nat.le_of_ble_eq_true rfl) ?_
          rw [show S3.2.1 7 (3 * i + 1) = onI (oNt G.2 i) from (hg3.at (w := 1) hi (by omega)).trans eo]
          refine wp_iconst (-1) dX10_bestOf_135 rfl rfl ?_
          refine wp_icmp_eq 156 dX10_bestOf_136 rfl rfl (fun c136 => ?_) (fun c136 => ?_)
          · have en : oNt G.2 i = none := by
              cases hc : oNt G.2 i with
              | none => rfl
              | some s => rw [hc] at c136; exact absurd c136 (nI_n1 (by have := bo s hc; omega))
            refine wp_iinc_3 1 dX10_bestOf_156 rfl rfl (by decide) rfl ?_
            refine wp_goto 53 dX10_bestOf_159 rfl rfl ?_
            exact WP.cast (by rw [nI_1]) (ih S3 (i + 1) (mhT Wd G.2 p i (hNt G.2 i) none T2 T2) (some (.int (nI 1452))) v5  (by omega) kx3 (by rw [en] at a3; exact a3) (fun S9 i9 v49 v59 k9 a9 => hq S9 i9 v49 v59 k9 (by rw [itr, show boF Wd G.2 p i T2 = mhT Wd G.2 p i (hNt G.2 i) none T2 T2 from (if_neg c73).trans (by rw [en])]; exact a9)))
          · obtain ⟨s, es⟩ : ∃ s, oNt G.2 i = some s := by
              cases hc : oNt G.2 i with
              | none => rw [hc] at c136; exact absurd rfl c136
              | some s => exact ⟨s, rfl⟩
            have bs := bo s es
            refine wp_aload_0 dX10_bestOf_139 rfl ?_
            refine wp_iload_3 dX10_bestOf_140 rfl ?_
            refine wp_aload_0 dX10_bestOf_141 rfl ?_
            refine wp_iload_3 dX10_bestOf_142 rfl ?_
            refine wp_iconst 1 dX10_bestOf_143 rfl rfl ?_
            refine wp_cvR dX10_bestOf_144 rfl q2182 mv_X10_inGame (mg_0 hm) rfl rfl (m_inGame (w := 1) hm hi60 (by omega)) rfl rfl (Nat.le_of_ble_eq_true rfl) (Nat.le_of_ble_eq_true rfl) ?_
            rw [show S3.2.1 7 (3 * i + 1) = nI s by rw [hg3.at (w := 1) hi (by omega)]; show gO G.2 i = _; rw [eo, es]; rfl]
            refine wp_aload_0 dX10_bestOf_147 rfl ?_
            refine wp_iload_3 dX10_bestOf_148 rfl ?_
            refine wp_iconst 0 dX10_bestOf_149 rfl rfl ?_
            refine wp_cvR dX10_bestOf_150 rfl q2182 mv_X10_inGame (mg_0 hm) rfl rfl (m_inGame (w := 0) hm hi60 (by omega)) rfl rfl (Nat.le_of_ble_eq_true rfl) (Nat.le_of_ble_eq_true rfl) ?_
            rw [show S3.2.1 7 (3 * i + 0) = onI (some (hNt G.2 i)) from (hg3.at (w := 0) hi (by omega)).trans eh]
            refine wp_cvE dX10_bestOf_153 rfl q2292 mv_X10_mayHit (mg_0 hm) rfl rfl (m_mayHit hm hg3 hi ((kx3.1 19 (by decide)).trans hr0) hp hs ((kx3.wd (by decide)).trans hw0) h00 bs (fun q hq => by cases hq; exact bh)) rfl rfl (Nat.le_of_ble_eq_true rfl) (Nat.le_of_ble_eq_true rfl) (fun h1 hq => ?_)
            obtain ⟨S4, rfl, hk4, e4⟩ := hq
            have kx4 : KX [] [14, 15] S0 S4 := (kx3.tr hk4).sub (by decide) (by decide)
            refine wp_iinc_3 1 dX10_bestOf_156 rfl rfl (by decide) rfl ?_
            refine wp_goto 53 dX10_bestOf_159 rfl rfl ?_
            exact WP.cast (by rw [nI_1]) (ih S4 (i + 1) (mhT Wd G.2 p i s (some (hNt G.2 i)) T2 (mhT Wd G.2 p i (hNt G.2 i) (some s) T2 T2)) (some (.int (nI 1452))) v5  (by omega) kx4 (by rw [e4]; refine mhT_AI b12 bs (fun q hq => by cases hq; exact bh) (fun k hk => ?_) (by rw [es] at a3; exact a3); rw [show S3.2.1 15 = S2.2.1 15 from hk3.2.1 15 (by decide)]; exact a15 k hk) (fun S9 i9 v49 v59 k9 a9 => hq S9 i9 v49 v59 k9 (by rw [itr, show boF Wd G.2 p i T2 = mhT Wd G.2 p i s (some (hNt G.2 i)) T2 (mhT Wd G.2 p i (hNt G.2 i) (some s) T2 T2) from (if_neg c73).trans (by rw [es])]; exact a9)))
        · refine wp_goto 156 dX10_bestOf_76 rfl rfl ?_
          refine wp_iinc_3 1 dX10_bestOf_156 rfl rfl (by decide) rfl ?_
          refine wp_goto 53 dX10_bestOf_159 rfl rfl ?_
          exact WP.cast (by rw [nI_1]) (ih S (i + 1) T2 v4 v5  (by omega) kx ha (fun S9 i9 v49 v59 k9 a9 => hq S9 i9 v49 v59 k9 (by rw [itr, show boF Wd G.2 p i T2 = T2 from if_pos c73]; exact a9)))
theorem mL_most2 {g : GW} {M : Nat} {pre post : AH} (hm : pre.length = M) {p : Nat} {x : Int32} {S : SM} {h : Nat} (hh : h < 12) {c n : Nat} {Q : Option Value → AH → Prop} : ∀ (k : Nat)  (k2 : Nat) (m : Int32), k2 + k = 121 → (∀ v5', WP g 7 yX10_bestOf cX10_bestOf 6 (some .int) 221 [some (.ref M), some (.int (nI p)), some (.int x), some (.int (itr (moF (S.2.1 14) h) k k2 m)), some (.int (nI h)), v5'] [] (mH M pre S post) c n Q) → WP g 7 yX10_bestOf cX10_bestOf 6 (some .int) 179 [some (.ref M), some (.int (nI p)), some (.int x), some (.int m), some (.int (nI h)), some (.int (nI k2))] [] (mH M pre S post) c n Q := by
  intro k
  induction k with
  | zero =>
    intro  k2 m hi hq
    refine wp_iload_5 dX10_bestOf_179 rfl ?_
    refine wp_bipush 121 dX10_bestOf_181 rfl rfl ?_
    refine wp_icmp_ge 221 dX10_bestOf_183 rfl rfl (fun c183 => ?_) (fun c183 => ?_)
    · exact hq _
    · exact absurd (show (121 : Int32) ≤ nI k2 by rw [show k2 = 121 by omega]; decide) c183
  | succ k ih =>
    intro  k2 m hi hq
    refine wp_iload_5 dX10_bestOf_179 rfl ?_
    refine wp_bipush 121 dX10_bestOf_181 rfl rfl ?_
    refine wp_icmp_ge 221 dX10_bestOf_183 rfl rfl (fun c183 => ?_) (fun c183 => ?_)
    · exact absurd c183 (show ¬ ((121 : Int32) ≤ nI k2) from nI_ge (a := k2) (b := 121) (by omega) (by omega))
    · refine wp_aload_0 dX10_bestOf_186 rfl ?_
      refine wp_getf dX10_bestOf_187 rfl q1865 fk10_34 (mg_0 hm) rfl ?_
      refine wp_iload_4 dX10_bestOf_190 rfl ?_
      refine wp_iload_5 dX10_bestOf_192 rfl ?_
      refine wp_csR dX10_bestOf_194 rfl q2289 ms_X10_cell m_cell rfl rfl (Nat.le_of_ble_eq_true rfl) (Nat.le_of_ble_eq_true rfl) ?_
      refine wp_ialoadn (121 * h + k2) dX10_bestOf_197 rfl (mg_14 hm) rfl (by omega) (by decide) ?_
      refine wp_ldc_w dX10_bestOf_198 rfl q2288 ?_
      refine wp_icmp_ge 213 dX10_bestOf_201 rfl rfl (fun c201 => ?_) (fun c201 => ?_)
      · refine wp_iload_3 dX10_bestOf_213 rfl ?_
        refine wp_istore_3 dX10_bestOf_214 rfl (by decide) rfl ?_
        refine wp_iinc_5 1 dX10_bestOf_215 rfl rfl (by decide) rfl ?_
        refine wp_goto 179 dX10_bestOf_218 rfl rfl ?_
        exact WP.cast (by simp [moF, nI_1, c201]) (ih (k2 + 1) (moF (S.2.1 14) h k2 m) (by omega) hq)
      · refine wp_iload_3 dX10_bestOf_204 rfl ?_
        refine wp_iload_5 dX10_bestOf_205 rfl ?_
        refine wp_csR dX10_bestOf_207 rfl q2259 ms_J3_max j_max rfl rfl (Nat.le_of_ble_eq_true rfl) (Nat.le_of_ble_eq_true rfl) ?_
        refine wp_goto 214 dX10_bestOf_210 rfl rfl ?_
        refine wp_istore_3 dX10_bestOf_214 rfl (by decide) rfl ?_
        refine wp_iinc_5 1 dX10_bestOf_215 rfl rfl (by decide) rfl ?_
        refine wp_goto 179 dX10_bestOf_218 rfl rfl ?_
        exact WP.cast (by simp [moF, nI_1, c201]) (ih (k2 + 1) (moF (S.2.1 14) h k2 m) (by omega) hq)
theorem mL_most1 {g : GW} {M : Nat} {pre post : AH} (hm : pre.length = M) {p : Nat} {x : Int32} {S : SM} (hs : WFs (wd S)) {c n : Nat} {Q : Option Value → AH → Prop} : ∀ (k : Nat)  (h : Nat) (m : Int32) (v5 : Option Value), h + k = hoN (wd S) → Q (some (.int (itr (fun h m => itr (moF (S.2.1 14) h) 121 0 m) k h m))) (mH M pre S post) → WP g 7 yX10_bestOf cX10_bestOf 6 (some .int) 167 [some (.ref M), some (.int (nI p)), some (.int x), some (.int m), some (.int (nI h)), v5] [] (mH M pre S post) c n Q := by
  intro k
  induction k with
  | zero =>
    intro  h m v5 hi hq
    have b12 := hs.ho12
    have e0 : hoW (wd S) = nI (hoN (wd S)) := hs.ho
    refine wp_iload_4 dX10_bestOf_167 rfl ?_
    refine wp_aload_0 dX10_bestOf_169 rfl ?_
    refine wp_cvR dX10_bestOf_170 rfl q2206 mv_X10_holes (mg_0 hm) rfl rfl (m_holes hm) rfl rfl (Nat.le_of_ble_eq_true rfl) (Nat.le_of_ble_eq_true rfl) ?_
    refine wp_icmp_ge 227 dX10_bestOf_173 rfl rfl (fun c173 => ?_) (fun c173 => ?_)
    · refine wp_iload_3 dX10_bestOf_227 rfl ?_
      exact wp_ireturn dX10_bestOf_228 rfl hq
    · exact absurd (show hoW (wd S) ≤ nI h by rw [e0]; exact nI_le (by omega) (by omega)) c173
  | succ k ih =>
    intro  h m v5 hi hq
    have b12 := hs.ho12
    have e0 : hoW (wd S) = nI (hoN (wd S)) := hs.ho
    refine wp_iload_4 dX10_bestOf_167 rfl ?_
    refine wp_aload_0 dX10_bestOf_169 rfl ?_
    refine wp_cvR dX10_bestOf_170 rfl q2206 mv_X10_holes (mg_0 hm) rfl rfl (m_holes hm) rfl rfl (Nat.le_of_ble_eq_true rfl) (Nat.le_of_ble_eq_true rfl) ?_
    refine wp_icmp_ge 227 dX10_bestOf_173 rfl rfl (fun c173 => ?_) (fun c173 => ?_)
    · exact absurd c173 (show ¬ (hoW (wd S) ≤ nI h) by rw [e0]; exact nI_ge (by omega) (by omega))
    · refine wp_iconst 0 dX10_bestOf_176 rfl rfl ?_
      refine wp_istore_5 dX10_bestOf_177 rfl (by decide) rfl ?_
      refine mL_most2 hm (h := h) (by omega) 121 0 m (Nat.zero_add _) (fun v5 => ?_)
      refine wp_iinc_4 1 dX10_bestOf_221 rfl rfl (by decide) rfl ?_
      refine wp_goto 167 dX10_bestOf_224 rfl rfl ?_
      exact WP.cast (by rw [nI_1]) (ih (h + 1) _ v5 (by omega) hq)
theorem m_bestOf {g : GW} {M : Nat} {pre post : AH} {S : SM} (hm : pre.length = M) {p n2 : Nat} (hp : p < nW (wd S) 6) (hn2 : n2 ≤ 60) (hs : WFs (wd S)) (hpl : WFp (wd S)) (hwg : WG (dgW (wd S))) : SP g 7 0 0 yX10_bestOf cX10_bestOf 6 (some .int) [.ref M, .int (nI p), .int (nI n2)] (mH M pre S post) (fun v h1 => v = some (.int (boW (wd S) p n2)) ∧ ∃ S', h1 = mH M pre S' post ∧ KP S S') := by
  refine SP.intro [some (.ref M), some (.int (nI p)), some (.int (nI n2)), none, none, none] (pfn (by decide)) rfl (Nat.le_of_ble_eq_true rfl) ?_
  have hp4 : p < 4 := Nat.lt_of_lt_of_le hp hs.np.2
  have h0 : ¬ wd S 0 = 0 := hpl.w0 hs hp
  refine wp_aload_0 dX10_bestOf_0 rfl ?_
  refine wp_cvE dX10_bestOf_1 rfl q2158 mv_X10_lay (mg_0 hm) rfl rfl (m_lay hm hs) rfl rfl (Nat.le_of_ble_eq_true rfl) (Nat.le_of_ble_eq_true rfl) (fun h1 hq => ?_)
  obtain ⟨S1, rfl, hk1, hg1⟩ := hq
  have hw1 := hk1.wd
  refine wp_aload_0 dX10_bestOf_4 rfl ?_
  refine wp_iload_1 dX10_bestOf_5 rfl ?_
  refine wp_putf dX10_bestOf_6 rfl q1850 fp10_19 (mg_0 hm) rfl rfl (Nat.le_of_ble_eq_true rfl) (ms_F19 hm) ?_
  refine wp_iconst 0 dX10_bestOf_9 rfl rfl ?_
  refine wp_istore_3 dX10_bestOf_10 rfl (by decide) rfl ?_
  refine mL_best0 (S0 := sF 19 (nI p) S1) hm 1452 (sF 19 (nI p) S1) 0 (Nat.zero_add _) (KX.rf _ _ _) (fun j hj => absurd hj (Nat.not_lt_zero j)) (fun S2 k2 a2 => ?_)
  have hw2 : wd S2 = wd S := (k2.wd (by decide)).trans hw1
  have ewt := (hpl p hp).2.2.2.2.1
  have bwt : nW (wd S) (96 + 5 * p + 4) < 12 := Nat.lt_of_lt_of_le (hpl p hp).2.2.2.2.2 hs.ho12
  refine wp_aload_0 dX10_bestOf_35 rfl ?_
  refine wp_getf dX10_bestOf_36 rfl q1865 fk10_34 (mg_0 hm) rfl ?_
  refine wp_aload_0 dX10_bestOf_39 rfl ?_
  refine wp_iload_1 dX10_bestOf_40 rfl ?_
  refine wp_iconst 4 dX10_bestOf_41 rfl rfl ?_
  refine wp_cvR dX10_bestOf_42 rfl q2134 mv_X10_of (mg_0 hm) rfl rfl (m_of (w := 4) hm hp4 (by omega)) rfl rfl (Nat.le_of_ble_eq_true rfl) (Nat.le_of_ble_eq_true rfl) ?_
  rw [show wd S2 (96 + 5 * p + 4) = nI (nW (wd S) (96 + 5 * p + 4)) by rw [hw2]; exact ewt]
  refine wp_iconst 0 dX10_bestOf_45 rfl rfl ?_
  refine wp_csR dX10_bestOf_46 rfl q2289 ms_X10_cell m_cell rfl rfl (Nat.le_of_ble_eq_true rfl) (Nat.le_of_ble_eq_true rfl) ?_
  refine wp_iconst 0 dX10_bestOf_49 rfl rfl ?_
  refine wp_iastoren (121 * nW (wd S) (96 + 5 * p + 4) + 0) dX10_bestOf_50 rfl (mg_14 hm) rfl (by omega) (by decide) (ms_A14 hm) ?_
  refine wp_iconst 0 dX10_bestOf_51 rfl rfl ?_
  refine wp_istore_3 dX10_bestOf_52 rfl (by decide) rfl ?_
  have hk1' : KX [19] [] S1 (sF 19 (nI p) S1) := ⟨fun k q => sF1x _ S1 (by simpa using q), fun _ _ => rfl, rfl⟩
  have hg2 : GS S2 (dgW (wd S)) := k2.gs (by decide) (by decide) (hk1'.gs (by decide) (by decide) hg1)
  refine mL_bestB (S0 := sA 14 (121 * nW (wd S) (96 + 5 * p + 4) + 0) 0 S2) hm hn2 ((KX.s14 _ _ S2).gs (by decide) (by decide) hg2) (k2.1 19 (by decide)) hp4 hs hw2 h0 hwg (min (dgM (wd S)) n2) _ 0 (bo0 (nW (wd S) (96 + 5 * p + 4))) none none (Nat.zero_add _) (KX.rf _ _ _) (fun j hj => ?_) (fun S3 i9 v4 v5 k3 a3 => ?_)
  · by_cases q : j = 121 * nW (wd S) (96 + 5 * p + 4)
    · simp [sA, va_up, upd, bo0, q]
    · simp [sA, va_up, upd, bo0, q]
      exact a2 j hj
  have hw3 : wd S3 = wd S := (k3.wd (by decide)).trans hw2
  refine wp_iconst 0 dX10_bestOf_162 rfl rfl ?_
  refine wp_istore_3 dX10_bestOf_163 rfl (by decide) rfl ?_
  refine wp_iconst 0 dX10_bestOf_164 rfl rfl ?_
  refine wp_istore_4 dX10_bestOf_165 rfl (by decide) rfl ?_
  refine mL_most1 hm (by rw [hw3]; exact hs) (hoN (wd S3)) 0 0 v5 (Nat.zero_add _) ⟨?_, S3, rfl, ?_⟩
  · rw [show itr (fun h m => itr (moF (S3.2.1 14) h) 121 0 m) (hoN (wd S3)) 0 0 = moW (wd S3) (S3.2.1 14) from rfl, hw3, moW_AI hs.ho12 a3]
    rfl
  · exact ((hk1.KP.tr (hk1'.KP (by decide) (by decide))).tr (k2.KP (by decide) (by decide))).tr (((KX.s14 _ _ S2).KP (by decide) (by decide)).tr (k3.KP (by decide) (by decide)))
theorem q_m_best {g : GW} {M : Nat} {pre post : AH} {S : SM} (hm : pre.length = M) {x : Int32} (hs : WFs (wd S)) (hpl : WFp (wd S)) (hwg : WG (dgW (wd S))) : SP g 8 0 0 yX10_best cX10_best 2 (some .int) [.ref M, .int x] (mH M pre S post) (QM M pre post S (.int (qbest (wd S) x))) := by
  refine SP.intro [some (.ref M), some (.int x)] (pfn (by decide)) rfl (Nat.le_of_ble_eq_true rfl) ?_
  refine wp_aload_0 dX10_best_0 rfl ?_
  refine wp_iload_1 dX10_best_1 rfl ?_
  refine wp_cvR dX10_best_2 rfl q2129 mv_X10_isPlayer (mg_0 hm) rfl rfl (m_isPlayer hm) rfl rfl (Nat.le_of_ble_eq_true rfl) (Nat.le_of_ble_eq_true rfl) ?_
  refine wp_ifeq_b 18 dX10_best_5 rfl rfl (fun c5 => ?_) (fun c5 => ?_)
  · refine wp_bipush (-2) dX10_best_18 rfl rfl ?_
    exact wp_ireturn dX10_best_20 rfl ⟨by rw [qbest, if_neg (by simp [*])], S, rfl, KP.rf S⟩
  · obtain ⟨p, hp, rfl⟩ := plW_of hs c5
    refine wp_aload_0 dX10_best_8 rfl ?_
    refine wp_iload_1 dX10_best_9 rfl ?_
    refine wp_bipush 60 dX10_best_10 rfl rfl ?_
    refine wp_cvEi dX10_best_12 rfl q2284 mv_X10_bestOf (mg_0 hm) rfl rfl (m_bestOf (n2 := 60) hm hp (by omega) hs hpl hwg) rfl rfl (Nat.le_of_ble_eq_true rfl) (Nat.le_of_ble_eq_true rfl) (fun h1 hq => ?_)
    obtain ⟨S1, rfl, hk1⟩ := hq
    refine wp_goto 20 dX10_best_15 rfl rfl ?_
    exact wp_ireturn dX10_best_20 rfl ⟨by rw [qbest, if_pos c5, nI_clamp (show p < 2147483648 by have := hs.np.2; omega)], S1, rfl, hk1⟩
theorem q_m_ahead {g : GW} {M : Nat} {pre post : AH} {S : SM} (hm : pre.length = M) {x z : Int32} (hs : WFs (wd S)) (hpl : WFp (wd S)) (hwg : WG (dgW (wd S))) : SP g 8 0 0 yX10_ahead cX10_ahead 3 (some .int) [.ref M, .int x, .int z] (mH M pre S post) (QM M pre post S (.int (qahead (wd S) x z))) := by
  refine SP.intro [some (.ref M), some (.int x), some (.int z)] (pfn (by decide)) rfl (Nat.le_of_ble_eq_true rfl) ?_
  refine wp_aload_0 dX10_ahead_0 rfl ?_
  refine wp_iload_1 dX10_ahead_1 rfl ?_
  refine wp_cvR dX10_ahead_2 rfl q2129 mv_X10_isPlayer (mg_0 hm) rfl rfl (m_isPlayer hm) rfl rfl (Nat.le_of_ble_eq_true rfl) (Nat.le_of_ble_eq_true rfl) ?_
  refine wp_ifeq_b 29 dX10_ahead_5 rfl rfl (fun c5 => ?_) (fun c5 => ?_)
  · refine wp_bipush (-2) dX10_ahead_29 rfl rfl ?_
    exact wp_ireturn dX10_ahead_31 rfl ⟨by rw [qahead, if_neg (by simp [*])], S, rfl, KP.rf S⟩
  · obtain ⟨p, hp, rfl⟩ := plW_of hs c5
    refine wp_iload_2 dX10_ahead_8 rfl ?_
    refine wp_i2l dX10_ahead_9 rfl ?_
    refine wp_lconst 0 dX10_ahead_10 rfl rfl ?_
    refine wp_ldc2_w dX10_ahead_11 rfl q2308 ?_
    refine wp_csR dX10_ahead_14 rfl q1979 ms_X10_in m_in rfl rfl (Nat.le_of_ble_eq_true rfl) (Nat.le_of_ble_eq_true rfl) ?_
    refine wp_ifeq_b 29 dX10_ahead_17 rfl rfl (fun c17 => ?_) (fun c17 => ?_)
    · refine wp_bipush (-2) dX10_ahead_29 rfl rfl ?_
      exact wp_ireturn dX10_ahead_31 rfl ⟨by rw [qahead, if_neg (by simp [*])], S, rfl, KP.rf S⟩
    · obtain ⟨n2, hn2, rfl⟩ := in_ofk (n := 60) (by omega) c17
      refine wp_aload_0 dX10_ahead_20 rfl ?_
      refine wp_iload_1 dX10_ahead_21 rfl ?_
      refine wp_iload_2 dX10_ahead_22 rfl ?_
      refine wp_cvEi dX10_ahead_23 rfl q2284 mv_X10_bestOf (mg_0 hm) rfl rfl (m_bestOf (n2 := n2) hm hp hn2 hs hpl hwg) rfl rfl (Nat.le_of_ble_eq_true rfl) (Nat.le_of_ble_eq_true rfl) (fun h1 hq => ?_)
      obtain ⟨S1, rfl, hk1⟩ := hq
      refine wp_goto 31 dX10_ahead_26 rfl rfl ?_
      exact wp_ireturn dX10_ahead_31 rfl ⟨by rw [qahead, if_pos ⟨c5, c17⟩, nI_clamp (show p < 2147483648 by have := hs.np.2; omega), nI_clamp (show n2 < 2147483648 by omega)], S1, rfl, hk1⟩
