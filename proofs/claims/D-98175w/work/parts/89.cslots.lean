/-! ===== the class: slots ===== -/
set_option maxRecDepth 100000
theorem s_many0 {g : GW} {h : AH} {b a n : Nat} {f : Nat → Int32} (hb : h[b]? = some (.inr (1, [.ref a]))) (ha : h[a]? = some (.inl (1, n, .inl f))) (hn : n ≤ 60)  : SPx g 1 0 0 yX1_many cX1_many 1 (some .int) [.ref b] h (some (.int (nI n))) h := by
  refine SPx.intro [some (.ref b)] (pfn (by decide)) rfl (Nat.le_of_ble_eq_true rfl) ?_
  refine wp_aload_0 dX1_many_0 rfl ?_
  refine wp_getf dX1_many_1 rfl q395 fk1_0 hb rfl ?_
  refine wp_instY dX1_many_4 rfl q345 nmB rfl rfl ha ?_
  refine wp_if_eq 19 dX1_many_7 rfl rfl (fun c7 => ?_) (fun c7 => ?_)
  · exact absurd c7 (by decide)
  · refine wp_aload_0 dX1_many_10 rfl ?_
    refine wp_getf dX1_many_11 rfl q395 fk1_0 hb rfl ?_
    refine wp_castY dX1_many_14 rfl q345 nmB rfl rfl ha ?_
    refine wp_alen _ dX1_many_17 rfl rfl ha rfl ?_
    exact wp_ireturn dX1_many_18 rfl ⟨rfl, rfl⟩
theorem s_width0 {g : GW} {h : AH} {b a n : Nat} {f : Nat → Int32} (hb : h[b]? = some (.inr (1, [.ref a]))) (ha : h[a]? = some (.inl (1, n, .inl f))) (hn : n ≤ 60)  : SPx g 1 0 0 yX1_width cX1_width 1 (some .int) [.ref b] h (some (.int 0)) h := by
  refine SPx.intro [some (.ref b)] (pfn (by decide)) rfl (Nat.le_of_ble_eq_true rfl) ?_
  refine wp_aload_0 dX1_width_0 rfl ?_
  refine wp_getf dX1_width_1 rfl q395 fk1_0 hb rfl ?_
  refine wp_instY dX1_width_4 rfl q345 nmB rfl rfl ha ?_
  refine wp_if_eq 14 dX1_width_7 rfl rfl (fun c7 => ?_) (fun c7 => ?_)
  · exact absurd c7 (by decide)
  · refine wp_iconst 0 dX1_width_10 rfl rfl ?_
    refine wp_goto 43 dX1_width_11 rfl rfl ?_
    exact wp_ireturn dX1_width_43 rfl ⟨rfl, rfl⟩
theorem s_number0 {g : GW} {h : AH} {b a n : Nat} {f : Nat → Int32} (hb : h[b]? = some (.inr (1, [.ref a]))) (ha : h[a]? = some (.inl (1, n, .inl f))) (hn : n ≤ 60) {i : Nat} (hi : i < n) : SPx g 1 0 0 yX1_number cX1_number 2 (some .long) [.ref b, .int (nI i)] h (some (.long (f i).toInt64)) h := by
  refine SPx.intro [some (.ref b), some (.int (nI i))] (pfn (by decide)) rfl (Nat.le_of_ble_eq_true rfl) ?_
  refine wp_aload_0 dX1_number_0 rfl ?_
  refine wp_getf dX1_number_1 rfl q395 fk1_0 hb rfl ?_
  refine wp_instY dX1_number_4 rfl q345 nmB rfl rfl ha ?_
  refine wp_if_eq 21 dX1_number_7 rfl rfl (fun c7 => ?_) (fun c7 => ?_)
  · exact absurd c7 (by decide)
  · refine wp_aload_0 dX1_number_10 rfl ?_
    refine wp_getf dX1_number_11 rfl q395 fk1_0 hb rfl ?_
    refine wp_castY dX1_number_14 rfl q345 nmB rfl rfl ha ?_
    refine wp_iload_1 dX1_number_17 rfl ?_
    refine wp_baloadn i dX1_number_18 rfl ha rfl (by omega) (by omega) ?_
    refine wp_i2l dX1_number_19 rfl ?_
    exact wp_lreturn dX1_number_20 rfl ⟨rfl, rfl⟩
theorem s_many1 {g : GW} {h : AH} {b a n : Nat} {f : Nat → Int32} (hb : h[b]? = some (.inr (1, [.ref a]))) (ha : h[a]? = some (.inl (2, n, .inl f))) (hn : n ≤ 60)  : SPx g 1 0 0 yX1_many cX1_many 1 (some .int) [.ref b] h (some (.int (nI n))) h := by
  refine SPx.intro [some (.ref b)] (pfn (by decide)) rfl (Nat.le_of_ble_eq_true rfl) ?_
  refine wp_aload_0 dX1_many_0 rfl ?_
  refine wp_getf dX1_many_1 rfl q395 fk1_0 hb rfl ?_
  refine wp_instZ dX1_many_4 rfl q345 nmS rfl rfl (List.mem_of_getElem? (i := 0) rfl) ha ?_
  refine wp_if_eq 19 dX1_many_7 rfl rfl (fun c7 => ?_) (fun c7 => ?_)
  · refine wp_aload_0 dX1_many_19 rfl ?_
    refine wp_getf dX1_many_20 rfl q395 fk1_0 hb rfl ?_
    refine wp_instY dX1_many_23 rfl q346 nmS rfl rfl ha ?_
    refine wp_if_eq 38 dX1_many_26 rfl rfl (fun c26 => ?_) (fun c26 => ?_)
    · exact absurd c26 (by decide)
    · refine wp_aload_0 dX1_many_29 rfl ?_
      refine wp_getf dX1_many_30 rfl q395 fk1_0 hb rfl ?_
      refine wp_castY dX1_many_33 rfl q346 nmS rfl rfl ha ?_
      refine wp_alen _ dX1_many_36 rfl rfl ha rfl ?_
      exact wp_ireturn dX1_many_37 rfl ⟨rfl, rfl⟩
  · exact absurd (by decide) c7
theorem s_width1 {g : GW} {h : AH} {b a n : Nat} {f : Nat → Int32} (hb : h[b]? = some (.inr (1, [.ref a]))) (ha : h[a]? = some (.inl (2, n, .inl f))) (hn : n ≤ 60)  : SPx g 1 0 0 yX1_width cX1_width 1 (some .int) [.ref b] h (some (.int 1)) h := by
  refine SPx.intro [some (.ref b)] (pfn (by decide)) rfl (Nat.le_of_ble_eq_true rfl) ?_
  refine wp_aload_0 dX1_width_0 rfl ?_
  refine wp_getf dX1_width_1 rfl q395 fk1_0 hb rfl ?_
  refine wp_instZ dX1_width_4 rfl q345 nmS rfl rfl (List.mem_of_getElem? (i := 0) rfl) ha ?_
  refine wp_if_eq 14 dX1_width_7 rfl rfl (fun c7 => ?_) (fun c7 => ?_)
  · refine wp_aload_0 dX1_width_14 rfl ?_
    refine wp_getf dX1_width_15 rfl q395 fk1_0 hb rfl ?_
    refine wp_instY dX1_width_18 rfl q346 nmS rfl rfl ha ?_
    refine wp_if_eq 28 dX1_width_21 rfl rfl (fun c21 => ?_) (fun c21 => ?_)
    · exact absurd c21 (by decide)
    · refine wp_iconst 1 dX1_width_24 rfl rfl ?_
      refine wp_goto 43 dX1_width_25 rfl rfl ?_
      exact wp_ireturn dX1_width_43 rfl ⟨rfl, rfl⟩
  · exact absurd (by decide) c7
theorem s_number1 {g : GW} {h : AH} {b a n : Nat} {f : Nat → Int32} (hb : h[b]? = some (.inr (1, [.ref a]))) (ha : h[a]? = some (.inl (2, n, .inl f))) (hn : n ≤ 60) {i : Nat} (hi : i < n) : SPx g 1 0 0 yX1_number cX1_number 2 (some .long) [.ref b, .int (nI i)] h (some (.long (f i).toInt64)) h := by
  refine SPx.intro [some (.ref b), some (.int (nI i))] (pfn (by decide)) rfl (Nat.le_of_ble_eq_true rfl) ?_
  refine wp_aload_0 dX1_number_0 rfl ?_
  refine wp_getf dX1_number_1 rfl q395 fk1_0 hb rfl ?_
  refine wp_instZ dX1_number_4 rfl q345 nmS rfl rfl (List.mem_of_getElem? (i := 0) rfl) ha ?_
  refine wp_if_eq 21 dX1_number_7 rfl rfl (fun c7 => ?_) (fun c7 => ?_)
  · refine wp_aload_0 dX1_number_21 rfl ?_
    refine wp_getf dX1_number_22 rfl q395 fk1_0 hb rfl ?_
    refine wp_instY dX1_number_25 rfl q346 nmS rfl rfl ha ?_
    refine wp_if_eq 42 dX1_number_28 rfl rfl (fun c28 => ?_) (fun c28 => ?_)
    · exact absurd c28 (by decide)
    · refine wp_aload_0 dX1_number_31 rfl ?_
      refine wp_getf dX1_number_32 rfl q395 fk1_0 hb rfl ?_
      refine wp_castY dX1_number_35 rfl q346 nmS rfl rfl ha ?_
      refine wp_iload_1 dX1_number_38 rfl ?_
      refine wp_saloadn i dX1_number_39 rfl ha rfl (by omega) (by omega) ?_
      refine wp_i2l dX1_number_40 rfl ?_
      exact wp_lreturn dX1_number_41 rfl ⟨rfl, rfl⟩
  · exact absurd (by decide) c7
theorem s_many2 {g : GW} {h : AH} {b a n : Nat} {f : Nat → Int32} (hb : h[b]? = some (.inr (1, [.ref a]))) (ha : h[a]? = some (.inl (0, n, .inl f))) (hn : n ≤ 60)  : SPx g 1 0 0 yX1_many cX1_many 1 (some .int) [.ref b] h (some (.int (nI n))) h := by
  refine SPx.intro [some (.ref b)] (pfn (by decide)) rfl (Nat.le_of_ble_eq_true rfl) ?_
  refine wp_aload_0 dX1_many_0 rfl ?_
  refine wp_getf dX1_many_1 rfl q395 fk1_0 hb rfl ?_
  refine wp_instZ dX1_many_4 rfl q345 nmI rfl rfl (List.mem_of_getElem? (i := 1) rfl) ha ?_
  refine wp_if_eq 19 dX1_many_7 rfl rfl (fun c7 => ?_) (fun c7 => ?_)
  · refine wp_aload_0 dX1_many_19 rfl ?_
    refine wp_getf dX1_many_20 rfl q395 fk1_0 hb rfl ?_
    refine wp_instZ dX1_many_23 rfl q346 nmI rfl rfl (List.mem_of_getElem? (i := 2) rfl) ha ?_
    refine wp_if_eq 38 dX1_many_26 rfl rfl (fun c26 => ?_) (fun c26 => ?_)
    · refine wp_aload_0 dX1_many_38 rfl ?_
      refine wp_getf dX1_many_39 rfl q395 fk1_0 hb rfl ?_
      refine wp_instY dX1_many_42 rfl q365 nmI rfl rfl ha ?_
      refine wp_if_eq 59 dX1_many_45 rfl rfl (fun c45 => ?_) (fun c45 => ?_)
      · exact absurd c45 (by decide)
      · refine wp_aload_0 dX1_many_48 rfl ?_
        refine wp_getf dX1_many_49 rfl q395 fk1_0 hb rfl ?_
        refine wp_castY dX1_many_52 rfl q365 nmI rfl rfl ha ?_
        refine wp_alen _ dX1_many_55 rfl rfl ha rfl ?_
        refine wp_goto 67 dX1_many_56 rfl rfl ?_
        exact wp_ireturn dX1_many_67 rfl ⟨rfl, rfl⟩
    · exact absurd (by decide) c26
  · exact absurd (by decide) c7
theorem s_width2 {g : GW} {h : AH} {b a n : Nat} {f : Nat → Int32} (hb : h[b]? = some (.inr (1, [.ref a]))) (ha : h[a]? = some (.inl (0, n, .inl f))) (hn : n ≤ 60)  : SPx g 1 0 0 yX1_width cX1_width 1 (some .int) [.ref b] h (some (.int 2)) h := by
  refine SPx.intro [some (.ref b)] (pfn (by decide)) rfl (Nat.le_of_ble_eq_true rfl) ?_
  refine wp_aload_0 dX1_width_0 rfl ?_
  refine wp_getf dX1_width_1 rfl q395 fk1_0 hb rfl ?_
  refine wp_instZ dX1_width_4 rfl q345 nmI rfl rfl (List.mem_of_getElem? (i := 1) rfl) ha ?_
  refine wp_if_eq 14 dX1_width_7 rfl rfl (fun c7 => ?_) (fun c7 => ?_)
  · refine wp_aload_0 dX1_width_14 rfl ?_
    refine wp_getf dX1_width_15 rfl q395 fk1_0 hb rfl ?_
    refine wp_instZ dX1_width_18 rfl q346 nmI rfl rfl (List.mem_of_getElem? (i := 2) rfl) ha ?_
    refine wp_if_eq 28 dX1_width_21 rfl rfl (fun c21 => ?_) (fun c21 => ?_)
    · refine wp_aload_0 dX1_width_28 rfl ?_
      refine wp_getf dX1_width_29 rfl q395 fk1_0 hb rfl ?_
      refine wp_instY dX1_width_32 rfl q365 nmI rfl rfl ha ?_
      refine wp_if_eq 42 dX1_width_35 rfl rfl (fun c35 => ?_) (fun c35 => ?_)
      · exact absurd c35 (by decide)
      · refine wp_iconst 2 dX1_width_38 rfl rfl ?_
        refine wp_goto 43 dX1_width_39 rfl rfl ?_
        exact wp_ireturn dX1_width_43 rfl ⟨rfl, rfl⟩
    · exact absurd (by decide) c21
  · exact absurd (by decide) c7
theorem s_number2 {g : GW} {h : AH} {b a n : Nat} {f : Nat → Int32} (hb : h[b]? = some (.inr (1, [.ref a]))) (ha : h[a]? = some (.inl (0, n, .inl f))) (hn : n ≤ 60) {i : Nat} (hi : i < n) : SPx g 1 0 0 yX1_number cX1_number 2 (some .long) [.ref b, .int (nI i)] h (some (.long (f i).toInt64)) h := by
  refine SPx.intro [some (.ref b), some (.int (nI i))] (pfn (by decide)) rfl (Nat.le_of_ble_eq_true rfl) ?_
  refine wp_aload_0 dX1_number_0 rfl ?_
  refine wp_getf dX1_number_1 rfl q395 fk1_0 hb rfl ?_
  refine wp_instZ dX1_number_4 rfl q345 nmI rfl rfl (List.mem_of_getElem? (i := 1) rfl) ha ?_
  refine wp_if_eq 21 dX1_number_7 rfl rfl (fun c7 => ?_) (fun c7 => ?_)
  · refine wp_aload_0 dX1_number_21 rfl ?_
    refine wp_getf dX1_number_22 rfl q395 fk1_0 hb rfl ?_
    refine wp_instZ dX1_number_25 rfl q346 nmI rfl rfl (List.mem_of_getElem? (i := 2) rfl) ha ?_
    refine wp_if_eq 42 dX1_number_28 rfl rfl (fun c28 => ?_) (fun c28 => ?_)
    · refine wp_aload_0 dX1_number_42 rfl ?_
      refine wp_getf dX1_number_43 rfl q395 fk1_0 hb rfl ?_
      refine wp_instY dX1_number_46 rfl q365 nmI rfl rfl ha ?_
      refine wp_if_eq 65 dX1_number_49 rfl rfl (fun c49 => ?_) (fun c49 => ?_)
      · exact absurd c49 (by decide)
      · refine wp_aload_0 dX1_number_52 rfl ?_
        refine wp_getf dX1_number_53 rfl q395 fk1_0 hb rfl ?_
        refine wp_castY dX1_number_56 rfl q365 nmI rfl rfl ha ?_
        refine wp_iload_1 dX1_number_59 rfl ?_
        refine wp_ialoadn i dX1_number_60 rfl ha rfl (by omega) (by omega) ?_
        refine wp_i2l dX1_number_61 rfl ?_
        refine wp_goto 74 dX1_number_62 rfl rfl ?_
        exact wp_lreturn dX1_number_74 rfl ⟨rfl, rfl⟩
    · exact absurd (by decide) c28
  · exact absurd (by decide) c7
theorem s_many3 {g : GW} {h : AH} {b a n : Nat} {f : Nat → Int64} (hb : h[b]? = some (.inr (1, [.ref a]))) (ha : h[a]? = some (.inl (3, n, .inr (.inl f)))) (hn : n ≤ 60)  : SPx g 1 0 0 yX1_many cX1_many 1 (some .int) [.ref b] h (some (.int (nI n))) h := by
  refine SPx.intro [some (.ref b)] (pfn (by decide)) rfl (Nat.le_of_ble_eq_true rfl) ?_
  refine wp_aload_0 dX1_many_0 rfl ?_
  refine wp_getf dX1_many_1 rfl q395 fk1_0 hb rfl ?_
  refine wp_instZ dX1_many_4 rfl q345 nmJ rfl rfl (List.mem_of_getElem? (i := 3) rfl) ha ?_
  refine wp_if_eq 19 dX1_many_7 rfl rfl (fun c7 => ?_) (fun c7 => ?_)
  · refine wp_aload_0 dX1_many_19 rfl ?_
    refine wp_getf dX1_many_20 rfl q395 fk1_0 hb rfl ?_
    refine wp_instZ dX1_many_23 rfl q346 nmJ rfl rfl (List.mem_of_getElem? (i := 4) rfl) ha ?_
    refine wp_if_eq 38 dX1_many_26 rfl rfl (fun c26 => ?_) (fun c26 => ?_)
    · refine wp_aload_0 dX1_many_38 rfl ?_
      refine wp_getf dX1_many_39 rfl q395 fk1_0 hb rfl ?_
      refine wp_instZ dX1_many_42 rfl q365 nmJ rfl rfl (List.mem_of_getElem? (i := 5) rfl) ha ?_
      refine wp_if_eq 59 dX1_many_45 rfl rfl (fun c45 => ?_) (fun c45 => ?_)
      · refine wp_aload_0 dX1_many_59 rfl ?_
        refine wp_getf dX1_many_60 rfl q395 fk1_0 hb rfl ?_
        refine wp_castY dX1_many_63 rfl q366 nmJ rfl rfl ha ?_
        refine wp_alen _ dX1_many_66 rfl rfl ha rfl ?_
        exact wp_ireturn dX1_many_67 rfl ⟨rfl, rfl⟩
      · exact absurd (by decide) c45
    · exact absurd (by decide) c26
  · exact absurd (by decide) c7
theorem s_width3 {g : GW} {h : AH} {b a n : Nat} {f : Nat → Int64} (hb : h[b]? = some (.inr (1, [.ref a]))) (ha : h[a]? = some (.inl (3, n, .inr (.inl f)))) (hn : n ≤ 60)  : SPx g 1 0 0 yX1_width cX1_width 1 (some .int) [.ref b] h (some (.int 3)) h := by
  refine SPx.intro [some (.ref b)] (pfn (by decide)) rfl (Nat.le_of_ble_eq_true rfl) ?_
  refine wp_aload_0 dX1_width_0 rfl ?_
  refine wp_getf dX1_width_1 rfl q395 fk1_0 hb rfl ?_
  refine wp_instZ dX1_width_4 rfl q345 nmJ rfl rfl (List.mem_of_getElem? (i := 3) rfl) ha ?_
  refine wp_if_eq 14 dX1_width_7 rfl rfl (fun c7 => ?_) (fun c7 => ?_)
  · refine wp_aload_0 dX1_width_14 rfl ?_
    refine wp_getf dX1_width_15 rfl q395 fk1_0 hb rfl ?_
    refine wp_instZ dX1_width_18 rfl q346 nmJ rfl rfl (List.mem_of_getElem? (i := 4) rfl) ha ?_
    refine wp_if_eq 28 dX1_width_21 rfl rfl (fun c21 => ?_) (fun c21 => ?_)
    · refine wp_aload_0 dX1_width_28 rfl ?_
      refine wp_getf dX1_width_29 rfl q395 fk1_0 hb rfl ?_
      refine wp_instZ dX1_width_32 rfl q365 nmJ rfl rfl (List.mem_of_getElem? (i := 5) rfl) ha ?_
      refine wp_if_eq 42 dX1_width_35 rfl rfl (fun c35 => ?_) (fun c35 => ?_)
      · refine wp_iconst 3 dX1_width_42 rfl rfl ?_
        exact wp_ireturn dX1_width_43 rfl ⟨rfl, rfl⟩
      · exact absurd (by decide) c35
    · exact absurd (by decide) c21
  · exact absurd (by decide) c7
theorem s_number3 {g : GW} {h : AH} {b a n : Nat} {f : Nat → Int64} (hb : h[b]? = some (.inr (1, [.ref a]))) (ha : h[a]? = some (.inl (3, n, .inr (.inl f)))) (hn : n ≤ 60) {i : Nat} (hi : i < n) : SPx g 1 0 0 yX1_number cX1_number 2 (some .long) [.ref b, .int (nI i)] h (some (.long (f i))) h := by
  refine SPx.intro [some (.ref b), some (.int (nI i))] (pfn (by decide)) rfl (Nat.le_of_ble_eq_true rfl) ?_
  refine wp_aload_0 dX1_number_0 rfl ?_
  refine wp_getf dX1_number_1 rfl q395 fk1_0 hb rfl ?_
  refine wp_instZ dX1_number_4 rfl q345 nmJ rfl rfl (List.mem_of_getElem? (i := 3) rfl) ha ?_
  refine wp_if_eq 21 dX1_number_7 rfl rfl (fun c7 => ?_) (fun c7 => ?_)
  · refine wp_aload_0 dX1_number_21 rfl ?_
    refine wp_getf dX1_number_22 rfl q395 fk1_0 hb rfl ?_
    refine wp_instZ dX1_number_25 rfl q346 nmJ rfl rfl (List.mem_of_getElem? (i := 4) rfl) ha ?_
    refine wp_if_eq 42 dX1_number_28 rfl rfl (fun c28 => ?_) (fun c28 => ?_)
    · refine wp_aload_0 dX1_number_42 rfl ?_
      refine wp_getf dX1_number_43 rfl q395 fk1_0 hb rfl ?_
      refine wp_instZ dX1_number_46 rfl q365 nmJ rfl rfl (List.mem_of_getElem? (i := 5) rfl) ha ?_
      refine wp_if_eq 65 dX1_number_49 rfl rfl (fun c49 => ?_) (fun c49 => ?_)
      · refine wp_aload_0 dX1_number_65 rfl ?_
        refine wp_getf dX1_number_66 rfl q395 fk1_0 hb rfl ?_
        refine wp_castY dX1_number_69 rfl q366 nmJ rfl rfl ha ?_
        refine wp_iload_1 dX1_number_72 rfl ?_
        refine wp_laloadn i dX1_number_73 rfl ha rfl (by omega) (by omega) ?_
        exact wp_lreturn dX1_number_74 rfl ⟨rfl, rfl⟩
      · exact absurd (by decide) c49
    · exact absurd (by decide) c28
  · exact absurd (by decide) c7
theorem c_many {g : GW} {C : SC} {S : SM} {X : AH} (hX : 108 ≤ X.length) {s : Nat} (hs : s < 4) {a n : Nat} {w : Int32} {nu : Nat → Int64} (hr : C.2.2.2.1 (2 + s) = some a) (hh : HE X a n w nu) : SPx g 1 0 0 yX1_many cX1_many 1 (some .int) [.ref (2 + s)] (cH C S X) (some (.int (nI n))) (cH C S X) := by
  have hb : (cH C S X)[2 + s]? = some (.inr (1, [.ref a])) := by have q := cgs (C := C) (S := S) hX hs; rw [hr] at q; exact q
  obtain ⟨hd, hn, hw⟩ := hh
  rcases hw with ⟨rfl, f, h1, h2⟩ | ⟨rfl, f, h1, h2⟩ | ⟨rfl, f, h1, h2⟩ | ⟨rfl, f, h1, h2⟩
  · exact s_many0 hb ((cH_dyn hd).trans h1) hn
  · exact s_many1 hb ((cH_dyn hd).trans h1) hn
  · exact s_many2 hb ((cH_dyn hd).trans h1) hn
  · exact s_many3 hb ((cH_dyn hd).trans h1) hn
theorem c_width {g : GW} {C : SC} {S : SM} {X : AH} (hX : 108 ≤ X.length) {s : Nat} (hs : s < 4) {a n : Nat} {w : Int32} {nu : Nat → Int64} (hr : C.2.2.2.1 (2 + s) = some a) (hh : HE X a n w nu) : SPx g 1 0 0 yX1_width cX1_width 1 (some .int) [.ref (2 + s)] (cH C S X) (some (.int w)) (cH C S X) := by
  have hb : (cH C S X)[2 + s]? = some (.inr (1, [.ref a])) := by have q := cgs (C := C) (S := S) hX hs; rw [hr] at q; exact q
  obtain ⟨hd, hn, hw⟩ := hh
  rcases hw with ⟨rfl, f, h1, h2⟩ | ⟨rfl, f, h1, h2⟩ | ⟨rfl, f, h1, h2⟩ | ⟨rfl, f, h1, h2⟩
  · exact s_width0 hb ((cH_dyn hd).trans h1) hn
  · exact s_width1 hb ((cH_dyn hd).trans h1) hn
  · exact s_width2 hb ((cH_dyn hd).trans h1) hn
  · exact s_width3 hb ((cH_dyn hd).trans h1) hn
theorem c_number {g : GW} {C : SC} {S : SM} {X : AH} (hX : 108 ≤ X.length) {s : Nat} (hs : s < 4) {a n : Nat} {w : Int32} {nu : Nat → Int64} (hr : C.2.2.2.1 (2 + s) = some a) (hh : HE X a n w nu) {i : Nat} (hi : i < n) : SPx g 1 0 0 yX1_number cX1_number 2 (some .long) [.ref (2 + s), .int (nI i)] (cH C S X) (some (.long (nu i))) (cH C S X) := by
  have hb : (cH C S X)[2 + s]? = some (.inr (1, [.ref a])) := by have q := cgs (C := C) (S := S) hX hs; rw [hr] at q; exact q
  obtain ⟨hd, hn, hw⟩ := hh
  rcases hw with ⟨rfl, f, h1, h2⟩ | ⟨rfl, f, h1, h2⟩ | ⟨rfl, f, h1, h2⟩ | ⟨rfl, f, h1, h2⟩
  · rw [← h2 i hi]; exact s_number0 hb ((cH_dyn hd).trans h1) hn hi
  · rw [← h2 i hi]; exact s_number1 hb ((cH_dyn hd).trans h1) hn hi
  · rw [← h2 i hi]; exact s_number2 hb ((cH_dyn hd).trans h1) hn hi
  · rw [← h2 i hi]; exact s_number3 hb ((cH_dyn hd).trans h1) hn hi
