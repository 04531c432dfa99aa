/-! ===== the class: questions to the board now ===== -/
set_option maxRecDepth 100000
theorem c_comingsOfDrum {g : GW} {C : SC} {S : SM} {X : AH} {lo hi b : Nat} {A : BA} {W : Nat → Int32} (hE : EV C X lo hi b A W)  : SPx g 2 0 0 yX0_comingsOfDrum cX0_comingsOfDrum 1 (some .int) [.ref 0] (cH C S X) (some (.int (nI (nW W 5)))) (cH C S X) := by
  refine SPx.intro [some (.ref 0)] (pfn (by decide)) rfl (Nat.le_of_ble_eq_true rfl) ?_
  refine wp_aload_0 dX0_comingsOfDrum_0 rfl ?_
  refine wp_getf dX0_comingsOfDrum_1 rfl q721 fk0_1 hE.o0 rfl ?_
  refine wp_getfN dX0_comingsOfDrum_4 rfl q439 fk2_0 hE.ob rfl ?_
  refine wp_FxR dX0_comingsOfDrum_7 rfl q1188 mf_J2_size (hE.B.od.at hE.B.dy) rfl rfl (j_size hE.B.drum) rfl rfl (Nat.le_of_ble_eq_true rfl) (Nat.le_of_ble_eq_true rfl) (Nat.zero_le _) (Nat.zero_le _) ?_
  exact wp_ireturn dX0_comingsOfDrum_12 rfl ⟨rfl, rfl⟩
theorem c_mole {g : GW} {C : SC} {S : SM} {X : AH} {lo hi b : Nat} {A : BA} {W : Nat → Int32} (hE : EV C X lo hi b A W) {k : Nat} (hk : k < nW W 5) : SPx g 4 0 0 yX0_mole cX0_mole 2 (some (.object "MoleBoard$Mole")) [.ref 0, .int (nI k)] (cH C S X) (some (.ref (A.mo k))) (cH C S X) := by
  refine SPx.intro [some (.ref 0), some (.int (nI k))] (pfn (by decide)) rfl (Nat.le_of_ble_eq_true rfl) ?_
  refine wp_aload_0 dX0_mole_0 rfl ?_
  refine wp_getf dX0_mole_1 rfl q721 fk0_1 hE.o0 rfl ?_
  refine wp_getfN dX0_mole_4 rfl q439 fk2_0 hE.ob rfl ?_
  refine wp_iload_1 dX0_mole_7 rfl ?_
  refine wp_FxR dX0_mole_8 rfl q1195 mf_J2_get (hE.B.od.at hE.B.dy) rfl rfl (j_get hE.B.drum hk (hE.B.mo k hk).1) rfl rfl (Nat.le_of_ble_eq_true rfl) (Nat.le_of_ble_eq_true rfl) (Nat.zero_le _) (Nat.zero_le _) ?_
  refine wp_castO (r := (RX13, TX13, 3)) dX0_mole_13 rfl q1211 (hE.mol hk) rfl ?_
  exact wp_areturn_r dX0_mole_16 rfl (Or.inl ⟨_, rfl⟩) ⟨rfl, rfl⟩
theorem c_one {g : GW} {C : SC} {S : SM} {X : AH} {lo hi b : Nat} {A : BA} {W : Nat → Int32} (hE : EV C X lo hi b A W) {k : Nat} (hk : k < nW W 6) : SPx g 4 0 0 yX0_one cX0_one 2 (some (.object "MoleBoard$Player")) [.ref 0, .int (nI k)] (cH C S X) (some (.ref (A.pl k))) (cH C S X) := by
  refine SPx.intro [some (.ref 0), some (.int (nI k))] (pfn (by decide)) rfl (Nat.le_of_ble_eq_true rfl) ?_
  refine wp_aload_0 dX0_one_0 rfl ?_
  refine wp_getf dX0_one_1 rfl q721 fk0_1 hE.o0 rfl ?_
  refine wp_getfN dX0_one_4 rfl q442 fk2_1 hE.ob rfl ?_
  refine wp_iload_1 dX0_one_7 rfl ?_
  refine wp_FxR dX0_one_8 rfl q1195 mf_J2_get (hE.B.op.at hE.B.dy) rfl rfl (j_get hE.B.plas hk (hE.B.pl k hk).1) rfl rfl (Nat.le_of_ble_eq_true rfl) (Nat.le_of_ble_eq_true rfl) (Nat.zero_le _) (Nat.zero_le _) ?_
  refine wp_castO (r := (RX14, TX14, 1)) dX0_one_13 rfl q1228 (hE.pla hk) rfl ?_
  exact wp_areturn_r dX0_one_16 rfl (Or.inl ⟨_, rfl⟩) ⟨rfl, rfl⟩
theorem c_isMole {g : GW} {C : SC} {S : SM} {X : AH} {lo hi b : Nat} {A : BA} {W : Nat → Int32} (hE : EV C X lo hi b A W) {x : Int32} : SPx g 3 0 0 yX0_isMole cX0_isMole 2 (some .boolean) [.ref 0, .int x] (cH C S X) (some (.int (b2i (cmW W x)))) (cH C S X) := by
  refine SPx.intro [some (.ref 0), some (.int x)] (pfn (by decide)) rfl (Nat.le_of_ble_eq_true rfl) ?_
  refine wp_iload_1 dX0_isMole_0 rfl ?_
  refine wp_i2l dX0_isMole_1 rfl ?_
  refine wp_lconst 0 dX0_isMole_2 rfl rfl ?_
  refine wp_aload_0 dX0_isMole_3 rfl ?_
  refine wp_cvR dX0_isMole_4 rfl q1183 mv_X0_comingsOfDrum hE.o0 rfl rfl (c_comingsOfDrum hE) rfl rfl (Nat.le_of_ble_eq_true rfl) (Nat.le_of_ble_eq_true rfl) ?_
  refine wp_iconst 1 dX0_isMole_7 rfl rfl ?_
  refine wp_isub dX0_isMole_8 rfl ?_
  refine wp_i2l dX0_isMole_9 rfl ?_
  refine wp_csR dX0_isMole_10 rfl q190 ms_X0_in c_in rfl rfl (Nat.le_of_ble_eq_true rfl) (Nat.le_of_ble_eq_true rfl) ?_
  exact wp_zreturn dX0_isMole_13 rfl (nz_b2i _) ⟨by rw [inL_0, ← hE.B.n5.1]; rfl, rfl⟩
theorem c_isPlayer {g : GW} {C : SC} {S : SM} {X : AH} {lo hi b : Nat} {A : BA} {W : Nat → Int32} (hE : EV C X lo hi b A W) {x : Int32} : SPx g 2 0 0 yX0_isPlayer cX0_isPlayer 2 (some .boolean) [.ref 0, .int x] (cH C S X) (some (.int (b2i (plW W x)))) (cH C S X) := by
  refine SPx.intro [some (.ref 0), some (.int x)] (pfn (by decide)) rfl (Nat.le_of_ble_eq_true rfl) ?_
  refine wp_iload_1 dX0_isPlayer_0 rfl ?_
  refine wp_i2l dX0_isPlayer_1 rfl ?_
  refine wp_lconst 0 dX0_isPlayer_2 rfl rfl ?_
  refine wp_aload_0 dX0_isPlayer_3 rfl ?_
  refine wp_getf dX0_isPlayer_4 rfl q721 fk0_1 hE.o0 rfl ?_
  refine wp_getfN dX0_isPlayer_7 rfl q442 fk2_1 hE.ob rfl ?_
  refine wp_FxR dX0_isPlayer_10 rfl q1188 mf_J2_size (hE.B.op.at hE.B.dy) rfl rfl (j_size hE.B.plas) rfl rfl (Nat.le_of_ble_eq_true rfl) (Nat.le_of_ble_eq_true rfl) (Nat.zero_le _) (Nat.zero_le _) ?_
  refine wp_iconst 1 dX0_isPlayer_15 rfl rfl ?_
  refine wp_isub dX0_isPlayer_16 rfl ?_
  refine wp_i2l dX0_isPlayer_17 rfl ?_
  refine wp_csR dX0_isPlayer_18 rfl q190 ms_X0_in c_in rfl rfl (Nat.le_of_ble_eq_true rfl) (Nat.le_of_ble_eq_true rfl) ?_
  exact wp_zreturn dX0_isPlayer_21 rfl (nz_b2i _) ⟨by rw [inL_0, ← hE.B.n6.1]; rfl, rfl⟩
theorem c_isHole {g : GW} {C : SC} {S : SM} {X : AH} {lo hi b : Nat} {A : BA} {W : Nat → Int32} (hE : EV C X lo hi b A W) {x : Int64} : SPx g 2 0 0 yX0_isHole cX0_isHole 3 (some .boolean) [.ref 0, .long x] (cH C S X) (some (.int (b2i (hlL W x)))) (cH C S X) := by
  refine SPx.intro [some (.ref 0), some (.long x), none] (pfn (by decide)) rfl (Nat.le_of_ble_eq_true rfl) ?_
  refine wp_lload_1 dX0_isHole_0 rfl ?_
  refine wp_lconst 0 dX0_isHole_1 rfl rfl ?_
  refine wp_aload_0 dX0_isHole_2 rfl ?_
  refine wp_getf dX0_isHole_3 rfl q721 fk0_1 hE.o0 rfl ?_
  refine wp_cvR dX0_isHole_6 rfl q1329 mv_X2_holes hE.ob rfl rfl (b_holes hE.B) rfl rfl (Nat.le_of_ble_eq_true rfl) (Nat.le_of_ble_eq_true rfl) ?_
  refine wp_iconst 1 dX0_isHole_9 rfl rfl ?_
  refine wp_isub dX0_isHole_10 rfl ?_
  refine wp_i2l dX0_isHole_11 rfl ?_
  refine wp_csR dX0_isHole_12 rfl q190 ms_X0_in c_in rfl rfl (Nat.le_of_ble_eq_true rfl) (Nat.le_of_ble_eq_true rfl) ?_
  exact wp_zreturn dX0_isHole_15 rfl (nz_b2i _) ⟨rfl, rfl⟩
theorem c_isTick {g : GW} {C : SC} {S : SM} {X : AH} {lo hi b : Nat} {A : BA} {W : Nat → Int32} (hE : EV C X lo hi b A W) {x : Int64} : SPx g 2 0 0 yX0_isTick cX0_isTick 3 (some .boolean) [.ref 0, .long x] (cH C S X) (some (.int (b2i (tkL W x)))) (cH C S X) := by
  refine SPx.intro [some (.ref 0), some (.long x), none] (pfn (by decide)) rfl (Nat.le_of_ble_eq_true rfl) ?_
  refine wp_lload_1 dX0_isTick_0 rfl ?_
  refine wp_lconst 0 dX0_isTick_1 rfl rfl ?_
  refine wp_aload_0 dX0_isTick_2 rfl ?_
  refine wp_getf dX0_isTick_3 rfl q721 fk0_1 hE.o0 rfl ?_
  refine wp_getfN dX0_isTick_6 rfl q457 fk2_6 hE.ob rfl ?_
  refine wp_iconst 1 dX0_isTick_9 rfl rfl ?_
  refine wp_isub dX0_isTick_10 rfl ?_
  refine wp_i2l dX0_isTick_11 rfl ?_
  refine wp_csR dX0_isTick_12 rfl q190 ms_X0_in c_in rfl rfl (Nat.le_of_ble_eq_true rfl) (Nat.le_of_ble_eq_true rfl) ?_
  exact wp_zreturn dX0_isTick_15 rfl (nz_b2i _) ⟨rfl, rfl⟩
theorem c_isOpen {g : GW} {C : SC} {S : SM} {X : AH} {lo hi b : Nat} {A : BA} {W : Nat → Int32} (hE : EV C X lo hi b A W) {x : Int32} : SPx g 2 0 0 yX0_isOpen cX0_isOpen 2 (some .boolean) [.ref 0, .int x] (cH C S X) (some (.int (b2i (!shW W x)))) (cH C S X) := by
  refine SPx.intro [some (.ref 0), some (.int x)] (pfn (by decide)) rfl (Nat.le_of_ble_eq_true rfl) ?_
  refine wp_aload_0 dX0_isOpen_0 rfl ?_
  refine wp_getf dX0_isOpen_1 rfl q721 fk0_1 hE.o0 rfl ?_
  refine wp_getfN dX0_isOpen_4 rfl q466 fk2_9 hE.ob rfl ?_
  refine wp_iload_1 dX0_isOpen_7 rfl ?_
  refine wp_csR dX0_isOpen_8 rfl q1278 ms_X0_isOn c_isOn rfl rfl (Nat.le_of_ble_eq_true rfl) (Nat.le_of_ble_eq_true rfl) ?_
  refine wp_ifne_b 18 dX0_isOpen_11 rfl rfl (fun c11 => ?_) (fun c11 => ?_)
  · refine wp_iconst 0 dX0_isOpen_18 rfl rfl ?_
    exact wp_zreturn dX0_isOpen_19 rfl rfl ⟨by simp only [show onB (W 7) x = shW W x from rfl] at *; simp [b2i, *], rfl⟩
  · refine wp_iconst 1 dX0_isOpen_14 rfl rfl ?_
    refine wp_goto 19 dX0_isOpen_15 rfl rfl ?_
    exact wp_zreturn dX0_isOpen_19 rfl rfl ⟨by simp only [show onB (W 7) x = shW W x from rfl] at *; simp [b2i, *], rfl⟩
theorem cL_openOnes {g : GW} {C : SC} {S : SM} {X : AH} {lo hi b : Nat} {A : BA} {W : Nat → Int32} (hE : EV C X lo hi b A W)  {c n : Nat} {Q : Option Value → AH → Prop} : ∀ (k : Nat) (i a : Nat), i + k = hoN W → Q (some (.int (nI (itr (fun i n => n + (if shW W (nI i) = true then 0 else 1)) k i a)))) (cH C S X) → WP g 3 yX0_openOnes cX0_openOnes 3 (some .int) 4 [some (.ref 0), some (.int (nI a)), some (.int (nI i))] [] (cH C S X) c n Q := by
  intro k
  induction k with
  | zero =>
    intro i a hi hq
    refine wp_iload_2 dX0_openOnes_4 rfl ?_
    refine wp_aload_0 dX0_openOnes_5 rfl ?_
    refine wp_getf dX0_openOnes_6 rfl q721 fk0_1 hE.o0 rfl ?_
    refine wp_cvR dX0_openOnes_9 rfl q1329 mv_X2_holes hE.ob rfl rfl (b_holes hE.B) rfl rfl (Nat.le_of_ble_eq_true rfl) (Nat.le_of_ble_eq_true rfl) ?_
    rw [hE.s.ho]
    refine wp_icmp_ge_k 37 dX0_openOnes_12 rfl rfl (by have := hE.s.ho12; omega) (by have := hE.s.ho12; omega) (fun c12 => ?_) (fun c12 => ?_)
    · refine wp_iload_1 dX0_openOnes_37 rfl ?_
      exact wp_ireturn dX0_openOnes_38 rfl hq
    · exact absurd c12 (by omega)
  | succ k ih =>
    intro i a hi hq
    refine wp_iload_2 dX0_openOnes_4 rfl ?_
    refine wp_aload_0 dX0_openOnes_5 rfl ?_
    refine wp_getf dX0_openOnes_6 rfl q721 fk0_1 hE.o0 rfl ?_
    refine wp_cvR dX0_openOnes_9 rfl q1329 mv_X2_holes hE.ob rfl rfl (b_holes hE.B) rfl rfl (Nat.le_of_ble_eq_true rfl) (Nat.le_of_ble_eq_true rfl) ?_
    rw [hE.s.ho]
    refine wp_icmp_ge_k 37 dX0_openOnes_12 rfl rfl (by have := hE.s.ho12; omega) (by have := hE.s.ho12; omega) (fun c12 => ?_) (fun c12 => ?_)
    · exact absurd c12 (by omega)
    · refine wp_iload_1 dX0_openOnes_15 rfl ?_
      refine wp_aload_0 dX0_openOnes_16 rfl ?_
      refine wp_iload_2 dX0_openOnes_17 rfl ?_
      refine wp_cvR dX0_openOnes_18 rfl q1274 mv_X0_isOpen hE.o0 rfl rfl (c_isOpen hE) rfl rfl (Nat.le_of_ble_eq_true rfl) (Nat.le_of_ble_eq_true rfl) ?_
      refine wp_ifeq_b 28 dX0_openOnes_21 rfl rfl (fun c21 => ?_) (fun c21 => ?_)
      · refine wp_iconst 0 dX0_openOnes_28 rfl rfl ?_
        refine wp_iadd dX0_openOnes_29 rfl ?_
        refine wp_istore_1 dX0_openOnes_30 rfl (by decide) rfl ?_
        refine wp_iinc_2 1 dX0_openOnes_31 rfl rfl (by decide) rfl ?_
        refine wp_goto 4 dX0_openOnes_34 rfl rfl ?_
        exact WP.cast (by cases hsh : shW W (nI i) <;> simp_all [nI_1]) (ih (i + 1) (a + (if shW W (nI i) = true then 0 else 1)) (by omega) hq)
      · refine wp_iconst 1 dX0_openOnes_24 rfl rfl ?_
        refine wp_goto 29 dX0_openOnes_25 rfl rfl ?_
        refine wp_iadd dX0_openOnes_29 rfl ?_
        refine wp_istore_1 dX0_openOnes_30 rfl (by decide) rfl ?_
        refine wp_iinc_2 1 dX0_openOnes_31 rfl rfl (by decide) rfl ?_
        refine wp_goto 4 dX0_openOnes_34 rfl rfl ?_
        exact WP.cast (by cases hsh : shW W (nI i) <;> simp_all [nI_1]) (ih (i + 1) (a + (if shW W (nI i) = true then 0 else 1)) (by omega) hq)
theorem c_openOnes {g : GW} {C : SC} {S : SM} {X : AH} {lo hi b : Nat} {A : BA} {W : Nat → Int32} (hE : EV C X lo hi b A W)  : SPx g 3 0 0 yX0_openOnes cX0_openOnes 3 (some .int) [.ref 0] (cH C S X) (some (.int (nI (opN W)))) (cH C S X) := by
  refine SPx.intro [some (.ref 0), none, none] (pfn (by decide)) rfl (Nat.le_of_ble_eq_true rfl) ?_
  refine wp_iconst 0 dX0_openOnes_0 rfl rfl ?_
  refine wp_istore_1 dX0_openOnes_1 rfl (by decide) rfl ?_
  refine wp_iconst 0 dX0_openOnes_2 rfl rfl ?_
  refine wp_istore_2 dX0_openOnes_3 rfl (by decide) rfl ?_
  exact cL_openOnes hE (hoN W) 0 0 (Nat.zero_add _) ⟨rfl, rfl⟩
theorem c_stepsOf {g : GW} {C : SC} {S : SM} {X : AH} {lo hi b : Nat} {A : BA} {W : Nat → Int32} (hE : EV C X lo hi b A W) (h0 : ¬ W 0 = 0) {x z : Int32} : SPx g 2 0 0 yX0_stepsOf cX0_stepsOf 3 (some .int) [.ref 0, .int x, .int z] (cH C S X) (some (.int (stW W x z))) (cH C S X) := by
  refine SPx.intro [some (.ref 0), some (.int x), some (.int z)] (pfn (by decide)) rfl (Nat.le_of_ble_eq_true rfl) ?_
  refine wp_iload_1 dX0_stepsOf_0 rfl ?_
  refine wp_aload_0 dX0_stepsOf_1 rfl ?_
  refine wp_getf dX0_stepsOf_2 rfl q721 fk0_1 hE.o0 rfl ?_
  refine wp_getfN dX0_stepsOf_5 rfl q450 fk2_4 hE.ob rfl ?_
  refine wp_irem dX0_stepsOf_8 rfl h0 ?_
  refine wp_iload_2 dX0_stepsOf_9 rfl ?_
  refine wp_aload_0 dX0_stepsOf_10 rfl ?_
  refine wp_getf dX0_stepsOf_11 rfl q721 fk0_1 hE.o0 rfl ?_
  refine wp_getfN dX0_stepsOf_14 rfl q450 fk2_4 hE.ob rfl ?_
  refine wp_irem dX0_stepsOf_17 rfl h0 ?_
  refine wp_isub dX0_stepsOf_18 rfl ?_
  refine wp_csR dX0_stepsOf_19 rfl q1283 ms_J3_abs j_abs rfl rfl (Nat.le_of_ble_eq_true rfl) (Nat.le_of_ble_eq_true rfl) ?_
  refine wp_iload_1 dX0_stepsOf_22 rfl ?_
  refine wp_aload_0 dX0_stepsOf_23 rfl ?_
  refine wp_getf dX0_stepsOf_24 rfl q721 fk0_1 hE.o0 rfl ?_
  refine wp_getfN dX0_stepsOf_27 rfl q450 fk2_4 hE.ob rfl ?_
  refine wp_idiv dX0_stepsOf_30 rfl h0 ?_
  refine wp_iload_2 dX0_stepsOf_31 rfl ?_
  refine wp_aload_0 dX0_stepsOf_32 rfl ?_
  refine wp_getf dX0_stepsOf_33 rfl q721 fk0_1 hE.o0 rfl ?_
  refine wp_getfN dX0_stepsOf_36 rfl q450 fk2_4 hE.ob rfl ?_
  refine wp_idiv dX0_stepsOf_39 rfl h0 ?_
  refine wp_isub dX0_stepsOf_40 rfl ?_
  refine wp_csR dX0_stepsOf_41 rfl q1283 ms_J3_abs j_abs rfl rfl (Nat.le_of_ble_eq_true rfl) (Nat.le_of_ble_eq_true rfl) ?_
  refine wp_iadd dX0_stepsOf_44 rfl ?_
  exact wp_ireturn dX0_stepsOf_45 rfl ⟨rfl, rfl⟩
theorem c_mayFollow {g : GW} {C : SC} {S : SM} {X : AH} {lo hi b : Nat} {A : BA} {W : Nat → Int32} (hE : EV C X lo hi b A W) (h0 : ¬ W 0 = 0) {h w x z : Int32} (hh : ¬ h = -1) (hx : x = -1 → ¬ h = z) : SPx g 3 0 0 yX0_mayFollow cX0_mayFollow 5 (some .boolean) [.ref 0, .int h, .int w, .int x, .int z] (cH C S X) (some (.int (b2i (leW W w h x z)))) (cH C S X) := by
  refine SPx.intro [some (.ref 0), some (.int h), some (.int w), some (.int x), some (.int z)] (pfn (by decide)) rfl (Nat.le_of_ble_eq_true rfl) ?_
  refine wp_aload_0 dX0_mayFollow_0 rfl ?_
  refine wp_iload_1 dX0_mayFollow_1 rfl ?_
  refine wp_cvR dX0_mayFollow_2 rfl q1274 mv_X0_isOpen hE.o0 rfl rfl (c_isOpen hE) rfl rfl (Nat.le_of_ble_eq_true rfl) (Nat.le_of_ble_eq_true rfl) ?_
  refine wp_ifne_b 10 dX0_mayFollow_5 rfl rfl (fun c5 => ?_) (fun c5 => ?_)
  · refine wp_iload_2 dX0_mayFollow_10 rfl ?_
    refine wp_if_eq 19 dX0_mayFollow_11 rfl rfl (fun c11 => ?_) (fun c11 => ?_)
    · refine wp_iconst 1 dX0_mayFollow_19 rfl rfl ?_
      exact wp_zreturn dX0_mayFollow_20 rfl rfl ⟨by simp_all [leW, b2i, ← Int32.not_le], rfl⟩
    · refine wp_iload_3 dX0_mayFollow_14 rfl ?_
      refine wp_iconst (-1) dX0_mayFollow_15 rfl rfl ?_
      refine wp_icmp_ne 21 dX0_mayFollow_16 rfl rfl (fun c16 => ?_) (fun c16 => ?_)
      · refine wp_iload_2 dX0_mayFollow_21 rfl ?_
        refine wp_iconst 2 dX0_mayFollow_22 rfl rfl ?_
        refine wp_icmp_ne 42 dX0_mayFollow_23 rfl rfl (fun c23 => ?_) (fun c23 => ?_)
        · refine wp_iload_1 dX0_mayFollow_42 rfl ?_
          refine wp_iload_3 dX0_mayFollow_43 rfl ?_
          refine wp_icmp_eq 62 dX0_mayFollow_44 rfl rfl (fun c44 => ?_) (fun c44 => ?_)
          · refine wp_iconst 0 dX0_mayFollow_62 rfl rfl ?_
            exact wp_zreturn dX0_mayFollow_63 rfl rfl ⟨by simp_all [leW, b2i, ← Int32.not_le], rfl⟩
          · refine wp_iload_2 dX0_mayFollow_47 rfl ?_
            refine wp_iconst 1 dX0_mayFollow_48 rfl rfl ?_
            refine wp_icmp_eq 58 dX0_mayFollow_49 rfl rfl (fun c49 => ?_) (fun c49 => ?_)
            · refine wp_iconst 1 dX0_mayFollow_58 rfl rfl ?_
              refine wp_goto 63 dX0_mayFollow_59 rfl rfl ?_
              exact wp_zreturn dX0_mayFollow_63 rfl rfl ⟨by simp_all [leW, b2i, ← Int32.not_le], rfl⟩
            · refine wp_iload_1 dX0_mayFollow_52 rfl ?_
              refine wp_iload_4 dX0_mayFollow_53 rfl ?_
              refine wp_icmp_eq 62 dX0_mayFollow_55 rfl rfl (fun c55 => ?_) (fun c55 => ?_)
              · refine wp_iconst 0 dX0_mayFollow_62 rfl rfl ?_
                exact wp_zreturn dX0_mayFollow_63 rfl rfl ⟨by simp_all [leW, b2i, ← Int32.not_le], rfl⟩
              · refine wp_iconst 1 dX0_mayFollow_58 rfl rfl ?_
                refine wp_goto 63 dX0_mayFollow_59 rfl rfl ?_
                exact wp_zreturn dX0_mayFollow_63 rfl rfl ⟨by simp_all [leW, b2i, ← Int32.not_le], rfl⟩
        · refine wp_aload_0 dX0_mayFollow_26 rfl ?_
          refine wp_iload_1 dX0_mayFollow_27 rfl ?_
          refine wp_iload_3 dX0_mayFollow_28 rfl ?_
          refine wp_cvR dX0_mayFollow_29 rfl q1279 mv_X0_stepsOf hE.o0 rfl rfl (c_stepsOf hE h0) rfl rfl (Nat.le_of_ble_eq_true rfl) (Nat.le_of_ble_eq_true rfl) ?_
          refine wp_iconst 1 dX0_mayFollow_32 rfl rfl ?_
          refine wp_icmp_le 40 dX0_mayFollow_33 rfl rfl (fun c33 => ?_) (fun c33 => ?_)
          · refine wp_iconst 0 dX0_mayFollow_40 rfl rfl ?_
            exact wp_zreturn dX0_mayFollow_41 rfl rfl ⟨by simp_all [leW, b2i, ← Int32.not_le], rfl⟩
          · refine wp_iconst 1 dX0_mayFollow_36 rfl rfl ?_
            refine wp_goto 41 dX0_mayFollow_37 rfl rfl ?_
            exact wp_zreturn dX0_mayFollow_41 rfl rfl ⟨by simp_all [leW, b2i, ← Int32.not_le], rfl⟩
      · refine wp_iconst 1 dX0_mayFollow_19 rfl rfl ?_
        exact wp_zreturn dX0_mayFollow_20 rfl rfl ⟨by simp_all [leW, b2i, ← Int32.not_le], rfl⟩
  · refine wp_iconst 0 dX0_mayFollow_8 rfl rfl ?_
    exact wp_zreturn dX0_mayFollow_9 rfl rfl ⟨by simp_all [leW, b2i, ← Int32.not_le], rfl⟩
theorem c_holeOf {g : GW} {C : SC} {S : SM} {X : AH} {lo hi b : Nat} {A : BA} {W : Nat → Int32} (hE : EV C X lo hi b A W) {x : Int32} (h5 : 0 < nW W 5) : SPx g 5 0 0 yX0_holeOf cX0_holeOf 2 (some .int) [.ref 0, .int x] (cH C S X) (some (.int (hoA W x))) (cH C S X) := by
  refine SPx.intro [some (.ref 0), some (.int x)] (pfn (by decide)) rfl (Nat.le_of_ble_eq_true rfl) ?_
  refine wp_aload_0 dX0_holeOf_0 rfl ?_
  refine wp_iload_1 dX0_holeOf_1 rfl ?_
  refine wp_aload_0 dX0_holeOf_2 rfl ?_
  refine wp_cvR dX0_holeOf_3 rfl q1183 mv_X0_comingsOfDrum hE.o0 rfl rfl (c_comingsOfDrum hE) rfl rfl (Nat.le_of_ble_eq_true rfl) (Nat.le_of_ble_eq_true rfl) ?_
  refine wp_csR dX0_holeOf_6 rfl q1553 ms_J3_floorMod (j_floorMod (nI_ne0 h5 (by have := hE.B.n5.2; omega))) rfl rfl (Nat.le_of_ble_eq_true rfl) (Nat.le_of_ble_eq_true rfl) ?_
  obtain ⟨j, hj, ej⟩ := fm_in x h5 (by have := hE.B.n5.2; omega)
  rw [ej]
  refine wp_cvR dX0_holeOf_9 rfl q1190 mv_X0_mole hE.o0 rfl rfl (c_mole hE hj) rfl rfl (Nat.le_of_ble_eq_true rfl) (Nat.le_of_ble_eq_true rfl) ?_
  refine wp_getfN dX0_holeOf_12 rfl q1056 fk14_0 (hE.mol hj) rfl ?_
  exact wp_ireturn dX0_holeOf_15 rfl ⟨by rw [hoA, hE.B.n5.1, ej, nI_clamp (by have := hE.B.n5.2; omega), Nat.add_zero], rfl⟩
