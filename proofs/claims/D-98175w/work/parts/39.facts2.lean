/-! ===== more facts of methods ===== -/
set_option maxRecDepth 100000
theorem q_oi : Cond.instanceMethod Lib.objectInit ∈ lw_all := q211
theorem q_oc : Cond.code Lib.objectInit ⟨#[0xb1]⟩ 1 none ∈ lw_all := q212
theorem stL_lt (w : Nat) : stL.getD w 0 < 2147483648 := by
  by_cases h : w < 19
  · have : ∀ i, i < 19 → stL.getD i 0 < 2147483648 := by decide
    exact this w h
  · rw [List.getD_eq_getElem?_getD, List.getElem?_eq_none (show stL.length ≤ w from Nat.not_lt.mp h)]
    decide
theorem g_last {h : AH} {e : AE} : (h ++ [e])[h.length]? = some e := by rw [List.getElem?_append_right (Nat.le_refl _), Nat.sub_self]; rfl
theorem g_old {h : AH} {e e1 : AE} {a : Nat} (ha : h[a]? = some e) : (h ++ [e1])[a]? = some e := by rw [List.getElem?_append_left (List.getElem?_eq_some_iff.mp ha).1]; exact ha
theorem g_oth {h : AH} {e e1 : AE} {a b : Nat} (ha : h[a]? = some e) (n : b ≠ a) : (h.set b e1)[a]? = some e := by rw [List.getElem?_set_ne n]; exact ha
theorem g_slf {h : AH} {e e1 : AE} {a : Nat} (ha : h[a]? = some e) : (h.set a e1)[a]? = some e1 := List.getElem?_set_self (List.getElem?_eq_some_iff.mp ha).1
theorem tb_X0_board : g_tb yX0_board = [(0, 59, 66, 123), (0, 59, 93, 0), (66, 86, 93, 0)] := by decide +kernel
theorem mvw_X0_board : MVW yX0_board cX0_board 4 (some .int) 0 := ⟨q769, q770, q145, by rw [tb_X0_board]; exact q771, ⟨by decide +kernel, by decide +kernel, by decide +kernel⟩, by decide⟩
theorem tb_X1_begins : g_tb yX1_begins = [(0, 65, 68, 15)] := by decide +kernel
theorem mvw_X1_begins : MVW yX1_begins cX1_begins 4 (some .boolean) 2 := ⟨q194, q195, q146, by rw [tb_X1_begins]; exact q196, ⟨by decide +kernel, by decide +kernel, by decide +kernel⟩, by decide⟩
theorem tb_X1_pastes : g_tb yX1_pastes = [(31, 46, 49, 48)] := by decide +kernel
theorem mvw_X1_pastes : MVW yX1_pastes cX1_pastes 6 (some .int) 4 := ⟨q372, q373, q146, by rw [tb_X1_pastes]; exact q374, ⟨by decide +kernel, by decide +kernel, by decide +kernel⟩, by decide⟩
theorem tb_X1_putWider : g_tb yX1_putWider = [(0, 15, 18, 36)] := by decide +kernel
theorem mvw_X1_putWider : MVW yX1_putWider cX1_putWider 6 none 2 := ⟨q349, qs3, q146, by rw [tb_X1_putWider]; exact q350, ⟨by decide +kernel, by decide +kernel, by decide +kernel⟩, by decide⟩
theorem tb_X1_puts : g_tb yX1_puts = [(0, 6, 9, 29), (0, 6, 14, 31)] := by decide +kernel
theorem mvw_X1_puts : MVW yX1_puts cX1_puts 5 (some .int) 2 := ⟨q293, q294, q146, by rw [tb_X1_puts]; exact q295, ⟨by decide +kernel, by decide +kernel, by decide +kernel⟩, by decide⟩
theorem mf_J2_add : MF "java/util/ArrayList" ⟨"java/util/List", "add", "(Ljava/lang/Object;)Z"⟩ yJ2_add cJ2_add 2 (some .boolean) 1 := ⟨List.mem_of_getElem? (i := 0) rfl, q1077, q1079, q150, q1081, by decide +kernel, by decide⟩
theorem mf_J2_get : MF "java/util/ArrayList" ⟨"java/util/List", "get", "(I)Ljava/lang/Object;"⟩ yJ2_get cJ2_get 2 (some (.object "java/lang/Object")) 1 := ⟨List.mem_of_getElem? (i := 1) rfl, q1198, q1200, q150, q1202, by decide +kernel, by decide⟩
theorem mf_J2_iterator : MF "java/util/ArrayList" ⟨"java/util/List", "iterator", "()Ljava/util/Iterator;"⟩ yJ2_iterator cJ2_iterator 1 (some (.object "java/util/Iterator")) 0 := ⟨List.mem_of_getElem? (i := 2) rfl, q967, q969, q150, q971, by decide +kernel, by decide⟩
theorem mf_J2_set : MF "java/util/ArrayList" ⟨"java/util/List", "set", "(ILjava/lang/Object;)Ljava/lang/Object;"⟩ yJ2_set cJ2_set 4 (some (.object "java/lang/Object")) 2 := ⟨List.mem_of_getElem? (i := 3) rfl, q1734, q1736, q150, q1738, by decide +kernel, by decide⟩
theorem mf_J2_size : MF "java/util/ArrayList" ⟨"java/util/List", "size", "()I"⟩ yJ2_size cJ2_size 1 (some .int) 0 := ⟨List.mem_of_getElem? (i := 4) rfl, q1034, q1036, q150, q1038, by decide +kernel, by decide⟩
theorem mf_J11_hasNext : MF "java/util/ArrayList$Itr" ⟨"java/util/Iterator", "hasNext", "()Z"⟩ yJ11_hasNext cJ11_hasNext 1 (some .boolean) 0 := ⟨List.mem_of_getElem? (i := 5) rfl, q996, q998, q169, q1000, by decide +kernel, by decide⟩
theorem mf_J11_next : MF "java/util/ArrayList$Itr" ⟨"java/util/Iterator", "next", "()Ljava/lang/Object;"⟩ yJ11_next cJ11_next 3 (some (.object "java/lang/Object")) 0 := ⟨List.mem_of_getElem? (i := 6) rfl, q1005, q1007, q169, q1009, by decide +kernel, by decide⟩
theorem mu_X3_lays_X4 : MU "MoleBoard$DrumGame" "MoleBoard$Game" ⟨"MoleBoard$DrumGame", "lays", "()LMoleBoard$Game;"⟩ yX3_lays cX3_lays 3 (some (.object "MoleBoard$Game")) 0 := ⟨q1250, q1252, q1253, q151, q1254, ⟨by decide +kernel, by decide +kernel, by decide +kernel⟩, by decide, Or.inl rfl⟩
theorem mu_X3_isUp_X4 : MU "MoleBoard$DrumGame" "MoleBoard$Game" ⟨"MoleBoard$Game", "isUp", "(II)Z"⟩ yX3_isUp cX3_isUp 3 (some .boolean) 2 := ⟨q1308, q1309, q1307, q151, q1311, ⟨by decide +kernel, by decide +kernel, by decide +kernel⟩, by decide, Or.inl rfl⟩
theorem mu_X3_isUp_X5 : MU "MoleBoard$Night" "MoleBoard$Game" ⟨"MoleBoard$Game", "isUp", "(II)Z"⟩ yX3_isUp cX3_isUp 3 (some .boolean) 2 := ⟨q1308, q1310, q1307, q151, q1311, ⟨by decide +kernel, by decide +kernel, by decide +kernel⟩, by decide, Or.inl rfl⟩
theorem mu_X3_mole_X4 : MU "MoleBoard$DrumGame" "MoleBoard$Game" ⟨"MoleBoard$Game", "mole", "(I)LMoleBoard$Mole;"⟩ yX3_mole cX3_mole 2 (some (.object "MoleBoard$Mole")) 1 := ⟨q1298, q1299, q1297, q151, q1301, ⟨by decide +kernel, by decide +kernel, by decide +kernel⟩, by decide, Or.inl rfl⟩
theorem mu_X3_mole_X5 : MU "MoleBoard$Night" "MoleBoard$Game" ⟨"MoleBoard$Game", "mole", "(I)LMoleBoard$Mole;"⟩ yX3_mole cX3_mole 2 (some (.object "MoleBoard$Mole")) 1 := ⟨q1298, q1300, q1297, q151, q1301, ⟨by decide +kernel, by decide +kernel, by decide +kernel⟩, by decide, Or.inl rfl⟩
theorem mu_X4_next_X4 : MU "MoleBoard$DrumGame" "MoleBoard$Game" ⟨"MoleBoard$Game", "next", "()LMoleBoard$Mole;"⟩ yX4_next cX4_next 1 (some (.object "MoleBoard$Mole")) 0 := ⟨q1258, q1259, q1260, q152, q1261, ⟨by decide +kernel, by decide +kernel, by decide +kernel⟩, by decide, Or.inr q1257⟩
theorem mu_X5_next_X5 : MU "MoleBoard$Night" "MoleBoard$Game" ⟨"MoleBoard$Game", "next", "()LMoleBoard$Mole;"⟩ yX5_next cX5_next 4 (some (.object "MoleBoard$Mole")) 0 := ⟨q1258, q1266, q1267, q153, q1268, ⟨by decide +kernel, by decide +kernel, by decide +kernel⟩, by decide, Or.inr q1257⟩
theorem mu_X3_lays_X5 : MU "MoleBoard$Night" "MoleBoard$Game" ⟨"MoleBoard$Night", "lays", "()LMoleBoard$Game;"⟩ yX3_lays cX3_lays 3 (some (.object "MoleBoard$Game")) 0 := ⟨q1781, q1782, q1253, q151, q1254, ⟨by decide +kernel, by decide +kernel, by decide +kernel⟩, by decide, Or.inl rfl⟩
