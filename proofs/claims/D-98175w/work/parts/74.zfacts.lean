/-! ===== facts of fields of games and lists ===== -/
set_option maxRecDepth 100000
theorem nmgX4 : ∀ a, a < 6 → ∀ b, b < 6 → a ≠ b → pubN TX4 a b = true := by decide +kernel
theorem fg4_0 : FG 4 0 "MoleBoard$Game" "moles" "[LMoleBoard$Mole;" true (.array (.object "MoleBoard$Mole")) "MoleBoard$Game" := ⟨_, _, _, tyX4, rfl, by decide, rfl, rfl, in_X4, Or.inl rfl, tyX4_ok, nmgX4, rfl, rfl, rfl⟩
theorem fg4_1 : FG 4 1 "MoleBoard$Game" "first" "[I" true (.array .int) "MoleBoard$Game" := ⟨_, _, _, tyX4, rfl, by decide, rfl, rfl, in_X4, Or.inl rfl, tyX4_ok, nmgX4, rfl, rfl, rfl⟩
theorem fg4_2 : FG 4 2 "MoleBoard$Game" "last" "[I" true (.array .int) "MoleBoard$Game" := ⟨_, _, _, tyX4, rfl, by decide, rfl, rfl, in_X4, Or.inl rfl, tyX4_ok, nmgX4, rfl, rfl, rfl⟩
theorem fg4_3 : FG 4 3 "MoleBoard$Game" "many" "I" false .int "MoleBoard$Game" := ⟨_, _, _, tyX4, rfl, by decide, rfl, rfl, in_X4, Or.inl rfl, tyX4_ok, nmgX4, rfl, rfl, rfl⟩
theorem fg4_4 : FG 4 4 "MoleBoard$Game" "this$0" "LMoleBoard;" true (.object "MoleBoard") "MoleBoard$Game" := ⟨_, _, _, tyX4, rfl, by decide, rfl, rfl, in_X4, Or.inl rfl, tyX4_ok, nmgX4, rfl, rfl, rfl⟩
theorem fg4_5 : FG 4 5 "MoleBoard$DrumGame" "this$0" "LMoleBoard;" true (.object "MoleBoard") "MoleBoard$DrumGame" := ⟨_, _, _, tyX4, rfl, by decide, rfl, rfl, in_X4, Or.inl rfl, tyX4_ok, nmgX4, rfl, rfl, rfl⟩
theorem nmgX5 : ∀ a, a < 9 → ∀ b, b < 9 → a ≠ b → pubN TX5 a b = true := by decide +kernel
theorem fg5_0 : FG 5 0 "MoleBoard$Game" "moles" "[LMoleBoard$Mole;" true (.array (.object "MoleBoard$Mole")) "MoleBoard$Game" := ⟨_, _, _, tyX5, rfl, by decide, rfl, rfl, in_X5, Or.inl rfl, tyX5_ok, nmgX5, rfl, rfl, rfl⟩
theorem fg5_1 : FG 5 1 "MoleBoard$Game" "first" "[I" true (.array .int) "MoleBoard$Game" := ⟨_, _, _, tyX5, rfl, by decide, rfl, rfl, in_X5, Or.inl rfl, tyX5_ok, nmgX5, rfl, rfl, rfl⟩
theorem fg5_2 : FG 5 2 "MoleBoard$Game" "last" "[I" true (.array .int) "MoleBoard$Game" := ⟨_, _, _, tyX5, rfl, by decide, rfl, rfl, in_X5, Or.inl rfl, tyX5_ok, nmgX5, rfl, rfl, rfl⟩
theorem fg5_3 : FG 5 3 "MoleBoard$Game" "many" "I" false .int "MoleBoard$Game" := ⟨_, _, _, tyX5, rfl, by decide, rfl, rfl, in_X5, Or.inl rfl, tyX5_ok, nmgX5, rfl, rfl, rfl⟩
theorem fg5_4 : FG 5 4 "MoleBoard$Game" "this$0" "LMoleBoard;" true (.object "MoleBoard") "MoleBoard$Game" := ⟨_, _, _, tyX5, rfl, by decide, rfl, rfl, in_X5, Or.inl rfl, tyX5_ok, nmgX5, rfl, rfl, rfl⟩
theorem fg5_5 : FG 5 5 "MoleBoard$Night" "row" "[I" true (.array .int) "MoleBoard$Night" := ⟨_, _, _, tyX5, rfl, by decide, rfl, rfl, in_X5, Or.inl rfl, tyX5_ok, nmgX5, rfl, rfl, rfl⟩
theorem fg5_6 : FG 5 6 "MoleBoard$Night" "law" "I" false .int "MoleBoard$Night" := ⟨_, _, _, tyX5, rfl, by decide, rfl, rfl, in_X5, Or.inl rfl, tyX5_ok, nmgX5, rfl, rfl, rfl⟩
theorem fg5_7 : FG 5 7 "MoleBoard$Night" "x" "J" false .long "MoleBoard$Night" := ⟨_, _, _, tyX5, rfl, by decide, rfl, rfl, in_X5, Or.inl rfl, tyX5_ok, nmgX5, rfl, rfl, rfl⟩
theorem fg5_8 : FG 5 8 "MoleBoard$Night" "this$0" "LMoleBoard;" true (.object "MoleBoard") "MoleBoard$Night" := ⟨_, _, _, tyX5, rfl, by decide, rfl, rfl, in_X5, Or.inl rfl, tyX5_ok, nmgX5, rfl, rfl, rfl⟩
theorem fks3_0 : FK 3 0 "java/util/ArrayList" "modCount" "I" := ⟨_, _, _, rfl, by decide, rfl, rfl, in_J2, Or.inr q428⟩
theorem fps3_0 : FP 3 0 "java/util/ArrayList" "modCount" "I" false .int "java/util/AbstractList" := ⟨_, _, _, tyJ2, rfl, by decide, rfl, rfl, in_J2, Or.inr q428, tyJ2_ok, nmJ2, rfl, rfl, rfl⟩
theorem fks4_3 : FK 4 3 "MoleBoard$DrumGame" "many" "I" := ⟨_, _, _, rfl, by decide, rfl, rfl, in_X4, Or.inr q532⟩
theorem fks5_3 : FK 5 3 "MoleBoard$Night" "many" "I" := ⟨_, _, _, rfl, by decide, rfl, rfl, in_X5, Or.inr q537⟩
