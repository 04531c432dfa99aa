/-! MoleBoard$Slot -/
set_option maxRecDepth 100000
abbrev cX1_begins : ByteArray := prog_14_method_2_code
def yX1_begins : MethodName := ⟨RX1, "begins", "(II)Z"⟩
def dkwX1_begins_3 : List UInt8 := [181, 0, 9, 167, 0, 10, 42, 28, 188, 11, 181, 0, 9, 167, 0, 6, 78, 3, 172, 4, 172]
abbrev dktX1_begins_3 : List UInt8 := dkwX1_begins_3 ++ []
def dkwX1_begins_2 : List UInt8 := [42, 28, 188, 8, 181, 0, 9, 167, 0, 30, 42, 28, 188, 9, 181, 0, 9, 167, 0, 20, 42, 28, 188, 10]
abbrev dktX1_begins_2 : List UInt8 := dkwX1_begins_2 ++ dktX1_begins_3
def dkwX1_begins_1 : List UInt8 := [170, 0, 0, 0, 0, 0, 57, 0, 0, 0, 0, 0, 0, 0, 2, 0, 0, 0, 27, 0, 0, 0, 37, 0, 0, 0, 47]
abbrev dktX1_begins_1 : List UInt8 := dkwX1_begins_1 ++ dktX1_begins_2
def dkwX1_begins_0 : List UInt8 := [27]
abbrev dktX1_begins_0 : List UInt8 := dkwX1_begins_0 ++ dktX1_begins_1
theorem dksX1_begins_0 : cX1_begins.data.toList.drop 0 = dktX1_begins_0 := by decide +kernel
theorem dksX1_begins_1 : cX1_begins.data.toList.drop 1 = dktX1_begins_1 := dk_seg dksX1_begins_0 1 rfl rfl
theorem dksX1_begins_2 : cX1_begins.data.toList.drop 28 = dktX1_begins_2 := dk_seg dksX1_begins_1 27 rfl rfl
theorem dksX1_begins_3 : cX1_begins.data.toList.drop 52 = dktX1_begins_3 := dk_seg dksX1_begins_2 24 rfl rfl
theorem dX1_begins_0 : decode cX1_begins 0 = .ok (.iload_n 1, 1) := dk_27 (dk_at dksX1_begins_0 0 rfl rfl)
theorem dX1_begins_1 : decode cX1_begins 1 = .ok (.tableswitch 57 0 2 #[27, 37, 47], 27) := by decide +kernel
theorem dX1_begins_28 : decode cX1_begins 28 = .ok (.aload_n 0, 1) := dk_42 (dk_at dksX1_begins_2 0 rfl rfl)
theorem dX1_begins_29 : decode cX1_begins 29 = .ok (.iload_n 2, 1) := dk_28 (dk_at dksX1_begins_2 1 rfl rfl)
theorem dX1_begins_30 : decode cX1_begins 30 = .ok (.newarray .byte, 2) := dk_188_8 (dk_at dksX1_begins_2 2 rfl rfl)
theorem dX1_begins_32 : decode cX1_begins 32 = .ok (.putfield 9, 3) := dk_181 0 9 (dk_at dksX1_begins_2 4 rfl rfl)
theorem dX1_begins_35 : decode cX1_begins 35 = .ok (.goto 30, 3) := dk_167 0 30 (dk_at dksX1_begins_2 7 rfl rfl)
theorem dX1_begins_38 : decode cX1_begins 38 = .ok (.aload_n 0, 1) := dk_42 (dk_at dksX1_begins_2 10 rfl rfl)
theorem dX1_begins_39 : decode cX1_begins 39 = .ok (.iload_n 2, 1) := dk_28 (dk_at dksX1_begins_2 11 rfl rfl)
theorem dX1_begins_40 : decode cX1_begins 40 = .ok (.newarray .short, 2) := dk_188_9 (dk_at dksX1_begins_2 12 rfl rfl)
theorem dX1_begins_42 : decode cX1_begins 42 = .ok (.putfield 9, 3) := dk_181 0 9 (dk_at dksX1_begins_2 14 rfl rfl)
theorem dX1_begins_45 : decode cX1_begins 45 = .ok (.goto 20, 3) := dk_167 0 20 (dk_at dksX1_begins_2 17 rfl rfl)
theorem dX1_begins_48 : decode cX1_begins 48 = .ok (.aload_n 0, 1) := dk_42 (dk_at dksX1_begins_2 20 rfl rfl)
theorem dX1_begins_49 : decode cX1_begins 49 = .ok (.iload_n 2, 1) := dk_28 (dk_at dksX1_begins_2 21 rfl rfl)
theorem dX1_begins_50 : decode cX1_begins 50 = .ok (.newarray .int, 2) := dk_188_10 (dk_at dksX1_begins_2 22 rfl rfl)
theorem dX1_begins_52 : decode cX1_begins 52 = .ok (.putfield 9, 3) := dk_181 0 9 (dk_at dksX1_begins_3 0 rfl rfl)
theorem dX1_begins_55 : decode cX1_begins 55 = .ok (.goto 10, 3) := dk_167 0 10 (dk_at dksX1_begins_3 3 rfl rfl)
theorem dX1_begins_58 : decode cX1_begins 58 = .ok (.aload_n 0, 1) := dk_42 (dk_at dksX1_begins_3 6 rfl rfl)
theorem dX1_begins_59 : decode cX1_begins 59 = .ok (.iload_n 2, 1) := dk_28 (dk_at dksX1_begins_3 7 rfl rfl)
theorem dX1_begins_60 : decode cX1_begins 60 = .ok (.newarray .long, 2) := dk_188_11 (dk_at dksX1_begins_3 8 rfl rfl)
theorem dX1_begins_62 : decode cX1_begins 62 = .ok (.putfield 9, 3) := dk_181 0 9 (dk_at dksX1_begins_3 10 rfl rfl)
theorem dX1_begins_65 : decode cX1_begins 65 = .ok (.goto 6, 3) := dk_167 0 6 (dk_at dksX1_begins_3 13 rfl rfl)
theorem dX1_begins_68 : decode cX1_begins 68 = .ok (.astore_n 3, 1) := dk_78 (dk_at dksX1_begins_3 16 rfl rfl)
theorem dX1_begins_69 : decode cX1_begins 69 = .ok (.iconst 0, 1) := dk_3 (dk_at dksX1_begins_3 17 rfl rfl)
theorem dX1_begins_70 : decode cX1_begins 70 = .ok (.ireturn, 1) := dk_172 (dk_at dksX1_begins_3 18 rfl rfl)
theorem dX1_begins_71 : decode cX1_begins 71 = .ok (.iconst 1, 1) := dk_4 (dk_at dksX1_begins_3 19 rfl rfl)
theorem dX1_begins_72 : decode cX1_begins 72 = .ok (.ireturn, 1) := dk_172 (dk_at dksX1_begins_3 20 rfl rfl)
abbrev cX1_puts : ByteArray := prog_14_method_5_code
def yX1_puts : MethodName := ⟨RX1, "puts", "(IJ)I"⟩
def dkwX1_puts_0 : List UInt8 := [42, 27, 32, 182, 0, 25, 167, 0, 13, 58, 4, 16, 250, 172, 58, 4, 16, 249, 172, 3, 172]
abbrev dktX1_puts_0 : List UInt8 := dkwX1_puts_0 ++ []
theorem dksX1_puts_0 : cX1_puts.data.toList.drop 0 = dktX1_puts_0 := by decide +kernel
theorem dX1_puts_0 : decode cX1_puts 0 = .ok (.aload_n 0, 1) := dk_42 (dk_at dksX1_puts_0 0 rfl rfl)
theorem dX1_puts_1 : decode cX1_puts 1 = .ok (.iload_n 1, 1) := dk_27 (dk_at dksX1_puts_0 1 rfl rfl)
theorem dX1_puts_2 : decode cX1_puts 2 = .ok (.lload_n 2, 1) := dk_32 (dk_at dksX1_puts_0 2 rfl rfl)
theorem dX1_puts_3 : decode cX1_puts 3 = .ok (.invokevirtual 25, 3) := dk_182 0 25 (dk_at dksX1_puts_0 3 rfl rfl)
theorem dX1_puts_6 : decode cX1_puts 6 = .ok (.goto 13, 3) := dk_167 0 13 (dk_at dksX1_puts_0 6 rfl rfl)
theorem dX1_puts_9 : decode cX1_puts 9 = .ok (.astore 4, 2) := dk_58 4 (dk_at dksX1_puts_0 9 rfl rfl)
theorem dX1_puts_11 : decode cX1_puts 11 = .ok (.bipush (-6), 2) := dk_16 250 (dk_at dksX1_puts_0 11 rfl rfl)
theorem dX1_puts_13 : decode cX1_puts 13 = .ok (.ireturn, 1) := dk_172 (dk_at dksX1_puts_0 13 rfl rfl)
theorem dX1_puts_14 : decode cX1_puts 14 = .ok (.astore 4, 2) := dk_58 4 (dk_at dksX1_puts_0 14 rfl rfl)
theorem dX1_puts_16 : decode cX1_puts 16 = .ok (.bipush (-7), 2) := dk_16 249 (dk_at dksX1_puts_0 16 rfl rfl)
theorem dX1_puts_18 : decode cX1_puts 18 = .ok (.ireturn, 1) := dk_172 (dk_at dksX1_puts_0 18 rfl rfl)
theorem dX1_puts_19 : decode cX1_puts 19 = .ok (.iconst 0, 1) := dk_3 (dk_at dksX1_puts_0 19 rfl rfl)
theorem dX1_puts_20 : decode cX1_puts 20 = .ok (.ireturn, 1) := dk_172 (dk_at dksX1_puts_0 20 rfl rfl)
abbrev cX1_put : ByteArray := prog_14_method_6_code
def yX1_put : MethodName := ⟨RX1, "put", "(IJ)V"⟩
def dkwX1_put_2 : List UInt8 := [25, 4, 27, 32, 136, 147, 86, 167, 0, 9, 42, 27, 32, 182, 0, 33, 177]
abbrev dktX1_put_2 : List UInt8 := dkwX1_put_2 ++ []
def dkwX1_put_1 : List UInt8 := [145, 84, 167, 0, 38, 42, 180, 0, 9, 193, 0, 19, 153, 0, 22, 42, 180, 0, 9, 192, 0, 19, 58, 4]
abbrev dktX1_put_1 : List UInt8 := dkwX1_put_1 ++ dktX1_put_2
def dkwX1_put_0 : List UInt8 := [42, 180, 0, 9, 193, 0, 17, 153, 0, 22, 42, 180, 0, 9, 192, 0, 17, 58, 4, 25, 4, 27, 32, 136]
abbrev dktX1_put_0 : List UInt8 := dkwX1_put_0 ++ dktX1_put_1
theorem dksX1_put_0 : cX1_put.data.toList.drop 0 = dktX1_put_0 := by decide +kernel
theorem dksX1_put_1 : cX1_put.data.toList.drop 24 = dktX1_put_1 := dk_seg dksX1_put_0 24 rfl rfl
theorem dksX1_put_2 : cX1_put.data.toList.drop 48 = dktX1_put_2 := dk_seg dksX1_put_1 24 rfl rfl
theorem dX1_put_0 : decode cX1_put 0 = .ok (.aload_n 0, 1) := dk_42 (dk_at dksX1_put_0 0 rfl rfl)
theorem dX1_put_1 : decode cX1_put 1 = .ok (.getfield 9, 3) := dk_180 0 9 (dk_at dksX1_put_0 1 rfl rfl)
theorem dX1_put_4 : decode cX1_put 4 = .ok (.instanceof 17, 3) := dk_193 0 17 (dk_at dksX1_put_0 4 rfl rfl)
theorem dX1_put_7 : decode cX1_put 7 = .ok (.ifCond .eq 22, 3) := dk_153 0 22 (dk_at dksX1_put_0 7 rfl rfl)
theorem dX1_put_10 : decode cX1_put 10 = .ok (.aload_n 0, 1) := dk_42 (dk_at dksX1_put_0 10 rfl rfl)
theorem dX1_put_11 : decode cX1_put 11 = .ok (.getfield 9, 3) := dk_180 0 9 (dk_at dksX1_put_0 11 rfl rfl)
theorem dX1_put_14 : decode cX1_put 14 = .ok (.checkcast 17, 3) := dk_192 0 17 (dk_at dksX1_put_0 14 rfl rfl)
theorem dX1_put_17 : decode cX1_put 17 = .ok (.astore 4, 2) := dk_58 4 (dk_at dksX1_put_0 17 rfl rfl)
theorem dX1_put_19 : decode cX1_put 19 = .ok (.aload 4, 2) := dk_25 4 (dk_at dksX1_put_0 19 rfl rfl)
theorem dX1_put_21 : decode cX1_put 21 = .ok (.iload_n 1, 1) := dk_27 (dk_at dksX1_put_0 21 rfl rfl)
theorem dX1_put_22 : decode cX1_put 22 = .ok (.lload_n 2, 1) := dk_32 (dk_at dksX1_put_0 22 rfl rfl)
theorem dX1_put_23 : decode cX1_put 23 = .ok (.l2i, 1) := dk_136 (dk_at dksX1_put_0 23 rfl rfl)
theorem dX1_put_24 : decode cX1_put 24 = .ok (.i2b, 1) := dk_145 (dk_at dksX1_put_1 0 rfl rfl)
theorem dX1_put_25 : decode cX1_put 25 = .ok (.bastore, 1) := dk_84 (dk_at dksX1_put_1 1 rfl rfl)
theorem dX1_put_26 : decode cX1_put 26 = .ok (.goto 38, 3) := dk_167 0 38 (dk_at dksX1_put_1 2 rfl rfl)
theorem dX1_put_29 : decode cX1_put 29 = .ok (.aload_n 0, 1) := dk_42 (dk_at dksX1_put_1 5 rfl rfl)
theorem dX1_put_30 : decode cX1_put 30 = .ok (.getfield 9, 3) := dk_180 0 9 (dk_at dksX1_put_1 6 rfl rfl)
theorem dX1_put_33 : decode cX1_put 33 = .ok (.instanceof 19, 3) := dk_193 0 19 (dk_at dksX1_put_1 9 rfl rfl)
theorem dX1_put_36 : decode cX1_put 36 = .ok (.ifCond .eq 22, 3) := dk_153 0 22 (dk_at dksX1_put_1 12 rfl rfl)
theorem dX1_put_39 : decode cX1_put 39 = .ok (.aload_n 0, 1) := dk_42 (dk_at dksX1_put_1 15 rfl rfl)
theorem dX1_put_40 : decode cX1_put 40 = .ok (.getfield 9, 3) := dk_180 0 9 (dk_at dksX1_put_1 16 rfl rfl)
theorem dX1_put_43 : decode cX1_put 43 = .ok (.checkcast 19, 3) := dk_192 0 19 (dk_at dksX1_put_1 19 rfl rfl)
theorem dX1_put_46 : decode cX1_put 46 = .ok (.astore 4, 2) := dk_58 4 (dk_at dksX1_put_1 22 rfl rfl)
theorem dX1_put_48 : decode cX1_put 48 = .ok (.aload 4, 2) := dk_25 4 (dk_at dksX1_put_2 0 rfl rfl)
theorem dX1_put_50 : decode cX1_put 50 = .ok (.iload_n 1, 1) := dk_27 (dk_at dksX1_put_2 2 rfl rfl)
theorem dX1_put_51 : decode cX1_put 51 = .ok (.lload_n 2, 1) := dk_32 (dk_at dksX1_put_2 3 rfl rfl)
theorem dX1_put_52 : decode cX1_put 52 = .ok (.l2i, 1) := dk_136 (dk_at dksX1_put_2 4 rfl rfl)
theorem dX1_put_53 : decode cX1_put 53 = .ok (.i2s, 1) := dk_147 (dk_at dksX1_put_2 5 rfl rfl)
theorem dX1_put_54 : decode cX1_put 54 = .ok (.sastore, 1) := dk_86 (dk_at dksX1_put_2 6 rfl rfl)
theorem dX1_put_55 : decode cX1_put 55 = .ok (.goto 9, 3) := dk_167 0 9 (dk_at dksX1_put_2 7 rfl rfl)
theorem dX1_put_58 : decode cX1_put 58 = .ok (.aload_n 0, 1) := dk_42 (dk_at dksX1_put_2 10 rfl rfl)
theorem dX1_put_59 : decode cX1_put 59 = .ok (.iload_n 1, 1) := dk_27 (dk_at dksX1_put_2 11 rfl rfl)
theorem dX1_put_60 : decode cX1_put 60 = .ok (.lload_n 2, 1) := dk_32 (dk_at dksX1_put_2 12 rfl rfl)
theorem dX1_put_61 : decode cX1_put 61 = .ok (.invokevirtual 33, 3) := dk_182 0 33 (dk_at dksX1_put_2 13 rfl rfl)
theorem dX1_put_64 : decode cX1_put 64 = .ok (.return_, 1) := dk_177 (dk_at dksX1_put_2 16 rfl rfl)
abbrev cX1_putWider : ByteArray := prog_14_method_7_code
def yX1_putWider : MethodName := ⟨RX1, "putWider", "(IJ)V"⟩
def dkwX1_putWider_1 : List UInt8 := [192, 0, 23, 58, 5, 25, 5, 27, 32, 80, 177]
abbrev dktX1_putWider_1 : List UInt8 := dkwX1_putWider_1 ++ []
def dkwX1_putWider_0 : List UInt8 := [42, 180, 0, 9, 192, 0, 21, 58, 4, 25, 4, 27, 32, 136, 79, 167, 0, 19, 58, 4, 42, 180, 0, 9]
abbrev dktX1_putWider_0 : List UInt8 := dkwX1_putWider_0 ++ dktX1_putWider_1
theorem dksX1_putWider_0 : cX1_putWider.data.toList.drop 0 = dktX1_putWider_0 := by decide +kernel
theorem dksX1_putWider_1 : cX1_putWider.data.toList.drop 24 = dktX1_putWider_1 := dk_seg dksX1_putWider_0 24 rfl rfl
theorem dX1_putWider_0 : decode cX1_putWider 0 = .ok (.aload_n 0, 1) := dk_42 (dk_at dksX1_putWider_0 0 rfl rfl)
theorem dX1_putWider_1 : decode cX1_putWider 1 = .ok (.getfield 9, 3) := dk_180 0 9 (dk_at dksX1_putWider_0 1 rfl rfl)
theorem dX1_putWider_4 : decode cX1_putWider 4 = .ok (.checkcast 21, 3) := dk_192 0 21 (dk_at dksX1_putWider_0 4 rfl rfl)
theorem dX1_putWider_7 : decode cX1_putWider 7 = .ok (.astore 4, 2) := dk_58 4 (dk_at dksX1_putWider_0 7 rfl rfl)
theorem dX1_putWider_9 : decode cX1_putWider 9 = .ok (.aload 4, 2) := dk_25 4 (dk_at dksX1_putWider_0 9 rfl rfl)
theorem dX1_putWider_11 : decode cX1_putWider 11 = .ok (.iload_n 1, 1) := dk_27 (dk_at dksX1_putWider_0 11 rfl rfl)
theorem dX1_putWider_12 : decode cX1_putWider 12 = .ok (.lload_n 2, 1) := dk_32 (dk_at dksX1_putWider_0 12 rfl rfl)
theorem dX1_putWider_13 : decode cX1_putWider 13 = .ok (.l2i, 1) := dk_136 (dk_at dksX1_putWider_0 13 rfl rfl)
theorem dX1_putWider_14 : decode cX1_putWider 14 = .ok (.iastore, 1) := dk_79 (dk_at dksX1_putWider_0 14 rfl rfl)
theorem dX1_putWider_15 : decode cX1_putWider 15 = .ok (.goto 19, 3) := dk_167 0 19 (dk_at dksX1_putWider_0 15 rfl rfl)
theorem dX1_putWider_18 : decode cX1_putWider 18 = .ok (.astore 4, 2) := dk_58 4 (dk_at dksX1_putWider_0 18 rfl rfl)
theorem dX1_putWider_20 : decode cX1_putWider 20 = .ok (.aload_n 0, 1) := dk_42 (dk_at dksX1_putWider_0 20 rfl rfl)
theorem dX1_putWider_21 : decode cX1_putWider 21 = .ok (.getfield 9, 3) := dk_180 0 9 (dk_at dksX1_putWider_0 21 rfl rfl)
theorem dX1_putWider_24 : decode cX1_putWider 24 = .ok (.checkcast 23, 3) := dk_192 0 23 (dk_at dksX1_putWider_1 0 rfl rfl)
theorem dX1_putWider_27 : decode cX1_putWider 27 = .ok (.astore 5, 2) := dk_58 5 (dk_at dksX1_putWider_1 3 rfl rfl)
theorem dX1_putWider_29 : decode cX1_putWider 29 = .ok (.aload 5, 2) := dk_25 5 (dk_at dksX1_putWider_1 5 rfl rfl)
theorem dX1_putWider_31 : decode cX1_putWider 31 = .ok (.iload_n 1, 1) := dk_27 (dk_at dksX1_putWider_1 7 rfl rfl)
theorem dX1_putWider_32 : decode cX1_putWider 32 = .ok (.lload_n 2, 1) := dk_32 (dk_at dksX1_putWider_1 8 rfl rfl)
theorem dX1_putWider_33 : decode cX1_putWider 33 = .ok (.lastore, 1) := dk_80 (dk_at dksX1_putWider_1 9 rfl rfl)
theorem dX1_putWider_34 : decode cX1_putWider 34 = .ok (.return_, 1) := dk_177 (dk_at dksX1_putWider_1 10 rfl rfl)
abbrev cX1_pastes : ByteArray := prog_14_method_9_code
def yX1_pastes : MethodName := ⟨RX1, "pastes", "(ILMoleBoard$Slot;II)I"⟩
def dkwX1_pastes_2 : List UInt8 := [167, 0, 8, 58, 5, 16, 249, 172, 3, 172]
abbrev dktX1_pastes_2 : List UInt8 := dkwX1_pastes_2 ++ []
def dkwX1_pastes_1 : List UInt8 := [182, 0, 38, 159, 0, 6, 16, 248, 172, 42, 180, 0, 9, 27, 44, 180, 0, 9, 29, 21, 4, 184, 0, 42]
abbrev dktX1_pastes_1 : List UInt8 := dkwX1_pastes_1 ++ dktX1_pastes_2
def dkwX1_pastes_0 : List UInt8 := [42, 180, 0, 9, 198, 0, 10, 44, 180, 0, 9, 199, 0, 6, 16, 250, 172, 42, 182, 0, 38, 44]
abbrev dktX1_pastes_0 : List UInt8 := dkwX1_pastes_0 ++ dktX1_pastes_1
theorem dksX1_pastes_0 : cX1_pastes.data.toList.drop 0 = dktX1_pastes_0 := by decide +kernel
theorem dksX1_pastes_1 : cX1_pastes.data.toList.drop 22 = dktX1_pastes_1 := dk_seg dksX1_pastes_0 22 rfl rfl
theorem dksX1_pastes_2 : cX1_pastes.data.toList.drop 46 = dktX1_pastes_2 := dk_seg dksX1_pastes_1 24 rfl rfl
theorem dX1_pastes_0 : decode cX1_pastes 0 = .ok (.aload_n 0, 1) := dk_42 (dk_at dksX1_pastes_0 0 rfl rfl)
theorem dX1_pastes_1 : decode cX1_pastes 1 = .ok (.getfield 9, 3) := dk_180 0 9 (dk_at dksX1_pastes_0 1 rfl rfl)
theorem dX1_pastes_4 : decode cX1_pastes 4 = .ok (.ifnull 10, 3) := dk_198 0 10 (dk_at dksX1_pastes_0 4 rfl rfl)
theorem dX1_pastes_7 : decode cX1_pastes 7 = .ok (.aload_n 2, 1) := dk_44 (dk_at dksX1_pastes_0 7 rfl rfl)
theorem dX1_pastes_8 : decode cX1_pastes 8 = .ok (.getfield 9, 3) := dk_180 0 9 (dk_at dksX1_pastes_0 8 rfl rfl)
theorem dX1_pastes_11 : decode cX1_pastes 11 = .ok (.ifnonnull 6, 3) := dk_199 0 6 (dk_at dksX1_pastes_0 11 rfl rfl)
theorem dX1_pastes_14 : decode cX1_pastes 14 = .ok (.bipush (-6), 2) := dk_16 250 (dk_at dksX1_pastes_0 14 rfl rfl)
theorem dX1_pastes_16 : decode cX1_pastes 16 = .ok (.ireturn, 1) := dk_172 (dk_at dksX1_pastes_0 16 rfl rfl)
theorem dX1_pastes_17 : decode cX1_pastes 17 = .ok (.aload_n 0, 1) := dk_42 (dk_at dksX1_pastes_0 17 rfl rfl)
theorem dX1_pastes_18 : decode cX1_pastes 18 = .ok (.invokevirtual 38, 3) := dk_182 0 38 (dk_at dksX1_pastes_0 18 rfl rfl)
theorem dX1_pastes_21 : decode cX1_pastes 21 = .ok (.aload_n 2, 1) := dk_44 (dk_at dksX1_pastes_0 21 rfl rfl)
theorem dX1_pastes_22 : decode cX1_pastes 22 = .ok (.invokevirtual 38, 3) := dk_182 0 38 (dk_at dksX1_pastes_1 0 rfl rfl)
theorem dX1_pastes_25 : decode cX1_pastes 25 = .ok (.if_icmp .eq 6, 3) := dk_159 0 6 (dk_at dksX1_pastes_1 3 rfl rfl)
theorem dX1_pastes_28 : decode cX1_pastes 28 = .ok (.bipush (-8), 2) := dk_16 248 (dk_at dksX1_pastes_1 6 rfl rfl)
theorem dX1_pastes_30 : decode cX1_pastes 30 = .ok (.ireturn, 1) := dk_172 (dk_at dksX1_pastes_1 8 rfl rfl)
theorem dX1_pastes_31 : decode cX1_pastes 31 = .ok (.aload_n 0, 1) := dk_42 (dk_at dksX1_pastes_1 9 rfl rfl)
theorem dX1_pastes_32 : decode cX1_pastes 32 = .ok (.getfield 9, 3) := dk_180 0 9 (dk_at dksX1_pastes_1 10 rfl rfl)
theorem dX1_pastes_35 : decode cX1_pastes 35 = .ok (.iload_n 1, 1) := dk_27 (dk_at dksX1_pastes_1 13 rfl rfl)
theorem dX1_pastes_36 : decode cX1_pastes 36 = .ok (.aload_n 2, 1) := dk_44 (dk_at dksX1_pastes_1 14 rfl rfl)
theorem dX1_pastes_37 : decode cX1_pastes 37 = .ok (.getfield 9, 3) := dk_180 0 9 (dk_at dksX1_pastes_1 15 rfl rfl)
theorem dX1_pastes_40 : decode cX1_pastes 40 = .ok (.iload_n 3, 1) := dk_29 (dk_at dksX1_pastes_1 18 rfl rfl)
theorem dX1_pastes_41 : decode cX1_pastes 41 = .ok (.iload 4, 2) := dk_21 4 (dk_at dksX1_pastes_1 19 rfl rfl)
theorem dX1_pastes_43 : decode cX1_pastes 43 = .ok (.invokestatic 42, 3) := dk_184 0 42 (dk_at dksX1_pastes_1 21 rfl rfl)
theorem dX1_pastes_46 : decode cX1_pastes 46 = .ok (.goto 8, 3) := dk_167 0 8 (dk_at dksX1_pastes_2 0 rfl rfl)
theorem dX1_pastes_49 : decode cX1_pastes 49 = .ok (.astore 5, 2) := dk_58 5 (dk_at dksX1_pastes_2 3 rfl rfl)
theorem dX1_pastes_51 : decode cX1_pastes 51 = .ok (.bipush (-7), 2) := dk_16 249 (dk_at dksX1_pastes_2 5 rfl rfl)
theorem dX1_pastes_53 : decode cX1_pastes 53 = .ok (.ireturn, 1) := dk_172 (dk_at dksX1_pastes_2 7 rfl rfl)
theorem dX1_pastes_54 : decode cX1_pastes 54 = .ok (.iconst 0, 1) := dk_3 (dk_at dksX1_pastes_2 8 rfl rfl)
theorem dX1_pastes_55 : decode cX1_pastes 55 = .ok (.ireturn, 1) := dk_172 (dk_at dksX1_pastes_2 9 rfl rfl)
abbrev cX1_width : ByteArray := prog_14_method_8_code
def yX1_width : MethodName := ⟨RX1, "width", "()I"⟩
def dkwX1_width_1 : List UInt8 := [4, 167, 0, 18, 42, 180, 0, 9, 193, 0, 21, 153, 0, 7, 5, 167, 0, 4, 6, 172]
abbrev dktX1_width_1 : List UInt8 := dkwX1_width_1 ++ []
def dkwX1_width_0 : List UInt8 := [42, 180, 0, 9, 193, 0, 17, 153, 0, 7, 3, 167, 0, 32, 42, 180, 0, 9, 193, 0, 19, 153, 0, 7]
abbrev dktX1_width_0 : List UInt8 := dkwX1_width_0 ++ dktX1_width_1
theorem dksX1_width_0 : cX1_width.data.toList.drop 0 = dktX1_width_0 := by decide +kernel
theorem dksX1_width_1 : cX1_width.data.toList.drop 24 = dktX1_width_1 := dk_seg dksX1_width_0 24 rfl rfl
theorem dX1_width_0 : decode cX1_width 0 = .ok (.aload_n 0, 1) := dk_42 (dk_at dksX1_width_0 0 rfl rfl)
theorem dX1_width_1 : decode cX1_width 1 = .ok (.getfield 9, 3) := dk_180 0 9 (dk_at dksX1_width_0 1 rfl rfl)
theorem dX1_width_4 : decode cX1_width 4 = .ok (.instanceof 17, 3) := dk_193 0 17 (dk_at dksX1_width_0 4 rfl rfl)
theorem dX1_width_7 : decode cX1_width 7 = .ok (.ifCond .eq 7, 3) := dk_153 0 7 (dk_at dksX1_width_0 7 rfl rfl)
theorem dX1_width_10 : decode cX1_width 10 = .ok (.iconst 0, 1) := dk_3 (dk_at dksX1_width_0 10 rfl rfl)
theorem dX1_width_11 : decode cX1_width 11 = .ok (.goto 32, 3) := dk_167 0 32 (dk_at dksX1_width_0 11 rfl rfl)
theorem dX1_width_14 : decode cX1_width 14 = .ok (.aload_n 0, 1) := dk_42 (dk_at dksX1_width_0 14 rfl rfl)
theorem dX1_width_15 : decode cX1_width 15 = .ok (.getfield 9, 3) := dk_180 0 9 (dk_at dksX1_width_0 15 rfl rfl)
theorem dX1_width_18 : decode cX1_width 18 = .ok (.instanceof 19, 3) := dk_193 0 19 (dk_at dksX1_width_0 18 rfl rfl)
theorem dX1_width_21 : decode cX1_width 21 = .ok (.ifCond .eq 7, 3) := dk_153 0 7 (dk_at dksX1_width_0 21 rfl rfl)
theorem dX1_width_24 : decode cX1_width 24 = .ok (.iconst 1, 1) := dk_4 (dk_at dksX1_width_1 0 rfl rfl)
theorem dX1_width_25 : decode cX1_width 25 = .ok (.goto 18, 3) := dk_167 0 18 (dk_at dksX1_width_1 1 rfl rfl)
theorem dX1_width_28 : decode cX1_width 28 = .ok (.aload_n 0, 1) := dk_42 (dk_at dksX1_width_1 4 rfl rfl)
theorem dX1_width_29 : decode cX1_width 29 = .ok (.getfield 9, 3) := dk_180 0 9 (dk_at dksX1_width_1 5 rfl rfl)
theorem dX1_width_32 : decode cX1_width 32 = .ok (.instanceof 21, 3) := dk_193 0 21 (dk_at dksX1_width_1 8 rfl rfl)
theorem dX1_width_35 : decode cX1_width 35 = .ok (.ifCond .eq 7, 3) := dk_153 0 7 (dk_at dksX1_width_1 11 rfl rfl)
theorem dX1_width_38 : decode cX1_width 38 = .ok (.iconst 2, 1) := dk_5 (dk_at dksX1_width_1 14 rfl rfl)
theorem dX1_width_39 : decode cX1_width 39 = .ok (.goto 4, 3) := dk_167 0 4 (dk_at dksX1_width_1 15 rfl rfl)
theorem dX1_width_42 : decode cX1_width 42 = .ok (.iconst 3, 1) := dk_6 (dk_at dksX1_width_1 18 rfl rfl)
theorem dX1_width_43 : decode cX1_width 43 = .ok (.ireturn, 1) := dk_172 (dk_at dksX1_width_1 19 rfl rfl)
abbrev cX1_init : ByteArray := prog_14_method_1_code
def yX1_init : MethodName := ⟨RX1, "<init>", "()V"⟩
theorem dX1_init_0 : decode cX1_init 0 = .ok (.aload_n 0, 1) := by decide +kernel
theorem dX1_init_1 : decode cX1_init 1 = .ok (.invokespecial 3, 3) := by decide +kernel
theorem dX1_init_4 : decode cX1_init 4 = .ok (.return_, 1) := by decide +kernel
abbrev cX1_many : ByteArray := prog_14_method_3_code
def yX1_many : MethodName := ⟨RX1, "many", "()I"⟩
def dkwX1_many_2 : List UInt8 := [153, 0, 14, 42, 180, 0, 9, 192, 0, 21, 190, 167, 0, 11, 42, 180, 0, 9, 192, 0, 23, 190, 172]
abbrev dktX1_many_2 : List UInt8 := dkwX1_many_2 ++ []
def dkwX1_many_1 : List UInt8 := [193, 0, 19, 153, 0, 12, 42, 180, 0, 9, 192, 0, 19, 190, 172, 42, 180, 0, 9, 193, 0, 21]
abbrev dktX1_many_1 : List UInt8 := dkwX1_many_1 ++ dktX1_many_2
def dkwX1_many_0 : List UInt8 := [42, 180, 0, 9, 193, 0, 17, 153, 0, 12, 42, 180, 0, 9, 192, 0, 17, 190, 172, 42, 180, 0, 9]
abbrev dktX1_many_0 : List UInt8 := dkwX1_many_0 ++ dktX1_many_1
theorem dksX1_many_0 : cX1_many.data.toList.drop 0 = dktX1_many_0 := by decide +kernel
theorem dksX1_many_1 : cX1_many.data.toList.drop 23 = dktX1_many_1 := dk_seg dksX1_many_0 23 rfl rfl
theorem dksX1_many_2 : cX1_many.data.toList.drop 45 = dktX1_many_2 := dk_seg dksX1_many_1 22 rfl rfl
theorem dX1_many_0 : decode cX1_many 0 = .ok (.aload_n 0, 1) := dk_42 (dk_at dksX1_many_0 0 rfl rfl)
theorem dX1_many_1 : decode cX1_many 1 = .ok (.getfield 9, 3) := dk_180 0 9 (dk_at dksX1_many_0 1 rfl rfl)
theorem dX1_many_4 : decode cX1_many 4 = .ok (.instanceof 17, 3) := dk_193 0 17 (dk_at dksX1_many_0 4 rfl rfl)
theorem dX1_many_7 : decode cX1_many 7 = .ok (.ifCond .eq 12, 3) := dk_153 0 12 (dk_at dksX1_many_0 7 rfl rfl)
theorem dX1_many_10 : decode cX1_many 10 = .ok (.aload_n 0, 1) := dk_42 (dk_at dksX1_many_0 10 rfl rfl)
theorem dX1_many_11 : decode cX1_many 11 = .ok (.getfield 9, 3) := dk_180 0 9 (dk_at dksX1_many_0 11 rfl rfl)
theorem dX1_many_14 : decode cX1_many 14 = .ok (.checkcast 17, 3) := dk_192 0 17 (dk_at dksX1_many_0 14 rfl rfl)
theorem dX1_many_17 : decode cX1_many 17 = .ok (.arraylength, 1) := dk_190 (dk_at dksX1_many_0 17 rfl rfl)
theorem dX1_many_18 : decode cX1_many 18 = .ok (.ireturn, 1) := dk_172 (dk_at dksX1_many_0 18 rfl rfl)
theorem dX1_many_19 : decode cX1_many 19 = .ok (.aload_n 0, 1) := dk_42 (dk_at dksX1_many_0 19 rfl rfl)
theorem dX1_many_20 : decode cX1_many 20 = .ok (.getfield 9, 3) := dk_180 0 9 (dk_at dksX1_many_0 20 rfl rfl)
theorem dX1_many_23 : decode cX1_many 23 = .ok (.instanceof 19, 3) := dk_193 0 19 (dk_at dksX1_many_1 0 rfl rfl)
theorem dX1_many_26 : decode cX1_many 26 = .ok (.ifCond .eq 12, 3) := dk_153 0 12 (dk_at dksX1_many_1 3 rfl rfl)
theorem dX1_many_29 : decode cX1_many 29 = .ok (.aload_n 0, 1) := dk_42 (dk_at dksX1_many_1 6 rfl rfl)
theorem dX1_many_30 : decode cX1_many 30 = .ok (.getfield 9, 3) := dk_180 0 9 (dk_at dksX1_many_1 7 rfl rfl)
theorem dX1_many_33 : decode cX1_many 33 = .ok (.checkcast 19, 3) := dk_192 0 19 (dk_at dksX1_many_1 10 rfl rfl)
theorem dX1_many_36 : decode cX1_many 36 = .ok (.arraylength, 1) := dk_190 (dk_at dksX1_many_1 13 rfl rfl)
theorem dX1_many_37 : decode cX1_many 37 = .ok (.ireturn, 1) := dk_172 (dk_at dksX1_many_1 14 rfl rfl)
theorem dX1_many_38 : decode cX1_many 38 = .ok (.aload_n 0, 1) := dk_42 (dk_at dksX1_many_1 15 rfl rfl)
theorem dX1_many_39 : decode cX1_many 39 = .ok (.getfield 9, 3) := dk_180 0 9 (dk_at dksX1_many_1 16 rfl rfl)
theorem dX1_many_42 : decode cX1_many 42 = .ok (.instanceof 21, 3) := dk_193 0 21 (dk_at dksX1_many_1 19 rfl rfl)
theorem dX1_many_45 : decode cX1_many 45 = .ok (.ifCond .eq 14, 3) := dk_153 0 14 (dk_at dksX1_many_2 0 rfl rfl)
theorem dX1_many_48 : decode cX1_many 48 = .ok (.aload_n 0, 1) := dk_42 (dk_at dksX1_many_2 3 rfl rfl)
theorem dX1_many_49 : decode cX1_many 49 = .ok (.getfield 9, 3) := dk_180 0 9 (dk_at dksX1_many_2 4 rfl rfl)
theorem dX1_many_52 : decode cX1_many 52 = .ok (.checkcast 21, 3) := dk_192 0 21 (dk_at dksX1_many_2 7 rfl rfl)
theorem dX1_many_55 : decode cX1_many 55 = .ok (.arraylength, 1) := dk_190 (dk_at dksX1_many_2 10 rfl rfl)
theorem dX1_many_56 : decode cX1_many 56 = .ok (.goto 11, 3) := dk_167 0 11 (dk_at dksX1_many_2 11 rfl rfl)
theorem dX1_many_59 : decode cX1_many 59 = .ok (.aload_n 0, 1) := dk_42 (dk_at dksX1_many_2 14 rfl rfl)
theorem dX1_many_60 : decode cX1_many 60 = .ok (.getfield 9, 3) := dk_180 0 9 (dk_at dksX1_many_2 15 rfl rfl)
theorem dX1_many_63 : decode cX1_many 63 = .ok (.checkcast 23, 3) := dk_192 0 23 (dk_at dksX1_many_2 18 rfl rfl)
theorem dX1_many_66 : decode cX1_many 66 = .ok (.arraylength, 1) := dk_190 (dk_at dksX1_many_2 21 rfl rfl)
theorem dX1_many_67 : decode cX1_many 67 = .ok (.ireturn, 1) := dk_172 (dk_at dksX1_many_2 22 rfl rfl)
abbrev cX1_number : ByteArray := prog_14_method_4_code
def yX1_number : MethodName := ⟨RX1, "number", "(I)J"⟩
def dkwX1_number_3 : List UInt8 := [192, 0, 23, 27, 47, 173]
abbrev dktX1_number_3 : List UInt8 := dkwX1_number_3 ++ []
def dkwX1_number_2 : List UInt8 := [193, 0, 21, 153, 0, 16, 42, 180, 0, 9, 192, 0, 21, 27, 46, 133, 167, 0, 12, 42, 180, 0, 9]
abbrev dktX1_number_2 : List UInt8 := dkwX1_number_2 ++ dktX1_number_3
def dkwX1_number_1 : List UInt8 := [180, 0, 9, 193, 0, 19, 153, 0, 14, 42, 180, 0, 9, 192, 0, 19, 27, 53, 133, 173, 42, 180, 0, 9]
abbrev dktX1_number_1 : List UInt8 := dkwX1_number_1 ++ dktX1_number_2
def dkwX1_number_0 : List UInt8 := [42, 180, 0, 9, 193, 0, 17, 153, 0, 14, 42, 180, 0, 9, 192, 0, 17, 27, 51, 133, 173, 42]
abbrev dktX1_number_0 : List UInt8 := dkwX1_number_0 ++ dktX1_number_1
theorem dksX1_number_0 : cX1_number.data.toList.drop 0 = dktX1_number_0 := by decide +kernel
theorem dksX1_number_1 : cX1_number.data.toList.drop 22 = dktX1_number_1 := dk_seg dksX1_number_0 22 rfl rfl
theorem dksX1_number_2 : cX1_number.data.toList.drop 46 = dktX1_number_2 := dk_seg dksX1_number_1 24 rfl rfl
theorem dksX1_number_3 : cX1_number.data.toList.drop 69 = dktX1_number_3 := dk_seg dksX1_number_2 23 rfl rfl
theorem dX1_number_0 : decode cX1_number 0 = .ok (.aload_n 0, 1) := dk_42 (dk_at dksX1_number_0 0 rfl rfl)
theorem dX1_number_1 : decode cX1_number 1 = .ok (.getfield 9, 3) := dk_180 0 9 (dk_at dksX1_number_0 1 rfl rfl)
theorem dX1_number_4 : decode cX1_number 4 = .ok (.instanceof 17, 3) := dk_193 0 17 (dk_at dksX1_number_0 4 rfl rfl)
theorem dX1_number_7 : decode cX1_number 7 = .ok (.ifCond .eq 14, 3) := dk_153 0 14 (dk_at dksX1_number_0 7 rfl rfl)
theorem dX1_number_10 : decode cX1_number 10 = .ok (.aload_n 0, 1) := dk_42 (dk_at dksX1_number_0 10 rfl rfl)
theorem dX1_number_11 : decode cX1_number 11 = .ok (.getfield 9, 3) := dk_180 0 9 (dk_at dksX1_number_0 11 rfl rfl)
theorem dX1_number_14 : decode cX1_number 14 = .ok (.checkcast 17, 3) := dk_192 0 17 (dk_at dksX1_number_0 14 rfl rfl)
theorem dX1_number_17 : decode cX1_number 17 = .ok (.iload_n 1, 1) := dk_27 (dk_at dksX1_number_0 17 rfl rfl)
theorem dX1_number_18 : decode cX1_number 18 = .ok (.baload, 1) := dk_51 (dk_at dksX1_number_0 18 rfl rfl)
theorem dX1_number_19 : decode cX1_number 19 = .ok (.i2l, 1) := dk_133 (dk_at dksX1_number_0 19 rfl rfl)
theorem dX1_number_20 : decode cX1_number 20 = .ok (.lreturn, 1) := dk_173 (dk_at dksX1_number_0 20 rfl rfl)
theorem dX1_number_21 : decode cX1_number 21 = .ok (.aload_n 0, 1) := dk_42 (dk_at dksX1_number_0 21 rfl rfl)
theorem dX1_number_22 : decode cX1_number 22 = .ok (.getfield 9, 3) := dk_180 0 9 (dk_at dksX1_number_1 0 rfl rfl)
theorem dX1_number_25 : decode cX1_number 25 = .ok (.instanceof 19, 3) := dk_193 0 19 (dk_at dksX1_number_1 3 rfl rfl)
theorem dX1_number_28 : decode cX1_number 28 = .ok (.ifCond .eq 14, 3) := dk_153 0 14 (dk_at dksX1_number_1 6 rfl rfl)
theorem dX1_number_31 : decode cX1_number 31 = .ok (.aload_n 0, 1) := dk_42 (dk_at dksX1_number_1 9 rfl rfl)
theorem dX1_number_32 : decode cX1_number 32 = .ok (.getfield 9, 3) := dk_180 0 9 (dk_at dksX1_number_1 10 rfl rfl)
theorem dX1_number_35 : decode cX1_number 35 = .ok (.checkcast 19, 3) := dk_192 0 19 (dk_at dksX1_number_1 13 rfl rfl)
theorem dX1_number_38 : decode cX1_number 38 = .ok (.iload_n 1, 1) := dk_27 (dk_at dksX1_number_1 16 rfl rfl)
theorem dX1_number_39 : decode cX1_number 39 = .ok (.saload, 1) := dk_53 (dk_at dksX1_number_1 17 rfl rfl)
theorem dX1_number_40 : decode cX1_number 40 = .ok (.i2l, 1) := dk_133 (dk_at dksX1_number_1 18 rfl rfl)
theorem dX1_number_41 : decode cX1_number 41 = .ok (.lreturn, 1) := dk_173 (dk_at dksX1_number_1 19 rfl rfl)
theorem dX1_number_42 : decode cX1_number 42 = .ok (.aload_n 0, 1) := dk_42 (dk_at dksX1_number_1 20 rfl rfl)
theorem dX1_number_43 : decode cX1_number 43 = .ok (.getfield 9, 3) := dk_180 0 9 (dk_at dksX1_number_1 21 rfl rfl)
theorem dX1_number_46 : decode cX1_number 46 = .ok (.instanceof 21, 3) := dk_193 0 21 (dk_at dksX1_number_2 0 rfl rfl)
theorem dX1_number_49 : decode cX1_number 49 = .ok (.ifCond .eq 16, 3) := dk_153 0 16 (dk_at dksX1_number_2 3 rfl rfl)
theorem dX1_number_52 : decode cX1_number 52 = .ok (.aload_n 0, 1) := dk_42 (dk_at dksX1_number_2 6 rfl rfl)
theorem dX1_number_53 : decode cX1_number 53 = .ok (.getfield 9, 3) := dk_180 0 9 (dk_at dksX1_number_2 7 rfl rfl)
theorem dX1_number_56 : decode cX1_number 56 = .ok (.checkcast 21, 3) := dk_192 0 21 (dk_at dksX1_number_2 10 rfl rfl)
theorem dX1_number_59 : decode cX1_number 59 = .ok (.iload_n 1, 1) := dk_27 (dk_at dksX1_number_2 13 rfl rfl)
theorem dX1_number_60 : decode cX1_number 60 = .ok (.iaload, 1) := dk_46 (dk_at dksX1_number_2 14 rfl rfl)
theorem dX1_number_61 : decode cX1_number 61 = .ok (.i2l, 1) := dk_133 (dk_at dksX1_number_2 15 rfl rfl)
theorem dX1_number_62 : decode cX1_number 62 = .ok (.goto 12, 3) := dk_167 0 12 (dk_at dksX1_number_2 16 rfl rfl)
theorem dX1_number_65 : decode cX1_number 65 = .ok (.aload_n 0, 1) := dk_42 (dk_at dksX1_number_2 19 rfl rfl)
theorem dX1_number_66 : decode cX1_number 66 = .ok (.getfield 9, 3) := dk_180 0 9 (dk_at dksX1_number_2 20 rfl rfl)
theorem dX1_number_69 : decode cX1_number 69 = .ok (.checkcast 23, 3) := dk_192 0 23 (dk_at dksX1_number_3 0 rfl rfl)
theorem dX1_number_72 : decode cX1_number 72 = .ok (.iload_n 1, 1) := dk_27 (dk_at dksX1_number_3 3 rfl rfl)
theorem dX1_number_73 : decode cX1_number 73 = .ok (.laload, 1) := dk_47 (dk_at dksX1_number_3 4 rfl rfl)
theorem dX1_number_74 : decode cX1_number 74 = .ok (.lreturn, 1) := dk_173 (dk_at dksX1_number_3 5 rfl rfl)
theorem q146 : (Jvm.Cond.initialized "MoleBoard$Slot") ∈ lw_all := lw_g (lw_at lw_m1 2 rfl) rfl
theorem q194 : (Jvm.Cond.instanceMethod ({ cls := "MoleBoard$Slot", name := "begins", desc := "(II)Z" } : Jvm.MethodName)) ∈ lw_all := lw_g (lw_at lw_m1 50 rfl) rfl
theorem q195 : (Jvm.Cond.selects "MoleBoard$Slot" ({ cls := "MoleBoard$Slot", name := "begins", desc := "(II)Z" } : Jvm.MethodName) ({ cls := "MoleBoard$Slot", name := "begins", desc := "(II)Z" } : Jvm.MethodName)) ∈ lw_all := lw_g (lw_at lw_m1 51 rfl) rfl
theorem q196 : (Jvm.Cond.codeWith ({ cls := "MoleBoard$Slot", name := "begins", desc := "(II)Z" } : Jvm.MethodName) prog_14_method_2_code (4 : Nat) (Option.some Jvm.ClassFile.FieldType.boolean) [((0 : Nat), (65 : Nat), (68 : Nat), (15 : Nat))]) ∈ lw_all := lw_g (lw_at lw_m1 52 rfl) rfl
theorem q197 : (Jvm.Cond.classLink "MoleBoard$Slot" (15 : Nat) "java/lang/NegativeArraySizeException") ∈ lw_all := lw_g (lw_at lw_m1 53 rfl) rfl
theorem q293 : (Jvm.Cond.instanceMethod ({ cls := "MoleBoard$Slot", name := "puts", desc := "(IJ)I" } : Jvm.MethodName)) ∈ lw_all := lw_g (lw_at lw_m1 149 rfl) rfl
theorem q294 : (Jvm.Cond.selects "MoleBoard$Slot" ({ cls := "MoleBoard$Slot", name := "puts", desc := "(IJ)I" } : Jvm.MethodName) ({ cls := "MoleBoard$Slot", name := "puts", desc := "(IJ)I" } : Jvm.MethodName)) ∈ lw_all := lw_g (lw_at lw_m1 150 rfl) rfl
theorem q295 : (Jvm.Cond.codeWith ({ cls := "MoleBoard$Slot", name := "puts", desc := "(IJ)I" } : Jvm.MethodName) prog_14_method_5_code (5 : Nat) (Option.some Jvm.ClassFile.FieldType.int) [((0 : Nat), (6 : Nat), (9 : Nat), (29 : Nat)), ((0 : Nat), (6 : Nat), (14 : Nat), (31 : Nat))]) ∈ lw_all := lw_g (lw_at lw_m1 151 rfl) rfl
theorem q296 : (Jvm.Cond.classLink "MoleBoard$Slot" (29 : Nat) "java/lang/NullPointerException") ∈ lw_all := lw_g (lw_at lw_m1 152 rfl) rfl
theorem q321 : (Jvm.Cond.classLink "MoleBoard$Slot" (31 : Nat) "java/lang/ArrayIndexOutOfBoundsException") ∈ lw_all := lw_g (lw_at lw_m1 177 rfl) rfl
theorem q340 : (Jvm.Cond.methodLink "MoleBoard$Slot" (25 : Nat) ({ cls := "MoleBoard$Slot", name := "put", desc := "(IJ)V" } : Jvm.MethodName)) ∈ lw_all := lw_g (lw_at lw_m1 196 rfl) rfl
theorem q341 : (Jvm.Cond.privateMethod ({ cls := "MoleBoard$Slot", name := "put", desc := "(IJ)V" } : Jvm.MethodName)) ∈ lw_tbl := lw_at lw_m1 197 rfl
theorem q342 : (Jvm.Cond.instanceMethod ({ cls := "MoleBoard$Slot", name := "put", desc := "(IJ)V" } : Jvm.MethodName)) ∈ lw_all := lw_g (lw_at lw_m1 198 rfl) rfl
theorem q343 : (Jvm.Cond.instantiable "MoleBoard$Slot" (1 : Nat)) ∈ lw_all := lw_g (lw_at lw_m1 199 rfl) rfl
theorem q344 : (Jvm.Cond.code ({ cls := "MoleBoard$Slot", name := "put", desc := "(IJ)V" } : Jvm.MethodName) prog_14_method_6_code (5 : Nat) (Option.none : Option Jvm.ClassFile.FieldType)) ∈ lw_all := lw_g (lw_at lw_m1 200 rfl) rfl
theorem q345 : (Jvm.Cond.classLink "MoleBoard$Slot" (17 : Nat) "[B") ∈ lw_all := lw_g (lw_at lw_m1 201 rfl) rfl
theorem q346 : (Jvm.Cond.classLink "MoleBoard$Slot" (19 : Nat) "[S") ∈ lw_all := lw_g (lw_at lw_m1 202 rfl) rfl
theorem q347 : (Jvm.Cond.methodLink "MoleBoard$Slot" (33 : Nat) ({ cls := "MoleBoard$Slot", name := "putWider", desc := "(IJ)V" } : Jvm.MethodName)) ∈ lw_all := lw_g (lw_at lw_m1 203 rfl) rfl
theorem q348 : (Jvm.Cond.privateMethod ({ cls := "MoleBoard$Slot", name := "putWider", desc := "(IJ)V" } : Jvm.MethodName)) ∈ lw_tbl := lw_at lw_m1 204 rfl
theorem q349 : (Jvm.Cond.instanceMethod ({ cls := "MoleBoard$Slot", name := "putWider", desc := "(IJ)V" } : Jvm.MethodName)) ∈ lw_all := lw_g (lw_at lw_m1 205 rfl) rfl
theorem q350 : (Jvm.Cond.codeWith ({ cls := "MoleBoard$Slot", name := "putWider", desc := "(IJ)V" } : Jvm.MethodName) prog_14_method_7_code (6 : Nat) (Option.none : Option Jvm.ClassFile.FieldType) [((0 : Nat), (15 : Nat), (18 : Nat), (36 : Nat))]) ∈ lw_all := lw_g (lw_at lw_m1 206 rfl) rfl
theorem q351 : (Jvm.Cond.classLink "MoleBoard$Slot" (36 : Nat) "java/lang/ClassCastException") ∈ lw_all := lw_g (lw_at lw_m1 207 rfl) rfl
theorem q365 : (Jvm.Cond.classLink "MoleBoard$Slot" (21 : Nat) "[I") ∈ lw_all := lw_g (lw_at lw_m1 221 rfl) rfl
theorem q366 : (Jvm.Cond.classLink "MoleBoard$Slot" (23 : Nat) "[J") ∈ lw_all := lw_g (lw_at lw_m1 222 rfl) rfl
theorem q372 : (Jvm.Cond.instanceMethod ({ cls := "MoleBoard$Slot", name := "pastes", desc := "(ILMoleBoard$Slot;II)I" } : Jvm.MethodName)) ∈ lw_all := lw_g (lw_at lw_m1 228 rfl) rfl
theorem q373 : (Jvm.Cond.selects "MoleBoard$Slot" ({ cls := "MoleBoard$Slot", name := "pastes", desc := "(ILMoleBoard$Slot;II)I" } : Jvm.MethodName) ({ cls := "MoleBoard$Slot", name := "pastes", desc := "(ILMoleBoard$Slot;II)I" } : Jvm.MethodName)) ∈ lw_all := lw_g (lw_at lw_m1 229 rfl) rfl
theorem q374 : (Jvm.Cond.codeWith ({ cls := "MoleBoard$Slot", name := "pastes", desc := "(ILMoleBoard$Slot;II)I" } : Jvm.MethodName) prog_14_method_9_code (6 : Nat) (Option.some Jvm.ClassFile.FieldType.int) [((31 : Nat), (46 : Nat), (49 : Nat), (48 : Nat))]) ∈ lw_all := lw_g (lw_at lw_m1 230 rfl) rfl
theorem q375 : (Jvm.Cond.classLink "MoleBoard$Slot" (48 : Nat) "java/lang/IndexOutOfBoundsException") ∈ lw_all := lw_g (lw_at lw_m1 231 rfl) rfl
theorem q376 : (Jvm.Cond.methodLink "MoleBoard$Slot" (38 : Nat) ({ cls := "MoleBoard$Slot", name := "width", desc := "()I" } : Jvm.MethodName)) ∈ lw_all := lw_g (lw_at lw_m1 232 rfl) rfl
theorem q377 : (Jvm.Cond.privateMethod ({ cls := "MoleBoard$Slot", name := "width", desc := "()I" } : Jvm.MethodName)) ∈ lw_tbl := lw_at lw_m1 233 rfl
theorem q378 : (Jvm.Cond.instanceMethod ({ cls := "MoleBoard$Slot", name := "width", desc := "()I" } : Jvm.MethodName)) ∈ lw_all := lw_g (lw_at lw_m1 234 rfl) rfl
theorem q379 : (Jvm.Cond.code ({ cls := "MoleBoard$Slot", name := "width", desc := "()I" } : Jvm.MethodName) prog_14_method_8_code (1 : Nat) (Option.some Jvm.ClassFile.FieldType.int)) ∈ lw_all := lw_g (lw_at lw_m1 235 rfl) rfl
theorem q380 : (Jvm.Cond.methodLink "MoleBoard$Slot" (42 : Nat) ({ cls := "java/lang/System", name := "arraycopy", desc := "(Ljava/lang/Object;ILjava/lang/Object;II)V" } : Jvm.MethodName)) ∈ lw_all := lw_g (lw_at lw_m1 236 rfl) rfl
theorem q392 : (Jvm.Cond.instanceMethod ({ cls := "MoleBoard$Slot", name := "<init>", desc := "()V" } : Jvm.MethodName)) ∈ lw_all := lw_g (lw_at lw_m2 8 rfl) rfl
theorem q393 : (Jvm.Cond.code ({ cls := "MoleBoard$Slot", name := "<init>", desc := "()V" } : Jvm.MethodName) prog_14_method_1_code (1 : Nat) (Option.none : Option Jvm.ClassFile.FieldType)) ∈ lw_all := lw_g (lw_at lw_m2 9 rfl) rfl
theorem q394 : (Jvm.Cond.methodLink "MoleBoard$Slot" (3 : Nat) ({ cls := "java/lang/Object", name := "<init>", desc := "()V" } : Jvm.MethodName)) ∈ lw_all := lw_g (lw_at lw_m2 10 rfl) rfl
theorem q395 : (Jvm.Cond.fieldLink "MoleBoard$Slot" (9 : Nat) "MoleBoard$Slot" "held" "Ljava/lang/Object;") ∈ lw_all := lw_g (lw_at lw_m2 11 rfl) rfl
theorem q397 : (Jvm.Cond.lays "MoleBoard$Slot" "MoleBoard$Slot" "held" "Ljava/lang/Object;") ∈ lw_all := lw_g (lw_at lw_m2 13 rfl) rfl
theorem q398 : (Jvm.Cond.soleField "MoleBoard$Slot" "held") ∈ lw_all := lw_g (lw_at lw_m2 14 rfl) rfl
theorem q399 : (Jvm.Cond.superclass "MoleBoard$Slot" "java/lang/Object") ∈ lw_all := lw_g (lw_at lw_m2 15 rfl) rfl
theorem q1124 : (Jvm.Cond.selects "MoleBoard$Slot" ({ cls := "java/lang/Object", name := "getClass", desc := "()Ljava/lang/Class;" } : Jvm.MethodName) ({ cls := "java/lang/Object", name := "getClass", desc := "()Ljava/lang/Class;" } : Jvm.MethodName)) ∈ lw_all := lw_g (lw_at lw_m5 20 rfl) rfl
theorem q1566 : (Jvm.Cond.instanceMethod ({ cls := "MoleBoard$Slot", name := "many", desc := "()I" } : Jvm.MethodName)) ∈ lw_all := lw_g (lw_at lw_m6 222 rfl) rfl
theorem q1567 : (Jvm.Cond.selects "MoleBoard$Slot" ({ cls := "MoleBoard$Slot", name := "many", desc := "()I" } : Jvm.MethodName) ({ cls := "MoleBoard$Slot", name := "many", desc := "()I" } : Jvm.MethodName)) ∈ lw_all := lw_g (lw_at lw_m6 223 rfl) rfl
theorem q1568 : (Jvm.Cond.code ({ cls := "MoleBoard$Slot", name := "many", desc := "()I" } : Jvm.MethodName) prog_14_method_3_code (1 : Nat) (Option.some Jvm.ClassFile.FieldType.int)) ∈ lw_all := lw_g (lw_at lw_m6 224 rfl) rfl
theorem q1570 : (Jvm.Cond.instanceMethod ({ cls := "MoleBoard$Slot", name := "number", desc := "(I)J" } : Jvm.MethodName)) ∈ lw_all := lw_g (lw_at lw_m6 226 rfl) rfl
theorem q1571 : (Jvm.Cond.selects "MoleBoard$Slot" ({ cls := "MoleBoard$Slot", name := "number", desc := "(I)J" } : Jvm.MethodName) ({ cls := "MoleBoard$Slot", name := "number", desc := "(I)J" } : Jvm.MethodName)) ∈ lw_all := lw_g (lw_at lw_m6 227 rfl) rfl
theorem q1572 : (Jvm.Cond.code ({ cls := "MoleBoard$Slot", name := "number", desc := "(I)J" } : Jvm.MethodName) prog_14_method_4_code (2 : Nat) (Option.some Jvm.ClassFile.FieldType.long)) ∈ lw_all := lw_g (lw_at lw_m6 228 rfl) rfl
theorem q2656 : (Jvm.Cond.castable "MoleBoard$Slot" "java/lang/Object") ∈ lw_tbl := lw_at lw_m11 112 rfl
/-! MoleBoard$Board -/
set_option maxRecDepth 100000
set_option maxRecDepth 100000 in
set_option maxRecDepth 100000 in
abbrev cX2_init : ByteArray := prog_4_method_1_code
def yX2_init : MethodName := ⟨RX2, "<init>", "()V"⟩
def dkwX2_init_2 : List UInt8 := [181, 0, 30, 42, 16, 100, 181, 0, 34, 177]
abbrev dktX2_init_2 : List UInt8 := dkwX2_init_2 ++ []
def dkwX2_init_1 : List UInt8 := [183, 0, 11, 181, 0, 20, 42, 16, 6, 188, 10, 181, 0, 23, 42, 16, 6, 188, 10, 181, 0, 27, 42, 4]
abbrev dktX2_init_1 : List UInt8 := dkwX2_init_1 ++ dktX2_init_2
def dkwX2_init_0 : List UInt8 := [42, 183, 0, 3, 42, 187, 0, 9, 89, 16, 24, 183, 0, 11, 181, 0, 14, 42, 187, 0, 9, 89, 7]
abbrev dktX2_init_0 : List UInt8 := dkwX2_init_0 ++ dktX2_init_1
theorem dksX2_init_0 : cX2_init.data.toList.drop 0 = dktX2_init_0 := by decide +kernel
theorem dksX2_init_1 : cX2_init.data.toList.drop 23 = dktX2_init_1 := dk_seg dksX2_init_0 23 rfl rfl
theorem dksX2_init_2 : cX2_init.data.toList.drop 47 = dktX2_init_2 := dk_seg dksX2_init_1 24 rfl rfl
theorem dX2_init_0 : decode cX2_init 0 = .ok (.aload_n 0, 1) := dk_42 (dk_at dksX2_init_0 0 rfl rfl)
theorem dX2_init_1 : decode cX2_init 1 = .ok (.invokespecial 3, 3) := dk_183 0 3 (dk_at dksX2_init_0 1 rfl rfl)
theorem dX2_init_4 : decode cX2_init 4 = .ok (.aload_n 0, 1) := dk_42 (dk_at dksX2_init_0 4 rfl rfl)
theorem dX2_init_5 : decode cX2_init 5 = .ok (.new 9, 3) := dk_187 0 9 (dk_at dksX2_init_0 5 rfl rfl)
theorem dX2_init_8 : decode cX2_init 8 = .ok (.dup, 1) := dk_89 (dk_at dksX2_init_0 8 rfl rfl)
theorem dX2_init_9 : decode cX2_init 9 = .ok (.bipush 24, 2) := dk_16 24 (dk_at dksX2_init_0 9 rfl rfl)
theorem dX2_init_11 : decode cX2_init 11 = .ok (.invokespecial 11, 3) := dk_183 0 11 (dk_at dksX2_init_0 11 rfl rfl)
theorem dX2_init_14 : decode cX2_init 14 = .ok (.putfield 14, 3) := dk_181 0 14 (dk_at dksX2_init_0 14 rfl rfl)
theorem dX2_init_17 : decode cX2_init 17 = .ok (.aload_n 0, 1) := dk_42 (dk_at dksX2_init_0 17 rfl rfl)
theorem dX2_init_18 : decode cX2_init 18 = .ok (.new 9, 3) := dk_187 0 9 (dk_at dksX2_init_0 18 rfl rfl)
theorem dX2_init_21 : decode cX2_init 21 = .ok (.dup, 1) := dk_89 (dk_at dksX2_init_0 21 rfl rfl)
theorem dX2_init_22 : decode cX2_init 22 = .ok (.iconst 4, 1) := dk_7 (dk_at dksX2_init_0 22 rfl rfl)
theorem dX2_init_23 : decode cX2_init 23 = .ok (.invokespecial 11, 3) := dk_183 0 11 (dk_at dksX2_init_1 0 rfl rfl)
theorem dX2_init_26 : decode cX2_init 26 = .ok (.putfield 20, 3) := dk_181 0 20 (dk_at dksX2_init_1 3 rfl rfl)
theorem dX2_init_29 : decode cX2_init 29 = .ok (.aload_n 0, 1) := dk_42 (dk_at dksX2_init_1 6 rfl rfl)
theorem dX2_init_30 : decode cX2_init 30 = .ok (.bipush 6, 2) := dk_16 6 (dk_at dksX2_init_1 7 rfl rfl)
theorem dX2_init_32 : decode cX2_init 32 = .ok (.newarray .int, 2) := dk_188_10 (dk_at dksX2_init_1 9 rfl rfl)
theorem dX2_init_34 : decode cX2_init 34 = .ok (.putfield 23, 3) := dk_181 0 23 (dk_at dksX2_init_1 11 rfl rfl)
theorem dX2_init_37 : decode cX2_init 37 = .ok (.aload_n 0, 1) := dk_42 (dk_at dksX2_init_1 14 rfl rfl)
theorem dX2_init_38 : decode cX2_init 38 = .ok (.bipush 6, 2) := dk_16 6 (dk_at dksX2_init_1 15 rfl rfl)
theorem dX2_init_40 : decode cX2_init 40 = .ok (.newarray .int, 2) := dk_188_10 (dk_at dksX2_init_1 17 rfl rfl)
theorem dX2_init_42 : decode cX2_init 42 = .ok (.putfield 27, 3) := dk_181 0 27 (dk_at dksX2_init_1 19 rfl rfl)
theorem dX2_init_45 : decode cX2_init 45 = .ok (.aload_n 0, 1) := dk_42 (dk_at dksX2_init_1 22 rfl rfl)
theorem dX2_init_46 : decode cX2_init 46 = .ok (.iconst 1, 1) := dk_4 (dk_at dksX2_init_1 23 rfl rfl)
theorem dX2_init_47 : decode cX2_init 47 = .ok (.putfield 30, 3) := dk_181 0 30 (dk_at dksX2_init_2 0 rfl rfl)
theorem dX2_init_50 : decode cX2_init 50 = .ok (.aload_n 0, 1) := dk_42 (dk_at dksX2_init_2 3 rfl rfl)
theorem dX2_init_51 : decode cX2_init 51 = .ok (.bipush 100, 2) := dk_16 100 (dk_at dksX2_init_2 4 rfl rfl)
theorem dX2_init_53 : decode cX2_init 53 = .ok (.putfield 34, 3) := dk_181 0 34 (dk_at dksX2_init_2 6 rfl rfl)
theorem dX2_init_56 : decode cX2_init 56 = .ok (.return_, 1) := dk_177 (dk_at dksX2_init_2 9 rfl rfl)
abbrev cX2_stayOf : ByteArray := prog_4_method_4_code
def yX2_stayOf : MethodName := ⟨RX2, "stayOf", "(I)I"⟩
def dkwX2_stayOf_1 : List UInt8 := [132, 2, 1, 167, 255, 233, 2, 172]
abbrev dktX2_stayOf_1 : List UInt8 := dkwX2_stayOf_1 ++ []
def dkwX2_stayOf_0 : List UInt8 := [3, 61, 28, 42, 180, 0, 46, 162, 0, 21, 42, 180, 0, 23, 28, 46, 27, 160, 0, 5, 28, 172]
abbrev dktX2_stayOf_0 : List UInt8 := dkwX2_stayOf_0 ++ dktX2_stayOf_1
theorem dksX2_stayOf_0 : cX2_stayOf.data.toList.drop 0 = dktX2_stayOf_0 := by decide +kernel
theorem dksX2_stayOf_1 : cX2_stayOf.data.toList.drop 22 = dktX2_stayOf_1 := dk_seg dksX2_stayOf_0 22 rfl rfl
theorem dX2_stayOf_0 : decode cX2_stayOf 0 = .ok (.iconst 0, 1) := dk_3 (dk_at dksX2_stayOf_0 0 rfl rfl)
theorem dX2_stayOf_1 : decode cX2_stayOf 1 = .ok (.istore_n 2, 1) := dk_61 (dk_at dksX2_stayOf_0 1 rfl rfl)
theorem dX2_stayOf_2 : decode cX2_stayOf 2 = .ok (.iload_n 2, 1) := dk_28 (dk_at dksX2_stayOf_0 2 rfl rfl)
theorem dX2_stayOf_3 : decode cX2_stayOf 3 = .ok (.aload_n 0, 1) := dk_42 (dk_at dksX2_stayOf_0 3 rfl rfl)
theorem dX2_stayOf_4 : decode cX2_stayOf 4 = .ok (.getfield 46, 3) := dk_180 0 46 (dk_at dksX2_stayOf_0 4 rfl rfl)
theorem dX2_stayOf_7 : decode cX2_stayOf 7 = .ok (.if_icmp .ge 21, 3) := dk_162 0 21 (dk_at dksX2_stayOf_0 7 rfl rfl)
theorem dX2_stayOf_10 : decode cX2_stayOf 10 = .ok (.aload_n 0, 1) := dk_42 (dk_at dksX2_stayOf_0 10 rfl rfl)
theorem dX2_stayOf_11 : decode cX2_stayOf 11 = .ok (.getfield 23, 3) := dk_180 0 23 (dk_at dksX2_stayOf_0 11 rfl rfl)
theorem dX2_stayOf_14 : decode cX2_stayOf 14 = .ok (.iload_n 2, 1) := dk_28 (dk_at dksX2_stayOf_0 14 rfl rfl)
theorem dX2_stayOf_15 : decode cX2_stayOf 15 = .ok (.iaload, 1) := dk_46 (dk_at dksX2_stayOf_0 15 rfl rfl)
theorem dX2_stayOf_16 : decode cX2_stayOf 16 = .ok (.iload_n 1, 1) := dk_27 (dk_at dksX2_stayOf_0 16 rfl rfl)
theorem dX2_stayOf_17 : decode cX2_stayOf 17 = .ok (.if_icmp .ne 5, 3) := dk_160 0 5 (dk_at dksX2_stayOf_0 17 rfl rfl)
theorem dX2_stayOf_20 : decode cX2_stayOf 20 = .ok (.iload_n 2, 1) := dk_28 (dk_at dksX2_stayOf_0 20 rfl rfl)
theorem dX2_stayOf_21 : decode cX2_stayOf 21 = .ok (.ireturn, 1) := dk_172 (dk_at dksX2_stayOf_0 21 rfl rfl)
theorem dX2_stayOf_22 : decode cX2_stayOf 22 = .ok (.iinc 2 1, 3) := dk_132 2 1 (dk_at dksX2_stayOf_1 0 rfl rfl)
theorem dX2_stayOf_25 : decode cX2_stayOf 25 = .ok (.goto (-23), 3) := dk_167 255 233 (dk_at dksX2_stayOf_1 3 rfl rfl)
theorem dX2_stayOf_28 : decode cX2_stayOf 28 = .ok (.iconst (-1), 1) := dk_2 (dk_at dksX2_stayOf_1 6 rfl rfl)
theorem dX2_stayOf_29 : decode cX2_stayOf 29 = .ok (.ireturn, 1) := dk_172 (dk_at dksX2_stayOf_1 7 rfl rfl)
abbrev cX2_holes : ByteArray := prog_4_method_3_code
def yX2_holes : MethodName := ⟨RX2, "holes", "()I"⟩
def dkwX2_holes_0 : List UInt8 := [42, 180, 0, 40, 42, 180, 0, 43, 104, 172]
abbrev dktX2_holes_0 : List UInt8 := dkwX2_holes_0 ++ []
theorem dksX2_holes_0 : cX2_holes.data.toList.drop 0 = dktX2_holes_0 := by decide +kernel
theorem dX2_holes_0 : decode cX2_holes 0 = .ok (.aload_n 0, 1) := dk_42 (dk_at dksX2_holes_0 0 rfl rfl)
theorem dX2_holes_1 : decode cX2_holes 1 = .ok (.getfield 40, 3) := dk_180 0 40 (dk_at dksX2_holes_0 1 rfl rfl)
theorem dX2_holes_4 : decode cX2_holes 4 = .ok (.aload_n 0, 1) := dk_42 (dk_at dksX2_holes_0 4 rfl rfl)
theorem dX2_holes_5 : decode cX2_holes 5 = .ok (.getfield 43, 3) := dk_180 0 43 (dk_at dksX2_holes_0 5 rfl rfl)
theorem dX2_holes_8 : decode cX2_holes 8 = .ok (.imul, 1) := dk_104 (dk_at dksX2_holes_0 8 rfl rfl)
theorem dX2_holes_9 : decode cX2_holes 9 = .ok (.ireturn, 1) := dk_172 (dk_at dksX2_holes_0 9 rfl rfl)
abbrev cX2_isComing : ByteArray := prog_4_method_6_code
def yX2_isComing : MethodName := ⟨RX2, "isComing", "(I)Z"⟩
def dkwX2_isComing_1 : List UInt8 := [185, 0, 61, 1, 0, 192, 0, 65, 78, 45, 27, 182, 0, 67, 153, 0, 5, 4, 172, 167, 255, 227, 3, 172]
abbrev dktX2_isComing_1 : List UInt8 := dkwX2_isComing_1 ++ []
def dkwX2_isComing_0 : List UInt8 := [42, 180, 0, 14, 185, 0, 49, 1, 0, 77, 44, 185, 0, 55, 1, 0, 153, 0, 26, 44]
abbrev dktX2_isComing_0 : List UInt8 := dkwX2_isComing_0 ++ dktX2_isComing_1
theorem dksX2_isComing_0 : cX2_isComing.data.toList.drop 0 = dktX2_isComing_0 := by decide +kernel
theorem dksX2_isComing_1 : cX2_isComing.data.toList.drop 20 = dktX2_isComing_1 := dk_seg dksX2_isComing_0 20 rfl rfl
theorem dX2_isComing_0 : decode cX2_isComing 0 = .ok (.aload_n 0, 1) := dk_42 (dk_at dksX2_isComing_0 0 rfl rfl)
theorem dX2_isComing_1 : decode cX2_isComing 1 = .ok (.getfield 14, 3) := dk_180 0 14 (dk_at dksX2_isComing_0 1 rfl rfl)
theorem dX2_isComing_4 : decode cX2_isComing 4 = .ok (.invokeinterface 49 1, 5) := by decide +kernel
theorem dX2_isComing_9 : decode cX2_isComing 9 = .ok (.astore_n 2, 1) := dk_77 (dk_at dksX2_isComing_0 9 rfl rfl)
theorem dX2_isComing_10 : decode cX2_isComing 10 = .ok (.aload_n 2, 1) := dk_44 (dk_at dksX2_isComing_0 10 rfl rfl)
theorem dX2_isComing_11 : decode cX2_isComing 11 = .ok (.invokeinterface 55 1, 5) := by decide +kernel
theorem dX2_isComing_16 : decode cX2_isComing 16 = .ok (.ifCond .eq 26, 3) := dk_153 0 26 (dk_at dksX2_isComing_0 16 rfl rfl)
theorem dX2_isComing_19 : decode cX2_isComing 19 = .ok (.aload_n 2, 1) := dk_44 (dk_at dksX2_isComing_0 19 rfl rfl)
theorem dX2_isComing_20 : decode cX2_isComing 20 = .ok (.invokeinterface 61 1, 5) := by decide +kernel
theorem dX2_isComing_25 : decode cX2_isComing 25 = .ok (.checkcast 65, 3) := dk_192 0 65 (dk_at dksX2_isComing_1 5 rfl rfl)
theorem dX2_isComing_28 : decode cX2_isComing 28 = .ok (.astore_n 3, 1) := dk_78 (dk_at dksX2_isComing_1 8 rfl rfl)
theorem dX2_isComing_29 : decode cX2_isComing 29 = .ok (.aload_n 3, 1) := dk_45 (dk_at dksX2_isComing_1 9 rfl rfl)
theorem dX2_isComing_30 : decode cX2_isComing 30 = .ok (.iload_n 1, 1) := dk_27 (dk_at dksX2_isComing_1 10 rfl rfl)
theorem dX2_isComing_31 : decode cX2_isComing 31 = .ok (.invokevirtual 67, 3) := dk_182 0 67 (dk_at dksX2_isComing_1 11 rfl rfl)
theorem dX2_isComing_34 : decode cX2_isComing 34 = .ok (.ifCond .eq 5, 3) := dk_153 0 5 (dk_at dksX2_isComing_1 14 rfl rfl)
theorem dX2_isComing_37 : decode cX2_isComing 37 = .ok (.iconst 1, 1) := dk_4 (dk_at dksX2_isComing_1 17 rfl rfl)
theorem dX2_isComing_38 : decode cX2_isComing 38 = .ok (.ireturn, 1) := dk_172 (dk_at dksX2_isComing_1 18 rfl rfl)
theorem dX2_isComing_39 : decode cX2_isComing 39 = .ok (.goto (-29), 3) := dk_167 255 227 (dk_at dksX2_isComing_1 19 rfl rfl)
theorem dX2_isComing_42 : decode cX2_isComing 42 = .ok (.iconst 0, 1) := dk_3 (dk_at dksX2_isComing_1 22 rfl rfl)
theorem dX2_isComing_43 : decode cX2_isComing 43 = .ok (.ireturn, 1) := dk_172 (dk_at dksX2_isComing_1 23 rfl rfl)
abbrev cX2_is : ByteArray := prog_4_method_2_code
def yX2_is : MethodName := ⟨RX2, "is", "()Z"⟩
def dkwX2_is_0 : List UInt8 := [42, 180, 0, 37, 158, 0, 7, 4, 167, 0, 4, 3, 172]
abbrev dktX2_is_0 : List UInt8 := dkwX2_is_0 ++ []
theorem dksX2_is_0 : cX2_is.data.toList.drop 0 = dktX2_is_0 := by decide +kernel
theorem dX2_is_0 : decode cX2_is 0 = .ok (.aload_n 0, 1) := dk_42 (dk_at dksX2_is_0 0 rfl rfl)
theorem dX2_is_1 : decode cX2_is 1 = .ok (.getfield 37, 3) := dk_180 0 37 (dk_at dksX2_is_0 1 rfl rfl)
theorem dX2_is_4 : decode cX2_is 4 = .ok (.ifCond .le 7, 3) := dk_158 0 7 (dk_at dksX2_is_0 4 rfl rfl)
theorem dX2_is_7 : decode cX2_is 7 = .ok (.iconst 1, 1) := dk_4 (dk_at dksX2_is_0 7 rfl rfl)
theorem dX2_is_8 : decode cX2_is 8 = .ok (.goto 4, 3) := dk_167 0 4 (dk_at dksX2_is_0 8 rfl rfl)
theorem dX2_is_11 : decode cX2_is 11 = .ok (.iconst 0, 1) := dk_3 (dk_at dksX2_is_0 11 rfl rfl)
theorem dX2_is_12 : decode cX2_is 12 = .ok (.ireturn, 1) := dk_172 (dk_at dksX2_is_0 12 rfl rfl)
abbrev cX2_stay : ByteArray := prog_4_method_5_code
def yX2_stay : MethodName := ⟨RX2, "stay", "(I)I"⟩
def dkwX2_stay_2 : List UInt8 := [167, 255, 213, 28, 2, 160, 0, 8, 16, 7, 167, 0, 9, 42, 180, 0, 27, 28, 46, 172]
abbrev dktX2_stay_2 : List UInt8 := dkwX2_stay_2 ++ []
def dkwX2_stay_1 : List UInt8 := [159, 0, 18, 42, 180, 0, 23, 29, 46, 42, 180, 0, 23, 28, 46, 164, 0, 5, 29, 61, 132, 3, 1]
abbrev dktX2_stay_1 : List UInt8 := dkwX2_stay_1 ++ dktX2_stay_2
def dkwX2_stay_0 : List UInt8 := [2, 61, 3, 62, 29, 42, 180, 0, 46, 162, 0, 41, 42, 180, 0, 23, 29, 46, 27, 163, 0, 25, 28, 2]
abbrev dktX2_stay_0 : List UInt8 := dkwX2_stay_0 ++ dktX2_stay_1
theorem dksX2_stay_0 : cX2_stay.data.toList.drop 0 = dktX2_stay_0 := by decide +kernel
theorem dksX2_stay_1 : cX2_stay.data.toList.drop 24 = dktX2_stay_1 := dk_seg dksX2_stay_0 24 rfl rfl
theorem dksX2_stay_2 : cX2_stay.data.toList.drop 47 = dktX2_stay_2 := dk_seg dksX2_stay_1 23 rfl rfl
theorem dX2_stay_0 : decode cX2_stay 0 = .ok (.iconst (-1), 1) := dk_2 (dk_at dksX2_stay_0 0 rfl rfl)
theorem dX2_stay_1 : decode cX2_stay 1 = .ok (.istore_n 2, 1) := dk_61 (dk_at dksX2_stay_0 1 rfl rfl)
theorem dX2_stay_2 : decode cX2_stay 2 = .ok (.iconst 0, 1) := dk_3 (dk_at dksX2_stay_0 2 rfl rfl)
theorem dX2_stay_3 : decode cX2_stay 3 = .ok (.istore_n 3, 1) := dk_62 (dk_at dksX2_stay_0 3 rfl rfl)
theorem dX2_stay_4 : decode cX2_stay 4 = .ok (.iload_n 3, 1) := dk_29 (dk_at dksX2_stay_0 4 rfl rfl)
theorem dX2_stay_5 : decode cX2_stay 5 = .ok (.aload_n 0, 1) := dk_42 (dk_at dksX2_stay_0 5 rfl rfl)
theorem dX2_stay_6 : decode cX2_stay 6 = .ok (.getfield 46, 3) := dk_180 0 46 (dk_at dksX2_stay_0 6 rfl rfl)
theorem dX2_stay_9 : decode cX2_stay 9 = .ok (.if_icmp .ge 41, 3) := dk_162 0 41 (dk_at dksX2_stay_0 9 rfl rfl)
theorem dX2_stay_12 : decode cX2_stay 12 = .ok (.aload_n 0, 1) := dk_42 (dk_at dksX2_stay_0 12 rfl rfl)
theorem dX2_stay_13 : decode cX2_stay 13 = .ok (.getfield 23, 3) := dk_180 0 23 (dk_at dksX2_stay_0 13 rfl rfl)
theorem dX2_stay_16 : decode cX2_stay 16 = .ok (.iload_n 3, 1) := dk_29 (dk_at dksX2_stay_0 16 rfl rfl)
theorem dX2_stay_17 : decode cX2_stay 17 = .ok (.iaload, 1) := dk_46 (dk_at dksX2_stay_0 17 rfl rfl)
theorem dX2_stay_18 : decode cX2_stay 18 = .ok (.iload_n 1, 1) := dk_27 (dk_at dksX2_stay_0 18 rfl rfl)
theorem dX2_stay_19 : decode cX2_stay 19 = .ok (.if_icmp .gt 25, 3) := dk_163 0 25 (dk_at dksX2_stay_0 19 rfl rfl)
theorem dX2_stay_22 : decode cX2_stay 22 = .ok (.iload_n 2, 1) := dk_28 (dk_at dksX2_stay_0 22 rfl rfl)
theorem dX2_stay_23 : decode cX2_stay 23 = .ok (.iconst (-1), 1) := dk_2 (dk_at dksX2_stay_0 23 rfl rfl)
theorem dX2_stay_24 : decode cX2_stay 24 = .ok (.if_icmp .eq 18, 3) := dk_159 0 18 (dk_at dksX2_stay_1 0 rfl rfl)
theorem dX2_stay_27 : decode cX2_stay 27 = .ok (.aload_n 0, 1) := dk_42 (dk_at dksX2_stay_1 3 rfl rfl)
theorem dX2_stay_28 : decode cX2_stay 28 = .ok (.getfield 23, 3) := dk_180 0 23 (dk_at dksX2_stay_1 4 rfl rfl)
theorem dX2_stay_31 : decode cX2_stay 31 = .ok (.iload_n 3, 1) := dk_29 (dk_at dksX2_stay_1 7 rfl rfl)
theorem dX2_stay_32 : decode cX2_stay 32 = .ok (.iaload, 1) := dk_46 (dk_at dksX2_stay_1 8 rfl rfl)
theorem dX2_stay_33 : decode cX2_stay 33 = .ok (.aload_n 0, 1) := dk_42 (dk_at dksX2_stay_1 9 rfl rfl)
theorem dX2_stay_34 : decode cX2_stay 34 = .ok (.getfield 23, 3) := dk_180 0 23 (dk_at dksX2_stay_1 10 rfl rfl)
theorem dX2_stay_37 : decode cX2_stay 37 = .ok (.iload_n 2, 1) := dk_28 (dk_at dksX2_stay_1 13 rfl rfl)
theorem dX2_stay_38 : decode cX2_stay 38 = .ok (.iaload, 1) := dk_46 (dk_at dksX2_stay_1 14 rfl rfl)
theorem dX2_stay_39 : decode cX2_stay 39 = .ok (.if_icmp .le 5, 3) := dk_164 0 5 (dk_at dksX2_stay_1 15 rfl rfl)
theorem dX2_stay_42 : decode cX2_stay 42 = .ok (.iload_n 3, 1) := dk_29 (dk_at dksX2_stay_1 18 rfl rfl)
theorem dX2_stay_43 : decode cX2_stay 43 = .ok (.istore_n 2, 1) := dk_61 (dk_at dksX2_stay_1 19 rfl rfl)
theorem dX2_stay_44 : decode cX2_stay 44 = .ok (.iinc 3 1, 3) := dk_132 3 1 (dk_at dksX2_stay_1 20 rfl rfl)
theorem dX2_stay_47 : decode cX2_stay 47 = .ok (.goto (-43), 3) := dk_167 255 213 (dk_at dksX2_stay_2 0 rfl rfl)
theorem dX2_stay_50 : decode cX2_stay 50 = .ok (.iload_n 2, 1) := dk_28 (dk_at dksX2_stay_2 3 rfl rfl)
theorem dX2_stay_51 : decode cX2_stay 51 = .ok (.iconst (-1), 1) := dk_2 (dk_at dksX2_stay_2 4 rfl rfl)
theorem dX2_stay_52 : decode cX2_stay 52 = .ok (.if_icmp .ne 8, 3) := dk_160 0 8 (dk_at dksX2_stay_2 5 rfl rfl)
theorem dX2_stay_55 : decode cX2_stay 55 = .ok (.bipush 7, 2) := dk_16 7 (dk_at dksX2_stay_2 8 rfl rfl)
theorem dX2_stay_57 : decode cX2_stay 57 = .ok (.goto 9, 3) := dk_167 0 9 (dk_at dksX2_stay_2 10 rfl rfl)
theorem dX2_stay_60 : decode cX2_stay 60 = .ok (.aload_n 0, 1) := dk_42 (dk_at dksX2_stay_2 13 rfl rfl)
theorem dX2_stay_61 : decode cX2_stay 61 = .ok (.getfield 27, 3) := dk_180 0 27 (dk_at dksX2_stay_2 14 rfl rfl)
theorem dX2_stay_64 : decode cX2_stay 64 = .ok (.iload_n 2, 1) := dk_28 (dk_at dksX2_stay_2 17 rfl rfl)
theorem dX2_stay_65 : decode cX2_stay 65 = .ok (.iaload, 1) := dk_46 (dk_at dksX2_stay_2 18 rfl rfl)
theorem dX2_stay_66 : decode cX2_stay 66 = .ok (.ireturn, 1) := dk_172 (dk_at dksX2_stay_2 19 rfl rfl)
abbrev cX2_same : ByteArray := prog_4_method_7_code
def yX2_same : MethodName := ⟨RX2, "same", "()LMoleBoard$Board;"⟩
def dkwX2_same_9 : List UInt8 := [181, 0, 100, 43, 176]
abbrev dktX2_same_9 : List UInt8 := dkwX2_same_9 ++ []
def dkwX2_same_8 : List UInt8 := [181, 0, 30, 43, 42, 180, 0, 34, 181, 0, 34, 43, 42, 180, 0, 37, 181, 0, 37, 43, 42, 180, 0, 100]
abbrev dktX2_same_8 : List UInt8 := dkwX2_same_8 ++ dktX2_same_9
def dkwX2_same_7 : List UInt8 := [181, 0, 94, 43, 42, 180, 0, 46, 181, 0, 46, 43, 42, 180, 0, 97, 181, 0, 97, 43, 42, 180, 0, 30]
abbrev dktX2_same_7 : List UInt8 := dkwX2_same_7 ++ dktX2_same_8
def dkwX2_same_6 : List UInt8 := [181, 0, 40, 43, 42, 180, 0, 43, 181, 0, 43, 43, 42, 180, 0, 91, 181, 0, 91, 43, 42, 180, 0, 94]
abbrev dktX2_same_6 : List UInt8 := dkwX2_same_6 ++ dktX2_same_7
def dkwX2_same_5 : List UInt8 := [184, 0, 85, 42, 180, 0, 27, 3, 43, 180, 0, 27, 3, 16, 6, 184, 0, 85, 43, 42, 180, 0, 40]
abbrev dktX2_same_5 : List UInt8 := dkwX2_same_5 ++ dktX2_same_6
def dkwX2_same_4 : List UInt8 := [182, 0, 82, 185, 0, 76, 2, 0, 87, 167, 255, 223, 42, 180, 0, 23, 3, 43, 180, 0, 23, 3, 16, 6]
abbrev dktX2_same_4 : List UInt8 := dkwX2_same_4 ++ dktX2_same_5
def dkwX2_same_3 : List UInt8 := [185, 0, 55, 1, 0, 153, 0, 30, 44, 185, 0, 61, 1, 0, 192, 0, 80, 78, 43, 180, 0, 20, 45]
abbrev dktX2_same_3 : List UInt8 := dkwX2_same_3 ++ dktX2_same_4
def dkwX2_same_2 : List UInt8 := [185, 0, 76, 2, 0, 87, 167, 255, 223, 42, 180, 0, 20, 185, 0, 49, 1, 0, 77, 44]
abbrev dktX2_same_2 : List UInt8 := dkwX2_same_2 ++ dktX2_same_3
def dkwX2_same_1 : List UInt8 := [153, 0, 30, 44, 185, 0, 61, 1, 0, 192, 0, 65, 78, 43, 180, 0, 14, 45, 182, 0, 72]
abbrev dktX2_same_1 : List UInt8 := dkwX2_same_1 ++ dktX2_same_2
def dkwX2_same_0 : List UInt8 := [187, 0, 15, 89, 183, 0, 71, 76, 42, 180, 0, 14, 185, 0, 49, 1, 0, 77, 44, 185, 0, 55, 1, 0]
abbrev dktX2_same_0 : List UInt8 := dkwX2_same_0 ++ dktX2_same_1
theorem dksX2_same_0 : cX2_same.data.toList.drop 0 = dktX2_same_0 := by decide +kernel
theorem dksX2_same_1 : cX2_same.data.toList.drop 24 = dktX2_same_1 := dk_seg dksX2_same_0 24 rfl rfl
theorem dksX2_same_2 : cX2_same.data.toList.drop 45 = dktX2_same_2 := dk_seg dksX2_same_1 21 rfl rfl
theorem dksX2_same_3 : cX2_same.data.toList.drop 65 = dktX2_same_3 := dk_seg dksX2_same_2 20 rfl rfl
theorem dksX2_same_4 : cX2_same.data.toList.drop 88 = dktX2_same_4 := dk_seg dksX2_same_3 23 rfl rfl
theorem dksX2_same_5 : cX2_same.data.toList.drop 112 = dktX2_same_5 := dk_seg dksX2_same_4 24 rfl rfl
theorem dksX2_same_6 : cX2_same.data.toList.drop 135 = dktX2_same_6 := dk_seg dksX2_same_5 23 rfl rfl
theorem dksX2_same_7 : cX2_same.data.toList.drop 159 = dktX2_same_7 := dk_seg dksX2_same_6 24 rfl rfl
theorem dksX2_same_8 : cX2_same.data.toList.drop 183 = dktX2_same_8 := dk_seg dksX2_same_7 24 rfl rfl
theorem dksX2_same_9 : cX2_same.data.toList.drop 207 = dktX2_same_9 := dk_seg dksX2_same_8 24 rfl rfl
theorem dX2_same_0 : decode cX2_same 0 = .ok (.new 15, 3) := dk_187 0 15 (dk_at dksX2_same_0 0 rfl rfl)
theorem dX2_same_3 : decode cX2_same 3 = .ok (.dup, 1) := dk_89 (dk_at dksX2_same_0 3 rfl rfl)
theorem dX2_same_4 : decode cX2_same 4 = .ok (.invokespecial 71, 3) := dk_183 0 71 (dk_at dksX2_same_0 4 rfl rfl)
theorem dX2_same_7 : decode cX2_same 7 = .ok (.astore_n 1, 1) := dk_76 (dk_at dksX2_same_0 7 rfl rfl)
theorem dX2_same_8 : decode cX2_same 8 = .ok (.aload_n 0, 1) := dk_42 (dk_at dksX2_same_0 8 rfl rfl)
theorem dX2_same_9 : decode cX2_same 9 = .ok (.getfield 14, 3) := dk_180 0 14 (dk_at dksX2_same_0 9 rfl rfl)
theorem dX2_same_12 : decode cX2_same 12 = .ok (.invokeinterface 49 1, 5) := by decide +kernel
theorem dX2_same_17 : decode cX2_same 17 = .ok (.astore_n 2, 1) := dk_77 (dk_at dksX2_same_0 17 rfl rfl)
theorem dX2_same_18 : decode cX2_same 18 = .ok (.aload_n 2, 1) := dk_44 (dk_at dksX2_same_0 18 rfl rfl)
theorem dX2_same_19 : decode cX2_same 19 = .ok (.invokeinterface 55 1, 5) := by decide +kernel
theorem dX2_same_24 : decode cX2_same 24 = .ok (.ifCond .eq 30, 3) := dk_153 0 30 (dk_at dksX2_same_1 0 rfl rfl)
theorem dX2_same_27 : decode cX2_same 27 = .ok (.aload_n 2, 1) := dk_44 (dk_at dksX2_same_1 3 rfl rfl)
theorem dX2_same_28 : decode cX2_same 28 = .ok (.invokeinterface 61 1, 5) := by decide +kernel
theorem dX2_same_33 : decode cX2_same 33 = .ok (.checkcast 65, 3) := dk_192 0 65 (dk_at dksX2_same_1 9 rfl rfl)
theorem dX2_same_36 : decode cX2_same 36 = .ok (.astore_n 3, 1) := dk_78 (dk_at dksX2_same_1 12 rfl rfl)
theorem dX2_same_37 : decode cX2_same 37 = .ok (.aload_n 1, 1) := dk_43 (dk_at dksX2_same_1 13 rfl rfl)
theorem dX2_same_38 : decode cX2_same 38 = .ok (.getfield 14, 3) := dk_180 0 14 (dk_at dksX2_same_1 14 rfl rfl)
theorem dX2_same_41 : decode cX2_same 41 = .ok (.aload_n 3, 1) := dk_45 (dk_at dksX2_same_1 17 rfl rfl)
theorem dX2_same_42 : decode cX2_same 42 = .ok (.invokevirtual 72, 3) := dk_182 0 72 (dk_at dksX2_same_1 18 rfl rfl)
theorem dX2_same_45 : decode cX2_same 45 = .ok (.invokeinterface 76 2, 5) := by decide +kernel
theorem dX2_same_50 : decode cX2_same 50 = .ok (.pop, 1) := dk_87 (dk_at dksX2_same_2 5 rfl rfl)
theorem dX2_same_51 : decode cX2_same 51 = .ok (.goto (-33), 3) := dk_167 255 223 (dk_at dksX2_same_2 6 rfl rfl)
theorem dX2_same_54 : decode cX2_same 54 = .ok (.aload_n 0, 1) := dk_42 (dk_at dksX2_same_2 9 rfl rfl)
theorem dX2_same_55 : decode cX2_same 55 = .ok (.getfield 20, 3) := dk_180 0 20 (dk_at dksX2_same_2 10 rfl rfl)
theorem dX2_same_58 : decode cX2_same 58 = .ok (.invokeinterface 49 1, 5) := by decide +kernel
theorem dX2_same_63 : decode cX2_same 63 = .ok (.astore_n 2, 1) := dk_77 (dk_at dksX2_same_2 18 rfl rfl)
theorem dX2_same_64 : decode cX2_same 64 = .ok (.aload_n 2, 1) := dk_44 (dk_at dksX2_same_2 19 rfl rfl)
theorem dX2_same_65 : decode cX2_same 65 = .ok (.invokeinterface 55 1, 5) := by decide +kernel
theorem dX2_same_70 : decode cX2_same 70 = .ok (.ifCond .eq 30, 3) := dk_153 0 30 (dk_at dksX2_same_3 5 rfl rfl)
theorem dX2_same_73 : decode cX2_same 73 = .ok (.aload_n 2, 1) := dk_44 (dk_at dksX2_same_3 8 rfl rfl)
theorem dX2_same_74 : decode cX2_same 74 = .ok (.invokeinterface 61 1, 5) := by decide +kernel
theorem dX2_same_79 : decode cX2_same 79 = .ok (.checkcast 80, 3) := dk_192 0 80 (dk_at dksX2_same_3 14 rfl rfl)
theorem dX2_same_82 : decode cX2_same 82 = .ok (.astore_n 3, 1) := dk_78 (dk_at dksX2_same_3 17 rfl rfl)
theorem dX2_same_83 : decode cX2_same 83 = .ok (.aload_n 1, 1) := dk_43 (dk_at dksX2_same_3 18 rfl rfl)
theorem dX2_same_84 : decode cX2_same 84 = .ok (.getfield 20, 3) := dk_180 0 20 (dk_at dksX2_same_3 19 rfl rfl)
theorem dX2_same_87 : decode cX2_same 87 = .ok (.aload_n 3, 1) := dk_45 (dk_at dksX2_same_3 22 rfl rfl)
theorem dX2_same_88 : decode cX2_same 88 = .ok (.invokevirtual 82, 3) := dk_182 0 82 (dk_at dksX2_same_4 0 rfl rfl)
theorem dX2_same_91 : decode cX2_same 91 = .ok (.invokeinterface 76 2, 5) := by decide +kernel
theorem dX2_same_96 : decode cX2_same 96 = .ok (.pop, 1) := dk_87 (dk_at dksX2_same_4 8 rfl rfl)
theorem dX2_same_97 : decode cX2_same 97 = .ok (.goto (-33), 3) := dk_167 255 223 (dk_at dksX2_same_4 9 rfl rfl)
theorem dX2_same_100 : decode cX2_same 100 = .ok (.aload_n 0, 1) := dk_42 (dk_at dksX2_same_4 12 rfl rfl)
theorem dX2_same_101 : decode cX2_same 101 = .ok (.getfield 23, 3) := dk_180 0 23 (dk_at dksX2_same_4 13 rfl rfl)
theorem dX2_same_104 : decode cX2_same 104 = .ok (.iconst 0, 1) := dk_3 (dk_at dksX2_same_4 16 rfl rfl)
theorem dX2_same_105 : decode cX2_same 105 = .ok (.aload_n 1, 1) := dk_43 (dk_at dksX2_same_4 17 rfl rfl)
theorem dX2_same_106 : decode cX2_same 106 = .ok (.getfield 23, 3) := dk_180 0 23 (dk_at dksX2_same_4 18 rfl rfl)
theorem dX2_same_109 : decode cX2_same 109 = .ok (.iconst 0, 1) := dk_3 (dk_at dksX2_same_4 21 rfl rfl)
theorem dX2_same_110 : decode cX2_same 110 = .ok (.bipush 6, 2) := dk_16 6 (dk_at dksX2_same_4 22 rfl rfl)
theorem dX2_same_112 : decode cX2_same 112 = .ok (.invokestatic 85, 3) := dk_184 0 85 (dk_at dksX2_same_5 0 rfl rfl)
theorem dX2_same_115 : decode cX2_same 115 = .ok (.aload_n 0, 1) := dk_42 (dk_at dksX2_same_5 3 rfl rfl)
theorem dX2_same_116 : decode cX2_same 116 = .ok (.getfield 27, 3) := dk_180 0 27 (dk_at dksX2_same_5 4 rfl rfl)
theorem dX2_same_119 : decode cX2_same 119 = .ok (.iconst 0, 1) := dk_3 (dk_at dksX2_same_5 7 rfl rfl)
theorem dX2_same_120 : decode cX2_same 120 = .ok (.aload_n 1, 1) := dk_43 (dk_at dksX2_same_5 8 rfl rfl)
theorem dX2_same_121 : decode cX2_same 121 = .ok (.getfield 27, 3) := dk_180 0 27 (dk_at dksX2_same_5 9 rfl rfl)
theorem dX2_same_124 : decode cX2_same 124 = .ok (.iconst 0, 1) := dk_3 (dk_at dksX2_same_5 12 rfl rfl)
theorem dX2_same_125 : decode cX2_same 125 = .ok (.bipush 6, 2) := dk_16 6 (dk_at dksX2_same_5 13 rfl rfl)
theorem dX2_same_127 : decode cX2_same 127 = .ok (.invokestatic 85, 3) := dk_184 0 85 (dk_at dksX2_same_5 15 rfl rfl)
theorem dX2_same_130 : decode cX2_same 130 = .ok (.aload_n 1, 1) := dk_43 (dk_at dksX2_same_5 18 rfl rfl)
theorem dX2_same_131 : decode cX2_same 131 = .ok (.aload_n 0, 1) := dk_42 (dk_at dksX2_same_5 19 rfl rfl)
theorem dX2_same_132 : decode cX2_same 132 = .ok (.getfield 40, 3) := dk_180 0 40 (dk_at dksX2_same_5 20 rfl rfl)
theorem dX2_same_135 : decode cX2_same 135 = .ok (.putfield 40, 3) := dk_181 0 40 (dk_at dksX2_same_6 0 rfl rfl)
theorem dX2_same_138 : decode cX2_same 138 = .ok (.aload_n 1, 1) := dk_43 (dk_at dksX2_same_6 3 rfl rfl)
theorem dX2_same_139 : decode cX2_same 139 = .ok (.aload_n 0, 1) := dk_42 (dk_at dksX2_same_6 4 rfl rfl)
theorem dX2_same_140 : decode cX2_same 140 = .ok (.getfield 43, 3) := dk_180 0 43 (dk_at dksX2_same_6 5 rfl rfl)
theorem dX2_same_143 : decode cX2_same 143 = .ok (.putfield 43, 3) := dk_181 0 43 (dk_at dksX2_same_6 8 rfl rfl)
theorem dX2_same_146 : decode cX2_same 146 = .ok (.aload_n 1, 1) := dk_43 (dk_at dksX2_same_6 11 rfl rfl)
theorem dX2_same_147 : decode cX2_same 147 = .ok (.aload_n 0, 1) := dk_42 (dk_at dksX2_same_6 12 rfl rfl)
theorem dX2_same_148 : decode cX2_same 148 = .ok (.getfield 91, 3) := dk_180 0 91 (dk_at dksX2_same_6 13 rfl rfl)
theorem dX2_same_151 : decode cX2_same 151 = .ok (.putfield 91, 3) := dk_181 0 91 (dk_at dksX2_same_6 16 rfl rfl)
theorem dX2_same_154 : decode cX2_same 154 = .ok (.aload_n 1, 1) := dk_43 (dk_at dksX2_same_6 19 rfl rfl)
theorem dX2_same_155 : decode cX2_same 155 = .ok (.aload_n 0, 1) := dk_42 (dk_at dksX2_same_6 20 rfl rfl)
theorem dX2_same_156 : decode cX2_same 156 = .ok (.getfield 94, 3) := dk_180 0 94 (dk_at dksX2_same_6 21 rfl rfl)
theorem dX2_same_159 : decode cX2_same 159 = .ok (.putfield 94, 3) := dk_181 0 94 (dk_at dksX2_same_7 0 rfl rfl)
theorem dX2_same_162 : decode cX2_same 162 = .ok (.aload_n 1, 1) := dk_43 (dk_at dksX2_same_7 3 rfl rfl)
theorem dX2_same_163 : decode cX2_same 163 = .ok (.aload_n 0, 1) := dk_42 (dk_at dksX2_same_7 4 rfl rfl)
theorem dX2_same_164 : decode cX2_same 164 = .ok (.getfield 46, 3) := dk_180 0 46 (dk_at dksX2_same_7 5 rfl rfl)
theorem dX2_same_167 : decode cX2_same 167 = .ok (.putfield 46, 3) := dk_181 0 46 (dk_at dksX2_same_7 8 rfl rfl)
theorem dX2_same_170 : decode cX2_same 170 = .ok (.aload_n 1, 1) := dk_43 (dk_at dksX2_same_7 11 rfl rfl)
theorem dX2_same_171 : decode cX2_same 171 = .ok (.aload_n 0, 1) := dk_42 (dk_at dksX2_same_7 12 rfl rfl)
theorem dX2_same_172 : decode cX2_same 172 = .ok (.getfield 97, 3) := dk_180 0 97 (dk_at dksX2_same_7 13 rfl rfl)
theorem dX2_same_175 : decode cX2_same 175 = .ok (.putfield 97, 3) := dk_181 0 97 (dk_at dksX2_same_7 16 rfl rfl)
theorem dX2_same_178 : decode cX2_same 178 = .ok (.aload_n 1, 1) := dk_43 (dk_at dksX2_same_7 19 rfl rfl)
theorem dX2_same_179 : decode cX2_same 179 = .ok (.aload_n 0, 1) := dk_42 (dk_at dksX2_same_7 20 rfl rfl)
theorem dX2_same_180 : decode cX2_same 180 = .ok (.getfield 30, 3) := dk_180 0 30 (dk_at dksX2_same_7 21 rfl rfl)
theorem dX2_same_183 : decode cX2_same 183 = .ok (.putfield 30, 3) := dk_181 0 30 (dk_at dksX2_same_8 0 rfl rfl)
theorem dX2_same_186 : decode cX2_same 186 = .ok (.aload_n 1, 1) := dk_43 (dk_at dksX2_same_8 3 rfl rfl)
theorem dX2_same_187 : decode cX2_same 187 = .ok (.aload_n 0, 1) := dk_42 (dk_at dksX2_same_8 4 rfl rfl)
theorem dX2_same_188 : decode cX2_same 188 = .ok (.getfield 34, 3) := dk_180 0 34 (dk_at dksX2_same_8 5 rfl rfl)
theorem dX2_same_191 : decode cX2_same 191 = .ok (.putfield 34, 3) := dk_181 0 34 (dk_at dksX2_same_8 8 rfl rfl)
theorem dX2_same_194 : decode cX2_same 194 = .ok (.aload_n 1, 1) := dk_43 (dk_at dksX2_same_8 11 rfl rfl)
theorem dX2_same_195 : decode cX2_same 195 = .ok (.aload_n 0, 1) := dk_42 (dk_at dksX2_same_8 12 rfl rfl)
theorem dX2_same_196 : decode cX2_same 196 = .ok (.getfield 37, 3) := dk_180 0 37 (dk_at dksX2_same_8 13 rfl rfl)
theorem dX2_same_199 : decode cX2_same 199 = .ok (.putfield 37, 3) := dk_181 0 37 (dk_at dksX2_same_8 16 rfl rfl)
theorem dX2_same_202 : decode cX2_same 202 = .ok (.aload_n 1, 1) := dk_43 (dk_at dksX2_same_8 19 rfl rfl)
theorem dX2_same_203 : decode cX2_same 203 = .ok (.aload_n 0, 1) := dk_42 (dk_at dksX2_same_8 20 rfl rfl)
theorem dX2_same_204 : decode cX2_same 204 = .ok (.getfield 100, 3) := dk_180 0 100 (dk_at dksX2_same_8 21 rfl rfl)
theorem dX2_same_207 : decode cX2_same 207 = .ok (.putfield 100, 3) := dk_181 0 100 (dk_at dksX2_same_9 0 rfl rfl)
theorem dX2_same_210 : decode cX2_same 210 = .ok (.aload_n 1, 1) := dk_43 (dk_at dksX2_same_9 3 rfl rfl)
theorem dX2_same_211 : decode cX2_same 211 = .ok (.areturn, 1) := dk_176 (dk_at dksX2_same_9 4 rfl rfl)
theorem q147 : (Jvm.Cond.initialized "MoleBoard$Board") ∈ lw_all := lw_g (lw_at lw_m1 3 rfl) rfl
theorem q401 : (Jvm.Cond.instantiable "MoleBoard$Board" (14 : Nat)) ∈ lw_all := lw_g (lw_at lw_m2 17 rfl) rfl
theorem q403 : (Jvm.Cond.instanceMethod ({ cls := "MoleBoard$Board", name := "<init>", desc := "()V" } : Jvm.MethodName)) ∈ lw_all := lw_g (lw_at lw_m2 19 rfl) rfl
theorem q404 : (Jvm.Cond.code ({ cls := "MoleBoard$Board", name := "<init>", desc := "()V" } : Jvm.MethodName) prog_4_method_1_code (1 : Nat) (Option.none : Option Jvm.ClassFile.FieldType)) ∈ lw_all := lw_g (lw_at lw_m2 20 rfl) rfl
theorem q405 : (Jvm.Cond.methodLink "MoleBoard$Board" (3 : Nat) ({ cls := "java/lang/Object", name := "<init>", desc := "()V" } : Jvm.MethodName)) ∈ lw_all := lw_g (lw_at lw_m2 21 rfl) rfl
theorem q406 : (Jvm.Cond.classLink "MoleBoard$Board" (9 : Nat) "java/util/ArrayList") ∈ lw_all := lw_g (lw_at lw_m2 22 rfl) rfl
theorem q408 : (Jvm.Cond.methodLink "MoleBoard$Board" (11 : Nat) ({ cls := "java/util/ArrayList", name := "<init>", desc := "(I)V" } : Jvm.MethodName)) ∈ lw_all := lw_g (lw_at lw_m2 24 rfl) rfl
theorem q437 : (Jvm.Cond.fieldLink "MoleBoard$Board" (14 : Nat) "MoleBoard$Board" "drum" "Ljava/util/List;") ∈ lw_all := lw_g (lw_at lw_m2 53 rfl) rfl
theorem q441 : (Jvm.Cond.fieldLink "MoleBoard$Board" (20 : Nat) "MoleBoard$Board" "players" "Ljava/util/List;") ∈ lw_all := lw_g (lw_at lw_m2 57 rfl) rfl
theorem q444 : (Jvm.Cond.fieldLink "MoleBoard$Board" (23 : Nat) "MoleBoard$Board" "from" "[I") ∈ lw_all := lw_g (lw_at lw_m2 60 rfl) rfl
theorem q446 : (Jvm.Cond.fieldLink "MoleBoard$Board" (27 : Nat) "MoleBoard$Board" "stay" "[I") ∈ lw_all := lw_g (lw_at lw_m2 62 rfl) rfl
theorem q448 : (Jvm.Cond.fieldLink "MoleBoard$Board" (40 : Nat) "MoleBoard$Board" "wide" "I") ∈ lw_all := lw_g (lw_at lw_m2 64 rfl) rfl
theorem q451 : (Jvm.Cond.fieldLink "MoleBoard$Board" (43 : Nat) "MoleBoard$Board" "high" "I") ∈ lw_all := lw_g (lw_at lw_m2 67 rfl) rfl
theorem q455 : (Jvm.Cond.fieldLink "MoleBoard$Board" (91 : Nat) "MoleBoard$Board" "ticks" "I") ∈ lw_all := lw_g (lw_at lw_m2 71 rfl) rfl
theorem q459 : (Jvm.Cond.fieldLink "MoleBoard$Board" (94 : Nat) "MoleBoard$Board" "pause" "I") ∈ lw_all := lw_g (lw_at lw_m2 75 rfl) rfl
theorem q462 : (Jvm.Cond.fieldLink "MoleBoard$Board" (46 : Nat) "MoleBoard$Board" "stays" "I") ∈ lw_all := lw_g (lw_at lw_m2 78 rfl) rfl
theorem q464 : (Jvm.Cond.fieldLink "MoleBoard$Board" (97 : Nat) "MoleBoard$Board" "shut" "I") ∈ lw_all := lw_g (lw_at lw_m2 80 rfl) rfl
theorem q467 : (Jvm.Cond.fieldLink "MoleBoard$Board" (30 : Nat) "MoleBoard$Board" "tickets" "I") ∈ lw_all := lw_g (lw_at lw_m2 83 rfl) rfl
theorem q470 : (Jvm.Cond.fieldLink "MoleBoard$Board" (34 : Nat) "MoleBoard$Board" "each" "I") ∈ lw_all := lw_g (lw_at lw_m2 86 rfl) rfl
theorem q473 : (Jvm.Cond.fieldLink "MoleBoard$Board" (37 : Nat) "MoleBoard$Board" "lines" "I") ∈ lw_all := lw_g (lw_at lw_m2 89 rfl) rfl
theorem q477 : (Jvm.Cond.fieldLink "MoleBoard$Board" (100 : Nat) "MoleBoard$Board" "stands" "I") ∈ lw_all := lw_g (lw_at lw_m2 93 rfl) rfl
theorem q479 : (Jvm.Cond.laysFinal "MoleBoard$Board" "MoleBoard$Board" "drum" "Ljava/util/List;") ∈ lw_all := lw_g (lw_at lw_m2 95 rfl) rfl
theorem q480 : (Jvm.Cond.soleField "MoleBoard$Board" "drum") ∈ lw_all := lw_g (lw_at lw_m2 96 rfl) rfl
theorem q481 : (Jvm.Cond.laysFinal "MoleBoard$Board" "MoleBoard$Board" "players" "Ljava/util/List;") ∈ lw_all := lw_g (lw_at lw_m2 97 rfl) rfl
theorem q482 : (Jvm.Cond.soleField "MoleBoard$Board" "players") ∈ lw_all := lw_g (lw_at lw_m2 98 rfl) rfl
theorem q483 : (Jvm.Cond.laysFinal "MoleBoard$Board" "MoleBoard$Board" "from" "[I") ∈ lw_all := lw_g (lw_at lw_m2 99 rfl) rfl
theorem q484 : (Jvm.Cond.soleField "MoleBoard$Board" "from") ∈ lw_all := lw_g (lw_at lw_m2 100 rfl) rfl
theorem q485 : (Jvm.Cond.laysFinal "MoleBoard$Board" "MoleBoard$Board" "stay" "[I") ∈ lw_all := lw_g (lw_at lw_m2 101 rfl) rfl
theorem q486 : (Jvm.Cond.soleField "MoleBoard$Board" "stay") ∈ lw_all := lw_g (lw_at lw_m2 102 rfl) rfl
theorem q487 : (Jvm.Cond.lays "MoleBoard$Board" "MoleBoard$Board" "wide" "I") ∈ lw_all := lw_g (lw_at lw_m2 103 rfl) rfl
theorem q488 : (Jvm.Cond.soleField "MoleBoard$Board" "wide") ∈ lw_all := lw_g (lw_at lw_m2 104 rfl) rfl
theorem q489 : (Jvm.Cond.lays "MoleBoard$Board" "MoleBoard$Board" "high" "I") ∈ lw_all := lw_g (lw_at lw_m2 105 rfl) rfl
theorem q490 : (Jvm.Cond.soleField "MoleBoard$Board" "high") ∈ lw_all := lw_g (lw_at lw_m2 106 rfl) rfl
theorem q491 : (Jvm.Cond.lays "MoleBoard$Board" "MoleBoard$Board" "ticks" "I") ∈ lw_all := lw_g (lw_at lw_m2 107 rfl) rfl
theorem q492 : (Jvm.Cond.soleField "MoleBoard$Board" "ticks") ∈ lw_all := lw_g (lw_at lw_m2 108 rfl) rfl
theorem q493 : (Jvm.Cond.lays "MoleBoard$Board" "MoleBoard$Board" "pause" "I") ∈ lw_all := lw_g (lw_at lw_m2 109 rfl) rfl
theorem q494 : (Jvm.Cond.soleField "MoleBoard$Board" "pause") ∈ lw_all := lw_g (lw_at lw_m2 110 rfl) rfl
theorem q495 : (Jvm.Cond.lays "MoleBoard$Board" "MoleBoard$Board" "stays" "I") ∈ lw_all := lw_g (lw_at lw_m2 111 rfl) rfl
theorem q496 : (Jvm.Cond.soleField "MoleBoard$Board" "stays") ∈ lw_all := lw_g (lw_at lw_m2 112 rfl) rfl
theorem q497 : (Jvm.Cond.lays "MoleBoard$Board" "MoleBoard$Board" "shut" "I") ∈ lw_all := lw_g (lw_at lw_m2 113 rfl) rfl
theorem q498 : (Jvm.Cond.soleField "MoleBoard$Board" "shut") ∈ lw_all := lw_g (lw_at lw_m2 114 rfl) rfl
theorem q499 : (Jvm.Cond.lays "MoleBoard$Board" "MoleBoard$Board" "tickets" "I") ∈ lw_all := lw_g (lw_at lw_m2 115 rfl) rfl
theorem q500 : (Jvm.Cond.soleField "MoleBoard$Board" "tickets") ∈ lw_all := lw_g (lw_at lw_m2 116 rfl) rfl
theorem q501 : (Jvm.Cond.lays "MoleBoard$Board" "MoleBoard$Board" "each" "I") ∈ lw_all := lw_g (lw_at lw_m2 117 rfl) rfl
theorem q502 : (Jvm.Cond.soleField "MoleBoard$Board" "each") ∈ lw_all := lw_g (lw_at lw_m2 118 rfl) rfl
theorem q503 : (Jvm.Cond.lays "MoleBoard$Board" "MoleBoard$Board" "lines" "I") ∈ lw_all := lw_g (lw_at lw_m2 119 rfl) rfl
theorem q504 : (Jvm.Cond.soleField "MoleBoard$Board" "lines") ∈ lw_all := lw_g (lw_at lw_m2 120 rfl) rfl
theorem q505 : (Jvm.Cond.lays "MoleBoard$Board" "MoleBoard$Board" "stands" "I") ∈ lw_all := lw_g (lw_at lw_m2 121 rfl) rfl
theorem q506 : (Jvm.Cond.soleField "MoleBoard$Board" "stands") ∈ lw_all := lw_g (lw_at lw_m2 122 rfl) rfl
theorem q507 : (Jvm.Cond.superclass "MoleBoard$Board" "java/lang/Object") ∈ lw_all := lw_g (lw_at lw_m2 123 rfl) rfl
theorem q939 : (Jvm.Cond.instanceMethod ({ cls := "MoleBoard$Board", name := "stayOf", desc := "(I)I" } : Jvm.MethodName)) ∈ lw_all := lw_g (lw_at lw_m4 75 rfl) rfl
theorem q940 : (Jvm.Cond.selects "MoleBoard$Board" ({ cls := "MoleBoard$Board", name := "stayOf", desc := "(I)I" } : Jvm.MethodName) ({ cls := "MoleBoard$Board", name := "stayOf", desc := "(I)I" } : Jvm.MethodName)) ∈ lw_all := lw_g (lw_at lw_m4 76 rfl) rfl
theorem q941 : (Jvm.Cond.code ({ cls := "MoleBoard$Board", name := "stayOf", desc := "(I)I" } : Jvm.MethodName) prog_4_method_4_code (3 : Nat) (Option.some Jvm.ClassFile.FieldType.int)) ∈ lw_all := lw_g (lw_at lw_m4 77 rfl) rfl
theorem q952 : (Jvm.Cond.instanceMethod ({ cls := "MoleBoard$Board", name := "holes", desc := "()I" } : Jvm.MethodName)) ∈ lw_all := lw_g (lw_at lw_m4 88 rfl) rfl
theorem q953 : (Jvm.Cond.selects "MoleBoard$Board" ({ cls := "MoleBoard$Board", name := "holes", desc := "()I" } : Jvm.MethodName) ({ cls := "MoleBoard$Board", name := "holes", desc := "()I" } : Jvm.MethodName)) ∈ lw_all := lw_g (lw_at lw_m4 89 rfl) rfl
theorem q954 : (Jvm.Cond.code ({ cls := "MoleBoard$Board", name := "holes", desc := "()I" } : Jvm.MethodName) prog_4_method_3_code (1 : Nat) (Option.some Jvm.ClassFile.FieldType.int)) ∈ lw_all := lw_g (lw_at lw_m4 90 rfl) rfl
theorem q959 : (Jvm.Cond.instanceMethod ({ cls := "MoleBoard$Board", name := "isComing", desc := "(I)Z" } : Jvm.MethodName)) ∈ lw_all := lw_g (lw_at lw_m4 95 rfl) rfl
theorem q960 : (Jvm.Cond.selects "MoleBoard$Board" ({ cls := "MoleBoard$Board", name := "isComing", desc := "(I)Z" } : Jvm.MethodName) ({ cls := "MoleBoard$Board", name := "isComing", desc := "(I)Z" } : Jvm.MethodName)) ∈ lw_all := lw_g (lw_at lw_m4 96 rfl) rfl
theorem q961 : (Jvm.Cond.code ({ cls := "MoleBoard$Board", name := "isComing", desc := "(I)Z" } : Jvm.MethodName) prog_4_method_6_code (4 : Nat) (Option.some Jvm.ClassFile.FieldType.boolean)) ∈ lw_all := lw_g (lw_at lw_m4 97 rfl) rfl
theorem q962 : (Jvm.Cond.interfaceEntry "MoleBoard$Board" (49 : Nat)) ∈ lw_tbl := lw_at lw_m4 98 rfl
theorem q963 : (Jvm.Cond.methodLink "MoleBoard$Board" (49 : Nat) ({ cls := "java/util/List", name := "iterator", desc := "()Ljava/util/Iterator;" } : Jvm.MethodName)) ∈ lw_all := lw_g (lw_at lw_m4 99 rfl) rfl
theorem q991 : (Jvm.Cond.interfaceEntry "MoleBoard$Board" (55 : Nat)) ∈ lw_tbl := lw_at lw_m4 127 rfl
theorem q992 : (Jvm.Cond.methodLink "MoleBoard$Board" (55 : Nat) ({ cls := "java/util/Iterator", name := "hasNext", desc := "()Z" } : Jvm.MethodName)) ∈ lw_all := lw_g (lw_at lw_m4 128 rfl) rfl
theorem q1001 : (Jvm.Cond.interfaceEntry "MoleBoard$Board" (61 : Nat)) ∈ lw_tbl := lw_at lw_m4 137 rfl
theorem q1002 : (Jvm.Cond.methodLink "MoleBoard$Board" (61 : Nat) ({ cls := "java/util/Iterator", name := "next", desc := "()Ljava/lang/Object;" } : Jvm.MethodName)) ∈ lw_all := lw_g (lw_at lw_m4 138 rfl) rfl
theorem q1014 : (Jvm.Cond.classLink "MoleBoard$Board" (65 : Nat) "MoleBoard$Mole") ∈ lw_all := lw_g (lw_at lw_m4 150 rfl) rfl
theorem q1015 : (Jvm.Cond.methodLink "MoleBoard$Board" (67 : Nat) ({ cls := "MoleBoard$Mole", name := "isAt", desc := "(I)Z" } : Jvm.MethodName)) ∈ lw_all := lw_g (lw_at lw_m4 151 rfl) rfl
theorem q1115 : (Jvm.Cond.selects "MoleBoard$Board" ({ cls := "java/lang/Object", name := "getClass", desc := "()Ljava/lang/Class;" } : Jvm.MethodName) ({ cls := "java/lang/Object", name := "getClass", desc := "()Ljava/lang/Class;" } : Jvm.MethodName)) ∈ lw_all := lw_g (lw_at lw_m5 11 rfl) rfl
theorem q1168 : (Jvm.Cond.instanceMethod ({ cls := "MoleBoard$Board", name := "is", desc := "()Z" } : Jvm.MethodName)) ∈ lw_all := lw_g (lw_at lw_m5 64 rfl) rfl
theorem q1169 : (Jvm.Cond.selects "MoleBoard$Board" ({ cls := "MoleBoard$Board", name := "is", desc := "()Z" } : Jvm.MethodName) ({ cls := "MoleBoard$Board", name := "is", desc := "()Z" } : Jvm.MethodName)) ∈ lw_all := lw_g (lw_at lw_m5 65 rfl) rfl
theorem q1170 : (Jvm.Cond.code ({ cls := "MoleBoard$Board", name := "is", desc := "()Z" } : Jvm.MethodName) prog_4_method_2_code (1 : Nat) (Option.some Jvm.ClassFile.FieldType.boolean)) ∈ lw_all := lw_g (lw_at lw_m5 66 rfl) rfl
theorem q1238 : (Jvm.Cond.instanceMethod ({ cls := "MoleBoard$Board", name := "stay", desc := "(I)I" } : Jvm.MethodName)) ∈ lw_all := lw_g (lw_at lw_m5 134 rfl) rfl
theorem q1239 : (Jvm.Cond.selects "MoleBoard$Board" ({ cls := "MoleBoard$Board", name := "stay", desc := "(I)I" } : Jvm.MethodName) ({ cls := "MoleBoard$Board", name := "stay", desc := "(I)I" } : Jvm.MethodName)) ∈ lw_all := lw_g (lw_at lw_m5 135 rfl) rfl
theorem q1240 : (Jvm.Cond.code ({ cls := "MoleBoard$Board", name := "stay", desc := "(I)I" } : Jvm.MethodName) prog_4_method_5_code (4 : Nat) (Option.some Jvm.ClassFile.FieldType.int)) ∈ lw_all := lw_g (lw_at lw_m5 136 rfl) rfl
theorem q1800 : (Jvm.Cond.instanceMethod ({ cls := "MoleBoard$Board", name := "same", desc := "()LMoleBoard$Board;" } : Jvm.MethodName)) ∈ lw_all := lw_g (lw_at lw_m7 216 rfl) rfl
theorem q1801 : (Jvm.Cond.selects "MoleBoard$Board" ({ cls := "MoleBoard$Board", name := "same", desc := "()LMoleBoard$Board;" } : Jvm.MethodName) ({ cls := "MoleBoard$Board", name := "same", desc := "()LMoleBoard$Board;" } : Jvm.MethodName)) ∈ lw_all := lw_g (lw_at lw_m7 217 rfl) rfl
theorem q1802 : (Jvm.Cond.code ({ cls := "MoleBoard$Board", name := "same", desc := "()LMoleBoard$Board;" } : Jvm.MethodName) prog_4_method_7_code (4 : Nat) (Option.some (Jvm.ClassFile.FieldType.object "MoleBoard$Board"))) ∈ lw_all := lw_g (lw_at lw_m7 218 rfl) rfl
theorem q1803 : (Jvm.Cond.classLink "MoleBoard$Board" (15 : Nat) "MoleBoard$Board") ∈ lw_all := lw_g (lw_at lw_m7 219 rfl) rfl
theorem q1804 : (Jvm.Cond.methodLink "MoleBoard$Board" (71 : Nat) ({ cls := "MoleBoard$Board", name := "<init>", desc := "()V" } : Jvm.MethodName)) ∈ lw_all := lw_g (lw_at lw_m7 220 rfl) rfl
theorem q1805 : (Jvm.Cond.methodLink "MoleBoard$Board" (72 : Nat) ({ cls := "MoleBoard$Mole", name := "same", desc := "()LMoleBoard$Mole;" } : Jvm.MethodName)) ∈ lw_all := lw_g (lw_at lw_m7 221 rfl) rfl
theorem q1811 : (Jvm.Cond.interfaceEntry "MoleBoard$Board" (76 : Nat)) ∈ lw_tbl := lw_at lw_m7 227 rfl
theorem q1812 : (Jvm.Cond.methodLink "MoleBoard$Board" (76 : Nat) ({ cls := "java/util/List", name := "add", desc := "(Ljava/lang/Object;)Z" } : Jvm.MethodName)) ∈ lw_all := lw_g (lw_at lw_m7 228 rfl) rfl
theorem q1813 : (Jvm.Cond.classLink "MoleBoard$Board" (80 : Nat) "MoleBoard$Player") ∈ lw_all := lw_g (lw_at lw_m7 229 rfl) rfl
theorem q1814 : (Jvm.Cond.methodLink "MoleBoard$Board" (82 : Nat) ({ cls := "MoleBoard$Player", name := "same", desc := "()LMoleBoard$Player;" } : Jvm.MethodName)) ∈ lw_all := lw_g (lw_at lw_m7 230 rfl) rfl
theorem q1821 : (Jvm.Cond.methodLink "MoleBoard$Board" (85 : Nat) ({ cls := "java/lang/System", name := "arraycopy", desc := "(Ljava/lang/Object;ILjava/lang/Object;II)V" } : Jvm.MethodName)) ∈ lw_all := lw_g (lw_at lw_m7 237 rfl) rfl
theorem q2657 : (Jvm.Cond.castable "MoleBoard$Board" "java/lang/Object") ∈ lw_tbl := lw_at lw_m11 113 rfl
/-! java/util/AbstractCollection -/
set_option maxRecDepth 100000
abbrev cJ0_init : ByteArray := prog_38_method_1_code
def yJ0_init : MethodName := ⟨RJ0, "<init>", "()V"⟩
theorem dJ0_init_0 : decode cJ0_init 0 = .ok (.aload_n 0, 1) := by decide +kernel
theorem dJ0_init_1 : decode cJ0_init 1 = .ok (.invokespecial 1, 3) := by decide +kernel
theorem dJ0_init_4 : decode cJ0_init 4 = .ok (.return_, 1) := by decide +kernel
theorem q148 : (Jvm.Cond.initialized "java/util/AbstractCollection") ∈ lw_all := lw_g (lw_at lw_m1 4 rfl) rfl
theorem q415 : (Jvm.Cond.instanceMethod ({ cls := "java/util/AbstractCollection", name := "<init>", desc := "()V" } : Jvm.MethodName)) ∈ lw_all := lw_g (lw_at lw_m2 31 rfl) rfl
theorem q416 : (Jvm.Cond.code ({ cls := "java/util/AbstractCollection", name := "<init>", desc := "()V" } : Jvm.MethodName) prog_38_method_1_code (1 : Nat) (Option.none : Option Jvm.ClassFile.FieldType)) ∈ lw_all := lw_g (lw_at lw_m2 32 rfl) rfl
theorem q417 : (Jvm.Cond.methodLink "java/util/AbstractCollection" (1 : Nat) ({ cls := "java/lang/Object", name := "<init>", desc := "()V" } : Jvm.MethodName)) ∈ lw_all := lw_g (lw_at lw_m2 33 rfl) rfl
/-! java/util/AbstractList -/
set_option maxRecDepth 100000
abbrev cJ1_init : ByteArray := prog_39_method_1_code
def yJ1_init : MethodName := ⟨RJ1, "<init>", "()V"⟩
def dkwJ1_init_0 : List UInt8 := [42, 183, 0, 1, 42, 3, 181, 0, 7, 177]
abbrev dktJ1_init_0 : List UInt8 := dkwJ1_init_0 ++ []
theorem dksJ1_init_0 : cJ1_init.data.toList.drop 0 = dktJ1_init_0 := by decide +kernel
theorem dJ1_init_0 : decode cJ1_init 0 = .ok (.aload_n 0, 1) := dk_42 (dk_at dksJ1_init_0 0 rfl rfl)
theorem dJ1_init_1 : decode cJ1_init 1 = .ok (.invokespecial 1, 3) := dk_183 0 1 (dk_at dksJ1_init_0 1 rfl rfl)
theorem dJ1_init_4 : decode cJ1_init 4 = .ok (.aload_n 0, 1) := dk_42 (dk_at dksJ1_init_0 4 rfl rfl)
theorem dJ1_init_5 : decode cJ1_init 5 = .ok (.iconst 0, 1) := dk_3 (dk_at dksJ1_init_0 5 rfl rfl)
theorem dJ1_init_6 : decode cJ1_init 6 = .ok (.putfield 7, 3) := dk_181 0 7 (dk_at dksJ1_init_0 6 rfl rfl)
theorem dJ1_init_9 : decode cJ1_init 9 = .ok (.return_, 1) := dk_177 (dk_at dksJ1_init_0 9 rfl rfl)
theorem q149 : (Jvm.Cond.initialized "java/util/AbstractList") ∈ lw_all := lw_g (lw_at lw_m1 5 rfl) rfl
theorem q412 : (Jvm.Cond.instanceMethod ({ cls := "java/util/AbstractList", name := "<init>", desc := "()V" } : Jvm.MethodName)) ∈ lw_all := lw_g (lw_at lw_m2 28 rfl) rfl
theorem q413 : (Jvm.Cond.code ({ cls := "java/util/AbstractList", name := "<init>", desc := "()V" } : Jvm.MethodName) prog_39_method_1_code (1 : Nat) (Option.none : Option Jvm.ClassFile.FieldType)) ∈ lw_all := lw_g (lw_at lw_m2 29 rfl) rfl
theorem q414 : (Jvm.Cond.methodLink "java/util/AbstractList" (1 : Nat) ({ cls := "java/util/AbstractCollection", name := "<init>", desc := "()V" } : Jvm.MethodName)) ∈ lw_all := lw_g (lw_at lw_m2 30 rfl) rfl
theorem q426 : (Jvm.Cond.fieldLink "java/util/AbstractList" (7 : Nat) "java/util/AbstractList" "modCount" "I") ∈ lw_all := lw_g (lw_at lw_m2 42 rfl) rfl
theorem q435 : (Jvm.Cond.soleField "java/util/AbstractList" "modCount") ∈ lw_all := lw_g (lw_at lw_m2 51 rfl) rfl
/-! java/util/ArrayList -/
set_option maxRecDepth 100000
abbrev cJ2_init : ByteArray := prog_40_method_1_code
def yJ2_init : MethodName := ⟨RJ2, "<init>", "(I)V"⟩
def dkwJ2_init_2 : List UInt8 := [182, 0, 25, 27, 182, 0, 29, 182, 0, 32, 183, 0, 36, 191, 177]
abbrev dktJ2_init_2 : List UInt8 := dkwJ2_init_2 ++ []
def dkwJ2_init_1 : List UInt8 := [178, 0, 15, 181, 0, 9, 167, 0, 30, 187, 0, 18, 89, 187, 0, 20, 89, 183, 0, 22, 18, 23]
abbrev dktJ2_init_1 : List UInt8 := dkwJ2_init_1 ++ dktJ2_init_2
def dkwJ2_init_0 : List UInt8 := [42, 183, 0, 1, 27, 158, 0, 14, 42, 27, 189, 0, 7, 181, 0, 9, 167, 0, 44, 27, 154, 0, 13, 42]
abbrev dktJ2_init_0 : List UInt8 := dkwJ2_init_0 ++ dktJ2_init_1
theorem dksJ2_init_0 : cJ2_init.data.toList.drop 0 = dktJ2_init_0 := by decide +kernel
theorem dksJ2_init_1 : cJ2_init.data.toList.drop 24 = dktJ2_init_1 := dk_seg dksJ2_init_0 24 rfl rfl
theorem dksJ2_init_2 : cJ2_init.data.toList.drop 46 = dktJ2_init_2 := dk_seg dksJ2_init_1 22 rfl rfl
theorem dJ2_init_0 : decode cJ2_init 0 = .ok (.aload_n 0, 1) := dk_42 (dk_at dksJ2_init_0 0 rfl rfl)
theorem dJ2_init_1 : decode cJ2_init 1 = .ok (.invokespecial 1, 3) := dk_183 0 1 (dk_at dksJ2_init_0 1 rfl rfl)
theorem dJ2_init_4 : decode cJ2_init 4 = .ok (.iload_n 1, 1) := dk_27 (dk_at dksJ2_init_0 4 rfl rfl)
theorem dJ2_init_5 : decode cJ2_init 5 = .ok (.ifCond .le 14, 3) := dk_158 0 14 (dk_at dksJ2_init_0 5 rfl rfl)
theorem dJ2_init_8 : decode cJ2_init 8 = .ok (.aload_n 0, 1) := dk_42 (dk_at dksJ2_init_0 8 rfl rfl)
theorem dJ2_init_9 : decode cJ2_init 9 = .ok (.iload_n 1, 1) := dk_27 (dk_at dksJ2_init_0 9 rfl rfl)
theorem dJ2_init_10 : decode cJ2_init 10 = .ok (.anewarray 7, 3) := dk_189 0 7 (dk_at dksJ2_init_0 10 rfl rfl)
theorem dJ2_init_13 : decode cJ2_init 13 = .ok (.putfield 9, 3) := dk_181 0 9 (dk_at dksJ2_init_0 13 rfl rfl)
theorem dJ2_init_16 : decode cJ2_init 16 = .ok (.goto 44, 3) := dk_167 0 44 (dk_at dksJ2_init_0 16 rfl rfl)
theorem dJ2_init_19 : decode cJ2_init 19 = .ok (.iload_n 1, 1) := dk_27 (dk_at dksJ2_init_0 19 rfl rfl)
theorem dJ2_init_20 : decode cJ2_init 20 = .ok (.ifCond .ne 13, 3) := dk_154 0 13 (dk_at dksJ2_init_0 20 rfl rfl)
theorem dJ2_init_23 : decode cJ2_init 23 = .ok (.aload_n 0, 1) := dk_42 (dk_at dksJ2_init_0 23 rfl rfl)
theorem dJ2_init_24 : decode cJ2_init 24 = .ok (.getstatic 15, 3) := dk_178 0 15 (dk_at dksJ2_init_1 0 rfl rfl)
theorem dJ2_init_27 : decode cJ2_init 27 = .ok (.putfield 9, 3) := dk_181 0 9 (dk_at dksJ2_init_1 3 rfl rfl)
theorem dJ2_init_30 : decode cJ2_init 30 = .ok (.goto 30, 3) := dk_167 0 30 (dk_at dksJ2_init_1 6 rfl rfl)
theorem dJ2_init_33 : decode cJ2_init 33 = .ok (.new 18, 3) := dk_187 0 18 (dk_at dksJ2_init_1 9 rfl rfl)
theorem dJ2_init_36 : decode cJ2_init 36 = .ok (.dup, 1) := dk_89 (dk_at dksJ2_init_1 12 rfl rfl)
theorem dJ2_init_37 : decode cJ2_init 37 = .ok (.new 20, 3) := dk_187 0 20 (dk_at dksJ2_init_1 13 rfl rfl)
theorem dJ2_init_40 : decode cJ2_init 40 = .ok (.dup, 1) := dk_89 (dk_at dksJ2_init_1 16 rfl rfl)
theorem dJ2_init_41 : decode cJ2_init 41 = .ok (.invokespecial 22, 3) := dk_183 0 22 (dk_at dksJ2_init_1 17 rfl rfl)
theorem dJ2_init_44 : decode cJ2_init 44 = .ok (.ldc 23, 2) := dk_18 23 (dk_at dksJ2_init_1 20 rfl rfl)
theorem dJ2_init_46 : decode cJ2_init 46 = .ok (.invokevirtual 25, 3) := dk_182 0 25 (dk_at dksJ2_init_2 0 rfl rfl)
theorem dJ2_init_49 : decode cJ2_init 49 = .ok (.iload_n 1, 1) := dk_27 (dk_at dksJ2_init_2 3 rfl rfl)
theorem dJ2_init_50 : decode cJ2_init 50 = .ok (.invokevirtual 29, 3) := dk_182 0 29 (dk_at dksJ2_init_2 4 rfl rfl)
theorem dJ2_init_53 : decode cJ2_init 53 = .ok (.invokevirtual 32, 3) := dk_182 0 32 (dk_at dksJ2_init_2 7 rfl rfl)
theorem dJ2_init_56 : decode cJ2_init 56 = .ok (.invokespecial 36, 3) := dk_183 0 36 (dk_at dksJ2_init_2 10 rfl rfl)
theorem dJ2_init_59 : decode cJ2_init 59 = .ok (.athrow, 1) := dk_191 (dk_at dksJ2_init_2 13 rfl rfl)
theorem dJ2_init_60 : decode cJ2_init 60 = .ok (.return_, 1) := dk_177 (dk_at dksJ2_init_2 14 rfl rfl)
abbrev cJ2_iterator : ByteArray := prog_40_method_55_code
def yJ2_iterator : MethodName := ⟨RJ2, "iterator", "()Ljava/util/Iterator;"⟩
def dkwJ2_iterator_0 : List UInt8 := [187, 1, 11, 89, 42, 183, 1, 13, 176]
abbrev dktJ2_iterator_0 : List UInt8 := dkwJ2_iterator_0 ++ []
theorem dksJ2_iterator_0 : cJ2_iterator.data.toList.drop 0 = dktJ2_iterator_0 := by decide +kernel
theorem dJ2_iterator_0 : decode cJ2_iterator 0 = .ok (.new 267, 3) := dk_187 1 11 (dk_at dksJ2_iterator_0 0 rfl rfl)
theorem dJ2_iterator_3 : decode cJ2_iterator 3 = .ok (.dup, 1) := dk_89 (dk_at dksJ2_iterator_0 3 rfl rfl)
theorem dJ2_iterator_4 : decode cJ2_iterator 4 = .ok (.aload_n 0, 1) := dk_42 (dk_at dksJ2_iterator_0 4 rfl rfl)
theorem dJ2_iterator_5 : decode cJ2_iterator 5 = .ok (.invokespecial 269, 3) := dk_183 1 13 (dk_at dksJ2_iterator_0 5 rfl rfl)
theorem dJ2_iterator_8 : decode cJ2_iterator 8 = .ok (.areturn, 1) := dk_176 (dk_at dksJ2_iterator_0 8 rfl rfl)
abbrev cJ2_size : ByteArray := prog_40_method_8_code
def yJ2_size : MethodName := ⟨RJ2, "size", "()I"⟩
theorem dJ2_size_0 : decode cJ2_size 0 = .ok (.aload_n 0, 1) := by decide +kernel
theorem dJ2_size_1 : decode cJ2_size 1 = .ok (.getfield 48, 3) := by decide +kernel
theorem dJ2_size_4 : decode cJ2_size 4 = .ok (.ireturn, 1) := by decide +kernel
abbrev cJ2_add : ByteArray := prog_40_method_25_code
def yJ2_add : MethodName := ⟨RJ2, "add", "(Ljava/lang/Object;)Z"⟩
def dkwJ2_add_1 : List UInt8 := [172]
abbrev dktJ2_add_1 : List UInt8 := dkwJ2_add_1 ++ []
def dkwJ2_add_0 : List UInt8 := [42, 89, 180, 0, 63, 4, 96, 181, 0, 63, 42, 43, 42, 180, 0, 9, 42, 180, 0, 48, 182, 0, 131, 4]
abbrev dktJ2_add_0 : List UInt8 := dkwJ2_add_0 ++ dktJ2_add_1
theorem dksJ2_add_0 : cJ2_add.data.toList.drop 0 = dktJ2_add_0 := by decide +kernel
theorem dksJ2_add_1 : cJ2_add.data.toList.drop 24 = dktJ2_add_1 := dk_seg dksJ2_add_0 24 rfl rfl
theorem dJ2_add_0 : decode cJ2_add 0 = .ok (.aload_n 0, 1) := dk_42 (dk_at dksJ2_add_0 0 rfl rfl)
theorem dJ2_add_1 : decode cJ2_add 1 = .ok (.dup, 1) := dk_89 (dk_at dksJ2_add_0 1 rfl rfl)
theorem dJ2_add_2 : decode cJ2_add 2 = .ok (.getfield 63, 3) := dk_180 0 63 (dk_at dksJ2_add_0 2 rfl rfl)
theorem dJ2_add_5 : decode cJ2_add 5 = .ok (.iconst 1, 1) := dk_4 (dk_at dksJ2_add_0 5 rfl rfl)
theorem dJ2_add_6 : decode cJ2_add 6 = .ok (.iadd, 1) := dk_96 (dk_at dksJ2_add_0 6 rfl rfl)
theorem dJ2_add_7 : decode cJ2_add 7 = .ok (.putfield 63, 3) := dk_181 0 63 (dk_at dksJ2_add_0 7 rfl rfl)
theorem dJ2_add_10 : decode cJ2_add 10 = .ok (.aload_n 0, 1) := dk_42 (dk_at dksJ2_add_0 10 rfl rfl)
theorem dJ2_add_11 : decode cJ2_add 11 = .ok (.aload_n 1, 1) := dk_43 (dk_at dksJ2_add_0 11 rfl rfl)
theorem dJ2_add_12 : decode cJ2_add 12 = .ok (.aload_n 0, 1) := dk_42 (dk_at dksJ2_add_0 12 rfl rfl)
theorem dJ2_add_13 : decode cJ2_add 13 = .ok (.getfield 9, 3) := dk_180 0 9 (dk_at dksJ2_add_0 13 rfl rfl)
theorem dJ2_add_16 : decode cJ2_add 16 = .ok (.aload_n 0, 1) := dk_42 (dk_at dksJ2_add_0 16 rfl rfl)
theorem dJ2_add_17 : decode cJ2_add 17 = .ok (.getfield 48, 3) := dk_180 0 48 (dk_at dksJ2_add_0 17 rfl rfl)
theorem dJ2_add_20 : decode cJ2_add 20 = .ok (.invokevirtual 131, 3) := dk_182 0 131 (dk_at dksJ2_add_0 20 rfl rfl)
theorem dJ2_add_23 : decode cJ2_add 23 = .ok (.iconst 1, 1) := dk_4 (dk_at dksJ2_add_0 23 rfl rfl)
theorem dJ2_add_24 : decode cJ2_add 24 = .ok (.ireturn, 1) := dk_172 (dk_at dksJ2_add_1 0 rfl rfl)
abbrev cJ2_add_2 : ByteArray := prog_40_method_24_code
def yJ2_add_2 : MethodName := ⟨RJ2, "add", "(Ljava/lang/Object;[Ljava/lang/Object;I)V"⟩
def dkwJ2_add_2_0 : List UInt8 := [29, 44, 190, 160, 0, 8, 42, 182, 0, 129, 77, 44, 29, 43, 83, 42, 29, 4, 96, 181, 0, 48, 177]
abbrev dktJ2_add_2_0 : List UInt8 := dkwJ2_add_2_0 ++ []
theorem dksJ2_add_2_0 : cJ2_add_2.data.toList.drop 0 = dktJ2_add_2_0 := by decide +kernel
theorem dJ2_add_2_0 : decode cJ2_add_2 0 = .ok (.iload_n 3, 1) := dk_29 (dk_at dksJ2_add_2_0 0 rfl rfl)
theorem dJ2_add_2_1 : decode cJ2_add_2 1 = .ok (.aload_n 2, 1) := dk_44 (dk_at dksJ2_add_2_0 1 rfl rfl)
theorem dJ2_add_2_2 : decode cJ2_add_2 2 = .ok (.arraylength, 1) := dk_190 (dk_at dksJ2_add_2_0 2 rfl rfl)
theorem dJ2_add_2_3 : decode cJ2_add_2 3 = .ok (.if_icmp .ne 8, 3) := dk_160 0 8 (dk_at dksJ2_add_2_0 3 rfl rfl)
theorem dJ2_add_2_6 : decode cJ2_add_2 6 = .ok (.aload_n 0, 1) := dk_42 (dk_at dksJ2_add_2_0 6 rfl rfl)
theorem dJ2_add_2_7 : decode cJ2_add_2 7 = .ok (.invokevirtual 129, 3) := dk_182 0 129 (dk_at dksJ2_add_2_0 7 rfl rfl)
theorem dJ2_add_2_10 : decode cJ2_add_2 10 = .ok (.astore_n 2, 1) := dk_77 (dk_at dksJ2_add_2_0 10 rfl rfl)
theorem dJ2_add_2_11 : decode cJ2_add_2 11 = .ok (.aload_n 2, 1) := dk_44 (dk_at dksJ2_add_2_0 11 rfl rfl)
theorem dJ2_add_2_12 : decode cJ2_add_2 12 = .ok (.iload_n 3, 1) := dk_29 (dk_at dksJ2_add_2_0 12 rfl rfl)
theorem dJ2_add_2_13 : decode cJ2_add_2 13 = .ok (.aload_n 1, 1) := dk_43 (dk_at dksJ2_add_2_0 13 rfl rfl)
theorem dJ2_add_2_14 : decode cJ2_add_2 14 = .ok (.aastore, 1) := dk_83 (dk_at dksJ2_add_2_0 14 rfl rfl)
theorem dJ2_add_2_15 : decode cJ2_add_2 15 = .ok (.aload_n 0, 1) := dk_42 (dk_at dksJ2_add_2_0 15 rfl rfl)
theorem dJ2_add_2_16 : decode cJ2_add_2 16 = .ok (.iload_n 3, 1) := dk_29 (dk_at dksJ2_add_2_0 16 rfl rfl)
theorem dJ2_add_2_17 : decode cJ2_add_2 17 = .ok (.iconst 1, 1) := dk_4 (dk_at dksJ2_add_2_0 17 rfl rfl)
theorem dJ2_add_2_18 : decode cJ2_add_2 18 = .ok (.iadd, 1) := dk_96 (dk_at dksJ2_add_2_0 18 rfl rfl)
theorem dJ2_add_2_19 : decode cJ2_add_2 19 = .ok (.putfield 48, 3) := dk_181 0 48 (dk_at dksJ2_add_2_0 19 rfl rfl)
theorem dJ2_add_2_22 : decode cJ2_add_2 22 = .ok (.return_, 1) := dk_177 (dk_at dksJ2_add_2_0 22 rfl rfl)
abbrev cJ2_grow : ByteArray := prog_40_method_7_code
def yJ2_grow : MethodName := ⟨RJ2, "grow", "()[Ljava/lang/Object;"⟩
def dkwJ2_grow_0 : List UInt8 := [42, 42, 180, 0, 48, 4, 96, 182, 0, 69, 176]
abbrev dktJ2_grow_0 : List UInt8 := dkwJ2_grow_0 ++ []
theorem dksJ2_grow_0 : cJ2_grow.data.toList.drop 0 = dktJ2_grow_0 := by decide +kernel
theorem dJ2_grow_0 : decode cJ2_grow 0 = .ok (.aload_n 0, 1) := dk_42 (dk_at dksJ2_grow_0 0 rfl rfl)
theorem dJ2_grow_1 : decode cJ2_grow 1 = .ok (.aload_n 0, 1) := dk_42 (dk_at dksJ2_grow_0 1 rfl rfl)
theorem dJ2_grow_2 : decode cJ2_grow 2 = .ok (.getfield 48, 3) := dk_180 0 48 (dk_at dksJ2_grow_0 2 rfl rfl)
theorem dJ2_grow_5 : decode cJ2_grow 5 = .ok (.iconst 1, 1) := dk_4 (dk_at dksJ2_grow_0 5 rfl rfl)
theorem dJ2_grow_6 : decode cJ2_grow 6 = .ok (.iadd, 1) := dk_96 (dk_at dksJ2_grow_0 6 rfl rfl)
theorem dJ2_grow_7 : decode cJ2_grow 7 = .ok (.invokevirtual 69, 3) := dk_182 0 69 (dk_at dksJ2_grow_0 7 rfl rfl)
theorem dJ2_grow_10 : decode cJ2_grow 10 = .ok (.areturn, 1) := dk_176 (dk_at dksJ2_grow_0 10 rfl rfl)
abbrev cJ2_grow_2 : ByteArray := prog_40_method_6_code
def yJ2_grow_2 : MethodName := ⟨RJ2, "grow", "(I)[Ljava/lang/Object;"⟩
def dkwJ2_grow_2_2 : List UInt8 := [27, 184, 0, 79, 189, 0, 7, 90, 181, 0, 9, 176]
abbrev dktJ2_grow_2_2 : List UInt8 := dkwJ2_grow_2_2 ++ []
def dkwJ2_grow_2_1 : List UInt8 := [28, 4, 122, 184, 0, 73, 62, 42, 42, 180, 0, 9, 29, 184, 0, 66, 90, 181, 0, 9, 176, 42, 16, 10]
abbrev dktJ2_grow_2_1 : List UInt8 := dkwJ2_grow_2_1 ++ dktJ2_grow_2_2
def dkwJ2_grow_2_0 : List UInt8 := [42, 180, 0, 9, 190, 61, 28, 157, 0, 13, 42, 180, 0, 9, 178, 0, 39, 165, 0, 28, 28, 27, 28, 100]
abbrev dktJ2_grow_2_0 : List UInt8 := dkwJ2_grow_2_0 ++ dktJ2_grow_2_1
theorem dksJ2_grow_2_0 : cJ2_grow_2.data.toList.drop 0 = dktJ2_grow_2_0 := by decide +kernel
theorem dksJ2_grow_2_1 : cJ2_grow_2.data.toList.drop 24 = dktJ2_grow_2_1 := dk_seg dksJ2_grow_2_0 24 rfl rfl
theorem dksJ2_grow_2_2 : cJ2_grow_2.data.toList.drop 48 = dktJ2_grow_2_2 := dk_seg dksJ2_grow_2_1 24 rfl rfl
theorem dJ2_grow_2_0 : decode cJ2_grow_2 0 = .ok (.aload_n 0, 1) := dk_42 (dk_at dksJ2_grow_2_0 0 rfl rfl)
theorem dJ2_grow_2_1 : decode cJ2_grow_2 1 = .ok (.getfield 9, 3) := dk_180 0 9 (dk_at dksJ2_grow_2_0 1 rfl rfl)
theorem dJ2_grow_2_4 : decode cJ2_grow_2 4 = .ok (.arraylength, 1) := dk_190 (dk_at dksJ2_grow_2_0 4 rfl rfl)
theorem dJ2_grow_2_5 : decode cJ2_grow_2 5 = .ok (.istore_n 2, 1) := dk_61 (dk_at dksJ2_grow_2_0 5 rfl rfl)
theorem dJ2_grow_2_6 : decode cJ2_grow_2 6 = .ok (.iload_n 2, 1) := dk_28 (dk_at dksJ2_grow_2_0 6 rfl rfl)
theorem dJ2_grow_2_7 : decode cJ2_grow_2 7 = .ok (.ifCond .gt 13, 3) := dk_157 0 13 (dk_at dksJ2_grow_2_0 7 rfl rfl)
theorem dJ2_grow_2_10 : decode cJ2_grow_2 10 = .ok (.aload_n 0, 1) := dk_42 (dk_at dksJ2_grow_2_0 10 rfl rfl)
theorem dJ2_grow_2_11 : decode cJ2_grow_2 11 = .ok (.getfield 9, 3) := dk_180 0 9 (dk_at dksJ2_grow_2_0 11 rfl rfl)
theorem dJ2_grow_2_14 : decode cJ2_grow_2 14 = .ok (.getstatic 39, 3) := dk_178 0 39 (dk_at dksJ2_grow_2_0 14 rfl rfl)
theorem dJ2_grow_2_17 : decode cJ2_grow_2 17 = .ok (.if_acmp .eq 28, 3) := dk_165 0 28 (dk_at dksJ2_grow_2_0 17 rfl rfl)
theorem dJ2_grow_2_20 : decode cJ2_grow_2 20 = .ok (.iload_n 2, 1) := dk_28 (dk_at dksJ2_grow_2_0 20 rfl rfl)
theorem dJ2_grow_2_21 : decode cJ2_grow_2 21 = .ok (.iload_n 1, 1) := dk_27 (dk_at dksJ2_grow_2_0 21 rfl rfl)
theorem dJ2_grow_2_22 : decode cJ2_grow_2 22 = .ok (.iload_n 2, 1) := dk_28 (dk_at dksJ2_grow_2_0 22 rfl rfl)
theorem dJ2_grow_2_23 : decode cJ2_grow_2 23 = .ok (.isub, 1) := dk_100 (dk_at dksJ2_grow_2_0 23 rfl rfl)
theorem dJ2_grow_2_24 : decode cJ2_grow_2 24 = .ok (.iload_n 2, 1) := dk_28 (dk_at dksJ2_grow_2_1 0 rfl rfl)
theorem dJ2_grow_2_25 : decode cJ2_grow_2 25 = .ok (.iconst 1, 1) := dk_4 (dk_at dksJ2_grow_2_1 1 rfl rfl)
theorem dJ2_grow_2_26 : decode cJ2_grow_2 26 = .ok (.ishr, 1) := dk_122 (dk_at dksJ2_grow_2_1 2 rfl rfl)
theorem dJ2_grow_2_27 : decode cJ2_grow_2 27 = .ok (.invokestatic 73, 3) := dk_184 0 73 (dk_at dksJ2_grow_2_1 3 rfl rfl)
theorem dJ2_grow_2_30 : decode cJ2_grow_2 30 = .ok (.istore_n 3, 1) := dk_62 (dk_at dksJ2_grow_2_1 6 rfl rfl)
theorem dJ2_grow_2_31 : decode cJ2_grow_2 31 = .ok (.aload_n 0, 1) := dk_42 (dk_at dksJ2_grow_2_1 7 rfl rfl)
theorem dJ2_grow_2_32 : decode cJ2_grow_2 32 = .ok (.aload_n 0, 1) := dk_42 (dk_at dksJ2_grow_2_1 8 rfl rfl)
theorem dJ2_grow_2_33 : decode cJ2_grow_2 33 = .ok (.getfield 9, 3) := dk_180 0 9 (dk_at dksJ2_grow_2_1 9 rfl rfl)
theorem dJ2_grow_2_36 : decode cJ2_grow_2 36 = .ok (.iload_n 3, 1) := dk_29 (dk_at dksJ2_grow_2_1 12 rfl rfl)
theorem dJ2_grow_2_37 : decode cJ2_grow_2 37 = .ok (.invokestatic 66, 3) := dk_184 0 66 (dk_at dksJ2_grow_2_1 13 rfl rfl)
theorem dJ2_grow_2_40 : decode cJ2_grow_2 40 = .ok (.dup_x1, 1) := dk_90 (dk_at dksJ2_grow_2_1 16 rfl rfl)
theorem dJ2_grow_2_41 : decode cJ2_grow_2 41 = .ok (.putfield 9, 3) := dk_181 0 9 (dk_at dksJ2_grow_2_1 17 rfl rfl)
theorem dJ2_grow_2_44 : decode cJ2_grow_2 44 = .ok (.areturn, 1) := dk_176 (dk_at dksJ2_grow_2_1 20 rfl rfl)
theorem dJ2_grow_2_45 : decode cJ2_grow_2 45 = .ok (.aload_n 0, 1) := dk_42 (dk_at dksJ2_grow_2_1 21 rfl rfl)
theorem dJ2_grow_2_46 : decode cJ2_grow_2 46 = .ok (.bipush 10, 2) := dk_16 10 (dk_at dksJ2_grow_2_1 22 rfl rfl)
theorem dJ2_grow_2_48 : decode cJ2_grow_2 48 = .ok (.iload_n 1, 1) := dk_27 (dk_at dksJ2_grow_2_2 0 rfl rfl)
theorem dJ2_grow_2_49 : decode cJ2_grow_2 49 = .ok (.invokestatic 79, 3) := dk_184 0 79 (dk_at dksJ2_grow_2_2 1 rfl rfl)
theorem dJ2_grow_2_52 : decode cJ2_grow_2 52 = .ok (.anewarray 7, 3) := dk_189 0 7 (dk_at dksJ2_grow_2_2 4 rfl rfl)
theorem dJ2_grow_2_55 : decode cJ2_grow_2 55 = .ok (.dup_x1, 1) := dk_90 (dk_at dksJ2_grow_2_2 7 rfl rfl)
theorem dJ2_grow_2_56 : decode cJ2_grow_2 56 = .ok (.putfield 9, 3) := dk_181 0 9 (dk_at dksJ2_grow_2_2 8 rfl rfl)
theorem dJ2_grow_2_59 : decode cJ2_grow_2 59 = .ok (.areturn, 1) := dk_176 (dk_at dksJ2_grow_2_2 11 rfl rfl)
abbrev cJ2_get : ByteArray := prog_40_method_20_code
def yJ2_get : MethodName := ⟨RJ2, "get", "(I)Ljava/lang/Object;"⟩
def dkwJ2_get_0 : List UInt8 := [27, 42, 180, 0, 48, 184, 0, 118, 87, 42, 27, 182, 0, 123, 176]
abbrev dktJ2_get_0 : List UInt8 := dkwJ2_get_0 ++ []
theorem dksJ2_get_0 : cJ2_get.data.toList.drop 0 = dktJ2_get_0 := by decide +kernel
theorem dJ2_get_0 : decode cJ2_get 0 = .ok (.iload_n 1, 1) := dk_27 (dk_at dksJ2_get_0 0 rfl rfl)
theorem dJ2_get_1 : decode cJ2_get 1 = .ok (.aload_n 0, 1) := dk_42 (dk_at dksJ2_get_0 1 rfl rfl)
theorem dJ2_get_2 : decode cJ2_get 2 = .ok (.getfield 48, 3) := dk_180 0 48 (dk_at dksJ2_get_0 2 rfl rfl)
theorem dJ2_get_5 : decode cJ2_get 5 = .ok (.invokestatic 118, 3) := dk_184 0 118 (dk_at dksJ2_get_0 5 rfl rfl)
theorem dJ2_get_8 : decode cJ2_get 8 = .ok (.pop, 1) := dk_87 (dk_at dksJ2_get_0 8 rfl rfl)
theorem dJ2_get_9 : decode cJ2_get 9 = .ok (.aload_n 0, 1) := dk_42 (dk_at dksJ2_get_0 9 rfl rfl)
theorem dJ2_get_10 : decode cJ2_get 10 = .ok (.iload_n 1, 1) := dk_27 (dk_at dksJ2_get_0 10 rfl rfl)
theorem dJ2_get_11 : decode cJ2_get 11 = .ok (.invokevirtual 123, 3) := dk_182 0 123 (dk_at dksJ2_get_0 11 rfl rfl)
theorem dJ2_get_14 : decode cJ2_get 14 = .ok (.areturn, 1) := dk_176 (dk_at dksJ2_get_0 14 rfl rfl)
abbrev cJ2_elementData : ByteArray := prog_40_method_18_code
def yJ2_elementData : MethodName := ⟨RJ2, "elementData", "(I)Ljava/lang/Object;"⟩
def dkwJ2_elementData_0 : List UInt8 := [42, 180, 0, 9, 27, 50, 176]
abbrev dktJ2_elementData_0 : List UInt8 := dkwJ2_elementData_0 ++ []
theorem dksJ2_elementData_0 : cJ2_elementData.data.toList.drop 0 = dktJ2_elementData_0 := by decide +kernel
theorem dJ2_elementData_0 : decode cJ2_elementData 0 = .ok (.aload_n 0, 1) := dk_42 (dk_at dksJ2_elementData_0 0 rfl rfl)
theorem dJ2_elementData_1 : decode cJ2_elementData 1 = .ok (.getfield 9, 3) := dk_180 0 9 (dk_at dksJ2_elementData_0 1 rfl rfl)
theorem dJ2_elementData_4 : decode cJ2_elementData 4 = .ok (.iload_n 1, 1) := dk_27 (dk_at dksJ2_elementData_0 4 rfl rfl)
theorem dJ2_elementData_5 : decode cJ2_elementData 5 = .ok (.aaload, 1) := dk_50 (dk_at dksJ2_elementData_0 5 rfl rfl)
theorem dJ2_elementData_6 : decode cJ2_elementData 6 = .ok (.areturn, 1) := dk_176 (dk_at dksJ2_elementData_0 6 rfl rfl)
abbrev cJ2_set : ByteArray := prog_40_method_23_code
def yJ2_set : MethodName := ⟨RJ2, "set", "(ILjava/lang/Object;)Ljava/lang/Object;"⟩
def dkwJ2_set_0 : List UInt8 := [27, 42, 180, 0, 48, 184, 0, 118, 87, 42, 27, 182, 0, 123, 78, 42, 180, 0, 9, 27, 44, 83, 45, 176]
abbrev dktJ2_set_0 : List UInt8 := dkwJ2_set_0 ++ []
theorem dksJ2_set_0 : cJ2_set.data.toList.drop 0 = dktJ2_set_0 := by decide +kernel
theorem dJ2_set_0 : decode cJ2_set 0 = .ok (.iload_n 1, 1) := dk_27 (dk_at dksJ2_set_0 0 rfl rfl)
theorem dJ2_set_1 : decode cJ2_set 1 = .ok (.aload_n 0, 1) := dk_42 (dk_at dksJ2_set_0 1 rfl rfl)
theorem dJ2_set_2 : decode cJ2_set 2 = .ok (.getfield 48, 3) := dk_180 0 48 (dk_at dksJ2_set_0 2 rfl rfl)
theorem dJ2_set_5 : decode cJ2_set 5 = .ok (.invokestatic 118, 3) := dk_184 0 118 (dk_at dksJ2_set_0 5 rfl rfl)
theorem dJ2_set_8 : decode cJ2_set 8 = .ok (.pop, 1) := dk_87 (dk_at dksJ2_set_0 8 rfl rfl)
theorem dJ2_set_9 : decode cJ2_set 9 = .ok (.aload_n 0, 1) := dk_42 (dk_at dksJ2_set_0 9 rfl rfl)
theorem dJ2_set_10 : decode cJ2_set 10 = .ok (.iload_n 1, 1) := dk_27 (dk_at dksJ2_set_0 10 rfl rfl)
theorem dJ2_set_11 : decode cJ2_set 11 = .ok (.invokevirtual 123, 3) := dk_182 0 123 (dk_at dksJ2_set_0 11 rfl rfl)
theorem dJ2_set_14 : decode cJ2_set 14 = .ok (.astore_n 3, 1) := dk_78 (dk_at dksJ2_set_0 14 rfl rfl)
theorem dJ2_set_15 : decode cJ2_set 15 = .ok (.aload_n 0, 1) := dk_42 (dk_at dksJ2_set_0 15 rfl rfl)
theorem dJ2_set_16 : decode cJ2_set 16 = .ok (.getfield 9, 3) := dk_180 0 9 (dk_at dksJ2_set_0 16 rfl rfl)
theorem dJ2_set_19 : decode cJ2_set 19 = .ok (.iload_n 1, 1) := dk_27 (dk_at dksJ2_set_0 19 rfl rfl)
theorem dJ2_set_20 : decode cJ2_set 20 = .ok (.aload_n 2, 1) := dk_44 (dk_at dksJ2_set_0 20 rfl rfl)
theorem dJ2_set_21 : decode cJ2_set 21 = .ok (.aastore, 1) := dk_83 (dk_at dksJ2_set_0 21 rfl rfl)
theorem dJ2_set_22 : decode cJ2_set 22 = .ok (.aload_n 3, 1) := dk_45 (dk_at dksJ2_set_0 22 rfl rfl)
theorem dJ2_set_23 : decode cJ2_set 23 = .ok (.areturn, 1) := dk_176 (dk_at dksJ2_set_0 23 rfl rfl)
theorem q150 : (Jvm.Cond.initialized "java/util/ArrayList") ∈ lw_all := lw_g (lw_at lw_m1 6 rfl) rfl
theorem q407 : (Jvm.Cond.instantiable "java/util/ArrayList" (3 : Nat)) ∈ lw_all := lw_g (lw_at lw_m2 23 rfl) rfl
theorem q409 : (Jvm.Cond.instanceMethod ({ cls := "java/util/ArrayList", name := "<init>", desc := "(I)V" } : Jvm.MethodName)) ∈ lw_all := lw_g (lw_at lw_m2 25 rfl) rfl
theorem q410 : (Jvm.Cond.code ({ cls := "java/util/ArrayList", name := "<init>", desc := "(I)V" } : Jvm.MethodName) prog_40_method_1_code (2 : Nat) (Option.none : Option Jvm.ClassFile.FieldType)) ∈ lw_all := lw_g (lw_at lw_m2 26 rfl) rfl
theorem q411 : (Jvm.Cond.methodLink "java/util/ArrayList" (1 : Nat) ({ cls := "java/util/AbstractList", name := "<init>", desc := "()V" } : Jvm.MethodName)) ∈ lw_all := lw_g (lw_at lw_m2 27 rfl) rfl
theorem q418 : (Jvm.Cond.classLink "java/util/ArrayList" (7 : Nat) "java/lang/Object") ∈ lw_all := lw_g (lw_at lw_m2 34 rfl) rfl
theorem q420 : (Jvm.Cond.fieldLink "java/util/ArrayList" (15 : Nat) "java/util/ArrayList" "EMPTY_ELEMENTDATA" "[Ljava/lang/Object;") ∈ lw_all := lw_g (lw_at lw_m2 36 rfl) rfl
theorem q421 : (Jvm.Cond.laysStatic "java/util/ArrayList" "EMPTY_ELEMENTDATA" "[Ljava/lang/Object;") ∈ lw_tbl := lw_at lw_m2 37 rfl
theorem q422 : (Jvm.Cond.fieldLink "java/util/ArrayList" (9 : Nat) "java/util/ArrayList" "elementData" "[Ljava/lang/Object;") ∈ lw_all := lw_g (lw_at lw_m2 38 rfl) rfl
theorem q425 : (Jvm.Cond.fieldLink "java/util/ArrayList" (48 : Nat) "java/util/ArrayList" "size" "I") ∈ lw_all := lw_g (lw_at lw_m2 41 rfl) rfl
theorem q428 : (Jvm.Cond.sameField "java/util/ArrayList" "java/util/AbstractList" "modCount" "I") ∈ lw_all := lw_g (lw_at lw_m2 44 rfl) rfl
theorem q429 : (Jvm.Cond.fieldLink "java/util/ArrayList" (63 : Nat) "java/util/ArrayList" "modCount" "I") ∈ lw_all := lw_g (lw_at lw_m2 45 rfl) rfl
theorem q430 : (Jvm.Cond.lays "java/util/ArrayList" "java/util/ArrayList" "elementData" "[Ljava/lang/Object;") ∈ lw_all := lw_g (lw_at lw_m2 46 rfl) rfl
theorem q431 : (Jvm.Cond.soleField "java/util/ArrayList" "elementData") ∈ lw_all := lw_g (lw_at lw_m2 47 rfl) rfl
theorem q432 : (Jvm.Cond.lays "java/util/ArrayList" "java/util/ArrayList" "size" "I") ∈ lw_all := lw_g (lw_at lw_m2 48 rfl) rfl
theorem q433 : (Jvm.Cond.soleField "java/util/ArrayList" "size") ∈ lw_all := lw_g (lw_at lw_m2 49 rfl) rfl
theorem q434 : (Jvm.Cond.lays "java/util/ArrayList" "java/util/AbstractList" "modCount" "I") ∈ lw_all := lw_g (lw_at lw_m2 50 rfl) rfl
theorem q436 : (Jvm.Cond.superclass "java/util/ArrayList" "java/util/AbstractList") ∈ lw_all := lw_g (lw_at lw_m2 52 rfl) rfl
theorem q966 : (Jvm.Cond.castable "java/util/ArrayList" "java/util/List") ∈ lw_tbl := lw_at lw_m4 102 rfl
theorem q967 : (Jvm.Cond.selects "java/util/ArrayList" ({ cls := "java/util/List", name := "iterator", desc := "()Ljava/util/Iterator;" } : Jvm.MethodName) ({ cls := "java/util/ArrayList", name := "iterator", desc := "()Ljava/util/Iterator;" } : Jvm.MethodName)) ∈ lw_all := lw_g (lw_at lw_m4 103 rfl) rfl
theorem q968 : (Jvm.Cond.unhidden "java/util/ArrayList" "iterator" "()Ljava/util/Iterator;") ∈ lw_tbl := lw_at lw_m4 104 rfl
theorem q969 : (Jvm.Cond.instanceMethod ({ cls := "java/util/ArrayList", name := "iterator", desc := "()Ljava/util/Iterator;" } : Jvm.MethodName)) ∈ lw_all := lw_g (lw_at lw_m4 105 rfl) rfl
theorem q970 : (Jvm.Cond.publicMethod ({ cls := "java/util/ArrayList", name := "iterator", desc := "()Ljava/util/Iterator;" } : Jvm.MethodName)) ∈ lw_tbl := lw_at lw_m4 106 rfl
theorem q971 : (Jvm.Cond.code ({ cls := "java/util/ArrayList", name := "iterator", desc := "()Ljava/util/Iterator;" } : Jvm.MethodName) prog_40_method_55_code (1 : Nat) (Option.some (Jvm.ClassFile.FieldType.object "java/util/Iterator"))) ∈ lw_all := lw_g (lw_at lw_m4 107 rfl) rfl
theorem q972 : (Jvm.Cond.classLink "java/util/ArrayList" (267 : Nat) "java/util/ArrayList$Itr") ∈ lw_all := lw_g (lw_at lw_m4 108 rfl) rfl
theorem q974 : (Jvm.Cond.methodLink "java/util/ArrayList" (269 : Nat) ({ cls := "java/util/ArrayList$Itr", name := "<init>", desc := "(Ljava/util/ArrayList;)V" } : Jvm.MethodName)) ∈ lw_all := lw_g (lw_at lw_m4 110 rfl) rfl
theorem q1034 : (Jvm.Cond.selects "java/util/ArrayList" ({ cls := "java/util/List", name := "size", desc := "()I" } : Jvm.MethodName) ({ cls := "java/util/ArrayList", name := "size", desc := "()I" } : Jvm.MethodName)) ∈ lw_all := lw_g (lw_at lw_m4 170 rfl) rfl
theorem q1035 : (Jvm.Cond.unhidden "java/util/ArrayList" "size" "()I") ∈ lw_tbl := lw_at lw_m4 171 rfl
theorem q1036 : (Jvm.Cond.instanceMethod ({ cls := "java/util/ArrayList", name := "size", desc := "()I" } : Jvm.MethodName)) ∈ lw_all := lw_g (lw_at lw_m4 172 rfl) rfl
theorem q1037 : (Jvm.Cond.publicMethod ({ cls := "java/util/ArrayList", name := "size", desc := "()I" } : Jvm.MethodName)) ∈ lw_tbl := lw_at lw_m4 173 rfl
theorem q1038 : (Jvm.Cond.code ({ cls := "java/util/ArrayList", name := "size", desc := "()I" } : Jvm.MethodName) prog_40_method_8_code (1 : Nat) (Option.some Jvm.ClassFile.FieldType.int)) ∈ lw_all := lw_g (lw_at lw_m4 174 rfl) rfl
theorem q1077 : (Jvm.Cond.selects "java/util/ArrayList" ({ cls := "java/util/List", name := "add", desc := "(Ljava/lang/Object;)Z" } : Jvm.MethodName) ({ cls := "java/util/ArrayList", name := "add", desc := "(Ljava/lang/Object;)Z" } : Jvm.MethodName)) ∈ lw_all := lw_g (lw_at lw_m4 213 rfl) rfl
theorem q1078 : (Jvm.Cond.unhidden "java/util/ArrayList" "add" "(Ljava/lang/Object;)Z") ∈ lw_tbl := lw_at lw_m4 214 rfl
theorem q1079 : (Jvm.Cond.instanceMethod ({ cls := "java/util/ArrayList", name := "add", desc := "(Ljava/lang/Object;)Z" } : Jvm.MethodName)) ∈ lw_all := lw_g (lw_at lw_m4 215 rfl) rfl
theorem q1080 : (Jvm.Cond.publicMethod ({ cls := "java/util/ArrayList", name := "add", desc := "(Ljava/lang/Object;)Z" } : Jvm.MethodName)) ∈ lw_tbl := lw_at lw_m4 216 rfl
theorem q1081 : (Jvm.Cond.code ({ cls := "java/util/ArrayList", name := "add", desc := "(Ljava/lang/Object;)Z" } : Jvm.MethodName) prog_40_method_25_code (2 : Nat) (Option.some Jvm.ClassFile.FieldType.boolean)) ∈ lw_all := lw_g (lw_at lw_m4 217 rfl) rfl
theorem q1082 : (Jvm.Cond.methodLink "java/util/ArrayList" (131 : Nat) ({ cls := "java/util/ArrayList", name := "add", desc := "(Ljava/lang/Object;[Ljava/lang/Object;I)V" } : Jvm.MethodName)) ∈ lw_all := lw_g (lw_at lw_m4 218 rfl) rfl
theorem q1083 : (Jvm.Cond.privateMethod ({ cls := "java/util/ArrayList", name := "add", desc := "(Ljava/lang/Object;[Ljava/lang/Object;I)V" } : Jvm.MethodName)) ∈ lw_tbl := lw_at lw_m4 219 rfl
theorem q1084 : (Jvm.Cond.instanceMethod ({ cls := "java/util/ArrayList", name := "add", desc := "(Ljava/lang/Object;[Ljava/lang/Object;I)V" } : Jvm.MethodName)) ∈ lw_all := lw_g (lw_at lw_m4 220 rfl) rfl
theorem q1085 : (Jvm.Cond.code ({ cls := "java/util/ArrayList", name := "add", desc := "(Ljava/lang/Object;[Ljava/lang/Object;I)V" } : Jvm.MethodName) prog_40_method_24_code (4 : Nat) (Option.none : Option Jvm.ClassFile.FieldType)) ∈ lw_all := lw_g (lw_at lw_m4 221 rfl) rfl
theorem q1086 : (Jvm.Cond.methodLink "java/util/ArrayList" (129 : Nat) ({ cls := "java/util/ArrayList", name := "grow", desc := "()[Ljava/lang/Object;" } : Jvm.MethodName)) ∈ lw_all := lw_g (lw_at lw_m4 222 rfl) rfl
theorem q1087 : (Jvm.Cond.privateMethod ({ cls := "java/util/ArrayList", name := "grow", desc := "()[Ljava/lang/Object;" } : Jvm.MethodName)) ∈ lw_tbl := lw_at lw_m4 223 rfl
theorem q1088 : (Jvm.Cond.instanceMethod ({ cls := "java/util/ArrayList", name := "grow", desc := "()[Ljava/lang/Object;" } : Jvm.MethodName)) ∈ lw_all := lw_g (lw_at lw_m4 224 rfl) rfl
theorem q1089 : (Jvm.Cond.code ({ cls := "java/util/ArrayList", name := "grow", desc := "()[Ljava/lang/Object;" } : Jvm.MethodName) prog_40_method_7_code (1 : Nat) (Option.some (Jvm.ClassFile.FieldType.array (Jvm.ClassFile.FieldType.object "java/lang/Object")))) ∈ lw_all := lw_g (lw_at lw_m4 225 rfl) rfl
theorem q1090 : (Jvm.Cond.methodLink "java/util/ArrayList" (69 : Nat) ({ cls := "java/util/ArrayList", name := "grow", desc := "(I)[Ljava/lang/Object;" } : Jvm.MethodName)) ∈ lw_all := lw_g (lw_at lw_m4 226 rfl) rfl
theorem q1091 : (Jvm.Cond.privateMethod ({ cls := "java/util/ArrayList", name := "grow", desc := "(I)[Ljava/lang/Object;" } : Jvm.MethodName)) ∈ lw_tbl := lw_at lw_m4 227 rfl
theorem q1092 : (Jvm.Cond.instanceMethod ({ cls := "java/util/ArrayList", name := "grow", desc := "(I)[Ljava/lang/Object;" } : Jvm.MethodName)) ∈ lw_all := lw_g (lw_at lw_m4 228 rfl) rfl
theorem q1093 : (Jvm.Cond.code ({ cls := "java/util/ArrayList", name := "grow", desc := "(I)[Ljava/lang/Object;" } : Jvm.MethodName) prog_40_method_6_code (4 : Nat) (Option.some (Jvm.ClassFile.FieldType.array (Jvm.ClassFile.FieldType.object "java/lang/Object")))) ∈ lw_all := lw_g (lw_at lw_m4 229 rfl) rfl
theorem q1094 : (Jvm.Cond.fieldLink "java/util/ArrayList" (39 : Nat) "java/util/ArrayList" "DEFAULTCAPACITY_EMPTY_ELEMENTDATA" "[Ljava/lang/Object;") ∈ lw_all := lw_g (lw_at lw_m4 230 rfl) rfl
theorem q1095 : (Jvm.Cond.laysStatic "java/util/ArrayList" "DEFAULTCAPACITY_EMPTY_ELEMENTDATA" "[Ljava/lang/Object;") ∈ lw_tbl := lw_at lw_m4 231 rfl
theorem q1096 : (Jvm.Cond.methodLink "java/util/ArrayList" (73 : Nat) ({ cls := "jdk/internal/util/ArraysSupport", name := "newLength", desc := "(III)I" } : Jvm.MethodName)) ∈ lw_all := lw_g (lw_at lw_m4 232 rfl) rfl
theorem q1106 : (Jvm.Cond.methodLink "java/util/ArrayList" (66 : Nat) ({ cls := "java/util/Arrays", name := "copyOf", desc := "([Ljava/lang/Object;I)[Ljava/lang/Object;" } : Jvm.MethodName)) ∈ lw_all := lw_g (lw_at lw_m5 2 rfl) rfl
theorem q1130 : (Jvm.Cond.selects "java/util/ArrayList" ({ cls := "java/lang/Object", name := "getClass", desc := "()Ljava/lang/Class;" } : Jvm.MethodName) ({ cls := "java/lang/Object", name := "getClass", desc := "()Ljava/lang/Class;" } : Jvm.MethodName)) ∈ lw_all := lw_g (lw_at lw_m5 26 rfl) rfl
theorem q1140 : (Jvm.Cond.methodLink "java/util/ArrayList" (79 : Nat) ({ cls := "java/lang/Math", name := "max", desc := "(II)I" } : Jvm.MethodName)) ∈ lw_all := lw_g (lw_at lw_m5 36 rfl) rfl
theorem q1198 : (Jvm.Cond.selects "java/util/ArrayList" ({ cls := "java/util/List", name := "get", desc := "(I)Ljava/lang/Object;" } : Jvm.MethodName) ({ cls := "java/util/ArrayList", name := "get", desc := "(I)Ljava/lang/Object;" } : Jvm.MethodName)) ∈ lw_all := lw_g (lw_at lw_m5 94 rfl) rfl
theorem q1199 : (Jvm.Cond.unhidden "java/util/ArrayList" "get" "(I)Ljava/lang/Object;") ∈ lw_tbl := lw_at lw_m5 95 rfl
theorem q1200 : (Jvm.Cond.instanceMethod ({ cls := "java/util/ArrayList", name := "get", desc := "(I)Ljava/lang/Object;" } : Jvm.MethodName)) ∈ lw_all := lw_g (lw_at lw_m5 96 rfl) rfl
theorem q1201 : (Jvm.Cond.publicMethod ({ cls := "java/util/ArrayList", name := "get", desc := "(I)Ljava/lang/Object;" } : Jvm.MethodName)) ∈ lw_tbl := lw_at lw_m5 97 rfl
theorem q1202 : (Jvm.Cond.code ({ cls := "java/util/ArrayList", name := "get", desc := "(I)Ljava/lang/Object;" } : Jvm.MethodName) prog_40_method_20_code (2 : Nat) (Option.some (Jvm.ClassFile.FieldType.object "java/lang/Object"))) ∈ lw_all := lw_g (lw_at lw_m5 98 rfl) rfl
theorem q1203 : (Jvm.Cond.methodLink "java/util/ArrayList" (118 : Nat) ({ cls := "java/util/Objects", name := "checkIndex", desc := "(II)I" } : Jvm.MethodName)) ∈ lw_all := lw_g (lw_at lw_m5 99 rfl) rfl
theorem q1207 : (Jvm.Cond.methodLink "java/util/ArrayList" (123 : Nat) ({ cls := "java/util/ArrayList", name := "elementData", desc := "(I)Ljava/lang/Object;" } : Jvm.MethodName)) ∈ lw_all := lw_g (lw_at lw_m5 103 rfl) rfl
theorem q1208 : (Jvm.Cond.instanceMethod ({ cls := "java/util/ArrayList", name := "elementData", desc := "(I)Ljava/lang/Object;" } : Jvm.MethodName)) ∈ lw_all := lw_g (lw_at lw_m5 104 rfl) rfl
theorem q1209 : (Jvm.Cond.selects "java/util/ArrayList" ({ cls := "java/util/ArrayList", name := "elementData", desc := "(I)Ljava/lang/Object;" } : Jvm.MethodName) ({ cls := "java/util/ArrayList", name := "elementData", desc := "(I)Ljava/lang/Object;" } : Jvm.MethodName)) ∈ lw_all := lw_g (lw_at lw_m5 105 rfl) rfl
theorem q1210 : (Jvm.Cond.code ({ cls := "java/util/ArrayList", name := "elementData", desc := "(I)Ljava/lang/Object;" } : Jvm.MethodName) prog_40_method_18_code (2 : Nat) (Option.some (Jvm.ClassFile.FieldType.object "java/lang/Object"))) ∈ lw_all := lw_g (lw_at lw_m5 106 rfl) rfl
theorem q1734 : (Jvm.Cond.selects "java/util/ArrayList" ({ cls := "java/util/List", name := "set", desc := "(ILjava/lang/Object;)Ljava/lang/Object;" } : Jvm.MethodName) ({ cls := "java/util/ArrayList", name := "set", desc := "(ILjava/lang/Object;)Ljava/lang/Object;" } : Jvm.MethodName)) ∈ lw_all := lw_g (lw_at lw_m7 150 rfl) rfl
theorem q1735 : (Jvm.Cond.unhidden "java/util/ArrayList" "set" "(ILjava/lang/Object;)Ljava/lang/Object;") ∈ lw_tbl := lw_at lw_m7 151 rfl
theorem q1736 : (Jvm.Cond.instanceMethod ({ cls := "java/util/ArrayList", name := "set", desc := "(ILjava/lang/Object;)Ljava/lang/Object;" } : Jvm.MethodName)) ∈ lw_all := lw_g (lw_at lw_m7 152 rfl) rfl
theorem q1737 : (Jvm.Cond.publicMethod ({ cls := "java/util/ArrayList", name := "set", desc := "(ILjava/lang/Object;)Ljava/lang/Object;" } : Jvm.MethodName)) ∈ lw_tbl := lw_at lw_m7 153 rfl
theorem q1738 : (Jvm.Cond.code ({ cls := "java/util/ArrayList", name := "set", desc := "(ILjava/lang/Object;)Ljava/lang/Object;" } : Jvm.MethodName) prog_40_method_23_code (4 : Nat) (Option.some (Jvm.ClassFile.FieldType.object "java/lang/Object"))) ∈ lw_all := lw_g (lw_at lw_m7 154 rfl) rfl
theorem q2660 : (Jvm.Cond.castable "java/util/ArrayList" "java/lang/Object") ∈ lw_tbl := lw_at lw_m11 116 rfl
/-! MoleBoard$Game -/
set_option maxRecDepth 100000
abbrev cX3_init : ByteArray := prog_7_method_1_code
def yX3_init : MethodName := ⟨RX3, "<init>", "(LMoleBoard;)V"⟩
def dkwX3_init_1 : List UInt8 := [181, 0, 21, 42, 16, 60, 188, 10, 181, 0, 25, 177]
abbrev dktX3_init_1 : List UInt8 := dkwX3_init_1 ++ []
def dkwX3_init_0 : List UInt8 := [42, 43, 181, 0, 3, 42, 183, 0, 9, 42, 16, 60, 189, 0, 15, 181, 0, 17, 42, 16, 60, 188, 10]
abbrev dktX3_init_0 : List UInt8 := dkwX3_init_0 ++ dktX3_init_1
theorem dksX3_init_0 : cX3_init.data.toList.drop 0 = dktX3_init_0 := by decide +kernel
theorem dksX3_init_1 : cX3_init.data.toList.drop 23 = dktX3_init_1 := dk_seg dksX3_init_0 23 rfl rfl
theorem dX3_init_0 : decode cX3_init 0 = .ok (.aload_n 0, 1) := dk_42 (dk_at dksX3_init_0 0 rfl rfl)
theorem dX3_init_1 : decode cX3_init 1 = .ok (.aload_n 1, 1) := dk_43 (dk_at dksX3_init_0 1 rfl rfl)
theorem dX3_init_2 : decode cX3_init 2 = .ok (.putfield 3, 3) := dk_181 0 3 (dk_at dksX3_init_0 2 rfl rfl)
theorem dX3_init_5 : decode cX3_init 5 = .ok (.aload_n 0, 1) := dk_42 (dk_at dksX3_init_0 5 rfl rfl)
theorem dX3_init_6 : decode cX3_init 6 = .ok (.invokespecial 9, 3) := dk_183 0 9 (dk_at dksX3_init_0 6 rfl rfl)
theorem dX3_init_9 : decode cX3_init 9 = .ok (.aload_n 0, 1) := dk_42 (dk_at dksX3_init_0 9 rfl rfl)
theorem dX3_init_10 : decode cX3_init 10 = .ok (.bipush 60, 2) := dk_16 60 (dk_at dksX3_init_0 10 rfl rfl)
theorem dX3_init_12 : decode cX3_init 12 = .ok (.anewarray 15, 3) := dk_189 0 15 (dk_at dksX3_init_0 12 rfl rfl)
theorem dX3_init_15 : decode cX3_init 15 = .ok (.putfield 17, 3) := dk_181 0 17 (dk_at dksX3_init_0 15 rfl rfl)
theorem dX3_init_18 : decode cX3_init 18 = .ok (.aload_n 0, 1) := dk_42 (dk_at dksX3_init_0 18 rfl rfl)
theorem dX3_init_19 : decode cX3_init 19 = .ok (.bipush 60, 2) := dk_16 60 (dk_at dksX3_init_0 19 rfl rfl)
theorem dX3_init_21 : decode cX3_init 21 = .ok (.newarray .int, 2) := dk_188_10 (dk_at dksX3_init_0 21 rfl rfl)
theorem dX3_init_23 : decode cX3_init 23 = .ok (.putfield 21, 3) := dk_181 0 21 (dk_at dksX3_init_1 0 rfl rfl)
theorem dX3_init_26 : decode cX3_init 26 = .ok (.aload_n 0, 1) := dk_42 (dk_at dksX3_init_1 3 rfl rfl)
theorem dX3_init_27 : decode cX3_init 27 = .ok (.bipush 60, 2) := dk_16 60 (dk_at dksX3_init_1 4 rfl rfl)
theorem dX3_init_29 : decode cX3_init 29 = .ok (.newarray .int, 2) := dk_188_10 (dk_at dksX3_init_1 6 rfl rfl)
theorem dX3_init_31 : decode cX3_init 31 = .ok (.putfield 25, 3) := dk_181 0 25 (dk_at dksX3_init_1 8 rfl rfl)
theorem dX3_init_34 : decode cX3_init 34 = .ok (.return_, 1) := dk_177 (dk_at dksX3_init_1 11 rfl rfl)
abbrev cX3_lays : ByteArray := prog_7_method_3_code
def yX3_lays : MethodName := ⟨RX3, "lays", "()LMoleBoard$Game;"⟩
def dkwX3_lays_6 : List UInt8 := [96, 181, 0, 28, 167, 255, 121, 42, 176]
abbrev dktX3_lays_6 : List UInt8 := dkwX3_lays_6 ++ []
def dkwX3_lays_5 : List UInt8 := [180, 0, 28, 46, 42, 180, 0, 3, 180, 0, 32, 180, 0, 49, 96, 4, 96, 60, 42, 89, 180, 0, 28, 4]
abbrev dktX3_lays_5 : List UInt8 := dkwX3_lays_5 ++ dktX3_lays_6
def dkwX3_lays_4 : List UInt8 := [180, 0, 28, 27, 42, 180, 0, 3, 180, 0, 32, 27, 182, 0, 41, 96, 4, 100, 79, 42, 180, 0, 25, 42]
abbrev dktX3_lays_4 : List UInt8 := dkwX3_lays_4 ++ dktX3_lays_5
def dkwX3_lays_3 : List UInt8 := [180, 0, 17, 42, 180, 0, 28, 44, 83, 42, 180, 0, 21, 42, 180, 0, 28, 27, 79, 42, 180, 0, 25, 42]
abbrev dktX3_lays_3 : List UInt8 := dkwX3_lays_3 ++ dktX3_lays_4
def dkwX3_lays_2 : List UInt8 := [180, 0, 3, 180, 0, 32, 180, 0, 36, 163, 0, 92, 42, 182, 0, 45, 89, 77, 198, 0, 83, 42]
abbrev dktX3_lays_2 : List UInt8 := dkwX3_lays_2 ++ dktX3_lays_3
def dkwX3_lays_1 : List UInt8 := [180, 0, 32, 180, 0, 36, 162, 0, 118, 27, 42, 180, 0, 3, 180, 0, 32, 27, 182, 0, 41, 96, 42]
abbrev dktX3_lays_1 : List UInt8 := dkwX3_lays_1 ++ dktX3_lays_2
def dkwX3_lays_0 : List UInt8 := [42, 3, 181, 0, 28, 3, 60, 1, 77, 42, 180, 0, 28, 16, 60, 162, 0, 132, 27, 42, 180, 0, 3]
abbrev dktX3_lays_0 : List UInt8 := dkwX3_lays_0 ++ dktX3_lays_1
theorem dksX3_lays_0 : cX3_lays.data.toList.drop 0 = dktX3_lays_0 := by decide +kernel
theorem dksX3_lays_1 : cX3_lays.data.toList.drop 23 = dktX3_lays_1 := dk_seg dksX3_lays_0 23 rfl rfl
theorem dksX3_lays_2 : cX3_lays.data.toList.drop 46 = dktX3_lays_2 := dk_seg dksX3_lays_1 23 rfl rfl
theorem dksX3_lays_3 : cX3_lays.data.toList.drop 68 = dktX3_lays_3 := dk_seg dksX3_lays_2 22 rfl rfl
theorem dksX3_lays_4 : cX3_lays.data.toList.drop 92 = dktX3_lays_4 := dk_seg dksX3_lays_3 24 rfl rfl
theorem dksX3_lays_5 : cX3_lays.data.toList.drop 116 = dktX3_lays_5 := dk_seg dksX3_lays_4 24 rfl rfl
theorem dksX3_lays_6 : cX3_lays.data.toList.drop 140 = dktX3_lays_6 := dk_seg dksX3_lays_5 24 rfl rfl
theorem dX3_lays_0 : decode cX3_lays 0 = .ok (.aload_n 0, 1) := dk_42 (dk_at dksX3_lays_0 0 rfl rfl)
theorem dX3_lays_1 : decode cX3_lays 1 = .ok (.iconst 0, 1) := dk_3 (dk_at dksX3_lays_0 1 rfl rfl)
theorem dX3_lays_2 : decode cX3_lays 2 = .ok (.putfield 28, 3) := dk_181 0 28 (dk_at dksX3_lays_0 2 rfl rfl)
theorem dX3_lays_5 : decode cX3_lays 5 = .ok (.iconst 0, 1) := dk_3 (dk_at dksX3_lays_0 5 rfl rfl)
theorem dX3_lays_6 : decode cX3_lays 6 = .ok (.istore_n 1, 1) := dk_60 (dk_at dksX3_lays_0 6 rfl rfl)
theorem dX3_lays_7 : decode cX3_lays 7 = .ok (.aconst_null, 1) := dk_1 (dk_at dksX3_lays_0 7 rfl rfl)
theorem dX3_lays_8 : decode cX3_lays 8 = .ok (.astore_n 2, 1) := dk_77 (dk_at dksX3_lays_0 8 rfl rfl)
theorem dX3_lays_9 : decode cX3_lays 9 = .ok (.aload_n 0, 1) := dk_42 (dk_at dksX3_lays_0 9 rfl rfl)
theorem dX3_lays_10 : decode cX3_lays 10 = .ok (.getfield 28, 3) := dk_180 0 28 (dk_at dksX3_lays_0 10 rfl rfl)
theorem dX3_lays_13 : decode cX3_lays 13 = .ok (.bipush 60, 2) := dk_16 60 (dk_at dksX3_lays_0 13 rfl rfl)
theorem dX3_lays_15 : decode cX3_lays 15 = .ok (.if_icmp .ge 132, 3) := dk_162 0 132 (dk_at dksX3_lays_0 15 rfl rfl)
theorem dX3_lays_18 : decode cX3_lays 18 = .ok (.iload_n 1, 1) := dk_27 (dk_at dksX3_lays_0 18 rfl rfl)
theorem dX3_lays_19 : decode cX3_lays 19 = .ok (.aload_n 0, 1) := dk_42 (dk_at dksX3_lays_0 19 rfl rfl)
theorem dX3_lays_20 : decode cX3_lays 20 = .ok (.getfield 3, 3) := dk_180 0 3 (dk_at dksX3_lays_0 20 rfl rfl)
theorem dX3_lays_23 : decode cX3_lays 23 = .ok (.getfield 32, 3) := dk_180 0 32 (dk_at dksX3_lays_1 0 rfl rfl)
theorem dX3_lays_26 : decode cX3_lays 26 = .ok (.getfield 36, 3) := dk_180 0 36 (dk_at dksX3_lays_1 3 rfl rfl)
theorem dX3_lays_29 : decode cX3_lays 29 = .ok (.if_icmp .ge 118, 3) := dk_162 0 118 (dk_at dksX3_lays_1 6 rfl rfl)
theorem dX3_lays_32 : decode cX3_lays 32 = .ok (.iload_n 1, 1) := dk_27 (dk_at dksX3_lays_1 9 rfl rfl)
theorem dX3_lays_33 : decode cX3_lays 33 = .ok (.aload_n 0, 1) := dk_42 (dk_at dksX3_lays_1 10 rfl rfl)
theorem dX3_lays_34 : decode cX3_lays 34 = .ok (.getfield 3, 3) := dk_180 0 3 (dk_at dksX3_lays_1 11 rfl rfl)
theorem dX3_lays_37 : decode cX3_lays 37 = .ok (.getfield 32, 3) := dk_180 0 32 (dk_at dksX3_lays_1 14 rfl rfl)
theorem dX3_lays_40 : decode cX3_lays 40 = .ok (.iload_n 1, 1) := dk_27 (dk_at dksX3_lays_1 17 rfl rfl)
theorem dX3_lays_41 : decode cX3_lays 41 = .ok (.invokevirtual 41, 3) := dk_182 0 41 (dk_at dksX3_lays_1 18 rfl rfl)
theorem dX3_lays_44 : decode cX3_lays 44 = .ok (.iadd, 1) := dk_96 (dk_at dksX3_lays_1 21 rfl rfl)
theorem dX3_lays_45 : decode cX3_lays 45 = .ok (.aload_n 0, 1) := dk_42 (dk_at dksX3_lays_1 22 rfl rfl)
theorem dX3_lays_46 : decode cX3_lays 46 = .ok (.getfield 3, 3) := dk_180 0 3 (dk_at dksX3_lays_2 0 rfl rfl)
theorem dX3_lays_49 : decode cX3_lays 49 = .ok (.getfield 32, 3) := dk_180 0 32 (dk_at dksX3_lays_2 3 rfl rfl)
theorem dX3_lays_52 : decode cX3_lays 52 = .ok (.getfield 36, 3) := dk_180 0 36 (dk_at dksX3_lays_2 6 rfl rfl)
theorem dX3_lays_55 : decode cX3_lays 55 = .ok (.if_icmp .gt 92, 3) := dk_163 0 92 (dk_at dksX3_lays_2 9 rfl rfl)
theorem dX3_lays_58 : decode cX3_lays 58 = .ok (.aload_n 0, 1) := dk_42 (dk_at dksX3_lays_2 12 rfl rfl)
theorem dX3_lays_59 : decode cX3_lays 59 = .ok (.invokevirtual 45, 3) := dk_182 0 45 (dk_at dksX3_lays_2 13 rfl rfl)
theorem dX3_lays_62 : decode cX3_lays 62 = .ok (.dup, 1) := dk_89 (dk_at dksX3_lays_2 16 rfl rfl)
theorem dX3_lays_63 : decode cX3_lays 63 = .ok (.astore_n 2, 1) := dk_77 (dk_at dksX3_lays_2 17 rfl rfl)
theorem dX3_lays_64 : decode cX3_lays 64 = .ok (.ifnull 83, 3) := dk_198 0 83 (dk_at dksX3_lays_2 18 rfl rfl)
theorem dX3_lays_67 : decode cX3_lays 67 = .ok (.aload_n 0, 1) := dk_42 (dk_at dksX3_lays_2 21 rfl rfl)
theorem dX3_lays_68 : decode cX3_lays 68 = .ok (.getfield 17, 3) := dk_180 0 17 (dk_at dksX3_lays_3 0 rfl rfl)
theorem dX3_lays_71 : decode cX3_lays 71 = .ok (.aload_n 0, 1) := dk_42 (dk_at dksX3_lays_3 3 rfl rfl)
theorem dX3_lays_72 : decode cX3_lays 72 = .ok (.getfield 28, 3) := dk_180 0 28 (dk_at dksX3_lays_3 4 rfl rfl)
theorem dX3_lays_75 : decode cX3_lays 75 = .ok (.aload_n 2, 1) := dk_44 (dk_at dksX3_lays_3 7 rfl rfl)
theorem dX3_lays_76 : decode cX3_lays 76 = .ok (.aastore, 1) := dk_83 (dk_at dksX3_lays_3 8 rfl rfl)
theorem dX3_lays_77 : decode cX3_lays 77 = .ok (.aload_n 0, 1) := dk_42 (dk_at dksX3_lays_3 9 rfl rfl)
theorem dX3_lays_78 : decode cX3_lays 78 = .ok (.getfield 21, 3) := dk_180 0 21 (dk_at dksX3_lays_3 10 rfl rfl)
theorem dX3_lays_81 : decode cX3_lays 81 = .ok (.aload_n 0, 1) := dk_42 (dk_at dksX3_lays_3 13 rfl rfl)
theorem dX3_lays_82 : decode cX3_lays 82 = .ok (.getfield 28, 3) := dk_180 0 28 (dk_at dksX3_lays_3 14 rfl rfl)
theorem dX3_lays_85 : decode cX3_lays 85 = .ok (.iload_n 1, 1) := dk_27 (dk_at dksX3_lays_3 17 rfl rfl)
theorem dX3_lays_86 : decode cX3_lays 86 = .ok (.iastore, 1) := dk_79 (dk_at dksX3_lays_3 18 rfl rfl)
theorem dX3_lays_87 : decode cX3_lays 87 = .ok (.aload_n 0, 1) := dk_42 (dk_at dksX3_lays_3 19 rfl rfl)
theorem dX3_lays_88 : decode cX3_lays 88 = .ok (.getfield 25, 3) := dk_180 0 25 (dk_at dksX3_lays_3 20 rfl rfl)
theorem dX3_lays_91 : decode cX3_lays 91 = .ok (.aload_n 0, 1) := dk_42 (dk_at dksX3_lays_3 23 rfl rfl)
theorem dX3_lays_92 : decode cX3_lays 92 = .ok (.getfield 28, 3) := dk_180 0 28 (dk_at dksX3_lays_4 0 rfl rfl)
theorem dX3_lays_95 : decode cX3_lays 95 = .ok (.iload_n 1, 1) := dk_27 (dk_at dksX3_lays_4 3 rfl rfl)
theorem dX3_lays_96 : decode cX3_lays 96 = .ok (.aload_n 0, 1) := dk_42 (dk_at dksX3_lays_4 4 rfl rfl)
theorem dX3_lays_97 : decode cX3_lays 97 = .ok (.getfield 3, 3) := dk_180 0 3 (dk_at dksX3_lays_4 5 rfl rfl)
theorem dX3_lays_100 : decode cX3_lays 100 = .ok (.getfield 32, 3) := dk_180 0 32 (dk_at dksX3_lays_4 8 rfl rfl)
theorem dX3_lays_103 : decode cX3_lays 103 = .ok (.iload_n 1, 1) := dk_27 (dk_at dksX3_lays_4 11 rfl rfl)
theorem dX3_lays_104 : decode cX3_lays 104 = .ok (.invokevirtual 41, 3) := dk_182 0 41 (dk_at dksX3_lays_4 12 rfl rfl)
theorem dX3_lays_107 : decode cX3_lays 107 = .ok (.iadd, 1) := dk_96 (dk_at dksX3_lays_4 15 rfl rfl)
theorem dX3_lays_108 : decode cX3_lays 108 = .ok (.iconst 1, 1) := dk_4 (dk_at dksX3_lays_4 16 rfl rfl)
theorem dX3_lays_109 : decode cX3_lays 109 = .ok (.isub, 1) := dk_100 (dk_at dksX3_lays_4 17 rfl rfl)
theorem dX3_lays_110 : decode cX3_lays 110 = .ok (.iastore, 1) := dk_79 (dk_at dksX3_lays_4 18 rfl rfl)
theorem dX3_lays_111 : decode cX3_lays 111 = .ok (.aload_n 0, 1) := dk_42 (dk_at dksX3_lays_4 19 rfl rfl)
theorem dX3_lays_112 : decode cX3_lays 112 = .ok (.getfield 25, 3) := dk_180 0 25 (dk_at dksX3_lays_4 20 rfl rfl)
theorem dX3_lays_115 : decode cX3_lays 115 = .ok (.aload_n 0, 1) := dk_42 (dk_at dksX3_lays_4 23 rfl rfl)
theorem dX3_lays_116 : decode cX3_lays 116 = .ok (.getfield 28, 3) := dk_180 0 28 (dk_at dksX3_lays_5 0 rfl rfl)
theorem dX3_lays_119 : decode cX3_lays 119 = .ok (.iaload, 1) := dk_46 (dk_at dksX3_lays_5 3 rfl rfl)
theorem dX3_lays_120 : decode cX3_lays 120 = .ok (.aload_n 0, 1) := dk_42 (dk_at dksX3_lays_5 4 rfl rfl)
theorem dX3_lays_121 : decode cX3_lays 121 = .ok (.getfield 3, 3) := dk_180 0 3 (dk_at dksX3_lays_5 5 rfl rfl)
theorem dX3_lays_124 : decode cX3_lays 124 = .ok (.getfield 32, 3) := dk_180 0 32 (dk_at dksX3_lays_5 8 rfl rfl)
theorem dX3_lays_127 : decode cX3_lays 127 = .ok (.getfield 49, 3) := dk_180 0 49 (dk_at dksX3_lays_5 11 rfl rfl)
theorem dX3_lays_130 : decode cX3_lays 130 = .ok (.iadd, 1) := dk_96 (dk_at dksX3_lays_5 14 rfl rfl)
theorem dX3_lays_131 : decode cX3_lays 131 = .ok (.iconst 1, 1) := dk_4 (dk_at dksX3_lays_5 15 rfl rfl)
theorem dX3_lays_132 : decode cX3_lays 132 = .ok (.iadd, 1) := dk_96 (dk_at dksX3_lays_5 16 rfl rfl)
theorem dX3_lays_133 : decode cX3_lays 133 = .ok (.istore_n 1, 1) := dk_60 (dk_at dksX3_lays_5 17 rfl rfl)
theorem dX3_lays_134 : decode cX3_lays 134 = .ok (.aload_n 0, 1) := dk_42 (dk_at dksX3_lays_5 18 rfl rfl)
theorem dX3_lays_135 : decode cX3_lays 135 = .ok (.dup, 1) := dk_89 (dk_at dksX3_lays_5 19 rfl rfl)
theorem dX3_lays_136 : decode cX3_lays 136 = .ok (.getfield 28, 3) := dk_180 0 28 (dk_at dksX3_lays_5 20 rfl rfl)
theorem dX3_lays_139 : decode cX3_lays 139 = .ok (.iconst 1, 1) := dk_4 (dk_at dksX3_lays_5 23 rfl rfl)
theorem dX3_lays_140 : decode cX3_lays 140 = .ok (.iadd, 1) := dk_96 (dk_at dksX3_lays_6 0 rfl rfl)
theorem dX3_lays_141 : decode cX3_lays 141 = .ok (.putfield 28, 3) := dk_181 0 28 (dk_at dksX3_lays_6 1 rfl rfl)
theorem dX3_lays_144 : decode cX3_lays 144 = .ok (.goto (-135), 3) := dk_167 255 121 (dk_at dksX3_lays_6 4 rfl rfl)
theorem dX3_lays_147 : decode cX3_lays 147 = .ok (.aload_n 0, 1) := dk_42 (dk_at dksX3_lays_6 7 rfl rfl)
theorem dX3_lays_148 : decode cX3_lays 148 = .ok (.areturn, 1) := dk_176 (dk_at dksX3_lays_6 8 rfl rfl)
abbrev cX3_mole : ByteArray := prog_7_method_4_code
def yX3_mole : MethodName := ⟨RX3, "mole", "(I)LMoleBoard$Mole;"⟩
def dkwX3_mole_0 : List UInt8 := [42, 180, 0, 17, 27, 50, 176]
abbrev dktX3_mole_0 : List UInt8 := dkwX3_mole_0 ++ []
theorem dksX3_mole_0 : cX3_mole.data.toList.drop 0 = dktX3_mole_0 := by decide +kernel
theorem dX3_mole_0 : decode cX3_mole 0 = .ok (.aload_n 0, 1) := dk_42 (dk_at dksX3_mole_0 0 rfl rfl)
theorem dX3_mole_1 : decode cX3_mole 1 = .ok (.getfield 17, 3) := dk_180 0 17 (dk_at dksX3_mole_0 1 rfl rfl)
theorem dX3_mole_4 : decode cX3_mole 4 = .ok (.iload_n 1, 1) := dk_27 (dk_at dksX3_mole_0 4 rfl rfl)
theorem dX3_mole_5 : decode cX3_mole 5 = .ok (.aaload, 1) := dk_50 (dk_at dksX3_mole_0 5 rfl rfl)
theorem dX3_mole_6 : decode cX3_mole 6 = .ok (.areturn, 1) := dk_176 (dk_at dksX3_mole_0 6 rfl rfl)
abbrev cX3_isUp : ByteArray := prog_7_method_5_code
def yX3_isUp : MethodName := ⟨RX3, "isUp", "(II)Z"⟩
def dkwX3_isUp_0 : List UInt8 := [28, 133, 42, 180, 0, 21, 27, 46, 133, 42, 180, 0, 25, 27, 46, 133, 184, 0, 52, 172]
abbrev dktX3_isUp_0 : List UInt8 := dkwX3_isUp_0 ++ []
theorem dksX3_isUp_0 : cX3_isUp.data.toList.drop 0 = dktX3_isUp_0 := by decide +kernel
theorem dX3_isUp_0 : decode cX3_isUp 0 = .ok (.iload_n 2, 1) := dk_28 (dk_at dksX3_isUp_0 0 rfl rfl)
theorem dX3_isUp_1 : decode cX3_isUp 1 = .ok (.i2l, 1) := dk_133 (dk_at dksX3_isUp_0 1 rfl rfl)
theorem dX3_isUp_2 : decode cX3_isUp 2 = .ok (.aload_n 0, 1) := dk_42 (dk_at dksX3_isUp_0 2 rfl rfl)
theorem dX3_isUp_3 : decode cX3_isUp 3 = .ok (.getfield 21, 3) := dk_180 0 21 (dk_at dksX3_isUp_0 3 rfl rfl)
theorem dX3_isUp_6 : decode cX3_isUp 6 = .ok (.iload_n 1, 1) := dk_27 (dk_at dksX3_isUp_0 6 rfl rfl)
theorem dX3_isUp_7 : decode cX3_isUp 7 = .ok (.iaload, 1) := dk_46 (dk_at dksX3_isUp_0 7 rfl rfl)
theorem dX3_isUp_8 : decode cX3_isUp 8 = .ok (.i2l, 1) := dk_133 (dk_at dksX3_isUp_0 8 rfl rfl)
theorem dX3_isUp_9 : decode cX3_isUp 9 = .ok (.aload_n 0, 1) := dk_42 (dk_at dksX3_isUp_0 9 rfl rfl)
theorem dX3_isUp_10 : decode cX3_isUp 10 = .ok (.getfield 25, 3) := dk_180 0 25 (dk_at dksX3_isUp_0 10 rfl rfl)
theorem dX3_isUp_13 : decode cX3_isUp 13 = .ok (.iload_n 1, 1) := dk_27 (dk_at dksX3_isUp_0 13 rfl rfl)
theorem dX3_isUp_14 : decode cX3_isUp 14 = .ok (.iaload, 1) := dk_46 (dk_at dksX3_isUp_0 14 rfl rfl)
theorem dX3_isUp_15 : decode cX3_isUp 15 = .ok (.i2l, 1) := dk_133 (dk_at dksX3_isUp_0 15 rfl rfl)
theorem dX3_isUp_16 : decode cX3_isUp 16 = .ok (.invokestatic 52, 3) := dk_184 0 52 (dk_at dksX3_isUp_0 16 rfl rfl)
theorem dX3_isUp_19 : decode cX3_isUp 19 = .ok (.ireturn, 1) := dk_172 (dk_at dksX3_isUp_0 19 rfl rfl)
theorem q151 : (Jvm.Cond.initialized "MoleBoard$Game") ∈ lw_all := lw_g (lw_at lw_m1 7 rfl) rfl
theorem q454 : (Jvm.Cond.fieldLinkNest "MoleBoard$Game" (36 : Nat) "MoleBoard$Board" "ticks" "I" "MoleBoard") ∈ lw_tbl := lw_at lw_m2 70 rfl
theorem q458 : (Jvm.Cond.fieldLinkNest "MoleBoard$Game" (49 : Nat) "MoleBoard$Board" "pause" "I" "MoleBoard") ∈ lw_tbl := lw_at lw_m2 74 rfl
theorem q515 : (Jvm.Cond.instanceMethod ({ cls := "MoleBoard$Game", name := "<init>", desc := "(LMoleBoard;)V" } : Jvm.MethodName)) ∈ lw_all := lw_g (lw_at lw_m2 131 rfl) rfl
theorem q516 : (Jvm.Cond.code ({ cls := "MoleBoard$Game", name := "<init>", desc := "(LMoleBoard;)V" } : Jvm.MethodName) prog_7_method_1_code (2 : Nat) (Option.none : Option Jvm.ClassFile.FieldType)) ∈ lw_all := lw_g (lw_at lw_m2 132 rfl) rfl
theorem q517 : (Jvm.Cond.methodLink "MoleBoard$Game" (9 : Nat) ({ cls := "java/lang/Object", name := "<init>", desc := "()V" } : Jvm.MethodName)) ∈ lw_all := lw_g (lw_at lw_m2 133 rfl) rfl
theorem q518 : (Jvm.Cond.classLink "MoleBoard$Game" (15 : Nat) "MoleBoard$Mole") ∈ lw_all := lw_g (lw_at lw_m2 134 rfl) rfl
theorem q521 : (Jvm.Cond.fieldLink "MoleBoard$Game" (17 : Nat) "MoleBoard$Game" "moles" "[LMoleBoard$Mole;") ∈ lw_all := lw_g (lw_at lw_m2 137 rfl) rfl
theorem q522 : (Jvm.Cond.fieldLink "MoleBoard$Game" (21 : Nat) "MoleBoard$Game" "first" "[I") ∈ lw_all := lw_g (lw_at lw_m2 138 rfl) rfl
theorem q527 : (Jvm.Cond.fieldLink "MoleBoard$Game" (25 : Nat) "MoleBoard$Game" "last" "[I") ∈ lw_all := lw_g (lw_at lw_m2 143 rfl) rfl
theorem q534 : (Jvm.Cond.fieldLink "MoleBoard$Game" (28 : Nat) "MoleBoard$Game" "many" "I") ∈ lw_all := lw_g (lw_at lw_m2 150 rfl) rfl
theorem q540 : (Jvm.Cond.fieldLink "MoleBoard$Game" (3 : Nat) "MoleBoard$Game" "this$0" "LMoleBoard;") ∈ lw_all := lw_g (lw_at lw_m2 156 rfl) rfl
theorem q544 : (Jvm.Cond.soleField "MoleBoard$Game" "moles") ∈ lw_all := lw_g (lw_at lw_m2 160 rfl) rfl
theorem q546 : (Jvm.Cond.soleField "MoleBoard$Game" "first") ∈ lw_all := lw_g (lw_at lw_m2 162 rfl) rfl
theorem q548 : (Jvm.Cond.soleField "MoleBoard$Game" "last") ∈ lw_all := lw_g (lw_at lw_m2 164 rfl) rfl
theorem q550 : (Jvm.Cond.soleField "MoleBoard$Game" "many") ∈ lw_all := lw_g (lw_at lw_m2 166 rfl) rfl
theorem q552 : (Jvm.Cond.soleField "MoleBoard$Game" "this$0") ∈ lw_all := lw_g (lw_at lw_m2 168 rfl) rfl
theorem q718 : (Jvm.Cond.fieldLinkNest "MoleBoard$Game" (32 : Nat) "MoleBoard" "now" "LMoleBoard$Board;" "MoleBoard") ∈ lw_tbl := lw_at lw_m3 94 rfl
theorem q1251 : (Jvm.Cond.declares ({ cls := "MoleBoard$Game", name := "lays", desc := "()LMoleBoard$Game;" } : Jvm.MethodName)) ∈ lw_tbl := lw_at lw_m5 147 rfl
theorem q1253 : (Jvm.Cond.instanceMethod ({ cls := "MoleBoard$Game", name := "lays", desc := "()LMoleBoard$Game;" } : Jvm.MethodName)) ∈ lw_all := lw_g (lw_at lw_m5 149 rfl) rfl
theorem q1254 : (Jvm.Cond.code ({ cls := "MoleBoard$Game", name := "lays", desc := "()LMoleBoard$Game;" } : Jvm.MethodName) prog_7_method_3_code (3 : Nat) (Option.some (Jvm.ClassFile.FieldType.object "MoleBoard$Game"))) ∈ lw_all := lw_g (lw_at lw_m5 150 rfl) rfl
theorem q1255 : (Jvm.Cond.methodLink "MoleBoard$Game" (41 : Nat) ({ cls := "MoleBoard$Board", name := "stay", desc := "(I)I" } : Jvm.MethodName)) ∈ lw_all := lw_g (lw_at lw_m5 151 rfl) rfl
theorem q1256 : (Jvm.Cond.methodLink "MoleBoard$Game" (45 : Nat) ({ cls := "MoleBoard$Game", name := "next", desc := "()LMoleBoard$Mole;" } : Jvm.MethodName)) ∈ lw_all := lw_g (lw_at lw_m5 152 rfl) rfl
theorem q1257 : (Jvm.Cond.declares ({ cls := "MoleBoard$Game", name := "next", desc := "()LMoleBoard$Mole;" } : Jvm.MethodName)) ∈ lw_tbl := lw_at lw_m5 153 rfl
theorem q1258 : (Jvm.Cond.sameMethod "MoleBoard$Game" "MoleBoard$Game" "next" "()LMoleBoard$Mole;") ∈ lw_all := lw_g (lw_at lw_m5 154 rfl) rfl
theorem q1297 : (Jvm.Cond.instanceMethod ({ cls := "MoleBoard$Game", name := "mole", desc := "(I)LMoleBoard$Mole;" } : Jvm.MethodName)) ∈ lw_all := lw_g (lw_at lw_m5 193 rfl) rfl
theorem q1298 : (Jvm.Cond.sameMethod "MoleBoard$Game" "MoleBoard$Game" "mole" "(I)LMoleBoard$Mole;") ∈ lw_all := lw_g (lw_at lw_m5 194 rfl) rfl
theorem q1301 : (Jvm.Cond.code ({ cls := "MoleBoard$Game", name := "mole", desc := "(I)LMoleBoard$Mole;" } : Jvm.MethodName) prog_7_method_4_code (2 : Nat) (Option.some (Jvm.ClassFile.FieldType.object "MoleBoard$Mole"))) ∈ lw_all := lw_g (lw_at lw_m5 197 rfl) rfl
theorem q1307 : (Jvm.Cond.instanceMethod ({ cls := "MoleBoard$Game", name := "isUp", desc := "(II)Z" } : Jvm.MethodName)) ∈ lw_all := lw_g (lw_at lw_m5 203 rfl) rfl
theorem q1308 : (Jvm.Cond.sameMethod "MoleBoard$Game" "MoleBoard$Game" "isUp" "(II)Z") ∈ lw_all := lw_g (lw_at lw_m5 204 rfl) rfl
theorem q1311 : (Jvm.Cond.code ({ cls := "MoleBoard$Game", name := "isUp", desc := "(II)Z" } : Jvm.MethodName) prog_7_method_5_code (3 : Nat) (Option.some Jvm.ClassFile.FieldType.boolean)) ∈ lw_all := lw_g (lw_at lw_m5 207 rfl) rfl
theorem q1312 : (Jvm.Cond.methodLinkNest "MoleBoard$Game" (52 : Nat) ({ cls := "MoleBoard", name := "in", desc := "(JJJ)Z" } : Jvm.MethodName) "MoleBoard") ∈ lw_tbl := lw_at lw_m5 208 rfl
/-! MoleBoard$DrumGame -/
set_option maxRecDepth 100000
-- two fields of one name: no nmX4
abbrev cX4_init : ByteArray := prog_5_method_1_code
def yX4_init : MethodName := ⟨RX4, "<init>", "(LMoleBoard;)V"⟩
def dkwX4_init_0 : List UInt8 := [42, 43, 181, 0, 1, 42, 43, 183, 0, 7, 177]
abbrev dktX4_init_0 : List UInt8 := dkwX4_init_0 ++ []
theorem dksX4_init_0 : cX4_init.data.toList.drop 0 = dktX4_init_0 := by decide +kernel
theorem dX4_init_0 : decode cX4_init 0 = .ok (.aload_n 0, 1) := dk_42 (dk_at dksX4_init_0 0 rfl rfl)
theorem dX4_init_1 : decode cX4_init 1 = .ok (.aload_n 1, 1) := dk_43 (dk_at dksX4_init_0 1 rfl rfl)
theorem dX4_init_2 : decode cX4_init 2 = .ok (.putfield 1, 3) := dk_181 0 1 (dk_at dksX4_init_0 2 rfl rfl)
theorem dX4_init_5 : decode cX4_init 5 = .ok (.aload_n 0, 1) := dk_42 (dk_at dksX4_init_0 5 rfl rfl)
theorem dX4_init_6 : decode cX4_init 6 = .ok (.aload_n 1, 1) := dk_43 (dk_at dksX4_init_0 6 rfl rfl)
theorem dX4_init_7 : decode cX4_init 7 = .ok (.invokespecial 7, 3) := dk_183 0 7 (dk_at dksX4_init_0 7 rfl rfl)
theorem dX4_init_10 : decode cX4_init 10 = .ok (.return_, 1) := dk_177 (dk_at dksX4_init_0 10 rfl rfl)
abbrev cX4_next : ByteArray := prog_5_method_2_code
def yX4_next : MethodName := ⟨RX4, "next", "()LMoleBoard$Mole;"⟩
def dkwX4_next_2 : List UInt8 := [185, 0, 36, 2, 0, 192, 0, 42, 176]
abbrev dktX4_next_2 : List UInt8 := dkwX4_next_2 ++ []
def dkwX4_next_1 : List UInt8 := [42, 180, 0, 1, 180, 0, 19, 180, 0, 29, 42, 180, 0, 33, 96, 42, 180, 0, 1, 182, 0, 13, 112]
abbrev dktX4_next_1 : List UInt8 := dkwX4_next_1 ++ dktX4_next_2
def dkwX4_next_0 : List UInt8 := [42, 180, 0, 1, 182, 0, 13, 154, 0, 7, 1, 167, 0, 44, 42, 180, 0, 1, 180, 0, 19, 180, 0, 23]
abbrev dktX4_next_0 : List UInt8 := dkwX4_next_0 ++ dktX4_next_1
theorem dksX4_next_0 : cX4_next.data.toList.drop 0 = dktX4_next_0 := by decide +kernel
theorem dksX4_next_1 : cX4_next.data.toList.drop 24 = dktX4_next_1 := dk_seg dksX4_next_0 24 rfl rfl
theorem dksX4_next_2 : cX4_next.data.toList.drop 47 = dktX4_next_2 := dk_seg dksX4_next_1 23 rfl rfl
theorem dX4_next_0 : decode cX4_next 0 = .ok (.aload_n 0, 1) := dk_42 (dk_at dksX4_next_0 0 rfl rfl)
theorem dX4_next_1 : decode cX4_next 1 = .ok (.getfield 1, 3) := dk_180 0 1 (dk_at dksX4_next_0 1 rfl rfl)
theorem dX4_next_4 : decode cX4_next 4 = .ok (.invokevirtual 13, 3) := dk_182 0 13 (dk_at dksX4_next_0 4 rfl rfl)
theorem dX4_next_7 : decode cX4_next 7 = .ok (.ifCond .ne 7, 3) := dk_154 0 7 (dk_at dksX4_next_0 7 rfl rfl)
theorem dX4_next_10 : decode cX4_next 10 = .ok (.aconst_null, 1) := dk_1 (dk_at dksX4_next_0 10 rfl rfl)
theorem dX4_next_11 : decode cX4_next 11 = .ok (.goto 44, 3) := dk_167 0 44 (dk_at dksX4_next_0 11 rfl rfl)
theorem dX4_next_14 : decode cX4_next 14 = .ok (.aload_n 0, 1) := dk_42 (dk_at dksX4_next_0 14 rfl rfl)
theorem dX4_next_15 : decode cX4_next 15 = .ok (.getfield 1, 3) := dk_180 0 1 (dk_at dksX4_next_0 15 rfl rfl)
theorem dX4_next_18 : decode cX4_next 18 = .ok (.getfield 19, 3) := dk_180 0 19 (dk_at dksX4_next_0 18 rfl rfl)
theorem dX4_next_21 : decode cX4_next 21 = .ok (.getfield 23, 3) := dk_180 0 23 (dk_at dksX4_next_0 21 rfl rfl)
theorem dX4_next_24 : decode cX4_next 24 = .ok (.aload_n 0, 1) := dk_42 (dk_at dksX4_next_1 0 rfl rfl)
theorem dX4_next_25 : decode cX4_next 25 = .ok (.getfield 1, 3) := dk_180 0 1 (dk_at dksX4_next_1 1 rfl rfl)
theorem dX4_next_28 : decode cX4_next 28 = .ok (.getfield 19, 3) := dk_180 0 19 (dk_at dksX4_next_1 4 rfl rfl)
theorem dX4_next_31 : decode cX4_next 31 = .ok (.getfield 29, 3) := dk_180 0 29 (dk_at dksX4_next_1 7 rfl rfl)
theorem dX4_next_34 : decode cX4_next 34 = .ok (.aload_n 0, 1) := dk_42 (dk_at dksX4_next_1 10 rfl rfl)
theorem dX4_next_35 : decode cX4_next 35 = .ok (.getfield 33, 3) := dk_180 0 33 (dk_at dksX4_next_1 11 rfl rfl)
theorem dX4_next_38 : decode cX4_next 38 = .ok (.iadd, 1) := dk_96 (dk_at dksX4_next_1 14 rfl rfl)
theorem dX4_next_39 : decode cX4_next 39 = .ok (.aload_n 0, 1) := dk_42 (dk_at dksX4_next_1 15 rfl rfl)
theorem dX4_next_40 : decode cX4_next 40 = .ok (.getfield 1, 3) := dk_180 0 1 (dk_at dksX4_next_1 16 rfl rfl)
theorem dX4_next_43 : decode cX4_next 43 = .ok (.invokevirtual 13, 3) := dk_182 0 13 (dk_at dksX4_next_1 19 rfl rfl)
theorem dX4_next_46 : decode cX4_next 46 = .ok (.irem, 1) := dk_112 (dk_at dksX4_next_1 22 rfl rfl)
theorem dX4_next_47 : decode cX4_next 47 = .ok (.invokeinterface 36 2, 5) := by decide +kernel
theorem dX4_next_52 : decode cX4_next 52 = .ok (.checkcast 42, 3) := dk_192 0 42 (dk_at dksX4_next_2 5 rfl rfl)
theorem dX4_next_55 : decode cX4_next 55 = .ok (.areturn, 1) := dk_176 (dk_at dksX4_next_2 8 rfl rfl)
theorem q152 : (Jvm.Cond.initialized "MoleBoard$DrumGame") ∈ lw_all := lw_g (lw_at lw_m1 8 rfl) rfl
theorem q438 : (Jvm.Cond.fieldLinkNest "MoleBoard$DrumGame" (23 : Nat) "MoleBoard$Board" "drum" "Ljava/util/List;" "MoleBoard") ∈ lw_tbl := lw_at lw_m2 54 rfl
theorem q476 : (Jvm.Cond.fieldLinkNest "MoleBoard$DrumGame" (29 : Nat) "MoleBoard$Board" "stands" "I" "MoleBoard") ∈ lw_tbl := lw_at lw_m2 92 rfl
theorem q510 : (Jvm.Cond.instantiable "MoleBoard$DrumGame" (6 : Nat)) ∈ lw_all := lw_g (lw_at lw_m2 126 rfl) rfl
theorem q512 : (Jvm.Cond.instanceMethod ({ cls := "MoleBoard$DrumGame", name := "<init>", desc := "(LMoleBoard;)V" } : Jvm.MethodName)) ∈ lw_all := lw_g (lw_at lw_m2 128 rfl) rfl
theorem q513 : (Jvm.Cond.code ({ cls := "MoleBoard$DrumGame", name := "<init>", desc := "(LMoleBoard;)V" } : Jvm.MethodName) prog_5_method_1_code (2 : Nat) (Option.none : Option Jvm.ClassFile.FieldType)) ∈ lw_all := lw_g (lw_at lw_m2 129 rfl) rfl
theorem q514 : (Jvm.Cond.methodLinkNest "MoleBoard$DrumGame" (7 : Nat) ({ cls := "MoleBoard$Game", name := "<init>", desc := "(LMoleBoard;)V" } : Jvm.MethodName) "MoleBoard") ∈ lw_tbl := lw_at lw_m2 130 rfl
theorem q520 : (Jvm.Cond.fieldLink "MoleBoard$DrumGame" (1 : Nat) "MoleBoard$DrumGame" "this$0" "LMoleBoard;") ∈ lw_all := lw_g (lw_at lw_m2 136 rfl) rfl
theorem q531 : (Jvm.Cond.fieldLink "MoleBoard$DrumGame" (33 : Nat) "MoleBoard$DrumGame" "many" "I") ∈ lw_all := lw_g (lw_at lw_m2 147 rfl) rfl
theorem q532 : (Jvm.Cond.sameField "MoleBoard$DrumGame" "MoleBoard$Game" "many" "I") ∈ lw_all := lw_g (lw_at lw_m2 148 rfl) rfl
theorem q541 : (Jvm.Cond.laysFinal "MoleBoard$DrumGame" "MoleBoard$DrumGame" "this$0" "LMoleBoard;") ∈ lw_all := lw_g (lw_at lw_m2 157 rfl) rfl
theorem q542 : (Jvm.Cond.soleField "MoleBoard$DrumGame" "this$0") ∈ lw_all := lw_g (lw_at lw_m2 158 rfl) rfl
theorem q543 : (Jvm.Cond.laysFinal "MoleBoard$DrumGame" "MoleBoard$Game" "moles" "[LMoleBoard$Mole;") ∈ lw_all := lw_g (lw_at lw_m2 159 rfl) rfl
theorem q545 : (Jvm.Cond.laysFinal "MoleBoard$DrumGame" "MoleBoard$Game" "first" "[I") ∈ lw_all := lw_g (lw_at lw_m2 161 rfl) rfl
theorem q547 : (Jvm.Cond.laysFinal "MoleBoard$DrumGame" "MoleBoard$Game" "last" "[I") ∈ lw_all := lw_g (lw_at lw_m2 163 rfl) rfl
theorem q549 : (Jvm.Cond.lays "MoleBoard$DrumGame" "MoleBoard$Game" "many" "I") ∈ lw_all := lw_g (lw_at lw_m2 165 rfl) rfl
theorem q551 : (Jvm.Cond.laysFinal "MoleBoard$DrumGame" "MoleBoard$Game" "this$0" "LMoleBoard;") ∈ lw_all := lw_g (lw_at lw_m2 167 rfl) rfl
theorem q553 : (Jvm.Cond.superclass "MoleBoard$DrumGame" "MoleBoard$Game") ∈ lw_all := lw_g (lw_at lw_m2 169 rfl) rfl
theorem q716 : (Jvm.Cond.fieldLinkNest "MoleBoard$DrumGame" (19 : Nat) "MoleBoard" "now" "LMoleBoard$Board;" "MoleBoard") ∈ lw_tbl := lw_at lw_m3 92 rfl
theorem q1116 : (Jvm.Cond.selects "MoleBoard$DrumGame" ({ cls := "java/lang/Object", name := "getClass", desc := "()Ljava/lang/Class;" } : Jvm.MethodName) ({ cls := "java/lang/Object", name := "getClass", desc := "()Ljava/lang/Class;" } : Jvm.MethodName)) ∈ lw_all := lw_g (lw_at lw_m5 12 rfl) rfl
theorem q1250 : (Jvm.Cond.sameMethod "MoleBoard$DrumGame" "MoleBoard$Game" "lays" "()LMoleBoard$Game;") ∈ lw_all := lw_g (lw_at lw_m5 146 rfl) rfl
theorem q1252 : (Jvm.Cond.selects "MoleBoard$DrumGame" ({ cls := "MoleBoard$DrumGame", name := "lays", desc := "()LMoleBoard$Game;" } : Jvm.MethodName) ({ cls := "MoleBoard$Game", name := "lays", desc := "()LMoleBoard$Game;" } : Jvm.MethodName)) ∈ lw_all := lw_g (lw_at lw_m5 148 rfl) rfl
theorem q1259 : (Jvm.Cond.selects "MoleBoard$DrumGame" ({ cls := "MoleBoard$Game", name := "next", desc := "()LMoleBoard$Mole;" } : Jvm.MethodName) ({ cls := "MoleBoard$DrumGame", name := "next", desc := "()LMoleBoard$Mole;" } : Jvm.MethodName)) ∈ lw_all := lw_g (lw_at lw_m5 155 rfl) rfl
theorem q1260 : (Jvm.Cond.instanceMethod ({ cls := "MoleBoard$DrumGame", name := "next", desc := "()LMoleBoard$Mole;" } : Jvm.MethodName)) ∈ lw_all := lw_g (lw_at lw_m5 156 rfl) rfl
theorem q1261 : (Jvm.Cond.code ({ cls := "MoleBoard$DrumGame", name := "next", desc := "()LMoleBoard$Mole;" } : Jvm.MethodName) prog_5_method_2_code (1 : Nat) (Option.some (Jvm.ClassFile.FieldType.object "MoleBoard$Mole"))) ∈ lw_all := lw_g (lw_at lw_m5 157 rfl) rfl
theorem q1262 : (Jvm.Cond.methodLinkNest "MoleBoard$DrumGame" (13 : Nat) ({ cls := "MoleBoard", name := "comingsOfDrum", desc := "()I" } : Jvm.MethodName) "MoleBoard") ∈ lw_tbl := lw_at lw_m5 158 rfl
theorem q1263 : (Jvm.Cond.interfaceEntry "MoleBoard$DrumGame" (36 : Nat)) ∈ lw_tbl := lw_at lw_m5 159 rfl
theorem q1264 : (Jvm.Cond.methodLink "MoleBoard$DrumGame" (36 : Nat) ({ cls := "java/util/List", name := "get", desc := "(I)Ljava/lang/Object;" } : Jvm.MethodName)) ∈ lw_all := lw_g (lw_at lw_m5 160 rfl) rfl
theorem q1265 : (Jvm.Cond.classLink "MoleBoard$DrumGame" (42 : Nat) "MoleBoard$Mole") ∈ lw_all := lw_g (lw_at lw_m5 161 rfl) rfl
theorem q1299 : (Jvm.Cond.selects "MoleBoard$DrumGame" ({ cls := "MoleBoard$Game", name := "mole", desc := "(I)LMoleBoard$Mole;" } : Jvm.MethodName) ({ cls := "MoleBoard$Game", name := "mole", desc := "(I)LMoleBoard$Mole;" } : Jvm.MethodName)) ∈ lw_all := lw_g (lw_at lw_m5 195 rfl) rfl
theorem q1309 : (Jvm.Cond.selects "MoleBoard$DrumGame" ({ cls := "MoleBoard$Game", name := "isUp", desc := "(II)Z" } : Jvm.MethodName) ({ cls := "MoleBoard$Game", name := "isUp", desc := "(II)Z" } : Jvm.MethodName)) ∈ lw_all := lw_g (lw_at lw_m5 205 rfl) rfl
theorem q2661 : (Jvm.Cond.castable "MoleBoard$DrumGame" "java/lang/Object") ∈ lw_tbl := lw_at lw_m11 117 rfl
/-! MoleBoard$Night -/
set_option maxRecDepth 100000
-- two fields of one name: no nmX5
abbrev cX5_init : ByteArray := prog_10_method_1_code
def yX5_init : MethodName := ⟨RX5, "<init>", "(LMoleBoard;)V"⟩
def dkwX5_init_0 : List UInt8 := [42, 43, 181, 0, 3, 42, 43, 183, 0, 9, 42, 16, 60, 188, 10, 181, 0, 15, 177]
abbrev dktX5_init_0 : List UInt8 := dkwX5_init_0 ++ []
theorem dksX5_init_0 : cX5_init.data.toList.drop 0 = dktX5_init_0 := by decide +kernel
theorem dX5_init_0 : decode cX5_init 0 = .ok (.aload_n 0, 1) := dk_42 (dk_at dksX5_init_0 0 rfl rfl)
theorem dX5_init_1 : decode cX5_init 1 = .ok (.aload_n 1, 1) := dk_43 (dk_at dksX5_init_0 1 rfl rfl)
theorem dX5_init_2 : decode cX5_init 2 = .ok (.putfield 3, 3) := dk_181 0 3 (dk_at dksX5_init_0 2 rfl rfl)
theorem dX5_init_5 : decode cX5_init 5 = .ok (.aload_n 0, 1) := dk_42 (dk_at dksX5_init_0 5 rfl rfl)
theorem dX5_init_6 : decode cX5_init 6 = .ok (.aload_n 1, 1) := dk_43 (dk_at dksX5_init_0 6 rfl rfl)
theorem dX5_init_7 : decode cX5_init 7 = .ok (.invokespecial 9, 3) := dk_183 0 9 (dk_at dksX5_init_0 7 rfl rfl)
theorem dX5_init_10 : decode cX5_init 10 = .ok (.aload_n 0, 1) := dk_42 (dk_at dksX5_init_0 10 rfl rfl)
theorem dX5_init_11 : decode cX5_init 11 = .ok (.bipush 60, 2) := dk_16 60 (dk_at dksX5_init_0 11 rfl rfl)
theorem dX5_init_13 : decode cX5_init 13 = .ok (.newarray .int, 2) := dk_188_10 (dk_at dksX5_init_0 13 rfl rfl)
theorem dX5_init_15 : decode cX5_init 15 = .ok (.putfield 15, 3) := dk_181 0 15 (dk_at dksX5_init_0 15 rfl rfl)
theorem dX5_init_18 : decode cX5_init 18 = .ok (.return_, 1) := dk_177 (dk_at dksX5_init_0 18 rfl rfl)
abbrev cX5_next : ByteArray := prog_10_method_3_code
def yX5_next : MethodName := ⟨RX5, "next", "()LMoleBoard$Mole;"⟩
def dkwX5_next_12 : List UInt8 := [2, 3, 183, 0, 58, 176]
abbrev dktX5_next_12 : List UInt8 := dkwX5_next_12 ++ []
def dkwX5_next_11 : List UInt8 := [132, 2, 255, 132, 3, 1, 167, 255, 126, 42, 180, 0, 15, 42, 180, 0, 41, 29, 79, 187, 0, 56, 89, 29]
abbrev dktX5_next_11 : List UInt8 := dkwX5_next_11 ++ dktX5_next_12
def dkwX5_next_10 : List UInt8 := [164, 0, 17, 42, 180, 0, 15, 42, 180, 0, 41, 5, 100, 46, 167, 0, 4, 2, 182, 0, 44, 153, 0, 6]
abbrev dktX5_next_10 : List UInt8 := dkwX5_next_10 ++ dktX5_next_11
def dkwX5_next_9 : List UInt8 := [158, 0, 17, 42, 180, 0, 15, 42, 180, 0, 41, 4, 100, 46, 167, 0, 4, 2, 42, 180, 0, 41, 4]
abbrev dktX5_next_9 : List UInt8 := dkwX5_next_9 ++ dktX5_next_10
def dkwX5_next_8 : List UInt8 := [46, 167, 0, 4, 2, 182, 0, 44, 154, 0, 72, 42, 180, 0, 3, 29, 42, 180, 0, 23, 42, 180, 0, 41]
abbrev dktX5_next_8 : List UInt8 := dkwX5_next_8 ++ dktX5_next_9
def dkwX5_next_7 : List UInt8 := [100, 46, 167, 0, 4, 2, 42, 180, 0, 41, 4, 164, 0, 17, 42, 180, 0, 15, 42, 180, 0, 41, 5, 100]
abbrev dktX5_next_7 : List UInt8 := dkwX5_next_7 ++ dktX5_next_8
def dkwX5_next_6 : List UInt8 := [180, 0, 3, 29, 42, 180, 0, 23, 42, 180, 0, 41, 158, 0, 17, 42, 180, 0, 15, 42, 180, 0, 41, 4]
abbrev dktX5_next_6 : List UInt8 := dkwX5_next_6 ++ dktX5_next_7
def dkwX5_next_5 : List UInt8 := [181, 0, 19, 42, 180, 0, 19, 20, 0, 54, 109, 27, 133, 113, 136, 61, 3, 62, 28, 157, 0, 63, 42]
abbrev dktX5_next_5 : List UInt8 := dkwX5_next_5 ++ dktX5_next_6
def dkwX5_next_4 : List UInt8 := [154, 0, 5, 1, 176, 42, 20, 0, 48, 42, 180, 0, 19, 105, 20, 0, 50, 97, 20, 0, 52, 113]
abbrev dktX5_next_4 : List UInt8 := dkwX5_next_4 ++ dktX5_next_5
def dkwX5_next_3 : List UInt8 := [167, 0, 4, 2, 182, 0, 44, 153, 0, 7, 4, 167, 0, 4, 3, 96, 60, 132, 2, 1, 167, 255, 171, 27]
abbrev dktX5_next_3 : List UInt8 := dkwX5_next_3 ++ dktX5_next_4
def dkwX5_next_2 : List UInt8 := [167, 0, 4, 2, 42, 180, 0, 41, 4, 164, 0, 17, 42, 180, 0, 15, 42, 180, 0, 41, 5, 100, 46]
abbrev dktX5_next_2 : List UInt8 := dkwX5_next_2 ++ dktX5_next_3
def dkwX5_next_1 : List UInt8 := [42, 180, 0, 23, 42, 180, 0, 41, 158, 0, 17, 42, 180, 0, 15, 42, 180, 0, 41, 4, 100, 46]
abbrev dktX5_next_1 : List UInt8 := dkwX5_next_1 ++ dktX5_next_2
def dkwX5_next_0 : List UInt8 := [3, 60, 3, 61, 28, 42, 180, 0, 3, 180, 0, 31, 182, 0, 35, 162, 0, 77, 27, 42, 180, 0, 3, 28]
abbrev dktX5_next_0 : List UInt8 := dkwX5_next_0 ++ dktX5_next_1
theorem dksX5_next_0 : cX5_next.data.toList.drop 0 = dktX5_next_0 := by decide +kernel
theorem dksX5_next_1 : cX5_next.data.toList.drop 24 = dktX5_next_1 := dk_seg dksX5_next_0 24 rfl rfl
theorem dksX5_next_2 : cX5_next.data.toList.drop 46 = dktX5_next_2 := dk_seg dksX5_next_1 22 rfl rfl
theorem dksX5_next_3 : cX5_next.data.toList.drop 69 = dktX5_next_3 := dk_seg dksX5_next_2 23 rfl rfl
theorem dksX5_next_4 : cX5_next.data.toList.drop 93 = dktX5_next_4 := dk_seg dksX5_next_3 24 rfl rfl
theorem dksX5_next_5 : cX5_next.data.toList.drop 115 = dktX5_next_5 := dk_seg dksX5_next_4 22 rfl rfl
theorem dksX5_next_6 : cX5_next.data.toList.drop 138 = dktX5_next_6 := dk_seg dksX5_next_5 23 rfl rfl
theorem dksX5_next_7 : cX5_next.data.toList.drop 162 = dktX5_next_7 := dk_seg dksX5_next_6 24 rfl rfl
theorem dksX5_next_8 : cX5_next.data.toList.drop 186 = dktX5_next_8 := dk_seg dksX5_next_7 24 rfl rfl
theorem dksX5_next_9 : cX5_next.data.toList.drop 210 = dktX5_next_9 := dk_seg dksX5_next_8 24 rfl rfl
theorem dksX5_next_10 : cX5_next.data.toList.drop 233 = dktX5_next_10 := dk_seg dksX5_next_9 23 rfl rfl
theorem dksX5_next_11 : cX5_next.data.toList.drop 257 = dktX5_next_11 := dk_seg dksX5_next_10 24 rfl rfl
theorem dksX5_next_12 : cX5_next.data.toList.drop 281 = dktX5_next_12 := dk_seg dksX5_next_11 24 rfl rfl
theorem dX5_next_0 : decode cX5_next 0 = .ok (.iconst 0, 1) := dk_3 (dk_at dksX5_next_0 0 rfl rfl)
theorem dX5_next_1 : decode cX5_next 1 = .ok (.istore_n 1, 1) := dk_60 (dk_at dksX5_next_0 1 rfl rfl)
theorem dX5_next_2 : decode cX5_next 2 = .ok (.iconst 0, 1) := dk_3 (dk_at dksX5_next_0 2 rfl rfl)
theorem dX5_next_3 : decode cX5_next 3 = .ok (.istore_n 2, 1) := dk_61 (dk_at dksX5_next_0 3 rfl rfl)
theorem dX5_next_4 : decode cX5_next 4 = .ok (.iload_n 2, 1) := dk_28 (dk_at dksX5_next_0 4 rfl rfl)
theorem dX5_next_5 : decode cX5_next 5 = .ok (.aload_n 0, 1) := dk_42 (dk_at dksX5_next_0 5 rfl rfl)
theorem dX5_next_6 : decode cX5_next 6 = .ok (.getfield 3, 3) := dk_180 0 3 (dk_at dksX5_next_0 6 rfl rfl)
theorem dX5_next_9 : decode cX5_next 9 = .ok (.getfield 31, 3) := dk_180 0 31 (dk_at dksX5_next_0 9 rfl rfl)
theorem dX5_next_12 : decode cX5_next 12 = .ok (.invokevirtual 35, 3) := dk_182 0 35 (dk_at dksX5_next_0 12 rfl rfl)
theorem dX5_next_15 : decode cX5_next 15 = .ok (.if_icmp .ge 77, 3) := dk_162 0 77 (dk_at dksX5_next_0 15 rfl rfl)
theorem dX5_next_18 : decode cX5_next 18 = .ok (.iload_n 1, 1) := dk_27 (dk_at dksX5_next_0 18 rfl rfl)
theorem dX5_next_19 : decode cX5_next 19 = .ok (.aload_n 0, 1) := dk_42 (dk_at dksX5_next_0 19 rfl rfl)
theorem dX5_next_20 : decode cX5_next 20 = .ok (.getfield 3, 3) := dk_180 0 3 (dk_at dksX5_next_0 20 rfl rfl)
theorem dX5_next_23 : decode cX5_next 23 = .ok (.iload_n 2, 1) := dk_28 (dk_at dksX5_next_0 23 rfl rfl)
theorem dX5_next_24 : decode cX5_next 24 = .ok (.aload_n 0, 1) := dk_42 (dk_at dksX5_next_1 0 rfl rfl)
theorem dX5_next_25 : decode cX5_next 25 = .ok (.getfield 23, 3) := dk_180 0 23 (dk_at dksX5_next_1 1 rfl rfl)
theorem dX5_next_28 : decode cX5_next 28 = .ok (.aload_n 0, 1) := dk_42 (dk_at dksX5_next_1 4 rfl rfl)
theorem dX5_next_29 : decode cX5_next 29 = .ok (.getfield 41, 3) := dk_180 0 41 (dk_at dksX5_next_1 5 rfl rfl)
theorem dX5_next_32 : decode cX5_next 32 = .ok (.ifCond .le 17, 3) := dk_158 0 17 (dk_at dksX5_next_1 8 rfl rfl)
theorem dX5_next_35 : decode cX5_next 35 = .ok (.aload_n 0, 1) := dk_42 (dk_at dksX5_next_1 11 rfl rfl)
theorem dX5_next_36 : decode cX5_next 36 = .ok (.getfield 15, 3) := dk_180 0 15 (dk_at dksX5_next_1 12 rfl rfl)
theorem dX5_next_39 : decode cX5_next 39 = .ok (.aload_n 0, 1) := dk_42 (dk_at dksX5_next_1 15 rfl rfl)
theorem dX5_next_40 : decode cX5_next 40 = .ok (.getfield 41, 3) := dk_180 0 41 (dk_at dksX5_next_1 16 rfl rfl)
theorem dX5_next_43 : decode cX5_next 43 = .ok (.iconst 1, 1) := dk_4 (dk_at dksX5_next_1 19 rfl rfl)
theorem dX5_next_44 : decode cX5_next 44 = .ok (.isub, 1) := dk_100 (dk_at dksX5_next_1 20 rfl rfl)
theorem dX5_next_45 : decode cX5_next 45 = .ok (.iaload, 1) := dk_46 (dk_at dksX5_next_1 21 rfl rfl)
theorem dX5_next_46 : decode cX5_next 46 = .ok (.goto 4, 3) := dk_167 0 4 (dk_at dksX5_next_2 0 rfl rfl)
theorem dX5_next_49 : decode cX5_next 49 = .ok (.iconst (-1), 1) := dk_2 (dk_at dksX5_next_2 3 rfl rfl)
theorem dX5_next_50 : decode cX5_next 50 = .ok (.aload_n 0, 1) := dk_42 (dk_at dksX5_next_2 4 rfl rfl)
theorem dX5_next_51 : decode cX5_next 51 = .ok (.getfield 41, 3) := dk_180 0 41 (dk_at dksX5_next_2 5 rfl rfl)
theorem dX5_next_54 : decode cX5_next 54 = .ok (.iconst 1, 1) := dk_4 (dk_at dksX5_next_2 8 rfl rfl)
theorem dX5_next_55 : decode cX5_next 55 = .ok (.if_icmp .le 17, 3) := dk_164 0 17 (dk_at dksX5_next_2 9 rfl rfl)
theorem dX5_next_58 : decode cX5_next 58 = .ok (.aload_n 0, 1) := dk_42 (dk_at dksX5_next_2 12 rfl rfl)
theorem dX5_next_59 : decode cX5_next 59 = .ok (.getfield 15, 3) := dk_180 0 15 (dk_at dksX5_next_2 13 rfl rfl)
theorem dX5_next_62 : decode cX5_next 62 = .ok (.aload_n 0, 1) := dk_42 (dk_at dksX5_next_2 16 rfl rfl)
theorem dX5_next_63 : decode cX5_next 63 = .ok (.getfield 41, 3) := dk_180 0 41 (dk_at dksX5_next_2 17 rfl rfl)
theorem dX5_next_66 : decode cX5_next 66 = .ok (.iconst 2, 1) := dk_5 (dk_at dksX5_next_2 20 rfl rfl)
theorem dX5_next_67 : decode cX5_next 67 = .ok (.isub, 1) := dk_100 (dk_at dksX5_next_2 21 rfl rfl)
theorem dX5_next_68 : decode cX5_next 68 = .ok (.iaload, 1) := dk_46 (dk_at dksX5_next_2 22 rfl rfl)
theorem dX5_next_69 : decode cX5_next 69 = .ok (.goto 4, 3) := dk_167 0 4 (dk_at dksX5_next_3 0 rfl rfl)
theorem dX5_next_72 : decode cX5_next 72 = .ok (.iconst (-1), 1) := dk_2 (dk_at dksX5_next_3 3 rfl rfl)
theorem dX5_next_73 : decode cX5_next 73 = .ok (.invokevirtual 44, 3) := dk_182 0 44 (dk_at dksX5_next_3 4 rfl rfl)
theorem dX5_next_76 : decode cX5_next 76 = .ok (.ifCond .eq 7, 3) := dk_153 0 7 (dk_at dksX5_next_3 7 rfl rfl)
theorem dX5_next_79 : decode cX5_next 79 = .ok (.iconst 1, 1) := dk_4 (dk_at dksX5_next_3 10 rfl rfl)
theorem dX5_next_80 : decode cX5_next 80 = .ok (.goto 4, 3) := dk_167 0 4 (dk_at dksX5_next_3 11 rfl rfl)
theorem dX5_next_83 : decode cX5_next 83 = .ok (.iconst 0, 1) := dk_3 (dk_at dksX5_next_3 14 rfl rfl)
theorem dX5_next_84 : decode cX5_next 84 = .ok (.iadd, 1) := dk_96 (dk_at dksX5_next_3 15 rfl rfl)
theorem dX5_next_85 : decode cX5_next 85 = .ok (.istore_n 1, 1) := dk_60 (dk_at dksX5_next_3 16 rfl rfl)
theorem dX5_next_86 : decode cX5_next 86 = .ok (.iinc 2 1, 3) := dk_132 2 1 (dk_at dksX5_next_3 17 rfl rfl)
theorem dX5_next_89 : decode cX5_next 89 = .ok (.goto (-85), 3) := dk_167 255 171 (dk_at dksX5_next_3 20 rfl rfl)
theorem dX5_next_92 : decode cX5_next 92 = .ok (.iload_n 1, 1) := dk_27 (dk_at dksX5_next_3 23 rfl rfl)
theorem dX5_next_93 : decode cX5_next 93 = .ok (.ifCond .ne 5, 3) := dk_154 0 5 (dk_at dksX5_next_4 0 rfl rfl)
theorem dX5_next_96 : decode cX5_next 96 = .ok (.aconst_null, 1) := dk_1 (dk_at dksX5_next_4 3 rfl rfl)
theorem dX5_next_97 : decode cX5_next 97 = .ok (.areturn, 1) := dk_176 (dk_at dksX5_next_4 4 rfl rfl)
theorem dX5_next_98 : decode cX5_next 98 = .ok (.aload_n 0, 1) := dk_42 (dk_at dksX5_next_4 5 rfl rfl)
theorem dX5_next_99 : decode cX5_next 99 = .ok (.ldc2_w 48, 3) := dk_20 0 48 (dk_at dksX5_next_4 6 rfl rfl)
theorem dX5_next_102 : decode cX5_next 102 = .ok (.aload_n 0, 1) := dk_42 (dk_at dksX5_next_4 9 rfl rfl)
theorem dX5_next_103 : decode cX5_next 103 = .ok (.getfield 19, 3) := dk_180 0 19 (dk_at dksX5_next_4 10 rfl rfl)
theorem dX5_next_106 : decode cX5_next 106 = .ok (.lmul, 1) := dk_105 (dk_at dksX5_next_4 13 rfl rfl)
theorem dX5_next_107 : decode cX5_next 107 = .ok (.ldc2_w 50, 3) := dk_20 0 50 (dk_at dksX5_next_4 14 rfl rfl)
theorem dX5_next_110 : decode cX5_next 110 = .ok (.ladd, 1) := dk_97 (dk_at dksX5_next_4 17 rfl rfl)
theorem dX5_next_111 : decode cX5_next 111 = .ok (.ldc2_w 52, 3) := dk_20 0 52 (dk_at dksX5_next_4 18 rfl rfl)
theorem dX5_next_114 : decode cX5_next 114 = .ok (.lrem, 1) := dk_113 (dk_at dksX5_next_4 21 rfl rfl)
theorem dX5_next_115 : decode cX5_next 115 = .ok (.putfield 19, 3) := dk_181 0 19 (dk_at dksX5_next_5 0 rfl rfl)
theorem dX5_next_118 : decode cX5_next 118 = .ok (.aload_n 0, 1) := dk_42 (dk_at dksX5_next_5 3 rfl rfl)
theorem dX5_next_119 : decode cX5_next 119 = .ok (.getfield 19, 3) := dk_180 0 19 (dk_at dksX5_next_5 4 rfl rfl)
theorem dX5_next_122 : decode cX5_next 122 = .ok (.ldc2_w 54, 3) := dk_20 0 54 (dk_at dksX5_next_5 7 rfl rfl)
theorem dX5_next_125 : decode cX5_next 125 = .ok (.ldiv, 1) := dk_109 (dk_at dksX5_next_5 10 rfl rfl)
theorem dX5_next_126 : decode cX5_next 126 = .ok (.iload_n 1, 1) := dk_27 (dk_at dksX5_next_5 11 rfl rfl)
theorem dX5_next_127 : decode cX5_next 127 = .ok (.i2l, 1) := dk_133 (dk_at dksX5_next_5 12 rfl rfl)
theorem dX5_next_128 : decode cX5_next 128 = .ok (.lrem, 1) := dk_113 (dk_at dksX5_next_5 13 rfl rfl)
theorem dX5_next_129 : decode cX5_next 129 = .ok (.l2i, 1) := dk_136 (dk_at dksX5_next_5 14 rfl rfl)
theorem dX5_next_130 : decode cX5_next 130 = .ok (.istore_n 2, 1) := dk_61 (dk_at dksX5_next_5 15 rfl rfl)
theorem dX5_next_131 : decode cX5_next 131 = .ok (.iconst 0, 1) := dk_3 (dk_at dksX5_next_5 16 rfl rfl)
theorem dX5_next_132 : decode cX5_next 132 = .ok (.istore_n 3, 1) := dk_62 (dk_at dksX5_next_5 17 rfl rfl)
theorem dX5_next_133 : decode cX5_next 133 = .ok (.iload_n 2, 1) := dk_28 (dk_at dksX5_next_5 18 rfl rfl)
theorem dX5_next_134 : decode cX5_next 134 = .ok (.ifCond .gt 63, 3) := dk_157 0 63 (dk_at dksX5_next_5 19 rfl rfl)
theorem dX5_next_137 : decode cX5_next 137 = .ok (.aload_n 0, 1) := dk_42 (dk_at dksX5_next_5 22 rfl rfl)
theorem dX5_next_138 : decode cX5_next 138 = .ok (.getfield 3, 3) := dk_180 0 3 (dk_at dksX5_next_6 0 rfl rfl)
theorem dX5_next_141 : decode cX5_next 141 = .ok (.iload_n 3, 1) := dk_29 (dk_at dksX5_next_6 3 rfl rfl)
theorem dX5_next_142 : decode cX5_next 142 = .ok (.aload_n 0, 1) := dk_42 (dk_at dksX5_next_6 4 rfl rfl)
theorem dX5_next_143 : decode cX5_next 143 = .ok (.getfield 23, 3) := dk_180 0 23 (dk_at dksX5_next_6 5 rfl rfl)
theorem dX5_next_146 : decode cX5_next 146 = .ok (.aload_n 0, 1) := dk_42 (dk_at dksX5_next_6 8 rfl rfl)
theorem dX5_next_147 : decode cX5_next 147 = .ok (.getfield 41, 3) := dk_180 0 41 (dk_at dksX5_next_6 9 rfl rfl)
theorem dX5_next_150 : decode cX5_next 150 = .ok (.ifCond .le 17, 3) := dk_158 0 17 (dk_at dksX5_next_6 12 rfl rfl)
theorem dX5_next_153 : decode cX5_next 153 = .ok (.aload_n 0, 1) := dk_42 (dk_at dksX5_next_6 15 rfl rfl)
theorem dX5_next_154 : decode cX5_next 154 = .ok (.getfield 15, 3) := dk_180 0 15 (dk_at dksX5_next_6 16 rfl rfl)
theorem dX5_next_157 : decode cX5_next 157 = .ok (.aload_n 0, 1) := dk_42 (dk_at dksX5_next_6 19 rfl rfl)
theorem dX5_next_158 : decode cX5_next 158 = .ok (.getfield 41, 3) := dk_180 0 41 (dk_at dksX5_next_6 20 rfl rfl)
theorem dX5_next_161 : decode cX5_next 161 = .ok (.iconst 1, 1) := dk_4 (dk_at dksX5_next_6 23 rfl rfl)
theorem dX5_next_162 : decode cX5_next 162 = .ok (.isub, 1) := dk_100 (dk_at dksX5_next_7 0 rfl rfl)
theorem dX5_next_163 : decode cX5_next 163 = .ok (.iaload, 1) := dk_46 (dk_at dksX5_next_7 1 rfl rfl)
theorem dX5_next_164 : decode cX5_next 164 = .ok (.goto 4, 3) := dk_167 0 4 (dk_at dksX5_next_7 2 rfl rfl)
theorem dX5_next_167 : decode cX5_next 167 = .ok (.iconst (-1), 1) := dk_2 (dk_at dksX5_next_7 5 rfl rfl)
theorem dX5_next_168 : decode cX5_next 168 = .ok (.aload_n 0, 1) := dk_42 (dk_at dksX5_next_7 6 rfl rfl)
theorem dX5_next_169 : decode cX5_next 169 = .ok (.getfield 41, 3) := dk_180 0 41 (dk_at dksX5_next_7 7 rfl rfl)
theorem dX5_next_172 : decode cX5_next 172 = .ok (.iconst 1, 1) := dk_4 (dk_at dksX5_next_7 10 rfl rfl)
theorem dX5_next_173 : decode cX5_next 173 = .ok (.if_icmp .le 17, 3) := dk_164 0 17 (dk_at dksX5_next_7 11 rfl rfl)
theorem dX5_next_176 : decode cX5_next 176 = .ok (.aload_n 0, 1) := dk_42 (dk_at dksX5_next_7 14 rfl rfl)
theorem dX5_next_177 : decode cX5_next 177 = .ok (.getfield 15, 3) := dk_180 0 15 (dk_at dksX5_next_7 15 rfl rfl)
theorem dX5_next_180 : decode cX5_next 180 = .ok (.aload_n 0, 1) := dk_42 (dk_at dksX5_next_7 18 rfl rfl)
theorem dX5_next_181 : decode cX5_next 181 = .ok (.getfield 41, 3) := dk_180 0 41 (dk_at dksX5_next_7 19 rfl rfl)
theorem dX5_next_184 : decode cX5_next 184 = .ok (.iconst 2, 1) := dk_5 (dk_at dksX5_next_7 22 rfl rfl)
theorem dX5_next_185 : decode cX5_next 185 = .ok (.isub, 1) := dk_100 (dk_at dksX5_next_7 23 rfl rfl)
theorem dX5_next_186 : decode cX5_next 186 = .ok (.iaload, 1) := dk_46 (dk_at dksX5_next_8 0 rfl rfl)
theorem dX5_next_187 : decode cX5_next 187 = .ok (.goto 4, 3) := dk_167 0 4 (dk_at dksX5_next_8 1 rfl rfl)
theorem dX5_next_190 : decode cX5_next 190 = .ok (.iconst (-1), 1) := dk_2 (dk_at dksX5_next_8 4 rfl rfl)
theorem dX5_next_191 : decode cX5_next 191 = .ok (.invokevirtual 44, 3) := dk_182 0 44 (dk_at dksX5_next_8 5 rfl rfl)
theorem dX5_next_194 : decode cX5_next 194 = .ok (.ifCond .ne 72, 3) := dk_154 0 72 (dk_at dksX5_next_8 8 rfl rfl)
theorem dX5_next_197 : decode cX5_next 197 = .ok (.aload_n 0, 1) := dk_42 (dk_at dksX5_next_8 11 rfl rfl)
theorem dX5_next_198 : decode cX5_next 198 = .ok (.getfield 3, 3) := dk_180 0 3 (dk_at dksX5_next_8 12 rfl rfl)
theorem dX5_next_201 : decode cX5_next 201 = .ok (.iload_n 3, 1) := dk_29 (dk_at dksX5_next_8 15 rfl rfl)
theorem dX5_next_202 : decode cX5_next 202 = .ok (.aload_n 0, 1) := dk_42 (dk_at dksX5_next_8 16 rfl rfl)
theorem dX5_next_203 : decode cX5_next 203 = .ok (.getfield 23, 3) := dk_180 0 23 (dk_at dksX5_next_8 17 rfl rfl)
theorem dX5_next_206 : decode cX5_next 206 = .ok (.aload_n 0, 1) := dk_42 (dk_at dksX5_next_8 20 rfl rfl)
theorem dX5_next_207 : decode cX5_next 207 = .ok (.getfield 41, 3) := dk_180 0 41 (dk_at dksX5_next_8 21 rfl rfl)
theorem dX5_next_210 : decode cX5_next 210 = .ok (.ifCond .le 17, 3) := dk_158 0 17 (dk_at dksX5_next_9 0 rfl rfl)
theorem dX5_next_213 : decode cX5_next 213 = .ok (.aload_n 0, 1) := dk_42 (dk_at dksX5_next_9 3 rfl rfl)
theorem dX5_next_214 : decode cX5_next 214 = .ok (.getfield 15, 3) := dk_180 0 15 (dk_at dksX5_next_9 4 rfl rfl)
theorem dX5_next_217 : decode cX5_next 217 = .ok (.aload_n 0, 1) := dk_42 (dk_at dksX5_next_9 7 rfl rfl)
theorem dX5_next_218 : decode cX5_next 218 = .ok (.getfield 41, 3) := dk_180 0 41 (dk_at dksX5_next_9 8 rfl rfl)
theorem dX5_next_221 : decode cX5_next 221 = .ok (.iconst 1, 1) := dk_4 (dk_at dksX5_next_9 11 rfl rfl)
theorem dX5_next_222 : decode cX5_next 222 = .ok (.isub, 1) := dk_100 (dk_at dksX5_next_9 12 rfl rfl)
theorem dX5_next_223 : decode cX5_next 223 = .ok (.iaload, 1) := dk_46 (dk_at dksX5_next_9 13 rfl rfl)
theorem dX5_next_224 : decode cX5_next 224 = .ok (.goto 4, 3) := dk_167 0 4 (dk_at dksX5_next_9 14 rfl rfl)
theorem dX5_next_227 : decode cX5_next 227 = .ok (.iconst (-1), 1) := dk_2 (dk_at dksX5_next_9 17 rfl rfl)
theorem dX5_next_228 : decode cX5_next 228 = .ok (.aload_n 0, 1) := dk_42 (dk_at dksX5_next_9 18 rfl rfl)
theorem dX5_next_229 : decode cX5_next 229 = .ok (.getfield 41, 3) := dk_180 0 41 (dk_at dksX5_next_9 19 rfl rfl)
theorem dX5_next_232 : decode cX5_next 232 = .ok (.iconst 1, 1) := dk_4 (dk_at dksX5_next_9 22 rfl rfl)
theorem dX5_next_233 : decode cX5_next 233 = .ok (.if_icmp .le 17, 3) := dk_164 0 17 (dk_at dksX5_next_10 0 rfl rfl)
theorem dX5_next_236 : decode cX5_next 236 = .ok (.aload_n 0, 1) := dk_42 (dk_at dksX5_next_10 3 rfl rfl)
theorem dX5_next_237 : decode cX5_next 237 = .ok (.getfield 15, 3) := dk_180 0 15 (dk_at dksX5_next_10 4 rfl rfl)
theorem dX5_next_240 : decode cX5_next 240 = .ok (.aload_n 0, 1) := dk_42 (dk_at dksX5_next_10 7 rfl rfl)
theorem dX5_next_241 : decode cX5_next 241 = .ok (.getfield 41, 3) := dk_180 0 41 (dk_at dksX5_next_10 8 rfl rfl)
theorem dX5_next_244 : decode cX5_next 244 = .ok (.iconst 2, 1) := dk_5 (dk_at dksX5_next_10 11 rfl rfl)
theorem dX5_next_245 : decode cX5_next 245 = .ok (.isub, 1) := dk_100 (dk_at dksX5_next_10 12 rfl rfl)
theorem dX5_next_246 : decode cX5_next 246 = .ok (.iaload, 1) := dk_46 (dk_at dksX5_next_10 13 rfl rfl)
theorem dX5_next_247 : decode cX5_next 247 = .ok (.goto 4, 3) := dk_167 0 4 (dk_at dksX5_next_10 14 rfl rfl)
theorem dX5_next_250 : decode cX5_next 250 = .ok (.iconst (-1), 1) := dk_2 (dk_at dksX5_next_10 17 rfl rfl)
theorem dX5_next_251 : decode cX5_next 251 = .ok (.invokevirtual 44, 3) := dk_182 0 44 (dk_at dksX5_next_10 18 rfl rfl)
theorem dX5_next_254 : decode cX5_next 254 = .ok (.ifCond .eq 6, 3) := dk_153 0 6 (dk_at dksX5_next_10 21 rfl rfl)
theorem dX5_next_257 : decode cX5_next 257 = .ok (.iinc 2 (-1), 3) := dk_132 2 255 (dk_at dksX5_next_11 0 rfl rfl)
theorem dX5_next_260 : decode cX5_next 260 = .ok (.iinc 3 1, 3) := dk_132 3 1 (dk_at dksX5_next_11 3 rfl rfl)
theorem dX5_next_263 : decode cX5_next 263 = .ok (.goto (-130), 3) := dk_167 255 126 (dk_at dksX5_next_11 6 rfl rfl)
theorem dX5_next_266 : decode cX5_next 266 = .ok (.aload_n 0, 1) := dk_42 (dk_at dksX5_next_11 9 rfl rfl)
theorem dX5_next_267 : decode cX5_next 267 = .ok (.getfield 15, 3) := dk_180 0 15 (dk_at dksX5_next_11 10 rfl rfl)
theorem dX5_next_270 : decode cX5_next 270 = .ok (.aload_n 0, 1) := dk_42 (dk_at dksX5_next_11 13 rfl rfl)
theorem dX5_next_271 : decode cX5_next 271 = .ok (.getfield 41, 3) := dk_180 0 41 (dk_at dksX5_next_11 14 rfl rfl)
theorem dX5_next_274 : decode cX5_next 274 = .ok (.iload_n 3, 1) := dk_29 (dk_at dksX5_next_11 17 rfl rfl)
theorem dX5_next_275 : decode cX5_next 275 = .ok (.iastore, 1) := dk_79 (dk_at dksX5_next_11 18 rfl rfl)
theorem dX5_next_276 : decode cX5_next 276 = .ok (.new 56, 3) := dk_187 0 56 (dk_at dksX5_next_11 19 rfl rfl)
theorem dX5_next_279 : decode cX5_next 279 = .ok (.dup, 1) := dk_89 (dk_at dksX5_next_11 22 rfl rfl)
theorem dX5_next_280 : decode cX5_next 280 = .ok (.iload_n 3, 1) := dk_29 (dk_at dksX5_next_11 23 rfl rfl)
theorem dX5_next_281 : decode cX5_next 281 = .ok (.iconst (-1), 1) := dk_2 (dk_at dksX5_next_12 0 rfl rfl)
theorem dX5_next_282 : decode cX5_next 282 = .ok (.iconst 0, 1) := dk_3 (dk_at dksX5_next_12 1 rfl rfl)
theorem dX5_next_283 : decode cX5_next 283 = .ok (.invokespecial 58, 3) := dk_183 0 58 (dk_at dksX5_next_12 2 rfl rfl)
theorem dX5_next_286 : decode cX5_next 286 = .ok (.areturn, 1) := dk_176 (dk_at dksX5_next_12 5 rfl rfl)
abbrev cX5_lays : ByteArray := prog_10_method_2_code
def yX5_lays : MethodName := ⟨RX5, "lays", "(JI)LMoleBoard$Game;"⟩
def dkwX5_lays_0 : List UInt8 := [42, 31, 181, 0, 19, 42, 29, 181, 0, 23, 42, 182, 0, 27, 176]
abbrev dktX5_lays_0 : List UInt8 := dkwX5_lays_0 ++ []
theorem dksX5_lays_0 : cX5_lays.data.toList.drop 0 = dktX5_lays_0 := by decide +kernel
theorem dX5_lays_0 : decode cX5_lays 0 = .ok (.aload_n 0, 1) := dk_42 (dk_at dksX5_lays_0 0 rfl rfl)
theorem dX5_lays_1 : decode cX5_lays 1 = .ok (.lload_n 1, 1) := dk_31 (dk_at dksX5_lays_0 1 rfl rfl)
theorem dX5_lays_2 : decode cX5_lays 2 = .ok (.putfield 19, 3) := dk_181 0 19 (dk_at dksX5_lays_0 2 rfl rfl)
theorem dX5_lays_5 : decode cX5_lays 5 = .ok (.aload_n 0, 1) := dk_42 (dk_at dksX5_lays_0 5 rfl rfl)
theorem dX5_lays_6 : decode cX5_lays 6 = .ok (.iload_n 3, 1) := dk_29 (dk_at dksX5_lays_0 6 rfl rfl)
theorem dX5_lays_7 : decode cX5_lays 7 = .ok (.putfield 23, 3) := dk_181 0 23 (dk_at dksX5_lays_0 7 rfl rfl)
theorem dX5_lays_10 : decode cX5_lays 10 = .ok (.aload_n 0, 1) := dk_42 (dk_at dksX5_lays_0 10 rfl rfl)
theorem dX5_lays_11 : decode cX5_lays 11 = .ok (.invokevirtual 27, 3) := dk_182 0 27 (dk_at dksX5_lays_0 11 rfl rfl)
theorem dX5_lays_14 : decode cX5_lays 14 = .ok (.areturn, 1) := dk_176 (dk_at dksX5_lays_0 14 rfl rfl)
theorem q153 : (Jvm.Cond.initialized "MoleBoard$Night") ∈ lw_all := lw_g (lw_at lw_m1 9 rfl) rfl
theorem q536 : (Jvm.Cond.fieldLink "MoleBoard$Night" (41 : Nat) "MoleBoard$Night" "many" "I") ∈ lw_all := lw_g (lw_at lw_m2 152 rfl) rfl
theorem q537 : (Jvm.Cond.sameField "MoleBoard$Night" "MoleBoard$Game" "many" "I") ∈ lw_all := lw_g (lw_at lw_m2 153 rfl) rfl
theorem q555 : (Jvm.Cond.instantiable "MoleBoard$Night" (9 : Nat)) ∈ lw_all := lw_g (lw_at lw_m2 171 rfl) rfl
theorem q557 : (Jvm.Cond.instanceMethod ({ cls := "MoleBoard$Night", name := "<init>", desc := "(LMoleBoard;)V" } : Jvm.MethodName)) ∈ lw_all := lw_g (lw_at lw_m2 173 rfl) rfl
theorem q558 : (Jvm.Cond.code ({ cls := "MoleBoard$Night", name := "<init>", desc := "(LMoleBoard;)V" } : Jvm.MethodName) prog_10_method_1_code (2 : Nat) (Option.none : Option Jvm.ClassFile.FieldType)) ∈ lw_all := lw_g (lw_at lw_m2 174 rfl) rfl
theorem q559 : (Jvm.Cond.methodLinkNest "MoleBoard$Night" (9 : Nat) ({ cls := "MoleBoard$Game", name := "<init>", desc := "(LMoleBoard;)V" } : Jvm.MethodName) "MoleBoard") ∈ lw_tbl := lw_at lw_m2 175 rfl
theorem q560 : (Jvm.Cond.fieldLink "MoleBoard$Night" (15 : Nat) "MoleBoard$Night" "row" "[I") ∈ lw_all := lw_g (lw_at lw_m2 176 rfl) rfl
theorem q561 : (Jvm.Cond.fieldLink "MoleBoard$Night" (23 : Nat) "MoleBoard$Night" "law" "I") ∈ lw_all := lw_g (lw_at lw_m2 177 rfl) rfl
theorem q562 : (Jvm.Cond.fieldLink "MoleBoard$Night" (19 : Nat) "MoleBoard$Night" "x" "J") ∈ lw_all := lw_g (lw_at lw_m2 178 rfl) rfl
theorem q563 : (Jvm.Cond.fieldLink "MoleBoard$Night" (3 : Nat) "MoleBoard$Night" "this$0" "LMoleBoard;") ∈ lw_all := lw_g (lw_at lw_m2 179 rfl) rfl
theorem q564 : (Jvm.Cond.laysFinal "MoleBoard$Night" "MoleBoard$Night" "row" "[I") ∈ lw_all := lw_g (lw_at lw_m2 180 rfl) rfl
theorem q565 : (Jvm.Cond.soleField "MoleBoard$Night" "row") ∈ lw_all := lw_g (lw_at lw_m2 181 rfl) rfl
theorem q566 : (Jvm.Cond.lays "MoleBoard$Night" "MoleBoard$Night" "law" "I") ∈ lw_all := lw_g (lw_at lw_m2 182 rfl) rfl
theorem q567 : (Jvm.Cond.soleField "MoleBoard$Night" "law") ∈ lw_all := lw_g (lw_at lw_m2 183 rfl) rfl
theorem q568 : (Jvm.Cond.lays "MoleBoard$Night" "MoleBoard$Night" "x" "J") ∈ lw_all := lw_g (lw_at lw_m2 184 rfl) rfl
theorem q569 : (Jvm.Cond.soleField "MoleBoard$Night" "x") ∈ lw_all := lw_g (lw_at lw_m2 185 rfl) rfl
theorem q570 : (Jvm.Cond.laysFinal "MoleBoard$Night" "MoleBoard$Night" "this$0" "LMoleBoard;") ∈ lw_all := lw_g (lw_at lw_m2 186 rfl) rfl
theorem q571 : (Jvm.Cond.soleField "MoleBoard$Night" "this$0") ∈ lw_all := lw_g (lw_at lw_m2 187 rfl) rfl
theorem q572 : (Jvm.Cond.laysFinal "MoleBoard$Night" "MoleBoard$Game" "moles" "[LMoleBoard$Mole;") ∈ lw_all := lw_g (lw_at lw_m2 188 rfl) rfl
theorem q573 : (Jvm.Cond.laysFinal "MoleBoard$Night" "MoleBoard$Game" "first" "[I") ∈ lw_all := lw_g (lw_at lw_m2 189 rfl) rfl
theorem q574 : (Jvm.Cond.laysFinal "MoleBoard$Night" "MoleBoard$Game" "last" "[I") ∈ lw_all := lw_g (lw_at lw_m2 190 rfl) rfl
theorem q575 : (Jvm.Cond.lays "MoleBoard$Night" "MoleBoard$Game" "many" "I") ∈ lw_all := lw_g (lw_at lw_m2 191 rfl) rfl
theorem q576 : (Jvm.Cond.laysFinal "MoleBoard$Night" "MoleBoard$Game" "this$0" "LMoleBoard;") ∈ lw_all := lw_g (lw_at lw_m2 192 rfl) rfl
theorem q577 : (Jvm.Cond.superclass "MoleBoard$Night" "MoleBoard$Game") ∈ lw_all := lw_g (lw_at lw_m2 193 rfl) rfl
theorem q717 : (Jvm.Cond.fieldLinkNest "MoleBoard$Night" (31 : Nat) "MoleBoard" "now" "LMoleBoard$Board;" "MoleBoard") ∈ lw_tbl := lw_at lw_m3 93 rfl
theorem q1120 : (Jvm.Cond.selects "MoleBoard$Night" ({ cls := "java/lang/Object", name := "getClass", desc := "()Ljava/lang/Class;" } : Jvm.MethodName) ({ cls := "java/lang/Object", name := "getClass", desc := "()Ljava/lang/Class;" } : Jvm.MethodName)) ∈ lw_all := lw_g (lw_at lw_m5 16 rfl) rfl
theorem q1266 : (Jvm.Cond.selects "MoleBoard$Night" ({ cls := "MoleBoard$Game", name := "next", desc := "()LMoleBoard$Mole;" } : Jvm.MethodName) ({ cls := "MoleBoard$Night", name := "next", desc := "()LMoleBoard$Mole;" } : Jvm.MethodName)) ∈ lw_all := lw_g (lw_at lw_m5 162 rfl) rfl
theorem q1267 : (Jvm.Cond.instanceMethod ({ cls := "MoleBoard$Night", name := "next", desc := "()LMoleBoard$Mole;" } : Jvm.MethodName)) ∈ lw_all := lw_g (lw_at lw_m5 163 rfl) rfl
theorem q1268 : (Jvm.Cond.code ({ cls := "MoleBoard$Night", name := "next", desc := "()LMoleBoard$Mole;" } : Jvm.MethodName) prog_10_method_3_code (4 : Nat) (Option.some (Jvm.ClassFile.FieldType.object "MoleBoard$Mole"))) ∈ lw_all := lw_g (lw_at lw_m5 164 rfl) rfl
theorem q1269 : (Jvm.Cond.methodLink "MoleBoard$Night" (35 : Nat) ({ cls := "MoleBoard$Board", name := "holes", desc := "()I" } : Jvm.MethodName)) ∈ lw_all := lw_g (lw_at lw_m5 165 rfl) rfl
theorem q1270 : (Jvm.Cond.methodLinkNest "MoleBoard$Night" (44 : Nat) ({ cls := "MoleBoard", name := "mayFollow", desc := "(IIII)Z" } : Jvm.MethodName) "MoleBoard") ∈ lw_tbl := lw_at lw_m5 166 rfl
theorem q1286 : (Jvm.Cond.constantLong "MoleBoard$Night" (48 : Nat) (1103515245 : Int64)) ∈ lw_all := lw_g (lw_at lw_m5 182 rfl) rfl
theorem q1287 : (Jvm.Cond.constantLong "MoleBoard$Night" (50 : Nat) (12345 : Int64)) ∈ lw_all := lw_g (lw_at lw_m5 183 rfl) rfl
theorem q1288 : (Jvm.Cond.constantLong "MoleBoard$Night" (52 : Nat) (2147483648 : Int64)) ∈ lw_all := lw_g (lw_at lw_m5 184 rfl) rfl
theorem q1289 : (Jvm.Cond.constantLong "MoleBoard$Night" (54 : Nat) (65536 : Int64)) ∈ lw_all := lw_g (lw_at lw_m5 185 rfl) rfl
theorem q1290 : (Jvm.Cond.classLink "MoleBoard$Night" (56 : Nat) "MoleBoard$Mole") ∈ lw_all := lw_g (lw_at lw_m5 186 rfl) rfl
theorem q1291 : (Jvm.Cond.methodLink "MoleBoard$Night" (58 : Nat) ({ cls := "MoleBoard$Mole", name := "<init>", desc := "(IIZ)V" } : Jvm.MethodName)) ∈ lw_all := lw_g (lw_at lw_m5 187 rfl) rfl
theorem q1300 : (Jvm.Cond.selects "MoleBoard$Night" ({ cls := "MoleBoard$Game", name := "mole", desc := "(I)LMoleBoard$Mole;" } : Jvm.MethodName) ({ cls := "MoleBoard$Game", name := "mole", desc := "(I)LMoleBoard$Mole;" } : Jvm.MethodName)) ∈ lw_all := lw_g (lw_at lw_m5 196 rfl) rfl
theorem q1310 : (Jvm.Cond.selects "MoleBoard$Night" ({ cls := "MoleBoard$Game", name := "isUp", desc := "(II)Z" } : Jvm.MethodName) ({ cls := "MoleBoard$Game", name := "isUp", desc := "(II)Z" } : Jvm.MethodName)) ∈ lw_all := lw_g (lw_at lw_m5 206 rfl) rfl
theorem q1777 : (Jvm.Cond.instanceMethod ({ cls := "MoleBoard$Night", name := "lays", desc := "(JI)LMoleBoard$Game;" } : Jvm.MethodName)) ∈ lw_all := lw_g (lw_at lw_m7 193 rfl) rfl
theorem q1778 : (Jvm.Cond.selects "MoleBoard$Night" ({ cls := "MoleBoard$Night", name := "lays", desc := "(JI)LMoleBoard$Game;" } : Jvm.MethodName) ({ cls := "MoleBoard$Night", name := "lays", desc := "(JI)LMoleBoard$Game;" } : Jvm.MethodName)) ∈ lw_all := lw_g (lw_at lw_m7 194 rfl) rfl
theorem q1779 : (Jvm.Cond.code ({ cls := "MoleBoard$Night", name := "lays", desc := "(JI)LMoleBoard$Game;" } : Jvm.MethodName) prog_10_method_2_code (4 : Nat) (Option.some (Jvm.ClassFile.FieldType.object "MoleBoard$Game"))) ∈ lw_all := lw_g (lw_at lw_m7 195 rfl) rfl
theorem q1780 : (Jvm.Cond.methodLink "MoleBoard$Night" (27 : Nat) ({ cls := "MoleBoard$Night", name := "lays", desc := "()LMoleBoard$Game;" } : Jvm.MethodName)) ∈ lw_all := lw_g (lw_at lw_m7 196 rfl) rfl
theorem q1781 : (Jvm.Cond.sameMethod "MoleBoard$Night" "MoleBoard$Game" "lays" "()LMoleBoard$Game;") ∈ lw_all := lw_g (lw_at lw_m7 197 rfl) rfl
theorem q1782 : (Jvm.Cond.selects "MoleBoard$Night" ({ cls := "MoleBoard$Night", name := "lays", desc := "()LMoleBoard$Game;" } : Jvm.MethodName) ({ cls := "MoleBoard$Game", name := "lays", desc := "()LMoleBoard$Game;" } : Jvm.MethodName)) ∈ lw_all := lw_g (lw_at lw_m7 198 rfl) rfl
theorem q2662 : (Jvm.Cond.castable "MoleBoard$Night" "java/lang/Object") ∈ lw_tbl := lw_at lw_m11 118 rfl
/-! MoleBoard$Run -/
set_option maxRecDepth 100000
set_option maxRecDepth 100000 in
set_option maxRecDepth 100000 in
abbrev cX6_init : ByteArray := prog_13_method_1_code
def yX6_init : MethodName := ⟨RX6, "<init>", "(LMoleBoard;)V"⟩
def dkwX6_init_1 : List UInt8 := [181, 0, 19, 42, 16, 120, 188, 10, 181, 0, 22, 42, 16, 120, 188, 10, 181, 0, 25, 177]
abbrev dktX6_init_1 : List UInt8 := dkwX6_init_1 ++ []
def dkwX6_init_0 : List UInt8 := [42, 43, 181, 0, 3, 42, 183, 0, 9, 42, 16, 60, 188, 10, 181, 0, 15, 42, 16, 60, 188, 10]
abbrev dktX6_init_0 : List UInt8 := dkwX6_init_0 ++ dktX6_init_1
theorem dksX6_init_0 : cX6_init.data.toList.drop 0 = dktX6_init_0 := by decide +kernel
theorem dksX6_init_1 : cX6_init.data.toList.drop 22 = dktX6_init_1 := dk_seg dksX6_init_0 22 rfl rfl
theorem dX6_init_0 : decode cX6_init 0 = .ok (.aload_n 0, 1) := dk_42 (dk_at dksX6_init_0 0 rfl rfl)
theorem dX6_init_1 : decode cX6_init 1 = .ok (.aload_n 1, 1) := dk_43 (dk_at dksX6_init_0 1 rfl rfl)
theorem dX6_init_2 : decode cX6_init 2 = .ok (.putfield 3, 3) := dk_181 0 3 (dk_at dksX6_init_0 2 rfl rfl)
theorem dX6_init_5 : decode cX6_init 5 = .ok (.aload_n 0, 1) := dk_42 (dk_at dksX6_init_0 5 rfl rfl)
theorem dX6_init_6 : decode cX6_init 6 = .ok (.invokespecial 9, 3) := dk_183 0 9 (dk_at dksX6_init_0 6 rfl rfl)
theorem dX6_init_9 : decode cX6_init 9 = .ok (.aload_n 0, 1) := dk_42 (dk_at dksX6_init_0 9 rfl rfl)
theorem dX6_init_10 : decode cX6_init 10 = .ok (.bipush 60, 2) := dk_16 60 (dk_at dksX6_init_0 10 rfl rfl)
theorem dX6_init_12 : decode cX6_init 12 = .ok (.newarray .int, 2) := dk_188_10 (dk_at dksX6_init_0 12 rfl rfl)
theorem dX6_init_14 : decode cX6_init 14 = .ok (.putfield 15, 3) := dk_181 0 15 (dk_at dksX6_init_0 14 rfl rfl)
theorem dX6_init_17 : decode cX6_init 17 = .ok (.aload_n 0, 1) := dk_42 (dk_at dksX6_init_0 17 rfl rfl)
theorem dX6_init_18 : decode cX6_init 18 = .ok (.bipush 60, 2) := dk_16 60 (dk_at dksX6_init_0 18 rfl rfl)
theorem dX6_init_20 : decode cX6_init 20 = .ok (.newarray .int, 2) := dk_188_10 (dk_at dksX6_init_0 20 rfl rfl)
theorem dX6_init_22 : decode cX6_init 22 = .ok (.putfield 19, 3) := dk_181 0 19 (dk_at dksX6_init_1 0 rfl rfl)
theorem dX6_init_25 : decode cX6_init 25 = .ok (.aload_n 0, 1) := dk_42 (dk_at dksX6_init_1 3 rfl rfl)
theorem dX6_init_26 : decode cX6_init 26 = .ok (.bipush 120, 2) := dk_16 120 (dk_at dksX6_init_1 4 rfl rfl)
theorem dX6_init_28 : decode cX6_init 28 = .ok (.newarray .int, 2) := dk_188_10 (dk_at dksX6_init_1 6 rfl rfl)
theorem dX6_init_30 : decode cX6_init 30 = .ok (.putfield 22, 3) := dk_181 0 22 (dk_at dksX6_init_1 8 rfl rfl)
theorem dX6_init_33 : decode cX6_init 33 = .ok (.aload_n 0, 1) := dk_42 (dk_at dksX6_init_1 11 rfl rfl)
theorem dX6_init_34 : decode cX6_init 34 = .ok (.bipush 120, 2) := dk_16 120 (dk_at dksX6_init_1 12 rfl rfl)
theorem dX6_init_36 : decode cX6_init 36 = .ok (.newarray .int, 2) := dk_188_10 (dk_at dksX6_init_1 14 rfl rfl)
theorem dX6_init_38 : decode cX6_init 38 = .ok (.putfield 25, 3) := dk_181 0 25 (dk_at dksX6_init_1 16 rfl rfl)
theorem dX6_init_41 : decode cX6_init 41 = .ok (.return_, 1) := dk_177 (dk_at dksX6_init_1 19 rfl rfl)
abbrev cX6_plain : ByteArray := prog_13_method_2_code
def yX6_plain : MethodName := ⟨RX6, "plain", "(I)LMoleBoard$Run;"⟩
def dkwX6_plain_2 : List UInt8 := [7, 46, 181, 0, 48, 42, 17, 15, 255, 181, 0, 51, 42, 3, 181, 0, 54, 42, 176]
abbrev dktX6_plain_2 : List UInt8 := dkwX6_plain_2 ++ []
def dkwX6_plain_1 : List UInt8 := [181, 0, 41, 42, 42, 180, 0, 32, 180, 0, 36, 6, 46, 181, 0, 45, 42, 42, 180, 0, 32, 180, 0, 36]
abbrev dktX6_plain_1 : List UInt8 := dkwX6_plain_1 ++ dktX6_plain_2
def dkwX6_plain_0 : List UInt8 := [42, 42, 180, 0, 3, 27, 182, 0, 28, 181, 0, 32, 42, 42, 180, 0, 32, 180, 0, 36, 4, 46]
abbrev dktX6_plain_0 : List UInt8 := dkwX6_plain_0 ++ dktX6_plain_1
theorem dksX6_plain_0 : cX6_plain.data.toList.drop 0 = dktX6_plain_0 := by decide +kernel
theorem dksX6_plain_1 : cX6_plain.data.toList.drop 22 = dktX6_plain_1 := dk_seg dksX6_plain_0 22 rfl rfl
theorem dksX6_plain_2 : cX6_plain.data.toList.drop 46 = dktX6_plain_2 := dk_seg dksX6_plain_1 24 rfl rfl
theorem dX6_plain_0 : decode cX6_plain 0 = .ok (.aload_n 0, 1) := dk_42 (dk_at dksX6_plain_0 0 rfl rfl)
theorem dX6_plain_1 : decode cX6_plain 1 = .ok (.aload_n 0, 1) := dk_42 (dk_at dksX6_plain_0 1 rfl rfl)
theorem dX6_plain_2 : decode cX6_plain 2 = .ok (.getfield 3, 3) := dk_180 0 3 (dk_at dksX6_plain_0 2 rfl rfl)
theorem dX6_plain_5 : decode cX6_plain 5 = .ok (.iload_n 1, 1) := dk_27 (dk_at dksX6_plain_0 5 rfl rfl)
theorem dX6_plain_6 : decode cX6_plain 6 = .ok (.invokevirtual 28, 3) := dk_182 0 28 (dk_at dksX6_plain_0 6 rfl rfl)
theorem dX6_plain_9 : decode cX6_plain 9 = .ok (.putfield 32, 3) := dk_181 0 32 (dk_at dksX6_plain_0 9 rfl rfl)
theorem dX6_plain_12 : decode cX6_plain 12 = .ok (.aload_n 0, 1) := dk_42 (dk_at dksX6_plain_0 12 rfl rfl)
theorem dX6_plain_13 : decode cX6_plain 13 = .ok (.aload_n 0, 1) := dk_42 (dk_at dksX6_plain_0 13 rfl rfl)
theorem dX6_plain_14 : decode cX6_plain 14 = .ok (.getfield 32, 3) := dk_180 0 32 (dk_at dksX6_plain_0 14 rfl rfl)
theorem dX6_plain_17 : decode cX6_plain 17 = .ok (.getfield 36, 3) := dk_180 0 36 (dk_at dksX6_plain_0 17 rfl rfl)
theorem dX6_plain_20 : decode cX6_plain 20 = .ok (.iconst 1, 1) := dk_4 (dk_at dksX6_plain_0 20 rfl rfl)
theorem dX6_plain_21 : decode cX6_plain 21 = .ok (.iaload, 1) := dk_46 (dk_at dksX6_plain_0 21 rfl rfl)
theorem dX6_plain_22 : decode cX6_plain 22 = .ok (.putfield 41, 3) := dk_181 0 41 (dk_at dksX6_plain_1 0 rfl rfl)
theorem dX6_plain_25 : decode cX6_plain 25 = .ok (.aload_n 0, 1) := dk_42 (dk_at dksX6_plain_1 3 rfl rfl)
theorem dX6_plain_26 : decode cX6_plain 26 = .ok (.aload_n 0, 1) := dk_42 (dk_at dksX6_plain_1 4 rfl rfl)
theorem dX6_plain_27 : decode cX6_plain 27 = .ok (.getfield 32, 3) := dk_180 0 32 (dk_at dksX6_plain_1 5 rfl rfl)
theorem dX6_plain_30 : decode cX6_plain 30 = .ok (.getfield 36, 3) := dk_180 0 36 (dk_at dksX6_plain_1 8 rfl rfl)
theorem dX6_plain_33 : decode cX6_plain 33 = .ok (.iconst 3, 1) := dk_6 (dk_at dksX6_plain_1 11 rfl rfl)
theorem dX6_plain_34 : decode cX6_plain 34 = .ok (.iaload, 1) := dk_46 (dk_at dksX6_plain_1 12 rfl rfl)
theorem dX6_plain_35 : decode cX6_plain 35 = .ok (.putfield 45, 3) := dk_181 0 45 (dk_at dksX6_plain_1 13 rfl rfl)
theorem dX6_plain_38 : decode cX6_plain 38 = .ok (.aload_n 0, 1) := dk_42 (dk_at dksX6_plain_1 16 rfl rfl)
theorem dX6_plain_39 : decode cX6_plain 39 = .ok (.aload_n 0, 1) := dk_42 (dk_at dksX6_plain_1 17 rfl rfl)
theorem dX6_plain_40 : decode cX6_plain 40 = .ok (.getfield 32, 3) := dk_180 0 32 (dk_at dksX6_plain_1 18 rfl rfl)
theorem dX6_plain_43 : decode cX6_plain 43 = .ok (.getfield 36, 3) := dk_180 0 36 (dk_at dksX6_plain_1 21 rfl rfl)
theorem dX6_plain_46 : decode cX6_plain 46 = .ok (.iconst 4, 1) := dk_7 (dk_at dksX6_plain_2 0 rfl rfl)
theorem dX6_plain_47 : decode cX6_plain 47 = .ok (.iaload, 1) := dk_46 (dk_at dksX6_plain_2 1 rfl rfl)
theorem dX6_plain_48 : decode cX6_plain 48 = .ok (.putfield 48, 3) := dk_181 0 48 (dk_at dksX6_plain_2 2 rfl rfl)
theorem dX6_plain_51 : decode cX6_plain 51 = .ok (.aload_n 0, 1) := dk_42 (dk_at dksX6_plain_2 5 rfl rfl)
theorem dX6_plain_52 : decode cX6_plain 52 = .ok (.sipush 4095, 3) := dk_17 15 255 (dk_at dksX6_plain_2 6 rfl rfl)
theorem dX6_plain_55 : decode cX6_plain 55 = .ok (.putfield 51, 3) := dk_181 0 51 (dk_at dksX6_plain_2 9 rfl rfl)
theorem dX6_plain_58 : decode cX6_plain 58 = .ok (.aload_n 0, 1) := dk_42 (dk_at dksX6_plain_2 12 rfl rfl)
theorem dX6_plain_59 : decode cX6_plain 59 = .ok (.iconst 0, 1) := dk_3 (dk_at dksX6_plain_2 13 rfl rfl)
theorem dX6_plain_60 : decode cX6_plain 60 = .ok (.putfield 54, 3) := dk_181 0 54 (dk_at dksX6_plain_2 14 rfl rfl)
theorem dX6_plain_63 : decode cX6_plain 63 = .ok (.aload_n 0, 1) := dk_42 (dk_at dksX6_plain_2 17 rfl rfl)
theorem dX6_plain_64 : decode cX6_plain 64 = .ok (.areturn, 1) := dk_176 (dk_at dksX6_plain_2 18 rfl rfl)
abbrev cX6_goes : ByteArray := prog_13_method_3_code
def yX6_goes : MethodName := ⟨RX6, "goes", "(LMoleBoard$Game;)LMoleBoard$Run;"⟩
def dkwX6_goes_10 : List UInt8 := [182, 0, 108, 87, 132, 2, 1, 167, 255, 50, 42, 176]
abbrev dktX6_goes_10 : List UInt8 := dkwX6_goes_10 ++ []
def dkwX6_goes_9 : List UInt8 := [43, 28, 21, 6, 45, 180, 0, 90, 160, 0, 10, 45, 180, 0, 101, 167, 0, 7, 45, 180, 0, 90]
abbrev dktX6_goes_9 : List UInt8 := dkwX6_goes_9 ++ dktX6_goes_10
def dkwX6_goes_8 : List UInt8 := [43, 28, 21, 6, 182, 0, 108, 153, 0, 43, 21, 4, 153, 0, 38, 21, 5, 154, 0, 6, 167, 0, 30, 42]
abbrev dktX6_goes_8 : List UInt8 := dkwX6_goes_8 ++ dktX6_goes_9
def dkwX6_goes_7 : List UInt8 := [45, 180, 0, 101, 167, 0, 7, 45, 180, 0, 90, 54, 6, 21, 4, 154, 0, 8, 21, 5, 153, 0, 54, 42]
abbrev dktX6_goes_7 : List UInt8 := dkwX6_goes_7 ++ dktX6_goes_8
def dkwX6_goes_6 : List UInt8 := [180, 0, 101, 182, 0, 104, 42, 180, 0, 3, 42, 180, 0, 58, 45, 180, 0, 90, 182, 0, 104, 162, 0, 10]
abbrev dktX6_goes_6 : List UInt8 := dkwX6_goes_6 ++ dktX6_goes_7
def dkwX6_goes_5 : List UInt8 := [3, 54, 5, 21, 5, 153, 0, 48, 21, 4, 153, 0, 36, 42, 180, 0, 3, 42, 180, 0, 58, 45]
abbrev dktX6_goes_5 : List UInt8 := dkwX6_goes_5 ++ dktX6_goes_6
def dkwX6_goes_4 : List UInt8 := [182, 0, 97, 153, 0, 21, 42, 180, 0, 51, 45, 180, 0, 101, 184, 0, 93, 153, 0, 7, 4, 167, 0, 4]
abbrev dktX6_goes_4 : List UInt8 := dkwX6_goes_4 ++ dktX6_goes_5
def dkwX6_goes_3 : List UInt8 := [180, 0, 54, 154, 0, 6, 167, 0, 161, 42, 180, 0, 51, 45, 180, 0, 90, 184, 0, 93, 54, 4, 45]
abbrev dktX6_goes_3 : List UInt8 := dkwX6_goes_3 ++ dktX6_goes_4
def dkwX6_goes_2 : List UInt8 := [3, 79, 42, 180, 0, 19, 28, 2, 79, 43, 28, 182, 0, 81, 78, 45, 180, 0, 85, 153, 0, 13, 42]
abbrev dktX6_goes_2 : List UInt8 := dkwX6_goes_2 ++ dktX6_goes_3
def dkwX6_goes_1 : List UInt8 := [3, 181, 0, 70, 42, 3, 181, 0, 73, 3, 61, 28, 43, 180, 0, 76, 162, 0, 204, 42, 180, 0, 15, 28]
abbrev dktX6_goes_1 : List UInt8 := dkwX6_goes_1 ++ dktX6_goes_2
def dkwX6_goes_0 : List UInt8 := [42, 42, 180, 0, 48, 181, 0, 58, 42, 3, 181, 0, 61, 42, 3, 181, 0, 64, 42, 3, 181, 0, 67, 42]
abbrev dktX6_goes_0 : List UInt8 := dkwX6_goes_0 ++ dktX6_goes_1
theorem dksX6_goes_0 : cX6_goes.data.toList.drop 0 = dktX6_goes_0 := by decide +kernel
theorem dksX6_goes_1 : cX6_goes.data.toList.drop 24 = dktX6_goes_1 := dk_seg dksX6_goes_0 24 rfl rfl
theorem dksX6_goes_2 : cX6_goes.data.toList.drop 48 = dktX6_goes_2 := dk_seg dksX6_goes_1 24 rfl rfl
theorem dksX6_goes_3 : cX6_goes.data.toList.drop 71 = dktX6_goes_3 := dk_seg dksX6_goes_2 23 rfl rfl
theorem dksX6_goes_4 : cX6_goes.data.toList.drop 94 = dktX6_goes_4 := dk_seg dksX6_goes_3 23 rfl rfl
theorem dksX6_goes_5 : cX6_goes.data.toList.drop 118 = dktX6_goes_5 := dk_seg dksX6_goes_4 24 rfl rfl
theorem dksX6_goes_6 : cX6_goes.data.toList.drop 140 = dktX6_goes_6 := dk_seg dksX6_goes_5 22 rfl rfl
theorem dksX6_goes_7 : cX6_goes.data.toList.drop 164 = dktX6_goes_7 := dk_seg dksX6_goes_6 24 rfl rfl
theorem dksX6_goes_8 : cX6_goes.data.toList.drop 188 = dktX6_goes_8 := dk_seg dksX6_goes_7 24 rfl rfl
theorem dksX6_goes_9 : cX6_goes.data.toList.drop 212 = dktX6_goes_9 := dk_seg dksX6_goes_8 24 rfl rfl
theorem dksX6_goes_10 : cX6_goes.data.toList.drop 234 = dktX6_goes_10 := dk_seg dksX6_goes_9 22 rfl rfl
theorem dX6_goes_0 : decode cX6_goes 0 = .ok (.aload_n 0, 1) := dk_42 (dk_at dksX6_goes_0 0 rfl rfl)
theorem dX6_goes_1 : decode cX6_goes 1 = .ok (.aload_n 0, 1) := dk_42 (dk_at dksX6_goes_0 1 rfl rfl)
theorem dX6_goes_2 : decode cX6_goes 2 = .ok (.getfield 48, 3) := dk_180 0 48 (dk_at dksX6_goes_0 2 rfl rfl)
theorem dX6_goes_5 : decode cX6_goes 5 = .ok (.putfield 58, 3) := dk_181 0 58 (dk_at dksX6_goes_0 5 rfl rfl)
theorem dX6_goes_8 : decode cX6_goes 8 = .ok (.aload_n 0, 1) := dk_42 (dk_at dksX6_goes_0 8 rfl rfl)
theorem dX6_goes_9 : decode cX6_goes 9 = .ok (.iconst 0, 1) := dk_3 (dk_at dksX6_goes_0 9 rfl rfl)
theorem dX6_goes_10 : decode cX6_goes 10 = .ok (.putfield 61, 3) := dk_181 0 61 (dk_at dksX6_goes_0 10 rfl rfl)
theorem dX6_goes_13 : decode cX6_goes 13 = .ok (.aload_n 0, 1) := dk_42 (dk_at dksX6_goes_0 13 rfl rfl)
theorem dX6_goes_14 : decode cX6_goes 14 = .ok (.iconst 0, 1) := dk_3 (dk_at dksX6_goes_0 14 rfl rfl)
theorem dX6_goes_15 : decode cX6_goes 15 = .ok (.putfield 64, 3) := dk_181 0 64 (dk_at dksX6_goes_0 15 rfl rfl)
theorem dX6_goes_18 : decode cX6_goes 18 = .ok (.aload_n 0, 1) := dk_42 (dk_at dksX6_goes_0 18 rfl rfl)
theorem dX6_goes_19 : decode cX6_goes 19 = .ok (.iconst 0, 1) := dk_3 (dk_at dksX6_goes_0 19 rfl rfl)
theorem dX6_goes_20 : decode cX6_goes 20 = .ok (.putfield 67, 3) := dk_181 0 67 (dk_at dksX6_goes_0 20 rfl rfl)
theorem dX6_goes_23 : decode cX6_goes 23 = .ok (.aload_n 0, 1) := dk_42 (dk_at dksX6_goes_0 23 rfl rfl)
theorem dX6_goes_24 : decode cX6_goes 24 = .ok (.iconst 0, 1) := dk_3 (dk_at dksX6_goes_1 0 rfl rfl)
theorem dX6_goes_25 : decode cX6_goes 25 = .ok (.putfield 70, 3) := dk_181 0 70 (dk_at dksX6_goes_1 1 rfl rfl)
theorem dX6_goes_28 : decode cX6_goes 28 = .ok (.aload_n 0, 1) := dk_42 (dk_at dksX6_goes_1 4 rfl rfl)
theorem dX6_goes_29 : decode cX6_goes 29 = .ok (.iconst 0, 1) := dk_3 (dk_at dksX6_goes_1 5 rfl rfl)
theorem dX6_goes_30 : decode cX6_goes 30 = .ok (.putfield 73, 3) := dk_181 0 73 (dk_at dksX6_goes_1 6 rfl rfl)
theorem dX6_goes_33 : decode cX6_goes 33 = .ok (.iconst 0, 1) := dk_3 (dk_at dksX6_goes_1 9 rfl rfl)
theorem dX6_goes_34 : decode cX6_goes 34 = .ok (.istore_n 2, 1) := dk_61 (dk_at dksX6_goes_1 10 rfl rfl)
theorem dX6_goes_35 : decode cX6_goes 35 = .ok (.iload_n 2, 1) := dk_28 (dk_at dksX6_goes_1 11 rfl rfl)
theorem dX6_goes_36 : decode cX6_goes 36 = .ok (.aload_n 1, 1) := dk_43 (dk_at dksX6_goes_1 12 rfl rfl)
theorem dX6_goes_37 : decode cX6_goes 37 = .ok (.getfield 76, 3) := dk_180 0 76 (dk_at dksX6_goes_1 13 rfl rfl)
theorem dX6_goes_40 : decode cX6_goes 40 = .ok (.if_icmp .ge 204, 3) := dk_162 0 204 (dk_at dksX6_goes_1 16 rfl rfl)
theorem dX6_goes_43 : decode cX6_goes 43 = .ok (.aload_n 0, 1) := dk_42 (dk_at dksX6_goes_1 19 rfl rfl)
theorem dX6_goes_44 : decode cX6_goes 44 = .ok (.getfield 15, 3) := dk_180 0 15 (dk_at dksX6_goes_1 20 rfl rfl)
theorem dX6_goes_47 : decode cX6_goes 47 = .ok (.iload_n 2, 1) := dk_28 (dk_at dksX6_goes_1 23 rfl rfl)
theorem dX6_goes_48 : decode cX6_goes 48 = .ok (.iconst 0, 1) := dk_3 (dk_at dksX6_goes_2 0 rfl rfl)
theorem dX6_goes_49 : decode cX6_goes 49 = .ok (.iastore, 1) := dk_79 (dk_at dksX6_goes_2 1 rfl rfl)
theorem dX6_goes_50 : decode cX6_goes 50 = .ok (.aload_n 0, 1) := dk_42 (dk_at dksX6_goes_2 2 rfl rfl)
theorem dX6_goes_51 : decode cX6_goes 51 = .ok (.getfield 19, 3) := dk_180 0 19 (dk_at dksX6_goes_2 3 rfl rfl)
theorem dX6_goes_54 : decode cX6_goes 54 = .ok (.iload_n 2, 1) := dk_28 (dk_at dksX6_goes_2 6 rfl rfl)
theorem dX6_goes_55 : decode cX6_goes 55 = .ok (.iconst (-1), 1) := dk_2 (dk_at dksX6_goes_2 7 rfl rfl)
theorem dX6_goes_56 : decode cX6_goes 56 = .ok (.iastore, 1) := dk_79 (dk_at dksX6_goes_2 8 rfl rfl)
theorem dX6_goes_57 : decode cX6_goes 57 = .ok (.aload_n 1, 1) := dk_43 (dk_at dksX6_goes_2 9 rfl rfl)
theorem dX6_goes_58 : decode cX6_goes 58 = .ok (.iload_n 2, 1) := dk_28 (dk_at dksX6_goes_2 10 rfl rfl)
theorem dX6_goes_59 : decode cX6_goes 59 = .ok (.invokevirtual 81, 3) := dk_182 0 81 (dk_at dksX6_goes_2 11 rfl rfl)
theorem dX6_goes_62 : decode cX6_goes 62 = .ok (.astore_n 3, 1) := dk_78 (dk_at dksX6_goes_2 14 rfl rfl)
theorem dX6_goes_63 : decode cX6_goes 63 = .ok (.aload_n 3, 1) := dk_45 (dk_at dksX6_goes_2 15 rfl rfl)
theorem dX6_goes_64 : decode cX6_goes 64 = .ok (.getfield 85, 3) := dk_180 0 85 (dk_at dksX6_goes_2 16 rfl rfl)
theorem dX6_goes_67 : decode cX6_goes 67 = .ok (.ifCond .eq 13, 3) := dk_153 0 13 (dk_at dksX6_goes_2 19 rfl rfl)
theorem dX6_goes_70 : decode cX6_goes 70 = .ok (.aload_n 0, 1) := dk_42 (dk_at dksX6_goes_2 22 rfl rfl)
theorem dX6_goes_71 : decode cX6_goes 71 = .ok (.getfield 54, 3) := dk_180 0 54 (dk_at dksX6_goes_3 0 rfl rfl)
theorem dX6_goes_74 : decode cX6_goes 74 = .ok (.ifCond .ne 6, 3) := dk_154 0 6 (dk_at dksX6_goes_3 3 rfl rfl)
theorem dX6_goes_77 : decode cX6_goes 77 = .ok (.goto 161, 3) := dk_167 0 161 (dk_at dksX6_goes_3 6 rfl rfl)
theorem dX6_goes_80 : decode cX6_goes 80 = .ok (.aload_n 0, 1) := dk_42 (dk_at dksX6_goes_3 9 rfl rfl)
theorem dX6_goes_81 : decode cX6_goes 81 = .ok (.getfield 51, 3) := dk_180 0 51 (dk_at dksX6_goes_3 10 rfl rfl)
theorem dX6_goes_84 : decode cX6_goes 84 = .ok (.aload_n 3, 1) := dk_45 (dk_at dksX6_goes_3 13 rfl rfl)
theorem dX6_goes_85 : decode cX6_goes 85 = .ok (.getfield 90, 3) := dk_180 0 90 (dk_at dksX6_goes_3 14 rfl rfl)
theorem dX6_goes_88 : decode cX6_goes 88 = .ok (.invokestatic 93, 3) := dk_184 0 93 (dk_at dksX6_goes_3 17 rfl rfl)
theorem dX6_goes_91 : decode cX6_goes 91 = .ok (.istore 4, 2) := dk_54 4 (dk_at dksX6_goes_3 20 rfl rfl)
theorem dX6_goes_93 : decode cX6_goes 93 = .ok (.aload_n 3, 1) := dk_45 (dk_at dksX6_goes_3 22 rfl rfl)
theorem dX6_goes_94 : decode cX6_goes 94 = .ok (.invokevirtual 97, 3) := dk_182 0 97 (dk_at dksX6_goes_4 0 rfl rfl)
theorem dX6_goes_97 : decode cX6_goes 97 = .ok (.ifCond .eq 21, 3) := dk_153 0 21 (dk_at dksX6_goes_4 3 rfl rfl)
theorem dX6_goes_100 : decode cX6_goes 100 = .ok (.aload_n 0, 1) := dk_42 (dk_at dksX6_goes_4 6 rfl rfl)
theorem dX6_goes_101 : decode cX6_goes 101 = .ok (.getfield 51, 3) := dk_180 0 51 (dk_at dksX6_goes_4 7 rfl rfl)
theorem dX6_goes_104 : decode cX6_goes 104 = .ok (.aload_n 3, 1) := dk_45 (dk_at dksX6_goes_4 10 rfl rfl)
theorem dX6_goes_105 : decode cX6_goes 105 = .ok (.getfield 101, 3) := dk_180 0 101 (dk_at dksX6_goes_4 11 rfl rfl)
theorem dX6_goes_108 : decode cX6_goes 108 = .ok (.invokestatic 93, 3) := dk_184 0 93 (dk_at dksX6_goes_4 14 rfl rfl)
theorem dX6_goes_111 : decode cX6_goes 111 = .ok (.ifCond .eq 7, 3) := dk_153 0 7 (dk_at dksX6_goes_4 17 rfl rfl)
theorem dX6_goes_114 : decode cX6_goes 114 = .ok (.iconst 1, 1) := dk_4 (dk_at dksX6_goes_4 20 rfl rfl)
theorem dX6_goes_115 : decode cX6_goes 115 = .ok (.goto 4, 3) := dk_167 0 4 (dk_at dksX6_goes_4 21 rfl rfl)
theorem dX6_goes_118 : decode cX6_goes 118 = .ok (.iconst 0, 1) := dk_3 (dk_at dksX6_goes_5 0 rfl rfl)
theorem dX6_goes_119 : decode cX6_goes 119 = .ok (.istore 5, 2) := dk_54 5 (dk_at dksX6_goes_5 1 rfl rfl)
theorem dX6_goes_121 : decode cX6_goes 121 = .ok (.iload 5, 2) := dk_21 5 (dk_at dksX6_goes_5 3 rfl rfl)
theorem dX6_goes_123 : decode cX6_goes 123 = .ok (.ifCond .eq 48, 3) := dk_153 0 48 (dk_at dksX6_goes_5 5 rfl rfl)
theorem dX6_goes_126 : decode cX6_goes 126 = .ok (.iload 4, 2) := dk_21 4 (dk_at dksX6_goes_5 8 rfl rfl)
theorem dX6_goes_128 : decode cX6_goes 128 = .ok (.ifCond .eq 36, 3) := dk_153 0 36 (dk_at dksX6_goes_5 10 rfl rfl)
theorem dX6_goes_131 : decode cX6_goes 131 = .ok (.aload_n 0, 1) := dk_42 (dk_at dksX6_goes_5 13 rfl rfl)
theorem dX6_goes_132 : decode cX6_goes 132 = .ok (.getfield 3, 3) := dk_180 0 3 (dk_at dksX6_goes_5 14 rfl rfl)
theorem dX6_goes_135 : decode cX6_goes 135 = .ok (.aload_n 0, 1) := dk_42 (dk_at dksX6_goes_5 17 rfl rfl)
theorem dX6_goes_136 : decode cX6_goes 136 = .ok (.getfield 58, 3) := dk_180 0 58 (dk_at dksX6_goes_5 18 rfl rfl)
theorem dX6_goes_139 : decode cX6_goes 139 = .ok (.aload_n 3, 1) := dk_45 (dk_at dksX6_goes_5 21 rfl rfl)
theorem dX6_goes_140 : decode cX6_goes 140 = .ok (.getfield 101, 3) := dk_180 0 101 (dk_at dksX6_goes_6 0 rfl rfl)
theorem dX6_goes_143 : decode cX6_goes 143 = .ok (.invokevirtual 104, 3) := dk_182 0 104 (dk_at dksX6_goes_6 3 rfl rfl)
theorem dX6_goes_146 : decode cX6_goes 146 = .ok (.aload_n 0, 1) := dk_42 (dk_at dksX6_goes_6 6 rfl rfl)
theorem dX6_goes_147 : decode cX6_goes 147 = .ok (.getfield 3, 3) := dk_180 0 3 (dk_at dksX6_goes_6 7 rfl rfl)
theorem dX6_goes_150 : decode cX6_goes 150 = .ok (.aload_n 0, 1) := dk_42 (dk_at dksX6_goes_6 10 rfl rfl)
theorem dX6_goes_151 : decode cX6_goes 151 = .ok (.getfield 58, 3) := dk_180 0 58 (dk_at dksX6_goes_6 11 rfl rfl)
theorem dX6_goes_154 : decode cX6_goes 154 = .ok (.aload_n 3, 1) := dk_45 (dk_at dksX6_goes_6 14 rfl rfl)
theorem dX6_goes_155 : decode cX6_goes 155 = .ok (.getfield 90, 3) := dk_180 0 90 (dk_at dksX6_goes_6 15 rfl rfl)
theorem dX6_goes_158 : decode cX6_goes 158 = .ok (.invokevirtual 104, 3) := dk_182 0 104 (dk_at dksX6_goes_6 18 rfl rfl)
theorem dX6_goes_161 : decode cX6_goes 161 = .ok (.if_icmp .ge 10, 3) := dk_162 0 10 (dk_at dksX6_goes_6 21 rfl rfl)
theorem dX6_goes_164 : decode cX6_goes 164 = .ok (.aload_n 3, 1) := dk_45 (dk_at dksX6_goes_7 0 rfl rfl)
theorem dX6_goes_165 : decode cX6_goes 165 = .ok (.getfield 101, 3) := dk_180 0 101 (dk_at dksX6_goes_7 1 rfl rfl)
theorem dX6_goes_168 : decode cX6_goes 168 = .ok (.goto 7, 3) := dk_167 0 7 (dk_at dksX6_goes_7 4 rfl rfl)
theorem dX6_goes_171 : decode cX6_goes 171 = .ok (.aload_n 3, 1) := dk_45 (dk_at dksX6_goes_7 7 rfl rfl)
theorem dX6_goes_172 : decode cX6_goes 172 = .ok (.getfield 90, 3) := dk_180 0 90 (dk_at dksX6_goes_7 8 rfl rfl)
theorem dX6_goes_175 : decode cX6_goes 175 = .ok (.istore 6, 2) := dk_54 6 (dk_at dksX6_goes_7 11 rfl rfl)
theorem dX6_goes_177 : decode cX6_goes 177 = .ok (.iload 4, 2) := dk_21 4 (dk_at dksX6_goes_7 13 rfl rfl)
theorem dX6_goes_179 : decode cX6_goes 179 = .ok (.ifCond .ne 8, 3) := dk_154 0 8 (dk_at dksX6_goes_7 15 rfl rfl)
theorem dX6_goes_182 : decode cX6_goes 182 = .ok (.iload 5, 2) := dk_21 5 (dk_at dksX6_goes_7 18 rfl rfl)
theorem dX6_goes_184 : decode cX6_goes 184 = .ok (.ifCond .eq 54, 3) := dk_153 0 54 (dk_at dksX6_goes_7 20 rfl rfl)
theorem dX6_goes_187 : decode cX6_goes 187 = .ok (.aload_n 0, 1) := dk_42 (dk_at dksX6_goes_7 23 rfl rfl)
theorem dX6_goes_188 : decode cX6_goes 188 = .ok (.aload_n 1, 1) := dk_43 (dk_at dksX6_goes_8 0 rfl rfl)
theorem dX6_goes_189 : decode cX6_goes 189 = .ok (.iload_n 2, 1) := dk_28 (dk_at dksX6_goes_8 1 rfl rfl)
theorem dX6_goes_190 : decode cX6_goes 190 = .ok (.iload 6, 2) := dk_21 6 (dk_at dksX6_goes_8 2 rfl rfl)
theorem dX6_goes_192 : decode cX6_goes 192 = .ok (.invokevirtual 108, 3) := dk_182 0 108 (dk_at dksX6_goes_8 4 rfl rfl)
theorem dX6_goes_195 : decode cX6_goes 195 = .ok (.ifCond .eq 43, 3) := dk_153 0 43 (dk_at dksX6_goes_8 7 rfl rfl)
theorem dX6_goes_198 : decode cX6_goes 198 = .ok (.iload 4, 2) := dk_21 4 (dk_at dksX6_goes_8 10 rfl rfl)
theorem dX6_goes_200 : decode cX6_goes 200 = .ok (.ifCond .eq 38, 3) := dk_153 0 38 (dk_at dksX6_goes_8 12 rfl rfl)
theorem dX6_goes_203 : decode cX6_goes 203 = .ok (.iload 5, 2) := dk_21 5 (dk_at dksX6_goes_8 15 rfl rfl)
theorem dX6_goes_205 : decode cX6_goes 205 = .ok (.ifCond .ne 6, 3) := dk_154 0 6 (dk_at dksX6_goes_8 17 rfl rfl)
theorem dX6_goes_208 : decode cX6_goes 208 = .ok (.goto 30, 3) := dk_167 0 30 (dk_at dksX6_goes_8 20 rfl rfl)
theorem dX6_goes_211 : decode cX6_goes 211 = .ok (.aload_n 0, 1) := dk_42 (dk_at dksX6_goes_8 23 rfl rfl)
theorem dX6_goes_212 : decode cX6_goes 212 = .ok (.aload_n 1, 1) := dk_43 (dk_at dksX6_goes_9 0 rfl rfl)
theorem dX6_goes_213 : decode cX6_goes 213 = .ok (.iload_n 2, 1) := dk_28 (dk_at dksX6_goes_9 1 rfl rfl)
theorem dX6_goes_214 : decode cX6_goes 214 = .ok (.iload 6, 2) := dk_21 6 (dk_at dksX6_goes_9 2 rfl rfl)
theorem dX6_goes_216 : decode cX6_goes 216 = .ok (.aload_n 3, 1) := dk_45 (dk_at dksX6_goes_9 4 rfl rfl)
theorem dX6_goes_217 : decode cX6_goes 217 = .ok (.getfield 90, 3) := dk_180 0 90 (dk_at dksX6_goes_9 5 rfl rfl)
theorem dX6_goes_220 : decode cX6_goes 220 = .ok (.if_icmp .ne 10, 3) := dk_160 0 10 (dk_at dksX6_goes_9 8 rfl rfl)
theorem dX6_goes_223 : decode cX6_goes 223 = .ok (.aload_n 3, 1) := dk_45 (dk_at dksX6_goes_9 11 rfl rfl)
theorem dX6_goes_224 : decode cX6_goes 224 = .ok (.getfield 101, 3) := dk_180 0 101 (dk_at dksX6_goes_9 12 rfl rfl)
theorem dX6_goes_227 : decode cX6_goes 227 = .ok (.goto 7, 3) := dk_167 0 7 (dk_at dksX6_goes_9 15 rfl rfl)
theorem dX6_goes_230 : decode cX6_goes 230 = .ok (.aload_n 3, 1) := dk_45 (dk_at dksX6_goes_9 18 rfl rfl)
theorem dX6_goes_231 : decode cX6_goes 231 = .ok (.getfield 90, 3) := dk_180 0 90 (dk_at dksX6_goes_9 19 rfl rfl)
theorem dX6_goes_234 : decode cX6_goes 234 = .ok (.invokevirtual 108, 3) := dk_182 0 108 (dk_at dksX6_goes_10 0 rfl rfl)
theorem dX6_goes_237 : decode cX6_goes 237 = .ok (.pop, 1) := dk_87 (dk_at dksX6_goes_10 3 rfl rfl)
theorem dX6_goes_238 : decode cX6_goes 238 = .ok (.iinc 2 1, 3) := dk_132 2 1 (dk_at dksX6_goes_10 4 rfl rfl)
theorem dX6_goes_241 : decode cX6_goes 241 = .ok (.goto (-206), 3) := dk_167 255 50 (dk_at dksX6_goes_10 7 rfl rfl)
theorem dX6_goes_244 : decode cX6_goes 244 = .ok (.aload_n 0, 1) := dk_42 (dk_at dksX6_goes_10 10 rfl rfl)
theorem dX6_goes_245 : decode cX6_goes 245 = .ok (.areturn, 1) := dk_176 (dk_at dksX6_goes_10 11 rfl rfl)
abbrev cX6_strikes : ByteArray := prog_13_method_4_code
def yX6_strikes : MethodName := ⟨RX6, "strikes", "(LMoleBoard$Game;II)Z"⟩
def dkwX6_strikes_7 : List UInt8 := [4, 96, 181, 0, 67, 167, 0, 13, 42, 89, 180, 0, 64, 4, 96, 181, 0, 64, 4, 172]
abbrev dktX6_strikes_7 : List UInt8 := dkwX6_strikes_7 ++ []
def dkwX6_strikes_6 : List UInt8 := [180, 0, 70, 4, 96, 181, 0, 70, 43, 28, 182, 0, 81, 180, 0, 85, 153, 0, 16, 42, 89, 180, 0, 67]
abbrev dktX6_strikes_6 : List UInt8 := dkwX6_strikes_6 ++ dktX6_strikes_7
def dkwX6_strikes_5 : List UInt8 := [42, 180, 0, 22, 42, 180, 0, 70, 29, 79, 42, 180, 0, 25, 42, 180, 0, 70, 21, 6, 79, 42, 89]
abbrev dktX6_strikes_5 : List UInt8 := dkwX6_strikes_5 ++ dktX6_strikes_6
def dkwX6_strikes_4 : List UInt8 := [21, 5, 96, 181, 0, 73, 42, 180, 0, 15, 28, 92, 46, 4, 96, 79, 42, 180, 0, 19, 28, 21, 6, 79]
abbrev dktX6_strikes_4 : List UInt8 := dkwX6_strikes_4 ++ dktX6_strikes_5
def dkwX6_strikes_3 : List UInt8 := [164, 0, 5, 3, 172, 42, 29, 181, 0, 58, 42, 21, 6, 4, 96, 181, 0, 61, 42, 89, 180, 0, 73]
abbrev dktX6_strikes_3 : List UInt8 := dkwX6_strikes_3 ++ dktX6_strikes_4
def dkwX6_strikes_2 : List UInt8 := [182, 0, 120, 104, 96, 43, 180, 0, 124, 28, 46, 184, 0, 115, 54, 6, 21, 6, 43, 180, 0, 127, 28, 46]
abbrev dktX6_strikes_2 : List UInt8 := dkwX6_strikes_2 ++ dktX6_strikes_3
def dkwX6_strikes_1 : List UInt8 := [180, 0, 3, 42, 180, 0, 58, 29, 182, 0, 104, 54, 5, 21, 4, 21, 5, 42, 180, 0, 32, 21, 4]
abbrev dktX6_strikes_1 : List UInt8 := dkwX6_strikes_1 ++ dktX6_strikes_2
def dkwX6_strikes_0 : List UInt8 := [42, 180, 0, 61, 43, 42, 180, 0, 41, 42, 180, 0, 45, 28, 184, 0, 111, 184, 0, 115, 54, 4, 42]
abbrev dktX6_strikes_0 : List UInt8 := dkwX6_strikes_0 ++ dktX6_strikes_1
theorem dksX6_strikes_0 : cX6_strikes.data.toList.drop 0 = dktX6_strikes_0 := by decide +kernel
theorem dksX6_strikes_1 : cX6_strikes.data.toList.drop 23 = dktX6_strikes_1 := dk_seg dksX6_strikes_0 23 rfl rfl
theorem dksX6_strikes_2 : cX6_strikes.data.toList.drop 46 = dktX6_strikes_2 := dk_seg dksX6_strikes_1 23 rfl rfl
theorem dksX6_strikes_3 : cX6_strikes.data.toList.drop 70 = dktX6_strikes_3 := dk_seg dksX6_strikes_2 24 rfl rfl
theorem dksX6_strikes_4 : cX6_strikes.data.toList.drop 93 = dktX6_strikes_4 := dk_seg dksX6_strikes_3 23 rfl rfl
theorem dksX6_strikes_5 : cX6_strikes.data.toList.drop 117 = dktX6_strikes_5 := dk_seg dksX6_strikes_4 24 rfl rfl
theorem dksX6_strikes_6 : cX6_strikes.data.toList.drop 140 = dktX6_strikes_6 := dk_seg dksX6_strikes_5 23 rfl rfl
theorem dksX6_strikes_7 : cX6_strikes.data.toList.drop 164 = dktX6_strikes_7 := dk_seg dksX6_strikes_6 24 rfl rfl
theorem dX6_strikes_0 : decode cX6_strikes 0 = .ok (.aload_n 0, 1) := dk_42 (dk_at dksX6_strikes_0 0 rfl rfl)
theorem dX6_strikes_1 : decode cX6_strikes 1 = .ok (.getfield 61, 3) := dk_180 0 61 (dk_at dksX6_strikes_0 1 rfl rfl)
theorem dX6_strikes_4 : decode cX6_strikes 4 = .ok (.aload_n 1, 1) := dk_43 (dk_at dksX6_strikes_0 4 rfl rfl)
theorem dX6_strikes_5 : decode cX6_strikes 5 = .ok (.aload_n 0, 1) := dk_42 (dk_at dksX6_strikes_0 5 rfl rfl)
theorem dX6_strikes_6 : decode cX6_strikes 6 = .ok (.getfield 41, 3) := dk_180 0 41 (dk_at dksX6_strikes_0 6 rfl rfl)
theorem dX6_strikes_9 : decode cX6_strikes 9 = .ok (.aload_n 0, 1) := dk_42 (dk_at dksX6_strikes_0 9 rfl rfl)
theorem dX6_strikes_10 : decode cX6_strikes 10 = .ok (.getfield 45, 3) := dk_180 0 45 (dk_at dksX6_strikes_0 10 rfl rfl)
theorem dX6_strikes_13 : decode cX6_strikes 13 = .ok (.iload_n 2, 1) := dk_28 (dk_at dksX6_strikes_0 13 rfl rfl)
theorem dX6_strikes_14 : decode cX6_strikes 14 = .ok (.invokestatic 111, 3) := dk_184 0 111 (dk_at dksX6_strikes_0 14 rfl rfl)
theorem dX6_strikes_17 : decode cX6_strikes 17 = .ok (.invokestatic 115, 3) := dk_184 0 115 (dk_at dksX6_strikes_0 17 rfl rfl)
theorem dX6_strikes_20 : decode cX6_strikes 20 = .ok (.istore 4, 2) := dk_54 4 (dk_at dksX6_strikes_0 20 rfl rfl)
theorem dX6_strikes_22 : decode cX6_strikes 22 = .ok (.aload_n 0, 1) := dk_42 (dk_at dksX6_strikes_0 22 rfl rfl)
theorem dX6_strikes_23 : decode cX6_strikes 23 = .ok (.getfield 3, 3) := dk_180 0 3 (dk_at dksX6_strikes_1 0 rfl rfl)
theorem dX6_strikes_26 : decode cX6_strikes 26 = .ok (.aload_n 0, 1) := dk_42 (dk_at dksX6_strikes_1 3 rfl rfl)
theorem dX6_strikes_27 : decode cX6_strikes 27 = .ok (.getfield 58, 3) := dk_180 0 58 (dk_at dksX6_strikes_1 4 rfl rfl)
theorem dX6_strikes_30 : decode cX6_strikes 30 = .ok (.iload_n 3, 1) := dk_29 (dk_at dksX6_strikes_1 7 rfl rfl)
theorem dX6_strikes_31 : decode cX6_strikes 31 = .ok (.invokevirtual 104, 3) := dk_182 0 104 (dk_at dksX6_strikes_1 8 rfl rfl)
theorem dX6_strikes_34 : decode cX6_strikes 34 = .ok (.istore 5, 2) := dk_54 5 (dk_at dksX6_strikes_1 11 rfl rfl)
theorem dX6_strikes_36 : decode cX6_strikes 36 = .ok (.iload 4, 2) := dk_21 4 (dk_at dksX6_strikes_1 13 rfl rfl)
theorem dX6_strikes_38 : decode cX6_strikes 38 = .ok (.iload 5, 2) := dk_21 5 (dk_at dksX6_strikes_1 15 rfl rfl)
theorem dX6_strikes_40 : decode cX6_strikes 40 = .ok (.aload_n 0, 1) := dk_42 (dk_at dksX6_strikes_1 17 rfl rfl)
theorem dX6_strikes_41 : decode cX6_strikes 41 = .ok (.getfield 32, 3) := dk_180 0 32 (dk_at dksX6_strikes_1 18 rfl rfl)
theorem dX6_strikes_44 : decode cX6_strikes 44 = .ok (.iload 4, 2) := dk_21 4 (dk_at dksX6_strikes_1 21 rfl rfl)
theorem dX6_strikes_46 : decode cX6_strikes 46 = .ok (.invokevirtual 120, 3) := dk_182 0 120 (dk_at dksX6_strikes_2 0 rfl rfl)
theorem dX6_strikes_49 : decode cX6_strikes 49 = .ok (.imul, 1) := dk_104 (dk_at dksX6_strikes_2 3 rfl rfl)
theorem dX6_strikes_50 : decode cX6_strikes 50 = .ok (.iadd, 1) := dk_96 (dk_at dksX6_strikes_2 4 rfl rfl)
theorem dX6_strikes_51 : decode cX6_strikes 51 = .ok (.aload_n 1, 1) := dk_43 (dk_at dksX6_strikes_2 5 rfl rfl)
theorem dX6_strikes_52 : decode cX6_strikes 52 = .ok (.getfield 124, 3) := dk_180 0 124 (dk_at dksX6_strikes_2 6 rfl rfl)
theorem dX6_strikes_55 : decode cX6_strikes 55 = .ok (.iload_n 2, 1) := dk_28 (dk_at dksX6_strikes_2 9 rfl rfl)
theorem dX6_strikes_56 : decode cX6_strikes 56 = .ok (.iaload, 1) := dk_46 (dk_at dksX6_strikes_2 10 rfl rfl)
theorem dX6_strikes_57 : decode cX6_strikes 57 = .ok (.invokestatic 115, 3) := dk_184 0 115 (dk_at dksX6_strikes_2 11 rfl rfl)
theorem dX6_strikes_60 : decode cX6_strikes 60 = .ok (.istore 6, 2) := dk_54 6 (dk_at dksX6_strikes_2 14 rfl rfl)
theorem dX6_strikes_62 : decode cX6_strikes 62 = .ok (.iload 6, 2) := dk_21 6 (dk_at dksX6_strikes_2 16 rfl rfl)
theorem dX6_strikes_64 : decode cX6_strikes 64 = .ok (.aload_n 1, 1) := dk_43 (dk_at dksX6_strikes_2 18 rfl rfl)
theorem dX6_strikes_65 : decode cX6_strikes 65 = .ok (.getfield 127, 3) := dk_180 0 127 (dk_at dksX6_strikes_2 19 rfl rfl)
theorem dX6_strikes_68 : decode cX6_strikes 68 = .ok (.iload_n 2, 1) := dk_28 (dk_at dksX6_strikes_2 22 rfl rfl)
theorem dX6_strikes_69 : decode cX6_strikes 69 = .ok (.iaload, 1) := dk_46 (dk_at dksX6_strikes_2 23 rfl rfl)
theorem dX6_strikes_70 : decode cX6_strikes 70 = .ok (.if_icmp .le 5, 3) := dk_164 0 5 (dk_at dksX6_strikes_3 0 rfl rfl)
theorem dX6_strikes_73 : decode cX6_strikes 73 = .ok (.iconst 0, 1) := dk_3 (dk_at dksX6_strikes_3 3 rfl rfl)
theorem dX6_strikes_74 : decode cX6_strikes 74 = .ok (.ireturn, 1) := dk_172 (dk_at dksX6_strikes_3 4 rfl rfl)
theorem dX6_strikes_75 : decode cX6_strikes 75 = .ok (.aload_n 0, 1) := dk_42 (dk_at dksX6_strikes_3 5 rfl rfl)
theorem dX6_strikes_76 : decode cX6_strikes 76 = .ok (.iload_n 3, 1) := dk_29 (dk_at dksX6_strikes_3 6 rfl rfl)
theorem dX6_strikes_77 : decode cX6_strikes 77 = .ok (.putfield 58, 3) := dk_181 0 58 (dk_at dksX6_strikes_3 7 rfl rfl)
theorem dX6_strikes_80 : decode cX6_strikes 80 = .ok (.aload_n 0, 1) := dk_42 (dk_at dksX6_strikes_3 10 rfl rfl)
theorem dX6_strikes_81 : decode cX6_strikes 81 = .ok (.iload 6, 2) := dk_21 6 (dk_at dksX6_strikes_3 11 rfl rfl)
theorem dX6_strikes_83 : decode cX6_strikes 83 = .ok (.iconst 1, 1) := dk_4 (dk_at dksX6_strikes_3 13 rfl rfl)
theorem dX6_strikes_84 : decode cX6_strikes 84 = .ok (.iadd, 1) := dk_96 (dk_at dksX6_strikes_3 14 rfl rfl)
theorem dX6_strikes_85 : decode cX6_strikes 85 = .ok (.putfield 61, 3) := dk_181 0 61 (dk_at dksX6_strikes_3 15 rfl rfl)
theorem dX6_strikes_88 : decode cX6_strikes 88 = .ok (.aload_n 0, 1) := dk_42 (dk_at dksX6_strikes_3 18 rfl rfl)
theorem dX6_strikes_89 : decode cX6_strikes 89 = .ok (.dup, 1) := dk_89 (dk_at dksX6_strikes_3 19 rfl rfl)
theorem dX6_strikes_90 : decode cX6_strikes 90 = .ok (.getfield 73, 3) := dk_180 0 73 (dk_at dksX6_strikes_3 20 rfl rfl)
theorem dX6_strikes_93 : decode cX6_strikes 93 = .ok (.iload 5, 2) := dk_21 5 (dk_at dksX6_strikes_4 0 rfl rfl)
theorem dX6_strikes_95 : decode cX6_strikes 95 = .ok (.iadd, 1) := dk_96 (dk_at dksX6_strikes_4 2 rfl rfl)
theorem dX6_strikes_96 : decode cX6_strikes 96 = .ok (.putfield 73, 3) := dk_181 0 73 (dk_at dksX6_strikes_4 3 rfl rfl)
theorem dX6_strikes_99 : decode cX6_strikes 99 = .ok (.aload_n 0, 1) := dk_42 (dk_at dksX6_strikes_4 6 rfl rfl)
theorem dX6_strikes_100 : decode cX6_strikes 100 = .ok (.getfield 15, 3) := dk_180 0 15 (dk_at dksX6_strikes_4 7 rfl rfl)
theorem dX6_strikes_103 : decode cX6_strikes 103 = .ok (.iload_n 2, 1) := dk_28 (dk_at dksX6_strikes_4 10 rfl rfl)
theorem dX6_strikes_104 : decode cX6_strikes 104 = .ok (.dup2, 1) := dk_92 (dk_at dksX6_strikes_4 11 rfl rfl)
theorem dX6_strikes_105 : decode cX6_strikes 105 = .ok (.iaload, 1) := dk_46 (dk_at dksX6_strikes_4 12 rfl rfl)
theorem dX6_strikes_106 : decode cX6_strikes 106 = .ok (.iconst 1, 1) := dk_4 (dk_at dksX6_strikes_4 13 rfl rfl)
theorem dX6_strikes_107 : decode cX6_strikes 107 = .ok (.iadd, 1) := dk_96 (dk_at dksX6_strikes_4 14 rfl rfl)
theorem dX6_strikes_108 : decode cX6_strikes 108 = .ok (.iastore, 1) := dk_79 (dk_at dksX6_strikes_4 15 rfl rfl)
theorem dX6_strikes_109 : decode cX6_strikes 109 = .ok (.aload_n 0, 1) := dk_42 (dk_at dksX6_strikes_4 16 rfl rfl)
theorem dX6_strikes_110 : decode cX6_strikes 110 = .ok (.getfield 19, 3) := dk_180 0 19 (dk_at dksX6_strikes_4 17 rfl rfl)
theorem dX6_strikes_113 : decode cX6_strikes 113 = .ok (.iload_n 2, 1) := dk_28 (dk_at dksX6_strikes_4 20 rfl rfl)
theorem dX6_strikes_114 : decode cX6_strikes 114 = .ok (.iload 6, 2) := dk_21 6 (dk_at dksX6_strikes_4 21 rfl rfl)
theorem dX6_strikes_116 : decode cX6_strikes 116 = .ok (.iastore, 1) := dk_79 (dk_at dksX6_strikes_4 23 rfl rfl)
theorem dX6_strikes_117 : decode cX6_strikes 117 = .ok (.aload_n 0, 1) := dk_42 (dk_at dksX6_strikes_5 0 rfl rfl)
theorem dX6_strikes_118 : decode cX6_strikes 118 = .ok (.getfield 22, 3) := dk_180 0 22 (dk_at dksX6_strikes_5 1 rfl rfl)
theorem dX6_strikes_121 : decode cX6_strikes 121 = .ok (.aload_n 0, 1) := dk_42 (dk_at dksX6_strikes_5 4 rfl rfl)
theorem dX6_strikes_122 : decode cX6_strikes 122 = .ok (.getfield 70, 3) := dk_180 0 70 (dk_at dksX6_strikes_5 5 rfl rfl)
theorem dX6_strikes_125 : decode cX6_strikes 125 = .ok (.iload_n 3, 1) := dk_29 (dk_at dksX6_strikes_5 8 rfl rfl)
theorem dX6_strikes_126 : decode cX6_strikes 126 = .ok (.iastore, 1) := dk_79 (dk_at dksX6_strikes_5 9 rfl rfl)
theorem dX6_strikes_127 : decode cX6_strikes 127 = .ok (.aload_n 0, 1) := dk_42 (dk_at dksX6_strikes_5 10 rfl rfl)
theorem dX6_strikes_128 : decode cX6_strikes 128 = .ok (.getfield 25, 3) := dk_180 0 25 (dk_at dksX6_strikes_5 11 rfl rfl)
theorem dX6_strikes_131 : decode cX6_strikes 131 = .ok (.aload_n 0, 1) := dk_42 (dk_at dksX6_strikes_5 14 rfl rfl)
theorem dX6_strikes_132 : decode cX6_strikes 132 = .ok (.getfield 70, 3) := dk_180 0 70 (dk_at dksX6_strikes_5 15 rfl rfl)
theorem dX6_strikes_135 : decode cX6_strikes 135 = .ok (.iload 6, 2) := dk_21 6 (dk_at dksX6_strikes_5 18 rfl rfl)
theorem dX6_strikes_137 : decode cX6_strikes 137 = .ok (.iastore, 1) := dk_79 (dk_at dksX6_strikes_5 20 rfl rfl)
theorem dX6_strikes_138 : decode cX6_strikes 138 = .ok (.aload_n 0, 1) := dk_42 (dk_at dksX6_strikes_5 21 rfl rfl)
theorem dX6_strikes_139 : decode cX6_strikes 139 = .ok (.dup, 1) := dk_89 (dk_at dksX6_strikes_5 22 rfl rfl)
theorem dX6_strikes_140 : decode cX6_strikes 140 = .ok (.getfield 70, 3) := dk_180 0 70 (dk_at dksX6_strikes_6 0 rfl rfl)
theorem dX6_strikes_143 : decode cX6_strikes 143 = .ok (.iconst 1, 1) := dk_4 (dk_at dksX6_strikes_6 3 rfl rfl)
theorem dX6_strikes_144 : decode cX6_strikes 144 = .ok (.iadd, 1) := dk_96 (dk_at dksX6_strikes_6 4 rfl rfl)
theorem dX6_strikes_145 : decode cX6_strikes 145 = .ok (.putfield 70, 3) := dk_181 0 70 (dk_at dksX6_strikes_6 5 rfl rfl)
theorem dX6_strikes_148 : decode cX6_strikes 148 = .ok (.aload_n 1, 1) := dk_43 (dk_at dksX6_strikes_6 8 rfl rfl)
theorem dX6_strikes_149 : decode cX6_strikes 149 = .ok (.iload_n 2, 1) := dk_28 (dk_at dksX6_strikes_6 9 rfl rfl)
theorem dX6_strikes_150 : decode cX6_strikes 150 = .ok (.invokevirtual 81, 3) := dk_182 0 81 (dk_at dksX6_strikes_6 10 rfl rfl)
theorem dX6_strikes_153 : decode cX6_strikes 153 = .ok (.getfield 85, 3) := dk_180 0 85 (dk_at dksX6_strikes_6 13 rfl rfl)
theorem dX6_strikes_156 : decode cX6_strikes 156 = .ok (.ifCond .eq 16, 3) := dk_153 0 16 (dk_at dksX6_strikes_6 16 rfl rfl)
theorem dX6_strikes_159 : decode cX6_strikes 159 = .ok (.aload_n 0, 1) := dk_42 (dk_at dksX6_strikes_6 19 rfl rfl)
theorem dX6_strikes_160 : decode cX6_strikes 160 = .ok (.dup, 1) := dk_89 (dk_at dksX6_strikes_6 20 rfl rfl)
theorem dX6_strikes_161 : decode cX6_strikes 161 = .ok (.getfield 67, 3) := dk_180 0 67 (dk_at dksX6_strikes_6 21 rfl rfl)
theorem dX6_strikes_164 : decode cX6_strikes 164 = .ok (.iconst 1, 1) := dk_4 (dk_at dksX6_strikes_7 0 rfl rfl)
theorem dX6_strikes_165 : decode cX6_strikes 165 = .ok (.iadd, 1) := dk_96 (dk_at dksX6_strikes_7 1 rfl rfl)
theorem dX6_strikes_166 : decode cX6_strikes 166 = .ok (.putfield 67, 3) := dk_181 0 67 (dk_at dksX6_strikes_7 2 rfl rfl)
theorem dX6_strikes_169 : decode cX6_strikes 169 = .ok (.goto 13, 3) := dk_167 0 13 (dk_at dksX6_strikes_7 5 rfl rfl)
theorem dX6_strikes_172 : decode cX6_strikes 172 = .ok (.aload_n 0, 1) := dk_42 (dk_at dksX6_strikes_7 8 rfl rfl)
theorem dX6_strikes_173 : decode cX6_strikes 173 = .ok (.dup, 1) := dk_89 (dk_at dksX6_strikes_7 9 rfl rfl)
theorem dX6_strikes_174 : decode cX6_strikes 174 = .ok (.getfield 64, 3) := dk_180 0 64 (dk_at dksX6_strikes_7 10 rfl rfl)
theorem dX6_strikes_177 : decode cX6_strikes 177 = .ok (.iconst 1, 1) := dk_4 (dk_at dksX6_strikes_7 13 rfl rfl)
theorem dX6_strikes_178 : decode cX6_strikes 178 = .ok (.iadd, 1) := dk_96 (dk_at dksX6_strikes_7 14 rfl rfl)
theorem dX6_strikes_179 : decode cX6_strikes 179 = .ok (.putfield 64, 3) := dk_181 0 64 (dk_at dksX6_strikes_7 15 rfl rfl)
theorem dX6_strikes_182 : decode cX6_strikes 182 = .ok (.iconst 1, 1) := dk_4 (dk_at dksX6_strikes_7 18 rfl rfl)
theorem dX6_strikes_183 : decode cX6_strikes 183 = .ok (.ireturn, 1) := dk_172 (dk_at dksX6_strikes_7 19 rfl rfl)
abbrev cX6_points : ByteArray := prog_13_method_5_code
def yX6_points : MethodName := ⟨RX6, "points", "()I"⟩
def dkwX6_points_0 : List UInt8 := [16, 10, 42, 180, 0, 64, 104, 16, 20, 42, 180, 0, 67, 104, 100, 172]
abbrev dktX6_points_0 : List UInt8 := dkwX6_points_0 ++ []
theorem dksX6_points_0 : cX6_points.data.toList.drop 0 = dktX6_points_0 := by decide +kernel
theorem dX6_points_0 : decode cX6_points 0 = .ok (.bipush 10, 2) := dk_16 10 (dk_at dksX6_points_0 0 rfl rfl)
theorem dX6_points_2 : decode cX6_points 2 = .ok (.aload_n 0, 1) := dk_42 (dk_at dksX6_points_0 2 rfl rfl)
theorem dX6_points_3 : decode cX6_points 3 = .ok (.getfield 64, 3) := dk_180 0 64 (dk_at dksX6_points_0 3 rfl rfl)
theorem dX6_points_6 : decode cX6_points 6 = .ok (.imul, 1) := dk_104 (dk_at dksX6_points_0 6 rfl rfl)
theorem dX6_points_7 : decode cX6_points 7 = .ok (.bipush 20, 2) := dk_16 20 (dk_at dksX6_points_0 7 rfl rfl)
theorem dX6_points_9 : decode cX6_points 9 = .ok (.aload_n 0, 1) := dk_42 (dk_at dksX6_points_0 9 rfl rfl)
theorem dX6_points_10 : decode cX6_points 10 = .ok (.getfield 67, 3) := dk_180 0 67 (dk_at dksX6_points_0 10 rfl rfl)
theorem dX6_points_13 : decode cX6_points 13 = .ok (.imul, 1) := dk_104 (dk_at dksX6_points_0 13 rfl rfl)
theorem dX6_points_14 : decode cX6_points 14 = .ok (.isub, 1) := dk_100 (dk_at dksX6_points_0 14 rfl rfl)
theorem dX6_points_15 : decode cX6_points 15 = .ok (.ireturn, 1) := dk_172 (dk_at dksX6_points_0 15 rfl rfl)
theorem q154 : (Jvm.Cond.initialized "MoleBoard$Run") ∈ lw_all := lw_g (lw_at lw_m1 10 rfl) rfl
theorem q524 : (Jvm.Cond.fieldLink "MoleBoard$Run" (124 : Nat) "MoleBoard$Game" "first" "[I") ∈ lw_all := lw_g (lw_at lw_m2 140 rfl) rfl
theorem q529 : (Jvm.Cond.fieldLink "MoleBoard$Run" (127 : Nat) "MoleBoard$Game" "last" "[I") ∈ lw_all := lw_g (lw_at lw_m2 145 rfl) rfl
theorem q538 : (Jvm.Cond.fieldLink "MoleBoard$Run" (76 : Nat) "MoleBoard$Game" "many" "I") ∈ lw_all := lw_g (lw_at lw_m2 154 rfl) rfl
theorem q579 : (Jvm.Cond.instantiable "MoleBoard$Run" (17 : Nat)) ∈ lw_all := lw_g (lw_at lw_m2 195 rfl) rfl
theorem q581 : (Jvm.Cond.instanceMethod ({ cls := "MoleBoard$Run", name := "<init>", desc := "(LMoleBoard;)V" } : Jvm.MethodName)) ∈ lw_all := lw_g (lw_at lw_m2 197 rfl) rfl
theorem q582 : (Jvm.Cond.code ({ cls := "MoleBoard$Run", name := "<init>", desc := "(LMoleBoard;)V" } : Jvm.MethodName) prog_13_method_1_code (2 : Nat) (Option.none : Option Jvm.ClassFile.FieldType)) ∈ lw_all := lw_g (lw_at lw_m2 198 rfl) rfl
theorem q583 : (Jvm.Cond.methodLink "MoleBoard$Run" (9 : Nat) ({ cls := "java/lang/Object", name := "<init>", desc := "()V" } : Jvm.MethodName)) ∈ lw_all := lw_g (lw_at lw_m2 199 rfl) rfl
theorem q584 : (Jvm.Cond.fieldLink "MoleBoard$Run" (15 : Nat) "MoleBoard$Run" "twice" "[I") ∈ lw_all := lw_g (lw_at lw_m2 200 rfl) rfl
theorem q586 : (Jvm.Cond.fieldLink "MoleBoard$Run" (19 : Nat) "MoleBoard$Run" "tick" "[I") ∈ lw_all := lw_g (lw_at lw_m2 202 rfl) rfl
theorem q588 : (Jvm.Cond.fieldLink "MoleBoard$Run" (22 : Nat) "MoleBoard$Run" "spot" "[I") ∈ lw_all := lw_g (lw_at lw_m2 204 rfl) rfl
theorem q590 : (Jvm.Cond.fieldLink "MoleBoard$Run" (25 : Nat) "MoleBoard$Run" "when" "[I") ∈ lw_all := lw_g (lw_at lw_m2 206 rfl) rfl
theorem q592 : (Jvm.Cond.fieldLink "MoleBoard$Run" (32 : Nat) "MoleBoard$Run" "who" "LMoleBoard$Player;") ∈ lw_all := lw_g (lw_at lw_m2 208 rfl) rfl
theorem q593 : (Jvm.Cond.fieldLink "MoleBoard$Run" (41 : Nat) "MoleBoard$Run" "lag" "I") ∈ lw_all := lw_g (lw_at lw_m2 209 rfl) rfl
theorem q595 : (Jvm.Cond.fieldLink "MoleBoard$Run" (45 : Nat) "MoleBoard$Run" "knows" "I") ∈ lw_all := lw_g (lw_at lw_m2 211 rfl) rfl
theorem q597 : (Jvm.Cond.fieldLink "MoleBoard$Run" (48 : Nat) "MoleBoard$Run" "wait" "I") ∈ lw_all := lw_g (lw_at lw_m2 213 rfl) rfl
theorem q599 : (Jvm.Cond.fieldLink "MoleBoard$Run" (51 : Nat) "MoleBoard$Run" "holes" "I") ∈ lw_all := lw_g (lw_at lw_m2 215 rfl) rfl
theorem q601 : (Jvm.Cond.fieldLink "MoleBoard$Run" (58 : Nat) "MoleBoard$Run" "at" "I") ∈ lw_all := lw_g (lw_at lw_m2 217 rfl) rfl
theorem q602 : (Jvm.Cond.fieldLink "MoleBoard$Run" (61 : Nat) "MoleBoard$Run" "free" "I") ∈ lw_all := lw_g (lw_at lw_m2 218 rfl) rfl
theorem q603 : (Jvm.Cond.fieldLink "MoleBoard$Run" (64 : Nat) "MoleBoard$Run" "hits" "I") ∈ lw_all := lw_g (lw_at lw_m2 219 rfl) rfl
theorem q605 : (Jvm.Cond.fieldLink "MoleBoard$Run" (67 : Nat) "MoleBoard$Run" "reds" "I") ∈ lw_all := lw_g (lw_at lw_m2 221 rfl) rfl
theorem q606 : (Jvm.Cond.fieldLink "MoleBoard$Run" (70 : Nat) "MoleBoard$Run" "strikes" "I") ∈ lw_all := lw_g (lw_at lw_m2 222 rfl) rfl
theorem q608 : (Jvm.Cond.fieldLink "MoleBoard$Run" (73 : Nat) "MoleBoard$Run" "walked" "I") ∈ lw_all := lw_g (lw_at lw_m2 224 rfl) rfl
theorem q610 : (Jvm.Cond.fieldLink "MoleBoard$Run" (54 : Nat) "MoleBoard$Run" "rash" "Z") ∈ lw_all := lw_g (lw_at lw_m2 226 rfl) rfl
theorem q612 : (Jvm.Cond.fieldLink "MoleBoard$Run" (3 : Nat) "MoleBoard$Run" "this$0" "LMoleBoard;") ∈ lw_all := lw_g (lw_at lw_m2 228 rfl) rfl
theorem q613 : (Jvm.Cond.laysFinal "MoleBoard$Run" "MoleBoard$Run" "twice" "[I") ∈ lw_all := lw_g (lw_at lw_m2 229 rfl) rfl
theorem q614 : (Jvm.Cond.soleField "MoleBoard$Run" "twice") ∈ lw_all := lw_g (lw_at lw_m2 230 rfl) rfl
theorem q615 : (Jvm.Cond.laysFinal "MoleBoard$Run" "MoleBoard$Run" "tick" "[I") ∈ lw_all := lw_g (lw_at lw_m2 231 rfl) rfl
theorem q616 : (Jvm.Cond.soleField "MoleBoard$Run" "tick") ∈ lw_all := lw_g (lw_at lw_m2 232 rfl) rfl
theorem q617 : (Jvm.Cond.laysFinal "MoleBoard$Run" "MoleBoard$Run" "spot" "[I") ∈ lw_all := lw_g (lw_at lw_m2 233 rfl) rfl
theorem q618 : (Jvm.Cond.soleField "MoleBoard$Run" "spot") ∈ lw_all := lw_g (lw_at lw_m2 234 rfl) rfl
theorem q619 : (Jvm.Cond.laysFinal "MoleBoard$Run" "MoleBoard$Run" "when" "[I") ∈ lw_all := lw_g (lw_at lw_m2 235 rfl) rfl
theorem q620 : (Jvm.Cond.soleField "MoleBoard$Run" "when") ∈ lw_all := lw_g (lw_at lw_m2 236 rfl) rfl
theorem q621 : (Jvm.Cond.lays "MoleBoard$Run" "MoleBoard$Run" "who" "LMoleBoard$Player;") ∈ lw_all := lw_g (lw_at lw_m2 237 rfl) rfl
theorem q622 : (Jvm.Cond.soleField "MoleBoard$Run" "who") ∈ lw_all := lw_g (lw_at lw_m2 238 rfl) rfl
theorem q623 : (Jvm.Cond.lays "MoleBoard$Run" "MoleBoard$Run" "lag" "I") ∈ lw_all := lw_g (lw_at lw_m2 239 rfl) rfl
theorem q624 : (Jvm.Cond.soleField "MoleBoard$Run" "lag") ∈ lw_all := lw_g (lw_at lw_m3 0 rfl) rfl
theorem q625 : (Jvm.Cond.lays "MoleBoard$Run" "MoleBoard$Run" "knows" "I") ∈ lw_all := lw_g (lw_at lw_m3 1 rfl) rfl
theorem q626 : (Jvm.Cond.soleField "MoleBoard$Run" "knows") ∈ lw_all := lw_g (lw_at lw_m3 2 rfl) rfl
theorem q627 : (Jvm.Cond.lays "MoleBoard$Run" "MoleBoard$Run" "wait" "I") ∈ lw_all := lw_g (lw_at lw_m3 3 rfl) rfl
theorem q628 : (Jvm.Cond.soleField "MoleBoard$Run" "wait") ∈ lw_all := lw_g (lw_at lw_m3 4 rfl) rfl
theorem q629 : (Jvm.Cond.lays "MoleBoard$Run" "MoleBoard$Run" "holes" "I") ∈ lw_all := lw_g (lw_at lw_m3 5 rfl) rfl
theorem q630 : (Jvm.Cond.soleField "MoleBoard$Run" "holes") ∈ lw_all := lw_g (lw_at lw_m3 6 rfl) rfl
theorem q631 : (Jvm.Cond.lays "MoleBoard$Run" "MoleBoard$Run" "at" "I") ∈ lw_all := lw_g (lw_at lw_m3 7 rfl) rfl
theorem q632 : (Jvm.Cond.soleField "MoleBoard$Run" "at") ∈ lw_all := lw_g (lw_at lw_m3 8 rfl) rfl
theorem q633 : (Jvm.Cond.lays "MoleBoard$Run" "MoleBoard$Run" "free" "I") ∈ lw_all := lw_g (lw_at lw_m3 9 rfl) rfl
theorem q634 : (Jvm.Cond.soleField "MoleBoard$Run" "free") ∈ lw_all := lw_g (lw_at lw_m3 10 rfl) rfl
theorem q635 : (Jvm.Cond.lays "MoleBoard$Run" "MoleBoard$Run" "hits" "I") ∈ lw_all := lw_g (lw_at lw_m3 11 rfl) rfl
theorem q636 : (Jvm.Cond.soleField "MoleBoard$Run" "hits") ∈ lw_all := lw_g (lw_at lw_m3 12 rfl) rfl
theorem q637 : (Jvm.Cond.lays "MoleBoard$Run" "MoleBoard$Run" "reds" "I") ∈ lw_all := lw_g (lw_at lw_m3 13 rfl) rfl
theorem q638 : (Jvm.Cond.soleField "MoleBoard$Run" "reds") ∈ lw_all := lw_g (lw_at lw_m3 14 rfl) rfl
theorem q639 : (Jvm.Cond.lays "MoleBoard$Run" "MoleBoard$Run" "strikes" "I") ∈ lw_all := lw_g (lw_at lw_m3 15 rfl) rfl
theorem q640 : (Jvm.Cond.soleField "MoleBoard$Run" "strikes") ∈ lw_all := lw_g (lw_at lw_m3 16 rfl) rfl
theorem q641 : (Jvm.Cond.lays "MoleBoard$Run" "MoleBoard$Run" "walked" "I") ∈ lw_all := lw_g (lw_at lw_m3 17 rfl) rfl
theorem q642 : (Jvm.Cond.soleField "MoleBoard$Run" "walked") ∈ lw_all := lw_g (lw_at lw_m3 18 rfl) rfl
theorem q643 : (Jvm.Cond.lays "MoleBoard$Run" "MoleBoard$Run" "rash" "Z") ∈ lw_all := lw_g (lw_at lw_m3 19 rfl) rfl
theorem q644 : (Jvm.Cond.soleField "MoleBoard$Run" "rash") ∈ lw_all := lw_g (lw_at lw_m3 20 rfl) rfl
theorem q645 : (Jvm.Cond.laysFinal "MoleBoard$Run" "MoleBoard$Run" "this$0" "LMoleBoard;") ∈ lw_all := lw_g (lw_at lw_m3 21 rfl) rfl
theorem q646 : (Jvm.Cond.soleField "MoleBoard$Run" "this$0") ∈ lw_all := lw_g (lw_at lw_m3 22 rfl) rfl
theorem q647 : (Jvm.Cond.superclass "MoleBoard$Run" "java/lang/Object") ∈ lw_all := lw_g (lw_at lw_m3 23 rfl) rfl
theorem q1054 : (Jvm.Cond.fieldLinkNest "MoleBoard$Run" (90 : Nat) "MoleBoard$Mole" "hole" "I" "MoleBoard") ∈ lw_tbl := lw_at lw_m4 190 rfl
theorem q1059 : (Jvm.Cond.fieldLinkNest "MoleBoard$Run" (101 : Nat) "MoleBoard$Mole" "other" "I" "MoleBoard") ∈ lw_tbl := lw_at lw_m4 195 rfl
theorem q1063 : (Jvm.Cond.fieldLinkNest "MoleBoard$Run" (85 : Nat) "MoleBoard$Mole" "red" "Z" "MoleBoard") ∈ lw_tbl := lw_at lw_m4 199 rfl
theorem q1123 : (Jvm.Cond.selects "MoleBoard$Run" ({ cls := "java/lang/Object", name := "getClass", desc := "()Ljava/lang/Class;" } : Jvm.MethodName) ({ cls := "java/lang/Object", name := "getClass", desc := "()Ljava/lang/Class;" } : Jvm.MethodName)) ∈ lw_all := lw_g (lw_at lw_m5 19 rfl) rfl
theorem q1153 : (Jvm.Cond.fieldLinkNest "MoleBoard$Run" (36 : Nat) "MoleBoard$Player" "is" "[I" "MoleBoard") ∈ lw_tbl := lw_at lw_m5 49 rfl
theorem q1355 : (Jvm.Cond.instanceMethod ({ cls := "MoleBoard$Run", name := "plain", desc := "(I)LMoleBoard$Run;" } : Jvm.MethodName)) ∈ lw_all := lw_g (lw_at lw_m6 11 rfl) rfl
theorem q1356 : (Jvm.Cond.selects "MoleBoard$Run" ({ cls := "MoleBoard$Run", name := "plain", desc := "(I)LMoleBoard$Run;" } : Jvm.MethodName) ({ cls := "MoleBoard$Run", name := "plain", desc := "(I)LMoleBoard$Run;" } : Jvm.MethodName)) ∈ lw_all := lw_g (lw_at lw_m6 12 rfl) rfl
theorem q1357 : (Jvm.Cond.code ({ cls := "MoleBoard$Run", name := "plain", desc := "(I)LMoleBoard$Run;" } : Jvm.MethodName) prog_13_method_2_code (2 : Nat) (Option.some (Jvm.ClassFile.FieldType.object "MoleBoard$Run"))) ∈ lw_all := lw_g (lw_at lw_m6 13 rfl) rfl
theorem q1358 : (Jvm.Cond.methodLinkNest "MoleBoard$Run" (28 : Nat) ({ cls := "MoleBoard", name := "one", desc := "(I)LMoleBoard$Player;" } : Jvm.MethodName) "MoleBoard") ∈ lw_tbl := lw_at lw_m6 14 rfl
theorem q1360 : (Jvm.Cond.instanceMethod ({ cls := "MoleBoard$Run", name := "goes", desc := "(LMoleBoard$Game;)LMoleBoard$Run;" } : Jvm.MethodName)) ∈ lw_all := lw_g (lw_at lw_m6 16 rfl) rfl
theorem q1361 : (Jvm.Cond.selects "MoleBoard$Run" ({ cls := "MoleBoard$Run", name := "goes", desc := "(LMoleBoard$Game;)LMoleBoard$Run;" } : Jvm.MethodName) ({ cls := "MoleBoard$Run", name := "goes", desc := "(LMoleBoard$Game;)LMoleBoard$Run;" } : Jvm.MethodName)) ∈ lw_all := lw_g (lw_at lw_m6 17 rfl) rfl
theorem q1362 : (Jvm.Cond.code ({ cls := "MoleBoard$Run", name := "goes", desc := "(LMoleBoard$Game;)LMoleBoard$Run;" } : Jvm.MethodName) prog_13_method_3_code (7 : Nat) (Option.some (Jvm.ClassFile.FieldType.object "MoleBoard$Run"))) ∈ lw_all := lw_g (lw_at lw_m6 18 rfl) rfl
theorem q1363 : (Jvm.Cond.methodLink "MoleBoard$Run" (81 : Nat) ({ cls := "MoleBoard$Game", name := "mole", desc := "(I)LMoleBoard$Mole;" } : Jvm.MethodName)) ∈ lw_all := lw_g (lw_at lw_m6 19 rfl) rfl
theorem q1364 : (Jvm.Cond.methodLinkNest "MoleBoard$Run" (93 : Nat) ({ cls := "MoleBoard", name := "isOn", desc := "(II)Z" } : Jvm.MethodName) "MoleBoard") ∈ lw_tbl := lw_at lw_m6 20 rfl
theorem q1365 : (Jvm.Cond.methodLink "MoleBoard$Run" (97 : Nat) ({ cls := "MoleBoard$Mole", name := "isTwin", desc := "()Z" } : Jvm.MethodName)) ∈ lw_all := lw_g (lw_at lw_m6 21 rfl) rfl
theorem q1366 : (Jvm.Cond.methodLinkNest "MoleBoard$Run" (104 : Nat) ({ cls := "MoleBoard", name := "stepsOf", desc := "(II)I" } : Jvm.MethodName) "MoleBoard") ∈ lw_tbl := lw_at lw_m6 22 rfl
theorem q1367 : (Jvm.Cond.methodLink "MoleBoard$Run" (108 : Nat) ({ cls := "MoleBoard$Run", name := "strikes", desc := "(LMoleBoard$Game;II)Z" } : Jvm.MethodName)) ∈ lw_all := lw_g (lw_at lw_m6 23 rfl) rfl
theorem q1368 : (Jvm.Cond.privateMethod ({ cls := "MoleBoard$Run", name := "strikes", desc := "(LMoleBoard$Game;II)Z" } : Jvm.MethodName)) ∈ lw_tbl := lw_at lw_m6 24 rfl
theorem q1369 : (Jvm.Cond.instanceMethod ({ cls := "MoleBoard$Run", name := "strikes", desc := "(LMoleBoard$Game;II)Z" } : Jvm.MethodName)) ∈ lw_all := lw_g (lw_at lw_m6 25 rfl) rfl
theorem q1370 : (Jvm.Cond.code ({ cls := "MoleBoard$Run", name := "strikes", desc := "(LMoleBoard$Game;II)Z" } : Jvm.MethodName) prog_13_method_4_code (7 : Nat) (Option.some Jvm.ClassFile.FieldType.boolean)) ∈ lw_all := lw_g (lw_at lw_m6 26 rfl) rfl
theorem q1371 : (Jvm.Cond.methodLinkNest "MoleBoard$Run" (111 : Nat) ({ cls := "MoleBoard", name := "awareOf", desc := "(LMoleBoard$Game;III)I" } : Jvm.MethodName) "MoleBoard") ∈ lw_tbl := lw_at lw_m6 27 rfl
theorem q1372 : (Jvm.Cond.methodLink "MoleBoard$Run" (115 : Nat) ({ cls := "java/lang/Math", name := "max", desc := "(II)I" } : Jvm.MethodName)) ∈ lw_all := lw_g (lw_at lw_m6 28 rfl) rfl
theorem q1373 : (Jvm.Cond.methodLink "MoleBoard$Run" (120 : Nat) ({ cls := "MoleBoard$Player", name := "pace", desc := "(I)I" } : Jvm.MethodName)) ∈ lw_all := lw_g (lw_at lw_m6 29 rfl) rfl
theorem q1626 : (Jvm.Cond.instanceMethod ({ cls := "MoleBoard$Run", name := "points", desc := "()I" } : Jvm.MethodName)) ∈ lw_all := lw_g (lw_at lw_m7 42 rfl) rfl
theorem q1627 : (Jvm.Cond.selects "MoleBoard$Run" ({ cls := "MoleBoard$Run", name := "points", desc := "()I" } : Jvm.MethodName) ({ cls := "MoleBoard$Run", name := "points", desc := "()I" } : Jvm.MethodName)) ∈ lw_all := lw_g (lw_at lw_m7 43 rfl) rfl
theorem q1628 : (Jvm.Cond.code ({ cls := "MoleBoard$Run", name := "points", desc := "()I" } : Jvm.MethodName) prog_13_method_5_code (1 : Nat) (Option.some Jvm.ClassFile.FieldType.int)) ∈ lw_all := lw_g (lw_at lw_m7 44 rfl) rfl
theorem q2663 : (Jvm.Cond.castable "MoleBoard$Run" "java/lang/Object") ∈ lw_tbl := lw_at lw_m11 119 rfl
/-! MoleBoard$Best -/
set_option maxRecDepth 100000
abbrev cX7_init : ByteArray := prog_2_method_1_code
def yX7_init : MethodName := ⟨RX7, "<init>", "(LMoleBoard;)V"⟩
def dkwX7_init_1 : List UInt8 := [16, 121, 197, 0, 15, 2, 181, 0, 20, 177]
abbrev dktX7_init_1 : List UInt8 := dkwX7_init_1 ++ []
def dkwX7_init_0 : List UInt8 := [42, 43, 181, 0, 3, 42, 183, 0, 9, 42, 16, 12, 16, 121, 197, 0, 15, 2, 181, 0, 17, 42, 16, 12]
abbrev dktX7_init_0 : List UInt8 := dkwX7_init_0 ++ dktX7_init_1
theorem dksX7_init_0 : cX7_init.data.toList.drop 0 = dktX7_init_0 := by decide +kernel
theorem dksX7_init_1 : cX7_init.data.toList.drop 24 = dktX7_init_1 := dk_seg dksX7_init_0 24 rfl rfl
theorem dX7_init_0 : decode cX7_init 0 = .ok (.aload_n 0, 1) := dk_42 (dk_at dksX7_init_0 0 rfl rfl)
theorem dX7_init_1 : decode cX7_init 1 = .ok (.aload_n 1, 1) := dk_43 (dk_at dksX7_init_0 1 rfl rfl)
theorem dX7_init_2 : decode cX7_init 2 = .ok (.putfield 3, 3) := dk_181 0 3 (dk_at dksX7_init_0 2 rfl rfl)
theorem dX7_init_5 : decode cX7_init 5 = .ok (.aload_n 0, 1) := dk_42 (dk_at dksX7_init_0 5 rfl rfl)
theorem dX7_init_6 : decode cX7_init 6 = .ok (.invokespecial 9, 3) := dk_183 0 9 (dk_at dksX7_init_0 6 rfl rfl)
theorem dX7_init_9 : decode cX7_init 9 = .ok (.aload_n 0, 1) := dk_42 (dk_at dksX7_init_0 9 rfl rfl)
theorem dX7_init_10 : decode cX7_init 10 = .ok (.bipush 12, 2) := dk_16 12 (dk_at dksX7_init_0 10 rfl rfl)
theorem dX7_init_12 : decode cX7_init 12 = .ok (.bipush 121, 2) := dk_16 121 (dk_at dksX7_init_0 12 rfl rfl)
theorem dX7_init_14 : decode cX7_init 14 = .ok (.multianewarray 15 2, 4) := by decide +kernel
theorem dX7_init_18 : decode cX7_init 18 = .ok (.putfield 17, 3) := dk_181 0 17 (dk_at dksX7_init_0 18 rfl rfl)
theorem dX7_init_21 : decode cX7_init 21 = .ok (.aload_n 0, 1) := dk_42 (dk_at dksX7_init_0 21 rfl rfl)
theorem dX7_init_22 : decode cX7_init 22 = .ok (.bipush 12, 2) := dk_16 12 (dk_at dksX7_init_0 22 rfl rfl)
theorem dX7_init_24 : decode cX7_init 24 = .ok (.bipush 121, 2) := dk_16 121 (dk_at dksX7_init_1 0 rfl rfl)
theorem dX7_init_26 : decode cX7_init 26 = .ok (.multianewarray 15 2, 4) := by decide +kernel
theorem dX7_init_30 : decode cX7_init 30 = .ok (.putfield 20, 3) := dk_181 0 20 (dk_at dksX7_init_1 6 rfl rfl)
theorem dX7_init_33 : decode cX7_init 33 = .ok (.return_, 1) := dk_177 (dk_at dksX7_init_1 9 rfl rfl)
abbrev cX7_goes : ByteArray := prog_2_method_2_code
def yX7_goes : MethodName := ⟨RX7, "goes", "(ILMoleBoard$Game;I)I"⟩
def dkwX7_goes_8 : List UInt8 := [167, 255, 204, 21, 4, 172]
abbrev dktX7_goes_8 : List UInt8 := dkwX7_goes_8 ++ []
def dkwX7_goes_7 : List UInt8 := [46, 18, 35, 162, 0, 12, 21, 4, 21, 9, 184, 0, 74, 54, 4, 132, 9, 1, 167, 255, 227, 132, 7, 1]
abbrev dktX7_goes_7 : List UInt8 := dkwX7_goes_7 ++ dktX7_goes_8
def dkwX7_goes_6 : List UInt8 := [162, 0, 51, 25, 5, 21, 7, 50, 58, 8, 3, 54, 9, 21, 9, 16, 120, 163, 0, 28, 25, 8, 21, 9]
abbrev dktX7_goes_6 : List UInt8 := dkwX7_goes_6 ++ dktX7_goes_7
def dkwX7_goes_5 : List UInt8 := [167, 255, 216, 3, 54, 4, 42, 180, 0, 17, 58, 5, 25, 5, 190, 54, 6, 3, 54, 7, 21, 7, 21, 6]
abbrev dktX7_goes_5 : List UInt8 := dkwX7_goes_5 ++ dktX7_goes_6
def dkwX7_goes_4 : List UInt8 := [180, 0, 31, 21, 4, 182, 0, 60, 180, 0, 64, 154, 0, 9, 42, 21, 4, 182, 0, 70, 132, 4, 1]
abbrev dktX7_goes_4 : List UInt8 := dkwX7_goes_4 ++ dktX7_goes_5
def dkwX7_goes_3 : List UInt8 := [50, 3, 3, 79, 3, 54, 4, 21, 4, 29, 42, 180, 0, 31, 180, 0, 48, 184, 0, 54, 162, 0, 30, 42]
abbrev dktX7_goes_3 : List UInt8 := dkwX7_goes_3 ++ dktX7_goes_4
def dkwX7_goes_2 : List UInt8 := [18, 35, 184, 0, 36, 132, 6, 1, 167, 255, 232, 42, 180, 0, 17, 42, 180, 0, 27, 180, 0, 42, 7, 46]
abbrev dktX7_goes_2 : List UInt8 := dkwX7_goes_2 ++ dktX7_goes_3
def dkwX7_goes_1 : List UInt8 := [25, 4, 190, 54, 5, 3, 54, 6, 21, 6, 21, 5, 162, 0, 23, 25, 4, 21, 6, 50, 58, 7, 25, 7]
abbrev dktX7_goes_1 : List UInt8 := dkwX7_goes_1 ++ dktX7_goes_2
def dkwX7_goes_0 : List UInt8 := [42, 42, 180, 0, 3, 27, 182, 0, 23, 181, 0, 27, 42, 44, 181, 0, 31, 42, 180, 0, 17, 58, 4]
abbrev dktX7_goes_0 : List UInt8 := dkwX7_goes_0 ++ dktX7_goes_1
theorem dksX7_goes_0 : cX7_goes.data.toList.drop 0 = dktX7_goes_0 := by decide +kernel
theorem dksX7_goes_1 : cX7_goes.data.toList.drop 23 = dktX7_goes_1 := dk_seg dksX7_goes_0 23 rfl rfl
theorem dksX7_goes_2 : cX7_goes.data.toList.drop 47 = dktX7_goes_2 := dk_seg dksX7_goes_1 24 rfl rfl
theorem dksX7_goes_3 : cX7_goes.data.toList.drop 71 = dktX7_goes_3 := dk_seg dksX7_goes_2 24 rfl rfl
theorem dksX7_goes_4 : cX7_goes.data.toList.drop 95 = dktX7_goes_4 := dk_seg dksX7_goes_3 24 rfl rfl
theorem dksX7_goes_5 : cX7_goes.data.toList.drop 118 = dktX7_goes_5 := dk_seg dksX7_goes_4 23 rfl rfl
theorem dksX7_goes_6 : cX7_goes.data.toList.drop 142 = dktX7_goes_6 := dk_seg dksX7_goes_5 24 rfl rfl
theorem dksX7_goes_7 : cX7_goes.data.toList.drop 166 = dktX7_goes_7 := dk_seg dksX7_goes_6 24 rfl rfl
theorem dksX7_goes_8 : cX7_goes.data.toList.drop 190 = dktX7_goes_8 := dk_seg dksX7_goes_7 24 rfl rfl
theorem dX7_goes_0 : decode cX7_goes 0 = .ok (.aload_n 0, 1) := dk_42 (dk_at dksX7_goes_0 0 rfl rfl)
theorem dX7_goes_1 : decode cX7_goes 1 = .ok (.aload_n 0, 1) := dk_42 (dk_at dksX7_goes_0 1 rfl rfl)
theorem dX7_goes_2 : decode cX7_goes 2 = .ok (.getfield 3, 3) := dk_180 0 3 (dk_at dksX7_goes_0 2 rfl rfl)
theorem dX7_goes_5 : decode cX7_goes 5 = .ok (.iload_n 1, 1) := dk_27 (dk_at dksX7_goes_0 5 rfl rfl)
theorem dX7_goes_6 : decode cX7_goes 6 = .ok (.invokevirtual 23, 3) := dk_182 0 23 (dk_at dksX7_goes_0 6 rfl rfl)
theorem dX7_goes_9 : decode cX7_goes 9 = .ok (.putfield 27, 3) := dk_181 0 27 (dk_at dksX7_goes_0 9 rfl rfl)
theorem dX7_goes_12 : decode cX7_goes 12 = .ok (.aload_n 0, 1) := dk_42 (dk_at dksX7_goes_0 12 rfl rfl)
theorem dX7_goes_13 : decode cX7_goes 13 = .ok (.aload_n 2, 1) := dk_44 (dk_at dksX7_goes_0 13 rfl rfl)
theorem dX7_goes_14 : decode cX7_goes 14 = .ok (.putfield 31, 3) := dk_181 0 31 (dk_at dksX7_goes_0 14 rfl rfl)
theorem dX7_goes_17 : decode cX7_goes 17 = .ok (.aload_n 0, 1) := dk_42 (dk_at dksX7_goes_0 17 rfl rfl)
theorem dX7_goes_18 : decode cX7_goes 18 = .ok (.getfield 17, 3) := dk_180 0 17 (dk_at dksX7_goes_0 18 rfl rfl)
theorem dX7_goes_21 : decode cX7_goes 21 = .ok (.astore 4, 2) := dk_58 4 (dk_at dksX7_goes_0 21 rfl rfl)
theorem dX7_goes_23 : decode cX7_goes 23 = .ok (.aload 4, 2) := dk_25 4 (dk_at dksX7_goes_1 0 rfl rfl)
theorem dX7_goes_25 : decode cX7_goes 25 = .ok (.arraylength, 1) := dk_190 (dk_at dksX7_goes_1 2 rfl rfl)
theorem dX7_goes_26 : decode cX7_goes 26 = .ok (.istore 5, 2) := dk_54 5 (dk_at dksX7_goes_1 3 rfl rfl)
theorem dX7_goes_28 : decode cX7_goes 28 = .ok (.iconst 0, 1) := dk_3 (dk_at dksX7_goes_1 5 rfl rfl)
theorem dX7_goes_29 : decode cX7_goes 29 = .ok (.istore 6, 2) := dk_54 6 (dk_at dksX7_goes_1 6 rfl rfl)
theorem dX7_goes_31 : decode cX7_goes 31 = .ok (.iload 6, 2) := dk_21 6 (dk_at dksX7_goes_1 8 rfl rfl)
theorem dX7_goes_33 : decode cX7_goes 33 = .ok (.iload 5, 2) := dk_21 5 (dk_at dksX7_goes_1 10 rfl rfl)
theorem dX7_goes_35 : decode cX7_goes 35 = .ok (.if_icmp .ge 23, 3) := dk_162 0 23 (dk_at dksX7_goes_1 12 rfl rfl)
theorem dX7_goes_38 : decode cX7_goes 38 = .ok (.aload 4, 2) := dk_25 4 (dk_at dksX7_goes_1 15 rfl rfl)
theorem dX7_goes_40 : decode cX7_goes 40 = .ok (.iload 6, 2) := dk_21 6 (dk_at dksX7_goes_1 17 rfl rfl)
theorem dX7_goes_42 : decode cX7_goes 42 = .ok (.aaload, 1) := dk_50 (dk_at dksX7_goes_1 19 rfl rfl)
theorem dX7_goes_43 : decode cX7_goes 43 = .ok (.astore 7, 2) := dk_58 7 (dk_at dksX7_goes_1 20 rfl rfl)
theorem dX7_goes_45 : decode cX7_goes 45 = .ok (.aload 7, 2) := dk_25 7 (dk_at dksX7_goes_1 22 rfl rfl)
theorem dX7_goes_47 : decode cX7_goes 47 = .ok (.ldc 35, 2) := dk_18 35 (dk_at dksX7_goes_2 0 rfl rfl)
theorem dX7_goes_49 : decode cX7_goes 49 = .ok (.invokestatic 36, 3) := dk_184 0 36 (dk_at dksX7_goes_2 2 rfl rfl)
theorem dX7_goes_52 : decode cX7_goes 52 = .ok (.iinc 6 1, 3) := dk_132 6 1 (dk_at dksX7_goes_2 5 rfl rfl)
theorem dX7_goes_55 : decode cX7_goes 55 = .ok (.goto (-24), 3) := dk_167 255 232 (dk_at dksX7_goes_2 8 rfl rfl)
theorem dX7_goes_58 : decode cX7_goes 58 = .ok (.aload_n 0, 1) := dk_42 (dk_at dksX7_goes_2 11 rfl rfl)
theorem dX7_goes_59 : decode cX7_goes 59 = .ok (.getfield 17, 3) := dk_180 0 17 (dk_at dksX7_goes_2 12 rfl rfl)
theorem dX7_goes_62 : decode cX7_goes 62 = .ok (.aload_n 0, 1) := dk_42 (dk_at dksX7_goes_2 15 rfl rfl)
theorem dX7_goes_63 : decode cX7_goes 63 = .ok (.getfield 27, 3) := dk_180 0 27 (dk_at dksX7_goes_2 16 rfl rfl)
theorem dX7_goes_66 : decode cX7_goes 66 = .ok (.getfield 42, 3) := dk_180 0 42 (dk_at dksX7_goes_2 19 rfl rfl)
theorem dX7_goes_69 : decode cX7_goes 69 = .ok (.iconst 4, 1) := dk_7 (dk_at dksX7_goes_2 22 rfl rfl)
theorem dX7_goes_70 : decode cX7_goes 70 = .ok (.iaload, 1) := dk_46 (dk_at dksX7_goes_2 23 rfl rfl)
theorem dX7_goes_71 : decode cX7_goes 71 = .ok (.aaload, 1) := dk_50 (dk_at dksX7_goes_3 0 rfl rfl)
theorem dX7_goes_72 : decode cX7_goes 72 = .ok (.iconst 0, 1) := dk_3 (dk_at dksX7_goes_3 1 rfl rfl)
theorem dX7_goes_73 : decode cX7_goes 73 = .ok (.iconst 0, 1) := dk_3 (dk_at dksX7_goes_3 2 rfl rfl)
theorem dX7_goes_74 : decode cX7_goes 74 = .ok (.iastore, 1) := dk_79 (dk_at dksX7_goes_3 3 rfl rfl)
theorem dX7_goes_75 : decode cX7_goes 75 = .ok (.iconst 0, 1) := dk_3 (dk_at dksX7_goes_3 4 rfl rfl)
theorem dX7_goes_76 : decode cX7_goes 76 = .ok (.istore 4, 2) := dk_54 4 (dk_at dksX7_goes_3 5 rfl rfl)
theorem dX7_goes_78 : decode cX7_goes 78 = .ok (.iload 4, 2) := dk_21 4 (dk_at dksX7_goes_3 7 rfl rfl)
theorem dX7_goes_80 : decode cX7_goes 80 = .ok (.iload_n 3, 1) := dk_29 (dk_at dksX7_goes_3 9 rfl rfl)
theorem dX7_goes_81 : decode cX7_goes 81 = .ok (.aload_n 0, 1) := dk_42 (dk_at dksX7_goes_3 10 rfl rfl)
theorem dX7_goes_82 : decode cX7_goes 82 = .ok (.getfield 31, 3) := dk_180 0 31 (dk_at dksX7_goes_3 11 rfl rfl)
theorem dX7_goes_85 : decode cX7_goes 85 = .ok (.getfield 48, 3) := dk_180 0 48 (dk_at dksX7_goes_3 14 rfl rfl)
theorem dX7_goes_88 : decode cX7_goes 88 = .ok (.invokestatic 54, 3) := dk_184 0 54 (dk_at dksX7_goes_3 17 rfl rfl)
theorem dX7_goes_91 : decode cX7_goes 91 = .ok (.if_icmp .ge 30, 3) := dk_162 0 30 (dk_at dksX7_goes_3 20 rfl rfl)
theorem dX7_goes_94 : decode cX7_goes 94 = .ok (.aload_n 0, 1) := dk_42 (dk_at dksX7_goes_3 23 rfl rfl)
theorem dX7_goes_95 : decode cX7_goes 95 = .ok (.getfield 31, 3) := dk_180 0 31 (dk_at dksX7_goes_4 0 rfl rfl)
theorem dX7_goes_98 : decode cX7_goes 98 = .ok (.iload 4, 2) := dk_21 4 (dk_at dksX7_goes_4 3 rfl rfl)
theorem dX7_goes_100 : decode cX7_goes 100 = .ok (.invokevirtual 60, 3) := dk_182 0 60 (dk_at dksX7_goes_4 5 rfl rfl)
theorem dX7_goes_103 : decode cX7_goes 103 = .ok (.getfield 64, 3) := dk_180 0 64 (dk_at dksX7_goes_4 8 rfl rfl)
theorem dX7_goes_106 : decode cX7_goes 106 = .ok (.ifCond .ne 9, 3) := dk_154 0 9 (dk_at dksX7_goes_4 11 rfl rfl)
theorem dX7_goes_109 : decode cX7_goes 109 = .ok (.aload_n 0, 1) := dk_42 (dk_at dksX7_goes_4 14 rfl rfl)
theorem dX7_goes_110 : decode cX7_goes 110 = .ok (.iload 4, 2) := dk_21 4 (dk_at dksX7_goes_4 15 rfl rfl)
theorem dX7_goes_112 : decode cX7_goes 112 = .ok (.invokevirtual 70, 3) := dk_182 0 70 (dk_at dksX7_goes_4 17 rfl rfl)
theorem dX7_goes_115 : decode cX7_goes 115 = .ok (.iinc 4 1, 3) := dk_132 4 1 (dk_at dksX7_goes_4 20 rfl rfl)
theorem dX7_goes_118 : decode cX7_goes 118 = .ok (.goto (-40), 3) := dk_167 255 216 (dk_at dksX7_goes_5 0 rfl rfl)
theorem dX7_goes_121 : decode cX7_goes 121 = .ok (.iconst 0, 1) := dk_3 (dk_at dksX7_goes_5 3 rfl rfl)
theorem dX7_goes_122 : decode cX7_goes 122 = .ok (.istore 4, 2) := dk_54 4 (dk_at dksX7_goes_5 4 rfl rfl)
theorem dX7_goes_124 : decode cX7_goes 124 = .ok (.aload_n 0, 1) := dk_42 (dk_at dksX7_goes_5 6 rfl rfl)
theorem dX7_goes_125 : decode cX7_goes 125 = .ok (.getfield 17, 3) := dk_180 0 17 (dk_at dksX7_goes_5 7 rfl rfl)
theorem dX7_goes_128 : decode cX7_goes 128 = .ok (.astore 5, 2) := dk_58 5 (dk_at dksX7_goes_5 10 rfl rfl)
theorem dX7_goes_130 : decode cX7_goes 130 = .ok (.aload 5, 2) := dk_25 5 (dk_at dksX7_goes_5 12 rfl rfl)
theorem dX7_goes_132 : decode cX7_goes 132 = .ok (.arraylength, 1) := dk_190 (dk_at dksX7_goes_5 14 rfl rfl)
theorem dX7_goes_133 : decode cX7_goes 133 = .ok (.istore 6, 2) := dk_54 6 (dk_at dksX7_goes_5 15 rfl rfl)
theorem dX7_goes_135 : decode cX7_goes 135 = .ok (.iconst 0, 1) := dk_3 (dk_at dksX7_goes_5 17 rfl rfl)
theorem dX7_goes_136 : decode cX7_goes 136 = .ok (.istore 7, 2) := dk_54 7 (dk_at dksX7_goes_5 18 rfl rfl)
theorem dX7_goes_138 : decode cX7_goes 138 = .ok (.iload 7, 2) := dk_21 7 (dk_at dksX7_goes_5 20 rfl rfl)
theorem dX7_goes_140 : decode cX7_goes 140 = .ok (.iload 6, 2) := dk_21 6 (dk_at dksX7_goes_5 22 rfl rfl)
theorem dX7_goes_142 : decode cX7_goes 142 = .ok (.if_icmp .ge 51, 3) := dk_162 0 51 (dk_at dksX7_goes_6 0 rfl rfl)
theorem dX7_goes_145 : decode cX7_goes 145 = .ok (.aload 5, 2) := dk_25 5 (dk_at dksX7_goes_6 3 rfl rfl)
theorem dX7_goes_147 : decode cX7_goes 147 = .ok (.iload 7, 2) := dk_21 7 (dk_at dksX7_goes_6 5 rfl rfl)
theorem dX7_goes_149 : decode cX7_goes 149 = .ok (.aaload, 1) := dk_50 (dk_at dksX7_goes_6 7 rfl rfl)
theorem dX7_goes_150 : decode cX7_goes 150 = .ok (.astore 8, 2) := dk_58 8 (dk_at dksX7_goes_6 8 rfl rfl)
theorem dX7_goes_152 : decode cX7_goes 152 = .ok (.iconst 0, 1) := dk_3 (dk_at dksX7_goes_6 10 rfl rfl)
theorem dX7_goes_153 : decode cX7_goes 153 = .ok (.istore 9, 2) := dk_54 9 (dk_at dksX7_goes_6 11 rfl rfl)
theorem dX7_goes_155 : decode cX7_goes 155 = .ok (.iload 9, 2) := dk_21 9 (dk_at dksX7_goes_6 13 rfl rfl)
theorem dX7_goes_157 : decode cX7_goes 157 = .ok (.bipush 120, 2) := dk_16 120 (dk_at dksX7_goes_6 15 rfl rfl)
theorem dX7_goes_159 : decode cX7_goes 159 = .ok (.if_icmp .gt 28, 3) := dk_163 0 28 (dk_at dksX7_goes_6 17 rfl rfl)
theorem dX7_goes_162 : decode cX7_goes 162 = .ok (.aload 8, 2) := dk_25 8 (dk_at dksX7_goes_6 20 rfl rfl)
theorem dX7_goes_164 : decode cX7_goes 164 = .ok (.iload 9, 2) := dk_21 9 (dk_at dksX7_goes_6 22 rfl rfl)
theorem dX7_goes_166 : decode cX7_goes 166 = .ok (.iaload, 1) := dk_46 (dk_at dksX7_goes_7 0 rfl rfl)
theorem dX7_goes_167 : decode cX7_goes 167 = .ok (.ldc 35, 2) := dk_18 35 (dk_at dksX7_goes_7 1 rfl rfl)
theorem dX7_goes_169 : decode cX7_goes 169 = .ok (.if_icmp .ge 12, 3) := dk_162 0 12 (dk_at dksX7_goes_7 3 rfl rfl)
theorem dX7_goes_172 : decode cX7_goes 172 = .ok (.iload 4, 2) := dk_21 4 (dk_at dksX7_goes_7 6 rfl rfl)
theorem dX7_goes_174 : decode cX7_goes 174 = .ok (.iload 9, 2) := dk_21 9 (dk_at dksX7_goes_7 8 rfl rfl)
theorem dX7_goes_176 : decode cX7_goes 176 = .ok (.invokestatic 74, 3) := dk_184 0 74 (dk_at dksX7_goes_7 10 rfl rfl)
theorem dX7_goes_179 : decode cX7_goes 179 = .ok (.istore 4, 2) := dk_54 4 (dk_at dksX7_goes_7 13 rfl rfl)
theorem dX7_goes_181 : decode cX7_goes 181 = .ok (.iinc 9 1, 3) := dk_132 9 1 (dk_at dksX7_goes_7 15 rfl rfl)
theorem dX7_goes_184 : decode cX7_goes 184 = .ok (.goto (-29), 3) := dk_167 255 227 (dk_at dksX7_goes_7 18 rfl rfl)
theorem dX7_goes_187 : decode cX7_goes 187 = .ok (.iinc 7 1, 3) := dk_132 7 1 (dk_at dksX7_goes_7 21 rfl rfl)
theorem dX7_goes_190 : decode cX7_goes 190 = .ok (.goto (-52), 3) := dk_167 255 204 (dk_at dksX7_goes_8 0 rfl rfl)
theorem dX7_goes_193 : decode cX7_goes 193 = .ok (.iload 4, 2) := dk_21 4 (dk_at dksX7_goes_8 3 rfl rfl)
theorem dX7_goes_195 : decode cX7_goes 195 = .ok (.ireturn, 1) := dk_172 (dk_at dksX7_goes_8 5 rfl rfl)
abbrev cX7_step : ByteArray := prog_2_method_3_code
def yX7_step : MethodName := ⟨RX7, "step", "(I)V"⟩
def dkwX7_step_8 : List UInt8 := [177]
abbrev dktX7_step_8 : List UInt8 := dkwX7_step_8 ++ []
def dkwX7_step_7 : List UInt8 := [180, 0, 20, 29, 50, 3, 42, 180, 0, 17, 29, 50, 3, 16, 121, 184, 0, 77, 132, 3, 1, 167, 255, 228]
abbrev dktX7_step_7 : List UInt8 := dkwX7_step_7 ++ dktX7_step_8
def dkwX7_step_6 : List UInt8 := [182, 0, 99, 132, 4, 1, 167, 255, 172, 132, 3, 1, 167, 255, 149, 3, 62, 29, 16, 12, 162, 0, 28, 42]
abbrev dktX7_step_6 : List UInt8 := dkwX7_step_6 ++ dktX7_step_7
def dkwX7_step_5 : List UInt8 := [42, 27, 29, 42, 180, 0, 17, 29, 50, 21, 4, 46, 21, 4, 44, 180, 0, 96, 44, 180, 0, 93]
abbrev dktX7_step_5 : List UInt8 := dkwX7_step_5 ++ dktX7_step_6
def dkwX7_step_4 : List UInt8 := [50, 21, 4, 46, 21, 4, 44, 180, 0, 93, 44, 180, 0, 96, 182, 0, 99, 44, 182, 0, 103, 153, 0, 28]
abbrev dktX7_step_4 : List UInt8 := dkwX7_step_4 ++ dktX7_step_5
def dkwX7_step_3 : List UInt8 := [180, 0, 17, 29, 50, 21, 4, 46, 18, 35, 160, 0, 6, 167, 0, 60, 42, 27, 29, 42, 180, 0, 17, 29]
abbrev dktX7_step_3 : List UInt8 := dkwX7_step_3 ++ dktX7_step_4
def dkwX7_step_2 : List UInt8 := [180, 0, 3, 180, 0, 83, 182, 0, 87, 162, 0, 99, 3, 54, 4, 21, 4, 16, 120, 162, 0, 83, 42]
abbrev dktX7_step_2 : List UInt8 := dkwX7_step_2 ++ dktX7_step_3
def dkwX7_step_1 : List UInt8 := [42, 180, 0, 20, 29, 50, 3, 16, 121, 184, 0, 77, 132, 3, 1, 167, 255, 228, 3, 62, 29, 42]
abbrev dktX7_step_1 : List UInt8 := dkwX7_step_1 ++ dktX7_step_2
def dkwX7_step_0 : List UInt8 := [42, 180, 0, 31, 27, 182, 0, 60, 77, 3, 62, 29, 16, 12, 162, 0, 28, 42, 180, 0, 17, 29, 50, 3]
abbrev dktX7_step_0 : List UInt8 := dkwX7_step_0 ++ dktX7_step_1
theorem dksX7_step_0 : cX7_step.data.toList.drop 0 = dktX7_step_0 := by decide +kernel
theorem dksX7_step_1 : cX7_step.data.toList.drop 24 = dktX7_step_1 := dk_seg dksX7_step_0 24 rfl rfl
theorem dksX7_step_2 : cX7_step.data.toList.drop 46 = dktX7_step_2 := dk_seg dksX7_step_1 22 rfl rfl
theorem dksX7_step_3 : cX7_step.data.toList.drop 69 = dktX7_step_3 := dk_seg dksX7_step_2 23 rfl rfl
theorem dksX7_step_4 : cX7_step.data.toList.drop 93 = dktX7_step_4 := dk_seg dksX7_step_3 24 rfl rfl
theorem dksX7_step_5 : cX7_step.data.toList.drop 117 = dktX7_step_5 := dk_seg dksX7_step_4 24 rfl rfl
theorem dksX7_step_6 : cX7_step.data.toList.drop 139 = dktX7_step_6 := dk_seg dksX7_step_5 22 rfl rfl
theorem dksX7_step_7 : cX7_step.data.toList.drop 163 = dktX7_step_7 := dk_seg dksX7_step_6 24 rfl rfl
theorem dksX7_step_8 : cX7_step.data.toList.drop 187 = dktX7_step_8 := dk_seg dksX7_step_7 24 rfl rfl
theorem dX7_step_0 : decode cX7_step 0 = .ok (.aload_n 0, 1) := dk_42 (dk_at dksX7_step_0 0 rfl rfl)
theorem dX7_step_1 : decode cX7_step 1 = .ok (.getfield 31, 3) := dk_180 0 31 (dk_at dksX7_step_0 1 rfl rfl)
theorem dX7_step_4 : decode cX7_step 4 = .ok (.iload_n 1, 1) := dk_27 (dk_at dksX7_step_0 4 rfl rfl)
theorem dX7_step_5 : decode cX7_step 5 = .ok (.invokevirtual 60, 3) := dk_182 0 60 (dk_at dksX7_step_0 5 rfl rfl)
theorem dX7_step_8 : decode cX7_step 8 = .ok (.astore_n 2, 1) := dk_77 (dk_at dksX7_step_0 8 rfl rfl)
theorem dX7_step_9 : decode cX7_step 9 = .ok (.iconst 0, 1) := dk_3 (dk_at dksX7_step_0 9 rfl rfl)
theorem dX7_step_10 : decode cX7_step 10 = .ok (.istore_n 3, 1) := dk_62 (dk_at dksX7_step_0 10 rfl rfl)
theorem dX7_step_11 : decode cX7_step 11 = .ok (.iload_n 3, 1) := dk_29 (dk_at dksX7_step_0 11 rfl rfl)
theorem dX7_step_12 : decode cX7_step 12 = .ok (.bipush 12, 2) := dk_16 12 (dk_at dksX7_step_0 12 rfl rfl)
theorem dX7_step_14 : decode cX7_step 14 = .ok (.if_icmp .ge 28, 3) := dk_162 0 28 (dk_at dksX7_step_0 14 rfl rfl)
theorem dX7_step_17 : decode cX7_step 17 = .ok (.aload_n 0, 1) := dk_42 (dk_at dksX7_step_0 17 rfl rfl)
theorem dX7_step_18 : decode cX7_step 18 = .ok (.getfield 17, 3) := dk_180 0 17 (dk_at dksX7_step_0 18 rfl rfl)
theorem dX7_step_21 : decode cX7_step 21 = .ok (.iload_n 3, 1) := dk_29 (dk_at dksX7_step_0 21 rfl rfl)
theorem dX7_step_22 : decode cX7_step 22 = .ok (.aaload, 1) := dk_50 (dk_at dksX7_step_0 22 rfl rfl)
theorem dX7_step_23 : decode cX7_step 23 = .ok (.iconst 0, 1) := dk_3 (dk_at dksX7_step_0 23 rfl rfl)
theorem dX7_step_24 : decode cX7_step 24 = .ok (.aload_n 0, 1) := dk_42 (dk_at dksX7_step_1 0 rfl rfl)
theorem dX7_step_25 : decode cX7_step 25 = .ok (.getfield 20, 3) := dk_180 0 20 (dk_at dksX7_step_1 1 rfl rfl)
theorem dX7_step_28 : decode cX7_step 28 = .ok (.iload_n 3, 1) := dk_29 (dk_at dksX7_step_1 4 rfl rfl)
theorem dX7_step_29 : decode cX7_step 29 = .ok (.aaload, 1) := dk_50 (dk_at dksX7_step_1 5 rfl rfl)
theorem dX7_step_30 : decode cX7_step 30 = .ok (.iconst 0, 1) := dk_3 (dk_at dksX7_step_1 6 rfl rfl)
theorem dX7_step_31 : decode cX7_step 31 = .ok (.bipush 121, 2) := dk_16 121 (dk_at dksX7_step_1 7 rfl rfl)
theorem dX7_step_33 : decode cX7_step 33 = .ok (.invokestatic 77, 3) := dk_184 0 77 (dk_at dksX7_step_1 9 rfl rfl)
theorem dX7_step_36 : decode cX7_step 36 = .ok (.iinc 3 1, 3) := dk_132 3 1 (dk_at dksX7_step_1 12 rfl rfl)
theorem dX7_step_39 : decode cX7_step 39 = .ok (.goto (-28), 3) := dk_167 255 228 (dk_at dksX7_step_1 15 rfl rfl)
theorem dX7_step_42 : decode cX7_step 42 = .ok (.iconst 0, 1) := dk_3 (dk_at dksX7_step_1 18 rfl rfl)
theorem dX7_step_43 : decode cX7_step 43 = .ok (.istore_n 3, 1) := dk_62 (dk_at dksX7_step_1 19 rfl rfl)
theorem dX7_step_44 : decode cX7_step 44 = .ok (.iload_n 3, 1) := dk_29 (dk_at dksX7_step_1 20 rfl rfl)
theorem dX7_step_45 : decode cX7_step 45 = .ok (.aload_n 0, 1) := dk_42 (dk_at dksX7_step_1 21 rfl rfl)
theorem dX7_step_46 : decode cX7_step 46 = .ok (.getfield 3, 3) := dk_180 0 3 (dk_at dksX7_step_2 0 rfl rfl)
theorem dX7_step_49 : decode cX7_step 49 = .ok (.getfield 83, 3) := dk_180 0 83 (dk_at dksX7_step_2 3 rfl rfl)
theorem dX7_step_52 : decode cX7_step 52 = .ok (.invokevirtual 87, 3) := dk_182 0 87 (dk_at dksX7_step_2 6 rfl rfl)
theorem dX7_step_55 : decode cX7_step 55 = .ok (.if_icmp .ge 99, 3) := dk_162 0 99 (dk_at dksX7_step_2 9 rfl rfl)
theorem dX7_step_58 : decode cX7_step 58 = .ok (.iconst 0, 1) := dk_3 (dk_at dksX7_step_2 12 rfl rfl)
theorem dX7_step_59 : decode cX7_step 59 = .ok (.istore 4, 2) := dk_54 4 (dk_at dksX7_step_2 13 rfl rfl)
theorem dX7_step_61 : decode cX7_step 61 = .ok (.iload 4, 2) := dk_21 4 (dk_at dksX7_step_2 15 rfl rfl)
theorem dX7_step_63 : decode cX7_step 63 = .ok (.bipush 120, 2) := dk_16 120 (dk_at dksX7_step_2 17 rfl rfl)
theorem dX7_step_65 : decode cX7_step 65 = .ok (.if_icmp .ge 83, 3) := dk_162 0 83 (dk_at dksX7_step_2 19 rfl rfl)
theorem dX7_step_68 : decode cX7_step 68 = .ok (.aload_n 0, 1) := dk_42 (dk_at dksX7_step_2 22 rfl rfl)
theorem dX7_step_69 : decode cX7_step 69 = .ok (.getfield 17, 3) := dk_180 0 17 (dk_at dksX7_step_3 0 rfl rfl)
theorem dX7_step_72 : decode cX7_step 72 = .ok (.iload_n 3, 1) := dk_29 (dk_at dksX7_step_3 3 rfl rfl)
theorem dX7_step_73 : decode cX7_step 73 = .ok (.aaload, 1) := dk_50 (dk_at dksX7_step_3 4 rfl rfl)
theorem dX7_step_74 : decode cX7_step 74 = .ok (.iload 4, 2) := dk_21 4 (dk_at dksX7_step_3 5 rfl rfl)
theorem dX7_step_76 : decode cX7_step 76 = .ok (.iaload, 1) := dk_46 (dk_at dksX7_step_3 7 rfl rfl)
theorem dX7_step_77 : decode cX7_step 77 = .ok (.ldc 35, 2) := dk_18 35 (dk_at dksX7_step_3 8 rfl rfl)
theorem dX7_step_79 : decode cX7_step 79 = .ok (.if_icmp .ne 6, 3) := dk_160 0 6 (dk_at dksX7_step_3 10 rfl rfl)
theorem dX7_step_82 : decode cX7_step 82 = .ok (.goto 60, 3) := dk_167 0 60 (dk_at dksX7_step_3 13 rfl rfl)
theorem dX7_step_85 : decode cX7_step 85 = .ok (.aload_n 0, 1) := dk_42 (dk_at dksX7_step_3 16 rfl rfl)
theorem dX7_step_86 : decode cX7_step 86 = .ok (.iload_n 1, 1) := dk_27 (dk_at dksX7_step_3 17 rfl rfl)
theorem dX7_step_87 : decode cX7_step 87 = .ok (.iload_n 3, 1) := dk_29 (dk_at dksX7_step_3 18 rfl rfl)
theorem dX7_step_88 : decode cX7_step 88 = .ok (.aload_n 0, 1) := dk_42 (dk_at dksX7_step_3 19 rfl rfl)
theorem dX7_step_89 : decode cX7_step 89 = .ok (.getfield 17, 3) := dk_180 0 17 (dk_at dksX7_step_3 20 rfl rfl)
theorem dX7_step_92 : decode cX7_step 92 = .ok (.iload_n 3, 1) := dk_29 (dk_at dksX7_step_3 23 rfl rfl)
theorem dX7_step_93 : decode cX7_step 93 = .ok (.aaload, 1) := dk_50 (dk_at dksX7_step_4 0 rfl rfl)
theorem dX7_step_94 : decode cX7_step 94 = .ok (.iload 4, 2) := dk_21 4 (dk_at dksX7_step_4 1 rfl rfl)
theorem dX7_step_96 : decode cX7_step 96 = .ok (.iaload, 1) := dk_46 (dk_at dksX7_step_4 3 rfl rfl)
theorem dX7_step_97 : decode cX7_step 97 = .ok (.iload 4, 2) := dk_21 4 (dk_at dksX7_step_4 4 rfl rfl)
theorem dX7_step_99 : decode cX7_step 99 = .ok (.aload_n 2, 1) := dk_44 (dk_at dksX7_step_4 6 rfl rfl)
theorem dX7_step_100 : decode cX7_step 100 = .ok (.getfield 93, 3) := dk_180 0 93 (dk_at dksX7_step_4 7 rfl rfl)
theorem dX7_step_103 : decode cX7_step 103 = .ok (.aload_n 2, 1) := dk_44 (dk_at dksX7_step_4 10 rfl rfl)
theorem dX7_step_104 : decode cX7_step 104 = .ok (.getfield 96, 3) := dk_180 0 96 (dk_at dksX7_step_4 11 rfl rfl)
theorem dX7_step_107 : decode cX7_step 107 = .ok (.invokevirtual 99, 3) := dk_182 0 99 (dk_at dksX7_step_4 14 rfl rfl)
theorem dX7_step_110 : decode cX7_step 110 = .ok (.aload_n 2, 1) := dk_44 (dk_at dksX7_step_4 17 rfl rfl)
theorem dX7_step_111 : decode cX7_step 111 = .ok (.invokevirtual 103, 3) := dk_182 0 103 (dk_at dksX7_step_4 18 rfl rfl)
theorem dX7_step_114 : decode cX7_step 114 = .ok (.ifCond .eq 28, 3) := dk_153 0 28 (dk_at dksX7_step_4 21 rfl rfl)
theorem dX7_step_117 : decode cX7_step 117 = .ok (.aload_n 0, 1) := dk_42 (dk_at dksX7_step_5 0 rfl rfl)
theorem dX7_step_118 : decode cX7_step 118 = .ok (.iload_n 1, 1) := dk_27 (dk_at dksX7_step_5 1 rfl rfl)
theorem dX7_step_119 : decode cX7_step 119 = .ok (.iload_n 3, 1) := dk_29 (dk_at dksX7_step_5 2 rfl rfl)
theorem dX7_step_120 : decode cX7_step 120 = .ok (.aload_n 0, 1) := dk_42 (dk_at dksX7_step_5 3 rfl rfl)
theorem dX7_step_121 : decode cX7_step 121 = .ok (.getfield 17, 3) := dk_180 0 17 (dk_at dksX7_step_5 4 rfl rfl)
theorem dX7_step_124 : decode cX7_step 124 = .ok (.iload_n 3, 1) := dk_29 (dk_at dksX7_step_5 7 rfl rfl)
theorem dX7_step_125 : decode cX7_step 125 = .ok (.aaload, 1) := dk_50 (dk_at dksX7_step_5 8 rfl rfl)
theorem dX7_step_126 : decode cX7_step 126 = .ok (.iload 4, 2) := dk_21 4 (dk_at dksX7_step_5 9 rfl rfl)
theorem dX7_step_128 : decode cX7_step 128 = .ok (.iaload, 1) := dk_46 (dk_at dksX7_step_5 11 rfl rfl)
theorem dX7_step_129 : decode cX7_step 129 = .ok (.iload 4, 2) := dk_21 4 (dk_at dksX7_step_5 12 rfl rfl)
theorem dX7_step_131 : decode cX7_step 131 = .ok (.aload_n 2, 1) := dk_44 (dk_at dksX7_step_5 14 rfl rfl)
theorem dX7_step_132 : decode cX7_step 132 = .ok (.getfield 96, 3) := dk_180 0 96 (dk_at dksX7_step_5 15 rfl rfl)
theorem dX7_step_135 : decode cX7_step 135 = .ok (.aload_n 2, 1) := dk_44 (dk_at dksX7_step_5 18 rfl rfl)
theorem dX7_step_136 : decode cX7_step 136 = .ok (.getfield 93, 3) := dk_180 0 93 (dk_at dksX7_step_5 19 rfl rfl)
theorem dX7_step_139 : decode cX7_step 139 = .ok (.invokevirtual 99, 3) := dk_182 0 99 (dk_at dksX7_step_6 0 rfl rfl)
theorem dX7_step_142 : decode cX7_step 142 = .ok (.iinc 4 1, 3) := dk_132 4 1 (dk_at dksX7_step_6 3 rfl rfl)
theorem dX7_step_145 : decode cX7_step 145 = .ok (.goto (-84), 3) := dk_167 255 172 (dk_at dksX7_step_6 6 rfl rfl)
theorem dX7_step_148 : decode cX7_step 148 = .ok (.iinc 3 1, 3) := dk_132 3 1 (dk_at dksX7_step_6 9 rfl rfl)
theorem dX7_step_151 : decode cX7_step 151 = .ok (.goto (-107), 3) := dk_167 255 149 (dk_at dksX7_step_6 12 rfl rfl)
theorem dX7_step_154 : decode cX7_step 154 = .ok (.iconst 0, 1) := dk_3 (dk_at dksX7_step_6 15 rfl rfl)
theorem dX7_step_155 : decode cX7_step 155 = .ok (.istore_n 3, 1) := dk_62 (dk_at dksX7_step_6 16 rfl rfl)
theorem dX7_step_156 : decode cX7_step 156 = .ok (.iload_n 3, 1) := dk_29 (dk_at dksX7_step_6 17 rfl rfl)
theorem dX7_step_157 : decode cX7_step 157 = .ok (.bipush 12, 2) := dk_16 12 (dk_at dksX7_step_6 18 rfl rfl)
theorem dX7_step_159 : decode cX7_step 159 = .ok (.if_icmp .ge 28, 3) := dk_162 0 28 (dk_at dksX7_step_6 20 rfl rfl)
theorem dX7_step_162 : decode cX7_step 162 = .ok (.aload_n 0, 1) := dk_42 (dk_at dksX7_step_6 23 rfl rfl)
theorem dX7_step_163 : decode cX7_step 163 = .ok (.getfield 20, 3) := dk_180 0 20 (dk_at dksX7_step_7 0 rfl rfl)
theorem dX7_step_166 : decode cX7_step 166 = .ok (.iload_n 3, 1) := dk_29 (dk_at dksX7_step_7 3 rfl rfl)
theorem dX7_step_167 : decode cX7_step 167 = .ok (.aaload, 1) := dk_50 (dk_at dksX7_step_7 4 rfl rfl)
theorem dX7_step_168 : decode cX7_step 168 = .ok (.iconst 0, 1) := dk_3 (dk_at dksX7_step_7 5 rfl rfl)
theorem dX7_step_169 : decode cX7_step 169 = .ok (.aload_n 0, 1) := dk_42 (dk_at dksX7_step_7 6 rfl rfl)
theorem dX7_step_170 : decode cX7_step 170 = .ok (.getfield 17, 3) := dk_180 0 17 (dk_at dksX7_step_7 7 rfl rfl)
theorem dX7_step_173 : decode cX7_step 173 = .ok (.iload_n 3, 1) := dk_29 (dk_at dksX7_step_7 10 rfl rfl)
theorem dX7_step_174 : decode cX7_step 174 = .ok (.aaload, 1) := dk_50 (dk_at dksX7_step_7 11 rfl rfl)
theorem dX7_step_175 : decode cX7_step 175 = .ok (.iconst 0, 1) := dk_3 (dk_at dksX7_step_7 12 rfl rfl)
theorem dX7_step_176 : decode cX7_step 176 = .ok (.bipush 121, 2) := dk_16 121 (dk_at dksX7_step_7 13 rfl rfl)
theorem dX7_step_178 : decode cX7_step 178 = .ok (.invokestatic 77, 3) := dk_184 0 77 (dk_at dksX7_step_7 15 rfl rfl)
theorem dX7_step_181 : decode cX7_step 181 = .ok (.iinc 3 1, 3) := dk_132 3 1 (dk_at dksX7_step_7 18 rfl rfl)
theorem dX7_step_184 : decode cX7_step 184 = .ok (.goto (-28), 3) := dk_167 255 228 (dk_at dksX7_step_7 21 rfl rfl)
theorem dX7_step_187 : decode cX7_step 187 = .ok (.return_, 1) := dk_177 (dk_at dksX7_step_8 0 rfl rfl)
abbrev cX7_hits : ByteArray := prog_2_method_4_code
def yX7_hits : MethodName := ⟨RX7, "hits", "(IIIIII)V"⟩
def dkwX7_hits_5 : List UInt8 := [180, 0, 20, 21, 6, 50, 21, 4, 5, 96, 46, 21, 8, 4, 96, 184, 0, 54, 79, 177]
abbrev dktX7_hits_5 : List UInt8 := dkwX7_hits_5 ++ []
def dkwX7_hits_4 : List UInt8 := [180, 0, 31, 180, 0, 111, 27, 46, 163, 0, 34, 42, 180, 0, 20, 21, 6, 50, 21, 4, 5, 96, 42]
abbrev dktX7_hits_4 : List UInt8 := dkwX7_hits_4 ++ dktX7_hits_5
def dkwX7_hits_3 : List UInt8 := [164, 0, 4, 177, 42, 27, 21, 5, 21, 7, 4, 96, 21, 6, 182, 0, 107, 54, 8, 21, 8, 42]
abbrev dktX7_hits_3 : List UInt8 := dkwX7_hits_3 ++ dktX7_hits_4
def dkwX7_hits_2 : List UInt8 := [4, 96, 46, 21, 7, 4, 96, 184, 0, 54, 79, 21, 6, 2, 159, 0, 12, 21, 4, 5, 96, 16, 120]
abbrev dktX7_hits_2 : List UInt8 := dkwX7_hits_2 ++ dktX7_hits_3
def dkwX7_hits_1 : List UInt8 := [164, 0, 4, 177, 42, 180, 0, 20, 21, 5, 50, 21, 4, 4, 96, 42, 180, 0, 20, 21, 5, 50, 21, 4]
abbrev dktX7_hits_1 : List UInt8 := dkwX7_hits_1 ++ dktX7_hits_2
def dkwX7_hits_0 : List UInt8 := [42, 27, 28, 29, 21, 5, 182, 0, 107, 54, 7, 21, 7, 42, 180, 0, 31, 180, 0, 111, 27, 46]
abbrev dktX7_hits_0 : List UInt8 := dkwX7_hits_0 ++ dktX7_hits_1
theorem dksX7_hits_0 : cX7_hits.data.toList.drop 0 = dktX7_hits_0 := by decide +kernel
theorem dksX7_hits_1 : cX7_hits.data.toList.drop 22 = dktX7_hits_1 := dk_seg dksX7_hits_0 22 rfl rfl
theorem dksX7_hits_2 : cX7_hits.data.toList.drop 46 = dktX7_hits_2 := dk_seg dksX7_hits_1 24 rfl rfl
theorem dksX7_hits_3 : cX7_hits.data.toList.drop 69 = dktX7_hits_3 := dk_seg dksX7_hits_2 23 rfl rfl
theorem dksX7_hits_4 : cX7_hits.data.toList.drop 91 = dktX7_hits_4 := dk_seg dksX7_hits_3 22 rfl rfl
theorem dksX7_hits_5 : cX7_hits.data.toList.drop 114 = dktX7_hits_5 := dk_seg dksX7_hits_4 23 rfl rfl
theorem dX7_hits_0 : decode cX7_hits 0 = .ok (.aload_n 0, 1) := dk_42 (dk_at dksX7_hits_0 0 rfl rfl)
theorem dX7_hits_1 : decode cX7_hits 1 = .ok (.iload_n 1, 1) := dk_27 (dk_at dksX7_hits_0 1 rfl rfl)
theorem dX7_hits_2 : decode cX7_hits 2 = .ok (.iload_n 2, 1) := dk_28 (dk_at dksX7_hits_0 2 rfl rfl)
theorem dX7_hits_3 : decode cX7_hits 3 = .ok (.iload_n 3, 1) := dk_29 (dk_at dksX7_hits_0 3 rfl rfl)
theorem dX7_hits_4 : decode cX7_hits 4 = .ok (.iload 5, 2) := dk_21 5 (dk_at dksX7_hits_0 4 rfl rfl)
theorem dX7_hits_6 : decode cX7_hits 6 = .ok (.invokevirtual 107, 3) := dk_182 0 107 (dk_at dksX7_hits_0 6 rfl rfl)
theorem dX7_hits_9 : decode cX7_hits 9 = .ok (.istore 7, 2) := dk_54 7 (dk_at dksX7_hits_0 9 rfl rfl)
theorem dX7_hits_11 : decode cX7_hits 11 = .ok (.iload 7, 2) := dk_21 7 (dk_at dksX7_hits_0 11 rfl rfl)
theorem dX7_hits_13 : decode cX7_hits 13 = .ok (.aload_n 0, 1) := dk_42 (dk_at dksX7_hits_0 13 rfl rfl)
theorem dX7_hits_14 : decode cX7_hits 14 = .ok (.getfield 31, 3) := dk_180 0 31 (dk_at dksX7_hits_0 14 rfl rfl)
theorem dX7_hits_17 : decode cX7_hits 17 = .ok (.getfield 111, 3) := dk_180 0 111 (dk_at dksX7_hits_0 17 rfl rfl)
theorem dX7_hits_20 : decode cX7_hits 20 = .ok (.iload_n 1, 1) := dk_27 (dk_at dksX7_hits_0 20 rfl rfl)
theorem dX7_hits_21 : decode cX7_hits 21 = .ok (.iaload, 1) := dk_46 (dk_at dksX7_hits_0 21 rfl rfl)
theorem dX7_hits_22 : decode cX7_hits 22 = .ok (.if_icmp .le 4, 3) := dk_164 0 4 (dk_at dksX7_hits_1 0 rfl rfl)
theorem dX7_hits_25 : decode cX7_hits 25 = .ok (.return_, 1) := dk_177 (dk_at dksX7_hits_1 3 rfl rfl)
theorem dX7_hits_26 : decode cX7_hits 26 = .ok (.aload_n 0, 1) := dk_42 (dk_at dksX7_hits_1 4 rfl rfl)
theorem dX7_hits_27 : decode cX7_hits 27 = .ok (.getfield 20, 3) := dk_180 0 20 (dk_at dksX7_hits_1 5 rfl rfl)
theorem dX7_hits_30 : decode cX7_hits 30 = .ok (.iload 5, 2) := dk_21 5 (dk_at dksX7_hits_1 8 rfl rfl)
theorem dX7_hits_32 : decode cX7_hits 32 = .ok (.aaload, 1) := dk_50 (dk_at dksX7_hits_1 10 rfl rfl)
theorem dX7_hits_33 : decode cX7_hits 33 = .ok (.iload 4, 2) := dk_21 4 (dk_at dksX7_hits_1 11 rfl rfl)
theorem dX7_hits_35 : decode cX7_hits 35 = .ok (.iconst 1, 1) := dk_4 (dk_at dksX7_hits_1 13 rfl rfl)
theorem dX7_hits_36 : decode cX7_hits 36 = .ok (.iadd, 1) := dk_96 (dk_at dksX7_hits_1 14 rfl rfl)
theorem dX7_hits_37 : decode cX7_hits 37 = .ok (.aload_n 0, 1) := dk_42 (dk_at dksX7_hits_1 15 rfl rfl)
theorem dX7_hits_38 : decode cX7_hits 38 = .ok (.getfield 20, 3) := dk_180 0 20 (dk_at dksX7_hits_1 16 rfl rfl)
theorem dX7_hits_41 : decode cX7_hits 41 = .ok (.iload 5, 2) := dk_21 5 (dk_at dksX7_hits_1 19 rfl rfl)
theorem dX7_hits_43 : decode cX7_hits 43 = .ok (.aaload, 1) := dk_50 (dk_at dksX7_hits_1 21 rfl rfl)
theorem dX7_hits_44 : decode cX7_hits 44 = .ok (.iload 4, 2) := dk_21 4 (dk_at dksX7_hits_1 22 rfl rfl)
theorem dX7_hits_46 : decode cX7_hits 46 = .ok (.iconst 1, 1) := dk_4 (dk_at dksX7_hits_2 0 rfl rfl)
theorem dX7_hits_47 : decode cX7_hits 47 = .ok (.iadd, 1) := dk_96 (dk_at dksX7_hits_2 1 rfl rfl)
theorem dX7_hits_48 : decode cX7_hits 48 = .ok (.iaload, 1) := dk_46 (dk_at dksX7_hits_2 2 rfl rfl)
theorem dX7_hits_49 : decode cX7_hits 49 = .ok (.iload 7, 2) := dk_21 7 (dk_at dksX7_hits_2 3 rfl rfl)
theorem dX7_hits_51 : decode cX7_hits 51 = .ok (.iconst 1, 1) := dk_4 (dk_at dksX7_hits_2 5 rfl rfl)
theorem dX7_hits_52 : decode cX7_hits 52 = .ok (.iadd, 1) := dk_96 (dk_at dksX7_hits_2 6 rfl rfl)
theorem dX7_hits_53 : decode cX7_hits 53 = .ok (.invokestatic 54, 3) := dk_184 0 54 (dk_at dksX7_hits_2 7 rfl rfl)
theorem dX7_hits_56 : decode cX7_hits 56 = .ok (.iastore, 1) := dk_79 (dk_at dksX7_hits_2 10 rfl rfl)
theorem dX7_hits_57 : decode cX7_hits 57 = .ok (.iload 6, 2) := dk_21 6 (dk_at dksX7_hits_2 11 rfl rfl)
theorem dX7_hits_59 : decode cX7_hits 59 = .ok (.iconst (-1), 1) := dk_2 (dk_at dksX7_hits_2 13 rfl rfl)
theorem dX7_hits_60 : decode cX7_hits 60 = .ok (.if_icmp .eq 12, 3) := dk_159 0 12 (dk_at dksX7_hits_2 14 rfl rfl)
theorem dX7_hits_63 : decode cX7_hits 63 = .ok (.iload 4, 2) := dk_21 4 (dk_at dksX7_hits_2 17 rfl rfl)
theorem dX7_hits_65 : decode cX7_hits 65 = .ok (.iconst 2, 1) := dk_5 (dk_at dksX7_hits_2 19 rfl rfl)
theorem dX7_hits_66 : decode cX7_hits 66 = .ok (.iadd, 1) := dk_96 (dk_at dksX7_hits_2 20 rfl rfl)
theorem dX7_hits_67 : decode cX7_hits 67 = .ok (.bipush 120, 2) := dk_16 120 (dk_at dksX7_hits_2 21 rfl rfl)
theorem dX7_hits_69 : decode cX7_hits 69 = .ok (.if_icmp .le 4, 3) := dk_164 0 4 (dk_at dksX7_hits_3 0 rfl rfl)
theorem dX7_hits_72 : decode cX7_hits 72 = .ok (.return_, 1) := dk_177 (dk_at dksX7_hits_3 3 rfl rfl)
theorem dX7_hits_73 : decode cX7_hits 73 = .ok (.aload_n 0, 1) := dk_42 (dk_at dksX7_hits_3 4 rfl rfl)
theorem dX7_hits_74 : decode cX7_hits 74 = .ok (.iload_n 1, 1) := dk_27 (dk_at dksX7_hits_3 5 rfl rfl)
theorem dX7_hits_75 : decode cX7_hits 75 = .ok (.iload 5, 2) := dk_21 5 (dk_at dksX7_hits_3 6 rfl rfl)
theorem dX7_hits_77 : decode cX7_hits 77 = .ok (.iload 7, 2) := dk_21 7 (dk_at dksX7_hits_3 8 rfl rfl)
theorem dX7_hits_79 : decode cX7_hits 79 = .ok (.iconst 1, 1) := dk_4 (dk_at dksX7_hits_3 10 rfl rfl)
theorem dX7_hits_80 : decode cX7_hits 80 = .ok (.iadd, 1) := dk_96 (dk_at dksX7_hits_3 11 rfl rfl)
theorem dX7_hits_81 : decode cX7_hits 81 = .ok (.iload 6, 2) := dk_21 6 (dk_at dksX7_hits_3 12 rfl rfl)
theorem dX7_hits_83 : decode cX7_hits 83 = .ok (.invokevirtual 107, 3) := dk_182 0 107 (dk_at dksX7_hits_3 14 rfl rfl)
theorem dX7_hits_86 : decode cX7_hits 86 = .ok (.istore 8, 2) := dk_54 8 (dk_at dksX7_hits_3 17 rfl rfl)
theorem dX7_hits_88 : decode cX7_hits 88 = .ok (.iload 8, 2) := dk_21 8 (dk_at dksX7_hits_3 19 rfl rfl)
theorem dX7_hits_90 : decode cX7_hits 90 = .ok (.aload_n 0, 1) := dk_42 (dk_at dksX7_hits_3 21 rfl rfl)
theorem dX7_hits_91 : decode cX7_hits 91 = .ok (.getfield 31, 3) := dk_180 0 31 (dk_at dksX7_hits_4 0 rfl rfl)
theorem dX7_hits_94 : decode cX7_hits 94 = .ok (.getfield 111, 3) := dk_180 0 111 (dk_at dksX7_hits_4 3 rfl rfl)
theorem dX7_hits_97 : decode cX7_hits 97 = .ok (.iload_n 1, 1) := dk_27 (dk_at dksX7_hits_4 6 rfl rfl)
theorem dX7_hits_98 : decode cX7_hits 98 = .ok (.iaload, 1) := dk_46 (dk_at dksX7_hits_4 7 rfl rfl)
theorem dX7_hits_99 : decode cX7_hits 99 = .ok (.if_icmp .gt 34, 3) := dk_163 0 34 (dk_at dksX7_hits_4 8 rfl rfl)
theorem dX7_hits_102 : decode cX7_hits 102 = .ok (.aload_n 0, 1) := dk_42 (dk_at dksX7_hits_4 11 rfl rfl)
theorem dX7_hits_103 : decode cX7_hits 103 = .ok (.getfield 20, 3) := dk_180 0 20 (dk_at dksX7_hits_4 12 rfl rfl)
theorem dX7_hits_106 : decode cX7_hits 106 = .ok (.iload 6, 2) := dk_21 6 (dk_at dksX7_hits_4 15 rfl rfl)
theorem dX7_hits_108 : decode cX7_hits 108 = .ok (.aaload, 1) := dk_50 (dk_at dksX7_hits_4 17 rfl rfl)
theorem dX7_hits_109 : decode cX7_hits 109 = .ok (.iload 4, 2) := dk_21 4 (dk_at dksX7_hits_4 18 rfl rfl)
theorem dX7_hits_111 : decode cX7_hits 111 = .ok (.iconst 2, 1) := dk_5 (dk_at dksX7_hits_4 20 rfl rfl)
theorem dX7_hits_112 : decode cX7_hits 112 = .ok (.iadd, 1) := dk_96 (dk_at dksX7_hits_4 21 rfl rfl)
theorem dX7_hits_113 : decode cX7_hits 113 = .ok (.aload_n 0, 1) := dk_42 (dk_at dksX7_hits_4 22 rfl rfl)
theorem dX7_hits_114 : decode cX7_hits 114 = .ok (.getfield 20, 3) := dk_180 0 20 (dk_at dksX7_hits_5 0 rfl rfl)
theorem dX7_hits_117 : decode cX7_hits 117 = .ok (.iload 6, 2) := dk_21 6 (dk_at dksX7_hits_5 3 rfl rfl)
theorem dX7_hits_119 : decode cX7_hits 119 = .ok (.aaload, 1) := dk_50 (dk_at dksX7_hits_5 5 rfl rfl)
theorem dX7_hits_120 : decode cX7_hits 120 = .ok (.iload 4, 2) := dk_21 4 (dk_at dksX7_hits_5 6 rfl rfl)
theorem dX7_hits_122 : decode cX7_hits 122 = .ok (.iconst 2, 1) := dk_5 (dk_at dksX7_hits_5 8 rfl rfl)
theorem dX7_hits_123 : decode cX7_hits 123 = .ok (.iadd, 1) := dk_96 (dk_at dksX7_hits_5 9 rfl rfl)
theorem dX7_hits_124 : decode cX7_hits 124 = .ok (.iaload, 1) := dk_46 (dk_at dksX7_hits_5 10 rfl rfl)
theorem dX7_hits_125 : decode cX7_hits 125 = .ok (.iload 8, 2) := dk_21 8 (dk_at dksX7_hits_5 11 rfl rfl)
theorem dX7_hits_127 : decode cX7_hits 127 = .ok (.iconst 1, 1) := dk_4 (dk_at dksX7_hits_5 13 rfl rfl)
theorem dX7_hits_128 : decode cX7_hits 128 = .ok (.iadd, 1) := dk_96 (dk_at dksX7_hits_5 14 rfl rfl)
theorem dX7_hits_129 : decode cX7_hits 129 = .ok (.invokestatic 54, 3) := dk_184 0 54 (dk_at dksX7_hits_5 15 rfl rfl)
theorem dX7_hits_132 : decode cX7_hits 132 = .ok (.iastore, 1) := dk_79 (dk_at dksX7_hits_5 18 rfl rfl)
theorem dX7_hits_133 : decode cX7_hits 133 = .ok (.return_, 1) := dk_177 (dk_at dksX7_hits_5 19 rfl rfl)
abbrev cX7_strike : ByteArray := prog_2_method_5_code
def yX7_strike : MethodName := ⟨RX7, "strike", "(IIII)I"⟩
def dkwX7_strike_1 : List UInt8 := [180, 0, 31, 180, 0, 121, 27, 46, 184, 0, 74, 172]
abbrev dktX7_strike_1 : List UInt8 := dkwX7_strike_1 ++ []
def dkwX7_strike_0 : List UInt8 := [29, 42, 180, 0, 3, 28, 21, 4, 182, 0, 114, 42, 180, 0, 27, 29, 182, 0, 117, 104, 96, 42]
abbrev dktX7_strike_0 : List UInt8 := dkwX7_strike_0 ++ dktX7_strike_1
theorem dksX7_strike_0 : cX7_strike.data.toList.drop 0 = dktX7_strike_0 := by decide +kernel
theorem dksX7_strike_1 : cX7_strike.data.toList.drop 22 = dktX7_strike_1 := dk_seg dksX7_strike_0 22 rfl rfl
theorem dX7_strike_0 : decode cX7_strike 0 = .ok (.iload_n 3, 1) := dk_29 (dk_at dksX7_strike_0 0 rfl rfl)
theorem dX7_strike_1 : decode cX7_strike 1 = .ok (.aload_n 0, 1) := dk_42 (dk_at dksX7_strike_0 1 rfl rfl)
theorem dX7_strike_2 : decode cX7_strike 2 = .ok (.getfield 3, 3) := dk_180 0 3 (dk_at dksX7_strike_0 2 rfl rfl)
theorem dX7_strike_5 : decode cX7_strike 5 = .ok (.iload_n 2, 1) := dk_28 (dk_at dksX7_strike_0 5 rfl rfl)
theorem dX7_strike_6 : decode cX7_strike 6 = .ok (.iload 4, 2) := dk_21 4 (dk_at dksX7_strike_0 6 rfl rfl)
theorem dX7_strike_8 : decode cX7_strike 8 = .ok (.invokevirtual 114, 3) := dk_182 0 114 (dk_at dksX7_strike_0 8 rfl rfl)
theorem dX7_strike_11 : decode cX7_strike 11 = .ok (.aload_n 0, 1) := dk_42 (dk_at dksX7_strike_0 11 rfl rfl)
theorem dX7_strike_12 : decode cX7_strike 12 = .ok (.getfield 27, 3) := dk_180 0 27 (dk_at dksX7_strike_0 12 rfl rfl)
theorem dX7_strike_15 : decode cX7_strike 15 = .ok (.iload_n 3, 1) := dk_29 (dk_at dksX7_strike_0 15 rfl rfl)
theorem dX7_strike_16 : decode cX7_strike 16 = .ok (.invokevirtual 117, 3) := dk_182 0 117 (dk_at dksX7_strike_0 16 rfl rfl)
theorem dX7_strike_19 : decode cX7_strike 19 = .ok (.imul, 1) := dk_104 (dk_at dksX7_strike_0 19 rfl rfl)
theorem dX7_strike_20 : decode cX7_strike 20 = .ok (.iadd, 1) := dk_96 (dk_at dksX7_strike_0 20 rfl rfl)
theorem dX7_strike_21 : decode cX7_strike 21 = .ok (.aload_n 0, 1) := dk_42 (dk_at dksX7_strike_0 21 rfl rfl)
theorem dX7_strike_22 : decode cX7_strike 22 = .ok (.getfield 31, 3) := dk_180 0 31 (dk_at dksX7_strike_1 0 rfl rfl)
theorem dX7_strike_25 : decode cX7_strike 25 = .ok (.getfield 121, 3) := dk_180 0 121 (dk_at dksX7_strike_1 3 rfl rfl)
theorem dX7_strike_28 : decode cX7_strike 28 = .ok (.iload_n 1, 1) := dk_27 (dk_at dksX7_strike_1 6 rfl rfl)
theorem dX7_strike_29 : decode cX7_strike 29 = .ok (.iaload, 1) := dk_46 (dk_at dksX7_strike_1 7 rfl rfl)
theorem dX7_strike_30 : decode cX7_strike 30 = .ok (.invokestatic 74, 3) := dk_184 0 74 (dk_at dksX7_strike_1 8 rfl rfl)
theorem dX7_strike_33 : decode cX7_strike 33 = .ok (.ireturn, 1) := dk_172 (dk_at dksX7_strike_1 11 rfl rfl)
theorem q155 : (Jvm.Cond.initialized "MoleBoard$Best") ∈ lw_all := lw_g (lw_at lw_m1 11 rfl) rfl
theorem q525 : (Jvm.Cond.fieldLink "MoleBoard$Best" (121 : Nat) "MoleBoard$Game" "first" "[I") ∈ lw_all := lw_g (lw_at lw_m2 141 rfl) rfl
theorem q528 : (Jvm.Cond.fieldLink "MoleBoard$Best" (111 : Nat) "MoleBoard$Game" "last" "[I") ∈ lw_all := lw_g (lw_at lw_m2 144 rfl) rfl
theorem q533 : (Jvm.Cond.fieldLink "MoleBoard$Best" (48 : Nat) "MoleBoard$Game" "many" "I") ∈ lw_all := lw_g (lw_at lw_m2 149 rfl) rfl
theorem q649 : (Jvm.Cond.instantiable "MoleBoard$Best" (5 : Nat)) ∈ lw_all := lw_g (lw_at lw_m3 25 rfl) rfl
theorem q651 : (Jvm.Cond.instanceMethod ({ cls := "MoleBoard$Best", name := "<init>", desc := "(LMoleBoard;)V" } : Jvm.MethodName)) ∈ lw_all := lw_g (lw_at lw_m3 27 rfl) rfl
theorem q652 : (Jvm.Cond.code ({ cls := "MoleBoard$Best", name := "<init>", desc := "(LMoleBoard;)V" } : Jvm.MethodName) prog_2_method_1_code (2 : Nat) (Option.none : Option Jvm.ClassFile.FieldType)) ∈ lw_all := lw_g (lw_at lw_m3 28 rfl) rfl
theorem q653 : (Jvm.Cond.methodLink "MoleBoard$Best" (9 : Nat) ({ cls := "java/lang/Object", name := "<init>", desc := "()V" } : Jvm.MethodName)) ∈ lw_all := lw_g (lw_at lw_m3 29 rfl) rfl
theorem q654 : (Jvm.Cond.classLink "MoleBoard$Best" (15 : Nat) "[[I") ∈ lw_all := lw_g (lw_at lw_m3 30 rfl) rfl
theorem q656 : (Jvm.Cond.fieldLink "MoleBoard$Best" (17 : Nat) "MoleBoard$Best" "free" "[[I") ∈ lw_all := lw_g (lw_at lw_m3 32 rfl) rfl
theorem q657 : (Jvm.Cond.fieldLink "MoleBoard$Best" (20 : Nat) "MoleBoard$Best" "then" "[[I") ∈ lw_all := lw_g (lw_at lw_m3 33 rfl) rfl
theorem q658 : (Jvm.Cond.fieldLink "MoleBoard$Best" (27 : Nat) "MoleBoard$Best" "who" "LMoleBoard$Player;") ∈ lw_all := lw_g (lw_at lw_m3 34 rfl) rfl
theorem q659 : (Jvm.Cond.fieldLink "MoleBoard$Best" (31 : Nat) "MoleBoard$Best" "g" "LMoleBoard$Game;") ∈ lw_all := lw_g (lw_at lw_m3 35 rfl) rfl
theorem q660 : (Jvm.Cond.fieldLink "MoleBoard$Best" (3 : Nat) "MoleBoard$Best" "this$0" "LMoleBoard;") ∈ lw_all := lw_g (lw_at lw_m3 36 rfl) rfl
theorem q661 : (Jvm.Cond.laysFinal "MoleBoard$Best" "MoleBoard$Best" "free" "[[I") ∈ lw_all := lw_g (lw_at lw_m3 37 rfl) rfl
theorem q662 : (Jvm.Cond.soleField "MoleBoard$Best" "free") ∈ lw_all := lw_g (lw_at lw_m3 38 rfl) rfl
theorem q663 : (Jvm.Cond.laysFinal "MoleBoard$Best" "MoleBoard$Best" "then" "[[I") ∈ lw_all := lw_g (lw_at lw_m3 39 rfl) rfl
theorem q664 : (Jvm.Cond.soleField "MoleBoard$Best" "then") ∈ lw_all := lw_g (lw_at lw_m3 40 rfl) rfl
theorem q665 : (Jvm.Cond.lays "MoleBoard$Best" "MoleBoard$Best" "who" "LMoleBoard$Player;") ∈ lw_all := lw_g (lw_at lw_m3 41 rfl) rfl
theorem q666 : (Jvm.Cond.soleField "MoleBoard$Best" "who") ∈ lw_all := lw_g (lw_at lw_m3 42 rfl) rfl
theorem q667 : (Jvm.Cond.lays "MoleBoard$Best" "MoleBoard$Best" "g" "LMoleBoard$Game;") ∈ lw_all := lw_g (lw_at lw_m3 43 rfl) rfl
theorem q668 : (Jvm.Cond.soleField "MoleBoard$Best" "g") ∈ lw_all := lw_g (lw_at lw_m3 44 rfl) rfl
theorem q669 : (Jvm.Cond.laysFinal "MoleBoard$Best" "MoleBoard$Best" "this$0" "LMoleBoard;") ∈ lw_all := lw_g (lw_at lw_m3 45 rfl) rfl
theorem q670 : (Jvm.Cond.soleField "MoleBoard$Best" "this$0") ∈ lw_all := lw_g (lw_at lw_m3 46 rfl) rfl
theorem q671 : (Jvm.Cond.superclass "MoleBoard$Best" "java/lang/Object") ∈ lw_all := lw_g (lw_at lw_m3 47 rfl) rfl
theorem q720 : (Jvm.Cond.fieldLinkNest "MoleBoard$Best" (83 : Nat) "MoleBoard" "now" "LMoleBoard$Board;" "MoleBoard") ∈ lw_tbl := lw_at lw_m3 96 rfl
theorem q1055 : (Jvm.Cond.fieldLinkNest "MoleBoard$Best" (93 : Nat) "MoleBoard$Mole" "hole" "I" "MoleBoard") ∈ lw_tbl := lw_at lw_m4 191 rfl
theorem q1058 : (Jvm.Cond.fieldLinkNest "MoleBoard$Best" (96 : Nat) "MoleBoard$Mole" "other" "I" "MoleBoard") ∈ lw_tbl := lw_at lw_m4 194 rfl
theorem q1062 : (Jvm.Cond.fieldLinkNest "MoleBoard$Best" (64 : Nat) "MoleBoard$Mole" "red" "Z" "MoleBoard") ∈ lw_tbl := lw_at lw_m4 198 rfl
theorem q1113 : (Jvm.Cond.selects "MoleBoard$Best" ({ cls := "java/lang/Object", name := "getClass", desc := "()Ljava/lang/Class;" } : Jvm.MethodName) ({ cls := "java/lang/Object", name := "getClass", desc := "()Ljava/lang/Class;" } : Jvm.MethodName)) ∈ lw_all := lw_g (lw_at lw_m5 9 rfl) rfl
theorem q1154 : (Jvm.Cond.fieldLinkNest "MoleBoard$Best" (42 : Nat) "MoleBoard$Player" "is" "[I" "MoleBoard") ∈ lw_tbl := lw_at lw_m5 50 rfl
theorem q1399 : (Jvm.Cond.instanceMethod ({ cls := "MoleBoard$Best", name := "goes", desc := "(ILMoleBoard$Game;I)I" } : Jvm.MethodName)) ∈ lw_all := lw_g (lw_at lw_m6 55 rfl) rfl
theorem q1400 : (Jvm.Cond.selects "MoleBoard$Best" ({ cls := "MoleBoard$Best", name := "goes", desc := "(ILMoleBoard$Game;I)I" } : Jvm.MethodName) ({ cls := "MoleBoard$Best", name := "goes", desc := "(ILMoleBoard$Game;I)I" } : Jvm.MethodName)) ∈ lw_all := lw_g (lw_at lw_m6 56 rfl) rfl
theorem q1401 : (Jvm.Cond.code ({ cls := "MoleBoard$Best", name := "goes", desc := "(ILMoleBoard$Game;I)I" } : Jvm.MethodName) prog_2_method_2_code (10 : Nat) (Option.some Jvm.ClassFile.FieldType.int)) ∈ lw_all := lw_g (lw_at lw_m6 57 rfl) rfl
theorem q1402 : (Jvm.Cond.methodLinkNest "MoleBoard$Best" (23 : Nat) ({ cls := "MoleBoard", name := "one", desc := "(I)LMoleBoard$Player;" } : Jvm.MethodName) "MoleBoard") ∈ lw_tbl := lw_at lw_m6 58 rfl
theorem q1403 : (Jvm.Cond.constant "MoleBoard$Best" (35 : Nat) (1000000 : Int32)) ∈ lw_all := lw_g (lw_at lw_m6 59 rfl) rfl
theorem q1404 : (Jvm.Cond.methodLink "MoleBoard$Best" (36 : Nat) ({ cls := "java/util/Arrays", name := "fill", desc := "([II)V" } : Jvm.MethodName)) ∈ lw_all := lw_g (lw_at lw_m6 60 rfl) rfl
theorem q1407 : (Jvm.Cond.methodLink "MoleBoard$Best" (54 : Nat) ({ cls := "java/lang/Math", name := "min", desc := "(II)I" } : Jvm.MethodName)) ∈ lw_all := lw_g (lw_at lw_m6 63 rfl) rfl
theorem q1408 : (Jvm.Cond.methodLink "MoleBoard$Best" (60 : Nat) ({ cls := "MoleBoard$Game", name := "mole", desc := "(I)LMoleBoard$Mole;" } : Jvm.MethodName)) ∈ lw_all := lw_g (lw_at lw_m6 64 rfl) rfl
theorem q1409 : (Jvm.Cond.methodLink "MoleBoard$Best" (70 : Nat) ({ cls := "MoleBoard$Best", name := "step", desc := "(I)V" } : Jvm.MethodName)) ∈ lw_all := lw_g (lw_at lw_m6 65 rfl) rfl
theorem q1410 : (Jvm.Cond.privateMethod ({ cls := "MoleBoard$Best", name := "step", desc := "(I)V" } : Jvm.MethodName)) ∈ lw_tbl := lw_at lw_m6 66 rfl
theorem q1411 : (Jvm.Cond.instanceMethod ({ cls := "MoleBoard$Best", name := "step", desc := "(I)V" } : Jvm.MethodName)) ∈ lw_all := lw_g (lw_at lw_m6 67 rfl) rfl
theorem q1412 : (Jvm.Cond.code ({ cls := "MoleBoard$Best", name := "step", desc := "(I)V" } : Jvm.MethodName) prog_2_method_3_code (5 : Nat) (Option.none : Option Jvm.ClassFile.FieldType)) ∈ lw_all := lw_g (lw_at lw_m6 68 rfl) rfl
theorem q1413 : (Jvm.Cond.methodLink "MoleBoard$Best" (77 : Nat) ({ cls := "java/lang/System", name := "arraycopy", desc := "(Ljava/lang/Object;ILjava/lang/Object;II)V" } : Jvm.MethodName)) ∈ lw_all := lw_g (lw_at lw_m6 69 rfl) rfl
theorem q1414 : (Jvm.Cond.methodLink "MoleBoard$Best" (87 : Nat) ({ cls := "MoleBoard$Board", name := "holes", desc := "()I" } : Jvm.MethodName)) ∈ lw_all := lw_g (lw_at lw_m6 70 rfl) rfl
theorem q1415 : (Jvm.Cond.methodLink "MoleBoard$Best" (99 : Nat) ({ cls := "MoleBoard$Best", name := "hits", desc := "(IIIIII)V" } : Jvm.MethodName)) ∈ lw_all := lw_g (lw_at lw_m6 71 rfl) rfl
theorem q1416 : (Jvm.Cond.privateMethod ({ cls := "MoleBoard$Best", name := "hits", desc := "(IIIIII)V" } : Jvm.MethodName)) ∈ lw_tbl := lw_at lw_m6 72 rfl
theorem q1417 : (Jvm.Cond.instanceMethod ({ cls := "MoleBoard$Best", name := "hits", desc := "(IIIIII)V" } : Jvm.MethodName)) ∈ lw_all := lw_g (lw_at lw_m6 73 rfl) rfl
theorem q1418 : (Jvm.Cond.code ({ cls := "MoleBoard$Best", name := "hits", desc := "(IIIIII)V" } : Jvm.MethodName) prog_2_method_4_code (9 : Nat) (Option.none : Option Jvm.ClassFile.FieldType)) ∈ lw_all := lw_g (lw_at lw_m6 74 rfl) rfl
theorem q1419 : (Jvm.Cond.methodLink "MoleBoard$Best" (107 : Nat) ({ cls := "MoleBoard$Best", name := "strike", desc := "(IIII)I" } : Jvm.MethodName)) ∈ lw_all := lw_g (lw_at lw_m6 75 rfl) rfl
theorem q1420 : (Jvm.Cond.privateMethod ({ cls := "MoleBoard$Best", name := "strike", desc := "(IIII)I" } : Jvm.MethodName)) ∈ lw_tbl := lw_at lw_m6 76 rfl
theorem q1421 : (Jvm.Cond.instanceMethod ({ cls := "MoleBoard$Best", name := "strike", desc := "(IIII)I" } : Jvm.MethodName)) ∈ lw_all := lw_g (lw_at lw_m6 77 rfl) rfl
theorem q1422 : (Jvm.Cond.code ({ cls := "MoleBoard$Best", name := "strike", desc := "(IIII)I" } : Jvm.MethodName) prog_2_method_5_code (5 : Nat) (Option.some Jvm.ClassFile.FieldType.int)) ∈ lw_all := lw_g (lw_at lw_m6 78 rfl) rfl
theorem q1423 : (Jvm.Cond.methodLinkNest "MoleBoard$Best" (114 : Nat) ({ cls := "MoleBoard", name := "stepsOf", desc := "(II)I" } : Jvm.MethodName) "MoleBoard") ∈ lw_tbl := lw_at lw_m6 79 rfl
theorem q1424 : (Jvm.Cond.methodLink "MoleBoard$Best" (117 : Nat) ({ cls := "MoleBoard$Player", name := "pace", desc := "(I)I" } : Jvm.MethodName)) ∈ lw_all := lw_g (lw_at lw_m6 80 rfl) rfl
theorem q1425 : (Jvm.Cond.methodLink "MoleBoard$Best" (74 : Nat) ({ cls := "java/lang/Math", name := "max", desc := "(II)I" } : Jvm.MethodName)) ∈ lw_all := lw_g (lw_at lw_m6 81 rfl) rfl
theorem q1426 : (Jvm.Cond.methodLink "MoleBoard$Best" (103 : Nat) ({ cls := "MoleBoard$Mole", name := "isTwin", desc := "()Z" } : Jvm.MethodName)) ∈ lw_all := lw_g (lw_at lw_m6 82 rfl) rfl
theorem q2664 : (Jvm.Cond.castable "MoleBoard$Best" "java/lang/Object") ∈ lw_tbl := lw_at lw_m11 120 rfl
/-! MoleBoard$Lots -/
set_option maxRecDepth 100000
abbrev cX8_init : ByteArray := prog_8_method_1_code
def yX8_init : MethodName := ⟨RX8, "<init>", "(LMoleBoard;)V"⟩
def dkwX8_init_1 : List UInt8 := [16, 13, 197, 0, 15, 2, 181, 0, 20, 177]
abbrev dktX8_init_1 : List UInt8 := dkwX8_init_1 ++ []
def dkwX8_init_0 : List UInt8 := [42, 43, 181, 0, 3, 42, 183, 0, 9, 42, 16, 12, 16, 13, 197, 0, 15, 2, 181, 0, 17, 42, 16, 12]
abbrev dktX8_init_0 : List UInt8 := dkwX8_init_0 ++ dktX8_init_1
theorem dksX8_init_0 : cX8_init.data.toList.drop 0 = dktX8_init_0 := by decide +kernel
theorem dksX8_init_1 : cX8_init.data.toList.drop 24 = dktX8_init_1 := dk_seg dksX8_init_0 24 rfl rfl
theorem dX8_init_0 : decode cX8_init 0 = .ok (.aload_n 0, 1) := dk_42 (dk_at dksX8_init_0 0 rfl rfl)
theorem dX8_init_1 : decode cX8_init 1 = .ok (.aload_n 1, 1) := dk_43 (dk_at dksX8_init_0 1 rfl rfl)
theorem dX8_init_2 : decode cX8_init 2 = .ok (.putfield 3, 3) := dk_181 0 3 (dk_at dksX8_init_0 2 rfl rfl)
theorem dX8_init_5 : decode cX8_init 5 = .ok (.aload_n 0, 1) := dk_42 (dk_at dksX8_init_0 5 rfl rfl)
theorem dX8_init_6 : decode cX8_init 6 = .ok (.invokespecial 9, 3) := dk_183 0 9 (dk_at dksX8_init_0 6 rfl rfl)
theorem dX8_init_9 : decode cX8_init 9 = .ok (.aload_n 0, 1) := dk_42 (dk_at dksX8_init_0 9 rfl rfl)
theorem dX8_init_10 : decode cX8_init 10 = .ok (.bipush 12, 2) := dk_16 12 (dk_at dksX8_init_0 10 rfl rfl)
theorem dX8_init_12 : decode cX8_init 12 = .ok (.bipush 13, 2) := dk_16 13 (dk_at dksX8_init_0 12 rfl rfl)
theorem dX8_init_14 : decode cX8_init 14 = .ok (.multianewarray 15 2, 4) := by decide +kernel
theorem dX8_init_18 : decode cX8_init 18 = .ok (.putfield 17, 3) := dk_181 0 17 (dk_at dksX8_init_0 18 rfl rfl)
theorem dX8_init_21 : decode cX8_init 21 = .ok (.aload_n 0, 1) := dk_42 (dk_at dksX8_init_0 21 rfl rfl)
theorem dX8_init_22 : decode cX8_init 22 = .ok (.bipush 12, 2) := dk_16 12 (dk_at dksX8_init_0 22 rfl rfl)
theorem dX8_init_24 : decode cX8_init 24 = .ok (.bipush 13, 2) := dk_16 13 (dk_at dksX8_init_1 0 rfl rfl)
theorem dX8_init_26 : decode cX8_init 26 = .ok (.multianewarray 15 2, 4) := by decide +kernel
theorem dX8_init_30 : decode cX8_init 30 = .ok (.putfield 20, 3) := dk_181 0 20 (dk_at dksX8_init_1 6 rfl rfl)
theorem dX8_init_33 : decode cX8_init 33 = .ok (.return_, 1) := dk_177 (dk_at dksX8_init_1 9 rfl rfl)
abbrev cX8_lays : ByteArray := prog_8_method_2_code
def yX8_lays : MethodName := ⟨RX8, "lays", "(II)LMoleBoard$Lots;"⟩
def dkwX8_lays_3 : List UInt8 := [182, 0, 37, 132, 3, 1, 167, 255, 243, 42, 176]
abbrev dktX8_lays_3 : List UInt8 := dkwX8_lays_3 ++ []
def dkwX8_lays_2 : List UInt8 := [153, 0, 7, 10, 167, 0, 4, 9, 80, 132, 3, 1, 167, 255, 200, 4, 62, 29, 28, 162, 0, 14, 42, 27]
abbrev dktX8_lays_2 : List UInt8 := dkwX8_lays_2 ++ dktX8_lays_3
def dkwX8_lays_1 : List UInt8 := [16, 12, 42, 180, 0, 3, 29, 133, 182, 0, 29, 153, 0, 18, 42, 180, 0, 3, 29, 182, 0, 33]
abbrev dktX8_lays_1 : List UInt8 := dkwX8_lays_1 ++ dktX8_lays_2
def dkwX8_lays_0 : List UInt8 := [3, 62, 29, 16, 12, 162, 0, 56, 42, 180, 0, 17, 29, 50, 9, 184, 0, 23, 42, 180, 0, 17, 29, 50]
abbrev dktX8_lays_0 : List UInt8 := dkwX8_lays_0 ++ dktX8_lays_1
theorem dksX8_lays_0 : cX8_lays.data.toList.drop 0 = dktX8_lays_0 := by decide +kernel
theorem dksX8_lays_1 : cX8_lays.data.toList.drop 24 = dktX8_lays_1 := dk_seg dksX8_lays_0 24 rfl rfl
theorem dksX8_lays_2 : cX8_lays.data.toList.drop 46 = dktX8_lays_2 := dk_seg dksX8_lays_1 22 rfl rfl
theorem dksX8_lays_3 : cX8_lays.data.toList.drop 70 = dktX8_lays_3 := dk_seg dksX8_lays_2 24 rfl rfl
theorem dX8_lays_0 : decode cX8_lays 0 = .ok (.iconst 0, 1) := dk_3 (dk_at dksX8_lays_0 0 rfl rfl)
theorem dX8_lays_1 : decode cX8_lays 1 = .ok (.istore_n 3, 1) := dk_62 (dk_at dksX8_lays_0 1 rfl rfl)
theorem dX8_lays_2 : decode cX8_lays 2 = .ok (.iload_n 3, 1) := dk_29 (dk_at dksX8_lays_0 2 rfl rfl)
theorem dX8_lays_3 : decode cX8_lays 3 = .ok (.bipush 12, 2) := dk_16 12 (dk_at dksX8_lays_0 3 rfl rfl)
theorem dX8_lays_5 : decode cX8_lays 5 = .ok (.if_icmp .ge 56, 3) := dk_162 0 56 (dk_at dksX8_lays_0 5 rfl rfl)
theorem dX8_lays_8 : decode cX8_lays 8 = .ok (.aload_n 0, 1) := dk_42 (dk_at dksX8_lays_0 8 rfl rfl)
theorem dX8_lays_9 : decode cX8_lays 9 = .ok (.getfield 17, 3) := dk_180 0 17 (dk_at dksX8_lays_0 9 rfl rfl)
theorem dX8_lays_12 : decode cX8_lays 12 = .ok (.iload_n 3, 1) := dk_29 (dk_at dksX8_lays_0 12 rfl rfl)
theorem dX8_lays_13 : decode cX8_lays 13 = .ok (.aaload, 1) := dk_50 (dk_at dksX8_lays_0 13 rfl rfl)
theorem dX8_lays_14 : decode cX8_lays 14 = .ok (.lconst 0, 1) := dk_9 (dk_at dksX8_lays_0 14 rfl rfl)
theorem dX8_lays_15 : decode cX8_lays 15 = .ok (.invokestatic 23, 3) := dk_184 0 23 (dk_at dksX8_lays_0 15 rfl rfl)
theorem dX8_lays_18 : decode cX8_lays 18 = .ok (.aload_n 0, 1) := dk_42 (dk_at dksX8_lays_0 18 rfl rfl)
theorem dX8_lays_19 : decode cX8_lays 19 = .ok (.getfield 17, 3) := dk_180 0 17 (dk_at dksX8_lays_0 19 rfl rfl)
theorem dX8_lays_22 : decode cX8_lays 22 = .ok (.iload_n 3, 1) := dk_29 (dk_at dksX8_lays_0 22 rfl rfl)
theorem dX8_lays_23 : decode cX8_lays 23 = .ok (.aaload, 1) := dk_50 (dk_at dksX8_lays_0 23 rfl rfl)
theorem dX8_lays_24 : decode cX8_lays 24 = .ok (.bipush 12, 2) := dk_16 12 (dk_at dksX8_lays_1 0 rfl rfl)
theorem dX8_lays_26 : decode cX8_lays 26 = .ok (.aload_n 0, 1) := dk_42 (dk_at dksX8_lays_1 2 rfl rfl)
theorem dX8_lays_27 : decode cX8_lays 27 = .ok (.getfield 3, 3) := dk_180 0 3 (dk_at dksX8_lays_1 3 rfl rfl)
theorem dX8_lays_30 : decode cX8_lays 30 = .ok (.iload_n 3, 1) := dk_29 (dk_at dksX8_lays_1 6 rfl rfl)
theorem dX8_lays_31 : decode cX8_lays 31 = .ok (.i2l, 1) := dk_133 (dk_at dksX8_lays_1 7 rfl rfl)
theorem dX8_lays_32 : decode cX8_lays 32 = .ok (.invokevirtual 29, 3) := dk_182 0 29 (dk_at dksX8_lays_1 8 rfl rfl)
theorem dX8_lays_35 : decode cX8_lays 35 = .ok (.ifCond .eq 18, 3) := dk_153 0 18 (dk_at dksX8_lays_1 11 rfl rfl)
theorem dX8_lays_38 : decode cX8_lays 38 = .ok (.aload_n 0, 1) := dk_42 (dk_at dksX8_lays_1 14 rfl rfl)
theorem dX8_lays_39 : decode cX8_lays 39 = .ok (.getfield 3, 3) := dk_180 0 3 (dk_at dksX8_lays_1 15 rfl rfl)
theorem dX8_lays_42 : decode cX8_lays 42 = .ok (.iload_n 3, 1) := dk_29 (dk_at dksX8_lays_1 18 rfl rfl)
theorem dX8_lays_43 : decode cX8_lays 43 = .ok (.invokevirtual 33, 3) := dk_182 0 33 (dk_at dksX8_lays_1 19 rfl rfl)
theorem dX8_lays_46 : decode cX8_lays 46 = .ok (.ifCond .eq 7, 3) := dk_153 0 7 (dk_at dksX8_lays_2 0 rfl rfl)
theorem dX8_lays_49 : decode cX8_lays 49 = .ok (.lconst 1, 1) := dk_10 (dk_at dksX8_lays_2 3 rfl rfl)
theorem dX8_lays_50 : decode cX8_lays 50 = .ok (.goto 4, 3) := dk_167 0 4 (dk_at dksX8_lays_2 4 rfl rfl)
theorem dX8_lays_53 : decode cX8_lays 53 = .ok (.lconst 0, 1) := dk_9 (dk_at dksX8_lays_2 7 rfl rfl)
theorem dX8_lays_54 : decode cX8_lays 54 = .ok (.lastore, 1) := dk_80 (dk_at dksX8_lays_2 8 rfl rfl)
theorem dX8_lays_55 : decode cX8_lays 55 = .ok (.iinc 3 1, 3) := dk_132 3 1 (dk_at dksX8_lays_2 9 rfl rfl)
theorem dX8_lays_58 : decode cX8_lays 58 = .ok (.goto (-56), 3) := dk_167 255 200 (dk_at dksX8_lays_2 12 rfl rfl)
theorem dX8_lays_61 : decode cX8_lays 61 = .ok (.iconst 1, 1) := dk_4 (dk_at dksX8_lays_2 15 rfl rfl)
theorem dX8_lays_62 : decode cX8_lays 62 = .ok (.istore_n 3, 1) := dk_62 (dk_at dksX8_lays_2 16 rfl rfl)
theorem dX8_lays_63 : decode cX8_lays 63 = .ok (.iload_n 3, 1) := dk_29 (dk_at dksX8_lays_2 17 rfl rfl)
theorem dX8_lays_64 : decode cX8_lays 64 = .ok (.iload_n 2, 1) := dk_28 (dk_at dksX8_lays_2 18 rfl rfl)
theorem dX8_lays_65 : decode cX8_lays 65 = .ok (.if_icmp .ge 14, 3) := dk_162 0 14 (dk_at dksX8_lays_2 19 rfl rfl)
theorem dX8_lays_68 : decode cX8_lays 68 = .ok (.aload_n 0, 1) := dk_42 (dk_at dksX8_lays_2 22 rfl rfl)
theorem dX8_lays_69 : decode cX8_lays 69 = .ok (.iload_n 1, 1) := dk_27 (dk_at dksX8_lays_2 23 rfl rfl)
theorem dX8_lays_70 : decode cX8_lays 70 = .ok (.invokevirtual 37, 3) := dk_182 0 37 (dk_at dksX8_lays_3 0 rfl rfl)
theorem dX8_lays_73 : decode cX8_lays 73 = .ok (.iinc 3 1, 3) := dk_132 3 1 (dk_at dksX8_lays_3 3 rfl rfl)
theorem dX8_lays_76 : decode cX8_lays 76 = .ok (.goto (-13), 3) := dk_167 255 243 (dk_at dksX8_lays_3 6 rfl rfl)
theorem dX8_lays_79 : decode cX8_lays 79 = .ok (.aload_n 0, 1) := dk_42 (dk_at dksX8_lays_3 9 rfl rfl)
theorem dX8_lays_80 : decode cX8_lays 80 = .ok (.areturn, 1) := dk_176 (dk_at dksX8_lays_3 10 rfl rfl)
abbrev cX8_step : ByteArray := prog_8_method_3_code
def yX8_step : MethodName := ⟨RX8, "step", "(I)V"⟩
def dkwX8_step_8 : List UInt8 := [132, 2, 1, 167, 255, 228, 177]
abbrev dktX8_step_8 : List UInt8 := dkwX8_step_8 ++ []
def dkwX8_step_7 : List UInt8 := [162, 0, 28, 42, 180, 0, 20, 28, 50, 3, 42, 180, 0, 17, 28, 50, 3, 16, 13, 184, 0, 55]
abbrev dktX8_step_7 : List UInt8 := dkwX8_step_7 ++ dktX8_step_8
def dkwX8_step_6 : List UInt8 := [132, 4, 1, 167, 255, 193, 132, 3, 1, 167, 255, 162, 132, 2, 1, 167, 255, 140, 3, 61, 28, 16, 12]
abbrev dktX8_step_6 : List UInt8 := dkwX8_step_6 ++ dktX8_step_7
def dkwX8_step_5 : List UInt8 := [153, 0, 23, 42, 180, 0, 20, 21, 4, 50, 28, 92, 47, 42, 180, 0, 17, 28, 50, 29, 47, 97, 80]
abbrev dktX8_step_5 : List UInt8 := dkwX8_step_5 ++ dktX8_step_6
def dkwX8_step_4 : List UInt8 := [42, 180, 0, 3, 21, 4, 27, 28, 29, 16, 12, 160, 0, 7, 2, 167, 0, 4, 29, 182, 0, 51]
abbrev dktX8_step_4 : List UInt8 := dkwX8_step_4 ++ dktX8_step_5
def dkwX8_step_3 : List UInt8 := [154, 0, 6, 167, 0, 72, 3, 54, 4, 21, 4, 42, 180, 0, 3, 180, 0, 41, 182, 0, 45, 162, 0, 54]
abbrev dktX8_step_3 : List UInt8 := dkwX8_step_3 ++ dktX8_step_4
def dkwX8_step_2 : List UInt8 := [182, 0, 45, 162, 0, 108, 3, 62, 29, 16, 12, 163, 0, 94, 42, 180, 0, 17, 28, 50, 29, 47, 9, 148]
abbrev dktX8_step_2 : List UInt8 := dkwX8_step_2 ++ dktX8_step_3
def dkwX8_step_1 : List UInt8 := [25, 5, 9, 184, 0, 23, 132, 4, 1, 167, 255, 235, 3, 61, 28, 42, 180, 0, 3, 180, 0, 41]
abbrev dktX8_step_1 : List UInt8 := dkwX8_step_1 ++ dktX8_step_2
def dkwX8_step_0 : List UInt8 := [42, 180, 0, 20, 77, 44, 190, 62, 3, 54, 4, 21, 4, 29, 162, 0, 21, 44, 21, 4, 50, 58, 5]
abbrev dktX8_step_0 : List UInt8 := dkwX8_step_0 ++ dktX8_step_1
theorem dksX8_step_0 : cX8_step.data.toList.drop 0 = dktX8_step_0 := by decide +kernel
theorem dksX8_step_1 : cX8_step.data.toList.drop 23 = dktX8_step_1 := dk_seg dksX8_step_0 23 rfl rfl
theorem dksX8_step_2 : cX8_step.data.toList.drop 45 = dktX8_step_2 := dk_seg dksX8_step_1 22 rfl rfl
theorem dksX8_step_3 : cX8_step.data.toList.drop 69 = dktX8_step_3 := dk_seg dksX8_step_2 24 rfl rfl
theorem dksX8_step_4 : cX8_step.data.toList.drop 93 = dktX8_step_4 := dk_seg dksX8_step_3 24 rfl rfl
theorem dksX8_step_5 : cX8_step.data.toList.drop 115 = dktX8_step_5 := dk_seg dksX8_step_4 22 rfl rfl
theorem dksX8_step_6 : cX8_step.data.toList.drop 138 = dktX8_step_6 := dk_seg dksX8_step_5 23 rfl rfl
theorem dksX8_step_7 : cX8_step.data.toList.drop 161 = dktX8_step_7 := dk_seg dksX8_step_6 23 rfl rfl
theorem dksX8_step_8 : cX8_step.data.toList.drop 183 = dktX8_step_8 := dk_seg dksX8_step_7 22 rfl rfl
theorem dX8_step_0 : decode cX8_step 0 = .ok (.aload_n 0, 1) := dk_42 (dk_at dksX8_step_0 0 rfl rfl)
theorem dX8_step_1 : decode cX8_step 1 = .ok (.getfield 20, 3) := dk_180 0 20 (dk_at dksX8_step_0 1 rfl rfl)
theorem dX8_step_4 : decode cX8_step 4 = .ok (.astore_n 2, 1) := dk_77 (dk_at dksX8_step_0 4 rfl rfl)
theorem dX8_step_5 : decode cX8_step 5 = .ok (.aload_n 2, 1) := dk_44 (dk_at dksX8_step_0 5 rfl rfl)
theorem dX8_step_6 : decode cX8_step 6 = .ok (.arraylength, 1) := dk_190 (dk_at dksX8_step_0 6 rfl rfl)
theorem dX8_step_7 : decode cX8_step 7 = .ok (.istore_n 3, 1) := dk_62 (dk_at dksX8_step_0 7 rfl rfl)
theorem dX8_step_8 : decode cX8_step 8 = .ok (.iconst 0, 1) := dk_3 (dk_at dksX8_step_0 8 rfl rfl)
theorem dX8_step_9 : decode cX8_step 9 = .ok (.istore 4, 2) := dk_54 4 (dk_at dksX8_step_0 9 rfl rfl)
theorem dX8_step_11 : decode cX8_step 11 = .ok (.iload 4, 2) := dk_21 4 (dk_at dksX8_step_0 11 rfl rfl)
theorem dX8_step_13 : decode cX8_step 13 = .ok (.iload_n 3, 1) := dk_29 (dk_at dksX8_step_0 13 rfl rfl)
theorem dX8_step_14 : decode cX8_step 14 = .ok (.if_icmp .ge 21, 3) := dk_162 0 21 (dk_at dksX8_step_0 14 rfl rfl)
theorem dX8_step_17 : decode cX8_step 17 = .ok (.aload_n 2, 1) := dk_44 (dk_at dksX8_step_0 17 rfl rfl)
theorem dX8_step_18 : decode cX8_step 18 = .ok (.iload 4, 2) := dk_21 4 (dk_at dksX8_step_0 18 rfl rfl)
theorem dX8_step_20 : decode cX8_step 20 = .ok (.aaload, 1) := dk_50 (dk_at dksX8_step_0 20 rfl rfl)
theorem dX8_step_21 : decode cX8_step 21 = .ok (.astore 5, 2) := dk_58 5 (dk_at dksX8_step_0 21 rfl rfl)
theorem dX8_step_23 : decode cX8_step 23 = .ok (.aload 5, 2) := dk_25 5 (dk_at dksX8_step_1 0 rfl rfl)
theorem dX8_step_25 : decode cX8_step 25 = .ok (.lconst 0, 1) := dk_9 (dk_at dksX8_step_1 2 rfl rfl)
theorem dX8_step_26 : decode cX8_step 26 = .ok (.invokestatic 23, 3) := dk_184 0 23 (dk_at dksX8_step_1 3 rfl rfl)
theorem dX8_step_29 : decode cX8_step 29 = .ok (.iinc 4 1, 3) := dk_132 4 1 (dk_at dksX8_step_1 6 rfl rfl)
theorem dX8_step_32 : decode cX8_step 32 = .ok (.goto (-21), 3) := dk_167 255 235 (dk_at dksX8_step_1 9 rfl rfl)
theorem dX8_step_35 : decode cX8_step 35 = .ok (.iconst 0, 1) := dk_3 (dk_at dksX8_step_1 12 rfl rfl)
theorem dX8_step_36 : decode cX8_step 36 = .ok (.istore_n 2, 1) := dk_61 (dk_at dksX8_step_1 13 rfl rfl)
theorem dX8_step_37 : decode cX8_step 37 = .ok (.iload_n 2, 1) := dk_28 (dk_at dksX8_step_1 14 rfl rfl)
theorem dX8_step_38 : decode cX8_step 38 = .ok (.aload_n 0, 1) := dk_42 (dk_at dksX8_step_1 15 rfl rfl)
theorem dX8_step_39 : decode cX8_step 39 = .ok (.getfield 3, 3) := dk_180 0 3 (dk_at dksX8_step_1 16 rfl rfl)
theorem dX8_step_42 : decode cX8_step 42 = .ok (.getfield 41, 3) := dk_180 0 41 (dk_at dksX8_step_1 19 rfl rfl)
theorem dX8_step_45 : decode cX8_step 45 = .ok (.invokevirtual 45, 3) := dk_182 0 45 (dk_at dksX8_step_2 0 rfl rfl)
theorem dX8_step_48 : decode cX8_step 48 = .ok (.if_icmp .ge 108, 3) := dk_162 0 108 (dk_at dksX8_step_2 3 rfl rfl)
theorem dX8_step_51 : decode cX8_step 51 = .ok (.iconst 0, 1) := dk_3 (dk_at dksX8_step_2 6 rfl rfl)
theorem dX8_step_52 : decode cX8_step 52 = .ok (.istore_n 3, 1) := dk_62 (dk_at dksX8_step_2 7 rfl rfl)
theorem dX8_step_53 : decode cX8_step 53 = .ok (.iload_n 3, 1) := dk_29 (dk_at dksX8_step_2 8 rfl rfl)
theorem dX8_step_54 : decode cX8_step 54 = .ok (.bipush 12, 2) := dk_16 12 (dk_at dksX8_step_2 9 rfl rfl)
theorem dX8_step_56 : decode cX8_step 56 = .ok (.if_icmp .gt 94, 3) := dk_163 0 94 (dk_at dksX8_step_2 11 rfl rfl)
theorem dX8_step_59 : decode cX8_step 59 = .ok (.aload_n 0, 1) := dk_42 (dk_at dksX8_step_2 14 rfl rfl)
theorem dX8_step_60 : decode cX8_step 60 = .ok (.getfield 17, 3) := dk_180 0 17 (dk_at dksX8_step_2 15 rfl rfl)
theorem dX8_step_63 : decode cX8_step 63 = .ok (.iload_n 2, 1) := dk_28 (dk_at dksX8_step_2 18 rfl rfl)
theorem dX8_step_64 : decode cX8_step 64 = .ok (.aaload, 1) := dk_50 (dk_at dksX8_step_2 19 rfl rfl)
theorem dX8_step_65 : decode cX8_step 65 = .ok (.iload_n 3, 1) := dk_29 (dk_at dksX8_step_2 20 rfl rfl)
theorem dX8_step_66 : decode cX8_step 66 = .ok (.laload, 1) := dk_47 (dk_at dksX8_step_2 21 rfl rfl)
theorem dX8_step_67 : decode cX8_step 67 = .ok (.lconst 0, 1) := dk_9 (dk_at dksX8_step_2 22 rfl rfl)
theorem dX8_step_68 : decode cX8_step 68 = .ok (.lcmp, 1) := dk_148 (dk_at dksX8_step_2 23 rfl rfl)
theorem dX8_step_69 : decode cX8_step 69 = .ok (.ifCond .ne 6, 3) := dk_154 0 6 (dk_at dksX8_step_3 0 rfl rfl)
theorem dX8_step_72 : decode cX8_step 72 = .ok (.goto 72, 3) := dk_167 0 72 (dk_at dksX8_step_3 3 rfl rfl)
theorem dX8_step_75 : decode cX8_step 75 = .ok (.iconst 0, 1) := dk_3 (dk_at dksX8_step_3 6 rfl rfl)
theorem dX8_step_76 : decode cX8_step 76 = .ok (.istore 4, 2) := dk_54 4 (dk_at dksX8_step_3 7 rfl rfl)
theorem dX8_step_78 : decode cX8_step 78 = .ok (.iload 4, 2) := dk_21 4 (dk_at dksX8_step_3 9 rfl rfl)
theorem dX8_step_80 : decode cX8_step 80 = .ok (.aload_n 0, 1) := dk_42 (dk_at dksX8_step_3 11 rfl rfl)
theorem dX8_step_81 : decode cX8_step 81 = .ok (.getfield 3, 3) := dk_180 0 3 (dk_at dksX8_step_3 12 rfl rfl)
theorem dX8_step_84 : decode cX8_step 84 = .ok (.getfield 41, 3) := dk_180 0 41 (dk_at dksX8_step_3 15 rfl rfl)
theorem dX8_step_87 : decode cX8_step 87 = .ok (.invokevirtual 45, 3) := dk_182 0 45 (dk_at dksX8_step_3 18 rfl rfl)
theorem dX8_step_90 : decode cX8_step 90 = .ok (.if_icmp .ge 54, 3) := dk_162 0 54 (dk_at dksX8_step_3 21 rfl rfl)
theorem dX8_step_93 : decode cX8_step 93 = .ok (.aload_n 0, 1) := dk_42 (dk_at dksX8_step_4 0 rfl rfl)
theorem dX8_step_94 : decode cX8_step 94 = .ok (.getfield 3, 3) := dk_180 0 3 (dk_at dksX8_step_4 1 rfl rfl)
theorem dX8_step_97 : decode cX8_step 97 = .ok (.iload 4, 2) := dk_21 4 (dk_at dksX8_step_4 4 rfl rfl)
theorem dX8_step_99 : decode cX8_step 99 = .ok (.iload_n 1, 1) := dk_27 (dk_at dksX8_step_4 6 rfl rfl)
theorem dX8_step_100 : decode cX8_step 100 = .ok (.iload_n 2, 1) := dk_28 (dk_at dksX8_step_4 7 rfl rfl)
theorem dX8_step_101 : decode cX8_step 101 = .ok (.iload_n 3, 1) := dk_29 (dk_at dksX8_step_4 8 rfl rfl)
theorem dX8_step_102 : decode cX8_step 102 = .ok (.bipush 12, 2) := dk_16 12 (dk_at dksX8_step_4 9 rfl rfl)
theorem dX8_step_104 : decode cX8_step 104 = .ok (.if_icmp .ne 7, 3) := dk_160 0 7 (dk_at dksX8_step_4 11 rfl rfl)
theorem dX8_step_107 : decode cX8_step 107 = .ok (.iconst (-1), 1) := dk_2 (dk_at dksX8_step_4 14 rfl rfl)
theorem dX8_step_108 : decode cX8_step 108 = .ok (.goto 4, 3) := dk_167 0 4 (dk_at dksX8_step_4 15 rfl rfl)
theorem dX8_step_111 : decode cX8_step 111 = .ok (.iload_n 3, 1) := dk_29 (dk_at dksX8_step_4 18 rfl rfl)
theorem dX8_step_112 : decode cX8_step 112 = .ok (.invokevirtual 51, 3) := dk_182 0 51 (dk_at dksX8_step_4 19 rfl rfl)
theorem dX8_step_115 : decode cX8_step 115 = .ok (.ifCond .eq 23, 3) := dk_153 0 23 (dk_at dksX8_step_5 0 rfl rfl)
theorem dX8_step_118 : decode cX8_step 118 = .ok (.aload_n 0, 1) := dk_42 (dk_at dksX8_step_5 3 rfl rfl)
theorem dX8_step_119 : decode cX8_step 119 = .ok (.getfield 20, 3) := dk_180 0 20 (dk_at dksX8_step_5 4 rfl rfl)
theorem dX8_step_122 : decode cX8_step 122 = .ok (.iload 4, 2) := dk_21 4 (dk_at dksX8_step_5 7 rfl rfl)
theorem dX8_step_124 : decode cX8_step 124 = .ok (.aaload, 1) := dk_50 (dk_at dksX8_step_5 9 rfl rfl)
theorem dX8_step_125 : decode cX8_step 125 = .ok (.iload_n 2, 1) := dk_28 (dk_at dksX8_step_5 10 rfl rfl)
theorem dX8_step_126 : decode cX8_step 126 = .ok (.dup2, 1) := dk_92 (dk_at dksX8_step_5 11 rfl rfl)
theorem dX8_step_127 : decode cX8_step 127 = .ok (.laload, 1) := dk_47 (dk_at dksX8_step_5 12 rfl rfl)
theorem dX8_step_128 : decode cX8_step 128 = .ok (.aload_n 0, 1) := dk_42 (dk_at dksX8_step_5 13 rfl rfl)
theorem dX8_step_129 : decode cX8_step 129 = .ok (.getfield 17, 3) := dk_180 0 17 (dk_at dksX8_step_5 14 rfl rfl)
theorem dX8_step_132 : decode cX8_step 132 = .ok (.iload_n 2, 1) := dk_28 (dk_at dksX8_step_5 17 rfl rfl)
theorem dX8_step_133 : decode cX8_step 133 = .ok (.aaload, 1) := dk_50 (dk_at dksX8_step_5 18 rfl rfl)
theorem dX8_step_134 : decode cX8_step 134 = .ok (.iload_n 3, 1) := dk_29 (dk_at dksX8_step_5 19 rfl rfl)
theorem dX8_step_135 : decode cX8_step 135 = .ok (.laload, 1) := dk_47 (dk_at dksX8_step_5 20 rfl rfl)
theorem dX8_step_136 : decode cX8_step 136 = .ok (.ladd, 1) := dk_97 (dk_at dksX8_step_5 21 rfl rfl)
theorem dX8_step_137 : decode cX8_step 137 = .ok (.lastore, 1) := dk_80 (dk_at dksX8_step_5 22 rfl rfl)
theorem dX8_step_138 : decode cX8_step 138 = .ok (.iinc 4 1, 3) := dk_132 4 1 (dk_at dksX8_step_6 0 rfl rfl)
theorem dX8_step_141 : decode cX8_step 141 = .ok (.goto (-63), 3) := dk_167 255 193 (dk_at dksX8_step_6 3 rfl rfl)
theorem dX8_step_144 : decode cX8_step 144 = .ok (.iinc 3 1, 3) := dk_132 3 1 (dk_at dksX8_step_6 6 rfl rfl)
theorem dX8_step_147 : decode cX8_step 147 = .ok (.goto (-94), 3) := dk_167 255 162 (dk_at dksX8_step_6 9 rfl rfl)
theorem dX8_step_150 : decode cX8_step 150 = .ok (.iinc 2 1, 3) := dk_132 2 1 (dk_at dksX8_step_6 12 rfl rfl)
theorem dX8_step_153 : decode cX8_step 153 = .ok (.goto (-116), 3) := dk_167 255 140 (dk_at dksX8_step_6 15 rfl rfl)
theorem dX8_step_156 : decode cX8_step 156 = .ok (.iconst 0, 1) := dk_3 (dk_at dksX8_step_6 18 rfl rfl)
theorem dX8_step_157 : decode cX8_step 157 = .ok (.istore_n 2, 1) := dk_61 (dk_at dksX8_step_6 19 rfl rfl)
theorem dX8_step_158 : decode cX8_step 158 = .ok (.iload_n 2, 1) := dk_28 (dk_at dksX8_step_6 20 rfl rfl)
theorem dX8_step_159 : decode cX8_step 159 = .ok (.bipush 12, 2) := dk_16 12 (dk_at dksX8_step_6 21 rfl rfl)
theorem dX8_step_161 : decode cX8_step 161 = .ok (.if_icmp .ge 28, 3) := dk_162 0 28 (dk_at dksX8_step_7 0 rfl rfl)
theorem dX8_step_164 : decode cX8_step 164 = .ok (.aload_n 0, 1) := dk_42 (dk_at dksX8_step_7 3 rfl rfl)
theorem dX8_step_165 : decode cX8_step 165 = .ok (.getfield 20, 3) := dk_180 0 20 (dk_at dksX8_step_7 4 rfl rfl)
theorem dX8_step_168 : decode cX8_step 168 = .ok (.iload_n 2, 1) := dk_28 (dk_at dksX8_step_7 7 rfl rfl)
theorem dX8_step_169 : decode cX8_step 169 = .ok (.aaload, 1) := dk_50 (dk_at dksX8_step_7 8 rfl rfl)
theorem dX8_step_170 : decode cX8_step 170 = .ok (.iconst 0, 1) := dk_3 (dk_at dksX8_step_7 9 rfl rfl)
theorem dX8_step_171 : decode cX8_step 171 = .ok (.aload_n 0, 1) := dk_42 (dk_at dksX8_step_7 10 rfl rfl)
theorem dX8_step_172 : decode cX8_step 172 = .ok (.getfield 17, 3) := dk_180 0 17 (dk_at dksX8_step_7 11 rfl rfl)
theorem dX8_step_175 : decode cX8_step 175 = .ok (.iload_n 2, 1) := dk_28 (dk_at dksX8_step_7 14 rfl rfl)
theorem dX8_step_176 : decode cX8_step 176 = .ok (.aaload, 1) := dk_50 (dk_at dksX8_step_7 15 rfl rfl)
theorem dX8_step_177 : decode cX8_step 177 = .ok (.iconst 0, 1) := dk_3 (dk_at dksX8_step_7 16 rfl rfl)
theorem dX8_step_178 : decode cX8_step 178 = .ok (.bipush 13, 2) := dk_16 13 (dk_at dksX8_step_7 17 rfl rfl)
theorem dX8_step_180 : decode cX8_step 180 = .ok (.invokestatic 55, 3) := dk_184 0 55 (dk_at dksX8_step_7 19 rfl rfl)
theorem dX8_step_183 : decode cX8_step 183 = .ok (.iinc 2 1, 3) := dk_132 2 1 (dk_at dksX8_step_8 0 rfl rfl)
theorem dX8_step_186 : decode cX8_step 186 = .ok (.goto (-28), 3) := dk_167 255 228 (dk_at dksX8_step_8 3 rfl rfl)
theorem dX8_step_189 : decode cX8_step 189 = .ok (.return_, 1) := dk_177 (dk_at dksX8_step_8 6 rfl rfl)
abbrev cX8_all : ByteArray := prog_8_method_5_code
def yX8_all : MethodName := ⟨RX8, "all", "()J"⟩
def dkwX8_all_1 : List UInt8 := [97, 64, 132, 3, 1, 167, 255, 231, 31, 173]
abbrev dktX8_all_1 : List UInt8 := dkwX8_all_1 ++ []
def dkwX8_all_0 : List UInt8 := [9, 64, 3, 62, 29, 42, 180, 0, 3, 180, 0, 41, 182, 0, 45, 162, 0, 17, 31, 42, 29, 182, 0, 61]
abbrev dktX8_all_0 : List UInt8 := dkwX8_all_0 ++ dktX8_all_1
theorem dksX8_all_0 : cX8_all.data.toList.drop 0 = dktX8_all_0 := by decide +kernel
theorem dksX8_all_1 : cX8_all.data.toList.drop 24 = dktX8_all_1 := dk_seg dksX8_all_0 24 rfl rfl
theorem dX8_all_0 : decode cX8_all 0 = .ok (.lconst 0, 1) := dk_9 (dk_at dksX8_all_0 0 rfl rfl)
theorem dX8_all_1 : decode cX8_all 1 = .ok (.lstore_n 1, 1) := dk_64 (dk_at dksX8_all_0 1 rfl rfl)
theorem dX8_all_2 : decode cX8_all 2 = .ok (.iconst 0, 1) := dk_3 (dk_at dksX8_all_0 2 rfl rfl)
theorem dX8_all_3 : decode cX8_all 3 = .ok (.istore_n 3, 1) := dk_62 (dk_at dksX8_all_0 3 rfl rfl)
theorem dX8_all_4 : decode cX8_all 4 = .ok (.iload_n 3, 1) := dk_29 (dk_at dksX8_all_0 4 rfl rfl)
theorem dX8_all_5 : decode cX8_all 5 = .ok (.aload_n 0, 1) := dk_42 (dk_at dksX8_all_0 5 rfl rfl)
theorem dX8_all_6 : decode cX8_all 6 = .ok (.getfield 3, 3) := dk_180 0 3 (dk_at dksX8_all_0 6 rfl rfl)
theorem dX8_all_9 : decode cX8_all 9 = .ok (.getfield 41, 3) := dk_180 0 41 (dk_at dksX8_all_0 9 rfl rfl)
theorem dX8_all_12 : decode cX8_all 12 = .ok (.invokevirtual 45, 3) := dk_182 0 45 (dk_at dksX8_all_0 12 rfl rfl)
theorem dX8_all_15 : decode cX8_all 15 = .ok (.if_icmp .ge 17, 3) := dk_162 0 17 (dk_at dksX8_all_0 15 rfl rfl)
theorem dX8_all_18 : decode cX8_all 18 = .ok (.lload_n 1, 1) := dk_31 (dk_at dksX8_all_0 18 rfl rfl)
theorem dX8_all_19 : decode cX8_all 19 = .ok (.aload_n 0, 1) := dk_42 (dk_at dksX8_all_0 19 rfl rfl)
theorem dX8_all_20 : decode cX8_all 20 = .ok (.iload_n 3, 1) := dk_29 (dk_at dksX8_all_0 20 rfl rfl)
theorem dX8_all_21 : decode cX8_all 21 = .ok (.invokevirtual 61, 3) := dk_182 0 61 (dk_at dksX8_all_0 21 rfl rfl)
theorem dX8_all_24 : decode cX8_all 24 = .ok (.ladd, 1) := dk_97 (dk_at dksX8_all_1 0 rfl rfl)
theorem dX8_all_25 : decode cX8_all 25 = .ok (.lstore_n 1, 1) := dk_64 (dk_at dksX8_all_1 1 rfl rfl)
theorem dX8_all_26 : decode cX8_all 26 = .ok (.iinc 3 1, 3) := dk_132 3 1 (dk_at dksX8_all_1 2 rfl rfl)
theorem dX8_all_29 : decode cX8_all 29 = .ok (.goto (-25), 3) := dk_167 255 231 (dk_at dksX8_all_1 5 rfl rfl)
theorem dX8_all_32 : decode cX8_all 32 = .ok (.lload_n 1, 1) := dk_31 (dk_at dksX8_all_1 8 rfl rfl)
theorem dX8_all_33 : decode cX8_all 33 = .ok (.lreturn, 1) := dk_173 (dk_at dksX8_all_1 9 rfl rfl)
abbrev cX8_ends : ByteArray := prog_8_method_4_code
def yX8_ends : MethodName := ⟨RX8, "ends", "(I)J"⟩
def dkwX8_ends_1 : List UInt8 := [162, 0, 21, 25, 4, 21, 6, 47, 55, 7, 32, 22, 7, 97, 65, 132, 6, 1, 167, 255, 234, 32, 173]
abbrev dktX8_ends_1 : List UInt8 := dkwX8_ends_1 ++ []
def dkwX8_ends_0 : List UInt8 := [9, 65, 42, 180, 0, 17, 27, 50, 58, 4, 25, 4, 190, 54, 5, 3, 54, 6, 21, 6, 21, 5]
abbrev dktX8_ends_0 : List UInt8 := dkwX8_ends_0 ++ dktX8_ends_1
theorem dksX8_ends_0 : cX8_ends.data.toList.drop 0 = dktX8_ends_0 := by decide +kernel
theorem dksX8_ends_1 : cX8_ends.data.toList.drop 22 = dktX8_ends_1 := dk_seg dksX8_ends_0 22 rfl rfl
theorem dX8_ends_0 : decode cX8_ends 0 = .ok (.lconst 0, 1) := dk_9 (dk_at dksX8_ends_0 0 rfl rfl)
theorem dX8_ends_1 : decode cX8_ends 1 = .ok (.lstore_n 2, 1) := dk_65 (dk_at dksX8_ends_0 1 rfl rfl)
theorem dX8_ends_2 : decode cX8_ends 2 = .ok (.aload_n 0, 1) := dk_42 (dk_at dksX8_ends_0 2 rfl rfl)
theorem dX8_ends_3 : decode cX8_ends 3 = .ok (.getfield 17, 3) := dk_180 0 17 (dk_at dksX8_ends_0 3 rfl rfl)
theorem dX8_ends_6 : decode cX8_ends 6 = .ok (.iload_n 1, 1) := dk_27 (dk_at dksX8_ends_0 6 rfl rfl)
theorem dX8_ends_7 : decode cX8_ends 7 = .ok (.aaload, 1) := dk_50 (dk_at dksX8_ends_0 7 rfl rfl)
theorem dX8_ends_8 : decode cX8_ends 8 = .ok (.astore 4, 2) := dk_58 4 (dk_at dksX8_ends_0 8 rfl rfl)
theorem dX8_ends_10 : decode cX8_ends 10 = .ok (.aload 4, 2) := dk_25 4 (dk_at dksX8_ends_0 10 rfl rfl)
theorem dX8_ends_12 : decode cX8_ends 12 = .ok (.arraylength, 1) := dk_190 (dk_at dksX8_ends_0 12 rfl rfl)
theorem dX8_ends_13 : decode cX8_ends 13 = .ok (.istore 5, 2) := dk_54 5 (dk_at dksX8_ends_0 13 rfl rfl)
theorem dX8_ends_15 : decode cX8_ends 15 = .ok (.iconst 0, 1) := dk_3 (dk_at dksX8_ends_0 15 rfl rfl)
theorem dX8_ends_16 : decode cX8_ends 16 = .ok (.istore 6, 2) := dk_54 6 (dk_at dksX8_ends_0 16 rfl rfl)
theorem dX8_ends_18 : decode cX8_ends 18 = .ok (.iload 6, 2) := dk_21 6 (dk_at dksX8_ends_0 18 rfl rfl)
theorem dX8_ends_20 : decode cX8_ends 20 = .ok (.iload 5, 2) := dk_21 5 (dk_at dksX8_ends_0 20 rfl rfl)
theorem dX8_ends_22 : decode cX8_ends 22 = .ok (.if_icmp .ge 21, 3) := dk_162 0 21 (dk_at dksX8_ends_1 0 rfl rfl)
theorem dX8_ends_25 : decode cX8_ends 25 = .ok (.aload 4, 2) := dk_25 4 (dk_at dksX8_ends_1 3 rfl rfl)
theorem dX8_ends_27 : decode cX8_ends 27 = .ok (.iload 6, 2) := dk_21 6 (dk_at dksX8_ends_1 5 rfl rfl)
theorem dX8_ends_29 : decode cX8_ends 29 = .ok (.laload, 1) := dk_47 (dk_at dksX8_ends_1 7 rfl rfl)
theorem dX8_ends_30 : decode cX8_ends 30 = .ok (.lstore 7, 2) := dk_55 7 (dk_at dksX8_ends_1 8 rfl rfl)
theorem dX8_ends_32 : decode cX8_ends 32 = .ok (.lload_n 2, 1) := dk_32 (dk_at dksX8_ends_1 10 rfl rfl)
theorem dX8_ends_33 : decode cX8_ends 33 = .ok (.lload 7, 2) := dk_22 7 (dk_at dksX8_ends_1 11 rfl rfl)
theorem dX8_ends_35 : decode cX8_ends 35 = .ok (.ladd, 1) := dk_97 (dk_at dksX8_ends_1 13 rfl rfl)
theorem dX8_ends_36 : decode cX8_ends 36 = .ok (.lstore_n 2, 1) := dk_65 (dk_at dksX8_ends_1 14 rfl rfl)
theorem dX8_ends_37 : decode cX8_ends 37 = .ok (.iinc 6 1, 3) := dk_132 6 1 (dk_at dksX8_ends_1 15 rfl rfl)
theorem dX8_ends_40 : decode cX8_ends 40 = .ok (.goto (-22), 3) := dk_167 255 234 (dk_at dksX8_ends_1 18 rfl rfl)
theorem dX8_ends_43 : decode cX8_ends 43 = .ok (.lload_n 2, 1) := dk_32 (dk_at dksX8_ends_1 21 rfl rfl)
theorem dX8_ends_44 : decode cX8_ends 44 = .ok (.lreturn, 1) := dk_173 (dk_at dksX8_ends_1 22 rfl rfl)
abbrev cX8_isEven : ByteArray := prog_8_method_6_code
def yX8_isEven : MethodName := ⟨RX8, "isEven", "()Z"⟩
def dkwX8_isEven_2 : List UInt8 := [148, 153, 0, 5, 3, 172, 42, 29, 182, 0, 61, 64, 132, 3, 1, 167, 255, 199, 4, 172]
abbrev dktX8_isEven_2 : List UInt8 := dkwX8_isEven_2 ++ []
def dkwX8_isEven_1 : List UInt8 := [29, 182, 0, 33, 154, 0, 6, 167, 0, 29, 31, 20, 0, 65, 148, 153, 0, 15, 42, 29, 182, 0, 61, 31]
abbrev dktX8_isEven_1 : List UInt8 := dkwX8_isEven_1 ++ dktX8_isEven_2
def dkwX8_isEven_0 : List UInt8 := [20, 0, 65, 64, 3, 62, 29, 42, 180, 0, 3, 180, 0, 41, 182, 0, 45, 162, 0, 49, 42, 180, 0, 3]
abbrev dktX8_isEven_0 : List UInt8 := dkwX8_isEven_0 ++ dktX8_isEven_1
theorem dksX8_isEven_0 : cX8_isEven.data.toList.drop 0 = dktX8_isEven_0 := by decide +kernel
theorem dksX8_isEven_1 : cX8_isEven.data.toList.drop 24 = dktX8_isEven_1 := dk_seg dksX8_isEven_0 24 rfl rfl
theorem dksX8_isEven_2 : cX8_isEven.data.toList.drop 48 = dktX8_isEven_2 := dk_seg dksX8_isEven_1 24 rfl rfl
theorem dX8_isEven_0 : decode cX8_isEven 0 = .ok (.ldc2_w 65, 3) := dk_20 0 65 (dk_at dksX8_isEven_0 0 rfl rfl)
theorem dX8_isEven_3 : decode cX8_isEven 3 = .ok (.lstore_n 1, 1) := dk_64 (dk_at dksX8_isEven_0 3 rfl rfl)
theorem dX8_isEven_4 : decode cX8_isEven 4 = .ok (.iconst 0, 1) := dk_3 (dk_at dksX8_isEven_0 4 rfl rfl)
theorem dX8_isEven_5 : decode cX8_isEven 5 = .ok (.istore_n 3, 1) := dk_62 (dk_at dksX8_isEven_0 5 rfl rfl)
theorem dX8_isEven_6 : decode cX8_isEven 6 = .ok (.iload_n 3, 1) := dk_29 (dk_at dksX8_isEven_0 6 rfl rfl)
theorem dX8_isEven_7 : decode cX8_isEven 7 = .ok (.aload_n 0, 1) := dk_42 (dk_at dksX8_isEven_0 7 rfl rfl)
theorem dX8_isEven_8 : decode cX8_isEven 8 = .ok (.getfield 3, 3) := dk_180 0 3 (dk_at dksX8_isEven_0 8 rfl rfl)
theorem dX8_isEven_11 : decode cX8_isEven 11 = .ok (.getfield 41, 3) := dk_180 0 41 (dk_at dksX8_isEven_0 11 rfl rfl)
theorem dX8_isEven_14 : decode cX8_isEven 14 = .ok (.invokevirtual 45, 3) := dk_182 0 45 (dk_at dksX8_isEven_0 14 rfl rfl)
theorem dX8_isEven_17 : decode cX8_isEven 17 = .ok (.if_icmp .ge 49, 3) := dk_162 0 49 (dk_at dksX8_isEven_0 17 rfl rfl)
theorem dX8_isEven_20 : decode cX8_isEven 20 = .ok (.aload_n 0, 1) := dk_42 (dk_at dksX8_isEven_0 20 rfl rfl)
theorem dX8_isEven_21 : decode cX8_isEven 21 = .ok (.getfield 3, 3) := dk_180 0 3 (dk_at dksX8_isEven_0 21 rfl rfl)
theorem dX8_isEven_24 : decode cX8_isEven 24 = .ok (.iload_n 3, 1) := dk_29 (dk_at dksX8_isEven_1 0 rfl rfl)
theorem dX8_isEven_25 : decode cX8_isEven 25 = .ok (.invokevirtual 33, 3) := dk_182 0 33 (dk_at dksX8_isEven_1 1 rfl rfl)
theorem dX8_isEven_28 : decode cX8_isEven 28 = .ok (.ifCond .ne 6, 3) := dk_154 0 6 (dk_at dksX8_isEven_1 4 rfl rfl)
theorem dX8_isEven_31 : decode cX8_isEven 31 = .ok (.goto 29, 3) := dk_167 0 29 (dk_at dksX8_isEven_1 7 rfl rfl)
theorem dX8_isEven_34 : decode cX8_isEven 34 = .ok (.lload_n 1, 1) := dk_31 (dk_at dksX8_isEven_1 10 rfl rfl)
theorem dX8_isEven_35 : decode cX8_isEven 35 = .ok (.ldc2_w 65, 3) := dk_20 0 65 (dk_at dksX8_isEven_1 11 rfl rfl)
theorem dX8_isEven_38 : decode cX8_isEven 38 = .ok (.lcmp, 1) := dk_148 (dk_at dksX8_isEven_1 14 rfl rfl)
theorem dX8_isEven_39 : decode cX8_isEven 39 = .ok (.ifCond .eq 15, 3) := dk_153 0 15 (dk_at dksX8_isEven_1 15 rfl rfl)
theorem dX8_isEven_42 : decode cX8_isEven 42 = .ok (.aload_n 0, 1) := dk_42 (dk_at dksX8_isEven_1 18 rfl rfl)
theorem dX8_isEven_43 : decode cX8_isEven 43 = .ok (.iload_n 3, 1) := dk_29 (dk_at dksX8_isEven_1 19 rfl rfl)
theorem dX8_isEven_44 : decode cX8_isEven 44 = .ok (.invokevirtual 61, 3) := dk_182 0 61 (dk_at dksX8_isEven_1 20 rfl rfl)
theorem dX8_isEven_47 : decode cX8_isEven 47 = .ok (.lload_n 1, 1) := dk_31 (dk_at dksX8_isEven_1 23 rfl rfl)
theorem dX8_isEven_48 : decode cX8_isEven 48 = .ok (.lcmp, 1) := dk_148 (dk_at dksX8_isEven_2 0 rfl rfl)
theorem dX8_isEven_49 : decode cX8_isEven 49 = .ok (.ifCond .eq 5, 3) := dk_153 0 5 (dk_at dksX8_isEven_2 1 rfl rfl)
theorem dX8_isEven_52 : decode cX8_isEven 52 = .ok (.iconst 0, 1) := dk_3 (dk_at dksX8_isEven_2 4 rfl rfl)
theorem dX8_isEven_53 : decode cX8_isEven 53 = .ok (.ireturn, 1) := dk_172 (dk_at dksX8_isEven_2 5 rfl rfl)
theorem dX8_isEven_54 : decode cX8_isEven 54 = .ok (.aload_n 0, 1) := dk_42 (dk_at dksX8_isEven_2 6 rfl rfl)
theorem dX8_isEven_55 : decode cX8_isEven 55 = .ok (.iload_n 3, 1) := dk_29 (dk_at dksX8_isEven_2 7 rfl rfl)
theorem dX8_isEven_56 : decode cX8_isEven 56 = .ok (.invokevirtual 61, 3) := dk_182 0 61 (dk_at dksX8_isEven_2 8 rfl rfl)
theorem dX8_isEven_59 : decode cX8_isEven 59 = .ok (.lstore_n 1, 1) := dk_64 (dk_at dksX8_isEven_2 11 rfl rfl)
theorem dX8_isEven_60 : decode cX8_isEven 60 = .ok (.iinc 3 1, 3) := dk_132 3 1 (dk_at dksX8_isEven_2 12 rfl rfl)
theorem dX8_isEven_63 : decode cX8_isEven 63 = .ok (.goto (-57), 3) := dk_167 255 199 (dk_at dksX8_isEven_2 15 rfl rfl)
theorem dX8_isEven_66 : decode cX8_isEven 66 = .ok (.iconst 1, 1) := dk_4 (dk_at dksX8_isEven_2 18 rfl rfl)
theorem dX8_isEven_67 : decode cX8_isEven 67 = .ok (.ireturn, 1) := dk_172 (dk_at dksX8_isEven_2 19 rfl rfl)
theorem q156 : (Jvm.Cond.initialized "MoleBoard$Lots") ∈ lw_all := lw_g (lw_at lw_m1 12 rfl) rfl
theorem q673 : (Jvm.Cond.instantiable "MoleBoard$Lots" (3 : Nat)) ∈ lw_all := lw_g (lw_at lw_m3 49 rfl) rfl
theorem q675 : (Jvm.Cond.instanceMethod ({ cls := "MoleBoard$Lots", name := "<init>", desc := "(LMoleBoard;)V" } : Jvm.MethodName)) ∈ lw_all := lw_g (lw_at lw_m3 51 rfl) rfl
theorem q676 : (Jvm.Cond.code ({ cls := "MoleBoard$Lots", name := "<init>", desc := "(LMoleBoard;)V" } : Jvm.MethodName) prog_8_method_1_code (2 : Nat) (Option.none : Option Jvm.ClassFile.FieldType)) ∈ lw_all := lw_g (lw_at lw_m3 52 rfl) rfl
theorem q677 : (Jvm.Cond.methodLink "MoleBoard$Lots" (9 : Nat) ({ cls := "java/lang/Object", name := "<init>", desc := "()V" } : Jvm.MethodName)) ∈ lw_all := lw_g (lw_at lw_m3 53 rfl) rfl
theorem q678 : (Jvm.Cond.classLink "MoleBoard$Lots" (15 : Nat) "[[J") ∈ lw_all := lw_g (lw_at lw_m3 54 rfl) rfl
theorem q680 : (Jvm.Cond.fieldLink "MoleBoard$Lots" (17 : Nat) "MoleBoard$Lots" "rows" "[[J") ∈ lw_all := lw_g (lw_at lw_m3 56 rfl) rfl
theorem q681 : (Jvm.Cond.fieldLink "MoleBoard$Lots" (20 : Nat) "MoleBoard$Lots" "then" "[[J") ∈ lw_all := lw_g (lw_at lw_m3 57 rfl) rfl
theorem q682 : (Jvm.Cond.fieldLink "MoleBoard$Lots" (3 : Nat) "MoleBoard$Lots" "this$0" "LMoleBoard;") ∈ lw_all := lw_g (lw_at lw_m3 58 rfl) rfl
theorem q683 : (Jvm.Cond.laysFinal "MoleBoard$Lots" "MoleBoard$Lots" "rows" "[[J") ∈ lw_all := lw_g (lw_at lw_m3 59 rfl) rfl
theorem q684 : (Jvm.Cond.soleField "MoleBoard$Lots" "rows") ∈ lw_all := lw_g (lw_at lw_m3 60 rfl) rfl
theorem q685 : (Jvm.Cond.laysFinal "MoleBoard$Lots" "MoleBoard$Lots" "then" "[[J") ∈ lw_all := lw_g (lw_at lw_m3 61 rfl) rfl
theorem q686 : (Jvm.Cond.soleField "MoleBoard$Lots" "then") ∈ lw_all := lw_g (lw_at lw_m3 62 rfl) rfl
theorem q687 : (Jvm.Cond.laysFinal "MoleBoard$Lots" "MoleBoard$Lots" "this$0" "LMoleBoard;") ∈ lw_all := lw_g (lw_at lw_m3 63 rfl) rfl
theorem q688 : (Jvm.Cond.soleField "MoleBoard$Lots" "this$0") ∈ lw_all := lw_g (lw_at lw_m3 64 rfl) rfl
theorem q689 : (Jvm.Cond.superclass "MoleBoard$Lots" "java/lang/Object") ∈ lw_all := lw_g (lw_at lw_m3 65 rfl) rfl
theorem q719 : (Jvm.Cond.fieldLinkNest "MoleBoard$Lots" (41 : Nat) "MoleBoard" "now" "LMoleBoard$Board;" "MoleBoard") ∈ lw_tbl := lw_at lw_m3 95 rfl
theorem q1118 : (Jvm.Cond.selects "MoleBoard$Lots" ({ cls := "java/lang/Object", name := "getClass", desc := "()Ljava/lang/Class;" } : Jvm.MethodName) ({ cls := "java/lang/Object", name := "getClass", desc := "()Ljava/lang/Class;" } : Jvm.MethodName)) ∈ lw_all := lw_g (lw_at lw_m5 14 rfl) rfl
theorem q1507 : (Jvm.Cond.instanceMethod ({ cls := "MoleBoard$Lots", name := "lays", desc := "(II)LMoleBoard$Lots;" } : Jvm.MethodName)) ∈ lw_all := lw_g (lw_at lw_m6 163 rfl) rfl
theorem q1508 : (Jvm.Cond.selects "MoleBoard$Lots" ({ cls := "MoleBoard$Lots", name := "lays", desc := "(II)LMoleBoard$Lots;" } : Jvm.MethodName) ({ cls := "MoleBoard$Lots", name := "lays", desc := "(II)LMoleBoard$Lots;" } : Jvm.MethodName)) ∈ lw_all := lw_g (lw_at lw_m6 164 rfl) rfl
theorem q1509 : (Jvm.Cond.code ({ cls := "MoleBoard$Lots", name := "lays", desc := "(II)LMoleBoard$Lots;" } : Jvm.MethodName) prog_8_method_2_code (4 : Nat) (Option.some (Jvm.ClassFile.FieldType.object "MoleBoard$Lots"))) ∈ lw_all := lw_g (lw_at lw_m6 165 rfl) rfl
theorem q1510 : (Jvm.Cond.methodLink "MoleBoard$Lots" (23 : Nat) ({ cls := "java/util/Arrays", name := "fill", desc := "([JJ)V" } : Jvm.MethodName)) ∈ lw_all := lw_g (lw_at lw_m6 166 rfl) rfl
theorem q1513 : (Jvm.Cond.methodLinkNest "MoleBoard$Lots" (29 : Nat) ({ cls := "MoleBoard", name := "isHole", desc := "(J)Z" } : Jvm.MethodName) "MoleBoard") ∈ lw_tbl := lw_at lw_m6 169 rfl
theorem q1514 : (Jvm.Cond.methodLinkNest "MoleBoard$Lots" (33 : Nat) ({ cls := "MoleBoard", name := "isOpen", desc := "(I)Z" } : Jvm.MethodName) "MoleBoard") ∈ lw_tbl := lw_at lw_m6 170 rfl
theorem q1515 : (Jvm.Cond.methodLink "MoleBoard$Lots" (37 : Nat) ({ cls := "MoleBoard$Lots", name := "step", desc := "(I)V" } : Jvm.MethodName)) ∈ lw_all := lw_g (lw_at lw_m6 171 rfl) rfl
theorem q1516 : (Jvm.Cond.privateMethod ({ cls := "MoleBoard$Lots", name := "step", desc := "(I)V" } : Jvm.MethodName)) ∈ lw_tbl := lw_at lw_m6 172 rfl
theorem q1517 : (Jvm.Cond.instanceMethod ({ cls := "MoleBoard$Lots", name := "step", desc := "(I)V" } : Jvm.MethodName)) ∈ lw_all := lw_g (lw_at lw_m6 173 rfl) rfl
theorem q1518 : (Jvm.Cond.code ({ cls := "MoleBoard$Lots", name := "step", desc := "(I)V" } : Jvm.MethodName) prog_8_method_3_code (6 : Nat) (Option.none : Option Jvm.ClassFile.FieldType)) ∈ lw_all := lw_g (lw_at lw_m6 174 rfl) rfl
theorem q1519 : (Jvm.Cond.methodLink "MoleBoard$Lots" (45 : Nat) ({ cls := "MoleBoard$Board", name := "holes", desc := "()I" } : Jvm.MethodName)) ∈ lw_all := lw_g (lw_at lw_m6 175 rfl) rfl
theorem q1520 : (Jvm.Cond.methodLinkNest "MoleBoard$Lots" (51 : Nat) ({ cls := "MoleBoard", name := "mayFollow", desc := "(IIII)Z" } : Jvm.MethodName) "MoleBoard") ∈ lw_tbl := lw_at lw_m6 176 rfl
theorem q1521 : (Jvm.Cond.methodLink "MoleBoard$Lots" (55 : Nat) ({ cls := "java/lang/System", name := "arraycopy", desc := "(Ljava/lang/Object;ILjava/lang/Object;II)V" } : Jvm.MethodName)) ∈ lw_all := lw_g (lw_at lw_m6 177 rfl) rfl
theorem q1523 : (Jvm.Cond.instanceMethod ({ cls := "MoleBoard$Lots", name := "all", desc := "()J" } : Jvm.MethodName)) ∈ lw_all := lw_g (lw_at lw_m6 179 rfl) rfl
theorem q1524 : (Jvm.Cond.selects "MoleBoard$Lots" ({ cls := "MoleBoard$Lots", name := "all", desc := "()J" } : Jvm.MethodName) ({ cls := "MoleBoard$Lots", name := "all", desc := "()J" } : Jvm.MethodName)) ∈ lw_all := lw_g (lw_at lw_m6 180 rfl) rfl
theorem q1525 : (Jvm.Cond.code ({ cls := "MoleBoard$Lots", name := "all", desc := "()J" } : Jvm.MethodName) prog_8_method_5_code (4 : Nat) (Option.some Jvm.ClassFile.FieldType.long)) ∈ lw_all := lw_g (lw_at lw_m6 181 rfl) rfl
theorem q1526 : (Jvm.Cond.methodLink "MoleBoard$Lots" (61 : Nat) ({ cls := "MoleBoard$Lots", name := "ends", desc := "(I)J" } : Jvm.MethodName)) ∈ lw_all := lw_g (lw_at lw_m6 182 rfl) rfl
theorem q1527 : (Jvm.Cond.instanceMethod ({ cls := "MoleBoard$Lots", name := "ends", desc := "(I)J" } : Jvm.MethodName)) ∈ lw_all := lw_g (lw_at lw_m6 183 rfl) rfl
theorem q1528 : (Jvm.Cond.selects "MoleBoard$Lots" ({ cls := "MoleBoard$Lots", name := "ends", desc := "(I)J" } : Jvm.MethodName) ({ cls := "MoleBoard$Lots", name := "ends", desc := "(I)J" } : Jvm.MethodName)) ∈ lw_all := lw_g (lw_at lw_m6 184 rfl) rfl
theorem q1529 : (Jvm.Cond.code ({ cls := "MoleBoard$Lots", name := "ends", desc := "(I)J" } : Jvm.MethodName) prog_8_method_4_code (9 : Nat) (Option.some Jvm.ClassFile.FieldType.long)) ∈ lw_all := lw_g (lw_at lw_m6 185 rfl) rfl
theorem q1541 : (Jvm.Cond.instanceMethod ({ cls := "MoleBoard$Lots", name := "isEven", desc := "()Z" } : Jvm.MethodName)) ∈ lw_all := lw_g (lw_at lw_m6 197 rfl) rfl
theorem q1542 : (Jvm.Cond.selects "MoleBoard$Lots" ({ cls := "MoleBoard$Lots", name := "isEven", desc := "()Z" } : Jvm.MethodName) ({ cls := "MoleBoard$Lots", name := "isEven", desc := "()Z" } : Jvm.MethodName)) ∈ lw_all := lw_g (lw_at lw_m6 198 rfl) rfl
theorem q1543 : (Jvm.Cond.code ({ cls := "MoleBoard$Lots", name := "isEven", desc := "()Z" } : Jvm.MethodName) prog_8_method_6_code (4 : Nat) (Option.some Jvm.ClassFile.FieldType.boolean)) ∈ lw_all := lw_g (lw_at lw_m6 199 rfl) rfl
theorem q1544 : (Jvm.Cond.constantLong "MoleBoard$Lots" (65 : Nat) (-1 : Int64)) ∈ lw_all := lw_g (lw_at lw_m6 200 rfl) rfl
theorem q2665 : (Jvm.Cond.castable "MoleBoard$Lots" "java/lang/Object") ∈ lw_tbl := lw_at lw_m11 121 rfl
/-! MoleBoard$Blows -/
set_option maxRecDepth 100000
abbrev cX9_init : ByteArray := prog_3_method_1_code
def yX9_init : MethodName := ⟨RX9, "<init>", "(LMoleBoard;)V"⟩
def dkwX9_init_0 : List UInt8 := [42, 43, 181, 0, 3, 42, 183, 0, 9, 42, 16, 60, 188, 10, 181, 0, 15, 177]
abbrev dktX9_init_0 : List UInt8 := dkwX9_init_0 ++ []
theorem dksX9_init_0 : cX9_init.data.toList.drop 0 = dktX9_init_0 := by decide +kernel
theorem dX9_init_0 : decode cX9_init 0 = .ok (.aload_n 0, 1) := dk_42 (dk_at dksX9_init_0 0 rfl rfl)
theorem dX9_init_1 : decode cX9_init 1 = .ok (.aload_n 1, 1) := dk_43 (dk_at dksX9_init_0 1 rfl rfl)
theorem dX9_init_2 : decode cX9_init 2 = .ok (.putfield 3, 3) := dk_181 0 3 (dk_at dksX9_init_0 2 rfl rfl)
theorem dX9_init_5 : decode cX9_init 5 = .ok (.aload_n 0, 1) := dk_42 (dk_at dksX9_init_0 5 rfl rfl)
theorem dX9_init_6 : decode cX9_init 6 = .ok (.invokespecial 9, 3) := dk_183 0 9 (dk_at dksX9_init_0 6 rfl rfl)
theorem dX9_init_9 : decode cX9_init 9 = .ok (.aload_n 0, 1) := dk_42 (dk_at dksX9_init_0 9 rfl rfl)
theorem dX9_init_10 : decode cX9_init 10 = .ok (.bipush 60, 2) := dk_16 60 (dk_at dksX9_init_0 10 rfl rfl)
theorem dX9_init_12 : decode cX9_init 12 = .ok (.newarray .int, 2) := dk_188_10 (dk_at dksX9_init_0 12 rfl rfl)
theorem dX9_init_14 : decode cX9_init 14 = .ok (.putfield 15, 3) := dk_181 0 15 (dk_at dksX9_init_0 14 rfl rfl)
theorem dX9_init_17 : decode cX9_init 17 = .ok (.return_, 1) := dk_177 (dk_at dksX9_init_0 17 rfl rfl)
abbrev cX9_goes : ByteArray := prog_3_method_2_code
def yX9_goes : MethodName := ⟨RX9, "goes", "(LMoleBoard$Slot;I)LMoleBoard$Blows;"⟩
def dkwX9_goes_3 : List UInt8 := [167, 255, 222, 42, 176]
abbrev dktX9_goes_3 : List UInt8 := dkwX9_goes_3 ++ []
def dkwX9_goes_2 : List UInt8 := [21, 4, 182, 0, 45, 136, 43, 21, 4, 4, 96, 182, 0, 45, 136, 28, 182, 0, 49, 132, 4, 2]
abbrev dktX9_goes_2 : List UInt8 := dkwX9_goes_2 ++ dktX9_goes_3
def dkwX9_goes_1 : List UInt8 := [181, 0, 33, 42, 3, 181, 0, 36, 3, 54, 4, 21, 4, 43, 182, 0, 39, 162, 0, 31, 42, 45, 43]
abbrev dktX9_goes_1 : List UInt8 := dkwX9_goes_1 ++ dktX9_goes_2
def dkwX9_goes_0 : List UInt8 := [42, 180, 0, 3, 182, 0, 19, 78, 42, 180, 0, 15, 3, 184, 0, 23, 42, 3, 181, 0, 29, 42, 3]
abbrev dktX9_goes_0 : List UInt8 := dkwX9_goes_0 ++ dktX9_goes_1
theorem dksX9_goes_0 : cX9_goes.data.toList.drop 0 = dktX9_goes_0 := by decide +kernel
theorem dksX9_goes_1 : cX9_goes.data.toList.drop 23 = dktX9_goes_1 := dk_seg dksX9_goes_0 23 rfl rfl
theorem dksX9_goes_2 : cX9_goes.data.toList.drop 46 = dktX9_goes_2 := dk_seg dksX9_goes_1 23 rfl rfl
theorem dksX9_goes_3 : cX9_goes.data.toList.drop 68 = dktX9_goes_3 := dk_seg dksX9_goes_2 22 rfl rfl
theorem dX9_goes_0 : decode cX9_goes 0 = .ok (.aload_n 0, 1) := dk_42 (dk_at dksX9_goes_0 0 rfl rfl)
theorem dX9_goes_1 : decode cX9_goes 1 = .ok (.getfield 3, 3) := dk_180 0 3 (dk_at dksX9_goes_0 1 rfl rfl)
theorem dX9_goes_4 : decode cX9_goes 4 = .ok (.invokevirtual 19, 3) := dk_182 0 19 (dk_at dksX9_goes_0 4 rfl rfl)
theorem dX9_goes_7 : decode cX9_goes 7 = .ok (.astore_n 3, 1) := dk_78 (dk_at dksX9_goes_0 7 rfl rfl)
theorem dX9_goes_8 : decode cX9_goes 8 = .ok (.aload_n 0, 1) := dk_42 (dk_at dksX9_goes_0 8 rfl rfl)
theorem dX9_goes_9 : decode cX9_goes 9 = .ok (.getfield 15, 3) := dk_180 0 15 (dk_at dksX9_goes_0 9 rfl rfl)
theorem dX9_goes_12 : decode cX9_goes 12 = .ok (.iconst 0, 1) := dk_3 (dk_at dksX9_goes_0 12 rfl rfl)
theorem dX9_goes_13 : decode cX9_goes 13 = .ok (.invokestatic 23, 3) := dk_184 0 23 (dk_at dksX9_goes_0 13 rfl rfl)
theorem dX9_goes_16 : decode cX9_goes 16 = .ok (.aload_n 0, 1) := dk_42 (dk_at dksX9_goes_0 16 rfl rfl)
theorem dX9_goes_17 : decode cX9_goes 17 = .ok (.iconst 0, 1) := dk_3 (dk_at dksX9_goes_0 17 rfl rfl)
theorem dX9_goes_18 : decode cX9_goes 18 = .ok (.putfield 29, 3) := dk_181 0 29 (dk_at dksX9_goes_0 18 rfl rfl)
theorem dX9_goes_21 : decode cX9_goes 21 = .ok (.aload_n 0, 1) := dk_42 (dk_at dksX9_goes_0 21 rfl rfl)
theorem dX9_goes_22 : decode cX9_goes 22 = .ok (.iconst 0, 1) := dk_3 (dk_at dksX9_goes_0 22 rfl rfl)
theorem dX9_goes_23 : decode cX9_goes 23 = .ok (.putfield 33, 3) := dk_181 0 33 (dk_at dksX9_goes_1 0 rfl rfl)
theorem dX9_goes_26 : decode cX9_goes 26 = .ok (.aload_n 0, 1) := dk_42 (dk_at dksX9_goes_1 3 rfl rfl)
theorem dX9_goes_27 : decode cX9_goes 27 = .ok (.iconst 0, 1) := dk_3 (dk_at dksX9_goes_1 4 rfl rfl)
theorem dX9_goes_28 : decode cX9_goes 28 = .ok (.putfield 36, 3) := dk_181 0 36 (dk_at dksX9_goes_1 5 rfl rfl)
theorem dX9_goes_31 : decode cX9_goes 31 = .ok (.iconst 0, 1) := dk_3 (dk_at dksX9_goes_1 8 rfl rfl)
theorem dX9_goes_32 : decode cX9_goes 32 = .ok (.istore 4, 2) := dk_54 4 (dk_at dksX9_goes_1 9 rfl rfl)
theorem dX9_goes_34 : decode cX9_goes 34 = .ok (.iload 4, 2) := dk_21 4 (dk_at dksX9_goes_1 11 rfl rfl)
theorem dX9_goes_36 : decode cX9_goes 36 = .ok (.aload_n 1, 1) := dk_43 (dk_at dksX9_goes_1 13 rfl rfl)
theorem dX9_goes_37 : decode cX9_goes 37 = .ok (.invokevirtual 39, 3) := dk_182 0 39 (dk_at dksX9_goes_1 14 rfl rfl)
theorem dX9_goes_40 : decode cX9_goes 40 = .ok (.if_icmp .ge 31, 3) := dk_162 0 31 (dk_at dksX9_goes_1 17 rfl rfl)
theorem dX9_goes_43 : decode cX9_goes 43 = .ok (.aload_n 0, 1) := dk_42 (dk_at dksX9_goes_1 20 rfl rfl)
theorem dX9_goes_44 : decode cX9_goes 44 = .ok (.aload_n 3, 1) := dk_45 (dk_at dksX9_goes_1 21 rfl rfl)
theorem dX9_goes_45 : decode cX9_goes 45 = .ok (.aload_n 1, 1) := dk_43 (dk_at dksX9_goes_1 22 rfl rfl)
theorem dX9_goes_46 : decode cX9_goes 46 = .ok (.iload 4, 2) := dk_21 4 (dk_at dksX9_goes_2 0 rfl rfl)
theorem dX9_goes_48 : decode cX9_goes 48 = .ok (.invokevirtual 45, 3) := dk_182 0 45 (dk_at dksX9_goes_2 2 rfl rfl)
theorem dX9_goes_51 : decode cX9_goes 51 = .ok (.l2i, 1) := dk_136 (dk_at dksX9_goes_2 5 rfl rfl)
theorem dX9_goes_52 : decode cX9_goes 52 = .ok (.aload_n 1, 1) := dk_43 (dk_at dksX9_goes_2 6 rfl rfl)
theorem dX9_goes_53 : decode cX9_goes 53 = .ok (.iload 4, 2) := dk_21 4 (dk_at dksX9_goes_2 7 rfl rfl)
theorem dX9_goes_55 : decode cX9_goes 55 = .ok (.iconst 1, 1) := dk_4 (dk_at dksX9_goes_2 9 rfl rfl)
theorem dX9_goes_56 : decode cX9_goes 56 = .ok (.iadd, 1) := dk_96 (dk_at dksX9_goes_2 10 rfl rfl)
theorem dX9_goes_57 : decode cX9_goes 57 = .ok (.invokevirtual 45, 3) := dk_182 0 45 (dk_at dksX9_goes_2 11 rfl rfl)
theorem dX9_goes_60 : decode cX9_goes 60 = .ok (.l2i, 1) := dk_136 (dk_at dksX9_goes_2 14 rfl rfl)
theorem dX9_goes_61 : decode cX9_goes 61 = .ok (.iload_n 2, 1) := dk_28 (dk_at dksX9_goes_2 15 rfl rfl)
theorem dX9_goes_62 : decode cX9_goes 62 = .ok (.invokevirtual 49, 3) := dk_182 0 49 (dk_at dksX9_goes_2 16 rfl rfl)
theorem dX9_goes_65 : decode cX9_goes 65 = .ok (.iinc 4 2, 3) := dk_132 4 2 (dk_at dksX9_goes_2 19 rfl rfl)
theorem dX9_goes_68 : decode cX9_goes 68 = .ok (.goto (-34), 3) := dk_167 255 222 (dk_at dksX9_goes_3 0 rfl rfl)
theorem dX9_goes_71 : decode cX9_goes 71 = .ok (.aload_n 0, 1) := dk_42 (dk_at dksX9_goes_3 3 rfl rfl)
theorem dX9_goes_72 : decode cX9_goes 72 = .ok (.areturn, 1) := dk_176 (dk_at dksX9_goes_3 4 rfl rfl)
abbrev cX9_strikes : ByteArray := prog_3_method_3_code
def yX9_strikes : MethodName := ⟨RX9, "strikes", "(LMoleBoard$Game;III)V"⟩
def dkwX9_strikes_5 : List UInt8 := [42, 89, 180, 0, 29, 4, 96, 181, 0, 29, 132, 5, 1, 167, 255, 128, 177]
abbrev dktX9_strikes_5 : List UInt8 := dkwX9_strikes_5 ++ []
def dkwX9_strikes_4 : List UInt8 := [21, 5, 182, 0, 61, 180, 0, 77, 153, 0, 16, 42, 89, 180, 0, 33, 4, 96, 181, 0, 33, 167, 0, 13]
abbrev dktX9_strikes_4 : List UInt8 := dkwX9_strikes_4 ++ dktX9_strikes_5
def dkwX9_strikes_3 : List UInt8 := [29, 43, 180, 0, 74, 21, 5, 46, 100, 21, 4, 162, 0, 7, 4, 167, 0, 4, 3, 96, 181, 0, 36, 43]
abbrev dktX9_strikes_3 : List UInt8 := dkwX9_strikes_3 ++ dktX9_strikes_4
def dkwX9_strikes_2 : List UInt8 := [153, 0, 6, 167, 0, 79, 42, 180, 0, 15, 21, 5, 92, 46, 4, 28, 120, 128, 79, 42, 89, 180, 0, 36]
abbrev dktX9_strikes_2 : List UInt8 := dkwX9_strikes_2 ++ dktX9_strikes_3
def dkwX9_strikes_1 : List UInt8 := [21, 5, 182, 0, 61, 28, 182, 0, 65, 153, 0, 96, 42, 180, 0, 15, 21, 5, 46, 28, 184, 0, 71]
abbrev dktX9_strikes_1 : List UInt8 := dkwX9_strikes_1 ++ dktX9_strikes_2
def dkwX9_strikes_0 : List UInt8 := [3, 54, 5, 21, 5, 43, 180, 0, 53, 162, 0, 125, 43, 21, 5, 29, 182, 0, 57, 153, 0, 109, 43]
abbrev dktX9_strikes_0 : List UInt8 := dkwX9_strikes_0 ++ dktX9_strikes_1
theorem dksX9_strikes_0 : cX9_strikes.data.toList.drop 0 = dktX9_strikes_0 := by decide +kernel
theorem dksX9_strikes_1 : cX9_strikes.data.toList.drop 23 = dktX9_strikes_1 := dk_seg dksX9_strikes_0 23 rfl rfl
theorem dksX9_strikes_2 : cX9_strikes.data.toList.drop 46 = dktX9_strikes_2 := dk_seg dksX9_strikes_1 23 rfl rfl
theorem dksX9_strikes_3 : cX9_strikes.data.toList.drop 70 = dktX9_strikes_3 := dk_seg dksX9_strikes_2 24 rfl rfl
theorem dksX9_strikes_4 : cX9_strikes.data.toList.drop 94 = dktX9_strikes_4 := dk_seg dksX9_strikes_3 24 rfl rfl
theorem dksX9_strikes_5 : cX9_strikes.data.toList.drop 118 = dktX9_strikes_5 := dk_seg dksX9_strikes_4 24 rfl rfl
theorem dX9_strikes_0 : decode cX9_strikes 0 = .ok (.iconst 0, 1) := dk_3 (dk_at dksX9_strikes_0 0 rfl rfl)
theorem dX9_strikes_1 : decode cX9_strikes 1 = .ok (.istore 5, 2) := dk_54 5 (dk_at dksX9_strikes_0 1 rfl rfl)
theorem dX9_strikes_3 : decode cX9_strikes 3 = .ok (.iload 5, 2) := dk_21 5 (dk_at dksX9_strikes_0 3 rfl rfl)
theorem dX9_strikes_5 : decode cX9_strikes 5 = .ok (.aload_n 1, 1) := dk_43 (dk_at dksX9_strikes_0 5 rfl rfl)
theorem dX9_strikes_6 : decode cX9_strikes 6 = .ok (.getfield 53, 3) := dk_180 0 53 (dk_at dksX9_strikes_0 6 rfl rfl)
theorem dX9_strikes_9 : decode cX9_strikes 9 = .ok (.if_icmp .ge 125, 3) := dk_162 0 125 (dk_at dksX9_strikes_0 9 rfl rfl)
theorem dX9_strikes_12 : decode cX9_strikes 12 = .ok (.aload_n 1, 1) := dk_43 (dk_at dksX9_strikes_0 12 rfl rfl)
theorem dX9_strikes_13 : decode cX9_strikes 13 = .ok (.iload 5, 2) := dk_21 5 (dk_at dksX9_strikes_0 13 rfl rfl)
theorem dX9_strikes_15 : decode cX9_strikes 15 = .ok (.iload_n 3, 1) := dk_29 (dk_at dksX9_strikes_0 15 rfl rfl)
theorem dX9_strikes_16 : decode cX9_strikes 16 = .ok (.invokevirtual 57, 3) := dk_182 0 57 (dk_at dksX9_strikes_0 16 rfl rfl)
theorem dX9_strikes_19 : decode cX9_strikes 19 = .ok (.ifCond .eq 109, 3) := dk_153 0 109 (dk_at dksX9_strikes_0 19 rfl rfl)
theorem dX9_strikes_22 : decode cX9_strikes 22 = .ok (.aload_n 1, 1) := dk_43 (dk_at dksX9_strikes_0 22 rfl rfl)
theorem dX9_strikes_23 : decode cX9_strikes 23 = .ok (.iload 5, 2) := dk_21 5 (dk_at dksX9_strikes_1 0 rfl rfl)
theorem dX9_strikes_25 : decode cX9_strikes 25 = .ok (.invokevirtual 61, 3) := dk_182 0 61 (dk_at dksX9_strikes_1 2 rfl rfl)
theorem dX9_strikes_28 : decode cX9_strikes 28 = .ok (.iload_n 2, 1) := dk_28 (dk_at dksX9_strikes_1 5 rfl rfl)
theorem dX9_strikes_29 : decode cX9_strikes 29 = .ok (.invokevirtual 65, 3) := dk_182 0 65 (dk_at dksX9_strikes_1 6 rfl rfl)
theorem dX9_strikes_32 : decode cX9_strikes 32 = .ok (.ifCond .eq 96, 3) := dk_153 0 96 (dk_at dksX9_strikes_1 9 rfl rfl)
theorem dX9_strikes_35 : decode cX9_strikes 35 = .ok (.aload_n 0, 1) := dk_42 (dk_at dksX9_strikes_1 12 rfl rfl)
theorem dX9_strikes_36 : decode cX9_strikes 36 = .ok (.getfield 15, 3) := dk_180 0 15 (dk_at dksX9_strikes_1 13 rfl rfl)
theorem dX9_strikes_39 : decode cX9_strikes 39 = .ok (.iload 5, 2) := dk_21 5 (dk_at dksX9_strikes_1 16 rfl rfl)
theorem dX9_strikes_41 : decode cX9_strikes 41 = .ok (.iaload, 1) := dk_46 (dk_at dksX9_strikes_1 18 rfl rfl)
theorem dX9_strikes_42 : decode cX9_strikes 42 = .ok (.iload_n 2, 1) := dk_28 (dk_at dksX9_strikes_1 19 rfl rfl)
theorem dX9_strikes_43 : decode cX9_strikes 43 = .ok (.invokestatic 71, 3) := dk_184 0 71 (dk_at dksX9_strikes_1 20 rfl rfl)
theorem dX9_strikes_46 : decode cX9_strikes 46 = .ok (.ifCond .eq 6, 3) := dk_153 0 6 (dk_at dksX9_strikes_2 0 rfl rfl)
theorem dX9_strikes_49 : decode cX9_strikes 49 = .ok (.goto 79, 3) := dk_167 0 79 (dk_at dksX9_strikes_2 3 rfl rfl)
theorem dX9_strikes_52 : decode cX9_strikes 52 = .ok (.aload_n 0, 1) := dk_42 (dk_at dksX9_strikes_2 6 rfl rfl)
theorem dX9_strikes_53 : decode cX9_strikes 53 = .ok (.getfield 15, 3) := dk_180 0 15 (dk_at dksX9_strikes_2 7 rfl rfl)
theorem dX9_strikes_56 : decode cX9_strikes 56 = .ok (.iload 5, 2) := dk_21 5 (dk_at dksX9_strikes_2 10 rfl rfl)
theorem dX9_strikes_58 : decode cX9_strikes 58 = .ok (.dup2, 1) := dk_92 (dk_at dksX9_strikes_2 12 rfl rfl)
theorem dX9_strikes_59 : decode cX9_strikes 59 = .ok (.iaload, 1) := dk_46 (dk_at dksX9_strikes_2 13 rfl rfl)
theorem dX9_strikes_60 : decode cX9_strikes 60 = .ok (.iconst 1, 1) := dk_4 (dk_at dksX9_strikes_2 14 rfl rfl)
theorem dX9_strikes_61 : decode cX9_strikes 61 = .ok (.iload_n 2, 1) := dk_28 (dk_at dksX9_strikes_2 15 rfl rfl)
theorem dX9_strikes_62 : decode cX9_strikes 62 = .ok (.ishl, 1) := dk_120 (dk_at dksX9_strikes_2 16 rfl rfl)
theorem dX9_strikes_63 : decode cX9_strikes 63 = .ok (.ior, 1) := dk_128 (dk_at dksX9_strikes_2 17 rfl rfl)
theorem dX9_strikes_64 : decode cX9_strikes 64 = .ok (.iastore, 1) := dk_79 (dk_at dksX9_strikes_2 18 rfl rfl)
theorem dX9_strikes_65 : decode cX9_strikes 65 = .ok (.aload_n 0, 1) := dk_42 (dk_at dksX9_strikes_2 19 rfl rfl)
theorem dX9_strikes_66 : decode cX9_strikes 66 = .ok (.dup, 1) := dk_89 (dk_at dksX9_strikes_2 20 rfl rfl)
theorem dX9_strikes_67 : decode cX9_strikes 67 = .ok (.getfield 36, 3) := dk_180 0 36 (dk_at dksX9_strikes_2 21 rfl rfl)
theorem dX9_strikes_70 : decode cX9_strikes 70 = .ok (.iload_n 3, 1) := dk_29 (dk_at dksX9_strikes_3 0 rfl rfl)
theorem dX9_strikes_71 : decode cX9_strikes 71 = .ok (.aload_n 1, 1) := dk_43 (dk_at dksX9_strikes_3 1 rfl rfl)
theorem dX9_strikes_72 : decode cX9_strikes 72 = .ok (.getfield 74, 3) := dk_180 0 74 (dk_at dksX9_strikes_3 2 rfl rfl)
theorem dX9_strikes_75 : decode cX9_strikes 75 = .ok (.iload 5, 2) := dk_21 5 (dk_at dksX9_strikes_3 5 rfl rfl)
theorem dX9_strikes_77 : decode cX9_strikes 77 = .ok (.iaload, 1) := dk_46 (dk_at dksX9_strikes_3 7 rfl rfl)
theorem dX9_strikes_78 : decode cX9_strikes 78 = .ok (.isub, 1) := dk_100 (dk_at dksX9_strikes_3 8 rfl rfl)
theorem dX9_strikes_79 : decode cX9_strikes 79 = .ok (.iload 4, 2) := dk_21 4 (dk_at dksX9_strikes_3 9 rfl rfl)
theorem dX9_strikes_81 : decode cX9_strikes 81 = .ok (.if_icmp .ge 7, 3) := dk_162 0 7 (dk_at dksX9_strikes_3 11 rfl rfl)
theorem dX9_strikes_84 : decode cX9_strikes 84 = .ok (.iconst 1, 1) := dk_4 (dk_at dksX9_strikes_3 14 rfl rfl)
theorem dX9_strikes_85 : decode cX9_strikes 85 = .ok (.goto 4, 3) := dk_167 0 4 (dk_at dksX9_strikes_3 15 rfl rfl)
theorem dX9_strikes_88 : decode cX9_strikes 88 = .ok (.iconst 0, 1) := dk_3 (dk_at dksX9_strikes_3 18 rfl rfl)
theorem dX9_strikes_89 : decode cX9_strikes 89 = .ok (.iadd, 1) := dk_96 (dk_at dksX9_strikes_3 19 rfl rfl)
theorem dX9_strikes_90 : decode cX9_strikes 90 = .ok (.putfield 36, 3) := dk_181 0 36 (dk_at dksX9_strikes_3 20 rfl rfl)
theorem dX9_strikes_93 : decode cX9_strikes 93 = .ok (.aload_n 1, 1) := dk_43 (dk_at dksX9_strikes_3 23 rfl rfl)
theorem dX9_strikes_94 : decode cX9_strikes 94 = .ok (.iload 5, 2) := dk_21 5 (dk_at dksX9_strikes_4 0 rfl rfl)
theorem dX9_strikes_96 : decode cX9_strikes 96 = .ok (.invokevirtual 61, 3) := dk_182 0 61 (dk_at dksX9_strikes_4 2 rfl rfl)
theorem dX9_strikes_99 : decode cX9_strikes 99 = .ok (.getfield 77, 3) := dk_180 0 77 (dk_at dksX9_strikes_4 5 rfl rfl)
theorem dX9_strikes_102 : decode cX9_strikes 102 = .ok (.ifCond .eq 16, 3) := dk_153 0 16 (dk_at dksX9_strikes_4 8 rfl rfl)
theorem dX9_strikes_105 : decode cX9_strikes 105 = .ok (.aload_n 0, 1) := dk_42 (dk_at dksX9_strikes_4 11 rfl rfl)
theorem dX9_strikes_106 : decode cX9_strikes 106 = .ok (.dup, 1) := dk_89 (dk_at dksX9_strikes_4 12 rfl rfl)
theorem dX9_strikes_107 : decode cX9_strikes 107 = .ok (.getfield 33, 3) := dk_180 0 33 (dk_at dksX9_strikes_4 13 rfl rfl)
theorem dX9_strikes_110 : decode cX9_strikes 110 = .ok (.iconst 1, 1) := dk_4 (dk_at dksX9_strikes_4 16 rfl rfl)
theorem dX9_strikes_111 : decode cX9_strikes 111 = .ok (.iadd, 1) := dk_96 (dk_at dksX9_strikes_4 17 rfl rfl)
theorem dX9_strikes_112 : decode cX9_strikes 112 = .ok (.putfield 33, 3) := dk_181 0 33 (dk_at dksX9_strikes_4 18 rfl rfl)
theorem dX9_strikes_115 : decode cX9_strikes 115 = .ok (.goto 13, 3) := dk_167 0 13 (dk_at dksX9_strikes_4 21 rfl rfl)
theorem dX9_strikes_118 : decode cX9_strikes 118 = .ok (.aload_n 0, 1) := dk_42 (dk_at dksX9_strikes_5 0 rfl rfl)
theorem dX9_strikes_119 : decode cX9_strikes 119 = .ok (.dup, 1) := dk_89 (dk_at dksX9_strikes_5 1 rfl rfl)
theorem dX9_strikes_120 : decode cX9_strikes 120 = .ok (.getfield 29, 3) := dk_180 0 29 (dk_at dksX9_strikes_5 2 rfl rfl)
theorem dX9_strikes_123 : decode cX9_strikes 123 = .ok (.iconst 1, 1) := dk_4 (dk_at dksX9_strikes_5 5 rfl rfl)
theorem dX9_strikes_124 : decode cX9_strikes 124 = .ok (.iadd, 1) := dk_96 (dk_at dksX9_strikes_5 6 rfl rfl)
theorem dX9_strikes_125 : decode cX9_strikes 125 = .ok (.putfield 29, 3) := dk_181 0 29 (dk_at dksX9_strikes_5 7 rfl rfl)
theorem dX9_strikes_128 : decode cX9_strikes 128 = .ok (.iinc 5 1, 3) := dk_132 5 1 (dk_at dksX9_strikes_5 10 rfl rfl)
theorem dX9_strikes_131 : decode cX9_strikes 131 = .ok (.goto (-128), 3) := dk_167 255 128 (dk_at dksX9_strikes_5 13 rfl rfl)
theorem dX9_strikes_134 : decode cX9_strikes 134 = .ok (.return_, 1) := dk_177 (dk_at dksX9_strikes_5 16 rfl rfl)
theorem q157 : (Jvm.Cond.initialized "MoleBoard$Blows") ∈ lw_all := lw_g (lw_at lw_m1 13 rfl) rfl
theorem q523 : (Jvm.Cond.fieldLink "MoleBoard$Blows" (74 : Nat) "MoleBoard$Game" "first" "[I") ∈ lw_all := lw_g (lw_at lw_m2 139 rfl) rfl
theorem q535 : (Jvm.Cond.fieldLink "MoleBoard$Blows" (53 : Nat) "MoleBoard$Game" "many" "I") ∈ lw_all := lw_g (lw_at lw_m2 151 rfl) rfl
theorem q691 : (Jvm.Cond.instantiable "MoleBoard$Blows" (5 : Nat)) ∈ lw_all := lw_g (lw_at lw_m3 67 rfl) rfl
theorem q693 : (Jvm.Cond.instanceMethod ({ cls := "MoleBoard$Blows", name := "<init>", desc := "(LMoleBoard;)V" } : Jvm.MethodName)) ∈ lw_all := lw_g (lw_at lw_m3 69 rfl) rfl
theorem q694 : (Jvm.Cond.code ({ cls := "MoleBoard$Blows", name := "<init>", desc := "(LMoleBoard;)V" } : Jvm.MethodName) prog_3_method_1_code (2 : Nat) (Option.none : Option Jvm.ClassFile.FieldType)) ∈ lw_all := lw_g (lw_at lw_m3 70 rfl) rfl
theorem q695 : (Jvm.Cond.methodLink "MoleBoard$Blows" (9 : Nat) ({ cls := "java/lang/Object", name := "<init>", desc := "()V" } : Jvm.MethodName)) ∈ lw_all := lw_g (lw_at lw_m3 71 rfl) rfl
theorem q696 : (Jvm.Cond.fieldLink "MoleBoard$Blows" (15 : Nat) "MoleBoard$Blows" "met" "[I") ∈ lw_all := lw_g (lw_at lw_m3 72 rfl) rfl
theorem q697 : (Jvm.Cond.fieldLink "MoleBoard$Blows" (29 : Nat) "MoleBoard$Blows" "good" "I") ∈ lw_all := lw_g (lw_at lw_m3 73 rfl) rfl
theorem q699 : (Jvm.Cond.fieldLink "MoleBoard$Blows" (33 : Nat) "MoleBoard$Blows" "reds" "I") ∈ lw_all := lw_g (lw_at lw_m3 75 rfl) rfl
theorem q701 : (Jvm.Cond.fieldLink "MoleBoard$Blows" (36 : Nat) "MoleBoard$Blows" "early" "I") ∈ lw_all := lw_g (lw_at lw_m3 77 rfl) rfl
theorem q703 : (Jvm.Cond.fieldLink "MoleBoard$Blows" (3 : Nat) "MoleBoard$Blows" "this$0" "LMoleBoard;") ∈ lw_all := lw_g (lw_at lw_m3 79 rfl) rfl
theorem q704 : (Jvm.Cond.laysFinal "MoleBoard$Blows" "MoleBoard$Blows" "met" "[I") ∈ lw_all := lw_g (lw_at lw_m3 80 rfl) rfl
theorem q705 : (Jvm.Cond.soleField "MoleBoard$Blows" "met") ∈ lw_all := lw_g (lw_at lw_m3 81 rfl) rfl
theorem q706 : (Jvm.Cond.lays "MoleBoard$Blows" "MoleBoard$Blows" "good" "I") ∈ lw_all := lw_g (lw_at lw_m3 82 rfl) rfl
theorem q707 : (Jvm.Cond.soleField "MoleBoard$Blows" "good") ∈ lw_all := lw_g (lw_at lw_m3 83 rfl) rfl
theorem q708 : (Jvm.Cond.lays "MoleBoard$Blows" "MoleBoard$Blows" "reds" "I") ∈ lw_all := lw_g (lw_at lw_m3 84 rfl) rfl
theorem q709 : (Jvm.Cond.soleField "MoleBoard$Blows" "reds") ∈ lw_all := lw_g (lw_at lw_m3 85 rfl) rfl
theorem q710 : (Jvm.Cond.lays "MoleBoard$Blows" "MoleBoard$Blows" "early" "I") ∈ lw_all := lw_g (lw_at lw_m3 86 rfl) rfl
theorem q711 : (Jvm.Cond.soleField "MoleBoard$Blows" "early") ∈ lw_all := lw_g (lw_at lw_m3 87 rfl) rfl
theorem q712 : (Jvm.Cond.laysFinal "MoleBoard$Blows" "MoleBoard$Blows" "this$0" "LMoleBoard;") ∈ lw_all := lw_g (lw_at lw_m3 88 rfl) rfl
theorem q713 : (Jvm.Cond.soleField "MoleBoard$Blows" "this$0") ∈ lw_all := lw_g (lw_at lw_m3 89 rfl) rfl
theorem q714 : (Jvm.Cond.superclass "MoleBoard$Blows" "java/lang/Object") ∈ lw_all := lw_g (lw_at lw_m3 90 rfl) rfl
theorem q1064 : (Jvm.Cond.fieldLinkNest "MoleBoard$Blows" (77 : Nat) "MoleBoard$Mole" "red" "Z" "MoleBoard") ∈ lw_tbl := lw_at lw_m4 200 rfl
theorem q1114 : (Jvm.Cond.selects "MoleBoard$Blows" ({ cls := "java/lang/Object", name := "getClass", desc := "()Ljava/lang/Class;" } : Jvm.MethodName) ({ cls := "java/lang/Object", name := "getClass", desc := "()Ljava/lang/Class;" } : Jvm.MethodName)) ∈ lw_all := lw_g (lw_at lw_m5 10 rfl) rfl
theorem q1671 : (Jvm.Cond.instanceMethod ({ cls := "MoleBoard$Blows", name := "goes", desc := "(LMoleBoard$Slot;I)LMoleBoard$Blows;" } : Jvm.MethodName)) ∈ lw_all := lw_g (lw_at lw_m7 87 rfl) rfl
theorem q1672 : (Jvm.Cond.selects "MoleBoard$Blows" ({ cls := "MoleBoard$Blows", name := "goes", desc := "(LMoleBoard$Slot;I)LMoleBoard$Blows;" } : Jvm.MethodName) ({ cls := "MoleBoard$Blows", name := "goes", desc := "(LMoleBoard$Slot;I)LMoleBoard$Blows;" } : Jvm.MethodName)) ∈ lw_all := lw_g (lw_at lw_m7 88 rfl) rfl
theorem q1673 : (Jvm.Cond.code ({ cls := "MoleBoard$Blows", name := "goes", desc := "(LMoleBoard$Slot;I)LMoleBoard$Blows;" } : Jvm.MethodName) prog_3_method_2_code (5 : Nat) (Option.some (Jvm.ClassFile.FieldType.object "MoleBoard$Blows"))) ∈ lw_all := lw_g (lw_at lw_m7 89 rfl) rfl
theorem q1674 : (Jvm.Cond.methodLinkNest "MoleBoard$Blows" (19 : Nat) ({ cls := "MoleBoard", name := "game", desc := "()LMoleBoard$Game;" } : Jvm.MethodName) "MoleBoard") ∈ lw_tbl := lw_at lw_m7 90 rfl
theorem q1675 : (Jvm.Cond.methodLink "MoleBoard$Blows" (23 : Nat) ({ cls := "java/util/Arrays", name := "fill", desc := "([II)V" } : Jvm.MethodName)) ∈ lw_all := lw_g (lw_at lw_m7 91 rfl) rfl
theorem q1676 : (Jvm.Cond.methodLink "MoleBoard$Blows" (39 : Nat) ({ cls := "MoleBoard$Slot", name := "many", desc := "()I" } : Jvm.MethodName)) ∈ lw_all := lw_g (lw_at lw_m7 92 rfl) rfl
theorem q1677 : (Jvm.Cond.methodLink "MoleBoard$Blows" (45 : Nat) ({ cls := "MoleBoard$Slot", name := "number", desc := "(I)J" } : Jvm.MethodName)) ∈ lw_all := lw_g (lw_at lw_m7 93 rfl) rfl
theorem q1678 : (Jvm.Cond.methodLink "MoleBoard$Blows" (49 : Nat) ({ cls := "MoleBoard$Blows", name := "strikes", desc := "(LMoleBoard$Game;III)V" } : Jvm.MethodName)) ∈ lw_all := lw_g (lw_at lw_m7 94 rfl) rfl
theorem q1679 : (Jvm.Cond.privateMethod ({ cls := "MoleBoard$Blows", name := "strikes", desc := "(LMoleBoard$Game;III)V" } : Jvm.MethodName)) ∈ lw_tbl := lw_at lw_m7 95 rfl
theorem q1680 : (Jvm.Cond.instanceMethod ({ cls := "MoleBoard$Blows", name := "strikes", desc := "(LMoleBoard$Game;III)V" } : Jvm.MethodName)) ∈ lw_all := lw_g (lw_at lw_m7 96 rfl) rfl
theorem q1681 : (Jvm.Cond.code ({ cls := "MoleBoard$Blows", name := "strikes", desc := "(LMoleBoard$Game;III)V" } : Jvm.MethodName) prog_3_method_3_code (6 : Nat) (Option.none : Option Jvm.ClassFile.FieldType)) ∈ lw_all := lw_g (lw_at lw_m7 97 rfl) rfl
theorem q1682 : (Jvm.Cond.methodLink "MoleBoard$Blows" (57 : Nat) ({ cls := "MoleBoard$Game", name := "isUp", desc := "(II)Z" } : Jvm.MethodName)) ∈ lw_all := lw_g (lw_at lw_m7 98 rfl) rfl
theorem q1683 : (Jvm.Cond.methodLink "MoleBoard$Blows" (61 : Nat) ({ cls := "MoleBoard$Game", name := "mole", desc := "(I)LMoleBoard$Mole;" } : Jvm.MethodName)) ∈ lw_all := lw_g (lw_at lw_m7 99 rfl) rfl
theorem q1684 : (Jvm.Cond.methodLink "MoleBoard$Blows" (65 : Nat) ({ cls := "MoleBoard$Mole", name := "isAt", desc := "(I)Z" } : Jvm.MethodName)) ∈ lw_all := lw_g (lw_at lw_m7 100 rfl) rfl
theorem q1685 : (Jvm.Cond.methodLinkNest "MoleBoard$Blows" (71 : Nat) ({ cls := "MoleBoard", name := "isOn", desc := "(II)Z" } : Jvm.MethodName) "MoleBoard") ∈ lw_tbl := lw_at lw_m7 101 rfl
theorem q2666 : (Jvm.Cond.castable "MoleBoard$Blows" "java/lang/Object") ∈ lw_tbl := lw_at lw_m11 122 rfl
/-! MoleBoard$Reader -/
set_option maxRecDepth 100000
abbrev cX11_init : ByteArray := prog_12_method_1_code
def yX11_init : MethodName := ⟨RX11, "<init>", "([BI)V"⟩
def dkwX11_init_1 : List UInt8 := [181, 0, 22, 42, 182, 0, 26, 177]
abbrev dktX11_init_1 : List UInt8 := dkwX11_init_1 ++ []
def dkwX11_init_0 : List UInt8 := [42, 183, 0, 3, 42, 187, 0, 9, 89, 183, 0, 11, 181, 0, 12, 42, 43, 181, 0, 18, 42, 28]
abbrev dktX11_init_0 : List UInt8 := dkwX11_init_0 ++ dktX11_init_1
theorem dksX11_init_0 : cX11_init.data.toList.drop 0 = dktX11_init_0 := by decide +kernel
theorem dksX11_init_1 : cX11_init.data.toList.drop 22 = dktX11_init_1 := dk_seg dksX11_init_0 22 rfl rfl
theorem dX11_init_0 : decode cX11_init 0 = .ok (.aload_n 0, 1) := dk_42 (dk_at dksX11_init_0 0 rfl rfl)
theorem dX11_init_1 : decode cX11_init 1 = .ok (.invokespecial 3, 3) := dk_183 0 3 (dk_at dksX11_init_0 1 rfl rfl)
theorem dX11_init_4 : decode cX11_init 4 = .ok (.aload_n 0, 1) := dk_42 (dk_at dksX11_init_0 4 rfl rfl)
theorem dX11_init_5 : decode cX11_init 5 = .ok (.new 9, 3) := dk_187 0 9 (dk_at dksX11_init_0 5 rfl rfl)
theorem dX11_init_8 : decode cX11_init 8 = .ok (.dup, 1) := dk_89 (dk_at dksX11_init_0 8 rfl rfl)
theorem dX11_init_9 : decode cX11_init 9 = .ok (.invokespecial 11, 3) := dk_183 0 11 (dk_at dksX11_init_0 9 rfl rfl)
theorem dX11_init_12 : decode cX11_init 12 = .ok (.putfield 12, 3) := dk_181 0 12 (dk_at dksX11_init_0 12 rfl rfl)
theorem dX11_init_15 : decode cX11_init 15 = .ok (.aload_n 0, 1) := dk_42 (dk_at dksX11_init_0 15 rfl rfl)
theorem dX11_init_16 : decode cX11_init 16 = .ok (.aload_n 1, 1) := dk_43 (dk_at dksX11_init_0 16 rfl rfl)
theorem dX11_init_17 : decode cX11_init 17 = .ok (.putfield 18, 3) := dk_181 0 18 (dk_at dksX11_init_0 17 rfl rfl)
theorem dX11_init_20 : decode cX11_init 20 = .ok (.aload_n 0, 1) := dk_42 (dk_at dksX11_init_0 20 rfl rfl)
theorem dX11_init_21 : decode cX11_init 21 = .ok (.iload_n 2, 1) := dk_28 (dk_at dksX11_init_0 21 rfl rfl)
theorem dX11_init_22 : decode cX11_init 22 = .ok (.putfield 22, 3) := dk_181 0 22 (dk_at dksX11_init_1 0 rfl rfl)
theorem dX11_init_25 : decode cX11_init 25 = .ok (.aload_n 0, 1) := dk_42 (dk_at dksX11_init_1 3 rfl rfl)
theorem dX11_init_26 : decode cX11_init 26 = .ok (.invokevirtual 26, 3) := dk_182 0 26 (dk_at dksX11_init_1 4 rfl rfl)
theorem dX11_init_29 : decode cX11_init 29 = .ok (.return_, 1) := dk_177 (dk_at dksX11_init_1 7 rfl rfl)
abbrev cX11_next : ByteArray := prog_12_method_3_code
def yX11_next : MethodName := ⟨RX11, "next", "()V"⟩
def dkwX11_next_8 : List UInt8 := [7, 181, 0, 46, 42, 89, 180, 0, 29, 4, 96, 181, 0, 29, 177]
abbrev dktX11_next_8 : List UInt8 := dkwX11_next_8 ++ []
def dkwX11_next_7 : List UInt8 := [4, 96, 181, 0, 29, 167, 255, 206, 42, 42, 16, 59, 16, 59, 182, 0, 36, 153, 0, 7, 6, 167, 0, 4]
abbrev dktX11_next_7 : List UInt8 := dkwX11_next_7 ++ dktX11_next_8
def dkwX11_next_6 : List UInt8 := [42, 180, 0, 18, 42, 180, 0, 29, 51, 96, 16, 48, 100, 184, 0, 50, 181, 0, 43, 42, 89, 180, 0, 29]
abbrev dktX11_next_6 : List UInt8 := dkwX11_next_6 ++ dktX11_next_7
def dkwX11_next_5 : List UInt8 := [181, 0, 46, 42, 16, 48, 16, 57, 182, 0, 36, 153, 0, 75, 42, 18, 49, 16, 10, 42, 180, 0, 43, 104]
abbrev dktX11_next_5 : List UInt8 := dkwX11_next_5 ++ dktX11_next_6
def dkwX11_next_4 : List UInt8 := [180, 0, 29, 4, 96, 181, 0, 29, 167, 255, 235, 42, 16, 48, 16, 57, 182, 0, 36, 153, 0, 61, 42, 5]
abbrev dktX11_next_4 : List UInt8 := dkwX11_next_4 ++ dktX11_next_5
def dkwX11_next_3 : List UInt8 := [182, 0, 36, 153, 0, 32, 42, 4, 181, 0, 46, 42, 16, 97, 16, 122, 182, 0, 36, 153, 0, 115, 42, 89]
abbrev dktX11_next_3 : List UInt8 := dkwX11_next_3 ++ dktX11_next_4
def dkwX11_next_2 : List UInt8 := [42, 180, 0, 29, 42, 180, 0, 22, 160, 0, 11, 42, 3, 181, 0, 46, 167, 0, 142, 42, 16, 97, 16, 122]
abbrev dktX11_next_2 : List UInt8 := dkwX11_next_2 ++ dktX11_next_3
def dkwX11_next_1 : List UInt8 := [180, 0, 29, 4, 96, 181, 0, 29, 167, 255, 224, 42, 42, 180, 0, 29, 181, 0, 40, 42, 3, 181, 0, 43]
abbrev dktX11_next_1 : List UInt8 := dkwX11_next_1 ++ dktX11_next_2
def dkwX11_next_0 : List UInt8 := [42, 16, 32, 16, 32, 182, 0, 36, 154, 0, 14, 42, 16, 10, 16, 10, 182, 0, 36, 153, 0, 16, 42, 89]
abbrev dktX11_next_0 : List UInt8 := dkwX11_next_0 ++ dktX11_next_1
theorem dksX11_next_0 : cX11_next.data.toList.drop 0 = dktX11_next_0 := by decide +kernel
theorem dksX11_next_1 : cX11_next.data.toList.drop 24 = dktX11_next_1 := dk_seg dksX11_next_0 24 rfl rfl
theorem dksX11_next_2 : cX11_next.data.toList.drop 48 = dktX11_next_2 := dk_seg dksX11_next_1 24 rfl rfl
theorem dksX11_next_3 : cX11_next.data.toList.drop 72 = dktX11_next_3 := dk_seg dksX11_next_2 24 rfl rfl
theorem dksX11_next_4 : cX11_next.data.toList.drop 96 = dktX11_next_4 := dk_seg dksX11_next_3 24 rfl rfl
theorem dksX11_next_5 : cX11_next.data.toList.drop 120 = dktX11_next_5 := dk_seg dksX11_next_4 24 rfl rfl
theorem dksX11_next_6 : cX11_next.data.toList.drop 144 = dktX11_next_6 := dk_seg dksX11_next_5 24 rfl rfl
theorem dksX11_next_7 : cX11_next.data.toList.drop 168 = dktX11_next_7 := dk_seg dksX11_next_6 24 rfl rfl
theorem dksX11_next_8 : cX11_next.data.toList.drop 192 = dktX11_next_8 := dk_seg dksX11_next_7 24 rfl rfl
theorem dX11_next_0 : decode cX11_next 0 = .ok (.aload_n 0, 1) := dk_42 (dk_at dksX11_next_0 0 rfl rfl)
theorem dX11_next_1 : decode cX11_next 1 = .ok (.bipush 32, 2) := dk_16 32 (dk_at dksX11_next_0 1 rfl rfl)
theorem dX11_next_3 : decode cX11_next 3 = .ok (.bipush 32, 2) := dk_16 32 (dk_at dksX11_next_0 3 rfl rfl)
theorem dX11_next_5 : decode cX11_next 5 = .ok (.invokevirtual 36, 3) := dk_182 0 36 (dk_at dksX11_next_0 5 rfl rfl)
theorem dX11_next_8 : decode cX11_next 8 = .ok (.ifCond .ne 14, 3) := dk_154 0 14 (dk_at dksX11_next_0 8 rfl rfl)
theorem dX11_next_11 : decode cX11_next 11 = .ok (.aload_n 0, 1) := dk_42 (dk_at dksX11_next_0 11 rfl rfl)
theorem dX11_next_12 : decode cX11_next 12 = .ok (.bipush 10, 2) := dk_16 10 (dk_at dksX11_next_0 12 rfl rfl)
theorem dX11_next_14 : decode cX11_next 14 = .ok (.bipush 10, 2) := dk_16 10 (dk_at dksX11_next_0 14 rfl rfl)
theorem dX11_next_16 : decode cX11_next 16 = .ok (.invokevirtual 36, 3) := dk_182 0 36 (dk_at dksX11_next_0 16 rfl rfl)
theorem dX11_next_19 : decode cX11_next 19 = .ok (.ifCond .eq 16, 3) := dk_153 0 16 (dk_at dksX11_next_0 19 rfl rfl)
theorem dX11_next_22 : decode cX11_next 22 = .ok (.aload_n 0, 1) := dk_42 (dk_at dksX11_next_0 22 rfl rfl)
theorem dX11_next_23 : decode cX11_next 23 = .ok (.dup, 1) := dk_89 (dk_at dksX11_next_0 23 rfl rfl)
theorem dX11_next_24 : decode cX11_next 24 = .ok (.getfield 29, 3) := dk_180 0 29 (dk_at dksX11_next_1 0 rfl rfl)
theorem dX11_next_27 : decode cX11_next 27 = .ok (.iconst 1, 1) := dk_4 (dk_at dksX11_next_1 3 rfl rfl)
theorem dX11_next_28 : decode cX11_next 28 = .ok (.iadd, 1) := dk_96 (dk_at dksX11_next_1 4 rfl rfl)
theorem dX11_next_29 : decode cX11_next 29 = .ok (.putfield 29, 3) := dk_181 0 29 (dk_at dksX11_next_1 5 rfl rfl)
theorem dX11_next_32 : decode cX11_next 32 = .ok (.goto (-32), 3) := dk_167 255 224 (dk_at dksX11_next_1 8 rfl rfl)
theorem dX11_next_35 : decode cX11_next 35 = .ok (.aload_n 0, 1) := dk_42 (dk_at dksX11_next_1 11 rfl rfl)
theorem dX11_next_36 : decode cX11_next 36 = .ok (.aload_n 0, 1) := dk_42 (dk_at dksX11_next_1 12 rfl rfl)
theorem dX11_next_37 : decode cX11_next 37 = .ok (.getfield 29, 3) := dk_180 0 29 (dk_at dksX11_next_1 13 rfl rfl)
theorem dX11_next_40 : decode cX11_next 40 = .ok (.putfield 40, 3) := dk_181 0 40 (dk_at dksX11_next_1 16 rfl rfl)
theorem dX11_next_43 : decode cX11_next 43 = .ok (.aload_n 0, 1) := dk_42 (dk_at dksX11_next_1 19 rfl rfl)
theorem dX11_next_44 : decode cX11_next 44 = .ok (.iconst 0, 1) := dk_3 (dk_at dksX11_next_1 20 rfl rfl)
theorem dX11_next_45 : decode cX11_next 45 = .ok (.putfield 43, 3) := dk_181 0 43 (dk_at dksX11_next_1 21 rfl rfl)
theorem dX11_next_48 : decode cX11_next 48 = .ok (.aload_n 0, 1) := dk_42 (dk_at dksX11_next_2 0 rfl rfl)
theorem dX11_next_49 : decode cX11_next 49 = .ok (.getfield 29, 3) := dk_180 0 29 (dk_at dksX11_next_2 1 rfl rfl)
theorem dX11_next_52 : decode cX11_next 52 = .ok (.aload_n 0, 1) := dk_42 (dk_at dksX11_next_2 4 rfl rfl)
theorem dX11_next_53 : decode cX11_next 53 = .ok (.getfield 22, 3) := dk_180 0 22 (dk_at dksX11_next_2 5 rfl rfl)
theorem dX11_next_56 : decode cX11_next 56 = .ok (.if_icmp .ne 11, 3) := dk_160 0 11 (dk_at dksX11_next_2 8 rfl rfl)
theorem dX11_next_59 : decode cX11_next 59 = .ok (.aload_n 0, 1) := dk_42 (dk_at dksX11_next_2 11 rfl rfl)
theorem dX11_next_60 : decode cX11_next 60 = .ok (.iconst 0, 1) := dk_3 (dk_at dksX11_next_2 12 rfl rfl)
theorem dX11_next_61 : decode cX11_next 61 = .ok (.putfield 46, 3) := dk_181 0 46 (dk_at dksX11_next_2 13 rfl rfl)
theorem dX11_next_64 : decode cX11_next 64 = .ok (.goto 142, 3) := dk_167 0 142 (dk_at dksX11_next_2 16 rfl rfl)
theorem dX11_next_67 : decode cX11_next 67 = .ok (.aload_n 0, 1) := dk_42 (dk_at dksX11_next_2 19 rfl rfl)
theorem dX11_next_68 : decode cX11_next 68 = .ok (.bipush 97, 2) := dk_16 97 (dk_at dksX11_next_2 20 rfl rfl)
theorem dX11_next_70 : decode cX11_next 70 = .ok (.bipush 122, 2) := dk_16 122 (dk_at dksX11_next_2 22 rfl rfl)
theorem dX11_next_72 : decode cX11_next 72 = .ok (.invokevirtual 36, 3) := dk_182 0 36 (dk_at dksX11_next_3 0 rfl rfl)
theorem dX11_next_75 : decode cX11_next 75 = .ok (.ifCond .eq 32, 3) := dk_153 0 32 (dk_at dksX11_next_3 3 rfl rfl)
theorem dX11_next_78 : decode cX11_next 78 = .ok (.aload_n 0, 1) := dk_42 (dk_at dksX11_next_3 6 rfl rfl)
theorem dX11_next_79 : decode cX11_next 79 = .ok (.iconst 1, 1) := dk_4 (dk_at dksX11_next_3 7 rfl rfl)
theorem dX11_next_80 : decode cX11_next 80 = .ok (.putfield 46, 3) := dk_181 0 46 (dk_at dksX11_next_3 8 rfl rfl)
theorem dX11_next_83 : decode cX11_next 83 = .ok (.aload_n 0, 1) := dk_42 (dk_at dksX11_next_3 11 rfl rfl)
theorem dX11_next_84 : decode cX11_next 84 = .ok (.bipush 97, 2) := dk_16 97 (dk_at dksX11_next_3 12 rfl rfl)
theorem dX11_next_86 : decode cX11_next 86 = .ok (.bipush 122, 2) := dk_16 122 (dk_at dksX11_next_3 14 rfl rfl)
theorem dX11_next_88 : decode cX11_next 88 = .ok (.invokevirtual 36, 3) := dk_182 0 36 (dk_at dksX11_next_3 16 rfl rfl)
theorem dX11_next_91 : decode cX11_next 91 = .ok (.ifCond .eq 115, 3) := dk_153 0 115 (dk_at dksX11_next_3 19 rfl rfl)
theorem dX11_next_94 : decode cX11_next 94 = .ok (.aload_n 0, 1) := dk_42 (dk_at dksX11_next_3 22 rfl rfl)
theorem dX11_next_95 : decode cX11_next 95 = .ok (.dup, 1) := dk_89 (dk_at dksX11_next_3 23 rfl rfl)
theorem dX11_next_96 : decode cX11_next 96 = .ok (.getfield 29, 3) := dk_180 0 29 (dk_at dksX11_next_4 0 rfl rfl)
theorem dX11_next_99 : decode cX11_next 99 = .ok (.iconst 1, 1) := dk_4 (dk_at dksX11_next_4 3 rfl rfl)
theorem dX11_next_100 : decode cX11_next 100 = .ok (.iadd, 1) := dk_96 (dk_at dksX11_next_4 4 rfl rfl)
theorem dX11_next_101 : decode cX11_next 101 = .ok (.putfield 29, 3) := dk_181 0 29 (dk_at dksX11_next_4 5 rfl rfl)
theorem dX11_next_104 : decode cX11_next 104 = .ok (.goto (-21), 3) := dk_167 255 235 (dk_at dksX11_next_4 8 rfl rfl)
theorem dX11_next_107 : decode cX11_next 107 = .ok (.aload_n 0, 1) := dk_42 (dk_at dksX11_next_4 11 rfl rfl)
theorem dX11_next_108 : decode cX11_next 108 = .ok (.bipush 48, 2) := dk_16 48 (dk_at dksX11_next_4 12 rfl rfl)
theorem dX11_next_110 : decode cX11_next 110 = .ok (.bipush 57, 2) := dk_16 57 (dk_at dksX11_next_4 14 rfl rfl)
theorem dX11_next_112 : decode cX11_next 112 = .ok (.invokevirtual 36, 3) := dk_182 0 36 (dk_at dksX11_next_4 16 rfl rfl)
theorem dX11_next_115 : decode cX11_next 115 = .ok (.ifCond .eq 61, 3) := dk_153 0 61 (dk_at dksX11_next_4 19 rfl rfl)
theorem dX11_next_118 : decode cX11_next 118 = .ok (.aload_n 0, 1) := dk_42 (dk_at dksX11_next_4 22 rfl rfl)
theorem dX11_next_119 : decode cX11_next 119 = .ok (.iconst 2, 1) := dk_5 (dk_at dksX11_next_4 23 rfl rfl)
theorem dX11_next_120 : decode cX11_next 120 = .ok (.putfield 46, 3) := dk_181 0 46 (dk_at dksX11_next_5 0 rfl rfl)
theorem dX11_next_123 : decode cX11_next 123 = .ok (.aload_n 0, 1) := dk_42 (dk_at dksX11_next_5 3 rfl rfl)
theorem dX11_next_124 : decode cX11_next 124 = .ok (.bipush 48, 2) := dk_16 48 (dk_at dksX11_next_5 4 rfl rfl)
theorem dX11_next_126 : decode cX11_next 126 = .ok (.bipush 57, 2) := dk_16 57 (dk_at dksX11_next_5 6 rfl rfl)
theorem dX11_next_128 : decode cX11_next 128 = .ok (.invokevirtual 36, 3) := dk_182 0 36 (dk_at dksX11_next_5 8 rfl rfl)
theorem dX11_next_131 : decode cX11_next 131 = .ok (.ifCond .eq 75, 3) := dk_153 0 75 (dk_at dksX11_next_5 11 rfl rfl)
theorem dX11_next_134 : decode cX11_next 134 = .ok (.aload_n 0, 1) := dk_42 (dk_at dksX11_next_5 14 rfl rfl)
theorem dX11_next_135 : decode cX11_next 135 = .ok (.ldc 49, 2) := dk_18 49 (dk_at dksX11_next_5 15 rfl rfl)
theorem dX11_next_137 : decode cX11_next 137 = .ok (.bipush 10, 2) := dk_16 10 (dk_at dksX11_next_5 17 rfl rfl)
theorem dX11_next_139 : decode cX11_next 139 = .ok (.aload_n 0, 1) := dk_42 (dk_at dksX11_next_5 19 rfl rfl)
theorem dX11_next_140 : decode cX11_next 140 = .ok (.getfield 43, 3) := dk_180 0 43 (dk_at dksX11_next_5 20 rfl rfl)
theorem dX11_next_143 : decode cX11_next 143 = .ok (.imul, 1) := dk_104 (dk_at dksX11_next_5 23 rfl rfl)
theorem dX11_next_144 : decode cX11_next 144 = .ok (.aload_n 0, 1) := dk_42 (dk_at dksX11_next_6 0 rfl rfl)
theorem dX11_next_145 : decode cX11_next 145 = .ok (.getfield 18, 3) := dk_180 0 18 (dk_at dksX11_next_6 1 rfl rfl)
theorem dX11_next_148 : decode cX11_next 148 = .ok (.aload_n 0, 1) := dk_42 (dk_at dksX11_next_6 4 rfl rfl)
theorem dX11_next_149 : decode cX11_next 149 = .ok (.getfield 29, 3) := dk_180 0 29 (dk_at dksX11_next_6 5 rfl rfl)
theorem dX11_next_152 : decode cX11_next 152 = .ok (.baload, 1) := dk_51 (dk_at dksX11_next_6 8 rfl rfl)
theorem dX11_next_153 : decode cX11_next 153 = .ok (.iadd, 1) := dk_96 (dk_at dksX11_next_6 9 rfl rfl)
theorem dX11_next_154 : decode cX11_next 154 = .ok (.bipush 48, 2) := dk_16 48 (dk_at dksX11_next_6 10 rfl rfl)
theorem dX11_next_156 : decode cX11_next 156 = .ok (.isub, 1) := dk_100 (dk_at dksX11_next_6 12 rfl rfl)
theorem dX11_next_157 : decode cX11_next 157 = .ok (.invokestatic 50, 3) := dk_184 0 50 (dk_at dksX11_next_6 13 rfl rfl)
theorem dX11_next_160 : decode cX11_next 160 = .ok (.putfield 43, 3) := dk_181 0 43 (dk_at dksX11_next_6 16 rfl rfl)
theorem dX11_next_163 : decode cX11_next 163 = .ok (.aload_n 0, 1) := dk_42 (dk_at dksX11_next_6 19 rfl rfl)
theorem dX11_next_164 : decode cX11_next 164 = .ok (.dup, 1) := dk_89 (dk_at dksX11_next_6 20 rfl rfl)
theorem dX11_next_165 : decode cX11_next 165 = .ok (.getfield 29, 3) := dk_180 0 29 (dk_at dksX11_next_6 21 rfl rfl)
theorem dX11_next_168 : decode cX11_next 168 = .ok (.iconst 1, 1) := dk_4 (dk_at dksX11_next_7 0 rfl rfl)
theorem dX11_next_169 : decode cX11_next 169 = .ok (.iadd, 1) := dk_96 (dk_at dksX11_next_7 1 rfl rfl)
theorem dX11_next_170 : decode cX11_next 170 = .ok (.putfield 29, 3) := dk_181 0 29 (dk_at dksX11_next_7 2 rfl rfl)
theorem dX11_next_173 : decode cX11_next 173 = .ok (.goto (-50), 3) := dk_167 255 206 (dk_at dksX11_next_7 5 rfl rfl)
theorem dX11_next_176 : decode cX11_next 176 = .ok (.aload_n 0, 1) := dk_42 (dk_at dksX11_next_7 8 rfl rfl)
theorem dX11_next_177 : decode cX11_next 177 = .ok (.aload_n 0, 1) := dk_42 (dk_at dksX11_next_7 9 rfl rfl)
theorem dX11_next_178 : decode cX11_next 178 = .ok (.bipush 59, 2) := dk_16 59 (dk_at dksX11_next_7 10 rfl rfl)
theorem dX11_next_180 : decode cX11_next 180 = .ok (.bipush 59, 2) := dk_16 59 (dk_at dksX11_next_7 12 rfl rfl)
theorem dX11_next_182 : decode cX11_next 182 = .ok (.invokevirtual 36, 3) := dk_182 0 36 (dk_at dksX11_next_7 14 rfl rfl)
theorem dX11_next_185 : decode cX11_next 185 = .ok (.ifCond .eq 7, 3) := dk_153 0 7 (dk_at dksX11_next_7 17 rfl rfl)
theorem dX11_next_188 : decode cX11_next 188 = .ok (.iconst 3, 1) := dk_6 (dk_at dksX11_next_7 20 rfl rfl)
theorem dX11_next_189 : decode cX11_next 189 = .ok (.goto 4, 3) := dk_167 0 4 (dk_at dksX11_next_7 21 rfl rfl)
theorem dX11_next_192 : decode cX11_next 192 = .ok (.iconst 4, 1) := dk_7 (dk_at dksX11_next_8 0 rfl rfl)
theorem dX11_next_193 : decode cX11_next 193 = .ok (.putfield 46, 3) := dk_181 0 46 (dk_at dksX11_next_8 1 rfl rfl)
theorem dX11_next_196 : decode cX11_next 196 = .ok (.aload_n 0, 1) := dk_42 (dk_at dksX11_next_8 4 rfl rfl)
theorem dX11_next_197 : decode cX11_next 197 = .ok (.dup, 1) := dk_89 (dk_at dksX11_next_8 5 rfl rfl)
theorem dX11_next_198 : decode cX11_next 198 = .ok (.getfield 29, 3) := dk_180 0 29 (dk_at dksX11_next_8 6 rfl rfl)
theorem dX11_next_201 : decode cX11_next 201 = .ok (.iconst 1, 1) := dk_4 (dk_at dksX11_next_8 9 rfl rfl)
theorem dX11_next_202 : decode cX11_next 202 = .ok (.iadd, 1) := dk_96 (dk_at dksX11_next_8 10 rfl rfl)
theorem dX11_next_203 : decode cX11_next 203 = .ok (.putfield 29, 3) := dk_181 0 29 (dk_at dksX11_next_8 11 rfl rfl)
theorem dX11_next_206 : decode cX11_next 206 = .ok (.return_, 1) := dk_177 (dk_at dksX11_next_8 14 rfl rfl)
abbrev cX11_isAt : ByteArray := prog_12_method_2_code
def yX11_isAt : MethodName := ⟨RX11, "isAt", "(II)Z"⟩
def dkwX11_isAt_1 : List UInt8 := [133, 184, 0, 32, 153, 0, 7, 4, 167, 0, 4, 3, 172]
abbrev dktX11_isAt_1 : List UInt8 := dkwX11_isAt_1 ++ []
def dkwX11_isAt_0 : List UInt8 := [42, 180, 0, 29, 42, 180, 0, 22, 162, 0, 27, 42, 180, 0, 18, 42, 180, 0, 29, 51, 133, 27, 133, 28]
abbrev dktX11_isAt_0 : List UInt8 := dkwX11_isAt_0 ++ dktX11_isAt_1
theorem dksX11_isAt_0 : cX11_isAt.data.toList.drop 0 = dktX11_isAt_0 := by decide +kernel
theorem dksX11_isAt_1 : cX11_isAt.data.toList.drop 24 = dktX11_isAt_1 := dk_seg dksX11_isAt_0 24 rfl rfl
theorem dX11_isAt_0 : decode cX11_isAt 0 = .ok (.aload_n 0, 1) := dk_42 (dk_at dksX11_isAt_0 0 rfl rfl)
theorem dX11_isAt_1 : decode cX11_isAt 1 = .ok (.getfield 29, 3) := dk_180 0 29 (dk_at dksX11_isAt_0 1 rfl rfl)
theorem dX11_isAt_4 : decode cX11_isAt 4 = .ok (.aload_n 0, 1) := dk_42 (dk_at dksX11_isAt_0 4 rfl rfl)
theorem dX11_isAt_5 : decode cX11_isAt 5 = .ok (.getfield 22, 3) := dk_180 0 22 (dk_at dksX11_isAt_0 5 rfl rfl)
theorem dX11_isAt_8 : decode cX11_isAt 8 = .ok (.if_icmp .ge 27, 3) := dk_162 0 27 (dk_at dksX11_isAt_0 8 rfl rfl)
theorem dX11_isAt_11 : decode cX11_isAt 11 = .ok (.aload_n 0, 1) := dk_42 (dk_at dksX11_isAt_0 11 rfl rfl)
theorem dX11_isAt_12 : decode cX11_isAt 12 = .ok (.getfield 18, 3) := dk_180 0 18 (dk_at dksX11_isAt_0 12 rfl rfl)
theorem dX11_isAt_15 : decode cX11_isAt 15 = .ok (.aload_n 0, 1) := dk_42 (dk_at dksX11_isAt_0 15 rfl rfl)
theorem dX11_isAt_16 : decode cX11_isAt 16 = .ok (.getfield 29, 3) := dk_180 0 29 (dk_at dksX11_isAt_0 16 rfl rfl)
theorem dX11_isAt_19 : decode cX11_isAt 19 = .ok (.baload, 1) := dk_51 (dk_at dksX11_isAt_0 19 rfl rfl)
theorem dX11_isAt_20 : decode cX11_isAt 20 = .ok (.i2l, 1) := dk_133 (dk_at dksX11_isAt_0 20 rfl rfl)
theorem dX11_isAt_21 : decode cX11_isAt 21 = .ok (.iload_n 1, 1) := dk_27 (dk_at dksX11_isAt_0 21 rfl rfl)
theorem dX11_isAt_22 : decode cX11_isAt 22 = .ok (.i2l, 1) := dk_133 (dk_at dksX11_isAt_0 22 rfl rfl)
theorem dX11_isAt_23 : decode cX11_isAt 23 = .ok (.iload_n 2, 1) := dk_28 (dk_at dksX11_isAt_0 23 rfl rfl)
theorem dX11_isAt_24 : decode cX11_isAt 24 = .ok (.i2l, 1) := dk_133 (dk_at dksX11_isAt_1 0 rfl rfl)
theorem dX11_isAt_25 : decode cX11_isAt 25 = .ok (.invokestatic 32, 3) := dk_184 0 32 (dk_at dksX11_isAt_1 1 rfl rfl)
theorem dX11_isAt_28 : decode cX11_isAt 28 = .ok (.ifCond .eq 7, 3) := dk_153 0 7 (dk_at dksX11_isAt_1 4 rfl rfl)
theorem dX11_isAt_31 : decode cX11_isAt 31 = .ok (.iconst 1, 1) := dk_4 (dk_at dksX11_isAt_1 7 rfl rfl)
theorem dX11_isAt_32 : decode cX11_isAt 32 = .ok (.goto 4, 3) := dk_167 0 4 (dk_at dksX11_isAt_1 8 rfl rfl)
theorem dX11_isAt_35 : decode cX11_isAt 35 = .ok (.iconst 0, 1) := dk_3 (dk_at dksX11_isAt_1 11 rfl rfl)
theorem dX11_isAt_36 : decode cX11_isAt 36 = .ok (.ireturn, 1) := dk_172 (dk_at dksX11_isAt_1 12 rfl rfl)
abbrev cX11_reads : ByteArray := prog_12_method_19_code
def yX11_reads : MethodName := ⟨RX11, "reads", "()LMoleBoard$Board;"⟩
def dkwX11_reads_2 : List UInt8 := [180, 0, 12, 89, 180, 0, 213, 4, 96, 181, 0, 213, 167, 255, 197, 42, 180, 0, 12, 176]
abbrev dktX11_reads_2 : List UInt8 := dkwX11_reads_2 ++ []
def dkwX11_reads_1 : List UInt8 := [42, 182, 0, 219, 42, 180, 0, 46, 6, 159, 0, 9, 42, 4, 182, 0, 75, 191, 42, 182, 0, 26, 42]
abbrev dktX11_reads_1 : List UInt8 := dkwX11_reads_1 ++ dktX11_reads_2
def dkwX11_reads_0 : List UInt8 := [42, 180, 0, 46, 153, 0, 58, 42, 180, 0, 12, 180, 0, 213, 154, 0, 10, 42, 182, 0, 216, 167, 0, 7]
abbrev dktX11_reads_0 : List UInt8 := dkwX11_reads_0 ++ dktX11_reads_1
theorem dksX11_reads_0 : cX11_reads.data.toList.drop 0 = dktX11_reads_0 := by decide +kernel
theorem dksX11_reads_1 : cX11_reads.data.toList.drop 24 = dktX11_reads_1 := dk_seg dksX11_reads_0 24 rfl rfl
theorem dksX11_reads_2 : cX11_reads.data.toList.drop 47 = dktX11_reads_2 := dk_seg dksX11_reads_1 23 rfl rfl
theorem dX11_reads_0 : decode cX11_reads 0 = .ok (.aload_n 0, 1) := dk_42 (dk_at dksX11_reads_0 0 rfl rfl)
theorem dX11_reads_1 : decode cX11_reads 1 = .ok (.getfield 46, 3) := dk_180 0 46 (dk_at dksX11_reads_0 1 rfl rfl)
theorem dX11_reads_4 : decode cX11_reads 4 = .ok (.ifCond .eq 58, 3) := dk_153 0 58 (dk_at dksX11_reads_0 4 rfl rfl)
theorem dX11_reads_7 : decode cX11_reads 7 = .ok (.aload_n 0, 1) := dk_42 (dk_at dksX11_reads_0 7 rfl rfl)
theorem dX11_reads_8 : decode cX11_reads 8 = .ok (.getfield 12, 3) := dk_180 0 12 (dk_at dksX11_reads_0 8 rfl rfl)
theorem dX11_reads_11 : decode cX11_reads 11 = .ok (.getfield 213, 3) := dk_180 0 213 (dk_at dksX11_reads_0 11 rfl rfl)
theorem dX11_reads_14 : decode cX11_reads 14 = .ok (.ifCond .ne 10, 3) := dk_154 0 10 (dk_at dksX11_reads_0 14 rfl rfl)
theorem dX11_reads_17 : decode cX11_reads 17 = .ok (.aload_n 0, 1) := dk_42 (dk_at dksX11_reads_0 17 rfl rfl)
theorem dX11_reads_18 : decode cX11_reads 18 = .ok (.invokevirtual 216, 3) := dk_182 0 216 (dk_at dksX11_reads_0 18 rfl rfl)
theorem dX11_reads_21 : decode cX11_reads 21 = .ok (.goto 7, 3) := dk_167 0 7 (dk_at dksX11_reads_0 21 rfl rfl)
theorem dX11_reads_24 : decode cX11_reads 24 = .ok (.aload_n 0, 1) := dk_42 (dk_at dksX11_reads_1 0 rfl rfl)
theorem dX11_reads_25 : decode cX11_reads 25 = .ok (.invokevirtual 219, 3) := dk_182 0 219 (dk_at dksX11_reads_1 1 rfl rfl)
theorem dX11_reads_28 : decode cX11_reads 28 = .ok (.aload_n 0, 1) := dk_42 (dk_at dksX11_reads_1 4 rfl rfl)
theorem dX11_reads_29 : decode cX11_reads 29 = .ok (.getfield 46, 3) := dk_180 0 46 (dk_at dksX11_reads_1 5 rfl rfl)
theorem dX11_reads_32 : decode cX11_reads 32 = .ok (.iconst 3, 1) := dk_6 (dk_at dksX11_reads_1 8 rfl rfl)
theorem dX11_reads_33 : decode cX11_reads 33 = .ok (.if_icmp .eq 9, 3) := dk_159 0 9 (dk_at dksX11_reads_1 9 rfl rfl)
theorem dX11_reads_36 : decode cX11_reads 36 = .ok (.aload_n 0, 1) := dk_42 (dk_at dksX11_reads_1 12 rfl rfl)
theorem dX11_reads_37 : decode cX11_reads 37 = .ok (.iconst 1, 1) := dk_4 (dk_at dksX11_reads_1 13 rfl rfl)
theorem dX11_reads_38 : decode cX11_reads 38 = .ok (.invokevirtual 75, 3) := dk_182 0 75 (dk_at dksX11_reads_1 14 rfl rfl)
theorem dX11_reads_41 : decode cX11_reads 41 = .ok (.athrow, 1) := dk_191 (dk_at dksX11_reads_1 17 rfl rfl)
theorem dX11_reads_42 : decode cX11_reads 42 = .ok (.aload_n 0, 1) := dk_42 (dk_at dksX11_reads_1 18 rfl rfl)
theorem dX11_reads_43 : decode cX11_reads 43 = .ok (.invokevirtual 26, 3) := dk_182 0 26 (dk_at dksX11_reads_1 19 rfl rfl)
theorem dX11_reads_46 : decode cX11_reads 46 = .ok (.aload_n 0, 1) := dk_42 (dk_at dksX11_reads_1 22 rfl rfl)
theorem dX11_reads_47 : decode cX11_reads 47 = .ok (.getfield 12, 3) := dk_180 0 12 (dk_at dksX11_reads_2 0 rfl rfl)
theorem dX11_reads_50 : decode cX11_reads 50 = .ok (.dup, 1) := dk_89 (dk_at dksX11_reads_2 3 rfl rfl)
theorem dX11_reads_51 : decode cX11_reads 51 = .ok (.getfield 213, 3) := dk_180 0 213 (dk_at dksX11_reads_2 4 rfl rfl)
theorem dX11_reads_54 : decode cX11_reads 54 = .ok (.iconst 1, 1) := dk_4 (dk_at dksX11_reads_2 7 rfl rfl)
theorem dX11_reads_55 : decode cX11_reads 55 = .ok (.iadd, 1) := dk_96 (dk_at dksX11_reads_2 8 rfl rfl)
theorem dX11_reads_56 : decode cX11_reads 56 = .ok (.putfield 213, 3) := dk_181 0 213 (dk_at dksX11_reads_2 9 rfl rfl)
theorem dX11_reads_59 : decode cX11_reads 59 = .ok (.goto (-59), 3) := dk_167 255 197 (dk_at dksX11_reads_2 12 rfl rfl)
theorem dX11_reads_62 : decode cX11_reads 62 = .ok (.aload_n 0, 1) := dk_42 (dk_at dksX11_reads_2 15 rfl rfl)
theorem dX11_reads_63 : decode cX11_reads 63 = .ok (.getfield 12, 3) := dk_180 0 12 (dk_at dksX11_reads_2 16 rfl rfl)
theorem dX11_reads_66 : decode cX11_reads 66 = .ok (.areturn, 1) := dk_176 (dk_at dksX11_reads_2 19 rfl rfl)
abbrev cX11_first : ByteArray := prog_12_method_13_code
def yX11_first : MethodName := ⟨RX11, "first", "()V"⟩
def dkwX11_first_3 : List UInt8 := [181, 0, 121, 177]
abbrev dktX11_first_3 : List UInt8 := dkwX11_first_3 ++ []
def dkwX11_first_2 : List UInt8 := [17, 0, 200, 182, 0, 106, 181, 0, 117, 42, 180, 0, 12, 42, 18, 119, 3, 16, 9, 182, 0, 106]
abbrev dktX11_first_2 : List UInt8 := dkwX11_first_2 ++ dktX11_first_3
def dkwX11_first_1 : List UInt8 := [180, 0, 12, 42, 18, 111, 4, 6, 182, 0, 106, 181, 0, 113, 42, 180, 0, 12, 42, 18, 115, 4]
abbrev dktX11_first_1 : List UInt8 := dkwX11_first_1 ++ dktX11_first_2
def dkwX11_first_0 : List UInt8 := [42, 18, 102, 182, 0, 79, 42, 180, 0, 12, 42, 18, 104, 4, 7, 182, 0, 106, 181, 0, 109, 42]
abbrev dktX11_first_0 : List UInt8 := dkwX11_first_0 ++ dktX11_first_1
theorem dksX11_first_0 : cX11_first.data.toList.drop 0 = dktX11_first_0 := by decide +kernel
theorem dksX11_first_1 : cX11_first.data.toList.drop 22 = dktX11_first_1 := dk_seg dksX11_first_0 22 rfl rfl
theorem dksX11_first_2 : cX11_first.data.toList.drop 44 = dktX11_first_2 := dk_seg dksX11_first_1 22 rfl rfl
theorem dksX11_first_3 : cX11_first.data.toList.drop 66 = dktX11_first_3 := dk_seg dksX11_first_2 22 rfl rfl
theorem dX11_first_0 : decode cX11_first 0 = .ok (.aload_n 0, 1) := dk_42 (dk_at dksX11_first_0 0 rfl rfl)
theorem dX11_first_1 : decode cX11_first 1 = .ok (.ldc 102, 2) := dk_18 102 (dk_at dksX11_first_0 1 rfl rfl)
theorem dX11_first_3 : decode cX11_first 3 = .ok (.invokevirtual 79, 3) := dk_182 0 79 (dk_at dksX11_first_0 3 rfl rfl)
theorem dX11_first_6 : decode cX11_first 6 = .ok (.aload_n 0, 1) := dk_42 (dk_at dksX11_first_0 6 rfl rfl)
theorem dX11_first_7 : decode cX11_first 7 = .ok (.getfield 12, 3) := dk_180 0 12 (dk_at dksX11_first_0 7 rfl rfl)
theorem dX11_first_10 : decode cX11_first 10 = .ok (.aload_n 0, 1) := dk_42 (dk_at dksX11_first_0 10 rfl rfl)
theorem dX11_first_11 : decode cX11_first 11 = .ok (.ldc 104, 2) := dk_18 104 (dk_at dksX11_first_0 11 rfl rfl)
theorem dX11_first_13 : decode cX11_first 13 = .ok (.iconst 1, 1) := dk_4 (dk_at dksX11_first_0 13 rfl rfl)
theorem dX11_first_14 : decode cX11_first 14 = .ok (.iconst 4, 1) := dk_7 (dk_at dksX11_first_0 14 rfl rfl)
theorem dX11_first_15 : decode cX11_first 15 = .ok (.invokevirtual 106, 3) := dk_182 0 106 (dk_at dksX11_first_0 15 rfl rfl)
theorem dX11_first_18 : decode cX11_first 18 = .ok (.putfield 109, 3) := dk_181 0 109 (dk_at dksX11_first_0 18 rfl rfl)
theorem dX11_first_21 : decode cX11_first 21 = .ok (.aload_n 0, 1) := dk_42 (dk_at dksX11_first_0 21 rfl rfl)
theorem dX11_first_22 : decode cX11_first 22 = .ok (.getfield 12, 3) := dk_180 0 12 (dk_at dksX11_first_1 0 rfl rfl)
theorem dX11_first_25 : decode cX11_first 25 = .ok (.aload_n 0, 1) := dk_42 (dk_at dksX11_first_1 3 rfl rfl)
theorem dX11_first_26 : decode cX11_first 26 = .ok (.ldc 111, 2) := dk_18 111 (dk_at dksX11_first_1 4 rfl rfl)
theorem dX11_first_28 : decode cX11_first 28 = .ok (.iconst 1, 1) := dk_4 (dk_at dksX11_first_1 6 rfl rfl)
theorem dX11_first_29 : decode cX11_first 29 = .ok (.iconst 3, 1) := dk_6 (dk_at dksX11_first_1 7 rfl rfl)
theorem dX11_first_30 : decode cX11_first 30 = .ok (.invokevirtual 106, 3) := dk_182 0 106 (dk_at dksX11_first_1 8 rfl rfl)
theorem dX11_first_33 : decode cX11_first 33 = .ok (.putfield 113, 3) := dk_181 0 113 (dk_at dksX11_first_1 11 rfl rfl)
theorem dX11_first_36 : decode cX11_first 36 = .ok (.aload_n 0, 1) := dk_42 (dk_at dksX11_first_1 14 rfl rfl)
theorem dX11_first_37 : decode cX11_first 37 = .ok (.getfield 12, 3) := dk_180 0 12 (dk_at dksX11_first_1 15 rfl rfl)
theorem dX11_first_40 : decode cX11_first 40 = .ok (.aload_n 0, 1) := dk_42 (dk_at dksX11_first_1 18 rfl rfl)
theorem dX11_first_41 : decode cX11_first 41 = .ok (.ldc 115, 2) := dk_18 115 (dk_at dksX11_first_1 19 rfl rfl)
theorem dX11_first_43 : decode cX11_first 43 = .ok (.iconst 1, 1) := dk_4 (dk_at dksX11_first_1 21 rfl rfl)
theorem dX11_first_44 : decode cX11_first 44 = .ok (.sipush 200, 3) := dk_17 0 200 (dk_at dksX11_first_2 0 rfl rfl)
theorem dX11_first_47 : decode cX11_first 47 = .ok (.invokevirtual 106, 3) := dk_182 0 106 (dk_at dksX11_first_2 3 rfl rfl)
theorem dX11_first_50 : decode cX11_first 50 = .ok (.putfield 117, 3) := dk_181 0 117 (dk_at dksX11_first_2 6 rfl rfl)
theorem dX11_first_53 : decode cX11_first 53 = .ok (.aload_n 0, 1) := dk_42 (dk_at dksX11_first_2 9 rfl rfl)
theorem dX11_first_54 : decode cX11_first 54 = .ok (.getfield 12, 3) := dk_180 0 12 (dk_at dksX11_first_2 10 rfl rfl)
theorem dX11_first_57 : decode cX11_first 57 = .ok (.aload_n 0, 1) := dk_42 (dk_at dksX11_first_2 13 rfl rfl)
theorem dX11_first_58 : decode cX11_first 58 = .ok (.ldc 119, 2) := dk_18 119 (dk_at dksX11_first_2 14 rfl rfl)
theorem dX11_first_60 : decode cX11_first 60 = .ok (.iconst 0, 1) := dk_3 (dk_at dksX11_first_2 16 rfl rfl)
theorem dX11_first_61 : decode cX11_first 61 = .ok (.bipush 9, 2) := dk_16 9 (dk_at dksX11_first_2 17 rfl rfl)
theorem dX11_first_63 : decode cX11_first 63 = .ok (.invokevirtual 106, 3) := dk_182 0 106 (dk_at dksX11_first_2 19 rfl rfl)
theorem dX11_first_66 : decode cX11_first 66 = .ok (.putfield 121, 3) := dk_181 0 121 (dk_at dksX11_first_3 0 rfl rfl)
theorem dX11_first_69 : decode cX11_first 69 = .ok (.return_, 1) := dk_177 (dk_at dksX11_first_3 3 rfl rfl)
abbrev cX11_asks : ByteArray := prog_12_method_6_code
def yX11_asks : MethodName := ⟨RX11, "asks", "(Ljava/lang/String;)V"⟩
def dkwX11_asks_0 : List UInt8 := [42, 43, 182, 0, 71, 154, 0, 9, 42, 4, 182, 0, 75, 191, 42, 182, 0, 26, 177]
abbrev dktX11_asks_0 : List UInt8 := dkwX11_asks_0 ++ []
theorem dksX11_asks_0 : cX11_asks.data.toList.drop 0 = dktX11_asks_0 := by decide +kernel
theorem dX11_asks_0 : decode cX11_asks 0 = .ok (.aload_n 0, 1) := dk_42 (dk_at dksX11_asks_0 0 rfl rfl)
theorem dX11_asks_1 : decode cX11_asks 1 = .ok (.aload_n 1, 1) := dk_43 (dk_at dksX11_asks_0 1 rfl rfl)
theorem dX11_asks_2 : decode cX11_asks 2 = .ok (.invokevirtual 71, 3) := dk_182 0 71 (dk_at dksX11_asks_0 2 rfl rfl)
theorem dX11_asks_5 : decode cX11_asks 5 = .ok (.ifCond .ne 9, 3) := dk_154 0 9 (dk_at dksX11_asks_0 5 rfl rfl)
theorem dX11_asks_8 : decode cX11_asks 8 = .ok (.aload_n 0, 1) := dk_42 (dk_at dksX11_asks_0 8 rfl rfl)
theorem dX11_asks_9 : decode cX11_asks 9 = .ok (.iconst 1, 1) := dk_4 (dk_at dksX11_asks_0 9 rfl rfl)
theorem dX11_asks_10 : decode cX11_asks 10 = .ok (.invokevirtual 75, 3) := dk_182 0 75 (dk_at dksX11_asks_0 10 rfl rfl)
theorem dX11_asks_13 : decode cX11_asks 13 = .ok (.athrow, 1) := dk_191 (dk_at dksX11_asks_0 13 rfl rfl)
theorem dX11_asks_14 : decode cX11_asks 14 = .ok (.aload_n 0, 1) := dk_42 (dk_at dksX11_asks_0 14 rfl rfl)
theorem dX11_asks_15 : decode cX11_asks 15 = .ok (.invokevirtual 26, 3) := dk_182 0 26 (dk_at dksX11_asks_0 15 rfl rfl)
theorem dX11_asks_18 : decode cX11_asks 18 = .ok (.return_, 1) := dk_177 (dk_at dksX11_asks_0 18 rfl rfl)
abbrev cX11_is : ByteArray := prog_12_method_5_code
def yX11_is : MethodName := ⟨RX11, "is", "(Ljava/lang/String;)Z"⟩
def dkwX11_is_2 : List UInt8 := [28, 182, 0, 67, 159, 0, 5, 3, 172, 132, 2, 1, 167, 255, 224, 4, 172]
abbrev dktX11_is_2 : List UInt8 := dkwX11_is_2 ++ []
def dkwX11_is_1 : List UInt8 := [3, 172, 3, 61, 28, 43, 182, 0, 61, 162, 0, 30, 42, 180, 0, 18, 42, 180, 0, 40, 28, 96, 51, 43]
abbrev dktX11_is_1 : List UInt8 := dkwX11_is_1 ++ dktX11_is_2
def dkwX11_is_0 : List UInt8 := [42, 180, 0, 46, 4, 160, 0, 19, 42, 180, 0, 29, 42, 180, 0, 40, 100, 43, 182, 0, 61, 159, 0, 5]
abbrev dktX11_is_0 : List UInt8 := dkwX11_is_0 ++ dktX11_is_1
theorem dksX11_is_0 : cX11_is.data.toList.drop 0 = dktX11_is_0 := by decide +kernel
theorem dksX11_is_1 : cX11_is.data.toList.drop 24 = dktX11_is_1 := dk_seg dksX11_is_0 24 rfl rfl
theorem dksX11_is_2 : cX11_is.data.toList.drop 48 = dktX11_is_2 := dk_seg dksX11_is_1 24 rfl rfl
theorem dX11_is_0 : decode cX11_is 0 = .ok (.aload_n 0, 1) := dk_42 (dk_at dksX11_is_0 0 rfl rfl)
theorem dX11_is_1 : decode cX11_is 1 = .ok (.getfield 46, 3) := dk_180 0 46 (dk_at dksX11_is_0 1 rfl rfl)
theorem dX11_is_4 : decode cX11_is 4 = .ok (.iconst 1, 1) := dk_4 (dk_at dksX11_is_0 4 rfl rfl)
theorem dX11_is_5 : decode cX11_is 5 = .ok (.if_icmp .ne 19, 3) := dk_160 0 19 (dk_at dksX11_is_0 5 rfl rfl)
theorem dX11_is_8 : decode cX11_is 8 = .ok (.aload_n 0, 1) := dk_42 (dk_at dksX11_is_0 8 rfl rfl)
theorem dX11_is_9 : decode cX11_is 9 = .ok (.getfield 29, 3) := dk_180 0 29 (dk_at dksX11_is_0 9 rfl rfl)
theorem dX11_is_12 : decode cX11_is 12 = .ok (.aload_n 0, 1) := dk_42 (dk_at dksX11_is_0 12 rfl rfl)
theorem dX11_is_13 : decode cX11_is 13 = .ok (.getfield 40, 3) := dk_180 0 40 (dk_at dksX11_is_0 13 rfl rfl)
theorem dX11_is_16 : decode cX11_is 16 = .ok (.isub, 1) := dk_100 (dk_at dksX11_is_0 16 rfl rfl)
theorem dX11_is_17 : decode cX11_is 17 = .ok (.aload_n 1, 1) := dk_43 (dk_at dksX11_is_0 17 rfl rfl)
theorem dX11_is_18 : decode cX11_is 18 = .ok (.invokevirtual 61, 3) := dk_182 0 61 (dk_at dksX11_is_0 18 rfl rfl)
theorem dX11_is_21 : decode cX11_is 21 = .ok (.if_icmp .eq 5, 3) := dk_159 0 5 (dk_at dksX11_is_0 21 rfl rfl)
theorem dX11_is_24 : decode cX11_is 24 = .ok (.iconst 0, 1) := dk_3 (dk_at dksX11_is_1 0 rfl rfl)
theorem dX11_is_25 : decode cX11_is 25 = .ok (.ireturn, 1) := dk_172 (dk_at dksX11_is_1 1 rfl rfl)
theorem dX11_is_26 : decode cX11_is 26 = .ok (.iconst 0, 1) := dk_3 (dk_at dksX11_is_1 2 rfl rfl)
theorem dX11_is_27 : decode cX11_is 27 = .ok (.istore_n 2, 1) := dk_61 (dk_at dksX11_is_1 3 rfl rfl)
theorem dX11_is_28 : decode cX11_is 28 = .ok (.iload_n 2, 1) := dk_28 (dk_at dksX11_is_1 4 rfl rfl)
theorem dX11_is_29 : decode cX11_is 29 = .ok (.aload_n 1, 1) := dk_43 (dk_at dksX11_is_1 5 rfl rfl)
theorem dX11_is_30 : decode cX11_is 30 = .ok (.invokevirtual 61, 3) := dk_182 0 61 (dk_at dksX11_is_1 6 rfl rfl)
theorem dX11_is_33 : decode cX11_is 33 = .ok (.if_icmp .ge 30, 3) := dk_162 0 30 (dk_at dksX11_is_1 9 rfl rfl)
theorem dX11_is_36 : decode cX11_is 36 = .ok (.aload_n 0, 1) := dk_42 (dk_at dksX11_is_1 12 rfl rfl)
theorem dX11_is_37 : decode cX11_is 37 = .ok (.getfield 18, 3) := dk_180 0 18 (dk_at dksX11_is_1 13 rfl rfl)
theorem dX11_is_40 : decode cX11_is 40 = .ok (.aload_n 0, 1) := dk_42 (dk_at dksX11_is_1 16 rfl rfl)
theorem dX11_is_41 : decode cX11_is 41 = .ok (.getfield 40, 3) := dk_180 0 40 (dk_at dksX11_is_1 17 rfl rfl)
theorem dX11_is_44 : decode cX11_is 44 = .ok (.iload_n 2, 1) := dk_28 (dk_at dksX11_is_1 20 rfl rfl)
theorem dX11_is_45 : decode cX11_is 45 = .ok (.iadd, 1) := dk_96 (dk_at dksX11_is_1 21 rfl rfl)
theorem dX11_is_46 : decode cX11_is 46 = .ok (.baload, 1) := dk_51 (dk_at dksX11_is_1 22 rfl rfl)
theorem dX11_is_47 : decode cX11_is 47 = .ok (.aload_n 1, 1) := dk_43 (dk_at dksX11_is_1 23 rfl rfl)
theorem dX11_is_48 : decode cX11_is 48 = .ok (.iload_n 2, 1) := dk_28 (dk_at dksX11_is_2 0 rfl rfl)
theorem dX11_is_49 : decode cX11_is 49 = .ok (.invokevirtual 67, 3) := dk_182 0 67 (dk_at dksX11_is_2 1 rfl rfl)
theorem dX11_is_52 : decode cX11_is 52 = .ok (.if_icmp .eq 5, 3) := dk_159 0 5 (dk_at dksX11_is_2 4 rfl rfl)
theorem dX11_is_55 : decode cX11_is 55 = .ok (.iconst 0, 1) := dk_3 (dk_at dksX11_is_2 7 rfl rfl)
theorem dX11_is_56 : decode cX11_is 56 = .ok (.ireturn, 1) := dk_172 (dk_at dksX11_is_2 8 rfl rfl)
theorem dX11_is_57 : decode cX11_is 57 = .ok (.iinc 2 1, 3) := dk_132 2 1 (dk_at dksX11_is_2 9 rfl rfl)
theorem dX11_is_60 : decode cX11_is 60 = .ok (.goto (-32), 3) := dk_167 255 224 (dk_at dksX11_is_2 12 rfl rfl)
theorem dX11_is_63 : decode cX11_is 63 = .ok (.iconst 1, 1) := dk_4 (dk_at dksX11_is_2 15 rfl rfl)
theorem dX11_is_64 : decode cX11_is 64 = .ok (.ireturn, 1) := dk_172 (dk_at dksX11_is_2 16 rfl rfl)
abbrev cX11_fault : ByteArray := prog_12_method_4_code
def yX11_fault : MethodName := ⟨RX11, "fault", "(I)LMoleBoard$Fault;"⟩
def dkwX11_fault_0 : List UInt8 := [187, 0, 56, 89, 27, 42, 180, 0, 40, 183, 0, 58, 176]
abbrev dktX11_fault_0 : List UInt8 := dkwX11_fault_0 ++ []
theorem dksX11_fault_0 : cX11_fault.data.toList.drop 0 = dktX11_fault_0 := by decide +kernel
theorem dX11_fault_0 : decode cX11_fault 0 = .ok (.new 56, 3) := dk_187 0 56 (dk_at dksX11_fault_0 0 rfl rfl)
theorem dX11_fault_3 : decode cX11_fault 3 = .ok (.dup, 1) := dk_89 (dk_at dksX11_fault_0 3 rfl rfl)
theorem dX11_fault_4 : decode cX11_fault 4 = .ok (.iload_n 1, 1) := dk_27 (dk_at dksX11_fault_0 4 rfl rfl)
theorem dX11_fault_5 : decode cX11_fault 5 = .ok (.aload_n 0, 1) := dk_42 (dk_at dksX11_fault_0 5 rfl rfl)
theorem dX11_fault_6 : decode cX11_fault 6 = .ok (.getfield 40, 3) := dk_180 0 40 (dk_at dksX11_fault_0 6 rfl rfl)
theorem dX11_fault_9 : decode cX11_fault 9 = .ok (.invokespecial 58, 3) := dk_183 0 58 (dk_at dksX11_fault_0 9 rfl rfl)
theorem dX11_fault_12 : decode cX11_fault 12 = .ok (.areturn, 1) := dk_176 (dk_at dksX11_fault_0 12 rfl rfl)
abbrev cX11_number : ByteArray := prog_12_method_8_code
def yX11_number : MethodName := ⟨RX11, "number", "(Ljava/lang/String;II)I"⟩
def dkwX11_number_0 : List UInt8 := [42, 43, 182, 0, 79, 42, 28, 29, 182, 0, 83, 172]
abbrev dktX11_number_0 : List UInt8 := dkwX11_number_0 ++ []
theorem dksX11_number_0 : cX11_number.data.toList.drop 0 = dktX11_number_0 := by decide +kernel
theorem dX11_number_0 : decode cX11_number 0 = .ok (.aload_n 0, 1) := dk_42 (dk_at dksX11_number_0 0 rfl rfl)
theorem dX11_number_1 : decode cX11_number 1 = .ok (.aload_n 1, 1) := dk_43 (dk_at dksX11_number_0 1 rfl rfl)
theorem dX11_number_2 : decode cX11_number 2 = .ok (.invokevirtual 79, 3) := dk_182 0 79 (dk_at dksX11_number_0 2 rfl rfl)
theorem dX11_number_5 : decode cX11_number 5 = .ok (.aload_n 0, 1) := dk_42 (dk_at dksX11_number_0 5 rfl rfl)
theorem dX11_number_6 : decode cX11_number 6 = .ok (.iload_n 2, 1) := dk_28 (dk_at dksX11_number_0 6 rfl rfl)
theorem dX11_number_7 : decode cX11_number 7 = .ok (.iload_n 3, 1) := dk_29 (dk_at dksX11_number_0 7 rfl rfl)
theorem dX11_number_8 : decode cX11_number 8 = .ok (.invokevirtual 83, 3) := dk_182 0 83 (dk_at dksX11_number_0 8 rfl rfl)
theorem dX11_number_11 : decode cX11_number 11 = .ok (.ireturn, 1) := dk_172 (dk_at dksX11_number_0 11 rfl rfl)
abbrev cX11_number_2 : ByteArray := prog_12_method_7_code
def yX11_number_2 : MethodName := ⟨RX11, "number", "(II)I"⟩
def dkwX11_number_2_1 : List UInt8 := [184, 0, 32, 154, 0, 9, 42, 5, 182, 0, 75, 191, 42, 180, 0, 43, 62, 42, 182, 0, 26, 29, 172]
abbrev dktX11_number_2_1 : List UInt8 := dkwX11_number_2_1 ++ []
def dkwX11_number_2_0 : List UInt8 := [42, 180, 0, 46, 5, 159, 0, 9, 42, 4, 182, 0, 75, 191, 42, 180, 0, 43, 133, 27, 133, 28, 133]
abbrev dktX11_number_2_0 : List UInt8 := dkwX11_number_2_0 ++ dktX11_number_2_1
theorem dksX11_number_2_0 : cX11_number_2.data.toList.drop 0 = dktX11_number_2_0 := by decide +kernel
theorem dksX11_number_2_1 : cX11_number_2.data.toList.drop 23 = dktX11_number_2_1 := dk_seg dksX11_number_2_0 23 rfl rfl
theorem dX11_number_2_0 : decode cX11_number_2 0 = .ok (.aload_n 0, 1) := dk_42 (dk_at dksX11_number_2_0 0 rfl rfl)
theorem dX11_number_2_1 : decode cX11_number_2 1 = .ok (.getfield 46, 3) := dk_180 0 46 (dk_at dksX11_number_2_0 1 rfl rfl)
theorem dX11_number_2_4 : decode cX11_number_2 4 = .ok (.iconst 2, 1) := dk_5 (dk_at dksX11_number_2_0 4 rfl rfl)
theorem dX11_number_2_5 : decode cX11_number_2 5 = .ok (.if_icmp .eq 9, 3) := dk_159 0 9 (dk_at dksX11_number_2_0 5 rfl rfl)
theorem dX11_number_2_8 : decode cX11_number_2 8 = .ok (.aload_n 0, 1) := dk_42 (dk_at dksX11_number_2_0 8 rfl rfl)
theorem dX11_number_2_9 : decode cX11_number_2 9 = .ok (.iconst 1, 1) := dk_4 (dk_at dksX11_number_2_0 9 rfl rfl)
theorem dX11_number_2_10 : decode cX11_number_2 10 = .ok (.invokevirtual 75, 3) := dk_182 0 75 (dk_at dksX11_number_2_0 10 rfl rfl)
theorem dX11_number_2_13 : decode cX11_number_2 13 = .ok (.athrow, 1) := dk_191 (dk_at dksX11_number_2_0 13 rfl rfl)
theorem dX11_number_2_14 : decode cX11_number_2 14 = .ok (.aload_n 0, 1) := dk_42 (dk_at dksX11_number_2_0 14 rfl rfl)
theorem dX11_number_2_15 : decode cX11_number_2 15 = .ok (.getfield 43, 3) := dk_180 0 43 (dk_at dksX11_number_2_0 15 rfl rfl)
theorem dX11_number_2_18 : decode cX11_number_2 18 = .ok (.i2l, 1) := dk_133 (dk_at dksX11_number_2_0 18 rfl rfl)
theorem dX11_number_2_19 : decode cX11_number_2 19 = .ok (.iload_n 1, 1) := dk_27 (dk_at dksX11_number_2_0 19 rfl rfl)
theorem dX11_number_2_20 : decode cX11_number_2 20 = .ok (.i2l, 1) := dk_133 (dk_at dksX11_number_2_0 20 rfl rfl)
theorem dX11_number_2_21 : decode cX11_number_2 21 = .ok (.iload_n 2, 1) := dk_28 (dk_at dksX11_number_2_0 21 rfl rfl)
theorem dX11_number_2_22 : decode cX11_number_2 22 = .ok (.i2l, 1) := dk_133 (dk_at dksX11_number_2_0 22 rfl rfl)
theorem dX11_number_2_23 : decode cX11_number_2 23 = .ok (.invokestatic 32, 3) := dk_184 0 32 (dk_at dksX11_number_2_1 0 rfl rfl)
theorem dX11_number_2_26 : decode cX11_number_2 26 = .ok (.ifCond .ne 9, 3) := dk_154 0 9 (dk_at dksX11_number_2_1 3 rfl rfl)
theorem dX11_number_2_29 : decode cX11_number_2 29 = .ok (.aload_n 0, 1) := dk_42 (dk_at dksX11_number_2_1 6 rfl rfl)
theorem dX11_number_2_30 : decode cX11_number_2 30 = .ok (.iconst 2, 1) := dk_5 (dk_at dksX11_number_2_1 7 rfl rfl)
theorem dX11_number_2_31 : decode cX11_number_2 31 = .ok (.invokevirtual 75, 3) := dk_182 0 75 (dk_at dksX11_number_2_1 8 rfl rfl)
theorem dX11_number_2_34 : decode cX11_number_2 34 = .ok (.athrow, 1) := dk_191 (dk_at dksX11_number_2_1 11 rfl rfl)
theorem dX11_number_2_35 : decode cX11_number_2 35 = .ok (.aload_n 0, 1) := dk_42 (dk_at dksX11_number_2_1 12 rfl rfl)
theorem dX11_number_2_36 : decode cX11_number_2 36 = .ok (.getfield 43, 3) := dk_180 0 43 (dk_at dksX11_number_2_1 13 rfl rfl)
theorem dX11_number_2_39 : decode cX11_number_2 39 = .ok (.istore_n 3, 1) := dk_62 (dk_at dksX11_number_2_1 16 rfl rfl)
theorem dX11_number_2_40 : decode cX11_number_2 40 = .ok (.aload_n 0, 1) := dk_42 (dk_at dksX11_number_2_1 17 rfl rfl)
theorem dX11_number_2_41 : decode cX11_number_2 41 = .ok (.invokevirtual 26, 3) := dk_182 0 26 (dk_at dksX11_number_2_1 18 rfl rfl)
theorem dX11_number_2_44 : decode cX11_number_2 44 = .ok (.iload_n 3, 1) := dk_29 (dk_at dksX11_number_2_1 21 rfl rfl)
theorem dX11_number_2_45 : decode cX11_number_2 45 = .ok (.ireturn, 1) := dk_172 (dk_at dksX11_number_2_1 22 rfl rfl)
abbrev cX11_line : ByteArray := prog_12_method_18_code
def yX11_line : MethodName := ⟨RX11, "line", "()V"⟩
def dkwX11_line_5 : List UInt8 := [182, 0, 106, 61, 42, 180, 0, 12, 27, 181, 0, 209, 42, 180, 0, 12, 28, 181, 0, 211, 177]
abbrev dktX11_line_5 : List UInt8 := dkwX11_line_5 ++ []
def dkwX11_line_4 : List UInt8 := [167, 0, 44, 42, 18, 205, 182, 0, 79, 42, 4, 16, 99, 182, 0, 83, 60, 42, 18, 207, 4, 17, 1, 244]
abbrev dktX11_line_4 : List UInt8 := dkwX11_line_4 ++ dktX11_line_5
def dkwX11_line_3 : List UInt8 := [18, 195, 182, 0, 71, 182, 0, 197, 167, 0, 60, 42, 18, 201, 182, 0, 71, 153, 0, 10, 42, 182, 0, 203]
abbrev dktX11_line_3 : List UInt8 := dkwX11_line_3 ++ dktX11_line_4
def dkwX11_line_2 : List UInt8 := [182, 0, 71, 154, 0, 12, 42, 18, 195, 182, 0, 71, 153, 0, 22, 42, 42, 18, 193, 182, 0, 71, 42]
abbrev dktX11_line_2 : List UInt8 := dkwX11_line_2 ++ dktX11_line_3
def dkwX11_line_1 : List UInt8 := [153, 0, 10, 42, 182, 0, 189, 167, 0, 106, 42, 18, 191, 182, 0, 71, 154, 0, 21, 42, 18, 193]
abbrev dktX11_line_1 : List UInt8 := dkwX11_line_1 ++ dktX11_line_2
def dkwX11_line_0 : List UInt8 := [42, 18, 185, 182, 0, 71, 153, 0, 10, 42, 182, 0, 186, 167, 0, 122, 42, 18, 188, 182, 0, 71]
abbrev dktX11_line_0 : List UInt8 := dkwX11_line_0 ++ dktX11_line_1
theorem dksX11_line_0 : cX11_line.data.toList.drop 0 = dktX11_line_0 := by decide +kernel
theorem dksX11_line_1 : cX11_line.data.toList.drop 22 = dktX11_line_1 := dk_seg dksX11_line_0 22 rfl rfl
theorem dksX11_line_2 : cX11_line.data.toList.drop 44 = dktX11_line_2 := dk_seg dksX11_line_1 22 rfl rfl
theorem dksX11_line_3 : cX11_line.data.toList.drop 67 = dktX11_line_3 := dk_seg dksX11_line_2 23 rfl rfl
theorem dksX11_line_4 : cX11_line.data.toList.drop 91 = dktX11_line_4 := dk_seg dksX11_line_3 24 rfl rfl
theorem dksX11_line_5 : cX11_line.data.toList.drop 115 = dktX11_line_5 := dk_seg dksX11_line_4 24 rfl rfl
theorem dX11_line_0 : decode cX11_line 0 = .ok (.aload_n 0, 1) := dk_42 (dk_at dksX11_line_0 0 rfl rfl)
theorem dX11_line_1 : decode cX11_line 1 = .ok (.ldc 185, 2) := dk_18 185 (dk_at dksX11_line_0 1 rfl rfl)
theorem dX11_line_3 : decode cX11_line 3 = .ok (.invokevirtual 71, 3) := dk_182 0 71 (dk_at dksX11_line_0 3 rfl rfl)
theorem dX11_line_6 : decode cX11_line 6 = .ok (.ifCond .eq 10, 3) := dk_153 0 10 (dk_at dksX11_line_0 6 rfl rfl)
theorem dX11_line_9 : decode cX11_line 9 = .ok (.aload_n 0, 1) := dk_42 (dk_at dksX11_line_0 9 rfl rfl)
theorem dX11_line_10 : decode cX11_line 10 = .ok (.invokevirtual 186, 3) := dk_182 0 186 (dk_at dksX11_line_0 10 rfl rfl)
theorem dX11_line_13 : decode cX11_line 13 = .ok (.goto 122, 3) := dk_167 0 122 (dk_at dksX11_line_0 13 rfl rfl)
theorem dX11_line_16 : decode cX11_line 16 = .ok (.aload_n 0, 1) := dk_42 (dk_at dksX11_line_0 16 rfl rfl)
theorem dX11_line_17 : decode cX11_line 17 = .ok (.ldc 188, 2) := dk_18 188 (dk_at dksX11_line_0 17 rfl rfl)
theorem dX11_line_19 : decode cX11_line 19 = .ok (.invokevirtual 71, 3) := dk_182 0 71 (dk_at dksX11_line_0 19 rfl rfl)
theorem dX11_line_22 : decode cX11_line 22 = .ok (.ifCond .eq 10, 3) := dk_153 0 10 (dk_at dksX11_line_1 0 rfl rfl)
theorem dX11_line_25 : decode cX11_line 25 = .ok (.aload_n 0, 1) := dk_42 (dk_at dksX11_line_1 3 rfl rfl)
theorem dX11_line_26 : decode cX11_line 26 = .ok (.invokevirtual 189, 3) := dk_182 0 189 (dk_at dksX11_line_1 4 rfl rfl)
theorem dX11_line_29 : decode cX11_line 29 = .ok (.goto 106, 3) := dk_167 0 106 (dk_at dksX11_line_1 7 rfl rfl)
theorem dX11_line_32 : decode cX11_line 32 = .ok (.aload_n 0, 1) := dk_42 (dk_at dksX11_line_1 10 rfl rfl)
theorem dX11_line_33 : decode cX11_line 33 = .ok (.ldc 191, 2) := dk_18 191 (dk_at dksX11_line_1 11 rfl rfl)
theorem dX11_line_35 : decode cX11_line 35 = .ok (.invokevirtual 71, 3) := dk_182 0 71 (dk_at dksX11_line_1 13 rfl rfl)
theorem dX11_line_38 : decode cX11_line 38 = .ok (.ifCond .ne 21, 3) := dk_154 0 21 (dk_at dksX11_line_1 16 rfl rfl)
theorem dX11_line_41 : decode cX11_line 41 = .ok (.aload_n 0, 1) := dk_42 (dk_at dksX11_line_1 19 rfl rfl)
theorem dX11_line_42 : decode cX11_line 42 = .ok (.ldc 193, 2) := dk_18 193 (dk_at dksX11_line_1 20 rfl rfl)
theorem dX11_line_44 : decode cX11_line 44 = .ok (.invokevirtual 71, 3) := dk_182 0 71 (dk_at dksX11_line_2 0 rfl rfl)
theorem dX11_line_47 : decode cX11_line 47 = .ok (.ifCond .ne 12, 3) := dk_154 0 12 (dk_at dksX11_line_2 3 rfl rfl)
theorem dX11_line_50 : decode cX11_line 50 = .ok (.aload_n 0, 1) := dk_42 (dk_at dksX11_line_2 6 rfl rfl)
theorem dX11_line_51 : decode cX11_line 51 = .ok (.ldc 195, 2) := dk_18 195 (dk_at dksX11_line_2 7 rfl rfl)
theorem dX11_line_53 : decode cX11_line 53 = .ok (.invokevirtual 71, 3) := dk_182 0 71 (dk_at dksX11_line_2 9 rfl rfl)
theorem dX11_line_56 : decode cX11_line 56 = .ok (.ifCond .eq 22, 3) := dk_153 0 22 (dk_at dksX11_line_2 12 rfl rfl)
theorem dX11_line_59 : decode cX11_line 59 = .ok (.aload_n 0, 1) := dk_42 (dk_at dksX11_line_2 15 rfl rfl)
theorem dX11_line_60 : decode cX11_line 60 = .ok (.aload_n 0, 1) := dk_42 (dk_at dksX11_line_2 16 rfl rfl)
theorem dX11_line_61 : decode cX11_line 61 = .ok (.ldc 193, 2) := dk_18 193 (dk_at dksX11_line_2 17 rfl rfl)
theorem dX11_line_63 : decode cX11_line 63 = .ok (.invokevirtual 71, 3) := dk_182 0 71 (dk_at dksX11_line_2 19 rfl rfl)
theorem dX11_line_66 : decode cX11_line 66 = .ok (.aload_n 0, 1) := dk_42 (dk_at dksX11_line_2 22 rfl rfl)
theorem dX11_line_67 : decode cX11_line 67 = .ok (.ldc 195, 2) := dk_18 195 (dk_at dksX11_line_3 0 rfl rfl)
theorem dX11_line_69 : decode cX11_line 69 = .ok (.invokevirtual 71, 3) := dk_182 0 71 (dk_at dksX11_line_3 2 rfl rfl)
theorem dX11_line_72 : decode cX11_line 72 = .ok (.invokevirtual 197, 3) := dk_182 0 197 (dk_at dksX11_line_3 5 rfl rfl)
theorem dX11_line_75 : decode cX11_line 75 = .ok (.goto 60, 3) := dk_167 0 60 (dk_at dksX11_line_3 8 rfl rfl)
theorem dX11_line_78 : decode cX11_line 78 = .ok (.aload_n 0, 1) := dk_42 (dk_at dksX11_line_3 11 rfl rfl)
theorem dX11_line_79 : decode cX11_line 79 = .ok (.ldc 201, 2) := dk_18 201 (dk_at dksX11_line_3 12 rfl rfl)
theorem dX11_line_81 : decode cX11_line 81 = .ok (.invokevirtual 71, 3) := dk_182 0 71 (dk_at dksX11_line_3 14 rfl rfl)
theorem dX11_line_84 : decode cX11_line 84 = .ok (.ifCond .eq 10, 3) := dk_153 0 10 (dk_at dksX11_line_3 17 rfl rfl)
theorem dX11_line_87 : decode cX11_line 87 = .ok (.aload_n 0, 1) := dk_42 (dk_at dksX11_line_3 20 rfl rfl)
theorem dX11_line_88 : decode cX11_line 88 = .ok (.invokevirtual 203, 3) := dk_182 0 203 (dk_at dksX11_line_3 21 rfl rfl)
theorem dX11_line_91 : decode cX11_line 91 = .ok (.goto 44, 3) := dk_167 0 44 (dk_at dksX11_line_4 0 rfl rfl)
theorem dX11_line_94 : decode cX11_line 94 = .ok (.aload_n 0, 1) := dk_42 (dk_at dksX11_line_4 3 rfl rfl)
theorem dX11_line_95 : decode cX11_line 95 = .ok (.ldc 205, 2) := dk_18 205 (dk_at dksX11_line_4 4 rfl rfl)
theorem dX11_line_97 : decode cX11_line 97 = .ok (.invokevirtual 79, 3) := dk_182 0 79 (dk_at dksX11_line_4 6 rfl rfl)
theorem dX11_line_100 : decode cX11_line 100 = .ok (.aload_n 0, 1) := dk_42 (dk_at dksX11_line_4 9 rfl rfl)
theorem dX11_line_101 : decode cX11_line 101 = .ok (.iconst 1, 1) := dk_4 (dk_at dksX11_line_4 10 rfl rfl)
theorem dX11_line_102 : decode cX11_line 102 = .ok (.bipush 99, 2) := dk_16 99 (dk_at dksX11_line_4 11 rfl rfl)
theorem dX11_line_104 : decode cX11_line 104 = .ok (.invokevirtual 83, 3) := dk_182 0 83 (dk_at dksX11_line_4 13 rfl rfl)
theorem dX11_line_107 : decode cX11_line 107 = .ok (.istore_n 1, 1) := dk_60 (dk_at dksX11_line_4 16 rfl rfl)
theorem dX11_line_108 : decode cX11_line 108 = .ok (.aload_n 0, 1) := dk_42 (dk_at dksX11_line_4 17 rfl rfl)
theorem dX11_line_109 : decode cX11_line 109 = .ok (.ldc 207, 2) := dk_18 207 (dk_at dksX11_line_4 18 rfl rfl)
theorem dX11_line_111 : decode cX11_line 111 = .ok (.iconst 1, 1) := dk_4 (dk_at dksX11_line_4 20 rfl rfl)
theorem dX11_line_112 : decode cX11_line 112 = .ok (.sipush 500, 3) := dk_17 1 244 (dk_at dksX11_line_4 21 rfl rfl)
theorem dX11_line_115 : decode cX11_line 115 = .ok (.invokevirtual 106, 3) := dk_182 0 106 (dk_at dksX11_line_5 0 rfl rfl)
theorem dX11_line_118 : decode cX11_line 118 = .ok (.istore_n 2, 1) := dk_61 (dk_at dksX11_line_5 3 rfl rfl)
theorem dX11_line_119 : decode cX11_line 119 = .ok (.aload_n 0, 1) := dk_42 (dk_at dksX11_line_5 4 rfl rfl)
theorem dX11_line_120 : decode cX11_line 120 = .ok (.getfield 12, 3) := dk_180 0 12 (dk_at dksX11_line_5 5 rfl rfl)
theorem dX11_line_123 : decode cX11_line 123 = .ok (.iload_n 1, 1) := dk_27 (dk_at dksX11_line_5 8 rfl rfl)
theorem dX11_line_124 : decode cX11_line 124 = .ok (.putfield 209, 3) := dk_181 0 209 (dk_at dksX11_line_5 9 rfl rfl)
theorem dX11_line_127 : decode cX11_line 127 = .ok (.aload_n 0, 1) := dk_42 (dk_at dksX11_line_5 12 rfl rfl)
theorem dX11_line_128 : decode cX11_line 128 = .ok (.getfield 12, 3) := dk_180 0 12 (dk_at dksX11_line_5 13 rfl rfl)
theorem dX11_line_131 : decode cX11_line 131 = .ok (.iload_n 2, 1) := dk_28 (dk_at dksX11_line_5 16 rfl rfl)
theorem dX11_line_132 : decode cX11_line 132 = .ok (.putfield 211, 3) := dk_181 0 211 (dk_at dksX11_line_5 17 rfl rfl)
theorem dX11_line_135 : decode cX11_line 135 = .ok (.return_, 1) := dk_177 (dk_at dksX11_line_5 20 rfl rfl)
abbrev cX11_stay : ByteArray := prog_12_method_14_code
def yX11_stay : MethodName := ⟨RX11, "stay", "()V"⟩
def dkwX11_stay_7 : List UInt8 := [79, 177]
abbrev dktX11_stay_7 : List UInt8 := dkwX11_stay_7 ++ []
def dkwX11_stay_6 : List UInt8 := [96, 181, 0, 129, 42, 180, 0, 12, 180, 0, 132, 29, 21, 4, 79, 42, 180, 0, 12, 180, 0, 135, 29, 27]
abbrev dktX11_stay_6 : List UInt8 := dkwX11_stay_6 ++ dktX11_stay_7
def dkwX11_stay_5 : List UInt8 := [54, 4, 29, 2, 160, 0, 24, 42, 180, 0, 12, 180, 0, 129, 62, 42, 180, 0, 12, 89, 180, 0, 129, 4]
abbrev dktX11_stay_5 : List UInt8 := dkwX11_stay_5 ++ dktX11_stay_6
def dkwX11_stay_4 : List UInt8 := [160, 0, 9, 42, 6, 182, 0, 75, 191, 42, 3, 42, 180, 0, 12, 180, 0, 117, 4, 100, 182, 0, 83]
abbrev dktX11_stay_4 : List UInt8 := dkwX11_stay_4 ++ dktX11_stay_5
def dkwX11_stay_3 : List UInt8 := [167, 0, 4, 2, 62, 28, 153, 0, 26, 29, 2, 160, 0, 21, 42, 180, 0, 12, 180, 0, 129, 16, 6]
abbrev dktX11_stay_3 : List UInt8 := dkwX11_stay_3 ++ dktX11_stay_4
def dkwX11_stay_2 : List UInt8 := [153, 0, 7, 4, 167, 0, 4, 3, 61, 28, 153, 0, 17, 42, 180, 0, 12, 42, 180, 0, 43, 182, 0, 125]
abbrev dktX11_stay_2 : List UInt8 := dkwX11_stay_2 ++ dktX11_stay_3
def dkwX11_stay_1 : List UInt8 := [160, 0, 29, 42, 180, 0, 43, 133, 9, 42, 180, 0, 12, 180, 0, 117, 4, 100, 133, 184, 0, 32]
abbrev dktX11_stay_1 : List UInt8 := dkwX11_stay_1 ++ dktX11_stay_2
def dkwX11_stay_0 : List UInt8 := [42, 182, 0, 26, 42, 4, 16, 40, 182, 0, 83, 60, 42, 18, 123, 182, 0, 79, 42, 180, 0, 46, 5]
abbrev dktX11_stay_0 : List UInt8 := dkwX11_stay_0 ++ dktX11_stay_1
theorem dksX11_stay_0 : cX11_stay.data.toList.drop 0 = dktX11_stay_0 := by decide +kernel
theorem dksX11_stay_1 : cX11_stay.data.toList.drop 23 = dktX11_stay_1 := dk_seg dksX11_stay_0 23 rfl rfl
theorem dksX11_stay_2 : cX11_stay.data.toList.drop 45 = dktX11_stay_2 := dk_seg dksX11_stay_1 22 rfl rfl
theorem dksX11_stay_3 : cX11_stay.data.toList.drop 69 = dktX11_stay_3 := dk_seg dksX11_stay_2 24 rfl rfl
theorem dksX11_stay_4 : cX11_stay.data.toList.drop 92 = dktX11_stay_4 := dk_seg dksX11_stay_3 23 rfl rfl
theorem dksX11_stay_5 : cX11_stay.data.toList.drop 115 = dktX11_stay_5 := dk_seg dksX11_stay_4 23 rfl rfl
theorem dksX11_stay_6 : cX11_stay.data.toList.drop 139 = dktX11_stay_6 := dk_seg dksX11_stay_5 24 rfl rfl
theorem dksX11_stay_7 : cX11_stay.data.toList.drop 163 = dktX11_stay_7 := dk_seg dksX11_stay_6 24 rfl rfl
theorem dX11_stay_0 : decode cX11_stay 0 = .ok (.aload_n 0, 1) := dk_42 (dk_at dksX11_stay_0 0 rfl rfl)
theorem dX11_stay_1 : decode cX11_stay 1 = .ok (.invokevirtual 26, 3) := dk_182 0 26 (dk_at dksX11_stay_0 1 rfl rfl)
theorem dX11_stay_4 : decode cX11_stay 4 = .ok (.aload_n 0, 1) := dk_42 (dk_at dksX11_stay_0 4 rfl rfl)
theorem dX11_stay_5 : decode cX11_stay 5 = .ok (.iconst 1, 1) := dk_4 (dk_at dksX11_stay_0 5 rfl rfl)
theorem dX11_stay_6 : decode cX11_stay 6 = .ok (.bipush 40, 2) := dk_16 40 (dk_at dksX11_stay_0 6 rfl rfl)
theorem dX11_stay_8 : decode cX11_stay 8 = .ok (.invokevirtual 83, 3) := dk_182 0 83 (dk_at dksX11_stay_0 8 rfl rfl)
theorem dX11_stay_11 : decode cX11_stay 11 = .ok (.istore_n 1, 1) := dk_60 (dk_at dksX11_stay_0 11 rfl rfl)
theorem dX11_stay_12 : decode cX11_stay 12 = .ok (.aload_n 0, 1) := dk_42 (dk_at dksX11_stay_0 12 rfl rfl)
theorem dX11_stay_13 : decode cX11_stay 13 = .ok (.ldc 123, 2) := dk_18 123 (dk_at dksX11_stay_0 13 rfl rfl)
theorem dX11_stay_15 : decode cX11_stay 15 = .ok (.invokevirtual 79, 3) := dk_182 0 79 (dk_at dksX11_stay_0 15 rfl rfl)
theorem dX11_stay_18 : decode cX11_stay 18 = .ok (.aload_n 0, 1) := dk_42 (dk_at dksX11_stay_0 18 rfl rfl)
theorem dX11_stay_19 : decode cX11_stay 19 = .ok (.getfield 46, 3) := dk_180 0 46 (dk_at dksX11_stay_0 19 rfl rfl)
theorem dX11_stay_22 : decode cX11_stay 22 = .ok (.iconst 2, 1) := dk_5 (dk_at dksX11_stay_0 22 rfl rfl)
theorem dX11_stay_23 : decode cX11_stay 23 = .ok (.if_icmp .ne 29, 3) := dk_160 0 29 (dk_at dksX11_stay_1 0 rfl rfl)
theorem dX11_stay_26 : decode cX11_stay 26 = .ok (.aload_n 0, 1) := dk_42 (dk_at dksX11_stay_1 3 rfl rfl)
theorem dX11_stay_27 : decode cX11_stay 27 = .ok (.getfield 43, 3) := dk_180 0 43 (dk_at dksX11_stay_1 4 rfl rfl)
theorem dX11_stay_30 : decode cX11_stay 30 = .ok (.i2l, 1) := dk_133 (dk_at dksX11_stay_1 7 rfl rfl)
theorem dX11_stay_31 : decode cX11_stay 31 = .ok (.lconst 0, 1) := dk_9 (dk_at dksX11_stay_1 8 rfl rfl)
theorem dX11_stay_32 : decode cX11_stay 32 = .ok (.aload_n 0, 1) := dk_42 (dk_at dksX11_stay_1 9 rfl rfl)
theorem dX11_stay_33 : decode cX11_stay 33 = .ok (.getfield 12, 3) := dk_180 0 12 (dk_at dksX11_stay_1 10 rfl rfl)
theorem dX11_stay_36 : decode cX11_stay 36 = .ok (.getfield 117, 3) := dk_180 0 117 (dk_at dksX11_stay_1 13 rfl rfl)
theorem dX11_stay_39 : decode cX11_stay 39 = .ok (.iconst 1, 1) := dk_4 (dk_at dksX11_stay_1 16 rfl rfl)
theorem dX11_stay_40 : decode cX11_stay 40 = .ok (.isub, 1) := dk_100 (dk_at dksX11_stay_1 17 rfl rfl)
theorem dX11_stay_41 : decode cX11_stay 41 = .ok (.i2l, 1) := dk_133 (dk_at dksX11_stay_1 18 rfl rfl)
theorem dX11_stay_42 : decode cX11_stay 42 = .ok (.invokestatic 32, 3) := dk_184 0 32 (dk_at dksX11_stay_1 19 rfl rfl)
theorem dX11_stay_45 : decode cX11_stay 45 = .ok (.ifCond .eq 7, 3) := dk_153 0 7 (dk_at dksX11_stay_2 0 rfl rfl)
theorem dX11_stay_48 : decode cX11_stay 48 = .ok (.iconst 1, 1) := dk_4 (dk_at dksX11_stay_2 3 rfl rfl)
theorem dX11_stay_49 : decode cX11_stay 49 = .ok (.goto 4, 3) := dk_167 0 4 (dk_at dksX11_stay_2 4 rfl rfl)
theorem dX11_stay_52 : decode cX11_stay 52 = .ok (.iconst 0, 1) := dk_3 (dk_at dksX11_stay_2 7 rfl rfl)
theorem dX11_stay_53 : decode cX11_stay 53 = .ok (.istore_n 2, 1) := dk_61 (dk_at dksX11_stay_2 8 rfl rfl)
theorem dX11_stay_54 : decode cX11_stay 54 = .ok (.iload_n 2, 1) := dk_28 (dk_at dksX11_stay_2 9 rfl rfl)
theorem dX11_stay_55 : decode cX11_stay 55 = .ok (.ifCond .eq 17, 3) := dk_153 0 17 (dk_at dksX11_stay_2 10 rfl rfl)
theorem dX11_stay_58 : decode cX11_stay 58 = .ok (.aload_n 0, 1) := dk_42 (dk_at dksX11_stay_2 13 rfl rfl)
theorem dX11_stay_59 : decode cX11_stay 59 = .ok (.getfield 12, 3) := dk_180 0 12 (dk_at dksX11_stay_2 14 rfl rfl)
theorem dX11_stay_62 : decode cX11_stay 62 = .ok (.aload_n 0, 1) := dk_42 (dk_at dksX11_stay_2 17 rfl rfl)
theorem dX11_stay_63 : decode cX11_stay 63 = .ok (.getfield 43, 3) := dk_180 0 43 (dk_at dksX11_stay_2 18 rfl rfl)
theorem dX11_stay_66 : decode cX11_stay 66 = .ok (.invokevirtual 125, 3) := dk_182 0 125 (dk_at dksX11_stay_2 21 rfl rfl)
theorem dX11_stay_69 : decode cX11_stay 69 = .ok (.goto 4, 3) := dk_167 0 4 (dk_at dksX11_stay_3 0 rfl rfl)
theorem dX11_stay_72 : decode cX11_stay 72 = .ok (.iconst (-1), 1) := dk_2 (dk_at dksX11_stay_3 3 rfl rfl)
theorem dX11_stay_73 : decode cX11_stay 73 = .ok (.istore_n 3, 1) := dk_62 (dk_at dksX11_stay_3 4 rfl rfl)
theorem dX11_stay_74 : decode cX11_stay 74 = .ok (.iload_n 2, 1) := dk_28 (dk_at dksX11_stay_3 5 rfl rfl)
theorem dX11_stay_75 : decode cX11_stay 75 = .ok (.ifCond .eq 26, 3) := dk_153 0 26 (dk_at dksX11_stay_3 6 rfl rfl)
theorem dX11_stay_78 : decode cX11_stay 78 = .ok (.iload_n 3, 1) := dk_29 (dk_at dksX11_stay_3 9 rfl rfl)
theorem dX11_stay_79 : decode cX11_stay 79 = .ok (.iconst (-1), 1) := dk_2 (dk_at dksX11_stay_3 10 rfl rfl)
theorem dX11_stay_80 : decode cX11_stay 80 = .ok (.if_icmp .ne 21, 3) := dk_160 0 21 (dk_at dksX11_stay_3 11 rfl rfl)
theorem dX11_stay_83 : decode cX11_stay 83 = .ok (.aload_n 0, 1) := dk_42 (dk_at dksX11_stay_3 14 rfl rfl)
theorem dX11_stay_84 : decode cX11_stay 84 = .ok (.getfield 12, 3) := dk_180 0 12 (dk_at dksX11_stay_3 15 rfl rfl)
theorem dX11_stay_87 : decode cX11_stay 87 = .ok (.getfield 129, 3) := dk_180 0 129 (dk_at dksX11_stay_3 18 rfl rfl)
theorem dX11_stay_90 : decode cX11_stay 90 = .ok (.bipush 6, 2) := dk_16 6 (dk_at dksX11_stay_3 21 rfl rfl)
theorem dX11_stay_92 : decode cX11_stay 92 = .ok (.if_icmp .ne 9, 3) := dk_160 0 9 (dk_at dksX11_stay_4 0 rfl rfl)
theorem dX11_stay_95 : decode cX11_stay 95 = .ok (.aload_n 0, 1) := dk_42 (dk_at dksX11_stay_4 3 rfl rfl)
theorem dX11_stay_96 : decode cX11_stay 96 = .ok (.iconst 3, 1) := dk_6 (dk_at dksX11_stay_4 4 rfl rfl)
theorem dX11_stay_97 : decode cX11_stay 97 = .ok (.invokevirtual 75, 3) := dk_182 0 75 (dk_at dksX11_stay_4 5 rfl rfl)
theorem dX11_stay_100 : decode cX11_stay 100 = .ok (.athrow, 1) := dk_191 (dk_at dksX11_stay_4 8 rfl rfl)
theorem dX11_stay_101 : decode cX11_stay 101 = .ok (.aload_n 0, 1) := dk_42 (dk_at dksX11_stay_4 9 rfl rfl)
theorem dX11_stay_102 : decode cX11_stay 102 = .ok (.iconst 0, 1) := dk_3 (dk_at dksX11_stay_4 10 rfl rfl)
theorem dX11_stay_103 : decode cX11_stay 103 = .ok (.aload_n 0, 1) := dk_42 (dk_at dksX11_stay_4 11 rfl rfl)
theorem dX11_stay_104 : decode cX11_stay 104 = .ok (.getfield 12, 3) := dk_180 0 12 (dk_at dksX11_stay_4 12 rfl rfl)
theorem dX11_stay_107 : decode cX11_stay 107 = .ok (.getfield 117, 3) := dk_180 0 117 (dk_at dksX11_stay_4 15 rfl rfl)
theorem dX11_stay_110 : decode cX11_stay 110 = .ok (.iconst 1, 1) := dk_4 (dk_at dksX11_stay_4 18 rfl rfl)
theorem dX11_stay_111 : decode cX11_stay 111 = .ok (.isub, 1) := dk_100 (dk_at dksX11_stay_4 19 rfl rfl)
theorem dX11_stay_112 : decode cX11_stay 112 = .ok (.invokevirtual 83, 3) := dk_182 0 83 (dk_at dksX11_stay_4 20 rfl rfl)
theorem dX11_stay_115 : decode cX11_stay 115 = .ok (.istore 4, 2) := dk_54 4 (dk_at dksX11_stay_5 0 rfl rfl)
theorem dX11_stay_117 : decode cX11_stay 117 = .ok (.iload_n 3, 1) := dk_29 (dk_at dksX11_stay_5 2 rfl rfl)
theorem dX11_stay_118 : decode cX11_stay 118 = .ok (.iconst (-1), 1) := dk_2 (dk_at dksX11_stay_5 3 rfl rfl)
theorem dX11_stay_119 : decode cX11_stay 119 = .ok (.if_icmp .ne 24, 3) := dk_160 0 24 (dk_at dksX11_stay_5 4 rfl rfl)
theorem dX11_stay_122 : decode cX11_stay 122 = .ok (.aload_n 0, 1) := dk_42 (dk_at dksX11_stay_5 7 rfl rfl)
theorem dX11_stay_123 : decode cX11_stay 123 = .ok (.getfield 12, 3) := dk_180 0 12 (dk_at dksX11_stay_5 8 rfl rfl)
theorem dX11_stay_126 : decode cX11_stay 126 = .ok (.getfield 129, 3) := dk_180 0 129 (dk_at dksX11_stay_5 11 rfl rfl)
theorem dX11_stay_129 : decode cX11_stay 129 = .ok (.istore_n 3, 1) := dk_62 (dk_at dksX11_stay_5 14 rfl rfl)
theorem dX11_stay_130 : decode cX11_stay 130 = .ok (.aload_n 0, 1) := dk_42 (dk_at dksX11_stay_5 15 rfl rfl)
theorem dX11_stay_131 : decode cX11_stay 131 = .ok (.getfield 12, 3) := dk_180 0 12 (dk_at dksX11_stay_5 16 rfl rfl)
theorem dX11_stay_134 : decode cX11_stay 134 = .ok (.dup, 1) := dk_89 (dk_at dksX11_stay_5 19 rfl rfl)
theorem dX11_stay_135 : decode cX11_stay 135 = .ok (.getfield 129, 3) := dk_180 0 129 (dk_at dksX11_stay_5 20 rfl rfl)
theorem dX11_stay_138 : decode cX11_stay 138 = .ok (.iconst 1, 1) := dk_4 (dk_at dksX11_stay_5 23 rfl rfl)
theorem dX11_stay_139 : decode cX11_stay 139 = .ok (.iadd, 1) := dk_96 (dk_at dksX11_stay_6 0 rfl rfl)
theorem dX11_stay_140 : decode cX11_stay 140 = .ok (.putfield 129, 3) := dk_181 0 129 (dk_at dksX11_stay_6 1 rfl rfl)
theorem dX11_stay_143 : decode cX11_stay 143 = .ok (.aload_n 0, 1) := dk_42 (dk_at dksX11_stay_6 4 rfl rfl)
theorem dX11_stay_144 : decode cX11_stay 144 = .ok (.getfield 12, 3) := dk_180 0 12 (dk_at dksX11_stay_6 5 rfl rfl)
theorem dX11_stay_147 : decode cX11_stay 147 = .ok (.getfield 132, 3) := dk_180 0 132 (dk_at dksX11_stay_6 8 rfl rfl)
theorem dX11_stay_150 : decode cX11_stay 150 = .ok (.iload_n 3, 1) := dk_29 (dk_at dksX11_stay_6 11 rfl rfl)
theorem dX11_stay_151 : decode cX11_stay 151 = .ok (.iload 4, 2) := dk_21 4 (dk_at dksX11_stay_6 12 rfl rfl)
theorem dX11_stay_153 : decode cX11_stay 153 = .ok (.iastore, 1) := dk_79 (dk_at dksX11_stay_6 14 rfl rfl)
theorem dX11_stay_154 : decode cX11_stay 154 = .ok (.aload_n 0, 1) := dk_42 (dk_at dksX11_stay_6 15 rfl rfl)
theorem dX11_stay_155 : decode cX11_stay 155 = .ok (.getfield 12, 3) := dk_180 0 12 (dk_at dksX11_stay_6 16 rfl rfl)
theorem dX11_stay_158 : decode cX11_stay 158 = .ok (.getfield 135, 3) := dk_180 0 135 (dk_at dksX11_stay_6 19 rfl rfl)
theorem dX11_stay_161 : decode cX11_stay 161 = .ok (.iload_n 3, 1) := dk_29 (dk_at dksX11_stay_6 22 rfl rfl)
theorem dX11_stay_162 : decode cX11_stay 162 = .ok (.iload_n 1, 1) := dk_27 (dk_at dksX11_stay_6 23 rfl rfl)
theorem dX11_stay_163 : decode cX11_stay 163 = .ok (.iastore, 1) := dk_79 (dk_at dksX11_stay_7 0 rfl rfl)
theorem dX11_stay_164 : decode cX11_stay 164 = .ok (.return_, 1) := dk_177 (dk_at dksX11_stay_7 1 rfl rfl)
abbrev cX11_shut : ByteArray := prog_12_method_15_code
def yX11_shut : MethodName := ⟨RX11, "shut", "()V"⟩
def dkwX11_shut_2 : List UInt8 := [182, 0, 75, 191, 42, 180, 0, 12, 89, 180, 0, 93, 4, 42, 182, 0, 99, 120, 128, 181, 0, 93, 177]
abbrev dktX11_shut_2 : List UInt8 := dkwX11_shut_2 ++ []
def dkwX11_shut_1 : List UInt8 := [184, 0, 96, 154, 0, 17, 42, 180, 0, 12, 42, 180, 0, 43, 182, 0, 138, 153, 0, 9, 42, 5]
abbrev dktX11_shut_1 : List UInt8 := dkwX11_shut_1 ++ dktX11_shut_2
def dkwX11_shut_0 : List UInt8 := [42, 182, 0, 26, 42, 182, 0, 89, 153, 0, 40, 42, 180, 0, 12, 180, 0, 93, 42, 180, 0, 43]
abbrev dktX11_shut_0 : List UInt8 := dkwX11_shut_0 ++ dktX11_shut_1
theorem dksX11_shut_0 : cX11_shut.data.toList.drop 0 = dktX11_shut_0 := by decide +kernel
theorem dksX11_shut_1 : cX11_shut.data.toList.drop 22 = dktX11_shut_1 := dk_seg dksX11_shut_0 22 rfl rfl
theorem dksX11_shut_2 : cX11_shut.data.toList.drop 44 = dktX11_shut_2 := dk_seg dksX11_shut_1 22 rfl rfl
theorem dX11_shut_0 : decode cX11_shut 0 = .ok (.aload_n 0, 1) := dk_42 (dk_at dksX11_shut_0 0 rfl rfl)
theorem dX11_shut_1 : decode cX11_shut 1 = .ok (.invokevirtual 26, 3) := dk_182 0 26 (dk_at dksX11_shut_0 1 rfl rfl)
theorem dX11_shut_4 : decode cX11_shut 4 = .ok (.aload_n 0, 1) := dk_42 (dk_at dksX11_shut_0 4 rfl rfl)
theorem dX11_shut_5 : decode cX11_shut 5 = .ok (.invokevirtual 89, 3) := dk_182 0 89 (dk_at dksX11_shut_0 5 rfl rfl)
theorem dX11_shut_8 : decode cX11_shut 8 = .ok (.ifCond .eq 40, 3) := dk_153 0 40 (dk_at dksX11_shut_0 8 rfl rfl)
theorem dX11_shut_11 : decode cX11_shut 11 = .ok (.aload_n 0, 1) := dk_42 (dk_at dksX11_shut_0 11 rfl rfl)
theorem dX11_shut_12 : decode cX11_shut 12 = .ok (.getfield 12, 3) := dk_180 0 12 (dk_at dksX11_shut_0 12 rfl rfl)
theorem dX11_shut_15 : decode cX11_shut 15 = .ok (.getfield 93, 3) := dk_180 0 93 (dk_at dksX11_shut_0 15 rfl rfl)
theorem dX11_shut_18 : decode cX11_shut 18 = .ok (.aload_n 0, 1) := dk_42 (dk_at dksX11_shut_0 18 rfl rfl)
theorem dX11_shut_19 : decode cX11_shut 19 = .ok (.getfield 43, 3) := dk_180 0 43 (dk_at dksX11_shut_0 19 rfl rfl)
theorem dX11_shut_22 : decode cX11_shut 22 = .ok (.invokestatic 96, 3) := dk_184 0 96 (dk_at dksX11_shut_1 0 rfl rfl)
theorem dX11_shut_25 : decode cX11_shut 25 = .ok (.ifCond .ne 17, 3) := dk_154 0 17 (dk_at dksX11_shut_1 3 rfl rfl)
theorem dX11_shut_28 : decode cX11_shut 28 = .ok (.aload_n 0, 1) := dk_42 (dk_at dksX11_shut_1 6 rfl rfl)
theorem dX11_shut_29 : decode cX11_shut 29 = .ok (.getfield 12, 3) := dk_180 0 12 (dk_at dksX11_shut_1 7 rfl rfl)
theorem dX11_shut_32 : decode cX11_shut 32 = .ok (.aload_n 0, 1) := dk_42 (dk_at dksX11_shut_1 10 rfl rfl)
theorem dX11_shut_33 : decode cX11_shut 33 = .ok (.getfield 43, 3) := dk_180 0 43 (dk_at dksX11_shut_1 11 rfl rfl)
theorem dX11_shut_36 : decode cX11_shut 36 = .ok (.invokevirtual 138, 3) := dk_182 0 138 (dk_at dksX11_shut_1 14 rfl rfl)
theorem dX11_shut_39 : decode cX11_shut 39 = .ok (.ifCond .eq 9, 3) := dk_153 0 9 (dk_at dksX11_shut_1 17 rfl rfl)
theorem dX11_shut_42 : decode cX11_shut 42 = .ok (.aload_n 0, 1) := dk_42 (dk_at dksX11_shut_1 20 rfl rfl)
theorem dX11_shut_43 : decode cX11_shut 43 = .ok (.iconst 2, 1) := dk_5 (dk_at dksX11_shut_1 21 rfl rfl)
theorem dX11_shut_44 : decode cX11_shut 44 = .ok (.invokevirtual 75, 3) := dk_182 0 75 (dk_at dksX11_shut_2 0 rfl rfl)
theorem dX11_shut_47 : decode cX11_shut 47 = .ok (.athrow, 1) := dk_191 (dk_at dksX11_shut_2 3 rfl rfl)
theorem dX11_shut_48 : decode cX11_shut 48 = .ok (.aload_n 0, 1) := dk_42 (dk_at dksX11_shut_2 4 rfl rfl)
theorem dX11_shut_49 : decode cX11_shut 49 = .ok (.getfield 12, 3) := dk_180 0 12 (dk_at dksX11_shut_2 5 rfl rfl)
theorem dX11_shut_52 : decode cX11_shut 52 = .ok (.dup, 1) := dk_89 (dk_at dksX11_shut_2 8 rfl rfl)
theorem dX11_shut_53 : decode cX11_shut 53 = .ok (.getfield 93, 3) := dk_180 0 93 (dk_at dksX11_shut_2 9 rfl rfl)
theorem dX11_shut_56 : decode cX11_shut 56 = .ok (.iconst 1, 1) := dk_4 (dk_at dksX11_shut_2 12 rfl rfl)
theorem dX11_shut_57 : decode cX11_shut 57 = .ok (.aload_n 0, 1) := dk_42 (dk_at dksX11_shut_2 13 rfl rfl)
theorem dX11_shut_58 : decode cX11_shut 58 = .ok (.invokevirtual 99, 3) := dk_182 0 99 (dk_at dksX11_shut_2 14 rfl rfl)
theorem dX11_shut_61 : decode cX11_shut 61 = .ok (.ishl, 1) := dk_120 (dk_at dksX11_shut_2 17 rfl rfl)
theorem dX11_shut_62 : decode cX11_shut 62 = .ok (.ior, 1) := dk_128 (dk_at dksX11_shut_2 18 rfl rfl)
theorem dX11_shut_63 : decode cX11_shut 63 = .ok (.putfield 93, 3) := dk_181 0 93 (dk_at dksX11_shut_2 19 rfl rfl)
theorem dX11_shut_66 : decode cX11_shut 66 = .ok (.return_, 1) := dk_177 (dk_at dksX11_shut_2 22 rfl rfl)
abbrev cX11_isHole : ByteArray := prog_12_method_10_code
def yX11_isHole : MethodName := ⟨RX11, "isHole", "()Z"⟩
def dkwX11_isHole_1 : List UInt8 := [167, 0, 4, 3, 172]
abbrev dktX11_isHole_1 : List UInt8 := dkwX11_isHole_1 ++ []
def dkwX11_isHole_0 : List UInt8 := [42, 180, 0, 46, 5, 160, 0, 21, 42, 180, 0, 43, 42, 180, 0, 12, 182, 0, 86, 162, 0, 7, 4]
abbrev dktX11_isHole_0 : List UInt8 := dkwX11_isHole_0 ++ dktX11_isHole_1
theorem dksX11_isHole_0 : cX11_isHole.data.toList.drop 0 = dktX11_isHole_0 := by decide +kernel
theorem dksX11_isHole_1 : cX11_isHole.data.toList.drop 23 = dktX11_isHole_1 := dk_seg dksX11_isHole_0 23 rfl rfl
theorem dX11_isHole_0 : decode cX11_isHole 0 = .ok (.aload_n 0, 1) := dk_42 (dk_at dksX11_isHole_0 0 rfl rfl)
theorem dX11_isHole_1 : decode cX11_isHole 1 = .ok (.getfield 46, 3) := dk_180 0 46 (dk_at dksX11_isHole_0 1 rfl rfl)
theorem dX11_isHole_4 : decode cX11_isHole 4 = .ok (.iconst 2, 1) := dk_5 (dk_at dksX11_isHole_0 4 rfl rfl)
theorem dX11_isHole_5 : decode cX11_isHole 5 = .ok (.if_icmp .ne 21, 3) := dk_160 0 21 (dk_at dksX11_isHole_0 5 rfl rfl)
theorem dX11_isHole_8 : decode cX11_isHole 8 = .ok (.aload_n 0, 1) := dk_42 (dk_at dksX11_isHole_0 8 rfl rfl)
theorem dX11_isHole_9 : decode cX11_isHole 9 = .ok (.getfield 43, 3) := dk_180 0 43 (dk_at dksX11_isHole_0 9 rfl rfl)
theorem dX11_isHole_12 : decode cX11_isHole 12 = .ok (.aload_n 0, 1) := dk_42 (dk_at dksX11_isHole_0 12 rfl rfl)
theorem dX11_isHole_13 : decode cX11_isHole 13 = .ok (.getfield 12, 3) := dk_180 0 12 (dk_at dksX11_isHole_0 13 rfl rfl)
theorem dX11_isHole_16 : decode cX11_isHole 16 = .ok (.invokevirtual 86, 3) := dk_182 0 86 (dk_at dksX11_isHole_0 16 rfl rfl)
theorem dX11_isHole_19 : decode cX11_isHole 19 = .ok (.if_icmp .ge 7, 3) := dk_162 0 7 (dk_at dksX11_isHole_0 19 rfl rfl)
theorem dX11_isHole_22 : decode cX11_isHole 22 = .ok (.iconst 1, 1) := dk_4 (dk_at dksX11_isHole_0 22 rfl rfl)
theorem dX11_isHole_23 : decode cX11_isHole 23 = .ok (.goto 4, 3) := dk_167 0 4 (dk_at dksX11_isHole_1 0 rfl rfl)
theorem dX11_isHole_26 : decode cX11_isHole 26 = .ok (.iconst 0, 1) := dk_3 (dk_at dksX11_isHole_1 3 rfl rfl)
theorem dX11_isHole_27 : decode cX11_isHole 27 = .ok (.ireturn, 1) := dk_172 (dk_at dksX11_isHole_1 4 rfl rfl)
abbrev cX11_hole : ByteArray := prog_12_method_11_code
def yX11_hole : MethodName := ⟨RX11, "hole", "()I"⟩
def dkwX11_hole_0 : List UInt8 := [42, 3, 42, 180, 0, 12, 182, 0, 86, 4, 100, 182, 0, 83, 172]
abbrev dktX11_hole_0 : List UInt8 := dkwX11_hole_0 ++ []
theorem dksX11_hole_0 : cX11_hole.data.toList.drop 0 = dktX11_hole_0 := by decide +kernel
theorem dX11_hole_0 : decode cX11_hole 0 = .ok (.aload_n 0, 1) := dk_42 (dk_at dksX11_hole_0 0 rfl rfl)
theorem dX11_hole_1 : decode cX11_hole 1 = .ok (.iconst 0, 1) := dk_3 (dk_at dksX11_hole_0 1 rfl rfl)
theorem dX11_hole_2 : decode cX11_hole 2 = .ok (.aload_n 0, 1) := dk_42 (dk_at dksX11_hole_0 2 rfl rfl)
theorem dX11_hole_3 : decode cX11_hole 3 = .ok (.getfield 12, 3) := dk_180 0 12 (dk_at dksX11_hole_0 3 rfl rfl)
theorem dX11_hole_6 : decode cX11_hole 6 = .ok (.invokevirtual 86, 3) := dk_182 0 86 (dk_at dksX11_hole_0 6 rfl rfl)
theorem dX11_hole_9 : decode cX11_hole 9 = .ok (.iconst 1, 1) := dk_4 (dk_at dksX11_hole_0 9 rfl rfl)
theorem dX11_hole_10 : decode cX11_hole 10 = .ok (.isub, 1) := dk_100 (dk_at dksX11_hole_0 10 rfl rfl)
theorem dX11_hole_11 : decode cX11_hole 11 = .ok (.invokevirtual 83, 3) := dk_182 0 83 (dk_at dksX11_hole_0 11 rfl rfl)
theorem dX11_hole_14 : decode cX11_hole 14 = .ok (.ireturn, 1) := dk_172 (dk_at dksX11_hole_0 14 rfl rfl)
abbrev cX11_mole : ByteArray := prog_12_method_16_code
def yX11_mole : MethodName := ⟨RX11, "mole", "(ZZ)V"⟩
def dkwX11_mole_2 : List UInt8 := [153, 0, 11, 42, 29, 182, 0, 155, 167, 0, 4, 2, 27, 183, 0, 160, 185, 0, 163, 2, 0, 87, 177]
abbrev dktX11_mole_2 : List UInt8 := dkwX11_mole_2 ++ []
def dkwX11_mole_1 : List UInt8 := [182, 0, 151, 42, 2, 182, 0, 155, 62, 42, 180, 0, 12, 180, 0, 142, 187, 0, 158, 89, 29, 28]
abbrev dktX11_mole_1 : List UInt8 := dkwX11_mole_1 ++ dktX11_mole_2
def dkwX11_mole_0 : List UInt8 := [42, 42, 180, 0, 12, 180, 0, 142, 185, 0, 146, 1, 0, 16, 24, 162, 0, 7, 4, 167, 0, 4, 3]
abbrev dktX11_mole_0 : List UInt8 := dkwX11_mole_0 ++ dktX11_mole_1
theorem dksX11_mole_0 : cX11_mole.data.toList.drop 0 = dktX11_mole_0 := by decide +kernel
theorem dksX11_mole_1 : cX11_mole.data.toList.drop 23 = dktX11_mole_1 := dk_seg dksX11_mole_0 23 rfl rfl
theorem dksX11_mole_2 : cX11_mole.data.toList.drop 45 = dktX11_mole_2 := dk_seg dksX11_mole_1 22 rfl rfl
theorem dX11_mole_0 : decode cX11_mole 0 = .ok (.aload_n 0, 1) := dk_42 (dk_at dksX11_mole_0 0 rfl rfl)
theorem dX11_mole_1 : decode cX11_mole 1 = .ok (.aload_n 0, 1) := dk_42 (dk_at dksX11_mole_0 1 rfl rfl)
theorem dX11_mole_2 : decode cX11_mole 2 = .ok (.getfield 12, 3) := dk_180 0 12 (dk_at dksX11_mole_0 2 rfl rfl)
theorem dX11_mole_5 : decode cX11_mole 5 = .ok (.getfield 142, 3) := dk_180 0 142 (dk_at dksX11_mole_0 5 rfl rfl)
theorem dX11_mole_8 : decode cX11_mole 8 = .ok (.invokeinterface 146 1, 5) := by decide +kernel
theorem dX11_mole_13 : decode cX11_mole 13 = .ok (.bipush 24, 2) := dk_16 24 (dk_at dksX11_mole_0 13 rfl rfl)
theorem dX11_mole_15 : decode cX11_mole 15 = .ok (.if_icmp .ge 7, 3) := dk_162 0 7 (dk_at dksX11_mole_0 15 rfl rfl)
theorem dX11_mole_18 : decode cX11_mole 18 = .ok (.iconst 1, 1) := dk_4 (dk_at dksX11_mole_0 18 rfl rfl)
theorem dX11_mole_19 : decode cX11_mole 19 = .ok (.goto 4, 3) := dk_167 0 4 (dk_at dksX11_mole_0 19 rfl rfl)
theorem dX11_mole_22 : decode cX11_mole 22 = .ok (.iconst 0, 1) := dk_3 (dk_at dksX11_mole_0 22 rfl rfl)
theorem dX11_mole_23 : decode cX11_mole 23 = .ok (.invokevirtual 151, 3) := dk_182 0 151 (dk_at dksX11_mole_1 0 rfl rfl)
theorem dX11_mole_26 : decode cX11_mole 26 = .ok (.aload_n 0, 1) := dk_42 (dk_at dksX11_mole_1 3 rfl rfl)
theorem dX11_mole_27 : decode cX11_mole 27 = .ok (.iconst (-1), 1) := dk_2 (dk_at dksX11_mole_1 4 rfl rfl)
theorem dX11_mole_28 : decode cX11_mole 28 = .ok (.invokevirtual 155, 3) := dk_182 0 155 (dk_at dksX11_mole_1 5 rfl rfl)
theorem dX11_mole_31 : decode cX11_mole 31 = .ok (.istore_n 3, 1) := dk_62 (dk_at dksX11_mole_1 8 rfl rfl)
theorem dX11_mole_32 : decode cX11_mole 32 = .ok (.aload_n 0, 1) := dk_42 (dk_at dksX11_mole_1 9 rfl rfl)
theorem dX11_mole_33 : decode cX11_mole 33 = .ok (.getfield 12, 3) := dk_180 0 12 (dk_at dksX11_mole_1 10 rfl rfl)
theorem dX11_mole_36 : decode cX11_mole 36 = .ok (.getfield 142, 3) := dk_180 0 142 (dk_at dksX11_mole_1 13 rfl rfl)
theorem dX11_mole_39 : decode cX11_mole 39 = .ok (.new 158, 3) := dk_187 0 158 (dk_at dksX11_mole_1 16 rfl rfl)
theorem dX11_mole_42 : decode cX11_mole 42 = .ok (.dup, 1) := dk_89 (dk_at dksX11_mole_1 19 rfl rfl)
theorem dX11_mole_43 : decode cX11_mole 43 = .ok (.iload_n 3, 1) := dk_29 (dk_at dksX11_mole_1 20 rfl rfl)
theorem dX11_mole_44 : decode cX11_mole 44 = .ok (.iload_n 2, 1) := dk_28 (dk_at dksX11_mole_1 21 rfl rfl)
theorem dX11_mole_45 : decode cX11_mole 45 = .ok (.ifCond .eq 11, 3) := dk_153 0 11 (dk_at dksX11_mole_2 0 rfl rfl)
theorem dX11_mole_48 : decode cX11_mole 48 = .ok (.aload_n 0, 1) := dk_42 (dk_at dksX11_mole_2 3 rfl rfl)
theorem dX11_mole_49 : decode cX11_mole 49 = .ok (.iload_n 3, 1) := dk_29 (dk_at dksX11_mole_2 4 rfl rfl)
theorem dX11_mole_50 : decode cX11_mole 50 = .ok (.invokevirtual 155, 3) := dk_182 0 155 (dk_at dksX11_mole_2 5 rfl rfl)
theorem dX11_mole_53 : decode cX11_mole 53 = .ok (.goto 4, 3) := dk_167 0 4 (dk_at dksX11_mole_2 8 rfl rfl)
theorem dX11_mole_56 : decode cX11_mole 56 = .ok (.iconst (-1), 1) := dk_2 (dk_at dksX11_mole_2 11 rfl rfl)
theorem dX11_mole_57 : decode cX11_mole 57 = .ok (.iload_n 1, 1) := dk_27 (dk_at dksX11_mole_2 12 rfl rfl)
theorem dX11_mole_58 : decode cX11_mole 58 = .ok (.invokespecial 160, 3) := dk_183 0 160 (dk_at dksX11_mole_2 13 rfl rfl)
theorem dX11_mole_61 : decode cX11_mole 61 = .ok (.invokeinterface 163 2, 5) := by decide +kernel
theorem dX11_mole_66 : decode cX11_mole 66 = .ok (.pop, 1) := dk_87 (dk_at dksX11_mole_2 21 rfl rfl)
theorem dX11_mole_67 : decode cX11_mole 67 = .ok (.return_, 1) := dk_177 (dk_at dksX11_mole_2 22 rfl rfl)
abbrev cX11_room : ByteArray := prog_12_method_9_code
def yX11_room : MethodName := ⟨RX11, "room", "(Z)V"⟩
def dkwX11_room_0 : List UInt8 := [27, 154, 0, 9, 42, 6, 182, 0, 75, 191, 42, 182, 0, 26, 177]
abbrev dktX11_room_0 : List UInt8 := dkwX11_room_0 ++ []
theorem dksX11_room_0 : cX11_room.data.toList.drop 0 = dktX11_room_0 := by decide +kernel
theorem dX11_room_0 : decode cX11_room 0 = .ok (.iload_n 1, 1) := dk_27 (dk_at dksX11_room_0 0 rfl rfl)
theorem dX11_room_1 : decode cX11_room 1 = .ok (.ifCond .ne 9, 3) := dk_154 0 9 (dk_at dksX11_room_0 1 rfl rfl)
theorem dX11_room_4 : decode cX11_room 4 = .ok (.aload_n 0, 1) := dk_42 (dk_at dksX11_room_0 4 rfl rfl)
theorem dX11_room_5 : decode cX11_room 5 = .ok (.iconst 3, 1) := dk_6 (dk_at dksX11_room_0 5 rfl rfl)
theorem dX11_room_6 : decode cX11_room 6 = .ok (.invokevirtual 75, 3) := dk_182 0 75 (dk_at dksX11_room_0 6 rfl rfl)
theorem dX11_room_9 : decode cX11_room 9 = .ok (.athrow, 1) := dk_191 (dk_at dksX11_room_0 9 rfl rfl)
theorem dX11_room_10 : decode cX11_room 10 = .ok (.aload_n 0, 1) := dk_42 (dk_at dksX11_room_0 10 rfl rfl)
theorem dX11_room_11 : decode cX11_room 11 = .ok (.invokevirtual 26, 3) := dk_182 0 26 (dk_at dksX11_room_0 11 rfl rfl)
theorem dX11_room_14 : decode cX11_room 14 = .ok (.return_, 1) := dk_177 (dk_at dksX11_room_0 14 rfl rfl)
abbrev cX11_open : ByteArray := prog_12_method_12_code
def yX11_open : MethodName := ⟨RX11, "open", "(I)I"⟩
def dkwX11_open_1 : List UInt8 := [42, 180, 0, 43, 27, 160, 0, 9, 42, 5, 182, 0, 75, 191, 42, 182, 0, 99, 172]
abbrev dktX11_open_1 : List UInt8 := dkwX11_open_1 ++ []
def dkwX11_open_0 : List UInt8 := [42, 182, 0, 89, 153, 0, 34, 42, 180, 0, 12, 180, 0, 93, 42, 180, 0, 43, 184, 0, 96, 154, 0, 11]
abbrev dktX11_open_0 : List UInt8 := dkwX11_open_0 ++ dktX11_open_1
theorem dksX11_open_0 : cX11_open.data.toList.drop 0 = dktX11_open_0 := by decide +kernel
theorem dksX11_open_1 : cX11_open.data.toList.drop 24 = dktX11_open_1 := dk_seg dksX11_open_0 24 rfl rfl
theorem dX11_open_0 : decode cX11_open 0 = .ok (.aload_n 0, 1) := dk_42 (dk_at dksX11_open_0 0 rfl rfl)
theorem dX11_open_1 : decode cX11_open 1 = .ok (.invokevirtual 89, 3) := dk_182 0 89 (dk_at dksX11_open_0 1 rfl rfl)
theorem dX11_open_4 : decode cX11_open 4 = .ok (.ifCond .eq 34, 3) := dk_153 0 34 (dk_at dksX11_open_0 4 rfl rfl)
theorem dX11_open_7 : decode cX11_open 7 = .ok (.aload_n 0, 1) := dk_42 (dk_at dksX11_open_0 7 rfl rfl)
theorem dX11_open_8 : decode cX11_open 8 = .ok (.getfield 12, 3) := dk_180 0 12 (dk_at dksX11_open_0 8 rfl rfl)
theorem dX11_open_11 : decode cX11_open 11 = .ok (.getfield 93, 3) := dk_180 0 93 (dk_at dksX11_open_0 11 rfl rfl)
theorem dX11_open_14 : decode cX11_open 14 = .ok (.aload_n 0, 1) := dk_42 (dk_at dksX11_open_0 14 rfl rfl)
theorem dX11_open_15 : decode cX11_open 15 = .ok (.getfield 43, 3) := dk_180 0 43 (dk_at dksX11_open_0 15 rfl rfl)
theorem dX11_open_18 : decode cX11_open 18 = .ok (.invokestatic 96, 3) := dk_184 0 96 (dk_at dksX11_open_0 18 rfl rfl)
theorem dX11_open_21 : decode cX11_open 21 = .ok (.ifCond .ne 11, 3) := dk_154 0 11 (dk_at dksX11_open_0 21 rfl rfl)
theorem dX11_open_24 : decode cX11_open 24 = .ok (.aload_n 0, 1) := dk_42 (dk_at dksX11_open_1 0 rfl rfl)
theorem dX11_open_25 : decode cX11_open 25 = .ok (.getfield 43, 3) := dk_180 0 43 (dk_at dksX11_open_1 1 rfl rfl)
theorem dX11_open_28 : decode cX11_open 28 = .ok (.iload_n 1, 1) := dk_27 (dk_at dksX11_open_1 4 rfl rfl)
theorem dX11_open_29 : decode cX11_open 29 = .ok (.if_icmp .ne 9, 3) := dk_160 0 9 (dk_at dksX11_open_1 5 rfl rfl)
theorem dX11_open_32 : decode cX11_open 32 = .ok (.aload_n 0, 1) := dk_42 (dk_at dksX11_open_1 8 rfl rfl)
theorem dX11_open_33 : decode cX11_open 33 = .ok (.iconst 2, 1) := dk_5 (dk_at dksX11_open_1 9 rfl rfl)
theorem dX11_open_34 : decode cX11_open 34 = .ok (.invokevirtual 75, 3) := dk_182 0 75 (dk_at dksX11_open_1 10 rfl rfl)
theorem dX11_open_37 : decode cX11_open 37 = .ok (.athrow, 1) := dk_191 (dk_at dksX11_open_1 13 rfl rfl)
theorem dX11_open_38 : decode cX11_open 38 = .ok (.aload_n 0, 1) := dk_42 (dk_at dksX11_open_1 14 rfl rfl)
theorem dX11_open_39 : decode cX11_open 39 = .ok (.invokevirtual 99, 3) := dk_182 0 99 (dk_at dksX11_open_1 15 rfl rfl)
theorem dX11_open_42 : decode cX11_open 42 = .ok (.ireturn, 1) := dk_172 (dk_at dksX11_open_1 18 rfl rfl)
abbrev cX11_player : ByteArray := prog_12_method_17_code
def yX11_player : MethodName := ⟨RX11, "player", "()V"⟩
def dkwX11_player_5 : List UInt8 := [43, 185, 0, 163, 2, 0, 87, 177]
abbrev dktX11_player_5 : List UInt8 := dkwX11_player_5 ++ []
def dkwX11_player_4 : List UInt8 := [79, 42, 18, 183, 182, 0, 79, 43, 180, 0, 173, 7, 42, 182, 0, 99, 79, 42, 180, 0, 12, 180, 0, 167]
abbrev dktX11_player_4 : List UInt8 := dkwX11_player_4 ++ dktX11_player_5
def dkwX11_player_3 : List UInt8 := [42, 18, 179, 3, 16, 99, 182, 0, 106, 79, 43, 180, 0, 173, 6, 42, 18, 181, 3, 16, 9, 182, 0, 106]
abbrev dktX11_player_3 : List UInt8 := dkwX11_player_3 ++ dktX11_player_4
def dkwX11_player_2 : List UInt8 := [182, 0, 106, 79, 43, 180, 0, 173, 4, 42, 18, 177, 3, 16, 20, 182, 0, 106, 79, 43, 180, 0, 173, 5]
abbrev dktX11_player_2 : List UInt8 := dkwX11_player_2 ++ dktX11_player_3
def dkwX11_player_1 : List UInt8 := [182, 0, 151, 187, 0, 170, 89, 183, 0, 172, 76, 43, 180, 0, 173, 3, 42, 18, 175, 4, 16, 9]
abbrev dktX11_player_1 : List UInt8 := dkwX11_player_1 ++ dktX11_player_2
def dkwX11_player_0 : List UInt8 := [42, 42, 180, 0, 12, 180, 0, 167, 185, 0, 146, 1, 0, 7, 162, 0, 7, 4, 167, 0, 4, 3]
abbrev dktX11_player_0 : List UInt8 := dkwX11_player_0 ++ dktX11_player_1
theorem dksX11_player_0 : cX11_player.data.toList.drop 0 = dktX11_player_0 := by decide +kernel
theorem dksX11_player_1 : cX11_player.data.toList.drop 22 = dktX11_player_1 := dk_seg dksX11_player_0 22 rfl rfl
theorem dksX11_player_2 : cX11_player.data.toList.drop 44 = dktX11_player_2 := dk_seg dksX11_player_1 22 rfl rfl
theorem dksX11_player_3 : cX11_player.data.toList.drop 68 = dktX11_player_3 := dk_seg dksX11_player_2 24 rfl rfl
theorem dksX11_player_4 : cX11_player.data.toList.drop 92 = dktX11_player_4 := dk_seg dksX11_player_3 24 rfl rfl
theorem dksX11_player_5 : cX11_player.data.toList.drop 116 = dktX11_player_5 := dk_seg dksX11_player_4 24 rfl rfl
theorem dX11_player_0 : decode cX11_player 0 = .ok (.aload_n 0, 1) := dk_42 (dk_at dksX11_player_0 0 rfl rfl)
theorem dX11_player_1 : decode cX11_player 1 = .ok (.aload_n 0, 1) := dk_42 (dk_at dksX11_player_0 1 rfl rfl)
theorem dX11_player_2 : decode cX11_player 2 = .ok (.getfield 12, 3) := dk_180 0 12 (dk_at dksX11_player_0 2 rfl rfl)
theorem dX11_player_5 : decode cX11_player 5 = .ok (.getfield 167, 3) := dk_180 0 167 (dk_at dksX11_player_0 5 rfl rfl)
theorem dX11_player_8 : decode cX11_player 8 = .ok (.invokeinterface 146 1, 5) := by decide +kernel
theorem dX11_player_13 : decode cX11_player 13 = .ok (.iconst 4, 1) := dk_7 (dk_at dksX11_player_0 13 rfl rfl)
theorem dX11_player_14 : decode cX11_player 14 = .ok (.if_icmp .ge 7, 3) := dk_162 0 7 (dk_at dksX11_player_0 14 rfl rfl)
theorem dX11_player_17 : decode cX11_player 17 = .ok (.iconst 1, 1) := dk_4 (dk_at dksX11_player_0 17 rfl rfl)
theorem dX11_player_18 : decode cX11_player 18 = .ok (.goto 4, 3) := dk_167 0 4 (dk_at dksX11_player_0 18 rfl rfl)
theorem dX11_player_21 : decode cX11_player 21 = .ok (.iconst 0, 1) := dk_3 (dk_at dksX11_player_0 21 rfl rfl)
theorem dX11_player_22 : decode cX11_player 22 = .ok (.invokevirtual 151, 3) := dk_182 0 151 (dk_at dksX11_player_1 0 rfl rfl)
theorem dX11_player_25 : decode cX11_player 25 = .ok (.new 170, 3) := dk_187 0 170 (dk_at dksX11_player_1 3 rfl rfl)
theorem dX11_player_28 : decode cX11_player 28 = .ok (.dup, 1) := dk_89 (dk_at dksX11_player_1 6 rfl rfl)
theorem dX11_player_29 : decode cX11_player 29 = .ok (.invokespecial 172, 3) := dk_183 0 172 (dk_at dksX11_player_1 7 rfl rfl)
theorem dX11_player_32 : decode cX11_player 32 = .ok (.astore_n 1, 1) := dk_76 (dk_at dksX11_player_1 10 rfl rfl)
theorem dX11_player_33 : decode cX11_player 33 = .ok (.aload_n 1, 1) := dk_43 (dk_at dksX11_player_1 11 rfl rfl)
theorem dX11_player_34 : decode cX11_player 34 = .ok (.getfield 173, 3) := dk_180 0 173 (dk_at dksX11_player_1 12 rfl rfl)
theorem dX11_player_37 : decode cX11_player 37 = .ok (.iconst 0, 1) := dk_3 (dk_at dksX11_player_1 15 rfl rfl)
theorem dX11_player_38 : decode cX11_player 38 = .ok (.aload_n 0, 1) := dk_42 (dk_at dksX11_player_1 16 rfl rfl)
theorem dX11_player_39 : decode cX11_player 39 = .ok (.ldc 175, 2) := dk_18 175 (dk_at dksX11_player_1 17 rfl rfl)
theorem dX11_player_41 : decode cX11_player 41 = .ok (.iconst 1, 1) := dk_4 (dk_at dksX11_player_1 19 rfl rfl)
theorem dX11_player_42 : decode cX11_player 42 = .ok (.bipush 9, 2) := dk_16 9 (dk_at dksX11_player_1 20 rfl rfl)
theorem dX11_player_44 : decode cX11_player 44 = .ok (.invokevirtual 106, 3) := dk_182 0 106 (dk_at dksX11_player_2 0 rfl rfl)
theorem dX11_player_47 : decode cX11_player 47 = .ok (.iastore, 1) := dk_79 (dk_at dksX11_player_2 3 rfl rfl)
theorem dX11_player_48 : decode cX11_player 48 = .ok (.aload_n 1, 1) := dk_43 (dk_at dksX11_player_2 4 rfl rfl)
theorem dX11_player_49 : decode cX11_player 49 = .ok (.getfield 173, 3) := dk_180 0 173 (dk_at dksX11_player_2 5 rfl rfl)
theorem dX11_player_52 : decode cX11_player 52 = .ok (.iconst 1, 1) := dk_4 (dk_at dksX11_player_2 8 rfl rfl)
theorem dX11_player_53 : decode cX11_player 53 = .ok (.aload_n 0, 1) := dk_42 (dk_at dksX11_player_2 9 rfl rfl)
theorem dX11_player_54 : decode cX11_player 54 = .ok (.ldc 177, 2) := dk_18 177 (dk_at dksX11_player_2 10 rfl rfl)
theorem dX11_player_56 : decode cX11_player 56 = .ok (.iconst 0, 1) := dk_3 (dk_at dksX11_player_2 12 rfl rfl)
theorem dX11_player_57 : decode cX11_player 57 = .ok (.bipush 20, 2) := dk_16 20 (dk_at dksX11_player_2 13 rfl rfl)
theorem dX11_player_59 : decode cX11_player 59 = .ok (.invokevirtual 106, 3) := dk_182 0 106 (dk_at dksX11_player_2 15 rfl rfl)
theorem dX11_player_62 : decode cX11_player 62 = .ok (.iastore, 1) := dk_79 (dk_at dksX11_player_2 18 rfl rfl)
theorem dX11_player_63 : decode cX11_player 63 = .ok (.aload_n 1, 1) := dk_43 (dk_at dksX11_player_2 19 rfl rfl)
theorem dX11_player_64 : decode cX11_player 64 = .ok (.getfield 173, 3) := dk_180 0 173 (dk_at dksX11_player_2 20 rfl rfl)
theorem dX11_player_67 : decode cX11_player 67 = .ok (.iconst 2, 1) := dk_5 (dk_at dksX11_player_2 23 rfl rfl)
theorem dX11_player_68 : decode cX11_player 68 = .ok (.aload_n 0, 1) := dk_42 (dk_at dksX11_player_3 0 rfl rfl)
theorem dX11_player_69 : decode cX11_player 69 = .ok (.ldc 179, 2) := dk_18 179 (dk_at dksX11_player_3 1 rfl rfl)
theorem dX11_player_71 : decode cX11_player 71 = .ok (.iconst 0, 1) := dk_3 (dk_at dksX11_player_3 3 rfl rfl)
theorem dX11_player_72 : decode cX11_player 72 = .ok (.bipush 99, 2) := dk_16 99 (dk_at dksX11_player_3 4 rfl rfl)
theorem dX11_player_74 : decode cX11_player 74 = .ok (.invokevirtual 106, 3) := dk_182 0 106 (dk_at dksX11_player_3 6 rfl rfl)
theorem dX11_player_77 : decode cX11_player 77 = .ok (.iastore, 1) := dk_79 (dk_at dksX11_player_3 9 rfl rfl)
theorem dX11_player_78 : decode cX11_player 78 = .ok (.aload_n 1, 1) := dk_43 (dk_at dksX11_player_3 10 rfl rfl)
theorem dX11_player_79 : decode cX11_player 79 = .ok (.getfield 173, 3) := dk_180 0 173 (dk_at dksX11_player_3 11 rfl rfl)
theorem dX11_player_82 : decode cX11_player 82 = .ok (.iconst 3, 1) := dk_6 (dk_at dksX11_player_3 14 rfl rfl)
theorem dX11_player_83 : decode cX11_player 83 = .ok (.aload_n 0, 1) := dk_42 (dk_at dksX11_player_3 15 rfl rfl)
theorem dX11_player_84 : decode cX11_player 84 = .ok (.ldc 181, 2) := dk_18 181 (dk_at dksX11_player_3 16 rfl rfl)
theorem dX11_player_86 : decode cX11_player 86 = .ok (.iconst 0, 1) := dk_3 (dk_at dksX11_player_3 18 rfl rfl)
theorem dX11_player_87 : decode cX11_player 87 = .ok (.bipush 9, 2) := dk_16 9 (dk_at dksX11_player_3 19 rfl rfl)
theorem dX11_player_89 : decode cX11_player 89 = .ok (.invokevirtual 106, 3) := dk_182 0 106 (dk_at dksX11_player_3 21 rfl rfl)
theorem dX11_player_92 : decode cX11_player 92 = .ok (.iastore, 1) := dk_79 (dk_at dksX11_player_4 0 rfl rfl)
theorem dX11_player_93 : decode cX11_player 93 = .ok (.aload_n 0, 1) := dk_42 (dk_at dksX11_player_4 1 rfl rfl)
theorem dX11_player_94 : decode cX11_player 94 = .ok (.ldc 183, 2) := dk_18 183 (dk_at dksX11_player_4 2 rfl rfl)
theorem dX11_player_96 : decode cX11_player 96 = .ok (.invokevirtual 79, 3) := dk_182 0 79 (dk_at dksX11_player_4 4 rfl rfl)
theorem dX11_player_99 : decode cX11_player 99 = .ok (.aload_n 1, 1) := dk_43 (dk_at dksX11_player_4 7 rfl rfl)
theorem dX11_player_100 : decode cX11_player 100 = .ok (.getfield 173, 3) := dk_180 0 173 (dk_at dksX11_player_4 8 rfl rfl)
theorem dX11_player_103 : decode cX11_player 103 = .ok (.iconst 4, 1) := dk_7 (dk_at dksX11_player_4 11 rfl rfl)
theorem dX11_player_104 : decode cX11_player 104 = .ok (.aload_n 0, 1) := dk_42 (dk_at dksX11_player_4 12 rfl rfl)
theorem dX11_player_105 : decode cX11_player 105 = .ok (.invokevirtual 99, 3) := dk_182 0 99 (dk_at dksX11_player_4 13 rfl rfl)
theorem dX11_player_108 : decode cX11_player 108 = .ok (.iastore, 1) := dk_79 (dk_at dksX11_player_4 16 rfl rfl)
theorem dX11_player_109 : decode cX11_player 109 = .ok (.aload_n 0, 1) := dk_42 (dk_at dksX11_player_4 17 rfl rfl)
theorem dX11_player_110 : decode cX11_player 110 = .ok (.getfield 12, 3) := dk_180 0 12 (dk_at dksX11_player_4 18 rfl rfl)
theorem dX11_player_113 : decode cX11_player 113 = .ok (.getfield 167, 3) := dk_180 0 167 (dk_at dksX11_player_4 21 rfl rfl)
theorem dX11_player_116 : decode cX11_player 116 = .ok (.aload_n 1, 1) := dk_43 (dk_at dksX11_player_5 0 rfl rfl)
theorem dX11_player_117 : decode cX11_player 117 = .ok (.invokeinterface 163 2, 5) := by decide +kernel
theorem dX11_player_122 : decode cX11_player 122 = .ok (.pop, 1) := dk_87 (dk_at dksX11_player_5 6 rfl rfl)
theorem dX11_player_123 : decode cX11_player 123 = .ok (.return_, 1) := dk_177 (dk_at dksX11_player_5 7 rfl rfl)
theorem q159 : (Jvm.Cond.initialized "MoleBoard$Reader") ∈ lw_all := lw_g (lw_at lw_m1 15 rfl) rfl
theorem q440 : (Jvm.Cond.fieldLinkNest "MoleBoard$Reader" (142 : Nat) "MoleBoard$Board" "drum" "Ljava/util/List;" "MoleBoard") ∈ lw_tbl := lw_at lw_m2 56 rfl
theorem q443 : (Jvm.Cond.fieldLinkNest "MoleBoard$Reader" (167 : Nat) "MoleBoard$Board" "players" "Ljava/util/List;" "MoleBoard") ∈ lw_tbl := lw_at lw_m2 59 rfl
theorem q445 : (Jvm.Cond.fieldLinkNest "MoleBoard$Reader" (132 : Nat) "MoleBoard$Board" "from" "[I" "MoleBoard") ∈ lw_tbl := lw_at lw_m2 61 rfl
theorem q447 : (Jvm.Cond.fieldLinkNest "MoleBoard$Reader" (135 : Nat) "MoleBoard$Board" "stay" "[I" "MoleBoard") ∈ lw_tbl := lw_at lw_m2 63 rfl
theorem q449 : (Jvm.Cond.fieldLinkNest "MoleBoard$Reader" (109 : Nat) "MoleBoard$Board" "wide" "I" "MoleBoard") ∈ lw_tbl := lw_at lw_m2 65 rfl
theorem q452 : (Jvm.Cond.fieldLinkNest "MoleBoard$Reader" (113 : Nat) "MoleBoard$Board" "high" "I" "MoleBoard") ∈ lw_tbl := lw_at lw_m2 68 rfl
theorem q456 : (Jvm.Cond.fieldLinkNest "MoleBoard$Reader" (117 : Nat) "MoleBoard$Board" "ticks" "I" "MoleBoard") ∈ lw_tbl := lw_at lw_m2 72 rfl
theorem q460 : (Jvm.Cond.fieldLinkNest "MoleBoard$Reader" (121 : Nat) "MoleBoard$Board" "pause" "I" "MoleBoard") ∈ lw_tbl := lw_at lw_m2 76 rfl
theorem q463 : (Jvm.Cond.fieldLinkNest "MoleBoard$Reader" (129 : Nat) "MoleBoard$Board" "stays" "I" "MoleBoard") ∈ lw_tbl := lw_at lw_m2 79 rfl
theorem q465 : (Jvm.Cond.fieldLinkNest "MoleBoard$Reader" (93 : Nat) "MoleBoard$Board" "shut" "I" "MoleBoard") ∈ lw_tbl := lw_at lw_m2 81 rfl
theorem q468 : (Jvm.Cond.fieldLinkNest "MoleBoard$Reader" (209 : Nat) "MoleBoard$Board" "tickets" "I" "MoleBoard") ∈ lw_tbl := lw_at lw_m2 84 rfl
theorem q471 : (Jvm.Cond.fieldLinkNest "MoleBoard$Reader" (211 : Nat) "MoleBoard$Board" "each" "I" "MoleBoard") ∈ lw_tbl := lw_at lw_m2 87 rfl
theorem q475 : (Jvm.Cond.fieldLinkNest "MoleBoard$Reader" (213 : Nat) "MoleBoard$Board" "lines" "I" "MoleBoard") ∈ lw_tbl := lw_at lw_m2 91 rfl
theorem q774 : (Jvm.Cond.instantiable "MoleBoard$Reader" (7 : Nat)) ∈ lw_all := lw_g (lw_at lw_m3 150 rfl) rfl
theorem q776 : (Jvm.Cond.instanceMethod ({ cls := "MoleBoard$Reader", name := "<init>", desc := "([BI)V" } : Jvm.MethodName)) ∈ lw_all := lw_g (lw_at lw_m3 152 rfl) rfl
theorem q777 : (Jvm.Cond.code ({ cls := "MoleBoard$Reader", name := "<init>", desc := "([BI)V" } : Jvm.MethodName) prog_12_method_1_code (3 : Nat) (Option.none : Option Jvm.ClassFile.FieldType)) ∈ lw_all := lw_g (lw_at lw_m3 153 rfl) rfl
theorem q778 : (Jvm.Cond.methodLink "MoleBoard$Reader" (3 : Nat) ({ cls := "java/lang/Object", name := "<init>", desc := "()V" } : Jvm.MethodName)) ∈ lw_all := lw_g (lw_at lw_m3 154 rfl) rfl
theorem q779 : (Jvm.Cond.classLink "MoleBoard$Reader" (9 : Nat) "MoleBoard$Board") ∈ lw_all := lw_g (lw_at lw_m3 155 rfl) rfl
theorem q780 : (Jvm.Cond.methodLinkNest "MoleBoard$Reader" (11 : Nat) ({ cls := "MoleBoard$Board", name := "<init>", desc := "()V" } : Jvm.MethodName) "MoleBoard") ∈ lw_tbl := lw_at lw_m3 156 rfl
theorem q781 : (Jvm.Cond.methodLink "MoleBoard$Reader" (26 : Nat) ({ cls := "MoleBoard$Reader", name := "next", desc := "()V" } : Jvm.MethodName)) ∈ lw_all := lw_g (lw_at lw_m3 157 rfl) rfl
theorem q782 : (Jvm.Cond.privateMethod ({ cls := "MoleBoard$Reader", name := "next", desc := "()V" } : Jvm.MethodName)) ∈ lw_tbl := lw_at lw_m3 158 rfl
theorem q783 : (Jvm.Cond.instanceMethod ({ cls := "MoleBoard$Reader", name := "next", desc := "()V" } : Jvm.MethodName)) ∈ lw_all := lw_g (lw_at lw_m3 159 rfl) rfl
theorem q784 : (Jvm.Cond.code ({ cls := "MoleBoard$Reader", name := "next", desc := "()V" } : Jvm.MethodName) prog_12_method_3_code (1 : Nat) (Option.none : Option Jvm.ClassFile.FieldType)) ∈ lw_all := lw_g (lw_at lw_m3 160 rfl) rfl
theorem q785 : (Jvm.Cond.methodLink "MoleBoard$Reader" (36 : Nat) ({ cls := "MoleBoard$Reader", name := "isAt", desc := "(II)Z" } : Jvm.MethodName)) ∈ lw_all := lw_g (lw_at lw_m3 161 rfl) rfl
theorem q786 : (Jvm.Cond.privateMethod ({ cls := "MoleBoard$Reader", name := "isAt", desc := "(II)Z" } : Jvm.MethodName)) ∈ lw_tbl := lw_at lw_m3 162 rfl
theorem q787 : (Jvm.Cond.instanceMethod ({ cls := "MoleBoard$Reader", name := "isAt", desc := "(II)Z" } : Jvm.MethodName)) ∈ lw_all := lw_g (lw_at lw_m3 163 rfl) rfl
theorem q788 : (Jvm.Cond.code ({ cls := "MoleBoard$Reader", name := "isAt", desc := "(II)Z" } : Jvm.MethodName) prog_12_method_2_code (3 : Nat) (Option.some Jvm.ClassFile.FieldType.boolean)) ∈ lw_all := lw_g (lw_at lw_m3 164 rfl) rfl
theorem q789 : (Jvm.Cond.methodLinkNest "MoleBoard$Reader" (32 : Nat) ({ cls := "MoleBoard", name := "in", desc := "(JJJ)Z" } : Jvm.MethodName) "MoleBoard") ∈ lw_tbl := lw_at lw_m3 165 rfl
theorem q790 : (Jvm.Cond.constant "MoleBoard$Reader" (49 : Nat) (99999 : Int32)) ∈ lw_all := lw_g (lw_at lw_m3 166 rfl) rfl
theorem q791 : (Jvm.Cond.methodLink "MoleBoard$Reader" (50 : Nat) ({ cls := "java/lang/Math", name := "min", desc := "(II)I" } : Jvm.MethodName)) ∈ lw_all := lw_g (lw_at lw_m3 167 rfl) rfl
theorem q794 : (Jvm.Cond.fieldLink "MoleBoard$Reader" (18 : Nat) "MoleBoard$Reader" "text" "[B") ∈ lw_all := lw_g (lw_at lw_m3 170 rfl) rfl
theorem q795 : (Jvm.Cond.fieldLink "MoleBoard$Reader" (22 : Nat) "MoleBoard$Reader" "many" "I") ∈ lw_all := lw_g (lw_at lw_m3 171 rfl) rfl
theorem q796 : (Jvm.Cond.fieldLink "MoleBoard$Reader" (12 : Nat) "MoleBoard$Reader" "b" "LMoleBoard$Board;") ∈ lw_all := lw_g (lw_at lw_m3 172 rfl) rfl
theorem q797 : (Jvm.Cond.fieldLink "MoleBoard$Reader" (29 : Nat) "MoleBoard$Reader" "at" "I") ∈ lw_all := lw_g (lw_at lw_m3 173 rfl) rfl
theorem q798 : (Jvm.Cond.fieldLink "MoleBoard$Reader" (40 : Nat) "MoleBoard$Reader" "begin" "I") ∈ lw_all := lw_g (lw_at lw_m3 174 rfl) rfl
theorem q799 : (Jvm.Cond.fieldLink "MoleBoard$Reader" (46 : Nat) "MoleBoard$Reader" "token" "I") ∈ lw_all := lw_g (lw_at lw_m3 175 rfl) rfl
theorem q800 : (Jvm.Cond.fieldLink "MoleBoard$Reader" (43 : Nat) "MoleBoard$Reader" "value" "I") ∈ lw_all := lw_g (lw_at lw_m3 176 rfl) rfl
theorem q801 : (Jvm.Cond.laysFinal "MoleBoard$Reader" "MoleBoard$Reader" "text" "[B") ∈ lw_all := lw_g (lw_at lw_m3 177 rfl) rfl
theorem q802 : (Jvm.Cond.soleField "MoleBoard$Reader" "text") ∈ lw_all := lw_g (lw_at lw_m3 178 rfl) rfl
theorem q803 : (Jvm.Cond.laysFinal "MoleBoard$Reader" "MoleBoard$Reader" "many" "I") ∈ lw_all := lw_g (lw_at lw_m3 179 rfl) rfl
theorem q804 : (Jvm.Cond.soleField "MoleBoard$Reader" "many") ∈ lw_all := lw_g (lw_at lw_m3 180 rfl) rfl
theorem q805 : (Jvm.Cond.laysFinal "MoleBoard$Reader" "MoleBoard$Reader" "b" "LMoleBoard$Board;") ∈ lw_all := lw_g (lw_at lw_m3 181 rfl) rfl
theorem q806 : (Jvm.Cond.soleField "MoleBoard$Reader" "b") ∈ lw_all := lw_g (lw_at lw_m3 182 rfl) rfl
theorem q807 : (Jvm.Cond.lays "MoleBoard$Reader" "MoleBoard$Reader" "at" "I") ∈ lw_all := lw_g (lw_at lw_m3 183 rfl) rfl
theorem q808 : (Jvm.Cond.soleField "MoleBoard$Reader" "at") ∈ lw_all := lw_g (lw_at lw_m3 184 rfl) rfl
theorem q809 : (Jvm.Cond.lays "MoleBoard$Reader" "MoleBoard$Reader" "begin" "I") ∈ lw_all := lw_g (lw_at lw_m3 185 rfl) rfl
theorem q810 : (Jvm.Cond.soleField "MoleBoard$Reader" "begin") ∈ lw_all := lw_g (lw_at lw_m3 186 rfl) rfl
theorem q811 : (Jvm.Cond.lays "MoleBoard$Reader" "MoleBoard$Reader" "token" "I") ∈ lw_all := lw_g (lw_at lw_m3 187 rfl) rfl
theorem q812 : (Jvm.Cond.soleField "MoleBoard$Reader" "token") ∈ lw_all := lw_g (lw_at lw_m3 188 rfl) rfl
theorem q813 : (Jvm.Cond.lays "MoleBoard$Reader" "MoleBoard$Reader" "value" "I") ∈ lw_all := lw_g (lw_at lw_m3 189 rfl) rfl
theorem q814 : (Jvm.Cond.soleField "MoleBoard$Reader" "value") ∈ lw_all := lw_g (lw_at lw_m3 190 rfl) rfl
theorem q815 : (Jvm.Cond.superclass "MoleBoard$Reader" "java/lang/Object") ∈ lw_all := lw_g (lw_at lw_m3 191 rfl) rfl
theorem q817 : (Jvm.Cond.instanceMethod ({ cls := "MoleBoard$Reader", name := "reads", desc := "()LMoleBoard$Board;" } : Jvm.MethodName)) ∈ lw_all := lw_g (lw_at lw_m3 193 rfl) rfl
theorem q818 : (Jvm.Cond.selects "MoleBoard$Reader" ({ cls := "MoleBoard$Reader", name := "reads", desc := "()LMoleBoard$Board;" } : Jvm.MethodName) ({ cls := "MoleBoard$Reader", name := "reads", desc := "()LMoleBoard$Board;" } : Jvm.MethodName)) ∈ lw_all := lw_g (lw_at lw_m3 194 rfl) rfl
theorem q819 : (Jvm.Cond.code ({ cls := "MoleBoard$Reader", name := "reads", desc := "()LMoleBoard$Board;" } : Jvm.MethodName) prog_12_method_19_code (1 : Nat) (Option.some (Jvm.ClassFile.FieldType.object "MoleBoard$Board"))) ∈ lw_all := lw_g (lw_at lw_m3 195 rfl) rfl
theorem q820 : (Jvm.Cond.methodLink "MoleBoard$Reader" (216 : Nat) ({ cls := "MoleBoard$Reader", name := "first", desc := "()V" } : Jvm.MethodName)) ∈ lw_all := lw_g (lw_at lw_m3 196 rfl) rfl
theorem q821 : (Jvm.Cond.privateMethod ({ cls := "MoleBoard$Reader", name := "first", desc := "()V" } : Jvm.MethodName)) ∈ lw_tbl := lw_at lw_m3 197 rfl
theorem q822 : (Jvm.Cond.instanceMethod ({ cls := "MoleBoard$Reader", name := "first", desc := "()V" } : Jvm.MethodName)) ∈ lw_all := lw_g (lw_at lw_m3 198 rfl) rfl
theorem q823 : (Jvm.Cond.code ({ cls := "MoleBoard$Reader", name := "first", desc := "()V" } : Jvm.MethodName) prog_12_method_13_code (1 : Nat) (Option.none : Option Jvm.ClassFile.FieldType)) ∈ lw_all := lw_g (lw_at lw_m3 199 rfl) rfl
theorem q824 : (Jvm.Cond.stringRef "MoleBoard$Reader" (102 : Nat) "board") ∈ lw_tbl := lw_at lw_m3 200 rfl
theorem q825 : (Jvm.Cond.methodLink "MoleBoard$Reader" (79 : Nat) ({ cls := "MoleBoard$Reader", name := "asks", desc := "(Ljava/lang/String;)V" } : Jvm.MethodName)) ∈ lw_all := lw_g (lw_at lw_m3 201 rfl) rfl
theorem q826 : (Jvm.Cond.privateMethod ({ cls := "MoleBoard$Reader", name := "asks", desc := "(Ljava/lang/String;)V" } : Jvm.MethodName)) ∈ lw_tbl := lw_at lw_m3 202 rfl
theorem q827 : (Jvm.Cond.instanceMethod ({ cls := "MoleBoard$Reader", name := "asks", desc := "(Ljava/lang/String;)V" } : Jvm.MethodName)) ∈ lw_all := lw_g (lw_at lw_m3 203 rfl) rfl
theorem q828 : (Jvm.Cond.code ({ cls := "MoleBoard$Reader", name := "asks", desc := "(Ljava/lang/String;)V" } : Jvm.MethodName) prog_12_method_6_code (2 : Nat) (Option.none : Option Jvm.ClassFile.FieldType)) ∈ lw_all := lw_g (lw_at lw_m3 204 rfl) rfl
theorem q829 : (Jvm.Cond.methodLink "MoleBoard$Reader" (71 : Nat) ({ cls := "MoleBoard$Reader", name := "is", desc := "(Ljava/lang/String;)Z" } : Jvm.MethodName)) ∈ lw_all := lw_g (lw_at lw_m3 205 rfl) rfl
theorem q830 : (Jvm.Cond.privateMethod ({ cls := "MoleBoard$Reader", name := "is", desc := "(Ljava/lang/String;)Z" } : Jvm.MethodName)) ∈ lw_tbl := lw_at lw_m3 206 rfl
theorem q831 : (Jvm.Cond.instanceMethod ({ cls := "MoleBoard$Reader", name := "is", desc := "(Ljava/lang/String;)Z" } : Jvm.MethodName)) ∈ lw_all := lw_g (lw_at lw_m3 207 rfl) rfl
theorem q832 : (Jvm.Cond.code ({ cls := "MoleBoard$Reader", name := "is", desc := "(Ljava/lang/String;)Z" } : Jvm.MethodName) prog_12_method_5_code (3 : Nat) (Option.some Jvm.ClassFile.FieldType.boolean)) ∈ lw_all := lw_g (lw_at lw_m3 208 rfl) rfl
theorem q833 : (Jvm.Cond.methodLink "MoleBoard$Reader" (61 : Nat) ({ cls := "java/lang/String", name := "length", desc := "()I" } : Jvm.MethodName)) ∈ lw_all := lw_g (lw_at lw_m3 209 rfl) rfl
theorem q843 : (Jvm.Cond.methodLink "MoleBoard$Reader" (67 : Nat) ({ cls := "java/lang/String", name := "charAt", desc := "(I)C" } : Jvm.MethodName)) ∈ lw_all := lw_g (lw_at lw_m3 219 rfl) rfl
theorem q881 : (Jvm.Cond.methodLink "MoleBoard$Reader" (75 : Nat) ({ cls := "MoleBoard$Reader", name := "fault", desc := "(I)LMoleBoard$Fault;" } : Jvm.MethodName)) ∈ lw_all := lw_g (lw_at lw_m4 17 rfl) rfl
theorem q882 : (Jvm.Cond.privateMethod ({ cls := "MoleBoard$Reader", name := "fault", desc := "(I)LMoleBoard$Fault;" } : Jvm.MethodName)) ∈ lw_tbl := lw_at lw_m4 18 rfl
theorem q883 : (Jvm.Cond.instanceMethod ({ cls := "MoleBoard$Reader", name := "fault", desc := "(I)LMoleBoard$Fault;" } : Jvm.MethodName)) ∈ lw_all := lw_g (lw_at lw_m4 19 rfl) rfl
theorem q884 : (Jvm.Cond.code ({ cls := "MoleBoard$Reader", name := "fault", desc := "(I)LMoleBoard$Fault;" } : Jvm.MethodName) prog_12_method_4_code (2 : Nat) (Option.some (Jvm.ClassFile.FieldType.object "MoleBoard$Fault"))) ∈ lw_all := lw_g (lw_at lw_m4 20 rfl) rfl
theorem q885 : (Jvm.Cond.classLink "MoleBoard$Reader" (56 : Nat) "MoleBoard$Fault") ∈ lw_all := lw_g (lw_at lw_m4 21 rfl) rfl
theorem q894 : (Jvm.Cond.methodLink "MoleBoard$Reader" (58 : Nat) ({ cls := "MoleBoard$Fault", name := "<init>", desc := "(II)V" } : Jvm.MethodName)) ∈ lw_all := lw_g (lw_at lw_m4 30 rfl) rfl
theorem q916 : (Jvm.Cond.stringRef "MoleBoard$Reader" (104 : Nat) "wide") ∈ lw_tbl := lw_at lw_m4 52 rfl
theorem q917 : (Jvm.Cond.methodLink "MoleBoard$Reader" (106 : Nat) ({ cls := "MoleBoard$Reader", name := "number", desc := "(Ljava/lang/String;II)I" } : Jvm.MethodName)) ∈ lw_all := lw_g (lw_at lw_m4 53 rfl) rfl
theorem q918 : (Jvm.Cond.privateMethod ({ cls := "MoleBoard$Reader", name := "number", desc := "(Ljava/lang/String;II)I" } : Jvm.MethodName)) ∈ lw_tbl := lw_at lw_m4 54 rfl
theorem q919 : (Jvm.Cond.instanceMethod ({ cls := "MoleBoard$Reader", name := "number", desc := "(Ljava/lang/String;II)I" } : Jvm.MethodName)) ∈ lw_all := lw_g (lw_at lw_m4 55 rfl) rfl
theorem q920 : (Jvm.Cond.code ({ cls := "MoleBoard$Reader", name := "number", desc := "(Ljava/lang/String;II)I" } : Jvm.MethodName) prog_12_method_8_code (4 : Nat) (Option.some Jvm.ClassFile.FieldType.int)) ∈ lw_all := lw_g (lw_at lw_m4 56 rfl) rfl
theorem q921 : (Jvm.Cond.methodLink "MoleBoard$Reader" (83 : Nat) ({ cls := "MoleBoard$Reader", name := "number", desc := "(II)I" } : Jvm.MethodName)) ∈ lw_all := lw_g (lw_at lw_m4 57 rfl) rfl
theorem q922 : (Jvm.Cond.privateMethod ({ cls := "MoleBoard$Reader", name := "number", desc := "(II)I" } : Jvm.MethodName)) ∈ lw_tbl := lw_at lw_m4 58 rfl
theorem q923 : (Jvm.Cond.instanceMethod ({ cls := "MoleBoard$Reader", name := "number", desc := "(II)I" } : Jvm.MethodName)) ∈ lw_all := lw_g (lw_at lw_m4 59 rfl) rfl
theorem q924 : (Jvm.Cond.code ({ cls := "MoleBoard$Reader", name := "number", desc := "(II)I" } : Jvm.MethodName) prog_12_method_7_code (4 : Nat) (Option.some Jvm.ClassFile.FieldType.int)) ∈ lw_all := lw_g (lw_at lw_m4 60 rfl) rfl
theorem q925 : (Jvm.Cond.stringRef "MoleBoard$Reader" (111 : Nat) "high") ∈ lw_tbl := lw_at lw_m4 61 rfl
theorem q926 : (Jvm.Cond.stringRef "MoleBoard$Reader" (115 : Nat) "ticks") ∈ lw_tbl := lw_at lw_m4 62 rfl
theorem q927 : (Jvm.Cond.stringRef "MoleBoard$Reader" (119 : Nat) "pause") ∈ lw_tbl := lw_at lw_m4 63 rfl
theorem q928 : (Jvm.Cond.methodLink "MoleBoard$Reader" (219 : Nat) ({ cls := "MoleBoard$Reader", name := "line", desc := "()V" } : Jvm.MethodName)) ∈ lw_all := lw_g (lw_at lw_m4 64 rfl) rfl
theorem q929 : (Jvm.Cond.privateMethod ({ cls := "MoleBoard$Reader", name := "line", desc := "()V" } : Jvm.MethodName)) ∈ lw_tbl := lw_at lw_m4 65 rfl
theorem q930 : (Jvm.Cond.instanceMethod ({ cls := "MoleBoard$Reader", name := "line", desc := "()V" } : Jvm.MethodName)) ∈ lw_all := lw_g (lw_at lw_m4 66 rfl) rfl
theorem q931 : (Jvm.Cond.code ({ cls := "MoleBoard$Reader", name := "line", desc := "()V" } : Jvm.MethodName) prog_12_method_18_code (3 : Nat) (Option.none : Option Jvm.ClassFile.FieldType)) ∈ lw_all := lw_g (lw_at lw_m4 67 rfl) rfl
theorem q932 : (Jvm.Cond.stringRef "MoleBoard$Reader" (185 : Nat) "stay") ∈ lw_tbl := lw_at lw_m4 68 rfl
theorem q933 : (Jvm.Cond.methodLink "MoleBoard$Reader" (186 : Nat) ({ cls := "MoleBoard$Reader", name := "stay", desc := "()V" } : Jvm.MethodName)) ∈ lw_all := lw_g (lw_at lw_m4 69 rfl) rfl
theorem q934 : (Jvm.Cond.privateMethod ({ cls := "MoleBoard$Reader", name := "stay", desc := "()V" } : Jvm.MethodName)) ∈ lw_tbl := lw_at lw_m4 70 rfl
theorem q935 : (Jvm.Cond.instanceMethod ({ cls := "MoleBoard$Reader", name := "stay", desc := "()V" } : Jvm.MethodName)) ∈ lw_all := lw_g (lw_at lw_m4 71 rfl) rfl
theorem q936 : (Jvm.Cond.code ({ cls := "MoleBoard$Reader", name := "stay", desc := "()V" } : Jvm.MethodName) prog_12_method_14_code (5 : Nat) (Option.none : Option Jvm.ClassFile.FieldType)) ∈ lw_all := lw_g (lw_at lw_m4 72 rfl) rfl
theorem q937 : (Jvm.Cond.stringRef "MoleBoard$Reader" (123 : Nat) "from") ∈ lw_tbl := lw_at lw_m4 73 rfl
theorem q938 : (Jvm.Cond.methodLink "MoleBoard$Reader" (125 : Nat) ({ cls := "MoleBoard$Board", name := "stayOf", desc := "(I)I" } : Jvm.MethodName)) ∈ lw_all := lw_g (lw_at lw_m4 74 rfl) rfl
theorem q942 : (Jvm.Cond.stringRef "MoleBoard$Reader" (188 : Nat) "shut") ∈ lw_tbl := lw_at lw_m4 78 rfl
theorem q943 : (Jvm.Cond.methodLink "MoleBoard$Reader" (189 : Nat) ({ cls := "MoleBoard$Reader", name := "shut", desc := "()V" } : Jvm.MethodName)) ∈ lw_all := lw_g (lw_at lw_m4 79 rfl) rfl
theorem q944 : (Jvm.Cond.privateMethod ({ cls := "MoleBoard$Reader", name := "shut", desc := "()V" } : Jvm.MethodName)) ∈ lw_tbl := lw_at lw_m4 80 rfl
theorem q945 : (Jvm.Cond.instanceMethod ({ cls := "MoleBoard$Reader", name := "shut", desc := "()V" } : Jvm.MethodName)) ∈ lw_all := lw_g (lw_at lw_m4 81 rfl) rfl
theorem q946 : (Jvm.Cond.code ({ cls := "MoleBoard$Reader", name := "shut", desc := "()V" } : Jvm.MethodName) prog_12_method_15_code (1 : Nat) (Option.none : Option Jvm.ClassFile.FieldType)) ∈ lw_all := lw_g (lw_at lw_m4 82 rfl) rfl
theorem q947 : (Jvm.Cond.methodLink "MoleBoard$Reader" (89 : Nat) ({ cls := "MoleBoard$Reader", name := "isHole", desc := "()Z" } : Jvm.MethodName)) ∈ lw_all := lw_g (lw_at lw_m4 83 rfl) rfl
theorem q948 : (Jvm.Cond.privateMethod ({ cls := "MoleBoard$Reader", name := "isHole", desc := "()Z" } : Jvm.MethodName)) ∈ lw_tbl := lw_at lw_m4 84 rfl
theorem q949 : (Jvm.Cond.instanceMethod ({ cls := "MoleBoard$Reader", name := "isHole", desc := "()Z" } : Jvm.MethodName)) ∈ lw_all := lw_g (lw_at lw_m4 85 rfl) rfl
theorem q950 : (Jvm.Cond.code ({ cls := "MoleBoard$Reader", name := "isHole", desc := "()Z" } : Jvm.MethodName) prog_12_method_10_code (1 : Nat) (Option.some Jvm.ClassFile.FieldType.boolean)) ∈ lw_all := lw_g (lw_at lw_m4 86 rfl) rfl
theorem q951 : (Jvm.Cond.methodLink "MoleBoard$Reader" (86 : Nat) ({ cls := "MoleBoard$Board", name := "holes", desc := "()I" } : Jvm.MethodName)) ∈ lw_all := lw_g (lw_at lw_m4 87 rfl) rfl
theorem q955 : (Jvm.Cond.methodLinkNest "MoleBoard$Reader" (96 : Nat) ({ cls := "MoleBoard", name := "isOn", desc := "(II)Z" } : Jvm.MethodName) "MoleBoard") ∈ lw_tbl := lw_at lw_m4 91 rfl
theorem q958 : (Jvm.Cond.methodLink "MoleBoard$Reader" (138 : Nat) ({ cls := "MoleBoard$Board", name := "isComing", desc := "(I)Z" } : Jvm.MethodName)) ∈ lw_all := lw_g (lw_at lw_m4 94 rfl) rfl
theorem q1019 : (Jvm.Cond.methodLink "MoleBoard$Reader" (99 : Nat) ({ cls := "MoleBoard$Reader", name := "hole", desc := "()I" } : Jvm.MethodName)) ∈ lw_all := lw_g (lw_at lw_m4 155 rfl) rfl
theorem q1020 : (Jvm.Cond.privateMethod ({ cls := "MoleBoard$Reader", name := "hole", desc := "()I" } : Jvm.MethodName)) ∈ lw_tbl := lw_at lw_m4 156 rfl
theorem q1021 : (Jvm.Cond.instanceMethod ({ cls := "MoleBoard$Reader", name := "hole", desc := "()I" } : Jvm.MethodName)) ∈ lw_all := lw_g (lw_at lw_m4 157 rfl) rfl
theorem q1022 : (Jvm.Cond.code ({ cls := "MoleBoard$Reader", name := "hole", desc := "()I" } : Jvm.MethodName) prog_12_method_11_code (1 : Nat) (Option.some Jvm.ClassFile.FieldType.int)) ∈ lw_all := lw_g (lw_at lw_m4 158 rfl) rfl
theorem q1023 : (Jvm.Cond.stringRef "MoleBoard$Reader" (191 : Nat) "good") ∈ lw_tbl := lw_at lw_m4 159 rfl
theorem q1024 : (Jvm.Cond.stringRef "MoleBoard$Reader" (193 : Nat) "red") ∈ lw_tbl := lw_at lw_m4 160 rfl
theorem q1025 : (Jvm.Cond.stringRef "MoleBoard$Reader" (195 : Nat) "twin") ∈ lw_tbl := lw_at lw_m4 161 rfl
theorem q1026 : (Jvm.Cond.methodLink "MoleBoard$Reader" (197 : Nat) ({ cls := "MoleBoard$Reader", name := "mole", desc := "(ZZ)V" } : Jvm.MethodName)) ∈ lw_all := lw_g (lw_at lw_m4 162 rfl) rfl
theorem q1027 : (Jvm.Cond.privateMethod ({ cls := "MoleBoard$Reader", name := "mole", desc := "(ZZ)V" } : Jvm.MethodName)) ∈ lw_tbl := lw_at lw_m4 163 rfl
theorem q1028 : (Jvm.Cond.instanceMethod ({ cls := "MoleBoard$Reader", name := "mole", desc := "(ZZ)V" } : Jvm.MethodName)) ∈ lw_all := lw_g (lw_at lw_m4 164 rfl) rfl
theorem q1029 : (Jvm.Cond.code ({ cls := "MoleBoard$Reader", name := "mole", desc := "(ZZ)V" } : Jvm.MethodName) prog_12_method_16_code (4 : Nat) (Option.none : Option Jvm.ClassFile.FieldType)) ∈ lw_all := lw_g (lw_at lw_m4 165 rfl) rfl
theorem q1030 : (Jvm.Cond.interfaceEntry "MoleBoard$Reader" (146 : Nat)) ∈ lw_tbl := lw_at lw_m4 166 rfl
theorem q1031 : (Jvm.Cond.methodLink "MoleBoard$Reader" (146 : Nat) ({ cls := "java/util/List", name := "size", desc := "()I" } : Jvm.MethodName)) ∈ lw_all := lw_g (lw_at lw_m4 167 rfl) rfl
theorem q1039 : (Jvm.Cond.methodLink "MoleBoard$Reader" (151 : Nat) ({ cls := "MoleBoard$Reader", name := "room", desc := "(Z)V" } : Jvm.MethodName)) ∈ lw_all := lw_g (lw_at lw_m4 175 rfl) rfl
theorem q1040 : (Jvm.Cond.privateMethod ({ cls := "MoleBoard$Reader", name := "room", desc := "(Z)V" } : Jvm.MethodName)) ∈ lw_tbl := lw_at lw_m4 176 rfl
theorem q1041 : (Jvm.Cond.instanceMethod ({ cls := "MoleBoard$Reader", name := "room", desc := "(Z)V" } : Jvm.MethodName)) ∈ lw_all := lw_g (lw_at lw_m4 177 rfl) rfl
theorem q1042 : (Jvm.Cond.code ({ cls := "MoleBoard$Reader", name := "room", desc := "(Z)V" } : Jvm.MethodName) prog_12_method_9_code (2 : Nat) (Option.none : Option Jvm.ClassFile.FieldType)) ∈ lw_all := lw_g (lw_at lw_m4 178 rfl) rfl
theorem q1043 : (Jvm.Cond.methodLink "MoleBoard$Reader" (155 : Nat) ({ cls := "MoleBoard$Reader", name := "open", desc := "(I)I" } : Jvm.MethodName)) ∈ lw_all := lw_g (lw_at lw_m4 179 rfl) rfl
theorem q1044 : (Jvm.Cond.privateMethod ({ cls := "MoleBoard$Reader", name := "open", desc := "(I)I" } : Jvm.MethodName)) ∈ lw_tbl := lw_at lw_m4 180 rfl
theorem q1045 : (Jvm.Cond.instanceMethod ({ cls := "MoleBoard$Reader", name := "open", desc := "(I)I" } : Jvm.MethodName)) ∈ lw_all := lw_g (lw_at lw_m4 181 rfl) rfl
theorem q1046 : (Jvm.Cond.code ({ cls := "MoleBoard$Reader", name := "open", desc := "(I)I" } : Jvm.MethodName) prog_12_method_12_code (2 : Nat) (Option.some Jvm.ClassFile.FieldType.int)) ∈ lw_all := lw_g (lw_at lw_m4 182 rfl) rfl
theorem q1047 : (Jvm.Cond.classLink "MoleBoard$Reader" (158 : Nat) "MoleBoard$Mole") ∈ lw_all := lw_g (lw_at lw_m4 183 rfl) rfl
theorem q1049 : (Jvm.Cond.methodLink "MoleBoard$Reader" (160 : Nat) ({ cls := "MoleBoard$Mole", name := "<init>", desc := "(IIZ)V" } : Jvm.MethodName)) ∈ lw_all := lw_g (lw_at lw_m4 185 rfl) rfl
theorem q1073 : (Jvm.Cond.interfaceEntry "MoleBoard$Reader" (163 : Nat)) ∈ lw_tbl := lw_at lw_m4 209 rfl
theorem q1074 : (Jvm.Cond.methodLink "MoleBoard$Reader" (163 : Nat) ({ cls := "java/util/List", name := "add", desc := "(Ljava/lang/Object;)Z" } : Jvm.MethodName)) ∈ lw_all := lw_g (lw_at lw_m4 210 rfl) rfl
theorem q1122 : (Jvm.Cond.selects "MoleBoard$Reader" ({ cls := "java/lang/Object", name := "getClass", desc := "()Ljava/lang/Class;" } : Jvm.MethodName) ({ cls := "java/lang/Object", name := "getClass", desc := "()Ljava/lang/Class;" } : Jvm.MethodName)) ∈ lw_all := lw_g (lw_at lw_m5 18 rfl) rfl
theorem q1141 : (Jvm.Cond.stringRef "MoleBoard$Reader" (201 : Nat) "player") ∈ lw_tbl := lw_at lw_m5 37 rfl
theorem q1142 : (Jvm.Cond.methodLink "MoleBoard$Reader" (203 : Nat) ({ cls := "MoleBoard$Reader", name := "player", desc := "()V" } : Jvm.MethodName)) ∈ lw_all := lw_g (lw_at lw_m5 38 rfl) rfl
theorem q1143 : (Jvm.Cond.privateMethod ({ cls := "MoleBoard$Reader", name := "player", desc := "()V" } : Jvm.MethodName)) ∈ lw_tbl := lw_at lw_m5 39 rfl
theorem q1144 : (Jvm.Cond.instanceMethod ({ cls := "MoleBoard$Reader", name := "player", desc := "()V" } : Jvm.MethodName)) ∈ lw_all := lw_g (lw_at lw_m5 40 rfl) rfl
theorem q1145 : (Jvm.Cond.code ({ cls := "MoleBoard$Reader", name := "player", desc := "()V" } : Jvm.MethodName) prog_12_method_17_code (2 : Nat) (Option.none : Option Jvm.ClassFile.FieldType)) ∈ lw_all := lw_g (lw_at lw_m5 41 rfl) rfl
theorem q1146 : (Jvm.Cond.classLink "MoleBoard$Reader" (170 : Nat) "MoleBoard$Player") ∈ lw_all := lw_g (lw_at lw_m5 42 rfl) rfl
theorem q1148 : (Jvm.Cond.methodLinkNest "MoleBoard$Reader" (172 : Nat) ({ cls := "MoleBoard$Player", name := "<init>", desc := "()V" } : Jvm.MethodName) "MoleBoard") ∈ lw_tbl := lw_at lw_m5 44 rfl
theorem q1155 : (Jvm.Cond.fieldLinkNest "MoleBoard$Reader" (173 : Nat) "MoleBoard$Player" "is" "[I" "MoleBoard") ∈ lw_tbl := lw_at lw_m5 51 rfl
theorem q1160 : (Jvm.Cond.stringRef "MoleBoard$Reader" (175 : Nat) "pace") ∈ lw_tbl := lw_at lw_m5 56 rfl
theorem q1161 : (Jvm.Cond.stringRef "MoleBoard$Reader" (177 : Nat) "lag") ∈ lw_tbl := lw_at lw_m5 57 rfl
theorem q1162 : (Jvm.Cond.stringRef "MoleBoard$Reader" (179 : Nat) "tires") ∈ lw_tbl := lw_at lw_m5 58 rfl
theorem q1163 : (Jvm.Cond.stringRef "MoleBoard$Reader" (181 : Nat) "knows") ∈ lw_tbl := lw_at lw_m5 59 rfl
theorem q1164 : (Jvm.Cond.stringRef "MoleBoard$Reader" (183 : Nat) "waits") ∈ lw_tbl := lw_at lw_m5 60 rfl
theorem q1165 : (Jvm.Cond.stringRef "MoleBoard$Reader" (205 : Nat) "tickets") ∈ lw_tbl := lw_at lw_m5 61 rfl
theorem q1166 : (Jvm.Cond.stringRef "MoleBoard$Reader" (207 : Nat) "each") ∈ lw_tbl := lw_at lw_m5 62 rfl
theorem q2668 : (Jvm.Cond.castable "MoleBoard$Reader" "java/lang/Object") ∈ lw_tbl := lw_at lw_m11 124 rfl
/-! java/lang/Math -/
set_option maxRecDepth 100000
abbrev cJ3_min : ByteArray := prog_27_method_69_code
def yJ3_min : MethodName := ⟨RJ3, "min", "(II)I"⟩
def dkwJ3_min_0 : List UInt8 := [26, 27, 163, 0, 7, 26, 167, 0, 4, 27, 172]
abbrev dktJ3_min_0 : List UInt8 := dkwJ3_min_0 ++ []
theorem dksJ3_min_0 : cJ3_min.data.toList.drop 0 = dktJ3_min_0 := by decide +kernel
theorem dJ3_min_0 : decode cJ3_min 0 = .ok (.iload_n 0, 1) := dk_26 (dk_at dksJ3_min_0 0 rfl rfl)
theorem dJ3_min_1 : decode cJ3_min 1 = .ok (.iload_n 1, 1) := dk_27 (dk_at dksJ3_min_0 1 rfl rfl)
theorem dJ3_min_2 : decode cJ3_min 2 = .ok (.if_icmp .gt 7, 3) := dk_163 0 7 (dk_at dksJ3_min_0 2 rfl rfl)
theorem dJ3_min_5 : decode cJ3_min 5 = .ok (.iload_n 0, 1) := dk_26 (dk_at dksJ3_min_0 5 rfl rfl)
theorem dJ3_min_6 : decode cJ3_min 6 = .ok (.goto 4, 3) := dk_167 0 4 (dk_at dksJ3_min_0 6 rfl rfl)
theorem dJ3_min_9 : decode cJ3_min 9 = .ok (.iload_n 1, 1) := dk_27 (dk_at dksJ3_min_0 9 rfl rfl)
theorem dJ3_min_10 : decode cJ3_min 10 = .ok (.ireturn, 1) := dk_172 (dk_at dksJ3_min_0 10 rfl rfl)
abbrev cJ3_max : ByteArray := prog_27_method_65_code
def yJ3_max : MethodName := ⟨RJ3, "max", "(II)I"⟩
def dkwJ3_max_0 : List UInt8 := [26, 27, 161, 0, 7, 26, 167, 0, 4, 27, 172]
abbrev dktJ3_max_0 : List UInt8 := dkwJ3_max_0 ++ []
theorem dksJ3_max_0 : cJ3_max.data.toList.drop 0 = dktJ3_max_0 := by decide +kernel
theorem dJ3_max_0 : decode cJ3_max 0 = .ok (.iload_n 0, 1) := dk_26 (dk_at dksJ3_max_0 0 rfl rfl)
theorem dJ3_max_1 : decode cJ3_max 1 = .ok (.iload_n 1, 1) := dk_27 (dk_at dksJ3_max_0 1 rfl rfl)
theorem dJ3_max_2 : decode cJ3_max 2 = .ok (.if_icmp .lt 7, 3) := dk_161 0 7 (dk_at dksJ3_max_0 2 rfl rfl)
theorem dJ3_max_5 : decode cJ3_max 5 = .ok (.iload_n 0, 1) := dk_26 (dk_at dksJ3_max_0 5 rfl rfl)
theorem dJ3_max_6 : decode cJ3_max 6 = .ok (.goto 4, 3) := dk_167 0 4 (dk_at dksJ3_max_0 6 rfl rfl)
theorem dJ3_max_9 : decode cJ3_max 9 = .ok (.iload_n 1, 1) := dk_27 (dk_at dksJ3_max_0 9 rfl rfl)
theorem dJ3_max_10 : decode cJ3_max 10 = .ok (.ireturn, 1) := dk_172 (dk_at dksJ3_max_0 10 rfl rfl)
abbrev cJ3_abs : ByteArray := prog_27_method_59_code
def yJ3_abs : MethodName := ⟨RJ3, "abs", "(I)I"⟩
def dkwJ3_abs_0 : List UInt8 := [26, 156, 0, 8, 26, 116, 167, 0, 4, 26, 172]
abbrev dktJ3_abs_0 : List UInt8 := dkwJ3_abs_0 ++ []
theorem dksJ3_abs_0 : cJ3_abs.data.toList.drop 0 = dktJ3_abs_0 := by decide +kernel
theorem dJ3_abs_0 : decode cJ3_abs 0 = .ok (.iload_n 0, 1) := dk_26 (dk_at dksJ3_abs_0 0 rfl rfl)
theorem dJ3_abs_1 : decode cJ3_abs 1 = .ok (.ifCond .ge 8, 3) := dk_156 0 8 (dk_at dksJ3_abs_0 1 rfl rfl)
theorem dJ3_abs_4 : decode cJ3_abs 4 = .ok (.iload_n 0, 1) := dk_26 (dk_at dksJ3_abs_0 4 rfl rfl)
theorem dJ3_abs_5 : decode cJ3_abs 5 = .ok (.ineg, 1) := dk_116 (dk_at dksJ3_abs_0 5 rfl rfl)
theorem dJ3_abs_6 : decode cJ3_abs 6 = .ok (.goto 4, 3) := dk_167 0 4 (dk_at dksJ3_abs_0 6 rfl rfl)
theorem dJ3_abs_9 : decode cJ3_abs 9 = .ok (.iload_n 0, 1) := dk_26 (dk_at dksJ3_abs_0 9 rfl rfl)
theorem dJ3_abs_10 : decode cJ3_abs 10 = .ok (.ireturn, 1) := dk_172 (dk_at dksJ3_abs_0 10 rfl rfl)
abbrev cJ3_floorMod : ByteArray := prog_27_method_50_code
def yJ3_floorMod : MethodName := ⟨RJ3, "floorMod", "(II)I"⟩
def dkwJ3_floorMod_0 : List UInt8 := [26, 27, 112, 61, 26, 27, 130, 156, 0, 11, 28, 153, 0, 7, 28, 27, 96, 172, 28, 172]
abbrev dktJ3_floorMod_0 : List UInt8 := dkwJ3_floorMod_0 ++ []
theorem dksJ3_floorMod_0 : cJ3_floorMod.data.toList.drop 0 = dktJ3_floorMod_0 := by decide +kernel
theorem dJ3_floorMod_0 : decode cJ3_floorMod 0 = .ok (.iload_n 0, 1) := dk_26 (dk_at dksJ3_floorMod_0 0 rfl rfl)
theorem dJ3_floorMod_1 : decode cJ3_floorMod 1 = .ok (.iload_n 1, 1) := dk_27 (dk_at dksJ3_floorMod_0 1 rfl rfl)
theorem dJ3_floorMod_2 : decode cJ3_floorMod 2 = .ok (.irem, 1) := dk_112 (dk_at dksJ3_floorMod_0 2 rfl rfl)
theorem dJ3_floorMod_3 : decode cJ3_floorMod 3 = .ok (.istore_n 2, 1) := dk_61 (dk_at dksJ3_floorMod_0 3 rfl rfl)
theorem dJ3_floorMod_4 : decode cJ3_floorMod 4 = .ok (.iload_n 0, 1) := dk_26 (dk_at dksJ3_floorMod_0 4 rfl rfl)
theorem dJ3_floorMod_5 : decode cJ3_floorMod 5 = .ok (.iload_n 1, 1) := dk_27 (dk_at dksJ3_floorMod_0 5 rfl rfl)
theorem dJ3_floorMod_6 : decode cJ3_floorMod 6 = .ok (.ixor, 1) := dk_130 (dk_at dksJ3_floorMod_0 6 rfl rfl)
theorem dJ3_floorMod_7 : decode cJ3_floorMod 7 = .ok (.ifCond .ge 11, 3) := dk_156 0 11 (dk_at dksJ3_floorMod_0 7 rfl rfl)
theorem dJ3_floorMod_10 : decode cJ3_floorMod 10 = .ok (.iload_n 2, 1) := dk_28 (dk_at dksJ3_floorMod_0 10 rfl rfl)
theorem dJ3_floorMod_11 : decode cJ3_floorMod 11 = .ok (.ifCond .eq 7, 3) := dk_153 0 7 (dk_at dksJ3_floorMod_0 11 rfl rfl)
theorem dJ3_floorMod_14 : decode cJ3_floorMod 14 = .ok (.iload_n 2, 1) := dk_28 (dk_at dksJ3_floorMod_0 14 rfl rfl)
theorem dJ3_floorMod_15 : decode cJ3_floorMod 15 = .ok (.iload_n 1, 1) := dk_27 (dk_at dksJ3_floorMod_0 15 rfl rfl)
theorem dJ3_floorMod_16 : decode cJ3_floorMod 16 = .ok (.iadd, 1) := dk_96 (dk_at dksJ3_floorMod_0 16 rfl rfl)
theorem dJ3_floorMod_17 : decode cJ3_floorMod 17 = .ok (.ireturn, 1) := dk_172 (dk_at dksJ3_floorMod_0 17 rfl rfl)
theorem dJ3_floorMod_18 : decode cJ3_floorMod 18 = .ok (.iload_n 2, 1) := dk_28 (dk_at dksJ3_floorMod_0 18 rfl rfl)
theorem dJ3_floorMod_19 : decode cJ3_floorMod 19 = .ok (.ireturn, 1) := dk_172 (dk_at dksJ3_floorMod_0 19 rfl rfl)
theorem q160 : (Jvm.Cond.initialized "java/lang/Math") ∈ lw_all := lw_g (lw_at lw_m1 16 rfl) rfl
theorem q792 : (Jvm.Cond.static ({ cls := "java/lang/Math", name := "min", desc := "(II)I" } : Jvm.MethodName)) ∈ lw_all := lw_g (lw_at lw_m3 168 rfl) rfl
theorem q793 : (Jvm.Cond.code ({ cls := "java/lang/Math", name := "min", desc := "(II)I" } : Jvm.MethodName) prog_27_method_69_code (2 : Nat) (Option.some Jvm.ClassFile.FieldType.int)) ∈ lw_all := lw_g (lw_at lw_m3 169 rfl) rfl
theorem q1100 : (Jvm.Cond.static ({ cls := "java/lang/Math", name := "max", desc := "(II)I" } : Jvm.MethodName)) ∈ lw_all := lw_g (lw_at lw_m4 236 rfl) rfl
theorem q1101 : (Jvm.Cond.code ({ cls := "java/lang/Math", name := "max", desc := "(II)I" } : Jvm.MethodName) prog_27_method_65_code (2 : Nat) (Option.some Jvm.ClassFile.FieldType.int)) ∈ lw_all := lw_g (lw_at lw_m4 237 rfl) rfl
theorem q1284 : (Jvm.Cond.static ({ cls := "java/lang/Math", name := "abs", desc := "(I)I" } : Jvm.MethodName)) ∈ lw_all := lw_g (lw_at lw_m5 180 rfl) rfl
theorem q1285 : (Jvm.Cond.code ({ cls := "java/lang/Math", name := "abs", desc := "(I)I" } : Jvm.MethodName) prog_27_method_59_code (1 : Nat) (Option.some Jvm.ClassFile.FieldType.int)) ∈ lw_all := lw_g (lw_at lw_m5 181 rfl) rfl
theorem q1554 : (Jvm.Cond.static ({ cls := "java/lang/Math", name := "floorMod", desc := "(II)I" } : Jvm.MethodName)) ∈ lw_all := lw_g (lw_at lw_m6 210 rfl) rfl
theorem q1555 : (Jvm.Cond.code ({ cls := "java/lang/Math", name := "floorMod", desc := "(II)I" } : Jvm.MethodName) prog_27_method_50_code (3 : Nat) (Option.some Jvm.ClassFile.FieldType.int)) ∈ lw_all := lw_g (lw_at lw_m6 211 rfl) rfl
/-! java/lang/String -/
set_option maxRecDepth 100000
abbrev cJ4_length : ByteArray := prog_31_method_54_code
def yJ4_length : MethodName := ⟨RJ4, "length", "()I"⟩
def dkwJ4_length_0 : List UInt8 := [42, 180, 0, 9, 190, 42, 182, 1, 79, 122, 172]
abbrev dktJ4_length_0 : List UInt8 := dkwJ4_length_0 ++ []
theorem dksJ4_length_0 : cJ4_length.data.toList.drop 0 = dktJ4_length_0 := by decide +kernel
theorem dJ4_length_0 : decode cJ4_length 0 = .ok (.aload_n 0, 1) := dk_42 (dk_at dksJ4_length_0 0 rfl rfl)
theorem dJ4_length_1 : decode cJ4_length 1 = .ok (.getfield 9, 3) := dk_180 0 9 (dk_at dksJ4_length_0 1 rfl rfl)
theorem dJ4_length_4 : decode cJ4_length 4 = .ok (.arraylength, 1) := dk_190 (dk_at dksJ4_length_0 4 rfl rfl)
theorem dJ4_length_5 : decode cJ4_length 5 = .ok (.aload_n 0, 1) := dk_42 (dk_at dksJ4_length_0 5 rfl rfl)
theorem dJ4_length_6 : decode cJ4_length 6 = .ok (.invokevirtual 335, 3) := dk_182 1 79 (dk_at dksJ4_length_0 6 rfl rfl)
theorem dJ4_length_9 : decode cJ4_length 9 = .ok (.ishr, 1) := dk_122 (dk_at dksJ4_length_0 9 rfl rfl)
theorem dJ4_length_10 : decode cJ4_length 10 = .ok (.ireturn, 1) := dk_172 (dk_at dksJ4_length_0 10 rfl rfl)
abbrev cJ4_coder : ByteArray := prog_31_method_152_code
def yJ4_coder : MethodName := ⟨RJ4, "coder", "()B"⟩
def dkwJ4_coder_0 : List UInt8 := [178, 0, 38, 153, 0, 10, 42, 180, 0, 15, 167, 0, 4, 4, 172]
abbrev dktJ4_coder_0 : List UInt8 := dkwJ4_coder_0 ++ []
theorem dksJ4_coder_0 : cJ4_coder.data.toList.drop 0 = dktJ4_coder_0 := by decide +kernel
theorem dJ4_coder_0 : decode cJ4_coder 0 = .ok (.getstatic 38, 3) := dk_178 0 38 (dk_at dksJ4_coder_0 0 rfl rfl)
theorem dJ4_coder_3 : decode cJ4_coder 3 = .ok (.ifCond .eq 10, 3) := dk_153 0 10 (dk_at dksJ4_coder_0 3 rfl rfl)
theorem dJ4_coder_6 : decode cJ4_coder 6 = .ok (.aload_n 0, 1) := dk_42 (dk_at dksJ4_coder_0 6 rfl rfl)
theorem dJ4_coder_7 : decode cJ4_coder 7 = .ok (.getfield 15, 3) := dk_180 0 15 (dk_at dksJ4_coder_0 7 rfl rfl)
theorem dJ4_coder_10 : decode cJ4_coder 10 = .ok (.goto 4, 3) := dk_167 0 4 (dk_at dksJ4_coder_0 10 rfl rfl)
theorem dJ4_coder_13 : decode cJ4_coder 13 = .ok (.iconst 1, 1) := dk_4 (dk_at dksJ4_coder_0 13 rfl rfl)
theorem dJ4_coder_14 : decode cJ4_coder 14 = .ok (.ireturn, 1) := dk_172 (dk_at dksJ4_coder_0 14 rfl rfl)
abbrev cJ4_charAt : ByteArray := prog_31_method_56_code
def yJ4_charAt : MethodName := ⟨RJ4, "charAt", "(I)C"⟩
def dkwJ4_charAt_1 : List UInt8 := [172]
abbrev dktJ4_charAt_1 : List UInt8 := dkwJ4_charAt_1 ++ []
def dkwJ4_charAt_0 : List UInt8 := [42, 182, 1, 236, 153, 0, 12, 42, 180, 0, 9, 27, 184, 1, 239, 172, 42, 180, 0, 9, 27, 184, 1, 242]
abbrev dktJ4_charAt_0 : List UInt8 := dkwJ4_charAt_0 ++ dktJ4_charAt_1
theorem dksJ4_charAt_0 : cJ4_charAt.data.toList.drop 0 = dktJ4_charAt_0 := by decide +kernel
theorem dksJ4_charAt_1 : cJ4_charAt.data.toList.drop 24 = dktJ4_charAt_1 := dk_seg dksJ4_charAt_0 24 rfl rfl
theorem dJ4_charAt_0 : decode cJ4_charAt 0 = .ok (.aload_n 0, 1) := dk_42 (dk_at dksJ4_charAt_0 0 rfl rfl)
theorem dJ4_charAt_1 : decode cJ4_charAt 1 = .ok (.invokevirtual 492, 3) := dk_182 1 236 (dk_at dksJ4_charAt_0 1 rfl rfl)
theorem dJ4_charAt_4 : decode cJ4_charAt 4 = .ok (.ifCond .eq 12, 3) := dk_153 0 12 (dk_at dksJ4_charAt_0 4 rfl rfl)
theorem dJ4_charAt_7 : decode cJ4_charAt 7 = .ok (.aload_n 0, 1) := dk_42 (dk_at dksJ4_charAt_0 7 rfl rfl)
theorem dJ4_charAt_8 : decode cJ4_charAt 8 = .ok (.getfield 9, 3) := dk_180 0 9 (dk_at dksJ4_charAt_0 8 rfl rfl)
theorem dJ4_charAt_11 : decode cJ4_charAt 11 = .ok (.iload_n 1, 1) := dk_27 (dk_at dksJ4_charAt_0 11 rfl rfl)
theorem dJ4_charAt_12 : decode cJ4_charAt 12 = .ok (.invokestatic 495, 3) := dk_184 1 239 (dk_at dksJ4_charAt_0 12 rfl rfl)
theorem dJ4_charAt_15 : decode cJ4_charAt 15 = .ok (.ireturn, 1) := dk_172 (dk_at dksJ4_charAt_0 15 rfl rfl)
theorem dJ4_charAt_16 : decode cJ4_charAt 16 = .ok (.aload_n 0, 1) := dk_42 (dk_at dksJ4_charAt_0 16 rfl rfl)
theorem dJ4_charAt_17 : decode cJ4_charAt 17 = .ok (.getfield 9, 3) := dk_180 0 9 (dk_at dksJ4_charAt_0 17 rfl rfl)
theorem dJ4_charAt_20 : decode cJ4_charAt 20 = .ok (.iload_n 1, 1) := dk_27 (dk_at dksJ4_charAt_0 20 rfl rfl)
theorem dJ4_charAt_21 : decode cJ4_charAt 21 = .ok (.invokestatic 498, 3) := dk_184 1 242 (dk_at dksJ4_charAt_0 21 rfl rfl)
theorem dJ4_charAt_24 : decode cJ4_charAt 24 = .ok (.ireturn, 1) := dk_172 (dk_at dksJ4_charAt_1 0 rfl rfl)
abbrev cJ4_isLatin1 : ByteArray := prog_31_method_154_code
def yJ4_isLatin1 : MethodName := ⟨RJ4, "isLatin1", "()Z"⟩
def dkwJ4_isLatin1_0 : List UInt8 := [178, 0, 38, 153, 0, 14, 42, 180, 0, 15, 154, 0, 7, 4, 167, 0, 4, 3, 172]
abbrev dktJ4_isLatin1_0 : List UInt8 := dkwJ4_isLatin1_0 ++ []
theorem dksJ4_isLatin1_0 : cJ4_isLatin1.data.toList.drop 0 = dktJ4_isLatin1_0 := by decide +kernel
theorem dJ4_isLatin1_0 : decode cJ4_isLatin1 0 = .ok (.getstatic 38, 3) := dk_178 0 38 (dk_at dksJ4_isLatin1_0 0 rfl rfl)
theorem dJ4_isLatin1_3 : decode cJ4_isLatin1 3 = .ok (.ifCond .eq 14, 3) := dk_153 0 14 (dk_at dksJ4_isLatin1_0 3 rfl rfl)
theorem dJ4_isLatin1_6 : decode cJ4_isLatin1 6 = .ok (.aload_n 0, 1) := dk_42 (dk_at dksJ4_isLatin1_0 6 rfl rfl)
theorem dJ4_isLatin1_7 : decode cJ4_isLatin1 7 = .ok (.getfield 15, 3) := dk_180 0 15 (dk_at dksJ4_isLatin1_0 7 rfl rfl)
theorem dJ4_isLatin1_10 : decode cJ4_isLatin1 10 = .ok (.ifCond .ne 7, 3) := dk_154 0 7 (dk_at dksJ4_isLatin1_0 10 rfl rfl)
theorem dJ4_isLatin1_13 : decode cJ4_isLatin1 13 = .ok (.iconst 1, 1) := dk_4 (dk_at dksJ4_isLatin1_0 13 rfl rfl)
theorem dJ4_isLatin1_14 : decode cJ4_isLatin1 14 = .ok (.goto 4, 3) := dk_167 0 4 (dk_at dksJ4_isLatin1_0 14 rfl rfl)
theorem dJ4_isLatin1_17 : decode cJ4_isLatin1 17 = .ok (.iconst 0, 1) := dk_3 (dk_at dksJ4_isLatin1_0 17 rfl rfl)
theorem dJ4_isLatin1_18 : decode cJ4_isLatin1 18 = .ok (.ireturn, 1) := dk_172 (dk_at dksJ4_isLatin1_0 18 rfl rfl)
abbrev cJ4_checkIndex : ByteArray := prog_31_method_155_code
def yJ4_checkIndex : MethodName := ⟨RJ4, "checkIndex", "(II)V"⟩
def dkwJ4_checkIndex_0 : List UInt8 := [26, 27, 178, 4, 29, 184, 4, 35, 87, 177]
abbrev dktJ4_checkIndex_0 : List UInt8 := dkwJ4_checkIndex_0 ++ []
theorem dksJ4_checkIndex_0 : cJ4_checkIndex.data.toList.drop 0 = dktJ4_checkIndex_0 := by decide +kernel
theorem dJ4_checkIndex_0 : decode cJ4_checkIndex 0 = .ok (.iload_n 0, 1) := dk_26 (dk_at dksJ4_checkIndex_0 0 rfl rfl)
theorem dJ4_checkIndex_1 : decode cJ4_checkIndex 1 = .ok (.iload_n 1, 1) := dk_27 (dk_at dksJ4_checkIndex_0 1 rfl rfl)
theorem dJ4_checkIndex_2 : decode cJ4_checkIndex 2 = .ok (.getstatic 1053, 3) := dk_178 4 29 (dk_at dksJ4_checkIndex_0 2 rfl rfl)
theorem dJ4_checkIndex_5 : decode cJ4_checkIndex 5 = .ok (.invokestatic 1059, 3) := dk_184 4 35 (dk_at dksJ4_checkIndex_0 5 rfl rfl)
theorem dJ4_checkIndex_8 : decode cJ4_checkIndex 8 = .ok (.pop, 1) := dk_87 (dk_at dksJ4_checkIndex_0 8 rfl rfl)
theorem dJ4_checkIndex_9 : decode cJ4_checkIndex 9 = .ok (.return_, 1) := dk_177 (dk_at dksJ4_checkIndex_0 9 rfl rfl)
theorem q161 : (Jvm.Cond.initialized "java/lang/String") ∈ lw_all := lw_g (lw_at lw_m1 17 rfl) rfl
theorem q279 : (Jvm.Cond.instantiable "java/lang/String" (4 : Nat)) ∈ lw_all := lw_g (lw_at lw_m1 135 rfl) rfl
theorem q281 : (Jvm.Cond.laysFinal "java/lang/String" "java/lang/String" "value" "[B") ∈ lw_all := lw_g (lw_at lw_m1 137 rfl) rfl
theorem q282 : (Jvm.Cond.soleField "java/lang/String" "value") ∈ lw_all := lw_g (lw_at lw_m1 138 rfl) rfl
theorem q283 : (Jvm.Cond.laysFinal "java/lang/String" "java/lang/String" "coder" "B") ∈ lw_all := lw_g (lw_at lw_m1 139 rfl) rfl
theorem q284 : (Jvm.Cond.soleField "java/lang/String" "coder") ∈ lw_all := lw_g (lw_at lw_m1 140 rfl) rfl
theorem q834 : (Jvm.Cond.instanceMethod ({ cls := "java/lang/String", name := "length", desc := "()I" } : Jvm.MethodName)) ∈ lw_all := lw_g (lw_at lw_m3 210 rfl) rfl
theorem q835 : (Jvm.Cond.selects "java/lang/String" ({ cls := "java/lang/String", name := "length", desc := "()I" } : Jvm.MethodName) ({ cls := "java/lang/String", name := "length", desc := "()I" } : Jvm.MethodName)) ∈ lw_all := lw_g (lw_at lw_m3 211 rfl) rfl
theorem q836 : (Jvm.Cond.code ({ cls := "java/lang/String", name := "length", desc := "()I" } : Jvm.MethodName) prog_31_method_54_code (1 : Nat) (Option.some Jvm.ClassFile.FieldType.int)) ∈ lw_all := lw_g (lw_at lw_m3 212 rfl) rfl
theorem q837 : (Jvm.Cond.methodLink "java/lang/String" (335 : Nat) ({ cls := "java/lang/String", name := "coder", desc := "()B" } : Jvm.MethodName)) ∈ lw_all := lw_g (lw_at lw_m3 213 rfl) rfl
theorem q838 : (Jvm.Cond.instanceMethod ({ cls := "java/lang/String", name := "coder", desc := "()B" } : Jvm.MethodName)) ∈ lw_all := lw_g (lw_at lw_m3 214 rfl) rfl
theorem q839 : (Jvm.Cond.selects "java/lang/String" ({ cls := "java/lang/String", name := "coder", desc := "()B" } : Jvm.MethodName) ({ cls := "java/lang/String", name := "coder", desc := "()B" } : Jvm.MethodName)) ∈ lw_all := lw_g (lw_at lw_m3 215 rfl) rfl
theorem q840 : (Jvm.Cond.code ({ cls := "java/lang/String", name := "coder", desc := "()B" } : Jvm.MethodName) prog_31_method_152_code (1 : Nat) (Option.some Jvm.ClassFile.FieldType.byte)) ∈ lw_all := lw_g (lw_at lw_m3 216 rfl) rfl
theorem q841 : (Jvm.Cond.fieldLink "java/lang/String" (38 : Nat) "java/lang/String" "COMPACT_STRINGS" "Z") ∈ lw_all := lw_g (lw_at lw_m3 217 rfl) rfl
theorem q842 : (Jvm.Cond.laysStatic "java/lang/String" "COMPACT_STRINGS" "Z") ∈ lw_tbl := lw_at lw_m3 218 rfl
theorem q844 : (Jvm.Cond.instanceMethod ({ cls := "java/lang/String", name := "charAt", desc := "(I)C" } : Jvm.MethodName)) ∈ lw_all := lw_g (lw_at lw_m3 220 rfl) rfl
theorem q845 : (Jvm.Cond.selects "java/lang/String" ({ cls := "java/lang/String", name := "charAt", desc := "(I)C" } : Jvm.MethodName) ({ cls := "java/lang/String", name := "charAt", desc := "(I)C" } : Jvm.MethodName)) ∈ lw_all := lw_g (lw_at lw_m3 221 rfl) rfl
theorem q846 : (Jvm.Cond.code ({ cls := "java/lang/String", name := "charAt", desc := "(I)C" } : Jvm.MethodName) prog_31_method_56_code (2 : Nat) (Option.some Jvm.ClassFile.FieldType.char)) ∈ lw_all := lw_g (lw_at lw_m3 222 rfl) rfl
theorem q847 : (Jvm.Cond.methodLink "java/lang/String" (492 : Nat) ({ cls := "java/lang/String", name := "isLatin1", desc := "()Z" } : Jvm.MethodName)) ∈ lw_all := lw_g (lw_at lw_m3 223 rfl) rfl
theorem q848 : (Jvm.Cond.instanceMethod ({ cls := "java/lang/String", name := "isLatin1", desc := "()Z" } : Jvm.MethodName)) ∈ lw_all := lw_g (lw_at lw_m3 224 rfl) rfl
theorem q849 : (Jvm.Cond.selects "java/lang/String" ({ cls := "java/lang/String", name := "isLatin1", desc := "()Z" } : Jvm.MethodName) ({ cls := "java/lang/String", name := "isLatin1", desc := "()Z" } : Jvm.MethodName)) ∈ lw_all := lw_g (lw_at lw_m3 225 rfl) rfl
theorem q850 : (Jvm.Cond.code ({ cls := "java/lang/String", name := "isLatin1", desc := "()Z" } : Jvm.MethodName) prog_31_method_154_code (1 : Nat) (Option.some Jvm.ClassFile.FieldType.boolean)) ∈ lw_all := lw_g (lw_at lw_m3 226 rfl) rfl
theorem q851 : (Jvm.Cond.methodLink "java/lang/String" (495 : Nat) ({ cls := "java/lang/StringLatin1", name := "charAt", desc := "([BI)C" } : Jvm.MethodName)) ∈ lw_all := lw_g (lw_at lw_m3 227 rfl) rfl
theorem q855 : (Jvm.Cond.static ({ cls := "java/lang/String", name := "checkIndex", desc := "(II)V" } : Jvm.MethodName)) ∈ lw_all := lw_g (lw_at lw_m3 231 rfl) rfl
theorem q856 : (Jvm.Cond.code ({ cls := "java/lang/String", name := "checkIndex", desc := "(II)V" } : Jvm.MethodName) prog_31_method_155_code (2 : Nat) (Option.none : Option Jvm.ClassFile.FieldType)) ∈ lw_all := lw_g (lw_at lw_m3 232 rfl) rfl
theorem q857 : (Jvm.Cond.fieldLink "java/lang/String" (1053 : Nat) "jdk/internal/util/Preconditions" "SIOOBE_FORMATTER" "Ljava/util/function/BiFunction;") ∈ lw_all := lw_g (lw_at lw_m3 233 rfl) rfl
theorem q859 : (Jvm.Cond.methodLink "java/lang/String" (1059 : Nat) ({ cls := "jdk/internal/util/Preconditions", name := "checkIndex", desc := "(IILjava/util/function/BiFunction;)I" } : Jvm.MethodName)) ∈ lw_all := lw_g (lw_at lw_m3 235 rfl) rfl
theorem q862 : (Jvm.Cond.methodLink "java/lang/String" (498 : Nat) ({ cls := "java/lang/StringUTF16", name := "charAt", desc := "([BI)C" } : Jvm.MethodName)) ∈ lw_all := lw_g (lw_at lw_m3 238 rfl) rfl
theorem q2677 : (Jvm.Cond.castable "java/lang/String" "java/lang/Object") ∈ lw_tbl := lw_at lw_m11 133 rfl
theorem q2692 : (Jvm.Cond.fieldLink "java/lang/String" (9 : Nat) "java/lang/String" "value" "[B") ∈ lw_all := lw_g (lw_at lw_m11 148 rfl) rfl
theorem q2693 : (Jvm.Cond.fieldLink "java/lang/String" (15 : Nat) "java/lang/String" "coder" "B") ∈ lw_all := lw_g (lw_at lw_m11 149 rfl) rfl
/-! java/lang/StringLatin1 -/
set_option maxRecDepth 100000
abbrev cJ5_charAt : ByteArray := prog_32_method_2_code
def yJ5_charAt : MethodName := ⟨RJ5, "charAt", "([BI)C"⟩
def dkwJ5_charAt_0 : List UInt8 := [27, 42, 190, 184, 0, 9, 42, 27, 51, 17, 0, 255, 126, 146, 172]
abbrev dktJ5_charAt_0 : List UInt8 := dkwJ5_charAt_0 ++ []
theorem dksJ5_charAt_0 : cJ5_charAt.data.toList.drop 0 = dktJ5_charAt_0 := by decide +kernel
theorem dJ5_charAt_0 : decode cJ5_charAt 0 = .ok (.iload_n 1, 1) := dk_27 (dk_at dksJ5_charAt_0 0 rfl rfl)
theorem dJ5_charAt_1 : decode cJ5_charAt 1 = .ok (.aload_n 0, 1) := dk_42 (dk_at dksJ5_charAt_0 1 rfl rfl)
theorem dJ5_charAt_2 : decode cJ5_charAt 2 = .ok (.arraylength, 1) := dk_190 (dk_at dksJ5_charAt_0 2 rfl rfl)
theorem dJ5_charAt_3 : decode cJ5_charAt 3 = .ok (.invokestatic 9, 3) := dk_184 0 9 (dk_at dksJ5_charAt_0 3 rfl rfl)
theorem dJ5_charAt_6 : decode cJ5_charAt 6 = .ok (.aload_n 0, 1) := dk_42 (dk_at dksJ5_charAt_0 6 rfl rfl)
theorem dJ5_charAt_7 : decode cJ5_charAt 7 = .ok (.iload_n 1, 1) := dk_27 (dk_at dksJ5_charAt_0 7 rfl rfl)
theorem dJ5_charAt_8 : decode cJ5_charAt 8 = .ok (.baload, 1) := dk_51 (dk_at dksJ5_charAt_0 8 rfl rfl)
theorem dJ5_charAt_9 : decode cJ5_charAt 9 = .ok (.sipush 255, 3) := dk_17 0 255 (dk_at dksJ5_charAt_0 9 rfl rfl)
theorem dJ5_charAt_12 : decode cJ5_charAt 12 = .ok (.iand, 1) := dk_126 (dk_at dksJ5_charAt_0 12 rfl rfl)
theorem dJ5_charAt_13 : decode cJ5_charAt 13 = .ok (.i2c, 1) := dk_146 (dk_at dksJ5_charAt_0 13 rfl rfl)
theorem dJ5_charAt_14 : decode cJ5_charAt 14 = .ok (.ireturn, 1) := dk_172 (dk_at dksJ5_charAt_0 14 rfl rfl)
theorem q162 : (Jvm.Cond.initialized "java/lang/StringLatin1") ∈ lw_all := lw_g (lw_at lw_m1 18 rfl) rfl
theorem q852 : (Jvm.Cond.static ({ cls := "java/lang/StringLatin1", name := "charAt", desc := "([BI)C" } : Jvm.MethodName)) ∈ lw_all := lw_g (lw_at lw_m3 228 rfl) rfl
theorem q853 : (Jvm.Cond.code ({ cls := "java/lang/StringLatin1", name := "charAt", desc := "([BI)C" } : Jvm.MethodName) prog_32_method_2_code (2 : Nat) (Option.some Jvm.ClassFile.FieldType.char)) ∈ lw_all := lw_g (lw_at lw_m3 229 rfl) rfl
theorem q854 : (Jvm.Cond.methodLink "java/lang/StringLatin1" (9 : Nat) ({ cls := "java/lang/String", name := "checkIndex", desc := "(II)V" } : Jvm.MethodName)) ∈ lw_all := lw_g (lw_at lw_m3 230 rfl) rfl
/-! jdk/internal/util/Preconditions -/
set_option maxRecDepth 100000
abbrev cJ6_checkIndex : ByteArray := prog_50_method_11_code
def yJ6_checkIndex : MethodName := ⟨RJ6, "checkIndex", "(IILjava/util/function/BiFunction;)I"⟩
def dkwJ6_checkIndex_0 : List UInt8 := [26, 155, 0, 8, 26, 27, 161, 0, 10, 44, 26, 27, 184, 0, 95, 191, 26, 172]
abbrev dktJ6_checkIndex_0 : List UInt8 := dkwJ6_checkIndex_0 ++ []
theorem dksJ6_checkIndex_0 : cJ6_checkIndex.data.toList.drop 0 = dktJ6_checkIndex_0 := by decide +kernel
theorem dJ6_checkIndex_0 : decode cJ6_checkIndex 0 = .ok (.iload_n 0, 1) := dk_26 (dk_at dksJ6_checkIndex_0 0 rfl rfl)
theorem dJ6_checkIndex_1 : decode cJ6_checkIndex 1 = .ok (.ifCond .lt 8, 3) := dk_155 0 8 (dk_at dksJ6_checkIndex_0 1 rfl rfl)
theorem dJ6_checkIndex_4 : decode cJ6_checkIndex 4 = .ok (.iload_n 0, 1) := dk_26 (dk_at dksJ6_checkIndex_0 4 rfl rfl)
theorem dJ6_checkIndex_5 : decode cJ6_checkIndex 5 = .ok (.iload_n 1, 1) := dk_27 (dk_at dksJ6_checkIndex_0 5 rfl rfl)
theorem dJ6_checkIndex_6 : decode cJ6_checkIndex 6 = .ok (.if_icmp .lt 10, 3) := dk_161 0 10 (dk_at dksJ6_checkIndex_0 6 rfl rfl)
theorem dJ6_checkIndex_9 : decode cJ6_checkIndex 9 = .ok (.aload_n 2, 1) := dk_44 (dk_at dksJ6_checkIndex_0 9 rfl rfl)
theorem dJ6_checkIndex_10 : decode cJ6_checkIndex 10 = .ok (.iload_n 0, 1) := dk_26 (dk_at dksJ6_checkIndex_0 10 rfl rfl)
theorem dJ6_checkIndex_11 : decode cJ6_checkIndex 11 = .ok (.iload_n 1, 1) := dk_27 (dk_at dksJ6_checkIndex_0 11 rfl rfl)
theorem dJ6_checkIndex_12 : decode cJ6_checkIndex 12 = .ok (.invokestatic 95, 3) := dk_184 0 95 (dk_at dksJ6_checkIndex_0 12 rfl rfl)
theorem dJ6_checkIndex_15 : decode cJ6_checkIndex 15 = .ok (.athrow, 1) := dk_191 (dk_at dksJ6_checkIndex_0 15 rfl rfl)
theorem dJ6_checkIndex_16 : decode cJ6_checkIndex 16 = .ok (.iload_n 0, 1) := dk_26 (dk_at dksJ6_checkIndex_0 16 rfl rfl)
theorem dJ6_checkIndex_17 : decode cJ6_checkIndex 17 = .ok (.ireturn, 1) := dk_172 (dk_at dksJ6_checkIndex_0 17 rfl rfl)
theorem q163 : (Jvm.Cond.initialized "jdk/internal/util/Preconditions") ∈ lw_all := lw_g (lw_at lw_m1 19 rfl) rfl
theorem q858 : (Jvm.Cond.laysStatic "jdk/internal/util/Preconditions" "SIOOBE_FORMATTER" "Ljava/util/function/BiFunction;") ∈ lw_tbl := lw_at lw_m3 234 rfl
theorem q860 : (Jvm.Cond.static ({ cls := "jdk/internal/util/Preconditions", name := "checkIndex", desc := "(IILjava/util/function/BiFunction;)I" } : Jvm.MethodName)) ∈ lw_all := lw_g (lw_at lw_m3 236 rfl) rfl
theorem q861 : (Jvm.Cond.code ({ cls := "jdk/internal/util/Preconditions", name := "checkIndex", desc := "(IILjava/util/function/BiFunction;)I" } : Jvm.MethodName) prog_50_method_11_code (3 : Nat) (Option.some Jvm.ClassFile.FieldType.int)) ∈ lw_all := lw_g (lw_at lw_m3 237 rfl) rfl
/-! java/lang/StringUTF16 -/
set_option maxRecDepth 100000
abbrev cJ7_charAt : ByteArray := prog_33_method_83_code
def yJ7_charAt : MethodName := ⟨RJ7, "charAt", "([BI)C"⟩
def dkwJ7_charAt_0 : List UInt8 := [27, 42, 184, 0, 67, 42, 27, 184, 0, 71, 172]
abbrev dktJ7_charAt_0 : List UInt8 := dkwJ7_charAt_0 ++ []
theorem dksJ7_charAt_0 : cJ7_charAt.data.toList.drop 0 = dktJ7_charAt_0 := by decide +kernel
theorem dJ7_charAt_0 : decode cJ7_charAt 0 = .ok (.iload_n 1, 1) := dk_27 (dk_at dksJ7_charAt_0 0 rfl rfl)
theorem dJ7_charAt_1 : decode cJ7_charAt 1 = .ok (.aload_n 0, 1) := dk_42 (dk_at dksJ7_charAt_0 1 rfl rfl)
theorem dJ7_charAt_2 : decode cJ7_charAt 2 = .ok (.invokestatic 67, 3) := dk_184 0 67 (dk_at dksJ7_charAt_0 2 rfl rfl)
theorem dJ7_charAt_5 : decode cJ7_charAt 5 = .ok (.aload_n 0, 1) := dk_42 (dk_at dksJ7_charAt_0 5 rfl rfl)
theorem dJ7_charAt_6 : decode cJ7_charAt 6 = .ok (.iload_n 1, 1) := dk_27 (dk_at dksJ7_charAt_0 6 rfl rfl)
theorem dJ7_charAt_7 : decode cJ7_charAt 7 = .ok (.invokestatic 71, 3) := dk_184 0 71 (dk_at dksJ7_charAt_0 7 rfl rfl)
theorem dJ7_charAt_10 : decode cJ7_charAt 10 = .ok (.ireturn, 1) := dk_172 (dk_at dksJ7_charAt_0 10 rfl rfl)
abbrev cJ7_checkIndex : ByteArray := prog_33_method_91_code
def yJ7_checkIndex : MethodName := ⟨RJ7, "checkIndex", "(I[B)V"⟩
def dkwJ7_checkIndex_0 : List UInt8 := [26, 43, 184, 0, 48, 184, 1, 158, 177]
abbrev dktJ7_checkIndex_0 : List UInt8 := dkwJ7_checkIndex_0 ++ []
theorem dksJ7_checkIndex_0 : cJ7_checkIndex.data.toList.drop 0 = dktJ7_checkIndex_0 := by decide +kernel
theorem dJ7_checkIndex_0 : decode cJ7_checkIndex 0 = .ok (.iload_n 0, 1) := dk_26 (dk_at dksJ7_checkIndex_0 0 rfl rfl)
theorem dJ7_checkIndex_1 : decode cJ7_checkIndex 1 = .ok (.aload_n 1, 1) := dk_43 (dk_at dksJ7_checkIndex_0 1 rfl rfl)
theorem dJ7_checkIndex_2 : decode cJ7_checkIndex 2 = .ok (.invokestatic 48, 3) := dk_184 0 48 (dk_at dksJ7_checkIndex_0 2 rfl rfl)
theorem dJ7_checkIndex_5 : decode cJ7_checkIndex 5 = .ok (.invokestatic 414, 3) := dk_184 1 158 (dk_at dksJ7_checkIndex_0 5 rfl rfl)
theorem dJ7_checkIndex_8 : decode cJ7_checkIndex 8 = .ok (.return_, 1) := dk_177 (dk_at dksJ7_checkIndex_0 8 rfl rfl)
abbrev cJ7_length : ByteArray := prog_33_method_6_code
def yJ7_length : MethodName := ⟨RJ7, "length", "([B)I"⟩
def dkwJ7_length_0 : List UInt8 := [42, 190, 4, 122, 172]
abbrev dktJ7_length_0 : List UInt8 := dkwJ7_length_0 ++ []
theorem dksJ7_length_0 : cJ7_length.data.toList.drop 0 = dktJ7_length_0 := by decide +kernel
theorem dJ7_length_0 : decode cJ7_length 0 = .ok (.aload_n 0, 1) := dk_42 (dk_at dksJ7_length_0 0 rfl rfl)
theorem dJ7_length_1 : decode cJ7_length 1 = .ok (.arraylength, 1) := dk_190 (dk_at dksJ7_length_0 1 rfl rfl)
theorem dJ7_length_2 : decode cJ7_length 2 = .ok (.iconst 1, 1) := dk_4 (dk_at dksJ7_length_0 2 rfl rfl)
theorem dJ7_length_3 : decode cJ7_length 3 = .ok (.ishr, 1) := dk_122 (dk_at dksJ7_length_0 3 rfl rfl)
theorem dJ7_length_4 : decode cJ7_length 4 = .ok (.ireturn, 1) := dk_172 (dk_at dksJ7_length_0 4 rfl rfl)
abbrev cJ7_getChar : ByteArray := prog_33_method_5_code
def yJ7_getChar : MethodName := ⟨RJ7, "getChar", "([BI)C"⟩
def dkwJ7_getChar_2 : List UInt8 := [51, 17, 0, 255, 126, 178, 0, 63, 120, 128, 146, 172]
abbrev dktJ7_getChar_2 : List UInt8 := dkwJ7_getChar_2 ++ []
def dkwJ7_getChar_1 : List UInt8 := [183, 0, 56, 191, 27, 4, 120, 60, 42, 27, 132, 1, 1, 51, 17, 0, 255, 126, 178, 0, 59, 120, 42, 27]
abbrev dktJ7_getChar_1 : List UInt8 := dkwJ7_getChar_1 ++ dktJ7_getChar_2
def dkwJ7_getChar_0 : List UInt8 := [178, 0, 44, 154, 0, 25, 27, 155, 0, 11, 27, 42, 184, 0, 48, 161, 0, 13, 187, 0, 52, 89, 18, 54]
abbrev dktJ7_getChar_0 : List UInt8 := dkwJ7_getChar_0 ++ dktJ7_getChar_1
theorem dksJ7_getChar_0 : cJ7_getChar.data.toList.drop 0 = dktJ7_getChar_0 := by decide +kernel
theorem dksJ7_getChar_1 : cJ7_getChar.data.toList.drop 24 = dktJ7_getChar_1 := dk_seg dksJ7_getChar_0 24 rfl rfl
theorem dksJ7_getChar_2 : cJ7_getChar.data.toList.drop 48 = dktJ7_getChar_2 := dk_seg dksJ7_getChar_1 24 rfl rfl
theorem dJ7_getChar_0 : decode cJ7_getChar 0 = .ok (.getstatic 44, 3) := dk_178 0 44 (dk_at dksJ7_getChar_0 0 rfl rfl)
theorem dJ7_getChar_3 : decode cJ7_getChar 3 = .ok (.ifCond .ne 25, 3) := dk_154 0 25 (dk_at dksJ7_getChar_0 3 rfl rfl)
theorem dJ7_getChar_6 : decode cJ7_getChar 6 = .ok (.iload_n 1, 1) := dk_27 (dk_at dksJ7_getChar_0 6 rfl rfl)
theorem dJ7_getChar_7 : decode cJ7_getChar 7 = .ok (.ifCond .lt 11, 3) := dk_155 0 11 (dk_at dksJ7_getChar_0 7 rfl rfl)
theorem dJ7_getChar_10 : decode cJ7_getChar 10 = .ok (.iload_n 1, 1) := dk_27 (dk_at dksJ7_getChar_0 10 rfl rfl)
theorem dJ7_getChar_11 : decode cJ7_getChar 11 = .ok (.aload_n 0, 1) := dk_42 (dk_at dksJ7_getChar_0 11 rfl rfl)
theorem dJ7_getChar_12 : decode cJ7_getChar 12 = .ok (.invokestatic 48, 3) := dk_184 0 48 (dk_at dksJ7_getChar_0 12 rfl rfl)
theorem dJ7_getChar_15 : decode cJ7_getChar 15 = .ok (.if_icmp .lt 13, 3) := dk_161 0 13 (dk_at dksJ7_getChar_0 15 rfl rfl)
theorem dJ7_getChar_18 : decode cJ7_getChar 18 = .ok (.new 52, 3) := dk_187 0 52 (dk_at dksJ7_getChar_0 18 rfl rfl)
theorem dJ7_getChar_21 : decode cJ7_getChar 21 = .ok (.dup, 1) := dk_89 (dk_at dksJ7_getChar_0 21 rfl rfl)
theorem dJ7_getChar_22 : decode cJ7_getChar 22 = .ok (.ldc 54, 2) := dk_18 54 (dk_at dksJ7_getChar_0 22 rfl rfl)
theorem dJ7_getChar_24 : decode cJ7_getChar 24 = .ok (.invokespecial 56, 3) := dk_183 0 56 (dk_at dksJ7_getChar_1 0 rfl rfl)
theorem dJ7_getChar_27 : decode cJ7_getChar 27 = .ok (.athrow, 1) := dk_191 (dk_at dksJ7_getChar_1 3 rfl rfl)
theorem dJ7_getChar_28 : decode cJ7_getChar 28 = .ok (.iload_n 1, 1) := dk_27 (dk_at dksJ7_getChar_1 4 rfl rfl)
theorem dJ7_getChar_29 : decode cJ7_getChar 29 = .ok (.iconst 1, 1) := dk_4 (dk_at dksJ7_getChar_1 5 rfl rfl)
theorem dJ7_getChar_30 : decode cJ7_getChar 30 = .ok (.ishl, 1) := dk_120 (dk_at dksJ7_getChar_1 6 rfl rfl)
theorem dJ7_getChar_31 : decode cJ7_getChar 31 = .ok (.istore_n 1, 1) := dk_60 (dk_at dksJ7_getChar_1 7 rfl rfl)
theorem dJ7_getChar_32 : decode cJ7_getChar 32 = .ok (.aload_n 0, 1) := dk_42 (dk_at dksJ7_getChar_1 8 rfl rfl)
theorem dJ7_getChar_33 : decode cJ7_getChar 33 = .ok (.iload_n 1, 1) := dk_27 (dk_at dksJ7_getChar_1 9 rfl rfl)
theorem dJ7_getChar_34 : decode cJ7_getChar 34 = .ok (.iinc 1 1, 3) := dk_132 1 1 (dk_at dksJ7_getChar_1 10 rfl rfl)
theorem dJ7_getChar_37 : decode cJ7_getChar 37 = .ok (.baload, 1) := dk_51 (dk_at dksJ7_getChar_1 13 rfl rfl)
theorem dJ7_getChar_38 : decode cJ7_getChar 38 = .ok (.sipush 255, 3) := dk_17 0 255 (dk_at dksJ7_getChar_1 14 rfl rfl)
theorem dJ7_getChar_41 : decode cJ7_getChar 41 = .ok (.iand, 1) := dk_126 (dk_at dksJ7_getChar_1 17 rfl rfl)
theorem dJ7_getChar_42 : decode cJ7_getChar 42 = .ok (.getstatic 59, 3) := dk_178 0 59 (dk_at dksJ7_getChar_1 18 rfl rfl)
theorem dJ7_getChar_45 : decode cJ7_getChar 45 = .ok (.ishl, 1) := dk_120 (dk_at dksJ7_getChar_1 21 rfl rfl)
theorem dJ7_getChar_46 : decode cJ7_getChar 46 = .ok (.aload_n 0, 1) := dk_42 (dk_at dksJ7_getChar_1 22 rfl rfl)
theorem dJ7_getChar_47 : decode cJ7_getChar 47 = .ok (.iload_n 1, 1) := dk_27 (dk_at dksJ7_getChar_1 23 rfl rfl)
theorem dJ7_getChar_48 : decode cJ7_getChar 48 = .ok (.baload, 1) := dk_51 (dk_at dksJ7_getChar_2 0 rfl rfl)
theorem dJ7_getChar_49 : decode cJ7_getChar 49 = .ok (.sipush 255, 3) := dk_17 0 255 (dk_at dksJ7_getChar_2 1 rfl rfl)
theorem dJ7_getChar_52 : decode cJ7_getChar 52 = .ok (.iand, 1) := dk_126 (dk_at dksJ7_getChar_2 4 rfl rfl)
theorem dJ7_getChar_53 : decode cJ7_getChar 53 = .ok (.getstatic 63, 3) := dk_178 0 63 (dk_at dksJ7_getChar_2 5 rfl rfl)
theorem dJ7_getChar_56 : decode cJ7_getChar 56 = .ok (.ishl, 1) := dk_120 (dk_at dksJ7_getChar_2 8 rfl rfl)
theorem dJ7_getChar_57 : decode cJ7_getChar 57 = .ok (.ior, 1) := dk_128 (dk_at dksJ7_getChar_2 9 rfl rfl)
theorem dJ7_getChar_58 : decode cJ7_getChar 58 = .ok (.i2c, 1) := dk_146 (dk_at dksJ7_getChar_2 10 rfl rfl)
theorem dJ7_getChar_59 : decode cJ7_getChar 59 = .ok (.ireturn, 1) := dk_172 (dk_at dksJ7_getChar_2 11 rfl rfl)
theorem q164 : (Jvm.Cond.initialized "java/lang/StringUTF16") ∈ lw_all := lw_g (lw_at lw_m1 20 rfl) rfl
theorem q863 : (Jvm.Cond.static ({ cls := "java/lang/StringUTF16", name := "charAt", desc := "([BI)C" } : Jvm.MethodName)) ∈ lw_all := lw_g (lw_at lw_m3 239 rfl) rfl
theorem q864 : (Jvm.Cond.code ({ cls := "java/lang/StringUTF16", name := "charAt", desc := "([BI)C" } : Jvm.MethodName) prog_33_method_83_code (2 : Nat) (Option.some Jvm.ClassFile.FieldType.char)) ∈ lw_all := lw_g (lw_at lw_m4 0 rfl) rfl
theorem q865 : (Jvm.Cond.methodLink "java/lang/StringUTF16" (67 : Nat) ({ cls := "java/lang/StringUTF16", name := "checkIndex", desc := "(I[B)V" } : Jvm.MethodName)) ∈ lw_all := lw_g (lw_at lw_m4 1 rfl) rfl
theorem q866 : (Jvm.Cond.static ({ cls := "java/lang/StringUTF16", name := "checkIndex", desc := "(I[B)V" } : Jvm.MethodName)) ∈ lw_all := lw_g (lw_at lw_m4 2 rfl) rfl
theorem q867 : (Jvm.Cond.code ({ cls := "java/lang/StringUTF16", name := "checkIndex", desc := "(I[B)V" } : Jvm.MethodName) prog_33_method_91_code (2 : Nat) (Option.none : Option Jvm.ClassFile.FieldType)) ∈ lw_all := lw_g (lw_at lw_m4 3 rfl) rfl
theorem q868 : (Jvm.Cond.methodLink "java/lang/StringUTF16" (48 : Nat) ({ cls := "java/lang/StringUTF16", name := "length", desc := "([B)I" } : Jvm.MethodName)) ∈ lw_all := lw_g (lw_at lw_m4 4 rfl) rfl
theorem q869 : (Jvm.Cond.static ({ cls := "java/lang/StringUTF16", name := "length", desc := "([B)I" } : Jvm.MethodName)) ∈ lw_all := lw_g (lw_at lw_m4 5 rfl) rfl
theorem q870 : (Jvm.Cond.code ({ cls := "java/lang/StringUTF16", name := "length", desc := "([B)I" } : Jvm.MethodName) prog_33_method_6_code (1 : Nat) (Option.some Jvm.ClassFile.FieldType.int)) ∈ lw_all := lw_g (lw_at lw_m4 6 rfl) rfl
theorem q871 : (Jvm.Cond.methodLink "java/lang/StringUTF16" (414 : Nat) ({ cls := "java/lang/String", name := "checkIndex", desc := "(II)V" } : Jvm.MethodName)) ∈ lw_all := lw_g (lw_at lw_m4 7 rfl) rfl
theorem q872 : (Jvm.Cond.methodLink "java/lang/StringUTF16" (71 : Nat) ({ cls := "java/lang/StringUTF16", name := "getChar", desc := "([BI)C" } : Jvm.MethodName)) ∈ lw_all := lw_g (lw_at lw_m4 8 rfl) rfl
theorem q873 : (Jvm.Cond.static ({ cls := "java/lang/StringUTF16", name := "getChar", desc := "([BI)C" } : Jvm.MethodName)) ∈ lw_all := lw_g (lw_at lw_m4 9 rfl) rfl
theorem q874 : (Jvm.Cond.code ({ cls := "java/lang/StringUTF16", name := "getChar", desc := "([BI)C" } : Jvm.MethodName) prog_33_method_5_code (2 : Nat) (Option.some Jvm.ClassFile.FieldType.char)) ∈ lw_all := lw_g (lw_at lw_m4 10 rfl) rfl
theorem q875 : (Jvm.Cond.fieldLink "java/lang/StringUTF16" (44 : Nat) "java/lang/StringUTF16" "$assertionsDisabled" "Z") ∈ lw_all := lw_g (lw_at lw_m4 11 rfl) rfl
theorem q876 : (Jvm.Cond.laysStatic "java/lang/StringUTF16" "$assertionsDisabled" "Z") ∈ lw_tbl := lw_at lw_m4 12 rfl
theorem q877 : (Jvm.Cond.fieldLink "java/lang/StringUTF16" (59 : Nat) "java/lang/StringUTF16" "HI_BYTE_SHIFT" "I") ∈ lw_all := lw_g (lw_at lw_m4 13 rfl) rfl
theorem q878 : (Jvm.Cond.laysStatic "java/lang/StringUTF16" "HI_BYTE_SHIFT" "I") ∈ lw_tbl := lw_at lw_m4 14 rfl
theorem q879 : (Jvm.Cond.fieldLink "java/lang/StringUTF16" (63 : Nat) "java/lang/StringUTF16" "LO_BYTE_SHIFT" "I") ∈ lw_all := lw_g (lw_at lw_m4 15 rfl) rfl
theorem q880 : (Jvm.Cond.laysStatic "java/lang/StringUTF16" "LO_BYTE_SHIFT" "I") ∈ lw_tbl := lw_at lw_m4 16 rfl
/-! java/lang/Throwable -/
set_option maxRecDepth 100000
abbrev cJ8_init : ByteArray := prog_35_method_2_code
def yJ8_init : MethodName := ⟨RJ8, "<init>", "(Ljava/lang/String;)V"⟩
def dkwJ8_init_1 : List UInt8 := [182, 0, 27, 87, 42, 43, 181, 0, 31, 177]
abbrev dktJ8_init_1 : List UInt8 := dkwJ8_init_1 ++ []
def dkwJ8_init_0 : List UInt8 := [42, 183, 0, 1, 42, 42, 181, 0, 7, 42, 178, 0, 13, 181, 0, 17, 42, 178, 0, 20, 181, 0, 24, 42]
abbrev dktJ8_init_0 : List UInt8 := dkwJ8_init_0 ++ dktJ8_init_1
theorem dksJ8_init_0 : cJ8_init.data.toList.drop 0 = dktJ8_init_0 := by decide +kernel
theorem dksJ8_init_1 : cJ8_init.data.toList.drop 24 = dktJ8_init_1 := dk_seg dksJ8_init_0 24 rfl rfl
theorem dJ8_init_0 : decode cJ8_init 0 = .ok (.aload_n 0, 1) := dk_42 (dk_at dksJ8_init_0 0 rfl rfl)
theorem dJ8_init_1 : decode cJ8_init 1 = .ok (.invokespecial 1, 3) := dk_183 0 1 (dk_at dksJ8_init_0 1 rfl rfl)
theorem dJ8_init_4 : decode cJ8_init 4 = .ok (.aload_n 0, 1) := dk_42 (dk_at dksJ8_init_0 4 rfl rfl)
theorem dJ8_init_5 : decode cJ8_init 5 = .ok (.aload_n 0, 1) := dk_42 (dk_at dksJ8_init_0 5 rfl rfl)
theorem dJ8_init_6 : decode cJ8_init 6 = .ok (.putfield 7, 3) := dk_181 0 7 (dk_at dksJ8_init_0 6 rfl rfl)
theorem dJ8_init_9 : decode cJ8_init 9 = .ok (.aload_n 0, 1) := dk_42 (dk_at dksJ8_init_0 9 rfl rfl)
theorem dJ8_init_10 : decode cJ8_init 10 = .ok (.getstatic 13, 3) := dk_178 0 13 (dk_at dksJ8_init_0 10 rfl rfl)
theorem dJ8_init_13 : decode cJ8_init 13 = .ok (.putfield 17, 3) := dk_181 0 17 (dk_at dksJ8_init_0 13 rfl rfl)
theorem dJ8_init_16 : decode cJ8_init 16 = .ok (.aload_n 0, 1) := dk_42 (dk_at dksJ8_init_0 16 rfl rfl)
theorem dJ8_init_17 : decode cJ8_init 17 = .ok (.getstatic 20, 3) := dk_178 0 20 (dk_at dksJ8_init_0 17 rfl rfl)
theorem dJ8_init_20 : decode cJ8_init 20 = .ok (.putfield 24, 3) := dk_181 0 24 (dk_at dksJ8_init_0 20 rfl rfl)
theorem dJ8_init_23 : decode cJ8_init 23 = .ok (.aload_n 0, 1) := dk_42 (dk_at dksJ8_init_0 23 rfl rfl)
theorem dJ8_init_24 : decode cJ8_init 24 = .ok (.invokevirtual 27, 3) := dk_182 0 27 (dk_at dksJ8_init_1 0 rfl rfl)
theorem dJ8_init_27 : decode cJ8_init 27 = .ok (.pop, 1) := dk_87 (dk_at dksJ8_init_1 3 rfl rfl)
theorem dJ8_init_28 : decode cJ8_init 28 = .ok (.aload_n 0, 1) := dk_42 (dk_at dksJ8_init_1 4 rfl rfl)
theorem dJ8_init_29 : decode cJ8_init 29 = .ok (.aload_n 1, 1) := dk_43 (dk_at dksJ8_init_1 5 rfl rfl)
theorem dJ8_init_30 : decode cJ8_init 30 = .ok (.putfield 31, 3) := dk_181 0 31 (dk_at dksJ8_init_1 6 rfl rfl)
theorem dJ8_init_33 : decode cJ8_init 33 = .ok (.return_, 1) := dk_177 (dk_at dksJ8_init_1 9 rfl rfl)
abbrev cJ8_init_2 : ByteArray := prog_35_method_1_code
def yJ8_init_2 : MethodName := ⟨RJ8, "<init>", "()V"⟩
def dkwJ8_init_2_1 : List UInt8 := [182, 0, 27, 87, 177]
abbrev dktJ8_init_2_1 : List UInt8 := dkwJ8_init_2_1 ++ []
def dkwJ8_init_2_0 : List UInt8 := [42, 183, 0, 1, 42, 42, 181, 0, 7, 42, 178, 0, 13, 181, 0, 17, 42, 178, 0, 20, 181, 0, 24, 42]
abbrev dktJ8_init_2_0 : List UInt8 := dkwJ8_init_2_0 ++ dktJ8_init_2_1
theorem dksJ8_init_2_0 : cJ8_init_2.data.toList.drop 0 = dktJ8_init_2_0 := by decide +kernel
theorem dksJ8_init_2_1 : cJ8_init_2.data.toList.drop 24 = dktJ8_init_2_1 := dk_seg dksJ8_init_2_0 24 rfl rfl
theorem dJ8_init_2_0 : decode cJ8_init_2 0 = .ok (.aload_n 0, 1) := dk_42 (dk_at dksJ8_init_2_0 0 rfl rfl)
theorem dJ8_init_2_1 : decode cJ8_init_2 1 = .ok (.invokespecial 1, 3) := dk_183 0 1 (dk_at dksJ8_init_2_0 1 rfl rfl)
theorem dJ8_init_2_4 : decode cJ8_init_2 4 = .ok (.aload_n 0, 1) := dk_42 (dk_at dksJ8_init_2_0 4 rfl rfl)
theorem dJ8_init_2_5 : decode cJ8_init_2 5 = .ok (.aload_n 0, 1) := dk_42 (dk_at dksJ8_init_2_0 5 rfl rfl)
theorem dJ8_init_2_6 : decode cJ8_init_2 6 = .ok (.putfield 7, 3) := dk_181 0 7 (dk_at dksJ8_init_2_0 6 rfl rfl)
theorem dJ8_init_2_9 : decode cJ8_init_2 9 = .ok (.aload_n 0, 1) := dk_42 (dk_at dksJ8_init_2_0 9 rfl rfl)
theorem dJ8_init_2_10 : decode cJ8_init_2 10 = .ok (.getstatic 13, 3) := dk_178 0 13 (dk_at dksJ8_init_2_0 10 rfl rfl)
theorem dJ8_init_2_13 : decode cJ8_init_2 13 = .ok (.putfield 17, 3) := dk_181 0 17 (dk_at dksJ8_init_2_0 13 rfl rfl)
theorem dJ8_init_2_16 : decode cJ8_init_2 16 = .ok (.aload_n 0, 1) := dk_42 (dk_at dksJ8_init_2_0 16 rfl rfl)
theorem dJ8_init_2_17 : decode cJ8_init_2 17 = .ok (.getstatic 20, 3) := dk_178 0 20 (dk_at dksJ8_init_2_0 17 rfl rfl)
theorem dJ8_init_2_20 : decode cJ8_init_2 20 = .ok (.putfield 24, 3) := dk_181 0 24 (dk_at dksJ8_init_2_0 20 rfl rfl)
theorem dJ8_init_2_23 : decode cJ8_init_2 23 = .ok (.aload_n 0, 1) := dk_42 (dk_at dksJ8_init_2_0 23 rfl rfl)
theorem dJ8_init_2_24 : decode cJ8_init_2 24 = .ok (.invokevirtual 27, 3) := dk_182 0 27 (dk_at dksJ8_init_2_1 0 rfl rfl)
theorem dJ8_init_2_27 : decode cJ8_init_2 27 = .ok (.pop, 1) := dk_87 (dk_at dksJ8_init_2_1 3 rfl rfl)
theorem dJ8_init_2_28 : decode cJ8_init_2 28 = .ok (.return_, 1) := dk_177 (dk_at dksJ8_init_2_1 4 rfl rfl)
abbrev cJ8_init_3 : ByteArray := prog_35_method_5_code
def yJ8_init_3 : MethodName := ⟨RJ8, "<init>", "(Ljava/lang/String;Ljava/lang/Throwable;ZZ)V"⟩
def dkwJ8_init_3_2 : List UInt8 := [44, 181, 0, 7, 29, 154, 0, 8, 42, 1, 181, 0, 24, 177]
abbrev dktJ8_init_3_2 : List UInt8 := dkwJ8_init_3_2 ++ []
def dkwJ8_init_3_1 : List UInt8 := [21, 4, 153, 0, 11, 42, 182, 0, 27, 87, 167, 0, 8, 42, 1, 181, 0, 17, 42, 43, 181, 0, 31, 42]
abbrev dktJ8_init_3_1 : List UInt8 := dkwJ8_init_3_1 ++ dktJ8_init_3_2
def dkwJ8_init_3_0 : List UInt8 := [42, 183, 0, 1, 42, 42, 181, 0, 7, 42, 178, 0, 13, 181, 0, 17, 42, 178, 0, 20, 181, 0, 24]
abbrev dktJ8_init_3_0 : List UInt8 := dkwJ8_init_3_0 ++ dktJ8_init_3_1
theorem dksJ8_init_3_0 : cJ8_init_3.data.toList.drop 0 = dktJ8_init_3_0 := by decide +kernel
theorem dksJ8_init_3_1 : cJ8_init_3.data.toList.drop 23 = dktJ8_init_3_1 := dk_seg dksJ8_init_3_0 23 rfl rfl
theorem dksJ8_init_3_2 : cJ8_init_3.data.toList.drop 47 = dktJ8_init_3_2 := dk_seg dksJ8_init_3_1 24 rfl rfl
theorem dJ8_init_3_0 : decode cJ8_init_3 0 = .ok (.aload_n 0, 1) := dk_42 (dk_at dksJ8_init_3_0 0 rfl rfl)
theorem dJ8_init_3_1 : decode cJ8_init_3 1 = .ok (.invokespecial 1, 3) := dk_183 0 1 (dk_at dksJ8_init_3_0 1 rfl rfl)
theorem dJ8_init_3_4 : decode cJ8_init_3 4 = .ok (.aload_n 0, 1) := dk_42 (dk_at dksJ8_init_3_0 4 rfl rfl)
theorem dJ8_init_3_5 : decode cJ8_init_3 5 = .ok (.aload_n 0, 1) := dk_42 (dk_at dksJ8_init_3_0 5 rfl rfl)
theorem dJ8_init_3_6 : decode cJ8_init_3 6 = .ok (.putfield 7, 3) := dk_181 0 7 (dk_at dksJ8_init_3_0 6 rfl rfl)
theorem dJ8_init_3_9 : decode cJ8_init_3 9 = .ok (.aload_n 0, 1) := dk_42 (dk_at dksJ8_init_3_0 9 rfl rfl)
theorem dJ8_init_3_10 : decode cJ8_init_3 10 = .ok (.getstatic 13, 3) := dk_178 0 13 (dk_at dksJ8_init_3_0 10 rfl rfl)
theorem dJ8_init_3_13 : decode cJ8_init_3 13 = .ok (.putfield 17, 3) := dk_181 0 17 (dk_at dksJ8_init_3_0 13 rfl rfl)
theorem dJ8_init_3_16 : decode cJ8_init_3 16 = .ok (.aload_n 0, 1) := dk_42 (dk_at dksJ8_init_3_0 16 rfl rfl)
theorem dJ8_init_3_17 : decode cJ8_init_3 17 = .ok (.getstatic 20, 3) := dk_178 0 20 (dk_at dksJ8_init_3_0 17 rfl rfl)
theorem dJ8_init_3_20 : decode cJ8_init_3 20 = .ok (.putfield 24, 3) := dk_181 0 24 (dk_at dksJ8_init_3_0 20 rfl rfl)
theorem dJ8_init_3_23 : decode cJ8_init_3 23 = .ok (.iload 4, 2) := dk_21 4 (dk_at dksJ8_init_3_1 0 rfl rfl)
theorem dJ8_init_3_25 : decode cJ8_init_3 25 = .ok (.ifCond .eq 11, 3) := dk_153 0 11 (dk_at dksJ8_init_3_1 2 rfl rfl)
theorem dJ8_init_3_28 : decode cJ8_init_3 28 = .ok (.aload_n 0, 1) := dk_42 (dk_at dksJ8_init_3_1 5 rfl rfl)
theorem dJ8_init_3_29 : decode cJ8_init_3 29 = .ok (.invokevirtual 27, 3) := dk_182 0 27 (dk_at dksJ8_init_3_1 6 rfl rfl)
theorem dJ8_init_3_32 : decode cJ8_init_3 32 = .ok (.pop, 1) := dk_87 (dk_at dksJ8_init_3_1 9 rfl rfl)
theorem dJ8_init_3_33 : decode cJ8_init_3 33 = .ok (.goto 8, 3) := dk_167 0 8 (dk_at dksJ8_init_3_1 10 rfl rfl)
theorem dJ8_init_3_36 : decode cJ8_init_3 36 = .ok (.aload_n 0, 1) := dk_42 (dk_at dksJ8_init_3_1 13 rfl rfl)
theorem dJ8_init_3_37 : decode cJ8_init_3 37 = .ok (.aconst_null, 1) := dk_1 (dk_at dksJ8_init_3_1 14 rfl rfl)
theorem dJ8_init_3_38 : decode cJ8_init_3 38 = .ok (.putfield 17, 3) := dk_181 0 17 (dk_at dksJ8_init_3_1 15 rfl rfl)
theorem dJ8_init_3_41 : decode cJ8_init_3 41 = .ok (.aload_n 0, 1) := dk_42 (dk_at dksJ8_init_3_1 18 rfl rfl)
theorem dJ8_init_3_42 : decode cJ8_init_3 42 = .ok (.aload_n 1, 1) := dk_43 (dk_at dksJ8_init_3_1 19 rfl rfl)
theorem dJ8_init_3_43 : decode cJ8_init_3 43 = .ok (.putfield 31, 3) := dk_181 0 31 (dk_at dksJ8_init_3_1 20 rfl rfl)
theorem dJ8_init_3_46 : decode cJ8_init_3 46 = .ok (.aload_n 0, 1) := dk_42 (dk_at dksJ8_init_3_1 23 rfl rfl)
theorem dJ8_init_3_47 : decode cJ8_init_3 47 = .ok (.aload_n 2, 1) := dk_44 (dk_at dksJ8_init_3_2 0 rfl rfl)
theorem dJ8_init_3_48 : decode cJ8_init_3 48 = .ok (.putfield 7, 3) := dk_181 0 7 (dk_at dksJ8_init_3_2 1 rfl rfl)
theorem dJ8_init_3_51 : decode cJ8_init_3 51 = .ok (.iload_n 3, 1) := dk_29 (dk_at dksJ8_init_3_2 4 rfl rfl)
theorem dJ8_init_3_52 : decode cJ8_init_3 52 = .ok (.ifCond .ne 8, 3) := dk_154 0 8 (dk_at dksJ8_init_3_2 5 rfl rfl)
theorem dJ8_init_3_55 : decode cJ8_init_3 55 = .ok (.aload_n 0, 1) := dk_42 (dk_at dksJ8_init_3_2 8 rfl rfl)
theorem dJ8_init_3_56 : decode cJ8_init_3 56 = .ok (.aconst_null, 1) := dk_1 (dk_at dksJ8_init_3_2 9 rfl rfl)
theorem dJ8_init_3_57 : decode cJ8_init_3 57 = .ok (.putfield 24, 3) := dk_181 0 24 (dk_at dksJ8_init_3_2 10 rfl rfl)
theorem dJ8_init_3_60 : decode cJ8_init_3 60 = .ok (.return_, 1) := dk_177 (dk_at dksJ8_init_3_2 13 rfl rfl)
theorem q165 : (Jvm.Cond.initialized "java/lang/Throwable") ∈ lw_all := lw_g (lw_at lw_m1 21 rfl) rfl
theorem q208 : (Jvm.Cond.instanceMethod ({ cls := "java/lang/Throwable", name := "<init>", desc := "(Ljava/lang/String;)V" } : Jvm.MethodName)) ∈ lw_all := lw_g (lw_at lw_m1 64 rfl) rfl
theorem q209 : (Jvm.Cond.code ({ cls := "java/lang/Throwable", name := "<init>", desc := "(Ljava/lang/String;)V" } : Jvm.MethodName) prog_35_method_2_code (2 : Nat) (Option.none : Option Jvm.ClassFile.FieldType)) ∈ lw_all := lw_g (lw_at lw_m1 65 rfl) rfl
theorem q210 : (Jvm.Cond.methodLink "java/lang/Throwable" (1 : Nat) ({ cls := "java/lang/Object", name := "<init>", desc := "()V" } : Jvm.MethodName)) ∈ lw_all := lw_g (lw_at lw_m1 66 rfl) rfl
theorem q213 : (Jvm.Cond.fieldLink "java/lang/Throwable" (13 : Nat) "java/lang/Throwable" "UNASSIGNED_STACK" "[Ljava/lang/StackTraceElement;") ∈ lw_all := lw_g (lw_at lw_m1 69 rfl) rfl
theorem q214 : (Jvm.Cond.laysStatic "java/lang/Throwable" "UNASSIGNED_STACK" "[Ljava/lang/StackTraceElement;") ∈ lw_tbl := lw_at lw_m1 70 rfl
theorem q215 : (Jvm.Cond.fieldLink "java/lang/Throwable" (20 : Nat) "java/lang/Throwable" "SUPPRESSED_SENTINEL" "Ljava/util/List;") ∈ lw_all := lw_g (lw_at lw_m1 71 rfl) rfl
theorem q216 : (Jvm.Cond.laysStatic "java/lang/Throwable" "SUPPRESSED_SENTINEL" "Ljava/util/List;") ∈ lw_tbl := lw_at lw_m1 72 rfl
theorem q217 : (Jvm.Cond.methodLink "java/lang/Throwable" (27 : Nat) ({ cls := "java/lang/Throwable", name := "fillInStackTrace", desc := "()Ljava/lang/Throwable;" } : Jvm.MethodName)) ∈ lw_all := lw_g (lw_at lw_m1 73 rfl) rfl
theorem q218 : (Jvm.Cond.instanceMethod ({ cls := "java/lang/Throwable", name := "fillInStackTrace", desc := "()Ljava/lang/Throwable;" } : Jvm.MethodName)) ∈ lw_all := lw_g (lw_at lw_m1 74 rfl) rfl
theorem q219 : (Jvm.Cond.sameMethod "java/lang/Throwable" "java/lang/Throwable" "fillInStackTrace" "()Ljava/lang/Throwable;") ∈ lw_all := lw_g (lw_at lw_m1 75 rfl) rfl
theorem q234 : (Jvm.Cond.declares ({ cls := "java/lang/Throwable", name := "fillInStackTrace", desc := "()Ljava/lang/Throwable;" } : Jvm.MethodName)) ∈ lw_tbl := lw_at lw_m1 90 rfl
theorem q238 : (Jvm.Cond.codeSync ({ cls := "java/lang/Throwable", name := "fillInStackTrace", desc := "()Ljava/lang/Throwable;" } : Jvm.MethodName) prog_35_method_18_code (1 : Nat) (Option.some (Jvm.ClassFile.FieldType.object "java/lang/Throwable"))) ∈ lw_all := lw_g (lw_at lw_m1 94 rfl) rfl
theorem q239 : (Jvm.Cond.methodLink "java/lang/Throwable" (202 : Nat) ({ cls := "java/lang/Throwable", name := "fillInStackTrace", desc := "(I)Ljava/lang/Throwable;" } : Jvm.MethodName)) ∈ lw_all := lw_g (lw_at lw_m1 95 rfl) rfl
theorem q240 : (Jvm.Cond.privateMethod ({ cls := "java/lang/Throwable", name := "fillInStackTrace", desc := "(I)Ljava/lang/Throwable;" } : Jvm.MethodName)) ∈ lw_tbl := lw_at lw_m1 96 rfl
theorem q241 : (Jvm.Cond.instanceMethod ({ cls := "java/lang/Throwable", name := "fillInStackTrace", desc := "(I)Ljava/lang/Throwable;" } : Jvm.MethodName)) ∈ lw_all := lw_g (lw_at lw_m1 97 rfl) rfl
theorem q242 : (Jvm.Cond.instantiable "java/lang/Throwable" (6 : Nat)) ∈ lw_all := lw_g (lw_at lw_m1 98 rfl) rfl
theorem q243 : (Jvm.Cond.native ({ cls := "java/lang/Throwable", name := "fillInStackTrace", desc := "(I)Ljava/lang/Throwable;" } : Jvm.MethodName)) ∈ lw_all := lw_g (lw_at lw_m1 99 rfl) rfl
theorem q244 : (Jvm.Cond.fieldLink "java/lang/Throwable" (198 : Nat) "java/lang/Throwable" "backtrace" "Ljava/lang/Object;") ∈ lw_all := lw_g (lw_at lw_m1 100 rfl) rfl
theorem q245 : (Jvm.Cond.fieldLink "java/lang/Throwable" (31 : Nat) "java/lang/Throwable" "detailMessage" "Ljava/lang/String;") ∈ lw_all := lw_g (lw_at lw_m1 101 rfl) rfl
theorem q246 : (Jvm.Cond.fieldLink "java/lang/Throwable" (7 : Nat) "java/lang/Throwable" "cause" "Ljava/lang/Throwable;") ∈ lw_all := lw_g (lw_at lw_m1 102 rfl) rfl
theorem q247 : (Jvm.Cond.fieldLink "java/lang/Throwable" (17 : Nat) "java/lang/Throwable" "stackTrace" "[Ljava/lang/StackTraceElement;") ∈ lw_all := lw_g (lw_at lw_m1 103 rfl) rfl
theorem q248 : (Jvm.Cond.fieldLink "java/lang/Throwable" (24 : Nat) "java/lang/Throwable" "suppressedExceptions" "Ljava/util/List;") ∈ lw_all := lw_g (lw_at lw_m1 104 rfl) rfl
theorem q250 : (Jvm.Cond.soleField "java/lang/Throwable" "backtrace") ∈ lw_all := lw_g (lw_at lw_m1 106 rfl) rfl
theorem q252 : (Jvm.Cond.soleField "java/lang/Throwable" "detailMessage") ∈ lw_all := lw_g (lw_at lw_m1 108 rfl) rfl
theorem q254 : (Jvm.Cond.soleField "java/lang/Throwable" "cause") ∈ lw_all := lw_g (lw_at lw_m1 110 rfl) rfl
theorem q256 : (Jvm.Cond.soleField "java/lang/Throwable" "stackTrace") ∈ lw_all := lw_g (lw_at lw_m1 112 rfl) rfl
theorem q258 : (Jvm.Cond.soleField "java/lang/Throwable" "depth") ∈ lw_all := lw_g (lw_at lw_m1 114 rfl) rfl
theorem q260 : (Jvm.Cond.soleField "java/lang/Throwable" "suppressedExceptions") ∈ lw_all := lw_g (lw_at lw_m1 116 rfl) rfl
theorem q267 : (Jvm.Cond.declares ({ cls := "java/lang/Throwable", name := "<init>", desc := "()V" } : Jvm.MethodName)) ∈ lw_tbl := lw_at lw_m1 123 rfl
theorem q268 : (Jvm.Cond.declares ({ cls := "java/lang/Throwable", name := "<init>", desc := "(Ljava/lang/String;)V" } : Jvm.MethodName)) ∈ lw_tbl := lw_at lw_m1 124 rfl
theorem q270 : (Jvm.Cond.lays "java/lang/Throwable" "java/lang/Throwable" "cause" "Ljava/lang/Throwable;") ∈ lw_all := lw_g (lw_at lw_m1 126 rfl) rfl
theorem q271 : (Jvm.Cond.lays "java/lang/Throwable" "java/lang/Throwable" "stackTrace" "[Ljava/lang/StackTraceElement;") ∈ lw_all := lw_g (lw_at lw_m1 127 rfl) rfl
theorem q272 : (Jvm.Cond.lays "java/lang/Throwable" "java/lang/Throwable" "suppressedExceptions" "Ljava/util/List;") ∈ lw_all := lw_g (lw_at lw_m1 128 rfl) rfl
theorem q273 : (Jvm.Cond.lays "java/lang/Throwable" "java/lang/Throwable" "detailMessage" "Ljava/lang/String;") ∈ lw_all := lw_g (lw_at lw_m1 129 rfl) rfl
theorem q274 : (Jvm.Cond.lays "java/lang/Throwable" "java/lang/Throwable" "backtrace" "Ljava/lang/Object;") ∈ lw_all := lw_g (lw_at lw_m1 130 rfl) rfl
theorem q275 : (Jvm.Cond.fieldLink "java/lang/Throwable" (198 : Nat) "java/lang/Throwable" "backtrace" "Ljava/lang/Object;") ∈ lw_all := lw_g (lw_at lw_m1 131 rfl) rfl
theorem q276 : (Jvm.Cond.superclass "java/lang/Throwable" "java/lang/Object") ∈ lw_all := lw_g (lw_at lw_m1 132 rfl) rfl
theorem q277 : (Jvm.Cond.instanceMethod ({ cls := "java/lang/Throwable", name := "<init>", desc := "()V" } : Jvm.MethodName)) ∈ lw_all := lw_g (lw_at lw_m1 133 rfl) rfl
theorem q278 : (Jvm.Cond.code ({ cls := "java/lang/Throwable", name := "<init>", desc := "()V" } : Jvm.MethodName) prog_35_method_1_code (1 : Nat) (Option.none : Option Jvm.ClassFile.FieldType)) ∈ lw_all := lw_g (lw_at lw_m1 134 rfl) rfl
theorem q904 : (Jvm.Cond.instanceMethod ({ cls := "java/lang/Throwable", name := "<init>", desc := "(Ljava/lang/String;Ljava/lang/Throwable;ZZ)V" } : Jvm.MethodName)) ∈ lw_all := lw_g (lw_at lw_m4 40 rfl) rfl
theorem q905 : (Jvm.Cond.code ({ cls := "java/lang/Throwable", name := "<init>", desc := "(Ljava/lang/String;Ljava/lang/Throwable;ZZ)V" } : Jvm.MethodName) prog_35_method_5_code (5 : Nat) (Option.none : Option Jvm.ClassFile.FieldType)) ∈ lw_all := lw_g (lw_at lw_m4 41 rfl) rfl
theorem q2653 : (Jvm.Cond.sameMethod "java/lang/Throwable" "java/lang/Throwable" "fillInStackTrace" "(I)Ljava/lang/Throwable;") ∈ lw_all := lw_g (lw_at lw_m11 109 rfl) rfl
theorem q2676 : (Jvm.Cond.castable "java/lang/Throwable" "java/lang/Object") ∈ lw_tbl := lw_at lw_m11 132 rfl
/-! java/lang/Exception -/
set_option maxRecDepth 100000
abbrev cJ9_init : ByteArray := prog_23_method_2_code
def yJ9_init : MethodName := ⟨RJ9, "<init>", "(Ljava/lang/String;)V"⟩
def dkwJ9_init_0 : List UInt8 := [42, 43, 183, 0, 7, 177]
abbrev dktJ9_init_0 : List UInt8 := dkwJ9_init_0 ++ []
theorem dksJ9_init_0 : cJ9_init.data.toList.drop 0 = dktJ9_init_0 := by decide +kernel
theorem dJ9_init_0 : decode cJ9_init 0 = .ok (.aload_n 0, 1) := dk_42 (dk_at dksJ9_init_0 0 rfl rfl)
theorem dJ9_init_1 : decode cJ9_init 1 = .ok (.aload_n 1, 1) := dk_43 (dk_at dksJ9_init_0 1 rfl rfl)
theorem dJ9_init_2 : decode cJ9_init 2 = .ok (.invokespecial 7, 3) := dk_183 0 7 (dk_at dksJ9_init_0 2 rfl rfl)
theorem dJ9_init_5 : decode cJ9_init 5 = .ok (.return_, 1) := dk_177 (dk_at dksJ9_init_0 5 rfl rfl)
abbrev cJ9_init_2 : ByteArray := prog_23_method_1_code
def yJ9_init_2 : MethodName := ⟨RJ9, "<init>", "()V"⟩
theorem dJ9_init_2_0 : decode cJ9_init_2 0 = .ok (.aload_n 0, 1) := by decide +kernel
theorem dJ9_init_2_1 : decode cJ9_init_2 1 = .ok (.invokespecial 1, 3) := by decide +kernel
theorem dJ9_init_2_4 : decode cJ9_init_2 4 = .ok (.return_, 1) := by decide +kernel
abbrev cJ9_init_3 : ByteArray := prog_23_method_5_code
def yJ9_init_3 : MethodName := ⟨RJ9, "<init>", "(Ljava/lang/String;Ljava/lang/Throwable;ZZ)V"⟩
def dkwJ9_init_3_0 : List UInt8 := [42, 43, 44, 29, 21, 4, 183, 0, 16, 177]
abbrev dktJ9_init_3_0 : List UInt8 := dkwJ9_init_3_0 ++ []
theorem dksJ9_init_3_0 : cJ9_init_3.data.toList.drop 0 = dktJ9_init_3_0 := by decide +kernel
theorem dJ9_init_3_0 : decode cJ9_init_3 0 = .ok (.aload_n 0, 1) := dk_42 (dk_at dksJ9_init_3_0 0 rfl rfl)
theorem dJ9_init_3_1 : decode cJ9_init_3 1 = .ok (.aload_n 1, 1) := dk_43 (dk_at dksJ9_init_3_0 1 rfl rfl)
theorem dJ9_init_3_2 : decode cJ9_init_3 2 = .ok (.aload_n 2, 1) := dk_44 (dk_at dksJ9_init_3_0 2 rfl rfl)
theorem dJ9_init_3_3 : decode cJ9_init_3 3 = .ok (.iload_n 3, 1) := dk_29 (dk_at dksJ9_init_3_0 3 rfl rfl)
theorem dJ9_init_3_4 : decode cJ9_init_3 4 = .ok (.iload 4, 2) := dk_21 4 (dk_at dksJ9_init_3_0 4 rfl rfl)
theorem dJ9_init_3_6 : decode cJ9_init_3 6 = .ok (.invokespecial 16, 3) := dk_183 0 16 (dk_at dksJ9_init_3_0 6 rfl rfl)
theorem dJ9_init_3_9 : decode cJ9_init_3 9 = .ok (.return_, 1) := dk_177 (dk_at dksJ9_init_3_0 9 rfl rfl)
theorem q166 : (Jvm.Cond.initialized "java/lang/Exception") ∈ lw_all := lw_g (lw_at lw_m1 22 rfl) rfl
theorem q205 : (Jvm.Cond.instanceMethod ({ cls := "java/lang/Exception", name := "<init>", desc := "(Ljava/lang/String;)V" } : Jvm.MethodName)) ∈ lw_all := lw_g (lw_at lw_m1 61 rfl) rfl
theorem q206 : (Jvm.Cond.code ({ cls := "java/lang/Exception", name := "<init>", desc := "(Ljava/lang/String;)V" } : Jvm.MethodName) prog_23_method_2_code (2 : Nat) (Option.none : Option Jvm.ClassFile.FieldType)) ∈ lw_all := lw_g (lw_at lw_m1 62 rfl) rfl
theorem q207 : (Jvm.Cond.methodLink "java/lang/Exception" (7 : Nat) ({ cls := "java/lang/Throwable", name := "<init>", desc := "(Ljava/lang/String;)V" } : Jvm.MethodName)) ∈ lw_all := lw_g (lw_at lw_m1 63 rfl) rfl
theorem q237 : (Jvm.Cond.superclass "java/lang/Exception" "java/lang/Throwable") ∈ lw_all := lw_g (lw_at lw_m1 93 rfl) rfl
theorem q265 : (Jvm.Cond.declares ({ cls := "java/lang/Exception", name := "<init>", desc := "()V" } : Jvm.MethodName)) ∈ lw_tbl := lw_at lw_m1 121 rfl
theorem q266 : (Jvm.Cond.declares ({ cls := "java/lang/Exception", name := "<init>", desc := "(Ljava/lang/String;)V" } : Jvm.MethodName)) ∈ lw_tbl := lw_at lw_m1 122 rfl
theorem q303 : (Jvm.Cond.instanceMethod ({ cls := "java/lang/Exception", name := "<init>", desc := "()V" } : Jvm.MethodName)) ∈ lw_all := lw_g (lw_at lw_m1 159 rfl) rfl
theorem q304 : (Jvm.Cond.code ({ cls := "java/lang/Exception", name := "<init>", desc := "()V" } : Jvm.MethodName) prog_23_method_1_code (1 : Nat) (Option.none : Option Jvm.ClassFile.FieldType)) ∈ lw_all := lw_g (lw_at lw_m1 160 rfl) rfl
theorem q305 : (Jvm.Cond.methodLink "java/lang/Exception" (1 : Nat) ({ cls := "java/lang/Throwable", name := "<init>", desc := "()V" } : Jvm.MethodName)) ∈ lw_all := lw_g (lw_at lw_m1 161 rfl) rfl
theorem q901 : (Jvm.Cond.instanceMethod ({ cls := "java/lang/Exception", name := "<init>", desc := "(Ljava/lang/String;Ljava/lang/Throwable;ZZ)V" } : Jvm.MethodName)) ∈ lw_all := lw_g (lw_at lw_m4 37 rfl) rfl
theorem q902 : (Jvm.Cond.code ({ cls := "java/lang/Exception", name := "<init>", desc := "(Ljava/lang/String;Ljava/lang/Throwable;ZZ)V" } : Jvm.MethodName) prog_23_method_5_code (5 : Nat) (Option.none : Option Jvm.ClassFile.FieldType)) ∈ lw_all := lw_g (lw_at lw_m4 38 rfl) rfl
theorem q903 : (Jvm.Cond.methodLink "java/lang/Exception" (16 : Nat) ({ cls := "java/lang/Throwable", name := "<init>", desc := "(Ljava/lang/String;Ljava/lang/Throwable;ZZ)V" } : Jvm.MethodName)) ∈ lw_all := lw_g (lw_at lw_m4 39 rfl) rfl
/-! java/lang/RuntimeException -/
set_option maxRecDepth 100000
abbrev cJ10_init : ByteArray := prog_30_method_2_code
def yJ10_init : MethodName := ⟨RJ10, "<init>", "(Ljava/lang/String;)V"⟩
def dkwJ10_init_0 : List UInt8 := [42, 43, 183, 0, 7, 177]
abbrev dktJ10_init_0 : List UInt8 := dkwJ10_init_0 ++ []
theorem dksJ10_init_0 : cJ10_init.data.toList.drop 0 = dktJ10_init_0 := by decide +kernel
theorem dJ10_init_0 : decode cJ10_init 0 = .ok (.aload_n 0, 1) := dk_42 (dk_at dksJ10_init_0 0 rfl rfl)
theorem dJ10_init_1 : decode cJ10_init 1 = .ok (.aload_n 1, 1) := dk_43 (dk_at dksJ10_init_0 1 rfl rfl)
theorem dJ10_init_2 : decode cJ10_init 2 = .ok (.invokespecial 7, 3) := dk_183 0 7 (dk_at dksJ10_init_0 2 rfl rfl)
theorem dJ10_init_5 : decode cJ10_init 5 = .ok (.return_, 1) := dk_177 (dk_at dksJ10_init_0 5 rfl rfl)
abbrev cJ10_init_2 : ByteArray := prog_30_method_1_code
def yJ10_init_2 : MethodName := ⟨RJ10, "<init>", "()V"⟩
theorem dJ10_init_2_0 : decode cJ10_init_2 0 = .ok (.aload_n 0, 1) := by decide +kernel
theorem dJ10_init_2_1 : decode cJ10_init_2 1 = .ok (.invokespecial 1, 3) := by decide +kernel
theorem dJ10_init_2_4 : decode cJ10_init_2 4 = .ok (.return_, 1) := by decide +kernel
abbrev cJ10_init_3 : ByteArray := prog_30_method_5_code
def yJ10_init_3 : MethodName := ⟨RJ10, "<init>", "(Ljava/lang/String;Ljava/lang/Throwable;ZZ)V"⟩
def dkwJ10_init_3_0 : List UInt8 := [42, 43, 44, 29, 21, 4, 183, 0, 16, 177]
abbrev dktJ10_init_3_0 : List UInt8 := dkwJ10_init_3_0 ++ []
theorem dksJ10_init_3_0 : cJ10_init_3.data.toList.drop 0 = dktJ10_init_3_0 := by decide +kernel
theorem dJ10_init_3_0 : decode cJ10_init_3 0 = .ok (.aload_n 0, 1) := dk_42 (dk_at dksJ10_init_3_0 0 rfl rfl)
theorem dJ10_init_3_1 : decode cJ10_init_3 1 = .ok (.aload_n 1, 1) := dk_43 (dk_at dksJ10_init_3_0 1 rfl rfl)
theorem dJ10_init_3_2 : decode cJ10_init_3 2 = .ok (.aload_n 2, 1) := dk_44 (dk_at dksJ10_init_3_0 2 rfl rfl)
theorem dJ10_init_3_3 : decode cJ10_init_3 3 = .ok (.iload_n 3, 1) := dk_29 (dk_at dksJ10_init_3_0 3 rfl rfl)
theorem dJ10_init_3_4 : decode cJ10_init_3 4 = .ok (.iload 4, 2) := dk_21 4 (dk_at dksJ10_init_3_0 4 rfl rfl)
theorem dJ10_init_3_6 : decode cJ10_init_3 6 = .ok (.invokespecial 16, 3) := dk_183 0 16 (dk_at dksJ10_init_3_0 6 rfl rfl)
theorem dJ10_init_3_9 : decode cJ10_init_3 9 = .ok (.return_, 1) := dk_177 (dk_at dksJ10_init_3_0 9 rfl rfl)
theorem q167 : (Jvm.Cond.initialized "java/lang/RuntimeException") ∈ lw_all := lw_g (lw_at lw_m1 23 rfl) rfl
theorem q202 : (Jvm.Cond.instanceMethod ({ cls := "java/lang/RuntimeException", name := "<init>", desc := "(Ljava/lang/String;)V" } : Jvm.MethodName)) ∈ lw_all := lw_g (lw_at lw_m1 58 rfl) rfl
theorem q203 : (Jvm.Cond.code ({ cls := "java/lang/RuntimeException", name := "<init>", desc := "(Ljava/lang/String;)V" } : Jvm.MethodName) prog_30_method_2_code (2 : Nat) (Option.none : Option Jvm.ClassFile.FieldType)) ∈ lw_all := lw_g (lw_at lw_m1 59 rfl) rfl
theorem q204 : (Jvm.Cond.methodLink "java/lang/RuntimeException" (7 : Nat) ({ cls := "java/lang/Exception", name := "<init>", desc := "(Ljava/lang/String;)V" } : Jvm.MethodName)) ∈ lw_all := lw_g (lw_at lw_m1 60 rfl) rfl
theorem q233 : (Jvm.Cond.sameMethod "java/lang/RuntimeException" "java/lang/Throwable" "fillInStackTrace" "()Ljava/lang/Throwable;") ∈ lw_all := lw_g (lw_at lw_m1 89 rfl) rfl
theorem q236 : (Jvm.Cond.superclass "java/lang/RuntimeException" "java/lang/Exception") ∈ lw_all := lw_g (lw_at lw_m1 92 rfl) rfl
theorem q263 : (Jvm.Cond.declares ({ cls := "java/lang/RuntimeException", name := "<init>", desc := "()V" } : Jvm.MethodName)) ∈ lw_tbl := lw_at lw_m1 119 rfl
theorem q264 : (Jvm.Cond.declares ({ cls := "java/lang/RuntimeException", name := "<init>", desc := "(Ljava/lang/String;)V" } : Jvm.MethodName)) ∈ lw_tbl := lw_at lw_m1 120 rfl
theorem q300 : (Jvm.Cond.instanceMethod ({ cls := "java/lang/RuntimeException", name := "<init>", desc := "()V" } : Jvm.MethodName)) ∈ lw_all := lw_g (lw_at lw_m1 156 rfl) rfl
theorem q301 : (Jvm.Cond.code ({ cls := "java/lang/RuntimeException", name := "<init>", desc := "()V" } : Jvm.MethodName) prog_30_method_1_code (1 : Nat) (Option.none : Option Jvm.ClassFile.FieldType)) ∈ lw_all := lw_g (lw_at lw_m1 157 rfl) rfl
theorem q302 : (Jvm.Cond.methodLink "java/lang/RuntimeException" (1 : Nat) ({ cls := "java/lang/Exception", name := "<init>", desc := "()V" } : Jvm.MethodName)) ∈ lw_all := lw_g (lw_at lw_m1 158 rfl) rfl
theorem q320 : (Jvm.Cond.castable "java/lang/RuntimeException" "java/lang/Throwable") ∈ lw_tbl := lw_at lw_m1 176 rfl
theorem q898 : (Jvm.Cond.instanceMethod ({ cls := "java/lang/RuntimeException", name := "<init>", desc := "(Ljava/lang/String;Ljava/lang/Throwable;ZZ)V" } : Jvm.MethodName)) ∈ lw_all := lw_g (lw_at lw_m4 34 rfl) rfl
theorem q899 : (Jvm.Cond.code ({ cls := "java/lang/RuntimeException", name := "<init>", desc := "(Ljava/lang/String;Ljava/lang/Throwable;ZZ)V" } : Jvm.MethodName) prog_30_method_5_code (5 : Nat) (Option.none : Option Jvm.ClassFile.FieldType)) ∈ lw_all := lw_g (lw_at lw_m4 35 rfl) rfl
theorem q900 : (Jvm.Cond.methodLink "java/lang/RuntimeException" (16 : Nat) ({ cls := "java/lang/Exception", name := "<init>", desc := "(Ljava/lang/String;Ljava/lang/Throwable;ZZ)V" } : Jvm.MethodName)) ∈ lw_all := lw_g (lw_at lw_m4 36 rfl) rfl
/-! MoleBoard$Fault -/
set_option maxRecDepth 100000
abbrev cX12_init : ByteArray := prog_6_method_1_code
def yX12_init : MethodName := ⟨RX12, "<init>", "(II)V"⟩
def dkwX12_init_0 : List UInt8 := [42, 1, 1, 3, 3, 183, 0, 1, 42, 27, 181, 0, 7, 42, 28, 181, 0, 13, 177]
abbrev dktX12_init_0 : List UInt8 := dkwX12_init_0 ++ []
theorem dksX12_init_0 : cX12_init.data.toList.drop 0 = dktX12_init_0 := by decide +kernel
theorem dX12_init_0 : decode cX12_init 0 = .ok (.aload_n 0, 1) := dk_42 (dk_at dksX12_init_0 0 rfl rfl)
theorem dX12_init_1 : decode cX12_init 1 = .ok (.aconst_null, 1) := dk_1 (dk_at dksX12_init_0 1 rfl rfl)
theorem dX12_init_2 : decode cX12_init 2 = .ok (.aconst_null, 1) := dk_1 (dk_at dksX12_init_0 2 rfl rfl)
theorem dX12_init_3 : decode cX12_init 3 = .ok (.iconst 0, 1) := dk_3 (dk_at dksX12_init_0 3 rfl rfl)
theorem dX12_init_4 : decode cX12_init 4 = .ok (.iconst 0, 1) := dk_3 (dk_at dksX12_init_0 4 rfl rfl)
theorem dX12_init_5 : decode cX12_init 5 = .ok (.invokespecial 1, 3) := dk_183 0 1 (dk_at dksX12_init_0 5 rfl rfl)
theorem dX12_init_8 : decode cX12_init 8 = .ok (.aload_n 0, 1) := dk_42 (dk_at dksX12_init_0 8 rfl rfl)
theorem dX12_init_9 : decode cX12_init 9 = .ok (.iload_n 1, 1) := dk_27 (dk_at dksX12_init_0 9 rfl rfl)
theorem dX12_init_10 : decode cX12_init 10 = .ok (.putfield 7, 3) := dk_181 0 7 (dk_at dksX12_init_0 10 rfl rfl)
theorem dX12_init_13 : decode cX12_init 13 = .ok (.aload_n 0, 1) := dk_42 (dk_at dksX12_init_0 13 rfl rfl)
theorem dX12_init_14 : decode cX12_init 14 = .ok (.iload_n 2, 1) := dk_28 (dk_at dksX12_init_0 14 rfl rfl)
theorem dX12_init_15 : decode cX12_init 15 = .ok (.putfield 13, 3) := dk_181 0 13 (dk_at dksX12_init_0 15 rfl rfl)
theorem dX12_init_18 : decode cX12_init 18 = .ok (.return_, 1) := dk_177 (dk_at dksX12_init_0 18 rfl rfl)
theorem q168 : (Jvm.Cond.initialized "MoleBoard$Fault") ∈ lw_all := lw_g (lw_at lw_m1 24 rfl) rfl
theorem q220 : (Jvm.Cond.selects "MoleBoard$Fault" ({ cls := "java/lang/Throwable", name := "fillInStackTrace", desc := "()Ljava/lang/Throwable;" } : Jvm.MethodName) ({ cls := "java/lang/Throwable", name := "fillInStackTrace", desc := "()Ljava/lang/Throwable;" } : Jvm.MethodName)) ∈ lw_all := lw_g (lw_at lw_m1 76 rfl) rfl
theorem q886 : (Jvm.Cond.instantiable "MoleBoard$Fault" (8 : Nat)) ∈ lw_all := lw_g (lw_at lw_m4 22 rfl) rfl
theorem q887 : (Jvm.Cond.castable "MoleBoard$Fault" "MoleBoard$Fault") ∈ lw_tbl := lw_at lw_m4 23 rfl
theorem q888 : (Jvm.Cond.selects "MoleBoard$Fault" ({ cls := "java/lang/Throwable", name := "fillInStackTrace", desc := "(I)Ljava/lang/Throwable;" } : Jvm.MethodName) ({ cls := "java/lang/Throwable", name := "fillInStackTrace", desc := "(I)Ljava/lang/Throwable;" } : Jvm.MethodName)) ∈ lw_all := lw_g (lw_at lw_m4 24 rfl) rfl
theorem q889 : (Jvm.Cond.lays "MoleBoard$Fault" "java/lang/Throwable" "cause" "Ljava/lang/Throwable;") ∈ lw_all := lw_g (lw_at lw_m4 25 rfl) rfl
theorem q890 : (Jvm.Cond.lays "MoleBoard$Fault" "java/lang/Throwable" "stackTrace" "[Ljava/lang/StackTraceElement;") ∈ lw_all := lw_g (lw_at lw_m4 26 rfl) rfl
theorem q891 : (Jvm.Cond.lays "MoleBoard$Fault" "java/lang/Throwable" "suppressedExceptions" "Ljava/util/List;") ∈ lw_all := lw_g (lw_at lw_m4 27 rfl) rfl
theorem q892 : (Jvm.Cond.lays "MoleBoard$Fault" "java/lang/Throwable" "detailMessage" "Ljava/lang/String;") ∈ lw_all := lw_g (lw_at lw_m4 28 rfl) rfl
theorem q893 : (Jvm.Cond.lays "MoleBoard$Fault" "java/lang/Throwable" "backtrace" "Ljava/lang/Object;") ∈ lw_all := lw_g (lw_at lw_m4 29 rfl) rfl
theorem q895 : (Jvm.Cond.instanceMethod ({ cls := "MoleBoard$Fault", name := "<init>", desc := "(II)V" } : Jvm.MethodName)) ∈ lw_all := lw_g (lw_at lw_m4 31 rfl) rfl
theorem q896 : (Jvm.Cond.code ({ cls := "MoleBoard$Fault", name := "<init>", desc := "(II)V" } : Jvm.MethodName) prog_6_method_1_code (3 : Nat) (Option.none : Option Jvm.ClassFile.FieldType)) ∈ lw_all := lw_g (lw_at lw_m4 32 rfl) rfl
theorem q897 : (Jvm.Cond.methodLink "MoleBoard$Fault" (1 : Nat) ({ cls := "java/lang/RuntimeException", name := "<init>", desc := "(Ljava/lang/String;Ljava/lang/Throwable;ZZ)V" } : Jvm.MethodName)) ∈ lw_all := lw_g (lw_at lw_m4 33 rfl) rfl
theorem q906 : (Jvm.Cond.fieldLink "MoleBoard$Fault" (7 : Nat) "MoleBoard$Fault" "kind" "I") ∈ lw_all := lw_g (lw_at lw_m4 42 rfl) rfl
theorem q908 : (Jvm.Cond.fieldLink "MoleBoard$Fault" (13 : Nat) "MoleBoard$Fault" "place" "I") ∈ lw_all := lw_g (lw_at lw_m4 44 rfl) rfl
theorem q910 : (Jvm.Cond.laysFinal "MoleBoard$Fault" "MoleBoard$Fault" "kind" "I") ∈ lw_all := lw_g (lw_at lw_m4 46 rfl) rfl
theorem q911 : (Jvm.Cond.soleField "MoleBoard$Fault" "kind") ∈ lw_all := lw_g (lw_at lw_m4 47 rfl) rfl
theorem q912 : (Jvm.Cond.laysFinal "MoleBoard$Fault" "MoleBoard$Fault" "place" "I") ∈ lw_all := lw_g (lw_at lw_m4 48 rfl) rfl
theorem q913 : (Jvm.Cond.soleField "MoleBoard$Fault" "place") ∈ lw_all := lw_g (lw_at lw_m4 49 rfl) rfl
theorem q914 : (Jvm.Cond.lays "MoleBoard$Fault" "java/lang/Throwable" "depth" "I") ∈ lw_all := lw_g (lw_at lw_m4 50 rfl) rfl
theorem q915 : (Jvm.Cond.superclass "MoleBoard$Fault" "java/lang/RuntimeException") ∈ lw_all := lw_g (lw_at lw_m4 51 rfl) rfl
theorem q1117 : (Jvm.Cond.selects "MoleBoard$Fault" ({ cls := "java/lang/Object", name := "getClass", desc := "()Ljava/lang/Class;" } : Jvm.MethodName) ({ cls := "java/lang/Object", name := "getClass", desc := "()Ljava/lang/Class;" } : Jvm.MethodName)) ∈ lw_all := lw_g (lw_at lw_m5 13 rfl) rfl
theorem q2669 : (Jvm.Cond.castable "MoleBoard$Fault" "java/lang/Object") ∈ lw_tbl := lw_at lw_m11 125 rfl
/-! java/util/ArrayList$Itr -/
set_option maxRecDepth 100000
abbrev cJ11_init : ByteArray := prog_41_method_1_code
def yJ11_init : MethodName := ⟨RJ11, "<init>", "(Ljava/util/ArrayList;)V"⟩
def dkwJ11_init_1 : List UInt8 := [181, 0, 22, 177]
abbrev dktJ11_init_1 : List UInt8 := dkwJ11_init_1 ++ []
def dkwJ11_init_0 : List UInt8 := [42, 43, 181, 0, 1, 42, 183, 0, 7, 42, 2, 181, 0, 13, 42, 42, 180, 0, 1, 180, 0, 17]
abbrev dktJ11_init_0 : List UInt8 := dkwJ11_init_0 ++ dktJ11_init_1
theorem dksJ11_init_0 : cJ11_init.data.toList.drop 0 = dktJ11_init_0 := by decide +kernel
theorem dksJ11_init_1 : cJ11_init.data.toList.drop 22 = dktJ11_init_1 := dk_seg dksJ11_init_0 22 rfl rfl
theorem dJ11_init_0 : decode cJ11_init 0 = .ok (.aload_n 0, 1) := dk_42 (dk_at dksJ11_init_0 0 rfl rfl)
theorem dJ11_init_1 : decode cJ11_init 1 = .ok (.aload_n 1, 1) := dk_43 (dk_at dksJ11_init_0 1 rfl rfl)
theorem dJ11_init_2 : decode cJ11_init 2 = .ok (.putfield 1, 3) := dk_181 0 1 (dk_at dksJ11_init_0 2 rfl rfl)
theorem dJ11_init_5 : decode cJ11_init 5 = .ok (.aload_n 0, 1) := dk_42 (dk_at dksJ11_init_0 5 rfl rfl)
theorem dJ11_init_6 : decode cJ11_init 6 = .ok (.invokespecial 7, 3) := dk_183 0 7 (dk_at dksJ11_init_0 6 rfl rfl)
theorem dJ11_init_9 : decode cJ11_init 9 = .ok (.aload_n 0, 1) := dk_42 (dk_at dksJ11_init_0 9 rfl rfl)
theorem dJ11_init_10 : decode cJ11_init 10 = .ok (.iconst (-1), 1) := dk_2 (dk_at dksJ11_init_0 10 rfl rfl)
theorem dJ11_init_11 : decode cJ11_init 11 = .ok (.putfield 13, 3) := dk_181 0 13 (dk_at dksJ11_init_0 11 rfl rfl)
theorem dJ11_init_14 : decode cJ11_init 14 = .ok (.aload_n 0, 1) := dk_42 (dk_at dksJ11_init_0 14 rfl rfl)
theorem dJ11_init_15 : decode cJ11_init 15 = .ok (.aload_n 0, 1) := dk_42 (dk_at dksJ11_init_0 15 rfl rfl)
theorem dJ11_init_16 : decode cJ11_init 16 = .ok (.getfield 1, 3) := dk_180 0 1 (dk_at dksJ11_init_0 16 rfl rfl)
theorem dJ11_init_19 : decode cJ11_init 19 = .ok (.getfield 17, 3) := dk_180 0 17 (dk_at dksJ11_init_0 19 rfl rfl)
theorem dJ11_init_22 : decode cJ11_init 22 = .ok (.putfield 22, 3) := dk_181 0 22 (dk_at dksJ11_init_1 0 rfl rfl)
theorem dJ11_init_25 : decode cJ11_init 25 = .ok (.return_, 1) := dk_177 (dk_at dksJ11_init_1 3 rfl rfl)
abbrev cJ11_hasNext : ByteArray := prog_41_method_2_code
def yJ11_hasNext : MethodName := ⟨RJ11, "hasNext", "()Z"⟩
def dkwJ11_hasNext_0 : List UInt8 := [42, 180, 0, 25, 42, 180, 0, 1, 180, 0, 28, 159, 0, 7, 4, 167, 0, 4, 3, 172]
abbrev dktJ11_hasNext_0 : List UInt8 := dkwJ11_hasNext_0 ++ []
theorem dksJ11_hasNext_0 : cJ11_hasNext.data.toList.drop 0 = dktJ11_hasNext_0 := by decide +kernel
theorem dJ11_hasNext_0 : decode cJ11_hasNext 0 = .ok (.aload_n 0, 1) := dk_42 (dk_at dksJ11_hasNext_0 0 rfl rfl)
theorem dJ11_hasNext_1 : decode cJ11_hasNext 1 = .ok (.getfield 25, 3) := dk_180 0 25 (dk_at dksJ11_hasNext_0 1 rfl rfl)
theorem dJ11_hasNext_4 : decode cJ11_hasNext 4 = .ok (.aload_n 0, 1) := dk_42 (dk_at dksJ11_hasNext_0 4 rfl rfl)
theorem dJ11_hasNext_5 : decode cJ11_hasNext 5 = .ok (.getfield 1, 3) := dk_180 0 1 (dk_at dksJ11_hasNext_0 5 rfl rfl)
theorem dJ11_hasNext_8 : decode cJ11_hasNext 8 = .ok (.getfield 28, 3) := dk_180 0 28 (dk_at dksJ11_hasNext_0 8 rfl rfl)
theorem dJ11_hasNext_11 : decode cJ11_hasNext 11 = .ok (.if_icmp .eq 7, 3) := dk_159 0 7 (dk_at dksJ11_hasNext_0 11 rfl rfl)
theorem dJ11_hasNext_14 : decode cJ11_hasNext 14 = .ok (.iconst 1, 1) := dk_4 (dk_at dksJ11_hasNext_0 14 rfl rfl)
theorem dJ11_hasNext_15 : decode cJ11_hasNext 15 = .ok (.goto 4, 3) := dk_167 0 4 (dk_at dksJ11_hasNext_0 15 rfl rfl)
theorem dJ11_hasNext_18 : decode cJ11_hasNext 18 = .ok (.iconst 0, 1) := dk_3 (dk_at dksJ11_hasNext_0 18 rfl rfl)
theorem dJ11_hasNext_19 : decode cJ11_hasNext 19 = .ok (.ireturn, 1) := dk_172 (dk_at dksJ11_hasNext_0 19 rfl rfl)
abbrev cJ11_next : ByteArray := prog_41_method_3_code
def yJ11_next : MethodName := ⟨RJ11, "next", "()Ljava/lang/Object;"⟩
def dkwJ11_next_2 : List UInt8 := [183, 0, 43, 191, 42, 27, 4, 96, 181, 0, 25, 44, 42, 27, 90, 181, 0, 13, 50, 176]
abbrev dktJ11_next_2 : List UInt8 := dkwJ11_next_2 ++ []
def dkwJ11_next_1 : List UInt8 := [183, 0, 36, 191, 42, 180, 0, 1, 180, 0, 37, 77, 27, 44, 190, 161, 0, 11, 187, 0, 41, 89]
abbrev dktJ11_next_1 : List UInt8 := dkwJ11_next_1 ++ dktJ11_next_2
def dkwJ11_next_0 : List UInt8 := [42, 182, 0, 31, 42, 180, 0, 25, 60, 27, 42, 180, 0, 1, 180, 0, 28, 161, 0, 11, 187, 0, 34, 89]
abbrev dktJ11_next_0 : List UInt8 := dkwJ11_next_0 ++ dktJ11_next_1
theorem dksJ11_next_0 : cJ11_next.data.toList.drop 0 = dktJ11_next_0 := by decide +kernel
theorem dksJ11_next_1 : cJ11_next.data.toList.drop 24 = dktJ11_next_1 := dk_seg dksJ11_next_0 24 rfl rfl
theorem dksJ11_next_2 : cJ11_next.data.toList.drop 46 = dktJ11_next_2 := dk_seg dksJ11_next_1 22 rfl rfl
theorem dJ11_next_0 : decode cJ11_next 0 = .ok (.aload_n 0, 1) := dk_42 (dk_at dksJ11_next_0 0 rfl rfl)
theorem dJ11_next_1 : decode cJ11_next 1 = .ok (.invokevirtual 31, 3) := dk_182 0 31 (dk_at dksJ11_next_0 1 rfl rfl)
theorem dJ11_next_4 : decode cJ11_next 4 = .ok (.aload_n 0, 1) := dk_42 (dk_at dksJ11_next_0 4 rfl rfl)
theorem dJ11_next_5 : decode cJ11_next 5 = .ok (.getfield 25, 3) := dk_180 0 25 (dk_at dksJ11_next_0 5 rfl rfl)
theorem dJ11_next_8 : decode cJ11_next 8 = .ok (.istore_n 1, 1) := dk_60 (dk_at dksJ11_next_0 8 rfl rfl)
theorem dJ11_next_9 : decode cJ11_next 9 = .ok (.iload_n 1, 1) := dk_27 (dk_at dksJ11_next_0 9 rfl rfl)
theorem dJ11_next_10 : decode cJ11_next 10 = .ok (.aload_n 0, 1) := dk_42 (dk_at dksJ11_next_0 10 rfl rfl)
theorem dJ11_next_11 : decode cJ11_next 11 = .ok (.getfield 1, 3) := dk_180 0 1 (dk_at dksJ11_next_0 11 rfl rfl)
theorem dJ11_next_14 : decode cJ11_next 14 = .ok (.getfield 28, 3) := dk_180 0 28 (dk_at dksJ11_next_0 14 rfl rfl)
theorem dJ11_next_17 : decode cJ11_next 17 = .ok (.if_icmp .lt 11, 3) := dk_161 0 11 (dk_at dksJ11_next_0 17 rfl rfl)
theorem dJ11_next_20 : decode cJ11_next 20 = .ok (.new 34, 3) := dk_187 0 34 (dk_at dksJ11_next_0 20 rfl rfl)
theorem dJ11_next_23 : decode cJ11_next 23 = .ok (.dup, 1) := dk_89 (dk_at dksJ11_next_0 23 rfl rfl)
theorem dJ11_next_24 : decode cJ11_next 24 = .ok (.invokespecial 36, 3) := dk_183 0 36 (dk_at dksJ11_next_1 0 rfl rfl)
theorem dJ11_next_27 : decode cJ11_next 27 = .ok (.athrow, 1) := dk_191 (dk_at dksJ11_next_1 3 rfl rfl)
theorem dJ11_next_28 : decode cJ11_next 28 = .ok (.aload_n 0, 1) := dk_42 (dk_at dksJ11_next_1 4 rfl rfl)
theorem dJ11_next_29 : decode cJ11_next 29 = .ok (.getfield 1, 3) := dk_180 0 1 (dk_at dksJ11_next_1 5 rfl rfl)
theorem dJ11_next_32 : decode cJ11_next 32 = .ok (.getfield 37, 3) := dk_180 0 37 (dk_at dksJ11_next_1 8 rfl rfl)
theorem dJ11_next_35 : decode cJ11_next 35 = .ok (.astore_n 2, 1) := dk_77 (dk_at dksJ11_next_1 11 rfl rfl)
theorem dJ11_next_36 : decode cJ11_next 36 = .ok (.iload_n 1, 1) := dk_27 (dk_at dksJ11_next_1 12 rfl rfl)
theorem dJ11_next_37 : decode cJ11_next 37 = .ok (.aload_n 2, 1) := dk_44 (dk_at dksJ11_next_1 13 rfl rfl)
theorem dJ11_next_38 : decode cJ11_next 38 = .ok (.arraylength, 1) := dk_190 (dk_at dksJ11_next_1 14 rfl rfl)
theorem dJ11_next_39 : decode cJ11_next 39 = .ok (.if_icmp .lt 11, 3) := dk_161 0 11 (dk_at dksJ11_next_1 15 rfl rfl)
theorem dJ11_next_42 : decode cJ11_next 42 = .ok (.new 41, 3) := dk_187 0 41 (dk_at dksJ11_next_1 18 rfl rfl)
theorem dJ11_next_45 : decode cJ11_next 45 = .ok (.dup, 1) := dk_89 (dk_at dksJ11_next_1 21 rfl rfl)
theorem dJ11_next_46 : decode cJ11_next 46 = .ok (.invokespecial 43, 3) := dk_183 0 43 (dk_at dksJ11_next_2 0 rfl rfl)
theorem dJ11_next_49 : decode cJ11_next 49 = .ok (.athrow, 1) := dk_191 (dk_at dksJ11_next_2 3 rfl rfl)
theorem dJ11_next_50 : decode cJ11_next 50 = .ok (.aload_n 0, 1) := dk_42 (dk_at dksJ11_next_2 4 rfl rfl)
theorem dJ11_next_51 : decode cJ11_next 51 = .ok (.iload_n 1, 1) := dk_27 (dk_at dksJ11_next_2 5 rfl rfl)
theorem dJ11_next_52 : decode cJ11_next 52 = .ok (.iconst 1, 1) := dk_4 (dk_at dksJ11_next_2 6 rfl rfl)
theorem dJ11_next_53 : decode cJ11_next 53 = .ok (.iadd, 1) := dk_96 (dk_at dksJ11_next_2 7 rfl rfl)
theorem dJ11_next_54 : decode cJ11_next 54 = .ok (.putfield 25, 3) := dk_181 0 25 (dk_at dksJ11_next_2 8 rfl rfl)
theorem dJ11_next_57 : decode cJ11_next 57 = .ok (.aload_n 2, 1) := dk_44 (dk_at dksJ11_next_2 11 rfl rfl)
theorem dJ11_next_58 : decode cJ11_next 58 = .ok (.aload_n 0, 1) := dk_42 (dk_at dksJ11_next_2 12 rfl rfl)
theorem dJ11_next_59 : decode cJ11_next 59 = .ok (.iload_n 1, 1) := dk_27 (dk_at dksJ11_next_2 13 rfl rfl)
theorem dJ11_next_60 : decode cJ11_next 60 = .ok (.dup_x1, 1) := dk_90 (dk_at dksJ11_next_2 14 rfl rfl)
theorem dJ11_next_61 : decode cJ11_next 61 = .ok (.putfield 13, 3) := dk_181 0 13 (dk_at dksJ11_next_2 15 rfl rfl)
theorem dJ11_next_64 : decode cJ11_next 64 = .ok (.aaload, 1) := dk_50 (dk_at dksJ11_next_2 18 rfl rfl)
theorem dJ11_next_65 : decode cJ11_next 65 = .ok (.areturn, 1) := dk_176 (dk_at dksJ11_next_2 19 rfl rfl)
abbrev cJ11_checkForComodification : ByteArray := prog_41_method_6_code
def yJ11_checkForComodification : MethodName := ⟨RJ11, "checkForComodification", "()V"⟩
def dkwJ11_checkForComodification_0 : List UInt8 := [42, 180, 0, 1, 180, 0, 17, 42, 180, 0, 22, 159, 0, 11, 187, 0, 41, 89, 183, 0, 43, 191, 177]
abbrev dktJ11_checkForComodification_0 : List UInt8 := dkwJ11_checkForComodification_0 ++ []
theorem dksJ11_checkForComodification_0 : cJ11_checkForComodification.data.toList.drop 0 = dktJ11_checkForComodification_0 := by decide +kernel
theorem dJ11_checkForComodification_0 : decode cJ11_checkForComodification 0 = .ok (.aload_n 0, 1) := dk_42 (dk_at dksJ11_checkForComodification_0 0 rfl rfl)
theorem dJ11_checkForComodification_1 : decode cJ11_checkForComodification 1 = .ok (.getfield 1, 3) := dk_180 0 1 (dk_at dksJ11_checkForComodification_0 1 rfl rfl)
theorem dJ11_checkForComodification_4 : decode cJ11_checkForComodification 4 = .ok (.getfield 17, 3) := dk_180 0 17 (dk_at dksJ11_checkForComodification_0 4 rfl rfl)
theorem dJ11_checkForComodification_7 : decode cJ11_checkForComodification 7 = .ok (.aload_n 0, 1) := dk_42 (dk_at dksJ11_checkForComodification_0 7 rfl rfl)
theorem dJ11_checkForComodification_8 : decode cJ11_checkForComodification 8 = .ok (.getfield 22, 3) := dk_180 0 22 (dk_at dksJ11_checkForComodification_0 8 rfl rfl)
theorem dJ11_checkForComodification_11 : decode cJ11_checkForComodification 11 = .ok (.if_icmp .eq 11, 3) := dk_159 0 11 (dk_at dksJ11_checkForComodification_0 11 rfl rfl)
theorem dJ11_checkForComodification_14 : decode cJ11_checkForComodification 14 = .ok (.new 41, 3) := dk_187 0 41 (dk_at dksJ11_checkForComodification_0 14 rfl rfl)
theorem dJ11_checkForComodification_17 : decode cJ11_checkForComodification 17 = .ok (.dup, 1) := dk_89 (dk_at dksJ11_checkForComodification_0 17 rfl rfl)
theorem dJ11_checkForComodification_18 : decode cJ11_checkForComodification 18 = .ok (.invokespecial 43, 3) := dk_183 0 43 (dk_at dksJ11_checkForComodification_0 18 rfl rfl)
theorem dJ11_checkForComodification_21 : decode cJ11_checkForComodification 21 = .ok (.athrow, 1) := dk_191 (dk_at dksJ11_checkForComodification_0 21 rfl rfl)
theorem dJ11_checkForComodification_22 : decode cJ11_checkForComodification 22 = .ok (.return_, 1) := dk_177 (dk_at dksJ11_checkForComodification_0 22 rfl rfl)
theorem q169 : (Jvm.Cond.initialized "java/util/ArrayList$Itr") ∈ lw_all := lw_g (lw_at lw_m1 25 rfl) rfl
theorem q423 : (Jvm.Cond.fieldLink "java/util/ArrayList$Itr" (37 : Nat) "java/util/ArrayList" "elementData" "[Ljava/lang/Object;") ∈ lw_all := lw_g (lw_at lw_m2 39 rfl) rfl
theorem q424 : (Jvm.Cond.fieldLinkNest "java/util/ArrayList$Itr" (28 : Nat) "java/util/ArrayList" "size" "I" "java/util/ArrayList") ∈ lw_tbl := lw_at lw_m2 40 rfl
theorem q427 : (Jvm.Cond.fieldLink "java/util/ArrayList$Itr" (17 : Nat) "java/util/ArrayList" "modCount" "I") ∈ lw_all := lw_g (lw_at lw_m2 43 rfl) rfl
theorem q973 : (Jvm.Cond.instantiable "java/util/ArrayList$Itr" (4 : Nat)) ∈ lw_all := lw_g (lw_at lw_m4 109 rfl) rfl
theorem q975 : (Jvm.Cond.instanceMethod ({ cls := "java/util/ArrayList$Itr", name := "<init>", desc := "(Ljava/util/ArrayList;)V" } : Jvm.MethodName)) ∈ lw_all := lw_g (lw_at lw_m4 111 rfl) rfl
theorem q976 : (Jvm.Cond.code ({ cls := "java/util/ArrayList$Itr", name := "<init>", desc := "(Ljava/util/ArrayList;)V" } : Jvm.MethodName) prog_41_method_1_code (2 : Nat) (Option.none : Option Jvm.ClassFile.FieldType)) ∈ lw_all := lw_g (lw_at lw_m4 112 rfl) rfl
theorem q977 : (Jvm.Cond.methodLink "java/util/ArrayList$Itr" (7 : Nat) ({ cls := "java/lang/Object", name := "<init>", desc := "()V" } : Jvm.MethodName)) ∈ lw_all := lw_g (lw_at lw_m4 113 rfl) rfl
theorem q978 : (Jvm.Cond.fieldLink "java/util/ArrayList$Itr" (25 : Nat) "java/util/ArrayList$Itr" "cursor" "I") ∈ lw_all := lw_g (lw_at lw_m4 114 rfl) rfl
theorem q979 : (Jvm.Cond.fieldLink "java/util/ArrayList$Itr" (13 : Nat) "java/util/ArrayList$Itr" "lastRet" "I") ∈ lw_all := lw_g (lw_at lw_m4 115 rfl) rfl
theorem q980 : (Jvm.Cond.fieldLink "java/util/ArrayList$Itr" (22 : Nat) "java/util/ArrayList$Itr" "expectedModCount" "I") ∈ lw_all := lw_g (lw_at lw_m4 116 rfl) rfl
theorem q981 : (Jvm.Cond.fieldLink "java/util/ArrayList$Itr" (1 : Nat) "java/util/ArrayList$Itr" "this$0" "Ljava/util/ArrayList;") ∈ lw_all := lw_g (lw_at lw_m4 117 rfl) rfl
theorem q982 : (Jvm.Cond.lays "java/util/ArrayList$Itr" "java/util/ArrayList$Itr" "cursor" "I") ∈ lw_all := lw_g (lw_at lw_m4 118 rfl) rfl
theorem q983 : (Jvm.Cond.soleField "java/util/ArrayList$Itr" "cursor") ∈ lw_all := lw_g (lw_at lw_m4 119 rfl) rfl
theorem q984 : (Jvm.Cond.lays "java/util/ArrayList$Itr" "java/util/ArrayList$Itr" "lastRet" "I") ∈ lw_all := lw_g (lw_at lw_m4 120 rfl) rfl
theorem q985 : (Jvm.Cond.soleField "java/util/ArrayList$Itr" "lastRet") ∈ lw_all := lw_g (lw_at lw_m4 121 rfl) rfl
theorem q986 : (Jvm.Cond.lays "java/util/ArrayList$Itr" "java/util/ArrayList$Itr" "expectedModCount" "I") ∈ lw_all := lw_g (lw_at lw_m4 122 rfl) rfl
theorem q987 : (Jvm.Cond.soleField "java/util/ArrayList$Itr" "expectedModCount") ∈ lw_all := lw_g (lw_at lw_m4 123 rfl) rfl
theorem q988 : (Jvm.Cond.laysFinal "java/util/ArrayList$Itr" "java/util/ArrayList$Itr" "this$0" "Ljava/util/ArrayList;") ∈ lw_all := lw_g (lw_at lw_m4 124 rfl) rfl
theorem q989 : (Jvm.Cond.soleField "java/util/ArrayList$Itr" "this$0") ∈ lw_all := lw_g (lw_at lw_m4 125 rfl) rfl
theorem q990 : (Jvm.Cond.superclass "java/util/ArrayList$Itr" "java/lang/Object") ∈ lw_all := lw_g (lw_at lw_m4 126 rfl) rfl
theorem q995 : (Jvm.Cond.castable "java/util/ArrayList$Itr" "java/util/Iterator") ∈ lw_tbl := lw_at lw_m4 131 rfl
theorem q996 : (Jvm.Cond.selects "java/util/ArrayList$Itr" ({ cls := "java/util/Iterator", name := "hasNext", desc := "()Z" } : Jvm.MethodName) ({ cls := "java/util/ArrayList$Itr", name := "hasNext", desc := "()Z" } : Jvm.MethodName)) ∈ lw_all := lw_g (lw_at lw_m4 132 rfl) rfl
theorem q997 : (Jvm.Cond.unhidden "java/util/ArrayList$Itr" "hasNext" "()Z") ∈ lw_tbl := lw_at lw_m4 133 rfl
theorem q998 : (Jvm.Cond.instanceMethod ({ cls := "java/util/ArrayList$Itr", name := "hasNext", desc := "()Z" } : Jvm.MethodName)) ∈ lw_all := lw_g (lw_at lw_m4 134 rfl) rfl
theorem q999 : (Jvm.Cond.publicMethod ({ cls := "java/util/ArrayList$Itr", name := "hasNext", desc := "()Z" } : Jvm.MethodName)) ∈ lw_tbl := lw_at lw_m4 135 rfl
theorem q1000 : (Jvm.Cond.code ({ cls := "java/util/ArrayList$Itr", name := "hasNext", desc := "()Z" } : Jvm.MethodName) prog_41_method_2_code (1 : Nat) (Option.some Jvm.ClassFile.FieldType.boolean)) ∈ lw_all := lw_g (lw_at lw_m4 136 rfl) rfl
theorem q1005 : (Jvm.Cond.selects "java/util/ArrayList$Itr" ({ cls := "java/util/Iterator", name := "next", desc := "()Ljava/lang/Object;" } : Jvm.MethodName) ({ cls := "java/util/ArrayList$Itr", name := "next", desc := "()Ljava/lang/Object;" } : Jvm.MethodName)) ∈ lw_all := lw_g (lw_at lw_m4 141 rfl) rfl
theorem q1006 : (Jvm.Cond.unhidden "java/util/ArrayList$Itr" "next" "()Ljava/lang/Object;") ∈ lw_tbl := lw_at lw_m4 142 rfl
theorem q1007 : (Jvm.Cond.instanceMethod ({ cls := "java/util/ArrayList$Itr", name := "next", desc := "()Ljava/lang/Object;" } : Jvm.MethodName)) ∈ lw_all := lw_g (lw_at lw_m4 143 rfl) rfl
theorem q1008 : (Jvm.Cond.publicMethod ({ cls := "java/util/ArrayList$Itr", name := "next", desc := "()Ljava/lang/Object;" } : Jvm.MethodName)) ∈ lw_tbl := lw_at lw_m4 144 rfl
theorem q1009 : (Jvm.Cond.code ({ cls := "java/util/ArrayList$Itr", name := "next", desc := "()Ljava/lang/Object;" } : Jvm.MethodName) prog_41_method_3_code (3 : Nat) (Option.some (Jvm.ClassFile.FieldType.object "java/lang/Object"))) ∈ lw_all := lw_g (lw_at lw_m4 145 rfl) rfl
theorem q1010 : (Jvm.Cond.methodLink "java/util/ArrayList$Itr" (31 : Nat) ({ cls := "java/util/ArrayList$Itr", name := "checkForComodification", desc := "()V" } : Jvm.MethodName)) ∈ lw_all := lw_g (lw_at lw_m4 146 rfl) rfl
theorem q1011 : (Jvm.Cond.instanceMethod ({ cls := "java/util/ArrayList$Itr", name := "checkForComodification", desc := "()V" } : Jvm.MethodName)) ∈ lw_all := lw_g (lw_at lw_m4 147 rfl) rfl
theorem q1012 : (Jvm.Cond.selects "java/util/ArrayList$Itr" ({ cls := "java/util/ArrayList$Itr", name := "checkForComodification", desc := "()V" } : Jvm.MethodName) ({ cls := "java/util/ArrayList$Itr", name := "checkForComodification", desc := "()V" } : Jvm.MethodName)) ∈ lw_all := lw_g (lw_at lw_m4 148 rfl) rfl
theorem q1013 : (Jvm.Cond.code ({ cls := "java/util/ArrayList$Itr", name := "checkForComodification", desc := "()V" } : Jvm.MethodName) prog_41_method_6_code (1 : Nat) (Option.none : Option Jvm.ClassFile.FieldType)) ∈ lw_all := lw_g (lw_at lw_m4 149 rfl) rfl
theorem q1131 : (Jvm.Cond.selects "java/util/ArrayList$Itr" ({ cls := "java/lang/Object", name := "getClass", desc := "()Ljava/lang/Class;" } : Jvm.MethodName) ({ cls := "java/lang/Object", name := "getClass", desc := "()Ljava/lang/Class;" } : Jvm.MethodName)) ∈ lw_all := lw_g (lw_at lw_m5 27 rfl) rfl
theorem q2670 : (Jvm.Cond.castable "java/util/ArrayList$Itr" "java/lang/Object") ∈ lw_tbl := lw_at lw_m11 126 rfl
/-! MoleBoard$Mole -/
set_option maxRecDepth 100000
abbrev cX13_isAt : ByteArray := prog_9_method_3_code
def yX13_isAt : MethodName := ⟨RX13, "isAt", "(I)Z"⟩
def dkwX13_isAt_0 : List UInt8 := [27, 42, 180, 0, 9, 159, 0, 11, 27, 42, 180, 0, 15, 160, 0, 7, 4, 167, 0, 4, 3, 172]
abbrev dktX13_isAt_0 : List UInt8 := dkwX13_isAt_0 ++ []
theorem dksX13_isAt_0 : cX13_isAt.data.toList.drop 0 = dktX13_isAt_0 := by decide +kernel
theorem dX13_isAt_0 : decode cX13_isAt 0 = .ok (.iload_n 1, 1) := dk_27 (dk_at dksX13_isAt_0 0 rfl rfl)
theorem dX13_isAt_1 : decode cX13_isAt 1 = .ok (.aload_n 0, 1) := dk_42 (dk_at dksX13_isAt_0 1 rfl rfl)
theorem dX13_isAt_2 : decode cX13_isAt 2 = .ok (.getfield 9, 3) := dk_180 0 9 (dk_at dksX13_isAt_0 2 rfl rfl)
theorem dX13_isAt_5 : decode cX13_isAt 5 = .ok (.if_icmp .eq 11, 3) := dk_159 0 11 (dk_at dksX13_isAt_0 5 rfl rfl)
theorem dX13_isAt_8 : decode cX13_isAt 8 = .ok (.iload_n 1, 1) := dk_27 (dk_at dksX13_isAt_0 8 rfl rfl)
theorem dX13_isAt_9 : decode cX13_isAt 9 = .ok (.aload_n 0, 1) := dk_42 (dk_at dksX13_isAt_0 9 rfl rfl)
theorem dX13_isAt_10 : decode cX13_isAt 10 = .ok (.getfield 15, 3) := dk_180 0 15 (dk_at dksX13_isAt_0 10 rfl rfl)
theorem dX13_isAt_13 : decode cX13_isAt 13 = .ok (.if_icmp .ne 7, 3) := dk_160 0 7 (dk_at dksX13_isAt_0 13 rfl rfl)
theorem dX13_isAt_16 : decode cX13_isAt 16 = .ok (.iconst 1, 1) := dk_4 (dk_at dksX13_isAt_0 16 rfl rfl)
theorem dX13_isAt_17 : decode cX13_isAt 17 = .ok (.goto 4, 3) := dk_167 0 4 (dk_at dksX13_isAt_0 17 rfl rfl)
theorem dX13_isAt_20 : decode cX13_isAt 20 = .ok (.iconst 0, 1) := dk_3 (dk_at dksX13_isAt_0 20 rfl rfl)
theorem dX13_isAt_21 : decode cX13_isAt 21 = .ok (.ireturn, 1) := dk_172 (dk_at dksX13_isAt_0 21 rfl rfl)
abbrev cX13_init : ByteArray := prog_9_method_1_code
def yX13_init : MethodName := ⟨RX13, "<init>", "(IIZ)V"⟩
def dkwX13_init_0 : List UInt8 := [42, 183, 0, 3, 42, 27, 181, 0, 9, 42, 28, 181, 0, 15, 42, 29, 181, 0, 18, 177]
abbrev dktX13_init_0 : List UInt8 := dkwX13_init_0 ++ []
theorem dksX13_init_0 : cX13_init.data.toList.drop 0 = dktX13_init_0 := by decide +kernel
theorem dX13_init_0 : decode cX13_init 0 = .ok (.aload_n 0, 1) := dk_42 (dk_at dksX13_init_0 0 rfl rfl)
theorem dX13_init_1 : decode cX13_init 1 = .ok (.invokespecial 3, 3) := dk_183 0 3 (dk_at dksX13_init_0 1 rfl rfl)
theorem dX13_init_4 : decode cX13_init 4 = .ok (.aload_n 0, 1) := dk_42 (dk_at dksX13_init_0 4 rfl rfl)
theorem dX13_init_5 : decode cX13_init 5 = .ok (.iload_n 1, 1) := dk_27 (dk_at dksX13_init_0 5 rfl rfl)
theorem dX13_init_6 : decode cX13_init 6 = .ok (.putfield 9, 3) := dk_181 0 9 (dk_at dksX13_init_0 6 rfl rfl)
theorem dX13_init_9 : decode cX13_init 9 = .ok (.aload_n 0, 1) := dk_42 (dk_at dksX13_init_0 9 rfl rfl)
theorem dX13_init_10 : decode cX13_init 10 = .ok (.iload_n 2, 1) := dk_28 (dk_at dksX13_init_0 10 rfl rfl)
theorem dX13_init_11 : decode cX13_init 11 = .ok (.putfield 15, 3) := dk_181 0 15 (dk_at dksX13_init_0 11 rfl rfl)
theorem dX13_init_14 : decode cX13_init 14 = .ok (.aload_n 0, 1) := dk_42 (dk_at dksX13_init_0 14 rfl rfl)
theorem dX13_init_15 : decode cX13_init 15 = .ok (.iload_n 3, 1) := dk_29 (dk_at dksX13_init_0 15 rfl rfl)
theorem dX13_init_16 : decode cX13_init 16 = .ok (.putfield 18, 3) := dk_181 0 18 (dk_at dksX13_init_0 16 rfl rfl)
theorem dX13_init_19 : decode cX13_init 19 = .ok (.return_, 1) := dk_177 (dk_at dksX13_init_0 19 rfl rfl)
abbrev cX13_isTwin : ByteArray := prog_9_method_2_code
def yX13_isTwin : MethodName := ⟨RX13, "isTwin", "()Z"⟩
def dkwX13_isTwin_0 : List UInt8 := [42, 180, 0, 15, 2, 159, 0, 7, 4, 167, 0, 4, 3, 172]
abbrev dktX13_isTwin_0 : List UInt8 := dkwX13_isTwin_0 ++ []
theorem dksX13_isTwin_0 : cX13_isTwin.data.toList.drop 0 = dktX13_isTwin_0 := by decide +kernel
theorem dX13_isTwin_0 : decode cX13_isTwin 0 = .ok (.aload_n 0, 1) := dk_42 (dk_at dksX13_isTwin_0 0 rfl rfl)
theorem dX13_isTwin_1 : decode cX13_isTwin 1 = .ok (.getfield 15, 3) := dk_180 0 15 (dk_at dksX13_isTwin_0 1 rfl rfl)
theorem dX13_isTwin_4 : decode cX13_isTwin 4 = .ok (.iconst (-1), 1) := dk_2 (dk_at dksX13_isTwin_0 4 rfl rfl)
theorem dX13_isTwin_5 : decode cX13_isTwin 5 = .ok (.if_icmp .eq 7, 3) := dk_159 0 7 (dk_at dksX13_isTwin_0 5 rfl rfl)
theorem dX13_isTwin_8 : decode cX13_isTwin 8 = .ok (.iconst 1, 1) := dk_4 (dk_at dksX13_isTwin_0 8 rfl rfl)
theorem dX13_isTwin_9 : decode cX13_isTwin 9 = .ok (.goto 4, 3) := dk_167 0 4 (dk_at dksX13_isTwin_0 9 rfl rfl)
theorem dX13_isTwin_12 : decode cX13_isTwin 12 = .ok (.iconst 0, 1) := dk_3 (dk_at dksX13_isTwin_0 12 rfl rfl)
theorem dX13_isTwin_13 : decode cX13_isTwin 13 = .ok (.ireturn, 1) := dk_172 (dk_at dksX13_isTwin_0 13 rfl rfl)
abbrev cX13_same : ByteArray := prog_9_method_4_code
def yX13_same : MethodName := ⟨RX13, "same", "()LMoleBoard$Mole;"⟩
def dkwX13_same_0 : List UInt8 := [187, 0, 10, 89, 42, 180, 0, 9, 42, 180, 0, 15, 42, 180, 0, 18, 183, 0, 22, 176]
abbrev dktX13_same_0 : List UInt8 := dkwX13_same_0 ++ []
theorem dksX13_same_0 : cX13_same.data.toList.drop 0 = dktX13_same_0 := by decide +kernel
theorem dX13_same_0 : decode cX13_same 0 = .ok (.new 10, 3) := dk_187 0 10 (dk_at dksX13_same_0 0 rfl rfl)
theorem dX13_same_3 : decode cX13_same 3 = .ok (.dup, 1) := dk_89 (dk_at dksX13_same_0 3 rfl rfl)
theorem dX13_same_4 : decode cX13_same 4 = .ok (.aload_n 0, 1) := dk_42 (dk_at dksX13_same_0 4 rfl rfl)
theorem dX13_same_5 : decode cX13_same 5 = .ok (.getfield 9, 3) := dk_180 0 9 (dk_at dksX13_same_0 5 rfl rfl)
theorem dX13_same_8 : decode cX13_same 8 = .ok (.aload_n 0, 1) := dk_42 (dk_at dksX13_same_0 8 rfl rfl)
theorem dX13_same_9 : decode cX13_same 9 = .ok (.getfield 15, 3) := dk_180 0 15 (dk_at dksX13_same_0 9 rfl rfl)
theorem dX13_same_12 : decode cX13_same 12 = .ok (.aload_n 0, 1) := dk_42 (dk_at dksX13_same_0 12 rfl rfl)
theorem dX13_same_13 : decode cX13_same 13 = .ok (.getfield 18, 3) := dk_180 0 18 (dk_at dksX13_same_0 13 rfl rfl)
theorem dX13_same_16 : decode cX13_same 16 = .ok (.invokespecial 22, 3) := dk_183 0 22 (dk_at dksX13_same_0 16 rfl rfl)
theorem dX13_same_19 : decode cX13_same 19 = .ok (.areturn, 1) := dk_176 (dk_at dksX13_same_0 19 rfl rfl)
theorem q170 : (Jvm.Cond.initialized "MoleBoard$Mole") ∈ lw_all := lw_g (lw_at lw_m1 26 rfl) rfl
theorem q1016 : (Jvm.Cond.instanceMethod ({ cls := "MoleBoard$Mole", name := "isAt", desc := "(I)Z" } : Jvm.MethodName)) ∈ lw_all := lw_g (lw_at lw_m4 152 rfl) rfl
theorem q1017 : (Jvm.Cond.selects "MoleBoard$Mole" ({ cls := "MoleBoard$Mole", name := "isAt", desc := "(I)Z" } : Jvm.MethodName) ({ cls := "MoleBoard$Mole", name := "isAt", desc := "(I)Z" } : Jvm.MethodName)) ∈ lw_all := lw_g (lw_at lw_m4 153 rfl) rfl
theorem q1018 : (Jvm.Cond.code ({ cls := "MoleBoard$Mole", name := "isAt", desc := "(I)Z" } : Jvm.MethodName) prog_9_method_3_code (2 : Nat) (Option.some Jvm.ClassFile.FieldType.boolean)) ∈ lw_all := lw_g (lw_at lw_m4 154 rfl) rfl
theorem q1048 : (Jvm.Cond.instantiable "MoleBoard$Mole" (3 : Nat)) ∈ lw_all := lw_g (lw_at lw_m4 184 rfl) rfl
theorem q1050 : (Jvm.Cond.instanceMethod ({ cls := "MoleBoard$Mole", name := "<init>", desc := "(IIZ)V" } : Jvm.MethodName)) ∈ lw_all := lw_g (lw_at lw_m4 186 rfl) rfl
theorem q1051 : (Jvm.Cond.code ({ cls := "MoleBoard$Mole", name := "<init>", desc := "(IIZ)V" } : Jvm.MethodName) prog_9_method_1_code (4 : Nat) (Option.none : Option Jvm.ClassFile.FieldType)) ∈ lw_all := lw_g (lw_at lw_m4 187 rfl) rfl
theorem q1052 : (Jvm.Cond.methodLink "MoleBoard$Mole" (3 : Nat) ({ cls := "java/lang/Object", name := "<init>", desc := "()V" } : Jvm.MethodName)) ∈ lw_all := lw_g (lw_at lw_m4 188 rfl) rfl
theorem q1053 : (Jvm.Cond.fieldLink "MoleBoard$Mole" (9 : Nat) "MoleBoard$Mole" "hole" "I") ∈ lw_all := lw_g (lw_at lw_m4 189 rfl) rfl
theorem q1057 : (Jvm.Cond.fieldLink "MoleBoard$Mole" (15 : Nat) "MoleBoard$Mole" "other" "I") ∈ lw_all := lw_g (lw_at lw_m4 193 rfl) rfl
theorem q1061 : (Jvm.Cond.fieldLink "MoleBoard$Mole" (18 : Nat) "MoleBoard$Mole" "red" "Z") ∈ lw_all := lw_g (lw_at lw_m4 197 rfl) rfl
theorem q1066 : (Jvm.Cond.laysFinal "MoleBoard$Mole" "MoleBoard$Mole" "hole" "I") ∈ lw_all := lw_g (lw_at lw_m4 202 rfl) rfl
theorem q1067 : (Jvm.Cond.soleField "MoleBoard$Mole" "hole") ∈ lw_all := lw_g (lw_at lw_m4 203 rfl) rfl
theorem q1068 : (Jvm.Cond.laysFinal "MoleBoard$Mole" "MoleBoard$Mole" "other" "I") ∈ lw_all := lw_g (lw_at lw_m4 204 rfl) rfl
theorem q1069 : (Jvm.Cond.soleField "MoleBoard$Mole" "other") ∈ lw_all := lw_g (lw_at lw_m4 205 rfl) rfl
theorem q1070 : (Jvm.Cond.lays "MoleBoard$Mole" "MoleBoard$Mole" "red" "Z") ∈ lw_all := lw_g (lw_at lw_m4 206 rfl) rfl
theorem q1071 : (Jvm.Cond.soleField "MoleBoard$Mole" "red") ∈ lw_all := lw_g (lw_at lw_m4 207 rfl) rfl
theorem q1072 : (Jvm.Cond.superclass "MoleBoard$Mole" "java/lang/Object") ∈ lw_all := lw_g (lw_at lw_m4 208 rfl) rfl
theorem q1119 : (Jvm.Cond.selects "MoleBoard$Mole" ({ cls := "java/lang/Object", name := "getClass", desc := "()Ljava/lang/Class;" } : Jvm.MethodName) ({ cls := "java/lang/Object", name := "getClass", desc := "()Ljava/lang/Class;" } : Jvm.MethodName)) ∈ lw_all := lw_g (lw_at lw_m5 15 rfl) rfl
theorem q1314 : (Jvm.Cond.instanceMethod ({ cls := "MoleBoard$Mole", name := "isTwin", desc := "()Z" } : Jvm.MethodName)) ∈ lw_all := lw_g (lw_at lw_m5 210 rfl) rfl
theorem q1315 : (Jvm.Cond.selects "MoleBoard$Mole" ({ cls := "MoleBoard$Mole", name := "isTwin", desc := "()Z" } : Jvm.MethodName) ({ cls := "MoleBoard$Mole", name := "isTwin", desc := "()Z" } : Jvm.MethodName)) ∈ lw_all := lw_g (lw_at lw_m5 211 rfl) rfl
theorem q1316 : (Jvm.Cond.code ({ cls := "MoleBoard$Mole", name := "isTwin", desc := "()Z" } : Jvm.MethodName) prog_9_method_2_code (1 : Nat) (Option.some Jvm.ClassFile.FieldType.boolean)) ∈ lw_all := lw_g (lw_at lw_m5 212 rfl) rfl
theorem q1806 : (Jvm.Cond.instanceMethod ({ cls := "MoleBoard$Mole", name := "same", desc := "()LMoleBoard$Mole;" } : Jvm.MethodName)) ∈ lw_all := lw_g (lw_at lw_m7 222 rfl) rfl
theorem q1807 : (Jvm.Cond.selects "MoleBoard$Mole" ({ cls := "MoleBoard$Mole", name := "same", desc := "()LMoleBoard$Mole;" } : Jvm.MethodName) ({ cls := "MoleBoard$Mole", name := "same", desc := "()LMoleBoard$Mole;" } : Jvm.MethodName)) ∈ lw_all := lw_g (lw_at lw_m7 223 rfl) rfl
theorem q1808 : (Jvm.Cond.code ({ cls := "MoleBoard$Mole", name := "same", desc := "()LMoleBoard$Mole;" } : Jvm.MethodName) prog_9_method_4_code (1 : Nat) (Option.some (Jvm.ClassFile.FieldType.object "MoleBoard$Mole"))) ∈ lw_all := lw_g (lw_at lw_m7 224 rfl) rfl
theorem q1809 : (Jvm.Cond.classLink "MoleBoard$Mole" (10 : Nat) "MoleBoard$Mole") ∈ lw_all := lw_g (lw_at lw_m7 225 rfl) rfl
theorem q1810 : (Jvm.Cond.methodLink "MoleBoard$Mole" (22 : Nat) ({ cls := "MoleBoard$Mole", name := "<init>", desc := "(IIZ)V" } : Jvm.MethodName)) ∈ lw_all := lw_g (lw_at lw_m7 226 rfl) rfl
theorem q2658 : (Jvm.Cond.castable "MoleBoard$Mole" "java/lang/Object") ∈ lw_tbl := lw_at lw_m11 114 rfl
/-! jdk/internal/util/ArraysSupport -/
set_option maxRecDepth 100000
abbrev cJ12_newLength : ByteArray := prog_49_method_27_code
def yJ12_newLength : MethodName := ⟨RJ12, "newLength", "(III)I"⟩
def dkwJ12_newLength_1 : List UInt8 := [184, 0, 201, 172]
abbrev dktJ12_newLength_1 : List UInt8 := dkwJ12_newLength_1 ++ []
def dkwJ12_newLength_0 : List UInt8 := [26, 27, 28, 184, 0, 194, 96, 62, 3, 29, 162, 0, 11, 29, 18, 200, 163, 0, 5, 29, 172, 26, 27]
abbrev dktJ12_newLength_0 : List UInt8 := dkwJ12_newLength_0 ++ dktJ12_newLength_1
theorem dksJ12_newLength_0 : cJ12_newLength.data.toList.drop 0 = dktJ12_newLength_0 := by decide +kernel
theorem dksJ12_newLength_1 : cJ12_newLength.data.toList.drop 23 = dktJ12_newLength_1 := dk_seg dksJ12_newLength_0 23 rfl rfl
theorem dJ12_newLength_0 : decode cJ12_newLength 0 = .ok (.iload_n 0, 1) := dk_26 (dk_at dksJ12_newLength_0 0 rfl rfl)
theorem dJ12_newLength_1 : decode cJ12_newLength 1 = .ok (.iload_n 1, 1) := dk_27 (dk_at dksJ12_newLength_0 1 rfl rfl)
theorem dJ12_newLength_2 : decode cJ12_newLength 2 = .ok (.iload_n 2, 1) := dk_28 (dk_at dksJ12_newLength_0 2 rfl rfl)
theorem dJ12_newLength_3 : decode cJ12_newLength 3 = .ok (.invokestatic 194, 3) := dk_184 0 194 (dk_at dksJ12_newLength_0 3 rfl rfl)
theorem dJ12_newLength_6 : decode cJ12_newLength 6 = .ok (.iadd, 1) := dk_96 (dk_at dksJ12_newLength_0 6 rfl rfl)
theorem dJ12_newLength_7 : decode cJ12_newLength 7 = .ok (.istore_n 3, 1) := dk_62 (dk_at dksJ12_newLength_0 7 rfl rfl)
theorem dJ12_newLength_8 : decode cJ12_newLength 8 = .ok (.iconst 0, 1) := dk_3 (dk_at dksJ12_newLength_0 8 rfl rfl)
theorem dJ12_newLength_9 : decode cJ12_newLength 9 = .ok (.iload_n 3, 1) := dk_29 (dk_at dksJ12_newLength_0 9 rfl rfl)
theorem dJ12_newLength_10 : decode cJ12_newLength 10 = .ok (.if_icmp .ge 11, 3) := dk_162 0 11 (dk_at dksJ12_newLength_0 10 rfl rfl)
theorem dJ12_newLength_13 : decode cJ12_newLength 13 = .ok (.iload_n 3, 1) := dk_29 (dk_at dksJ12_newLength_0 13 rfl rfl)
theorem dJ12_newLength_14 : decode cJ12_newLength 14 = .ok (.ldc 200, 2) := dk_18 200 (dk_at dksJ12_newLength_0 14 rfl rfl)
theorem dJ12_newLength_16 : decode cJ12_newLength 16 = .ok (.if_icmp .gt 5, 3) := dk_163 0 5 (dk_at dksJ12_newLength_0 16 rfl rfl)
theorem dJ12_newLength_19 : decode cJ12_newLength 19 = .ok (.iload_n 3, 1) := dk_29 (dk_at dksJ12_newLength_0 19 rfl rfl)
theorem dJ12_newLength_20 : decode cJ12_newLength 20 = .ok (.ireturn, 1) := dk_172 (dk_at dksJ12_newLength_0 20 rfl rfl)
theorem dJ12_newLength_21 : decode cJ12_newLength 21 = .ok (.iload_n 0, 1) := dk_26 (dk_at dksJ12_newLength_0 21 rfl rfl)
theorem dJ12_newLength_22 : decode cJ12_newLength 22 = .ok (.iload_n 1, 1) := dk_27 (dk_at dksJ12_newLength_0 22 rfl rfl)
theorem dJ12_newLength_23 : decode cJ12_newLength 23 = .ok (.invokestatic 201, 3) := dk_184 0 201 (dk_at dksJ12_newLength_1 0 rfl rfl)
theorem dJ12_newLength_26 : decode cJ12_newLength 26 = .ok (.ireturn, 1) := dk_172 (dk_at dksJ12_newLength_1 3 rfl rfl)
abbrev cJ12_hugeLength : ByteArray := prog_49_method_28_code
def yJ12_hugeLength : MethodName := ⟨RJ12, "hugeLength", "(II)I"⟩
def dkwJ12_hugeLength_2 : List UInt8 := [191, 28, 18, 200, 163, 0, 6, 18, 200, 172, 28, 172]
abbrev dktJ12_hugeLength_2 : List UInt8 := dkwJ12_hugeLength_2 ++ []
def dkwJ12_hugeLength_1 : List UInt8 := [26, 182, 0, 98, 18, 208, 182, 0, 94, 27, 182, 0, 98, 18, 210, 182, 0, 94, 182, 0, 101, 183, 0, 212]
abbrev dktJ12_hugeLength_1 : List UInt8 := dkwJ12_hugeLength_1 ++ dktJ12_hugeLength_2
def dkwJ12_hugeLength_0 : List UInt8 := [26, 27, 96, 61, 28, 156, 0, 44, 187, 0, 204, 89, 187, 0, 89, 89, 183, 0, 91, 18, 206, 182, 0, 94]
abbrev dktJ12_hugeLength_0 : List UInt8 := dkwJ12_hugeLength_0 ++ dktJ12_hugeLength_1
theorem dksJ12_hugeLength_0 : cJ12_hugeLength.data.toList.drop 0 = dktJ12_hugeLength_0 := by decide +kernel
theorem dksJ12_hugeLength_1 : cJ12_hugeLength.data.toList.drop 24 = dktJ12_hugeLength_1 := dk_seg dksJ12_hugeLength_0 24 rfl rfl
theorem dksJ12_hugeLength_2 : cJ12_hugeLength.data.toList.drop 48 = dktJ12_hugeLength_2 := dk_seg dksJ12_hugeLength_1 24 rfl rfl
theorem dJ12_hugeLength_0 : decode cJ12_hugeLength 0 = .ok (.iload_n 0, 1) := dk_26 (dk_at dksJ12_hugeLength_0 0 rfl rfl)
theorem dJ12_hugeLength_1 : decode cJ12_hugeLength 1 = .ok (.iload_n 1, 1) := dk_27 (dk_at dksJ12_hugeLength_0 1 rfl rfl)
theorem dJ12_hugeLength_2 : decode cJ12_hugeLength 2 = .ok (.iadd, 1) := dk_96 (dk_at dksJ12_hugeLength_0 2 rfl rfl)
theorem dJ12_hugeLength_3 : decode cJ12_hugeLength 3 = .ok (.istore_n 2, 1) := dk_61 (dk_at dksJ12_hugeLength_0 3 rfl rfl)
theorem dJ12_hugeLength_4 : decode cJ12_hugeLength 4 = .ok (.iload_n 2, 1) := dk_28 (dk_at dksJ12_hugeLength_0 4 rfl rfl)
theorem dJ12_hugeLength_5 : decode cJ12_hugeLength 5 = .ok (.ifCond .ge 44, 3) := dk_156 0 44 (dk_at dksJ12_hugeLength_0 5 rfl rfl)
theorem dJ12_hugeLength_8 : decode cJ12_hugeLength 8 = .ok (.new 204, 3) := dk_187 0 204 (dk_at dksJ12_hugeLength_0 8 rfl rfl)
theorem dJ12_hugeLength_11 : decode cJ12_hugeLength 11 = .ok (.dup, 1) := dk_89 (dk_at dksJ12_hugeLength_0 11 rfl rfl)
theorem dJ12_hugeLength_12 : decode cJ12_hugeLength 12 = .ok (.new 89, 3) := dk_187 0 89 (dk_at dksJ12_hugeLength_0 12 rfl rfl)
theorem dJ12_hugeLength_15 : decode cJ12_hugeLength 15 = .ok (.dup, 1) := dk_89 (dk_at dksJ12_hugeLength_0 15 rfl rfl)
theorem dJ12_hugeLength_16 : decode cJ12_hugeLength 16 = .ok (.invokespecial 91, 3) := dk_183 0 91 (dk_at dksJ12_hugeLength_0 16 rfl rfl)
theorem dJ12_hugeLength_19 : decode cJ12_hugeLength 19 = .ok (.ldc 206, 2) := dk_18 206 (dk_at dksJ12_hugeLength_0 19 rfl rfl)
theorem dJ12_hugeLength_21 : decode cJ12_hugeLength 21 = .ok (.invokevirtual 94, 3) := dk_182 0 94 (dk_at dksJ12_hugeLength_0 21 rfl rfl)
theorem dJ12_hugeLength_24 : decode cJ12_hugeLength 24 = .ok (.iload_n 0, 1) := dk_26 (dk_at dksJ12_hugeLength_1 0 rfl rfl)
theorem dJ12_hugeLength_25 : decode cJ12_hugeLength 25 = .ok (.invokevirtual 98, 3) := dk_182 0 98 (dk_at dksJ12_hugeLength_1 1 rfl rfl)
theorem dJ12_hugeLength_28 : decode cJ12_hugeLength 28 = .ok (.ldc 208, 2) := dk_18 208 (dk_at dksJ12_hugeLength_1 4 rfl rfl)
theorem dJ12_hugeLength_30 : decode cJ12_hugeLength 30 = .ok (.invokevirtual 94, 3) := dk_182 0 94 (dk_at dksJ12_hugeLength_1 6 rfl rfl)
theorem dJ12_hugeLength_33 : decode cJ12_hugeLength 33 = .ok (.iload_n 1, 1) := dk_27 (dk_at dksJ12_hugeLength_1 9 rfl rfl)
theorem dJ12_hugeLength_34 : decode cJ12_hugeLength 34 = .ok (.invokevirtual 98, 3) := dk_182 0 98 (dk_at dksJ12_hugeLength_1 10 rfl rfl)
theorem dJ12_hugeLength_37 : decode cJ12_hugeLength 37 = .ok (.ldc 210, 2) := dk_18 210 (dk_at dksJ12_hugeLength_1 13 rfl rfl)
theorem dJ12_hugeLength_39 : decode cJ12_hugeLength 39 = .ok (.invokevirtual 94, 3) := dk_182 0 94 (dk_at dksJ12_hugeLength_1 15 rfl rfl)
theorem dJ12_hugeLength_42 : decode cJ12_hugeLength 42 = .ok (.invokevirtual 101, 3) := dk_182 0 101 (dk_at dksJ12_hugeLength_1 18 rfl rfl)
theorem dJ12_hugeLength_45 : decode cJ12_hugeLength 45 = .ok (.invokespecial 212, 3) := dk_183 0 212 (dk_at dksJ12_hugeLength_1 21 rfl rfl)
theorem dJ12_hugeLength_48 : decode cJ12_hugeLength 48 = .ok (.athrow, 1) := dk_191 (dk_at dksJ12_hugeLength_2 0 rfl rfl)
theorem dJ12_hugeLength_49 : decode cJ12_hugeLength 49 = .ok (.iload_n 2, 1) := dk_28 (dk_at dksJ12_hugeLength_2 1 rfl rfl)
theorem dJ12_hugeLength_50 : decode cJ12_hugeLength 50 = .ok (.ldc 200, 2) := dk_18 200 (dk_at dksJ12_hugeLength_2 2 rfl rfl)
theorem dJ12_hugeLength_52 : decode cJ12_hugeLength 52 = .ok (.if_icmp .gt 6, 3) := dk_163 0 6 (dk_at dksJ12_hugeLength_2 4 rfl rfl)
theorem dJ12_hugeLength_55 : decode cJ12_hugeLength 55 = .ok (.ldc 200, 2) := dk_18 200 (dk_at dksJ12_hugeLength_2 7 rfl rfl)
theorem dJ12_hugeLength_57 : decode cJ12_hugeLength 57 = .ok (.ireturn, 1) := dk_172 (dk_at dksJ12_hugeLength_2 9 rfl rfl)
theorem dJ12_hugeLength_58 : decode cJ12_hugeLength 58 = .ok (.iload_n 2, 1) := dk_28 (dk_at dksJ12_hugeLength_2 10 rfl rfl)
theorem dJ12_hugeLength_59 : decode cJ12_hugeLength 59 = .ok (.ireturn, 1) := dk_172 (dk_at dksJ12_hugeLength_2 11 rfl rfl)
theorem q171 : (Jvm.Cond.initialized "jdk/internal/util/ArraysSupport") ∈ lw_all := lw_g (lw_at lw_m1 27 rfl) rfl
theorem q1097 : (Jvm.Cond.static ({ cls := "jdk/internal/util/ArraysSupport", name := "newLength", desc := "(III)I" } : Jvm.MethodName)) ∈ lw_all := lw_g (lw_at lw_m4 233 rfl) rfl
theorem q1098 : (Jvm.Cond.code ({ cls := "jdk/internal/util/ArraysSupport", name := "newLength", desc := "(III)I" } : Jvm.MethodName) prog_49_method_27_code (4 : Nat) (Option.some Jvm.ClassFile.FieldType.int)) ∈ lw_all := lw_g (lw_at lw_m4 234 rfl) rfl
theorem q1099 : (Jvm.Cond.methodLink "jdk/internal/util/ArraysSupport" (194 : Nat) ({ cls := "java/lang/Math", name := "max", desc := "(II)I" } : Jvm.MethodName)) ∈ lw_all := lw_g (lw_at lw_m4 235 rfl) rfl
theorem q1102 : (Jvm.Cond.constant "jdk/internal/util/ArraysSupport" (200 : Nat) (2147483639 : Int32)) ∈ lw_all := lw_g (lw_at lw_m4 238 rfl) rfl
theorem q1103 : (Jvm.Cond.methodLink "jdk/internal/util/ArraysSupport" (201 : Nat) ({ cls := "jdk/internal/util/ArraysSupport", name := "hugeLength", desc := "(II)I" } : Jvm.MethodName)) ∈ lw_all := lw_g (lw_at lw_m4 239 rfl) rfl
theorem q1104 : (Jvm.Cond.static ({ cls := "jdk/internal/util/ArraysSupport", name := "hugeLength", desc := "(II)I" } : Jvm.MethodName)) ∈ lw_all := lw_g (lw_at lw_m5 0 rfl) rfl
theorem q1105 : (Jvm.Cond.code ({ cls := "jdk/internal/util/ArraysSupport", name := "hugeLength", desc := "(II)I" } : Jvm.MethodName) prog_49_method_28_code (3 : Nat) (Option.some Jvm.ClassFile.FieldType.int)) ∈ lw_all := lw_g (lw_at lw_m5 1 rfl) rfl
/-! java/util/Arrays -/
set_option maxRecDepth 100000
abbrev cJ13_copyOf : ByteArray := prog_42_method_119_code
def yJ13_copyOf : MethodName := ⟨RJ13, "copyOf", "([Ljava/lang/Object;I)[Ljava/lang/Object;"⟩
def dkwJ13_copyOf_0 : List UInt8 := [42, 27, 42, 182, 0, 86, 184, 1, 44, 176]
abbrev dktJ13_copyOf_0 : List UInt8 := dkwJ13_copyOf_0 ++ []
theorem dksJ13_copyOf_0 : cJ13_copyOf.data.toList.drop 0 = dktJ13_copyOf_0 := by decide +kernel
theorem dJ13_copyOf_0 : decode cJ13_copyOf 0 = .ok (.aload_n 0, 1) := dk_42 (dk_at dksJ13_copyOf_0 0 rfl rfl)
theorem dJ13_copyOf_1 : decode cJ13_copyOf 1 = .ok (.iload_n 1, 1) := dk_27 (dk_at dksJ13_copyOf_0 1 rfl rfl)
theorem dJ13_copyOf_2 : decode cJ13_copyOf 2 = .ok (.aload_n 0, 1) := dk_42 (dk_at dksJ13_copyOf_0 2 rfl rfl)
theorem dJ13_copyOf_3 : decode cJ13_copyOf 3 = .ok (.invokevirtual 86, 3) := dk_182 0 86 (dk_at dksJ13_copyOf_0 3 rfl rfl)
theorem dJ13_copyOf_6 : decode cJ13_copyOf 6 = .ok (.invokestatic 300, 3) := dk_184 1 44 (dk_at dksJ13_copyOf_0 6 rfl rfl)
theorem dJ13_copyOf_9 : decode cJ13_copyOf 9 = .ok (.areturn, 1) := dk_176 (dk_at dksJ13_copyOf_0 9 rfl rfl)
abbrev cJ13_copyOf_2 : ByteArray := prog_42_method_120_code
def yJ13_copyOf_2 : MethodName := ⟨RJ13, "copyOf", "([Ljava/lang/Object;ILjava/lang/Class;)[Ljava/lang/Object;"⟩
def dkwJ13_copyOf_2_1 : List UInt8 := [78, 42, 3, 45, 3, 42, 190, 27, 184, 1, 48, 184, 0, 150, 45, 176]
abbrev dktJ13_copyOf_2_1 : List UInt8 := dkwJ13_copyOf_2_1 ++ []
def dkwJ13_copyOf_2_0 : List UInt8 := [44, 18, 110, 166, 0, 10, 27, 189, 0, 2, 167, 0, 14, 44, 182, 0, 90, 27, 184, 0, 95, 192, 0, 110]
abbrev dktJ13_copyOf_2_0 : List UInt8 := dkwJ13_copyOf_2_0 ++ dktJ13_copyOf_2_1
theorem dksJ13_copyOf_2_0 : cJ13_copyOf_2.data.toList.drop 0 = dktJ13_copyOf_2_0 := by decide +kernel
theorem dksJ13_copyOf_2_1 : cJ13_copyOf_2.data.toList.drop 24 = dktJ13_copyOf_2_1 := dk_seg dksJ13_copyOf_2_0 24 rfl rfl
theorem dJ13_copyOf_2_0 : decode cJ13_copyOf_2 0 = .ok (.aload_n 2, 1) := dk_44 (dk_at dksJ13_copyOf_2_0 0 rfl rfl)
theorem dJ13_copyOf_2_1 : decode cJ13_copyOf_2 1 = .ok (.ldc 110, 2) := dk_18 110 (dk_at dksJ13_copyOf_2_0 1 rfl rfl)
theorem dJ13_copyOf_2_3 : decode cJ13_copyOf_2 3 = .ok (.if_acmp .ne 10, 3) := dk_166 0 10 (dk_at dksJ13_copyOf_2_0 3 rfl rfl)
theorem dJ13_copyOf_2_6 : decode cJ13_copyOf_2 6 = .ok (.iload_n 1, 1) := dk_27 (dk_at dksJ13_copyOf_2_0 6 rfl rfl)
theorem dJ13_copyOf_2_7 : decode cJ13_copyOf_2 7 = .ok (.anewarray 2, 3) := dk_189 0 2 (dk_at dksJ13_copyOf_2_0 7 rfl rfl)
theorem dJ13_copyOf_2_10 : decode cJ13_copyOf_2 10 = .ok (.goto 14, 3) := dk_167 0 14 (dk_at dksJ13_copyOf_2_0 10 rfl rfl)
theorem dJ13_copyOf_2_13 : decode cJ13_copyOf_2 13 = .ok (.aload_n 2, 1) := dk_44 (dk_at dksJ13_copyOf_2_0 13 rfl rfl)
theorem dJ13_copyOf_2_14 : decode cJ13_copyOf_2 14 = .ok (.invokevirtual 90, 3) := dk_182 0 90 (dk_at dksJ13_copyOf_2_0 14 rfl rfl)
theorem dJ13_copyOf_2_17 : decode cJ13_copyOf_2 17 = .ok (.iload_n 1, 1) := dk_27 (dk_at dksJ13_copyOf_2_0 17 rfl rfl)
theorem dJ13_copyOf_2_18 : decode cJ13_copyOf_2 18 = .ok (.invokestatic 95, 3) := dk_184 0 95 (dk_at dksJ13_copyOf_2_0 18 rfl rfl)
theorem dJ13_copyOf_2_21 : decode cJ13_copyOf_2 21 = .ok (.checkcast 110, 3) := dk_192 0 110 (dk_at dksJ13_copyOf_2_0 21 rfl rfl)
theorem dJ13_copyOf_2_24 : decode cJ13_copyOf_2 24 = .ok (.astore_n 3, 1) := dk_78 (dk_at dksJ13_copyOf_2_1 0 rfl rfl)
theorem dJ13_copyOf_2_25 : decode cJ13_copyOf_2 25 = .ok (.aload_n 0, 1) := dk_42 (dk_at dksJ13_copyOf_2_1 1 rfl rfl)
theorem dJ13_copyOf_2_26 : decode cJ13_copyOf_2 26 = .ok (.iconst 0, 1) := dk_3 (dk_at dksJ13_copyOf_2_1 2 rfl rfl)
theorem dJ13_copyOf_2_27 : decode cJ13_copyOf_2 27 = .ok (.aload_n 3, 1) := dk_45 (dk_at dksJ13_copyOf_2_1 3 rfl rfl)
theorem dJ13_copyOf_2_28 : decode cJ13_copyOf_2 28 = .ok (.iconst 0, 1) := dk_3 (dk_at dksJ13_copyOf_2_1 4 rfl rfl)
theorem dJ13_copyOf_2_29 : decode cJ13_copyOf_2 29 = .ok (.aload_n 0, 1) := dk_42 (dk_at dksJ13_copyOf_2_1 5 rfl rfl)
theorem dJ13_copyOf_2_30 : decode cJ13_copyOf_2 30 = .ok (.arraylength, 1) := dk_190 (dk_at dksJ13_copyOf_2_1 6 rfl rfl)
theorem dJ13_copyOf_2_31 : decode cJ13_copyOf_2 31 = .ok (.iload_n 1, 1) := dk_27 (dk_at dksJ13_copyOf_2_1 7 rfl rfl)
theorem dJ13_copyOf_2_32 : decode cJ13_copyOf_2 32 = .ok (.invokestatic 304, 3) := dk_184 1 48 (dk_at dksJ13_copyOf_2_1 8 rfl rfl)
theorem dJ13_copyOf_2_35 : decode cJ13_copyOf_2 35 = .ok (.invokestatic 150, 3) := dk_184 0 150 (dk_at dksJ13_copyOf_2_1 11 rfl rfl)
theorem dJ13_copyOf_2_38 : decode cJ13_copyOf_2 38 = .ok (.aload_n 3, 1) := dk_45 (dk_at dksJ13_copyOf_2_1 14 rfl rfl)
theorem dJ13_copyOf_2_39 : decode cJ13_copyOf_2 39 = .ok (.areturn, 1) := dk_176 (dk_at dksJ13_copyOf_2_1 15 rfl rfl)
abbrev cJ13_fill : ByteArray := prog_42_method_103_code
def yJ13_fill : MethodName := ⟨RJ13, "fill", "([II)V"⟩
def dkwJ13_fill_0 : List UInt8 := [3, 61, 42, 190, 62, 28, 29, 162, 0, 13, 42, 28, 27, 79, 132, 2, 1, 167, 255, 244, 177]
abbrev dktJ13_fill_0 : List UInt8 := dkwJ13_fill_0 ++ []
theorem dksJ13_fill_0 : cJ13_fill.data.toList.drop 0 = dktJ13_fill_0 := by decide +kernel
theorem dJ13_fill_0 : decode cJ13_fill 0 = .ok (.iconst 0, 1) := dk_3 (dk_at dksJ13_fill_0 0 rfl rfl)
theorem dJ13_fill_1 : decode cJ13_fill 1 = .ok (.istore_n 2, 1) := dk_61 (dk_at dksJ13_fill_0 1 rfl rfl)
theorem dJ13_fill_2 : decode cJ13_fill 2 = .ok (.aload_n 0, 1) := dk_42 (dk_at dksJ13_fill_0 2 rfl rfl)
theorem dJ13_fill_3 : decode cJ13_fill 3 = .ok (.arraylength, 1) := dk_190 (dk_at dksJ13_fill_0 3 rfl rfl)
theorem dJ13_fill_4 : decode cJ13_fill 4 = .ok (.istore_n 3, 1) := dk_62 (dk_at dksJ13_fill_0 4 rfl rfl)
theorem dJ13_fill_5 : decode cJ13_fill 5 = .ok (.iload_n 2, 1) := dk_28 (dk_at dksJ13_fill_0 5 rfl rfl)
theorem dJ13_fill_6 : decode cJ13_fill 6 = .ok (.iload_n 3, 1) := dk_29 (dk_at dksJ13_fill_0 6 rfl rfl)
theorem dJ13_fill_7 : decode cJ13_fill 7 = .ok (.if_icmp .ge 13, 3) := dk_162 0 13 (dk_at dksJ13_fill_0 7 rfl rfl)
theorem dJ13_fill_10 : decode cJ13_fill 10 = .ok (.aload_n 0, 1) := dk_42 (dk_at dksJ13_fill_0 10 rfl rfl)
theorem dJ13_fill_11 : decode cJ13_fill 11 = .ok (.iload_n 2, 1) := dk_28 (dk_at dksJ13_fill_0 11 rfl rfl)
theorem dJ13_fill_12 : decode cJ13_fill 12 = .ok (.iload_n 1, 1) := dk_27 (dk_at dksJ13_fill_0 12 rfl rfl)
theorem dJ13_fill_13 : decode cJ13_fill 13 = .ok (.iastore, 1) := dk_79 (dk_at dksJ13_fill_0 13 rfl rfl)
theorem dJ13_fill_14 : decode cJ13_fill 14 = .ok (.iinc 2 1, 3) := dk_132 2 1 (dk_at dksJ13_fill_0 14 rfl rfl)
theorem dJ13_fill_17 : decode cJ13_fill 17 = .ok (.goto (-12), 3) := dk_167 255 244 (dk_at dksJ13_fill_0 17 rfl rfl)
theorem dJ13_fill_20 : decode cJ13_fill 20 = .ok (.return_, 1) := dk_177 (dk_at dksJ13_fill_0 20 rfl rfl)
abbrev cJ13_fill_2 : ByteArray := prog_42_method_101_code
def yJ13_fill_2 : MethodName := ⟨RJ13, "fill", "([JJ)V"⟩
def dkwJ13_fill_2_0 : List UInt8 := [3, 62, 42, 190, 54, 4, 29, 21, 4, 162, 0, 13, 42, 29, 31, 80, 132, 3, 1, 167, 255, 243, 177]
abbrev dktJ13_fill_2_0 : List UInt8 := dkwJ13_fill_2_0 ++ []
theorem dksJ13_fill_2_0 : cJ13_fill_2.data.toList.drop 0 = dktJ13_fill_2_0 := by decide +kernel
theorem dJ13_fill_2_0 : decode cJ13_fill_2 0 = .ok (.iconst 0, 1) := dk_3 (dk_at dksJ13_fill_2_0 0 rfl rfl)
theorem dJ13_fill_2_1 : decode cJ13_fill_2 1 = .ok (.istore_n 3, 1) := dk_62 (dk_at dksJ13_fill_2_0 1 rfl rfl)
theorem dJ13_fill_2_2 : decode cJ13_fill_2 2 = .ok (.aload_n 0, 1) := dk_42 (dk_at dksJ13_fill_2_0 2 rfl rfl)
theorem dJ13_fill_2_3 : decode cJ13_fill_2 3 = .ok (.arraylength, 1) := dk_190 (dk_at dksJ13_fill_2_0 3 rfl rfl)
theorem dJ13_fill_2_4 : decode cJ13_fill_2 4 = .ok (.istore 4, 2) := dk_54 4 (dk_at dksJ13_fill_2_0 4 rfl rfl)
theorem dJ13_fill_2_6 : decode cJ13_fill_2 6 = .ok (.iload_n 3, 1) := dk_29 (dk_at dksJ13_fill_2_0 6 rfl rfl)
theorem dJ13_fill_2_7 : decode cJ13_fill_2 7 = .ok (.iload 4, 2) := dk_21 4 (dk_at dksJ13_fill_2_0 7 rfl rfl)
theorem dJ13_fill_2_9 : decode cJ13_fill_2 9 = .ok (.if_icmp .ge 13, 3) := dk_162 0 13 (dk_at dksJ13_fill_2_0 9 rfl rfl)
theorem dJ13_fill_2_12 : decode cJ13_fill_2 12 = .ok (.aload_n 0, 1) := dk_42 (dk_at dksJ13_fill_2_0 12 rfl rfl)
theorem dJ13_fill_2_13 : decode cJ13_fill_2 13 = .ok (.iload_n 3, 1) := dk_29 (dk_at dksJ13_fill_2_0 13 rfl rfl)
theorem dJ13_fill_2_14 : decode cJ13_fill_2 14 = .ok (.lload_n 1, 1) := dk_31 (dk_at dksJ13_fill_2_0 14 rfl rfl)
theorem dJ13_fill_2_15 : decode cJ13_fill_2 15 = .ok (.lastore, 1) := dk_80 (dk_at dksJ13_fill_2_0 15 rfl rfl)
theorem dJ13_fill_2_16 : decode cJ13_fill_2 16 = .ok (.iinc 3 1, 3) := dk_132 3 1 (dk_at dksJ13_fill_2_0 16 rfl rfl)
theorem dJ13_fill_2_19 : decode cJ13_fill_2 19 = .ok (.goto (-13), 3) := dk_167 255 243 (dk_at dksJ13_fill_2_0 19 rfl rfl)
theorem dJ13_fill_2_22 : decode cJ13_fill_2 22 = .ok (.return_, 1) := dk_177 (dk_at dksJ13_fill_2_0 22 rfl rfl)
theorem q172 : (Jvm.Cond.initialized "java/util/Arrays") ∈ lw_all := lw_g (lw_at lw_m1 28 rfl) rfl
theorem q1107 : (Jvm.Cond.static ({ cls := "java/util/Arrays", name := "copyOf", desc := "([Ljava/lang/Object;I)[Ljava/lang/Object;" } : Jvm.MethodName)) ∈ lw_all := lw_g (lw_at lw_m5 3 rfl) rfl
theorem q1108 : (Jvm.Cond.code ({ cls := "java/util/Arrays", name := "copyOf", desc := "([Ljava/lang/Object;I)[Ljava/lang/Object;" } : Jvm.MethodName) prog_42_method_119_code (2 : Nat) (Option.some (Jvm.ClassFile.FieldType.array (Jvm.ClassFile.FieldType.object "java/lang/Object")))) ∈ lw_all := lw_g (lw_at lw_m5 4 rfl) rfl
theorem q1109 : (Jvm.Cond.methodLink "java/util/Arrays" (86 : Nat) ({ cls := "java/lang/Object", name := "getClass", desc := "()Ljava/lang/Class;" } : Jvm.MethodName)) ∈ lw_all := lw_g (lw_at lw_m5 5 rfl) rfl
theorem q1133 : (Jvm.Cond.methodLink "java/util/Arrays" (300 : Nat) ({ cls := "java/util/Arrays", name := "copyOf", desc := "([Ljava/lang/Object;ILjava/lang/Class;)[Ljava/lang/Object;" } : Jvm.MethodName)) ∈ lw_all := lw_g (lw_at lw_m5 29 rfl) rfl
theorem q1134 : (Jvm.Cond.static ({ cls := "java/util/Arrays", name := "copyOf", desc := "([Ljava/lang/Object;ILjava/lang/Class;)[Ljava/lang/Object;" } : Jvm.MethodName)) ∈ lw_all := lw_g (lw_at lw_m5 30 rfl) rfl
theorem q1135 : (Jvm.Cond.code ({ cls := "java/util/Arrays", name := "copyOf", desc := "([Ljava/lang/Object;ILjava/lang/Class;)[Ljava/lang/Object;" } : Jvm.MethodName) prog_42_method_120_code (4 : Nat) (Option.some (Jvm.ClassFile.FieldType.array (Jvm.ClassFile.FieldType.object "java/lang/Object")))) ∈ lw_all := lw_g (lw_at lw_m5 31 rfl) rfl
theorem q1136 : (Jvm.Cond.classLink "java/util/Arrays" (110 : Nat) "[Ljava/lang/Object;") ∈ lw_all := lw_g (lw_at lw_m5 32 rfl) rfl
theorem q1137 : (Jvm.Cond.classLink "java/util/Arrays" (2 : Nat) "java/lang/Object") ∈ lw_all := lw_g (lw_at lw_m5 33 rfl) rfl
theorem q1138 : (Jvm.Cond.methodLink "java/util/Arrays" (304 : Nat) ({ cls := "java/lang/Math", name := "min", desc := "(II)I" } : Jvm.MethodName)) ∈ lw_all := lw_g (lw_at lw_m5 34 rfl) rfl
theorem q1139 : (Jvm.Cond.methodLink "java/util/Arrays" (150 : Nat) ({ cls := "java/lang/System", name := "arraycopy", desc := "(Ljava/lang/Object;ILjava/lang/Object;II)V" } : Jvm.MethodName)) ∈ lw_all := lw_g (lw_at lw_m5 35 rfl) rfl
theorem q1405 : (Jvm.Cond.static ({ cls := "java/util/Arrays", name := "fill", desc := "([II)V" } : Jvm.MethodName)) ∈ lw_all := lw_g (lw_at lw_m6 61 rfl) rfl
theorem q1406 : (Jvm.Cond.code ({ cls := "java/util/Arrays", name := "fill", desc := "([II)V" } : Jvm.MethodName) prog_42_method_103_code (4 : Nat) (Option.none : Option Jvm.ClassFile.FieldType)) ∈ lw_all := lw_g (lw_at lw_m6 62 rfl) rfl
theorem q1511 : (Jvm.Cond.static ({ cls := "java/util/Arrays", name := "fill", desc := "([JJ)V" } : Jvm.MethodName)) ∈ lw_all := lw_g (lw_at lw_m6 167 rfl) rfl
theorem q1512 : (Jvm.Cond.code ({ cls := "java/util/Arrays", name := "fill", desc := "([JJ)V" } : Jvm.MethodName) prog_42_method_101_code (5 : Nat) (Option.none : Option Jvm.ClassFile.FieldType)) ∈ lw_all := lw_g (lw_at lw_m6 168 rfl) rfl
/-! MoleBoard$Player -/
set_option maxRecDepth 100000
abbrev cX14_init : ByteArray := prog_11_method_1_code
def yX14_init : MethodName := ⟨RX14, "<init>", "()V"⟩
def dkwX14_init_0 : List UInt8 := [42, 183, 0, 3, 42, 8, 188, 10, 181, 0, 11, 177]
abbrev dktX14_init_0 : List UInt8 := dkwX14_init_0 ++ []
theorem dksX14_init_0 : cX14_init.data.toList.drop 0 = dktX14_init_0 := by decide +kernel
theorem dX14_init_0 : decode cX14_init 0 = .ok (.aload_n 0, 1) := dk_42 (dk_at dksX14_init_0 0 rfl rfl)
theorem dX14_init_1 : decode cX14_init 1 = .ok (.invokespecial 3, 3) := dk_183 0 3 (dk_at dksX14_init_0 1 rfl rfl)
theorem dX14_init_4 : decode cX14_init 4 = .ok (.aload_n 0, 1) := dk_42 (dk_at dksX14_init_0 4 rfl rfl)
theorem dX14_init_5 : decode cX14_init 5 = .ok (.iconst 5, 1) := dk_8 (dk_at dksX14_init_0 5 rfl rfl)
theorem dX14_init_6 : decode cX14_init 6 = .ok (.newarray .int, 2) := dk_188_10 (dk_at dksX14_init_0 6 rfl rfl)
theorem dX14_init_8 : decode cX14_init 8 = .ok (.putfield 11, 3) := dk_181 0 11 (dk_at dksX14_init_0 8 rfl rfl)
theorem dX14_init_11 : decode cX14_init 11 = .ok (.return_, 1) := dk_177 (dk_at dksX14_init_0 11 rfl rfl)
abbrev cX14_pace : ByteArray := prog_11_method_3_code
def yX14_pace : MethodName := ⟨RX14, "pace", "(I)I"⟩
def dkwX14_pace_1 : List UInt8 := [5, 46, 108, 96, 172]
abbrev dktX14_pace_1 : List UInt8 := dkwX14_pace_1 ++ []
def dkwX14_pace_0 : List UInt8 := [42, 180, 0, 11, 3, 46, 42, 180, 0, 11, 5, 46, 154, 0, 7, 3, 167, 0, 11, 27, 42, 180, 0, 11]
abbrev dktX14_pace_0 : List UInt8 := dkwX14_pace_0 ++ dktX14_pace_1
theorem dksX14_pace_0 : cX14_pace.data.toList.drop 0 = dktX14_pace_0 := by decide +kernel
theorem dksX14_pace_1 : cX14_pace.data.toList.drop 24 = dktX14_pace_1 := dk_seg dksX14_pace_0 24 rfl rfl
theorem dX14_pace_0 : decode cX14_pace 0 = .ok (.aload_n 0, 1) := dk_42 (dk_at dksX14_pace_0 0 rfl rfl)
theorem dX14_pace_1 : decode cX14_pace 1 = .ok (.getfield 11, 3) := dk_180 0 11 (dk_at dksX14_pace_0 1 rfl rfl)
theorem dX14_pace_4 : decode cX14_pace 4 = .ok (.iconst 0, 1) := dk_3 (dk_at dksX14_pace_0 4 rfl rfl)
theorem dX14_pace_5 : decode cX14_pace 5 = .ok (.iaload, 1) := dk_46 (dk_at dksX14_pace_0 5 rfl rfl)
theorem dX14_pace_6 : decode cX14_pace 6 = .ok (.aload_n 0, 1) := dk_42 (dk_at dksX14_pace_0 6 rfl rfl)
theorem dX14_pace_7 : decode cX14_pace 7 = .ok (.getfield 11, 3) := dk_180 0 11 (dk_at dksX14_pace_0 7 rfl rfl)
theorem dX14_pace_10 : decode cX14_pace 10 = .ok (.iconst 2, 1) := dk_5 (dk_at dksX14_pace_0 10 rfl rfl)
theorem dX14_pace_11 : decode cX14_pace 11 = .ok (.iaload, 1) := dk_46 (dk_at dksX14_pace_0 11 rfl rfl)
theorem dX14_pace_12 : decode cX14_pace 12 = .ok (.ifCond .ne 7, 3) := dk_154 0 7 (dk_at dksX14_pace_0 12 rfl rfl)
theorem dX14_pace_15 : decode cX14_pace 15 = .ok (.iconst 0, 1) := dk_3 (dk_at dksX14_pace_0 15 rfl rfl)
theorem dX14_pace_16 : decode cX14_pace 16 = .ok (.goto 11, 3) := dk_167 0 11 (dk_at dksX14_pace_0 16 rfl rfl)
theorem dX14_pace_19 : decode cX14_pace 19 = .ok (.iload_n 1, 1) := dk_27 (dk_at dksX14_pace_0 19 rfl rfl)
theorem dX14_pace_20 : decode cX14_pace 20 = .ok (.aload_n 0, 1) := dk_42 (dk_at dksX14_pace_0 20 rfl rfl)
theorem dX14_pace_21 : decode cX14_pace 21 = .ok (.getfield 11, 3) := dk_180 0 11 (dk_at dksX14_pace_0 21 rfl rfl)
theorem dX14_pace_24 : decode cX14_pace 24 = .ok (.iconst 2, 1) := dk_5 (dk_at dksX14_pace_1 0 rfl rfl)
theorem dX14_pace_25 : decode cX14_pace 25 = .ok (.iaload, 1) := dk_46 (dk_at dksX14_pace_1 1 rfl rfl)
theorem dX14_pace_26 : decode cX14_pace 26 = .ok (.idiv, 1) := dk_108 (dk_at dksX14_pace_1 2 rfl rfl)
theorem dX14_pace_27 : decode cX14_pace 27 = .ok (.iadd, 1) := dk_96 (dk_at dksX14_pace_1 3 rfl rfl)
theorem dX14_pace_28 : decode cX14_pace 28 = .ok (.ireturn, 1) := dk_172 (dk_at dksX14_pace_1 4 rfl rfl)
abbrev cX14_high : ByteArray := prog_11_method_2_code
def yX14_high : MethodName := ⟨RX14, "high", "(I)I"⟩
def dkwX14_high_1 : List UInt8 := [16, 99, 167, 0, 5, 16, 9, 172]
abbrev dktX14_high_1 : List UInt8 := dkwX14_high_1 ++ []
def dkwX14_high_0 : List UInt8 := [26, 154, 0, 8, 16, 9, 167, 0, 25, 26, 4, 160, 0, 8, 16, 20, 167, 0, 15, 26, 5, 160, 0, 8]
abbrev dktX14_high_0 : List UInt8 := dkwX14_high_0 ++ dktX14_high_1
theorem dksX14_high_0 : cX14_high.data.toList.drop 0 = dktX14_high_0 := by decide +kernel
theorem dksX14_high_1 : cX14_high.data.toList.drop 24 = dktX14_high_1 := dk_seg dksX14_high_0 24 rfl rfl
theorem dX14_high_0 : decode cX14_high 0 = .ok (.iload_n 0, 1) := dk_26 (dk_at dksX14_high_0 0 rfl rfl)
theorem dX14_high_1 : decode cX14_high 1 = .ok (.ifCond .ne 8, 3) := dk_154 0 8 (dk_at dksX14_high_0 1 rfl rfl)
theorem dX14_high_4 : decode cX14_high 4 = .ok (.bipush 9, 2) := dk_16 9 (dk_at dksX14_high_0 4 rfl rfl)
theorem dX14_high_6 : decode cX14_high 6 = .ok (.goto 25, 3) := dk_167 0 25 (dk_at dksX14_high_0 6 rfl rfl)
theorem dX14_high_9 : decode cX14_high 9 = .ok (.iload_n 0, 1) := dk_26 (dk_at dksX14_high_0 9 rfl rfl)
theorem dX14_high_10 : decode cX14_high 10 = .ok (.iconst 1, 1) := dk_4 (dk_at dksX14_high_0 10 rfl rfl)
theorem dX14_high_11 : decode cX14_high 11 = .ok (.if_icmp .ne 8, 3) := dk_160 0 8 (dk_at dksX14_high_0 11 rfl rfl)
theorem dX14_high_14 : decode cX14_high 14 = .ok (.bipush 20, 2) := dk_16 20 (dk_at dksX14_high_0 14 rfl rfl)
theorem dX14_high_16 : decode cX14_high 16 = .ok (.goto 15, 3) := dk_167 0 15 (dk_at dksX14_high_0 16 rfl rfl)
theorem dX14_high_19 : decode cX14_high 19 = .ok (.iload_n 0, 1) := dk_26 (dk_at dksX14_high_0 19 rfl rfl)
theorem dX14_high_20 : decode cX14_high 20 = .ok (.iconst 2, 1) := dk_5 (dk_at dksX14_high_0 20 rfl rfl)
theorem dX14_high_21 : decode cX14_high 21 = .ok (.if_icmp .ne 8, 3) := dk_160 0 8 (dk_at dksX14_high_0 21 rfl rfl)
theorem dX14_high_24 : decode cX14_high 24 = .ok (.bipush 99, 2) := dk_16 99 (dk_at dksX14_high_1 0 rfl rfl)
theorem dX14_high_26 : decode cX14_high 26 = .ok (.goto 5, 3) := dk_167 0 5 (dk_at dksX14_high_1 2 rfl rfl)
theorem dX14_high_29 : decode cX14_high 29 = .ok (.bipush 9, 2) := dk_16 9 (dk_at dksX14_high_1 5 rfl rfl)
theorem dX14_high_31 : decode cX14_high 31 = .ok (.ireturn, 1) := dk_172 (dk_at dksX14_high_1 7 rfl rfl)
abbrev cX14_same : ByteArray := prog_11_method_4_code
def yX14_same : MethodName := ⟨RX14, "same", "()LMoleBoard$Player;"⟩
def dkwX14_same_0 : List UInt8 := [187, 0, 9, 89, 183, 0, 15, 76, 42, 180, 0, 11, 3, 43, 180, 0, 11, 3, 8, 184, 0, 16, 43, 176]
abbrev dktX14_same_0 : List UInt8 := dkwX14_same_0 ++ []
theorem dksX14_same_0 : cX14_same.data.toList.drop 0 = dktX14_same_0 := by decide +kernel
theorem dX14_same_0 : decode cX14_same 0 = .ok (.new 9, 3) := dk_187 0 9 (dk_at dksX14_same_0 0 rfl rfl)
theorem dX14_same_3 : decode cX14_same 3 = .ok (.dup, 1) := dk_89 (dk_at dksX14_same_0 3 rfl rfl)
theorem dX14_same_4 : decode cX14_same 4 = .ok (.invokespecial 15, 3) := dk_183 0 15 (dk_at dksX14_same_0 4 rfl rfl)
theorem dX14_same_7 : decode cX14_same 7 = .ok (.astore_n 1, 1) := dk_76 (dk_at dksX14_same_0 7 rfl rfl)
theorem dX14_same_8 : decode cX14_same 8 = .ok (.aload_n 0, 1) := dk_42 (dk_at dksX14_same_0 8 rfl rfl)
theorem dX14_same_9 : decode cX14_same 9 = .ok (.getfield 11, 3) := dk_180 0 11 (dk_at dksX14_same_0 9 rfl rfl)
theorem dX14_same_12 : decode cX14_same 12 = .ok (.iconst 0, 1) := dk_3 (dk_at dksX14_same_0 12 rfl rfl)
theorem dX14_same_13 : decode cX14_same 13 = .ok (.aload_n 1, 1) := dk_43 (dk_at dksX14_same_0 13 rfl rfl)
theorem dX14_same_14 : decode cX14_same 14 = .ok (.getfield 11, 3) := dk_180 0 11 (dk_at dksX14_same_0 14 rfl rfl)
theorem dX14_same_17 : decode cX14_same 17 = .ok (.iconst 0, 1) := dk_3 (dk_at dksX14_same_0 17 rfl rfl)
theorem dX14_same_18 : decode cX14_same 18 = .ok (.iconst 5, 1) := dk_8 (dk_at dksX14_same_0 18 rfl rfl)
theorem dX14_same_19 : decode cX14_same 19 = .ok (.invokestatic 16, 3) := dk_184 0 16 (dk_at dksX14_same_0 19 rfl rfl)
theorem dX14_same_22 : decode cX14_same 22 = .ok (.aload_n 1, 1) := dk_43 (dk_at dksX14_same_0 22 rfl rfl)
theorem dX14_same_23 : decode cX14_same 23 = .ok (.areturn, 1) := dk_176 (dk_at dksX14_same_0 23 rfl rfl)
theorem q174 : (Jvm.Cond.initialized "MoleBoard$Player") ∈ lw_all := lw_g (lw_at lw_m1 30 rfl) rfl
theorem q1121 : (Jvm.Cond.selects "MoleBoard$Player" ({ cls := "java/lang/Object", name := "getClass", desc := "()Ljava/lang/Class;" } : Jvm.MethodName) ({ cls := "java/lang/Object", name := "getClass", desc := "()Ljava/lang/Class;" } : Jvm.MethodName)) ∈ lw_all := lw_g (lw_at lw_m5 17 rfl) rfl
theorem q1147 : (Jvm.Cond.instantiable "MoleBoard$Player" (1 : Nat)) ∈ lw_all := lw_g (lw_at lw_m5 43 rfl) rfl
theorem q1149 : (Jvm.Cond.instanceMethod ({ cls := "MoleBoard$Player", name := "<init>", desc := "()V" } : Jvm.MethodName)) ∈ lw_all := lw_g (lw_at lw_m5 45 rfl) rfl
theorem q1150 : (Jvm.Cond.code ({ cls := "MoleBoard$Player", name := "<init>", desc := "()V" } : Jvm.MethodName) prog_11_method_1_code (1 : Nat) (Option.none : Option Jvm.ClassFile.FieldType)) ∈ lw_all := lw_g (lw_at lw_m5 46 rfl) rfl
theorem q1151 : (Jvm.Cond.methodLink "MoleBoard$Player" (3 : Nat) ({ cls := "java/lang/Object", name := "<init>", desc := "()V" } : Jvm.MethodName)) ∈ lw_all := lw_g (lw_at lw_m5 47 rfl) rfl
theorem q1152 : (Jvm.Cond.fieldLink "MoleBoard$Player" (11 : Nat) "MoleBoard$Player" "is" "[I") ∈ lw_all := lw_g (lw_at lw_m5 48 rfl) rfl
theorem q1157 : (Jvm.Cond.laysFinal "MoleBoard$Player" "MoleBoard$Player" "is" "[I") ∈ lw_all := lw_g (lw_at lw_m5 53 rfl) rfl
theorem q1158 : (Jvm.Cond.soleField "MoleBoard$Player" "is") ∈ lw_all := lw_g (lw_at lw_m5 54 rfl) rfl
theorem q1159 : (Jvm.Cond.superclass "MoleBoard$Player" "java/lang/Object") ∈ lw_all := lw_g (lw_at lw_m5 55 rfl) rfl
theorem q1335 : (Jvm.Cond.instanceMethod ({ cls := "MoleBoard$Player", name := "pace", desc := "(I)I" } : Jvm.MethodName)) ∈ lw_all := lw_g (lw_at lw_m5 231 rfl) rfl
theorem q1336 : (Jvm.Cond.selects "MoleBoard$Player" ({ cls := "MoleBoard$Player", name := "pace", desc := "(I)I" } : Jvm.MethodName) ({ cls := "MoleBoard$Player", name := "pace", desc := "(I)I" } : Jvm.MethodName)) ∈ lw_all := lw_g (lw_at lw_m5 232 rfl) rfl
theorem q1337 : (Jvm.Cond.code ({ cls := "MoleBoard$Player", name := "pace", desc := "(I)I" } : Jvm.MethodName) prog_11_method_3_code (2 : Nat) (Option.some Jvm.ClassFile.FieldType.int)) ∈ lw_all := lw_g (lw_at lw_m5 233 rfl) rfl
theorem q1765 : (Jvm.Cond.static ({ cls := "MoleBoard$Player", name := "high", desc := "(I)I" } : Jvm.MethodName)) ∈ lw_all := lw_g (lw_at lw_m7 181 rfl) rfl
theorem q1766 : (Jvm.Cond.code ({ cls := "MoleBoard$Player", name := "high", desc := "(I)I" } : Jvm.MethodName) prog_11_method_2_code (1 : Nat) (Option.some Jvm.ClassFile.FieldType.int)) ∈ lw_all := lw_g (lw_at lw_m7 182 rfl) rfl
theorem q1815 : (Jvm.Cond.instanceMethod ({ cls := "MoleBoard$Player", name := "same", desc := "()LMoleBoard$Player;" } : Jvm.MethodName)) ∈ lw_all := lw_g (lw_at lw_m7 231 rfl) rfl
theorem q1816 : (Jvm.Cond.selects "MoleBoard$Player" ({ cls := "MoleBoard$Player", name := "same", desc := "()LMoleBoard$Player;" } : Jvm.MethodName) ({ cls := "MoleBoard$Player", name := "same", desc := "()LMoleBoard$Player;" } : Jvm.MethodName)) ∈ lw_all := lw_g (lw_at lw_m7 232 rfl) rfl
theorem q1817 : (Jvm.Cond.code ({ cls := "MoleBoard$Player", name := "same", desc := "()LMoleBoard$Player;" } : Jvm.MethodName) prog_11_method_4_code (2 : Nat) (Option.some (Jvm.ClassFile.FieldType.object "MoleBoard$Player"))) ∈ lw_all := lw_g (lw_at lw_m7 233 rfl) rfl
theorem q1818 : (Jvm.Cond.classLink "MoleBoard$Player" (9 : Nat) "MoleBoard$Player") ∈ lw_all := lw_g (lw_at lw_m7 234 rfl) rfl
theorem q1819 : (Jvm.Cond.methodLink "MoleBoard$Player" (15 : Nat) ({ cls := "MoleBoard$Player", name := "<init>", desc := "()V" } : Jvm.MethodName)) ∈ lw_all := lw_g (lw_at lw_m7 235 rfl) rfl
theorem q1820 : (Jvm.Cond.methodLink "MoleBoard$Player" (16 : Nat) ({ cls := "java/lang/System", name := "arraycopy", desc := "(Ljava/lang/Object;ILjava/lang/Object;II)V" } : Jvm.MethodName)) ∈ lw_all := lw_g (lw_at lw_m7 236 rfl) rfl
theorem q2671 : (Jvm.Cond.castable "MoleBoard$Player" "java/lang/Object") ∈ lw_tbl := lw_at lw_m11 127 rfl
/-! java/util/Objects -/
set_option maxRecDepth 100000
abbrev cJ14_checkIndex : ByteArray := prog_46_method_17_code
def yJ14_checkIndex : MethodName := ⟨RJ14, "checkIndex", "(II)I"⟩
def dkwJ14_checkIndex_0 : List UInt8 := [26, 27, 1, 184, 0, 105, 172]
abbrev dktJ14_checkIndex_0 : List UInt8 := dkwJ14_checkIndex_0 ++ []
theorem dksJ14_checkIndex_0 : cJ14_checkIndex.data.toList.drop 0 = dktJ14_checkIndex_0 := by decide +kernel
theorem dJ14_checkIndex_0 : decode cJ14_checkIndex 0 = .ok (.iload_n 0, 1) := dk_26 (dk_at dksJ14_checkIndex_0 0 rfl rfl)
theorem dJ14_checkIndex_1 : decode cJ14_checkIndex 1 = .ok (.iload_n 1, 1) := dk_27 (dk_at dksJ14_checkIndex_0 1 rfl rfl)
theorem dJ14_checkIndex_2 : decode cJ14_checkIndex 2 = .ok (.aconst_null, 1) := dk_1 (dk_at dksJ14_checkIndex_0 2 rfl rfl)
theorem dJ14_checkIndex_3 : decode cJ14_checkIndex 3 = .ok (.invokestatic 105, 3) := dk_184 0 105 (dk_at dksJ14_checkIndex_0 3 rfl rfl)
theorem dJ14_checkIndex_6 : decode cJ14_checkIndex 6 = .ok (.ireturn, 1) := dk_172 (dk_at dksJ14_checkIndex_0 6 rfl rfl)
theorem q175 : (Jvm.Cond.initialized "java/util/Objects") ∈ lw_all := lw_g (lw_at lw_m1 31 rfl) rfl
theorem q1204 : (Jvm.Cond.static ({ cls := "java/util/Objects", name := "checkIndex", desc := "(II)I" } : Jvm.MethodName)) ∈ lw_all := lw_g (lw_at lw_m5 100 rfl) rfl
theorem q1205 : (Jvm.Cond.code ({ cls := "java/util/Objects", name := "checkIndex", desc := "(II)I" } : Jvm.MethodName) prog_46_method_17_code (2 : Nat) (Option.some Jvm.ClassFile.FieldType.int)) ∈ lw_all := lw_g (lw_at lw_m5 101 rfl) rfl
theorem q1206 : (Jvm.Cond.methodLink "java/util/Objects" (105 : Nat) ({ cls := "jdk/internal/util/Preconditions", name := "checkIndex", desc := "(IILjava/util/function/BiFunction;)I" } : Jvm.MethodName)) ∈ lw_all := lw_g (lw_at lw_m5 102 rfl) rfl
/-! java/lang/Integer -/
set_option maxRecDepth 100000
abbrev cJ15_bitCount : ByteArray := prog_25_method_49_code
def yJ15_bitCount : MethodName := ⟨RJ15, "bitCount", "(I)I"⟩
def dkwJ15_bitCount_2 : List UInt8 := [26, 16, 63, 126, 172]
abbrev dktJ15_bitCount_2 : List UInt8 := dkwJ15_bitCount_2 ++ []
def dkwJ15_bitCount_1 : List UInt8 := [26, 26, 7, 124, 96, 19, 1, 11, 126, 59, 26, 26, 16, 8, 124, 96, 59, 26, 26, 16, 16, 124, 96, 59]
abbrev dktJ15_bitCount_1 : List UInt8 := dkwJ15_bitCount_1 ++ dktJ15_bitCount_2
def dkwJ15_bitCount_0 : List UInt8 := [26, 26, 4, 124, 19, 1, 9, 126, 100, 59, 26, 19, 1, 10, 126, 26, 5, 124, 19, 1, 10, 126, 96, 59]
abbrev dktJ15_bitCount_0 : List UInt8 := dkwJ15_bitCount_0 ++ dktJ15_bitCount_1
theorem dksJ15_bitCount_0 : cJ15_bitCount.data.toList.drop 0 = dktJ15_bitCount_0 := by decide +kernel
theorem dksJ15_bitCount_1 : cJ15_bitCount.data.toList.drop 24 = dktJ15_bitCount_1 := dk_seg dksJ15_bitCount_0 24 rfl rfl
theorem dksJ15_bitCount_2 : cJ15_bitCount.data.toList.drop 48 = dktJ15_bitCount_2 := dk_seg dksJ15_bitCount_1 24 rfl rfl
theorem dJ15_bitCount_0 : decode cJ15_bitCount 0 = .ok (.iload_n 0, 1) := dk_26 (dk_at dksJ15_bitCount_0 0 rfl rfl)
theorem dJ15_bitCount_1 : decode cJ15_bitCount 1 = .ok (.iload_n 0, 1) := dk_26 (dk_at dksJ15_bitCount_0 1 rfl rfl)
theorem dJ15_bitCount_2 : decode cJ15_bitCount 2 = .ok (.iconst 1, 1) := dk_4 (dk_at dksJ15_bitCount_0 2 rfl rfl)
theorem dJ15_bitCount_3 : decode cJ15_bitCount 3 = .ok (.iushr, 1) := dk_124 (dk_at dksJ15_bitCount_0 3 rfl rfl)
theorem dJ15_bitCount_4 : decode cJ15_bitCount 4 = .ok (.ldc_w 265, 3) := dk_19 1 9 (dk_at dksJ15_bitCount_0 4 rfl rfl)
theorem dJ15_bitCount_7 : decode cJ15_bitCount 7 = .ok (.iand, 1) := dk_126 (dk_at dksJ15_bitCount_0 7 rfl rfl)
theorem dJ15_bitCount_8 : decode cJ15_bitCount 8 = .ok (.isub, 1) := dk_100 (dk_at dksJ15_bitCount_0 8 rfl rfl)
theorem dJ15_bitCount_9 : decode cJ15_bitCount 9 = .ok (.istore_n 0, 1) := dk_59 (dk_at dksJ15_bitCount_0 9 rfl rfl)
theorem dJ15_bitCount_10 : decode cJ15_bitCount 10 = .ok (.iload_n 0, 1) := dk_26 (dk_at dksJ15_bitCount_0 10 rfl rfl)
theorem dJ15_bitCount_11 : decode cJ15_bitCount 11 = .ok (.ldc_w 266, 3) := dk_19 1 10 (dk_at dksJ15_bitCount_0 11 rfl rfl)
theorem dJ15_bitCount_14 : decode cJ15_bitCount 14 = .ok (.iand, 1) := dk_126 (dk_at dksJ15_bitCount_0 14 rfl rfl)
theorem dJ15_bitCount_15 : decode cJ15_bitCount 15 = .ok (.iload_n 0, 1) := dk_26 (dk_at dksJ15_bitCount_0 15 rfl rfl)
theorem dJ15_bitCount_16 : decode cJ15_bitCount 16 = .ok (.iconst 2, 1) := dk_5 (dk_at dksJ15_bitCount_0 16 rfl rfl)
theorem dJ15_bitCount_17 : decode cJ15_bitCount 17 = .ok (.iushr, 1) := dk_124 (dk_at dksJ15_bitCount_0 17 rfl rfl)
theorem dJ15_bitCount_18 : decode cJ15_bitCount 18 = .ok (.ldc_w 266, 3) := dk_19 1 10 (dk_at dksJ15_bitCount_0 18 rfl rfl)
theorem dJ15_bitCount_21 : decode cJ15_bitCount 21 = .ok (.iand, 1) := dk_126 (dk_at dksJ15_bitCount_0 21 rfl rfl)
theorem dJ15_bitCount_22 : decode cJ15_bitCount 22 = .ok (.iadd, 1) := dk_96 (dk_at dksJ15_bitCount_0 22 rfl rfl)
theorem dJ15_bitCount_23 : decode cJ15_bitCount 23 = .ok (.istore_n 0, 1) := dk_59 (dk_at dksJ15_bitCount_0 23 rfl rfl)
theorem dJ15_bitCount_24 : decode cJ15_bitCount 24 = .ok (.iload_n 0, 1) := dk_26 (dk_at dksJ15_bitCount_1 0 rfl rfl)
theorem dJ15_bitCount_25 : decode cJ15_bitCount 25 = .ok (.iload_n 0, 1) := dk_26 (dk_at dksJ15_bitCount_1 1 rfl rfl)
theorem dJ15_bitCount_26 : decode cJ15_bitCount 26 = .ok (.iconst 4, 1) := dk_7 (dk_at dksJ15_bitCount_1 2 rfl rfl)
theorem dJ15_bitCount_27 : decode cJ15_bitCount 27 = .ok (.iushr, 1) := dk_124 (dk_at dksJ15_bitCount_1 3 rfl rfl)
theorem dJ15_bitCount_28 : decode cJ15_bitCount 28 = .ok (.iadd, 1) := dk_96 (dk_at dksJ15_bitCount_1 4 rfl rfl)
theorem dJ15_bitCount_29 : decode cJ15_bitCount 29 = .ok (.ldc_w 267, 3) := dk_19 1 11 (dk_at dksJ15_bitCount_1 5 rfl rfl)
theorem dJ15_bitCount_32 : decode cJ15_bitCount 32 = .ok (.iand, 1) := dk_126 (dk_at dksJ15_bitCount_1 8 rfl rfl)
theorem dJ15_bitCount_33 : decode cJ15_bitCount 33 = .ok (.istore_n 0, 1) := dk_59 (dk_at dksJ15_bitCount_1 9 rfl rfl)
theorem dJ15_bitCount_34 : decode cJ15_bitCount 34 = .ok (.iload_n 0, 1) := dk_26 (dk_at dksJ15_bitCount_1 10 rfl rfl)
theorem dJ15_bitCount_35 : decode cJ15_bitCount 35 = .ok (.iload_n 0, 1) := dk_26 (dk_at dksJ15_bitCount_1 11 rfl rfl)
theorem dJ15_bitCount_36 : decode cJ15_bitCount 36 = .ok (.bipush 8, 2) := dk_16 8 (dk_at dksJ15_bitCount_1 12 rfl rfl)
theorem dJ15_bitCount_38 : decode cJ15_bitCount 38 = .ok (.iushr, 1) := dk_124 (dk_at dksJ15_bitCount_1 14 rfl rfl)
theorem dJ15_bitCount_39 : decode cJ15_bitCount 39 = .ok (.iadd, 1) := dk_96 (dk_at dksJ15_bitCount_1 15 rfl rfl)
theorem dJ15_bitCount_40 : decode cJ15_bitCount 40 = .ok (.istore_n 0, 1) := dk_59 (dk_at dksJ15_bitCount_1 16 rfl rfl)
theorem dJ15_bitCount_41 : decode cJ15_bitCount 41 = .ok (.iload_n 0, 1) := dk_26 (dk_at dksJ15_bitCount_1 17 rfl rfl)
theorem dJ15_bitCount_42 : decode cJ15_bitCount 42 = .ok (.iload_n 0, 1) := dk_26 (dk_at dksJ15_bitCount_1 18 rfl rfl)
theorem dJ15_bitCount_43 : decode cJ15_bitCount 43 = .ok (.bipush 16, 2) := dk_16 16 (dk_at dksJ15_bitCount_1 19 rfl rfl)
theorem dJ15_bitCount_45 : decode cJ15_bitCount 45 = .ok (.iushr, 1) := dk_124 (dk_at dksJ15_bitCount_1 21 rfl rfl)
theorem dJ15_bitCount_46 : decode cJ15_bitCount 46 = .ok (.iadd, 1) := dk_96 (dk_at dksJ15_bitCount_1 22 rfl rfl)
theorem dJ15_bitCount_47 : decode cJ15_bitCount 47 = .ok (.istore_n 0, 1) := dk_59 (dk_at dksJ15_bitCount_1 23 rfl rfl)
theorem dJ15_bitCount_48 : decode cJ15_bitCount 48 = .ok (.iload_n 0, 1) := dk_26 (dk_at dksJ15_bitCount_2 0 rfl rfl)
theorem dJ15_bitCount_49 : decode cJ15_bitCount 49 = .ok (.bipush 63, 2) := dk_16 63 (dk_at dksJ15_bitCount_2 1 rfl rfl)
theorem dJ15_bitCount_51 : decode cJ15_bitCount 51 = .ok (.iand, 1) := dk_126 (dk_at dksJ15_bitCount_2 3 rfl rfl)
theorem dJ15_bitCount_52 : decode cJ15_bitCount 52 = .ok (.ireturn, 1) := dk_172 (dk_at dksJ15_bitCount_2 4 rfl rfl)
theorem q176 : (Jvm.Cond.initialized "java/lang/Integer") ∈ lw_all := lw_g (lw_at lw_m1 32 rfl) rfl
theorem q1485 : (Jvm.Cond.static ({ cls := "java/lang/Integer", name := "bitCount", desc := "(I)I" } : Jvm.MethodName)) ∈ lw_all := lw_g (lw_at lw_m6 141 rfl) rfl
theorem q1486 : (Jvm.Cond.code ({ cls := "java/lang/Integer", name := "bitCount", desc := "(I)I" } : Jvm.MethodName) prog_25_method_49_code (1 : Nat) (Option.some Jvm.ClassFile.FieldType.int)) ∈ lw_all := lw_g (lw_at lw_m6 142 rfl) rfl
theorem q1487 : (Jvm.Cond.constant "java/lang/Integer" (265 : Nat) (1431655765 : Int32)) ∈ lw_all := lw_g (lw_at lw_m6 143 rfl) rfl
theorem q1488 : (Jvm.Cond.constant "java/lang/Integer" (266 : Nat) (858993459 : Int32)) ∈ lw_all := lw_g (lw_at lw_m6 144 rfl) rfl
theorem q1489 : (Jvm.Cond.constant "java/lang/Integer" (267 : Nat) (252645135 : Int32)) ∈ lw_all := lw_g (lw_at lw_m6 145 rfl) rfl
/-! java/lang/NegativeArraySizeException -/
set_option maxRecDepth 100000
abbrev cJ16_init : ByteArray := prog_28_method_2_code
def yJ16_init : MethodName := ⟨RJ16, "<init>", "(Ljava/lang/String;)V"⟩
def dkwJ16_init_0 : List UInt8 := [42, 43, 183, 0, 7, 177]
abbrev dktJ16_init_0 : List UInt8 := dkwJ16_init_0 ++ []
theorem dksJ16_init_0 : cJ16_init.data.toList.drop 0 = dktJ16_init_0 := by decide +kernel
theorem dJ16_init_0 : decode cJ16_init 0 = .ok (.aload_n 0, 1) := dk_42 (dk_at dksJ16_init_0 0 rfl rfl)
theorem dJ16_init_1 : decode cJ16_init 1 = .ok (.aload_n 1, 1) := dk_43 (dk_at dksJ16_init_0 1 rfl rfl)
theorem dJ16_init_2 : decode cJ16_init 2 = .ok (.invokespecial 7, 3) := dk_183 0 7 (dk_at dksJ16_init_0 2 rfl rfl)
theorem dJ16_init_5 : decode cJ16_init 5 = .ok (.return_, 1) := dk_177 (dk_at dksJ16_init_0 5 rfl rfl)
theorem q177 : (Jvm.Cond.initialized "java/lang/NegativeArraySizeException") ∈ lw_all := lw_g (lw_at lw_m1 33 rfl) rfl
theorem q198 : (Jvm.Cond.instantiable "java/lang/NegativeArraySizeException" (6 : Nat)) ∈ lw_all := lw_g (lw_at lw_m1 54 rfl) rfl
theorem q199 : (Jvm.Cond.instanceMethod ({ cls := "java/lang/NegativeArraySizeException", name := "<init>", desc := "(Ljava/lang/String;)V" } : Jvm.MethodName)) ∈ lw_all := lw_g (lw_at lw_m1 55 rfl) rfl
theorem q200 : (Jvm.Cond.code ({ cls := "java/lang/NegativeArraySizeException", name := "<init>", desc := "(Ljava/lang/String;)V" } : Jvm.MethodName) prog_28_method_2_code (2 : Nat) (Option.none : Option Jvm.ClassFile.FieldType)) ∈ lw_all := lw_g (lw_at lw_m1 56 rfl) rfl
theorem q201 : (Jvm.Cond.methodLink "java/lang/NegativeArraySizeException" (7 : Nat) ({ cls := "java/lang/RuntimeException", name := "<init>", desc := "(Ljava/lang/String;)V" } : Jvm.MethodName)) ∈ lw_all := lw_g (lw_at lw_m1 57 rfl) rfl
theorem q223 : (Jvm.Cond.selects "java/lang/NegativeArraySizeException" ({ cls := "java/lang/Throwable", name := "fillInStackTrace", desc := "()Ljava/lang/Throwable;" } : Jvm.MethodName) ({ cls := "java/lang/Throwable", name := "fillInStackTrace", desc := "()Ljava/lang/Throwable;" } : Jvm.MethodName)) ∈ lw_all := lw_g (lw_at lw_m1 79 rfl) rfl
theorem q249 : (Jvm.Cond.lays "java/lang/NegativeArraySizeException" "java/lang/Throwable" "backtrace" "Ljava/lang/Object;") ∈ lw_all := lw_g (lw_at lw_m1 105 rfl) rfl
theorem q251 : (Jvm.Cond.lays "java/lang/NegativeArraySizeException" "java/lang/Throwable" "detailMessage" "Ljava/lang/String;") ∈ lw_all := lw_g (lw_at lw_m1 107 rfl) rfl
theorem q253 : (Jvm.Cond.lays "java/lang/NegativeArraySizeException" "java/lang/Throwable" "cause" "Ljava/lang/Throwable;") ∈ lw_all := lw_g (lw_at lw_m1 109 rfl) rfl
theorem q255 : (Jvm.Cond.lays "java/lang/NegativeArraySizeException" "java/lang/Throwable" "stackTrace" "[Ljava/lang/StackTraceElement;") ∈ lw_all := lw_g (lw_at lw_m1 111 rfl) rfl
theorem q257 : (Jvm.Cond.lays "java/lang/NegativeArraySizeException" "java/lang/Throwable" "depth" "I") ∈ lw_all := lw_g (lw_at lw_m1 113 rfl) rfl
theorem q259 : (Jvm.Cond.lays "java/lang/NegativeArraySizeException" "java/lang/Throwable" "suppressedExceptions" "Ljava/util/List;") ∈ lw_all := lw_g (lw_at lw_m1 115 rfl) rfl
theorem q261 : (Jvm.Cond.superclass "java/lang/NegativeArraySizeException" "java/lang/RuntimeException") ∈ lw_all := lw_g (lw_at lw_m1 117 rfl) rfl
theorem q262 : (Jvm.Cond.castable "java/lang/NegativeArraySizeException" "java/lang/NegativeArraySizeException") ∈ lw_tbl := lw_at lw_m1 118 rfl
theorem q269 : (Jvm.Cond.selects "java/lang/NegativeArraySizeException" ({ cls := "java/lang/Throwable", name := "fillInStackTrace", desc := "(I)Ljava/lang/Throwable;" } : Jvm.MethodName) ({ cls := "java/lang/Throwable", name := "fillInStackTrace", desc := "(I)Ljava/lang/Throwable;" } : Jvm.MethodName)) ∈ lw_all := lw_g (lw_at lw_m1 125 rfl) rfl
theorem q1128 : (Jvm.Cond.selects "java/lang/NegativeArraySizeException" ({ cls := "java/lang/Object", name := "getClass", desc := "()Ljava/lang/Class;" } : Jvm.MethodName) ({ cls := "java/lang/Object", name := "getClass", desc := "()Ljava/lang/Class;" } : Jvm.MethodName)) ∈ lw_all := lw_g (lw_at lw_m5 24 rfl) rfl
theorem q2672 : (Jvm.Cond.castable "java/lang/NegativeArraySizeException" "java/lang/Object") ∈ lw_tbl := lw_at lw_m11 128 rfl
/-! java/lang/NullPointerException -/
set_option maxRecDepth 100000
abbrev cJ17_init : ByteArray := prog_29_method_1_code
def yJ17_init : MethodName := ⟨RJ17, "<init>", "()V"⟩
theorem dJ17_init_0 : decode cJ17_init 0 = .ok (.aload_n 0, 1) := by decide +kernel
theorem dJ17_init_1 : decode cJ17_init 1 = .ok (.invokespecial 1, 3) := by decide +kernel
theorem dJ17_init_4 : decode cJ17_init 4 = .ok (.return_, 1) := by decide +kernel
theorem q178 : (Jvm.Cond.initialized "java/lang/NullPointerException") ∈ lw_all := lw_g (lw_at lw_m1 34 rfl) rfl
theorem q224 : (Jvm.Cond.selects "java/lang/NullPointerException" ({ cls := "java/lang/Throwable", name := "fillInStackTrace", desc := "()Ljava/lang/Throwable;" } : Jvm.MethodName) ({ cls := "java/lang/NullPointerException", name := "fillInStackTrace", desc := "()Ljava/lang/Throwable;" } : Jvm.MethodName)) ∈ lw_all := lw_g (lw_at lw_m1 80 rfl) rfl
theorem q225 : (Jvm.Cond.instanceMethod ({ cls := "java/lang/NullPointerException", name := "fillInStackTrace", desc := "()Ljava/lang/Throwable;" } : Jvm.MethodName)) ∈ lw_all := lw_g (lw_at lw_m1 81 rfl) rfl
theorem q226 : (Jvm.Cond.codeSync ({ cls := "java/lang/NullPointerException", name := "fillInStackTrace", desc := "()Ljava/lang/Throwable;" } : Jvm.MethodName) prog_29_method_3_code (1 : Nat) (Option.some (Jvm.ClassFile.FieldType.object "java/lang/Throwable"))) ∈ lw_all := lw_g (lw_at lw_m1 82 rfl) rfl
theorem q227 : (Jvm.Cond.methodLink "java/lang/NullPointerException" (16 : Nat) ({ cls := "java/lang/NullPointerException", name := "getExtendedNPEMessage", desc := "()Ljava/lang/String;" } : Jvm.MethodName)) ∈ lw_all := lw_g (lw_at lw_m1 83 rfl) rfl
theorem q228 : (Jvm.Cond.privateMethod ({ cls := "java/lang/NullPointerException", name := "getExtendedNPEMessage", desc := "()Ljava/lang/String;" } : Jvm.MethodName)) ∈ lw_tbl := lw_at lw_m1 84 rfl
theorem q229 : (Jvm.Cond.instanceMethod ({ cls := "java/lang/NullPointerException", name := "getExtendedNPEMessage", desc := "()Ljava/lang/String;" } : Jvm.MethodName)) ∈ lw_all := lw_g (lw_at lw_m1 85 rfl) rfl
theorem q230 : (Jvm.Cond.instantiable "java/lang/NullPointerException" (8 : Nat)) ∈ lw_all := lw_g (lw_at lw_m1 86 rfl) rfl
theorem q231 : (Jvm.Cond.native ({ cls := "java/lang/NullPointerException", name := "getExtendedNPEMessage", desc := "()Ljava/lang/String;" } : Jvm.MethodName)) ∈ lw_all := lw_g (lw_at lw_m1 87 rfl) rfl
theorem q232 : (Jvm.Cond.methodLink "java/lang/NullPointerException" (24 : Nat) ({ cls := "java/lang/RuntimeException", name := "fillInStackTrace", desc := "()Ljava/lang/Throwable;" } : Jvm.MethodName)) ∈ lw_all := lw_g (lw_at lw_m1 88 rfl) rfl
theorem q235 : (Jvm.Cond.superclass "java/lang/NullPointerException" "java/lang/RuntimeException") ∈ lw_all := lw_g (lw_at lw_m1 91 rfl) rfl
theorem q297 : (Jvm.Cond.instanceMethod ({ cls := "java/lang/NullPointerException", name := "<init>", desc := "()V" } : Jvm.MethodName)) ∈ lw_all := lw_g (lw_at lw_m1 153 rfl) rfl
theorem q298 : (Jvm.Cond.code ({ cls := "java/lang/NullPointerException", name := "<init>", desc := "()V" } : Jvm.MethodName) prog_29_method_1_code (1 : Nat) (Option.none : Option Jvm.ClassFile.FieldType)) ∈ lw_all := lw_g (lw_at lw_m1 154 rfl) rfl
theorem q299 : (Jvm.Cond.methodLink "java/lang/NullPointerException" (1 : Nat) ({ cls := "java/lang/RuntimeException", name := "<init>", desc := "()V" } : Jvm.MethodName)) ∈ lw_all := lw_g (lw_at lw_m1 155 rfl) rfl
theorem q306 : (Jvm.Cond.fieldLink "java/lang/NullPointerException" (10 : Nat) "java/lang/NullPointerException" "extendedMessageState" "I") ∈ lw_all := lw_g (lw_at lw_m1 162 rfl) rfl
theorem q307 : (Jvm.Cond.fieldLink "java/lang/NullPointerException" (20 : Nat) "java/lang/NullPointerException" "extendedMessage" "Ljava/lang/String;") ∈ lw_all := lw_g (lw_at lw_m1 163 rfl) rfl
theorem q308 : (Jvm.Cond.lays "java/lang/NullPointerException" "java/lang/NullPointerException" "extendedMessageState" "I") ∈ lw_all := lw_g (lw_at lw_m1 164 rfl) rfl
theorem q309 : (Jvm.Cond.soleField "java/lang/NullPointerException" "extendedMessageState") ∈ lw_all := lw_g (lw_at lw_m1 165 rfl) rfl
theorem q310 : (Jvm.Cond.lays "java/lang/NullPointerException" "java/lang/NullPointerException" "extendedMessage" "Ljava/lang/String;") ∈ lw_all := lw_g (lw_at lw_m1 166 rfl) rfl
theorem q311 : (Jvm.Cond.soleField "java/lang/NullPointerException" "extendedMessage") ∈ lw_all := lw_g (lw_at lw_m1 167 rfl) rfl
theorem q312 : (Jvm.Cond.lays "java/lang/NullPointerException" "java/lang/Throwable" "backtrace" "Ljava/lang/Object;") ∈ lw_all := lw_g (lw_at lw_m1 168 rfl) rfl
theorem q313 : (Jvm.Cond.lays "java/lang/NullPointerException" "java/lang/Throwable" "detailMessage" "Ljava/lang/String;") ∈ lw_all := lw_g (lw_at lw_m1 169 rfl) rfl
theorem q314 : (Jvm.Cond.lays "java/lang/NullPointerException" "java/lang/Throwable" "cause" "Ljava/lang/Throwable;") ∈ lw_all := lw_g (lw_at lw_m1 170 rfl) rfl
theorem q315 : (Jvm.Cond.lays "java/lang/NullPointerException" "java/lang/Throwable" "stackTrace" "[Ljava/lang/StackTraceElement;") ∈ lw_all := lw_g (lw_at lw_m1 171 rfl) rfl
theorem q316 : (Jvm.Cond.lays "java/lang/NullPointerException" "java/lang/Throwable" "depth" "I") ∈ lw_all := lw_g (lw_at lw_m1 172 rfl) rfl
theorem q317 : (Jvm.Cond.lays "java/lang/NullPointerException" "java/lang/Throwable" "suppressedExceptions" "Ljava/util/List;") ∈ lw_all := lw_g (lw_at lw_m1 173 rfl) rfl
theorem q318 : (Jvm.Cond.castable "java/lang/NullPointerException" "java/lang/NullPointerException") ∈ lw_tbl := lw_at lw_m1 174 rfl
theorem q319 : (Jvm.Cond.selects "java/lang/NullPointerException" ({ cls := "java/lang/Throwable", name := "fillInStackTrace", desc := "(I)Ljava/lang/Throwable;" } : Jvm.MethodName) ({ cls := "java/lang/Throwable", name := "fillInStackTrace", desc := "(I)Ljava/lang/Throwable;" } : Jvm.MethodName)) ∈ lw_all := lw_g (lw_at lw_m1 175 rfl) rfl
theorem q1129 : (Jvm.Cond.selects "java/lang/NullPointerException" ({ cls := "java/lang/Object", name := "getClass", desc := "()Ljava/lang/Class;" } : Jvm.MethodName) ({ cls := "java/lang/Object", name := "getClass", desc := "()Ljava/lang/Class;" } : Jvm.MethodName)) ∈ lw_all := lw_g (lw_at lw_m5 25 rfl) rfl
theorem q2673 : (Jvm.Cond.castable "java/lang/NullPointerException" "java/lang/Object") ∈ lw_tbl := lw_at lw_m11 129 rfl
/-! java/lang/IndexOutOfBoundsException -/
set_option maxRecDepth 100000
abbrev cJ18_init : ByteArray := prog_24_method_2_code
def yJ18_init : MethodName := ⟨RJ18, "<init>", "(Ljava/lang/String;)V"⟩
def dkwJ18_init_0 : List UInt8 := [42, 43, 183, 0, 7, 177]
abbrev dktJ18_init_0 : List UInt8 := dkwJ18_init_0 ++ []
theorem dksJ18_init_0 : cJ18_init.data.toList.drop 0 = dktJ18_init_0 := by decide +kernel
theorem dJ18_init_0 : decode cJ18_init 0 = .ok (.aload_n 0, 1) := dk_42 (dk_at dksJ18_init_0 0 rfl rfl)
theorem dJ18_init_1 : decode cJ18_init 1 = .ok (.aload_n 1, 1) := dk_43 (dk_at dksJ18_init_0 1 rfl rfl)
theorem dJ18_init_2 : decode cJ18_init 2 = .ok (.invokespecial 7, 3) := dk_183 0 7 (dk_at dksJ18_init_0 2 rfl rfl)
theorem dJ18_init_5 : decode cJ18_init 5 = .ok (.return_, 1) := dk_177 (dk_at dksJ18_init_0 5 rfl rfl)
theorem q179 : (Jvm.Cond.initialized "java/lang/IndexOutOfBoundsException") ∈ lw_all := lw_g (lw_at lw_m1 35 rfl) rfl
theorem q326 : (Jvm.Cond.instanceMethod ({ cls := "java/lang/IndexOutOfBoundsException", name := "<init>", desc := "(Ljava/lang/String;)V" } : Jvm.MethodName)) ∈ lw_all := lw_g (lw_at lw_m1 182 rfl) rfl
theorem q327 : (Jvm.Cond.code ({ cls := "java/lang/IndexOutOfBoundsException", name := "<init>", desc := "(Ljava/lang/String;)V" } : Jvm.MethodName) prog_24_method_2_code (2 : Nat) (Option.none : Option Jvm.ClassFile.FieldType)) ∈ lw_all := lw_g (lw_at lw_m1 183 rfl) rfl
theorem q328 : (Jvm.Cond.methodLink "java/lang/IndexOutOfBoundsException" (7 : Nat) ({ cls := "java/lang/RuntimeException", name := "<init>", desc := "(Ljava/lang/String;)V" } : Jvm.MethodName)) ∈ lw_all := lw_g (lw_at lw_m1 184 rfl) rfl
theorem q337 : (Jvm.Cond.declares ({ cls := "java/lang/IndexOutOfBoundsException", name := "<init>", desc := "()V" } : Jvm.MethodName)) ∈ lw_tbl := lw_at lw_m1 193 rfl
theorem q338 : (Jvm.Cond.declares ({ cls := "java/lang/IndexOutOfBoundsException", name := "<init>", desc := "(Ljava/lang/String;)V" } : Jvm.MethodName)) ∈ lw_tbl := lw_at lw_m1 194 rfl
/-! java/lang/ArrayIndexOutOfBoundsException -/
set_option maxRecDepth 100000
abbrev cJ19_init : ByteArray := prog_18_method_2_code
def yJ19_init : MethodName := ⟨RJ19, "<init>", "(Ljava/lang/String;)V"⟩
def dkwJ19_init_0 : List UInt8 := [42, 43, 183, 0, 7, 177]
abbrev dktJ19_init_0 : List UInt8 := dkwJ19_init_0 ++ []
theorem dksJ19_init_0 : cJ19_init.data.toList.drop 0 = dktJ19_init_0 := by decide +kernel
theorem dJ19_init_0 : decode cJ19_init 0 = .ok (.aload_n 0, 1) := dk_42 (dk_at dksJ19_init_0 0 rfl rfl)
theorem dJ19_init_1 : decode cJ19_init 1 = .ok (.aload_n 1, 1) := dk_43 (dk_at dksJ19_init_0 1 rfl rfl)
theorem dJ19_init_2 : decode cJ19_init 2 = .ok (.invokespecial 7, 3) := dk_183 0 7 (dk_at dksJ19_init_0 2 rfl rfl)
theorem dJ19_init_5 : decode cJ19_init 5 = .ok (.return_, 1) := dk_177 (dk_at dksJ19_init_0 5 rfl rfl)
theorem q180 : (Jvm.Cond.initialized "java/lang/ArrayIndexOutOfBoundsException") ∈ lw_all := lw_g (lw_at lw_m1 36 rfl) rfl
theorem q221 : (Jvm.Cond.selects "java/lang/ArrayIndexOutOfBoundsException" ({ cls := "java/lang/Throwable", name := "fillInStackTrace", desc := "()Ljava/lang/Throwable;" } : Jvm.MethodName) ({ cls := "java/lang/Throwable", name := "fillInStackTrace", desc := "()Ljava/lang/Throwable;" } : Jvm.MethodName)) ∈ lw_all := lw_g (lw_at lw_m1 77 rfl) rfl
theorem q322 : (Jvm.Cond.instantiable "java/lang/ArrayIndexOutOfBoundsException" (6 : Nat)) ∈ lw_all := lw_g (lw_at lw_m1 178 rfl) rfl
theorem q323 : (Jvm.Cond.instanceMethod ({ cls := "java/lang/ArrayIndexOutOfBoundsException", name := "<init>", desc := "(Ljava/lang/String;)V" } : Jvm.MethodName)) ∈ lw_all := lw_g (lw_at lw_m1 179 rfl) rfl
theorem q324 : (Jvm.Cond.code ({ cls := "java/lang/ArrayIndexOutOfBoundsException", name := "<init>", desc := "(Ljava/lang/String;)V" } : Jvm.MethodName) prog_18_method_2_code (2 : Nat) (Option.none : Option Jvm.ClassFile.FieldType)) ∈ lw_all := lw_g (lw_at lw_m1 180 rfl) rfl
theorem q325 : (Jvm.Cond.methodLink "java/lang/ArrayIndexOutOfBoundsException" (7 : Nat) ({ cls := "java/lang/IndexOutOfBoundsException", name := "<init>", desc := "(Ljava/lang/String;)V" } : Jvm.MethodName)) ∈ lw_all := lw_g (lw_at lw_m1 181 rfl) rfl
theorem q329 : (Jvm.Cond.lays "java/lang/ArrayIndexOutOfBoundsException" "java/lang/Throwable" "backtrace" "Ljava/lang/Object;") ∈ lw_all := lw_g (lw_at lw_m1 185 rfl) rfl
theorem q330 : (Jvm.Cond.lays "java/lang/ArrayIndexOutOfBoundsException" "java/lang/Throwable" "detailMessage" "Ljava/lang/String;") ∈ lw_all := lw_g (lw_at lw_m1 186 rfl) rfl
theorem q331 : (Jvm.Cond.lays "java/lang/ArrayIndexOutOfBoundsException" "java/lang/Throwable" "cause" "Ljava/lang/Throwable;") ∈ lw_all := lw_g (lw_at lw_m1 187 rfl) rfl
theorem q332 : (Jvm.Cond.lays "java/lang/ArrayIndexOutOfBoundsException" "java/lang/Throwable" "stackTrace" "[Ljava/lang/StackTraceElement;") ∈ lw_all := lw_g (lw_at lw_m1 188 rfl) rfl
theorem q333 : (Jvm.Cond.lays "java/lang/ArrayIndexOutOfBoundsException" "java/lang/Throwable" "depth" "I") ∈ lw_all := lw_g (lw_at lw_m1 189 rfl) rfl
theorem q334 : (Jvm.Cond.lays "java/lang/ArrayIndexOutOfBoundsException" "java/lang/Throwable" "suppressedExceptions" "Ljava/util/List;") ∈ lw_all := lw_g (lw_at lw_m1 190 rfl) rfl
theorem q335 : (Jvm.Cond.superclass "java/lang/ArrayIndexOutOfBoundsException" "java/lang/IndexOutOfBoundsException") ∈ lw_all := lw_g (lw_at lw_m1 191 rfl) rfl
theorem q336 : (Jvm.Cond.castable "java/lang/ArrayIndexOutOfBoundsException" "java/lang/ArrayIndexOutOfBoundsException") ∈ lw_tbl := lw_at lw_m1 192 rfl
theorem q339 : (Jvm.Cond.selects "java/lang/ArrayIndexOutOfBoundsException" ({ cls := "java/lang/Throwable", name := "fillInStackTrace", desc := "(I)Ljava/lang/Throwable;" } : Jvm.MethodName) ({ cls := "java/lang/Throwable", name := "fillInStackTrace", desc := "(I)Ljava/lang/Throwable;" } : Jvm.MethodName)) ∈ lw_all := lw_g (lw_at lw_m1 195 rfl) rfl
theorem q1126 : (Jvm.Cond.selects "java/lang/ArrayIndexOutOfBoundsException" ({ cls := "java/lang/Object", name := "getClass", desc := "()Ljava/lang/Class;" } : Jvm.MethodName) ({ cls := "java/lang/Object", name := "getClass", desc := "()Ljava/lang/Class;" } : Jvm.MethodName)) ∈ lw_all := lw_g (lw_at lw_m5 22 rfl) rfl
theorem q2655 : (Jvm.Cond.castable "java/lang/ArrayIndexOutOfBoundsException" "java/lang/IndexOutOfBoundsException") ∈ lw_tbl := lw_at lw_m11 111 rfl
theorem q2674 : (Jvm.Cond.castable "java/lang/ArrayIndexOutOfBoundsException" "java/lang/Object") ∈ lw_tbl := lw_at lw_m11 130 rfl
/-! java/lang/ClassCastException -/
set_option maxRecDepth 100000
abbrev cJ20_init : ByteArray := prog_20_method_2_code
def yJ20_init : MethodName := ⟨RJ20, "<init>", "(Ljava/lang/String;)V"⟩
def dkwJ20_init_0 : List UInt8 := [42, 43, 183, 0, 7, 177]
abbrev dktJ20_init_0 : List UInt8 := dkwJ20_init_0 ++ []
theorem dksJ20_init_0 : cJ20_init.data.toList.drop 0 = dktJ20_init_0 := by decide +kernel
theorem dJ20_init_0 : decode cJ20_init 0 = .ok (.aload_n 0, 1) := dk_42 (dk_at dksJ20_init_0 0 rfl rfl)
theorem dJ20_init_1 : decode cJ20_init 1 = .ok (.aload_n 1, 1) := dk_43 (dk_at dksJ20_init_0 1 rfl rfl)
theorem dJ20_init_2 : decode cJ20_init 2 = .ok (.invokespecial 7, 3) := dk_183 0 7 (dk_at dksJ20_init_0 2 rfl rfl)
theorem dJ20_init_5 : decode cJ20_init 5 = .ok (.return_, 1) := dk_177 (dk_at dksJ20_init_0 5 rfl rfl)
theorem q181 : (Jvm.Cond.initialized "java/lang/ClassCastException") ∈ lw_all := lw_g (lw_at lw_m1 37 rfl) rfl
theorem q222 : (Jvm.Cond.selects "java/lang/ClassCastException" ({ cls := "java/lang/Throwable", name := "fillInStackTrace", desc := "()Ljava/lang/Throwable;" } : Jvm.MethodName) ({ cls := "java/lang/Throwable", name := "fillInStackTrace", desc := "()Ljava/lang/Throwable;" } : Jvm.MethodName)) ∈ lw_all := lw_g (lw_at lw_m1 78 rfl) rfl
theorem q352 : (Jvm.Cond.instantiable "java/lang/ClassCastException" (6 : Nat)) ∈ lw_all := lw_g (lw_at lw_m1 208 rfl) rfl
theorem q353 : (Jvm.Cond.instanceMethod ({ cls := "java/lang/ClassCastException", name := "<init>", desc := "(Ljava/lang/String;)V" } : Jvm.MethodName)) ∈ lw_all := lw_g (lw_at lw_m1 209 rfl) rfl
theorem q354 : (Jvm.Cond.code ({ cls := "java/lang/ClassCastException", name := "<init>", desc := "(Ljava/lang/String;)V" } : Jvm.MethodName) prog_20_method_2_code (2 : Nat) (Option.none : Option Jvm.ClassFile.FieldType)) ∈ lw_all := lw_g (lw_at lw_m1 210 rfl) rfl
theorem q355 : (Jvm.Cond.methodLink "java/lang/ClassCastException" (7 : Nat) ({ cls := "java/lang/RuntimeException", name := "<init>", desc := "(Ljava/lang/String;)V" } : Jvm.MethodName)) ∈ lw_all := lw_g (lw_at lw_m1 211 rfl) rfl
theorem q356 : (Jvm.Cond.lays "java/lang/ClassCastException" "java/lang/Throwable" "backtrace" "Ljava/lang/Object;") ∈ lw_all := lw_g (lw_at lw_m1 212 rfl) rfl
theorem q357 : (Jvm.Cond.lays "java/lang/ClassCastException" "java/lang/Throwable" "detailMessage" "Ljava/lang/String;") ∈ lw_all := lw_g (lw_at lw_m1 213 rfl) rfl
theorem q358 : (Jvm.Cond.lays "java/lang/ClassCastException" "java/lang/Throwable" "cause" "Ljava/lang/Throwable;") ∈ lw_all := lw_g (lw_at lw_m1 214 rfl) rfl
theorem q359 : (Jvm.Cond.lays "java/lang/ClassCastException" "java/lang/Throwable" "stackTrace" "[Ljava/lang/StackTraceElement;") ∈ lw_all := lw_g (lw_at lw_m1 215 rfl) rfl
theorem q360 : (Jvm.Cond.lays "java/lang/ClassCastException" "java/lang/Throwable" "depth" "I") ∈ lw_all := lw_g (lw_at lw_m1 216 rfl) rfl
theorem q361 : (Jvm.Cond.lays "java/lang/ClassCastException" "java/lang/Throwable" "suppressedExceptions" "Ljava/util/List;") ∈ lw_all := lw_g (lw_at lw_m1 217 rfl) rfl
theorem q362 : (Jvm.Cond.superclass "java/lang/ClassCastException" "java/lang/RuntimeException") ∈ lw_all := lw_g (lw_at lw_m1 218 rfl) rfl
theorem q363 : (Jvm.Cond.castable "java/lang/ClassCastException" "java/lang/ClassCastException") ∈ lw_tbl := lw_at lw_m1 219 rfl
theorem q364 : (Jvm.Cond.selects "java/lang/ClassCastException" ({ cls := "java/lang/Throwable", name := "fillInStackTrace", desc := "(I)Ljava/lang/Throwable;" } : Jvm.MethodName) ({ cls := "java/lang/Throwable", name := "fillInStackTrace", desc := "(I)Ljava/lang/Throwable;" } : Jvm.MethodName)) ∈ lw_all := lw_g (lw_at lw_m1 220 rfl) rfl
theorem q1127 : (Jvm.Cond.selects "java/lang/ClassCastException" ({ cls := "java/lang/Object", name := "getClass", desc := "()Ljava/lang/Class;" } : Jvm.MethodName) ({ cls := "java/lang/Object", name := "getClass", desc := "()Ljava/lang/Class;" } : Jvm.MethodName)) ∈ lw_all := lw_g (lw_at lw_m5 23 rfl) rfl
theorem q2675 : (Jvm.Cond.castable "java/lang/ClassCastException" "java/lang/Object") ∈ lw_tbl := lw_at lw_m11 131 rfl
/-! java/lang/Object -/
set_option maxRecDepth 100000
abbrev cJ21_init : ByteArray := object_method_1_code
def yJ21_init : MethodName := ⟨RJ21, "<init>", "()V"⟩
theorem dJ21_init_0 : decode cJ21_init 0 = .ok (.return_, 1) := by decide +kernel
theorem q211 : (Jvm.Cond.instanceMethod ({ cls := "java/lang/Object", name := "<init>", desc := "()V" } : Jvm.MethodName)) ∈ lw_all := lw_g (lw_at lw_m1 67 rfl) rfl
theorem q212 : (Jvm.Cond.code ({ cls := "java/lang/Object", name := "<init>", desc := "()V" } : Jvm.MethodName) object_method_1_code (1 : Nat) (Option.none : Option Jvm.ClassFile.FieldType)) ∈ lw_all := lw_g (lw_at lw_m1 68 rfl) rfl
theorem q1110 : (Jvm.Cond.instanceMethod ({ cls := "java/lang/Object", name := "getClass", desc := "()Ljava/lang/Class;" } : Jvm.MethodName)) ∈ lw_all := lw_g (lw_at lw_m5 6 rfl) rfl
theorem q1111 : (Jvm.Cond.sameMethod "java/lang/Object" "java/lang/Object" "getClass" "()Ljava/lang/Class;") ∈ lw_all := lw_g (lw_at lw_m5 7 rfl) rfl
theorem q1132 : (Jvm.Cond.native ({ cls := "java/lang/Object", name := "getClass", desc := "()Ljava/lang/Class;" } : Jvm.MethodName)) ∈ lw_all := lw_g (lw_at lw_m5 28 rfl) rfl
theorem q2654 : (Jvm.Cond.initialized "java/lang/Object") ∈ lw_all := lw_g (lw_at lw_m11 110 rfl) rfl
theorem q2680 : (Jvm.Cond.declares ({ cls := "java/lang/Object", name := "getClass", desc := "()Ljava/lang/Class;" } : Jvm.MethodName)) ∈ lw_tbl := lw_at lw_m11 136 rfl
theorem q280 : (Jvm.Cond.arrayClass Jvm.ClassFile.FieldType.byte) ∈ lw_all := lw_g (lw_at lw_m1 136 rfl) rfl
set_option maxRecDepth 100000
theorem q285 : (Jvm.Cond.arrayClass Jvm.ClassFile.FieldType.short) ∈ lw_all := lw_g (lw_at lw_m1 141 rfl) rfl
theorem q286 : (Jvm.Cond.arrayClass Jvm.ClassFile.FieldType.int) ∈ lw_all := lw_g (lw_at lw_m1 142 rfl) rfl
theorem q287 : (Jvm.Cond.arrayClass Jvm.ClassFile.FieldType.long) ∈ lw_all := lw_g (lw_at lw_m1 143 rfl) rfl
theorem q390 : (Jvm.Cond.arrayOver (Jvm.ClassFile.FieldType.object "MoleBoard$Slot")) ∈ lw_tbl := lw_at lw_m2 6 rfl
theorem q419 : (Jvm.Cond.arrayOver (Jvm.ClassFile.FieldType.object "java/lang/Object")) ∈ lw_tbl := lw_at lw_m2 35 rfl
theorem q508 : (Jvm.Cond.arrayOver (Jvm.ClassFile.FieldType.object "MoleBoard$Board")) ∈ lw_tbl := lw_at lw_m2 124 rfl
theorem q519 : (Jvm.Cond.arrayOver (Jvm.ClassFile.FieldType.object "MoleBoard$Mole")) ∈ lw_tbl := lw_at lw_m2 135 rfl
theorem q655 : (Jvm.Cond.arrayOver (Jvm.ClassFile.FieldType.array Jvm.ClassFile.FieldType.int)) ∈ lw_tbl := lw_at lw_m3 31 rfl
theorem q679 : (Jvm.Cond.arrayOver (Jvm.ClassFile.FieldType.array Jvm.ClassFile.FieldType.long)) ∈ lw_tbl := lw_at lw_m3 55 rfl
theorem q1973 : (Jvm.Cond.arrayClass Jvm.ClassFile.FieldType.boolean) ∈ lw_all := lw_g (lw_at lw_m8 149 rfl) rfl

theorem q144 : (Jvm.Cond.initialized "MoleBoardLaw") ∈ lw_all := lw_g (lw_at lw_m1 0 rfl) rfl
set_option maxRecDepth 100000
theorem q182 : (Jvm.Cond.methodLink "MoleBoardLaw" (289 : Nat) ({ cls := "MoleBoard", name := "row", desc := "(III)I" } : Jvm.MethodName)) ∈ lw_all := lw_g (lw_at lw_m1 38 rfl) rfl
theorem q288 : (Jvm.Cond.methodLink "MoleBoardLaw" (295 : Nat) ({ cls := "MoleBoard", name := "write", desc := "(IIJ)I" } : Jvm.MethodName)) ∈ lw_all := lw_g (lw_at lw_m1 144 rfl) rfl
theorem q367 : (Jvm.Cond.methodLink "MoleBoardLaw" (300 : Nat) ({ cls := "MoleBoard", name := "paste", desc := "(IIIII)I" } : Jvm.MethodName)) ∈ lw_all := lw_g (lw_at lw_m1 223 rfl) rfl
theorem q383 : (Jvm.Cond.classLink "MoleBoardLaw" (7 : Nat) "MoleBoard") ∈ lw_all := lw_g (lw_at lw_m1 239 rfl) rfl
theorem q385 : (Jvm.Cond.methodLink "MoleBoardLaw" (9 : Nat) ({ cls := "MoleBoard", name := "<init>", desc := "()V" } : Jvm.MethodName)) ∈ lw_all := lw_g (lw_at lw_m2 1 rfl) rfl
theorem q760 : (Jvm.Cond.methodLink "MoleBoardLaw" (13 : Nat) ({ cls := "MoleBoard", name := "feed", desc := "(IIIII)I" } : Jvm.MethodName)) ∈ lw_all := lw_g (lw_at lw_m3 136 rfl) rfl
theorem q764 : (Jvm.Cond.methodLink "MoleBoardLaw" (18 : Nat) ({ cls := "MoleBoard", name := "end", desc := "(I)I" } : Jvm.MethodName)) ∈ lw_all := lw_g (lw_at lw_m3 140 rfl) rfl
theorem q768 : (Jvm.Cond.methodLink "MoleBoardLaw" (23 : Nat) ({ cls := "MoleBoard", name := "board", desc := "()I" } : Jvm.MethodName)) ∈ lw_all := lw_g (lw_at lw_m3 144 rfl) rfl
theorem q1171 : (Jvm.Cond.methodLink "MoleBoardLaw" (28 : Nat) ({ cls := "MoleBoard", name := "fault", desc := "(I)I" } : Jvm.MethodName)) ∈ lw_all := lw_g (lw_at lw_m5 67 rfl) rfl
theorem q1175 : (Jvm.Cond.methodLink "MoleBoardLaw" (32 : Nat) ({ cls := "MoleBoard", name := "drum", desc := "(II)I" } : Jvm.MethodName)) ∈ lw_all := lw_g (lw_at lw_m5 71 rfl) rfl
theorem q1215 : (Jvm.Cond.methodLink "MoleBoardLaw" (37 : Nat) ({ cls := "MoleBoard", name := "player", desc := "(II)I" } : Jvm.MethodName)) ∈ lw_all := lw_g (lw_at lw_m5 111 rfl) rfl
theorem q1229 : (Jvm.Cond.methodLink "MoleBoardLaw" (41 : Nat) ({ cls := "MoleBoard", name := "stay", desc := "(I)I" } : Jvm.MethodName)) ∈ lw_all := lw_g (lw_at lw_m5 125 rfl) rfl
theorem q1241 : (Jvm.Cond.methodLink "MoleBoardLaw" (45 : Nat) ({ cls := "MoleBoard", name := "comings", desc := "()I" } : Jvm.MethodName)) ∈ lw_all := lw_g (lw_at lw_m5 137 rfl) rfl
theorem q1292 : (Jvm.Cond.methodLink "MoleBoardLaw" (49 : Nat) ({ cls := "MoleBoard", name := "comes", desc := "(II)I" } : Jvm.MethodName)) ∈ lw_all := lw_g (lw_at lw_m5 188 rfl) rfl
theorem q1302 : (Jvm.Cond.methodLink "MoleBoardLaw" (53 : Nat) ({ cls := "MoleBoard", name := "up", desc := "(I)I" } : Jvm.MethodName)) ∈ lw_all := lw_g (lw_at lw_m5 198 rfl) rfl
theorem q1317 : (Jvm.Cond.methodLink "MoleBoardLaw" (57 : Nat) ({ cls := "MoleBoard", name := "calm", desc := "()I" } : Jvm.MethodName)) ∈ lw_all := lw_g (lw_at lw_m5 213 rfl) rfl
theorem q1321 : (Jvm.Cond.methodLink "MoleBoardLaw" (61 : Nat) ({ cls := "MoleBoard", name := "steps", desc := "(II)I" } : Jvm.MethodName)) ∈ lw_all := lw_g (lw_at lw_m5 217 rfl) rfl
theorem q1330 : (Jvm.Cond.methodLink "MoleBoardLaw" (65 : Nat) ({ cls := "MoleBoard", name := "pace", desc := "(II)I" } : Jvm.MethodName)) ∈ lw_all := lw_g (lw_at lw_m5 226 rfl) rfl
theorem q1338 : (Jvm.Cond.methodLink "MoleBoardLaw" (69 : Nat) ({ cls := "MoleBoard", name := "aware", desc := "(II)I" } : Jvm.MethodName)) ∈ lw_all := lw_g (lw_at lw_m5 234 rfl) rfl
theorem q1346 : (Jvm.Cond.methodLink "MoleBoardLaw" (73 : Nat) ({ cls := "MoleBoard", name := "hits", desc := "(I)I" } : Jvm.MethodName)) ∈ lw_all := lw_g (lw_at lw_m6 2 rfl) rfl
theorem q1374 : (Jvm.Cond.methodLink "MoleBoardLaw" (77 : Nat) ({ cls := "MoleBoard", name := "hit", desc := "(II)I" } : Jvm.MethodName)) ∈ lw_all := lw_g (lw_at lw_m6 30 rfl) rfl
theorem q1378 : (Jvm.Cond.methodLink "MoleBoardLaw" (81 : Nat) ({ cls := "MoleBoard", name := "twice", desc := "(II)I" } : Jvm.MethodName)) ∈ lw_all := lw_g (lw_at lw_m6 34 rfl) rfl
theorem q1382 : (Jvm.Cond.methodLink "MoleBoardLaw" (85 : Nat) ({ cls := "MoleBoard", name := "where", desc := "(II)I" } : Jvm.MethodName)) ∈ lw_all := lw_g (lw_at lw_m6 38 rfl) rfl
theorem q1386 : (Jvm.Cond.methodLink "MoleBoardLaw" (89 : Nat) ({ cls := "MoleBoard", name := "missed", desc := "(I)I" } : Jvm.MethodName)) ∈ lw_all := lw_g (lw_at lw_m6 42 rfl) rfl
theorem q1390 : (Jvm.Cond.methodLink "MoleBoardLaw" (93 : Nat) ({ cls := "MoleBoard", name := "walked", desc := "(I)I" } : Jvm.MethodName)) ∈ lw_all := lw_g (lw_at lw_m6 46 rfl) rfl
theorem q1394 : (Jvm.Cond.methodLink "MoleBoardLaw" (97 : Nat) ({ cls := "MoleBoard", name := "best", desc := "(I)I" } : Jvm.MethodName)) ∈ lw_all := lw_g (lw_at lw_m6 50 rfl) rfl
theorem q1427 : (Jvm.Cond.methodLink "MoleBoardLaw" (101 : Nat) ({ cls := "MoleBoard", name := "ahead", desc := "(II)I" } : Jvm.MethodName)) ∈ lw_all := lw_g (lw_at lw_m6 83 rfl) rfl
theorem q1432 : (Jvm.Cond.methodLink "MoleBoardLaw" (105 : Nat) ({ cls := "MoleBoard", name := "learns", desc := "(II)I" } : Jvm.MethodName)) ∈ lw_all := lw_g (lw_at lw_m6 88 rfl) rfl
theorem q1441 : (Jvm.Cond.methodLink "MoleBoardLaw" (109 : Nat) ({ cls := "MoleBoard", name := "enough", desc := "(I)I" } : Jvm.MethodName)) ∈ lw_all := lw_g (lw_at lw_m6 97 rfl) rfl
theorem q1445 : (Jvm.Cond.methodLink "MoleBoardLaw" (113 : Nat) ({ cls := "MoleBoard", name := "waits", desc := "(II)I" } : Jvm.MethodName)) ∈ lw_all := lw_g (lw_at lw_m6 101 rfl) rfl
theorem q1453 : (Jvm.Cond.methodLink "MoleBoardLaw" (117 : Nat) ({ cls := "MoleBoard", name := "mean", desc := "(II)I" } : Jvm.MethodName)) ∈ lw_all := lw_g (lw_at lw_m6 109 rfl) rfl
theorem q1468 : (Jvm.Cond.methodLink "MoleBoardLaw" (121 : Nat) ({ cls := "MoleBoard", name := "middle", desc := "(I)I" } : Jvm.MethodName)) ∈ lw_all := lw_g (lw_at lw_m6 124 rfl) rfl
theorem q1472 : (Jvm.Cond.methodLink "MoleBoardLaw" (125 : Nat) ({ cls := "MoleBoard", name := "reach", desc := "(II)I" } : Jvm.MethodName)) ∈ lw_all := lw_g (lw_at lw_m6 128 rfl) rfl
theorem q1480 : (Jvm.Cond.methodLink "MoleBoardLaw" (129 : Nat) ({ cls := "MoleBoard", name := "post", desc := "(I)I" } : Jvm.MethodName)) ∈ lw_all := lw_g (lw_at lw_m6 136 rfl) rfl
theorem q1490 : (Jvm.Cond.methodLink "MoleBoardLaw" (133 : Nat) ({ cls := "MoleBoard", name := "slack", desc := "(I)I" } : Jvm.MethodName)) ∈ lw_all := lw_g (lw_at lw_m6 146 rfl) rfl
theorem q1498 : (Jvm.Cond.methodLink "MoleBoardLaw" (137 : Nat) ({ cls := "MoleBoard", name := "rows", desc := "(II)J" } : Jvm.MethodName)) ∈ lw_all := lw_g (lw_at lw_m6 154 rfl) rfl
theorem q1531 : (Jvm.Cond.methodLink "MoleBoardLaw" (142 : Nat) ({ cls := "MoleBoard", name := "ends", desc := "(III)J" } : Jvm.MethodName)) ∈ lw_all := lw_g (lw_at lw_m6 187 rfl) rfl
theorem q1536 : (Jvm.Cond.methodLink "MoleBoardLaw" (147 : Nat) ({ cls := "MoleBoard", name := "fair", desc := "(I)I" } : Jvm.MethodName)) ∈ lw_all := lw_g (lw_at lw_m6 192 rfl) rfl
theorem q1545 : (Jvm.Cond.methodLink "MoleBoardLaw" (151 : Nat) ({ cls := "MoleBoard", name := "breaks", desc := "(I)I" } : Jvm.MethodName)) ∈ lw_all := lw_g (lw_at lw_m6 201 rfl) rfl
theorem q1557 : (Jvm.Cond.methodLink "MoleBoardLaw" (155 : Nat) ({ cls := "MoleBoard", name := "period", desc := "(I)I" } : Jvm.MethodName)) ∈ lw_all := lw_g (lw_at lw_m6 213 rfl) rfl
theorem q1579 : (Jvm.Cond.methodLink "MoleBoardLaw" (159 : Nat) ({ cls := "MoleBoard", name := "periods", desc := "(I)I" } : Jvm.MethodName)) ∈ lw_all := lw_g (lw_at lw_m6 235 rfl) rfl
theorem q1583 : (Jvm.Cond.methodLink "MoleBoardLaw" (163 : Nat) ({ cls := "MoleBoard", name := "luck", desc := "(I)I" } : Jvm.MethodName)) ∈ lw_all := lw_g (lw_at lw_m6 239 rfl) rfl
theorem q1588 : (Jvm.Cond.methodLink "MoleBoardLaw" (167 : Nat) ({ cls := "MoleBoard", name := "fits", desc := "(I)I" } : Jvm.MethodName)) ∈ lw_all := lw_g (lw_at lw_m7 4 rfl) rfl
theorem q1596 : (Jvm.Cond.methodLink "MoleBoardLaw" (171 : Nat) ({ cls := "MoleBoard", name := "place", desc := "(II)I" } : Jvm.MethodName)) ∈ lw_all := lw_g (lw_at lw_m7 12 rfl) rfl
theorem q1600 : (Jvm.Cond.methodLink "MoleBoardLaw" (175 : Nat) ({ cls := "MoleBoard", name := "next", desc := "(I)I" } : Jvm.MethodName)) ∈ lw_all := lw_g (lw_at lw_m7 16 rfl) rfl
theorem q1604 : (Jvm.Cond.methodLink "MoleBoardLaw" (179 : Nat) ({ cls := "MoleBoard", name := "needed", desc := "(I)I" } : Jvm.MethodName)) ∈ lw_all := lw_g (lw_at lw_m7 20 rfl) rfl
theorem q1612 : (Jvm.Cond.methodLink "MoleBoardLaw" (183 : Nat) ({ cls := "MoleBoard", name := "known", desc := "()I" } : Jvm.MethodName)) ∈ lw_all := lw_g (lw_at lw_m7 28 rfl) rfl
theorem q1617 : (Jvm.Cond.methodLink "MoleBoardLaw" (187 : Nat) ({ cls := "MoleBoard", name := "rash", desc := "(I)I" } : Jvm.MethodName)) ∈ lw_all := lw_g (lw_at lw_m7 33 rfl) rfl
theorem q1629 : (Jvm.Cond.methodLink "MoleBoardLaw" (191 : Nat) ({ cls := "MoleBoard", name := "look", desc := "(II)I" } : Jvm.MethodName)) ∈ lw_all := lw_g (lw_at lw_m7 45 rfl) rfl
theorem q1638 : (Jvm.Cond.methodLink "MoleBoardLaw" (195 : Nat) ({ cls := "MoleBoard", name := "line", desc := "(I)I" } : Jvm.MethodName)) ∈ lw_all := lw_g (lw_at lw_m7 54 rfl) rfl
theorem q1642 : (Jvm.Cond.methodLink "MoleBoardLaw" (199 : Nat) ({ cls := "MoleBoard", name := "two", desc := "(III)I" } : Jvm.MethodName)) ∈ lw_all := lw_g (lw_at lw_m7 58 rfl) rfl
theorem q1650 : (Jvm.Cond.methodLink "MoleBoardLaw" (204 : Nat) ({ cls := "MoleBoard", name := "tickets", desc := "(I)I" } : Jvm.MethodName)) ∈ lw_all := lw_g (lw_at lw_m7 66 rfl) rfl
theorem q1658 : (Jvm.Cond.methodLink "MoleBoardLaw" (208 : Nat) ({ cls := "MoleBoard", name := "prize", desc := "(I)I" } : Jvm.MethodName)) ∈ lw_all := lw_g (lw_at lw_m7 74 rfl) rfl
theorem q1662 : (Jvm.Cond.methodLink "MoleBoardLaw" (212 : Nat) ({ cls := "MoleBoard", name := "counted", desc := "(I)I" } : Jvm.MethodName)) ∈ lw_all := lw_g (lw_at lw_m7 78 rfl) rfl
theorem q1686 : (Jvm.Cond.methodLink "MoleBoardLaw" (216 : Nat) ({ cls := "MoleBoard", name := "scored", desc := "(I)I" } : Jvm.MethodName)) ∈ lw_all := lw_g (lw_at lw_m7 102 rfl) rfl
theorem q1690 : (Jvm.Cond.methodLink "MoleBoardLaw" (220 : Nat) ({ cls := "MoleBoard", name := "early", desc := "(II)I" } : Jvm.MethodName)) ∈ lw_all := lw_g (lw_at lw_m7 106 rfl) rfl
theorem q1694 : (Jvm.Cond.methodLink "MoleBoardLaw" (224 : Nat) ({ cls := "MoleBoard", name := "often", desc := "(I)I" } : Jvm.MethodName)) ∈ lw_all := lw_g (lw_at lw_m7 110 rfl) rfl
theorem q1709 : (Jvm.Cond.methodLink "MoleBoardLaw" (228 : Nat) ({ cls := "MoleBoard", name := "balance", desc := "()I" } : Jvm.MethodName)) ∈ lw_all := lw_g (lw_at lw_m7 125 rfl) rfl
theorem q1714 : (Jvm.Cond.methodLink "MoleBoardLaw" (232 : Nat) ({ cls := "MoleBoard", name := "path", desc := "()I" } : Jvm.MethodName)) ∈ lw_all := lw_g (lw_at lw_m7 130 rfl) rfl
theorem q1722 : (Jvm.Cond.methodLink "MoleBoardLaw" (236 : Nat) ({ cls := "MoleBoard", name := "better", desc := "(I)I" } : Jvm.MethodName)) ∈ lw_all := lw_g (lw_at lw_m7 138 rfl) rfl
theorem q1739 : (Jvm.Cond.methodLink "MoleBoardLaw" (240 : Nat) ({ cls := "MoleBoard", name := "swap", desc := "(II)I" } : Jvm.MethodName)) ∈ lw_all := lw_g (lw_at lw_m7 155 rfl) rfl
theorem q1743 : (Jvm.Cond.methodLink "MoleBoardLaw" (244 : Nat) ({ cls := "MoleBoard", name := "paint", desc := "(II)I" } : Jvm.MethodName)) ∈ lw_all := lw_g (lw_at lw_m7 159 rfl) rfl
theorem q1747 : (Jvm.Cond.methodLink "MoleBoardLaw" (248 : Nat) ({ cls := "MoleBoard", name := "turn", desc := "(I)I" } : Jvm.MethodName)) ∈ lw_all := lw_g (lw_at lw_m7 163 rfl) rfl
theorem q1751 : (Jvm.Cond.methodLink "MoleBoardLaw" (252 : Nat) ({ cls := "MoleBoard", name := "lucky", desc := "(I)I" } : Jvm.MethodName)) ∈ lw_all := lw_g (lw_at lw_m7 167 rfl) rfl
theorem q1755 : (Jvm.Cond.methodLink "MoleBoardLaw" (256 : Nat) ({ cls := "MoleBoard", name := "shut", desc := "(II)I" } : Jvm.MethodName)) ∈ lw_all := lw_g (lw_at lw_m7 171 rfl) rfl
theorem q1760 : (Jvm.Cond.methodLink "MoleBoardLaw" (260 : Nat) ({ cls := "MoleBoard", name := "train", desc := "(III)I" } : Jvm.MethodName)) ∈ lw_all := lw_g (lw_at lw_m7 176 rfl) rfl
theorem q1767 : (Jvm.Cond.methodLink "MoleBoardLaw" (264 : Nat) ({ cls := "MoleBoard", name := "drawn", desc := "(III)I" } : Jvm.MethodName)) ∈ lw_all := lw_g (lw_at lw_m7 183 rfl) rfl
theorem q1783 : (Jvm.Cond.methodLink "MoleBoardLaw" (268 : Nat) ({ cls := "MoleBoard", name := "night", desc := "(III)I" } : Jvm.MethodName)) ∈ lw_all := lw_g (lw_at lw_m7 199 rfl) rfl
theorem q1787 : (Jvm.Cond.methodLink "MoleBoardLaw" (272 : Nat) ({ cls := "MoleBoard", name := "years", desc := "(IIII)I" } : Jvm.MethodName)) ∈ lw_all := lw_g (lw_at lw_m7 203 rfl) rfl
theorem q1791 : (Jvm.Cond.methodLink "MoleBoardLaw" (277 : Nat) ({ cls := "MoleBoard", name := "count", desc := "(I)I" } : Jvm.MethodName)) ∈ lw_all := lw_g (lw_at lw_m7 207 rfl) rfl
theorem q1795 : (Jvm.Cond.methodLink "MoleBoardLaw" (281 : Nat) ({ cls := "MoleBoard", name := "image", desc := "(I)I" } : Jvm.MethodName)) ∈ lw_all := lw_g (lw_at lw_m7 211 rfl) rfl
theorem q1822 : (Jvm.Cond.methodLink "MoleBoardLaw" (285 : Nat) ({ cls := "MoleBoard", name := "back", desc := "(I)I" } : Jvm.MethodName)) ∈ lw_all := lw_g (lw_at lw_m7 238 rfl) rfl
theorem q1826 : (Jvm.Cond.classLink "MoleBoardLaw" (10 : Nat) "MoleBoardModel") ∈ lw_all := lw_g (lw_at lw_m8 2 rfl) rfl
theorem q1828 : (Jvm.Cond.methodLink "MoleBoardLaw" (12 : Nat) ({ cls := "MoleBoardModel", name := "<init>", desc := "()V" } : Jvm.MethodName)) ∈ lw_all := lw_g (lw_at lw_m8 4 rfl) rfl
theorem q1974 : (Jvm.Cond.methodLink "MoleBoardLaw" (284 : Nat) ({ cls := "MoleBoardModel", name := "image", desc := "(I)I" } : Jvm.MethodName)) ∈ lw_all := lw_g (lw_at lw_m8 150 rfl) rfl
theorem q1982 : (Jvm.Cond.methodLink "MoleBoardLaw" (288 : Nat) ({ cls := "MoleBoardModel", name := "back", desc := "(I)I" } : Jvm.MethodName)) ∈ lw_all := lw_g (lw_at lw_m8 158 rfl) rfl
theorem q1986 : (Jvm.Cond.methodLink "MoleBoardLaw" (17 : Nat) ({ cls := "MoleBoardModel", name := "feed", desc := "(IIIII)I" } : Jvm.MethodName)) ∈ lw_all := lw_g (lw_at lw_m8 162 rfl) rfl
theorem q1990 : (Jvm.Cond.methodLink "MoleBoardLaw" (22 : Nat) ({ cls := "MoleBoardModel", name := "end", desc := "(I)I" } : Jvm.MethodName)) ∈ lw_all := lw_g (lw_at lw_m8 166 rfl) rfl
theorem q1994 : (Jvm.Cond.methodLink "MoleBoardLaw" (31 : Nat) ({ cls := "MoleBoardModel", name := "fault", desc := "(I)I" } : Jvm.MethodName)) ∈ lw_all := lw_g (lw_at lw_m8 170 rfl) rfl
theorem q1998 : (Jvm.Cond.methodLink "MoleBoardLaw" (27 : Nat) ({ cls := "MoleBoardModel", name := "board", desc := "()I" } : Jvm.MethodName)) ∈ lw_all := lw_g (lw_at lw_m8 174 rfl) rfl
theorem q2113 : (Jvm.Cond.methodLink "MoleBoardLaw" (36 : Nat) ({ cls := "MoleBoardModel", name := "drum", desc := "(II)I" } : Jvm.MethodName)) ∈ lw_all := lw_g (lw_at lw_m9 49 rfl) rfl
theorem q2125 : (Jvm.Cond.methodLink "MoleBoardLaw" (40 : Nat) ({ cls := "MoleBoardModel", name := "player", desc := "(II)I" } : Jvm.MethodName)) ∈ lw_all := lw_g (lw_at lw_m9 61 rfl) rfl
theorem q2138 : (Jvm.Cond.methodLink "MoleBoardLaw" (44 : Nat) ({ cls := "MoleBoardModel", name := "stay", desc := "(I)I" } : Jvm.MethodName)) ∈ lw_all := lw_g (lw_at lw_m9 74 rfl) rfl
theorem q2150 : (Jvm.Cond.methodLink "MoleBoardLaw" (48 : Nat) ({ cls := "MoleBoardModel", name := "comings", desc := "()I" } : Jvm.MethodName)) ∈ lw_all := lw_g (lw_at lw_m9 86 rfl) rfl
theorem q2174 : (Jvm.Cond.methodLink "MoleBoardLaw" (52 : Nat) ({ cls := "MoleBoardModel", name := "comes", desc := "(II)I" } : Jvm.MethodName)) ∈ lw_all := lw_g (lw_at lw_m9 110 rfl) rfl
theorem q2186 : (Jvm.Cond.methodLink "MoleBoardLaw" (56 : Nat) ({ cls := "MoleBoardModel", name := "up", desc := "(I)I" } : Jvm.MethodName)) ∈ lw_all := lw_g (lw_at lw_m9 122 rfl) rfl
theorem q2194 : (Jvm.Cond.methodLink "MoleBoardLaw" (60 : Nat) ({ cls := "MoleBoardModel", name := "calm", desc := "()I" } : Jvm.MethodName)) ∈ lw_all := lw_g (lw_at lw_m9 130 rfl) rfl
theorem q2198 : (Jvm.Cond.methodLink "MoleBoardLaw" (64 : Nat) ({ cls := "MoleBoardModel", name := "steps", desc := "(II)I" } : Jvm.MethodName)) ∈ lw_all := lw_g (lw_at lw_m9 134 rfl) rfl
theorem q2215 : (Jvm.Cond.methodLink "MoleBoardLaw" (68 : Nat) ({ cls := "MoleBoardModel", name := "pace", desc := "(II)I" } : Jvm.MethodName)) ∈ lw_all := lw_g (lw_at lw_m9 151 rfl) rfl
theorem q2223 : (Jvm.Cond.methodLink "MoleBoardLaw" (72 : Nat) ({ cls := "MoleBoardModel", name := "aware", desc := "(II)I" } : Jvm.MethodName)) ∈ lw_all := lw_g (lw_at lw_m9 159 rfl) rfl
theorem q2235 : (Jvm.Cond.methodLink "MoleBoardLaw" (76 : Nat) ({ cls := "MoleBoardModel", name := "hits", desc := "(I)I" } : Jvm.MethodName)) ∈ lw_all := lw_g (lw_at lw_m9 171 rfl) rfl
theorem q2260 : (Jvm.Cond.methodLink "MoleBoardLaw" (80 : Nat) ({ cls := "MoleBoardModel", name := "hit", desc := "(II)I" } : Jvm.MethodName)) ∈ lw_all := lw_g (lw_at lw_m9 196 rfl) rfl
theorem q2264 : (Jvm.Cond.methodLink "MoleBoardLaw" (84 : Nat) ({ cls := "MoleBoardModel", name := "twice", desc := "(II)I" } : Jvm.MethodName)) ∈ lw_all := lw_g (lw_at lw_m9 200 rfl) rfl
theorem q2268 : (Jvm.Cond.methodLink "MoleBoardLaw" (88 : Nat) ({ cls := "MoleBoardModel", name := "where", desc := "(II)I" } : Jvm.MethodName)) ∈ lw_all := lw_g (lw_at lw_m9 204 rfl) rfl
theorem q2272 : (Jvm.Cond.methodLink "MoleBoardLaw" (92 : Nat) ({ cls := "MoleBoardModel", name := "missed", desc := "(I)I" } : Jvm.MethodName)) ∈ lw_all := lw_g (lw_at lw_m9 208 rfl) rfl
theorem q2276 : (Jvm.Cond.methodLink "MoleBoardLaw" (96 : Nat) ({ cls := "MoleBoardModel", name := "walked", desc := "(I)I" } : Jvm.MethodName)) ∈ lw_all := lw_g (lw_at lw_m9 212 rfl) rfl
theorem q2280 : (Jvm.Cond.methodLink "MoleBoardLaw" (100 : Nat) ({ cls := "MoleBoardModel", name := "best", desc := "(I)I" } : Jvm.MethodName)) ∈ lw_all := lw_g (lw_at lw_m9 216 rfl) rfl
theorem q2304 : (Jvm.Cond.methodLink "MoleBoardLaw" (104 : Nat) ({ cls := "MoleBoardModel", name := "ahead", desc := "(II)I" } : Jvm.MethodName)) ∈ lw_all := lw_g (lw_at lw_m10 0 rfl) rfl
theorem q2309 : (Jvm.Cond.methodLink "MoleBoardLaw" (108 : Nat) ({ cls := "MoleBoardModel", name := "learns", desc := "(II)I" } : Jvm.MethodName)) ∈ lw_all := lw_g (lw_at lw_m10 5 rfl) rfl
theorem q2318 : (Jvm.Cond.methodLink "MoleBoardLaw" (112 : Nat) ({ cls := "MoleBoardModel", name := "enough", desc := "(I)I" } : Jvm.MethodName)) ∈ lw_all := lw_g (lw_at lw_m10 14 rfl) rfl
theorem q2322 : (Jvm.Cond.methodLink "MoleBoardLaw" (116 : Nat) ({ cls := "MoleBoardModel", name := "waits", desc := "(II)I" } : Jvm.MethodName)) ∈ lw_all := lw_g (lw_at lw_m10 18 rfl) rfl
theorem q2330 : (Jvm.Cond.methodLink "MoleBoardLaw" (120 : Nat) ({ cls := "MoleBoardModel", name := "mean", desc := "(II)I" } : Jvm.MethodName)) ∈ lw_all := lw_g (lw_at lw_m10 26 rfl) rfl
theorem q2349 : (Jvm.Cond.methodLink "MoleBoardLaw" (124 : Nat) ({ cls := "MoleBoardModel", name := "middle", desc := "(I)I" } : Jvm.MethodName)) ∈ lw_all := lw_g (lw_at lw_m10 45 rfl) rfl
theorem q2353 : (Jvm.Cond.methodLink "MoleBoardLaw" (128 : Nat) ({ cls := "MoleBoardModel", name := "reach", desc := "(II)I" } : Jvm.MethodName)) ∈ lw_all := lw_g (lw_at lw_m10 49 rfl) rfl
theorem q2361 : (Jvm.Cond.methodLink "MoleBoardLaw" (132 : Nat) ({ cls := "MoleBoardModel", name := "post", desc := "(I)I" } : Jvm.MethodName)) ∈ lw_all := lw_g (lw_at lw_m10 57 rfl) rfl
theorem q2368 : (Jvm.Cond.methodLink "MoleBoardLaw" (136 : Nat) ({ cls := "MoleBoardModel", name := "slack", desc := "(I)I" } : Jvm.MethodName)) ∈ lw_all := lw_g (lw_at lw_m10 64 rfl) rfl
theorem q2376 : (Jvm.Cond.methodLink "MoleBoardLaw" (141 : Nat) ({ cls := "MoleBoardModel", name := "rows", desc := "(II)J" } : Jvm.MethodName)) ∈ lw_all := lw_g (lw_at lw_m10 72 rfl) rfl
theorem q2398 : (Jvm.Cond.methodLink "MoleBoardLaw" (146 : Nat) ({ cls := "MoleBoardModel", name := "ends", desc := "(III)J" } : Jvm.MethodName)) ∈ lw_all := lw_g (lw_at lw_m10 94 rfl) rfl
theorem q2402 : (Jvm.Cond.methodLink "MoleBoardLaw" (150 : Nat) ({ cls := "MoleBoardModel", name := "fair", desc := "(I)I" } : Jvm.MethodName)) ∈ lw_all := lw_g (lw_at lw_m10 98 rfl) rfl
theorem q2406 : (Jvm.Cond.methodLink "MoleBoardLaw" (154 : Nat) ({ cls := "MoleBoardModel", name := "breaks", desc := "(I)I" } : Jvm.MethodName)) ∈ lw_all := lw_g (lw_at lw_m10 102 rfl) rfl
theorem q2415 : (Jvm.Cond.methodLink "MoleBoardLaw" (158 : Nat) ({ cls := "MoleBoardModel", name := "period", desc := "(I)I" } : Jvm.MethodName)) ∈ lw_all := lw_g (lw_at lw_m10 111 rfl) rfl
theorem q2438 : (Jvm.Cond.methodLink "MoleBoardLaw" (162 : Nat) ({ cls := "MoleBoardModel", name := "periods", desc := "(I)I" } : Jvm.MethodName)) ∈ lw_all := lw_g (lw_at lw_m10 134 rfl) rfl
theorem q2442 : (Jvm.Cond.methodLink "MoleBoardLaw" (166 : Nat) ({ cls := "MoleBoardModel", name := "luck", desc := "(I)I" } : Jvm.MethodName)) ∈ lw_all := lw_g (lw_at lw_m10 138 rfl) rfl
theorem q2447 : (Jvm.Cond.methodLink "MoleBoardLaw" (170 : Nat) ({ cls := "MoleBoardModel", name := "fits", desc := "(I)I" } : Jvm.MethodName)) ∈ lw_all := lw_g (lw_at lw_m10 143 rfl) rfl
theorem q2455 : (Jvm.Cond.methodLink "MoleBoardLaw" (174 : Nat) ({ cls := "MoleBoardModel", name := "place", desc := "(II)I" } : Jvm.MethodName)) ∈ lw_all := lw_g (lw_at lw_m10 151 rfl) rfl
theorem q2459 : (Jvm.Cond.methodLink "MoleBoardLaw" (178 : Nat) ({ cls := "MoleBoardModel", name := "next", desc := "(I)I" } : Jvm.MethodName)) ∈ lw_all := lw_g (lw_at lw_m10 155 rfl) rfl
theorem q2463 : (Jvm.Cond.methodLink "MoleBoardLaw" (182 : Nat) ({ cls := "MoleBoardModel", name := "needed", desc := "(I)I" } : Jvm.MethodName)) ∈ lw_all := lw_g (lw_at lw_m10 159 rfl) rfl
theorem q2475 : (Jvm.Cond.methodLink "MoleBoardLaw" (186 : Nat) ({ cls := "MoleBoardModel", name := "known", desc := "()I" } : Jvm.MethodName)) ∈ lw_all := lw_g (lw_at lw_m10 171 rfl) rfl
theorem q2479 : (Jvm.Cond.methodLink "MoleBoardLaw" (190 : Nat) ({ cls := "MoleBoardModel", name := "rash", desc := "(I)I" } : Jvm.MethodName)) ∈ lw_all := lw_g (lw_at lw_m10 175 rfl) rfl
theorem q2487 : (Jvm.Cond.methodLink "MoleBoardLaw" (194 : Nat) ({ cls := "MoleBoardModel", name := "look", desc := "(II)I" } : Jvm.MethodName)) ∈ lw_all := lw_g (lw_at lw_m10 183 rfl) rfl
theorem q2496 : (Jvm.Cond.methodLink "MoleBoardLaw" (198 : Nat) ({ cls := "MoleBoardModel", name := "line", desc := "(I)I" } : Jvm.MethodName)) ∈ lw_all := lw_g (lw_at lw_m10 192 rfl) rfl
theorem q2500 : (Jvm.Cond.methodLink "MoleBoardLaw" (203 : Nat) ({ cls := "MoleBoardModel", name := "two", desc := "(III)I" } : Jvm.MethodName)) ∈ lw_all := lw_g (lw_at lw_m10 196 rfl) rfl
theorem q2508 : (Jvm.Cond.methodLink "MoleBoardLaw" (207 : Nat) ({ cls := "MoleBoardModel", name := "tickets", desc := "(I)I" } : Jvm.MethodName)) ∈ lw_all := lw_g (lw_at lw_m10 204 rfl) rfl
theorem q2516 : (Jvm.Cond.methodLink "MoleBoardLaw" (211 : Nat) ({ cls := "MoleBoardModel", name := "prize", desc := "(I)I" } : Jvm.MethodName)) ∈ lw_all := lw_g (lw_at lw_m10 212 rfl) rfl
theorem q2520 : (Jvm.Cond.methodLink "MoleBoardLaw" (215 : Nat) ({ cls := "MoleBoardModel", name := "counted", desc := "(I)I" } : Jvm.MethodName)) ∈ lw_all := lw_g (lw_at lw_m10 216 rfl) rfl
theorem q2536 : (Jvm.Cond.methodLink "MoleBoardLaw" (219 : Nat) ({ cls := "MoleBoardModel", name := "scored", desc := "(I)I" } : Jvm.MethodName)) ∈ lw_all := lw_g (lw_at lw_m10 232 rfl) rfl
theorem q2540 : (Jvm.Cond.methodLink "MoleBoardLaw" (223 : Nat) ({ cls := "MoleBoardModel", name := "early", desc := "(II)I" } : Jvm.MethodName)) ∈ lw_all := lw_g (lw_at lw_m10 236 rfl) rfl
theorem q2544 : (Jvm.Cond.methodLink "MoleBoardLaw" (227 : Nat) ({ cls := "MoleBoardModel", name := "often", desc := "(I)I" } : Jvm.MethodName)) ∈ lw_all := lw_g (lw_at lw_m11 0 rfl) rfl
theorem q2552 : (Jvm.Cond.methodLink "MoleBoardLaw" (231 : Nat) ({ cls := "MoleBoardModel", name := "balance", desc := "()I" } : Jvm.MethodName)) ∈ lw_all := lw_g (lw_at lw_m11 8 rfl) rfl
theorem q2556 : (Jvm.Cond.methodLink "MoleBoardLaw" (235 : Nat) ({ cls := "MoleBoardModel", name := "path", desc := "()I" } : Jvm.MethodName)) ∈ lw_all := lw_g (lw_at lw_m11 12 rfl) rfl
theorem q2564 : (Jvm.Cond.methodLink "MoleBoardLaw" (239 : Nat) ({ cls := "MoleBoardModel", name := "better", desc := "(I)I" } : Jvm.MethodName)) ∈ lw_all := lw_g (lw_at lw_m11 20 rfl) rfl
theorem q2572 : (Jvm.Cond.methodLink "MoleBoardLaw" (243 : Nat) ({ cls := "MoleBoardModel", name := "swap", desc := "(II)I" } : Jvm.MethodName)) ∈ lw_all := lw_g (lw_at lw_m11 28 rfl) rfl
theorem q2576 : (Jvm.Cond.methodLink "MoleBoardLaw" (247 : Nat) ({ cls := "MoleBoardModel", name := "paint", desc := "(II)I" } : Jvm.MethodName)) ∈ lw_all := lw_g (lw_at lw_m11 32 rfl) rfl
theorem q2580 : (Jvm.Cond.methodLink "MoleBoardLaw" (251 : Nat) ({ cls := "MoleBoardModel", name := "turn", desc := "(I)I" } : Jvm.MethodName)) ∈ lw_all := lw_g (lw_at lw_m11 36 rfl) rfl
theorem q2584 : (Jvm.Cond.methodLink "MoleBoardLaw" (255 : Nat) ({ cls := "MoleBoardModel", name := "lucky", desc := "(I)I" } : Jvm.MethodName)) ∈ lw_all := lw_g (lw_at lw_m11 40 rfl) rfl
theorem q2588 : (Jvm.Cond.methodLink "MoleBoardLaw" (259 : Nat) ({ cls := "MoleBoardModel", name := "shut", desc := "(II)I" } : Jvm.MethodName)) ∈ lw_all := lw_g (lw_at lw_m11 44 rfl) rfl
theorem q2592 : (Jvm.Cond.methodLink "MoleBoardLaw" (263 : Nat) ({ cls := "MoleBoardModel", name := "train", desc := "(III)I" } : Jvm.MethodName)) ∈ lw_all := lw_g (lw_at lw_m11 48 rfl) rfl
theorem q2597 : (Jvm.Cond.methodLink "MoleBoardLaw" (267 : Nat) ({ cls := "MoleBoardModel", name := "drawn", desc := "(III)I" } : Jvm.MethodName)) ∈ lw_all := lw_g (lw_at lw_m11 53 rfl) rfl
theorem q2621 : (Jvm.Cond.methodLink "MoleBoardLaw" (271 : Nat) ({ cls := "MoleBoardModel", name := "night", desc := "(III)I" } : Jvm.MethodName)) ∈ lw_all := lw_g (lw_at lw_m11 77 rfl) rfl
theorem q2629 : (Jvm.Cond.methodLink "MoleBoardLaw" (276 : Nat) ({ cls := "MoleBoardModel", name := "years", desc := "(IIII)I" } : Jvm.MethodName)) ∈ lw_all := lw_g (lw_at lw_m11 85 rfl) rfl
theorem q2633 : (Jvm.Cond.methodLink "MoleBoardLaw" (280 : Nat) ({ cls := "MoleBoardModel", name := "count", desc := "(I)I" } : Jvm.MethodName)) ∈ lw_all := lw_g (lw_at lw_m11 89 rfl) rfl
theorem q2637 : (Jvm.Cond.methodLink "MoleBoardLaw" (292 : Nat) ({ cls := "MoleBoardModel", name := "row", desc := "(III)I" } : Jvm.MethodName)) ∈ lw_all := lw_g (lw_at lw_m11 93 rfl) rfl
theorem q2641 : (Jvm.Cond.methodLink "MoleBoardLaw" (299 : Nat) ({ cls := "MoleBoardModel", name := "write", desc := "(IIJ)I" } : Jvm.MethodName)) ∈ lw_all := lw_g (lw_at lw_m11 97 rfl) rfl
theorem q2648 : (Jvm.Cond.methodLink "MoleBoardLaw" (303 : Nat) ({ cls := "MoleBoardModel", name := "paste", desc := "(IIIII)I" } : Jvm.MethodName)) ∈ lw_all := lw_g (lw_at lw_m11 104 rfl) rfl
theorem q2652 : (Jvm.Cond.constantLong "MoleBoardLaw" (293 : Nat) (4294967295 : Int64)) ∈ lw_all := lw_g (lw_at lw_m11 108 rfl) rfl

theorem q173 : (Jvm.Cond.initialized "java/lang/System") ∈ lw_all := lw_g (lw_at lw_m1 29 rfl) rfl
set_option maxRecDepth 100000
theorem q381 : (Jvm.Cond.static ({ cls := "java/lang/System", name := "arraycopy", desc := "(Ljava/lang/Object;ILjava/lang/Object;II)V" } : Jvm.MethodName)) ∈ lw_all := lw_g (lw_at lw_m1 237 rfl) rfl
theorem q382 : (Jvm.Cond.native ({ cls := "java/lang/System", name := "arraycopy", desc := "(Ljava/lang/Object;ILjava/lang/Object;II)V" } : Jvm.MethodName)) ∈ lw_all := lw_g (lw_at lw_m1 238 rfl) rfl

theorem q964 : (Jvm.Cond.interfaceMethod "java/util/List" "java/util/List" "iterator" "()Ljava/util/Iterator;") ∈ lw_tbl := lw_at lw_m4 100 rfl
set_option maxRecDepth 100000
theorem q965 : (Jvm.Cond.declares ({ cls := "java/util/List", name := "iterator", desc := "()Ljava/util/Iterator;" } : Jvm.MethodName)) ∈ lw_tbl := lw_at lw_m4 101 rfl
theorem q1032 : (Jvm.Cond.interfaceMethod "java/util/List" "java/util/List" "size" "()I") ∈ lw_tbl := lw_at lw_m4 168 rfl
theorem q1033 : (Jvm.Cond.declares ({ cls := "java/util/List", name := "size", desc := "()I" } : Jvm.MethodName)) ∈ lw_tbl := lw_at lw_m4 169 rfl
theorem q1075 : (Jvm.Cond.interfaceMethod "java/util/List" "java/util/List" "add" "(Ljava/lang/Object;)Z") ∈ lw_tbl := lw_at lw_m4 211 rfl
theorem q1076 : (Jvm.Cond.declares ({ cls := "java/util/List", name := "add", desc := "(Ljava/lang/Object;)Z" } : Jvm.MethodName)) ∈ lw_tbl := lw_at lw_m4 212 rfl
theorem q1196 : (Jvm.Cond.interfaceMethod "java/util/List" "java/util/List" "get" "(I)Ljava/lang/Object;") ∈ lw_tbl := lw_at lw_m5 92 rfl
theorem q1197 : (Jvm.Cond.declares ({ cls := "java/util/List", name := "get", desc := "(I)Ljava/lang/Object;" } : Jvm.MethodName)) ∈ lw_tbl := lw_at lw_m5 93 rfl
theorem q1732 : (Jvm.Cond.interfaceMethod "java/util/List" "java/util/List" "set" "(ILjava/lang/Object;)Ljava/lang/Object;") ∈ lw_tbl := lw_at lw_m7 148 rfl
theorem q1733 : (Jvm.Cond.declares ({ cls := "java/util/List", name := "set", desc := "(ILjava/lang/Object;)Ljava/lang/Object;" } : Jvm.MethodName)) ∈ lw_tbl := lw_at lw_m7 149 rfl

theorem q993 : (Jvm.Cond.interfaceMethod "java/util/Iterator" "java/util/Iterator" "hasNext" "()Z") ∈ lw_tbl := lw_at lw_m4 129 rfl
set_option maxRecDepth 100000
theorem q994 : (Jvm.Cond.declares ({ cls := "java/util/Iterator", name := "hasNext", desc := "()Z" } : Jvm.MethodName)) ∈ lw_tbl := lw_at lw_m4 130 rfl
theorem q1003 : (Jvm.Cond.interfaceMethod "java/util/Iterator" "java/util/Iterator" "next" "()Ljava/lang/Object;") ∈ lw_tbl := lw_at lw_m4 139 rfl
theorem q1004 : (Jvm.Cond.declares ({ cls := "java/util/Iterator", name := "next", desc := "()Ljava/lang/Object;" } : Jvm.MethodName)) ∈ lw_tbl := lw_at lw_m4 140 rfl

theorem q2678 : (Jvm.Cond.sameMethod "[Ljava/lang/Object;" "java/lang/Object" "getClass" "()Ljava/lang/Class;") ∈ lw_all := lw_g (lw_at lw_m11 134 rfl) rfl
set_option maxRecDepth 100000
theorem q2679 : (Jvm.Cond.selects "[Ljava/lang/Object;" ({ cls := "java/lang/Object", name := "getClass", desc := "()Ljava/lang/Class;" } : Jvm.MethodName) ({ cls := "java/lang/Object", name := "getClass", desc := "()Ljava/lang/Class;" } : Jvm.MethodName)) ∈ lw_all := lw_g (lw_at lw_m11 135 rfl) rfl
theorem q2686 : (Jvm.Cond.castable "[Ljava/lang/Object;" "java/lang/Object") ∈ lw_tbl := lw_at lw_m11 142 rfl

theorem q2681 : (Jvm.Cond.castable "[B" "java/lang/Object") ∈ lw_tbl := lw_at lw_m11 137 rfl
set_option maxRecDepth 100000

theorem q2682 : (Jvm.Cond.castable "[S" "java/lang/Object") ∈ lw_tbl := lw_at lw_m11 138 rfl
set_option maxRecDepth 100000

theorem q2683 : (Jvm.Cond.castable "[I" "java/lang/Object") ∈ lw_tbl := lw_at lw_m11 139 rfl
set_option maxRecDepth 100000

theorem q2684 : (Jvm.Cond.castable "[J" "java/lang/Object") ∈ lw_tbl := lw_at lw_m11 140 rfl
set_option maxRecDepth 100000

theorem q2685 : (Jvm.Cond.castable "[LMoleBoard$Slot;" "java/lang/Object") ∈ lw_tbl := lw_at lw_m11 141 rfl
set_option maxRecDepth 100000

theorem q2687 : (Jvm.Cond.castable "[LMoleBoard$Board;" "java/lang/Object") ∈ lw_tbl := lw_at lw_m11 143 rfl
set_option maxRecDepth 100000

theorem q2688 : (Jvm.Cond.castable "[LMoleBoard$Mole;" "java/lang/Object") ∈ lw_tbl := lw_at lw_m11 144 rfl
set_option maxRecDepth 100000

theorem q2689 : (Jvm.Cond.castable "[[I" "java/lang/Object") ∈ lw_tbl := lw_at lw_m11 145 rfl
set_option maxRecDepth 100000

theorem q2690 : (Jvm.Cond.castable "[[J" "java/lang/Object") ∈ lw_tbl := lw_at lw_m11 146 rfl
set_option maxRecDepth 100000

theorem q2691 : (Jvm.Cond.castable "[Z" "java/lang/Object") ∈ lw_tbl := lw_at lw_m11 147 rfl
set_option maxRecDepth 100000

