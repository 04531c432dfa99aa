set_option maxRecDepth 100000
abbrev cX10_bits : ByteArray := prog_16_method_92_code
def yX10_bits : MethodName := ⟨RX10, "bits", "(I)I"⟩
def dkwX10_bits_1 : List UInt8 := [27, 172]
abbrev dktX10_bits_1 : List UInt8 := dkwX10_bits_1 ++ []
def dkwX10_bits_0 : List UInt8 := [3, 60, 3, 61, 28, 16, 12, 162, 0, 17, 27, 26, 28, 122, 4, 126, 96, 60, 132, 2, 1, 167, 255, 239]
abbrev dktX10_bits_0 : List UInt8 := dkwX10_bits_0 ++ dktX10_bits_1
theorem dksX10_bits_0 : cX10_bits.data.toList.drop 0 = dktX10_bits_0 := by decide +kernel
theorem dksX10_bits_1 : cX10_bits.data.toList.drop 24 = dktX10_bits_1 := dk_seg dksX10_bits_0 24 rfl rfl
theorem dX10_bits_0 : decode cX10_bits 0 = .ok (.iconst 0, 1) := dk_3 (dk_at dksX10_bits_0 0 rfl rfl)
theorem dX10_bits_1 : decode cX10_bits 1 = .ok (.istore_n 1, 1) := dk_60 (dk_at dksX10_bits_0 1 rfl rfl)
theorem dX10_bits_2 : decode cX10_bits 2 = .ok (.iconst 0, 1) := dk_3 (dk_at dksX10_bits_0 2 rfl rfl)
theorem dX10_bits_3 : decode cX10_bits 3 = .ok (.istore_n 2, 1) := dk_61 (dk_at dksX10_bits_0 3 rfl rfl)
theorem dX10_bits_4 : decode cX10_bits 4 = .ok (.iload_n 2, 1) := dk_28 (dk_at dksX10_bits_0 4 rfl rfl)
theorem dX10_bits_5 : decode cX10_bits 5 = .ok (.bipush 12, 2) := dk_16 12 (dk_at dksX10_bits_0 5 rfl rfl)
theorem dX10_bits_7 : decode cX10_bits 7 = .ok (.if_icmp .ge 17, 3) := dk_162 0 17 (dk_at dksX10_bits_0 7 rfl rfl)
theorem dX10_bits_10 : decode cX10_bits 10 = .ok (.iload_n 1, 1) := dk_27 (dk_at dksX10_bits_0 10 rfl rfl)
theorem dX10_bits_11 : decode cX10_bits 11 = .ok (.iload_n 0, 1) := dk_26 (dk_at dksX10_bits_0 11 rfl rfl)
theorem dX10_bits_12 : decode cX10_bits 12 = .ok (.iload_n 2, 1) := dk_28 (dk_at dksX10_bits_0 12 rfl rfl)
theorem dX10_bits_13 : decode cX10_bits 13 = .ok (.ishr, 1) := dk_122 (dk_at dksX10_bits_0 13 rfl rfl)
theorem dX10_bits_14 : decode cX10_bits 14 = .ok (.iconst 1, 1) := dk_4 (dk_at dksX10_bits_0 14 rfl rfl)
theorem dX10_bits_15 : decode cX10_bits 15 = .ok (.iand, 1) := dk_126 (dk_at dksX10_bits_0 15 rfl rfl)
theorem dX10_bits_16 : decode cX10_bits 16 = .ok (.iadd, 1) := dk_96 (dk_at dksX10_bits_0 16 rfl rfl)
theorem dX10_bits_17 : decode cX10_bits 17 = .ok (.istore_n 1, 1) := dk_60 (dk_at dksX10_bits_0 17 rfl rfl)
theorem dX10_bits_18 : decode cX10_bits 18 = .ok (.iinc 2 1, 3) := dk_132 2 1 (dk_at dksX10_bits_0 18 rfl rfl)
theorem dX10_bits_21 : decode cX10_bits 21 = .ok (.goto (-17), 3) := dk_167 255 239 (dk_at dksX10_bits_0 21 rfl rfl)
theorem dX10_bits_24 : decode cX10_bits 24 = .ok (.iload_n 1, 1) := dk_27 (dk_at dksX10_bits_1 0 rfl rfl)
theorem dX10_bits_25 : decode cX10_bits 25 = .ok (.ireturn, 1) := dk_172 (dk_at dksX10_bits_1 1 rfl rfl)
abbrev cX10_slack : ByteArray := prog_16_method_95_code
def yX10_slack : MethodName := ⟨RX10, "slack", "(I)I"⟩
def dkwX10_slack_2 : List UInt8 := [167, 0, 4, 29, 62, 132, 4, 1, 167, 255, 228, 29, 172]
abbrev dktX10_slack_2 : List UInt8 := dkwX10_slack_2 ++ []
def dkwX10_slack_1 : List UInt8 := [4, 54, 4, 21, 4, 16, 20, 163, 0, 27, 42, 27, 21, 4, 182, 1, 157, 28, 160, 0, 8, 21, 4]
abbrev dktX10_slack_1 : List UInt8 := dkwX10_slack_1 ++ dktX10_slack_2
def dkwX10_slack_0 : List UInt8 := [42, 27, 182, 1, 14, 154, 0, 6, 16, 254, 172, 42, 182, 1, 29, 42, 27, 3, 182, 1, 157, 61, 3, 62]
abbrev dktX10_slack_0 : List UInt8 := dkwX10_slack_0 ++ dktX10_slack_1
theorem dksX10_slack_0 : cX10_slack.data.toList.drop 0 = dktX10_slack_0 := by decide +kernel
theorem dksX10_slack_1 : cX10_slack.data.toList.drop 24 = dktX10_slack_1 := dk_seg dksX10_slack_0 24 rfl rfl
theorem dksX10_slack_2 : cX10_slack.data.toList.drop 47 = dktX10_slack_2 := dk_seg dksX10_slack_1 23 rfl rfl
theorem dX10_slack_0 : decode cX10_slack 0 = .ok (.aload_n 0, 1) := dk_42 (dk_at dksX10_slack_0 0 rfl rfl)
theorem dX10_slack_1 : decode cX10_slack 1 = .ok (.iload_n 1, 1) := dk_27 (dk_at dksX10_slack_0 1 rfl rfl)
theorem dX10_slack_2 : decode cX10_slack 2 = .ok (.invokevirtual 270, 3) := dk_182 1 14 (dk_at dksX10_slack_0 2 rfl rfl)
theorem dX10_slack_5 : decode cX10_slack 5 = .ok (.ifCond .ne 6, 3) := dk_154 0 6 (dk_at dksX10_slack_0 5 rfl rfl)
theorem dX10_slack_8 : decode cX10_slack 8 = .ok (.bipush (-2), 2) := dk_16 254 (dk_at dksX10_slack_0 8 rfl rfl)
theorem dX10_slack_10 : decode cX10_slack 10 = .ok (.ireturn, 1) := dk_172 (dk_at dksX10_slack_0 10 rfl rfl)
theorem dX10_slack_11 : decode cX10_slack 11 = .ok (.aload_n 0, 1) := dk_42 (dk_at dksX10_slack_0 11 rfl rfl)
theorem dX10_slack_12 : decode cX10_slack 12 = .ok (.invokevirtual 285, 3) := dk_182 1 29 (dk_at dksX10_slack_0 12 rfl rfl)
theorem dX10_slack_15 : decode cX10_slack 15 = .ok (.aload_n 0, 1) := dk_42 (dk_at dksX10_slack_0 15 rfl rfl)
theorem dX10_slack_16 : decode cX10_slack 16 = .ok (.iload_n 1, 1) := dk_27 (dk_at dksX10_slack_0 16 rfl rfl)
theorem dX10_slack_17 : decode cX10_slack 17 = .ok (.iconst 0, 1) := dk_3 (dk_at dksX10_slack_0 17 rfl rfl)
theorem dX10_slack_18 : decode cX10_slack 18 = .ok (.invokevirtual 413, 3) := dk_182 1 157 (dk_at dksX10_slack_0 18 rfl rfl)
theorem dX10_slack_21 : decode cX10_slack 21 = .ok (.istore_n 2, 1) := dk_61 (dk_at dksX10_slack_0 21 rfl rfl)
theorem dX10_slack_22 : decode cX10_slack 22 = .ok (.iconst 0, 1) := dk_3 (dk_at dksX10_slack_0 22 rfl rfl)
theorem dX10_slack_23 : decode cX10_slack 23 = .ok (.istore_n 3, 1) := dk_62 (dk_at dksX10_slack_0 23 rfl rfl)
theorem dX10_slack_24 : decode cX10_slack 24 = .ok (.iconst 1, 1) := dk_4 (dk_at dksX10_slack_1 0 rfl rfl)
theorem dX10_slack_25 : decode cX10_slack 25 = .ok (.istore 4, 2) := dk_54 4 (dk_at dksX10_slack_1 1 rfl rfl)
theorem dX10_slack_27 : decode cX10_slack 27 = .ok (.iload 4, 2) := dk_21 4 (dk_at dksX10_slack_1 3 rfl rfl)
theorem dX10_slack_29 : decode cX10_slack 29 = .ok (.bipush 20, 2) := dk_16 20 (dk_at dksX10_slack_1 5 rfl rfl)
theorem dX10_slack_31 : decode cX10_slack 31 = .ok (.if_icmp .gt 27, 3) := dk_163 0 27 (dk_at dksX10_slack_1 7 rfl rfl)
theorem dX10_slack_34 : decode cX10_slack 34 = .ok (.aload_n 0, 1) := dk_42 (dk_at dksX10_slack_1 10 rfl rfl)
theorem dX10_slack_35 : decode cX10_slack 35 = .ok (.iload_n 1, 1) := dk_27 (dk_at dksX10_slack_1 11 rfl rfl)
theorem dX10_slack_36 : decode cX10_slack 36 = .ok (.iload 4, 2) := dk_21 4 (dk_at dksX10_slack_1 12 rfl rfl)
theorem dX10_slack_38 : decode cX10_slack 38 = .ok (.invokevirtual 413, 3) := dk_182 1 157 (dk_at dksX10_slack_1 14 rfl rfl)
theorem dX10_slack_41 : decode cX10_slack 41 = .ok (.iload_n 2, 1) := dk_28 (dk_at dksX10_slack_1 17 rfl rfl)
theorem dX10_slack_42 : decode cX10_slack 42 = .ok (.if_icmp .ne 8, 3) := dk_160 0 8 (dk_at dksX10_slack_1 18 rfl rfl)
theorem dX10_slack_45 : decode cX10_slack 45 = .ok (.iload 4, 2) := dk_21 4 (dk_at dksX10_slack_1 21 rfl rfl)
theorem dX10_slack_47 : decode cX10_slack 47 = .ok (.goto 4, 3) := dk_167 0 4 (dk_at dksX10_slack_2 0 rfl rfl)
theorem dX10_slack_50 : decode cX10_slack 50 = .ok (.iload_n 3, 1) := dk_29 (dk_at dksX10_slack_2 3 rfl rfl)
theorem dX10_slack_51 : decode cX10_slack 51 = .ok (.istore_n 3, 1) := dk_62 (dk_at dksX10_slack_2 4 rfl rfl)
theorem dX10_slack_52 : decode cX10_slack 52 = .ok (.iinc 4 1, 3) := dk_132 4 1 (dk_at dksX10_slack_2 5 rfl rfl)
theorem dX10_slack_55 : decode cX10_slack 55 = .ok (.goto (-28), 3) := dk_167 255 228 (dk_at dksX10_slack_2 8 rfl rfl)
theorem dX10_slack_58 : decode cX10_slack 58 = .ok (.iload_n 3, 1) := dk_29 (dk_at dksX10_slack_2 11 rfl rfl)
theorem dX10_slack_59 : decode cX10_slack 59 = .ok (.ireturn, 1) := dk_172 (dk_at dksX10_slack_2 12 rfl rfl)
abbrev cX10_lagging : ByteArray := prog_16_method_94_code
def yX10_lagging : MethodName := ⟨RX10, "lagging", "(II)I"⟩
def dkwX10_lagging_0 : List UInt8 := [42, 27, 182, 1, 72, 42, 28, 181, 1, 56, 42, 182, 1, 106, 42, 180, 1, 90, 172]
abbrev dktX10_lagging_0 : List UInt8 := dkwX10_lagging_0 ++ []
theorem dksX10_lagging_0 : cX10_lagging.data.toList.drop 0 = dktX10_lagging_0 := by decide +kernel
theorem dX10_lagging_0 : decode cX10_lagging 0 = .ok (.aload_n 0, 1) := dk_42 (dk_at dksX10_lagging_0 0 rfl rfl)
theorem dX10_lagging_1 : decode cX10_lagging 1 = .ok (.iload_n 1, 1) := dk_27 (dk_at dksX10_lagging_0 1 rfl rfl)
theorem dX10_lagging_2 : decode cX10_lagging 2 = .ok (.invokevirtual 328, 3) := dk_182 1 72 (dk_at dksX10_lagging_0 2 rfl rfl)
theorem dX10_lagging_5 : decode cX10_lagging 5 = .ok (.aload_n 0, 1) := dk_42 (dk_at dksX10_lagging_0 5 rfl rfl)
theorem dX10_lagging_6 : decode cX10_lagging 6 = .ok (.iload_n 2, 1) := dk_28 (dk_at dksX10_lagging_0 6 rfl rfl)
theorem dX10_lagging_7 : decode cX10_lagging 7 = .ok (.putfield 312, 3) := dk_181 1 56 (dk_at dksX10_lagging_0 7 rfl rfl)
theorem dX10_lagging_10 : decode cX10_lagging 10 = .ok (.aload_n 0, 1) := dk_42 (dk_at dksX10_lagging_0 10 rfl rfl)
theorem dX10_lagging_11 : decode cX10_lagging 11 = .ok (.invokevirtual 362, 3) := dk_182 1 106 (dk_at dksX10_lagging_0 11 rfl rfl)
theorem dX10_lagging_14 : decode cX10_lagging 14 = .ok (.aload_n 0, 1) := dk_42 (dk_at dksX10_lagging_0 14 rfl rfl)
theorem dX10_lagging_15 : decode cX10_lagging 15 = .ok (.getfield 346, 3) := dk_180 1 90 (dk_at dksX10_lagging_0 15 rfl rfl)
theorem dX10_lagging_18 : decode cX10_lagging 18 = .ok (.ireturn, 1) := dk_172 (dk_at dksX10_lagging_0 18 rfl rfl)
abbrev cX10_rows : ByteArray := prog_16_method_100_code
def yX10_rows : MethodName := ⟨RX10, "rows", "(II)J"⟩
def dkwX10_rows_2 : List UInt8 := [162, 0, 18, 33, 42, 21, 5, 182, 1, 177, 97, 66, 132, 5, 1, 167, 255, 235, 33, 173]
abbrev dktX10_rows_2 : List UInt8 := dkwX10_rows_2 ++ []
def dkwX10_rows_1 : List UInt8 := [154, 0, 7, 20, 1, 171, 173, 42, 27, 28, 182, 1, 173, 9, 66, 3, 54, 5, 21, 5, 42, 182, 0, 92]
abbrev dktX10_rows_1 : List UInt8 := dkwX10_rows_1 ++ dktX10_rows_2
def dkwX10_rows_0 : List UInt8 := [42, 182, 1, 26, 153, 0, 22, 27, 184, 1, 166, 153, 0, 15, 28, 133, 10, 20, 1, 169, 184, 0, 88]
abbrev dktX10_rows_0 : List UInt8 := dkwX10_rows_0 ++ dktX10_rows_1
theorem dksX10_rows_0 : cX10_rows.data.toList.drop 0 = dktX10_rows_0 := by decide +kernel
theorem dksX10_rows_1 : cX10_rows.data.toList.drop 23 = dktX10_rows_1 := dk_seg dksX10_rows_0 23 rfl rfl
theorem dksX10_rows_2 : cX10_rows.data.toList.drop 47 = dktX10_rows_2 := dk_seg dksX10_rows_1 24 rfl rfl
theorem dX10_rows_0 : decode cX10_rows 0 = .ok (.aload_n 0, 1) := dk_42 (dk_at dksX10_rows_0 0 rfl rfl)
theorem dX10_rows_1 : decode cX10_rows 1 = .ok (.invokevirtual 282, 3) := dk_182 1 26 (dk_at dksX10_rows_0 1 rfl rfl)
theorem dX10_rows_4 : decode cX10_rows 4 = .ok (.ifCond .eq 22, 3) := dk_153 0 22 (dk_at dksX10_rows_0 4 rfl rfl)
theorem dX10_rows_7 : decode cX10_rows 7 = .ok (.iload_n 1, 1) := dk_27 (dk_at dksX10_rows_0 7 rfl rfl)
theorem dX10_rows_8 : decode cX10_rows 8 = .ok (.invokestatic 422, 3) := dk_184 1 166 (dk_at dksX10_rows_0 8 rfl rfl)
theorem dX10_rows_11 : decode cX10_rows 11 = .ok (.ifCond .eq 15, 3) := dk_153 0 15 (dk_at dksX10_rows_0 11 rfl rfl)
theorem dX10_rows_14 : decode cX10_rows 14 = .ok (.iload_n 2, 1) := dk_28 (dk_at dksX10_rows_0 14 rfl rfl)
theorem dX10_rows_15 : decode cX10_rows 15 = .ok (.i2l, 1) := dk_133 (dk_at dksX10_rows_0 15 rfl rfl)
theorem dX10_rows_16 : decode cX10_rows 16 = .ok (.lconst 1, 1) := dk_10 (dk_at dksX10_rows_0 16 rfl rfl)
theorem dX10_rows_17 : decode cX10_rows 17 = .ok (.ldc2_w 425, 3) := dk_20 1 169 (dk_at dksX10_rows_0 17 rfl rfl)
theorem dX10_rows_20 : decode cX10_rows 20 = .ok (.invokestatic 88, 3) := dk_184 0 88 (dk_at dksX10_rows_0 20 rfl rfl)
theorem dX10_rows_23 : decode cX10_rows 23 = .ok (.ifCond .ne 7, 3) := dk_154 0 7 (dk_at dksX10_rows_1 0 rfl rfl)
theorem dX10_rows_26 : decode cX10_rows 26 = .ok (.ldc2_w 427, 3) := dk_20 1 171 (dk_at dksX10_rows_1 3 rfl rfl)
theorem dX10_rows_29 : decode cX10_rows 29 = .ok (.lreturn, 1) := dk_173 (dk_at dksX10_rows_1 6 rfl rfl)
theorem dX10_rows_30 : decode cX10_rows 30 = .ok (.aload_n 0, 1) := dk_42 (dk_at dksX10_rows_1 7 rfl rfl)
theorem dX10_rows_31 : decode cX10_rows 31 = .ok (.iload_n 1, 1) := dk_27 (dk_at dksX10_rows_1 8 rfl rfl)
theorem dX10_rows_32 : decode cX10_rows 32 = .ok (.iload_n 2, 1) := dk_28 (dk_at dksX10_rows_1 9 rfl rfl)
theorem dX10_rows_33 : decode cX10_rows 33 = .ok (.invokevirtual 429, 3) := dk_182 1 173 (dk_at dksX10_rows_1 10 rfl rfl)
theorem dX10_rows_36 : decode cX10_rows 36 = .ok (.lconst 0, 1) := dk_9 (dk_at dksX10_rows_1 13 rfl rfl)
theorem dX10_rows_37 : decode cX10_rows 37 = .ok (.lstore_n 3, 1) := dk_66 (dk_at dksX10_rows_1 14 rfl rfl)
theorem dX10_rows_38 : decode cX10_rows 38 = .ok (.iconst 0, 1) := dk_3 (dk_at dksX10_rows_1 15 rfl rfl)
theorem dX10_rows_39 : decode cX10_rows 39 = .ok (.istore 5, 2) := dk_54 5 (dk_at dksX10_rows_1 16 rfl rfl)
theorem dX10_rows_41 : decode cX10_rows 41 = .ok (.iload 5, 2) := dk_21 5 (dk_at dksX10_rows_1 18 rfl rfl)
theorem dX10_rows_43 : decode cX10_rows 43 = .ok (.aload_n 0, 1) := dk_42 (dk_at dksX10_rows_1 20 rfl rfl)
theorem dX10_rows_44 : decode cX10_rows 44 = .ok (.invokevirtual 92, 3) := dk_182 0 92 (dk_at dksX10_rows_1 21 rfl rfl)
theorem dX10_rows_47 : decode cX10_rows 47 = .ok (.if_icmp .ge 18, 3) := dk_162 0 18 (dk_at dksX10_rows_2 0 rfl rfl)
theorem dX10_rows_50 : decode cX10_rows 50 = .ok (.lload_n 3, 1) := dk_33 (dk_at dksX10_rows_2 3 rfl rfl)
theorem dX10_rows_51 : decode cX10_rows 51 = .ok (.aload_n 0, 1) := dk_42 (dk_at dksX10_rows_2 4 rfl rfl)
theorem dX10_rows_52 : decode cX10_rows 52 = .ok (.iload 5, 2) := dk_21 5 (dk_at dksX10_rows_2 5 rfl rfl)
theorem dX10_rows_54 : decode cX10_rows 54 = .ok (.invokevirtual 433, 3) := dk_182 1 177 (dk_at dksX10_rows_2 7 rfl rfl)
theorem dX10_rows_57 : decode cX10_rows 57 = .ok (.ladd, 1) := dk_97 (dk_at dksX10_rows_2 10 rfl rfl)
theorem dX10_rows_58 : decode cX10_rows 58 = .ok (.lstore_n 3, 1) := dk_66 (dk_at dksX10_rows_2 11 rfl rfl)
theorem dX10_rows_59 : decode cX10_rows 59 = .ok (.iinc 5 1, 3) := dk_132 5 1 (dk_at dksX10_rows_2 12 rfl rfl)
theorem dX10_rows_62 : decode cX10_rows 62 = .ok (.goto (-21), 3) := dk_167 255 235 (dk_at dksX10_rows_2 15 rfl rfl)
theorem dX10_rows_65 : decode cX10_rows 65 = .ok (.lload_n 3, 1) := dk_33 (dk_at dksX10_rows_2 18 rfl rfl)
theorem dX10_rows_66 : decode cX10_rows 66 = .ok (.lreturn, 1) := dk_173 (dk_at dksX10_rows_2 19 rfl rfl)
abbrev cX10_isLaw : ByteArray := prog_16_method_96_code
def yX10_isLaw : MethodName := ⟨RX10, "isLaw", "(I)Z"⟩
def dkwX10_isLaw_0 : List UInt8 := [26, 133, 9, 20, 1, 160, 184, 0, 88, 172]
abbrev dktX10_isLaw_0 : List UInt8 := dkwX10_isLaw_0 ++ []
theorem dksX10_isLaw_0 : cX10_isLaw.data.toList.drop 0 = dktX10_isLaw_0 := by decide +kernel
theorem dX10_isLaw_0 : decode cX10_isLaw 0 = .ok (.iload_n 0, 1) := dk_26 (dk_at dksX10_isLaw_0 0 rfl rfl)
theorem dX10_isLaw_1 : decode cX10_isLaw 1 = .ok (.i2l, 1) := dk_133 (dk_at dksX10_isLaw_0 1 rfl rfl)
theorem dX10_isLaw_2 : decode cX10_isLaw 2 = .ok (.lconst 0, 1) := dk_9 (dk_at dksX10_isLaw_0 2 rfl rfl)
theorem dX10_isLaw_3 : decode cX10_isLaw 3 = .ok (.ldc2_w 416, 3) := dk_20 1 160 (dk_at dksX10_isLaw_0 3 rfl rfl)
theorem dX10_isLaw_6 : decode cX10_isLaw 6 = .ok (.invokestatic 88, 3) := dk_184 0 88 (dk_at dksX10_isLaw_0 6 rfl rfl)
theorem dX10_isLaw_9 : decode cX10_isLaw 9 = .ok (.ireturn, 1) := dk_172 (dk_at dksX10_isLaw_0 9 rfl rfl)
abbrev cX10_fillRows : ByteArray := prog_16_method_98_code
def yX10_fillRows : MethodName := ⟨RX10, "fillRows", "(II)V"⟩
def dkwX10_fillRows_8 : List UInt8 := [132, 5, 1, 167, 255, 161, 132, 4, 1, 167, 255, 143, 132, 3, 1, 167, 255, 88, 177]
abbrev dktX10_fillRows_8 : List UInt8 := dkwX10_fillRows_8 ++ []
def dkwX10_fillRows_7 : List UInt8 := [21, 8, 4, 96, 104, 21, 4, 96, 4, 96, 92, 47, 22, 6, 97, 80, 132, 8, 1, 167, 255, 208]
abbrev dktX10_fillRows_7 : List UInt8 := dkwX10_fillRows_7 ++ dktX10_fillRows_8
def dkwX10_fillRows_6 : List UInt8 := [162, 0, 45, 42, 27, 21, 8, 21, 4, 21, 5, 182, 1, 162, 153, 0, 25, 42, 180, 0, 61, 16, 13]
abbrev dktX10_fillRows_6 : List UInt8 := dkwX10_fillRows_6 ++ dktX10_fillRows_7
def dkwX10_fillRows_5 : List UInt8 := [96, 47, 55, 6, 22, 6, 9, 148, 154, 0, 6, 167, 0, 57, 3, 54, 8, 21, 8, 42, 182, 0, 92]
abbrev dktX10_fillRows_5 : List UInt8 := dkwX10_fillRows_5 ++ dktX10_fillRows_6
def dkwX10_fillRows_4 : List UInt8 := [21, 5, 42, 182, 0, 92, 162, 0, 92, 42, 180, 0, 65, 16, 13, 21, 4, 4, 96, 104, 21, 5, 96, 4]
abbrev dktX10_fillRows_4 : List UInt8 := dkwX10_fillRows_4 ++ dktX10_fillRows_5
def dkwX10_fillRows_3 : List UInt8 := [9, 80, 132, 4, 1, 167, 255, 221, 2, 54, 4, 21, 4, 42, 182, 0, 92, 162, 0, 110, 2, 54, 5]
abbrev dktX10_fillRows_3 : List UInt8 := dkwX10_fillRows_3 ++ dktX10_fillRows_4
def dkwX10_fillRows_2 : List UInt8 := [190, 162, 0, 31, 42, 180, 0, 65, 21, 4, 42, 180, 0, 61, 21, 4, 47, 80, 42, 180, 0, 61, 21, 4]
abbrev dktX10_fillRows_2 : List UInt8 := dkwX10_fillRows_2 ++ dktX10_fillRows_3
def dkwX10_fillRows_1 : List UInt8 := [9, 80, 132, 3, 1, 167, 255, 229, 3, 62, 29, 28, 162, 0, 169, 3, 54, 4, 21, 4, 42, 180, 0, 61]
abbrev dktX10_fillRows_1 : List UInt8 := dkwX10_fillRows_1 ++ dktX10_fillRows_2
def dkwX10_fillRows_0 : List UInt8 := [3, 62, 29, 42, 180, 0, 61, 190, 162, 0, 24, 42, 180, 0, 61, 29, 29, 154, 0, 7, 10, 167, 0, 4]
abbrev dktX10_fillRows_0 : List UInt8 := dkwX10_fillRows_0 ++ dktX10_fillRows_1
theorem dksX10_fillRows_0 : cX10_fillRows.data.toList.drop 0 = dktX10_fillRows_0 := by decide +kernel
theorem dksX10_fillRows_1 : cX10_fillRows.data.toList.drop 24 = dktX10_fillRows_1 := dk_seg dksX10_fillRows_0 24 rfl rfl
theorem dksX10_fillRows_2 : cX10_fillRows.data.toList.drop 48 = dktX10_fillRows_2 := dk_seg dksX10_fillRows_1 24 rfl rfl
theorem dksX10_fillRows_3 : cX10_fillRows.data.toList.drop 72 = dktX10_fillRows_3 := dk_seg dksX10_fillRows_2 24 rfl rfl
theorem dksX10_fillRows_4 : cX10_fillRows.data.toList.drop 95 = dktX10_fillRows_4 := dk_seg dksX10_fillRows_3 23 rfl rfl
theorem dksX10_fillRows_5 : cX10_fillRows.data.toList.drop 119 = dktX10_fillRows_5 := dk_seg dksX10_fillRows_4 24 rfl rfl
theorem dksX10_fillRows_6 : cX10_fillRows.data.toList.drop 142 = dktX10_fillRows_6 := dk_seg dksX10_fillRows_5 23 rfl rfl
theorem dksX10_fillRows_7 : cX10_fillRows.data.toList.drop 165 = dktX10_fillRows_7 := dk_seg dksX10_fillRows_6 23 rfl rfl
theorem dksX10_fillRows_8 : cX10_fillRows.data.toList.drop 187 = dktX10_fillRows_8 := dk_seg dksX10_fillRows_7 22 rfl rfl
theorem dX10_fillRows_0 : decode cX10_fillRows 0 = .ok (.iconst 0, 1) := dk_3 (dk_at dksX10_fillRows_0 0 rfl rfl)
theorem dX10_fillRows_1 : decode cX10_fillRows 1 = .ok (.istore_n 3, 1) := dk_62 (dk_at dksX10_fillRows_0 1 rfl rfl)
theorem dX10_fillRows_2 : decode cX10_fillRows 2 = .ok (.iload_n 3, 1) := dk_29 (dk_at dksX10_fillRows_0 2 rfl rfl)
theorem dX10_fillRows_3 : decode cX10_fillRows 3 = .ok (.aload_n 0, 1) := dk_42 (dk_at dksX10_fillRows_0 3 rfl rfl)
theorem dX10_fillRows_4 : decode cX10_fillRows 4 = .ok (.getfield 61, 3) := dk_180 0 61 (dk_at dksX10_fillRows_0 4 rfl rfl)
theorem dX10_fillRows_7 : decode cX10_fillRows 7 = .ok (.arraylength, 1) := dk_190 (dk_at dksX10_fillRows_0 7 rfl rfl)
theorem dX10_fillRows_8 : decode cX10_fillRows 8 = .ok (.if_icmp .ge 24, 3) := dk_162 0 24 (dk_at dksX10_fillRows_0 8 rfl rfl)
theorem dX10_fillRows_11 : decode cX10_fillRows 11 = .ok (.aload_n 0, 1) := dk_42 (dk_at dksX10_fillRows_0 11 rfl rfl)
theorem dX10_fillRows_12 : decode cX10_fillRows 12 = .ok (.getfield 61, 3) := dk_180 0 61 (dk_at dksX10_fillRows_0 12 rfl rfl)
theorem dX10_fillRows_15 : decode cX10_fillRows 15 = .ok (.iload_n 3, 1) := dk_29 (dk_at dksX10_fillRows_0 15 rfl rfl)
theorem dX10_fillRows_16 : decode cX10_fillRows 16 = .ok (.iload_n 3, 1) := dk_29 (dk_at dksX10_fillRows_0 16 rfl rfl)
theorem dX10_fillRows_17 : decode cX10_fillRows 17 = .ok (.ifCond .ne 7, 3) := dk_154 0 7 (dk_at dksX10_fillRows_0 17 rfl rfl)
theorem dX10_fillRows_20 : decode cX10_fillRows 20 = .ok (.lconst 1, 1) := dk_10 (dk_at dksX10_fillRows_0 20 rfl rfl)
theorem dX10_fillRows_21 : decode cX10_fillRows 21 = .ok (.goto 4, 3) := dk_167 0 4 (dk_at dksX10_fillRows_0 21 rfl rfl)
theorem dX10_fillRows_24 : decode cX10_fillRows 24 = .ok (.lconst 0, 1) := dk_9 (dk_at dksX10_fillRows_1 0 rfl rfl)
theorem dX10_fillRows_25 : decode cX10_fillRows 25 = .ok (.lastore, 1) := dk_80 (dk_at dksX10_fillRows_1 1 rfl rfl)
theorem dX10_fillRows_26 : decode cX10_fillRows 26 = .ok (.iinc 3 1, 3) := dk_132 3 1 (dk_at dksX10_fillRows_1 2 rfl rfl)
theorem dX10_fillRows_29 : decode cX10_fillRows 29 = .ok (.goto (-27), 3) := dk_167 255 229 (dk_at dksX10_fillRows_1 5 rfl rfl)
theorem dX10_fillRows_32 : decode cX10_fillRows 32 = .ok (.iconst 0, 1) := dk_3 (dk_at dksX10_fillRows_1 8 rfl rfl)
theorem dX10_fillRows_33 : decode cX10_fillRows 33 = .ok (.istore_n 3, 1) := dk_62 (dk_at dksX10_fillRows_1 9 rfl rfl)
theorem dX10_fillRows_34 : decode cX10_fillRows 34 = .ok (.iload_n 3, 1) := dk_29 (dk_at dksX10_fillRows_1 10 rfl rfl)
theorem dX10_fillRows_35 : decode cX10_fillRows 35 = .ok (.iload_n 2, 1) := dk_28 (dk_at dksX10_fillRows_1 11 rfl rfl)
theorem dX10_fillRows_36 : decode cX10_fillRows 36 = .ok (.if_icmp .ge 169, 3) := dk_162 0 169 (dk_at dksX10_fillRows_1 12 rfl rfl)
theorem dX10_fillRows_39 : decode cX10_fillRows 39 = .ok (.iconst 0, 1) := dk_3 (dk_at dksX10_fillRows_1 15 rfl rfl)
theorem dX10_fillRows_40 : decode cX10_fillRows 40 = .ok (.istore 4, 2) := dk_54 4 (dk_at dksX10_fillRows_1 16 rfl rfl)
theorem dX10_fillRows_42 : decode cX10_fillRows 42 = .ok (.iload 4, 2) := dk_21 4 (dk_at dksX10_fillRows_1 18 rfl rfl)
theorem dX10_fillRows_44 : decode cX10_fillRows 44 = .ok (.aload_n 0, 1) := dk_42 (dk_at dksX10_fillRows_1 20 rfl rfl)
theorem dX10_fillRows_45 : decode cX10_fillRows 45 = .ok (.getfield 61, 3) := dk_180 0 61 (dk_at dksX10_fillRows_1 21 rfl rfl)
theorem dX10_fillRows_48 : decode cX10_fillRows 48 = .ok (.arraylength, 1) := dk_190 (dk_at dksX10_fillRows_2 0 rfl rfl)
theorem dX10_fillRows_49 : decode cX10_fillRows 49 = .ok (.if_icmp .ge 31, 3) := dk_162 0 31 (dk_at dksX10_fillRows_2 1 rfl rfl)
theorem dX10_fillRows_52 : decode cX10_fillRows 52 = .ok (.aload_n 0, 1) := dk_42 (dk_at dksX10_fillRows_2 4 rfl rfl)
theorem dX10_fillRows_53 : decode cX10_fillRows 53 = .ok (.getfield 65, 3) := dk_180 0 65 (dk_at dksX10_fillRows_2 5 rfl rfl)
theorem dX10_fillRows_56 : decode cX10_fillRows 56 = .ok (.iload 4, 2) := dk_21 4 (dk_at dksX10_fillRows_2 8 rfl rfl)
theorem dX10_fillRows_58 : decode cX10_fillRows 58 = .ok (.aload_n 0, 1) := dk_42 (dk_at dksX10_fillRows_2 10 rfl rfl)
theorem dX10_fillRows_59 : decode cX10_fillRows 59 = .ok (.getfield 61, 3) := dk_180 0 61 (dk_at dksX10_fillRows_2 11 rfl rfl)
theorem dX10_fillRows_62 : decode cX10_fillRows 62 = .ok (.iload 4, 2) := dk_21 4 (dk_at dksX10_fillRows_2 14 rfl rfl)
theorem dX10_fillRows_64 : decode cX10_fillRows 64 = .ok (.laload, 1) := dk_47 (dk_at dksX10_fillRows_2 16 rfl rfl)
theorem dX10_fillRows_65 : decode cX10_fillRows 65 = .ok (.lastore, 1) := dk_80 (dk_at dksX10_fillRows_2 17 rfl rfl)
theorem dX10_fillRows_66 : decode cX10_fillRows 66 = .ok (.aload_n 0, 1) := dk_42 (dk_at dksX10_fillRows_2 18 rfl rfl)
theorem dX10_fillRows_67 : decode cX10_fillRows 67 = .ok (.getfield 61, 3) := dk_180 0 61 (dk_at dksX10_fillRows_2 19 rfl rfl)
theorem dX10_fillRows_70 : decode cX10_fillRows 70 = .ok (.iload 4, 2) := dk_21 4 (dk_at dksX10_fillRows_2 22 rfl rfl)
theorem dX10_fillRows_72 : decode cX10_fillRows 72 = .ok (.lconst 0, 1) := dk_9 (dk_at dksX10_fillRows_3 0 rfl rfl)
theorem dX10_fillRows_73 : decode cX10_fillRows 73 = .ok (.lastore, 1) := dk_80 (dk_at dksX10_fillRows_3 1 rfl rfl)
theorem dX10_fillRows_74 : decode cX10_fillRows 74 = .ok (.iinc 4 1, 3) := dk_132 4 1 (dk_at dksX10_fillRows_3 2 rfl rfl)
theorem dX10_fillRows_77 : decode cX10_fillRows 77 = .ok (.goto (-35), 3) := dk_167 255 221 (dk_at dksX10_fillRows_3 5 rfl rfl)
theorem dX10_fillRows_80 : decode cX10_fillRows 80 = .ok (.iconst (-1), 1) := dk_2 (dk_at dksX10_fillRows_3 8 rfl rfl)
theorem dX10_fillRows_81 : decode cX10_fillRows 81 = .ok (.istore 4, 2) := dk_54 4 (dk_at dksX10_fillRows_3 9 rfl rfl)
theorem dX10_fillRows_83 : decode cX10_fillRows 83 = .ok (.iload 4, 2) := dk_21 4 (dk_at dksX10_fillRows_3 11 rfl rfl)
theorem dX10_fillRows_85 : decode cX10_fillRows 85 = .ok (.aload_n 0, 1) := dk_42 (dk_at dksX10_fillRows_3 13 rfl rfl)
theorem dX10_fillRows_86 : decode cX10_fillRows 86 = .ok (.invokevirtual 92, 3) := dk_182 0 92 (dk_at dksX10_fillRows_3 14 rfl rfl)
theorem dX10_fillRows_89 : decode cX10_fillRows 89 = .ok (.if_icmp .ge 110, 3) := dk_162 0 110 (dk_at dksX10_fillRows_3 17 rfl rfl)
theorem dX10_fillRows_92 : decode cX10_fillRows 92 = .ok (.iconst (-1), 1) := dk_2 (dk_at dksX10_fillRows_3 20 rfl rfl)
theorem dX10_fillRows_93 : decode cX10_fillRows 93 = .ok (.istore 5, 2) := dk_54 5 (dk_at dksX10_fillRows_3 21 rfl rfl)
theorem dX10_fillRows_95 : decode cX10_fillRows 95 = .ok (.iload 5, 2) := dk_21 5 (dk_at dksX10_fillRows_4 0 rfl rfl)
theorem dX10_fillRows_97 : decode cX10_fillRows 97 = .ok (.aload_n 0, 1) := dk_42 (dk_at dksX10_fillRows_4 2 rfl rfl)
theorem dX10_fillRows_98 : decode cX10_fillRows 98 = .ok (.invokevirtual 92, 3) := dk_182 0 92 (dk_at dksX10_fillRows_4 3 rfl rfl)
theorem dX10_fillRows_101 : decode cX10_fillRows 101 = .ok (.if_icmp .ge 92, 3) := dk_162 0 92 (dk_at dksX10_fillRows_4 6 rfl rfl)
theorem dX10_fillRows_104 : decode cX10_fillRows 104 = .ok (.aload_n 0, 1) := dk_42 (dk_at dksX10_fillRows_4 9 rfl rfl)
theorem dX10_fillRows_105 : decode cX10_fillRows 105 = .ok (.getfield 65, 3) := dk_180 0 65 (dk_at dksX10_fillRows_4 10 rfl rfl)
theorem dX10_fillRows_108 : decode cX10_fillRows 108 = .ok (.bipush 13, 2) := dk_16 13 (dk_at dksX10_fillRows_4 13 rfl rfl)
theorem dX10_fillRows_110 : decode cX10_fillRows 110 = .ok (.iload 4, 2) := dk_21 4 (dk_at dksX10_fillRows_4 15 rfl rfl)
theorem dX10_fillRows_112 : decode cX10_fillRows 112 = .ok (.iconst 1, 1) := dk_4 (dk_at dksX10_fillRows_4 17 rfl rfl)
theorem dX10_fillRows_113 : decode cX10_fillRows 113 = .ok (.iadd, 1) := dk_96 (dk_at dksX10_fillRows_4 18 rfl rfl)
theorem dX10_fillRows_114 : decode cX10_fillRows 114 = .ok (.imul, 1) := dk_104 (dk_at dksX10_fillRows_4 19 rfl rfl)
theorem dX10_fillRows_115 : decode cX10_fillRows 115 = .ok (.iload 5, 2) := dk_21 5 (dk_at dksX10_fillRows_4 20 rfl rfl)
theorem dX10_fillRows_117 : decode cX10_fillRows 117 = .ok (.iadd, 1) := dk_96 (dk_at dksX10_fillRows_4 22 rfl rfl)
theorem dX10_fillRows_118 : decode cX10_fillRows 118 = .ok (.iconst 1, 1) := dk_4 (dk_at dksX10_fillRows_4 23 rfl rfl)
theorem dX10_fillRows_119 : decode cX10_fillRows 119 = .ok (.iadd, 1) := dk_96 (dk_at dksX10_fillRows_5 0 rfl rfl)
theorem dX10_fillRows_120 : decode cX10_fillRows 120 = .ok (.laload, 1) := dk_47 (dk_at dksX10_fillRows_5 1 rfl rfl)
theorem dX10_fillRows_121 : decode cX10_fillRows 121 = .ok (.lstore 6, 2) := dk_55 6 (dk_at dksX10_fillRows_5 2 rfl rfl)
theorem dX10_fillRows_123 : decode cX10_fillRows 123 = .ok (.lload 6, 2) := dk_22 6 (dk_at dksX10_fillRows_5 4 rfl rfl)
theorem dX10_fillRows_125 : decode cX10_fillRows 125 = .ok (.lconst 0, 1) := dk_9 (dk_at dksX10_fillRows_5 6 rfl rfl)
theorem dX10_fillRows_126 : decode cX10_fillRows 126 = .ok (.lcmp, 1) := dk_148 (dk_at dksX10_fillRows_5 7 rfl rfl)
theorem dX10_fillRows_127 : decode cX10_fillRows 127 = .ok (.ifCond .ne 6, 3) := dk_154 0 6 (dk_at dksX10_fillRows_5 8 rfl rfl)
theorem dX10_fillRows_130 : decode cX10_fillRows 130 = .ok (.goto 57, 3) := dk_167 0 57 (dk_at dksX10_fillRows_5 11 rfl rfl)
theorem dX10_fillRows_133 : decode cX10_fillRows 133 = .ok (.iconst 0, 1) := dk_3 (dk_at dksX10_fillRows_5 14 rfl rfl)
theorem dX10_fillRows_134 : decode cX10_fillRows 134 = .ok (.istore 8, 2) := dk_54 8 (dk_at dksX10_fillRows_5 15 rfl rfl)
theorem dX10_fillRows_136 : decode cX10_fillRows 136 = .ok (.iload 8, 2) := dk_21 8 (dk_at dksX10_fillRows_5 17 rfl rfl)
theorem dX10_fillRows_138 : decode cX10_fillRows 138 = .ok (.aload_n 0, 1) := dk_42 (dk_at dksX10_fillRows_5 19 rfl rfl)
theorem dX10_fillRows_139 : decode cX10_fillRows 139 = .ok (.invokevirtual 92, 3) := dk_182 0 92 (dk_at dksX10_fillRows_5 20 rfl rfl)
theorem dX10_fillRows_142 : decode cX10_fillRows 142 = .ok (.if_icmp .ge 45, 3) := dk_162 0 45 (dk_at dksX10_fillRows_6 0 rfl rfl)
theorem dX10_fillRows_145 : decode cX10_fillRows 145 = .ok (.aload_n 0, 1) := dk_42 (dk_at dksX10_fillRows_6 3 rfl rfl)
theorem dX10_fillRows_146 : decode cX10_fillRows 146 = .ok (.iload_n 1, 1) := dk_27 (dk_at dksX10_fillRows_6 4 rfl rfl)
theorem dX10_fillRows_147 : decode cX10_fillRows 147 = .ok (.iload 8, 2) := dk_21 8 (dk_at dksX10_fillRows_6 5 rfl rfl)
theorem dX10_fillRows_149 : decode cX10_fillRows 149 = .ok (.iload 4, 2) := dk_21 4 (dk_at dksX10_fillRows_6 7 rfl rfl)
theorem dX10_fillRows_151 : decode cX10_fillRows 151 = .ok (.iload 5, 2) := dk_21 5 (dk_at dksX10_fillRows_6 9 rfl rfl)
theorem dX10_fillRows_153 : decode cX10_fillRows 153 = .ok (.invokevirtual 418, 3) := dk_182 1 162 (dk_at dksX10_fillRows_6 11 rfl rfl)
theorem dX10_fillRows_156 : decode cX10_fillRows 156 = .ok (.ifCond .eq 25, 3) := dk_153 0 25 (dk_at dksX10_fillRows_6 14 rfl rfl)
theorem dX10_fillRows_159 : decode cX10_fillRows 159 = .ok (.aload_n 0, 1) := dk_42 (dk_at dksX10_fillRows_6 17 rfl rfl)
theorem dX10_fillRows_160 : decode cX10_fillRows 160 = .ok (.getfield 61, 3) := dk_180 0 61 (dk_at dksX10_fillRows_6 18 rfl rfl)
theorem dX10_fillRows_163 : decode cX10_fillRows 163 = .ok (.bipush 13, 2) := dk_16 13 (dk_at dksX10_fillRows_6 21 rfl rfl)
theorem dX10_fillRows_165 : decode cX10_fillRows 165 = .ok (.iload 8, 2) := dk_21 8 (dk_at dksX10_fillRows_7 0 rfl rfl)
theorem dX10_fillRows_167 : decode cX10_fillRows 167 = .ok (.iconst 1, 1) := dk_4 (dk_at dksX10_fillRows_7 2 rfl rfl)
theorem dX10_fillRows_168 : decode cX10_fillRows 168 = .ok (.iadd, 1) := dk_96 (dk_at dksX10_fillRows_7 3 rfl rfl)
theorem dX10_fillRows_169 : decode cX10_fillRows 169 = .ok (.imul, 1) := dk_104 (dk_at dksX10_fillRows_7 4 rfl rfl)
theorem dX10_fillRows_170 : decode cX10_fillRows 170 = .ok (.iload 4, 2) := dk_21 4 (dk_at dksX10_fillRows_7 5 rfl rfl)
theorem dX10_fillRows_172 : decode cX10_fillRows 172 = .ok (.iadd, 1) := dk_96 (dk_at dksX10_fillRows_7 7 rfl rfl)
theorem dX10_fillRows_173 : decode cX10_fillRows 173 = .ok (.iconst 1, 1) := dk_4 (dk_at dksX10_fillRows_7 8 rfl rfl)
theorem dX10_fillRows_174 : decode cX10_fillRows 174 = .ok (.iadd, 1) := dk_96 (dk_at dksX10_fillRows_7 9 rfl rfl)
theorem dX10_fillRows_175 : decode cX10_fillRows 175 = .ok (.dup2, 1) := dk_92 (dk_at dksX10_fillRows_7 10 rfl rfl)
theorem dX10_fillRows_176 : decode cX10_fillRows 176 = .ok (.laload, 1) := dk_47 (dk_at dksX10_fillRows_7 11 rfl rfl)
theorem dX10_fillRows_177 : decode cX10_fillRows 177 = .ok (.lload 6, 2) := dk_22 6 (dk_at dksX10_fillRows_7 12 rfl rfl)
theorem dX10_fillRows_179 : decode cX10_fillRows 179 = .ok (.ladd, 1) := dk_97 (dk_at dksX10_fillRows_7 14 rfl rfl)
theorem dX10_fillRows_180 : decode cX10_fillRows 180 = .ok (.lastore, 1) := dk_80 (dk_at dksX10_fillRows_7 15 rfl rfl)
theorem dX10_fillRows_181 : decode cX10_fillRows 181 = .ok (.iinc 8 1, 3) := dk_132 8 1 (dk_at dksX10_fillRows_7 16 rfl rfl)
theorem dX10_fillRows_184 : decode cX10_fillRows 184 = .ok (.goto (-48), 3) := dk_167 255 208 (dk_at dksX10_fillRows_7 19 rfl rfl)
theorem dX10_fillRows_187 : decode cX10_fillRows 187 = .ok (.iinc 5 1, 3) := dk_132 5 1 (dk_at dksX10_fillRows_8 0 rfl rfl)
theorem dX10_fillRows_190 : decode cX10_fillRows 190 = .ok (.goto (-95), 3) := dk_167 255 161 (dk_at dksX10_fillRows_8 3 rfl rfl)
theorem dX10_fillRows_193 : decode cX10_fillRows 193 = .ok (.iinc 4 1, 3) := dk_132 4 1 (dk_at dksX10_fillRows_8 6 rfl rfl)
theorem dX10_fillRows_196 : decode cX10_fillRows 196 = .ok (.goto (-113), 3) := dk_167 255 143 (dk_at dksX10_fillRows_8 9 rfl rfl)
theorem dX10_fillRows_199 : decode cX10_fillRows 199 = .ok (.iinc 3 1, 3) := dk_132 3 1 (dk_at dksX10_fillRows_8 12 rfl rfl)
theorem dX10_fillRows_202 : decode cX10_fillRows 202 = .ok (.goto (-168), 3) := dk_167 255 88 (dk_at dksX10_fillRows_8 15 rfl rfl)
theorem dX10_fillRows_205 : decode cX10_fillRows 205 = .ok (.return_, 1) := dk_177 (dk_at dksX10_fillRows_8 18 rfl rfl)
abbrev cX10_lets : ByteArray := prog_16_method_97_code
def yX10_lets : MethodName := ⟨RX10, "lets", "(IIII)Z"⟩
def dkwX10_lets_3 : List UInt8 := [3, 172]
abbrev dktX10_lets_3 : List UInt8 := dkwX10_lets_3 ++ []
def dkwX10_lets_2 : List UInt8 := [167, 0, 4, 3, 172, 27, 153, 0, 14, 28, 29, 159, 0, 13, 28, 21, 4, 159, 0, 7, 4, 167, 0, 4]
abbrev dktX10_lets_2 : List UInt8 := dkwX10_lets_2 ++ dktX10_lets_3
def dkwX10_lets_1 : List UInt8 := [3, 172, 27, 5, 160, 0, 24, 29, 2, 159, 0, 13, 42, 28, 29, 182, 1, 47, 4, 164, 0, 7, 4]
abbrev dktX10_lets_1 : List UInt8 := dkwX10_lets_1 ++ dktX10_lets_2
def dkwX10_lets_0 : List UInt8 := [42, 28, 182, 1, 139, 153, 0, 5, 3, 172, 27, 4, 160, 0, 14, 28, 29, 159, 0, 7, 4, 167, 0, 4]
abbrev dktX10_lets_0 : List UInt8 := dkwX10_lets_0 ++ dktX10_lets_1
theorem dksX10_lets_0 : cX10_lets.data.toList.drop 0 = dktX10_lets_0 := by decide +kernel
theorem dksX10_lets_1 : cX10_lets.data.toList.drop 24 = dktX10_lets_1 := dk_seg dksX10_lets_0 24 rfl rfl
theorem dksX10_lets_2 : cX10_lets.data.toList.drop 47 = dktX10_lets_2 := dk_seg dksX10_lets_1 23 rfl rfl
theorem dksX10_lets_3 : cX10_lets.data.toList.drop 71 = dktX10_lets_3 := dk_seg dksX10_lets_2 24 rfl rfl
theorem dX10_lets_0 : decode cX10_lets 0 = .ok (.aload_n 0, 1) := dk_42 (dk_at dksX10_lets_0 0 rfl rfl)
theorem dX10_lets_1 : decode cX10_lets 1 = .ok (.iload_n 2, 1) := dk_28 (dk_at dksX10_lets_0 1 rfl rfl)
theorem dX10_lets_2 : decode cX10_lets 2 = .ok (.invokevirtual 395, 3) := dk_182 1 139 (dk_at dksX10_lets_0 2 rfl rfl)
theorem dX10_lets_5 : decode cX10_lets 5 = .ok (.ifCond .eq 5, 3) := dk_153 0 5 (dk_at dksX10_lets_0 5 rfl rfl)
theorem dX10_lets_8 : decode cX10_lets 8 = .ok (.iconst 0, 1) := dk_3 (dk_at dksX10_lets_0 8 rfl rfl)
theorem dX10_lets_9 : decode cX10_lets 9 = .ok (.ireturn, 1) := dk_172 (dk_at dksX10_lets_0 9 rfl rfl)
theorem dX10_lets_10 : decode cX10_lets 10 = .ok (.iload_n 1, 1) := dk_27 (dk_at dksX10_lets_0 10 rfl rfl)
theorem dX10_lets_11 : decode cX10_lets 11 = .ok (.iconst 1, 1) := dk_4 (dk_at dksX10_lets_0 11 rfl rfl)
theorem dX10_lets_12 : decode cX10_lets 12 = .ok (.if_icmp .ne 14, 3) := dk_160 0 14 (dk_at dksX10_lets_0 12 rfl rfl)
theorem dX10_lets_15 : decode cX10_lets 15 = .ok (.iload_n 2, 1) := dk_28 (dk_at dksX10_lets_0 15 rfl rfl)
theorem dX10_lets_16 : decode cX10_lets 16 = .ok (.iload_n 3, 1) := dk_29 (dk_at dksX10_lets_0 16 rfl rfl)
theorem dX10_lets_17 : decode cX10_lets 17 = .ok (.if_icmp .eq 7, 3) := dk_159 0 7 (dk_at dksX10_lets_0 17 rfl rfl)
theorem dX10_lets_20 : decode cX10_lets 20 = .ok (.iconst 1, 1) := dk_4 (dk_at dksX10_lets_0 20 rfl rfl)
theorem dX10_lets_21 : decode cX10_lets 21 = .ok (.goto 4, 3) := dk_167 0 4 (dk_at dksX10_lets_0 21 rfl rfl)
theorem dX10_lets_24 : decode cX10_lets 24 = .ok (.iconst 0, 1) := dk_3 (dk_at dksX10_lets_1 0 rfl rfl)
theorem dX10_lets_25 : decode cX10_lets 25 = .ok (.ireturn, 1) := dk_172 (dk_at dksX10_lets_1 1 rfl rfl)
theorem dX10_lets_26 : decode cX10_lets 26 = .ok (.iload_n 1, 1) := dk_27 (dk_at dksX10_lets_1 2 rfl rfl)
theorem dX10_lets_27 : decode cX10_lets 27 = .ok (.iconst 2, 1) := dk_5 (dk_at dksX10_lets_1 3 rfl rfl)
theorem dX10_lets_28 : decode cX10_lets 28 = .ok (.if_icmp .ne 24, 3) := dk_160 0 24 (dk_at dksX10_lets_1 4 rfl rfl)
theorem dX10_lets_31 : decode cX10_lets 31 = .ok (.iload_n 3, 1) := dk_29 (dk_at dksX10_lets_1 7 rfl rfl)
theorem dX10_lets_32 : decode cX10_lets 32 = .ok (.iconst (-1), 1) := dk_2 (dk_at dksX10_lets_1 8 rfl rfl)
theorem dX10_lets_33 : decode cX10_lets 33 = .ok (.if_icmp .eq 13, 3) := dk_159 0 13 (dk_at dksX10_lets_1 9 rfl rfl)
theorem dX10_lets_36 : decode cX10_lets 36 = .ok (.aload_n 0, 1) := dk_42 (dk_at dksX10_lets_1 12 rfl rfl)
theorem dX10_lets_37 : decode cX10_lets 37 = .ok (.iload_n 2, 1) := dk_28 (dk_at dksX10_lets_1 13 rfl rfl)
theorem dX10_lets_38 : decode cX10_lets 38 = .ok (.iload_n 3, 1) := dk_29 (dk_at dksX10_lets_1 14 rfl rfl)
theorem dX10_lets_39 : decode cX10_lets 39 = .ok (.invokevirtual 303, 3) := dk_182 1 47 (dk_at dksX10_lets_1 15 rfl rfl)
theorem dX10_lets_42 : decode cX10_lets 42 = .ok (.iconst 1, 1) := dk_4 (dk_at dksX10_lets_1 18 rfl rfl)
theorem dX10_lets_43 : decode cX10_lets 43 = .ok (.if_icmp .le 7, 3) := dk_164 0 7 (dk_at dksX10_lets_1 19 rfl rfl)
theorem dX10_lets_46 : decode cX10_lets 46 = .ok (.iconst 1, 1) := dk_4 (dk_at dksX10_lets_1 22 rfl rfl)
theorem dX10_lets_47 : decode cX10_lets 47 = .ok (.goto 4, 3) := dk_167 0 4 (dk_at dksX10_lets_2 0 rfl rfl)
theorem dX10_lets_50 : decode cX10_lets 50 = .ok (.iconst 0, 1) := dk_3 (dk_at dksX10_lets_2 3 rfl rfl)
theorem dX10_lets_51 : decode cX10_lets 51 = .ok (.ireturn, 1) := dk_172 (dk_at dksX10_lets_2 4 rfl rfl)
theorem dX10_lets_52 : decode cX10_lets 52 = .ok (.iload_n 1, 1) := dk_27 (dk_at dksX10_lets_2 5 rfl rfl)
theorem dX10_lets_53 : decode cX10_lets 53 = .ok (.ifCond .eq 14, 3) := dk_153 0 14 (dk_at dksX10_lets_2 6 rfl rfl)
theorem dX10_lets_56 : decode cX10_lets 56 = .ok (.iload_n 2, 1) := dk_28 (dk_at dksX10_lets_2 9 rfl rfl)
theorem dX10_lets_57 : decode cX10_lets 57 = .ok (.iload_n 3, 1) := dk_29 (dk_at dksX10_lets_2 10 rfl rfl)
theorem dX10_lets_58 : decode cX10_lets 58 = .ok (.if_icmp .eq 13, 3) := dk_159 0 13 (dk_at dksX10_lets_2 11 rfl rfl)
theorem dX10_lets_61 : decode cX10_lets 61 = .ok (.iload_n 2, 1) := dk_28 (dk_at dksX10_lets_2 14 rfl rfl)
theorem dX10_lets_62 : decode cX10_lets 62 = .ok (.iload 4, 2) := dk_21 4 (dk_at dksX10_lets_2 15 rfl rfl)
theorem dX10_lets_64 : decode cX10_lets 64 = .ok (.if_icmp .eq 7, 3) := dk_159 0 7 (dk_at dksX10_lets_2 17 rfl rfl)
theorem dX10_lets_67 : decode cX10_lets 67 = .ok (.iconst 1, 1) := dk_4 (dk_at dksX10_lets_2 20 rfl rfl)
theorem dX10_lets_68 : decode cX10_lets 68 = .ok (.goto 4, 3) := dk_167 0 4 (dk_at dksX10_lets_2 21 rfl rfl)
theorem dX10_lets_71 : decode cX10_lets 71 = .ok (.iconst 0, 1) := dk_3 (dk_at dksX10_lets_3 0 rfl rfl)
theorem dX10_lets_72 : decode cX10_lets 72 = .ok (.ireturn, 1) := dk_172 (dk_at dksX10_lets_3 1 rfl rfl)
abbrev cX10_endingIn : ByteArray := prog_16_method_99_code
def yX10_endingIn : MethodName := ⟨RX10, "endingIn", "(I)J"⟩
def dkwX10_endingIn_1 : List UInt8 := [21, 4, 96, 47, 97, 65, 132, 4, 1, 167, 255, 229, 32, 173]
abbrev dktX10_endingIn_1 : List UInt8 := dkwX10_endingIn_1 ++ []
def dkwX10_endingIn_0 : List UInt8 := [9, 65, 3, 54, 4, 21, 4, 16, 13, 162, 0, 26, 32, 42, 180, 0, 61, 16, 13, 27, 4, 96, 104]
abbrev dktX10_endingIn_0 : List UInt8 := dkwX10_endingIn_0 ++ dktX10_endingIn_1
theorem dksX10_endingIn_0 : cX10_endingIn.data.toList.drop 0 = dktX10_endingIn_0 := by decide +kernel
theorem dksX10_endingIn_1 : cX10_endingIn.data.toList.drop 23 = dktX10_endingIn_1 := dk_seg dksX10_endingIn_0 23 rfl rfl
theorem dX10_endingIn_0 : decode cX10_endingIn 0 = .ok (.lconst 0, 1) := dk_9 (dk_at dksX10_endingIn_0 0 rfl rfl)
theorem dX10_endingIn_1 : decode cX10_endingIn 1 = .ok (.lstore_n 2, 1) := dk_65 (dk_at dksX10_endingIn_0 1 rfl rfl)
theorem dX10_endingIn_2 : decode cX10_endingIn 2 = .ok (.iconst 0, 1) := dk_3 (dk_at dksX10_endingIn_0 2 rfl rfl)
theorem dX10_endingIn_3 : decode cX10_endingIn 3 = .ok (.istore 4, 2) := dk_54 4 (dk_at dksX10_endingIn_0 3 rfl rfl)
theorem dX10_endingIn_5 : decode cX10_endingIn 5 = .ok (.iload 4, 2) := dk_21 4 (dk_at dksX10_endingIn_0 5 rfl rfl)
theorem dX10_endingIn_7 : decode cX10_endingIn 7 = .ok (.bipush 13, 2) := dk_16 13 (dk_at dksX10_endingIn_0 7 rfl rfl)
theorem dX10_endingIn_9 : decode cX10_endingIn 9 = .ok (.if_icmp .ge 26, 3) := dk_162 0 26 (dk_at dksX10_endingIn_0 9 rfl rfl)
theorem dX10_endingIn_12 : decode cX10_endingIn 12 = .ok (.lload_n 2, 1) := dk_32 (dk_at dksX10_endingIn_0 12 rfl rfl)
theorem dX10_endingIn_13 : decode cX10_endingIn 13 = .ok (.aload_n 0, 1) := dk_42 (dk_at dksX10_endingIn_0 13 rfl rfl)
theorem dX10_endingIn_14 : decode cX10_endingIn 14 = .ok (.getfield 61, 3) := dk_180 0 61 (dk_at dksX10_endingIn_0 14 rfl rfl)
theorem dX10_endingIn_17 : decode cX10_endingIn 17 = .ok (.bipush 13, 2) := dk_16 13 (dk_at dksX10_endingIn_0 17 rfl rfl)
theorem dX10_endingIn_19 : decode cX10_endingIn 19 = .ok (.iload_n 1, 1) := dk_27 (dk_at dksX10_endingIn_0 19 rfl rfl)
theorem dX10_endingIn_20 : decode cX10_endingIn 20 = .ok (.iconst 1, 1) := dk_4 (dk_at dksX10_endingIn_0 20 rfl rfl)
theorem dX10_endingIn_21 : decode cX10_endingIn 21 = .ok (.iadd, 1) := dk_96 (dk_at dksX10_endingIn_0 21 rfl rfl)
theorem dX10_endingIn_22 : decode cX10_endingIn 22 = .ok (.imul, 1) := dk_104 (dk_at dksX10_endingIn_0 22 rfl rfl)
theorem dX10_endingIn_23 : decode cX10_endingIn 23 = .ok (.iload 4, 2) := dk_21 4 (dk_at dksX10_endingIn_1 0 rfl rfl)
theorem dX10_endingIn_25 : decode cX10_endingIn 25 = .ok (.iadd, 1) := dk_96 (dk_at dksX10_endingIn_1 2 rfl rfl)
theorem dX10_endingIn_26 : decode cX10_endingIn 26 = .ok (.laload, 1) := dk_47 (dk_at dksX10_endingIn_1 3 rfl rfl)
theorem dX10_endingIn_27 : decode cX10_endingIn 27 = .ok (.ladd, 1) := dk_97 (dk_at dksX10_endingIn_1 4 rfl rfl)
theorem dX10_endingIn_28 : decode cX10_endingIn 28 = .ok (.lstore_n 2, 1) := dk_65 (dk_at dksX10_endingIn_1 5 rfl rfl)
theorem dX10_endingIn_29 : decode cX10_endingIn 29 = .ok (.iinc 4 1, 3) := dk_132 4 1 (dk_at dksX10_endingIn_1 6 rfl rfl)
theorem dX10_endingIn_32 : decode cX10_endingIn 32 = .ok (.goto (-27), 3) := dk_167 255 229 (dk_at dksX10_endingIn_1 9 rfl rfl)
theorem dX10_endingIn_35 : decode cX10_endingIn 35 = .ok (.lload_n 2, 1) := dk_32 (dk_at dksX10_endingIn_1 12 rfl rfl)
theorem dX10_endingIn_36 : decode cX10_endingIn 36 = .ok (.lreturn, 1) := dk_173 (dk_at dksX10_endingIn_1 13 rfl rfl)
abbrev cX10_ends : ByteArray := prog_16_method_101_code
def yX10_ends : MethodName := ⟨RX10, "ends", "(III)J"⟩
def dkwX10_ends_1 : List UInt8 := [184, 0, 88, 154, 0, 7, 20, 1, 171, 173, 42, 27, 28, 182, 1, 173, 42, 29, 182, 1, 177, 173]
abbrev dktX10_ends_1 : List UInt8 := dkwX10_ends_1 ++ []
def dkwX10_ends_0 : List UInt8 := [42, 29, 133, 182, 1, 44, 153, 0, 22, 27, 184, 1, 166, 153, 0, 15, 28, 133, 10, 20, 1, 169]
abbrev dktX10_ends_0 : List UInt8 := dkwX10_ends_0 ++ dktX10_ends_1
theorem dksX10_ends_0 : cX10_ends.data.toList.drop 0 = dktX10_ends_0 := by decide +kernel
theorem dksX10_ends_1 : cX10_ends.data.toList.drop 22 = dktX10_ends_1 := dk_seg dksX10_ends_0 22 rfl rfl
theorem dX10_ends_0 : decode cX10_ends 0 = .ok (.aload_n 0, 1) := dk_42 (dk_at dksX10_ends_0 0 rfl rfl)
theorem dX10_ends_1 : decode cX10_ends 1 = .ok (.iload_n 3, 1) := dk_29 (dk_at dksX10_ends_0 1 rfl rfl)
theorem dX10_ends_2 : decode cX10_ends 2 = .ok (.i2l, 1) := dk_133 (dk_at dksX10_ends_0 2 rfl rfl)
theorem dX10_ends_3 : decode cX10_ends 3 = .ok (.invokevirtual 300, 3) := dk_182 1 44 (dk_at dksX10_ends_0 3 rfl rfl)
theorem dX10_ends_6 : decode cX10_ends 6 = .ok (.ifCond .eq 22, 3) := dk_153 0 22 (dk_at dksX10_ends_0 6 rfl rfl)
theorem dX10_ends_9 : decode cX10_ends 9 = .ok (.iload_n 1, 1) := dk_27 (dk_at dksX10_ends_0 9 rfl rfl)
theorem dX10_ends_10 : decode cX10_ends 10 = .ok (.invokestatic 422, 3) := dk_184 1 166 (dk_at dksX10_ends_0 10 rfl rfl)
theorem dX10_ends_13 : decode cX10_ends 13 = .ok (.ifCond .eq 15, 3) := dk_153 0 15 (dk_at dksX10_ends_0 13 rfl rfl)
theorem dX10_ends_16 : decode cX10_ends 16 = .ok (.iload_n 2, 1) := dk_28 (dk_at dksX10_ends_0 16 rfl rfl)
theorem dX10_ends_17 : decode cX10_ends 17 = .ok (.i2l, 1) := dk_133 (dk_at dksX10_ends_0 17 rfl rfl)
theorem dX10_ends_18 : decode cX10_ends 18 = .ok (.lconst 1, 1) := dk_10 (dk_at dksX10_ends_0 18 rfl rfl)
theorem dX10_ends_19 : decode cX10_ends 19 = .ok (.ldc2_w 425, 3) := dk_20 1 169 (dk_at dksX10_ends_0 19 rfl rfl)
theorem dX10_ends_22 : decode cX10_ends 22 = .ok (.invokestatic 88, 3) := dk_184 0 88 (dk_at dksX10_ends_1 0 rfl rfl)
theorem dX10_ends_25 : decode cX10_ends 25 = .ok (.ifCond .ne 7, 3) := dk_154 0 7 (dk_at dksX10_ends_1 3 rfl rfl)
theorem dX10_ends_28 : decode cX10_ends 28 = .ok (.ldc2_w 427, 3) := dk_20 1 171 (dk_at dksX10_ends_1 6 rfl rfl)
theorem dX10_ends_31 : decode cX10_ends 31 = .ok (.lreturn, 1) := dk_173 (dk_at dksX10_ends_1 9 rfl rfl)
theorem dX10_ends_32 : decode cX10_ends 32 = .ok (.aload_n 0, 1) := dk_42 (dk_at dksX10_ends_1 10 rfl rfl)
theorem dX10_ends_33 : decode cX10_ends 33 = .ok (.iload_n 1, 1) := dk_27 (dk_at dksX10_ends_1 11 rfl rfl)
theorem dX10_ends_34 : decode cX10_ends 34 = .ok (.iload_n 2, 1) := dk_28 (dk_at dksX10_ends_1 12 rfl rfl)
theorem dX10_ends_35 : decode cX10_ends 35 = .ok (.invokevirtual 429, 3) := dk_182 1 173 (dk_at dksX10_ends_1 13 rfl rfl)
theorem dX10_ends_38 : decode cX10_ends 38 = .ok (.aload_n 0, 1) := dk_42 (dk_at dksX10_ends_1 16 rfl rfl)
theorem dX10_ends_39 : decode cX10_ends 39 = .ok (.iload_n 3, 1) := dk_29 (dk_at dksX10_ends_1 17 rfl rfl)
theorem dX10_ends_40 : decode cX10_ends 40 = .ok (.invokevirtual 433, 3) := dk_182 1 177 (dk_at dksX10_ends_1 18 rfl rfl)
theorem dX10_ends_43 : decode cX10_ends 43 = .ok (.lreturn, 1) := dk_173 (dk_at dksX10_ends_1 21 rfl rfl)
abbrev cX10_fair : ByteArray := prog_16_method_102_code
def yX10_fair : MethodName := ⟨RX10, "fair", "(I)I"⟩
def dkwX10_fair_4 : List UInt8 := [132, 2, 1, 167, 255, 180, 4, 172]
abbrev dktX10_fair_4 : List UInt8 := dkwX10_fair_4 ++ []
def dkwX10_fair_3 : List UInt8 := [21, 4, 182, 1, 177, 42, 29, 182, 1, 177, 148, 153, 0, 5, 3, 172, 132, 4, 1, 167, 255, 203]
abbrev dktX10_fair_3 : List UInt8 := dkwX10_fair_3 ++ dktX10_fair_4
def dkwX10_fair_2 : List UInt8 := [21, 4, 182, 1, 139, 153, 0, 6, 167, 0, 32, 29, 2, 160, 0, 8, 21, 4, 167, 0, 4, 29, 62, 42]
abbrev dktX10_fair_2 : List UInt8 := dkwX10_fair_2 ++ dktX10_fair_3
def dkwX10_fair_1 : List UInt8 := [163, 0, 76, 42, 27, 28, 182, 1, 173, 2, 62, 3, 54, 4, 21, 4, 42, 182, 0, 92, 162, 0, 50, 42]
abbrev dktX10_fair_1 : List UInt8 := dkwX10_fair_1 ++ dktX10_fair_2
def dkwX10_fair_0 : List UInt8 := [42, 182, 1, 26, 153, 0, 10, 27, 184, 1, 166, 154, 0, 6, 16, 254, 172, 4, 61, 28, 16, 12]
abbrev dktX10_fair_0 : List UInt8 := dkwX10_fair_0 ++ dktX10_fair_1
theorem dksX10_fair_0 : cX10_fair.data.toList.drop 0 = dktX10_fair_0 := by decide +kernel
theorem dksX10_fair_1 : cX10_fair.data.toList.drop 22 = dktX10_fair_1 := dk_seg dksX10_fair_0 22 rfl rfl
theorem dksX10_fair_2 : cX10_fair.data.toList.drop 46 = dktX10_fair_2 := dk_seg dksX10_fair_1 24 rfl rfl
theorem dksX10_fair_3 : cX10_fair.data.toList.drop 70 = dktX10_fair_3 := dk_seg dksX10_fair_2 24 rfl rfl
theorem dksX10_fair_4 : cX10_fair.data.toList.drop 92 = dktX10_fair_4 := dk_seg dksX10_fair_3 22 rfl rfl
theorem dX10_fair_0 : decode cX10_fair 0 = .ok (.aload_n 0, 1) := dk_42 (dk_at dksX10_fair_0 0 rfl rfl)
theorem dX10_fair_1 : decode cX10_fair 1 = .ok (.invokevirtual 282, 3) := dk_182 1 26 (dk_at dksX10_fair_0 1 rfl rfl)
theorem dX10_fair_4 : decode cX10_fair 4 = .ok (.ifCond .eq 10, 3) := dk_153 0 10 (dk_at dksX10_fair_0 4 rfl rfl)
theorem dX10_fair_7 : decode cX10_fair 7 = .ok (.iload_n 1, 1) := dk_27 (dk_at dksX10_fair_0 7 rfl rfl)
theorem dX10_fair_8 : decode cX10_fair 8 = .ok (.invokestatic 422, 3) := dk_184 1 166 (dk_at dksX10_fair_0 8 rfl rfl)
theorem dX10_fair_11 : decode cX10_fair 11 = .ok (.ifCond .ne 6, 3) := dk_154 0 6 (dk_at dksX10_fair_0 11 rfl rfl)
theorem dX10_fair_14 : decode cX10_fair 14 = .ok (.bipush (-2), 2) := dk_16 254 (dk_at dksX10_fair_0 14 rfl rfl)
theorem dX10_fair_16 : decode cX10_fair 16 = .ok (.ireturn, 1) := dk_172 (dk_at dksX10_fair_0 16 rfl rfl)
theorem dX10_fair_17 : decode cX10_fair 17 = .ok (.iconst 1, 1) := dk_4 (dk_at dksX10_fair_0 17 rfl rfl)
theorem dX10_fair_18 : decode cX10_fair 18 = .ok (.istore_n 2, 1) := dk_61 (dk_at dksX10_fair_0 18 rfl rfl)
theorem dX10_fair_19 : decode cX10_fair 19 = .ok (.iload_n 2, 1) := dk_28 (dk_at dksX10_fair_0 19 rfl rfl)
theorem dX10_fair_20 : decode cX10_fair 20 = .ok (.bipush 12, 2) := dk_16 12 (dk_at dksX10_fair_0 20 rfl rfl)
theorem dX10_fair_22 : decode cX10_fair 22 = .ok (.if_icmp .gt 76, 3) := dk_163 0 76 (dk_at dksX10_fair_1 0 rfl rfl)
theorem dX10_fair_25 : decode cX10_fair 25 = .ok (.aload_n 0, 1) := dk_42 (dk_at dksX10_fair_1 3 rfl rfl)
theorem dX10_fair_26 : decode cX10_fair 26 = .ok (.iload_n 1, 1) := dk_27 (dk_at dksX10_fair_1 4 rfl rfl)
theorem dX10_fair_27 : decode cX10_fair 27 = .ok (.iload_n 2, 1) := dk_28 (dk_at dksX10_fair_1 5 rfl rfl)
theorem dX10_fair_28 : decode cX10_fair 28 = .ok (.invokevirtual 429, 3) := dk_182 1 173 (dk_at dksX10_fair_1 6 rfl rfl)
theorem dX10_fair_31 : decode cX10_fair 31 = .ok (.iconst (-1), 1) := dk_2 (dk_at dksX10_fair_1 9 rfl rfl)
theorem dX10_fair_32 : decode cX10_fair 32 = .ok (.istore_n 3, 1) := dk_62 (dk_at dksX10_fair_1 10 rfl rfl)
theorem dX10_fair_33 : decode cX10_fair 33 = .ok (.iconst 0, 1) := dk_3 (dk_at dksX10_fair_1 11 rfl rfl)
theorem dX10_fair_34 : decode cX10_fair 34 = .ok (.istore 4, 2) := dk_54 4 (dk_at dksX10_fair_1 12 rfl rfl)
theorem dX10_fair_36 : decode cX10_fair 36 = .ok (.iload 4, 2) := dk_21 4 (dk_at dksX10_fair_1 14 rfl rfl)
theorem dX10_fair_38 : decode cX10_fair 38 = .ok (.aload_n 0, 1) := dk_42 (dk_at dksX10_fair_1 16 rfl rfl)
theorem dX10_fair_39 : decode cX10_fair 39 = .ok (.invokevirtual 92, 3) := dk_182 0 92 (dk_at dksX10_fair_1 17 rfl rfl)
theorem dX10_fair_42 : decode cX10_fair 42 = .ok (.if_icmp .ge 50, 3) := dk_162 0 50 (dk_at dksX10_fair_1 20 rfl rfl)
theorem dX10_fair_45 : decode cX10_fair 45 = .ok (.aload_n 0, 1) := dk_42 (dk_at dksX10_fair_1 23 rfl rfl)
theorem dX10_fair_46 : decode cX10_fair 46 = .ok (.iload 4, 2) := dk_21 4 (dk_at dksX10_fair_2 0 rfl rfl)
theorem dX10_fair_48 : decode cX10_fair 48 = .ok (.invokevirtual 395, 3) := dk_182 1 139 (dk_at dksX10_fair_2 2 rfl rfl)
theorem dX10_fair_51 : decode cX10_fair 51 = .ok (.ifCond .eq 6, 3) := dk_153 0 6 (dk_at dksX10_fair_2 5 rfl rfl)
theorem dX10_fair_54 : decode cX10_fair 54 = .ok (.goto 32, 3) := dk_167 0 32 (dk_at dksX10_fair_2 8 rfl rfl)
theorem dX10_fair_57 : decode cX10_fair 57 = .ok (.iload_n 3, 1) := dk_29 (dk_at dksX10_fair_2 11 rfl rfl)
theorem dX10_fair_58 : decode cX10_fair 58 = .ok (.iconst (-1), 1) := dk_2 (dk_at dksX10_fair_2 12 rfl rfl)
theorem dX10_fair_59 : decode cX10_fair 59 = .ok (.if_icmp .ne 8, 3) := dk_160 0 8 (dk_at dksX10_fair_2 13 rfl rfl)
theorem dX10_fair_62 : decode cX10_fair 62 = .ok (.iload 4, 2) := dk_21 4 (dk_at dksX10_fair_2 16 rfl rfl)
theorem dX10_fair_64 : decode cX10_fair 64 = .ok (.goto 4, 3) := dk_167 0 4 (dk_at dksX10_fair_2 18 rfl rfl)
theorem dX10_fair_67 : decode cX10_fair 67 = .ok (.iload_n 3, 1) := dk_29 (dk_at dksX10_fair_2 21 rfl rfl)
theorem dX10_fair_68 : decode cX10_fair 68 = .ok (.istore_n 3, 1) := dk_62 (dk_at dksX10_fair_2 22 rfl rfl)
theorem dX10_fair_69 : decode cX10_fair 69 = .ok (.aload_n 0, 1) := dk_42 (dk_at dksX10_fair_2 23 rfl rfl)
theorem dX10_fair_70 : decode cX10_fair 70 = .ok (.iload 4, 2) := dk_21 4 (dk_at dksX10_fair_3 0 rfl rfl)
theorem dX10_fair_72 : decode cX10_fair 72 = .ok (.invokevirtual 433, 3) := dk_182 1 177 (dk_at dksX10_fair_3 2 rfl rfl)
theorem dX10_fair_75 : decode cX10_fair 75 = .ok (.aload_n 0, 1) := dk_42 (dk_at dksX10_fair_3 5 rfl rfl)
theorem dX10_fair_76 : decode cX10_fair 76 = .ok (.iload_n 3, 1) := dk_29 (dk_at dksX10_fair_3 6 rfl rfl)
theorem dX10_fair_77 : decode cX10_fair 77 = .ok (.invokevirtual 433, 3) := dk_182 1 177 (dk_at dksX10_fair_3 7 rfl rfl)
theorem dX10_fair_80 : decode cX10_fair 80 = .ok (.lcmp, 1) := dk_148 (dk_at dksX10_fair_3 10 rfl rfl)
theorem dX10_fair_81 : decode cX10_fair 81 = .ok (.ifCond .eq 5, 3) := dk_153 0 5 (dk_at dksX10_fair_3 11 rfl rfl)
theorem dX10_fair_84 : decode cX10_fair 84 = .ok (.iconst 0, 1) := dk_3 (dk_at dksX10_fair_3 14 rfl rfl)
theorem dX10_fair_85 : decode cX10_fair 85 = .ok (.ireturn, 1) := dk_172 (dk_at dksX10_fair_3 15 rfl rfl)
theorem dX10_fair_86 : decode cX10_fair 86 = .ok (.iinc 4 1, 3) := dk_132 4 1 (dk_at dksX10_fair_3 16 rfl rfl)
theorem dX10_fair_89 : decode cX10_fair 89 = .ok (.goto (-53), 3) := dk_167 255 203 (dk_at dksX10_fair_3 19 rfl rfl)
theorem dX10_fair_92 : decode cX10_fair 92 = .ok (.iinc 2 1, 3) := dk_132 2 1 (dk_at dksX10_fair_4 0 rfl rfl)
theorem dX10_fair_95 : decode cX10_fair 95 = .ok (.goto (-76), 3) := dk_167 255 180 (dk_at dksX10_fair_4 3 rfl rfl)
theorem dX10_fair_98 : decode cX10_fair 98 = .ok (.iconst 1, 1) := dk_4 (dk_at dksX10_fair_4 6 rfl rfl)
theorem dX10_fair_99 : decode cX10_fair 99 = .ok (.ireturn, 1) := dk_172 (dk_at dksX10_fair_4 7 rfl rfl)
abbrev cX10_breaks : ByteArray := prog_16_method_104_code
def yX10_breaks : MethodName := ⟨RX10, "breaks", "(I)I"⟩
def dkwX10_breaks_2 : List UInt8 := [182, 1, 184, 182, 1, 162, 154, 0, 5, 28, 172, 132, 2, 1, 167, 255, 214, 2, 172]
abbrev dktX10_breaks_2 : List UInt8 := dkwX10_breaks_2 ++ []
def dkwX10_breaks_1 : List UInt8 := [8, 46, 162, 0, 38, 42, 27, 42, 28, 182, 1, 184, 42, 28, 4, 100, 182, 1, 184, 42, 28, 5, 100]
abbrev dktX10_breaks_1 : List UInt8 := dkwX10_breaks_1 ++ dktX10_breaks_2
def dkwX10_breaks_0 : List UInt8 := [42, 182, 1, 26, 153, 0, 10, 27, 184, 1, 166, 154, 0, 6, 16, 254, 172, 3, 61, 28, 42, 180, 0, 9]
abbrev dktX10_breaks_0 : List UInt8 := dkwX10_breaks_0 ++ dktX10_breaks_1
theorem dksX10_breaks_0 : cX10_breaks.data.toList.drop 0 = dktX10_breaks_0 := by decide +kernel
theorem dksX10_breaks_1 : cX10_breaks.data.toList.drop 24 = dktX10_breaks_1 := dk_seg dksX10_breaks_0 24 rfl rfl
theorem dksX10_breaks_2 : cX10_breaks.data.toList.drop 47 = dktX10_breaks_2 := dk_seg dksX10_breaks_1 23 rfl rfl
theorem dX10_breaks_0 : decode cX10_breaks 0 = .ok (.aload_n 0, 1) := dk_42 (dk_at dksX10_breaks_0 0 rfl rfl)
theorem dX10_breaks_1 : decode cX10_breaks 1 = .ok (.invokevirtual 282, 3) := dk_182 1 26 (dk_at dksX10_breaks_0 1 rfl rfl)
theorem dX10_breaks_4 : decode cX10_breaks 4 = .ok (.ifCond .eq 10, 3) := dk_153 0 10 (dk_at dksX10_breaks_0 4 rfl rfl)
theorem dX10_breaks_7 : decode cX10_breaks 7 = .ok (.iload_n 1, 1) := dk_27 (dk_at dksX10_breaks_0 7 rfl rfl)
theorem dX10_breaks_8 : decode cX10_breaks 8 = .ok (.invokestatic 422, 3) := dk_184 1 166 (dk_at dksX10_breaks_0 8 rfl rfl)
theorem dX10_breaks_11 : decode cX10_breaks 11 = .ok (.ifCond .ne 6, 3) := dk_154 0 6 (dk_at dksX10_breaks_0 11 rfl rfl)
theorem dX10_breaks_14 : decode cX10_breaks 14 = .ok (.bipush (-2), 2) := dk_16 254 (dk_at dksX10_breaks_0 14 rfl rfl)
theorem dX10_breaks_16 : decode cX10_breaks 16 = .ok (.ireturn, 1) := dk_172 (dk_at dksX10_breaks_0 16 rfl rfl)
theorem dX10_breaks_17 : decode cX10_breaks 17 = .ok (.iconst 0, 1) := dk_3 (dk_at dksX10_breaks_0 17 rfl rfl)
theorem dX10_breaks_18 : decode cX10_breaks 18 = .ok (.istore_n 2, 1) := dk_61 (dk_at dksX10_breaks_0 18 rfl rfl)
theorem dX10_breaks_19 : decode cX10_breaks 19 = .ok (.iload_n 2, 1) := dk_28 (dk_at dksX10_breaks_0 19 rfl rfl)
theorem dX10_breaks_20 : decode cX10_breaks 20 = .ok (.aload_n 0, 1) := dk_42 (dk_at dksX10_breaks_0 20 rfl rfl)
theorem dX10_breaks_21 : decode cX10_breaks 21 = .ok (.getfield 9, 3) := dk_180 0 9 (dk_at dksX10_breaks_0 21 rfl rfl)
theorem dX10_breaks_24 : decode cX10_breaks 24 = .ok (.iconst 5, 1) := dk_8 (dk_at dksX10_breaks_1 0 rfl rfl)
theorem dX10_breaks_25 : decode cX10_breaks 25 = .ok (.iaload, 1) := dk_46 (dk_at dksX10_breaks_1 1 rfl rfl)
theorem dX10_breaks_26 : decode cX10_breaks 26 = .ok (.if_icmp .ge 38, 3) := dk_162 0 38 (dk_at dksX10_breaks_1 2 rfl rfl)
theorem dX10_breaks_29 : decode cX10_breaks 29 = .ok (.aload_n 0, 1) := dk_42 (dk_at dksX10_breaks_1 5 rfl rfl)
theorem dX10_breaks_30 : decode cX10_breaks 30 = .ok (.iload_n 1, 1) := dk_27 (dk_at dksX10_breaks_1 6 rfl rfl)
theorem dX10_breaks_31 : decode cX10_breaks 31 = .ok (.aload_n 0, 1) := dk_42 (dk_at dksX10_breaks_1 7 rfl rfl)
theorem dX10_breaks_32 : decode cX10_breaks 32 = .ok (.iload_n 2, 1) := dk_28 (dk_at dksX10_breaks_1 8 rfl rfl)
theorem dX10_breaks_33 : decode cX10_breaks 33 = .ok (.invokevirtual 440, 3) := dk_182 1 184 (dk_at dksX10_breaks_1 9 rfl rfl)
theorem dX10_breaks_36 : decode cX10_breaks 36 = .ok (.aload_n 0, 1) := dk_42 (dk_at dksX10_breaks_1 12 rfl rfl)
theorem dX10_breaks_37 : decode cX10_breaks 37 = .ok (.iload_n 2, 1) := dk_28 (dk_at dksX10_breaks_1 13 rfl rfl)
theorem dX10_breaks_38 : decode cX10_breaks 38 = .ok (.iconst 1, 1) := dk_4 (dk_at dksX10_breaks_1 14 rfl rfl)
theorem dX10_breaks_39 : decode cX10_breaks 39 = .ok (.isub, 1) := dk_100 (dk_at dksX10_breaks_1 15 rfl rfl)
theorem dX10_breaks_40 : decode cX10_breaks 40 = .ok (.invokevirtual 440, 3) := dk_182 1 184 (dk_at dksX10_breaks_1 16 rfl rfl)
theorem dX10_breaks_43 : decode cX10_breaks 43 = .ok (.aload_n 0, 1) := dk_42 (dk_at dksX10_breaks_1 19 rfl rfl)
theorem dX10_breaks_44 : decode cX10_breaks 44 = .ok (.iload_n 2, 1) := dk_28 (dk_at dksX10_breaks_1 20 rfl rfl)
theorem dX10_breaks_45 : decode cX10_breaks 45 = .ok (.iconst 2, 1) := dk_5 (dk_at dksX10_breaks_1 21 rfl rfl)
theorem dX10_breaks_46 : decode cX10_breaks 46 = .ok (.isub, 1) := dk_100 (dk_at dksX10_breaks_1 22 rfl rfl)
theorem dX10_breaks_47 : decode cX10_breaks 47 = .ok (.invokevirtual 440, 3) := dk_182 1 184 (dk_at dksX10_breaks_2 0 rfl rfl)
theorem dX10_breaks_50 : decode cX10_breaks 50 = .ok (.invokevirtual 418, 3) := dk_182 1 162 (dk_at dksX10_breaks_2 3 rfl rfl)
theorem dX10_breaks_53 : decode cX10_breaks 53 = .ok (.ifCond .ne 5, 3) := dk_154 0 5 (dk_at dksX10_breaks_2 6 rfl rfl)
theorem dX10_breaks_56 : decode cX10_breaks 56 = .ok (.iload_n 2, 1) := dk_28 (dk_at dksX10_breaks_2 9 rfl rfl)
theorem dX10_breaks_57 : decode cX10_breaks 57 = .ok (.ireturn, 1) := dk_172 (dk_at dksX10_breaks_2 10 rfl rfl)
theorem dX10_breaks_58 : decode cX10_breaks 58 = .ok (.iinc 2 1, 3) := dk_132 2 1 (dk_at dksX10_breaks_2 11 rfl rfl)
theorem dX10_breaks_61 : decode cX10_breaks 61 = .ok (.goto (-42), 3) := dk_167 255 214 (dk_at dksX10_breaks_2 14 rfl rfl)
theorem dX10_breaks_64 : decode cX10_breaks 64 = .ok (.iconst (-1), 1) := dk_2 (dk_at dksX10_breaks_2 17 rfl rfl)
theorem dX10_breaks_65 : decode cX10_breaks 65 = .ok (.ireturn, 1) := dk_172 (dk_at dksX10_breaks_2 18 rfl rfl)
abbrev cX10_holeAt : ByteArray := prog_16_method_103_code
def yX10_holeAt : MethodName := ⟨RX10, "holeAt", "(I)I"⟩
def dkwX10_holeAt_0 : List UInt8 := [42, 27, 42, 180, 0, 9, 8, 46, 184, 1, 181, 3, 182, 1, 4, 172]
abbrev dktX10_holeAt_0 : List UInt8 := dkwX10_holeAt_0 ++ []
theorem dksX10_holeAt_0 : cX10_holeAt.data.toList.drop 0 = dktX10_holeAt_0 := by decide +kernel
theorem dX10_holeAt_0 : decode cX10_holeAt 0 = .ok (.aload_n 0, 1) := dk_42 (dk_at dksX10_holeAt_0 0 rfl rfl)
theorem dX10_holeAt_1 : decode cX10_holeAt 1 = .ok (.iload_n 1, 1) := dk_27 (dk_at dksX10_holeAt_0 1 rfl rfl)
theorem dX10_holeAt_2 : decode cX10_holeAt 2 = .ok (.aload_n 0, 1) := dk_42 (dk_at dksX10_holeAt_0 2 rfl rfl)
theorem dX10_holeAt_3 : decode cX10_holeAt 3 = .ok (.getfield 9, 3) := dk_180 0 9 (dk_at dksX10_holeAt_0 3 rfl rfl)
theorem dX10_holeAt_6 : decode cX10_holeAt 6 = .ok (.iconst 5, 1) := dk_8 (dk_at dksX10_holeAt_0 6 rfl rfl)
theorem dX10_holeAt_7 : decode cX10_holeAt 7 = .ok (.iaload, 1) := dk_46 (dk_at dksX10_holeAt_0 7 rfl rfl)
theorem dX10_holeAt_8 : decode cX10_holeAt 8 = .ok (.invokestatic 437, 3) := dk_184 1 181 (dk_at dksX10_holeAt_0 8 rfl rfl)
theorem dX10_holeAt_11 : decode cX10_holeAt 11 = .ok (.iconst 0, 1) := dk_3 (dk_at dksX10_holeAt_0 11 rfl rfl)
theorem dX10_holeAt_12 : decode cX10_holeAt 12 = .ok (.invokevirtual 260, 3) := dk_182 1 4 (dk_at dksX10_holeAt_0 12 rfl rfl)
theorem dX10_holeAt_15 : decode cX10_holeAt 15 = .ok (.ireturn, 1) := dk_172 (dk_at dksX10_holeAt_0 15 rfl rfl)
abbrev cX10_period : ByteArray := prog_16_method_109_code
def yX10_period : MethodName := ⟨RX10, "period", "(I)I"⟩
def dkwX10_period_0 : List UInt8 := [42, 27, 182, 1, 197, 61, 28, 156, 0, 7, 28, 167, 0, 8, 42, 27, 182, 1, 200, 172]
abbrev dktX10_period_0 : List UInt8 := dkwX10_period_0 ++ []
theorem dksX10_period_0 : cX10_period.data.toList.drop 0 = dktX10_period_0 := by decide +kernel
theorem dX10_period_0 : decode cX10_period 0 = .ok (.aload_n 0, 1) := dk_42 (dk_at dksX10_period_0 0 rfl rfl)
theorem dX10_period_1 : decode cX10_period 1 = .ok (.iload_n 1, 1) := dk_27 (dk_at dksX10_period_0 1 rfl rfl)
theorem dX10_period_2 : decode cX10_period 2 = .ok (.invokevirtual 453, 3) := dk_182 1 197 (dk_at dksX10_period_0 2 rfl rfl)
theorem dX10_period_5 : decode cX10_period 5 = .ok (.istore_n 2, 1) := dk_61 (dk_at dksX10_period_0 5 rfl rfl)
theorem dX10_period_6 : decode cX10_period 6 = .ok (.iload_n 2, 1) := dk_28 (dk_at dksX10_period_0 6 rfl rfl)
theorem dX10_period_7 : decode cX10_period 7 = .ok (.ifCond .ge 7, 3) := dk_156 0 7 (dk_at dksX10_period_0 7 rfl rfl)
theorem dX10_period_10 : decode cX10_period 10 = .ok (.iload_n 2, 1) := dk_28 (dk_at dksX10_period_0 10 rfl rfl)
theorem dX10_period_11 : decode cX10_period 11 = .ok (.goto 8, 3) := dk_167 0 8 (dk_at dksX10_period_0 11 rfl rfl)
theorem dX10_period_14 : decode cX10_period 14 = .ok (.aload_n 0, 1) := dk_42 (dk_at dksX10_period_0 14 rfl rfl)
theorem dX10_period_15 : decode cX10_period 15 = .ok (.iload_n 1, 1) := dk_27 (dk_at dksX10_period_0 15 rfl rfl)
theorem dX10_period_16 : decode cX10_period 16 = .ok (.invokevirtual 456, 3) := dk_182 1 200 (dk_at dksX10_period_0 16 rfl rfl)
theorem dX10_period_19 : decode cX10_period 19 = .ok (.ireturn, 1) := dk_172 (dk_at dksX10_period_0 19 rfl rfl)
abbrev cX10_asksHeard : ByteArray := prog_16_method_106_code
def yX10_asksHeard : MethodName := ⟨RX10, "asksHeard", "(I)I"⟩
def dkwX10_asksHeard_2 : List UInt8 := [182, 1, 190, 182, 1, 44, 154, 0, 6, 16, 254, 172, 132, 2, 1, 167, 255, 227, 3, 172]
abbrev dktX10_asksHeard_2 : List UInt8 := dkwX10_asksHeard_2 ++ []
def dkwX10_asksHeard_1 : List UInt8 := [160, 0, 6, 16, 250, 172, 3, 61, 28, 42, 180, 0, 71, 27, 46, 162, 0, 25, 42, 42, 27, 28]
abbrev dktX10_asksHeard_1 : List UInt8 := dkwX10_asksHeard_1 ++ dktX10_asksHeard_2
def dkwX10_asksHeard_0 : List UInt8 := [27, 184, 1, 187, 153, 0, 10, 42, 182, 1, 26, 154, 0, 6, 16, 254, 172, 42, 180, 0, 71, 27, 46, 2]
abbrev dktX10_asksHeard_0 : List UInt8 := dkwX10_asksHeard_0 ++ dktX10_asksHeard_1
theorem dksX10_asksHeard_0 : cX10_asksHeard.data.toList.drop 0 = dktX10_asksHeard_0 := by decide +kernel
theorem dksX10_asksHeard_1 : cX10_asksHeard.data.toList.drop 24 = dktX10_asksHeard_1 := dk_seg dksX10_asksHeard_0 24 rfl rfl
theorem dksX10_asksHeard_2 : cX10_asksHeard.data.toList.drop 46 = dktX10_asksHeard_2 := dk_seg dksX10_asksHeard_1 22 rfl rfl
theorem dX10_asksHeard_0 : decode cX10_asksHeard 0 = .ok (.iload_n 1, 1) := dk_27 (dk_at dksX10_asksHeard_0 0 rfl rfl)
theorem dX10_asksHeard_1 : decode cX10_asksHeard 1 = .ok (.invokestatic 443, 3) := dk_184 1 187 (dk_at dksX10_asksHeard_0 1 rfl rfl)
theorem dX10_asksHeard_4 : decode cX10_asksHeard 4 = .ok (.ifCond .eq 10, 3) := dk_153 0 10 (dk_at dksX10_asksHeard_0 4 rfl rfl)
theorem dX10_asksHeard_7 : decode cX10_asksHeard 7 = .ok (.aload_n 0, 1) := dk_42 (dk_at dksX10_asksHeard_0 7 rfl rfl)
theorem dX10_asksHeard_8 : decode cX10_asksHeard 8 = .ok (.invokevirtual 282, 3) := dk_182 1 26 (dk_at dksX10_asksHeard_0 8 rfl rfl)
theorem dX10_asksHeard_11 : decode cX10_asksHeard 11 = .ok (.ifCond .ne 6, 3) := dk_154 0 6 (dk_at dksX10_asksHeard_0 11 rfl rfl)
theorem dX10_asksHeard_14 : decode cX10_asksHeard 14 = .ok (.bipush (-2), 2) := dk_16 254 (dk_at dksX10_asksHeard_0 14 rfl rfl)
theorem dX10_asksHeard_16 : decode cX10_asksHeard 16 = .ok (.ireturn, 1) := dk_172 (dk_at dksX10_asksHeard_0 16 rfl rfl)
theorem dX10_asksHeard_17 : decode cX10_asksHeard 17 = .ok (.aload_n 0, 1) := dk_42 (dk_at dksX10_asksHeard_0 17 rfl rfl)
theorem dX10_asksHeard_18 : decode cX10_asksHeard 18 = .ok (.getfield 71, 3) := dk_180 0 71 (dk_at dksX10_asksHeard_0 18 rfl rfl)
theorem dX10_asksHeard_21 : decode cX10_asksHeard 21 = .ok (.iload_n 1, 1) := dk_27 (dk_at dksX10_asksHeard_0 21 rfl rfl)
theorem dX10_asksHeard_22 : decode cX10_asksHeard 22 = .ok (.iaload, 1) := dk_46 (dk_at dksX10_asksHeard_0 22 rfl rfl)
theorem dX10_asksHeard_23 : decode cX10_asksHeard 23 = .ok (.iconst (-1), 1) := dk_2 (dk_at dksX10_asksHeard_0 23 rfl rfl)
theorem dX10_asksHeard_24 : decode cX10_asksHeard 24 = .ok (.if_icmp .ne 6, 3) := dk_160 0 6 (dk_at dksX10_asksHeard_1 0 rfl rfl)
theorem dX10_asksHeard_27 : decode cX10_asksHeard 27 = .ok (.bipush (-6), 2) := dk_16 250 (dk_at dksX10_asksHeard_1 3 rfl rfl)
theorem dX10_asksHeard_29 : decode cX10_asksHeard 29 = .ok (.ireturn, 1) := dk_172 (dk_at dksX10_asksHeard_1 5 rfl rfl)
theorem dX10_asksHeard_30 : decode cX10_asksHeard 30 = .ok (.iconst 0, 1) := dk_3 (dk_at dksX10_asksHeard_1 6 rfl rfl)
theorem dX10_asksHeard_31 : decode cX10_asksHeard 31 = .ok (.istore_n 2, 1) := dk_61 (dk_at dksX10_asksHeard_1 7 rfl rfl)
theorem dX10_asksHeard_32 : decode cX10_asksHeard 32 = .ok (.iload_n 2, 1) := dk_28 (dk_at dksX10_asksHeard_1 8 rfl rfl)
theorem dX10_asksHeard_33 : decode cX10_asksHeard 33 = .ok (.aload_n 0, 1) := dk_42 (dk_at dksX10_asksHeard_1 9 rfl rfl)
theorem dX10_asksHeard_34 : decode cX10_asksHeard 34 = .ok (.getfield 71, 3) := dk_180 0 71 (dk_at dksX10_asksHeard_1 10 rfl rfl)
theorem dX10_asksHeard_37 : decode cX10_asksHeard 37 = .ok (.iload_n 1, 1) := dk_27 (dk_at dksX10_asksHeard_1 13 rfl rfl)
theorem dX10_asksHeard_38 : decode cX10_asksHeard 38 = .ok (.iaload, 1) := dk_46 (dk_at dksX10_asksHeard_1 14 rfl rfl)
theorem dX10_asksHeard_39 : decode cX10_asksHeard 39 = .ok (.if_icmp .ge 25, 3) := dk_162 0 25 (dk_at dksX10_asksHeard_1 15 rfl rfl)
theorem dX10_asksHeard_42 : decode cX10_asksHeard 42 = .ok (.aload_n 0, 1) := dk_42 (dk_at dksX10_asksHeard_1 18 rfl rfl)
theorem dX10_asksHeard_43 : decode cX10_asksHeard 43 = .ok (.aload_n 0, 1) := dk_42 (dk_at dksX10_asksHeard_1 19 rfl rfl)
theorem dX10_asksHeard_44 : decode cX10_asksHeard 44 = .ok (.iload_n 1, 1) := dk_27 (dk_at dksX10_asksHeard_1 20 rfl rfl)
theorem dX10_asksHeard_45 : decode cX10_asksHeard 45 = .ok (.iload_n 2, 1) := dk_28 (dk_at dksX10_asksHeard_1 21 rfl rfl)
theorem dX10_asksHeard_46 : decode cX10_asksHeard 46 = .ok (.invokevirtual 446, 3) := dk_182 1 190 (dk_at dksX10_asksHeard_2 0 rfl rfl)
theorem dX10_asksHeard_49 : decode cX10_asksHeard 49 = .ok (.invokevirtual 300, 3) := dk_182 1 44 (dk_at dksX10_asksHeard_2 3 rfl rfl)
theorem dX10_asksHeard_52 : decode cX10_asksHeard 52 = .ok (.ifCond .ne 6, 3) := dk_154 0 6 (dk_at dksX10_asksHeard_2 6 rfl rfl)
theorem dX10_asksHeard_55 : decode cX10_asksHeard 55 = .ok (.bipush (-2), 2) := dk_16 254 (dk_at dksX10_asksHeard_2 9 rfl rfl)
theorem dX10_asksHeard_57 : decode cX10_asksHeard 57 = .ok (.ireturn, 1) := dk_172 (dk_at dksX10_asksHeard_2 11 rfl rfl)
theorem dX10_asksHeard_58 : decode cX10_asksHeard 58 = .ok (.iinc 2 1, 3) := dk_132 2 1 (dk_at dksX10_asksHeard_2 12 rfl rfl)
theorem dX10_asksHeard_61 : decode cX10_asksHeard 61 = .ok (.goto (-29), 3) := dk_167 255 227 (dk_at dksX10_asksHeard_2 15 rfl rfl)
theorem dX10_asksHeard_64 : decode cX10_asksHeard 64 = .ok (.iconst 0, 1) := dk_3 (dk_at dksX10_asksHeard_2 18 rfl rfl)
theorem dX10_asksHeard_65 : decode cX10_asksHeard 65 = .ok (.ireturn, 1) := dk_172 (dk_at dksX10_asksHeard_2 19 rfl rfl)
abbrev cX10_isSlot : ByteArray := prog_16_method_158_code
def yX10_isSlot : MethodName := ⟨RX10, "isSlot", "(I)Z"⟩
def dkwX10_isSlot_0 : List UInt8 := [26, 133, 9, 20, 1, 160, 184, 0, 88, 172]
abbrev dktX10_isSlot_0 : List UInt8 := dkwX10_isSlot_0 ++ []
theorem dksX10_isSlot_0 : cX10_isSlot.data.toList.drop 0 = dktX10_isSlot_0 := by decide +kernel
theorem dX10_isSlot_0 : decode cX10_isSlot 0 = .ok (.iload_n 0, 1) := dk_26 (dk_at dksX10_isSlot_0 0 rfl rfl)
theorem dX10_isSlot_1 : decode cX10_isSlot 1 = .ok (.i2l, 1) := dk_133 (dk_at dksX10_isSlot_0 1 rfl rfl)
theorem dX10_isSlot_2 : decode cX10_isSlot 2 = .ok (.lconst 0, 1) := dk_9 (dk_at dksX10_isSlot_0 2 rfl rfl)
theorem dX10_isSlot_3 : decode cX10_isSlot 3 = .ok (.ldc2_w 416, 3) := dk_20 1 160 (dk_at dksX10_isSlot_0 3 rfl rfl)
theorem dX10_isSlot_6 : decode cX10_isSlot 6 = .ok (.invokestatic 88, 3) := dk_184 0 88 (dk_at dksX10_isSlot_0 6 rfl rfl)
theorem dX10_isSlot_9 : decode cX10_isSlot 9 = .ok (.ireturn, 1) := dk_172 (dk_at dksX10_isSlot_0 9 rfl rfl)
abbrev cX10_numberAt : ByteArray := prog_16_method_105_code
def yX10_numberAt : MethodName := ⟨RX10, "numberAt", "(II)J"⟩
def dkwX10_numberAt_0 : List UInt8 := [42, 180, 0, 77, 16, 60, 27, 104, 28, 96, 47, 173]
abbrev dktX10_numberAt_0 : List UInt8 := dkwX10_numberAt_0 ++ []
theorem dksX10_numberAt_0 : cX10_numberAt.data.toList.drop 0 = dktX10_numberAt_0 := by decide +kernel
theorem dX10_numberAt_0 : decode cX10_numberAt 0 = .ok (.aload_n 0, 1) := dk_42 (dk_at dksX10_numberAt_0 0 rfl rfl)
theorem dX10_numberAt_1 : decode cX10_numberAt 1 = .ok (.getfield 77, 3) := dk_180 0 77 (dk_at dksX10_numberAt_0 1 rfl rfl)
theorem dX10_numberAt_4 : decode cX10_numberAt 4 = .ok (.bipush 60, 2) := dk_16 60 (dk_at dksX10_numberAt_0 4 rfl rfl)
theorem dX10_numberAt_6 : decode cX10_numberAt 6 = .ok (.iload_n 1, 1) := dk_27 (dk_at dksX10_numberAt_0 6 rfl rfl)
theorem dX10_numberAt_7 : decode cX10_numberAt 7 = .ok (.imul, 1) := dk_104 (dk_at dksX10_numberAt_0 7 rfl rfl)
theorem dX10_numberAt_8 : decode cX10_numberAt 8 = .ok (.iload_n 2, 1) := dk_28 (dk_at dksX10_numberAt_0 8 rfl rfl)
theorem dX10_numberAt_9 : decode cX10_numberAt 9 = .ok (.iadd, 1) := dk_96 (dk_at dksX10_numberAt_0 9 rfl rfl)
theorem dX10_numberAt_10 : decode cX10_numberAt 10 = .ok (.laload, 1) := dk_47 (dk_at dksX10_numberAt_0 10 rfl rfl)
theorem dX10_numberAt_11 : decode cX10_numberAt 11 = .ok (.lreturn, 1) := dk_173 (dk_at dksX10_numberAt_0 11 rfl rfl)
abbrev cX10_leastPeriod : ByteArray := prog_16_method_108_code
def yX10_leastPeriod : MethodName := ⟨RX10, "leastPeriod", "(I)I"⟩
def dkwX10_leastPeriod_1 : List UInt8 := [132, 2, 1, 167, 255, 232, 2, 172]
abbrev dktX10_leastPeriod_1 : List UInt8 := dkwX10_leastPeriod_1 ++ []
def dkwX10_leastPeriod_0 : List UInt8 := [4, 61, 28, 42, 180, 0, 71, 27, 46, 162, 0, 20, 42, 27, 28, 182, 1, 194, 153, 0, 5, 28, 172]
abbrev dktX10_leastPeriod_0 : List UInt8 := dkwX10_leastPeriod_0 ++ dktX10_leastPeriod_1
theorem dksX10_leastPeriod_0 : cX10_leastPeriod.data.toList.drop 0 = dktX10_leastPeriod_0 := by decide +kernel
theorem dksX10_leastPeriod_1 : cX10_leastPeriod.data.toList.drop 23 = dktX10_leastPeriod_1 := dk_seg dksX10_leastPeriod_0 23 rfl rfl
theorem dX10_leastPeriod_0 : decode cX10_leastPeriod 0 = .ok (.iconst 1, 1) := dk_4 (dk_at dksX10_leastPeriod_0 0 rfl rfl)
theorem dX10_leastPeriod_1 : decode cX10_leastPeriod 1 = .ok (.istore_n 2, 1) := dk_61 (dk_at dksX10_leastPeriod_0 1 rfl rfl)
theorem dX10_leastPeriod_2 : decode cX10_leastPeriod 2 = .ok (.iload_n 2, 1) := dk_28 (dk_at dksX10_leastPeriod_0 2 rfl rfl)
theorem dX10_leastPeriod_3 : decode cX10_leastPeriod 3 = .ok (.aload_n 0, 1) := dk_42 (dk_at dksX10_leastPeriod_0 3 rfl rfl)
theorem dX10_leastPeriod_4 : decode cX10_leastPeriod 4 = .ok (.getfield 71, 3) := dk_180 0 71 (dk_at dksX10_leastPeriod_0 4 rfl rfl)
theorem dX10_leastPeriod_7 : decode cX10_leastPeriod 7 = .ok (.iload_n 1, 1) := dk_27 (dk_at dksX10_leastPeriod_0 7 rfl rfl)
theorem dX10_leastPeriod_8 : decode cX10_leastPeriod 8 = .ok (.iaload, 1) := dk_46 (dk_at dksX10_leastPeriod_0 8 rfl rfl)
theorem dX10_leastPeriod_9 : decode cX10_leastPeriod 9 = .ok (.if_icmp .ge 20, 3) := dk_162 0 20 (dk_at dksX10_leastPeriod_0 9 rfl rfl)
theorem dX10_leastPeriod_12 : decode cX10_leastPeriod 12 = .ok (.aload_n 0, 1) := dk_42 (dk_at dksX10_leastPeriod_0 12 rfl rfl)
theorem dX10_leastPeriod_13 : decode cX10_leastPeriod 13 = .ok (.iload_n 1, 1) := dk_27 (dk_at dksX10_leastPeriod_0 13 rfl rfl)
theorem dX10_leastPeriod_14 : decode cX10_leastPeriod 14 = .ok (.iload_n 2, 1) := dk_28 (dk_at dksX10_leastPeriod_0 14 rfl rfl)
theorem dX10_leastPeriod_15 : decode cX10_leastPeriod 15 = .ok (.invokevirtual 450, 3) := dk_182 1 194 (dk_at dksX10_leastPeriod_0 15 rfl rfl)
theorem dX10_leastPeriod_18 : decode cX10_leastPeriod 18 = .ok (.ifCond .eq 5, 3) := dk_153 0 5 (dk_at dksX10_leastPeriod_0 18 rfl rfl)
theorem dX10_leastPeriod_21 : decode cX10_leastPeriod 21 = .ok (.iload_n 2, 1) := dk_28 (dk_at dksX10_leastPeriod_0 21 rfl rfl)
theorem dX10_leastPeriod_22 : decode cX10_leastPeriod 22 = .ok (.ireturn, 1) := dk_172 (dk_at dksX10_leastPeriod_0 22 rfl rfl)
theorem dX10_leastPeriod_23 : decode cX10_leastPeriod 23 = .ok (.iinc 2 1, 3) := dk_132 2 1 (dk_at dksX10_leastPeriod_1 0 rfl rfl)
theorem dX10_leastPeriod_26 : decode cX10_leastPeriod 26 = .ok (.goto (-24), 3) := dk_167 255 232 (dk_at dksX10_leastPeriod_1 3 rfl rfl)
theorem dX10_leastPeriod_29 : decode cX10_leastPeriod 29 = .ok (.iconst (-1), 1) := dk_2 (dk_at dksX10_leastPeriod_1 6 rfl rfl)
theorem dX10_leastPeriod_30 : decode cX10_leastPeriod 30 = .ok (.ireturn, 1) := dk_172 (dk_at dksX10_leastPeriod_1 7 rfl rfl)
abbrev cX10_isPeriod : ByteArray := prog_16_method_107_code
def yX10_isPeriod : MethodName := ⟨RX10, "isPeriod", "(II)Z"⟩
def dkwX10_isPeriod_1 : List UInt8 := [182, 1, 190, 148, 153, 0, 5, 3, 172, 132, 3, 1, 167, 255, 223, 4, 172]
abbrev dktX10_isPeriod_1 : List UInt8 := dkwX10_isPeriod_1 ++ []
def dkwX10_isPeriod_0 : List UInt8 := [28, 62, 29, 42, 180, 0, 71, 27, 46, 162, 0, 29, 42, 27, 29, 182, 1, 190, 42, 27, 29, 28, 100]
abbrev dktX10_isPeriod_0 : List UInt8 := dkwX10_isPeriod_0 ++ dktX10_isPeriod_1
theorem dksX10_isPeriod_0 : cX10_isPeriod.data.toList.drop 0 = dktX10_isPeriod_0 := by decide +kernel
theorem dksX10_isPeriod_1 : cX10_isPeriod.data.toList.drop 23 = dktX10_isPeriod_1 := dk_seg dksX10_isPeriod_0 23 rfl rfl
theorem dX10_isPeriod_0 : decode cX10_isPeriod 0 = .ok (.iload_n 2, 1) := dk_28 (dk_at dksX10_isPeriod_0 0 rfl rfl)
theorem dX10_isPeriod_1 : decode cX10_isPeriod 1 = .ok (.istore_n 3, 1) := dk_62 (dk_at dksX10_isPeriod_0 1 rfl rfl)
theorem dX10_isPeriod_2 : decode cX10_isPeriod 2 = .ok (.iload_n 3, 1) := dk_29 (dk_at dksX10_isPeriod_0 2 rfl rfl)
theorem dX10_isPeriod_3 : decode cX10_isPeriod 3 = .ok (.aload_n 0, 1) := dk_42 (dk_at dksX10_isPeriod_0 3 rfl rfl)
theorem dX10_isPeriod_4 : decode cX10_isPeriod 4 = .ok (.getfield 71, 3) := dk_180 0 71 (dk_at dksX10_isPeriod_0 4 rfl rfl)
theorem dX10_isPeriod_7 : decode cX10_isPeriod 7 = .ok (.iload_n 1, 1) := dk_27 (dk_at dksX10_isPeriod_0 7 rfl rfl)
theorem dX10_isPeriod_8 : decode cX10_isPeriod 8 = .ok (.iaload, 1) := dk_46 (dk_at dksX10_isPeriod_0 8 rfl rfl)
theorem dX10_isPeriod_9 : decode cX10_isPeriod 9 = .ok (.if_icmp .ge 29, 3) := dk_162 0 29 (dk_at dksX10_isPeriod_0 9 rfl rfl)
theorem dX10_isPeriod_12 : decode cX10_isPeriod 12 = .ok (.aload_n 0, 1) := dk_42 (dk_at dksX10_isPeriod_0 12 rfl rfl)
theorem dX10_isPeriod_13 : decode cX10_isPeriod 13 = .ok (.iload_n 1, 1) := dk_27 (dk_at dksX10_isPeriod_0 13 rfl rfl)
theorem dX10_isPeriod_14 : decode cX10_isPeriod 14 = .ok (.iload_n 3, 1) := dk_29 (dk_at dksX10_isPeriod_0 14 rfl rfl)
theorem dX10_isPeriod_15 : decode cX10_isPeriod 15 = .ok (.invokevirtual 446, 3) := dk_182 1 190 (dk_at dksX10_isPeriod_0 15 rfl rfl)
theorem dX10_isPeriod_18 : decode cX10_isPeriod 18 = .ok (.aload_n 0, 1) := dk_42 (dk_at dksX10_isPeriod_0 18 rfl rfl)
theorem dX10_isPeriod_19 : decode cX10_isPeriod 19 = .ok (.iload_n 1, 1) := dk_27 (dk_at dksX10_isPeriod_0 19 rfl rfl)
theorem dX10_isPeriod_20 : decode cX10_isPeriod 20 = .ok (.iload_n 3, 1) := dk_29 (dk_at dksX10_isPeriod_0 20 rfl rfl)
theorem dX10_isPeriod_21 : decode cX10_isPeriod 21 = .ok (.iload_n 2, 1) := dk_28 (dk_at dksX10_isPeriod_0 21 rfl rfl)
theorem dX10_isPeriod_22 : decode cX10_isPeriod 22 = .ok (.isub, 1) := dk_100 (dk_at dksX10_isPeriod_0 22 rfl rfl)
theorem dX10_isPeriod_23 : decode cX10_isPeriod 23 = .ok (.invokevirtual 446, 3) := dk_182 1 190 (dk_at dksX10_isPeriod_1 0 rfl rfl)
theorem dX10_isPeriod_26 : decode cX10_isPeriod 26 = .ok (.lcmp, 1) := dk_148 (dk_at dksX10_isPeriod_1 3 rfl rfl)
theorem dX10_isPeriod_27 : decode cX10_isPeriod 27 = .ok (.ifCond .eq 5, 3) := dk_153 0 5 (dk_at dksX10_isPeriod_1 4 rfl rfl)
theorem dX10_isPeriod_30 : decode cX10_isPeriod 30 = .ok (.iconst 0, 1) := dk_3 (dk_at dksX10_isPeriod_1 7 rfl rfl)
theorem dX10_isPeriod_31 : decode cX10_isPeriod 31 = .ok (.ireturn, 1) := dk_172 (dk_at dksX10_isPeriod_1 8 rfl rfl)
theorem dX10_isPeriod_32 : decode cX10_isPeriod 32 = .ok (.iinc 3 1, 3) := dk_132 3 1 (dk_at dksX10_isPeriod_1 9 rfl rfl)
theorem dX10_isPeriod_35 : decode cX10_isPeriod 35 = .ok (.goto (-33), 3) := dk_167 255 223 (dk_at dksX10_isPeriod_1 12 rfl rfl)
theorem dX10_isPeriod_38 : decode cX10_isPeriod 38 = .ok (.iconst 1, 1) := dk_4 (dk_at dksX10_isPeriod_1 15 rfl rfl)
theorem dX10_isPeriod_39 : decode cX10_isPeriod 39 = .ok (.ireturn, 1) := dk_172 (dk_at dksX10_isPeriod_1 16 rfl rfl)
abbrev cX10_periods : ByteArray := prog_16_method_110_code
def yX10_periods : MethodName := ⟨RX10, "periods", "(I)I"⟩
def dkwX10_periods_2 : List UInt8 := [132, 4, 1, 167, 255, 224, 29, 172]
abbrev dktX10_periods_2 : List UInt8 := dkwX10_periods_2 ++ []
def dkwX10_periods_1 : List UInt8 := [46, 162, 0, 27, 29, 42, 27, 21, 4, 182, 1, 194, 153, 0, 7, 4, 167, 0, 4, 3, 96, 62]
abbrev dktX10_periods_1 : List UInt8 := dkwX10_periods_1 ++ dktX10_periods_2
def dkwX10_periods_0 : List UInt8 := [42, 27, 182, 1, 197, 61, 28, 156, 0, 5, 28, 172, 3, 62, 4, 54, 4, 21, 4, 42, 180, 0, 71, 27]
abbrev dktX10_periods_0 : List UInt8 := dkwX10_periods_0 ++ dktX10_periods_1
theorem dksX10_periods_0 : cX10_periods.data.toList.drop 0 = dktX10_periods_0 := by decide +kernel
theorem dksX10_periods_1 : cX10_periods.data.toList.drop 24 = dktX10_periods_1 := dk_seg dksX10_periods_0 24 rfl rfl
theorem dksX10_periods_2 : cX10_periods.data.toList.drop 46 = dktX10_periods_2 := dk_seg dksX10_periods_1 22 rfl rfl
theorem dX10_periods_0 : decode cX10_periods 0 = .ok (.aload_n 0, 1) := dk_42 (dk_at dksX10_periods_0 0 rfl rfl)
theorem dX10_periods_1 : decode cX10_periods 1 = .ok (.iload_n 1, 1) := dk_27 (dk_at dksX10_periods_0 1 rfl rfl)
theorem dX10_periods_2 : decode cX10_periods 2 = .ok (.invokevirtual 453, 3) := dk_182 1 197 (dk_at dksX10_periods_0 2 rfl rfl)
theorem dX10_periods_5 : decode cX10_periods 5 = .ok (.istore_n 2, 1) := dk_61 (dk_at dksX10_periods_0 5 rfl rfl)
theorem dX10_periods_6 : decode cX10_periods 6 = .ok (.iload_n 2, 1) := dk_28 (dk_at dksX10_periods_0 6 rfl rfl)
theorem dX10_periods_7 : decode cX10_periods 7 = .ok (.ifCond .ge 5, 3) := dk_156 0 5 (dk_at dksX10_periods_0 7 rfl rfl)
theorem dX10_periods_10 : decode cX10_periods 10 = .ok (.iload_n 2, 1) := dk_28 (dk_at dksX10_periods_0 10 rfl rfl)
theorem dX10_periods_11 : decode cX10_periods 11 = .ok (.ireturn, 1) := dk_172 (dk_at dksX10_periods_0 11 rfl rfl)
theorem dX10_periods_12 : decode cX10_periods 12 = .ok (.iconst 0, 1) := dk_3 (dk_at dksX10_periods_0 12 rfl rfl)
theorem dX10_periods_13 : decode cX10_periods 13 = .ok (.istore_n 3, 1) := dk_62 (dk_at dksX10_periods_0 13 rfl rfl)
theorem dX10_periods_14 : decode cX10_periods 14 = .ok (.iconst 1, 1) := dk_4 (dk_at dksX10_periods_0 14 rfl rfl)
theorem dX10_periods_15 : decode cX10_periods 15 = .ok (.istore 4, 2) := dk_54 4 (dk_at dksX10_periods_0 15 rfl rfl)
theorem dX10_periods_17 : decode cX10_periods 17 = .ok (.iload 4, 2) := dk_21 4 (dk_at dksX10_periods_0 17 rfl rfl)
theorem dX10_periods_19 : decode cX10_periods 19 = .ok (.aload_n 0, 1) := dk_42 (dk_at dksX10_periods_0 19 rfl rfl)
theorem dX10_periods_20 : decode cX10_periods 20 = .ok (.getfield 71, 3) := dk_180 0 71 (dk_at dksX10_periods_0 20 rfl rfl)
theorem dX10_periods_23 : decode cX10_periods 23 = .ok (.iload_n 1, 1) := dk_27 (dk_at dksX10_periods_0 23 rfl rfl)
theorem dX10_periods_24 : decode cX10_periods 24 = .ok (.iaload, 1) := dk_46 (dk_at dksX10_periods_1 0 rfl rfl)
theorem dX10_periods_25 : decode cX10_periods 25 = .ok (.if_icmp .ge 27, 3) := dk_162 0 27 (dk_at dksX10_periods_1 1 rfl rfl)
theorem dX10_periods_28 : decode cX10_periods 28 = .ok (.iload_n 3, 1) := dk_29 (dk_at dksX10_periods_1 4 rfl rfl)
theorem dX10_periods_29 : decode cX10_periods 29 = .ok (.aload_n 0, 1) := dk_42 (dk_at dksX10_periods_1 5 rfl rfl)
theorem dX10_periods_30 : decode cX10_periods 30 = .ok (.iload_n 1, 1) := dk_27 (dk_at dksX10_periods_1 6 rfl rfl)
theorem dX10_periods_31 : decode cX10_periods 31 = .ok (.iload 4, 2) := dk_21 4 (dk_at dksX10_periods_1 7 rfl rfl)
theorem dX10_periods_33 : decode cX10_periods 33 = .ok (.invokevirtual 450, 3) := dk_182 1 194 (dk_at dksX10_periods_1 9 rfl rfl)
theorem dX10_periods_36 : decode cX10_periods 36 = .ok (.ifCond .eq 7, 3) := dk_153 0 7 (dk_at dksX10_periods_1 12 rfl rfl)
theorem dX10_periods_39 : decode cX10_periods 39 = .ok (.iconst 1, 1) := dk_4 (dk_at dksX10_periods_1 15 rfl rfl)
theorem dX10_periods_40 : decode cX10_periods 40 = .ok (.goto 4, 3) := dk_167 0 4 (dk_at dksX10_periods_1 16 rfl rfl)
theorem dX10_periods_43 : decode cX10_periods 43 = .ok (.iconst 0, 1) := dk_3 (dk_at dksX10_periods_1 19 rfl rfl)
theorem dX10_periods_44 : decode cX10_periods 44 = .ok (.iadd, 1) := dk_96 (dk_at dksX10_periods_1 20 rfl rfl)
theorem dX10_periods_45 : decode cX10_periods 45 = .ok (.istore_n 3, 1) := dk_62 (dk_at dksX10_periods_1 21 rfl rfl)
theorem dX10_periods_46 : decode cX10_periods 46 = .ok (.iinc 4 1, 3) := dk_132 4 1 (dk_at dksX10_periods_2 0 rfl rfl)
theorem dX10_periods_49 : decode cX10_periods 49 = .ok (.goto (-32), 3) := dk_167 255 224 (dk_at dksX10_periods_2 3 rfl rfl)
theorem dX10_periods_52 : decode cX10_periods 52 = .ok (.iload_n 3, 1) := dk_29 (dk_at dksX10_periods_2 6 rfl rfl)
theorem dX10_periods_53 : decode cX10_periods 53 = .ok (.ireturn, 1) := dk_172 (dk_at dksX10_periods_2 7 rfl rfl)
abbrev cX10_luck : ByteArray := prog_16_method_111_code
def yX10_luck : MethodName := ⟨RX10, "luck", "(I)I"⟩
def dkwX10_luck_3 : List UInt8 := [172]
abbrev dktX10_luck_3 : List UInt8 := dkwX10_luck_3 ++ []
def dkwX10_luck_2 : List UInt8 := [133, 105, 55, 4, 22, 4, 20, 1, 203, 148, 158, 0, 5, 2, 172, 132, 6, 1, 167, 255, 221, 22, 4, 136]
abbrev dktX10_luck_2 : List UInt8 := dkwX10_luck_2 ++ dktX10_luck_3
def dkwX10_luck_1 : List UInt8 := [172, 10, 55, 4, 29, 54, 6, 21, 6, 42, 180, 0, 71, 27, 46, 162, 0, 30, 22, 4, 42, 182, 1, 142]
abbrev dktX10_luck_1 : List UInt8 := dkwX10_luck_1 ++ dktX10_luck_2
def dkwX10_luck_0 : List UInt8 := [42, 27, 182, 1, 197, 61, 28, 156, 0, 5, 28, 172, 42, 27, 182, 1, 200, 62, 29, 2, 160, 0, 5, 2]
abbrev dktX10_luck_0 : List UInt8 := dkwX10_luck_0 ++ dktX10_luck_1
theorem dksX10_luck_0 : cX10_luck.data.toList.drop 0 = dktX10_luck_0 := by decide +kernel
theorem dksX10_luck_1 : cX10_luck.data.toList.drop 24 = dktX10_luck_1 := dk_seg dksX10_luck_0 24 rfl rfl
theorem dksX10_luck_2 : cX10_luck.data.toList.drop 48 = dktX10_luck_2 := dk_seg dksX10_luck_1 24 rfl rfl
theorem dksX10_luck_3 : cX10_luck.data.toList.drop 72 = dktX10_luck_3 := dk_seg dksX10_luck_2 24 rfl rfl
theorem dX10_luck_0 : decode cX10_luck 0 = .ok (.aload_n 0, 1) := dk_42 (dk_at dksX10_luck_0 0 rfl rfl)
theorem dX10_luck_1 : decode cX10_luck 1 = .ok (.iload_n 1, 1) := dk_27 (dk_at dksX10_luck_0 1 rfl rfl)
theorem dX10_luck_2 : decode cX10_luck 2 = .ok (.invokevirtual 453, 3) := dk_182 1 197 (dk_at dksX10_luck_0 2 rfl rfl)
theorem dX10_luck_5 : decode cX10_luck 5 = .ok (.istore_n 2, 1) := dk_61 (dk_at dksX10_luck_0 5 rfl rfl)
theorem dX10_luck_6 : decode cX10_luck 6 = .ok (.iload_n 2, 1) := dk_28 (dk_at dksX10_luck_0 6 rfl rfl)
theorem dX10_luck_7 : decode cX10_luck 7 = .ok (.ifCond .ge 5, 3) := dk_156 0 5 (dk_at dksX10_luck_0 7 rfl rfl)
theorem dX10_luck_10 : decode cX10_luck 10 = .ok (.iload_n 2, 1) := dk_28 (dk_at dksX10_luck_0 10 rfl rfl)
theorem dX10_luck_11 : decode cX10_luck 11 = .ok (.ireturn, 1) := dk_172 (dk_at dksX10_luck_0 11 rfl rfl)
theorem dX10_luck_12 : decode cX10_luck 12 = .ok (.aload_n 0, 1) := dk_42 (dk_at dksX10_luck_0 12 rfl rfl)
theorem dX10_luck_13 : decode cX10_luck 13 = .ok (.iload_n 1, 1) := dk_27 (dk_at dksX10_luck_0 13 rfl rfl)
theorem dX10_luck_14 : decode cX10_luck 14 = .ok (.invokevirtual 456, 3) := dk_182 1 200 (dk_at dksX10_luck_0 14 rfl rfl)
theorem dX10_luck_17 : decode cX10_luck 17 = .ok (.istore_n 3, 1) := dk_62 (dk_at dksX10_luck_0 17 rfl rfl)
theorem dX10_luck_18 : decode cX10_luck 18 = .ok (.iload_n 3, 1) := dk_29 (dk_at dksX10_luck_0 18 rfl rfl)
theorem dX10_luck_19 : decode cX10_luck 19 = .ok (.iconst (-1), 1) := dk_2 (dk_at dksX10_luck_0 19 rfl rfl)
theorem dX10_luck_20 : decode cX10_luck 20 = .ok (.if_icmp .ne 5, 3) := dk_160 0 5 (dk_at dksX10_luck_0 20 rfl rfl)
theorem dX10_luck_23 : decode cX10_luck 23 = .ok (.iconst (-1), 1) := dk_2 (dk_at dksX10_luck_0 23 rfl rfl)
theorem dX10_luck_24 : decode cX10_luck 24 = .ok (.ireturn, 1) := dk_172 (dk_at dksX10_luck_1 0 rfl rfl)
theorem dX10_luck_25 : decode cX10_luck 25 = .ok (.lconst 1, 1) := dk_10 (dk_at dksX10_luck_1 1 rfl rfl)
theorem dX10_luck_26 : decode cX10_luck 26 = .ok (.lstore 4, 2) := dk_55 4 (dk_at dksX10_luck_1 2 rfl rfl)
theorem dX10_luck_28 : decode cX10_luck 28 = .ok (.iload_n 3, 1) := dk_29 (dk_at dksX10_luck_1 4 rfl rfl)
theorem dX10_luck_29 : decode cX10_luck 29 = .ok (.istore 6, 2) := dk_54 6 (dk_at dksX10_luck_1 5 rfl rfl)
theorem dX10_luck_31 : decode cX10_luck 31 = .ok (.iload 6, 2) := dk_21 6 (dk_at dksX10_luck_1 7 rfl rfl)
theorem dX10_luck_33 : decode cX10_luck 33 = .ok (.aload_n 0, 1) := dk_42 (dk_at dksX10_luck_1 9 rfl rfl)
theorem dX10_luck_34 : decode cX10_luck 34 = .ok (.getfield 71, 3) := dk_180 0 71 (dk_at dksX10_luck_1 10 rfl rfl)
theorem dX10_luck_37 : decode cX10_luck 37 = .ok (.iload_n 1, 1) := dk_27 (dk_at dksX10_luck_1 13 rfl rfl)
theorem dX10_luck_38 : decode cX10_luck 38 = .ok (.iaload, 1) := dk_46 (dk_at dksX10_luck_1 14 rfl rfl)
theorem dX10_luck_39 : decode cX10_luck 39 = .ok (.if_icmp .ge 30, 3) := dk_162 0 30 (dk_at dksX10_luck_1 15 rfl rfl)
theorem dX10_luck_42 : decode cX10_luck 42 = .ok (.lload 4, 2) := dk_22 4 (dk_at dksX10_luck_1 18 rfl rfl)
theorem dX10_luck_44 : decode cX10_luck 44 = .ok (.aload_n 0, 1) := dk_42 (dk_at dksX10_luck_1 20 rfl rfl)
theorem dX10_luck_45 : decode cX10_luck 45 = .ok (.invokevirtual 398, 3) := dk_182 1 142 (dk_at dksX10_luck_1 21 rfl rfl)
theorem dX10_luck_48 : decode cX10_luck 48 = .ok (.i2l, 1) := dk_133 (dk_at dksX10_luck_2 0 rfl rfl)
theorem dX10_luck_49 : decode cX10_luck 49 = .ok (.lmul, 1) := dk_105 (dk_at dksX10_luck_2 1 rfl rfl)
theorem dX10_luck_50 : decode cX10_luck 50 = .ok (.lstore 4, 2) := dk_55 4 (dk_at dksX10_luck_2 2 rfl rfl)
theorem dX10_luck_52 : decode cX10_luck 52 = .ok (.lload 4, 2) := dk_22 4 (dk_at dksX10_luck_2 4 rfl rfl)
theorem dX10_luck_54 : decode cX10_luck 54 = .ok (.ldc2_w 459, 3) := dk_20 1 203 (dk_at dksX10_luck_2 6 rfl rfl)
theorem dX10_luck_57 : decode cX10_luck 57 = .ok (.lcmp, 1) := dk_148 (dk_at dksX10_luck_2 9 rfl rfl)
theorem dX10_luck_58 : decode cX10_luck 58 = .ok (.ifCond .le 5, 3) := dk_158 0 5 (dk_at dksX10_luck_2 10 rfl rfl)
theorem dX10_luck_61 : decode cX10_luck 61 = .ok (.iconst (-1), 1) := dk_2 (dk_at dksX10_luck_2 13 rfl rfl)
theorem dX10_luck_62 : decode cX10_luck 62 = .ok (.ireturn, 1) := dk_172 (dk_at dksX10_luck_2 14 rfl rfl)
theorem dX10_luck_63 : decode cX10_luck 63 = .ok (.iinc 6 1, 3) := dk_132 6 1 (dk_at dksX10_luck_2 15 rfl rfl)
theorem dX10_luck_66 : decode cX10_luck 66 = .ok (.goto (-35), 3) := dk_167 255 221 (dk_at dksX10_luck_2 18 rfl rfl)
theorem dX10_luck_69 : decode cX10_luck 69 = .ok (.lload 4, 2) := dk_22 4 (dk_at dksX10_luck_2 21 rfl rfl)
theorem dX10_luck_71 : decode cX10_luck 71 = .ok (.l2i, 1) := dk_136 (dk_at dksX10_luck_2 23 rfl rfl)
theorem dX10_luck_72 : decode cX10_luck 72 = .ok (.ireturn, 1) := dk_172 (dk_at dksX10_luck_3 0 rfl rfl)
abbrev cX10_fits : ByteArray := prog_16_method_113_code
def yX10_fits : MethodName := ⟨RX10, "fits", "(I)I"⟩
def dkwX10_fits_2 : List UInt8 := [132, 4, 1, 167, 255, 224, 29, 172]
abbrev dktX10_fits_2 : List UInt8 := dkwX10_fits_2 ++ []
def dkwX10_fits_1 : List UInt8 := [46, 162, 0, 27, 29, 42, 27, 21, 4, 182, 1, 205, 153, 0, 7, 4, 167, 0, 4, 3, 96, 62]
abbrev dktX10_fits_1 : List UInt8 := dkwX10_fits_1 ++ dktX10_fits_2
def dkwX10_fits_0 : List UInt8 := [42, 27, 182, 1, 197, 61, 28, 156, 0, 5, 28, 172, 3, 62, 3, 54, 4, 21, 4, 42, 180, 0, 9, 8]
abbrev dktX10_fits_0 : List UInt8 := dkwX10_fits_0 ++ dktX10_fits_1
theorem dksX10_fits_0 : cX10_fits.data.toList.drop 0 = dktX10_fits_0 := by decide +kernel
theorem dksX10_fits_1 : cX10_fits.data.toList.drop 24 = dktX10_fits_1 := dk_seg dksX10_fits_0 24 rfl rfl
theorem dksX10_fits_2 : cX10_fits.data.toList.drop 46 = dktX10_fits_2 := dk_seg dksX10_fits_1 22 rfl rfl
theorem dX10_fits_0 : decode cX10_fits 0 = .ok (.aload_n 0, 1) := dk_42 (dk_at dksX10_fits_0 0 rfl rfl)
theorem dX10_fits_1 : decode cX10_fits 1 = .ok (.iload_n 1, 1) := dk_27 (dk_at dksX10_fits_0 1 rfl rfl)
theorem dX10_fits_2 : decode cX10_fits 2 = .ok (.invokevirtual 453, 3) := dk_182 1 197 (dk_at dksX10_fits_0 2 rfl rfl)
theorem dX10_fits_5 : decode cX10_fits 5 = .ok (.istore_n 2, 1) := dk_61 (dk_at dksX10_fits_0 5 rfl rfl)
theorem dX10_fits_6 : decode cX10_fits 6 = .ok (.iload_n 2, 1) := dk_28 (dk_at dksX10_fits_0 6 rfl rfl)
theorem dX10_fits_7 : decode cX10_fits 7 = .ok (.ifCond .ge 5, 3) := dk_156 0 5 (dk_at dksX10_fits_0 7 rfl rfl)
theorem dX10_fits_10 : decode cX10_fits 10 = .ok (.iload_n 2, 1) := dk_28 (dk_at dksX10_fits_0 10 rfl rfl)
theorem dX10_fits_11 : decode cX10_fits 11 = .ok (.ireturn, 1) := dk_172 (dk_at dksX10_fits_0 11 rfl rfl)
theorem dX10_fits_12 : decode cX10_fits 12 = .ok (.iconst 0, 1) := dk_3 (dk_at dksX10_fits_0 12 rfl rfl)
theorem dX10_fits_13 : decode cX10_fits 13 = .ok (.istore_n 3, 1) := dk_62 (dk_at dksX10_fits_0 13 rfl rfl)
theorem dX10_fits_14 : decode cX10_fits 14 = .ok (.iconst 0, 1) := dk_3 (dk_at dksX10_fits_0 14 rfl rfl)
theorem dX10_fits_15 : decode cX10_fits 15 = .ok (.istore 4, 2) := dk_54 4 (dk_at dksX10_fits_0 15 rfl rfl)
theorem dX10_fits_17 : decode cX10_fits 17 = .ok (.iload 4, 2) := dk_21 4 (dk_at dksX10_fits_0 17 rfl rfl)
theorem dX10_fits_19 : decode cX10_fits 19 = .ok (.aload_n 0, 1) := dk_42 (dk_at dksX10_fits_0 19 rfl rfl)
theorem dX10_fits_20 : decode cX10_fits 20 = .ok (.getfield 9, 3) := dk_180 0 9 (dk_at dksX10_fits_0 20 rfl rfl)
theorem dX10_fits_23 : decode cX10_fits 23 = .ok (.iconst 5, 1) := dk_8 (dk_at dksX10_fits_0 23 rfl rfl)
theorem dX10_fits_24 : decode cX10_fits 24 = .ok (.iaload, 1) := dk_46 (dk_at dksX10_fits_1 0 rfl rfl)
theorem dX10_fits_25 : decode cX10_fits 25 = .ok (.if_icmp .ge 27, 3) := dk_162 0 27 (dk_at dksX10_fits_1 1 rfl rfl)
theorem dX10_fits_28 : decode cX10_fits 28 = .ok (.iload_n 3, 1) := dk_29 (dk_at dksX10_fits_1 4 rfl rfl)
theorem dX10_fits_29 : decode cX10_fits 29 = .ok (.aload_n 0, 1) := dk_42 (dk_at dksX10_fits_1 5 rfl rfl)
theorem dX10_fits_30 : decode cX10_fits 30 = .ok (.iload_n 1, 1) := dk_27 (dk_at dksX10_fits_1 6 rfl rfl)
theorem dX10_fits_31 : decode cX10_fits 31 = .ok (.iload 4, 2) := dk_21 4 (dk_at dksX10_fits_1 7 rfl rfl)
theorem dX10_fits_33 : decode cX10_fits 33 = .ok (.invokevirtual 461, 3) := dk_182 1 205 (dk_at dksX10_fits_1 9 rfl rfl)
theorem dX10_fits_36 : decode cX10_fits 36 = .ok (.ifCond .eq 7, 3) := dk_153 0 7 (dk_at dksX10_fits_1 12 rfl rfl)
theorem dX10_fits_39 : decode cX10_fits 39 = .ok (.iconst 1, 1) := dk_4 (dk_at dksX10_fits_1 15 rfl rfl)
theorem dX10_fits_40 : decode cX10_fits 40 = .ok (.goto 4, 3) := dk_167 0 4 (dk_at dksX10_fits_1 16 rfl rfl)
theorem dX10_fits_43 : decode cX10_fits 43 = .ok (.iconst 0, 1) := dk_3 (dk_at dksX10_fits_1 19 rfl rfl)
theorem dX10_fits_44 : decode cX10_fits 44 = .ok (.iadd, 1) := dk_96 (dk_at dksX10_fits_1 20 rfl rfl)
theorem dX10_fits_45 : decode cX10_fits 45 = .ok (.istore_n 3, 1) := dk_62 (dk_at dksX10_fits_1 21 rfl rfl)
theorem dX10_fits_46 : decode cX10_fits 46 = .ok (.iinc 4 1, 3) := dk_132 4 1 (dk_at dksX10_fits_2 0 rfl rfl)
theorem dX10_fits_49 : decode cX10_fits 49 = .ok (.goto (-32), 3) := dk_167 255 224 (dk_at dksX10_fits_2 3 rfl rfl)
theorem dX10_fits_52 : decode cX10_fits 52 = .ok (.iload_n 3, 1) := dk_29 (dk_at dksX10_fits_2 6 rfl rfl)
theorem dX10_fits_53 : decode cX10_fits 53 = .ok (.ireturn, 1) := dk_172 (dk_at dksX10_fits_2 7 rfl rfl)
abbrev cX10_fitsFrom : ByteArray := prog_16_method_112_code
def yX10_fitsFrom : MethodName := ⟨RX10, "fitsFrom", "(II)Z"⟩
def dkwX10_fitsFrom_1 : List UInt8 := [182, 1, 190, 148, 153, 0, 5, 3, 172, 132, 3, 1, 167, 255, 223, 4, 172]
abbrev dktX10_fitsFrom_1 : List UInt8 := dkwX10_fitsFrom_1 ++ []
def dkwX10_fitsFrom_0 : List UInt8 := [3, 62, 29, 42, 180, 0, 71, 27, 46, 162, 0, 29, 42, 28, 29, 96, 182, 1, 184, 133, 42, 27, 29]
abbrev dktX10_fitsFrom_0 : List UInt8 := dkwX10_fitsFrom_0 ++ dktX10_fitsFrom_1
theorem dksX10_fitsFrom_0 : cX10_fitsFrom.data.toList.drop 0 = dktX10_fitsFrom_0 := by decide +kernel
theorem dksX10_fitsFrom_1 : cX10_fitsFrom.data.toList.drop 23 = dktX10_fitsFrom_1 := dk_seg dksX10_fitsFrom_0 23 rfl rfl
theorem dX10_fitsFrom_0 : decode cX10_fitsFrom 0 = .ok (.iconst 0, 1) := dk_3 (dk_at dksX10_fitsFrom_0 0 rfl rfl)
theorem dX10_fitsFrom_1 : decode cX10_fitsFrom 1 = .ok (.istore_n 3, 1) := dk_62 (dk_at dksX10_fitsFrom_0 1 rfl rfl)
theorem dX10_fitsFrom_2 : decode cX10_fitsFrom 2 = .ok (.iload_n 3, 1) := dk_29 (dk_at dksX10_fitsFrom_0 2 rfl rfl)
theorem dX10_fitsFrom_3 : decode cX10_fitsFrom 3 = .ok (.aload_n 0, 1) := dk_42 (dk_at dksX10_fitsFrom_0 3 rfl rfl)
theorem dX10_fitsFrom_4 : decode cX10_fitsFrom 4 = .ok (.getfield 71, 3) := dk_180 0 71 (dk_at dksX10_fitsFrom_0 4 rfl rfl)
theorem dX10_fitsFrom_7 : decode cX10_fitsFrom 7 = .ok (.iload_n 1, 1) := dk_27 (dk_at dksX10_fitsFrom_0 7 rfl rfl)
theorem dX10_fitsFrom_8 : decode cX10_fitsFrom 8 = .ok (.iaload, 1) := dk_46 (dk_at dksX10_fitsFrom_0 8 rfl rfl)
theorem dX10_fitsFrom_9 : decode cX10_fitsFrom 9 = .ok (.if_icmp .ge 29, 3) := dk_162 0 29 (dk_at dksX10_fitsFrom_0 9 rfl rfl)
theorem dX10_fitsFrom_12 : decode cX10_fitsFrom 12 = .ok (.aload_n 0, 1) := dk_42 (dk_at dksX10_fitsFrom_0 12 rfl rfl)
theorem dX10_fitsFrom_13 : decode cX10_fitsFrom 13 = .ok (.iload_n 2, 1) := dk_28 (dk_at dksX10_fitsFrom_0 13 rfl rfl)
theorem dX10_fitsFrom_14 : decode cX10_fitsFrom 14 = .ok (.iload_n 3, 1) := dk_29 (dk_at dksX10_fitsFrom_0 14 rfl rfl)
theorem dX10_fitsFrom_15 : decode cX10_fitsFrom 15 = .ok (.iadd, 1) := dk_96 (dk_at dksX10_fitsFrom_0 15 rfl rfl)
theorem dX10_fitsFrom_16 : decode cX10_fitsFrom 16 = .ok (.invokevirtual 440, 3) := dk_182 1 184 (dk_at dksX10_fitsFrom_0 16 rfl rfl)
theorem dX10_fitsFrom_19 : decode cX10_fitsFrom 19 = .ok (.i2l, 1) := dk_133 (dk_at dksX10_fitsFrom_0 19 rfl rfl)
theorem dX10_fitsFrom_20 : decode cX10_fitsFrom 20 = .ok (.aload_n 0, 1) := dk_42 (dk_at dksX10_fitsFrom_0 20 rfl rfl)
theorem dX10_fitsFrom_21 : decode cX10_fitsFrom 21 = .ok (.iload_n 1, 1) := dk_27 (dk_at dksX10_fitsFrom_0 21 rfl rfl)
theorem dX10_fitsFrom_22 : decode cX10_fitsFrom 22 = .ok (.iload_n 3, 1) := dk_29 (dk_at dksX10_fitsFrom_0 22 rfl rfl)
theorem dX10_fitsFrom_23 : decode cX10_fitsFrom 23 = .ok (.invokevirtual 446, 3) := dk_182 1 190 (dk_at dksX10_fitsFrom_1 0 rfl rfl)
theorem dX10_fitsFrom_26 : decode cX10_fitsFrom 26 = .ok (.lcmp, 1) := dk_148 (dk_at dksX10_fitsFrom_1 3 rfl rfl)
theorem dX10_fitsFrom_27 : decode cX10_fitsFrom 27 = .ok (.ifCond .eq 5, 3) := dk_153 0 5 (dk_at dksX10_fitsFrom_1 4 rfl rfl)
theorem dX10_fitsFrom_30 : decode cX10_fitsFrom 30 = .ok (.iconst 0, 1) := dk_3 (dk_at dksX10_fitsFrom_1 7 rfl rfl)
theorem dX10_fitsFrom_31 : decode cX10_fitsFrom 31 = .ok (.ireturn, 1) := dk_172 (dk_at dksX10_fitsFrom_1 8 rfl rfl)
theorem dX10_fitsFrom_32 : decode cX10_fitsFrom 32 = .ok (.iinc 3 1, 3) := dk_132 3 1 (dk_at dksX10_fitsFrom_1 9 rfl rfl)
theorem dX10_fitsFrom_35 : decode cX10_fitsFrom 35 = .ok (.goto (-33), 3) := dk_167 255 223 (dk_at dksX10_fitsFrom_1 12 rfl rfl)
theorem dX10_fitsFrom_38 : decode cX10_fitsFrom 38 = .ok (.iconst 1, 1) := dk_4 (dk_at dksX10_fitsFrom_1 15 rfl rfl)
theorem dX10_fitsFrom_39 : decode cX10_fitsFrom 39 = .ok (.ireturn, 1) := dk_172 (dk_at dksX10_fitsFrom_1 16 rfl rfl)
abbrev cX10_place : ByteArray := prog_16_method_114_code
def yX10_place : MethodName := ⟨RX10, "place", "(II)I"⟩
def dkwX10_place_2 : List UInt8 := [21, 4, 154, 0, 6, 21, 5, 172, 132, 4, 255, 132, 5, 1, 167, 255, 213, 2, 172]
abbrev dktX10_place_2 : List UInt8 := dkwX10_place_2 ++ []
def dkwX10_place_1 : List UInt8 := [8, 46, 162, 0, 38, 21, 4, 155, 0, 33, 42, 27, 21, 5, 182, 1, 205, 154, 0, 6, 167, 0, 14]
abbrev dktX10_place_1 : List UInt8 := dkwX10_place_1 ++ dktX10_place_2
def dkwX10_place_0 : List UInt8 := [42, 27, 182, 1, 197, 62, 29, 156, 0, 5, 29, 172, 28, 54, 4, 3, 54, 5, 21, 5, 42, 180, 0, 9]
abbrev dktX10_place_0 : List UInt8 := dkwX10_place_0 ++ dktX10_place_1
theorem dksX10_place_0 : cX10_place.data.toList.drop 0 = dktX10_place_0 := by decide +kernel
theorem dksX10_place_1 : cX10_place.data.toList.drop 24 = dktX10_place_1 := dk_seg dksX10_place_0 24 rfl rfl
theorem dksX10_place_2 : cX10_place.data.toList.drop 47 = dktX10_place_2 := dk_seg dksX10_place_1 23 rfl rfl
theorem dX10_place_0 : decode cX10_place 0 = .ok (.aload_n 0, 1) := dk_42 (dk_at dksX10_place_0 0 rfl rfl)
theorem dX10_place_1 : decode cX10_place 1 = .ok (.iload_n 1, 1) := dk_27 (dk_at dksX10_place_0 1 rfl rfl)
theorem dX10_place_2 : decode cX10_place 2 = .ok (.invokevirtual 453, 3) := dk_182 1 197 (dk_at dksX10_place_0 2 rfl rfl)
theorem dX10_place_5 : decode cX10_place 5 = .ok (.istore_n 3, 1) := dk_62 (dk_at dksX10_place_0 5 rfl rfl)
theorem dX10_place_6 : decode cX10_place 6 = .ok (.iload_n 3, 1) := dk_29 (dk_at dksX10_place_0 6 rfl rfl)
theorem dX10_place_7 : decode cX10_place 7 = .ok (.ifCond .ge 5, 3) := dk_156 0 5 (dk_at dksX10_place_0 7 rfl rfl)
theorem dX10_place_10 : decode cX10_place 10 = .ok (.iload_n 3, 1) := dk_29 (dk_at dksX10_place_0 10 rfl rfl)
theorem dX10_place_11 : decode cX10_place 11 = .ok (.ireturn, 1) := dk_172 (dk_at dksX10_place_0 11 rfl rfl)
theorem dX10_place_12 : decode cX10_place 12 = .ok (.iload_n 2, 1) := dk_28 (dk_at dksX10_place_0 12 rfl rfl)
theorem dX10_place_13 : decode cX10_place 13 = .ok (.istore 4, 2) := dk_54 4 (dk_at dksX10_place_0 13 rfl rfl)
theorem dX10_place_15 : decode cX10_place 15 = .ok (.iconst 0, 1) := dk_3 (dk_at dksX10_place_0 15 rfl rfl)
theorem dX10_place_16 : decode cX10_place 16 = .ok (.istore 5, 2) := dk_54 5 (dk_at dksX10_place_0 16 rfl rfl)
theorem dX10_place_18 : decode cX10_place 18 = .ok (.iload 5, 2) := dk_21 5 (dk_at dksX10_place_0 18 rfl rfl)
theorem dX10_place_20 : decode cX10_place 20 = .ok (.aload_n 0, 1) := dk_42 (dk_at dksX10_place_0 20 rfl rfl)
theorem dX10_place_21 : decode cX10_place 21 = .ok (.getfield 9, 3) := dk_180 0 9 (dk_at dksX10_place_0 21 rfl rfl)
theorem dX10_place_24 : decode cX10_place 24 = .ok (.iconst 5, 1) := dk_8 (dk_at dksX10_place_1 0 rfl rfl)
theorem dX10_place_25 : decode cX10_place 25 = .ok (.iaload, 1) := dk_46 (dk_at dksX10_place_1 1 rfl rfl)
theorem dX10_place_26 : decode cX10_place 26 = .ok (.if_icmp .ge 38, 3) := dk_162 0 38 (dk_at dksX10_place_1 2 rfl rfl)
theorem dX10_place_29 : decode cX10_place 29 = .ok (.iload 4, 2) := dk_21 4 (dk_at dksX10_place_1 5 rfl rfl)
theorem dX10_place_31 : decode cX10_place 31 = .ok (.ifCond .lt 33, 3) := dk_155 0 33 (dk_at dksX10_place_1 7 rfl rfl)
theorem dX10_place_34 : decode cX10_place 34 = .ok (.aload_n 0, 1) := dk_42 (dk_at dksX10_place_1 10 rfl rfl)
theorem dX10_place_35 : decode cX10_place 35 = .ok (.iload_n 1, 1) := dk_27 (dk_at dksX10_place_1 11 rfl rfl)
theorem dX10_place_36 : decode cX10_place 36 = .ok (.iload 5, 2) := dk_21 5 (dk_at dksX10_place_1 12 rfl rfl)
theorem dX10_place_38 : decode cX10_place 38 = .ok (.invokevirtual 461, 3) := dk_182 1 205 (dk_at dksX10_place_1 14 rfl rfl)
theorem dX10_place_41 : decode cX10_place 41 = .ok (.ifCond .ne 6, 3) := dk_154 0 6 (dk_at dksX10_place_1 17 rfl rfl)
theorem dX10_place_44 : decode cX10_place 44 = .ok (.goto 14, 3) := dk_167 0 14 (dk_at dksX10_place_1 20 rfl rfl)
theorem dX10_place_47 : decode cX10_place 47 = .ok (.iload 4, 2) := dk_21 4 (dk_at dksX10_place_2 0 rfl rfl)
theorem dX10_place_49 : decode cX10_place 49 = .ok (.ifCond .ne 6, 3) := dk_154 0 6 (dk_at dksX10_place_2 2 rfl rfl)
theorem dX10_place_52 : decode cX10_place 52 = .ok (.iload 5, 2) := dk_21 5 (dk_at dksX10_place_2 5 rfl rfl)
theorem dX10_place_54 : decode cX10_place 54 = .ok (.ireturn, 1) := dk_172 (dk_at dksX10_place_2 7 rfl rfl)
theorem dX10_place_55 : decode cX10_place 55 = .ok (.iinc 4 (-1), 3) := dk_132 4 255 (dk_at dksX10_place_2 8 rfl rfl)
theorem dX10_place_58 : decode cX10_place 58 = .ok (.iinc 5 1, 3) := dk_132 5 1 (dk_at dksX10_place_2 11 rfl rfl)
theorem dX10_place_61 : decode cX10_place 61 = .ok (.goto (-43), 3) := dk_167 255 213 (dk_at dksX10_place_2 14 rfl rfl)
theorem dX10_place_64 : decode cX10_place 64 = .ok (.iconst (-1), 1) := dk_2 (dk_at dksX10_place_2 17 rfl rfl)
theorem dX10_place_65 : decode cX10_place 65 = .ok (.ireturn, 1) := dk_172 (dk_at dksX10_place_2 18 rfl rfl)
abbrev cX10_next : ByteArray := prog_16_method_115_code
def yX10_next : MethodName := ⟨RX10, "next", "(I)I"⟩
def dkwX10_next_3 : List UInt8 := [132, 4, 1, 167, 255, 198, 29, 172]
abbrev dktX10_next_3 : List UInt8 := dkwX10_next_3 ++ []
def dkwX10_next_2 : List UInt8 := [27, 46, 96, 182, 1, 184, 54, 5, 29, 2, 159, 0, 11, 21, 5, 29, 159, 0, 5, 2, 172, 21, 5, 62]
abbrev dktX10_next_2 : List UInt8 := dkwX10_next_2 ++ dktX10_next_3
def dkwX10_next_1 : List UInt8 := [46, 162, 0, 53, 42, 27, 21, 4, 182, 1, 205, 154, 0, 6, 167, 0, 34, 42, 21, 4, 42, 180, 0, 71]
abbrev dktX10_next_1 : List UInt8 := dkwX10_next_1 ++ dktX10_next_2
def dkwX10_next_0 : List UInt8 := [42, 27, 182, 1, 197, 61, 28, 156, 0, 5, 28, 172, 2, 62, 3, 54, 4, 21, 4, 42, 180, 0, 9, 8]
abbrev dktX10_next_0 : List UInt8 := dkwX10_next_0 ++ dktX10_next_1
theorem dksX10_next_0 : cX10_next.data.toList.drop 0 = dktX10_next_0 := by decide +kernel
theorem dksX10_next_1 : cX10_next.data.toList.drop 24 = dktX10_next_1 := dk_seg dksX10_next_0 24 rfl rfl
theorem dksX10_next_2 : cX10_next.data.toList.drop 48 = dktX10_next_2 := dk_seg dksX10_next_1 24 rfl rfl
theorem dksX10_next_3 : cX10_next.data.toList.drop 72 = dktX10_next_3 := dk_seg dksX10_next_2 24 rfl rfl
theorem dX10_next_0 : decode cX10_next 0 = .ok (.aload_n 0, 1) := dk_42 (dk_at dksX10_next_0 0 rfl rfl)
theorem dX10_next_1 : decode cX10_next 1 = .ok (.iload_n 1, 1) := dk_27 (dk_at dksX10_next_0 1 rfl rfl)
theorem dX10_next_2 : decode cX10_next 2 = .ok (.invokevirtual 453, 3) := dk_182 1 197 (dk_at dksX10_next_0 2 rfl rfl)
theorem dX10_next_5 : decode cX10_next 5 = .ok (.istore_n 2, 1) := dk_61 (dk_at dksX10_next_0 5 rfl rfl)
theorem dX10_next_6 : decode cX10_next 6 = .ok (.iload_n 2, 1) := dk_28 (dk_at dksX10_next_0 6 rfl rfl)
theorem dX10_next_7 : decode cX10_next 7 = .ok (.ifCond .ge 5, 3) := dk_156 0 5 (dk_at dksX10_next_0 7 rfl rfl)
theorem dX10_next_10 : decode cX10_next 10 = .ok (.iload_n 2, 1) := dk_28 (dk_at dksX10_next_0 10 rfl rfl)
theorem dX10_next_11 : decode cX10_next 11 = .ok (.ireturn, 1) := dk_172 (dk_at dksX10_next_0 11 rfl rfl)
theorem dX10_next_12 : decode cX10_next 12 = .ok (.iconst (-1), 1) := dk_2 (dk_at dksX10_next_0 12 rfl rfl)
theorem dX10_next_13 : decode cX10_next 13 = .ok (.istore_n 3, 1) := dk_62 (dk_at dksX10_next_0 13 rfl rfl)
theorem dX10_next_14 : decode cX10_next 14 = .ok (.iconst 0, 1) := dk_3 (dk_at dksX10_next_0 14 rfl rfl)
theorem dX10_next_15 : decode cX10_next 15 = .ok (.istore 4, 2) := dk_54 4 (dk_at dksX10_next_0 15 rfl rfl)
theorem dX10_next_17 : decode cX10_next 17 = .ok (.iload 4, 2) := dk_21 4 (dk_at dksX10_next_0 17 rfl rfl)
theorem dX10_next_19 : decode cX10_next 19 = .ok (.aload_n 0, 1) := dk_42 (dk_at dksX10_next_0 19 rfl rfl)
theorem dX10_next_20 : decode cX10_next 20 = .ok (.getfield 9, 3) := dk_180 0 9 (dk_at dksX10_next_0 20 rfl rfl)
theorem dX10_next_23 : decode cX10_next 23 = .ok (.iconst 5, 1) := dk_8 (dk_at dksX10_next_0 23 rfl rfl)
theorem dX10_next_24 : decode cX10_next 24 = .ok (.iaload, 1) := dk_46 (dk_at dksX10_next_1 0 rfl rfl)
theorem dX10_next_25 : decode cX10_next 25 = .ok (.if_icmp .ge 53, 3) := dk_162 0 53 (dk_at dksX10_next_1 1 rfl rfl)
theorem dX10_next_28 : decode cX10_next 28 = .ok (.aload_n 0, 1) := dk_42 (dk_at dksX10_next_1 4 rfl rfl)
theorem dX10_next_29 : decode cX10_next 29 = .ok (.iload_n 1, 1) := dk_27 (dk_at dksX10_next_1 5 rfl rfl)
theorem dX10_next_30 : decode cX10_next 30 = .ok (.iload 4, 2) := dk_21 4 (dk_at dksX10_next_1 6 rfl rfl)
theorem dX10_next_32 : decode cX10_next 32 = .ok (.invokevirtual 461, 3) := dk_182 1 205 (dk_at dksX10_next_1 8 rfl rfl)
theorem dX10_next_35 : decode cX10_next 35 = .ok (.ifCond .ne 6, 3) := dk_154 0 6 (dk_at dksX10_next_1 11 rfl rfl)
theorem dX10_next_38 : decode cX10_next 38 = .ok (.goto 34, 3) := dk_167 0 34 (dk_at dksX10_next_1 14 rfl rfl)
theorem dX10_next_41 : decode cX10_next 41 = .ok (.aload_n 0, 1) := dk_42 (dk_at dksX10_next_1 17 rfl rfl)
theorem dX10_next_42 : decode cX10_next 42 = .ok (.iload 4, 2) := dk_21 4 (dk_at dksX10_next_1 18 rfl rfl)
theorem dX10_next_44 : decode cX10_next 44 = .ok (.aload_n 0, 1) := dk_42 (dk_at dksX10_next_1 20 rfl rfl)
theorem dX10_next_45 : decode cX10_next 45 = .ok (.getfield 71, 3) := dk_180 0 71 (dk_at dksX10_next_1 21 rfl rfl)
theorem dX10_next_48 : decode cX10_next 48 = .ok (.iload_n 1, 1) := dk_27 (dk_at dksX10_next_2 0 rfl rfl)
theorem dX10_next_49 : decode cX10_next 49 = .ok (.iaload, 1) := dk_46 (dk_at dksX10_next_2 1 rfl rfl)
theorem dX10_next_50 : decode cX10_next 50 = .ok (.iadd, 1) := dk_96 (dk_at dksX10_next_2 2 rfl rfl)
theorem dX10_next_51 : decode cX10_next 51 = .ok (.invokevirtual 440, 3) := dk_182 1 184 (dk_at dksX10_next_2 3 rfl rfl)
theorem dX10_next_54 : decode cX10_next 54 = .ok (.istore 5, 2) := dk_54 5 (dk_at dksX10_next_2 6 rfl rfl)
theorem dX10_next_56 : decode cX10_next 56 = .ok (.iload_n 3, 1) := dk_29 (dk_at dksX10_next_2 8 rfl rfl)
theorem dX10_next_57 : decode cX10_next 57 = .ok (.iconst (-1), 1) := dk_2 (dk_at dksX10_next_2 9 rfl rfl)
theorem dX10_next_58 : decode cX10_next 58 = .ok (.if_icmp .eq 11, 3) := dk_159 0 11 (dk_at dksX10_next_2 10 rfl rfl)
theorem dX10_next_61 : decode cX10_next 61 = .ok (.iload 5, 2) := dk_21 5 (dk_at dksX10_next_2 13 rfl rfl)
theorem dX10_next_63 : decode cX10_next 63 = .ok (.iload_n 3, 1) := dk_29 (dk_at dksX10_next_2 15 rfl rfl)
theorem dX10_next_64 : decode cX10_next 64 = .ok (.if_icmp .eq 5, 3) := dk_159 0 5 (dk_at dksX10_next_2 16 rfl rfl)
theorem dX10_next_67 : decode cX10_next 67 = .ok (.iconst (-1), 1) := dk_2 (dk_at dksX10_next_2 19 rfl rfl)
theorem dX10_next_68 : decode cX10_next 68 = .ok (.ireturn, 1) := dk_172 (dk_at dksX10_next_2 20 rfl rfl)
theorem dX10_next_69 : decode cX10_next 69 = .ok (.iload 5, 2) := dk_21 5 (dk_at dksX10_next_2 21 rfl rfl)
theorem dX10_next_71 : decode cX10_next 71 = .ok (.istore_n 3, 1) := dk_62 (dk_at dksX10_next_2 23 rfl rfl)
theorem dX10_next_72 : decode cX10_next 72 = .ok (.iinc 4 1, 3) := dk_132 4 1 (dk_at dksX10_next_3 0 rfl rfl)
theorem dX10_next_75 : decode cX10_next 75 = .ok (.goto (-58), 3) := dk_167 255 198 (dk_at dksX10_next_3 3 rfl rfl)
theorem dX10_next_78 : decode cX10_next 78 = .ok (.iload_n 3, 1) := dk_29 (dk_at dksX10_next_3 6 rfl rfl)
theorem dX10_next_79 : decode cX10_next 79 = .ok (.ireturn, 1) := dk_172 (dk_at dksX10_next_3 7 rfl rfl)
abbrev cX10_needed : ByteArray := prog_16_method_118_code
def yX10_needed : MethodName := ⟨RX10, "needed", "(I)I"⟩
def dkwX10_needed_0 : List UInt8 := [42, 27, 182, 1, 11, 153, 0, 11, 42, 27, 182, 1, 212, 167, 0, 5, 16, 254, 172]
abbrev dktX10_needed_0 : List UInt8 := dkwX10_needed_0 ++ []
theorem dksX10_needed_0 : cX10_needed.data.toList.drop 0 = dktX10_needed_0 := by decide +kernel
theorem dX10_needed_0 : decode cX10_needed 0 = .ok (.aload_n 0, 1) := dk_42 (dk_at dksX10_needed_0 0 rfl rfl)
theorem dX10_needed_1 : decode cX10_needed 1 = .ok (.iload_n 1, 1) := dk_27 (dk_at dksX10_needed_0 1 rfl rfl)
theorem dX10_needed_2 : decode cX10_needed 2 = .ok (.invokevirtual 267, 3) := dk_182 1 11 (dk_at dksX10_needed_0 2 rfl rfl)
theorem dX10_needed_5 : decode cX10_needed 5 = .ok (.ifCond .eq 11, 3) := dk_153 0 11 (dk_at dksX10_needed_0 5 rfl rfl)
theorem dX10_needed_8 : decode cX10_needed 8 = .ok (.aload_n 0, 1) := dk_42 (dk_at dksX10_needed_0 8 rfl rfl)
theorem dX10_needed_9 : decode cX10_needed 9 = .ok (.iload_n 1, 1) := dk_27 (dk_at dksX10_needed_0 9 rfl rfl)
theorem dX10_needed_10 : decode cX10_needed 10 = .ok (.invokevirtual 468, 3) := dk_182 1 212 (dk_at dksX10_needed_0 10 rfl rfl)
theorem dX10_needed_13 : decode cX10_needed 13 = .ok (.goto 5, 3) := dk_167 0 5 (dk_at dksX10_needed_0 13 rfl rfl)
theorem dX10_needed_16 : decode cX10_needed 16 = .ok (.bipush (-2), 2) := dk_16 254 (dk_at dksX10_needed_0 16 rfl rfl)
theorem dX10_needed_18 : decode cX10_needed 18 = .ok (.ireturn, 1) := dk_172 (dk_at dksX10_needed_0 18 rfl rfl)
abbrev cX10_neededFrom : ByteArray := prog_16_method_117_code
def yX10_neededFrom : MethodName := ⟨RX10, "neededFrom", "(I)I"⟩
def dkwX10_neededFrom_2 : List UInt8 := [132, 4, 1, 167, 255, 223, 29, 4, 160, 0, 5, 28, 172, 132, 2, 1, 167, 255, 195, 2, 172]
abbrev dktX10_neededFrom_2 : List UInt8 := dkwX10_neededFrom_2 ++ []
def dkwX10_neededFrom_1 : List UInt8 := [46, 162, 0, 28, 29, 42, 27, 21, 4, 28, 182, 1, 208, 153, 0, 7, 4, 167, 0, 4, 3, 96, 62]
abbrev dktX10_neededFrom_1 : List UInt8 := dkwX10_neededFrom_1 ++ dktX10_neededFrom_2
def dkwX10_neededFrom_0 : List UInt8 := [3, 61, 28, 42, 180, 0, 9, 8, 46, 163, 0, 57, 3, 62, 3, 54, 4, 21, 4, 42, 180, 0, 9, 8]
abbrev dktX10_neededFrom_0 : List UInt8 := dkwX10_neededFrom_0 ++ dktX10_neededFrom_1
theorem dksX10_neededFrom_0 : cX10_neededFrom.data.toList.drop 0 = dktX10_neededFrom_0 := by decide +kernel
theorem dksX10_neededFrom_1 : cX10_neededFrom.data.toList.drop 24 = dktX10_neededFrom_1 := dk_seg dksX10_neededFrom_0 24 rfl rfl
theorem dksX10_neededFrom_2 : cX10_neededFrom.data.toList.drop 47 = dktX10_neededFrom_2 := dk_seg dksX10_neededFrom_1 23 rfl rfl
theorem dX10_neededFrom_0 : decode cX10_neededFrom 0 = .ok (.iconst 0, 1) := dk_3 (dk_at dksX10_neededFrom_0 0 rfl rfl)
theorem dX10_neededFrom_1 : decode cX10_neededFrom 1 = .ok (.istore_n 2, 1) := dk_61 (dk_at dksX10_neededFrom_0 1 rfl rfl)
theorem dX10_neededFrom_2 : decode cX10_neededFrom 2 = .ok (.iload_n 2, 1) := dk_28 (dk_at dksX10_neededFrom_0 2 rfl rfl)
theorem dX10_neededFrom_3 : decode cX10_neededFrom 3 = .ok (.aload_n 0, 1) := dk_42 (dk_at dksX10_neededFrom_0 3 rfl rfl)
theorem dX10_neededFrom_4 : decode cX10_neededFrom 4 = .ok (.getfield 9, 3) := dk_180 0 9 (dk_at dksX10_neededFrom_0 4 rfl rfl)
theorem dX10_neededFrom_7 : decode cX10_neededFrom 7 = .ok (.iconst 5, 1) := dk_8 (dk_at dksX10_neededFrom_0 7 rfl rfl)
theorem dX10_neededFrom_8 : decode cX10_neededFrom 8 = .ok (.iaload, 1) := dk_46 (dk_at dksX10_neededFrom_0 8 rfl rfl)
theorem dX10_neededFrom_9 : decode cX10_neededFrom 9 = .ok (.if_icmp .gt 57, 3) := dk_163 0 57 (dk_at dksX10_neededFrom_0 9 rfl rfl)
theorem dX10_neededFrom_12 : decode cX10_neededFrom 12 = .ok (.iconst 0, 1) := dk_3 (dk_at dksX10_neededFrom_0 12 rfl rfl)
theorem dX10_neededFrom_13 : decode cX10_neededFrom 13 = .ok (.istore_n 3, 1) := dk_62 (dk_at dksX10_neededFrom_0 13 rfl rfl)
theorem dX10_neededFrom_14 : decode cX10_neededFrom 14 = .ok (.iconst 0, 1) := dk_3 (dk_at dksX10_neededFrom_0 14 rfl rfl)
theorem dX10_neededFrom_15 : decode cX10_neededFrom 15 = .ok (.istore 4, 2) := dk_54 4 (dk_at dksX10_neededFrom_0 15 rfl rfl)
theorem dX10_neededFrom_17 : decode cX10_neededFrom 17 = .ok (.iload 4, 2) := dk_21 4 (dk_at dksX10_neededFrom_0 17 rfl rfl)
theorem dX10_neededFrom_19 : decode cX10_neededFrom 19 = .ok (.aload_n 0, 1) := dk_42 (dk_at dksX10_neededFrom_0 19 rfl rfl)
theorem dX10_neededFrom_20 : decode cX10_neededFrom 20 = .ok (.getfield 9, 3) := dk_180 0 9 (dk_at dksX10_neededFrom_0 20 rfl rfl)
theorem dX10_neededFrom_23 : decode cX10_neededFrom 23 = .ok (.iconst 5, 1) := dk_8 (dk_at dksX10_neededFrom_0 23 rfl rfl)
theorem dX10_neededFrom_24 : decode cX10_neededFrom 24 = .ok (.iaload, 1) := dk_46 (dk_at dksX10_neededFrom_1 0 rfl rfl)
theorem dX10_neededFrom_25 : decode cX10_neededFrom 25 = .ok (.if_icmp .ge 28, 3) := dk_162 0 28 (dk_at dksX10_neededFrom_1 1 rfl rfl)
theorem dX10_neededFrom_28 : decode cX10_neededFrom 28 = .ok (.iload_n 3, 1) := dk_29 (dk_at dksX10_neededFrom_1 4 rfl rfl)
theorem dX10_neededFrom_29 : decode cX10_neededFrom 29 = .ok (.aload_n 0, 1) := dk_42 (dk_at dksX10_neededFrom_1 5 rfl rfl)
theorem dX10_neededFrom_30 : decode cX10_neededFrom 30 = .ok (.iload_n 1, 1) := dk_27 (dk_at dksX10_neededFrom_1 6 rfl rfl)
theorem dX10_neededFrom_31 : decode cX10_neededFrom 31 = .ok (.iload 4, 2) := dk_21 4 (dk_at dksX10_neededFrom_1 7 rfl rfl)
theorem dX10_neededFrom_33 : decode cX10_neededFrom 33 = .ok (.iload_n 2, 1) := dk_28 (dk_at dksX10_neededFrom_1 9 rfl rfl)
theorem dX10_neededFrom_34 : decode cX10_neededFrom 34 = .ok (.invokevirtual 464, 3) := dk_182 1 208 (dk_at dksX10_neededFrom_1 10 rfl rfl)
theorem dX10_neededFrom_37 : decode cX10_neededFrom 37 = .ok (.ifCond .eq 7, 3) := dk_153 0 7 (dk_at dksX10_neededFrom_1 13 rfl rfl)
theorem dX10_neededFrom_40 : decode cX10_neededFrom 40 = .ok (.iconst 1, 1) := dk_4 (dk_at dksX10_neededFrom_1 16 rfl rfl)
theorem dX10_neededFrom_41 : decode cX10_neededFrom 41 = .ok (.goto 4, 3) := dk_167 0 4 (dk_at dksX10_neededFrom_1 17 rfl rfl)
theorem dX10_neededFrom_44 : decode cX10_neededFrom 44 = .ok (.iconst 0, 1) := dk_3 (dk_at dksX10_neededFrom_1 20 rfl rfl)
theorem dX10_neededFrom_45 : decode cX10_neededFrom 45 = .ok (.iadd, 1) := dk_96 (dk_at dksX10_neededFrom_1 21 rfl rfl)
theorem dX10_neededFrom_46 : decode cX10_neededFrom 46 = .ok (.istore_n 3, 1) := dk_62 (dk_at dksX10_neededFrom_1 22 rfl rfl)
theorem dX10_neededFrom_47 : decode cX10_neededFrom 47 = .ok (.iinc 4 1, 3) := dk_132 4 1 (dk_at dksX10_neededFrom_2 0 rfl rfl)
theorem dX10_neededFrom_50 : decode cX10_neededFrom 50 = .ok (.goto (-33), 3) := dk_167 255 223 (dk_at dksX10_neededFrom_2 3 rfl rfl)
theorem dX10_neededFrom_53 : decode cX10_neededFrom 53 = .ok (.iload_n 3, 1) := dk_29 (dk_at dksX10_neededFrom_2 6 rfl rfl)
theorem dX10_neededFrom_54 : decode cX10_neededFrom 54 = .ok (.iconst 1, 1) := dk_4 (dk_at dksX10_neededFrom_2 7 rfl rfl)
theorem dX10_neededFrom_55 : decode cX10_neededFrom 55 = .ok (.if_icmp .ne 5, 3) := dk_160 0 5 (dk_at dksX10_neededFrom_2 8 rfl rfl)
theorem dX10_neededFrom_58 : decode cX10_neededFrom 58 = .ok (.iload_n 2, 1) := dk_28 (dk_at dksX10_neededFrom_2 11 rfl rfl)
theorem dX10_neededFrom_59 : decode cX10_neededFrom 59 = .ok (.ireturn, 1) := dk_172 (dk_at dksX10_neededFrom_2 12 rfl rfl)
theorem dX10_neededFrom_60 : decode cX10_neededFrom 60 = .ok (.iinc 2 1, 3) := dk_132 2 1 (dk_at dksX10_neededFrom_2 13 rfl rfl)
theorem dX10_neededFrom_63 : decode cX10_neededFrom 63 = .ok (.goto (-61), 3) := dk_167 255 195 (dk_at dksX10_neededFrom_2 16 rfl rfl)
theorem dX10_neededFrom_66 : decode cX10_neededFrom 66 = .ok (.iconst (-1), 1) := dk_2 (dk_at dksX10_neededFrom_2 19 rfl rfl)
theorem dX10_neededFrom_67 : decode cX10_neededFrom 67 = .ok (.ireturn, 1) := dk_172 (dk_at dksX10_neededFrom_2 20 rfl rfl)
abbrev cX10_goesAlike : ByteArray := prog_16_method_116_code
def yX10_goesAlike : MethodName := ⟨RX10, "goesAlike", "(III)Z"⟩
def dkwX10_goesAlike_1 : List UInt8 := [182, 1, 184, 159, 0, 5, 3, 172, 132, 4, 1, 167, 255, 226, 4, 172]
abbrev dktX10_goesAlike_1 : List UInt8 := dkwX10_goesAlike_1 ++ []
def dkwX10_goesAlike_0 : List UInt8 := [3, 54, 4, 21, 4, 29, 162, 0, 30, 42, 27, 21, 4, 96, 182, 1, 184, 42, 28, 21, 4, 96]
abbrev dktX10_goesAlike_0 : List UInt8 := dkwX10_goesAlike_0 ++ dktX10_goesAlike_1
theorem dksX10_goesAlike_0 : cX10_goesAlike.data.toList.drop 0 = dktX10_goesAlike_0 := by decide +kernel
theorem dksX10_goesAlike_1 : cX10_goesAlike.data.toList.drop 22 = dktX10_goesAlike_1 := dk_seg dksX10_goesAlike_0 22 rfl rfl
theorem dX10_goesAlike_0 : decode cX10_goesAlike 0 = .ok (.iconst 0, 1) := dk_3 (dk_at dksX10_goesAlike_0 0 rfl rfl)
theorem dX10_goesAlike_1 : decode cX10_goesAlike 1 = .ok (.istore 4, 2) := dk_54 4 (dk_at dksX10_goesAlike_0 1 rfl rfl)
theorem dX10_goesAlike_3 : decode cX10_goesAlike 3 = .ok (.iload 4, 2) := dk_21 4 (dk_at dksX10_goesAlike_0 3 rfl rfl)
theorem dX10_goesAlike_5 : decode cX10_goesAlike 5 = .ok (.iload_n 3, 1) := dk_29 (dk_at dksX10_goesAlike_0 5 rfl rfl)
theorem dX10_goesAlike_6 : decode cX10_goesAlike 6 = .ok (.if_icmp .ge 30, 3) := dk_162 0 30 (dk_at dksX10_goesAlike_0 6 rfl rfl)
theorem dX10_goesAlike_9 : decode cX10_goesAlike 9 = .ok (.aload_n 0, 1) := dk_42 (dk_at dksX10_goesAlike_0 9 rfl rfl)
theorem dX10_goesAlike_10 : decode cX10_goesAlike 10 = .ok (.iload_n 1, 1) := dk_27 (dk_at dksX10_goesAlike_0 10 rfl rfl)
theorem dX10_goesAlike_11 : decode cX10_goesAlike 11 = .ok (.iload 4, 2) := dk_21 4 (dk_at dksX10_goesAlike_0 11 rfl rfl)
theorem dX10_goesAlike_13 : decode cX10_goesAlike 13 = .ok (.iadd, 1) := dk_96 (dk_at dksX10_goesAlike_0 13 rfl rfl)
theorem dX10_goesAlike_14 : decode cX10_goesAlike 14 = .ok (.invokevirtual 440, 3) := dk_182 1 184 (dk_at dksX10_goesAlike_0 14 rfl rfl)
theorem dX10_goesAlike_17 : decode cX10_goesAlike 17 = .ok (.aload_n 0, 1) := dk_42 (dk_at dksX10_goesAlike_0 17 rfl rfl)
theorem dX10_goesAlike_18 : decode cX10_goesAlike 18 = .ok (.iload_n 2, 1) := dk_28 (dk_at dksX10_goesAlike_0 18 rfl rfl)
theorem dX10_goesAlike_19 : decode cX10_goesAlike 19 = .ok (.iload 4, 2) := dk_21 4 (dk_at dksX10_goesAlike_0 19 rfl rfl)
theorem dX10_goesAlike_21 : decode cX10_goesAlike 21 = .ok (.iadd, 1) := dk_96 (dk_at dksX10_goesAlike_0 21 rfl rfl)
theorem dX10_goesAlike_22 : decode cX10_goesAlike 22 = .ok (.invokevirtual 440, 3) := dk_182 1 184 (dk_at dksX10_goesAlike_1 0 rfl rfl)
theorem dX10_goesAlike_25 : decode cX10_goesAlike 25 = .ok (.if_icmp .eq 5, 3) := dk_159 0 5 (dk_at dksX10_goesAlike_1 3 rfl rfl)
theorem dX10_goesAlike_28 : decode cX10_goesAlike 28 = .ok (.iconst 0, 1) := dk_3 (dk_at dksX10_goesAlike_1 6 rfl rfl)
theorem dX10_goesAlike_29 : decode cX10_goesAlike 29 = .ok (.ireturn, 1) := dk_172 (dk_at dksX10_goesAlike_1 7 rfl rfl)
theorem dX10_goesAlike_30 : decode cX10_goesAlike 30 = .ok (.iinc 4 1, 3) := dk_132 4 1 (dk_at dksX10_goesAlike_1 8 rfl rfl)
theorem dX10_goesAlike_33 : decode cX10_goesAlike 33 = .ok (.goto (-30), 3) := dk_167 255 226 (dk_at dksX10_goesAlike_1 11 rfl rfl)
theorem dX10_goesAlike_36 : decode cX10_goesAlike 36 = .ok (.iconst 1, 1) := dk_4 (dk_at dksX10_goesAlike_1 14 rfl rfl)
theorem dX10_goesAlike_37 : decode cX10_goesAlike 37 = .ok (.ireturn, 1) := dk_172 (dk_at dksX10_goesAlike_1 15 rfl rfl)
abbrev cX10_known : ByteArray := prog_16_method_119_code
def yX10_known : MethodName := ⟨RX10, "known", "()I"⟩
def dkwX10_known_2 : List UInt8 := [167, 255, 224, 27, 172]
abbrev dktX10_known_2 : List UInt8 := dkwX10_known_2 ++ []
def dkwX10_known_1 : List UInt8 := [42, 28, 182, 1, 212, 62, 29, 2, 160, 0, 5, 2, 172, 27, 29, 184, 1, 81, 60, 132, 2, 1]
abbrev dktX10_known_1 : List UInt8 := dkwX10_known_1 ++ dktX10_known_2
def dkwX10_known_0 : List UInt8 := [42, 182, 1, 26, 154, 0, 6, 16, 254, 172, 2, 60, 3, 61, 28, 42, 180, 0, 9, 8, 46, 162, 0, 28]
abbrev dktX10_known_0 : List UInt8 := dkwX10_known_0 ++ dktX10_known_1
theorem dksX10_known_0 : cX10_known.data.toList.drop 0 = dktX10_known_0 := by decide +kernel
theorem dksX10_known_1 : cX10_known.data.toList.drop 24 = dktX10_known_1 := dk_seg dksX10_known_0 24 rfl rfl
theorem dksX10_known_2 : cX10_known.data.toList.drop 46 = dktX10_known_2 := dk_seg dksX10_known_1 22 rfl rfl
theorem dX10_known_0 : decode cX10_known 0 = .ok (.aload_n 0, 1) := dk_42 (dk_at dksX10_known_0 0 rfl rfl)
theorem dX10_known_1 : decode cX10_known 1 = .ok (.invokevirtual 282, 3) := dk_182 1 26 (dk_at dksX10_known_0 1 rfl rfl)
theorem dX10_known_4 : decode cX10_known 4 = .ok (.ifCond .ne 6, 3) := dk_154 0 6 (dk_at dksX10_known_0 4 rfl rfl)
theorem dX10_known_7 : decode cX10_known 7 = .ok (.bipush (-2), 2) := dk_16 254 (dk_at dksX10_known_0 7 rfl rfl)
theorem dX10_known_9 : decode cX10_known 9 = .ok (.ireturn, 1) := dk_172 (dk_at dksX10_known_0 9 rfl rfl)
theorem dX10_known_10 : decode cX10_known 10 = .ok (.iconst (-1), 1) := dk_2 (dk_at dksX10_known_0 10 rfl rfl)
theorem dX10_known_11 : decode cX10_known 11 = .ok (.istore_n 1, 1) := dk_60 (dk_at dksX10_known_0 11 rfl rfl)
theorem dX10_known_12 : decode cX10_known 12 = .ok (.iconst 0, 1) := dk_3 (dk_at dksX10_known_0 12 rfl rfl)
theorem dX10_known_13 : decode cX10_known 13 = .ok (.istore_n 2, 1) := dk_61 (dk_at dksX10_known_0 13 rfl rfl)
theorem dX10_known_14 : decode cX10_known 14 = .ok (.iload_n 2, 1) := dk_28 (dk_at dksX10_known_0 14 rfl rfl)
theorem dX10_known_15 : decode cX10_known 15 = .ok (.aload_n 0, 1) := dk_42 (dk_at dksX10_known_0 15 rfl rfl)
theorem dX10_known_16 : decode cX10_known 16 = .ok (.getfield 9, 3) := dk_180 0 9 (dk_at dksX10_known_0 16 rfl rfl)
theorem dX10_known_19 : decode cX10_known 19 = .ok (.iconst 5, 1) := dk_8 (dk_at dksX10_known_0 19 rfl rfl)
theorem dX10_known_20 : decode cX10_known 20 = .ok (.iaload, 1) := dk_46 (dk_at dksX10_known_0 20 rfl rfl)
theorem dX10_known_21 : decode cX10_known 21 = .ok (.if_icmp .ge 28, 3) := dk_162 0 28 (dk_at dksX10_known_0 21 rfl rfl)
theorem dX10_known_24 : decode cX10_known 24 = .ok (.aload_n 0, 1) := dk_42 (dk_at dksX10_known_1 0 rfl rfl)
theorem dX10_known_25 : decode cX10_known 25 = .ok (.iload_n 2, 1) := dk_28 (dk_at dksX10_known_1 1 rfl rfl)
theorem dX10_known_26 : decode cX10_known 26 = .ok (.invokevirtual 468, 3) := dk_182 1 212 (dk_at dksX10_known_1 2 rfl rfl)
theorem dX10_known_29 : decode cX10_known 29 = .ok (.istore_n 3, 1) := dk_62 (dk_at dksX10_known_1 5 rfl rfl)
theorem dX10_known_30 : decode cX10_known 30 = .ok (.iload_n 3, 1) := dk_29 (dk_at dksX10_known_1 6 rfl rfl)
theorem dX10_known_31 : decode cX10_known 31 = .ok (.iconst (-1), 1) := dk_2 (dk_at dksX10_known_1 7 rfl rfl)
theorem dX10_known_32 : decode cX10_known 32 = .ok (.if_icmp .ne 5, 3) := dk_160 0 5 (dk_at dksX10_known_1 8 rfl rfl)
theorem dX10_known_35 : decode cX10_known 35 = .ok (.iconst (-1), 1) := dk_2 (dk_at dksX10_known_1 11 rfl rfl)
theorem dX10_known_36 : decode cX10_known 36 = .ok (.ireturn, 1) := dk_172 (dk_at dksX10_known_1 12 rfl rfl)
theorem dX10_known_37 : decode cX10_known 37 = .ok (.iload_n 1, 1) := dk_27 (dk_at dksX10_known_1 13 rfl rfl)
theorem dX10_known_38 : decode cX10_known 38 = .ok (.iload_n 3, 1) := dk_29 (dk_at dksX10_known_1 14 rfl rfl)
theorem dX10_known_39 : decode cX10_known 39 = .ok (.invokestatic 337, 3) := dk_184 1 81 (dk_at dksX10_known_1 15 rfl rfl)
theorem dX10_known_42 : decode cX10_known 42 = .ok (.istore_n 1, 1) := dk_60 (dk_at dksX10_known_1 18 rfl rfl)
theorem dX10_known_43 : decode cX10_known 43 = .ok (.iinc 2 1, 3) := dk_132 2 1 (dk_at dksX10_known_1 19 rfl rfl)
theorem dX10_known_46 : decode cX10_known 46 = .ok (.goto (-32), 3) := dk_167 255 224 (dk_at dksX10_known_2 0 rfl rfl)
theorem dX10_known_49 : decode cX10_known 49 = .ok (.iload_n 1, 1) := dk_27 (dk_at dksX10_known_2 3 rfl rfl)
theorem dX10_known_50 : decode cX10_known 50 = .ok (.ireturn, 1) := dk_172 (dk_at dksX10_known_2 4 rfl rfl)
abbrev cX10_rash : ByteArray := prog_16_method_121_code
def yX10_rash : MethodName := ⟨RX10, "rash", "(I)I"⟩
def dkwX10_rash_0 : List UInt8 := [42, 27, 182, 1, 14, 154, 0, 7, 17, 248, 48, 172, 42, 182, 1, 29, 42, 27, 182, 1, 215, 172]
abbrev dktX10_rash_0 : List UInt8 := dkwX10_rash_0 ++ []
theorem dksX10_rash_0 : cX10_rash.data.toList.drop 0 = dktX10_rash_0 := by decide +kernel
theorem dX10_rash_0 : decode cX10_rash 0 = .ok (.aload_n 0, 1) := dk_42 (dk_at dksX10_rash_0 0 rfl rfl)
theorem dX10_rash_1 : decode cX10_rash 1 = .ok (.iload_n 1, 1) := dk_27 (dk_at dksX10_rash_0 1 rfl rfl)
theorem dX10_rash_2 : decode cX10_rash 2 = .ok (.invokevirtual 270, 3) := dk_182 1 14 (dk_at dksX10_rash_0 2 rfl rfl)
theorem dX10_rash_5 : decode cX10_rash 5 = .ok (.ifCond .ne 7, 3) := dk_154 0 7 (dk_at dksX10_rash_0 5 rfl rfl)
theorem dX10_rash_8 : decode cX10_rash 8 = .ok (.sipush (-2000), 3) := dk_17 248 48 (dk_at dksX10_rash_0 8 rfl rfl)
theorem dX10_rash_11 : decode cX10_rash 11 = .ok (.ireturn, 1) := dk_172 (dk_at dksX10_rash_0 11 rfl rfl)
theorem dX10_rash_12 : decode cX10_rash 12 = .ok (.aload_n 0, 1) := dk_42 (dk_at dksX10_rash_0 12 rfl rfl)
theorem dX10_rash_13 : decode cX10_rash 13 = .ok (.invokevirtual 285, 3) := dk_182 1 29 (dk_at dksX10_rash_0 13 rfl rfl)
theorem dX10_rash_16 : decode cX10_rash 16 = .ok (.aload_n 0, 1) := dk_42 (dk_at dksX10_rash_0 16 rfl rfl)
theorem dX10_rash_17 : decode cX10_rash 17 = .ok (.iload_n 1, 1) := dk_27 (dk_at dksX10_rash_0 17 rfl rfl)
theorem dX10_rash_18 : decode cX10_rash 18 = .ok (.invokevirtual 471, 3) := dk_182 1 215 (dk_at dksX10_rash_0 18 rfl rfl)
theorem dX10_rash_21 : decode cX10_rash 21 = .ok (.ireturn, 1) := dk_172 (dk_at dksX10_rash_0 21 rfl rfl)
abbrev cX10_rashOf : ByteArray := prog_16_method_120_code
def yX10_rashOf : MethodName := ⟨RX10, "rashOf", "(I)I"⟩
def dkwX10_rashOf_1 : List UInt8 := [100, 104, 16, 20, 42, 180, 1, 93, 104, 100, 172]
abbrev dktX10_rashOf_1 : List UInt8 := dkwX10_rashOf_1 ++ []
def dkwX10_rashOf_0 : List UInt8 := [42, 27, 182, 1, 72, 42, 4, 181, 1, 68, 42, 182, 1, 106, 16, 10, 42, 180, 1, 90, 42, 180, 1, 93]
abbrev dktX10_rashOf_0 : List UInt8 := dkwX10_rashOf_0 ++ dktX10_rashOf_1
theorem dksX10_rashOf_0 : cX10_rashOf.data.toList.drop 0 = dktX10_rashOf_0 := by decide +kernel
theorem dksX10_rashOf_1 : cX10_rashOf.data.toList.drop 24 = dktX10_rashOf_1 := dk_seg dksX10_rashOf_0 24 rfl rfl
theorem dX10_rashOf_0 : decode cX10_rashOf 0 = .ok (.aload_n 0, 1) := dk_42 (dk_at dksX10_rashOf_0 0 rfl rfl)
theorem dX10_rashOf_1 : decode cX10_rashOf 1 = .ok (.iload_n 1, 1) := dk_27 (dk_at dksX10_rashOf_0 1 rfl rfl)
theorem dX10_rashOf_2 : decode cX10_rashOf 2 = .ok (.invokevirtual 328, 3) := dk_182 1 72 (dk_at dksX10_rashOf_0 2 rfl rfl)
theorem dX10_rashOf_5 : decode cX10_rashOf 5 = .ok (.aload_n 0, 1) := dk_42 (dk_at dksX10_rashOf_0 5 rfl rfl)
theorem dX10_rashOf_6 : decode cX10_rashOf 6 = .ok (.iconst 1, 1) := dk_4 (dk_at dksX10_rashOf_0 6 rfl rfl)
theorem dX10_rashOf_7 : decode cX10_rashOf 7 = .ok (.putfield 324, 3) := dk_181 1 68 (dk_at dksX10_rashOf_0 7 rfl rfl)
theorem dX10_rashOf_10 : decode cX10_rashOf 10 = .ok (.aload_n 0, 1) := dk_42 (dk_at dksX10_rashOf_0 10 rfl rfl)
theorem dX10_rashOf_11 : decode cX10_rashOf 11 = .ok (.invokevirtual 362, 3) := dk_182 1 106 (dk_at dksX10_rashOf_0 11 rfl rfl)
theorem dX10_rashOf_14 : decode cX10_rashOf 14 = .ok (.bipush 10, 2) := dk_16 10 (dk_at dksX10_rashOf_0 14 rfl rfl)
theorem dX10_rashOf_16 : decode cX10_rashOf 16 = .ok (.aload_n 0, 1) := dk_42 (dk_at dksX10_rashOf_0 16 rfl rfl)
theorem dX10_rashOf_17 : decode cX10_rashOf 17 = .ok (.getfield 346, 3) := dk_180 1 90 (dk_at dksX10_rashOf_0 17 rfl rfl)
theorem dX10_rashOf_20 : decode cX10_rashOf 20 = .ok (.aload_n 0, 1) := dk_42 (dk_at dksX10_rashOf_0 20 rfl rfl)
theorem dX10_rashOf_21 : decode cX10_rashOf 21 = .ok (.getfield 349, 3) := dk_180 1 93 (dk_at dksX10_rashOf_0 21 rfl rfl)
theorem dX10_rashOf_24 : decode cX10_rashOf 24 = .ok (.isub, 1) := dk_100 (dk_at dksX10_rashOf_1 0 rfl rfl)
theorem dX10_rashOf_25 : decode cX10_rashOf 25 = .ok (.imul, 1) := dk_104 (dk_at dksX10_rashOf_1 1 rfl rfl)
theorem dX10_rashOf_26 : decode cX10_rashOf 26 = .ok (.bipush 20, 2) := dk_16 20 (dk_at dksX10_rashOf_1 2 rfl rfl)
theorem dX10_rashOf_28 : decode cX10_rashOf 28 = .ok (.aload_n 0, 1) := dk_42 (dk_at dksX10_rashOf_1 4 rfl rfl)
theorem dX10_rashOf_29 : decode cX10_rashOf 29 = .ok (.getfield 349, 3) := dk_180 1 93 (dk_at dksX10_rashOf_1 5 rfl rfl)
theorem dX10_rashOf_32 : decode cX10_rashOf 32 = .ok (.imul, 1) := dk_104 (dk_at dksX10_rashOf_1 8 rfl rfl)
theorem dX10_rashOf_33 : decode cX10_rashOf 33 = .ok (.isub, 1) := dk_100 (dk_at dksX10_rashOf_1 9 rfl rfl)
theorem dX10_rashOf_34 : decode cX10_rashOf 34 = .ok (.ireturn, 1) := dk_172 (dk_at dksX10_rashOf_1 10 rfl rfl)
abbrev cX10_look : ByteArray := prog_16_method_123_code
def yX10_look : MethodName := ⟨RX10, "look", "(II)I"⟩
def dkwX10_look_1 : List UInt8 := [42, 182, 1, 29, 42, 27, 28, 182, 1, 220, 172]
abbrev dktX10_look_1 : List UInt8 := dkwX10_look_1 ++ []
def dkwX10_look_0 : List UInt8 := [42, 27, 182, 1, 14, 153, 0, 15, 28, 133, 9, 20, 1, 218, 184, 0, 88, 154, 0, 7, 17, 248, 48, 172]
abbrev dktX10_look_0 : List UInt8 := dkwX10_look_0 ++ dktX10_look_1
theorem dksX10_look_0 : cX10_look.data.toList.drop 0 = dktX10_look_0 := by decide +kernel
theorem dksX10_look_1 : cX10_look.data.toList.drop 24 = dktX10_look_1 := dk_seg dksX10_look_0 24 rfl rfl
theorem dX10_look_0 : decode cX10_look 0 = .ok (.aload_n 0, 1) := dk_42 (dk_at dksX10_look_0 0 rfl rfl)
theorem dX10_look_1 : decode cX10_look 1 = .ok (.iload_n 1, 1) := dk_27 (dk_at dksX10_look_0 1 rfl rfl)
theorem dX10_look_2 : decode cX10_look 2 = .ok (.invokevirtual 270, 3) := dk_182 1 14 (dk_at dksX10_look_0 2 rfl rfl)
theorem dX10_look_5 : decode cX10_look 5 = .ok (.ifCond .eq 15, 3) := dk_153 0 15 (dk_at dksX10_look_0 5 rfl rfl)
theorem dX10_look_8 : decode cX10_look 8 = .ok (.iload_n 2, 1) := dk_28 (dk_at dksX10_look_0 8 rfl rfl)
theorem dX10_look_9 : decode cX10_look 9 = .ok (.i2l, 1) := dk_133 (dk_at dksX10_look_0 9 rfl rfl)
theorem dX10_look_10 : decode cX10_look 10 = .ok (.lconst 0, 1) := dk_9 (dk_at dksX10_look_0 10 rfl rfl)
theorem dX10_look_11 : decode cX10_look 11 = .ok (.ldc2_w 474, 3) := dk_20 1 218 (dk_at dksX10_look_0 11 rfl rfl)
theorem dX10_look_14 : decode cX10_look 14 = .ok (.invokestatic 88, 3) := dk_184 0 88 (dk_at dksX10_look_0 14 rfl rfl)
theorem dX10_look_17 : decode cX10_look 17 = .ok (.ifCond .ne 7, 3) := dk_154 0 7 (dk_at dksX10_look_0 17 rfl rfl)
theorem dX10_look_20 : decode cX10_look 20 = .ok (.sipush (-2000), 3) := dk_17 248 48 (dk_at dksX10_look_0 20 rfl rfl)
theorem dX10_look_23 : decode cX10_look 23 = .ok (.ireturn, 1) := dk_172 (dk_at dksX10_look_0 23 rfl rfl)
theorem dX10_look_24 : decode cX10_look 24 = .ok (.aload_n 0, 1) := dk_42 (dk_at dksX10_look_1 0 rfl rfl)
theorem dX10_look_25 : decode cX10_look 25 = .ok (.invokevirtual 285, 3) := dk_182 1 29 (dk_at dksX10_look_1 1 rfl rfl)
theorem dX10_look_28 : decode cX10_look 28 = .ok (.aload_n 0, 1) := dk_42 (dk_at dksX10_look_1 4 rfl rfl)
theorem dX10_look_29 : decode cX10_look 29 = .ok (.iload_n 1, 1) := dk_27 (dk_at dksX10_look_1 5 rfl rfl)
theorem dX10_look_30 : decode cX10_look 30 = .ok (.iload_n 2, 1) := dk_28 (dk_at dksX10_look_1 6 rfl rfl)
theorem dX10_look_31 : decode cX10_look 31 = .ok (.invokevirtual 476, 3) := dk_182 1 220 (dk_at dksX10_look_1 7 rfl rfl)
theorem dX10_look_34 : decode cX10_look 34 = .ok (.ireturn, 1) := dk_172 (dk_at dksX10_look_1 10 rfl rfl)
abbrev cX10_lookOf : ByteArray := prog_16_method_122_code
def yX10_lookOf : MethodName := ⟨RX10, "lookOf", "(II)I"⟩
def dkwX10_lookOf_1 : List UInt8 := [16, 10, 42, 180, 1, 90, 104, 172]
abbrev dktX10_lookOf_1 : List UInt8 := dkwX10_lookOf_1 ++ []
def dkwX10_lookOf_0 : List UInt8 := [42, 27, 182, 1, 72, 42, 89, 180, 1, 56, 28, 96, 181, 1, 56, 42, 3, 181, 1, 59, 42, 182, 1, 106]
abbrev dktX10_lookOf_0 : List UInt8 := dkwX10_lookOf_0 ++ dktX10_lookOf_1
theorem dksX10_lookOf_0 : cX10_lookOf.data.toList.drop 0 = dktX10_lookOf_0 := by decide +kernel
theorem dksX10_lookOf_1 : cX10_lookOf.data.toList.drop 24 = dktX10_lookOf_1 := dk_seg dksX10_lookOf_0 24 rfl rfl
theorem dX10_lookOf_0 : decode cX10_lookOf 0 = .ok (.aload_n 0, 1) := dk_42 (dk_at dksX10_lookOf_0 0 rfl rfl)
theorem dX10_lookOf_1 : decode cX10_lookOf 1 = .ok (.iload_n 1, 1) := dk_27 (dk_at dksX10_lookOf_0 1 rfl rfl)
theorem dX10_lookOf_2 : decode cX10_lookOf 2 = .ok (.invokevirtual 328, 3) := dk_182 1 72 (dk_at dksX10_lookOf_0 2 rfl rfl)
theorem dX10_lookOf_5 : decode cX10_lookOf 5 = .ok (.aload_n 0, 1) := dk_42 (dk_at dksX10_lookOf_0 5 rfl rfl)
theorem dX10_lookOf_6 : decode cX10_lookOf 6 = .ok (.dup, 1) := dk_89 (dk_at dksX10_lookOf_0 6 rfl rfl)
theorem dX10_lookOf_7 : decode cX10_lookOf 7 = .ok (.getfield 312, 3) := dk_180 1 56 (dk_at dksX10_lookOf_0 7 rfl rfl)
theorem dX10_lookOf_10 : decode cX10_lookOf 10 = .ok (.iload_n 2, 1) := dk_28 (dk_at dksX10_lookOf_0 10 rfl rfl)
theorem dX10_lookOf_11 : decode cX10_lookOf 11 = .ok (.iadd, 1) := dk_96 (dk_at dksX10_lookOf_0 11 rfl rfl)
theorem dX10_lookOf_12 : decode cX10_lookOf 12 = .ok (.putfield 312, 3) := dk_181 1 56 (dk_at dksX10_lookOf_0 12 rfl rfl)
theorem dX10_lookOf_15 : decode cX10_lookOf 15 = .ok (.aload_n 0, 1) := dk_42 (dk_at dksX10_lookOf_0 15 rfl rfl)
theorem dX10_lookOf_16 : decode cX10_lookOf 16 = .ok (.iconst 0, 1) := dk_3 (dk_at dksX10_lookOf_0 16 rfl rfl)
theorem dX10_lookOf_17 : decode cX10_lookOf 17 = .ok (.putfield 315, 3) := dk_181 1 59 (dk_at dksX10_lookOf_0 17 rfl rfl)
theorem dX10_lookOf_20 : decode cX10_lookOf 20 = .ok (.aload_n 0, 1) := dk_42 (dk_at dksX10_lookOf_0 20 rfl rfl)
theorem dX10_lookOf_21 : decode cX10_lookOf 21 = .ok (.invokevirtual 362, 3) := dk_182 1 106 (dk_at dksX10_lookOf_0 21 rfl rfl)
theorem dX10_lookOf_24 : decode cX10_lookOf 24 = .ok (.bipush 10, 2) := dk_16 10 (dk_at dksX10_lookOf_1 0 rfl rfl)
theorem dX10_lookOf_26 : decode cX10_lookOf 26 = .ok (.aload_n 0, 1) := dk_42 (dk_at dksX10_lookOf_1 2 rfl rfl)
theorem dX10_lookOf_27 : decode cX10_lookOf 27 = .ok (.getfield 346, 3) := dk_180 1 90 (dk_at dksX10_lookOf_1 3 rfl rfl)
theorem dX10_lookOf_30 : decode cX10_lookOf 30 = .ok (.imul, 1) := dk_104 (dk_at dksX10_lookOf_1 6 rfl rfl)
theorem dX10_lookOf_31 : decode cX10_lookOf 31 = .ok (.ireturn, 1) := dk_172 (dk_at dksX10_lookOf_1 7 rfl rfl)
abbrev cX10_line : ByteArray := prog_16_method_124_code
def yX10_line : MethodName := ⟨RX10, "line", "(I)I"⟩
def dkwX10_line_1 : List UInt8 := [29, 155, 0, 21, 42, 27, 29, 182, 1, 220, 28, 161, 0, 5, 29, 172, 132, 3, 255, 167, 255, 237, 2, 172]
abbrev dktX10_line_1 : List UInt8 := dkwX10_line_1 ++ []
def dkwX10_line_0 : List UInt8 := [42, 27, 182, 1, 14, 154, 0, 6, 16, 254, 172, 42, 182, 1, 29, 42, 27, 182, 1, 215, 61, 16, 20, 62]
abbrev dktX10_line_0 : List UInt8 := dkwX10_line_0 ++ dktX10_line_1
theorem dksX10_line_0 : cX10_line.data.toList.drop 0 = dktX10_line_0 := by decide +kernel
theorem dksX10_line_1 : cX10_line.data.toList.drop 24 = dktX10_line_1 := dk_seg dksX10_line_0 24 rfl rfl
theorem dX10_line_0 : decode cX10_line 0 = .ok (.aload_n 0, 1) := dk_42 (dk_at dksX10_line_0 0 rfl rfl)
theorem dX10_line_1 : decode cX10_line 1 = .ok (.iload_n 1, 1) := dk_27 (dk_at dksX10_line_0 1 rfl rfl)
theorem dX10_line_2 : decode cX10_line 2 = .ok (.invokevirtual 270, 3) := dk_182 1 14 (dk_at dksX10_line_0 2 rfl rfl)
theorem dX10_line_5 : decode cX10_line 5 = .ok (.ifCond .ne 6, 3) := dk_154 0 6 (dk_at dksX10_line_0 5 rfl rfl)
theorem dX10_line_8 : decode cX10_line 8 = .ok (.bipush (-2), 2) := dk_16 254 (dk_at dksX10_line_0 8 rfl rfl)
theorem dX10_line_10 : decode cX10_line 10 = .ok (.ireturn, 1) := dk_172 (dk_at dksX10_line_0 10 rfl rfl)
theorem dX10_line_11 : decode cX10_line 11 = .ok (.aload_n 0, 1) := dk_42 (dk_at dksX10_line_0 11 rfl rfl)
theorem dX10_line_12 : decode cX10_line 12 = .ok (.invokevirtual 285, 3) := dk_182 1 29 (dk_at dksX10_line_0 12 rfl rfl)
theorem dX10_line_15 : decode cX10_line 15 = .ok (.aload_n 0, 1) := dk_42 (dk_at dksX10_line_0 15 rfl rfl)
theorem dX10_line_16 : decode cX10_line 16 = .ok (.iload_n 1, 1) := dk_27 (dk_at dksX10_line_0 16 rfl rfl)
theorem dX10_line_17 : decode cX10_line 17 = .ok (.invokevirtual 471, 3) := dk_182 1 215 (dk_at dksX10_line_0 17 rfl rfl)
theorem dX10_line_20 : decode cX10_line 20 = .ok (.istore_n 2, 1) := dk_61 (dk_at dksX10_line_0 20 rfl rfl)
theorem dX10_line_21 : decode cX10_line 21 = .ok (.bipush 20, 2) := dk_16 20 (dk_at dksX10_line_0 21 rfl rfl)
theorem dX10_line_23 : decode cX10_line 23 = .ok (.istore_n 3, 1) := dk_62 (dk_at dksX10_line_0 23 rfl rfl)
theorem dX10_line_24 : decode cX10_line 24 = .ok (.iload_n 3, 1) := dk_29 (dk_at dksX10_line_1 0 rfl rfl)
theorem dX10_line_25 : decode cX10_line 25 = .ok (.ifCond .lt 21, 3) := dk_155 0 21 (dk_at dksX10_line_1 1 rfl rfl)
theorem dX10_line_28 : decode cX10_line 28 = .ok (.aload_n 0, 1) := dk_42 (dk_at dksX10_line_1 4 rfl rfl)
theorem dX10_line_29 : decode cX10_line 29 = .ok (.iload_n 1, 1) := dk_27 (dk_at dksX10_line_1 5 rfl rfl)
theorem dX10_line_30 : decode cX10_line 30 = .ok (.iload_n 3, 1) := dk_29 (dk_at dksX10_line_1 6 rfl rfl)
theorem dX10_line_31 : decode cX10_line 31 = .ok (.invokevirtual 476, 3) := dk_182 1 220 (dk_at dksX10_line_1 7 rfl rfl)
theorem dX10_line_34 : decode cX10_line 34 = .ok (.iload_n 2, 1) := dk_28 (dk_at dksX10_line_1 10 rfl rfl)
theorem dX10_line_35 : decode cX10_line 35 = .ok (.if_icmp .lt 5, 3) := dk_161 0 5 (dk_at dksX10_line_1 11 rfl rfl)
theorem dX10_line_38 : decode cX10_line 38 = .ok (.iload_n 3, 1) := dk_29 (dk_at dksX10_line_1 14 rfl rfl)
theorem dX10_line_39 : decode cX10_line 39 = .ok (.ireturn, 1) := dk_172 (dk_at dksX10_line_1 15 rfl rfl)
theorem dX10_line_40 : decode cX10_line 40 = .ok (.iinc 3 (-1), 3) := dk_132 3 255 (dk_at dksX10_line_1 16 rfl rfl)
theorem dX10_line_43 : decode cX10_line 43 = .ok (.goto (-19), 3) := dk_167 255 237 (dk_at dksX10_line_1 19 rfl rfl)
theorem dX10_line_46 : decode cX10_line 46 = .ok (.iconst (-1), 1) := dk_2 (dk_at dksX10_line_1 22 rfl rfl)
theorem dX10_line_47 : decode cX10_line 47 = .ok (.ireturn, 1) := dk_172 (dk_at dksX10_line_1 23 rfl rfl)
abbrev cX10_two : ByteArray := prog_16_method_126_code
def yX10_two : MethodName := ⟨RX10, "two", "(III)I"⟩
def dkwX10_two_5 : List UInt8 := [21, 5, 172]
abbrev dktX10_two_5 : List UInt8 := dkwX10_two_5 ++ []
def dkwX10_two_4 : List UInt8 := [21, 8, 54, 6, 21, 7, 54, 5, 132, 7, 1, 167, 255, 206, 29, 154, 0, 8, 21, 6, 167, 0, 5]
abbrev dktX10_two_4 : List UInt8 := dkwX10_two_4 ++ dktX10_two_5
def dkwX10_two_3 : List UInt8 := [28, 21, 4, 21, 7, 2, 130, 126, 182, 1, 223, 96, 54, 8, 21, 8, 21, 6, 163, 0, 6, 167, 0, 11]
abbrev dktX10_two_3 : List UInt8 := dkwX10_two_3 ++ dktX10_two_4
def dkwX10_two_2 : List UInt8 := [3, 54, 5, 2, 54, 6, 3, 54, 7, 21, 7, 21, 4, 163, 0, 49, 42, 27, 21, 7, 182, 1, 223, 42]
abbrev dktX10_two_2 : List UInt8 := dkwX10_two_2 ++ dktX10_two_3
def dkwX10_two_1 : List UInt8 := [10, 184, 0, 88, 154, 0, 6, 16, 254, 172, 42, 182, 1, 29, 4, 42, 182, 0, 92, 120, 4, 100, 54, 4]
abbrev dktX10_two_1 : List UInt8 := dkwX10_two_1 ++ dktX10_two_2
def dkwX10_two_0 : List UInt8 := [42, 27, 182, 1, 14, 153, 0, 26, 42, 28, 182, 1, 14, 153, 0, 18, 27, 28, 159, 0, 13, 29, 133, 9]
abbrev dktX10_two_0 : List UInt8 := dkwX10_two_0 ++ dktX10_two_1
theorem dksX10_two_0 : cX10_two.data.toList.drop 0 = dktX10_two_0 := by decide +kernel
theorem dksX10_two_1 : cX10_two.data.toList.drop 24 = dktX10_two_1 := dk_seg dksX10_two_0 24 rfl rfl
theorem dksX10_two_2 : cX10_two.data.toList.drop 48 = dktX10_two_2 := dk_seg dksX10_two_1 24 rfl rfl
theorem dksX10_two_3 : cX10_two.data.toList.drop 72 = dktX10_two_3 := dk_seg dksX10_two_2 24 rfl rfl
theorem dksX10_two_4 : cX10_two.data.toList.drop 96 = dktX10_two_4 := dk_seg dksX10_two_3 24 rfl rfl
theorem dksX10_two_5 : cX10_two.data.toList.drop 119 = dktX10_two_5 := dk_seg dksX10_two_4 23 rfl rfl
theorem dX10_two_0 : decode cX10_two 0 = .ok (.aload_n 0, 1) := dk_42 (dk_at dksX10_two_0 0 rfl rfl)
theorem dX10_two_1 : decode cX10_two 1 = .ok (.iload_n 1, 1) := dk_27 (dk_at dksX10_two_0 1 rfl rfl)
theorem dX10_two_2 : decode cX10_two 2 = .ok (.invokevirtual 270, 3) := dk_182 1 14 (dk_at dksX10_two_0 2 rfl rfl)
theorem dX10_two_5 : decode cX10_two 5 = .ok (.ifCond .eq 26, 3) := dk_153 0 26 (dk_at dksX10_two_0 5 rfl rfl)
theorem dX10_two_8 : decode cX10_two 8 = .ok (.aload_n 0, 1) := dk_42 (dk_at dksX10_two_0 8 rfl rfl)
theorem dX10_two_9 : decode cX10_two 9 = .ok (.iload_n 2, 1) := dk_28 (dk_at dksX10_two_0 9 rfl rfl)
theorem dX10_two_10 : decode cX10_two 10 = .ok (.invokevirtual 270, 3) := dk_182 1 14 (dk_at dksX10_two_0 10 rfl rfl)
theorem dX10_two_13 : decode cX10_two 13 = .ok (.ifCond .eq 18, 3) := dk_153 0 18 (dk_at dksX10_two_0 13 rfl rfl)
theorem dX10_two_16 : decode cX10_two 16 = .ok (.iload_n 1, 1) := dk_27 (dk_at dksX10_two_0 16 rfl rfl)
theorem dX10_two_17 : decode cX10_two 17 = .ok (.iload_n 2, 1) := dk_28 (dk_at dksX10_two_0 17 rfl rfl)
theorem dX10_two_18 : decode cX10_two 18 = .ok (.if_icmp .eq 13, 3) := dk_159 0 13 (dk_at dksX10_two_0 18 rfl rfl)
theorem dX10_two_21 : decode cX10_two 21 = .ok (.iload_n 3, 1) := dk_29 (dk_at dksX10_two_0 21 rfl rfl)
theorem dX10_two_22 : decode cX10_two 22 = .ok (.i2l, 1) := dk_133 (dk_at dksX10_two_0 22 rfl rfl)
theorem dX10_two_23 : decode cX10_two 23 = .ok (.lconst 0, 1) := dk_9 (dk_at dksX10_two_0 23 rfl rfl)
theorem dX10_two_24 : decode cX10_two 24 = .ok (.lconst 1, 1) := dk_10 (dk_at dksX10_two_1 0 rfl rfl)
theorem dX10_two_25 : decode cX10_two 25 = .ok (.invokestatic 88, 3) := dk_184 0 88 (dk_at dksX10_two_1 1 rfl rfl)
theorem dX10_two_28 : decode cX10_two 28 = .ok (.ifCond .ne 6, 3) := dk_154 0 6 (dk_at dksX10_two_1 4 rfl rfl)
theorem dX10_two_31 : decode cX10_two 31 = .ok (.bipush (-2), 2) := dk_16 254 (dk_at dksX10_two_1 7 rfl rfl)
theorem dX10_two_33 : decode cX10_two 33 = .ok (.ireturn, 1) := dk_172 (dk_at dksX10_two_1 9 rfl rfl)
theorem dX10_two_34 : decode cX10_two 34 = .ok (.aload_n 0, 1) := dk_42 (dk_at dksX10_two_1 10 rfl rfl)
theorem dX10_two_35 : decode cX10_two 35 = .ok (.invokevirtual 285, 3) := dk_182 1 29 (dk_at dksX10_two_1 11 rfl rfl)
theorem dX10_two_38 : decode cX10_two 38 = .ok (.iconst 1, 1) := dk_4 (dk_at dksX10_two_1 14 rfl rfl)
theorem dX10_two_39 : decode cX10_two 39 = .ok (.aload_n 0, 1) := dk_42 (dk_at dksX10_two_1 15 rfl rfl)
theorem dX10_two_40 : decode cX10_two 40 = .ok (.invokevirtual 92, 3) := dk_182 0 92 (dk_at dksX10_two_1 16 rfl rfl)
theorem dX10_two_43 : decode cX10_two 43 = .ok (.ishl, 1) := dk_120 (dk_at dksX10_two_1 19 rfl rfl)
theorem dX10_two_44 : decode cX10_two 44 = .ok (.iconst 1, 1) := dk_4 (dk_at dksX10_two_1 20 rfl rfl)
theorem dX10_two_45 : decode cX10_two 45 = .ok (.isub, 1) := dk_100 (dk_at dksX10_two_1 21 rfl rfl)
theorem dX10_two_46 : decode cX10_two 46 = .ok (.istore 4, 2) := dk_54 4 (dk_at dksX10_two_1 22 rfl rfl)
theorem dX10_two_48 : decode cX10_two 48 = .ok (.iconst 0, 1) := dk_3 (dk_at dksX10_two_2 0 rfl rfl)
theorem dX10_two_49 : decode cX10_two 49 = .ok (.istore 5, 2) := dk_54 5 (dk_at dksX10_two_2 1 rfl rfl)
theorem dX10_two_51 : decode cX10_two 51 = .ok (.iconst (-1), 1) := dk_2 (dk_at dksX10_two_2 3 rfl rfl)
theorem dX10_two_52 : decode cX10_two 52 = .ok (.istore 6, 2) := dk_54 6 (dk_at dksX10_two_2 4 rfl rfl)
theorem dX10_two_54 : decode cX10_two 54 = .ok (.iconst 0, 1) := dk_3 (dk_at dksX10_two_2 6 rfl rfl)
theorem dX10_two_55 : decode cX10_two 55 = .ok (.istore 7, 2) := dk_54 7 (dk_at dksX10_two_2 7 rfl rfl)
theorem dX10_two_57 : decode cX10_two 57 = .ok (.iload 7, 2) := dk_21 7 (dk_at dksX10_two_2 9 rfl rfl)
theorem dX10_two_59 : decode cX10_two 59 = .ok (.iload 4, 2) := dk_21 4 (dk_at dksX10_two_2 11 rfl rfl)
theorem dX10_two_61 : decode cX10_two 61 = .ok (.if_icmp .gt 49, 3) := dk_163 0 49 (dk_at dksX10_two_2 13 rfl rfl)
theorem dX10_two_64 : decode cX10_two 64 = .ok (.aload_n 0, 1) := dk_42 (dk_at dksX10_two_2 16 rfl rfl)
theorem dX10_two_65 : decode cX10_two 65 = .ok (.iload_n 1, 1) := dk_27 (dk_at dksX10_two_2 17 rfl rfl)
theorem dX10_two_66 : decode cX10_two 66 = .ok (.iload 7, 2) := dk_21 7 (dk_at dksX10_two_2 18 rfl rfl)
theorem dX10_two_68 : decode cX10_two 68 = .ok (.invokevirtual 479, 3) := dk_182 1 223 (dk_at dksX10_two_2 20 rfl rfl)
theorem dX10_two_71 : decode cX10_two 71 = .ok (.aload_n 0, 1) := dk_42 (dk_at dksX10_two_2 23 rfl rfl)
theorem dX10_two_72 : decode cX10_two 72 = .ok (.iload_n 2, 1) := dk_28 (dk_at dksX10_two_3 0 rfl rfl)
theorem dX10_two_73 : decode cX10_two 73 = .ok (.iload 4, 2) := dk_21 4 (dk_at dksX10_two_3 1 rfl rfl)
theorem dX10_two_75 : decode cX10_two 75 = .ok (.iload 7, 2) := dk_21 7 (dk_at dksX10_two_3 3 rfl rfl)
theorem dX10_two_77 : decode cX10_two 77 = .ok (.iconst (-1), 1) := dk_2 (dk_at dksX10_two_3 5 rfl rfl)
theorem dX10_two_78 : decode cX10_two 78 = .ok (.ixor, 1) := dk_130 (dk_at dksX10_two_3 6 rfl rfl)
theorem dX10_two_79 : decode cX10_two 79 = .ok (.iand, 1) := dk_126 (dk_at dksX10_two_3 7 rfl rfl)
theorem dX10_two_80 : decode cX10_two 80 = .ok (.invokevirtual 479, 3) := dk_182 1 223 (dk_at dksX10_two_3 8 rfl rfl)
theorem dX10_two_83 : decode cX10_two 83 = .ok (.iadd, 1) := dk_96 (dk_at dksX10_two_3 11 rfl rfl)
theorem dX10_two_84 : decode cX10_two 84 = .ok (.istore 8, 2) := dk_54 8 (dk_at dksX10_two_3 12 rfl rfl)
theorem dX10_two_86 : decode cX10_two 86 = .ok (.iload 8, 2) := dk_21 8 (dk_at dksX10_two_3 14 rfl rfl)
theorem dX10_two_88 : decode cX10_two 88 = .ok (.iload 6, 2) := dk_21 6 (dk_at dksX10_two_3 16 rfl rfl)
theorem dX10_two_90 : decode cX10_two 90 = .ok (.if_icmp .gt 6, 3) := dk_163 0 6 (dk_at dksX10_two_3 18 rfl rfl)
theorem dX10_two_93 : decode cX10_two 93 = .ok (.goto 11, 3) := dk_167 0 11 (dk_at dksX10_two_3 21 rfl rfl)
theorem dX10_two_96 : decode cX10_two 96 = .ok (.iload 8, 2) := dk_21 8 (dk_at dksX10_two_4 0 rfl rfl)
theorem dX10_two_98 : decode cX10_two 98 = .ok (.istore 6, 2) := dk_54 6 (dk_at dksX10_two_4 2 rfl rfl)
theorem dX10_two_100 : decode cX10_two 100 = .ok (.iload 7, 2) := dk_21 7 (dk_at dksX10_two_4 4 rfl rfl)
theorem dX10_two_102 : decode cX10_two 102 = .ok (.istore 5, 2) := dk_54 5 (dk_at dksX10_two_4 6 rfl rfl)
theorem dX10_two_104 : decode cX10_two 104 = .ok (.iinc 7 1, 3) := dk_132 7 1 (dk_at dksX10_two_4 8 rfl rfl)
theorem dX10_two_107 : decode cX10_two 107 = .ok (.goto (-50), 3) := dk_167 255 206 (dk_at dksX10_two_4 11 rfl rfl)
theorem dX10_two_110 : decode cX10_two 110 = .ok (.iload_n 3, 1) := dk_29 (dk_at dksX10_two_4 14 rfl rfl)
theorem dX10_two_111 : decode cX10_two 111 = .ok (.ifCond .ne 8, 3) := dk_154 0 8 (dk_at dksX10_two_4 15 rfl rfl)
theorem dX10_two_114 : decode cX10_two 114 = .ok (.iload 6, 2) := dk_21 6 (dk_at dksX10_two_4 18 rfl rfl)
theorem dX10_two_116 : decode cX10_two 116 = .ok (.goto 5, 3) := dk_167 0 5 (dk_at dksX10_two_4 20 rfl rfl)
theorem dX10_two_119 : decode cX10_two 119 = .ok (.iload 5, 2) := dk_21 5 (dk_at dksX10_two_5 0 rfl rfl)
theorem dX10_two_121 : decode cX10_two 121 = .ok (.ireturn, 1) := dk_172 (dk_at dksX10_two_5 2 rfl rfl)
abbrev cX10_hitsOn : ByteArray := prog_16_method_125_code
def yX10_hitsOn : MethodName := ⟨RX10, "hitsOn", "(II)I"⟩
def dkwX10_hitsOn_0 : List UInt8 := [42, 27, 182, 1, 72, 42, 28, 181, 1, 65, 42, 182, 1, 106, 42, 180, 1, 90, 172]
abbrev dktX10_hitsOn_0 : List UInt8 := dkwX10_hitsOn_0 ++ []
theorem dksX10_hitsOn_0 : cX10_hitsOn.data.toList.drop 0 = dktX10_hitsOn_0 := by decide +kernel
theorem dX10_hitsOn_0 : decode cX10_hitsOn 0 = .ok (.aload_n 0, 1) := dk_42 (dk_at dksX10_hitsOn_0 0 rfl rfl)
theorem dX10_hitsOn_1 : decode cX10_hitsOn 1 = .ok (.iload_n 1, 1) := dk_27 (dk_at dksX10_hitsOn_0 1 rfl rfl)
theorem dX10_hitsOn_2 : decode cX10_hitsOn 2 = .ok (.invokevirtual 328, 3) := dk_182 1 72 (dk_at dksX10_hitsOn_0 2 rfl rfl)
theorem dX10_hitsOn_5 : decode cX10_hitsOn 5 = .ok (.aload_n 0, 1) := dk_42 (dk_at dksX10_hitsOn_0 5 rfl rfl)
theorem dX10_hitsOn_6 : decode cX10_hitsOn 6 = .ok (.iload_n 2, 1) := dk_28 (dk_at dksX10_hitsOn_0 6 rfl rfl)
theorem dX10_hitsOn_7 : decode cX10_hitsOn 7 = .ok (.putfield 321, 3) := dk_181 1 65 (dk_at dksX10_hitsOn_0 7 rfl rfl)
theorem dX10_hitsOn_10 : decode cX10_hitsOn 10 = .ok (.aload_n 0, 1) := dk_42 (dk_at dksX10_hitsOn_0 10 rfl rfl)
theorem dX10_hitsOn_11 : decode cX10_hitsOn 11 = .ok (.invokevirtual 362, 3) := dk_182 1 106 (dk_at dksX10_hitsOn_0 11 rfl rfl)
theorem dX10_hitsOn_14 : decode cX10_hitsOn 14 = .ok (.aload_n 0, 1) := dk_42 (dk_at dksX10_hitsOn_0 14 rfl rfl)
theorem dX10_hitsOn_15 : decode cX10_hitsOn 15 = .ok (.getfield 346, 3) := dk_180 1 90 (dk_at dksX10_hitsOn_0 15 rfl rfl)
theorem dX10_hitsOn_18 : decode cX10_hitsOn 18 = .ok (.ireturn, 1) := dk_172 (dk_at dksX10_hitsOn_0 18 rfl rfl)
abbrev cX10_tickets : ByteArray := prog_16_method_128_code
def yX10_tickets : MethodName := ⟨RX10, "tickets", "(I)I"⟩
def dkwX10_tickets_0 : List UInt8 := [42, 27, 182, 1, 14, 153, 0, 11, 42, 27, 182, 1, 226, 167, 0, 5, 16, 254, 172]
abbrev dktX10_tickets_0 : List UInt8 := dkwX10_tickets_0 ++ []
theorem dksX10_tickets_0 : cX10_tickets.data.toList.drop 0 = dktX10_tickets_0 := by decide +kernel
theorem dX10_tickets_0 : decode cX10_tickets 0 = .ok (.aload_n 0, 1) := dk_42 (dk_at dksX10_tickets_0 0 rfl rfl)
theorem dX10_tickets_1 : decode cX10_tickets 1 = .ok (.iload_n 1, 1) := dk_27 (dk_at dksX10_tickets_0 1 rfl rfl)
theorem dX10_tickets_2 : decode cX10_tickets 2 = .ok (.invokevirtual 270, 3) := dk_182 1 14 (dk_at dksX10_tickets_0 2 rfl rfl)
theorem dX10_tickets_5 : decode cX10_tickets 5 = .ok (.ifCond .eq 11, 3) := dk_153 0 11 (dk_at dksX10_tickets_0 5 rfl rfl)
theorem dX10_tickets_8 : decode cX10_tickets 8 = .ok (.aload_n 0, 1) := dk_42 (dk_at dksX10_tickets_0 8 rfl rfl)
theorem dX10_tickets_9 : decode cX10_tickets 9 = .ok (.iload_n 1, 1) := dk_27 (dk_at dksX10_tickets_0 9 rfl rfl)
theorem dX10_tickets_10 : decode cX10_tickets 10 = .ok (.invokevirtual 482, 3) := dk_182 1 226 (dk_at dksX10_tickets_0 10 rfl rfl)
theorem dX10_tickets_13 : decode cX10_tickets 13 = .ok (.goto 5, 3) := dk_167 0 5 (dk_at dksX10_tickets_0 13 rfl rfl)
theorem dX10_tickets_16 : decode cX10_tickets 16 = .ok (.bipush (-2), 2) := dk_16 254 (dk_at dksX10_tickets_0 16 rfl rfl)
theorem dX10_tickets_18 : decode cX10_tickets 18 = .ok (.ireturn, 1) := dk_172 (dk_at dksX10_tickets_0 18 rfl rfl)
abbrev cX10_ticketsOf : ByteArray := prog_16_method_127_code
def yX10_ticketsOf : MethodName := ⟨RX10, "ticketsOf", "(I)I"⟩
def dkwX10_ticketsOf_0 : List UInt8 := [42, 27, 182, 1, 109, 16, 10, 42, 180, 1, 90, 104, 42, 180, 0, 9, 16, 11, 46, 108, 172]
abbrev dktX10_ticketsOf_0 : List UInt8 := dkwX10_ticketsOf_0 ++ []
theorem dksX10_ticketsOf_0 : cX10_ticketsOf.data.toList.drop 0 = dktX10_ticketsOf_0 := by decide +kernel
theorem dX10_ticketsOf_0 : decode cX10_ticketsOf 0 = .ok (.aload_n 0, 1) := dk_42 (dk_at dksX10_ticketsOf_0 0 rfl rfl)
theorem dX10_ticketsOf_1 : decode cX10_ticketsOf 1 = .ok (.iload_n 1, 1) := dk_27 (dk_at dksX10_ticketsOf_0 1 rfl rfl)
theorem dX10_ticketsOf_2 : decode cX10_ticketsOf 2 = .ok (.invokevirtual 365, 3) := dk_182 1 109 (dk_at dksX10_ticketsOf_0 2 rfl rfl)
theorem dX10_ticketsOf_5 : decode cX10_ticketsOf 5 = .ok (.bipush 10, 2) := dk_16 10 (dk_at dksX10_ticketsOf_0 5 rfl rfl)
theorem dX10_ticketsOf_7 : decode cX10_ticketsOf 7 = .ok (.aload_n 0, 1) := dk_42 (dk_at dksX10_ticketsOf_0 7 rfl rfl)
theorem dX10_ticketsOf_8 : decode cX10_ticketsOf 8 = .ok (.getfield 346, 3) := dk_180 1 90 (dk_at dksX10_ticketsOf_0 8 rfl rfl)
theorem dX10_ticketsOf_11 : decode cX10_ticketsOf 11 = .ok (.imul, 1) := dk_104 (dk_at dksX10_ticketsOf_0 11 rfl rfl)
theorem dX10_ticketsOf_12 : decode cX10_ticketsOf 12 = .ok (.aload_n 0, 1) := dk_42 (dk_at dksX10_ticketsOf_0 12 rfl rfl)
theorem dX10_ticketsOf_13 : decode cX10_ticketsOf 13 = .ok (.getfield 9, 3) := dk_180 0 9 (dk_at dksX10_ticketsOf_0 13 rfl rfl)
theorem dX10_ticketsOf_16 : decode cX10_ticketsOf 16 = .ok (.bipush 11, 2) := dk_16 11 (dk_at dksX10_ticketsOf_0 16 rfl rfl)
theorem dX10_ticketsOf_18 : decode cX10_ticketsOf 18 = .ok (.iaload, 1) := dk_46 (dk_at dksX10_ticketsOf_0 18 rfl rfl)
theorem dX10_ticketsOf_19 : decode cX10_ticketsOf 19 = .ok (.idiv, 1) := dk_108 (dk_at dksX10_ticketsOf_0 19 rfl rfl)
theorem dX10_ticketsOf_20 : decode cX10_ticketsOf 20 = .ok (.ireturn, 1) := dk_172 (dk_at dksX10_ticketsOf_0 20 rfl rfl)
abbrev cX10_prize : ByteArray := prog_16_method_129_code
def yX10_prize : MethodName := ⟨RX10, "prize", "(I)I"⟩
def dkwX10_prize_1 : List UInt8 := [167, 0, 16, 42, 180, 0, 9, 16, 10, 46, 28, 96, 4, 100, 28, 108, 172]
abbrev dktX10_prize_1 : List UInt8 := dkwX10_prize_1 ++ []
def dkwX10_prize_0 : List UInt8 := [42, 27, 182, 1, 14, 154, 0, 6, 16, 254, 172, 42, 27, 182, 1, 226, 61, 28, 154, 0, 7, 2]
abbrev dktX10_prize_0 : List UInt8 := dkwX10_prize_0 ++ dktX10_prize_1
theorem dksX10_prize_0 : cX10_prize.data.toList.drop 0 = dktX10_prize_0 := by decide +kernel
theorem dksX10_prize_1 : cX10_prize.data.toList.drop 22 = dktX10_prize_1 := dk_seg dksX10_prize_0 22 rfl rfl
theorem dX10_prize_0 : decode cX10_prize 0 = .ok (.aload_n 0, 1) := dk_42 (dk_at dksX10_prize_0 0 rfl rfl)
theorem dX10_prize_1 : decode cX10_prize 1 = .ok (.iload_n 1, 1) := dk_27 (dk_at dksX10_prize_0 1 rfl rfl)
theorem dX10_prize_2 : decode cX10_prize 2 = .ok (.invokevirtual 270, 3) := dk_182 1 14 (dk_at dksX10_prize_0 2 rfl rfl)
theorem dX10_prize_5 : decode cX10_prize 5 = .ok (.ifCond .ne 6, 3) := dk_154 0 6 (dk_at dksX10_prize_0 5 rfl rfl)
theorem dX10_prize_8 : decode cX10_prize 8 = .ok (.bipush (-2), 2) := dk_16 254 (dk_at dksX10_prize_0 8 rfl rfl)
theorem dX10_prize_10 : decode cX10_prize 10 = .ok (.ireturn, 1) := dk_172 (dk_at dksX10_prize_0 10 rfl rfl)
theorem dX10_prize_11 : decode cX10_prize 11 = .ok (.aload_n 0, 1) := dk_42 (dk_at dksX10_prize_0 11 rfl rfl)
theorem dX10_prize_12 : decode cX10_prize 12 = .ok (.iload_n 1, 1) := dk_27 (dk_at dksX10_prize_0 12 rfl rfl)
theorem dX10_prize_13 : decode cX10_prize 13 = .ok (.invokevirtual 482, 3) := dk_182 1 226 (dk_at dksX10_prize_0 13 rfl rfl)
theorem dX10_prize_16 : decode cX10_prize 16 = .ok (.istore_n 2, 1) := dk_61 (dk_at dksX10_prize_0 16 rfl rfl)
theorem dX10_prize_17 : decode cX10_prize 17 = .ok (.iload_n 2, 1) := dk_28 (dk_at dksX10_prize_0 17 rfl rfl)
theorem dX10_prize_18 : decode cX10_prize 18 = .ok (.ifCond .ne 7, 3) := dk_154 0 7 (dk_at dksX10_prize_0 18 rfl rfl)
theorem dX10_prize_21 : decode cX10_prize 21 = .ok (.iconst (-1), 1) := dk_2 (dk_at dksX10_prize_0 21 rfl rfl)
theorem dX10_prize_22 : decode cX10_prize 22 = .ok (.goto 16, 3) := dk_167 0 16 (dk_at dksX10_prize_1 0 rfl rfl)
theorem dX10_prize_25 : decode cX10_prize 25 = .ok (.aload_n 0, 1) := dk_42 (dk_at dksX10_prize_1 3 rfl rfl)
theorem dX10_prize_26 : decode cX10_prize 26 = .ok (.getfield 9, 3) := dk_180 0 9 (dk_at dksX10_prize_1 4 rfl rfl)
theorem dX10_prize_29 : decode cX10_prize 29 = .ok (.bipush 10, 2) := dk_16 10 (dk_at dksX10_prize_1 7 rfl rfl)
theorem dX10_prize_31 : decode cX10_prize 31 = .ok (.iaload, 1) := dk_46 (dk_at dksX10_prize_1 9 rfl rfl)
theorem dX10_prize_32 : decode cX10_prize 32 = .ok (.iload_n 2, 1) := dk_28 (dk_at dksX10_prize_1 10 rfl rfl)
theorem dX10_prize_33 : decode cX10_prize 33 = .ok (.iadd, 1) := dk_96 (dk_at dksX10_prize_1 11 rfl rfl)
theorem dX10_prize_34 : decode cX10_prize 34 = .ok (.iconst 1, 1) := dk_4 (dk_at dksX10_prize_1 12 rfl rfl)
theorem dX10_prize_35 : decode cX10_prize 35 = .ok (.isub, 1) := dk_100 (dk_at dksX10_prize_1 13 rfl rfl)
theorem dX10_prize_36 : decode cX10_prize 36 = .ok (.iload_n 2, 1) := dk_28 (dk_at dksX10_prize_1 14 rfl rfl)
theorem dX10_prize_37 : decode cX10_prize 37 = .ok (.idiv, 1) := dk_108 (dk_at dksX10_prize_1 15 rfl rfl)
theorem dX10_prize_38 : decode cX10_prize 38 = .ok (.ireturn, 1) := dk_172 (dk_at dksX10_prize_1 16 rfl rfl)
abbrev cX10_counted : ByteArray := prog_16_method_133_code
def yX10_counted : MethodName := ⟨RX10, "counted", "(I)I"⟩
def dkwX10_counted_0 : List UInt8 := [42, 27, 182, 1, 241, 61, 28, 156, 0, 5, 28, 172, 42, 27, 3, 182, 1, 244, 42, 180, 1, 229, 172]
abbrev dktX10_counted_0 : List UInt8 := dkwX10_counted_0 ++ []
theorem dksX10_counted_0 : cX10_counted.data.toList.drop 0 = dktX10_counted_0 := by decide +kernel
theorem dX10_counted_0 : decode cX10_counted 0 = .ok (.aload_n 0, 1) := dk_42 (dk_at dksX10_counted_0 0 rfl rfl)
theorem dX10_counted_1 : decode cX10_counted 1 = .ok (.iload_n 1, 1) := dk_27 (dk_at dksX10_counted_0 1 rfl rfl)
theorem dX10_counted_2 : decode cX10_counted 2 = .ok (.invokevirtual 497, 3) := dk_182 1 241 (dk_at dksX10_counted_0 2 rfl rfl)
theorem dX10_counted_5 : decode cX10_counted 5 = .ok (.istore_n 2, 1) := dk_61 (dk_at dksX10_counted_0 5 rfl rfl)
theorem dX10_counted_6 : decode cX10_counted 6 = .ok (.iload_n 2, 1) := dk_28 (dk_at dksX10_counted_0 6 rfl rfl)
theorem dX10_counted_7 : decode cX10_counted 7 = .ok (.ifCond .ge 5, 3) := dk_156 0 5 (dk_at dksX10_counted_0 7 rfl rfl)
theorem dX10_counted_10 : decode cX10_counted 10 = .ok (.iload_n 2, 1) := dk_28 (dk_at dksX10_counted_0 10 rfl rfl)
theorem dX10_counted_11 : decode cX10_counted 11 = .ok (.ireturn, 1) := dk_172 (dk_at dksX10_counted_0 11 rfl rfl)
theorem dX10_counted_12 : decode cX10_counted 12 = .ok (.aload_n 0, 1) := dk_42 (dk_at dksX10_counted_0 12 rfl rfl)
theorem dX10_counted_13 : decode cX10_counted 13 = .ok (.iload_n 1, 1) := dk_27 (dk_at dksX10_counted_0 13 rfl rfl)
theorem dX10_counted_14 : decode cX10_counted 14 = .ok (.iconst 0, 1) := dk_3 (dk_at dksX10_counted_0 14 rfl rfl)
theorem dX10_counted_15 : decode cX10_counted 15 = .ok (.invokevirtual 500, 3) := dk_182 1 244 (dk_at dksX10_counted_0 15 rfl rfl)
theorem dX10_counted_18 : decode cX10_counted 18 = .ok (.aload_n 0, 1) := dk_42 (dk_at dksX10_counted_0 18 rfl rfl)
theorem dX10_counted_19 : decode cX10_counted 19 = .ok (.getfield 485, 3) := dk_180 1 229 (dk_at dksX10_counted_0 19 rfl rfl)
theorem dX10_counted_22 : decode cX10_counted 22 = .ok (.ireturn, 1) := dk_172 (dk_at dksX10_counted_0 22 rfl rfl)
abbrev cX10_asksBlows : ByteArray := prog_16_method_130_code
def yX10_asksBlows : MethodName := ⟨RX10, "asksBlows", "(I)I"⟩
def dkwX10_asksBlows_3 : List UInt8 := [28, 4, 96, 182, 1, 190, 182, 1, 22, 154, 0, 6, 16, 254, 172, 132, 2, 2, 167, 255, 212, 3, 172]
abbrev dktX10_asksBlows_3 : List UInt8 := dkwX10_asksBlows_3 ++ []
def dkwX10_asksBlows_2 : List UInt8 := [180, 0, 71, 27, 46, 162, 0, 40, 42, 42, 27, 28, 182, 1, 190, 182, 1, 44, 153, 0, 18, 42, 42, 27]
abbrev dktX10_asksBlows_2 : List UInt8 := dkwX10_asksBlows_2 ++ dktX10_asksBlows_3
def dkwX10_asksBlows_1 : List UInt8 := [160, 0, 6, 16, 250, 172, 42, 180, 0, 71, 27, 46, 5, 112, 153, 0, 6, 16, 254, 172, 3, 61, 28, 42]
abbrev dktX10_asksBlows_1 : List UInt8 := dkwX10_asksBlows_1 ++ dktX10_asksBlows_2
def dkwX10_asksBlows_0 : List UInt8 := [27, 184, 1, 187, 153, 0, 10, 42, 182, 1, 26, 154, 0, 6, 16, 254, 172, 42, 180, 0, 71, 27, 46, 2]
abbrev dktX10_asksBlows_0 : List UInt8 := dkwX10_asksBlows_0 ++ dktX10_asksBlows_1
theorem dksX10_asksBlows_0 : cX10_asksBlows.data.toList.drop 0 = dktX10_asksBlows_0 := by decide +kernel
theorem dksX10_asksBlows_1 : cX10_asksBlows.data.toList.drop 24 = dktX10_asksBlows_1 := dk_seg dksX10_asksBlows_0 24 rfl rfl
theorem dksX10_asksBlows_2 : cX10_asksBlows.data.toList.drop 48 = dktX10_asksBlows_2 := dk_seg dksX10_asksBlows_1 24 rfl rfl
theorem dksX10_asksBlows_3 : cX10_asksBlows.data.toList.drop 72 = dktX10_asksBlows_3 := dk_seg dksX10_asksBlows_2 24 rfl rfl
theorem dX10_asksBlows_0 : decode cX10_asksBlows 0 = .ok (.iload_n 1, 1) := dk_27 (dk_at dksX10_asksBlows_0 0 rfl rfl)
theorem dX10_asksBlows_1 : decode cX10_asksBlows 1 = .ok (.invokestatic 443, 3) := dk_184 1 187 (dk_at dksX10_asksBlows_0 1 rfl rfl)
theorem dX10_asksBlows_4 : decode cX10_asksBlows 4 = .ok (.ifCond .eq 10, 3) := dk_153 0 10 (dk_at dksX10_asksBlows_0 4 rfl rfl)
theorem dX10_asksBlows_7 : decode cX10_asksBlows 7 = .ok (.aload_n 0, 1) := dk_42 (dk_at dksX10_asksBlows_0 7 rfl rfl)
theorem dX10_asksBlows_8 : decode cX10_asksBlows 8 = .ok (.invokevirtual 282, 3) := dk_182 1 26 (dk_at dksX10_asksBlows_0 8 rfl rfl)
theorem dX10_asksBlows_11 : decode cX10_asksBlows 11 = .ok (.ifCond .ne 6, 3) := dk_154 0 6 (dk_at dksX10_asksBlows_0 11 rfl rfl)
theorem dX10_asksBlows_14 : decode cX10_asksBlows 14 = .ok (.bipush (-2), 2) := dk_16 254 (dk_at dksX10_asksBlows_0 14 rfl rfl)
theorem dX10_asksBlows_16 : decode cX10_asksBlows 16 = .ok (.ireturn, 1) := dk_172 (dk_at dksX10_asksBlows_0 16 rfl rfl)
theorem dX10_asksBlows_17 : decode cX10_asksBlows 17 = .ok (.aload_n 0, 1) := dk_42 (dk_at dksX10_asksBlows_0 17 rfl rfl)
theorem dX10_asksBlows_18 : decode cX10_asksBlows 18 = .ok (.getfield 71, 3) := dk_180 0 71 (dk_at dksX10_asksBlows_0 18 rfl rfl)
theorem dX10_asksBlows_21 : decode cX10_asksBlows 21 = .ok (.iload_n 1, 1) := dk_27 (dk_at dksX10_asksBlows_0 21 rfl rfl)
theorem dX10_asksBlows_22 : decode cX10_asksBlows 22 = .ok (.iaload, 1) := dk_46 (dk_at dksX10_asksBlows_0 22 rfl rfl)
theorem dX10_asksBlows_23 : decode cX10_asksBlows 23 = .ok (.iconst (-1), 1) := dk_2 (dk_at dksX10_asksBlows_0 23 rfl rfl)
theorem dX10_asksBlows_24 : decode cX10_asksBlows 24 = .ok (.if_icmp .ne 6, 3) := dk_160 0 6 (dk_at dksX10_asksBlows_1 0 rfl rfl)
theorem dX10_asksBlows_27 : decode cX10_asksBlows 27 = .ok (.bipush (-6), 2) := dk_16 250 (dk_at dksX10_asksBlows_1 3 rfl rfl)
theorem dX10_asksBlows_29 : decode cX10_asksBlows 29 = .ok (.ireturn, 1) := dk_172 (dk_at dksX10_asksBlows_1 5 rfl rfl)
theorem dX10_asksBlows_30 : decode cX10_asksBlows 30 = .ok (.aload_n 0, 1) := dk_42 (dk_at dksX10_asksBlows_1 6 rfl rfl)
theorem dX10_asksBlows_31 : decode cX10_asksBlows 31 = .ok (.getfield 71, 3) := dk_180 0 71 (dk_at dksX10_asksBlows_1 7 rfl rfl)
theorem dX10_asksBlows_34 : decode cX10_asksBlows 34 = .ok (.iload_n 1, 1) := dk_27 (dk_at dksX10_asksBlows_1 10 rfl rfl)
theorem dX10_asksBlows_35 : decode cX10_asksBlows 35 = .ok (.iaload, 1) := dk_46 (dk_at dksX10_asksBlows_1 11 rfl rfl)
theorem dX10_asksBlows_36 : decode cX10_asksBlows 36 = .ok (.iconst 2, 1) := dk_5 (dk_at dksX10_asksBlows_1 12 rfl rfl)
theorem dX10_asksBlows_37 : decode cX10_asksBlows 37 = .ok (.irem, 1) := dk_112 (dk_at dksX10_asksBlows_1 13 rfl rfl)
theorem dX10_asksBlows_38 : decode cX10_asksBlows 38 = .ok (.ifCond .eq 6, 3) := dk_153 0 6 (dk_at dksX10_asksBlows_1 14 rfl rfl)
theorem dX10_asksBlows_41 : decode cX10_asksBlows 41 = .ok (.bipush (-2), 2) := dk_16 254 (dk_at dksX10_asksBlows_1 17 rfl rfl)
theorem dX10_asksBlows_43 : decode cX10_asksBlows 43 = .ok (.ireturn, 1) := dk_172 (dk_at dksX10_asksBlows_1 19 rfl rfl)
theorem dX10_asksBlows_44 : decode cX10_asksBlows 44 = .ok (.iconst 0, 1) := dk_3 (dk_at dksX10_asksBlows_1 20 rfl rfl)
theorem dX10_asksBlows_45 : decode cX10_asksBlows 45 = .ok (.istore_n 2, 1) := dk_61 (dk_at dksX10_asksBlows_1 21 rfl rfl)
theorem dX10_asksBlows_46 : decode cX10_asksBlows 46 = .ok (.iload_n 2, 1) := dk_28 (dk_at dksX10_asksBlows_1 22 rfl rfl)
theorem dX10_asksBlows_47 : decode cX10_asksBlows 47 = .ok (.aload_n 0, 1) := dk_42 (dk_at dksX10_asksBlows_1 23 rfl rfl)
theorem dX10_asksBlows_48 : decode cX10_asksBlows 48 = .ok (.getfield 71, 3) := dk_180 0 71 (dk_at dksX10_asksBlows_2 0 rfl rfl)
theorem dX10_asksBlows_51 : decode cX10_asksBlows 51 = .ok (.iload_n 1, 1) := dk_27 (dk_at dksX10_asksBlows_2 3 rfl rfl)
theorem dX10_asksBlows_52 : decode cX10_asksBlows 52 = .ok (.iaload, 1) := dk_46 (dk_at dksX10_asksBlows_2 4 rfl rfl)
theorem dX10_asksBlows_53 : decode cX10_asksBlows 53 = .ok (.if_icmp .ge 40, 3) := dk_162 0 40 (dk_at dksX10_asksBlows_2 5 rfl rfl)
theorem dX10_asksBlows_56 : decode cX10_asksBlows 56 = .ok (.aload_n 0, 1) := dk_42 (dk_at dksX10_asksBlows_2 8 rfl rfl)
theorem dX10_asksBlows_57 : decode cX10_asksBlows 57 = .ok (.aload_n 0, 1) := dk_42 (dk_at dksX10_asksBlows_2 9 rfl rfl)
theorem dX10_asksBlows_58 : decode cX10_asksBlows 58 = .ok (.iload_n 1, 1) := dk_27 (dk_at dksX10_asksBlows_2 10 rfl rfl)
theorem dX10_asksBlows_59 : decode cX10_asksBlows 59 = .ok (.iload_n 2, 1) := dk_28 (dk_at dksX10_asksBlows_2 11 rfl rfl)
theorem dX10_asksBlows_60 : decode cX10_asksBlows 60 = .ok (.invokevirtual 446, 3) := dk_182 1 190 (dk_at dksX10_asksBlows_2 12 rfl rfl)
theorem dX10_asksBlows_63 : decode cX10_asksBlows 63 = .ok (.invokevirtual 300, 3) := dk_182 1 44 (dk_at dksX10_asksBlows_2 15 rfl rfl)
theorem dX10_asksBlows_66 : decode cX10_asksBlows 66 = .ok (.ifCond .eq 18, 3) := dk_153 0 18 (dk_at dksX10_asksBlows_2 18 rfl rfl)
theorem dX10_asksBlows_69 : decode cX10_asksBlows 69 = .ok (.aload_n 0, 1) := dk_42 (dk_at dksX10_asksBlows_2 21 rfl rfl)
theorem dX10_asksBlows_70 : decode cX10_asksBlows 70 = .ok (.aload_n 0, 1) := dk_42 (dk_at dksX10_asksBlows_2 22 rfl rfl)
theorem dX10_asksBlows_71 : decode cX10_asksBlows 71 = .ok (.iload_n 1, 1) := dk_27 (dk_at dksX10_asksBlows_2 23 rfl rfl)
theorem dX10_asksBlows_72 : decode cX10_asksBlows 72 = .ok (.iload_n 2, 1) := dk_28 (dk_at dksX10_asksBlows_3 0 rfl rfl)
theorem dX10_asksBlows_73 : decode cX10_asksBlows 73 = .ok (.iconst 1, 1) := dk_4 (dk_at dksX10_asksBlows_3 1 rfl rfl)
theorem dX10_asksBlows_74 : decode cX10_asksBlows 74 = .ok (.iadd, 1) := dk_96 (dk_at dksX10_asksBlows_3 2 rfl rfl)
theorem dX10_asksBlows_75 : decode cX10_asksBlows 75 = .ok (.invokevirtual 446, 3) := dk_182 1 190 (dk_at dksX10_asksBlows_3 3 rfl rfl)
theorem dX10_asksBlows_78 : decode cX10_asksBlows 78 = .ok (.invokevirtual 278, 3) := dk_182 1 22 (dk_at dksX10_asksBlows_3 6 rfl rfl)
theorem dX10_asksBlows_81 : decode cX10_asksBlows 81 = .ok (.ifCond .ne 6, 3) := dk_154 0 6 (dk_at dksX10_asksBlows_3 9 rfl rfl)
theorem dX10_asksBlows_84 : decode cX10_asksBlows 84 = .ok (.bipush (-2), 2) := dk_16 254 (dk_at dksX10_asksBlows_3 12 rfl rfl)
theorem dX10_asksBlows_86 : decode cX10_asksBlows 86 = .ok (.ireturn, 1) := dk_172 (dk_at dksX10_asksBlows_3 14 rfl rfl)
theorem dX10_asksBlows_87 : decode cX10_asksBlows 87 = .ok (.iinc 2 2, 3) := dk_132 2 2 (dk_at dksX10_asksBlows_3 15 rfl rfl)
theorem dX10_asksBlows_90 : decode cX10_asksBlows 90 = .ok (.goto (-44), 3) := dk_167 255 212 (dk_at dksX10_asksBlows_3 18 rfl rfl)
theorem dX10_asksBlows_93 : decode cX10_asksBlows 93 = .ok (.iconst 0, 1) := dk_3 (dk_at dksX10_asksBlows_3 21 rfl rfl)
theorem dX10_asksBlows_94 : decode cX10_asksBlows 94 = .ok (.ireturn, 1) := dk_172 (dk_at dksX10_asksBlows_3 22 rfl rfl)
abbrev cX10_layBlows : ByteArray := prog_16_method_132_code
def yX10_layBlows : MethodName := ⟨RX10, "layBlows", "(II)V"⟩
def dkwX10_layBlows_3 : List UInt8 := [136, 28, 182, 1, 238, 132, 3, 2, 167, 255, 222, 177]
abbrev dktX10_layBlows_3 : List UInt8 := dkwX10_layBlows_3 ++ []
def dkwX10_layBlows_2 : List UInt8 := [180, 0, 71, 27, 46, 162, 0, 30, 42, 42, 27, 29, 182, 1, 190, 136, 42, 27, 29, 4, 96, 182, 1, 190]
abbrev dktX10_layBlows_2 : List UInt8 := dkwX10_layBlows_2 ++ dktX10_layBlows_3
def dkwX10_layBlows_1 : List UInt8 := [180, 0, 248, 162, 0, 16, 42, 180, 0, 68, 29, 3, 79, 132, 3, 1, 167, 255, 238, 3, 62, 29, 42]
abbrev dktX10_layBlows_1 : List UInt8 := dkwX10_layBlows_1 ++ dktX10_layBlows_2
def dkwX10_layBlows_0 : List UInt8 := [42, 182, 1, 29, 42, 3, 181, 1, 229, 42, 3, 181, 1, 232, 42, 3, 181, 1, 235, 3, 62, 29, 42]
abbrev dktX10_layBlows_0 : List UInt8 := dkwX10_layBlows_0 ++ dktX10_layBlows_1
theorem dksX10_layBlows_0 : cX10_layBlows.data.toList.drop 0 = dktX10_layBlows_0 := by decide +kernel
theorem dksX10_layBlows_1 : cX10_layBlows.data.toList.drop 23 = dktX10_layBlows_1 := dk_seg dksX10_layBlows_0 23 rfl rfl
theorem dksX10_layBlows_2 : cX10_layBlows.data.toList.drop 46 = dktX10_layBlows_2 := dk_seg dksX10_layBlows_1 23 rfl rfl
theorem dksX10_layBlows_3 : cX10_layBlows.data.toList.drop 70 = dktX10_layBlows_3 := dk_seg dksX10_layBlows_2 24 rfl rfl
theorem dX10_layBlows_0 : decode cX10_layBlows 0 = .ok (.aload_n 0, 1) := dk_42 (dk_at dksX10_layBlows_0 0 rfl rfl)
theorem dX10_layBlows_1 : decode cX10_layBlows 1 = .ok (.invokevirtual 285, 3) := dk_182 1 29 (dk_at dksX10_layBlows_0 1 rfl rfl)
theorem dX10_layBlows_4 : decode cX10_layBlows 4 = .ok (.aload_n 0, 1) := dk_42 (dk_at dksX10_layBlows_0 4 rfl rfl)
theorem dX10_layBlows_5 : decode cX10_layBlows 5 = .ok (.iconst 0, 1) := dk_3 (dk_at dksX10_layBlows_0 5 rfl rfl)
theorem dX10_layBlows_6 : decode cX10_layBlows 6 = .ok (.putfield 485, 3) := dk_181 1 229 (dk_at dksX10_layBlows_0 6 rfl rfl)
theorem dX10_layBlows_9 : decode cX10_layBlows 9 = .ok (.aload_n 0, 1) := dk_42 (dk_at dksX10_layBlows_0 9 rfl rfl)
theorem dX10_layBlows_10 : decode cX10_layBlows 10 = .ok (.iconst 0, 1) := dk_3 (dk_at dksX10_layBlows_0 10 rfl rfl)
theorem dX10_layBlows_11 : decode cX10_layBlows 11 = .ok (.putfield 488, 3) := dk_181 1 232 (dk_at dksX10_layBlows_0 11 rfl rfl)
theorem dX10_layBlows_14 : decode cX10_layBlows 14 = .ok (.aload_n 0, 1) := dk_42 (dk_at dksX10_layBlows_0 14 rfl rfl)
theorem dX10_layBlows_15 : decode cX10_layBlows 15 = .ok (.iconst 0, 1) := dk_3 (dk_at dksX10_layBlows_0 15 rfl rfl)
theorem dX10_layBlows_16 : decode cX10_layBlows 16 = .ok (.putfield 491, 3) := dk_181 1 235 (dk_at dksX10_layBlows_0 16 rfl rfl)
theorem dX10_layBlows_19 : decode cX10_layBlows 19 = .ok (.iconst 0, 1) := dk_3 (dk_at dksX10_layBlows_0 19 rfl rfl)
theorem dX10_layBlows_20 : decode cX10_layBlows 20 = .ok (.istore_n 3, 1) := dk_62 (dk_at dksX10_layBlows_0 20 rfl rfl)
theorem dX10_layBlows_21 : decode cX10_layBlows 21 = .ok (.iload_n 3, 1) := dk_29 (dk_at dksX10_layBlows_0 21 rfl rfl)
theorem dX10_layBlows_22 : decode cX10_layBlows 22 = .ok (.aload_n 0, 1) := dk_42 (dk_at dksX10_layBlows_0 22 rfl rfl)
theorem dX10_layBlows_23 : decode cX10_layBlows 23 = .ok (.getfield 248, 3) := dk_180 0 248 (dk_at dksX10_layBlows_1 0 rfl rfl)
theorem dX10_layBlows_26 : decode cX10_layBlows 26 = .ok (.if_icmp .ge 16, 3) := dk_162 0 16 (dk_at dksX10_layBlows_1 3 rfl rfl)
theorem dX10_layBlows_29 : decode cX10_layBlows 29 = .ok (.aload_n 0, 1) := dk_42 (dk_at dksX10_layBlows_1 6 rfl rfl)
theorem dX10_layBlows_30 : decode cX10_layBlows 30 = .ok (.getfield 68, 3) := dk_180 0 68 (dk_at dksX10_layBlows_1 7 rfl rfl)
theorem dX10_layBlows_33 : decode cX10_layBlows 33 = .ok (.iload_n 3, 1) := dk_29 (dk_at dksX10_layBlows_1 10 rfl rfl)
theorem dX10_layBlows_34 : decode cX10_layBlows 34 = .ok (.iconst 0, 1) := dk_3 (dk_at dksX10_layBlows_1 11 rfl rfl)
theorem dX10_layBlows_35 : decode cX10_layBlows 35 = .ok (.iastore, 1) := dk_79 (dk_at dksX10_layBlows_1 12 rfl rfl)
theorem dX10_layBlows_36 : decode cX10_layBlows 36 = .ok (.iinc 3 1, 3) := dk_132 3 1 (dk_at dksX10_layBlows_1 13 rfl rfl)
theorem dX10_layBlows_39 : decode cX10_layBlows 39 = .ok (.goto (-18), 3) := dk_167 255 238 (dk_at dksX10_layBlows_1 16 rfl rfl)
theorem dX10_layBlows_42 : decode cX10_layBlows 42 = .ok (.iconst 0, 1) := dk_3 (dk_at dksX10_layBlows_1 19 rfl rfl)
theorem dX10_layBlows_43 : decode cX10_layBlows 43 = .ok (.istore_n 3, 1) := dk_62 (dk_at dksX10_layBlows_1 20 rfl rfl)
theorem dX10_layBlows_44 : decode cX10_layBlows 44 = .ok (.iload_n 3, 1) := dk_29 (dk_at dksX10_layBlows_1 21 rfl rfl)
theorem dX10_layBlows_45 : decode cX10_layBlows 45 = .ok (.aload_n 0, 1) := dk_42 (dk_at dksX10_layBlows_1 22 rfl rfl)
theorem dX10_layBlows_46 : decode cX10_layBlows 46 = .ok (.getfield 71, 3) := dk_180 0 71 (dk_at dksX10_layBlows_2 0 rfl rfl)
theorem dX10_layBlows_49 : decode cX10_layBlows 49 = .ok (.iload_n 1, 1) := dk_27 (dk_at dksX10_layBlows_2 3 rfl rfl)
theorem dX10_layBlows_50 : decode cX10_layBlows 50 = .ok (.iaload, 1) := dk_46 (dk_at dksX10_layBlows_2 4 rfl rfl)
theorem dX10_layBlows_51 : decode cX10_layBlows 51 = .ok (.if_icmp .ge 30, 3) := dk_162 0 30 (dk_at dksX10_layBlows_2 5 rfl rfl)
theorem dX10_layBlows_54 : decode cX10_layBlows 54 = .ok (.aload_n 0, 1) := dk_42 (dk_at dksX10_layBlows_2 8 rfl rfl)
theorem dX10_layBlows_55 : decode cX10_layBlows 55 = .ok (.aload_n 0, 1) := dk_42 (dk_at dksX10_layBlows_2 9 rfl rfl)
theorem dX10_layBlows_56 : decode cX10_layBlows 56 = .ok (.iload_n 1, 1) := dk_27 (dk_at dksX10_layBlows_2 10 rfl rfl)
theorem dX10_layBlows_57 : decode cX10_layBlows 57 = .ok (.iload_n 3, 1) := dk_29 (dk_at dksX10_layBlows_2 11 rfl rfl)
theorem dX10_layBlows_58 : decode cX10_layBlows 58 = .ok (.invokevirtual 446, 3) := dk_182 1 190 (dk_at dksX10_layBlows_2 12 rfl rfl)
theorem dX10_layBlows_61 : decode cX10_layBlows 61 = .ok (.l2i, 1) := dk_136 (dk_at dksX10_layBlows_2 15 rfl rfl)
theorem dX10_layBlows_62 : decode cX10_layBlows 62 = .ok (.aload_n 0, 1) := dk_42 (dk_at dksX10_layBlows_2 16 rfl rfl)
theorem dX10_layBlows_63 : decode cX10_layBlows 63 = .ok (.iload_n 1, 1) := dk_27 (dk_at dksX10_layBlows_2 17 rfl rfl)
theorem dX10_layBlows_64 : decode cX10_layBlows 64 = .ok (.iload_n 3, 1) := dk_29 (dk_at dksX10_layBlows_2 18 rfl rfl)
theorem dX10_layBlows_65 : decode cX10_layBlows 65 = .ok (.iconst 1, 1) := dk_4 (dk_at dksX10_layBlows_2 19 rfl rfl)
theorem dX10_layBlows_66 : decode cX10_layBlows 66 = .ok (.iadd, 1) := dk_96 (dk_at dksX10_layBlows_2 20 rfl rfl)
theorem dX10_layBlows_67 : decode cX10_layBlows 67 = .ok (.invokevirtual 446, 3) := dk_182 1 190 (dk_at dksX10_layBlows_2 21 rfl rfl)
theorem dX10_layBlows_70 : decode cX10_layBlows 70 = .ok (.l2i, 1) := dk_136 (dk_at dksX10_layBlows_3 0 rfl rfl)
theorem dX10_layBlows_71 : decode cX10_layBlows 71 = .ok (.iload_n 2, 1) := dk_28 (dk_at dksX10_layBlows_3 1 rfl rfl)
theorem dX10_layBlows_72 : decode cX10_layBlows 72 = .ok (.invokevirtual 494, 3) := dk_182 1 238 (dk_at dksX10_layBlows_3 2 rfl rfl)
theorem dX10_layBlows_75 : decode cX10_layBlows 75 = .ok (.iinc 3 2, 3) := dk_132 3 2 (dk_at dksX10_layBlows_3 5 rfl rfl)
theorem dX10_layBlows_78 : decode cX10_layBlows 78 = .ok (.goto (-34), 3) := dk_167 255 222 (dk_at dksX10_layBlows_3 8 rfl rfl)
theorem dX10_layBlows_81 : decode cX10_layBlows 81 = .ok (.return_, 1) := dk_177 (dk_at dksX10_layBlows_3 11 rfl rfl)
abbrev cX10_strike : ByteArray := prog_16_method_131_code
def yX10_strike : MethodName := ⟨RX10, "strike", "(III)V"⟩
def dkwX10_strike_7 : List UInt8 := [132, 4, 1, 167, 255, 92, 177]
abbrev dktX10_strike_7 : List UInt8 := dkwX10_strike_7 ++ []
def dkwX10_strike_6 : List UInt8 := [28, 42, 180, 0, 37, 21, 4, 46, 100, 29, 162, 0, 7, 4, 167, 0, 4, 3, 96, 181, 1, 235, 177]
abbrev dktX10_strike_6 : List UInt8 := dkwX10_strike_6 ++ dktX10_strike_7
def dkwX10_strike_5 : List UInt8 := [181, 1, 229, 42, 89, 180, 1, 232, 42, 21, 4, 5, 182, 1, 35, 96, 181, 1, 232, 42, 89, 180, 1, 235]
abbrev dktX10_strike_5 : List UInt8 := dkwX10_strike_5 ++ dktX10_strike_6
def dkwX10_strike_4 : List UInt8 := [21, 4, 92, 46, 21, 5, 128, 79, 42, 89, 180, 1, 229, 4, 42, 21, 4, 5, 182, 1, 35, 100, 96]
abbrev dktX10_strike_4 : List UInt8 := dkwX10_strike_4 ++ dktX10_strike_5
def dkwX10_strike_3 : List UInt8 := [153, 0, 93, 42, 180, 0, 68, 21, 4, 46, 21, 5, 126, 153, 0, 6, 167, 0, 77, 42, 180, 0, 68]
abbrev dktX10_strike_3 : List UInt8 := dkwX10_strike_3 ++ dktX10_strike_4
def dkwX10_strike_2 : List UInt8 := [153, 0, 117, 28, 133, 42, 180, 0, 37, 21, 4, 46, 133, 42, 180, 0, 40, 21, 4, 46, 133, 184, 0, 88]
abbrev dktX10_strike_2 : List UInt8 := dkwX10_strike_2 ++ dktX10_strike_3
def dkwX10_strike_1 : List UInt8 := [167, 0, 19, 42, 21, 4, 4, 182, 1, 35, 27, 160, 0, 7, 5, 167, 0, 4, 3, 54, 5, 21, 5]
abbrev dktX10_strike_1 : List UInt8 := dkwX10_strike_1 ++ dktX10_strike_2
def dkwX10_strike_0 : List UInt8 := [3, 54, 4, 21, 4, 42, 180, 0, 248, 162, 0, 161, 42, 21, 4, 3, 182, 1, 35, 27, 160, 0, 7, 4]
abbrev dktX10_strike_0 : List UInt8 := dkwX10_strike_0 ++ dktX10_strike_1
theorem dksX10_strike_0 : cX10_strike.data.toList.drop 0 = dktX10_strike_0 := by decide +kernel
theorem dksX10_strike_1 : cX10_strike.data.toList.drop 24 = dktX10_strike_1 := dk_seg dksX10_strike_0 24 rfl rfl
theorem dksX10_strike_2 : cX10_strike.data.toList.drop 47 = dktX10_strike_2 := dk_seg dksX10_strike_1 23 rfl rfl
theorem dksX10_strike_3 : cX10_strike.data.toList.drop 71 = dktX10_strike_3 := dk_seg dksX10_strike_2 24 rfl rfl
theorem dksX10_strike_4 : cX10_strike.data.toList.drop 94 = dktX10_strike_4 := dk_seg dksX10_strike_3 23 rfl rfl
theorem dksX10_strike_5 : cX10_strike.data.toList.drop 117 = dktX10_strike_5 := dk_seg dksX10_strike_4 23 rfl rfl
theorem dksX10_strike_6 : cX10_strike.data.toList.drop 141 = dktX10_strike_6 := dk_seg dksX10_strike_5 24 rfl rfl
theorem dksX10_strike_7 : cX10_strike.data.toList.drop 164 = dktX10_strike_7 := dk_seg dksX10_strike_6 23 rfl rfl
theorem dX10_strike_0 : decode cX10_strike 0 = .ok (.iconst 0, 1) := dk_3 (dk_at dksX10_strike_0 0 rfl rfl)
theorem dX10_strike_1 : decode cX10_strike 1 = .ok (.istore 4, 2) := dk_54 4 (dk_at dksX10_strike_0 1 rfl rfl)
theorem dX10_strike_3 : decode cX10_strike 3 = .ok (.iload 4, 2) := dk_21 4 (dk_at dksX10_strike_0 3 rfl rfl)
theorem dX10_strike_5 : decode cX10_strike 5 = .ok (.aload_n 0, 1) := dk_42 (dk_at dksX10_strike_0 5 rfl rfl)
theorem dX10_strike_6 : decode cX10_strike 6 = .ok (.getfield 248, 3) := dk_180 0 248 (dk_at dksX10_strike_0 6 rfl rfl)
theorem dX10_strike_9 : decode cX10_strike 9 = .ok (.if_icmp .ge 161, 3) := dk_162 0 161 (dk_at dksX10_strike_0 9 rfl rfl)
theorem dX10_strike_12 : decode cX10_strike 12 = .ok (.aload_n 0, 1) := dk_42 (dk_at dksX10_strike_0 12 rfl rfl)
theorem dX10_strike_13 : decode cX10_strike 13 = .ok (.iload 4, 2) := dk_21 4 (dk_at dksX10_strike_0 13 rfl rfl)
theorem dX10_strike_15 : decode cX10_strike 15 = .ok (.iconst 0, 1) := dk_3 (dk_at dksX10_strike_0 15 rfl rfl)
theorem dX10_strike_16 : decode cX10_strike 16 = .ok (.invokevirtual 291, 3) := dk_182 1 35 (dk_at dksX10_strike_0 16 rfl rfl)
theorem dX10_strike_19 : decode cX10_strike 19 = .ok (.iload_n 1, 1) := dk_27 (dk_at dksX10_strike_0 19 rfl rfl)
theorem dX10_strike_20 : decode cX10_strike 20 = .ok (.if_icmp .ne 7, 3) := dk_160 0 7 (dk_at dksX10_strike_0 20 rfl rfl)
theorem dX10_strike_23 : decode cX10_strike 23 = .ok (.iconst 1, 1) := dk_4 (dk_at dksX10_strike_0 23 rfl rfl)
theorem dX10_strike_24 : decode cX10_strike 24 = .ok (.goto 19, 3) := dk_167 0 19 (dk_at dksX10_strike_1 0 rfl rfl)
theorem dX10_strike_27 : decode cX10_strike 27 = .ok (.aload_n 0, 1) := dk_42 (dk_at dksX10_strike_1 3 rfl rfl)
theorem dX10_strike_28 : decode cX10_strike 28 = .ok (.iload 4, 2) := dk_21 4 (dk_at dksX10_strike_1 4 rfl rfl)
theorem dX10_strike_30 : decode cX10_strike 30 = .ok (.iconst 1, 1) := dk_4 (dk_at dksX10_strike_1 6 rfl rfl)
theorem dX10_strike_31 : decode cX10_strike 31 = .ok (.invokevirtual 291, 3) := dk_182 1 35 (dk_at dksX10_strike_1 7 rfl rfl)
theorem dX10_strike_34 : decode cX10_strike 34 = .ok (.iload_n 1, 1) := dk_27 (dk_at dksX10_strike_1 10 rfl rfl)
theorem dX10_strike_35 : decode cX10_strike 35 = .ok (.if_icmp .ne 7, 3) := dk_160 0 7 (dk_at dksX10_strike_1 11 rfl rfl)
theorem dX10_strike_38 : decode cX10_strike 38 = .ok (.iconst 2, 1) := dk_5 (dk_at dksX10_strike_1 14 rfl rfl)
theorem dX10_strike_39 : decode cX10_strike 39 = .ok (.goto 4, 3) := dk_167 0 4 (dk_at dksX10_strike_1 15 rfl rfl)
theorem dX10_strike_42 : decode cX10_strike 42 = .ok (.iconst 0, 1) := dk_3 (dk_at dksX10_strike_1 18 rfl rfl)
theorem dX10_strike_43 : decode cX10_strike 43 = .ok (.istore 5, 2) := dk_54 5 (dk_at dksX10_strike_1 19 rfl rfl)
theorem dX10_strike_45 : decode cX10_strike 45 = .ok (.iload 5, 2) := dk_21 5 (dk_at dksX10_strike_1 21 rfl rfl)
theorem dX10_strike_47 : decode cX10_strike 47 = .ok (.ifCond .eq 117, 3) := dk_153 0 117 (dk_at dksX10_strike_2 0 rfl rfl)
theorem dX10_strike_50 : decode cX10_strike 50 = .ok (.iload_n 2, 1) := dk_28 (dk_at dksX10_strike_2 3 rfl rfl)
theorem dX10_strike_51 : decode cX10_strike 51 = .ok (.i2l, 1) := dk_133 (dk_at dksX10_strike_2 4 rfl rfl)
theorem dX10_strike_52 : decode cX10_strike 52 = .ok (.aload_n 0, 1) := dk_42 (dk_at dksX10_strike_2 5 rfl rfl)
theorem dX10_strike_53 : decode cX10_strike 53 = .ok (.getfield 37, 3) := dk_180 0 37 (dk_at dksX10_strike_2 6 rfl rfl)
theorem dX10_strike_56 : decode cX10_strike 56 = .ok (.iload 4, 2) := dk_21 4 (dk_at dksX10_strike_2 9 rfl rfl)
theorem dX10_strike_58 : decode cX10_strike 58 = .ok (.iaload, 1) := dk_46 (dk_at dksX10_strike_2 11 rfl rfl)
theorem dX10_strike_59 : decode cX10_strike 59 = .ok (.i2l, 1) := dk_133 (dk_at dksX10_strike_2 12 rfl rfl)
theorem dX10_strike_60 : decode cX10_strike 60 = .ok (.aload_n 0, 1) := dk_42 (dk_at dksX10_strike_2 13 rfl rfl)
theorem dX10_strike_61 : decode cX10_strike 61 = .ok (.getfield 40, 3) := dk_180 0 40 (dk_at dksX10_strike_2 14 rfl rfl)
theorem dX10_strike_64 : decode cX10_strike 64 = .ok (.iload 4, 2) := dk_21 4 (dk_at dksX10_strike_2 17 rfl rfl)
theorem dX10_strike_66 : decode cX10_strike 66 = .ok (.iaload, 1) := dk_46 (dk_at dksX10_strike_2 19 rfl rfl)
theorem dX10_strike_67 : decode cX10_strike 67 = .ok (.i2l, 1) := dk_133 (dk_at dksX10_strike_2 20 rfl rfl)
theorem dX10_strike_68 : decode cX10_strike 68 = .ok (.invokestatic 88, 3) := dk_184 0 88 (dk_at dksX10_strike_2 21 rfl rfl)
theorem dX10_strike_71 : decode cX10_strike 71 = .ok (.ifCond .eq 93, 3) := dk_153 0 93 (dk_at dksX10_strike_3 0 rfl rfl)
theorem dX10_strike_74 : decode cX10_strike 74 = .ok (.aload_n 0, 1) := dk_42 (dk_at dksX10_strike_3 3 rfl rfl)
theorem dX10_strike_75 : decode cX10_strike 75 = .ok (.getfield 68, 3) := dk_180 0 68 (dk_at dksX10_strike_3 4 rfl rfl)
theorem dX10_strike_78 : decode cX10_strike 78 = .ok (.iload 4, 2) := dk_21 4 (dk_at dksX10_strike_3 7 rfl rfl)
theorem dX10_strike_80 : decode cX10_strike 80 = .ok (.iaload, 1) := dk_46 (dk_at dksX10_strike_3 9 rfl rfl)
theorem dX10_strike_81 : decode cX10_strike 81 = .ok (.iload 5, 2) := dk_21 5 (dk_at dksX10_strike_3 10 rfl rfl)
theorem dX10_strike_83 : decode cX10_strike 83 = .ok (.iand, 1) := dk_126 (dk_at dksX10_strike_3 12 rfl rfl)
theorem dX10_strike_84 : decode cX10_strike 84 = .ok (.ifCond .eq 6, 3) := dk_153 0 6 (dk_at dksX10_strike_3 13 rfl rfl)
theorem dX10_strike_87 : decode cX10_strike 87 = .ok (.goto 77, 3) := dk_167 0 77 (dk_at dksX10_strike_3 16 rfl rfl)
theorem dX10_strike_90 : decode cX10_strike 90 = .ok (.aload_n 0, 1) := dk_42 (dk_at dksX10_strike_3 19 rfl rfl)
theorem dX10_strike_91 : decode cX10_strike 91 = .ok (.getfield 68, 3) := dk_180 0 68 (dk_at dksX10_strike_3 20 rfl rfl)
theorem dX10_strike_94 : decode cX10_strike 94 = .ok (.iload 4, 2) := dk_21 4 (dk_at dksX10_strike_4 0 rfl rfl)
theorem dX10_strike_96 : decode cX10_strike 96 = .ok (.dup2, 1) := dk_92 (dk_at dksX10_strike_4 2 rfl rfl)
theorem dX10_strike_97 : decode cX10_strike 97 = .ok (.iaload, 1) := dk_46 (dk_at dksX10_strike_4 3 rfl rfl)
theorem dX10_strike_98 : decode cX10_strike 98 = .ok (.iload 5, 2) := dk_21 5 (dk_at dksX10_strike_4 4 rfl rfl)
theorem dX10_strike_100 : decode cX10_strike 100 = .ok (.ior, 1) := dk_128 (dk_at dksX10_strike_4 6 rfl rfl)
theorem dX10_strike_101 : decode cX10_strike 101 = .ok (.iastore, 1) := dk_79 (dk_at dksX10_strike_4 7 rfl rfl)
theorem dX10_strike_102 : decode cX10_strike 102 = .ok (.aload_n 0, 1) := dk_42 (dk_at dksX10_strike_4 8 rfl rfl)
theorem dX10_strike_103 : decode cX10_strike 103 = .ok (.dup, 1) := dk_89 (dk_at dksX10_strike_4 9 rfl rfl)
theorem dX10_strike_104 : decode cX10_strike 104 = .ok (.getfield 485, 3) := dk_180 1 229 (dk_at dksX10_strike_4 10 rfl rfl)
theorem dX10_strike_107 : decode cX10_strike 107 = .ok (.iconst 1, 1) := dk_4 (dk_at dksX10_strike_4 13 rfl rfl)
theorem dX10_strike_108 : decode cX10_strike 108 = .ok (.aload_n 0, 1) := dk_42 (dk_at dksX10_strike_4 14 rfl rfl)
theorem dX10_strike_109 : decode cX10_strike 109 = .ok (.iload 4, 2) := dk_21 4 (dk_at dksX10_strike_4 15 rfl rfl)
theorem dX10_strike_111 : decode cX10_strike 111 = .ok (.iconst 2, 1) := dk_5 (dk_at dksX10_strike_4 17 rfl rfl)
theorem dX10_strike_112 : decode cX10_strike 112 = .ok (.invokevirtual 291, 3) := dk_182 1 35 (dk_at dksX10_strike_4 18 rfl rfl)
theorem dX10_strike_115 : decode cX10_strike 115 = .ok (.isub, 1) := dk_100 (dk_at dksX10_strike_4 21 rfl rfl)
theorem dX10_strike_116 : decode cX10_strike 116 = .ok (.iadd, 1) := dk_96 (dk_at dksX10_strike_4 22 rfl rfl)
theorem dX10_strike_117 : decode cX10_strike 117 = .ok (.putfield 485, 3) := dk_181 1 229 (dk_at dksX10_strike_5 0 rfl rfl)
theorem dX10_strike_120 : decode cX10_strike 120 = .ok (.aload_n 0, 1) := dk_42 (dk_at dksX10_strike_5 3 rfl rfl)
theorem dX10_strike_121 : decode cX10_strike 121 = .ok (.dup, 1) := dk_89 (dk_at dksX10_strike_5 4 rfl rfl)
theorem dX10_strike_122 : decode cX10_strike 122 = .ok (.getfield 488, 3) := dk_180 1 232 (dk_at dksX10_strike_5 5 rfl rfl)
theorem dX10_strike_125 : decode cX10_strike 125 = .ok (.aload_n 0, 1) := dk_42 (dk_at dksX10_strike_5 8 rfl rfl)
theorem dX10_strike_126 : decode cX10_strike 126 = .ok (.iload 4, 2) := dk_21 4 (dk_at dksX10_strike_5 9 rfl rfl)
theorem dX10_strike_128 : decode cX10_strike 128 = .ok (.iconst 2, 1) := dk_5 (dk_at dksX10_strike_5 11 rfl rfl)
theorem dX10_strike_129 : decode cX10_strike 129 = .ok (.invokevirtual 291, 3) := dk_182 1 35 (dk_at dksX10_strike_5 12 rfl rfl)
theorem dX10_strike_132 : decode cX10_strike 132 = .ok (.iadd, 1) := dk_96 (dk_at dksX10_strike_5 15 rfl rfl)
theorem dX10_strike_133 : decode cX10_strike 133 = .ok (.putfield 488, 3) := dk_181 1 232 (dk_at dksX10_strike_5 16 rfl rfl)
theorem dX10_strike_136 : decode cX10_strike 136 = .ok (.aload_n 0, 1) := dk_42 (dk_at dksX10_strike_5 19 rfl rfl)
theorem dX10_strike_137 : decode cX10_strike 137 = .ok (.dup, 1) := dk_89 (dk_at dksX10_strike_5 20 rfl rfl)
theorem dX10_strike_138 : decode cX10_strike 138 = .ok (.getfield 491, 3) := dk_180 1 235 (dk_at dksX10_strike_5 21 rfl rfl)
theorem dX10_strike_141 : decode cX10_strike 141 = .ok (.iload_n 2, 1) := dk_28 (dk_at dksX10_strike_6 0 rfl rfl)
theorem dX10_strike_142 : decode cX10_strike 142 = .ok (.aload_n 0, 1) := dk_42 (dk_at dksX10_strike_6 1 rfl rfl)
theorem dX10_strike_143 : decode cX10_strike 143 = .ok (.getfield 37, 3) := dk_180 0 37 (dk_at dksX10_strike_6 2 rfl rfl)
theorem dX10_strike_146 : decode cX10_strike 146 = .ok (.iload 4, 2) := dk_21 4 (dk_at dksX10_strike_6 5 rfl rfl)
theorem dX10_strike_148 : decode cX10_strike 148 = .ok (.iaload, 1) := dk_46 (dk_at dksX10_strike_6 7 rfl rfl)
theorem dX10_strike_149 : decode cX10_strike 149 = .ok (.isub, 1) := dk_100 (dk_at dksX10_strike_6 8 rfl rfl)
theorem dX10_strike_150 : decode cX10_strike 150 = .ok (.iload_n 3, 1) := dk_29 (dk_at dksX10_strike_6 9 rfl rfl)
theorem dX10_strike_151 : decode cX10_strike 151 = .ok (.if_icmp .ge 7, 3) := dk_162 0 7 (dk_at dksX10_strike_6 10 rfl rfl)
theorem dX10_strike_154 : decode cX10_strike 154 = .ok (.iconst 1, 1) := dk_4 (dk_at dksX10_strike_6 13 rfl rfl)
theorem dX10_strike_155 : decode cX10_strike 155 = .ok (.goto 4, 3) := dk_167 0 4 (dk_at dksX10_strike_6 14 rfl rfl)
theorem dX10_strike_158 : decode cX10_strike 158 = .ok (.iconst 0, 1) := dk_3 (dk_at dksX10_strike_6 17 rfl rfl)
theorem dX10_strike_159 : decode cX10_strike 159 = .ok (.iadd, 1) := dk_96 (dk_at dksX10_strike_6 18 rfl rfl)
theorem dX10_strike_160 : decode cX10_strike 160 = .ok (.putfield 491, 3) := dk_181 1 235 (dk_at dksX10_strike_6 19 rfl rfl)
theorem dX10_strike_163 : decode cX10_strike 163 = .ok (.return_, 1) := dk_177 (dk_at dksX10_strike_6 22 rfl rfl)
theorem dX10_strike_164 : decode cX10_strike 164 = .ok (.iinc 4 1, 3) := dk_132 4 1 (dk_at dksX10_strike_7 0 rfl rfl)
theorem dX10_strike_167 : decode cX10_strike 167 = .ok (.goto (-164), 3) := dk_167 255 92 (dk_at dksX10_strike_7 3 rfl rfl)
theorem dX10_strike_170 : decode cX10_strike 170 = .ok (.return_, 1) := dk_177 (dk_at dksX10_strike_7 6 rfl rfl)
abbrev cX10_scored : ByteArray := prog_16_method_134_code
def yX10_scored : MethodName := ⟨RX10, "scored", "(I)I"⟩
def dkwX10_scored_1 : List UInt8 := [42, 180, 1, 229, 104, 16, 20, 42, 180, 1, 232, 104, 100, 172]
abbrev dktX10_scored_1 : List UInt8 := dkwX10_scored_1 ++ []
def dkwX10_scored_0 : List UInt8 := [42, 27, 182, 1, 241, 61, 28, 156, 0, 9, 17, 3, 232, 28, 104, 172, 42, 27, 3, 182, 1, 244, 16, 10]
abbrev dktX10_scored_0 : List UInt8 := dkwX10_scored_0 ++ dktX10_scored_1
theorem dksX10_scored_0 : cX10_scored.data.toList.drop 0 = dktX10_scored_0 := by decide +kernel
theorem dksX10_scored_1 : cX10_scored.data.toList.drop 24 = dktX10_scored_1 := dk_seg dksX10_scored_0 24 rfl rfl
theorem dX10_scored_0 : decode cX10_scored 0 = .ok (.aload_n 0, 1) := dk_42 (dk_at dksX10_scored_0 0 rfl rfl)
theorem dX10_scored_1 : decode cX10_scored 1 = .ok (.iload_n 1, 1) := dk_27 (dk_at dksX10_scored_0 1 rfl rfl)
theorem dX10_scored_2 : decode cX10_scored 2 = .ok (.invokevirtual 497, 3) := dk_182 1 241 (dk_at dksX10_scored_0 2 rfl rfl)
theorem dX10_scored_5 : decode cX10_scored 5 = .ok (.istore_n 2, 1) := dk_61 (dk_at dksX10_scored_0 5 rfl rfl)
theorem dX10_scored_6 : decode cX10_scored 6 = .ok (.iload_n 2, 1) := dk_28 (dk_at dksX10_scored_0 6 rfl rfl)
theorem dX10_scored_7 : decode cX10_scored 7 = .ok (.ifCond .ge 9, 3) := dk_156 0 9 (dk_at dksX10_scored_0 7 rfl rfl)
theorem dX10_scored_10 : decode cX10_scored 10 = .ok (.sipush 1000, 3) := dk_17 3 232 (dk_at dksX10_scored_0 10 rfl rfl)
theorem dX10_scored_13 : decode cX10_scored 13 = .ok (.iload_n 2, 1) := dk_28 (dk_at dksX10_scored_0 13 rfl rfl)
theorem dX10_scored_14 : decode cX10_scored 14 = .ok (.imul, 1) := dk_104 (dk_at dksX10_scored_0 14 rfl rfl)
theorem dX10_scored_15 : decode cX10_scored 15 = .ok (.ireturn, 1) := dk_172 (dk_at dksX10_scored_0 15 rfl rfl)
theorem dX10_scored_16 : decode cX10_scored 16 = .ok (.aload_n 0, 1) := dk_42 (dk_at dksX10_scored_0 16 rfl rfl)
theorem dX10_scored_17 : decode cX10_scored 17 = .ok (.iload_n 1, 1) := dk_27 (dk_at dksX10_scored_0 17 rfl rfl)
theorem dX10_scored_18 : decode cX10_scored 18 = .ok (.iconst 0, 1) := dk_3 (dk_at dksX10_scored_0 18 rfl rfl)
theorem dX10_scored_19 : decode cX10_scored 19 = .ok (.invokevirtual 500, 3) := dk_182 1 244 (dk_at dksX10_scored_0 19 rfl rfl)
theorem dX10_scored_22 : decode cX10_scored 22 = .ok (.bipush 10, 2) := dk_16 10 (dk_at dksX10_scored_0 22 rfl rfl)
theorem dX10_scored_24 : decode cX10_scored 24 = .ok (.aload_n 0, 1) := dk_42 (dk_at dksX10_scored_1 0 rfl rfl)
theorem dX10_scored_25 : decode cX10_scored 25 = .ok (.getfield 485, 3) := dk_180 1 229 (dk_at dksX10_scored_1 1 rfl rfl)
theorem dX10_scored_28 : decode cX10_scored 28 = .ok (.imul, 1) := dk_104 (dk_at dksX10_scored_1 4 rfl rfl)
theorem dX10_scored_29 : decode cX10_scored 29 = .ok (.bipush 20, 2) := dk_16 20 (dk_at dksX10_scored_1 5 rfl rfl)
theorem dX10_scored_31 : decode cX10_scored 31 = .ok (.aload_n 0, 1) := dk_42 (dk_at dksX10_scored_1 7 rfl rfl)
theorem dX10_scored_32 : decode cX10_scored 32 = .ok (.getfield 488, 3) := dk_180 1 232 (dk_at dksX10_scored_1 8 rfl rfl)
theorem dX10_scored_35 : decode cX10_scored 35 = .ok (.imul, 1) := dk_104 (dk_at dksX10_scored_1 11 rfl rfl)
theorem dX10_scored_36 : decode cX10_scored 36 = .ok (.isub, 1) := dk_100 (dk_at dksX10_scored_1 12 rfl rfl)
theorem dX10_scored_37 : decode cX10_scored 37 = .ok (.ireturn, 1) := dk_172 (dk_at dksX10_scored_1 13 rfl rfl)
abbrev cX10_early : ByteArray := prog_16_method_135_code
def yX10_early : MethodName := ⟨RX10, "early", "(II)I"⟩
def dkwX10_early_1 : List UInt8 := [156, 0, 5, 29, 172, 42, 27, 28, 182, 1, 244, 42, 180, 1, 235, 172]
abbrev dktX10_early_1 : List UInt8 := dkwX10_early_1 ++ []
def dkwX10_early_0 : List UInt8 := [28, 133, 9, 20, 1, 218, 184, 0, 88, 154, 0, 6, 16, 254, 172, 42, 27, 182, 1, 241, 62, 29]
abbrev dktX10_early_0 : List UInt8 := dkwX10_early_0 ++ dktX10_early_1
theorem dksX10_early_0 : cX10_early.data.toList.drop 0 = dktX10_early_0 := by decide +kernel
theorem dksX10_early_1 : cX10_early.data.toList.drop 22 = dktX10_early_1 := dk_seg dksX10_early_0 22 rfl rfl
theorem dX10_early_0 : decode cX10_early 0 = .ok (.iload_n 2, 1) := dk_28 (dk_at dksX10_early_0 0 rfl rfl)
theorem dX10_early_1 : decode cX10_early 1 = .ok (.i2l, 1) := dk_133 (dk_at dksX10_early_0 1 rfl rfl)
theorem dX10_early_2 : decode cX10_early 2 = .ok (.lconst 0, 1) := dk_9 (dk_at dksX10_early_0 2 rfl rfl)
theorem dX10_early_3 : decode cX10_early 3 = .ok (.ldc2_w 474, 3) := dk_20 1 218 (dk_at dksX10_early_0 3 rfl rfl)
theorem dX10_early_6 : decode cX10_early 6 = .ok (.invokestatic 88, 3) := dk_184 0 88 (dk_at dksX10_early_0 6 rfl rfl)
theorem dX10_early_9 : decode cX10_early 9 = .ok (.ifCond .ne 6, 3) := dk_154 0 6 (dk_at dksX10_early_0 9 rfl rfl)
theorem dX10_early_12 : decode cX10_early 12 = .ok (.bipush (-2), 2) := dk_16 254 (dk_at dksX10_early_0 12 rfl rfl)
theorem dX10_early_14 : decode cX10_early 14 = .ok (.ireturn, 1) := dk_172 (dk_at dksX10_early_0 14 rfl rfl)
theorem dX10_early_15 : decode cX10_early 15 = .ok (.aload_n 0, 1) := dk_42 (dk_at dksX10_early_0 15 rfl rfl)
theorem dX10_early_16 : decode cX10_early 16 = .ok (.iload_n 1, 1) := dk_27 (dk_at dksX10_early_0 16 rfl rfl)
theorem dX10_early_17 : decode cX10_early 17 = .ok (.invokevirtual 497, 3) := dk_182 1 241 (dk_at dksX10_early_0 17 rfl rfl)
theorem dX10_early_20 : decode cX10_early 20 = .ok (.istore_n 3, 1) := dk_62 (dk_at dksX10_early_0 20 rfl rfl)
theorem dX10_early_21 : decode cX10_early 21 = .ok (.iload_n 3, 1) := dk_29 (dk_at dksX10_early_0 21 rfl rfl)
theorem dX10_early_22 : decode cX10_early 22 = .ok (.ifCond .ge 5, 3) := dk_156 0 5 (dk_at dksX10_early_1 0 rfl rfl)
theorem dX10_early_25 : decode cX10_early 25 = .ok (.iload_n 3, 1) := dk_29 (dk_at dksX10_early_1 3 rfl rfl)
theorem dX10_early_26 : decode cX10_early 26 = .ok (.ireturn, 1) := dk_172 (dk_at dksX10_early_1 4 rfl rfl)
theorem dX10_early_27 : decode cX10_early 27 = .ok (.aload_n 0, 1) := dk_42 (dk_at dksX10_early_1 5 rfl rfl)
theorem dX10_early_28 : decode cX10_early 28 = .ok (.iload_n 1, 1) := dk_27 (dk_at dksX10_early_1 6 rfl rfl)
theorem dX10_early_29 : decode cX10_early 29 = .ok (.iload_n 2, 1) := dk_28 (dk_at dksX10_early_1 7 rfl rfl)
theorem dX10_early_30 : decode cX10_early 30 = .ok (.invokevirtual 500, 3) := dk_182 1 244 (dk_at dksX10_early_1 8 rfl rfl)
theorem dX10_early_33 : decode cX10_early 33 = .ok (.aload_n 0, 1) := dk_42 (dk_at dksX10_early_1 11 rfl rfl)
theorem dX10_early_34 : decode cX10_early 34 = .ok (.getfield 491, 3) := dk_180 1 235 (dk_at dksX10_early_1 12 rfl rfl)
theorem dX10_early_37 : decode cX10_early 37 = .ok (.ireturn, 1) := dk_172 (dk_at dksX10_early_1 15 rfl rfl)
abbrev cX10_often : ByteArray := prog_16_method_137_code
def yX10_often : MethodName := ⟨RX10, "often", "(I)I"⟩
def dkwX10_often_0 : List UInt8 := [42, 27, 133, 182, 1, 44, 153, 0, 11, 42, 27, 182, 1, 247, 167, 0, 5, 16, 254, 172]
abbrev dktX10_often_0 : List UInt8 := dkwX10_often_0 ++ []
theorem dksX10_often_0 : cX10_often.data.toList.drop 0 = dktX10_often_0 := by decide +kernel
theorem dX10_often_0 : decode cX10_often 0 = .ok (.aload_n 0, 1) := dk_42 (dk_at dksX10_often_0 0 rfl rfl)
theorem dX10_often_1 : decode cX10_often 1 = .ok (.iload_n 1, 1) := dk_27 (dk_at dksX10_often_0 1 rfl rfl)
theorem dX10_often_2 : decode cX10_often 2 = .ok (.i2l, 1) := dk_133 (dk_at dksX10_often_0 2 rfl rfl)
theorem dX10_often_3 : decode cX10_often 3 = .ok (.invokevirtual 300, 3) := dk_182 1 44 (dk_at dksX10_often_0 3 rfl rfl)
theorem dX10_often_6 : decode cX10_often 6 = .ok (.ifCond .eq 11, 3) := dk_153 0 11 (dk_at dksX10_often_0 6 rfl rfl)
theorem dX10_often_9 : decode cX10_often 9 = .ok (.aload_n 0, 1) := dk_42 (dk_at dksX10_often_0 9 rfl rfl)
theorem dX10_often_10 : decode cX10_often 10 = .ok (.iload_n 1, 1) := dk_27 (dk_at dksX10_often_0 10 rfl rfl)
theorem dX10_often_11 : decode cX10_often 11 = .ok (.invokevirtual 503, 3) := dk_182 1 247 (dk_at dksX10_often_0 11 rfl rfl)
theorem dX10_often_14 : decode cX10_often 14 = .ok (.goto 5, 3) := dk_167 0 5 (dk_at dksX10_often_0 14 rfl rfl)
theorem dX10_often_17 : decode cX10_often 17 = .ok (.bipush (-2), 2) := dk_16 254 (dk_at dksX10_often_0 17 rfl rfl)
theorem dX10_often_19 : decode cX10_often 19 = .ok (.ireturn, 1) := dk_172 (dk_at dksX10_often_0 19 rfl rfl)
abbrev cX10_oftenOf : ByteArray := prog_16_method_136_code
def yX10_oftenOf : MethodName := ⟨RX10, "oftenOf", "(I)I"⟩
def dkwX10_oftenOf_2 : List UInt8 := [167, 255, 215, 28, 172]
abbrev dktX10_oftenOf_2 : List UInt8 := dkwX10_oftenOf_2 ++ []
def dkwX10_oftenOf_1 : List UInt8 := [159, 0, 13, 42, 29, 4, 182, 1, 4, 27, 160, 0, 7, 4, 167, 0, 4, 3, 96, 61, 132, 3, 1]
abbrev dktX10_oftenOf_1 : List UInt8 := dkwX10_oftenOf_1 ++ dktX10_oftenOf_2
def dkwX10_oftenOf_0 : List UInt8 := [3, 61, 3, 62, 29, 42, 180, 0, 9, 8, 46, 162, 0, 37, 28, 42, 29, 3, 182, 1, 4, 27]
abbrev dktX10_oftenOf_0 : List UInt8 := dkwX10_oftenOf_0 ++ dktX10_oftenOf_1
theorem dksX10_oftenOf_0 : cX10_oftenOf.data.toList.drop 0 = dktX10_oftenOf_0 := by decide +kernel
theorem dksX10_oftenOf_1 : cX10_oftenOf.data.toList.drop 22 = dktX10_oftenOf_1 := dk_seg dksX10_oftenOf_0 22 rfl rfl
theorem dksX10_oftenOf_2 : cX10_oftenOf.data.toList.drop 45 = dktX10_oftenOf_2 := dk_seg dksX10_oftenOf_1 23 rfl rfl
theorem dX10_oftenOf_0 : decode cX10_oftenOf 0 = .ok (.iconst 0, 1) := dk_3 (dk_at dksX10_oftenOf_0 0 rfl rfl)
theorem dX10_oftenOf_1 : decode cX10_oftenOf 1 = .ok (.istore_n 2, 1) := dk_61 (dk_at dksX10_oftenOf_0 1 rfl rfl)
theorem dX10_oftenOf_2 : decode cX10_oftenOf 2 = .ok (.iconst 0, 1) := dk_3 (dk_at dksX10_oftenOf_0 2 rfl rfl)
theorem dX10_oftenOf_3 : decode cX10_oftenOf 3 = .ok (.istore_n 3, 1) := dk_62 (dk_at dksX10_oftenOf_0 3 rfl rfl)
theorem dX10_oftenOf_4 : decode cX10_oftenOf 4 = .ok (.iload_n 3, 1) := dk_29 (dk_at dksX10_oftenOf_0 4 rfl rfl)
theorem dX10_oftenOf_5 : decode cX10_oftenOf 5 = .ok (.aload_n 0, 1) := dk_42 (dk_at dksX10_oftenOf_0 5 rfl rfl)
theorem dX10_oftenOf_6 : decode cX10_oftenOf 6 = .ok (.getfield 9, 3) := dk_180 0 9 (dk_at dksX10_oftenOf_0 6 rfl rfl)
theorem dX10_oftenOf_9 : decode cX10_oftenOf 9 = .ok (.iconst 5, 1) := dk_8 (dk_at dksX10_oftenOf_0 9 rfl rfl)
theorem dX10_oftenOf_10 : decode cX10_oftenOf 10 = .ok (.iaload, 1) := dk_46 (dk_at dksX10_oftenOf_0 10 rfl rfl)
theorem dX10_oftenOf_11 : decode cX10_oftenOf 11 = .ok (.if_icmp .ge 37, 3) := dk_162 0 37 (dk_at dksX10_oftenOf_0 11 rfl rfl)
theorem dX10_oftenOf_14 : decode cX10_oftenOf 14 = .ok (.iload_n 2, 1) := dk_28 (dk_at dksX10_oftenOf_0 14 rfl rfl)
theorem dX10_oftenOf_15 : decode cX10_oftenOf 15 = .ok (.aload_n 0, 1) := dk_42 (dk_at dksX10_oftenOf_0 15 rfl rfl)
theorem dX10_oftenOf_16 : decode cX10_oftenOf 16 = .ok (.iload_n 3, 1) := dk_29 (dk_at dksX10_oftenOf_0 16 rfl rfl)
theorem dX10_oftenOf_17 : decode cX10_oftenOf 17 = .ok (.iconst 0, 1) := dk_3 (dk_at dksX10_oftenOf_0 17 rfl rfl)
theorem dX10_oftenOf_18 : decode cX10_oftenOf 18 = .ok (.invokevirtual 260, 3) := dk_182 1 4 (dk_at dksX10_oftenOf_0 18 rfl rfl)
theorem dX10_oftenOf_21 : decode cX10_oftenOf 21 = .ok (.iload_n 1, 1) := dk_27 (dk_at dksX10_oftenOf_0 21 rfl rfl)
theorem dX10_oftenOf_22 : decode cX10_oftenOf 22 = .ok (.if_icmp .eq 13, 3) := dk_159 0 13 (dk_at dksX10_oftenOf_1 0 rfl rfl)
theorem dX10_oftenOf_25 : decode cX10_oftenOf 25 = .ok (.aload_n 0, 1) := dk_42 (dk_at dksX10_oftenOf_1 3 rfl rfl)
theorem dX10_oftenOf_26 : decode cX10_oftenOf 26 = .ok (.iload_n 3, 1) := dk_29 (dk_at dksX10_oftenOf_1 4 rfl rfl)
theorem dX10_oftenOf_27 : decode cX10_oftenOf 27 = .ok (.iconst 1, 1) := dk_4 (dk_at dksX10_oftenOf_1 5 rfl rfl)
theorem dX10_oftenOf_28 : decode cX10_oftenOf 28 = .ok (.invokevirtual 260, 3) := dk_182 1 4 (dk_at dksX10_oftenOf_1 6 rfl rfl)
theorem dX10_oftenOf_31 : decode cX10_oftenOf 31 = .ok (.iload_n 1, 1) := dk_27 (dk_at dksX10_oftenOf_1 9 rfl rfl)
theorem dX10_oftenOf_32 : decode cX10_oftenOf 32 = .ok (.if_icmp .ne 7, 3) := dk_160 0 7 (dk_at dksX10_oftenOf_1 10 rfl rfl)
theorem dX10_oftenOf_35 : decode cX10_oftenOf 35 = .ok (.iconst 1, 1) := dk_4 (dk_at dksX10_oftenOf_1 13 rfl rfl)
theorem dX10_oftenOf_36 : decode cX10_oftenOf 36 = .ok (.goto 4, 3) := dk_167 0 4 (dk_at dksX10_oftenOf_1 14 rfl rfl)
theorem dX10_oftenOf_39 : decode cX10_oftenOf 39 = .ok (.iconst 0, 1) := dk_3 (dk_at dksX10_oftenOf_1 17 rfl rfl)
theorem dX10_oftenOf_40 : decode cX10_oftenOf 40 = .ok (.iadd, 1) := dk_96 (dk_at dksX10_oftenOf_1 18 rfl rfl)
theorem dX10_oftenOf_41 : decode cX10_oftenOf 41 = .ok (.istore_n 2, 1) := dk_61 (dk_at dksX10_oftenOf_1 19 rfl rfl)
theorem dX10_oftenOf_42 : decode cX10_oftenOf 42 = .ok (.iinc 3 1, 3) := dk_132 3 1 (dk_at dksX10_oftenOf_1 20 rfl rfl)
theorem dX10_oftenOf_45 : decode cX10_oftenOf 45 = .ok (.goto (-41), 3) := dk_167 255 215 (dk_at dksX10_oftenOf_2 0 rfl rfl)
theorem dX10_oftenOf_48 : decode cX10_oftenOf 48 = .ok (.iload_n 2, 1) := dk_28 (dk_at dksX10_oftenOf_2 3 rfl rfl)
theorem dX10_oftenOf_49 : decode cX10_oftenOf 49 = .ok (.ireturn, 1) := dk_172 (dk_at dksX10_oftenOf_2 4 rfl rfl)
abbrev cX10_balance : ByteArray := prog_16_method_138_code
def yX10_balance : MethodName := ⟨RX10, "balance", "()I"⟩
def dkwX10_balance_3 : List UInt8 := [167, 0, 6, 28, 27, 100, 172]
abbrev dktX10_balance_3 : List UInt8 := dkwX10_balance_3 ++ []
def dkwX10_balance_2 : List UInt8 := [28, 42, 29, 182, 1, 247, 184, 1, 81, 61, 132, 3, 1, 167, 255, 214, 28, 2, 160, 0, 7, 2]
abbrev dktX10_balance_2 : List UInt8 := dkwX10_balance_2 ++ dktX10_balance_3
def dkwX10_balance_1 : List UInt8 := [162, 0, 40, 42, 29, 182, 1, 139, 153, 0, 6, 167, 0, 23, 27, 42, 29, 182, 1, 247, 184, 0, 127, 60]
abbrev dktX10_balance_1 : List UInt8 := dkwX10_balance_1 ++ dktX10_balance_2
def dkwX10_balance_0 : List UInt8 := [42, 182, 1, 26, 154, 0, 6, 16, 254, 172, 19, 1, 115, 60, 2, 61, 3, 62, 29, 42, 182, 0, 92]
abbrev dktX10_balance_0 : List UInt8 := dkwX10_balance_0 ++ dktX10_balance_1
theorem dksX10_balance_0 : cX10_balance.data.toList.drop 0 = dktX10_balance_0 := by decide +kernel
theorem dksX10_balance_1 : cX10_balance.data.toList.drop 23 = dktX10_balance_1 := dk_seg dksX10_balance_0 23 rfl rfl
theorem dksX10_balance_2 : cX10_balance.data.toList.drop 47 = dktX10_balance_2 := dk_seg dksX10_balance_1 24 rfl rfl
theorem dksX10_balance_3 : cX10_balance.data.toList.drop 69 = dktX10_balance_3 := dk_seg dksX10_balance_2 22 rfl rfl
theorem dX10_balance_0 : decode cX10_balance 0 = .ok (.aload_n 0, 1) := dk_42 (dk_at dksX10_balance_0 0 rfl rfl)
theorem dX10_balance_1 : decode cX10_balance 1 = .ok (.invokevirtual 282, 3) := dk_182 1 26 (dk_at dksX10_balance_0 1 rfl rfl)
theorem dX10_balance_4 : decode cX10_balance 4 = .ok (.ifCond .ne 6, 3) := dk_154 0 6 (dk_at dksX10_balance_0 4 rfl rfl)
theorem dX10_balance_7 : decode cX10_balance 7 = .ok (.bipush (-2), 2) := dk_16 254 (dk_at dksX10_balance_0 7 rfl rfl)
theorem dX10_balance_9 : decode cX10_balance 9 = .ok (.ireturn, 1) := dk_172 (dk_at dksX10_balance_0 9 rfl rfl)
theorem dX10_balance_10 : decode cX10_balance 10 = .ok (.ldc_w 371, 3) := dk_19 1 115 (dk_at dksX10_balance_0 10 rfl rfl)
theorem dX10_balance_13 : decode cX10_balance 13 = .ok (.istore_n 1, 1) := dk_60 (dk_at dksX10_balance_0 13 rfl rfl)
theorem dX10_balance_14 : decode cX10_balance 14 = .ok (.iconst (-1), 1) := dk_2 (dk_at dksX10_balance_0 14 rfl rfl)
theorem dX10_balance_15 : decode cX10_balance 15 = .ok (.istore_n 2, 1) := dk_61 (dk_at dksX10_balance_0 15 rfl rfl)
theorem dX10_balance_16 : decode cX10_balance 16 = .ok (.iconst 0, 1) := dk_3 (dk_at dksX10_balance_0 16 rfl rfl)
theorem dX10_balance_17 : decode cX10_balance 17 = .ok (.istore_n 3, 1) := dk_62 (dk_at dksX10_balance_0 17 rfl rfl)
theorem dX10_balance_18 : decode cX10_balance 18 = .ok (.iload_n 3, 1) := dk_29 (dk_at dksX10_balance_0 18 rfl rfl)
theorem dX10_balance_19 : decode cX10_balance 19 = .ok (.aload_n 0, 1) := dk_42 (dk_at dksX10_balance_0 19 rfl rfl)
theorem dX10_balance_20 : decode cX10_balance 20 = .ok (.invokevirtual 92, 3) := dk_182 0 92 (dk_at dksX10_balance_0 20 rfl rfl)
theorem dX10_balance_23 : decode cX10_balance 23 = .ok (.if_icmp .ge 40, 3) := dk_162 0 40 (dk_at dksX10_balance_1 0 rfl rfl)
theorem dX10_balance_26 : decode cX10_balance 26 = .ok (.aload_n 0, 1) := dk_42 (dk_at dksX10_balance_1 3 rfl rfl)
theorem dX10_balance_27 : decode cX10_balance 27 = .ok (.iload_n 3, 1) := dk_29 (dk_at dksX10_balance_1 4 rfl rfl)
theorem dX10_balance_28 : decode cX10_balance 28 = .ok (.invokevirtual 395, 3) := dk_182 1 139 (dk_at dksX10_balance_1 5 rfl rfl)
theorem dX10_balance_31 : decode cX10_balance 31 = .ok (.ifCond .eq 6, 3) := dk_153 0 6 (dk_at dksX10_balance_1 8 rfl rfl)
theorem dX10_balance_34 : decode cX10_balance 34 = .ok (.goto 23, 3) := dk_167 0 23 (dk_at dksX10_balance_1 11 rfl rfl)
theorem dX10_balance_37 : decode cX10_balance 37 = .ok (.iload_n 1, 1) := dk_27 (dk_at dksX10_balance_1 14 rfl rfl)
theorem dX10_balance_38 : decode cX10_balance 38 = .ok (.aload_n 0, 1) := dk_42 (dk_at dksX10_balance_1 15 rfl rfl)
theorem dX10_balance_39 : decode cX10_balance 39 = .ok (.iload_n 3, 1) := dk_29 (dk_at dksX10_balance_1 16 rfl rfl)
theorem dX10_balance_40 : decode cX10_balance 40 = .ok (.invokevirtual 503, 3) := dk_182 1 247 (dk_at dksX10_balance_1 17 rfl rfl)
theorem dX10_balance_43 : decode cX10_balance 43 = .ok (.invokestatic 127, 3) := dk_184 0 127 (dk_at dksX10_balance_1 20 rfl rfl)
theorem dX10_balance_46 : decode cX10_balance 46 = .ok (.istore_n 1, 1) := dk_60 (dk_at dksX10_balance_1 23 rfl rfl)
theorem dX10_balance_47 : decode cX10_balance 47 = .ok (.iload_n 2, 1) := dk_28 (dk_at dksX10_balance_2 0 rfl rfl)
theorem dX10_balance_48 : decode cX10_balance 48 = .ok (.aload_n 0, 1) := dk_42 (dk_at dksX10_balance_2 1 rfl rfl)
theorem dX10_balance_49 : decode cX10_balance 49 = .ok (.iload_n 3, 1) := dk_29 (dk_at dksX10_balance_2 2 rfl rfl)
theorem dX10_balance_50 : decode cX10_balance 50 = .ok (.invokevirtual 503, 3) := dk_182 1 247 (dk_at dksX10_balance_2 3 rfl rfl)
theorem dX10_balance_53 : decode cX10_balance 53 = .ok (.invokestatic 337, 3) := dk_184 1 81 (dk_at dksX10_balance_2 6 rfl rfl)
theorem dX10_balance_56 : decode cX10_balance 56 = .ok (.istore_n 2, 1) := dk_61 (dk_at dksX10_balance_2 9 rfl rfl)
theorem dX10_balance_57 : decode cX10_balance 57 = .ok (.iinc 3 1, 3) := dk_132 3 1 (dk_at dksX10_balance_2 10 rfl rfl)
theorem dX10_balance_60 : decode cX10_balance 60 = .ok (.goto (-42), 3) := dk_167 255 214 (dk_at dksX10_balance_2 13 rfl rfl)
theorem dX10_balance_63 : decode cX10_balance 63 = .ok (.iload_n 2, 1) := dk_28 (dk_at dksX10_balance_2 16 rfl rfl)
theorem dX10_balance_64 : decode cX10_balance 64 = .ok (.iconst (-1), 1) := dk_2 (dk_at dksX10_balance_2 17 rfl rfl)
theorem dX10_balance_65 : decode cX10_balance 65 = .ok (.if_icmp .ne 7, 3) := dk_160 0 7 (dk_at dksX10_balance_2 18 rfl rfl)
theorem dX10_balance_68 : decode cX10_balance 68 = .ok (.iconst (-1), 1) := dk_2 (dk_at dksX10_balance_2 21 rfl rfl)
theorem dX10_balance_69 : decode cX10_balance 69 = .ok (.goto 6, 3) := dk_167 0 6 (dk_at dksX10_balance_3 0 rfl rfl)
theorem dX10_balance_72 : decode cX10_balance 72 = .ok (.iload_n 2, 1) := dk_28 (dk_at dksX10_balance_3 3 rfl rfl)
theorem dX10_balance_73 : decode cX10_balance 73 = .ok (.iload_n 1, 1) := dk_27 (dk_at dksX10_balance_3 4 rfl rfl)
theorem dX10_balance_74 : decode cX10_balance 74 = .ok (.isub, 1) := dk_100 (dk_at dksX10_balance_3 5 rfl rfl)
theorem dX10_balance_75 : decode cX10_balance 75 = .ok (.ireturn, 1) := dk_172 (dk_at dksX10_balance_3 6 rfl rfl)
abbrev cX10_path : ByteArray := prog_16_method_140_code
def yX10_path : MethodName := ⟨RX10, "path", "()I"⟩
def dkwX10_path_0 : List UInt8 := [42, 182, 1, 26, 153, 0, 10, 42, 182, 1, 250, 167, 0, 5, 16, 254, 172]
abbrev dktX10_path_0 : List UInt8 := dkwX10_path_0 ++ []
theorem dksX10_path_0 : cX10_path.data.toList.drop 0 = dktX10_path_0 := by decide +kernel
theorem dX10_path_0 : decode cX10_path 0 = .ok (.aload_n 0, 1) := dk_42 (dk_at dksX10_path_0 0 rfl rfl)
theorem dX10_path_1 : decode cX10_path 1 = .ok (.invokevirtual 282, 3) := dk_182 1 26 (dk_at dksX10_path_0 1 rfl rfl)
theorem dX10_path_4 : decode cX10_path 4 = .ok (.ifCond .eq 10, 3) := dk_153 0 10 (dk_at dksX10_path_0 4 rfl rfl)
theorem dX10_path_7 : decode cX10_path 7 = .ok (.aload_n 0, 1) := dk_42 (dk_at dksX10_path_0 7 rfl rfl)
theorem dX10_path_8 : decode cX10_path 8 = .ok (.invokevirtual 506, 3) := dk_182 1 250 (dk_at dksX10_path_0 8 rfl rfl)
theorem dX10_path_11 : decode cX10_path 11 = .ok (.goto 5, 3) := dk_167 0 5 (dk_at dksX10_path_0 11 rfl rfl)
theorem dX10_path_14 : decode cX10_path 14 = .ok (.bipush (-2), 2) := dk_16 254 (dk_at dksX10_path_0 14 rfl rfl)
theorem dX10_path_16 : decode cX10_path 16 = .ok (.ireturn, 1) := dk_172 (dk_at dksX10_path_0 16 rfl rfl)
abbrev cX10_pathOf : ByteArray := prog_16_method_139_code
def yX10_pathOf : MethodName := ⟨RX10, "pathOf", "()I"⟩
def dkwX10_pathOf_1 : List UInt8 := [96, 182, 1, 184, 182, 1, 47, 96, 60, 132, 2, 1, 167, 255, 224, 27, 172]
abbrev dktX10_pathOf_1 : List UInt8 := dkwX10_pathOf_1 ++ []
def dkwX10_pathOf_0 : List UInt8 := [3, 60, 3, 61, 28, 42, 180, 0, 9, 8, 46, 162, 0, 28, 27, 42, 42, 28, 182, 1, 184, 42, 28, 4]
abbrev dktX10_pathOf_0 : List UInt8 := dkwX10_pathOf_0 ++ dktX10_pathOf_1
theorem dksX10_pathOf_0 : cX10_pathOf.data.toList.drop 0 = dktX10_pathOf_0 := by decide +kernel
theorem dksX10_pathOf_1 : cX10_pathOf.data.toList.drop 24 = dktX10_pathOf_1 := dk_seg dksX10_pathOf_0 24 rfl rfl
theorem dX10_pathOf_0 : decode cX10_pathOf 0 = .ok (.iconst 0, 1) := dk_3 (dk_at dksX10_pathOf_0 0 rfl rfl)
theorem dX10_pathOf_1 : decode cX10_pathOf 1 = .ok (.istore_n 1, 1) := dk_60 (dk_at dksX10_pathOf_0 1 rfl rfl)
theorem dX10_pathOf_2 : decode cX10_pathOf 2 = .ok (.iconst 0, 1) := dk_3 (dk_at dksX10_pathOf_0 2 rfl rfl)
theorem dX10_pathOf_3 : decode cX10_pathOf 3 = .ok (.istore_n 2, 1) := dk_61 (dk_at dksX10_pathOf_0 3 rfl rfl)
theorem dX10_pathOf_4 : decode cX10_pathOf 4 = .ok (.iload_n 2, 1) := dk_28 (dk_at dksX10_pathOf_0 4 rfl rfl)
theorem dX10_pathOf_5 : decode cX10_pathOf 5 = .ok (.aload_n 0, 1) := dk_42 (dk_at dksX10_pathOf_0 5 rfl rfl)
theorem dX10_pathOf_6 : decode cX10_pathOf 6 = .ok (.getfield 9, 3) := dk_180 0 9 (dk_at dksX10_pathOf_0 6 rfl rfl)
theorem dX10_pathOf_9 : decode cX10_pathOf 9 = .ok (.iconst 5, 1) := dk_8 (dk_at dksX10_pathOf_0 9 rfl rfl)
theorem dX10_pathOf_10 : decode cX10_pathOf 10 = .ok (.iaload, 1) := dk_46 (dk_at dksX10_pathOf_0 10 rfl rfl)
theorem dX10_pathOf_11 : decode cX10_pathOf 11 = .ok (.if_icmp .ge 28, 3) := dk_162 0 28 (dk_at dksX10_pathOf_0 11 rfl rfl)
theorem dX10_pathOf_14 : decode cX10_pathOf 14 = .ok (.iload_n 1, 1) := dk_27 (dk_at dksX10_pathOf_0 14 rfl rfl)
theorem dX10_pathOf_15 : decode cX10_pathOf 15 = .ok (.aload_n 0, 1) := dk_42 (dk_at dksX10_pathOf_0 15 rfl rfl)
theorem dX10_pathOf_16 : decode cX10_pathOf 16 = .ok (.aload_n 0, 1) := dk_42 (dk_at dksX10_pathOf_0 16 rfl rfl)
theorem dX10_pathOf_17 : decode cX10_pathOf 17 = .ok (.iload_n 2, 1) := dk_28 (dk_at dksX10_pathOf_0 17 rfl rfl)
theorem dX10_pathOf_18 : decode cX10_pathOf 18 = .ok (.invokevirtual 440, 3) := dk_182 1 184 (dk_at dksX10_pathOf_0 18 rfl rfl)
theorem dX10_pathOf_21 : decode cX10_pathOf 21 = .ok (.aload_n 0, 1) := dk_42 (dk_at dksX10_pathOf_0 21 rfl rfl)
theorem dX10_pathOf_22 : decode cX10_pathOf 22 = .ok (.iload_n 2, 1) := dk_28 (dk_at dksX10_pathOf_0 22 rfl rfl)
theorem dX10_pathOf_23 : decode cX10_pathOf 23 = .ok (.iconst 1, 1) := dk_4 (dk_at dksX10_pathOf_0 23 rfl rfl)
theorem dX10_pathOf_24 : decode cX10_pathOf 24 = .ok (.iadd, 1) := dk_96 (dk_at dksX10_pathOf_1 0 rfl rfl)
theorem dX10_pathOf_25 : decode cX10_pathOf 25 = .ok (.invokevirtual 440, 3) := dk_182 1 184 (dk_at dksX10_pathOf_1 1 rfl rfl)
theorem dX10_pathOf_28 : decode cX10_pathOf 28 = .ok (.invokevirtual 303, 3) := dk_182 1 47 (dk_at dksX10_pathOf_1 4 rfl rfl)
theorem dX10_pathOf_31 : decode cX10_pathOf 31 = .ok (.iadd, 1) := dk_96 (dk_at dksX10_pathOf_1 7 rfl rfl)
theorem dX10_pathOf_32 : decode cX10_pathOf 32 = .ok (.istore_n 1, 1) := dk_60 (dk_at dksX10_pathOf_1 8 rfl rfl)
theorem dX10_pathOf_33 : decode cX10_pathOf 33 = .ok (.iinc 2 1, 3) := dk_132 2 1 (dk_at dksX10_pathOf_1 9 rfl rfl)
theorem dX10_pathOf_36 : decode cX10_pathOf 36 = .ok (.goto (-32), 3) := dk_167 255 224 (dk_at dksX10_pathOf_1 12 rfl rfl)
theorem dX10_pathOf_39 : decode cX10_pathOf 39 = .ok (.iload_n 1, 1) := dk_27 (dk_at dksX10_pathOf_1 15 rfl rfl)
theorem dX10_pathOf_40 : decode cX10_pathOf 40 = .ok (.ireturn, 1) := dk_172 (dk_at dksX10_pathOf_1 16 rfl rfl)
abbrev cX10_better : ByteArray := prog_16_method_142_code
def yX10_better : MethodName := ⟨RX10, "better", "(I)I"⟩
def dkwX10_better_5 : List UInt8 := [167, 255, 186, 132, 4, 1, 167, 255, 163, 28, 172]
abbrev dktX10_better_5 : List UInt8 := dkwX10_better_5 ++ []
def dkwX10_better_4 : List UInt8 := [21, 6, 29, 161, 0, 6, 167, 0, 15, 21, 6, 62, 16, 100, 21, 4, 104, 21, 5, 96, 61, 132, 5, 1]
abbrev dktX10_better_4 : List UInt8 := dkwX10_better_4 ++ dktX10_better_5
def dkwX10_better_3 : List UInt8 := [54, 6, 42, 21, 4, 21, 5, 182, 1, 253, 27, 154, 0, 12, 21, 6, 29, 163, 0, 15, 167, 0, 24]
abbrev dktX10_better_3 : List UInt8 := dkwX10_better_3 ++ dktX10_better_4
def dkwX10_better_2 : List UInt8 := [21, 5, 42, 180, 0, 9, 8, 46, 162, 0, 65, 42, 21, 4, 21, 5, 182, 1, 253, 42, 182, 1, 250]
abbrev dktX10_better_2 : List UInt8 := dkwX10_better_2 ++ dktX10_better_3
def dkwX10_better_1 : List UInt8 := [182, 1, 250, 62, 3, 54, 4, 21, 4, 42, 180, 0, 9, 8, 46, 162, 0, 88, 21, 4, 4, 96, 54, 5]
abbrev dktX10_better_1 : List UInt8 := dkwX10_better_1 ++ dktX10_better_2
def dkwX10_better_0 : List UInt8 := [42, 182, 1, 26, 153, 0, 13, 27, 133, 9, 10, 184, 0, 88, 154, 0, 6, 16, 254, 172, 2, 61, 42]
abbrev dktX10_better_0 : List UInt8 := dkwX10_better_0 ++ dktX10_better_1
theorem dksX10_better_0 : cX10_better.data.toList.drop 0 = dktX10_better_0 := by decide +kernel
theorem dksX10_better_1 : cX10_better.data.toList.drop 23 = dktX10_better_1 := dk_seg dksX10_better_0 23 rfl rfl
theorem dksX10_better_2 : cX10_better.data.toList.drop 47 = dktX10_better_2 := dk_seg dksX10_better_1 24 rfl rfl
theorem dksX10_better_3 : cX10_better.data.toList.drop 70 = dktX10_better_3 := dk_seg dksX10_better_2 23 rfl rfl
theorem dksX10_better_4 : cX10_better.data.toList.drop 93 = dktX10_better_4 := dk_seg dksX10_better_3 23 rfl rfl
theorem dksX10_better_5 : cX10_better.data.toList.drop 117 = dktX10_better_5 := dk_seg dksX10_better_4 24 rfl rfl
theorem dX10_better_0 : decode cX10_better 0 = .ok (.aload_n 0, 1) := dk_42 (dk_at dksX10_better_0 0 rfl rfl)
theorem dX10_better_1 : decode cX10_better 1 = .ok (.invokevirtual 282, 3) := dk_182 1 26 (dk_at dksX10_better_0 1 rfl rfl)
theorem dX10_better_4 : decode cX10_better 4 = .ok (.ifCond .eq 13, 3) := dk_153 0 13 (dk_at dksX10_better_0 4 rfl rfl)
theorem dX10_better_7 : decode cX10_better 7 = .ok (.iload_n 1, 1) := dk_27 (dk_at dksX10_better_0 7 rfl rfl)
theorem dX10_better_8 : decode cX10_better 8 = .ok (.i2l, 1) := dk_133 (dk_at dksX10_better_0 8 rfl rfl)
theorem dX10_better_9 : decode cX10_better 9 = .ok (.lconst 0, 1) := dk_9 (dk_at dksX10_better_0 9 rfl rfl)
theorem dX10_better_10 : decode cX10_better 10 = .ok (.lconst 1, 1) := dk_10 (dk_at dksX10_better_0 10 rfl rfl)
theorem dX10_better_11 : decode cX10_better 11 = .ok (.invokestatic 88, 3) := dk_184 0 88 (dk_at dksX10_better_0 11 rfl rfl)
theorem dX10_better_14 : decode cX10_better 14 = .ok (.ifCond .ne 6, 3) := dk_154 0 6 (dk_at dksX10_better_0 14 rfl rfl)
theorem dX10_better_17 : decode cX10_better 17 = .ok (.bipush (-2), 2) := dk_16 254 (dk_at dksX10_better_0 17 rfl rfl)
theorem dX10_better_19 : decode cX10_better 19 = .ok (.ireturn, 1) := dk_172 (dk_at dksX10_better_0 19 rfl rfl)
theorem dX10_better_20 : decode cX10_better 20 = .ok (.iconst (-1), 1) := dk_2 (dk_at dksX10_better_0 20 rfl rfl)
theorem dX10_better_21 : decode cX10_better 21 = .ok (.istore_n 2, 1) := dk_61 (dk_at dksX10_better_0 21 rfl rfl)
theorem dX10_better_22 : decode cX10_better 22 = .ok (.aload_n 0, 1) := dk_42 (dk_at dksX10_better_0 22 rfl rfl)
theorem dX10_better_23 : decode cX10_better 23 = .ok (.invokevirtual 506, 3) := dk_182 1 250 (dk_at dksX10_better_1 0 rfl rfl)
theorem dX10_better_26 : decode cX10_better 26 = .ok (.istore_n 3, 1) := dk_62 (dk_at dksX10_better_1 3 rfl rfl)
theorem dX10_better_27 : decode cX10_better 27 = .ok (.iconst 0, 1) := dk_3 (dk_at dksX10_better_1 4 rfl rfl)
theorem dX10_better_28 : decode cX10_better 28 = .ok (.istore 4, 2) := dk_54 4 (dk_at dksX10_better_1 5 rfl rfl)
theorem dX10_better_30 : decode cX10_better 30 = .ok (.iload 4, 2) := dk_21 4 (dk_at dksX10_better_1 7 rfl rfl)
theorem dX10_better_32 : decode cX10_better 32 = .ok (.aload_n 0, 1) := dk_42 (dk_at dksX10_better_1 9 rfl rfl)
theorem dX10_better_33 : decode cX10_better 33 = .ok (.getfield 9, 3) := dk_180 0 9 (dk_at dksX10_better_1 10 rfl rfl)
theorem dX10_better_36 : decode cX10_better 36 = .ok (.iconst 5, 1) := dk_8 (dk_at dksX10_better_1 13 rfl rfl)
theorem dX10_better_37 : decode cX10_better 37 = .ok (.iaload, 1) := dk_46 (dk_at dksX10_better_1 14 rfl rfl)
theorem dX10_better_38 : decode cX10_better 38 = .ok (.if_icmp .ge 88, 3) := dk_162 0 88 (dk_at dksX10_better_1 15 rfl rfl)
theorem dX10_better_41 : decode cX10_better 41 = .ok (.iload 4, 2) := dk_21 4 (dk_at dksX10_better_1 18 rfl rfl)
theorem dX10_better_43 : decode cX10_better 43 = .ok (.iconst 1, 1) := dk_4 (dk_at dksX10_better_1 20 rfl rfl)
theorem dX10_better_44 : decode cX10_better 44 = .ok (.iadd, 1) := dk_96 (dk_at dksX10_better_1 21 rfl rfl)
theorem dX10_better_45 : decode cX10_better 45 = .ok (.istore 5, 2) := dk_54 5 (dk_at dksX10_better_1 22 rfl rfl)
theorem dX10_better_47 : decode cX10_better 47 = .ok (.iload 5, 2) := dk_21 5 (dk_at dksX10_better_2 0 rfl rfl)
theorem dX10_better_49 : decode cX10_better 49 = .ok (.aload_n 0, 1) := dk_42 (dk_at dksX10_better_2 2 rfl rfl)
theorem dX10_better_50 : decode cX10_better 50 = .ok (.getfield 9, 3) := dk_180 0 9 (dk_at dksX10_better_2 3 rfl rfl)
theorem dX10_better_53 : decode cX10_better 53 = .ok (.iconst 5, 1) := dk_8 (dk_at dksX10_better_2 6 rfl rfl)
theorem dX10_better_54 : decode cX10_better 54 = .ok (.iaload, 1) := dk_46 (dk_at dksX10_better_2 7 rfl rfl)
theorem dX10_better_55 : decode cX10_better 55 = .ok (.if_icmp .ge 65, 3) := dk_162 0 65 (dk_at dksX10_better_2 8 rfl rfl)
theorem dX10_better_58 : decode cX10_better 58 = .ok (.aload_n 0, 1) := dk_42 (dk_at dksX10_better_2 11 rfl rfl)
theorem dX10_better_59 : decode cX10_better 59 = .ok (.iload 4, 2) := dk_21 4 (dk_at dksX10_better_2 12 rfl rfl)
theorem dX10_better_61 : decode cX10_better 61 = .ok (.iload 5, 2) := dk_21 5 (dk_at dksX10_better_2 14 rfl rfl)
theorem dX10_better_63 : decode cX10_better 63 = .ok (.invokevirtual 509, 3) := dk_182 1 253 (dk_at dksX10_better_2 16 rfl rfl)
theorem dX10_better_66 : decode cX10_better 66 = .ok (.aload_n 0, 1) := dk_42 (dk_at dksX10_better_2 19 rfl rfl)
theorem dX10_better_67 : decode cX10_better 67 = .ok (.invokevirtual 506, 3) := dk_182 1 250 (dk_at dksX10_better_2 20 rfl rfl)
theorem dX10_better_70 : decode cX10_better 70 = .ok (.istore 6, 2) := dk_54 6 (dk_at dksX10_better_3 0 rfl rfl)
theorem dX10_better_72 : decode cX10_better 72 = .ok (.aload_n 0, 1) := dk_42 (dk_at dksX10_better_3 2 rfl rfl)
theorem dX10_better_73 : decode cX10_better 73 = .ok (.iload 4, 2) := dk_21 4 (dk_at dksX10_better_3 3 rfl rfl)
theorem dX10_better_75 : decode cX10_better 75 = .ok (.iload 5, 2) := dk_21 5 (dk_at dksX10_better_3 5 rfl rfl)
theorem dX10_better_77 : decode cX10_better 77 = .ok (.invokevirtual 509, 3) := dk_182 1 253 (dk_at dksX10_better_3 7 rfl rfl)
theorem dX10_better_80 : decode cX10_better 80 = .ok (.iload_n 1, 1) := dk_27 (dk_at dksX10_better_3 10 rfl rfl)
theorem dX10_better_81 : decode cX10_better 81 = .ok (.ifCond .ne 12, 3) := dk_154 0 12 (dk_at dksX10_better_3 11 rfl rfl)
theorem dX10_better_84 : decode cX10_better 84 = .ok (.iload 6, 2) := dk_21 6 (dk_at dksX10_better_3 14 rfl rfl)
theorem dX10_better_86 : decode cX10_better 86 = .ok (.iload_n 3, 1) := dk_29 (dk_at dksX10_better_3 16 rfl rfl)
theorem dX10_better_87 : decode cX10_better 87 = .ok (.if_icmp .gt 15, 3) := dk_163 0 15 (dk_at dksX10_better_3 17 rfl rfl)
theorem dX10_better_90 : decode cX10_better 90 = .ok (.goto 24, 3) := dk_167 0 24 (dk_at dksX10_better_3 20 rfl rfl)
theorem dX10_better_93 : decode cX10_better 93 = .ok (.iload 6, 2) := dk_21 6 (dk_at dksX10_better_4 0 rfl rfl)
theorem dX10_better_95 : decode cX10_better 95 = .ok (.iload_n 3, 1) := dk_29 (dk_at dksX10_better_4 2 rfl rfl)
theorem dX10_better_96 : decode cX10_better 96 = .ok (.if_icmp .lt 6, 3) := dk_161 0 6 (dk_at dksX10_better_4 3 rfl rfl)
theorem dX10_better_99 : decode cX10_better 99 = .ok (.goto 15, 3) := dk_167 0 15 (dk_at dksX10_better_4 6 rfl rfl)
theorem dX10_better_102 : decode cX10_better 102 = .ok (.iload 6, 2) := dk_21 6 (dk_at dksX10_better_4 9 rfl rfl)
theorem dX10_better_104 : decode cX10_better 104 = .ok (.istore_n 3, 1) := dk_62 (dk_at dksX10_better_4 11 rfl rfl)
theorem dX10_better_105 : decode cX10_better 105 = .ok (.bipush 100, 2) := dk_16 100 (dk_at dksX10_better_4 12 rfl rfl)
theorem dX10_better_107 : decode cX10_better 107 = .ok (.iload 4, 2) := dk_21 4 (dk_at dksX10_better_4 14 rfl rfl)
theorem dX10_better_109 : decode cX10_better 109 = .ok (.imul, 1) := dk_104 (dk_at dksX10_better_4 16 rfl rfl)
theorem dX10_better_110 : decode cX10_better 110 = .ok (.iload 5, 2) := dk_21 5 (dk_at dksX10_better_4 17 rfl rfl)
theorem dX10_better_112 : decode cX10_better 112 = .ok (.iadd, 1) := dk_96 (dk_at dksX10_better_4 19 rfl rfl)
theorem dX10_better_113 : decode cX10_better 113 = .ok (.istore_n 2, 1) := dk_61 (dk_at dksX10_better_4 20 rfl rfl)
theorem dX10_better_114 : decode cX10_better 114 = .ok (.iinc 5 1, 3) := dk_132 5 1 (dk_at dksX10_better_4 21 rfl rfl)
theorem dX10_better_117 : decode cX10_better 117 = .ok (.goto (-70), 3) := dk_167 255 186 (dk_at dksX10_better_5 0 rfl rfl)
theorem dX10_better_120 : decode cX10_better 120 = .ok (.iinc 4 1, 3) := dk_132 4 1 (dk_at dksX10_better_5 3 rfl rfl)
theorem dX10_better_123 : decode cX10_better 123 = .ok (.goto (-93), 3) := dk_167 255 163 (dk_at dksX10_better_5 6 rfl rfl)
theorem dX10_better_126 : decode cX10_better 126 = .ok (.iload_n 2, 1) := dk_28 (dk_at dksX10_better_5 9 rfl rfl)
theorem dX10_better_127 : decode cX10_better 127 = .ok (.ireturn, 1) := dk_172 (dk_at dksX10_better_5 10 rfl rfl)
abbrev cX10_trade : ByteArray := prog_16_method_141_code
def yX10_trade : MethodName := ⟨RX10, "trade", "(II)V"⟩
def dkwX10_trade_2 : List UInt8 := [79, 132, 3, 1, 167, 255, 206, 177]
abbrev dktX10_trade_2 : List UInt8 := dkwX10_trade_2 ++ []
def dkwX10_trade_1 : List UInt8 := [96, 29, 96, 42, 28, 29, 182, 1, 4, 79, 42, 180, 0, 9, 16, 24, 6, 28, 104, 96, 29, 96, 21, 4]
abbrev dktX10_trade_1 : List UInt8 := dkwX10_trade_1 ++ dktX10_trade_2
def dkwX10_trade_0 : List UInt8 := [3, 62, 29, 6, 162, 0, 51, 42, 27, 29, 182, 1, 4, 54, 4, 42, 180, 0, 9, 16, 24, 6, 27, 104]
abbrev dktX10_trade_0 : List UInt8 := dkwX10_trade_0 ++ dktX10_trade_1
theorem dksX10_trade_0 : cX10_trade.data.toList.drop 0 = dktX10_trade_0 := by decide +kernel
theorem dksX10_trade_1 : cX10_trade.data.toList.drop 24 = dktX10_trade_1 := dk_seg dksX10_trade_0 24 rfl rfl
theorem dksX10_trade_2 : cX10_trade.data.toList.drop 48 = dktX10_trade_2 := dk_seg dksX10_trade_1 24 rfl rfl
theorem dX10_trade_0 : decode cX10_trade 0 = .ok (.iconst 0, 1) := dk_3 (dk_at dksX10_trade_0 0 rfl rfl)
theorem dX10_trade_1 : decode cX10_trade 1 = .ok (.istore_n 3, 1) := dk_62 (dk_at dksX10_trade_0 1 rfl rfl)
theorem dX10_trade_2 : decode cX10_trade 2 = .ok (.iload_n 3, 1) := dk_29 (dk_at dksX10_trade_0 2 rfl rfl)
theorem dX10_trade_3 : decode cX10_trade 3 = .ok (.iconst 3, 1) := dk_6 (dk_at dksX10_trade_0 3 rfl rfl)
theorem dX10_trade_4 : decode cX10_trade 4 = .ok (.if_icmp .ge 51, 3) := dk_162 0 51 (dk_at dksX10_trade_0 4 rfl rfl)
theorem dX10_trade_7 : decode cX10_trade 7 = .ok (.aload_n 0, 1) := dk_42 (dk_at dksX10_trade_0 7 rfl rfl)
theorem dX10_trade_8 : decode cX10_trade 8 = .ok (.iload_n 1, 1) := dk_27 (dk_at dksX10_trade_0 8 rfl rfl)
theorem dX10_trade_9 : decode cX10_trade 9 = .ok (.iload_n 3, 1) := dk_29 (dk_at dksX10_trade_0 9 rfl rfl)
theorem dX10_trade_10 : decode cX10_trade 10 = .ok (.invokevirtual 260, 3) := dk_182 1 4 (dk_at dksX10_trade_0 10 rfl rfl)
theorem dX10_trade_13 : decode cX10_trade 13 = .ok (.istore 4, 2) := dk_54 4 (dk_at dksX10_trade_0 13 rfl rfl)
theorem dX10_trade_15 : decode cX10_trade 15 = .ok (.aload_n 0, 1) := dk_42 (dk_at dksX10_trade_0 15 rfl rfl)
theorem dX10_trade_16 : decode cX10_trade 16 = .ok (.getfield 9, 3) := dk_180 0 9 (dk_at dksX10_trade_0 16 rfl rfl)
theorem dX10_trade_19 : decode cX10_trade 19 = .ok (.bipush 24, 2) := dk_16 24 (dk_at dksX10_trade_0 19 rfl rfl)
theorem dX10_trade_21 : decode cX10_trade 21 = .ok (.iconst 3, 1) := dk_6 (dk_at dksX10_trade_0 21 rfl rfl)
theorem dX10_trade_22 : decode cX10_trade 22 = .ok (.iload_n 1, 1) := dk_27 (dk_at dksX10_trade_0 22 rfl rfl)
theorem dX10_trade_23 : decode cX10_trade 23 = .ok (.imul, 1) := dk_104 (dk_at dksX10_trade_0 23 rfl rfl)
theorem dX10_trade_24 : decode cX10_trade 24 = .ok (.iadd, 1) := dk_96 (dk_at dksX10_trade_1 0 rfl rfl)
theorem dX10_trade_25 : decode cX10_trade 25 = .ok (.iload_n 3, 1) := dk_29 (dk_at dksX10_trade_1 1 rfl rfl)
theorem dX10_trade_26 : decode cX10_trade 26 = .ok (.iadd, 1) := dk_96 (dk_at dksX10_trade_1 2 rfl rfl)
theorem dX10_trade_27 : decode cX10_trade 27 = .ok (.aload_n 0, 1) := dk_42 (dk_at dksX10_trade_1 3 rfl rfl)
theorem dX10_trade_28 : decode cX10_trade 28 = .ok (.iload_n 2, 1) := dk_28 (dk_at dksX10_trade_1 4 rfl rfl)
theorem dX10_trade_29 : decode cX10_trade 29 = .ok (.iload_n 3, 1) := dk_29 (dk_at dksX10_trade_1 5 rfl rfl)
theorem dX10_trade_30 : decode cX10_trade 30 = .ok (.invokevirtual 260, 3) := dk_182 1 4 (dk_at dksX10_trade_1 6 rfl rfl)
theorem dX10_trade_33 : decode cX10_trade 33 = .ok (.iastore, 1) := dk_79 (dk_at dksX10_trade_1 9 rfl rfl)
theorem dX10_trade_34 : decode cX10_trade 34 = .ok (.aload_n 0, 1) := dk_42 (dk_at dksX10_trade_1 10 rfl rfl)
theorem dX10_trade_35 : decode cX10_trade 35 = .ok (.getfield 9, 3) := dk_180 0 9 (dk_at dksX10_trade_1 11 rfl rfl)
theorem dX10_trade_38 : decode cX10_trade 38 = .ok (.bipush 24, 2) := dk_16 24 (dk_at dksX10_trade_1 14 rfl rfl)
theorem dX10_trade_40 : decode cX10_trade 40 = .ok (.iconst 3, 1) := dk_6 (dk_at dksX10_trade_1 16 rfl rfl)
theorem dX10_trade_41 : decode cX10_trade 41 = .ok (.iload_n 2, 1) := dk_28 (dk_at dksX10_trade_1 17 rfl rfl)
theorem dX10_trade_42 : decode cX10_trade 42 = .ok (.imul, 1) := dk_104 (dk_at dksX10_trade_1 18 rfl rfl)
theorem dX10_trade_43 : decode cX10_trade 43 = .ok (.iadd, 1) := dk_96 (dk_at dksX10_trade_1 19 rfl rfl)
theorem dX10_trade_44 : decode cX10_trade 44 = .ok (.iload_n 3, 1) := dk_29 (dk_at dksX10_trade_1 20 rfl rfl)
theorem dX10_trade_45 : decode cX10_trade 45 = .ok (.iadd, 1) := dk_96 (dk_at dksX10_trade_1 21 rfl rfl)
theorem dX10_trade_46 : decode cX10_trade 46 = .ok (.iload 4, 2) := dk_21 4 (dk_at dksX10_trade_1 22 rfl rfl)
theorem dX10_trade_48 : decode cX10_trade 48 = .ok (.iastore, 1) := dk_79 (dk_at dksX10_trade_2 0 rfl rfl)
theorem dX10_trade_49 : decode cX10_trade 49 = .ok (.iinc 3 1, 3) := dk_132 3 1 (dk_at dksX10_trade_2 1 rfl rfl)
theorem dX10_trade_52 : decode cX10_trade 52 = .ok (.goto (-50), 3) := dk_167 255 206 (dk_at dksX10_trade_2 4 rfl rfl)
theorem dX10_trade_55 : decode cX10_trade 55 = .ok (.return_, 1) := dk_177 (dk_at dksX10_trade_2 7 rfl rfl)
abbrev cX10_swap : ByteArray := prog_16_method_143_code
def yX10_swap : MethodName := ⟨RX10, "swap", "(II)I"⟩
def dkwX10_swap_1 : List UInt8 := [182, 1, 253, 3, 172]
abbrev dktX10_swap_1 : List UInt8 := dkwX10_swap_1 ++ []
def dkwX10_swap_0 : List UInt8 := [42, 27, 182, 1, 11, 153, 0, 11, 42, 28, 182, 1, 11, 154, 0, 6, 16, 254, 172, 42, 27, 28]
abbrev dktX10_swap_0 : List UInt8 := dkwX10_swap_0 ++ dktX10_swap_1
theorem dksX10_swap_0 : cX10_swap.data.toList.drop 0 = dktX10_swap_0 := by decide +kernel
theorem dksX10_swap_1 : cX10_swap.data.toList.drop 22 = dktX10_swap_1 := dk_seg dksX10_swap_0 22 rfl rfl
theorem dX10_swap_0 : decode cX10_swap 0 = .ok (.aload_n 0, 1) := dk_42 (dk_at dksX10_swap_0 0 rfl rfl)
theorem dX10_swap_1 : decode cX10_swap 1 = .ok (.iload_n 1, 1) := dk_27 (dk_at dksX10_swap_0 1 rfl rfl)
theorem dX10_swap_2 : decode cX10_swap 2 = .ok (.invokevirtual 267, 3) := dk_182 1 11 (dk_at dksX10_swap_0 2 rfl rfl)
theorem dX10_swap_5 : decode cX10_swap 5 = .ok (.ifCond .eq 11, 3) := dk_153 0 11 (dk_at dksX10_swap_0 5 rfl rfl)
theorem dX10_swap_8 : decode cX10_swap 8 = .ok (.aload_n 0, 1) := dk_42 (dk_at dksX10_swap_0 8 rfl rfl)
theorem dX10_swap_9 : decode cX10_swap 9 = .ok (.iload_n 2, 1) := dk_28 (dk_at dksX10_swap_0 9 rfl rfl)
theorem dX10_swap_10 : decode cX10_swap 10 = .ok (.invokevirtual 267, 3) := dk_182 1 11 (dk_at dksX10_swap_0 10 rfl rfl)
theorem dX10_swap_13 : decode cX10_swap 13 = .ok (.ifCond .ne 6, 3) := dk_154 0 6 (dk_at dksX10_swap_0 13 rfl rfl)
theorem dX10_swap_16 : decode cX10_swap 16 = .ok (.bipush (-2), 2) := dk_16 254 (dk_at dksX10_swap_0 16 rfl rfl)
theorem dX10_swap_18 : decode cX10_swap 18 = .ok (.ireturn, 1) := dk_172 (dk_at dksX10_swap_0 18 rfl rfl)
theorem dX10_swap_19 : decode cX10_swap 19 = .ok (.aload_n 0, 1) := dk_42 (dk_at dksX10_swap_0 19 rfl rfl)
theorem dX10_swap_20 : decode cX10_swap 20 = .ok (.iload_n 1, 1) := dk_27 (dk_at dksX10_swap_0 20 rfl rfl)
theorem dX10_swap_21 : decode cX10_swap 21 = .ok (.iload_n 2, 1) := dk_28 (dk_at dksX10_swap_0 21 rfl rfl)
theorem dX10_swap_22 : decode cX10_swap 22 = .ok (.invokevirtual 509, 3) := dk_182 1 253 (dk_at dksX10_swap_1 0 rfl rfl)
theorem dX10_swap_25 : decode cX10_swap 25 = .ok (.iconst 0, 1) := dk_3 (dk_at dksX10_swap_1 3 rfl rfl)
theorem dX10_swap_26 : decode cX10_swap 26 = .ok (.ireturn, 1) := dk_172 (dk_at dksX10_swap_1 4 rfl rfl)
abbrev cX10_paint : ByteArray := prog_16_method_144_code
def yX10_paint : MethodName := ⟨RX10, "paint", "(II)I"⟩
def dkwX10_paint_2 : List UInt8 := [5, 96, 28, 79, 29, 172]
abbrev dktX10_paint_2 : List UInt8 := dkwX10_paint_2 ++ []
def dkwX10_paint_1 : List UInt8 := [2, 159, 0, 6, 16, 254, 172, 42, 27, 5, 182, 1, 4, 62, 42, 180, 0, 9, 16, 24, 6, 27, 104, 96]
abbrev dktX10_paint_1 : List UInt8 := dkwX10_paint_1 ++ dktX10_paint_2
def dkwX10_paint_0 : List UInt8 := [42, 27, 182, 1, 11, 153, 0, 23, 28, 133, 9, 10, 184, 0, 88, 153, 0, 13, 42, 27, 4, 182, 1, 4]
abbrev dktX10_paint_0 : List UInt8 := dkwX10_paint_0 ++ dktX10_paint_1
theorem dksX10_paint_0 : cX10_paint.data.toList.drop 0 = dktX10_paint_0 := by decide +kernel
theorem dksX10_paint_1 : cX10_paint.data.toList.drop 24 = dktX10_paint_1 := dk_seg dksX10_paint_0 24 rfl rfl
theorem dksX10_paint_2 : cX10_paint.data.toList.drop 48 = dktX10_paint_2 := dk_seg dksX10_paint_1 24 rfl rfl
theorem dX10_paint_0 : decode cX10_paint 0 = .ok (.aload_n 0, 1) := dk_42 (dk_at dksX10_paint_0 0 rfl rfl)
theorem dX10_paint_1 : decode cX10_paint 1 = .ok (.iload_n 1, 1) := dk_27 (dk_at dksX10_paint_0 1 rfl rfl)
theorem dX10_paint_2 : decode cX10_paint 2 = .ok (.invokevirtual 267, 3) := dk_182 1 11 (dk_at dksX10_paint_0 2 rfl rfl)
theorem dX10_paint_5 : decode cX10_paint 5 = .ok (.ifCond .eq 23, 3) := dk_153 0 23 (dk_at dksX10_paint_0 5 rfl rfl)
theorem dX10_paint_8 : decode cX10_paint 8 = .ok (.iload_n 2, 1) := dk_28 (dk_at dksX10_paint_0 8 rfl rfl)
theorem dX10_paint_9 : decode cX10_paint 9 = .ok (.i2l, 1) := dk_133 (dk_at dksX10_paint_0 9 rfl rfl)
theorem dX10_paint_10 : decode cX10_paint 10 = .ok (.lconst 0, 1) := dk_9 (dk_at dksX10_paint_0 10 rfl rfl)
theorem dX10_paint_11 : decode cX10_paint 11 = .ok (.lconst 1, 1) := dk_10 (dk_at dksX10_paint_0 11 rfl rfl)
theorem dX10_paint_12 : decode cX10_paint 12 = .ok (.invokestatic 88, 3) := dk_184 0 88 (dk_at dksX10_paint_0 12 rfl rfl)
theorem dX10_paint_15 : decode cX10_paint 15 = .ok (.ifCond .eq 13, 3) := dk_153 0 13 (dk_at dksX10_paint_0 15 rfl rfl)
theorem dX10_paint_18 : decode cX10_paint 18 = .ok (.aload_n 0, 1) := dk_42 (dk_at dksX10_paint_0 18 rfl rfl)
theorem dX10_paint_19 : decode cX10_paint 19 = .ok (.iload_n 1, 1) := dk_27 (dk_at dksX10_paint_0 19 rfl rfl)
theorem dX10_paint_20 : decode cX10_paint 20 = .ok (.iconst 1, 1) := dk_4 (dk_at dksX10_paint_0 20 rfl rfl)
theorem dX10_paint_21 : decode cX10_paint 21 = .ok (.invokevirtual 260, 3) := dk_182 1 4 (dk_at dksX10_paint_0 21 rfl rfl)
theorem dX10_paint_24 : decode cX10_paint 24 = .ok (.iconst (-1), 1) := dk_2 (dk_at dksX10_paint_1 0 rfl rfl)
theorem dX10_paint_25 : decode cX10_paint 25 = .ok (.if_icmp .eq 6, 3) := dk_159 0 6 (dk_at dksX10_paint_1 1 rfl rfl)
theorem dX10_paint_28 : decode cX10_paint 28 = .ok (.bipush (-2), 2) := dk_16 254 (dk_at dksX10_paint_1 4 rfl rfl)
theorem dX10_paint_30 : decode cX10_paint 30 = .ok (.ireturn, 1) := dk_172 (dk_at dksX10_paint_1 6 rfl rfl)
theorem dX10_paint_31 : decode cX10_paint 31 = .ok (.aload_n 0, 1) := dk_42 (dk_at dksX10_paint_1 7 rfl rfl)
theorem dX10_paint_32 : decode cX10_paint 32 = .ok (.iload_n 1, 1) := dk_27 (dk_at dksX10_paint_1 8 rfl rfl)
theorem dX10_paint_33 : decode cX10_paint 33 = .ok (.iconst 2, 1) := dk_5 (dk_at dksX10_paint_1 9 rfl rfl)
theorem dX10_paint_34 : decode cX10_paint 34 = .ok (.invokevirtual 260, 3) := dk_182 1 4 (dk_at dksX10_paint_1 10 rfl rfl)
theorem dX10_paint_37 : decode cX10_paint 37 = .ok (.istore_n 3, 1) := dk_62 (dk_at dksX10_paint_1 13 rfl rfl)
theorem dX10_paint_38 : decode cX10_paint 38 = .ok (.aload_n 0, 1) := dk_42 (dk_at dksX10_paint_1 14 rfl rfl)
theorem dX10_paint_39 : decode cX10_paint 39 = .ok (.getfield 9, 3) := dk_180 0 9 (dk_at dksX10_paint_1 15 rfl rfl)
theorem dX10_paint_42 : decode cX10_paint 42 = .ok (.bipush 24, 2) := dk_16 24 (dk_at dksX10_paint_1 18 rfl rfl)
theorem dX10_paint_44 : decode cX10_paint 44 = .ok (.iconst 3, 1) := dk_6 (dk_at dksX10_paint_1 20 rfl rfl)
theorem dX10_paint_45 : decode cX10_paint 45 = .ok (.iload_n 1, 1) := dk_27 (dk_at dksX10_paint_1 21 rfl rfl)
theorem dX10_paint_46 : decode cX10_paint 46 = .ok (.imul, 1) := dk_104 (dk_at dksX10_paint_1 22 rfl rfl)
theorem dX10_paint_47 : decode cX10_paint 47 = .ok (.iadd, 1) := dk_96 (dk_at dksX10_paint_1 23 rfl rfl)
theorem dX10_paint_48 : decode cX10_paint 48 = .ok (.iconst 2, 1) := dk_5 (dk_at dksX10_paint_2 0 rfl rfl)
theorem dX10_paint_49 : decode cX10_paint 49 = .ok (.iadd, 1) := dk_96 (dk_at dksX10_paint_2 1 rfl rfl)
theorem dX10_paint_50 : decode cX10_paint 50 = .ok (.iload_n 2, 1) := dk_28 (dk_at dksX10_paint_2 2 rfl rfl)
theorem dX10_paint_51 : decode cX10_paint 51 = .ok (.iastore, 1) := dk_79 (dk_at dksX10_paint_2 3 rfl rfl)
theorem dX10_paint_52 : decode cX10_paint 52 = .ok (.iload_n 3, 1) := dk_29 (dk_at dksX10_paint_2 4 rfl rfl)
theorem dX10_paint_53 : decode cX10_paint 53 = .ok (.ireturn, 1) := dk_172 (dk_at dksX10_paint_2 5 rfl rfl)
abbrev cX10_turn : ByteArray := prog_16_method_145_code
def yX10_turn : MethodName := ⟨RX10, "turn", "(I)I"⟩
def dkwX10_turn_1 : List UInt8 := [16, 8, 27, 79, 28, 172]
abbrev dktX10_turn_1 : List UInt8 := dkwX10_turn_1 ++ []
def dkwX10_turn_0 : List UInt8 := [42, 27, 182, 1, 11, 154, 0, 6, 16, 254, 172, 42, 180, 0, 9, 16, 8, 46, 61, 42, 180, 0, 9]
abbrev dktX10_turn_0 : List UInt8 := dkwX10_turn_0 ++ dktX10_turn_1
theorem dksX10_turn_0 : cX10_turn.data.toList.drop 0 = dktX10_turn_0 := by decide +kernel
theorem dksX10_turn_1 : cX10_turn.data.toList.drop 23 = dktX10_turn_1 := dk_seg dksX10_turn_0 23 rfl rfl
theorem dX10_turn_0 : decode cX10_turn 0 = .ok (.aload_n 0, 1) := dk_42 (dk_at dksX10_turn_0 0 rfl rfl)
theorem dX10_turn_1 : decode cX10_turn 1 = .ok (.iload_n 1, 1) := dk_27 (dk_at dksX10_turn_0 1 rfl rfl)
theorem dX10_turn_2 : decode cX10_turn 2 = .ok (.invokevirtual 267, 3) := dk_182 1 11 (dk_at dksX10_turn_0 2 rfl rfl)
theorem dX10_turn_5 : decode cX10_turn 5 = .ok (.ifCond .ne 6, 3) := dk_154 0 6 (dk_at dksX10_turn_0 5 rfl rfl)
theorem dX10_turn_8 : decode cX10_turn 8 = .ok (.bipush (-2), 2) := dk_16 254 (dk_at dksX10_turn_0 8 rfl rfl)
theorem dX10_turn_10 : decode cX10_turn 10 = .ok (.ireturn, 1) := dk_172 (dk_at dksX10_turn_0 10 rfl rfl)
theorem dX10_turn_11 : decode cX10_turn 11 = .ok (.aload_n 0, 1) := dk_42 (dk_at dksX10_turn_0 11 rfl rfl)
theorem dX10_turn_12 : decode cX10_turn 12 = .ok (.getfield 9, 3) := dk_180 0 9 (dk_at dksX10_turn_0 12 rfl rfl)
theorem dX10_turn_15 : decode cX10_turn 15 = .ok (.bipush 8, 2) := dk_16 8 (dk_at dksX10_turn_0 15 rfl rfl)
theorem dX10_turn_17 : decode cX10_turn 17 = .ok (.iaload, 1) := dk_46 (dk_at dksX10_turn_0 17 rfl rfl)
theorem dX10_turn_18 : decode cX10_turn 18 = .ok (.istore_n 2, 1) := dk_61 (dk_at dksX10_turn_0 18 rfl rfl)
theorem dX10_turn_19 : decode cX10_turn 19 = .ok (.aload_n 0, 1) := dk_42 (dk_at dksX10_turn_0 19 rfl rfl)
theorem dX10_turn_20 : decode cX10_turn 20 = .ok (.getfield 9, 3) := dk_180 0 9 (dk_at dksX10_turn_0 20 rfl rfl)
theorem dX10_turn_23 : decode cX10_turn 23 = .ok (.bipush 8, 2) := dk_16 8 (dk_at dksX10_turn_1 0 rfl rfl)
theorem dX10_turn_25 : decode cX10_turn 25 = .ok (.iload_n 1, 1) := dk_27 (dk_at dksX10_turn_1 2 rfl rfl)
theorem dX10_turn_26 : decode cX10_turn 26 = .ok (.iastore, 1) := dk_79 (dk_at dksX10_turn_1 3 rfl rfl)
theorem dX10_turn_27 : decode cX10_turn 27 = .ok (.iload_n 2, 1) := dk_28 (dk_at dksX10_turn_1 4 rfl rfl)
theorem dX10_turn_28 : decode cX10_turn 28 = .ok (.ireturn, 1) := dk_172 (dk_at dksX10_turn_1 5 rfl rfl)
abbrev cX10_lucky : ByteArray := prog_16_method_146_code
def yX10_lucky : MethodName := ⟨RX10, "lucky", "(I)I"⟩
def dkwX10_lucky_3 : List UInt8 := [54, 4, 132, 5, 1, 167, 255, 207, 42, 180, 0, 9, 16, 8, 28, 79, 29, 172]
abbrev dktX10_lucky_3 : List UInt8 := dkwX10_lucky_3 ++ []
def dkwX10_lucky_2 : List UInt8 := [27, 182, 1, 109, 42, 180, 1, 90, 21, 4, 163, 0, 6, 167, 0, 12, 21, 5, 62, 42, 180, 1, 90]
abbrev dktX10_lucky_2 : List UInt8 := dkwX10_lucky_2 ++ dktX10_lucky_3
def dkwX10_lucky_1 : List UInt8 := [3, 54, 5, 21, 5, 42, 180, 0, 9, 8, 46, 162, 0, 44, 42, 180, 0, 9, 16, 8, 21, 5, 79, 42]
abbrev dktX10_lucky_1 : List UInt8 := dkwX10_lucky_1 ++ dktX10_lucky_2
def dkwX10_lucky_0 : List UInt8 := [42, 27, 182, 1, 14, 154, 0, 6, 16, 254, 172, 42, 180, 0, 9, 16, 8, 46, 61, 2, 62, 2, 54, 4]
abbrev dktX10_lucky_0 : List UInt8 := dkwX10_lucky_0 ++ dktX10_lucky_1
theorem dksX10_lucky_0 : cX10_lucky.data.toList.drop 0 = dktX10_lucky_0 := by decide +kernel
theorem dksX10_lucky_1 : cX10_lucky.data.toList.drop 24 = dktX10_lucky_1 := dk_seg dksX10_lucky_0 24 rfl rfl
theorem dksX10_lucky_2 : cX10_lucky.data.toList.drop 48 = dktX10_lucky_2 := dk_seg dksX10_lucky_1 24 rfl rfl
theorem dksX10_lucky_3 : cX10_lucky.data.toList.drop 71 = dktX10_lucky_3 := dk_seg dksX10_lucky_2 23 rfl rfl
theorem dX10_lucky_0 : decode cX10_lucky 0 = .ok (.aload_n 0, 1) := dk_42 (dk_at dksX10_lucky_0 0 rfl rfl)
theorem dX10_lucky_1 : decode cX10_lucky 1 = .ok (.iload_n 1, 1) := dk_27 (dk_at dksX10_lucky_0 1 rfl rfl)
theorem dX10_lucky_2 : decode cX10_lucky 2 = .ok (.invokevirtual 270, 3) := dk_182 1 14 (dk_at dksX10_lucky_0 2 rfl rfl)
theorem dX10_lucky_5 : decode cX10_lucky 5 = .ok (.ifCond .ne 6, 3) := dk_154 0 6 (dk_at dksX10_lucky_0 5 rfl rfl)
theorem dX10_lucky_8 : decode cX10_lucky 8 = .ok (.bipush (-2), 2) := dk_16 254 (dk_at dksX10_lucky_0 8 rfl rfl)
theorem dX10_lucky_10 : decode cX10_lucky 10 = .ok (.ireturn, 1) := dk_172 (dk_at dksX10_lucky_0 10 rfl rfl)
theorem dX10_lucky_11 : decode cX10_lucky 11 = .ok (.aload_n 0, 1) := dk_42 (dk_at dksX10_lucky_0 11 rfl rfl)
theorem dX10_lucky_12 : decode cX10_lucky 12 = .ok (.getfield 9, 3) := dk_180 0 9 (dk_at dksX10_lucky_0 12 rfl rfl)
theorem dX10_lucky_15 : decode cX10_lucky 15 = .ok (.bipush 8, 2) := dk_16 8 (dk_at dksX10_lucky_0 15 rfl rfl)
theorem dX10_lucky_17 : decode cX10_lucky 17 = .ok (.iaload, 1) := dk_46 (dk_at dksX10_lucky_0 17 rfl rfl)
theorem dX10_lucky_18 : decode cX10_lucky 18 = .ok (.istore_n 2, 1) := dk_61 (dk_at dksX10_lucky_0 18 rfl rfl)
theorem dX10_lucky_19 : decode cX10_lucky 19 = .ok (.iconst (-1), 1) := dk_2 (dk_at dksX10_lucky_0 19 rfl rfl)
theorem dX10_lucky_20 : decode cX10_lucky 20 = .ok (.istore_n 3, 1) := dk_62 (dk_at dksX10_lucky_0 20 rfl rfl)
theorem dX10_lucky_21 : decode cX10_lucky 21 = .ok (.iconst (-1), 1) := dk_2 (dk_at dksX10_lucky_0 21 rfl rfl)
theorem dX10_lucky_22 : decode cX10_lucky 22 = .ok (.istore 4, 2) := dk_54 4 (dk_at dksX10_lucky_0 22 rfl rfl)
theorem dX10_lucky_24 : decode cX10_lucky 24 = .ok (.iconst 0, 1) := dk_3 (dk_at dksX10_lucky_1 0 rfl rfl)
theorem dX10_lucky_25 : decode cX10_lucky 25 = .ok (.istore 5, 2) := dk_54 5 (dk_at dksX10_lucky_1 1 rfl rfl)
theorem dX10_lucky_27 : decode cX10_lucky 27 = .ok (.iload 5, 2) := dk_21 5 (dk_at dksX10_lucky_1 3 rfl rfl)
theorem dX10_lucky_29 : decode cX10_lucky 29 = .ok (.aload_n 0, 1) := dk_42 (dk_at dksX10_lucky_1 5 rfl rfl)
theorem dX10_lucky_30 : decode cX10_lucky 30 = .ok (.getfield 9, 3) := dk_180 0 9 (dk_at dksX10_lucky_1 6 rfl rfl)
theorem dX10_lucky_33 : decode cX10_lucky 33 = .ok (.iconst 5, 1) := dk_8 (dk_at dksX10_lucky_1 9 rfl rfl)
theorem dX10_lucky_34 : decode cX10_lucky 34 = .ok (.iaload, 1) := dk_46 (dk_at dksX10_lucky_1 10 rfl rfl)
theorem dX10_lucky_35 : decode cX10_lucky 35 = .ok (.if_icmp .ge 44, 3) := dk_162 0 44 (dk_at dksX10_lucky_1 11 rfl rfl)
theorem dX10_lucky_38 : decode cX10_lucky 38 = .ok (.aload_n 0, 1) := dk_42 (dk_at dksX10_lucky_1 14 rfl rfl)
theorem dX10_lucky_39 : decode cX10_lucky 39 = .ok (.getfield 9, 3) := dk_180 0 9 (dk_at dksX10_lucky_1 15 rfl rfl)
theorem dX10_lucky_42 : decode cX10_lucky 42 = .ok (.bipush 8, 2) := dk_16 8 (dk_at dksX10_lucky_1 18 rfl rfl)
theorem dX10_lucky_44 : decode cX10_lucky 44 = .ok (.iload 5, 2) := dk_21 5 (dk_at dksX10_lucky_1 20 rfl rfl)
theorem dX10_lucky_46 : decode cX10_lucky 46 = .ok (.iastore, 1) := dk_79 (dk_at dksX10_lucky_1 22 rfl rfl)
theorem dX10_lucky_47 : decode cX10_lucky 47 = .ok (.aload_n 0, 1) := dk_42 (dk_at dksX10_lucky_1 23 rfl rfl)
theorem dX10_lucky_48 : decode cX10_lucky 48 = .ok (.iload_n 1, 1) := dk_27 (dk_at dksX10_lucky_2 0 rfl rfl)
theorem dX10_lucky_49 : decode cX10_lucky 49 = .ok (.invokevirtual 365, 3) := dk_182 1 109 (dk_at dksX10_lucky_2 1 rfl rfl)
theorem dX10_lucky_52 : decode cX10_lucky 52 = .ok (.aload_n 0, 1) := dk_42 (dk_at dksX10_lucky_2 4 rfl rfl)
theorem dX10_lucky_53 : decode cX10_lucky 53 = .ok (.getfield 346, 3) := dk_180 1 90 (dk_at dksX10_lucky_2 5 rfl rfl)
theorem dX10_lucky_56 : decode cX10_lucky 56 = .ok (.iload 4, 2) := dk_21 4 (dk_at dksX10_lucky_2 8 rfl rfl)
theorem dX10_lucky_58 : decode cX10_lucky 58 = .ok (.if_icmp .gt 6, 3) := dk_163 0 6 (dk_at dksX10_lucky_2 10 rfl rfl)
theorem dX10_lucky_61 : decode cX10_lucky 61 = .ok (.goto 12, 3) := dk_167 0 12 (dk_at dksX10_lucky_2 13 rfl rfl)
theorem dX10_lucky_64 : decode cX10_lucky 64 = .ok (.iload 5, 2) := dk_21 5 (dk_at dksX10_lucky_2 16 rfl rfl)
theorem dX10_lucky_66 : decode cX10_lucky 66 = .ok (.istore_n 3, 1) := dk_62 (dk_at dksX10_lucky_2 18 rfl rfl)
theorem dX10_lucky_67 : decode cX10_lucky 67 = .ok (.aload_n 0, 1) := dk_42 (dk_at dksX10_lucky_2 19 rfl rfl)
theorem dX10_lucky_68 : decode cX10_lucky 68 = .ok (.getfield 346, 3) := dk_180 1 90 (dk_at dksX10_lucky_2 20 rfl rfl)
theorem dX10_lucky_71 : decode cX10_lucky 71 = .ok (.istore 4, 2) := dk_54 4 (dk_at dksX10_lucky_3 0 rfl rfl)
theorem dX10_lucky_73 : decode cX10_lucky 73 = .ok (.iinc 5 1, 3) := dk_132 5 1 (dk_at dksX10_lucky_3 2 rfl rfl)
theorem dX10_lucky_76 : decode cX10_lucky 76 = .ok (.goto (-49), 3) := dk_167 255 207 (dk_at dksX10_lucky_3 5 rfl rfl)
theorem dX10_lucky_79 : decode cX10_lucky 79 = .ok (.aload_n 0, 1) := dk_42 (dk_at dksX10_lucky_3 8 rfl rfl)
theorem dX10_lucky_80 : decode cX10_lucky 80 = .ok (.getfield 9, 3) := dk_180 0 9 (dk_at dksX10_lucky_3 9 rfl rfl)
theorem dX10_lucky_83 : decode cX10_lucky 83 = .ok (.bipush 8, 2) := dk_16 8 (dk_at dksX10_lucky_3 12 rfl rfl)
theorem dX10_lucky_85 : decode cX10_lucky 85 = .ok (.iload_n 2, 1) := dk_28 (dk_at dksX10_lucky_3 14 rfl rfl)
theorem dX10_lucky_86 : decode cX10_lucky 86 = .ok (.iastore, 1) := dk_79 (dk_at dksX10_lucky_3 15 rfl rfl)
theorem dX10_lucky_87 : decode cX10_lucky 87 = .ok (.iload_n 3, 1) := dk_29 (dk_at dksX10_lucky_3 16 rfl rfl)
theorem dX10_lucky_88 : decode cX10_lucky 88 = .ok (.ireturn, 1) := dk_172 (dk_at dksX10_lucky_3 17 rfl rfl)
abbrev cX10_shut : ByteArray := prog_16_method_147_code
def yX10_shut : MethodName := ⟨RX10, "shut", "(II)I"⟩
def dkwX10_shut_2 : List UInt8 := [16, 7, 42, 180, 0, 9, 16, 7, 46, 4, 27, 120, 2, 130, 126, 28, 27, 120, 128, 79, 29, 172]
abbrev dktX10_shut_2 : List UInt8 := dkwX10_shut_2 ++ []
def dkwX10_shut_1 : List UInt8 := [158, 0, 6, 16, 254, 172, 42, 27, 182, 1, 139, 153, 0, 7, 4, 167, 0, 4, 3, 62, 42, 180, 0, 9]
abbrev dktX10_shut_1 : List UInt8 := dkwX10_shut_1 ++ dktX10_shut_2
def dkwX10_shut_0 : List UInt8 := [42, 27, 133, 182, 1, 44, 153, 0, 21, 28, 133, 9, 10, 184, 0, 88, 153, 0, 11, 42, 27, 182, 1, 247]
abbrev dktX10_shut_0 : List UInt8 := dkwX10_shut_0 ++ dktX10_shut_1
theorem dksX10_shut_0 : cX10_shut.data.toList.drop 0 = dktX10_shut_0 := by decide +kernel
theorem dksX10_shut_1 : cX10_shut.data.toList.drop 24 = dktX10_shut_1 := dk_seg dksX10_shut_0 24 rfl rfl
theorem dksX10_shut_2 : cX10_shut.data.toList.drop 48 = dktX10_shut_2 := dk_seg dksX10_shut_1 24 rfl rfl
theorem dX10_shut_0 : decode cX10_shut 0 = .ok (.aload_n 0, 1) := dk_42 (dk_at dksX10_shut_0 0 rfl rfl)
theorem dX10_shut_1 : decode cX10_shut 1 = .ok (.iload_n 1, 1) := dk_27 (dk_at dksX10_shut_0 1 rfl rfl)
theorem dX10_shut_2 : decode cX10_shut 2 = .ok (.i2l, 1) := dk_133 (dk_at dksX10_shut_0 2 rfl rfl)
theorem dX10_shut_3 : decode cX10_shut 3 = .ok (.invokevirtual 300, 3) := dk_182 1 44 (dk_at dksX10_shut_0 3 rfl rfl)
theorem dX10_shut_6 : decode cX10_shut 6 = .ok (.ifCond .eq 21, 3) := dk_153 0 21 (dk_at dksX10_shut_0 6 rfl rfl)
theorem dX10_shut_9 : decode cX10_shut 9 = .ok (.iload_n 2, 1) := dk_28 (dk_at dksX10_shut_0 9 rfl rfl)
theorem dX10_shut_10 : decode cX10_shut 10 = .ok (.i2l, 1) := dk_133 (dk_at dksX10_shut_0 10 rfl rfl)
theorem dX10_shut_11 : decode cX10_shut 11 = .ok (.lconst 0, 1) := dk_9 (dk_at dksX10_shut_0 11 rfl rfl)
theorem dX10_shut_12 : decode cX10_shut 12 = .ok (.lconst 1, 1) := dk_10 (dk_at dksX10_shut_0 12 rfl rfl)
theorem dX10_shut_13 : decode cX10_shut 13 = .ok (.invokestatic 88, 3) := dk_184 0 88 (dk_at dksX10_shut_0 13 rfl rfl)
theorem dX10_shut_16 : decode cX10_shut 16 = .ok (.ifCond .eq 11, 3) := dk_153 0 11 (dk_at dksX10_shut_0 16 rfl rfl)
theorem dX10_shut_19 : decode cX10_shut 19 = .ok (.aload_n 0, 1) := dk_42 (dk_at dksX10_shut_0 19 rfl rfl)
theorem dX10_shut_20 : decode cX10_shut 20 = .ok (.iload_n 1, 1) := dk_27 (dk_at dksX10_shut_0 20 rfl rfl)
theorem dX10_shut_21 : decode cX10_shut 21 = .ok (.invokevirtual 503, 3) := dk_182 1 247 (dk_at dksX10_shut_0 21 rfl rfl)
theorem dX10_shut_24 : decode cX10_shut 24 = .ok (.ifCond .le 6, 3) := dk_158 0 6 (dk_at dksX10_shut_1 0 rfl rfl)
theorem dX10_shut_27 : decode cX10_shut 27 = .ok (.bipush (-2), 2) := dk_16 254 (dk_at dksX10_shut_1 3 rfl rfl)
theorem dX10_shut_29 : decode cX10_shut 29 = .ok (.ireturn, 1) := dk_172 (dk_at dksX10_shut_1 5 rfl rfl)
theorem dX10_shut_30 : decode cX10_shut 30 = .ok (.aload_n 0, 1) := dk_42 (dk_at dksX10_shut_1 6 rfl rfl)
theorem dX10_shut_31 : decode cX10_shut 31 = .ok (.iload_n 1, 1) := dk_27 (dk_at dksX10_shut_1 7 rfl rfl)
theorem dX10_shut_32 : decode cX10_shut 32 = .ok (.invokevirtual 395, 3) := dk_182 1 139 (dk_at dksX10_shut_1 8 rfl rfl)
theorem dX10_shut_35 : decode cX10_shut 35 = .ok (.ifCond .eq 7, 3) := dk_153 0 7 (dk_at dksX10_shut_1 11 rfl rfl)
theorem dX10_shut_38 : decode cX10_shut 38 = .ok (.iconst 1, 1) := dk_4 (dk_at dksX10_shut_1 14 rfl rfl)
theorem dX10_shut_39 : decode cX10_shut 39 = .ok (.goto 4, 3) := dk_167 0 4 (dk_at dksX10_shut_1 15 rfl rfl)
theorem dX10_shut_42 : decode cX10_shut 42 = .ok (.iconst 0, 1) := dk_3 (dk_at dksX10_shut_1 18 rfl rfl)
theorem dX10_shut_43 : decode cX10_shut 43 = .ok (.istore_n 3, 1) := dk_62 (dk_at dksX10_shut_1 19 rfl rfl)
theorem dX10_shut_44 : decode cX10_shut 44 = .ok (.aload_n 0, 1) := dk_42 (dk_at dksX10_shut_1 20 rfl rfl)
theorem dX10_shut_45 : decode cX10_shut 45 = .ok (.getfield 9, 3) := dk_180 0 9 (dk_at dksX10_shut_1 21 rfl rfl)
theorem dX10_shut_48 : decode cX10_shut 48 = .ok (.bipush 7, 2) := dk_16 7 (dk_at dksX10_shut_2 0 rfl rfl)
theorem dX10_shut_50 : decode cX10_shut 50 = .ok (.aload_n 0, 1) := dk_42 (dk_at dksX10_shut_2 2 rfl rfl)
theorem dX10_shut_51 : decode cX10_shut 51 = .ok (.getfield 9, 3) := dk_180 0 9 (dk_at dksX10_shut_2 3 rfl rfl)
theorem dX10_shut_54 : decode cX10_shut 54 = .ok (.bipush 7, 2) := dk_16 7 (dk_at dksX10_shut_2 6 rfl rfl)
theorem dX10_shut_56 : decode cX10_shut 56 = .ok (.iaload, 1) := dk_46 (dk_at dksX10_shut_2 8 rfl rfl)
theorem dX10_shut_57 : decode cX10_shut 57 = .ok (.iconst 1, 1) := dk_4 (dk_at dksX10_shut_2 9 rfl rfl)
theorem dX10_shut_58 : decode cX10_shut 58 = .ok (.iload_n 1, 1) := dk_27 (dk_at dksX10_shut_2 10 rfl rfl)
theorem dX10_shut_59 : decode cX10_shut 59 = .ok (.ishl, 1) := dk_120 (dk_at dksX10_shut_2 11 rfl rfl)
theorem dX10_shut_60 : decode cX10_shut 60 = .ok (.iconst (-1), 1) := dk_2 (dk_at dksX10_shut_2 12 rfl rfl)
theorem dX10_shut_61 : decode cX10_shut 61 = .ok (.ixor, 1) := dk_130 (dk_at dksX10_shut_2 13 rfl rfl)
theorem dX10_shut_62 : decode cX10_shut 62 = .ok (.iand, 1) := dk_126 (dk_at dksX10_shut_2 14 rfl rfl)
theorem dX10_shut_63 : decode cX10_shut 63 = .ok (.iload_n 2, 1) := dk_28 (dk_at dksX10_shut_2 15 rfl rfl)
theorem dX10_shut_64 : decode cX10_shut 64 = .ok (.iload_n 1, 1) := dk_27 (dk_at dksX10_shut_2 16 rfl rfl)
theorem dX10_shut_65 : decode cX10_shut 65 = .ok (.ishl, 1) := dk_120 (dk_at dksX10_shut_2 17 rfl rfl)
theorem dX10_shut_66 : decode cX10_shut 66 = .ok (.ior, 1) := dk_128 (dk_at dksX10_shut_2 18 rfl rfl)
theorem dX10_shut_67 : decode cX10_shut 67 = .ok (.iastore, 1) := dk_79 (dk_at dksX10_shut_2 19 rfl rfl)
theorem dX10_shut_68 : decode cX10_shut 68 = .ok (.iload_n 3, 1) := dk_29 (dk_at dksX10_shut_2 20 rfl rfl)
theorem dX10_shut_69 : decode cX10_shut 69 = .ok (.ireturn, 1) := dk_172 (dk_at dksX10_shut_2 21 rfl rfl)
abbrev cX10_train : ByteArray := prog_16_method_148_code
def yX10_train : MethodName := ⟨RX10, "train", "(III)I"⟩
def dkwX10_train_5 : List UInt8 := [180, 0, 9, 16, 96, 8, 27, 104, 96, 28, 96, 29, 79, 21, 5, 172]
abbrev dktX10_train_5 : List UInt8 := dkwX10_train_5 ++ []
def dkwX10_train_4 : List UInt8 := [167, 0, 4, 3, 54, 4, 21, 4, 154, 0, 6, 16, 254, 172, 42, 27, 28, 182, 1, 19, 54, 5, 42]
abbrev dktX10_train_4 : List UInt8 := dkwX10_train_4 ++ dktX10_train_5
def dkwX10_train_3 : List UInt8 := [20, 1, 131, 184, 0, 88, 167, 0, 22, 28, 7, 160, 0, 16, 42, 29, 133, 182, 1, 44, 153, 0, 7, 4]
abbrev dktX10_train_3 : List UInt8 := dkwX10_train_3 ++ dktX10_train_4
def dkwX10_train_2 : List UInt8 := [160, 0, 15, 29, 133, 9, 20, 2, 0, 184, 0, 88, 167, 0, 39, 28, 6, 160, 0, 15, 29, 133, 9]
abbrev dktX10_train_2 : List UInt8 := dkwX10_train_2 ++ dktX10_train_3
def dkwX10_train_1 : List UInt8 := [167, 0, 73, 28, 4, 160, 0, 15, 29, 133, 9, 20, 1, 218, 184, 0, 88, 167, 0, 56, 28, 5]
abbrev dktX10_train_1 : List UInt8 := dkwX10_train_1 ++ dktX10_train_2
def dkwX10_train_0 : List UInt8 := [42, 27, 182, 1, 14, 154, 0, 6, 16, 254, 172, 28, 154, 0, 15, 29, 133, 10, 20, 1, 131, 184, 0, 88]
abbrev dktX10_train_0 : List UInt8 := dkwX10_train_0 ++ dktX10_train_1
theorem dksX10_train_0 : cX10_train.data.toList.drop 0 = dktX10_train_0 := by decide +kernel
theorem dksX10_train_1 : cX10_train.data.toList.drop 24 = dktX10_train_1 := dk_seg dksX10_train_0 24 rfl rfl
theorem dksX10_train_2 : cX10_train.data.toList.drop 46 = dktX10_train_2 := dk_seg dksX10_train_1 22 rfl rfl
theorem dksX10_train_3 : cX10_train.data.toList.drop 69 = dktX10_train_3 := dk_seg dksX10_train_2 23 rfl rfl
theorem dksX10_train_4 : cX10_train.data.toList.drop 93 = dktX10_train_4 := dk_seg dksX10_train_3 24 rfl rfl
theorem dksX10_train_5 : cX10_train.data.toList.drop 116 = dktX10_train_5 := dk_seg dksX10_train_4 23 rfl rfl
theorem dX10_train_0 : decode cX10_train 0 = .ok (.aload_n 0, 1) := dk_42 (dk_at dksX10_train_0 0 rfl rfl)
theorem dX10_train_1 : decode cX10_train 1 = .ok (.iload_n 1, 1) := dk_27 (dk_at dksX10_train_0 1 rfl rfl)
theorem dX10_train_2 : decode cX10_train 2 = .ok (.invokevirtual 270, 3) := dk_182 1 14 (dk_at dksX10_train_0 2 rfl rfl)
theorem dX10_train_5 : decode cX10_train 5 = .ok (.ifCond .ne 6, 3) := dk_154 0 6 (dk_at dksX10_train_0 5 rfl rfl)
theorem dX10_train_8 : decode cX10_train 8 = .ok (.bipush (-2), 2) := dk_16 254 (dk_at dksX10_train_0 8 rfl rfl)
theorem dX10_train_10 : decode cX10_train 10 = .ok (.ireturn, 1) := dk_172 (dk_at dksX10_train_0 10 rfl rfl)
theorem dX10_train_11 : decode cX10_train 11 = .ok (.iload_n 2, 1) := dk_28 (dk_at dksX10_train_0 11 rfl rfl)
theorem dX10_train_12 : decode cX10_train 12 = .ok (.ifCond .ne 15, 3) := dk_154 0 15 (dk_at dksX10_train_0 12 rfl rfl)
theorem dX10_train_15 : decode cX10_train 15 = .ok (.iload_n 3, 1) := dk_29 (dk_at dksX10_train_0 15 rfl rfl)
theorem dX10_train_16 : decode cX10_train 16 = .ok (.i2l, 1) := dk_133 (dk_at dksX10_train_0 16 rfl rfl)
theorem dX10_train_17 : decode cX10_train 17 = .ok (.lconst 1, 1) := dk_10 (dk_at dksX10_train_0 17 rfl rfl)
theorem dX10_train_18 : decode cX10_train 18 = .ok (.ldc2_w 387, 3) := dk_20 1 131 (dk_at dksX10_train_0 18 rfl rfl)
theorem dX10_train_21 : decode cX10_train 21 = .ok (.invokestatic 88, 3) := dk_184 0 88 (dk_at dksX10_train_0 21 rfl rfl)
theorem dX10_train_24 : decode cX10_train 24 = .ok (.goto 73, 3) := dk_167 0 73 (dk_at dksX10_train_1 0 rfl rfl)
theorem dX10_train_27 : decode cX10_train 27 = .ok (.iload_n 2, 1) := dk_28 (dk_at dksX10_train_1 3 rfl rfl)
theorem dX10_train_28 : decode cX10_train 28 = .ok (.iconst 1, 1) := dk_4 (dk_at dksX10_train_1 4 rfl rfl)
theorem dX10_train_29 : decode cX10_train 29 = .ok (.if_icmp .ne 15, 3) := dk_160 0 15 (dk_at dksX10_train_1 5 rfl rfl)
theorem dX10_train_32 : decode cX10_train 32 = .ok (.iload_n 3, 1) := dk_29 (dk_at dksX10_train_1 8 rfl rfl)
theorem dX10_train_33 : decode cX10_train 33 = .ok (.i2l, 1) := dk_133 (dk_at dksX10_train_1 9 rfl rfl)
theorem dX10_train_34 : decode cX10_train 34 = .ok (.lconst 0, 1) := dk_9 (dk_at dksX10_train_1 10 rfl rfl)
theorem dX10_train_35 : decode cX10_train 35 = .ok (.ldc2_w 474, 3) := dk_20 1 218 (dk_at dksX10_train_1 11 rfl rfl)
theorem dX10_train_38 : decode cX10_train 38 = .ok (.invokestatic 88, 3) := dk_184 0 88 (dk_at dksX10_train_1 14 rfl rfl)
theorem dX10_train_41 : decode cX10_train 41 = .ok (.goto 56, 3) := dk_167 0 56 (dk_at dksX10_train_1 17 rfl rfl)
theorem dX10_train_44 : decode cX10_train 44 = .ok (.iload_n 2, 1) := dk_28 (dk_at dksX10_train_1 20 rfl rfl)
theorem dX10_train_45 : decode cX10_train 45 = .ok (.iconst 2, 1) := dk_5 (dk_at dksX10_train_1 21 rfl rfl)
theorem dX10_train_46 : decode cX10_train 46 = .ok (.if_icmp .ne 15, 3) := dk_160 0 15 (dk_at dksX10_train_2 0 rfl rfl)
theorem dX10_train_49 : decode cX10_train 49 = .ok (.iload_n 3, 1) := dk_29 (dk_at dksX10_train_2 3 rfl rfl)
theorem dX10_train_50 : decode cX10_train 50 = .ok (.i2l, 1) := dk_133 (dk_at dksX10_train_2 4 rfl rfl)
theorem dX10_train_51 : decode cX10_train 51 = .ok (.lconst 0, 1) := dk_9 (dk_at dksX10_train_2 5 rfl rfl)
theorem dX10_train_52 : decode cX10_train 52 = .ok (.ldc2_w 512, 3) := dk_20 2 0 (dk_at dksX10_train_2 6 rfl rfl)
theorem dX10_train_55 : decode cX10_train 55 = .ok (.invokestatic 88, 3) := dk_184 0 88 (dk_at dksX10_train_2 9 rfl rfl)
theorem dX10_train_58 : decode cX10_train 58 = .ok (.goto 39, 3) := dk_167 0 39 (dk_at dksX10_train_2 12 rfl rfl)
theorem dX10_train_61 : decode cX10_train 61 = .ok (.iload_n 2, 1) := dk_28 (dk_at dksX10_train_2 15 rfl rfl)
theorem dX10_train_62 : decode cX10_train 62 = .ok (.iconst 3, 1) := dk_6 (dk_at dksX10_train_2 16 rfl rfl)
theorem dX10_train_63 : decode cX10_train 63 = .ok (.if_icmp .ne 15, 3) := dk_160 0 15 (dk_at dksX10_train_2 17 rfl rfl)
theorem dX10_train_66 : decode cX10_train 66 = .ok (.iload_n 3, 1) := dk_29 (dk_at dksX10_train_2 20 rfl rfl)
theorem dX10_train_67 : decode cX10_train 67 = .ok (.i2l, 1) := dk_133 (dk_at dksX10_train_2 21 rfl rfl)
theorem dX10_train_68 : decode cX10_train 68 = .ok (.lconst 0, 1) := dk_9 (dk_at dksX10_train_2 22 rfl rfl)
theorem dX10_train_69 : decode cX10_train 69 = .ok (.ldc2_w 387, 3) := dk_20 1 131 (dk_at dksX10_train_3 0 rfl rfl)
theorem dX10_train_72 : decode cX10_train 72 = .ok (.invokestatic 88, 3) := dk_184 0 88 (dk_at dksX10_train_3 3 rfl rfl)
theorem dX10_train_75 : decode cX10_train 75 = .ok (.goto 22, 3) := dk_167 0 22 (dk_at dksX10_train_3 6 rfl rfl)
theorem dX10_train_78 : decode cX10_train 78 = .ok (.iload_n 2, 1) := dk_28 (dk_at dksX10_train_3 9 rfl rfl)
theorem dX10_train_79 : decode cX10_train 79 = .ok (.iconst 4, 1) := dk_7 (dk_at dksX10_train_3 10 rfl rfl)
theorem dX10_train_80 : decode cX10_train 80 = .ok (.if_icmp .ne 16, 3) := dk_160 0 16 (dk_at dksX10_train_3 11 rfl rfl)
theorem dX10_train_83 : decode cX10_train 83 = .ok (.aload_n 0, 1) := dk_42 (dk_at dksX10_train_3 14 rfl rfl)
theorem dX10_train_84 : decode cX10_train 84 = .ok (.iload_n 3, 1) := dk_29 (dk_at dksX10_train_3 15 rfl rfl)
theorem dX10_train_85 : decode cX10_train 85 = .ok (.i2l, 1) := dk_133 (dk_at dksX10_train_3 16 rfl rfl)
theorem dX10_train_86 : decode cX10_train 86 = .ok (.invokevirtual 300, 3) := dk_182 1 44 (dk_at dksX10_train_3 17 rfl rfl)
theorem dX10_train_89 : decode cX10_train 89 = .ok (.ifCond .eq 7, 3) := dk_153 0 7 (dk_at dksX10_train_3 20 rfl rfl)
theorem dX10_train_92 : decode cX10_train 92 = .ok (.iconst 1, 1) := dk_4 (dk_at dksX10_train_3 23 rfl rfl)
theorem dX10_train_93 : decode cX10_train 93 = .ok (.goto 4, 3) := dk_167 0 4 (dk_at dksX10_train_4 0 rfl rfl)
theorem dX10_train_96 : decode cX10_train 96 = .ok (.iconst 0, 1) := dk_3 (dk_at dksX10_train_4 3 rfl rfl)
theorem dX10_train_97 : decode cX10_train 97 = .ok (.istore 4, 2) := dk_54 4 (dk_at dksX10_train_4 4 rfl rfl)
theorem dX10_train_99 : decode cX10_train 99 = .ok (.iload 4, 2) := dk_21 4 (dk_at dksX10_train_4 6 rfl rfl)
theorem dX10_train_101 : decode cX10_train 101 = .ok (.ifCond .ne 6, 3) := dk_154 0 6 (dk_at dksX10_train_4 8 rfl rfl)
theorem dX10_train_104 : decode cX10_train 104 = .ok (.bipush (-2), 2) := dk_16 254 (dk_at dksX10_train_4 11 rfl rfl)
theorem dX10_train_106 : decode cX10_train 106 = .ok (.ireturn, 1) := dk_172 (dk_at dksX10_train_4 13 rfl rfl)
theorem dX10_train_107 : decode cX10_train 107 = .ok (.aload_n 0, 1) := dk_42 (dk_at dksX10_train_4 14 rfl rfl)
theorem dX10_train_108 : decode cX10_train 108 = .ok (.iload_n 1, 1) := dk_27 (dk_at dksX10_train_4 15 rfl rfl)
theorem dX10_train_109 : decode cX10_train 109 = .ok (.iload_n 2, 1) := dk_28 (dk_at dksX10_train_4 16 rfl rfl)
theorem dX10_train_110 : decode cX10_train 110 = .ok (.invokevirtual 275, 3) := dk_182 1 19 (dk_at dksX10_train_4 17 rfl rfl)
theorem dX10_train_113 : decode cX10_train 113 = .ok (.istore 5, 2) := dk_54 5 (dk_at dksX10_train_4 20 rfl rfl)
theorem dX10_train_115 : decode cX10_train 115 = .ok (.aload_n 0, 1) := dk_42 (dk_at dksX10_train_4 22 rfl rfl)
theorem dX10_train_116 : decode cX10_train 116 = .ok (.getfield 9, 3) := dk_180 0 9 (dk_at dksX10_train_5 0 rfl rfl)
theorem dX10_train_119 : decode cX10_train 119 = .ok (.bipush 96, 2) := dk_16 96 (dk_at dksX10_train_5 3 rfl rfl)
theorem dX10_train_121 : decode cX10_train 121 = .ok (.iconst 5, 1) := dk_8 (dk_at dksX10_train_5 5 rfl rfl)
theorem dX10_train_122 : decode cX10_train 122 = .ok (.iload_n 1, 1) := dk_27 (dk_at dksX10_train_5 6 rfl rfl)
theorem dX10_train_123 : decode cX10_train 123 = .ok (.imul, 1) := dk_104 (dk_at dksX10_train_5 7 rfl rfl)
theorem dX10_train_124 : decode cX10_train 124 = .ok (.iadd, 1) := dk_96 (dk_at dksX10_train_5 8 rfl rfl)
theorem dX10_train_125 : decode cX10_train 125 = .ok (.iload_n 2, 1) := dk_28 (dk_at dksX10_train_5 9 rfl rfl)
theorem dX10_train_126 : decode cX10_train 126 = .ok (.iadd, 1) := dk_96 (dk_at dksX10_train_5 10 rfl rfl)
theorem dX10_train_127 : decode cX10_train 127 = .ok (.iload_n 3, 1) := dk_29 (dk_at dksX10_train_5 11 rfl rfl)
theorem dX10_train_128 : decode cX10_train 128 = .ok (.iastore, 1) := dk_79 (dk_at dksX10_train_5 12 rfl rfl)
theorem dX10_train_129 : decode cX10_train 129 = .ok (.iload 5, 2) := dk_21 5 (dk_at dksX10_train_5 13 rfl rfl)
theorem dX10_train_131 : decode cX10_train 131 = .ok (.ireturn, 1) := dk_172 (dk_at dksX10_train_5 15 rfl rfl)
abbrev cX10_drawn : ByteArray := prog_16_method_153_code
def yX10_drawn : MethodName := ⟨RX10, "drawn", "(III)I"⟩
def dkwX10_drawn_2 : List UInt8 := [2, 172]
abbrev dktX10_drawn_2 : List UInt8 := dkwX10_drawn_2 ++ []
def dkwX10_drawn_1 : List UInt8 := [42, 27, 133, 28, 182, 2, 25, 42, 29, 182, 1, 32, 153, 0, 12, 42, 29, 3, 182, 1, 35, 167, 0, 4]
abbrev dktX10_drawn_1 : List UInt8 := dkwX10_drawn_1 ++ dktX10_drawn_2
def dkwX10_drawn_0 : List UInt8 := [42, 182, 1, 26, 153, 0, 17, 27, 184, 2, 22, 153, 0, 10, 28, 184, 1, 166, 154, 0, 6, 16, 254, 172]
abbrev dktX10_drawn_0 : List UInt8 := dkwX10_drawn_0 ++ dktX10_drawn_1
theorem dksX10_drawn_0 : cX10_drawn.data.toList.drop 0 = dktX10_drawn_0 := by decide +kernel
theorem dksX10_drawn_1 : cX10_drawn.data.toList.drop 24 = dktX10_drawn_1 := dk_seg dksX10_drawn_0 24 rfl rfl
theorem dksX10_drawn_2 : cX10_drawn.data.toList.drop 48 = dktX10_drawn_2 := dk_seg dksX10_drawn_1 24 rfl rfl
theorem dX10_drawn_0 : decode cX10_drawn 0 = .ok (.aload_n 0, 1) := dk_42 (dk_at dksX10_drawn_0 0 rfl rfl)
theorem dX10_drawn_1 : decode cX10_drawn 1 = .ok (.invokevirtual 282, 3) := dk_182 1 26 (dk_at dksX10_drawn_0 1 rfl rfl)
theorem dX10_drawn_4 : decode cX10_drawn 4 = .ok (.ifCond .eq 17, 3) := dk_153 0 17 (dk_at dksX10_drawn_0 4 rfl rfl)
theorem dX10_drawn_7 : decode cX10_drawn 7 = .ok (.iload_n 1, 1) := dk_27 (dk_at dksX10_drawn_0 7 rfl rfl)
theorem dX10_drawn_8 : decode cX10_drawn 8 = .ok (.invokestatic 534, 3) := dk_184 2 22 (dk_at dksX10_drawn_0 8 rfl rfl)
theorem dX10_drawn_11 : decode cX10_drawn 11 = .ok (.ifCond .eq 10, 3) := dk_153 0 10 (dk_at dksX10_drawn_0 11 rfl rfl)
theorem dX10_drawn_14 : decode cX10_drawn 14 = .ok (.iload_n 2, 1) := dk_28 (dk_at dksX10_drawn_0 14 rfl rfl)
theorem dX10_drawn_15 : decode cX10_drawn 15 = .ok (.invokestatic 422, 3) := dk_184 1 166 (dk_at dksX10_drawn_0 15 rfl rfl)
theorem dX10_drawn_18 : decode cX10_drawn 18 = .ok (.ifCond .ne 6, 3) := dk_154 0 6 (dk_at dksX10_drawn_0 18 rfl rfl)
theorem dX10_drawn_21 : decode cX10_drawn 21 = .ok (.bipush (-2), 2) := dk_16 254 (dk_at dksX10_drawn_0 21 rfl rfl)
theorem dX10_drawn_23 : decode cX10_drawn 23 = .ok (.ireturn, 1) := dk_172 (dk_at dksX10_drawn_0 23 rfl rfl)
theorem dX10_drawn_24 : decode cX10_drawn 24 = .ok (.aload_n 0, 1) := dk_42 (dk_at dksX10_drawn_1 0 rfl rfl)
theorem dX10_drawn_25 : decode cX10_drawn 25 = .ok (.iload_n 1, 1) := dk_27 (dk_at dksX10_drawn_1 1 rfl rfl)
theorem dX10_drawn_26 : decode cX10_drawn 26 = .ok (.i2l, 1) := dk_133 (dk_at dksX10_drawn_1 2 rfl rfl)
theorem dX10_drawn_27 : decode cX10_drawn 27 = .ok (.iload_n 2, 1) := dk_28 (dk_at dksX10_drawn_1 3 rfl rfl)
theorem dX10_drawn_28 : decode cX10_drawn 28 = .ok (.invokevirtual 537, 3) := dk_182 2 25 (dk_at dksX10_drawn_1 4 rfl rfl)
theorem dX10_drawn_31 : decode cX10_drawn 31 = .ok (.aload_n 0, 1) := dk_42 (dk_at dksX10_drawn_1 7 rfl rfl)
theorem dX10_drawn_32 : decode cX10_drawn 32 = .ok (.iload_n 3, 1) := dk_29 (dk_at dksX10_drawn_1 8 rfl rfl)
theorem dX10_drawn_33 : decode cX10_drawn 33 = .ok (.invokevirtual 288, 3) := dk_182 1 32 (dk_at dksX10_drawn_1 9 rfl rfl)
theorem dX10_drawn_36 : decode cX10_drawn 36 = .ok (.ifCond .eq 12, 3) := dk_153 0 12 (dk_at dksX10_drawn_1 12 rfl rfl)
theorem dX10_drawn_39 : decode cX10_drawn 39 = .ok (.aload_n 0, 1) := dk_42 (dk_at dksX10_drawn_1 15 rfl rfl)
theorem dX10_drawn_40 : decode cX10_drawn 40 = .ok (.iload_n 3, 1) := dk_29 (dk_at dksX10_drawn_1 16 rfl rfl)
theorem dX10_drawn_41 : decode cX10_drawn 41 = .ok (.iconst 0, 1) := dk_3 (dk_at dksX10_drawn_1 17 rfl rfl)
theorem dX10_drawn_42 : decode cX10_drawn 42 = .ok (.invokevirtual 291, 3) := dk_182 1 35 (dk_at dksX10_drawn_1 18 rfl rfl)
theorem dX10_drawn_45 : decode cX10_drawn 45 = .ok (.goto 4, 3) := dk_167 0 4 (dk_at dksX10_drawn_1 21 rfl rfl)
theorem dX10_drawn_48 : decode cX10_drawn 48 = .ok (.iconst (-1), 1) := dk_2 (dk_at dksX10_drawn_2 0 rfl rfl)
theorem dX10_drawn_49 : decode cX10_drawn 49 = .ok (.ireturn, 1) := dk_172 (dk_at dksX10_drawn_2 1 rfl rfl)
abbrev cX10_isSeed : ByteArray := prog_16_method_152_code
def yX10_isSeed : MethodName := ⟨RX10, "isSeed", "(I)Z"⟩
def dkwX10_isSeed_0 : List UInt8 := [26, 133, 9, 20, 2, 20, 184, 0, 88, 172]
abbrev dktX10_isSeed_0 : List UInt8 := dkwX10_isSeed_0 ++ []
theorem dksX10_isSeed_0 : cX10_isSeed.data.toList.drop 0 = dktX10_isSeed_0 := by decide +kernel
theorem dX10_isSeed_0 : decode cX10_isSeed 0 = .ok (.iload_n 0, 1) := dk_26 (dk_at dksX10_isSeed_0 0 rfl rfl)
theorem dX10_isSeed_1 : decode cX10_isSeed 1 = .ok (.i2l, 1) := dk_133 (dk_at dksX10_isSeed_0 1 rfl rfl)
theorem dX10_isSeed_2 : decode cX10_isSeed 2 = .ok (.lconst 0, 1) := dk_9 (dk_at dksX10_isSeed_0 2 rfl rfl)
theorem dX10_isSeed_3 : decode cX10_isSeed 3 = .ok (.ldc2_w 532, 3) := dk_20 2 20 (dk_at dksX10_isSeed_0 3 rfl rfl)
theorem dX10_isSeed_6 : decode cX10_isSeed 6 = .ok (.invokestatic 88, 3) := dk_184 0 88 (dk_at dksX10_isSeed_0 6 rfl rfl)
theorem dX10_isSeed_9 : decode cX10_isSeed 9 = .ok (.ireturn, 1) := dk_172 (dk_at dksX10_isSeed_0 9 rfl rfl)
abbrev cX10_layNight : ByteArray := prog_16_method_151_code
def yX10_layNight : MethodName := ⟨RX10, "layNight", "(JI)V"⟩
def dkwX10_layNight_1 : List UInt8 := [21, 4, 2, 160, 0, 4, 177, 42, 21, 4, 2, 3, 182, 1, 7, 167, 255, 227, 177]
abbrev dktX10_layNight_1 : List UInt8 := dkwX10_layNight_1 ++ []
def dkwX10_layNight_0 : List UInt8 := [42, 31, 181, 2, 4, 42, 3, 181, 0, 248, 42, 182, 1, 1, 153, 0, 28, 42, 29, 182, 2, 17, 54, 4]
abbrev dktX10_layNight_0 : List UInt8 := dkwX10_layNight_0 ++ dktX10_layNight_1
theorem dksX10_layNight_0 : cX10_layNight.data.toList.drop 0 = dktX10_layNight_0 := by decide +kernel
theorem dksX10_layNight_1 : cX10_layNight.data.toList.drop 24 = dktX10_layNight_1 := dk_seg dksX10_layNight_0 24 rfl rfl
theorem dX10_layNight_0 : decode cX10_layNight 0 = .ok (.aload_n 0, 1) := dk_42 (dk_at dksX10_layNight_0 0 rfl rfl)
theorem dX10_layNight_1 : decode cX10_layNight 1 = .ok (.lload_n 1, 1) := dk_31 (dk_at dksX10_layNight_0 1 rfl rfl)
theorem dX10_layNight_2 : decode cX10_layNight 2 = .ok (.putfield 516, 3) := dk_181 2 4 (dk_at dksX10_layNight_0 2 rfl rfl)
theorem dX10_layNight_5 : decode cX10_layNight 5 = .ok (.aload_n 0, 1) := dk_42 (dk_at dksX10_layNight_0 5 rfl rfl)
theorem dX10_layNight_6 : decode cX10_layNight 6 = .ok (.iconst 0, 1) := dk_3 (dk_at dksX10_layNight_0 6 rfl rfl)
theorem dX10_layNight_7 : decode cX10_layNight 7 = .ok (.putfield 248, 3) := dk_181 0 248 (dk_at dksX10_layNight_0 7 rfl rfl)
theorem dX10_layNight_10 : decode cX10_layNight 10 = .ok (.aload_n 0, 1) := dk_42 (dk_at dksX10_layNight_0 10 rfl rfl)
theorem dX10_layNight_11 : decode cX10_layNight 11 = .ok (.invokevirtual 257, 3) := dk_182 1 1 (dk_at dksX10_layNight_0 11 rfl rfl)
theorem dX10_layNight_14 : decode cX10_layNight 14 = .ok (.ifCond .eq 28, 3) := dk_153 0 28 (dk_at dksX10_layNight_0 14 rfl rfl)
theorem dX10_layNight_17 : decode cX10_layNight 17 = .ok (.aload_n 0, 1) := dk_42 (dk_at dksX10_layNight_0 17 rfl rfl)
theorem dX10_layNight_18 : decode cX10_layNight 18 = .ok (.iload_n 3, 1) := dk_29 (dk_at dksX10_layNight_0 18 rfl rfl)
theorem dX10_layNight_19 : decode cX10_layNight 19 = .ok (.invokevirtual 529, 3) := dk_182 2 17 (dk_at dksX10_layNight_0 19 rfl rfl)
theorem dX10_layNight_22 : decode cX10_layNight 22 = .ok (.istore 4, 2) := dk_54 4 (dk_at dksX10_layNight_0 22 rfl rfl)
theorem dX10_layNight_24 : decode cX10_layNight 24 = .ok (.iload 4, 2) := dk_21 4 (dk_at dksX10_layNight_1 0 rfl rfl)
theorem dX10_layNight_26 : decode cX10_layNight 26 = .ok (.iconst (-1), 1) := dk_2 (dk_at dksX10_layNight_1 2 rfl rfl)
theorem dX10_layNight_27 : decode cX10_layNight 27 = .ok (.if_icmp .ne 4, 3) := dk_160 0 4 (dk_at dksX10_layNight_1 3 rfl rfl)
theorem dX10_layNight_30 : decode cX10_layNight 30 = .ok (.return_, 1) := dk_177 (dk_at dksX10_layNight_1 6 rfl rfl)
theorem dX10_layNight_31 : decode cX10_layNight 31 = .ok (.aload_n 0, 1) := dk_42 (dk_at dksX10_layNight_1 7 rfl rfl)
theorem dX10_layNight_32 : decode cX10_layNight 32 = .ok (.iload 4, 2) := dk_21 4 (dk_at dksX10_layNight_1 8 rfl rfl)
theorem dX10_layNight_34 : decode cX10_layNight 34 = .ok (.iconst (-1), 1) := dk_2 (dk_at dksX10_layNight_1 10 rfl rfl)
theorem dX10_layNight_35 : decode cX10_layNight 35 = .ok (.iconst 0, 1) := dk_3 (dk_at dksX10_layNight_1 11 rfl rfl)
theorem dX10_layNight_36 : decode cX10_layNight 36 = .ok (.invokevirtual 263, 3) := dk_182 1 7 (dk_at dksX10_layNight_1 12 rfl rfl)
theorem dX10_layNight_39 : decode cX10_layNight 39 = .ok (.goto (-29), 3) := dk_167 255 227 (dk_at dksX10_layNight_1 15 rfl rfl)
theorem dX10_layNight_42 : decode cX10_layNight 42 = .ok (.return_, 1) := dk_177 (dk_at dksX10_layNight_1 18 rfl rfl)
abbrev cX10_holeByLot : ByteArray := prog_16_method_150_code
def yX10_holeByLot : MethodName := ⟨RX10, "holeByLot", "(I)I"⟩
def dkwX10_holeByLot_6 : List UInt8 := [21, 6, 172, 132, 5, 255, 132, 6, 1, 167, 255, 218, 2, 172]
abbrev dktX10_holeByLot_6 : List UInt8 := dkwX10_holeByLot_6 ++ []
def dkwX10_holeByLot_5 : List UInt8 := [162, 0, 35, 42, 27, 21, 6, 28, 29, 182, 1, 162, 154, 0, 6, 167, 0, 14, 21, 5, 154, 0, 6]
abbrev dktX10_holeByLot_5 : List UInt8 := dkwX10_holeByLot_5 ++ dktX10_holeByLot_6
def dkwX10_holeByLot_4 : List UInt8 := [154, 0, 5, 2, 172, 42, 21, 4, 182, 2, 14, 54, 5, 3, 54, 6, 21, 6, 42, 182, 0, 92]
abbrev dktX10_holeByLot_4 : List UInt8 := dkwX10_holeByLot_4 ++ dktX10_holeByLot_5
def dkwX10_holeByLot_3 : List UInt8 := [182, 1, 162, 153, 0, 7, 4, 167, 0, 4, 3, 96, 54, 4, 132, 5, 1, 167, 255, 222, 21, 4]
abbrev dktX10_holeByLot_3 : List UInt8 := dkwX10_holeByLot_3 ++ dktX10_holeByLot_4
def dkwX10_holeByLot_2 : List UInt8 := [3, 54, 4, 3, 54, 5, 21, 5, 42, 182, 0, 92, 162, 0, 31, 21, 4, 42, 27, 21, 5, 28, 29]
abbrev dktX10_holeByLot_2 : List UInt8 := dkwX10_holeByLot_2 ++ dktX10_holeByLot_3
def dkwX10_holeByLot_1 : List UInt8 := [42, 180, 0, 248, 5, 162, 0, 7, 2, 167, 0, 14, 42, 42, 180, 0, 248, 5, 100, 3, 182, 1, 35, 62]
abbrev dktX10_holeByLot_1 : List UInt8 := dkwX10_holeByLot_1 ++ dktX10_holeByLot_2
def dkwX10_holeByLot_0 : List UInt8 := [42, 180, 0, 248, 4, 162, 0, 7, 2, 167, 0, 14, 42, 42, 180, 0, 248, 4, 100, 3, 182, 1, 35, 61]
abbrev dktX10_holeByLot_0 : List UInt8 := dkwX10_holeByLot_0 ++ dktX10_holeByLot_1
theorem dksX10_holeByLot_0 : cX10_holeByLot.data.toList.drop 0 = dktX10_holeByLot_0 := by decide +kernel
theorem dksX10_holeByLot_1 : cX10_holeByLot.data.toList.drop 24 = dktX10_holeByLot_1 := dk_seg dksX10_holeByLot_0 24 rfl rfl
theorem dksX10_holeByLot_2 : cX10_holeByLot.data.toList.drop 48 = dktX10_holeByLot_2 := dk_seg dksX10_holeByLot_1 24 rfl rfl
theorem dksX10_holeByLot_3 : cX10_holeByLot.data.toList.drop 71 = dktX10_holeByLot_3 := dk_seg dksX10_holeByLot_2 23 rfl rfl
theorem dksX10_holeByLot_4 : cX10_holeByLot.data.toList.drop 93 = dktX10_holeByLot_4 := dk_seg dksX10_holeByLot_3 22 rfl rfl
theorem dksX10_holeByLot_5 : cX10_holeByLot.data.toList.drop 115 = dktX10_holeByLot_5 := dk_seg dksX10_holeByLot_4 22 rfl rfl
theorem dksX10_holeByLot_6 : cX10_holeByLot.data.toList.drop 138 = dktX10_holeByLot_6 := dk_seg dksX10_holeByLot_5 23 rfl rfl
theorem dX10_holeByLot_0 : decode cX10_holeByLot 0 = .ok (.aload_n 0, 1) := dk_42 (dk_at dksX10_holeByLot_0 0 rfl rfl)
theorem dX10_holeByLot_1 : decode cX10_holeByLot 1 = .ok (.getfield 248, 3) := dk_180 0 248 (dk_at dksX10_holeByLot_0 1 rfl rfl)
theorem dX10_holeByLot_4 : decode cX10_holeByLot 4 = .ok (.iconst 1, 1) := dk_4 (dk_at dksX10_holeByLot_0 4 rfl rfl)
theorem dX10_holeByLot_5 : decode cX10_holeByLot 5 = .ok (.if_icmp .ge 7, 3) := dk_162 0 7 (dk_at dksX10_holeByLot_0 5 rfl rfl)
theorem dX10_holeByLot_8 : decode cX10_holeByLot 8 = .ok (.iconst (-1), 1) := dk_2 (dk_at dksX10_holeByLot_0 8 rfl rfl)
theorem dX10_holeByLot_9 : decode cX10_holeByLot 9 = .ok (.goto 14, 3) := dk_167 0 14 (dk_at dksX10_holeByLot_0 9 rfl rfl)
theorem dX10_holeByLot_12 : decode cX10_holeByLot 12 = .ok (.aload_n 0, 1) := dk_42 (dk_at dksX10_holeByLot_0 12 rfl rfl)
theorem dX10_holeByLot_13 : decode cX10_holeByLot 13 = .ok (.aload_n 0, 1) := dk_42 (dk_at dksX10_holeByLot_0 13 rfl rfl)
theorem dX10_holeByLot_14 : decode cX10_holeByLot 14 = .ok (.getfield 248, 3) := dk_180 0 248 (dk_at dksX10_holeByLot_0 14 rfl rfl)
theorem dX10_holeByLot_17 : decode cX10_holeByLot 17 = .ok (.iconst 1, 1) := dk_4 (dk_at dksX10_holeByLot_0 17 rfl rfl)
theorem dX10_holeByLot_18 : decode cX10_holeByLot 18 = .ok (.isub, 1) := dk_100 (dk_at dksX10_holeByLot_0 18 rfl rfl)
theorem dX10_holeByLot_19 : decode cX10_holeByLot 19 = .ok (.iconst 0, 1) := dk_3 (dk_at dksX10_holeByLot_0 19 rfl rfl)
theorem dX10_holeByLot_20 : decode cX10_holeByLot 20 = .ok (.invokevirtual 291, 3) := dk_182 1 35 (dk_at dksX10_holeByLot_0 20 rfl rfl)
theorem dX10_holeByLot_23 : decode cX10_holeByLot 23 = .ok (.istore_n 2, 1) := dk_61 (dk_at dksX10_holeByLot_0 23 rfl rfl)
theorem dX10_holeByLot_24 : decode cX10_holeByLot 24 = .ok (.aload_n 0, 1) := dk_42 (dk_at dksX10_holeByLot_1 0 rfl rfl)
theorem dX10_holeByLot_25 : decode cX10_holeByLot 25 = .ok (.getfield 248, 3) := dk_180 0 248 (dk_at dksX10_holeByLot_1 1 rfl rfl)
theorem dX10_holeByLot_28 : decode cX10_holeByLot 28 = .ok (.iconst 2, 1) := dk_5 (dk_at dksX10_holeByLot_1 4 rfl rfl)
theorem dX10_holeByLot_29 : decode cX10_holeByLot 29 = .ok (.if_icmp .ge 7, 3) := dk_162 0 7 (dk_at dksX10_holeByLot_1 5 rfl rfl)
theorem dX10_holeByLot_32 : decode cX10_holeByLot 32 = .ok (.iconst (-1), 1) := dk_2 (dk_at dksX10_holeByLot_1 8 rfl rfl)
theorem dX10_holeByLot_33 : decode cX10_holeByLot 33 = .ok (.goto 14, 3) := dk_167 0 14 (dk_at dksX10_holeByLot_1 9 rfl rfl)
theorem dX10_holeByLot_36 : decode cX10_holeByLot 36 = .ok (.aload_n 0, 1) := dk_42 (dk_at dksX10_holeByLot_1 12 rfl rfl)
theorem dX10_holeByLot_37 : decode cX10_holeByLot 37 = .ok (.aload_n 0, 1) := dk_42 (dk_at dksX10_holeByLot_1 13 rfl rfl)
theorem dX10_holeByLot_38 : decode cX10_holeByLot 38 = .ok (.getfield 248, 3) := dk_180 0 248 (dk_at dksX10_holeByLot_1 14 rfl rfl)
theorem dX10_holeByLot_41 : decode cX10_holeByLot 41 = .ok (.iconst 2, 1) := dk_5 (dk_at dksX10_holeByLot_1 17 rfl rfl)
theorem dX10_holeByLot_42 : decode cX10_holeByLot 42 = .ok (.isub, 1) := dk_100 (dk_at dksX10_holeByLot_1 18 rfl rfl)
theorem dX10_holeByLot_43 : decode cX10_holeByLot 43 = .ok (.iconst 0, 1) := dk_3 (dk_at dksX10_holeByLot_1 19 rfl rfl)
theorem dX10_holeByLot_44 : decode cX10_holeByLot 44 = .ok (.invokevirtual 291, 3) := dk_182 1 35 (dk_at dksX10_holeByLot_1 20 rfl rfl)
theorem dX10_holeByLot_47 : decode cX10_holeByLot 47 = .ok (.istore_n 3, 1) := dk_62 (dk_at dksX10_holeByLot_1 23 rfl rfl)
theorem dX10_holeByLot_48 : decode cX10_holeByLot 48 = .ok (.iconst 0, 1) := dk_3 (dk_at dksX10_holeByLot_2 0 rfl rfl)
theorem dX10_holeByLot_49 : decode cX10_holeByLot 49 = .ok (.istore 4, 2) := dk_54 4 (dk_at dksX10_holeByLot_2 1 rfl rfl)
theorem dX10_holeByLot_51 : decode cX10_holeByLot 51 = .ok (.iconst 0, 1) := dk_3 (dk_at dksX10_holeByLot_2 3 rfl rfl)
theorem dX10_holeByLot_52 : decode cX10_holeByLot 52 = .ok (.istore 5, 2) := dk_54 5 (dk_at dksX10_holeByLot_2 4 rfl rfl)
theorem dX10_holeByLot_54 : decode cX10_holeByLot 54 = .ok (.iload 5, 2) := dk_21 5 (dk_at dksX10_holeByLot_2 6 rfl rfl)
theorem dX10_holeByLot_56 : decode cX10_holeByLot 56 = .ok (.aload_n 0, 1) := dk_42 (dk_at dksX10_holeByLot_2 8 rfl rfl)
theorem dX10_holeByLot_57 : decode cX10_holeByLot 57 = .ok (.invokevirtual 92, 3) := dk_182 0 92 (dk_at dksX10_holeByLot_2 9 rfl rfl)
theorem dX10_holeByLot_60 : decode cX10_holeByLot 60 = .ok (.if_icmp .ge 31, 3) := dk_162 0 31 (dk_at dksX10_holeByLot_2 12 rfl rfl)
theorem dX10_holeByLot_63 : decode cX10_holeByLot 63 = .ok (.iload 4, 2) := dk_21 4 (dk_at dksX10_holeByLot_2 15 rfl rfl)
theorem dX10_holeByLot_65 : decode cX10_holeByLot 65 = .ok (.aload_n 0, 1) := dk_42 (dk_at dksX10_holeByLot_2 17 rfl rfl)
theorem dX10_holeByLot_66 : decode cX10_holeByLot 66 = .ok (.iload_n 1, 1) := dk_27 (dk_at dksX10_holeByLot_2 18 rfl rfl)
theorem dX10_holeByLot_67 : decode cX10_holeByLot 67 = .ok (.iload 5, 2) := dk_21 5 (dk_at dksX10_holeByLot_2 19 rfl rfl)
theorem dX10_holeByLot_69 : decode cX10_holeByLot 69 = .ok (.iload_n 2, 1) := dk_28 (dk_at dksX10_holeByLot_2 21 rfl rfl)
theorem dX10_holeByLot_70 : decode cX10_holeByLot 70 = .ok (.iload_n 3, 1) := dk_29 (dk_at dksX10_holeByLot_2 22 rfl rfl)
theorem dX10_holeByLot_71 : decode cX10_holeByLot 71 = .ok (.invokevirtual 418, 3) := dk_182 1 162 (dk_at dksX10_holeByLot_3 0 rfl rfl)
theorem dX10_holeByLot_74 : decode cX10_holeByLot 74 = .ok (.ifCond .eq 7, 3) := dk_153 0 7 (dk_at dksX10_holeByLot_3 3 rfl rfl)
theorem dX10_holeByLot_77 : decode cX10_holeByLot 77 = .ok (.iconst 1, 1) := dk_4 (dk_at dksX10_holeByLot_3 6 rfl rfl)
theorem dX10_holeByLot_78 : decode cX10_holeByLot 78 = .ok (.goto 4, 3) := dk_167 0 4 (dk_at dksX10_holeByLot_3 7 rfl rfl)
theorem dX10_holeByLot_81 : decode cX10_holeByLot 81 = .ok (.iconst 0, 1) := dk_3 (dk_at dksX10_holeByLot_3 10 rfl rfl)
theorem dX10_holeByLot_82 : decode cX10_holeByLot 82 = .ok (.iadd, 1) := dk_96 (dk_at dksX10_holeByLot_3 11 rfl rfl)
theorem dX10_holeByLot_83 : decode cX10_holeByLot 83 = .ok (.istore 4, 2) := dk_54 4 (dk_at dksX10_holeByLot_3 12 rfl rfl)
theorem dX10_holeByLot_85 : decode cX10_holeByLot 85 = .ok (.iinc 5 1, 3) := dk_132 5 1 (dk_at dksX10_holeByLot_3 14 rfl rfl)
theorem dX10_holeByLot_88 : decode cX10_holeByLot 88 = .ok (.goto (-34), 3) := dk_167 255 222 (dk_at dksX10_holeByLot_3 17 rfl rfl)
theorem dX10_holeByLot_91 : decode cX10_holeByLot 91 = .ok (.iload 4, 2) := dk_21 4 (dk_at dksX10_holeByLot_3 20 rfl rfl)
theorem dX10_holeByLot_93 : decode cX10_holeByLot 93 = .ok (.ifCond .ne 5, 3) := dk_154 0 5 (dk_at dksX10_holeByLot_4 0 rfl rfl)
theorem dX10_holeByLot_96 : decode cX10_holeByLot 96 = .ok (.iconst (-1), 1) := dk_2 (dk_at dksX10_holeByLot_4 3 rfl rfl)
theorem dX10_holeByLot_97 : decode cX10_holeByLot 97 = .ok (.ireturn, 1) := dk_172 (dk_at dksX10_holeByLot_4 4 rfl rfl)
theorem dX10_holeByLot_98 : decode cX10_holeByLot 98 = .ok (.aload_n 0, 1) := dk_42 (dk_at dksX10_holeByLot_4 5 rfl rfl)
theorem dX10_holeByLot_99 : decode cX10_holeByLot 99 = .ok (.iload 4, 2) := dk_21 4 (dk_at dksX10_holeByLot_4 6 rfl rfl)
theorem dX10_holeByLot_101 : decode cX10_holeByLot 101 = .ok (.invokevirtual 526, 3) := dk_182 2 14 (dk_at dksX10_holeByLot_4 8 rfl rfl)
theorem dX10_holeByLot_104 : decode cX10_holeByLot 104 = .ok (.istore 5, 2) := dk_54 5 (dk_at dksX10_holeByLot_4 11 rfl rfl)
theorem dX10_holeByLot_106 : decode cX10_holeByLot 106 = .ok (.iconst 0, 1) := dk_3 (dk_at dksX10_holeByLot_4 13 rfl rfl)
theorem dX10_holeByLot_107 : decode cX10_holeByLot 107 = .ok (.istore 6, 2) := dk_54 6 (dk_at dksX10_holeByLot_4 14 rfl rfl)
theorem dX10_holeByLot_109 : decode cX10_holeByLot 109 = .ok (.iload 6, 2) := dk_21 6 (dk_at dksX10_holeByLot_4 16 rfl rfl)
theorem dX10_holeByLot_111 : decode cX10_holeByLot 111 = .ok (.aload_n 0, 1) := dk_42 (dk_at dksX10_holeByLot_4 18 rfl rfl)
theorem dX10_holeByLot_112 : decode cX10_holeByLot 112 = .ok (.invokevirtual 92, 3) := dk_182 0 92 (dk_at dksX10_holeByLot_4 19 rfl rfl)
theorem dX10_holeByLot_115 : decode cX10_holeByLot 115 = .ok (.if_icmp .ge 35, 3) := dk_162 0 35 (dk_at dksX10_holeByLot_5 0 rfl rfl)
theorem dX10_holeByLot_118 : decode cX10_holeByLot 118 = .ok (.aload_n 0, 1) := dk_42 (dk_at dksX10_holeByLot_5 3 rfl rfl)
theorem dX10_holeByLot_119 : decode cX10_holeByLot 119 = .ok (.iload_n 1, 1) := dk_27 (dk_at dksX10_holeByLot_5 4 rfl rfl)
theorem dX10_holeByLot_120 : decode cX10_holeByLot 120 = .ok (.iload 6, 2) := dk_21 6 (dk_at dksX10_holeByLot_5 5 rfl rfl)
theorem dX10_holeByLot_122 : decode cX10_holeByLot 122 = .ok (.iload_n 2, 1) := dk_28 (dk_at dksX10_holeByLot_5 7 rfl rfl)
theorem dX10_holeByLot_123 : decode cX10_holeByLot 123 = .ok (.iload_n 3, 1) := dk_29 (dk_at dksX10_holeByLot_5 8 rfl rfl)
theorem dX10_holeByLot_124 : decode cX10_holeByLot 124 = .ok (.invokevirtual 418, 3) := dk_182 1 162 (dk_at dksX10_holeByLot_5 9 rfl rfl)
theorem dX10_holeByLot_127 : decode cX10_holeByLot 127 = .ok (.ifCond .ne 6, 3) := dk_154 0 6 (dk_at dksX10_holeByLot_5 12 rfl rfl)
theorem dX10_holeByLot_130 : decode cX10_holeByLot 130 = .ok (.goto 14, 3) := dk_167 0 14 (dk_at dksX10_holeByLot_5 15 rfl rfl)
theorem dX10_holeByLot_133 : decode cX10_holeByLot 133 = .ok (.iload 5, 2) := dk_21 5 (dk_at dksX10_holeByLot_5 18 rfl rfl)
theorem dX10_holeByLot_135 : decode cX10_holeByLot 135 = .ok (.ifCond .ne 6, 3) := dk_154 0 6 (dk_at dksX10_holeByLot_5 20 rfl rfl)
theorem dX10_holeByLot_138 : decode cX10_holeByLot 138 = .ok (.iload 6, 2) := dk_21 6 (dk_at dksX10_holeByLot_6 0 rfl rfl)
theorem dX10_holeByLot_140 : decode cX10_holeByLot 140 = .ok (.ireturn, 1) := dk_172 (dk_at dksX10_holeByLot_6 2 rfl rfl)
theorem dX10_holeByLot_141 : decode cX10_holeByLot 141 = .ok (.iinc 5 (-1), 3) := dk_132 5 255 (dk_at dksX10_holeByLot_6 3 rfl rfl)
theorem dX10_holeByLot_144 : decode cX10_holeByLot 144 = .ok (.iinc 6 1, 3) := dk_132 6 1 (dk_at dksX10_holeByLot_6 6 rfl rfl)
theorem dX10_holeByLot_147 : decode cX10_holeByLot 147 = .ok (.goto (-38), 3) := dk_167 255 218 (dk_at dksX10_holeByLot_6 9 rfl rfl)
theorem dX10_holeByLot_150 : decode cX10_holeByLot 150 = .ok (.iconst (-1), 1) := dk_2 (dk_at dksX10_holeByLot_6 12 rfl rfl)
theorem dX10_holeByLot_151 : decode cX10_holeByLot 151 = .ok (.ireturn, 1) := dk_172 (dk_at dksX10_holeByLot_6 13 rfl rfl)
abbrev cX10_draw : ByteArray := prog_16_method_149_code
def yX10_draw : MethodName := ⟨RX10, "draw", "(I)I"⟩
def dkwX10_draw_1 : List UInt8 := [20, 2, 12, 109, 27, 133, 113, 136, 172]
abbrev dktX10_draw_1 : List UInt8 := dkwX10_draw_1 ++ []
def dkwX10_draw_0 : List UInt8 := [42, 20, 2, 2, 42, 180, 2, 4, 105, 20, 2, 8, 97, 20, 2, 10, 113, 181, 2, 4, 42, 180, 2, 4]
abbrev dktX10_draw_0 : List UInt8 := dkwX10_draw_0 ++ dktX10_draw_1
theorem dksX10_draw_0 : cX10_draw.data.toList.drop 0 = dktX10_draw_0 := by decide +kernel
theorem dksX10_draw_1 : cX10_draw.data.toList.drop 24 = dktX10_draw_1 := dk_seg dksX10_draw_0 24 rfl rfl
theorem dX10_draw_0 : decode cX10_draw 0 = .ok (.aload_n 0, 1) := dk_42 (dk_at dksX10_draw_0 0 rfl rfl)
theorem dX10_draw_1 : decode cX10_draw 1 = .ok (.ldc2_w 514, 3) := dk_20 2 2 (dk_at dksX10_draw_0 1 rfl rfl)
theorem dX10_draw_4 : decode cX10_draw 4 = .ok (.aload_n 0, 1) := dk_42 (dk_at dksX10_draw_0 4 rfl rfl)
theorem dX10_draw_5 : decode cX10_draw 5 = .ok (.getfield 516, 3) := dk_180 2 4 (dk_at dksX10_draw_0 5 rfl rfl)
theorem dX10_draw_8 : decode cX10_draw 8 = .ok (.lmul, 1) := dk_105 (dk_at dksX10_draw_0 8 rfl rfl)
theorem dX10_draw_9 : decode cX10_draw 9 = .ok (.ldc2_w 520, 3) := dk_20 2 8 (dk_at dksX10_draw_0 9 rfl rfl)
theorem dX10_draw_12 : decode cX10_draw 12 = .ok (.ladd, 1) := dk_97 (dk_at dksX10_draw_0 12 rfl rfl)
theorem dX10_draw_13 : decode cX10_draw 13 = .ok (.ldc2_w 522, 3) := dk_20 2 10 (dk_at dksX10_draw_0 13 rfl rfl)
theorem dX10_draw_16 : decode cX10_draw 16 = .ok (.lrem, 1) := dk_113 (dk_at dksX10_draw_0 16 rfl rfl)
theorem dX10_draw_17 : decode cX10_draw 17 = .ok (.putfield 516, 3) := dk_181 2 4 (dk_at dksX10_draw_0 17 rfl rfl)
theorem dX10_draw_20 : decode cX10_draw 20 = .ok (.aload_n 0, 1) := dk_42 (dk_at dksX10_draw_0 20 rfl rfl)
theorem dX10_draw_21 : decode cX10_draw 21 = .ok (.getfield 516, 3) := dk_180 2 4 (dk_at dksX10_draw_0 21 rfl rfl)
theorem dX10_draw_24 : decode cX10_draw 24 = .ok (.ldc2_w 524, 3) := dk_20 2 12 (dk_at dksX10_draw_1 0 rfl rfl)
theorem dX10_draw_27 : decode cX10_draw 27 = .ok (.ldiv, 1) := dk_109 (dk_at dksX10_draw_1 3 rfl rfl)
theorem dX10_draw_28 : decode cX10_draw 28 = .ok (.iload_n 1, 1) := dk_27 (dk_at dksX10_draw_1 4 rfl rfl)
theorem dX10_draw_29 : decode cX10_draw 29 = .ok (.i2l, 1) := dk_133 (dk_at dksX10_draw_1 5 rfl rfl)
theorem dX10_draw_30 : decode cX10_draw 30 = .ok (.lrem, 1) := dk_113 (dk_at dksX10_draw_1 6 rfl rfl)
theorem dX10_draw_31 : decode cX10_draw 31 = .ok (.l2i, 1) := dk_136 (dk_at dksX10_draw_1 7 rfl rfl)
theorem dX10_draw_32 : decode cX10_draw 32 = .ok (.ireturn, 1) := dk_172 (dk_at dksX10_draw_1 8 rfl rfl)
abbrev cX10_night : ByteArray := prog_16_method_155_code
def yX10_night : MethodName := ⟨RX10, "night", "(III)I"⟩
def dkwX10_night_1 : List UInt8 := [133, 28, 29, 182, 2, 29, 167, 0, 5, 16, 254, 172]
abbrev dktX10_night_1 : List UInt8 := dkwX10_night_1 ++ []
def dkwX10_night_0 : List UInt8 := [27, 184, 2, 22, 153, 0, 29, 28, 184, 1, 166, 153, 0, 22, 42, 29, 182, 1, 14, 153, 0, 14, 42, 27]
abbrev dktX10_night_0 : List UInt8 := dkwX10_night_0 ++ dktX10_night_1
theorem dksX10_night_0 : cX10_night.data.toList.drop 0 = dktX10_night_0 := by decide +kernel
theorem dksX10_night_1 : cX10_night.data.toList.drop 24 = dktX10_night_1 := dk_seg dksX10_night_0 24 rfl rfl
theorem dX10_night_0 : decode cX10_night 0 = .ok (.iload_n 1, 1) := dk_27 (dk_at dksX10_night_0 0 rfl rfl)
theorem dX10_night_1 : decode cX10_night 1 = .ok (.invokestatic 534, 3) := dk_184 2 22 (dk_at dksX10_night_0 1 rfl rfl)
theorem dX10_night_4 : decode cX10_night 4 = .ok (.ifCond .eq 29, 3) := dk_153 0 29 (dk_at dksX10_night_0 4 rfl rfl)
theorem dX10_night_7 : decode cX10_night 7 = .ok (.iload_n 2, 1) := dk_28 (dk_at dksX10_night_0 7 rfl rfl)
theorem dX10_night_8 : decode cX10_night 8 = .ok (.invokestatic 422, 3) := dk_184 1 166 (dk_at dksX10_night_0 8 rfl rfl)
theorem dX10_night_11 : decode cX10_night 11 = .ok (.ifCond .eq 22, 3) := dk_153 0 22 (dk_at dksX10_night_0 11 rfl rfl)
theorem dX10_night_14 : decode cX10_night 14 = .ok (.aload_n 0, 1) := dk_42 (dk_at dksX10_night_0 14 rfl rfl)
theorem dX10_night_15 : decode cX10_night 15 = .ok (.iload_n 3, 1) := dk_29 (dk_at dksX10_night_0 15 rfl rfl)
theorem dX10_night_16 : decode cX10_night 16 = .ok (.invokevirtual 270, 3) := dk_182 1 14 (dk_at dksX10_night_0 16 rfl rfl)
theorem dX10_night_19 : decode cX10_night 19 = .ok (.ifCond .eq 14, 3) := dk_153 0 14 (dk_at dksX10_night_0 19 rfl rfl)
theorem dX10_night_22 : decode cX10_night 22 = .ok (.aload_n 0, 1) := dk_42 (dk_at dksX10_night_0 22 rfl rfl)
theorem dX10_night_23 : decode cX10_night 23 = .ok (.iload_n 1, 1) := dk_27 (dk_at dksX10_night_0 23 rfl rfl)
theorem dX10_night_24 : decode cX10_night 24 = .ok (.i2l, 1) := dk_133 (dk_at dksX10_night_1 0 rfl rfl)
theorem dX10_night_25 : decode cX10_night 25 = .ok (.iload_n 2, 1) := dk_28 (dk_at dksX10_night_1 1 rfl rfl)
theorem dX10_night_26 : decode cX10_night 26 = .ok (.iload_n 3, 1) := dk_29 (dk_at dksX10_night_1 2 rfl rfl)
theorem dX10_night_27 : decode cX10_night 27 = .ok (.invokevirtual 541, 3) := dk_182 2 29 (dk_at dksX10_night_1 3 rfl rfl)
theorem dX10_night_30 : decode cX10_night 30 = .ok (.goto 5, 3) := dk_167 0 5 (dk_at dksX10_night_1 6 rfl rfl)
theorem dX10_night_33 : decode cX10_night 33 = .ok (.bipush (-2), 2) := dk_16 254 (dk_at dksX10_night_1 9 rfl rfl)
theorem dX10_night_35 : decode cX10_night 35 = .ok (.ireturn, 1) := dk_172 (dk_at dksX10_night_1 11 rfl rfl)
abbrev cX10_nightOf : ByteArray := prog_16_method_154_code
def yX10_nightOf : MethodName := ⟨RX10, "nightOf", "(JII)I"⟩
def dkwX10_nightOf_0 : List UInt8 := [42, 31, 29, 182, 2, 25, 42, 21, 4, 182, 1, 72, 42, 182, 1, 106, 42, 180, 1, 90, 172]
abbrev dktX10_nightOf_0 : List UInt8 := dkwX10_nightOf_0 ++ []
theorem dksX10_nightOf_0 : cX10_nightOf.data.toList.drop 0 = dktX10_nightOf_0 := by decide +kernel
theorem dX10_nightOf_0 : decode cX10_nightOf 0 = .ok (.aload_n 0, 1) := dk_42 (dk_at dksX10_nightOf_0 0 rfl rfl)
theorem dX10_nightOf_1 : decode cX10_nightOf 1 = .ok (.lload_n 1, 1) := dk_31 (dk_at dksX10_nightOf_0 1 rfl rfl)
theorem dX10_nightOf_2 : decode cX10_nightOf 2 = .ok (.iload_n 3, 1) := dk_29 (dk_at dksX10_nightOf_0 2 rfl rfl)
theorem dX10_nightOf_3 : decode cX10_nightOf 3 = .ok (.invokevirtual 537, 3) := dk_182 2 25 (dk_at dksX10_nightOf_0 3 rfl rfl)
theorem dX10_nightOf_6 : decode cX10_nightOf 6 = .ok (.aload_n 0, 1) := dk_42 (dk_at dksX10_nightOf_0 6 rfl rfl)
theorem dX10_nightOf_7 : decode cX10_nightOf 7 = .ok (.iload 4, 2) := dk_21 4 (dk_at dksX10_nightOf_0 7 rfl rfl)
theorem dX10_nightOf_9 : decode cX10_nightOf 9 = .ok (.invokevirtual 328, 3) := dk_182 1 72 (dk_at dksX10_nightOf_0 9 rfl rfl)
theorem dX10_nightOf_12 : decode cX10_nightOf 12 = .ok (.aload_n 0, 1) := dk_42 (dk_at dksX10_nightOf_0 12 rfl rfl)
theorem dX10_nightOf_13 : decode cX10_nightOf 13 = .ok (.invokevirtual 362, 3) := dk_182 1 106 (dk_at dksX10_nightOf_0 13 rfl rfl)
theorem dX10_nightOf_16 : decode cX10_nightOf 16 = .ok (.aload_n 0, 1) := dk_42 (dk_at dksX10_nightOf_0 16 rfl rfl)
theorem dX10_nightOf_17 : decode cX10_nightOf 17 = .ok (.getfield 346, 3) := dk_180 1 90 (dk_at dksX10_nightOf_0 17 rfl rfl)
theorem dX10_nightOf_20 : decode cX10_nightOf 20 = .ok (.ireturn, 1) := dk_172 (dk_at dksX10_nightOf_0 20 rfl rfl)
abbrev cX10_years : ByteArray := prog_16_method_156_code
def yX10_years : MethodName := ⟨RX10, "years", "(IIII)I"⟩
def dkwX10_years_3 : List UInt8 := [167, 255, 229, 21, 5, 172]
abbrev dktX10_years_3 : List UInt8 := dkwX10_years_3 ++ []
def dkwX10_years_2 : List UInt8 := [162, 0, 27, 21, 5, 42, 27, 133, 21, 6, 133, 97, 29, 21, 4, 182, 2, 29, 96, 54, 5, 132, 6, 1]
abbrev dktX10_years_2 : List UInt8 := dkwX10_years_2 ++ dktX10_years_3
def dkwX10_years_1 : List UInt8 := [153, 0, 12, 42, 21, 4, 182, 1, 14, 154, 0, 6, 16, 254, 172, 3, 54, 5, 3, 54, 6, 21, 6, 28]
abbrev dktX10_years_1 : List UInt8 := dkwX10_years_1 ++ dktX10_years_2
def dkwX10_years_0 : List UInt8 := [27, 184, 2, 22, 153, 0, 31, 28, 133, 10, 20, 1, 218, 184, 0, 88, 153, 0, 19, 29, 184, 1, 166]
abbrev dktX10_years_0 : List UInt8 := dkwX10_years_0 ++ dktX10_years_1
theorem dksX10_years_0 : cX10_years.data.toList.drop 0 = dktX10_years_0 := by decide +kernel
theorem dksX10_years_1 : cX10_years.data.toList.drop 23 = dktX10_years_1 := dk_seg dksX10_years_0 23 rfl rfl
theorem dksX10_years_2 : cX10_years.data.toList.drop 47 = dktX10_years_2 := dk_seg dksX10_years_1 24 rfl rfl
theorem dksX10_years_3 : cX10_years.data.toList.drop 71 = dktX10_years_3 := dk_seg dksX10_years_2 24 rfl rfl
theorem dX10_years_0 : decode cX10_years 0 = .ok (.iload_n 1, 1) := dk_27 (dk_at dksX10_years_0 0 rfl rfl)
theorem dX10_years_1 : decode cX10_years 1 = .ok (.invokestatic 534, 3) := dk_184 2 22 (dk_at dksX10_years_0 1 rfl rfl)
theorem dX10_years_4 : decode cX10_years 4 = .ok (.ifCond .eq 31, 3) := dk_153 0 31 (dk_at dksX10_years_0 4 rfl rfl)
theorem dX10_years_7 : decode cX10_years 7 = .ok (.iload_n 2, 1) := dk_28 (dk_at dksX10_years_0 7 rfl rfl)
theorem dX10_years_8 : decode cX10_years 8 = .ok (.i2l, 1) := dk_133 (dk_at dksX10_years_0 8 rfl rfl)
theorem dX10_years_9 : decode cX10_years 9 = .ok (.lconst 1, 1) := dk_10 (dk_at dksX10_years_0 9 rfl rfl)
theorem dX10_years_10 : decode cX10_years 10 = .ok (.ldc2_w 474, 3) := dk_20 1 218 (dk_at dksX10_years_0 10 rfl rfl)
theorem dX10_years_13 : decode cX10_years 13 = .ok (.invokestatic 88, 3) := dk_184 0 88 (dk_at dksX10_years_0 13 rfl rfl)
theorem dX10_years_16 : decode cX10_years 16 = .ok (.ifCond .eq 19, 3) := dk_153 0 19 (dk_at dksX10_years_0 16 rfl rfl)
theorem dX10_years_19 : decode cX10_years 19 = .ok (.iload_n 3, 1) := dk_29 (dk_at dksX10_years_0 19 rfl rfl)
theorem dX10_years_20 : decode cX10_years 20 = .ok (.invokestatic 422, 3) := dk_184 1 166 (dk_at dksX10_years_0 20 rfl rfl)
theorem dX10_years_23 : decode cX10_years 23 = .ok (.ifCond .eq 12, 3) := dk_153 0 12 (dk_at dksX10_years_1 0 rfl rfl)
theorem dX10_years_26 : decode cX10_years 26 = .ok (.aload_n 0, 1) := dk_42 (dk_at dksX10_years_1 3 rfl rfl)
theorem dX10_years_27 : decode cX10_years 27 = .ok (.iload 4, 2) := dk_21 4 (dk_at dksX10_years_1 4 rfl rfl)
theorem dX10_years_29 : decode cX10_years 29 = .ok (.invokevirtual 270, 3) := dk_182 1 14 (dk_at dksX10_years_1 6 rfl rfl)
theorem dX10_years_32 : decode cX10_years 32 = .ok (.ifCond .ne 6, 3) := dk_154 0 6 (dk_at dksX10_years_1 9 rfl rfl)
theorem dX10_years_35 : decode cX10_years 35 = .ok (.bipush (-2), 2) := dk_16 254 (dk_at dksX10_years_1 12 rfl rfl)
theorem dX10_years_37 : decode cX10_years 37 = .ok (.ireturn, 1) := dk_172 (dk_at dksX10_years_1 14 rfl rfl)
theorem dX10_years_38 : decode cX10_years 38 = .ok (.iconst 0, 1) := dk_3 (dk_at dksX10_years_1 15 rfl rfl)
theorem dX10_years_39 : decode cX10_years 39 = .ok (.istore 5, 2) := dk_54 5 (dk_at dksX10_years_1 16 rfl rfl)
theorem dX10_years_41 : decode cX10_years 41 = .ok (.iconst 0, 1) := dk_3 (dk_at dksX10_years_1 18 rfl rfl)
theorem dX10_years_42 : decode cX10_years 42 = .ok (.istore 6, 2) := dk_54 6 (dk_at dksX10_years_1 19 rfl rfl)
theorem dX10_years_44 : decode cX10_years 44 = .ok (.iload 6, 2) := dk_21 6 (dk_at dksX10_years_1 21 rfl rfl)
theorem dX10_years_46 : decode cX10_years 46 = .ok (.iload_n 2, 1) := dk_28 (dk_at dksX10_years_1 23 rfl rfl)
theorem dX10_years_47 : decode cX10_years 47 = .ok (.if_icmp .ge 27, 3) := dk_162 0 27 (dk_at dksX10_years_2 0 rfl rfl)
theorem dX10_years_50 : decode cX10_years 50 = .ok (.iload 5, 2) := dk_21 5 (dk_at dksX10_years_2 3 rfl rfl)
theorem dX10_years_52 : decode cX10_years 52 = .ok (.aload_n 0, 1) := dk_42 (dk_at dksX10_years_2 5 rfl rfl)
theorem dX10_years_53 : decode cX10_years 53 = .ok (.iload_n 1, 1) := dk_27 (dk_at dksX10_years_2 6 rfl rfl)
theorem dX10_years_54 : decode cX10_years 54 = .ok (.i2l, 1) := dk_133 (dk_at dksX10_years_2 7 rfl rfl)
theorem dX10_years_55 : decode cX10_years 55 = .ok (.iload 6, 2) := dk_21 6 (dk_at dksX10_years_2 8 rfl rfl)
theorem dX10_years_57 : decode cX10_years 57 = .ok (.i2l, 1) := dk_133 (dk_at dksX10_years_2 10 rfl rfl)
theorem dX10_years_58 : decode cX10_years 58 = .ok (.ladd, 1) := dk_97 (dk_at dksX10_years_2 11 rfl rfl)
theorem dX10_years_59 : decode cX10_years 59 = .ok (.iload_n 3, 1) := dk_29 (dk_at dksX10_years_2 12 rfl rfl)
theorem dX10_years_60 : decode cX10_years 60 = .ok (.iload 4, 2) := dk_21 4 (dk_at dksX10_years_2 13 rfl rfl)
theorem dX10_years_62 : decode cX10_years 62 = .ok (.invokevirtual 541, 3) := dk_182 2 29 (dk_at dksX10_years_2 15 rfl rfl)
theorem dX10_years_65 : decode cX10_years 65 = .ok (.iadd, 1) := dk_96 (dk_at dksX10_years_2 18 rfl rfl)
theorem dX10_years_66 : decode cX10_years 66 = .ok (.istore 5, 2) := dk_54 5 (dk_at dksX10_years_2 19 rfl rfl)
theorem dX10_years_68 : decode cX10_years 68 = .ok (.iinc 6 1, 3) := dk_132 6 1 (dk_at dksX10_years_2 21 rfl rfl)
theorem dX10_years_71 : decode cX10_years 71 = .ok (.goto (-27), 3) := dk_167 255 229 (dk_at dksX10_years_3 0 rfl rfl)
theorem dX10_years_74 : decode cX10_years 74 = .ok (.iload 5, 2) := dk_21 5 (dk_at dksX10_years_3 3 rfl rfl)
theorem dX10_years_76 : decode cX10_years 76 = .ok (.ireturn, 1) := dk_172 (dk_at dksX10_years_3 5 rfl rfl)
abbrev cX10_count : ByteArray := prog_16_method_157_code
def yX10_count : MethodName := ⟨RX10, "count", "(I)I"⟩
def dkwX10_count_6 : List UInt8 := [167, 0, 4, 4, 96, 61, 132, 3, 1, 167, 255, 230, 28, 172, 2, 172]
abbrev dktX10_count_6 : List UInt8 := dkwX10_count_6 ++ []
def dkwX10_count_5 : List UInt8 := [180, 0, 96, 172, 3, 62, 29, 7, 162, 0, 27, 28, 42, 180, 0, 71, 29, 46, 2, 160, 0, 7, 3]
abbrev dktX10_count_5 : List UInt8 := dkwX10_count_5 ++ dktX10_count_6
def dkwX10_count_4 : List UInt8 := [180, 0, 9, 16, 7, 46, 172, 42, 180, 0, 9, 16, 8, 46, 172, 42, 180, 0, 9, 16, 9, 46, 172, 42]
abbrev dktX10_count_4 : List UInt8 := dkwX10_count_4 ++ dktX10_count_5
def dkwX10_count_3 : List UInt8 := [180, 0, 9, 6, 46, 172, 42, 180, 0, 9, 8, 46, 172, 42, 180, 0, 9, 16, 6, 46, 172, 42]
abbrev dktX10_count_3 : List UInt8 := dkwX10_count_3 ++ dktX10_count_4
def dkwX10_count_2 : List UInt8 := [42, 180, 0, 9, 3, 46, 172, 42, 180, 0, 9, 4, 46, 172, 42, 180, 0, 9, 5, 46, 172, 42]
abbrev dktX10_count_2 : List UInt8 := dkwX10_count_2 ++ dktX10_count_3
def dkwX10_count_1 : List UInt8 := [170, 0, 0, 0, 162, 0, 0, 0, 0, 0, 0, 0, 10, 0, 0, 0, 57, 0, 0, 0, 64, 0, 0, 0, 71, 0, 0, 0, 78, 0, 0, 0, 85, 0, 0, 0, 92, 0, 0, 0, 100, 0, 0, 0, 108, 0, 0, 0, 116, 0, 0, 0, 124, 0, 0, 0, 129]
abbrev dktX10_count_1 : List UInt8 := dkwX10_count_1 ++ dktX10_count_2
def dkwX10_count_0 : List UInt8 := [3, 61, 27]
abbrev dktX10_count_0 : List UInt8 := dkwX10_count_0 ++ dktX10_count_1
theorem dksX10_count_0 : cX10_count.data.toList.drop 0 = dktX10_count_0 := by decide +kernel
theorem dksX10_count_1 : cX10_count.data.toList.drop 3 = dktX10_count_1 := dk_seg dksX10_count_0 3 rfl rfl
theorem dksX10_count_2 : cX10_count.data.toList.drop 60 = dktX10_count_2 := dk_seg dksX10_count_1 57 rfl rfl
theorem dksX10_count_3 : cX10_count.data.toList.drop 82 = dktX10_count_3 := dk_seg dksX10_count_2 22 rfl rfl
theorem dksX10_count_4 : cX10_count.data.toList.drop 104 = dktX10_count_4 := dk_seg dksX10_count_3 22 rfl rfl
theorem dksX10_count_5 : cX10_count.data.toList.drop 128 = dktX10_count_5 := dk_seg dksX10_count_4 24 rfl rfl
theorem dksX10_count_6 : cX10_count.data.toList.drop 151 = dktX10_count_6 := dk_seg dksX10_count_5 23 rfl rfl
theorem dX10_count_0 : decode cX10_count 0 = .ok (.iconst 0, 1) := dk_3 (dk_at dksX10_count_0 0 rfl rfl)
theorem dX10_count_1 : decode cX10_count 1 = .ok (.istore_n 2, 1) := dk_61 (dk_at dksX10_count_0 1 rfl rfl)
theorem dX10_count_2 : decode cX10_count 2 = .ok (.iload_n 1, 1) := dk_27 (dk_at dksX10_count_0 2 rfl rfl)
theorem dX10_count_3 : decode cX10_count 3 = .ok (.tableswitch 162 0 10 #[57, 64, 71, 78, 85, 92, 100, 108, 116, 124, 129], 57) := by decide +kernel
theorem dX10_count_60 : decode cX10_count 60 = .ok (.aload_n 0, 1) := dk_42 (dk_at dksX10_count_2 0 rfl rfl)
theorem dX10_count_61 : decode cX10_count 61 = .ok (.getfield 9, 3) := dk_180 0 9 (dk_at dksX10_count_2 1 rfl rfl)
theorem dX10_count_64 : decode cX10_count 64 = .ok (.iconst 0, 1) := dk_3 (dk_at dksX10_count_2 4 rfl rfl)
theorem dX10_count_65 : decode cX10_count 65 = .ok (.iaload, 1) := dk_46 (dk_at dksX10_count_2 5 rfl rfl)
theorem dX10_count_66 : decode cX10_count 66 = .ok (.ireturn, 1) := dk_172 (dk_at dksX10_count_2 6 rfl rfl)
theorem dX10_count_67 : decode cX10_count 67 = .ok (.aload_n 0, 1) := dk_42 (dk_at dksX10_count_2 7 rfl rfl)
theorem dX10_count_68 : decode cX10_count 68 = .ok (.getfield 9, 3) := dk_180 0 9 (dk_at dksX10_count_2 8 rfl rfl)
theorem dX10_count_71 : decode cX10_count 71 = .ok (.iconst 1, 1) := dk_4 (dk_at dksX10_count_2 11 rfl rfl)
theorem dX10_count_72 : decode cX10_count 72 = .ok (.iaload, 1) := dk_46 (dk_at dksX10_count_2 12 rfl rfl)
theorem dX10_count_73 : decode cX10_count 73 = .ok (.ireturn, 1) := dk_172 (dk_at dksX10_count_2 13 rfl rfl)
theorem dX10_count_74 : decode cX10_count 74 = .ok (.aload_n 0, 1) := dk_42 (dk_at dksX10_count_2 14 rfl rfl)
theorem dX10_count_75 : decode cX10_count 75 = .ok (.getfield 9, 3) := dk_180 0 9 (dk_at dksX10_count_2 15 rfl rfl)
theorem dX10_count_78 : decode cX10_count 78 = .ok (.iconst 2, 1) := dk_5 (dk_at dksX10_count_2 18 rfl rfl)
theorem dX10_count_79 : decode cX10_count 79 = .ok (.iaload, 1) := dk_46 (dk_at dksX10_count_2 19 rfl rfl)
theorem dX10_count_80 : decode cX10_count 80 = .ok (.ireturn, 1) := dk_172 (dk_at dksX10_count_2 20 rfl rfl)
theorem dX10_count_81 : decode cX10_count 81 = .ok (.aload_n 0, 1) := dk_42 (dk_at dksX10_count_2 21 rfl rfl)
theorem dX10_count_82 : decode cX10_count 82 = .ok (.getfield 9, 3) := dk_180 0 9 (dk_at dksX10_count_3 0 rfl rfl)
theorem dX10_count_85 : decode cX10_count 85 = .ok (.iconst 3, 1) := dk_6 (dk_at dksX10_count_3 3 rfl rfl)
theorem dX10_count_86 : decode cX10_count 86 = .ok (.iaload, 1) := dk_46 (dk_at dksX10_count_3 4 rfl rfl)
theorem dX10_count_87 : decode cX10_count 87 = .ok (.ireturn, 1) := dk_172 (dk_at dksX10_count_3 5 rfl rfl)
theorem dX10_count_88 : decode cX10_count 88 = .ok (.aload_n 0, 1) := dk_42 (dk_at dksX10_count_3 6 rfl rfl)
theorem dX10_count_89 : decode cX10_count 89 = .ok (.getfield 9, 3) := dk_180 0 9 (dk_at dksX10_count_3 7 rfl rfl)
theorem dX10_count_92 : decode cX10_count 92 = .ok (.iconst 5, 1) := dk_8 (dk_at dksX10_count_3 10 rfl rfl)
theorem dX10_count_93 : decode cX10_count 93 = .ok (.iaload, 1) := dk_46 (dk_at dksX10_count_3 11 rfl rfl)
theorem dX10_count_94 : decode cX10_count 94 = .ok (.ireturn, 1) := dk_172 (dk_at dksX10_count_3 12 rfl rfl)
theorem dX10_count_95 : decode cX10_count 95 = .ok (.aload_n 0, 1) := dk_42 (dk_at dksX10_count_3 13 rfl rfl)
theorem dX10_count_96 : decode cX10_count 96 = .ok (.getfield 9, 3) := dk_180 0 9 (dk_at dksX10_count_3 14 rfl rfl)
theorem dX10_count_99 : decode cX10_count 99 = .ok (.bipush 6, 2) := dk_16 6 (dk_at dksX10_count_3 17 rfl rfl)
theorem dX10_count_101 : decode cX10_count 101 = .ok (.iaload, 1) := dk_46 (dk_at dksX10_count_3 19 rfl rfl)
theorem dX10_count_102 : decode cX10_count 102 = .ok (.ireturn, 1) := dk_172 (dk_at dksX10_count_3 20 rfl rfl)
theorem dX10_count_103 : decode cX10_count 103 = .ok (.aload_n 0, 1) := dk_42 (dk_at dksX10_count_3 21 rfl rfl)
theorem dX10_count_104 : decode cX10_count 104 = .ok (.getfield 9, 3) := dk_180 0 9 (dk_at dksX10_count_4 0 rfl rfl)
theorem dX10_count_107 : decode cX10_count 107 = .ok (.bipush 7, 2) := dk_16 7 (dk_at dksX10_count_4 3 rfl rfl)
theorem dX10_count_109 : decode cX10_count 109 = .ok (.iaload, 1) := dk_46 (dk_at dksX10_count_4 5 rfl rfl)
theorem dX10_count_110 : decode cX10_count 110 = .ok (.ireturn, 1) := dk_172 (dk_at dksX10_count_4 6 rfl rfl)
theorem dX10_count_111 : decode cX10_count 111 = .ok (.aload_n 0, 1) := dk_42 (dk_at dksX10_count_4 7 rfl rfl)
theorem dX10_count_112 : decode cX10_count 112 = .ok (.getfield 9, 3) := dk_180 0 9 (dk_at dksX10_count_4 8 rfl rfl)
theorem dX10_count_115 : decode cX10_count 115 = .ok (.bipush 8, 2) := dk_16 8 (dk_at dksX10_count_4 11 rfl rfl)
theorem dX10_count_117 : decode cX10_count 117 = .ok (.iaload, 1) := dk_46 (dk_at dksX10_count_4 13 rfl rfl)
theorem dX10_count_118 : decode cX10_count 118 = .ok (.ireturn, 1) := dk_172 (dk_at dksX10_count_4 14 rfl rfl)
theorem dX10_count_119 : decode cX10_count 119 = .ok (.aload_n 0, 1) := dk_42 (dk_at dksX10_count_4 15 rfl rfl)
theorem dX10_count_120 : decode cX10_count 120 = .ok (.getfield 9, 3) := dk_180 0 9 (dk_at dksX10_count_4 16 rfl rfl)
theorem dX10_count_123 : decode cX10_count 123 = .ok (.bipush 9, 2) := dk_16 9 (dk_at dksX10_count_4 19 rfl rfl)
theorem dX10_count_125 : decode cX10_count 125 = .ok (.iaload, 1) := dk_46 (dk_at dksX10_count_4 21 rfl rfl)
theorem dX10_count_126 : decode cX10_count 126 = .ok (.ireturn, 1) := dk_172 (dk_at dksX10_count_4 22 rfl rfl)
theorem dX10_count_127 : decode cX10_count 127 = .ok (.aload_n 0, 1) := dk_42 (dk_at dksX10_count_4 23 rfl rfl)
theorem dX10_count_128 : decode cX10_count 128 = .ok (.getfield 96, 3) := dk_180 0 96 (dk_at dksX10_count_5 0 rfl rfl)
theorem dX10_count_131 : decode cX10_count 131 = .ok (.ireturn, 1) := dk_172 (dk_at dksX10_count_5 3 rfl rfl)
theorem dX10_count_132 : decode cX10_count 132 = .ok (.iconst 0, 1) := dk_3 (dk_at dksX10_count_5 4 rfl rfl)
theorem dX10_count_133 : decode cX10_count 133 = .ok (.istore_n 3, 1) := dk_62 (dk_at dksX10_count_5 5 rfl rfl)
theorem dX10_count_134 : decode cX10_count 134 = .ok (.iload_n 3, 1) := dk_29 (dk_at dksX10_count_5 6 rfl rfl)
theorem dX10_count_135 : decode cX10_count 135 = .ok (.iconst 4, 1) := dk_7 (dk_at dksX10_count_5 7 rfl rfl)
theorem dX10_count_136 : decode cX10_count 136 = .ok (.if_icmp .ge 27, 3) := dk_162 0 27 (dk_at dksX10_count_5 8 rfl rfl)
theorem dX10_count_139 : decode cX10_count 139 = .ok (.iload_n 2, 1) := dk_28 (dk_at dksX10_count_5 11 rfl rfl)
theorem dX10_count_140 : decode cX10_count 140 = .ok (.aload_n 0, 1) := dk_42 (dk_at dksX10_count_5 12 rfl rfl)
theorem dX10_count_141 : decode cX10_count 141 = .ok (.getfield 71, 3) := dk_180 0 71 (dk_at dksX10_count_5 13 rfl rfl)
theorem dX10_count_144 : decode cX10_count 144 = .ok (.iload_n 3, 1) := dk_29 (dk_at dksX10_count_5 16 rfl rfl)
theorem dX10_count_145 : decode cX10_count 145 = .ok (.iaload, 1) := dk_46 (dk_at dksX10_count_5 17 rfl rfl)
theorem dX10_count_146 : decode cX10_count 146 = .ok (.iconst (-1), 1) := dk_2 (dk_at dksX10_count_5 18 rfl rfl)
theorem dX10_count_147 : decode cX10_count 147 = .ok (.if_icmp .ne 7, 3) := dk_160 0 7 (dk_at dksX10_count_5 19 rfl rfl)
theorem dX10_count_150 : decode cX10_count 150 = .ok (.iconst 0, 1) := dk_3 (dk_at dksX10_count_5 22 rfl rfl)
theorem dX10_count_151 : decode cX10_count 151 = .ok (.goto 4, 3) := dk_167 0 4 (dk_at dksX10_count_6 0 rfl rfl)
theorem dX10_count_154 : decode cX10_count 154 = .ok (.iconst 1, 1) := dk_4 (dk_at dksX10_count_6 3 rfl rfl)
theorem dX10_count_155 : decode cX10_count 155 = .ok (.iadd, 1) := dk_96 (dk_at dksX10_count_6 4 rfl rfl)
theorem dX10_count_156 : decode cX10_count 156 = .ok (.istore_n 2, 1) := dk_61 (dk_at dksX10_count_6 5 rfl rfl)
theorem dX10_count_157 : decode cX10_count 157 = .ok (.iinc 3 1, 3) := dk_132 3 1 (dk_at dksX10_count_6 6 rfl rfl)
theorem dX10_count_160 : decode cX10_count 160 = .ok (.goto (-26), 3) := dk_167 255 230 (dk_at dksX10_count_6 9 rfl rfl)
theorem dX10_count_163 : decode cX10_count 163 = .ok (.iload_n 2, 1) := dk_28 (dk_at dksX10_count_6 12 rfl rfl)
theorem dX10_count_164 : decode cX10_count 164 = .ok (.ireturn, 1) := dk_172 (dk_at dksX10_count_6 13 rfl rfl)
theorem dX10_count_165 : decode cX10_count 165 = .ok (.iconst (-1), 1) := dk_2 (dk_at dksX10_count_6 14 rfl rfl)
theorem dX10_count_166 : decode cX10_count 166 = .ok (.ireturn, 1) := dk_172 (dk_at dksX10_count_6 15 rfl rfl)
abbrev cX10_row : ByteArray := prog_16_method_160_code
def yX10_row : MethodName := ⟨RX10, "row", "(III)I"⟩
def dkwX10_row_3 : List UInt8 := [9, 80, 132, 4, 1, 167, 255, 233, 3, 172]
abbrev dktX10_row_3 : List UInt8 := dkwX10_row_3 ++ []
def dkwX10_row_2 : List UInt8 := [27, 28, 79, 3, 54, 4, 21, 4, 16, 60, 162, 0, 22, 42, 180, 0, 77, 16, 60, 27, 104, 21, 4, 96]
abbrev dktX10_row_2 : List UInt8 := dkwX10_row_2 ++ dktX10_row_3
def dkwX10_row_1 : List UInt8 := [164, 0, 6, 16, 254, 172, 29, 156, 0, 6, 16, 253, 172, 42, 180, 0, 71, 27, 29, 79, 42, 180, 0, 74]
abbrev dktX10_row_1 : List UInt8 := dkwX10_row_1 ++ dktX10_row_2
def dkwX10_row_0 : List UInt8 := [27, 184, 1, 187, 153, 0, 21, 28, 133, 9, 20, 1, 160, 184, 0, 88, 153, 0, 9, 29, 16, 60]
abbrev dktX10_row_0 : List UInt8 := dkwX10_row_0 ++ dktX10_row_1
theorem dksX10_row_0 : cX10_row.data.toList.drop 0 = dktX10_row_0 := by decide +kernel
theorem dksX10_row_1 : cX10_row.data.toList.drop 22 = dktX10_row_1 := dk_seg dksX10_row_0 22 rfl rfl
theorem dksX10_row_2 : cX10_row.data.toList.drop 46 = dktX10_row_2 := dk_seg dksX10_row_1 24 rfl rfl
theorem dksX10_row_3 : cX10_row.data.toList.drop 70 = dktX10_row_3 := dk_seg dksX10_row_2 24 rfl rfl
theorem dX10_row_0 : decode cX10_row 0 = .ok (.iload_n 1, 1) := dk_27 (dk_at dksX10_row_0 0 rfl rfl)
theorem dX10_row_1 : decode cX10_row 1 = .ok (.invokestatic 443, 3) := dk_184 1 187 (dk_at dksX10_row_0 1 rfl rfl)
theorem dX10_row_4 : decode cX10_row 4 = .ok (.ifCond .eq 21, 3) := dk_153 0 21 (dk_at dksX10_row_0 4 rfl rfl)
theorem dX10_row_7 : decode cX10_row 7 = .ok (.iload_n 2, 1) := dk_28 (dk_at dksX10_row_0 7 rfl rfl)
theorem dX10_row_8 : decode cX10_row 8 = .ok (.i2l, 1) := dk_133 (dk_at dksX10_row_0 8 rfl rfl)
theorem dX10_row_9 : decode cX10_row 9 = .ok (.lconst 0, 1) := dk_9 (dk_at dksX10_row_0 9 rfl rfl)
theorem dX10_row_10 : decode cX10_row 10 = .ok (.ldc2_w 416, 3) := dk_20 1 160 (dk_at dksX10_row_0 10 rfl rfl)
theorem dX10_row_13 : decode cX10_row 13 = .ok (.invokestatic 88, 3) := dk_184 0 88 (dk_at dksX10_row_0 13 rfl rfl)
theorem dX10_row_16 : decode cX10_row 16 = .ok (.ifCond .eq 9, 3) := dk_153 0 9 (dk_at dksX10_row_0 16 rfl rfl)
theorem dX10_row_19 : decode cX10_row 19 = .ok (.iload_n 3, 1) := dk_29 (dk_at dksX10_row_0 19 rfl rfl)
theorem dX10_row_20 : decode cX10_row 20 = .ok (.bipush 60, 2) := dk_16 60 (dk_at dksX10_row_0 20 rfl rfl)
theorem dX10_row_22 : decode cX10_row 22 = .ok (.if_icmp .le 6, 3) := dk_164 0 6 (dk_at dksX10_row_1 0 rfl rfl)
theorem dX10_row_25 : decode cX10_row 25 = .ok (.bipush (-2), 2) := dk_16 254 (dk_at dksX10_row_1 3 rfl rfl)
theorem dX10_row_27 : decode cX10_row 27 = .ok (.ireturn, 1) := dk_172 (dk_at dksX10_row_1 5 rfl rfl)
theorem dX10_row_28 : decode cX10_row 28 = .ok (.iload_n 3, 1) := dk_29 (dk_at dksX10_row_1 6 rfl rfl)
theorem dX10_row_29 : decode cX10_row 29 = .ok (.ifCond .ge 6, 3) := dk_156 0 6 (dk_at dksX10_row_1 7 rfl rfl)
theorem dX10_row_32 : decode cX10_row 32 = .ok (.bipush (-3), 2) := dk_16 253 (dk_at dksX10_row_1 10 rfl rfl)
theorem dX10_row_34 : decode cX10_row 34 = .ok (.ireturn, 1) := dk_172 (dk_at dksX10_row_1 12 rfl rfl)
theorem dX10_row_35 : decode cX10_row 35 = .ok (.aload_n 0, 1) := dk_42 (dk_at dksX10_row_1 13 rfl rfl)
theorem dX10_row_36 : decode cX10_row 36 = .ok (.getfield 71, 3) := dk_180 0 71 (dk_at dksX10_row_1 14 rfl rfl)
theorem dX10_row_39 : decode cX10_row 39 = .ok (.iload_n 1, 1) := dk_27 (dk_at dksX10_row_1 17 rfl rfl)
theorem dX10_row_40 : decode cX10_row 40 = .ok (.iload_n 3, 1) := dk_29 (dk_at dksX10_row_1 18 rfl rfl)
theorem dX10_row_41 : decode cX10_row 41 = .ok (.iastore, 1) := dk_79 (dk_at dksX10_row_1 19 rfl rfl)
theorem dX10_row_42 : decode cX10_row 42 = .ok (.aload_n 0, 1) := dk_42 (dk_at dksX10_row_1 20 rfl rfl)
theorem dX10_row_43 : decode cX10_row 43 = .ok (.getfield 74, 3) := dk_180 0 74 (dk_at dksX10_row_1 21 rfl rfl)
theorem dX10_row_46 : decode cX10_row 46 = .ok (.iload_n 1, 1) := dk_27 (dk_at dksX10_row_2 0 rfl rfl)
theorem dX10_row_47 : decode cX10_row 47 = .ok (.iload_n 2, 1) := dk_28 (dk_at dksX10_row_2 1 rfl rfl)
theorem dX10_row_48 : decode cX10_row 48 = .ok (.iastore, 1) := dk_79 (dk_at dksX10_row_2 2 rfl rfl)
theorem dX10_row_49 : decode cX10_row 49 = .ok (.iconst 0, 1) := dk_3 (dk_at dksX10_row_2 3 rfl rfl)
theorem dX10_row_50 : decode cX10_row 50 = .ok (.istore 4, 2) := dk_54 4 (dk_at dksX10_row_2 4 rfl rfl)
theorem dX10_row_52 : decode cX10_row 52 = .ok (.iload 4, 2) := dk_21 4 (dk_at dksX10_row_2 6 rfl rfl)
theorem dX10_row_54 : decode cX10_row 54 = .ok (.bipush 60, 2) := dk_16 60 (dk_at dksX10_row_2 8 rfl rfl)
theorem dX10_row_56 : decode cX10_row 56 = .ok (.if_icmp .ge 22, 3) := dk_162 0 22 (dk_at dksX10_row_2 10 rfl rfl)
theorem dX10_row_59 : decode cX10_row 59 = .ok (.aload_n 0, 1) := dk_42 (dk_at dksX10_row_2 13 rfl rfl)
theorem dX10_row_60 : decode cX10_row 60 = .ok (.getfield 77, 3) := dk_180 0 77 (dk_at dksX10_row_2 14 rfl rfl)
theorem dX10_row_63 : decode cX10_row 63 = .ok (.bipush 60, 2) := dk_16 60 (dk_at dksX10_row_2 17 rfl rfl)
theorem dX10_row_65 : decode cX10_row 65 = .ok (.iload_n 1, 1) := dk_27 (dk_at dksX10_row_2 19 rfl rfl)
theorem dX10_row_66 : decode cX10_row 66 = .ok (.imul, 1) := dk_104 (dk_at dksX10_row_2 20 rfl rfl)
theorem dX10_row_67 : decode cX10_row 67 = .ok (.iload 4, 2) := dk_21 4 (dk_at dksX10_row_2 21 rfl rfl)
theorem dX10_row_69 : decode cX10_row 69 = .ok (.iadd, 1) := dk_96 (dk_at dksX10_row_2 23 rfl rfl)
theorem dX10_row_70 : decode cX10_row 70 = .ok (.lconst 0, 1) := dk_9 (dk_at dksX10_row_3 0 rfl rfl)
theorem dX10_row_71 : decode cX10_row 71 = .ok (.lastore, 1) := dk_80 (dk_at dksX10_row_3 1 rfl rfl)
theorem dX10_row_72 : decode cX10_row 72 = .ok (.iinc 4 1, 3) := dk_132 4 1 (dk_at dksX10_row_3 2 rfl rfl)
theorem dX10_row_75 : decode cX10_row 75 = .ok (.goto (-23), 3) := dk_167 255 233 (dk_at dksX10_row_3 5 rfl rfl)
theorem dX10_row_78 : decode cX10_row 78 = .ok (.iconst 0, 1) := dk_3 (dk_at dksX10_row_3 8 rfl rfl)
theorem dX10_row_79 : decode cX10_row 79 = .ok (.ireturn, 1) := dk_172 (dk_at dksX10_row_3 9 rfl rfl)
abbrev cX10_write : ByteArray := prog_16_method_161_code
def yX10_write : MethodName := ⟨RX10, "write", "(IIJ)I"⟩
def dkwX10_write_2 : List UInt8 := [16, 60, 27, 104, 28, 96, 33, 42, 180, 0, 74, 27, 46, 184, 2, 33, 80, 3, 172]
abbrev dktX10_write_2 : List UInt8 := dkwX10_write_2 ++ []
def dkwX10_write_1 : List UInt8 := [133, 9, 42, 180, 0, 71, 27, 46, 4, 100, 133, 184, 0, 88, 154, 0, 6, 16, 249, 172, 42, 180, 0, 77]
abbrev dktX10_write_1 : List UInt8 := dkwX10_write_1 ++ dktX10_write_2
def dkwX10_write_0 : List UInt8 := [27, 184, 1, 187, 154, 0, 6, 16, 254, 172, 42, 180, 0, 71, 27, 46, 2, 160, 0, 6, 16, 250, 172, 28]
abbrev dktX10_write_0 : List UInt8 := dkwX10_write_0 ++ dktX10_write_1
theorem dksX10_write_0 : cX10_write.data.toList.drop 0 = dktX10_write_0 := by decide +kernel
theorem dksX10_write_1 : cX10_write.data.toList.drop 24 = dktX10_write_1 := dk_seg dksX10_write_0 24 rfl rfl
theorem dksX10_write_2 : cX10_write.data.toList.drop 48 = dktX10_write_2 := dk_seg dksX10_write_1 24 rfl rfl
theorem dX10_write_0 : decode cX10_write 0 = .ok (.iload_n 1, 1) := dk_27 (dk_at dksX10_write_0 0 rfl rfl)
theorem dX10_write_1 : decode cX10_write 1 = .ok (.invokestatic 443, 3) := dk_184 1 187 (dk_at dksX10_write_0 1 rfl rfl)
theorem dX10_write_4 : decode cX10_write 4 = .ok (.ifCond .ne 6, 3) := dk_154 0 6 (dk_at dksX10_write_0 4 rfl rfl)
theorem dX10_write_7 : decode cX10_write 7 = .ok (.bipush (-2), 2) := dk_16 254 (dk_at dksX10_write_0 7 rfl rfl)
theorem dX10_write_9 : decode cX10_write 9 = .ok (.ireturn, 1) := dk_172 (dk_at dksX10_write_0 9 rfl rfl)
theorem dX10_write_10 : decode cX10_write 10 = .ok (.aload_n 0, 1) := dk_42 (dk_at dksX10_write_0 10 rfl rfl)
theorem dX10_write_11 : decode cX10_write 11 = .ok (.getfield 71, 3) := dk_180 0 71 (dk_at dksX10_write_0 11 rfl rfl)
theorem dX10_write_14 : decode cX10_write 14 = .ok (.iload_n 1, 1) := dk_27 (dk_at dksX10_write_0 14 rfl rfl)
theorem dX10_write_15 : decode cX10_write 15 = .ok (.iaload, 1) := dk_46 (dk_at dksX10_write_0 15 rfl rfl)
theorem dX10_write_16 : decode cX10_write 16 = .ok (.iconst (-1), 1) := dk_2 (dk_at dksX10_write_0 16 rfl rfl)
theorem dX10_write_17 : decode cX10_write 17 = .ok (.if_icmp .ne 6, 3) := dk_160 0 6 (dk_at dksX10_write_0 17 rfl rfl)
theorem dX10_write_20 : decode cX10_write 20 = .ok (.bipush (-6), 2) := dk_16 250 (dk_at dksX10_write_0 20 rfl rfl)
theorem dX10_write_22 : decode cX10_write 22 = .ok (.ireturn, 1) := dk_172 (dk_at dksX10_write_0 22 rfl rfl)
theorem dX10_write_23 : decode cX10_write 23 = .ok (.iload_n 2, 1) := dk_28 (dk_at dksX10_write_0 23 rfl rfl)
theorem dX10_write_24 : decode cX10_write 24 = .ok (.i2l, 1) := dk_133 (dk_at dksX10_write_1 0 rfl rfl)
theorem dX10_write_25 : decode cX10_write 25 = .ok (.lconst 0, 1) := dk_9 (dk_at dksX10_write_1 1 rfl rfl)
theorem dX10_write_26 : decode cX10_write 26 = .ok (.aload_n 0, 1) := dk_42 (dk_at dksX10_write_1 2 rfl rfl)
theorem dX10_write_27 : decode cX10_write 27 = .ok (.getfield 71, 3) := dk_180 0 71 (dk_at dksX10_write_1 3 rfl rfl)
theorem dX10_write_30 : decode cX10_write 30 = .ok (.iload_n 1, 1) := dk_27 (dk_at dksX10_write_1 6 rfl rfl)
theorem dX10_write_31 : decode cX10_write 31 = .ok (.iaload, 1) := dk_46 (dk_at dksX10_write_1 7 rfl rfl)
theorem dX10_write_32 : decode cX10_write 32 = .ok (.iconst 1, 1) := dk_4 (dk_at dksX10_write_1 8 rfl rfl)
theorem dX10_write_33 : decode cX10_write 33 = .ok (.isub, 1) := dk_100 (dk_at dksX10_write_1 9 rfl rfl)
theorem dX10_write_34 : decode cX10_write 34 = .ok (.i2l, 1) := dk_133 (dk_at dksX10_write_1 10 rfl rfl)
theorem dX10_write_35 : decode cX10_write 35 = .ok (.invokestatic 88, 3) := dk_184 0 88 (dk_at dksX10_write_1 11 rfl rfl)
theorem dX10_write_38 : decode cX10_write 38 = .ok (.ifCond .ne 6, 3) := dk_154 0 6 (dk_at dksX10_write_1 14 rfl rfl)
theorem dX10_write_41 : decode cX10_write 41 = .ok (.bipush (-7), 2) := dk_16 249 (dk_at dksX10_write_1 17 rfl rfl)
theorem dX10_write_43 : decode cX10_write 43 = .ok (.ireturn, 1) := dk_172 (dk_at dksX10_write_1 19 rfl rfl)
theorem dX10_write_44 : decode cX10_write 44 = .ok (.aload_n 0, 1) := dk_42 (dk_at dksX10_write_1 20 rfl rfl)
theorem dX10_write_45 : decode cX10_write 45 = .ok (.getfield 77, 3) := dk_180 0 77 (dk_at dksX10_write_1 21 rfl rfl)
theorem dX10_write_48 : decode cX10_write 48 = .ok (.bipush 60, 2) := dk_16 60 (dk_at dksX10_write_2 0 rfl rfl)
theorem dX10_write_50 : decode cX10_write 50 = .ok (.iload_n 1, 1) := dk_27 (dk_at dksX10_write_2 2 rfl rfl)
theorem dX10_write_51 : decode cX10_write 51 = .ok (.imul, 1) := dk_104 (dk_at dksX10_write_2 3 rfl rfl)
theorem dX10_write_52 : decode cX10_write 52 = .ok (.iload_n 2, 1) := dk_28 (dk_at dksX10_write_2 4 rfl rfl)
theorem dX10_write_53 : decode cX10_write 53 = .ok (.iadd, 1) := dk_96 (dk_at dksX10_write_2 5 rfl rfl)
theorem dX10_write_54 : decode cX10_write 54 = .ok (.lload_n 3, 1) := dk_33 (dk_at dksX10_write_2 6 rfl rfl)
theorem dX10_write_55 : decode cX10_write 55 = .ok (.aload_n 0, 1) := dk_42 (dk_at dksX10_write_2 7 rfl rfl)
theorem dX10_write_56 : decode cX10_write 56 = .ok (.getfield 74, 3) := dk_180 0 74 (dk_at dksX10_write_2 8 rfl rfl)
theorem dX10_write_59 : decode cX10_write 59 = .ok (.iload_n 1, 1) := dk_27 (dk_at dksX10_write_2 11 rfl rfl)
theorem dX10_write_60 : decode cX10_write 60 = .ok (.iaload, 1) := dk_46 (dk_at dksX10_write_2 12 rfl rfl)
theorem dX10_write_61 : decode cX10_write 61 = .ok (.invokestatic 545, 3) := dk_184 2 33 (dk_at dksX10_write_2 13 rfl rfl)
theorem dX10_write_64 : decode cX10_write 64 = .ok (.lastore, 1) := dk_80 (dk_at dksX10_write_2 16 rfl rfl)
theorem dX10_write_65 : decode cX10_write 65 = .ok (.iconst 0, 1) := dk_3 (dk_at dksX10_write_2 17 rfl rfl)
theorem dX10_write_66 : decode cX10_write 66 = .ok (.ireturn, 1) := dk_172 (dk_at dksX10_write_2 18 rfl rfl)
abbrev cX10_cut : ByteArray := prog_16_method_159_code
def yX10_cut : MethodName := ⟨RX10, "cut", "(JI)J"⟩
def dkwX10_cut_0 : List UInt8 := [16, 64, 16, 8, 28, 120, 100, 62, 30, 29, 121, 29, 123, 173]
abbrev dktX10_cut_0 : List UInt8 := dkwX10_cut_0 ++ []
theorem dksX10_cut_0 : cX10_cut.data.toList.drop 0 = dktX10_cut_0 := by decide +kernel
theorem dX10_cut_0 : decode cX10_cut 0 = .ok (.bipush 64, 2) := dk_16 64 (dk_at dksX10_cut_0 0 rfl rfl)
theorem dX10_cut_2 : decode cX10_cut 2 = .ok (.bipush 8, 2) := dk_16 8 (dk_at dksX10_cut_0 2 rfl rfl)
theorem dX10_cut_4 : decode cX10_cut 4 = .ok (.iload_n 2, 1) := dk_28 (dk_at dksX10_cut_0 4 rfl rfl)
theorem dX10_cut_5 : decode cX10_cut 5 = .ok (.ishl, 1) := dk_120 (dk_at dksX10_cut_0 5 rfl rfl)
theorem dX10_cut_6 : decode cX10_cut 6 = .ok (.isub, 1) := dk_100 (dk_at dksX10_cut_0 6 rfl rfl)
theorem dX10_cut_7 : decode cX10_cut 7 = .ok (.istore_n 3, 1) := dk_62 (dk_at dksX10_cut_0 7 rfl rfl)
theorem dX10_cut_8 : decode cX10_cut 8 = .ok (.lload_n 0, 1) := dk_30 (dk_at dksX10_cut_0 8 rfl rfl)
theorem dX10_cut_9 : decode cX10_cut 9 = .ok (.iload_n 3, 1) := dk_29 (dk_at dksX10_cut_0 9 rfl rfl)
theorem dX10_cut_10 : decode cX10_cut 10 = .ok (.lshl, 1) := dk_121 (dk_at dksX10_cut_0 10 rfl rfl)
theorem dX10_cut_11 : decode cX10_cut 11 = .ok (.iload_n 3, 1) := dk_29 (dk_at dksX10_cut_0 11 rfl rfl)
theorem dX10_cut_12 : decode cX10_cut 12 = .ok (.lshr, 1) := dk_123 (dk_at dksX10_cut_0 12 rfl rfl)
theorem dX10_cut_13 : decode cX10_cut 13 = .ok (.lreturn, 1) := dk_173 (dk_at dksX10_cut_0 13 rfl rfl)
abbrev cX10_paste : ByteArray := prog_16_method_162_code
def yX10_paste : MethodName := ⟨RX10, "paste", "(IIIII)I"⟩
def dkwX10_paste_7 : List UInt8 := [29, 104, 21, 4, 96, 21, 6, 96, 42, 180, 0, 80, 21, 6, 47, 80, 132, 6, 1, 167, 255, 224, 3, 172]
abbrev dktX10_paste_7 : List UInt8 := dkwX10_paste_7 ++ []
def dkwX10_paste_6 : List UInt8 := [47, 80, 132, 6, 1, 167, 255, 225, 3, 54, 6, 21, 6, 21, 5, 162, 0, 31, 42, 180, 0, 77, 16, 60]
abbrev dktX10_paste_6 : List UInt8 := dkwX10_paste_6 ++ dktX10_paste_7
def dkwX10_paste_5 : List UInt8 := [21, 5, 162, 0, 30, 42, 180, 0, 80, 21, 6, 42, 180, 0, 77, 16, 60, 27, 104, 28, 96, 21, 6, 96]
abbrev dktX10_paste_5 : List UInt8 := dkwX10_paste_5 ++ dktX10_paste_6
def dkwX10_paste_4 : List UInt8 := [21, 5, 133, 97, 42, 180, 0, 71, 29, 46, 133, 148, 158, 0, 6, 16, 249, 172, 3, 54, 6, 21, 6]
abbrev dktX10_paste_4 : List UInt8 := dkwX10_paste_4 ++ dktX10_paste_5
def dkwX10_paste_3 : List UInt8 := [155, 0, 38, 28, 133, 21, 5, 133, 97, 42, 180, 0, 71, 27, 46, 133, 148, 157, 0, 21, 21, 4, 133]
abbrev dktX10_paste_3 : List UInt8 := dkwX10_paste_3 ++ dktX10_paste_4
def dkwX10_paste_2 : List UInt8 := [180, 0, 74, 29, 46, 159, 0, 6, 16, 248, 172, 28, 155, 0, 48, 21, 4, 155, 0, 43, 21, 5]
abbrev dktX10_paste_2 : List UInt8 := dkwX10_paste_2 ++ dktX10_paste_3
def dkwX10_paste_1 : List UInt8 := [159, 0, 13, 42, 180, 0, 71, 29, 46, 2, 160, 0, 6, 16, 250, 172, 42, 180, 0, 74, 27, 46, 42]
abbrev dktX10_paste_1 : List UInt8 := dkwX10_paste_1 ++ dktX10_paste_2
def dkwX10_paste_0 : List UInt8 := [27, 184, 1, 187, 153, 0, 10, 29, 184, 1, 187, 154, 0, 6, 16, 254, 172, 42, 180, 0, 71, 27, 46, 2]
abbrev dktX10_paste_0 : List UInt8 := dkwX10_paste_0 ++ dktX10_paste_1
theorem dksX10_paste_0 : cX10_paste.data.toList.drop 0 = dktX10_paste_0 := by decide +kernel
theorem dksX10_paste_1 : cX10_paste.data.toList.drop 24 = dktX10_paste_1 := dk_seg dksX10_paste_0 24 rfl rfl
theorem dksX10_paste_2 : cX10_paste.data.toList.drop 47 = dktX10_paste_2 := dk_seg dksX10_paste_1 23 rfl rfl
theorem dksX10_paste_3 : cX10_paste.data.toList.drop 69 = dktX10_paste_3 := dk_seg dksX10_paste_2 22 rfl rfl
theorem dksX10_paste_4 : cX10_paste.data.toList.drop 92 = dktX10_paste_4 := dk_seg dksX10_paste_3 23 rfl rfl
theorem dksX10_paste_5 : cX10_paste.data.toList.drop 115 = dktX10_paste_5 := dk_seg dksX10_paste_4 23 rfl rfl
theorem dksX10_paste_6 : cX10_paste.data.toList.drop 139 = dktX10_paste_6 := dk_seg dksX10_paste_5 24 rfl rfl
theorem dksX10_paste_7 : cX10_paste.data.toList.drop 163 = dktX10_paste_7 := dk_seg dksX10_paste_6 24 rfl rfl
theorem dX10_paste_0 : decode cX10_paste 0 = .ok (.iload_n 1, 1) := dk_27 (dk_at dksX10_paste_0 0 rfl rfl)
theorem dX10_paste_1 : decode cX10_paste 1 = .ok (.invokestatic 443, 3) := dk_184 1 187 (dk_at dksX10_paste_0 1 rfl rfl)
theorem dX10_paste_4 : decode cX10_paste 4 = .ok (.ifCond .eq 10, 3) := dk_153 0 10 (dk_at dksX10_paste_0 4 rfl rfl)
theorem dX10_paste_7 : decode cX10_paste 7 = .ok (.iload_n 3, 1) := dk_29 (dk_at dksX10_paste_0 7 rfl rfl)
theorem dX10_paste_8 : decode cX10_paste 8 = .ok (.invokestatic 443, 3) := dk_184 1 187 (dk_at dksX10_paste_0 8 rfl rfl)
theorem dX10_paste_11 : decode cX10_paste 11 = .ok (.ifCond .ne 6, 3) := dk_154 0 6 (dk_at dksX10_paste_0 11 rfl rfl)
theorem dX10_paste_14 : decode cX10_paste 14 = .ok (.bipush (-2), 2) := dk_16 254 (dk_at dksX10_paste_0 14 rfl rfl)
theorem dX10_paste_16 : decode cX10_paste 16 = .ok (.ireturn, 1) := dk_172 (dk_at dksX10_paste_0 16 rfl rfl)
theorem dX10_paste_17 : decode cX10_paste 17 = .ok (.aload_n 0, 1) := dk_42 (dk_at dksX10_paste_0 17 rfl rfl)
theorem dX10_paste_18 : decode cX10_paste 18 = .ok (.getfield 71, 3) := dk_180 0 71 (dk_at dksX10_paste_0 18 rfl rfl)
theorem dX10_paste_21 : decode cX10_paste 21 = .ok (.iload_n 1, 1) := dk_27 (dk_at dksX10_paste_0 21 rfl rfl)
theorem dX10_paste_22 : decode cX10_paste 22 = .ok (.iaload, 1) := dk_46 (dk_at dksX10_paste_0 22 rfl rfl)
theorem dX10_paste_23 : decode cX10_paste 23 = .ok (.iconst (-1), 1) := dk_2 (dk_at dksX10_paste_0 23 rfl rfl)
theorem dX10_paste_24 : decode cX10_paste 24 = .ok (.if_icmp .eq 13, 3) := dk_159 0 13 (dk_at dksX10_paste_1 0 rfl rfl)
theorem dX10_paste_27 : decode cX10_paste 27 = .ok (.aload_n 0, 1) := dk_42 (dk_at dksX10_paste_1 3 rfl rfl)
theorem dX10_paste_28 : decode cX10_paste 28 = .ok (.getfield 71, 3) := dk_180 0 71 (dk_at dksX10_paste_1 4 rfl rfl)
theorem dX10_paste_31 : decode cX10_paste 31 = .ok (.iload_n 3, 1) := dk_29 (dk_at dksX10_paste_1 7 rfl rfl)
theorem dX10_paste_32 : decode cX10_paste 32 = .ok (.iaload, 1) := dk_46 (dk_at dksX10_paste_1 8 rfl rfl)
theorem dX10_paste_33 : decode cX10_paste 33 = .ok (.iconst (-1), 1) := dk_2 (dk_at dksX10_paste_1 9 rfl rfl)
theorem dX10_paste_34 : decode cX10_paste 34 = .ok (.if_icmp .ne 6, 3) := dk_160 0 6 (dk_at dksX10_paste_1 10 rfl rfl)
theorem dX10_paste_37 : decode cX10_paste 37 = .ok (.bipush (-6), 2) := dk_16 250 (dk_at dksX10_paste_1 13 rfl rfl)
theorem dX10_paste_39 : decode cX10_paste 39 = .ok (.ireturn, 1) := dk_172 (dk_at dksX10_paste_1 15 rfl rfl)
theorem dX10_paste_40 : decode cX10_paste 40 = .ok (.aload_n 0, 1) := dk_42 (dk_at dksX10_paste_1 16 rfl rfl)
theorem dX10_paste_41 : decode cX10_paste 41 = .ok (.getfield 74, 3) := dk_180 0 74 (dk_at dksX10_paste_1 17 rfl rfl)
theorem dX10_paste_44 : decode cX10_paste 44 = .ok (.iload_n 1, 1) := dk_27 (dk_at dksX10_paste_1 20 rfl rfl)
theorem dX10_paste_45 : decode cX10_paste 45 = .ok (.iaload, 1) := dk_46 (dk_at dksX10_paste_1 21 rfl rfl)
theorem dX10_paste_46 : decode cX10_paste 46 = .ok (.aload_n 0, 1) := dk_42 (dk_at dksX10_paste_1 22 rfl rfl)
theorem dX10_paste_47 : decode cX10_paste 47 = .ok (.getfield 74, 3) := dk_180 0 74 (dk_at dksX10_paste_2 0 rfl rfl)
theorem dX10_paste_50 : decode cX10_paste 50 = .ok (.iload_n 3, 1) := dk_29 (dk_at dksX10_paste_2 3 rfl rfl)
theorem dX10_paste_51 : decode cX10_paste 51 = .ok (.iaload, 1) := dk_46 (dk_at dksX10_paste_2 4 rfl rfl)
theorem dX10_paste_52 : decode cX10_paste 52 = .ok (.if_icmp .eq 6, 3) := dk_159 0 6 (dk_at dksX10_paste_2 5 rfl rfl)
theorem dX10_paste_55 : decode cX10_paste 55 = .ok (.bipush (-8), 2) := dk_16 248 (dk_at dksX10_paste_2 8 rfl rfl)
theorem dX10_paste_57 : decode cX10_paste 57 = .ok (.ireturn, 1) := dk_172 (dk_at dksX10_paste_2 10 rfl rfl)
theorem dX10_paste_58 : decode cX10_paste 58 = .ok (.iload_n 2, 1) := dk_28 (dk_at dksX10_paste_2 11 rfl rfl)
theorem dX10_paste_59 : decode cX10_paste 59 = .ok (.ifCond .lt 48, 3) := dk_155 0 48 (dk_at dksX10_paste_2 12 rfl rfl)
theorem dX10_paste_62 : decode cX10_paste 62 = .ok (.iload 4, 2) := dk_21 4 (dk_at dksX10_paste_2 15 rfl rfl)
theorem dX10_paste_64 : decode cX10_paste 64 = .ok (.ifCond .lt 43, 3) := dk_155 0 43 (dk_at dksX10_paste_2 17 rfl rfl)
theorem dX10_paste_67 : decode cX10_paste 67 = .ok (.iload 5, 2) := dk_21 5 (dk_at dksX10_paste_2 20 rfl rfl)
theorem dX10_paste_69 : decode cX10_paste 69 = .ok (.ifCond .lt 38, 3) := dk_155 0 38 (dk_at dksX10_paste_3 0 rfl rfl)
theorem dX10_paste_72 : decode cX10_paste 72 = .ok (.iload_n 2, 1) := dk_28 (dk_at dksX10_paste_3 3 rfl rfl)
theorem dX10_paste_73 : decode cX10_paste 73 = .ok (.i2l, 1) := dk_133 (dk_at dksX10_paste_3 4 rfl rfl)
theorem dX10_paste_74 : decode cX10_paste 74 = .ok (.iload 5, 2) := dk_21 5 (dk_at dksX10_paste_3 5 rfl rfl)
theorem dX10_paste_76 : decode cX10_paste 76 = .ok (.i2l, 1) := dk_133 (dk_at dksX10_paste_3 7 rfl rfl)
theorem dX10_paste_77 : decode cX10_paste 77 = .ok (.ladd, 1) := dk_97 (dk_at dksX10_paste_3 8 rfl rfl)
theorem dX10_paste_78 : decode cX10_paste 78 = .ok (.aload_n 0, 1) := dk_42 (dk_at dksX10_paste_3 9 rfl rfl)
theorem dX10_paste_79 : decode cX10_paste 79 = .ok (.getfield 71, 3) := dk_180 0 71 (dk_at dksX10_paste_3 10 rfl rfl)
theorem dX10_paste_82 : decode cX10_paste 82 = .ok (.iload_n 1, 1) := dk_27 (dk_at dksX10_paste_3 13 rfl rfl)
theorem dX10_paste_83 : decode cX10_paste 83 = .ok (.iaload, 1) := dk_46 (dk_at dksX10_paste_3 14 rfl rfl)
theorem dX10_paste_84 : decode cX10_paste 84 = .ok (.i2l, 1) := dk_133 (dk_at dksX10_paste_3 15 rfl rfl)
theorem dX10_paste_85 : decode cX10_paste 85 = .ok (.lcmp, 1) := dk_148 (dk_at dksX10_paste_3 16 rfl rfl)
theorem dX10_paste_86 : decode cX10_paste 86 = .ok (.ifCond .gt 21, 3) := dk_157 0 21 (dk_at dksX10_paste_3 17 rfl rfl)
theorem dX10_paste_89 : decode cX10_paste 89 = .ok (.iload 4, 2) := dk_21 4 (dk_at dksX10_paste_3 20 rfl rfl)
theorem dX10_paste_91 : decode cX10_paste 91 = .ok (.i2l, 1) := dk_133 (dk_at dksX10_paste_3 22 rfl rfl)
theorem dX10_paste_92 : decode cX10_paste 92 = .ok (.iload 5, 2) := dk_21 5 (dk_at dksX10_paste_4 0 rfl rfl)
theorem dX10_paste_94 : decode cX10_paste 94 = .ok (.i2l, 1) := dk_133 (dk_at dksX10_paste_4 2 rfl rfl)
theorem dX10_paste_95 : decode cX10_paste 95 = .ok (.ladd, 1) := dk_97 (dk_at dksX10_paste_4 3 rfl rfl)
theorem dX10_paste_96 : decode cX10_paste 96 = .ok (.aload_n 0, 1) := dk_42 (dk_at dksX10_paste_4 4 rfl rfl)
theorem dX10_paste_97 : decode cX10_paste 97 = .ok (.getfield 71, 3) := dk_180 0 71 (dk_at dksX10_paste_4 5 rfl rfl)
theorem dX10_paste_100 : decode cX10_paste 100 = .ok (.iload_n 3, 1) := dk_29 (dk_at dksX10_paste_4 8 rfl rfl)
theorem dX10_paste_101 : decode cX10_paste 101 = .ok (.iaload, 1) := dk_46 (dk_at dksX10_paste_4 9 rfl rfl)
theorem dX10_paste_102 : decode cX10_paste 102 = .ok (.i2l, 1) := dk_133 (dk_at dksX10_paste_4 10 rfl rfl)
theorem dX10_paste_103 : decode cX10_paste 103 = .ok (.lcmp, 1) := dk_148 (dk_at dksX10_paste_4 11 rfl rfl)
theorem dX10_paste_104 : decode cX10_paste 104 = .ok (.ifCond .le 6, 3) := dk_158 0 6 (dk_at dksX10_paste_4 12 rfl rfl)
theorem dX10_paste_107 : decode cX10_paste 107 = .ok (.bipush (-7), 2) := dk_16 249 (dk_at dksX10_paste_4 15 rfl rfl)
theorem dX10_paste_109 : decode cX10_paste 109 = .ok (.ireturn, 1) := dk_172 (dk_at dksX10_paste_4 17 rfl rfl)
theorem dX10_paste_110 : decode cX10_paste 110 = .ok (.iconst 0, 1) := dk_3 (dk_at dksX10_paste_4 18 rfl rfl)
theorem dX10_paste_111 : decode cX10_paste 111 = .ok (.istore 6, 2) := dk_54 6 (dk_at dksX10_paste_4 19 rfl rfl)
theorem dX10_paste_113 : decode cX10_paste 113 = .ok (.iload 6, 2) := dk_21 6 (dk_at dksX10_paste_4 21 rfl rfl)
theorem dX10_paste_115 : decode cX10_paste 115 = .ok (.iload 5, 2) := dk_21 5 (dk_at dksX10_paste_5 0 rfl rfl)
theorem dX10_paste_117 : decode cX10_paste 117 = .ok (.if_icmp .ge 30, 3) := dk_162 0 30 (dk_at dksX10_paste_5 2 rfl rfl)
theorem dX10_paste_120 : decode cX10_paste 120 = .ok (.aload_n 0, 1) := dk_42 (dk_at dksX10_paste_5 5 rfl rfl)
theorem dX10_paste_121 : decode cX10_paste 121 = .ok (.getfield 80, 3) := dk_180 0 80 (dk_at dksX10_paste_5 6 rfl rfl)
theorem dX10_paste_124 : decode cX10_paste 124 = .ok (.iload 6, 2) := dk_21 6 (dk_at dksX10_paste_5 9 rfl rfl)
theorem dX10_paste_126 : decode cX10_paste 126 = .ok (.aload_n 0, 1) := dk_42 (dk_at dksX10_paste_5 11 rfl rfl)
theorem dX10_paste_127 : decode cX10_paste 127 = .ok (.getfield 77, 3) := dk_180 0 77 (dk_at dksX10_paste_5 12 rfl rfl)
theorem dX10_paste_130 : decode cX10_paste 130 = .ok (.bipush 60, 2) := dk_16 60 (dk_at dksX10_paste_5 15 rfl rfl)
theorem dX10_paste_132 : decode cX10_paste 132 = .ok (.iload_n 1, 1) := dk_27 (dk_at dksX10_paste_5 17 rfl rfl)
theorem dX10_paste_133 : decode cX10_paste 133 = .ok (.imul, 1) := dk_104 (dk_at dksX10_paste_5 18 rfl rfl)
theorem dX10_paste_134 : decode cX10_paste 134 = .ok (.iload_n 2, 1) := dk_28 (dk_at dksX10_paste_5 19 rfl rfl)
theorem dX10_paste_135 : decode cX10_paste 135 = .ok (.iadd, 1) := dk_96 (dk_at dksX10_paste_5 20 rfl rfl)
theorem dX10_paste_136 : decode cX10_paste 136 = .ok (.iload 6, 2) := dk_21 6 (dk_at dksX10_paste_5 21 rfl rfl)
theorem dX10_paste_138 : decode cX10_paste 138 = .ok (.iadd, 1) := dk_96 (dk_at dksX10_paste_5 23 rfl rfl)
theorem dX10_paste_139 : decode cX10_paste 139 = .ok (.laload, 1) := dk_47 (dk_at dksX10_paste_6 0 rfl rfl)
theorem dX10_paste_140 : decode cX10_paste 140 = .ok (.lastore, 1) := dk_80 (dk_at dksX10_paste_6 1 rfl rfl)
theorem dX10_paste_141 : decode cX10_paste 141 = .ok (.iinc 6 1, 3) := dk_132 6 1 (dk_at dksX10_paste_6 2 rfl rfl)
theorem dX10_paste_144 : decode cX10_paste 144 = .ok (.goto (-31), 3) := dk_167 255 225 (dk_at dksX10_paste_6 5 rfl rfl)
theorem dX10_paste_147 : decode cX10_paste 147 = .ok (.iconst 0, 1) := dk_3 (dk_at dksX10_paste_6 8 rfl rfl)
theorem dX10_paste_148 : decode cX10_paste 148 = .ok (.istore 6, 2) := dk_54 6 (dk_at dksX10_paste_6 9 rfl rfl)
theorem dX10_paste_150 : decode cX10_paste 150 = .ok (.iload 6, 2) := dk_21 6 (dk_at dksX10_paste_6 11 rfl rfl)
theorem dX10_paste_152 : decode cX10_paste 152 = .ok (.iload 5, 2) := dk_21 5 (dk_at dksX10_paste_6 13 rfl rfl)
theorem dX10_paste_154 : decode cX10_paste 154 = .ok (.if_icmp .ge 31, 3) := dk_162 0 31 (dk_at dksX10_paste_6 15 rfl rfl)
theorem dX10_paste_157 : decode cX10_paste 157 = .ok (.aload_n 0, 1) := dk_42 (dk_at dksX10_paste_6 18 rfl rfl)
theorem dX10_paste_158 : decode cX10_paste 158 = .ok (.getfield 77, 3) := dk_180 0 77 (dk_at dksX10_paste_6 19 rfl rfl)
theorem dX10_paste_161 : decode cX10_paste 161 = .ok (.bipush 60, 2) := dk_16 60 (dk_at dksX10_paste_6 22 rfl rfl)
theorem dX10_paste_163 : decode cX10_paste 163 = .ok (.iload_n 3, 1) := dk_29 (dk_at dksX10_paste_7 0 rfl rfl)
theorem dX10_paste_164 : decode cX10_paste 164 = .ok (.imul, 1) := dk_104 (dk_at dksX10_paste_7 1 rfl rfl)
theorem dX10_paste_165 : decode cX10_paste 165 = .ok (.iload 4, 2) := dk_21 4 (dk_at dksX10_paste_7 2 rfl rfl)
theorem dX10_paste_167 : decode cX10_paste 167 = .ok (.iadd, 1) := dk_96 (dk_at dksX10_paste_7 4 rfl rfl)
theorem dX10_paste_168 : decode cX10_paste 168 = .ok (.iload 6, 2) := dk_21 6 (dk_at dksX10_paste_7 5 rfl rfl)
theorem dX10_paste_170 : decode cX10_paste 170 = .ok (.iadd, 1) := dk_96 (dk_at dksX10_paste_7 7 rfl rfl)
theorem dX10_paste_171 : decode cX10_paste 171 = .ok (.aload_n 0, 1) := dk_42 (dk_at dksX10_paste_7 8 rfl rfl)
theorem dX10_paste_172 : decode cX10_paste 172 = .ok (.getfield 80, 3) := dk_180 0 80 (dk_at dksX10_paste_7 9 rfl rfl)
theorem dX10_paste_175 : decode cX10_paste 175 = .ok (.iload 6, 2) := dk_21 6 (dk_at dksX10_paste_7 12 rfl rfl)
theorem dX10_paste_177 : decode cX10_paste 177 = .ok (.laload, 1) := dk_47 (dk_at dksX10_paste_7 14 rfl rfl)
theorem dX10_paste_178 : decode cX10_paste 178 = .ok (.lastore, 1) := dk_80 (dk_at dksX10_paste_7 15 rfl rfl)
theorem dX10_paste_179 : decode cX10_paste 179 = .ok (.iinc 6 1, 3) := dk_132 6 1 (dk_at dksX10_paste_7 16 rfl rfl)
theorem dX10_paste_182 : decode cX10_paste 182 = .ok (.goto (-32), 3) := dk_167 255 224 (dk_at dksX10_paste_7 19 rfl rfl)
theorem dX10_paste_185 : decode cX10_paste 185 = .ok (.iconst 0, 1) := dk_3 (dk_at dksX10_paste_7 22 rfl rfl)
theorem dX10_paste_186 : decode cX10_paste 186 = .ok (.ireturn, 1) := dk_172 (dk_at dksX10_paste_7 23 rfl rfl)
theorem q158 : (Jvm.Cond.initialized "MoleBoardModel") ∈ lw_all := lw_g (lw_at lw_m1 14 rfl) rfl
theorem q1125 : (Jvm.Cond.selects "MoleBoardModel" ({ cls := "java/lang/Object", name := "getClass", desc := "()Ljava/lang/Class;" } : Jvm.MethodName) ({ cls := "java/lang/Object", name := "getClass", desc := "()Ljava/lang/Class;" } : Jvm.MethodName)) ∈ lw_all := lw_g (lw_at lw_m5 21 rfl) rfl
theorem q1827 : (Jvm.Cond.instantiable "MoleBoardModel" (47 : Nat)) ∈ lw_all := lw_g (lw_at lw_m8 3 rfl) rfl
theorem q1829 : (Jvm.Cond.instanceMethod ({ cls := "MoleBoardModel", name := "<init>", desc := "()V" } : Jvm.MethodName)) ∈ lw_all := lw_g (lw_at lw_m8 5 rfl) rfl
theorem q1830 : (Jvm.Cond.code ({ cls := "MoleBoardModel", name := "<init>", desc := "()V" } : Jvm.MethodName) prog_16_method_1_code (1 : Nat) (Option.none : Option Jvm.ClassFile.FieldType)) ∈ lw_all := lw_g (lw_at lw_m8 6 rfl) rfl
theorem q1831 : (Jvm.Cond.methodLink "MoleBoardModel" (3 : Nat) ({ cls := "java/lang/Object", name := "<init>", desc := "()V" } : Jvm.MethodName)) ∈ lw_all := lw_g (lw_at lw_m8 7 rfl) rfl
theorem q1832 : (Jvm.Cond.fieldLink "MoleBoardModel" (9 : Nat) "MoleBoardModel" "world" "[I") ∈ lw_all := lw_g (lw_at lw_m8 8 rfl) rfl
theorem q1833 : (Jvm.Cond.fieldLink "MoleBoardModel" (13 : Nat) "MoleBoardModel" "images" "[I") ∈ lw_all := lw_g (lw_at lw_m8 9 rfl) rfl
theorem q1834 : (Jvm.Cond.fieldLink "MoleBoardModel" (16 : Nat) "MoleBoardModel" "hasImage" "[Z") ∈ lw_all := lw_g (lw_at lw_m8 10 rfl) rfl
theorem q1835 : (Jvm.Cond.fieldLink "MoleBoardModel" (20 : Nat) "MoleBoardModel" "tape" "[B") ∈ lw_all := lw_g (lw_at lw_m8 11 rfl) rfl
theorem q1836 : (Jvm.Cond.fieldLink "MoleBoardModel" (96 : Nat) "MoleBoardModel" "taped" "I") ∈ lw_all := lw_g (lw_at lw_m8 12 rfl) rfl
theorem q1837 : (Jvm.Cond.fieldLink "MoleBoardModel" (24 : Nat) "MoleBoardModel" "five" "[I") ∈ lw_all := lw_g (lw_at lw_m8 13 rfl) rfl
theorem q1838 : (Jvm.Cond.fieldLink "MoleBoardModel" (99 : Nat) "MoleBoardModel" "size" "I") ∈ lw_all := lw_g (lw_at lw_m8 14 rfl) rfl
theorem q1839 : (Jvm.Cond.fieldLink "MoleBoardModel" (102 : Nat) "MoleBoardModel" "at" "I") ∈ lw_all := lw_g (lw_at lw_m8 15 rfl) rfl
theorem q1840 : (Jvm.Cond.fieldLink "MoleBoardModel" (109 : Nat) "MoleBoardModel" "from" "I") ∈ lw_all := lw_g (lw_at lw_m8 16 rfl) rfl
theorem q1841 : (Jvm.Cond.fieldLink "MoleBoardModel" (112 : Nat) "MoleBoardModel" "token" "I") ∈ lw_all := lw_g (lw_at lw_m8 17 rfl) rfl
theorem q1842 : (Jvm.Cond.fieldLink "MoleBoardModel" (123 : Nat) "MoleBoardModel" "value" "I") ∈ lw_all := lw_g (lw_at lw_m8 18 rfl) rfl
theorem q1843 : (Jvm.Cond.fieldLink "MoleBoardModel" (133 : Nat) "MoleBoardModel" "faultKind" "I") ∈ lw_all := lw_g (lw_at lw_m8 19 rfl) rfl
theorem q1844 : (Jvm.Cond.fieldLink "MoleBoardModel" (27 : Nat) "MoleBoardModel" "faultPlace" "I") ∈ lw_all := lw_g (lw_at lw_m8 20 rfl) rfl
theorem q1845 : (Jvm.Cond.fieldLink "MoleBoardModel" (31 : Nat) "MoleBoardModel" "fresh" "[I") ∈ lw_all := lw_g (lw_at lw_m8 21 rfl) rfl
theorem q1846 : (Jvm.Cond.fieldLink "MoleBoardModel" (34 : Nat) "MoleBoardModel" "game" "[I") ∈ lw_all := lw_g (lw_at lw_m8 22 rfl) rfl
theorem q1847 : (Jvm.Cond.fieldLink "MoleBoardModel" (37 : Nat) "MoleBoardModel" "tickOf" "[I") ∈ lw_all := lw_g (lw_at lw_m8 23 rfl) rfl
theorem q1848 : (Jvm.Cond.fieldLink "MoleBoardModel" (40 : Nat) "MoleBoardModel" "lastOf" "[I") ∈ lw_all := lw_g (lw_at lw_m8 24 rfl) rfl
theorem q1849 : (Jvm.Cond.fieldLink "MoleBoardModel" (248 : Nat) "MoleBoardModel" "gameMany" "I") ∈ lw_all := lw_g (lw_at lw_m8 25 rfl) rfl
theorem q1850 : (Jvm.Cond.fieldLink "MoleBoardModel" (309 : Nat) "MoleBoardModel" "runner" "I") ∈ lw_all := lw_g (lw_at lw_m8 26 rfl) rfl
theorem q1851 : (Jvm.Cond.fieldLink "MoleBoardModel" (312 : Nat) "MoleBoardModel" "runLag" "I") ∈ lw_all := lw_g (lw_at lw_m8 27 rfl) rfl
theorem q1852 : (Jvm.Cond.fieldLink "MoleBoardModel" (315 : Nat) "MoleBoardModel" "runKnows" "I") ∈ lw_all := lw_g (lw_at lw_m8 28 rfl) rfl
theorem q1853 : (Jvm.Cond.fieldLink "MoleBoardModel" (318 : Nat) "MoleBoardModel" "runWaits" "I") ∈ lw_all := lw_g (lw_at lw_m8 29 rfl) rfl
theorem q1854 : (Jvm.Cond.fieldLink "MoleBoardModel" (321 : Nat) "MoleBoardModel" "runHoles" "I") ∈ lw_all := lw_g (lw_at lw_m8 30 rfl) rfl
theorem q1855 : (Jvm.Cond.fieldLink "MoleBoardModel" (324 : Nat) "MoleBoardModel" "runRed" "Z") ∈ lw_all := lw_g (lw_at lw_m8 31 rfl) rfl
theorem q1856 : (Jvm.Cond.fieldLink "MoleBoardModel" (43 : Nat) "MoleBoardModel" "hitMany" "[I") ∈ lw_all := lw_g (lw_at lw_m8 32 rfl) rfl
theorem q1857 : (Jvm.Cond.fieldLink "MoleBoardModel" (46 : Nat) "MoleBoardModel" "hitTick" "[I") ∈ lw_all := lw_g (lw_at lw_m8 33 rfl) rfl
theorem q1858 : (Jvm.Cond.fieldLink "MoleBoardModel" (49 : Nat) "MoleBoardModel" "strikeTick" "[I") ∈ lw_all := lw_g (lw_at lw_m8 34 rfl) rfl
theorem q1859 : (Jvm.Cond.fieldLink "MoleBoardModel" (52 : Nat) "MoleBoardModel" "strikeHole" "[I") ∈ lw_all := lw_g (lw_at lw_m8 35 rfl) rfl
theorem q1860 : (Jvm.Cond.fieldLink "MoleBoardModel" (346 : Nat) "MoleBoardModel" "strikes" "I") ∈ lw_all := lw_g (lw_at lw_m8 36 rfl) rfl
theorem q1861 : (Jvm.Cond.fieldLink "MoleBoardModel" (349 : Nat) "MoleBoardModel" "redHits" "I") ∈ lw_all := lw_g (lw_at lw_m8 37 rfl) rfl
theorem q1862 : (Jvm.Cond.fieldLink "MoleBoardModel" (340 : Nat) "MoleBoardModel" "place" "I") ∈ lw_all := lw_g (lw_at lw_m8 38 rfl) rfl
theorem q1863 : (Jvm.Cond.fieldLink "MoleBoardModel" (334 : Nat) "MoleBoardModel" "free" "I") ∈ lw_all := lw_g (lw_at lw_m8 39 rfl) rfl
theorem q1864 : (Jvm.Cond.fieldLink "MoleBoardModel" (343 : Nat) "MoleBoardModel" "wentSteps" "I") ∈ lw_all := lw_g (lw_at lw_m8 40 rfl) rfl
theorem q1865 : (Jvm.Cond.fieldLink "MoleBoardModel" (55 : Nat) "MoleBoardModel" "freeBy" "[I") ∈ lw_all := lw_g (lw_at lw_m8 41 rfl) rfl
theorem q1866 : (Jvm.Cond.fieldLink "MoleBoardModel" (58 : Nat) "MoleBoardModel" "freeNow" "[I") ∈ lw_all := lw_g (lw_at lw_m8 42 rfl) rfl
theorem q1867 : (Jvm.Cond.fieldLink "MoleBoardModel" (61 : Nat) "MoleBoardModel" "rowsBy" "[J") ∈ lw_all := lw_g (lw_at lw_m8 43 rfl) rfl
theorem q1868 : (Jvm.Cond.fieldLink "MoleBoardModel" (65 : Nat) "MoleBoardModel" "rowsNow" "[J") ∈ lw_all := lw_g (lw_at lw_m8 44 rfl) rfl
theorem q1869 : (Jvm.Cond.fieldLink "MoleBoardModel" (68 : Nat) "MoleBoardModel" "hitHoles" "[I") ∈ lw_all := lw_g (lw_at lw_m8 45 rfl) rfl
theorem q1870 : (Jvm.Cond.fieldLink "MoleBoardModel" (485 : Nat) "MoleBoardModel" "goodBlows" "I") ∈ lw_all := lw_g (lw_at lw_m8 46 rfl) rfl
theorem q1871 : (Jvm.Cond.fieldLink "MoleBoardModel" (488 : Nat) "MoleBoardModel" "redBlows" "I") ∈ lw_all := lw_g (lw_at lw_m8 47 rfl) rfl
theorem q1872 : (Jvm.Cond.fieldLink "MoleBoardModel" (491 : Nat) "MoleBoardModel" "earlyBlows" "I") ∈ lw_all := lw_g (lw_at lw_m8 48 rfl) rfl
theorem q1873 : (Jvm.Cond.fieldLink "MoleBoardModel" (516 : Nat) "MoleBoardModel" "drawn" "J") ∈ lw_all := lw_g (lw_at lw_m8 49 rfl) rfl
theorem q1874 : (Jvm.Cond.fieldLink "MoleBoardModel" (71 : Nat) "MoleBoardModel" "many" "[I") ∈ lw_all := lw_g (lw_at lw_m8 50 rfl) rfl
theorem q1875 : (Jvm.Cond.fieldLink "MoleBoardModel" (74 : Nat) "MoleBoardModel" "width" "[I") ∈ lw_all := lw_g (lw_at lw_m8 51 rfl) rfl
theorem q1876 : (Jvm.Cond.fieldLink "MoleBoardModel" (77 : Nat) "MoleBoardModel" "numbers" "[J") ∈ lw_all := lw_g (lw_at lw_m8 52 rfl) rfl
theorem q1877 : (Jvm.Cond.fieldLink "MoleBoardModel" (80 : Nat) "MoleBoardModel" "moving" "[J") ∈ lw_all := lw_g (lw_at lw_m8 53 rfl) rfl
theorem q1878 : (Jvm.Cond.lays "MoleBoardModel" "MoleBoardModel" "thrown" "I") ∈ lw_all := lw_g (lw_at lw_m8 54 rfl) rfl
theorem q1879 : (Jvm.Cond.soleField "MoleBoardModel" "thrown") ∈ lw_all := lw_g (lw_at lw_m8 55 rfl) rfl
theorem q1880 : (Jvm.Cond.laysFinal "MoleBoardModel" "MoleBoardModel" "world" "[I") ∈ lw_all := lw_g (lw_at lw_m8 56 rfl) rfl
theorem q1881 : (Jvm.Cond.soleField "MoleBoardModel" "world") ∈ lw_all := lw_g (lw_at lw_m8 57 rfl) rfl
theorem q1882 : (Jvm.Cond.laysFinal "MoleBoardModel" "MoleBoardModel" "images" "[I") ∈ lw_all := lw_g (lw_at lw_m8 58 rfl) rfl
theorem q1883 : (Jvm.Cond.soleField "MoleBoardModel" "images") ∈ lw_all := lw_g (lw_at lw_m8 59 rfl) rfl
theorem q1884 : (Jvm.Cond.laysFinal "MoleBoardModel" "MoleBoardModel" "hasImage" "[Z") ∈ lw_all := lw_g (lw_at lw_m8 60 rfl) rfl
theorem q1885 : (Jvm.Cond.soleField "MoleBoardModel" "hasImage") ∈ lw_all := lw_g (lw_at lw_m8 61 rfl) rfl
theorem q1886 : (Jvm.Cond.laysFinal "MoleBoardModel" "MoleBoardModel" "tape" "[B") ∈ lw_all := lw_g (lw_at lw_m8 62 rfl) rfl
theorem q1887 : (Jvm.Cond.soleField "MoleBoardModel" "tape") ∈ lw_all := lw_g (lw_at lw_m8 63 rfl) rfl
theorem q1888 : (Jvm.Cond.lays "MoleBoardModel" "MoleBoardModel" "taped" "I") ∈ lw_all := lw_g (lw_at lw_m8 64 rfl) rfl
theorem q1889 : (Jvm.Cond.soleField "MoleBoardModel" "taped") ∈ lw_all := lw_g (lw_at lw_m8 65 rfl) rfl
theorem q1890 : (Jvm.Cond.laysFinal "MoleBoardModel" "MoleBoardModel" "five" "[I") ∈ lw_all := lw_g (lw_at lw_m8 66 rfl) rfl
theorem q1891 : (Jvm.Cond.soleField "MoleBoardModel" "five") ∈ lw_all := lw_g (lw_at lw_m8 67 rfl) rfl
theorem q1892 : (Jvm.Cond.lays "MoleBoardModel" "MoleBoardModel" "size" "I") ∈ lw_all := lw_g (lw_at lw_m8 68 rfl) rfl
theorem q1893 : (Jvm.Cond.soleField "MoleBoardModel" "size") ∈ lw_all := lw_g (lw_at lw_m8 69 rfl) rfl
theorem q1894 : (Jvm.Cond.lays "MoleBoardModel" "MoleBoardModel" "at" "I") ∈ lw_all := lw_g (lw_at lw_m8 70 rfl) rfl
theorem q1895 : (Jvm.Cond.soleField "MoleBoardModel" "at") ∈ lw_all := lw_g (lw_at lw_m8 71 rfl) rfl
theorem q1896 : (Jvm.Cond.lays "MoleBoardModel" "MoleBoardModel" "from" "I") ∈ lw_all := lw_g (lw_at lw_m8 72 rfl) rfl
theorem q1897 : (Jvm.Cond.soleField "MoleBoardModel" "from") ∈ lw_all := lw_g (lw_at lw_m8 73 rfl) rfl
theorem q1898 : (Jvm.Cond.lays "MoleBoardModel" "MoleBoardModel" "token" "I") ∈ lw_all := lw_g (lw_at lw_m8 74 rfl) rfl
theorem q1899 : (Jvm.Cond.soleField "MoleBoardModel" "token") ∈ lw_all := lw_g (lw_at lw_m8 75 rfl) rfl
theorem q1900 : (Jvm.Cond.lays "MoleBoardModel" "MoleBoardModel" "value" "I") ∈ lw_all := lw_g (lw_at lw_m8 76 rfl) rfl
theorem q1901 : (Jvm.Cond.soleField "MoleBoardModel" "value") ∈ lw_all := lw_g (lw_at lw_m8 77 rfl) rfl
theorem q1902 : (Jvm.Cond.lays "MoleBoardModel" "MoleBoardModel" "faultKind" "I") ∈ lw_all := lw_g (lw_at lw_m8 78 rfl) rfl
theorem q1903 : (Jvm.Cond.soleField "MoleBoardModel" "faultKind") ∈ lw_all := lw_g (lw_at lw_m8 79 rfl) rfl
theorem q1904 : (Jvm.Cond.lays "MoleBoardModel" "MoleBoardModel" "faultPlace" "I") ∈ lw_all := lw_g (lw_at lw_m8 80 rfl) rfl
theorem q1905 : (Jvm.Cond.soleField "MoleBoardModel" "faultPlace") ∈ lw_all := lw_g (lw_at lw_m8 81 rfl) rfl
theorem q1906 : (Jvm.Cond.laysFinal "MoleBoardModel" "MoleBoardModel" "fresh" "[I") ∈ lw_all := lw_g (lw_at lw_m8 82 rfl) rfl
theorem q1907 : (Jvm.Cond.soleField "MoleBoardModel" "fresh") ∈ lw_all := lw_g (lw_at lw_m8 83 rfl) rfl
theorem q1908 : (Jvm.Cond.laysFinal "MoleBoardModel" "MoleBoardModel" "game" "[I") ∈ lw_all := lw_g (lw_at lw_m8 84 rfl) rfl
theorem q1909 : (Jvm.Cond.soleField "MoleBoardModel" "game") ∈ lw_all := lw_g (lw_at lw_m8 85 rfl) rfl
theorem q1910 : (Jvm.Cond.laysFinal "MoleBoardModel" "MoleBoardModel" "tickOf" "[I") ∈ lw_all := lw_g (lw_at lw_m8 86 rfl) rfl
theorem q1911 : (Jvm.Cond.soleField "MoleBoardModel" "tickOf") ∈ lw_all := lw_g (lw_at lw_m8 87 rfl) rfl
theorem q1912 : (Jvm.Cond.laysFinal "MoleBoardModel" "MoleBoardModel" "lastOf" "[I") ∈ lw_all := lw_g (lw_at lw_m8 88 rfl) rfl
theorem q1913 : (Jvm.Cond.soleField "MoleBoardModel" "lastOf") ∈ lw_all := lw_g (lw_at lw_m8 89 rfl) rfl
theorem q1914 : (Jvm.Cond.lays "MoleBoardModel" "MoleBoardModel" "gameMany" "I") ∈ lw_all := lw_g (lw_at lw_m8 90 rfl) rfl
theorem q1915 : (Jvm.Cond.soleField "MoleBoardModel" "gameMany") ∈ lw_all := lw_g (lw_at lw_m8 91 rfl) rfl
theorem q1916 : (Jvm.Cond.lays "MoleBoardModel" "MoleBoardModel" "runner" "I") ∈ lw_all := lw_g (lw_at lw_m8 92 rfl) rfl
theorem q1917 : (Jvm.Cond.soleField "MoleBoardModel" "runner") ∈ lw_all := lw_g (lw_at lw_m8 93 rfl) rfl
theorem q1918 : (Jvm.Cond.lays "MoleBoardModel" "MoleBoardModel" "runLag" "I") ∈ lw_all := lw_g (lw_at lw_m8 94 rfl) rfl
theorem q1919 : (Jvm.Cond.soleField "MoleBoardModel" "runLag") ∈ lw_all := lw_g (lw_at lw_m8 95 rfl) rfl
theorem q1920 : (Jvm.Cond.lays "MoleBoardModel" "MoleBoardModel" "runKnows" "I") ∈ lw_all := lw_g (lw_at lw_m8 96 rfl) rfl
theorem q1921 : (Jvm.Cond.soleField "MoleBoardModel" "runKnows") ∈ lw_all := lw_g (lw_at lw_m8 97 rfl) rfl
theorem q1922 : (Jvm.Cond.lays "MoleBoardModel" "MoleBoardModel" "runWaits" "I") ∈ lw_all := lw_g (lw_at lw_m8 98 rfl) rfl
theorem q1923 : (Jvm.Cond.soleField "MoleBoardModel" "runWaits") ∈ lw_all := lw_g (lw_at lw_m8 99 rfl) rfl
theorem q1924 : (Jvm.Cond.lays "MoleBoardModel" "MoleBoardModel" "runHoles" "I") ∈ lw_all := lw_g (lw_at lw_m8 100 rfl) rfl
theorem q1925 : (Jvm.Cond.soleField "MoleBoardModel" "runHoles") ∈ lw_all := lw_g (lw_at lw_m8 101 rfl) rfl
theorem q1926 : (Jvm.Cond.lays "MoleBoardModel" "MoleBoardModel" "runRed" "Z") ∈ lw_all := lw_g (lw_at lw_m8 102 rfl) rfl
theorem q1927 : (Jvm.Cond.soleField "MoleBoardModel" "runRed") ∈ lw_all := lw_g (lw_at lw_m8 103 rfl) rfl
theorem q1928 : (Jvm.Cond.laysFinal "MoleBoardModel" "MoleBoardModel" "hitMany" "[I") ∈ lw_all := lw_g (lw_at lw_m8 104 rfl) rfl
theorem q1929 : (Jvm.Cond.soleField "MoleBoardModel" "hitMany") ∈ lw_all := lw_g (lw_at lw_m8 105 rfl) rfl
theorem q1930 : (Jvm.Cond.laysFinal "MoleBoardModel" "MoleBoardModel" "hitTick" "[I") ∈ lw_all := lw_g (lw_at lw_m8 106 rfl) rfl
theorem q1931 : (Jvm.Cond.soleField "MoleBoardModel" "hitTick") ∈ lw_all := lw_g (lw_at lw_m8 107 rfl) rfl
theorem q1932 : (Jvm.Cond.laysFinal "MoleBoardModel" "MoleBoardModel" "strikeTick" "[I") ∈ lw_all := lw_g (lw_at lw_m8 108 rfl) rfl
theorem q1933 : (Jvm.Cond.soleField "MoleBoardModel" "strikeTick") ∈ lw_all := lw_g (lw_at lw_m8 109 rfl) rfl
theorem q1934 : (Jvm.Cond.laysFinal "MoleBoardModel" "MoleBoardModel" "strikeHole" "[I") ∈ lw_all := lw_g (lw_at lw_m8 110 rfl) rfl
theorem q1935 : (Jvm.Cond.soleField "MoleBoardModel" "strikeHole") ∈ lw_all := lw_g (lw_at lw_m8 111 rfl) rfl
theorem q1936 : (Jvm.Cond.lays "MoleBoardModel" "MoleBoardModel" "strikes" "I") ∈ lw_all := lw_g (lw_at lw_m8 112 rfl) rfl
theorem q1937 : (Jvm.Cond.soleField "MoleBoardModel" "strikes") ∈ lw_all := lw_g (lw_at lw_m8 113 rfl) rfl
theorem q1938 : (Jvm.Cond.lays "MoleBoardModel" "MoleBoardModel" "redHits" "I") ∈ lw_all := lw_g (lw_at lw_m8 114 rfl) rfl
theorem q1939 : (Jvm.Cond.soleField "MoleBoardModel" "redHits") ∈ lw_all := lw_g (lw_at lw_m8 115 rfl) rfl
theorem q1940 : (Jvm.Cond.lays "MoleBoardModel" "MoleBoardModel" "place" "I") ∈ lw_all := lw_g (lw_at lw_m8 116 rfl) rfl
theorem q1941 : (Jvm.Cond.soleField "MoleBoardModel" "place") ∈ lw_all := lw_g (lw_at lw_m8 117 rfl) rfl
theorem q1942 : (Jvm.Cond.lays "MoleBoardModel" "MoleBoardModel" "free" "I") ∈ lw_all := lw_g (lw_at lw_m8 118 rfl) rfl
theorem q1943 : (Jvm.Cond.soleField "MoleBoardModel" "free") ∈ lw_all := lw_g (lw_at lw_m8 119 rfl) rfl
theorem q1944 : (Jvm.Cond.lays "MoleBoardModel" "MoleBoardModel" "wentSteps" "I") ∈ lw_all := lw_g (lw_at lw_m8 120 rfl) rfl
theorem q1945 : (Jvm.Cond.soleField "MoleBoardModel" "wentSteps") ∈ lw_all := lw_g (lw_at lw_m8 121 rfl) rfl
theorem q1946 : (Jvm.Cond.laysFinal "MoleBoardModel" "MoleBoardModel" "freeBy" "[I") ∈ lw_all := lw_g (lw_at lw_m8 122 rfl) rfl
theorem q1947 : (Jvm.Cond.soleField "MoleBoardModel" "freeBy") ∈ lw_all := lw_g (lw_at lw_m8 123 rfl) rfl
theorem q1948 : (Jvm.Cond.laysFinal "MoleBoardModel" "MoleBoardModel" "freeNow" "[I") ∈ lw_all := lw_g (lw_at lw_m8 124 rfl) rfl
theorem q1949 : (Jvm.Cond.soleField "MoleBoardModel" "freeNow") ∈ lw_all := lw_g (lw_at lw_m8 125 rfl) rfl
theorem q1950 : (Jvm.Cond.laysFinal "MoleBoardModel" "MoleBoardModel" "rowsBy" "[J") ∈ lw_all := lw_g (lw_at lw_m8 126 rfl) rfl
theorem q1951 : (Jvm.Cond.soleField "MoleBoardModel" "rowsBy") ∈ lw_all := lw_g (lw_at lw_m8 127 rfl) rfl
theorem q1952 : (Jvm.Cond.laysFinal "MoleBoardModel" "MoleBoardModel" "rowsNow" "[J") ∈ lw_all := lw_g (lw_at lw_m8 128 rfl) rfl
theorem q1953 : (Jvm.Cond.soleField "MoleBoardModel" "rowsNow") ∈ lw_all := lw_g (lw_at lw_m8 129 rfl) rfl
theorem q1954 : (Jvm.Cond.laysFinal "MoleBoardModel" "MoleBoardModel" "hitHoles" "[I") ∈ lw_all := lw_g (lw_at lw_m8 130 rfl) rfl
theorem q1955 : (Jvm.Cond.soleField "MoleBoardModel" "hitHoles") ∈ lw_all := lw_g (lw_at lw_m8 131 rfl) rfl
theorem q1956 : (Jvm.Cond.lays "MoleBoardModel" "MoleBoardModel" "goodBlows" "I") ∈ lw_all := lw_g (lw_at lw_m8 132 rfl) rfl
theorem q1957 : (Jvm.Cond.soleField "MoleBoardModel" "goodBlows") ∈ lw_all := lw_g (lw_at lw_m8 133 rfl) rfl
theorem q1958 : (Jvm.Cond.lays "MoleBoardModel" "MoleBoardModel" "redBlows" "I") ∈ lw_all := lw_g (lw_at lw_m8 134 rfl) rfl
theorem q1959 : (Jvm.Cond.soleField "MoleBoardModel" "redBlows") ∈ lw_all := lw_g (lw_at lw_m8 135 rfl) rfl
theorem q1960 : (Jvm.Cond.lays "MoleBoardModel" "MoleBoardModel" "earlyBlows" "I") ∈ lw_all := lw_g (lw_at lw_m8 136 rfl) rfl
theorem q1961 : (Jvm.Cond.soleField "MoleBoardModel" "earlyBlows") ∈ lw_all := lw_g (lw_at lw_m8 137 rfl) rfl
theorem q1962 : (Jvm.Cond.lays "MoleBoardModel" "MoleBoardModel" "drawn" "J") ∈ lw_all := lw_g (lw_at lw_m8 138 rfl) rfl
theorem q1963 : (Jvm.Cond.soleField "MoleBoardModel" "drawn") ∈ lw_all := lw_g (lw_at lw_m8 139 rfl) rfl
theorem q1964 : (Jvm.Cond.laysFinal "MoleBoardModel" "MoleBoardModel" "many" "[I") ∈ lw_all := lw_g (lw_at lw_m8 140 rfl) rfl
theorem q1965 : (Jvm.Cond.soleField "MoleBoardModel" "many") ∈ lw_all := lw_g (lw_at lw_m8 141 rfl) rfl
theorem q1966 : (Jvm.Cond.laysFinal "MoleBoardModel" "MoleBoardModel" "width" "[I") ∈ lw_all := lw_g (lw_at lw_m8 142 rfl) rfl
theorem q1967 : (Jvm.Cond.soleField "MoleBoardModel" "width") ∈ lw_all := lw_g (lw_at lw_m8 143 rfl) rfl
theorem q1968 : (Jvm.Cond.laysFinal "MoleBoardModel" "MoleBoardModel" "numbers" "[J") ∈ lw_all := lw_g (lw_at lw_m8 144 rfl) rfl
theorem q1969 : (Jvm.Cond.soleField "MoleBoardModel" "numbers") ∈ lw_all := lw_g (lw_at lw_m8 145 rfl) rfl
theorem q1970 : (Jvm.Cond.laysFinal "MoleBoardModel" "MoleBoardModel" "moving" "[J") ∈ lw_all := lw_g (lw_at lw_m8 146 rfl) rfl
theorem q1971 : (Jvm.Cond.soleField "MoleBoardModel" "moving") ∈ lw_all := lw_g (lw_at lw_m8 147 rfl) rfl
theorem q1972 : (Jvm.Cond.superclass "MoleBoardModel" "java/lang/Object") ∈ lw_all := lw_g (lw_at lw_m8 148 rfl) rfl
theorem q1975 : (Jvm.Cond.instanceMethod ({ cls := "MoleBoardModel", name := "image", desc := "(I)I" } : Jvm.MethodName)) ∈ lw_all := lw_g (lw_at lw_m8 151 rfl) rfl
theorem q1976 : (Jvm.Cond.selects "MoleBoardModel" ({ cls := "MoleBoardModel", name := "image", desc := "(I)I" } : Jvm.MethodName) ({ cls := "MoleBoardModel", name := "image", desc := "(I)I" } : Jvm.MethodName)) ∈ lw_all := lw_g (lw_at lw_m8 152 rfl) rfl
theorem q1977 : (Jvm.Cond.code ({ cls := "MoleBoardModel", name := "image", desc := "(I)I" } : Jvm.MethodName) prog_16_method_4_code (3 : Nat) (Option.some Jvm.ClassFile.FieldType.int)) ∈ lw_all := lw_g (lw_at lw_m8 153 rfl) rfl
theorem q1978 : (Jvm.Cond.constantLong "MoleBoardModel" (86 : Nat) (2 : Int64)) ∈ lw_all := lw_g (lw_at lw_m8 154 rfl) rfl
theorem q1979 : (Jvm.Cond.methodLink "MoleBoardModel" (88 : Nat) ({ cls := "MoleBoardModel", name := "in", desc := "(JJJ)Z" } : Jvm.MethodName)) ∈ lw_all := lw_g (lw_at lw_m8 155 rfl) rfl
theorem q1980 : (Jvm.Cond.static ({ cls := "MoleBoardModel", name := "in", desc := "(JJJ)Z" } : Jvm.MethodName)) ∈ lw_all := lw_g (lw_at lw_m8 156 rfl) rfl
theorem q1981 : (Jvm.Cond.code ({ cls := "MoleBoardModel", name := "in", desc := "(JJJ)Z" } : Jvm.MethodName) prog_16_method_3_code (6 : Nat) (Option.some Jvm.ClassFile.FieldType.boolean)) ∈ lw_all := lw_g (lw_at lw_m8 157 rfl) rfl
theorem q1983 : (Jvm.Cond.instanceMethod ({ cls := "MoleBoardModel", name := "back", desc := "(I)I" } : Jvm.MethodName)) ∈ lw_all := lw_g (lw_at lw_m8 159 rfl) rfl
theorem q1984 : (Jvm.Cond.selects "MoleBoardModel" ({ cls := "MoleBoardModel", name := "back", desc := "(I)I" } : Jvm.MethodName) ({ cls := "MoleBoardModel", name := "back", desc := "(I)I" } : Jvm.MethodName)) ∈ lw_all := lw_g (lw_at lw_m8 160 rfl) rfl
theorem q1985 : (Jvm.Cond.code ({ cls := "MoleBoardModel", name := "back", desc := "(I)I" } : Jvm.MethodName) prog_16_method_5_code (3 : Nat) (Option.some Jvm.ClassFile.FieldType.int)) ∈ lw_all := lw_g (lw_at lw_m8 161 rfl) rfl
theorem q1987 : (Jvm.Cond.instanceMethod ({ cls := "MoleBoardModel", name := "feed", desc := "(IIIII)I" } : Jvm.MethodName)) ∈ lw_all := lw_g (lw_at lw_m8 163 rfl) rfl
theorem q1988 : (Jvm.Cond.selects "MoleBoardModel" ({ cls := "MoleBoardModel", name := "feed", desc := "(IIIII)I" } : Jvm.MethodName) ({ cls := "MoleBoardModel", name := "feed", desc := "(IIIII)I" } : Jvm.MethodName)) ∈ lw_all := lw_g (lw_at lw_m8 164 rfl) rfl
theorem q1989 : (Jvm.Cond.code ({ cls := "MoleBoardModel", name := "feed", desc := "(IIIII)I" } : Jvm.MethodName) prog_16_method_15_code (7 : Nat) (Option.some Jvm.ClassFile.FieldType.int)) ∈ lw_all := lw_g (lw_at lw_m8 165 rfl) rfl
theorem q1991 : (Jvm.Cond.instanceMethod ({ cls := "MoleBoardModel", name := "end", desc := "(I)I" } : Jvm.MethodName)) ∈ lw_all := lw_g (lw_at lw_m8 167 rfl) rfl
theorem q1992 : (Jvm.Cond.selects "MoleBoardModel" ({ cls := "MoleBoardModel", name := "end", desc := "(I)I" } : Jvm.MethodName) ({ cls := "MoleBoardModel", name := "end", desc := "(I)I" } : Jvm.MethodName)) ∈ lw_all := lw_g (lw_at lw_m8 168 rfl) rfl
theorem q1993 : (Jvm.Cond.code ({ cls := "MoleBoardModel", name := "end", desc := "(I)I" } : Jvm.MethodName) prog_16_method_16_code (2 : Nat) (Option.some Jvm.ClassFile.FieldType.int)) ∈ lw_all := lw_g (lw_at lw_m8 169 rfl) rfl
theorem q1995 : (Jvm.Cond.instanceMethod ({ cls := "MoleBoardModel", name := "fault", desc := "(I)I" } : Jvm.MethodName)) ∈ lw_all := lw_g (lw_at lw_m8 171 rfl) rfl
theorem q1996 : (Jvm.Cond.selects "MoleBoardModel" ({ cls := "MoleBoardModel", name := "fault", desc := "(I)I" } : Jvm.MethodName) ({ cls := "MoleBoardModel", name := "fault", desc := "(I)I" } : Jvm.MethodName)) ∈ lw_all := lw_g (lw_at lw_m8 172 rfl) rfl
theorem q1997 : (Jvm.Cond.code ({ cls := "MoleBoardModel", name := "fault", desc := "(I)I" } : Jvm.MethodName) prog_16_method_26_code (2 : Nat) (Option.some Jvm.ClassFile.FieldType.int)) ∈ lw_all := lw_g (lw_at lw_m8 173 rfl) rfl
theorem q1999 : (Jvm.Cond.instanceMethod ({ cls := "MoleBoardModel", name := "board", desc := "()I" } : Jvm.MethodName)) ∈ lw_all := lw_g (lw_at lw_m8 175 rfl) rfl
theorem q2000 : (Jvm.Cond.selects "MoleBoardModel" ({ cls := "MoleBoardModel", name := "board", desc := "()I" } : Jvm.MethodName) ({ cls := "MoleBoardModel", name := "board", desc := "()I" } : Jvm.MethodName)) ∈ lw_all := lw_g (lw_at lw_m8 176 rfl) rfl
theorem q2001 : (Jvm.Cond.code ({ cls := "MoleBoardModel", name := "board", desc := "()I" } : Jvm.MethodName) prog_16_method_39_code (2 : Nat) (Option.some Jvm.ClassFile.FieldType.int)) ∈ lw_all := lw_g (lw_at lw_m8 177 rfl) rfl
theorem q2002 : (Jvm.Cond.methodLink "MoleBoardModel" (153 : Nat) ({ cls := "MoleBoardModel", name := "advance", desc := "()V" } : Jvm.MethodName)) ∈ lw_all := lw_g (lw_at lw_m8 178 rfl) rfl
theorem q2003 : (Jvm.Cond.privateMethod ({ cls := "MoleBoardModel", name := "advance", desc := "()V" } : Jvm.MethodName)) ∈ lw_tbl := lw_at lw_m8 179 rfl
theorem q2004 : (Jvm.Cond.instanceMethod ({ cls := "MoleBoardModel", name := "advance", desc := "()V" } : Jvm.MethodName)) ∈ lw_all := lw_g (lw_at lw_m8 180 rfl) rfl
theorem q2005 : (Jvm.Cond.code ({ cls := "MoleBoardModel", name := "advance", desc := "()V" } : Jvm.MethodName) prog_16_method_18_code (2 : Nat) (Option.none : Option Jvm.ClassFile.FieldType)) ∈ lw_all := lw_g (lw_at lw_m8 181 rfl) rfl
theorem q2006 : (Jvm.Cond.methodLink "MoleBoardModel" (105 : Nat) ({ cls := "MoleBoardModel", name := "see", desc := "(I)I" } : Jvm.MethodName)) ∈ lw_all := lw_g (lw_at lw_m8 182 rfl) rfl
theorem q2007 : (Jvm.Cond.privateMethod ({ cls := "MoleBoardModel", name := "see", desc := "(I)I" } : Jvm.MethodName)) ∈ lw_tbl := lw_at lw_m8 183 rfl
theorem q2008 : (Jvm.Cond.instanceMethod ({ cls := "MoleBoardModel", name := "see", desc := "(I)I" } : Jvm.MethodName)) ∈ lw_all := lw_g (lw_at lw_m8 184 rfl) rfl
theorem q2009 : (Jvm.Cond.code ({ cls := "MoleBoardModel", name := "see", desc := "(I)I" } : Jvm.MethodName) prog_16_method_17_code (2 : Nat) (Option.some Jvm.ClassFile.FieldType.int)) ∈ lw_all := lw_g (lw_at lw_m8 185 rfl) rfl
theorem q2010 : (Jvm.Cond.constantLong "MoleBoardModel" (115 : Nat) (97 : Int64)) ∈ lw_all := lw_g (lw_at lw_m8 186 rfl) rfl
theorem q2011 : (Jvm.Cond.constantLong "MoleBoardModel" (117 : Nat) (122 : Int64)) ∈ lw_all := lw_g (lw_at lw_m8 187 rfl) rfl
theorem q2012 : (Jvm.Cond.constantLong "MoleBoardModel" (119 : Nat) (48 : Int64)) ∈ lw_all := lw_g (lw_at lw_m8 188 rfl) rfl
theorem q2013 : (Jvm.Cond.constantLong "MoleBoardModel" (121 : Nat) (57 : Int64)) ∈ lw_all := lw_g (lw_at lw_m8 189 rfl) rfl
theorem q2014 : (Jvm.Cond.constant "MoleBoardModel" (126 : Nat) (99999 : Int32)) ∈ lw_all := lw_g (lw_at lw_m8 190 rfl) rfl
theorem q2015 : (Jvm.Cond.methodLink "MoleBoardModel" (127 : Nat) ({ cls := "java/lang/Math", name := "min", desc := "(II)I" } : Jvm.MethodName)) ∈ lw_all := lw_g (lw_at lw_m8 191 rfl) rfl
theorem q2016 : (Jvm.Cond.methodLink "MoleBoardModel" (136 : Nat) ({ cls := "MoleBoardModel", name := "good", desc := "()Z" } : Jvm.MethodName)) ∈ lw_all := lw_g (lw_at lw_m8 192 rfl) rfl
theorem q2017 : (Jvm.Cond.privateMethod ({ cls := "MoleBoardModel", name := "good", desc := "()Z" } : Jvm.MethodName)) ∈ lw_tbl := lw_at lw_m8 193 rfl
theorem q2018 : (Jvm.Cond.instanceMethod ({ cls := "MoleBoardModel", name := "good", desc := "()Z" } : Jvm.MethodName)) ∈ lw_all := lw_g (lw_at lw_m8 194 rfl) rfl
theorem q2019 : (Jvm.Cond.code ({ cls := "MoleBoardModel", name := "good", desc := "()Z" } : Jvm.MethodName) prog_16_method_19_code (1 : Nat) (Option.some Jvm.ClassFile.FieldType.boolean)) ∈ lw_all := lw_g (lw_at lw_m8 195 rfl) rfl
theorem q2020 : (Jvm.Cond.methodLink "MoleBoardModel" (245 : Nat) ({ cls := "MoleBoardModel", name := "readLine", desc := "()V" } : Jvm.MethodName)) ∈ lw_all := lw_g (lw_at lw_m8 196 rfl) rfl
theorem q2021 : (Jvm.Cond.privateMethod ({ cls := "MoleBoardModel", name := "readLine", desc := "()V" } : Jvm.MethodName)) ∈ lw_tbl := lw_at lw_m8 197 rfl
theorem q2022 : (Jvm.Cond.instanceMethod ({ cls := "MoleBoardModel", name := "readLine", desc := "()V" } : Jvm.MethodName)) ∈ lw_all := lw_g (lw_at lw_m8 198 rfl) rfl
theorem q2023 : (Jvm.Cond.code ({ cls := "MoleBoardModel", name := "readLine", desc := "()V" } : Jvm.MethodName) prog_16_method_38_code (1 : Nat) (Option.none : Option Jvm.ClassFile.FieldType)) ∈ lw_all := lw_g (lw_at lw_m8 199 rfl) rfl
theorem q2024 : (Jvm.Cond.methodLink "MoleBoardModel" (239 : Nat) ({ cls := "MoleBoardModel", name := "readFirst", desc := "()V" } : Jvm.MethodName)) ∈ lw_all := lw_g (lw_at lw_m8 200 rfl) rfl
theorem q2025 : (Jvm.Cond.privateMethod ({ cls := "MoleBoardModel", name := "readFirst", desc := "()V" } : Jvm.MethodName)) ∈ lw_tbl := lw_at lw_m8 201 rfl
theorem q2026 : (Jvm.Cond.instanceMethod ({ cls := "MoleBoardModel", name := "readFirst", desc := "()V" } : Jvm.MethodName)) ∈ lw_all := lw_g (lw_at lw_m8 202 rfl) rfl
theorem q2027 : (Jvm.Cond.code ({ cls := "MoleBoardModel", name := "readFirst", desc := "()V" } : Jvm.MethodName) prog_16_method_28_code (1 : Nat) (Option.none : Option Jvm.ClassFile.FieldType)) ∈ lw_all := lw_g (lw_at lw_m8 203 rfl) rfl
theorem q2028 : (Jvm.Cond.stringRef "MoleBoardModel" (170 : Nat) "board") ∈ lw_tbl := lw_at lw_m8 204 rfl
theorem q2029 : (Jvm.Cond.methodLink "MoleBoardModel" (163 : Nat) ({ cls := "MoleBoardModel", name := "needs", desc := "(Ljava/lang/String;)V" } : Jvm.MethodName)) ∈ lw_all := lw_g (lw_at lw_m8 205 rfl) rfl
theorem q2030 : (Jvm.Cond.privateMethod ({ cls := "MoleBoardModel", name := "needs", desc := "(Ljava/lang/String;)V" } : Jvm.MethodName)) ∈ lw_tbl := lw_at lw_m8 206 rfl
theorem q2031 : (Jvm.Cond.instanceMethod ({ cls := "MoleBoardModel", name := "needs", desc := "(Ljava/lang/String;)V" } : Jvm.MethodName)) ∈ lw_all := lw_g (lw_at lw_m8 207 rfl) rfl
theorem q2032 : (Jvm.Cond.code ({ cls := "MoleBoardModel", name := "needs", desc := "(Ljava/lang/String;)V" } : Jvm.MethodName) prog_16_method_23_code (2 : Nat) (Option.none : Option Jvm.ClassFile.FieldType)) ∈ lw_all := lw_g (lw_at lw_m8 208 rfl) rfl
theorem q2033 : (Jvm.Cond.methodLink "MoleBoardModel" (156 : Nat) ({ cls := "MoleBoardModel", name := "takes", desc := "(Ljava/lang/String;)Z" } : Jvm.MethodName)) ∈ lw_all := lw_g (lw_at lw_m8 209 rfl) rfl
theorem q2034 : (Jvm.Cond.privateMethod ({ cls := "MoleBoardModel", name := "takes", desc := "(Ljava/lang/String;)Z" } : Jvm.MethodName)) ∈ lw_tbl := lw_at lw_m8 210 rfl
theorem q2035 : (Jvm.Cond.instanceMethod ({ cls := "MoleBoardModel", name := "takes", desc := "(Ljava/lang/String;)Z" } : Jvm.MethodName)) ∈ lw_all := lw_g (lw_at lw_m8 211 rfl) rfl
theorem q2036 : (Jvm.Cond.code ({ cls := "MoleBoardModel", name := "takes", desc := "(Ljava/lang/String;)Z" } : Jvm.MethodName) prog_16_method_22_code (3 : Nat) (Option.some Jvm.ClassFile.FieldType.boolean)) ∈ lw_all := lw_g (lw_at lw_m8 212 rfl) rfl
theorem q2037 : (Jvm.Cond.methodLink "MoleBoardModel" (149 : Nat) ({ cls := "MoleBoardModel", name := "is", desc := "(Ljava/lang/String;)Z" } : Jvm.MethodName)) ∈ lw_all := lw_g (lw_at lw_m8 213 rfl) rfl
theorem q2038 : (Jvm.Cond.privateMethod ({ cls := "MoleBoardModel", name := "is", desc := "(Ljava/lang/String;)Z" } : Jvm.MethodName)) ∈ lw_tbl := lw_at lw_m8 214 rfl
theorem q2039 : (Jvm.Cond.instanceMethod ({ cls := "MoleBoardModel", name := "is", desc := "(Ljava/lang/String;)Z" } : Jvm.MethodName)) ∈ lw_all := lw_g (lw_at lw_m8 215 rfl) rfl
theorem q2040 : (Jvm.Cond.code ({ cls := "MoleBoardModel", name := "is", desc := "(Ljava/lang/String;)Z" } : Jvm.MethodName) prog_16_method_21_code (4 : Nat) (Option.some Jvm.ClassFile.FieldType.boolean)) ∈ lw_all := lw_g (lw_at lw_m8 216 rfl) rfl
theorem q2041 : (Jvm.Cond.methodLink "MoleBoardModel" (140 : Nat) ({ cls := "java/lang/String", name := "length", desc := "()I" } : Jvm.MethodName)) ∈ lw_all := lw_g (lw_at lw_m8 217 rfl) rfl
theorem q2042 : (Jvm.Cond.methodLink "MoleBoardModel" (145 : Nat) ({ cls := "java/lang/String", name := "charAt", desc := "(I)C" } : Jvm.MethodName)) ∈ lw_all := lw_g (lw_at lw_m8 218 rfl) rfl
theorem q2043 : (Jvm.Cond.methodLink "MoleBoardModel" (159 : Nat) ({ cls := "MoleBoardModel", name := "errs", desc := "(I)V" } : Jvm.MethodName)) ∈ lw_all := lw_g (lw_at lw_m8 219 rfl) rfl
theorem q2044 : (Jvm.Cond.privateMethod ({ cls := "MoleBoardModel", name := "errs", desc := "(I)V" } : Jvm.MethodName)) ∈ lw_tbl := lw_at lw_m8 220 rfl
theorem q2045 : (Jvm.Cond.instanceMethod ({ cls := "MoleBoardModel", name := "errs", desc := "(I)V" } : Jvm.MethodName)) ∈ lw_all := lw_g (lw_at lw_m8 221 rfl) rfl
theorem q2046 : (Jvm.Cond.code ({ cls := "MoleBoardModel", name := "errs", desc := "(I)V" } : Jvm.MethodName) prog_16_method_20_code (2 : Nat) (Option.none : Option Jvm.ClassFile.FieldType)) ∈ lw_all := lw_g (lw_at lw_m8 222 rfl) rfl
theorem q2047 : (Jvm.Cond.stringRef "MoleBoardModel" (172 : Nat) "wide") ∈ lw_tbl := lw_at lw_m8 223 rfl
theorem q2048 : (Jvm.Cond.methodLink "MoleBoardModel" (174 : Nat) ({ cls := "MoleBoardModel", name := "told", desc := "(Ljava/lang/String;II)I" } : Jvm.MethodName)) ∈ lw_all := lw_g (lw_at lw_m8 224 rfl) rfl
theorem q2049 : (Jvm.Cond.privateMethod ({ cls := "MoleBoardModel", name := "told", desc := "(Ljava/lang/String;II)I" } : Jvm.MethodName)) ∈ lw_tbl := lw_at lw_m8 225 rfl
theorem q2050 : (Jvm.Cond.instanceMethod ({ cls := "MoleBoardModel", name := "told", desc := "(Ljava/lang/String;II)I" } : Jvm.MethodName)) ∈ lw_all := lw_g (lw_at lw_m8 226 rfl) rfl
theorem q2051 : (Jvm.Cond.code ({ cls := "MoleBoardModel", name := "told", desc := "(Ljava/lang/String;II)I" } : Jvm.MethodName) prog_16_method_25_code (4 : Nat) (Option.some Jvm.ClassFile.FieldType.int)) ∈ lw_all := lw_g (lw_at lw_m8 227 rfl) rfl
theorem q2052 : (Jvm.Cond.methodLink "MoleBoardModel" (167 : Nat) ({ cls := "MoleBoardModel", name := "number", desc := "(II)I" } : Jvm.MethodName)) ∈ lw_all := lw_g (lw_at lw_m8 228 rfl) rfl
theorem q2053 : (Jvm.Cond.privateMethod ({ cls := "MoleBoardModel", name := "number", desc := "(II)I" } : Jvm.MethodName)) ∈ lw_tbl := lw_at lw_m8 229 rfl
theorem q2054 : (Jvm.Cond.instanceMethod ({ cls := "MoleBoardModel", name := "number", desc := "(II)I" } : Jvm.MethodName)) ∈ lw_all := lw_g (lw_at lw_m8 230 rfl) rfl
theorem q2055 : (Jvm.Cond.code ({ cls := "MoleBoardModel", name := "number", desc := "(II)I" } : Jvm.MethodName) prog_16_method_24_code (4 : Nat) (Option.some Jvm.ClassFile.FieldType.int)) ∈ lw_all := lw_g (lw_at lw_m8 231 rfl) rfl
theorem q2056 : (Jvm.Cond.stringRef "MoleBoardModel" (178 : Nat) "high") ∈ lw_tbl := lw_at lw_m8 232 rfl
theorem q2057 : (Jvm.Cond.stringRef "MoleBoardModel" (180 : Nat) "ticks") ∈ lw_tbl := lw_at lw_m8 233 rfl
theorem q2058 : (Jvm.Cond.stringRef "MoleBoardModel" (182 : Nat) "pause") ∈ lw_tbl := lw_at lw_m8 234 rfl
theorem q2059 : (Jvm.Cond.methodLink "MoleBoardModel" (242 : Nat) ({ cls := "MoleBoardModel", name := "readNext", desc := "()V" } : Jvm.MethodName)) ∈ lw_all := lw_g (lw_at lw_m8 235 rfl) rfl
theorem q2060 : (Jvm.Cond.privateMethod ({ cls := "MoleBoardModel", name := "readNext", desc := "()V" } : Jvm.MethodName)) ∈ lw_tbl := lw_at lw_m8 236 rfl
theorem q2061 : (Jvm.Cond.instanceMethod ({ cls := "MoleBoardModel", name := "readNext", desc := "()V" } : Jvm.MethodName)) ∈ lw_all := lw_g (lw_at lw_m8 237 rfl) rfl
theorem q2062 : (Jvm.Cond.code ({ cls := "MoleBoardModel", name := "readNext", desc := "()V" } : Jvm.MethodName) prog_16_method_37_code (2 : Nat) (Option.none : Option Jvm.ClassFile.FieldType)) ∈ lw_all := lw_g (lw_at lw_m8 238 rfl) rfl
theorem q2063 : (Jvm.Cond.stringRef "MoleBoardModel" (211 : Nat) "good") ∈ lw_tbl := lw_at lw_m8 239 rfl
theorem q2064 : (Jvm.Cond.stringRef "MoleBoardModel" (212 : Nat) "red") ∈ lw_tbl := lw_at lw_m9 0 rfl
theorem q2065 : (Jvm.Cond.stringRef "MoleBoardModel" (214 : Nat) "twin") ∈ lw_tbl := lw_at lw_m9 1 rfl
theorem q2066 : (Jvm.Cond.stringRef "MoleBoardModel" (216 : Nat) "stay") ∈ lw_tbl := lw_at lw_m9 2 rfl
theorem q2067 : (Jvm.Cond.stringRef "MoleBoardModel" (218 : Nat) "shut") ∈ lw_tbl := lw_at lw_m9 3 rfl
theorem q2068 : (Jvm.Cond.stringRef "MoleBoardModel" (220 : Nat) "player") ∈ lw_tbl := lw_at lw_m9 4 rfl
theorem q2069 : (Jvm.Cond.stringRef "MoleBoardModel" (222 : Nat) "tickets") ∈ lw_tbl := lw_at lw_m9 5 rfl
theorem q2070 : (Jvm.Cond.methodLink "MoleBoardModel" (224 : Nat) ({ cls := "MoleBoardModel", name := "readStay", desc := "()V" } : Jvm.MethodName)) ∈ lw_all := lw_g (lw_at lw_m9 6 rfl) rfl
theorem q2071 : (Jvm.Cond.privateMethod ({ cls := "MoleBoardModel", name := "readStay", desc := "()V" } : Jvm.MethodName)) ∈ lw_tbl := lw_at lw_m9 7 rfl
theorem q2072 : (Jvm.Cond.instanceMethod ({ cls := "MoleBoardModel", name := "readStay", desc := "()V" } : Jvm.MethodName)) ∈ lw_all := lw_g (lw_at lw_m9 8 rfl) rfl
theorem q2073 : (Jvm.Cond.code ({ cls := "MoleBoardModel", name := "readStay", desc := "()V" } : Jvm.MethodName) prog_16_method_30_code (5 : Nat) (Option.none : Option Jvm.ClassFile.FieldType)) ∈ lw_all := lw_g (lw_at lw_m9 9 rfl) rfl
theorem q2074 : (Jvm.Cond.stringRef "MoleBoardModel" (184 : Nat) "from") ∈ lw_tbl := lw_at lw_m9 10 rfl
theorem q2075 : (Jvm.Cond.methodLink "MoleBoardModel" (185 : Nat) ({ cls := "MoleBoardModel", name := "freshStay", desc := "(I)I" } : Jvm.MethodName)) ∈ lw_all := lw_g (lw_at lw_m9 11 rfl) rfl
theorem q2076 : (Jvm.Cond.privateMethod ({ cls := "MoleBoardModel", name := "freshStay", desc := "(I)I" } : Jvm.MethodName)) ∈ lw_tbl := lw_at lw_m9 12 rfl
theorem q2077 : (Jvm.Cond.instanceMethod ({ cls := "MoleBoardModel", name := "freshStay", desc := "(I)I" } : Jvm.MethodName)) ∈ lw_all := lw_g (lw_at lw_m9 13 rfl) rfl
theorem q2078 : (Jvm.Cond.code ({ cls := "MoleBoardModel", name := "freshStay", desc := "(I)I" } : Jvm.MethodName) prog_16_method_29_code (3 : Nat) (Option.some Jvm.ClassFile.FieldType.int)) ∈ lw_all := lw_g (lw_at lw_m9 14 rfl) rfl
theorem q2079 : (Jvm.Cond.methodLink "MoleBoardModel" (227 : Nat) ({ cls := "MoleBoardModel", name := "readShut", desc := "()V" } : Jvm.MethodName)) ∈ lw_all := lw_g (lw_at lw_m9 15 rfl) rfl
theorem q2080 : (Jvm.Cond.privateMethod ({ cls := "MoleBoardModel", name := "readShut", desc := "()V" } : Jvm.MethodName)) ∈ lw_tbl := lw_at lw_m9 16 rfl
theorem q2081 : (Jvm.Cond.instanceMethod ({ cls := "MoleBoardModel", name := "readShut", desc := "()V" } : Jvm.MethodName)) ∈ lw_all := lw_g (lw_at lw_m9 17 rfl) rfl
theorem q2082 : (Jvm.Cond.code ({ cls := "MoleBoardModel", name := "readShut", desc := "()V" } : Jvm.MethodName) prog_16_method_33_code (2 : Nat) (Option.none : Option Jvm.ClassFile.FieldType)) ∈ lw_all := lw_g (lw_at lw_m9 18 rfl) rfl
theorem q2083 : (Jvm.Cond.methodLink "MoleBoardModel" (191 : Nat) ({ cls := "MoleBoardModel", name := "isNextHole", desc := "()Z" } : Jvm.MethodName)) ∈ lw_all := lw_g (lw_at lw_m9 19 rfl) rfl
theorem q2084 : (Jvm.Cond.privateMethod ({ cls := "MoleBoardModel", name := "isNextHole", desc := "()Z" } : Jvm.MethodName)) ∈ lw_tbl := lw_at lw_m9 20 rfl
theorem q2085 : (Jvm.Cond.instanceMethod ({ cls := "MoleBoardModel", name := "isNextHole", desc := "()Z" } : Jvm.MethodName)) ∈ lw_all := lw_g (lw_at lw_m9 21 rfl) rfl
theorem q2086 : (Jvm.Cond.code ({ cls := "MoleBoardModel", name := "isNextHole", desc := "()Z" } : Jvm.MethodName) prog_16_method_31_code (1 : Nat) (Option.some Jvm.ClassFile.FieldType.boolean)) ∈ lw_all := lw_g (lw_at lw_m9 22 rfl) rfl
theorem q2087 : (Jvm.Cond.methodLink "MoleBoardModel" (188 : Nat) ({ cls := "MoleBoardModel", name := "freshHoles", desc := "()I" } : Jvm.MethodName)) ∈ lw_all := lw_g (lw_at lw_m9 23 rfl) rfl
theorem q2088 : (Jvm.Cond.privateMethod ({ cls := "MoleBoardModel", name := "freshHoles", desc := "()I" } : Jvm.MethodName)) ∈ lw_tbl := lw_at lw_m9 24 rfl
theorem q2089 : (Jvm.Cond.instanceMethod ({ cls := "MoleBoardModel", name := "freshHoles", desc := "()I" } : Jvm.MethodName)) ∈ lw_all := lw_g (lw_at lw_m9 25 rfl) rfl
theorem q2090 : (Jvm.Cond.code ({ cls := "MoleBoardModel", name := "freshHoles", desc := "()I" } : Jvm.MethodName) prog_16_method_27_code (1 : Nat) (Option.some Jvm.ClassFile.FieldType.int)) ∈ lw_all := lw_g (lw_at lw_m9 26 rfl) rfl
theorem q2091 : (Jvm.Cond.methodLink "MoleBoardModel" (194 : Nat) ({ cls := "MoleBoardModel", name := "isFreshComing", desc := "(I)Z" } : Jvm.MethodName)) ∈ lw_all := lw_g (lw_at lw_m9 27 rfl) rfl
theorem q2092 : (Jvm.Cond.privateMethod ({ cls := "MoleBoardModel", name := "isFreshComing", desc := "(I)Z" } : Jvm.MethodName)) ∈ lw_tbl := lw_at lw_m9 28 rfl
theorem q2093 : (Jvm.Cond.instanceMethod ({ cls := "MoleBoardModel", name := "isFreshComing", desc := "(I)Z" } : Jvm.MethodName)) ∈ lw_all := lw_g (lw_at lw_m9 29 rfl) rfl
theorem q2094 : (Jvm.Cond.code ({ cls := "MoleBoardModel", name := "isFreshComing", desc := "(I)Z" } : Jvm.MethodName) prog_16_method_32_code (3 : Nat) (Option.some Jvm.ClassFile.FieldType.boolean)) ∈ lw_all := lw_g (lw_at lw_m9 30 rfl) rfl
theorem q2095 : (Jvm.Cond.methodLink "MoleBoardModel" (230 : Nat) ({ cls := "MoleBoardModel", name := "readComing", desc := "(ZZ)V" } : Jvm.MethodName)) ∈ lw_all := lw_g (lw_at lw_m9 31 rfl) rfl
theorem q2096 : (Jvm.Cond.privateMethod ({ cls := "MoleBoardModel", name := "readComing", desc := "(ZZ)V" } : Jvm.MethodName)) ∈ lw_tbl := lw_at lw_m9 32 rfl
theorem q2097 : (Jvm.Cond.instanceMethod ({ cls := "MoleBoardModel", name := "readComing", desc := "(ZZ)V" } : Jvm.MethodName)) ∈ lw_all := lw_g (lw_at lw_m9 33 rfl) rfl
theorem q2098 : (Jvm.Cond.code ({ cls := "MoleBoardModel", name := "readComing", desc := "(ZZ)V" } : Jvm.MethodName) prog_16_method_35_code (6 : Nat) (Option.none : Option Jvm.ClassFile.FieldType)) ∈ lw_all := lw_g (lw_at lw_m9 34 rfl) rfl
theorem q2099 : (Jvm.Cond.methodLink "MoleBoardModel" (198 : Nat) ({ cls := "MoleBoardModel", name := "readHole", desc := "(I)I" } : Jvm.MethodName)) ∈ lw_all := lw_g (lw_at lw_m9 35 rfl) rfl
theorem q2100 : (Jvm.Cond.privateMethod ({ cls := "MoleBoardModel", name := "readHole", desc := "(I)I" } : Jvm.MethodName)) ∈ lw_tbl := lw_at lw_m9 36 rfl
theorem q2101 : (Jvm.Cond.instanceMethod ({ cls := "MoleBoardModel", name := "readHole", desc := "(I)I" } : Jvm.MethodName)) ∈ lw_all := lw_g (lw_at lw_m9 37 rfl) rfl
theorem q2102 : (Jvm.Cond.code ({ cls := "MoleBoardModel", name := "readHole", desc := "(I)I" } : Jvm.MethodName) prog_16_method_34_code (2 : Nat) (Option.some Jvm.ClassFile.FieldType.int)) ∈ lw_all := lw_g (lw_at lw_m9 38 rfl) rfl
theorem q2103 : (Jvm.Cond.methodLink "MoleBoardModel" (234 : Nat) ({ cls := "MoleBoardModel", name := "readPlayer", desc := "()V" } : Jvm.MethodName)) ∈ lw_all := lw_g (lw_at lw_m9 39 rfl) rfl
theorem q2104 : (Jvm.Cond.privateMethod ({ cls := "MoleBoardModel", name := "readPlayer", desc := "()V" } : Jvm.MethodName)) ∈ lw_tbl := lw_at lw_m9 40 rfl
theorem q2105 : (Jvm.Cond.instanceMethod ({ cls := "MoleBoardModel", name := "readPlayer", desc := "()V" } : Jvm.MethodName)) ∈ lw_all := lw_g (lw_at lw_m9 41 rfl) rfl
theorem q2106 : (Jvm.Cond.code ({ cls := "MoleBoardModel", name := "readPlayer", desc := "()V" } : Jvm.MethodName) prog_16_method_36_code (2 : Nat) (Option.none : Option Jvm.ClassFile.FieldType)) ∈ lw_all := lw_g (lw_at lw_m9 42 rfl) rfl
theorem q2107 : (Jvm.Cond.stringRef "MoleBoardModel" (201 : Nat) "pace") ∈ lw_tbl := lw_at lw_m9 43 rfl
theorem q2108 : (Jvm.Cond.stringRef "MoleBoardModel" (203 : Nat) "lag") ∈ lw_tbl := lw_at lw_m9 44 rfl
theorem q2109 : (Jvm.Cond.stringRef "MoleBoardModel" (205 : Nat) "tires") ∈ lw_tbl := lw_at lw_m9 45 rfl
theorem q2110 : (Jvm.Cond.stringRef "MoleBoardModel" (207 : Nat) "knows") ∈ lw_tbl := lw_at lw_m9 46 rfl
theorem q2111 : (Jvm.Cond.stringRef "MoleBoardModel" (209 : Nat) "waits") ∈ lw_tbl := lw_at lw_m9 47 rfl
theorem q2112 : (Jvm.Cond.stringRef "MoleBoardModel" (237 : Nat) "each") ∈ lw_tbl := lw_at lw_m9 48 rfl
theorem q2114 : (Jvm.Cond.instanceMethod ({ cls := "MoleBoardModel", name := "drum", desc := "(II)I" } : Jvm.MethodName)) ∈ lw_all := lw_g (lw_at lw_m9 50 rfl) rfl
theorem q2115 : (Jvm.Cond.selects "MoleBoardModel" ({ cls := "MoleBoardModel", name := "drum", desc := "(II)I" } : Jvm.MethodName) ({ cls := "MoleBoardModel", name := "drum", desc := "(II)I" } : Jvm.MethodName)) ∈ lw_all := lw_g (lw_at lw_m9 51 rfl) rfl
theorem q2116 : (Jvm.Cond.code ({ cls := "MoleBoardModel", name := "drum", desc := "(II)I" } : Jvm.MethodName) prog_16_method_46_code (3 : Nat) (Option.some Jvm.ClassFile.FieldType.int)) ∈ lw_all := lw_g (lw_at lw_m9 52 rfl) rfl
theorem q2117 : (Jvm.Cond.methodLink "MoleBoardModel" (267 : Nat) ({ cls := "MoleBoardModel", name := "isComing", desc := "(I)Z" } : Jvm.MethodName)) ∈ lw_all := lw_g (lw_at lw_m9 53 rfl) rfl
theorem q2118 : (Jvm.Cond.privateMethod ({ cls := "MoleBoardModel", name := "isComing", desc := "(I)Z" } : Jvm.MethodName)) ∈ lw_tbl := lw_at lw_m9 54 rfl
theorem q2119 : (Jvm.Cond.instanceMethod ({ cls := "MoleBoardModel", name := "isComing", desc := "(I)Z" } : Jvm.MethodName)) ∈ lw_all := lw_g (lw_at lw_m9 55 rfl) rfl
theorem q2120 : (Jvm.Cond.code ({ cls := "MoleBoardModel", name := "isComing", desc := "(I)Z" } : Jvm.MethodName) prog_16_method_11_code (2 : Nat) (Option.some Jvm.ClassFile.FieldType.boolean)) ∈ lw_all := lw_g (lw_at lw_m9 56 rfl) rfl
theorem q2121 : (Jvm.Cond.methodLink "MoleBoardModel" (260 : Nat) ({ cls := "MoleBoardModel", name := "ofComing", desc := "(II)I" } : Jvm.MethodName)) ∈ lw_all := lw_g (lw_at lw_m9 57 rfl) rfl
theorem q2122 : (Jvm.Cond.privateMethod ({ cls := "MoleBoardModel", name := "ofComing", desc := "(II)I" } : Jvm.MethodName)) ∈ lw_tbl := lw_at lw_m9 58 rfl
theorem q2123 : (Jvm.Cond.instanceMethod ({ cls := "MoleBoardModel", name := "ofComing", desc := "(II)I" } : Jvm.MethodName)) ∈ lw_all := lw_g (lw_at lw_m9 59 rfl) rfl
theorem q2124 : (Jvm.Cond.code ({ cls := "MoleBoardModel", name := "ofComing", desc := "(II)I" } : Jvm.MethodName) prog_16_method_13_code (3 : Nat) (Option.some Jvm.ClassFile.FieldType.int)) ∈ lw_all := lw_g (lw_at lw_m9 60 rfl) rfl
theorem q2126 : (Jvm.Cond.instanceMethod ({ cls := "MoleBoardModel", name := "player", desc := "(II)I" } : Jvm.MethodName)) ∈ lw_all := lw_g (lw_at lw_m9 62 rfl) rfl
theorem q2127 : (Jvm.Cond.selects "MoleBoardModel" ({ cls := "MoleBoardModel", name := "player", desc := "(II)I" } : Jvm.MethodName) ({ cls := "MoleBoardModel", name := "player", desc := "(II)I" } : Jvm.MethodName)) ∈ lw_all := lw_g (lw_at lw_m9 63 rfl) rfl
theorem q2128 : (Jvm.Cond.code ({ cls := "MoleBoardModel", name := "player", desc := "(II)I" } : Jvm.MethodName) prog_16_method_47_code (3 : Nat) (Option.some Jvm.ClassFile.FieldType.int)) ∈ lw_all := lw_g (lw_at lw_m9 64 rfl) rfl
theorem q2129 : (Jvm.Cond.methodLink "MoleBoardModel" (270 : Nat) ({ cls := "MoleBoardModel", name := "isPlayer", desc := "(I)Z" } : Jvm.MethodName)) ∈ lw_all := lw_g (lw_at lw_m9 65 rfl) rfl
theorem q2130 : (Jvm.Cond.privateMethod ({ cls := "MoleBoardModel", name := "isPlayer", desc := "(I)Z" } : Jvm.MethodName)) ∈ lw_tbl := lw_at lw_m9 66 rfl
theorem q2131 : (Jvm.Cond.instanceMethod ({ cls := "MoleBoardModel", name := "isPlayer", desc := "(I)Z" } : Jvm.MethodName)) ∈ lw_all := lw_g (lw_at lw_m9 67 rfl) rfl
theorem q2132 : (Jvm.Cond.code ({ cls := "MoleBoardModel", name := "isPlayer", desc := "(I)Z" } : Jvm.MethodName) prog_16_method_12_code (2 : Nat) (Option.some Jvm.ClassFile.FieldType.boolean)) ∈ lw_all := lw_g (lw_at lw_m9 68 rfl) rfl
theorem q2133 : (Jvm.Cond.constantLong "MoleBoardModel" (273 : Nat) (4 : Int64)) ∈ lw_all := lw_g (lw_at lw_m9 69 rfl) rfl
theorem q2134 : (Jvm.Cond.methodLink "MoleBoardModel" (275 : Nat) ({ cls := "MoleBoardModel", name := "of", desc := "(II)I" } : Jvm.MethodName)) ∈ lw_all := lw_g (lw_at lw_m9 70 rfl) rfl
theorem q2135 : (Jvm.Cond.privateMethod ({ cls := "MoleBoardModel", name := "of", desc := "(II)I" } : Jvm.MethodName)) ∈ lw_tbl := lw_at lw_m9 71 rfl
theorem q2136 : (Jvm.Cond.instanceMethod ({ cls := "MoleBoardModel", name := "of", desc := "(II)I" } : Jvm.MethodName)) ∈ lw_all := lw_g (lw_at lw_m9 72 rfl) rfl
theorem q2137 : (Jvm.Cond.code ({ cls := "MoleBoardModel", name := "of", desc := "(II)I" } : Jvm.MethodName) prog_16_method_14_code (3 : Nat) (Option.some Jvm.ClassFile.FieldType.int)) ∈ lw_all := lw_g (lw_at lw_m9 73 rfl) rfl
theorem q2139 : (Jvm.Cond.instanceMethod ({ cls := "MoleBoardModel", name := "stay", desc := "(I)I" } : Jvm.MethodName)) ∈ lw_all := lw_g (lw_at lw_m9 75 rfl) rfl
theorem q2140 : (Jvm.Cond.selects "MoleBoardModel" ({ cls := "MoleBoardModel", name := "stay", desc := "(I)I" } : Jvm.MethodName) ({ cls := "MoleBoardModel", name := "stay", desc := "(I)I" } : Jvm.MethodName)) ∈ lw_all := lw_g (lw_at lw_m9 76 rfl) rfl
theorem q2141 : (Jvm.Cond.code ({ cls := "MoleBoardModel", name := "stay", desc := "(I)I" } : Jvm.MethodName) prog_16_method_48_code (2 : Nat) (Option.some Jvm.ClassFile.FieldType.int)) ∈ lw_all := lw_g (lw_at lw_m9 77 rfl) rfl
theorem q2142 : (Jvm.Cond.methodLink "MoleBoardModel" (278 : Nat) ({ cls := "MoleBoardModel", name := "isTick", desc := "(J)Z" } : Jvm.MethodName)) ∈ lw_all := lw_g (lw_at lw_m9 78 rfl) rfl
theorem q2143 : (Jvm.Cond.privateMethod ({ cls := "MoleBoardModel", name := "isTick", desc := "(J)Z" } : Jvm.MethodName)) ∈ lw_tbl := lw_at lw_m9 79 rfl
theorem q2144 : (Jvm.Cond.instanceMethod ({ cls := "MoleBoardModel", name := "isTick", desc := "(J)Z" } : Jvm.MethodName)) ∈ lw_all := lw_g (lw_at lw_m9 80 rfl) rfl
theorem q2145 : (Jvm.Cond.code ({ cls := "MoleBoardModel", name := "isTick", desc := "(J)Z" } : Jvm.MethodName) prog_16_method_10_code (3 : Nat) (Option.some Jvm.ClassFile.FieldType.boolean)) ∈ lw_all := lw_g (lw_at lw_m9 81 rfl) rfl
theorem q2146 : (Jvm.Cond.methodLink "MoleBoardModel" (254 : Nat) ({ cls := "MoleBoardModel", name := "stayIn", desc := "(I)I" } : Jvm.MethodName)) ∈ lw_all := lw_g (lw_at lw_m9 82 rfl) rfl
theorem q2147 : (Jvm.Cond.privateMethod ({ cls := "MoleBoardModel", name := "stayIn", desc := "(I)I" } : Jvm.MethodName)) ∈ lw_tbl := lw_at lw_m9 83 rfl
theorem q2148 : (Jvm.Cond.instanceMethod ({ cls := "MoleBoardModel", name := "stayIn", desc := "(I)I" } : Jvm.MethodName)) ∈ lw_all := lw_g (lw_at lw_m9 84 rfl) rfl
theorem q2149 : (Jvm.Cond.code ({ cls := "MoleBoardModel", name := "stayIn", desc := "(I)I" } : Jvm.MethodName) prog_16_method_40_code (6 : Nat) (Option.some Jvm.ClassFile.FieldType.int)) ∈ lw_all := lw_g (lw_at lw_m9 85 rfl) rfl
theorem q2151 : (Jvm.Cond.instanceMethod ({ cls := "MoleBoardModel", name := "comings", desc := "()I" } : Jvm.MethodName)) ∈ lw_all := lw_g (lw_at lw_m9 87 rfl) rfl
theorem q2152 : (Jvm.Cond.selects "MoleBoardModel" ({ cls := "MoleBoardModel", name := "comings", desc := "()I" } : Jvm.MethodName) ({ cls := "MoleBoardModel", name := "comings", desc := "()I" } : Jvm.MethodName)) ∈ lw_all := lw_g (lw_at lw_m9 88 rfl) rfl
theorem q2153 : (Jvm.Cond.code ({ cls := "MoleBoardModel", name := "comings", desc := "()I" } : Jvm.MethodName) prog_16_method_49_code (1 : Nat) (Option.some Jvm.ClassFile.FieldType.int)) ∈ lw_all := lw_g (lw_at lw_m9 89 rfl) rfl
theorem q2154 : (Jvm.Cond.methodLink "MoleBoardModel" (282 : Nat) ({ cls := "MoleBoardModel", name := "isBoard", desc := "()Z" } : Jvm.MethodName)) ∈ lw_all := lw_g (lw_at lw_m9 90 rfl) rfl
theorem q2155 : (Jvm.Cond.privateMethod ({ cls := "MoleBoardModel", name := "isBoard", desc := "()Z" } : Jvm.MethodName)) ∈ lw_tbl := lw_at lw_m9 91 rfl
theorem q2156 : (Jvm.Cond.instanceMethod ({ cls := "MoleBoardModel", name := "isBoard", desc := "()Z" } : Jvm.MethodName)) ∈ lw_all := lw_g (lw_at lw_m9 92 rfl) rfl
theorem q2157 : (Jvm.Cond.code ({ cls := "MoleBoardModel", name := "isBoard", desc := "()Z" } : Jvm.MethodName) prog_16_method_6_code (1 : Nat) (Option.some Jvm.ClassFile.FieldType.boolean)) ∈ lw_all := lw_g (lw_at lw_m9 93 rfl) rfl
theorem q2158 : (Jvm.Cond.methodLink "MoleBoardModel" (285 : Nat) ({ cls := "MoleBoardModel", name := "lay", desc := "()V" } : Jvm.MethodName)) ∈ lw_all := lw_g (lw_at lw_m9 94 rfl) rfl
theorem q2159 : (Jvm.Cond.privateMethod ({ cls := "MoleBoardModel", name := "lay", desc := "()V" } : Jvm.MethodName)) ∈ lw_tbl := lw_at lw_m9 95 rfl
theorem q2160 : (Jvm.Cond.instanceMethod ({ cls := "MoleBoardModel", name := "lay", desc := "()V" } : Jvm.MethodName)) ∈ lw_all := lw_g (lw_at lw_m9 96 rfl) rfl
theorem q2161 : (Jvm.Cond.code ({ cls := "MoleBoardModel", name := "lay", desc := "()V" } : Jvm.MethodName) prog_16_method_44_code (2 : Nat) (Option.none : Option Jvm.ClassFile.FieldType)) ∈ lw_all := lw_g (lw_at lw_m9 97 rfl) rfl
theorem q2162 : (Jvm.Cond.methodLink "MoleBoardModel" (257 : Nat) ({ cls := "MoleBoardModel", name := "mayCome", desc := "()Z" } : Jvm.MethodName)) ∈ lw_all := lw_g (lw_at lw_m9 98 rfl) rfl
theorem q2163 : (Jvm.Cond.privateMethod ({ cls := "MoleBoardModel", name := "mayCome", desc := "()Z" } : Jvm.MethodName)) ∈ lw_tbl := lw_at lw_m9 99 rfl
theorem q2164 : (Jvm.Cond.instanceMethod ({ cls := "MoleBoardModel", name := "mayCome", desc := "()Z" } : Jvm.MethodName)) ∈ lw_all := lw_g (lw_at lw_m9 100 rfl) rfl
theorem q2165 : (Jvm.Cond.code ({ cls := "MoleBoardModel", name := "mayCome", desc := "()Z" } : Jvm.MethodName) prog_16_method_42_code (2 : Nat) (Option.some Jvm.ClassFile.FieldType.boolean)) ∈ lw_all := lw_g (lw_at lw_m9 101 rfl) rfl
theorem q2166 : (Jvm.Cond.methodLink "MoleBoardModel" (251 : Nat) ({ cls := "MoleBoardModel", name := "nextTick", desc := "()I" } : Jvm.MethodName)) ∈ lw_all := lw_g (lw_at lw_m9 102 rfl) rfl
theorem q2167 : (Jvm.Cond.privateMethod ({ cls := "MoleBoardModel", name := "nextTick", desc := "()I" } : Jvm.MethodName)) ∈ lw_tbl := lw_at lw_m9 103 rfl
theorem q2168 : (Jvm.Cond.instanceMethod ({ cls := "MoleBoardModel", name := "nextTick", desc := "()I" } : Jvm.MethodName)) ∈ lw_all := lw_g (lw_at lw_m9 104 rfl) rfl
theorem q2169 : (Jvm.Cond.code ({ cls := "MoleBoardModel", name := "nextTick", desc := "()I" } : Jvm.MethodName) prog_16_method_41_code (1 : Nat) (Option.some Jvm.ClassFile.FieldType.int)) ∈ lw_all := lw_g (lw_at lw_m9 105 rfl) rfl
theorem q2170 : (Jvm.Cond.methodLink "MoleBoardModel" (263 : Nat) ({ cls := "MoleBoardModel", name := "come", desc := "(III)V" } : Jvm.MethodName)) ∈ lw_all := lw_g (lw_at lw_m9 106 rfl) rfl
theorem q2171 : (Jvm.Cond.privateMethod ({ cls := "MoleBoardModel", name := "come", desc := "(III)V" } : Jvm.MethodName)) ∈ lw_tbl := lw_at lw_m9 107 rfl
theorem q2172 : (Jvm.Cond.instanceMethod ({ cls := "MoleBoardModel", name := "come", desc := "(III)V" } : Jvm.MethodName)) ∈ lw_all := lw_g (lw_at lw_m9 108 rfl) rfl
theorem q2173 : (Jvm.Cond.code ({ cls := "MoleBoardModel", name := "come", desc := "(III)V" } : Jvm.MethodName) prog_16_method_43_code (5 : Nat) (Option.none : Option Jvm.ClassFile.FieldType)) ∈ lw_all := lw_g (lw_at lw_m9 109 rfl) rfl
theorem q2175 : (Jvm.Cond.instanceMethod ({ cls := "MoleBoardModel", name := "comes", desc := "(II)I" } : Jvm.MethodName)) ∈ lw_all := lw_g (lw_at lw_m9 111 rfl) rfl
theorem q2176 : (Jvm.Cond.selects "MoleBoardModel" ({ cls := "MoleBoardModel", name := "comes", desc := "(II)I" } : Jvm.MethodName) ({ cls := "MoleBoardModel", name := "comes", desc := "(II)I" } : Jvm.MethodName)) ∈ lw_all := lw_g (lw_at lw_m9 112 rfl) rfl
theorem q2177 : (Jvm.Cond.code ({ cls := "MoleBoardModel", name := "comes", desc := "(II)I" } : Jvm.MethodName) prog_16_method_51_code (3 : Nat) (Option.some Jvm.ClassFile.FieldType.int)) ∈ lw_all := lw_g (lw_at lw_m9 113 rfl) rfl
theorem q2178 : (Jvm.Cond.methodLink "MoleBoardModel" (288 : Nat) ({ cls := "MoleBoardModel", name := "isInGame", desc := "(I)Z" } : Jvm.MethodName)) ∈ lw_all := lw_g (lw_at lw_m9 114 rfl) rfl
theorem q2179 : (Jvm.Cond.privateMethod ({ cls := "MoleBoardModel", name := "isInGame", desc := "(I)Z" } : Jvm.MethodName)) ∈ lw_tbl := lw_at lw_m9 115 rfl
theorem q2180 : (Jvm.Cond.instanceMethod ({ cls := "MoleBoardModel", name := "isInGame", desc := "(I)Z" } : Jvm.MethodName)) ∈ lw_all := lw_g (lw_at lw_m9 116 rfl) rfl
theorem q2181 : (Jvm.Cond.code ({ cls := "MoleBoardModel", name := "isInGame", desc := "(I)Z" } : Jvm.MethodName) prog_16_method_50_code (2 : Nat) (Option.some Jvm.ClassFile.FieldType.boolean)) ∈ lw_all := lw_g (lw_at lw_m9 117 rfl) rfl
theorem q2182 : (Jvm.Cond.methodLink "MoleBoardModel" (291 : Nat) ({ cls := "MoleBoardModel", name := "inGame", desc := "(II)I" } : Jvm.MethodName)) ∈ lw_all := lw_g (lw_at lw_m9 118 rfl) rfl
theorem q2183 : (Jvm.Cond.privateMethod ({ cls := "MoleBoardModel", name := "inGame", desc := "(II)I" } : Jvm.MethodName)) ∈ lw_tbl := lw_at lw_m9 119 rfl
theorem q2184 : (Jvm.Cond.instanceMethod ({ cls := "MoleBoardModel", name := "inGame", desc := "(II)I" } : Jvm.MethodName)) ∈ lw_all := lw_g (lw_at lw_m9 120 rfl) rfl
theorem q2185 : (Jvm.Cond.code ({ cls := "MoleBoardModel", name := "inGame", desc := "(II)I" } : Jvm.MethodName) prog_16_method_45_code (3 : Nat) (Option.some Jvm.ClassFile.FieldType.int)) ∈ lw_all := lw_g (lw_at lw_m9 121 rfl) rfl
theorem q2187 : (Jvm.Cond.instanceMethod ({ cls := "MoleBoardModel", name := "up", desc := "(I)I" } : Jvm.MethodName)) ∈ lw_all := lw_g (lw_at lw_m9 123 rfl) rfl
theorem q2188 : (Jvm.Cond.selects "MoleBoardModel" ({ cls := "MoleBoardModel", name := "up", desc := "(I)I" } : Jvm.MethodName) ({ cls := "MoleBoardModel", name := "up", desc := "(I)I" } : Jvm.MethodName)) ∈ lw_all := lw_g (lw_at lw_m9 124 rfl) rfl
theorem q2189 : (Jvm.Cond.code ({ cls := "MoleBoardModel", name := "up", desc := "(I)I" } : Jvm.MethodName) prog_16_method_53_code (2 : Nat) (Option.some Jvm.ClassFile.FieldType.int)) ∈ lw_all := lw_g (lw_at lw_m9 125 rfl) rfl
theorem q2190 : (Jvm.Cond.methodLink "MoleBoardModel" (294 : Nat) ({ cls := "MoleBoardModel", name := "upIn", desc := "(I)I" } : Jvm.MethodName)) ∈ lw_all := lw_g (lw_at lw_m9 126 rfl) rfl
theorem q2191 : (Jvm.Cond.privateMethod ({ cls := "MoleBoardModel", name := "upIn", desc := "(I)I" } : Jvm.MethodName)) ∈ lw_tbl := lw_at lw_m9 127 rfl
theorem q2192 : (Jvm.Cond.instanceMethod ({ cls := "MoleBoardModel", name := "upIn", desc := "(I)I" } : Jvm.MethodName)) ∈ lw_all := lw_g (lw_at lw_m9 128 rfl) rfl
theorem q2193 : (Jvm.Cond.code ({ cls := "MoleBoardModel", name := "upIn", desc := "(I)I" } : Jvm.MethodName) prog_16_method_52_code (4 : Nat) (Option.some Jvm.ClassFile.FieldType.int)) ∈ lw_all := lw_g (lw_at lw_m9 129 rfl) rfl
theorem q2195 : (Jvm.Cond.instanceMethod ({ cls := "MoleBoardModel", name := "calm", desc := "()I" } : Jvm.MethodName)) ∈ lw_all := lw_g (lw_at lw_m9 131 rfl) rfl
theorem q2196 : (Jvm.Cond.selects "MoleBoardModel" ({ cls := "MoleBoardModel", name := "calm", desc := "()I" } : Jvm.MethodName) ({ cls := "MoleBoardModel", name := "calm", desc := "()I" } : Jvm.MethodName)) ∈ lw_all := lw_g (lw_at lw_m9 132 rfl) rfl
theorem q2197 : (Jvm.Cond.code ({ cls := "MoleBoardModel", name := "calm", desc := "()I" } : Jvm.MethodName) prog_16_method_54_code (3 : Nat) (Option.some Jvm.ClassFile.FieldType.int)) ∈ lw_all := lw_g (lw_at lw_m9 133 rfl) rfl
theorem q2199 : (Jvm.Cond.instanceMethod ({ cls := "MoleBoardModel", name := "steps", desc := "(II)I" } : Jvm.MethodName)) ∈ lw_all := lw_g (lw_at lw_m9 135 rfl) rfl
theorem q2200 : (Jvm.Cond.selects "MoleBoardModel" ({ cls := "MoleBoardModel", name := "steps", desc := "(II)I" } : Jvm.MethodName) ({ cls := "MoleBoardModel", name := "steps", desc := "(II)I" } : Jvm.MethodName)) ∈ lw_all := lw_g (lw_at lw_m9 136 rfl) rfl
theorem q2201 : (Jvm.Cond.code ({ cls := "MoleBoardModel", name := "steps", desc := "(II)I" } : Jvm.MethodName) prog_16_method_56_code (3 : Nat) (Option.some Jvm.ClassFile.FieldType.int)) ∈ lw_all := lw_g (lw_at lw_m9 137 rfl) rfl
theorem q2202 : (Jvm.Cond.methodLink "MoleBoardModel" (300 : Nat) ({ cls := "MoleBoardModel", name := "isHole", desc := "(J)Z" } : Jvm.MethodName)) ∈ lw_all := lw_g (lw_at lw_m9 138 rfl) rfl
theorem q2203 : (Jvm.Cond.privateMethod ({ cls := "MoleBoardModel", name := "isHole", desc := "(J)Z" } : Jvm.MethodName)) ∈ lw_tbl := lw_at lw_m9 139 rfl
theorem q2204 : (Jvm.Cond.instanceMethod ({ cls := "MoleBoardModel", name := "isHole", desc := "(J)Z" } : Jvm.MethodName)) ∈ lw_all := lw_g (lw_at lw_m9 140 rfl) rfl
theorem q2205 : (Jvm.Cond.code ({ cls := "MoleBoardModel", name := "isHole", desc := "(J)Z" } : Jvm.MethodName) prog_16_method_8_code (3 : Nat) (Option.some Jvm.ClassFile.FieldType.boolean)) ∈ lw_all := lw_g (lw_at lw_m9 141 rfl) rfl
theorem q2206 : (Jvm.Cond.methodLink "MoleBoardModel" (92 : Nat) ({ cls := "MoleBoardModel", name := "holes", desc := "()I" } : Jvm.MethodName)) ∈ lw_all := lw_g (lw_at lw_m9 142 rfl) rfl
theorem q2207 : (Jvm.Cond.privateMethod ({ cls := "MoleBoardModel", name := "holes", desc := "()I" } : Jvm.MethodName)) ∈ lw_tbl := lw_at lw_m9 143 rfl
theorem q2208 : (Jvm.Cond.instanceMethod ({ cls := "MoleBoardModel", name := "holes", desc := "()I" } : Jvm.MethodName)) ∈ lw_all := lw_g (lw_at lw_m9 144 rfl) rfl
theorem q2209 : (Jvm.Cond.code ({ cls := "MoleBoardModel", name := "holes", desc := "()I" } : Jvm.MethodName) prog_16_method_7_code (1 : Nat) (Option.some Jvm.ClassFile.FieldType.int)) ∈ lw_all := lw_g (lw_at lw_m9 145 rfl) rfl
theorem q2210 : (Jvm.Cond.methodLink "MoleBoardModel" (303 : Nat) ({ cls := "MoleBoardModel", name := "stepsOf", desc := "(II)I" } : Jvm.MethodName)) ∈ lw_all := lw_g (lw_at lw_m9 146 rfl) rfl
theorem q2211 : (Jvm.Cond.privateMethod ({ cls := "MoleBoardModel", name := "stepsOf", desc := "(II)I" } : Jvm.MethodName)) ∈ lw_tbl := lw_at lw_m9 147 rfl
theorem q2212 : (Jvm.Cond.instanceMethod ({ cls := "MoleBoardModel", name := "stepsOf", desc := "(II)I" } : Jvm.MethodName)) ∈ lw_all := lw_g (lw_at lw_m9 148 rfl) rfl
theorem q2213 : (Jvm.Cond.code ({ cls := "MoleBoardModel", name := "stepsOf", desc := "(II)I" } : Jvm.MethodName) prog_16_method_55_code (3 : Nat) (Option.some Jvm.ClassFile.FieldType.int)) ∈ lw_all := lw_g (lw_at lw_m9 149 rfl) rfl
theorem q2214 : (Jvm.Cond.methodLink "MoleBoardModel" (297 : Nat) ({ cls := "java/lang/Math", name := "abs", desc := "(I)I" } : Jvm.MethodName)) ∈ lw_all := lw_g (lw_at lw_m9 150 rfl) rfl
theorem q2216 : (Jvm.Cond.instanceMethod ({ cls := "MoleBoardModel", name := "pace", desc := "(II)I" } : Jvm.MethodName)) ∈ lw_all := lw_g (lw_at lw_m9 152 rfl) rfl
theorem q2217 : (Jvm.Cond.selects "MoleBoardModel" ({ cls := "MoleBoardModel", name := "pace", desc := "(II)I" } : Jvm.MethodName) ({ cls := "MoleBoardModel", name := "pace", desc := "(II)I" } : Jvm.MethodName)) ∈ lw_all := lw_g (lw_at lw_m9 153 rfl) rfl
theorem q2218 : (Jvm.Cond.code ({ cls := "MoleBoardModel", name := "pace", desc := "(II)I" } : Jvm.MethodName) prog_16_method_58_code (3 : Nat) (Option.some Jvm.ClassFile.FieldType.int)) ∈ lw_all := lw_g (lw_at lw_m9 154 rfl) rfl
theorem q2219 : (Jvm.Cond.methodLink "MoleBoardModel" (306 : Nat) ({ cls := "MoleBoardModel", name := "paceIn", desc := "(II)I" } : Jvm.MethodName)) ∈ lw_all := lw_g (lw_at lw_m9 155 rfl) rfl
theorem q2220 : (Jvm.Cond.privateMethod ({ cls := "MoleBoardModel", name := "paceIn", desc := "(II)I" } : Jvm.MethodName)) ∈ lw_tbl := lw_at lw_m9 156 rfl
theorem q2221 : (Jvm.Cond.instanceMethod ({ cls := "MoleBoardModel", name := "paceIn", desc := "(II)I" } : Jvm.MethodName)) ∈ lw_all := lw_g (lw_at lw_m9 157 rfl) rfl
theorem q2222 : (Jvm.Cond.code ({ cls := "MoleBoardModel", name := "paceIn", desc := "(II)I" } : Jvm.MethodName) prog_16_method_57_code (3 : Nat) (Option.some Jvm.ClassFile.FieldType.int)) ∈ lw_all := lw_g (lw_at lw_m9 158 rfl) rfl
theorem q2224 : (Jvm.Cond.instanceMethod ({ cls := "MoleBoardModel", name := "aware", desc := "(II)I" } : Jvm.MethodName)) ∈ lw_all := lw_g (lw_at lw_m9 160 rfl) rfl
theorem q2225 : (Jvm.Cond.selects "MoleBoardModel" ({ cls := "MoleBoardModel", name := "aware", desc := "(II)I" } : Jvm.MethodName) ({ cls := "MoleBoardModel", name := "aware", desc := "(II)I" } : Jvm.MethodName)) ∈ lw_all := lw_g (lw_at lw_m9 161 rfl) rfl
theorem q2226 : (Jvm.Cond.code ({ cls := "MoleBoardModel", name := "aware", desc := "(II)I" } : Jvm.MethodName) prog_16_method_61_code (3 : Nat) (Option.some Jvm.ClassFile.FieldType.int)) ∈ lw_all := lw_g (lw_at lw_m9 162 rfl) rfl
theorem q2227 : (Jvm.Cond.methodLink "MoleBoardModel" (328 : Nat) ({ cls := "MoleBoardModel", name := "asTold", desc := "(I)V" } : Jvm.MethodName)) ∈ lw_all := lw_g (lw_at lw_m9 163 rfl) rfl
theorem q2228 : (Jvm.Cond.privateMethod ({ cls := "MoleBoardModel", name := "asTold", desc := "(I)V" } : Jvm.MethodName)) ∈ lw_tbl := lw_at lw_m9 164 rfl
theorem q2229 : (Jvm.Cond.instanceMethod ({ cls := "MoleBoardModel", name := "asTold", desc := "(I)V" } : Jvm.MethodName)) ∈ lw_all := lw_g (lw_at lw_m9 165 rfl) rfl
theorem q2230 : (Jvm.Cond.code ({ cls := "MoleBoardModel", name := "asTold", desc := "(I)V" } : Jvm.MethodName) prog_16_method_59_code (2 : Nat) (Option.none : Option Jvm.ClassFile.FieldType)) ∈ lw_all := lw_g (lw_at lw_m9 166 rfl) rfl
theorem q2231 : (Jvm.Cond.methodLink "MoleBoardModel" (331 : Nat) ({ cls := "MoleBoardModel", name := "awareOf", desc := "(I)I" } : Jvm.MethodName)) ∈ lw_all := lw_g (lw_at lw_m9 167 rfl) rfl
theorem q2232 : (Jvm.Cond.privateMethod ({ cls := "MoleBoardModel", name := "awareOf", desc := "(I)I" } : Jvm.MethodName)) ∈ lw_tbl := lw_at lw_m9 168 rfl
theorem q2233 : (Jvm.Cond.instanceMethod ({ cls := "MoleBoardModel", name := "awareOf", desc := "(I)I" } : Jvm.MethodName)) ∈ lw_all := lw_g (lw_at lw_m9 169 rfl) rfl
theorem q2234 : (Jvm.Cond.code ({ cls := "MoleBoardModel", name := "awareOf", desc := "(I)I" } : Jvm.MethodName) prog_16_method_60_code (3 : Nat) (Option.some Jvm.ClassFile.FieldType.int)) ∈ lw_all := lw_g (lw_at lw_m9 170 rfl) rfl
theorem q2236 : (Jvm.Cond.instanceMethod ({ cls := "MoleBoardModel", name := "hits", desc := "(I)I" } : Jvm.MethodName)) ∈ lw_all := lw_g (lw_at lw_m9 172 rfl) rfl
theorem q2237 : (Jvm.Cond.selects "MoleBoardModel" ({ cls := "MoleBoardModel", name := "hits", desc := "(I)I" } : Jvm.MethodName) ({ cls := "MoleBoardModel", name := "hits", desc := "(I)I" } : Jvm.MethodName)) ∈ lw_all := lw_g (lw_at lw_m9 173 rfl) rfl
theorem q2238 : (Jvm.Cond.code ({ cls := "MoleBoardModel", name := "hits", desc := "(I)I" } : Jvm.MethodName) prog_16_method_67_code (2 : Nat) (Option.some Jvm.ClassFile.FieldType.int)) ∈ lw_all := lw_g (lw_at lw_m9 174 rfl) rfl
theorem q2239 : (Jvm.Cond.methodLink "MoleBoardModel" (365 : Nat) ({ cls := "MoleBoardModel", name := "runAsTold", desc := "(I)V" } : Jvm.MethodName)) ∈ lw_all := lw_g (lw_at lw_m9 175 rfl) rfl
theorem q2240 : (Jvm.Cond.privateMethod ({ cls := "MoleBoardModel", name := "runAsTold", desc := "(I)V" } : Jvm.MethodName)) ∈ lw_tbl := lw_at lw_m9 176 rfl
theorem q2241 : (Jvm.Cond.instanceMethod ({ cls := "MoleBoardModel", name := "runAsTold", desc := "(I)V" } : Jvm.MethodName)) ∈ lw_all := lw_g (lw_at lw_m9 177 rfl) rfl
theorem q2242 : (Jvm.Cond.code ({ cls := "MoleBoardModel", name := "runAsTold", desc := "(I)V" } : Jvm.MethodName) prog_16_method_66_code (2 : Nat) (Option.none : Option Jvm.ClassFile.FieldType)) ∈ lw_all := lw_g (lw_at lw_m9 178 rfl) rfl
theorem q2243 : (Jvm.Cond.methodLink "MoleBoardModel" (362 : Nat) ({ cls := "MoleBoardModel", name := "run", desc := "()V" } : Jvm.MethodName)) ∈ lw_all := lw_g (lw_at lw_m9 179 rfl) rfl
theorem q2244 : (Jvm.Cond.privateMethod ({ cls := "MoleBoardModel", name := "run", desc := "()V" } : Jvm.MethodName)) ∈ lw_tbl := lw_at lw_m9 180 rfl
theorem q2245 : (Jvm.Cond.instanceMethod ({ cls := "MoleBoardModel", name := "run", desc := "()V" } : Jvm.MethodName)) ∈ lw_all := lw_g (lw_at lw_m9 181 rfl) rfl
theorem q2246 : (Jvm.Cond.code ({ cls := "MoleBoardModel", name := "run", desc := "()V" } : Jvm.MethodName) prog_16_method_65_code (2 : Nat) (Option.none : Option Jvm.ClassFile.FieldType)) ∈ lw_all := lw_g (lw_at lw_m9 182 rfl) rfl
theorem q2247 : (Jvm.Cond.methodLink "MoleBoardModel" (359 : Nat) ({ cls := "MoleBoardModel", name := "goesFor", desc := "(I)V" } : Jvm.MethodName)) ∈ lw_all := lw_g (lw_at lw_m9 183 rfl) rfl
theorem q2248 : (Jvm.Cond.privateMethod ({ cls := "MoleBoardModel", name := "goesFor", desc := "(I)V" } : Jvm.MethodName)) ∈ lw_tbl := lw_at lw_m9 184 rfl
theorem q2249 : (Jvm.Cond.instanceMethod ({ cls := "MoleBoardModel", name := "goesFor", desc := "(I)V" } : Jvm.MethodName)) ∈ lw_all := lw_g (lw_at lw_m9 185 rfl) rfl
theorem q2250 : (Jvm.Cond.code ({ cls := "MoleBoardModel", name := "goesFor", desc := "(I)V" } : Jvm.MethodName) prog_16_method_64_code (5 : Nat) (Option.none : Option Jvm.ClassFile.FieldType)) ∈ lw_all := lw_g (lw_at lw_m9 186 rfl) rfl
theorem q2251 : (Jvm.Cond.methodLink "MoleBoardModel" (352 : Nat) ({ cls := "MoleBoardModel", name := "isHis", desc := "(I)Z" } : Jvm.MethodName)) ∈ lw_all := lw_g (lw_at lw_m9 187 rfl) rfl
theorem q2252 : (Jvm.Cond.privateMethod ({ cls := "MoleBoardModel", name := "isHis", desc := "(I)Z" } : Jvm.MethodName)) ∈ lw_tbl := lw_at lw_m9 188 rfl
theorem q2253 : (Jvm.Cond.instanceMethod ({ cls := "MoleBoardModel", name := "isHis", desc := "(I)Z" } : Jvm.MethodName)) ∈ lw_all := lw_g (lw_at lw_m9 189 rfl) rfl
theorem q2254 : (Jvm.Cond.code ({ cls := "MoleBoardModel", name := "isHis", desc := "(I)Z" } : Jvm.MethodName) prog_16_method_63_code (2 : Nat) (Option.some Jvm.ClassFile.FieldType.boolean)) ∈ lw_all := lw_g (lw_at lw_m9 190 rfl) rfl
theorem q2255 : (Jvm.Cond.methodLink "MoleBoardModel" (355 : Nat) ({ cls := "MoleBoardModel", name := "goes", desc := "(II)Z" } : Jvm.MethodName)) ∈ lw_all := lw_g (lw_at lw_m9 191 rfl) rfl
theorem q2256 : (Jvm.Cond.privateMethod ({ cls := "MoleBoardModel", name := "goes", desc := "(II)Z" } : Jvm.MethodName)) ∈ lw_tbl := lw_at lw_m9 192 rfl
theorem q2257 : (Jvm.Cond.instanceMethod ({ cls := "MoleBoardModel", name := "goes", desc := "(II)Z" } : Jvm.MethodName)) ∈ lw_all := lw_g (lw_at lw_m9 193 rfl) rfl
theorem q2258 : (Jvm.Cond.code ({ cls := "MoleBoardModel", name := "goes", desc := "(II)Z" } : Jvm.MethodName) prog_16_method_62_code (6 : Nat) (Option.some Jvm.ClassFile.FieldType.boolean)) ∈ lw_all := lw_g (lw_at lw_m9 194 rfl) rfl
theorem q2259 : (Jvm.Cond.methodLink "MoleBoardModel" (337 : Nat) ({ cls := "java/lang/Math", name := "max", desc := "(II)I" } : Jvm.MethodName)) ∈ lw_all := lw_g (lw_at lw_m9 195 rfl) rfl
theorem q2261 : (Jvm.Cond.instanceMethod ({ cls := "MoleBoardModel", name := "hit", desc := "(II)I" } : Jvm.MethodName)) ∈ lw_all := lw_g (lw_at lw_m9 197 rfl) rfl
theorem q2262 : (Jvm.Cond.selects "MoleBoardModel" ({ cls := "MoleBoardModel", name := "hit", desc := "(II)I" } : Jvm.MethodName) ({ cls := "MoleBoardModel", name := "hit", desc := "(II)I" } : Jvm.MethodName)) ∈ lw_all := lw_g (lw_at lw_m9 198 rfl) rfl
theorem q2263 : (Jvm.Cond.code ({ cls := "MoleBoardModel", name := "hit", desc := "(II)I" } : Jvm.MethodName) prog_16_method_68_code (3 : Nat) (Option.some Jvm.ClassFile.FieldType.int)) ∈ lw_all := lw_g (lw_at lw_m9 199 rfl) rfl
theorem q2265 : (Jvm.Cond.instanceMethod ({ cls := "MoleBoardModel", name := "twice", desc := "(II)I" } : Jvm.MethodName)) ∈ lw_all := lw_g (lw_at lw_m9 201 rfl) rfl
theorem q2266 : (Jvm.Cond.selects "MoleBoardModel" ({ cls := "MoleBoardModel", name := "twice", desc := "(II)I" } : Jvm.MethodName) ({ cls := "MoleBoardModel", name := "twice", desc := "(II)I" } : Jvm.MethodName)) ∈ lw_all := lw_g (lw_at lw_m9 202 rfl) rfl
theorem q2267 : (Jvm.Cond.code ({ cls := "MoleBoardModel", name := "twice", desc := "(II)I" } : Jvm.MethodName) prog_16_method_69_code (3 : Nat) (Option.some Jvm.ClassFile.FieldType.int)) ∈ lw_all := lw_g (lw_at lw_m9 203 rfl) rfl
theorem q2269 : (Jvm.Cond.instanceMethod ({ cls := "MoleBoardModel", name := "where", desc := "(II)I" } : Jvm.MethodName)) ∈ lw_all := lw_g (lw_at lw_m9 205 rfl) rfl
theorem q2270 : (Jvm.Cond.selects "MoleBoardModel" ({ cls := "MoleBoardModel", name := "where", desc := "(II)I" } : Jvm.MethodName) ({ cls := "MoleBoardModel", name := "where", desc := "(II)I" } : Jvm.MethodName)) ∈ lw_all := lw_g (lw_at lw_m9 206 rfl) rfl
theorem q2271 : (Jvm.Cond.code ({ cls := "MoleBoardModel", name := "where", desc := "(II)I" } : Jvm.MethodName) prog_16_method_70_code (5 : Nat) (Option.some Jvm.ClassFile.FieldType.int)) ∈ lw_all := lw_g (lw_at lw_m9 207 rfl) rfl
theorem q2273 : (Jvm.Cond.instanceMethod ({ cls := "MoleBoardModel", name := "missed", desc := "(I)I" } : Jvm.MethodName)) ∈ lw_all := lw_g (lw_at lw_m9 209 rfl) rfl
theorem q2274 : (Jvm.Cond.selects "MoleBoardModel" ({ cls := "MoleBoardModel", name := "missed", desc := "(I)I" } : Jvm.MethodName) ({ cls := "MoleBoardModel", name := "missed", desc := "(I)I" } : Jvm.MethodName)) ∈ lw_all := lw_g (lw_at lw_m9 210 rfl) rfl
theorem q2275 : (Jvm.Cond.code ({ cls := "MoleBoardModel", name := "missed", desc := "(I)I" } : Jvm.MethodName) prog_16_method_71_code (3 : Nat) (Option.some Jvm.ClassFile.FieldType.int)) ∈ lw_all := lw_g (lw_at lw_m9 211 rfl) rfl
theorem q2277 : (Jvm.Cond.instanceMethod ({ cls := "MoleBoardModel", name := "walked", desc := "(I)I" } : Jvm.MethodName)) ∈ lw_all := lw_g (lw_at lw_m9 213 rfl) rfl
theorem q2278 : (Jvm.Cond.selects "MoleBoardModel" ({ cls := "MoleBoardModel", name := "walked", desc := "(I)I" } : Jvm.MethodName) ({ cls := "MoleBoardModel", name := "walked", desc := "(I)I" } : Jvm.MethodName)) ∈ lw_all := lw_g (lw_at lw_m9 214 rfl) rfl
theorem q2279 : (Jvm.Cond.code ({ cls := "MoleBoardModel", name := "walked", desc := "(I)I" } : Jvm.MethodName) prog_16_method_72_code (2 : Nat) (Option.some Jvm.ClassFile.FieldType.int)) ∈ lw_all := lw_g (lw_at lw_m9 215 rfl) rfl
theorem q2281 : (Jvm.Cond.instanceMethod ({ cls := "MoleBoardModel", name := "best", desc := "(I)I" } : Jvm.MethodName)) ∈ lw_all := lw_g (lw_at lw_m9 217 rfl) rfl
theorem q2282 : (Jvm.Cond.selects "MoleBoardModel" ({ cls := "MoleBoardModel", name := "best", desc := "(I)I" } : Jvm.MethodName) ({ cls := "MoleBoardModel", name := "best", desc := "(I)I" } : Jvm.MethodName)) ∈ lw_all := lw_g (lw_at lw_m9 218 rfl) rfl
theorem q2283 : (Jvm.Cond.code ({ cls := "MoleBoardModel", name := "best", desc := "(I)I" } : Jvm.MethodName) prog_16_method_78_code (2 : Nat) (Option.some Jvm.ClassFile.FieldType.int)) ∈ lw_all := lw_g (lw_at lw_m9 219 rfl) rfl
theorem q2284 : (Jvm.Cond.methodLink "MoleBoardModel" (382 : Nat) ({ cls := "MoleBoardModel", name := "bestOf", desc := "(II)I" } : Jvm.MethodName)) ∈ lw_all := lw_g (lw_at lw_m9 220 rfl) rfl
theorem q2285 : (Jvm.Cond.privateMethod ({ cls := "MoleBoardModel", name := "bestOf", desc := "(II)I" } : Jvm.MethodName)) ∈ lw_tbl := lw_at lw_m9 221 rfl
theorem q2286 : (Jvm.Cond.instanceMethod ({ cls := "MoleBoardModel", name := "bestOf", desc := "(II)I" } : Jvm.MethodName)) ∈ lw_all := lw_g (lw_at lw_m9 222 rfl) rfl
theorem q2287 : (Jvm.Cond.code ({ cls := "MoleBoardModel", name := "bestOf", desc := "(II)I" } : Jvm.MethodName) prog_16_method_77_code (6 : Nat) (Option.some Jvm.ClassFile.FieldType.int)) ∈ lw_all := lw_g (lw_at lw_m9 223 rfl) rfl
theorem q2288 : (Jvm.Cond.constant "MoleBoardModel" (371 : Nat) (1000000 : Int32)) ∈ lw_all := lw_g (lw_at lw_m9 224 rfl) rfl
theorem q2289 : (Jvm.Cond.methodLink "MoleBoardModel" (368 : Nat) ({ cls := "MoleBoardModel", name := "cell", desc := "(II)I" } : Jvm.MethodName)) ∈ lw_all := lw_g (lw_at lw_m9 225 rfl) rfl
theorem q2290 : (Jvm.Cond.static ({ cls := "MoleBoardModel", name := "cell", desc := "(II)I" } : Jvm.MethodName)) ∈ lw_all := lw_g (lw_at lw_m9 226 rfl) rfl
theorem q2291 : (Jvm.Cond.code ({ cls := "MoleBoardModel", name := "cell", desc := "(II)I" } : Jvm.MethodName) prog_16_method_73_code (2 : Nat) (Option.some Jvm.ClassFile.FieldType.int)) ∈ lw_all := lw_g (lw_at lw_m9 227 rfl) rfl
theorem q2292 : (Jvm.Cond.methodLink "MoleBoardModel" (379 : Nat) ({ cls := "MoleBoardModel", name := "mayHit", desc := "(III)V" } : Jvm.MethodName)) ∈ lw_all := lw_g (lw_at lw_m9 228 rfl) rfl
theorem q2293 : (Jvm.Cond.privateMethod ({ cls := "MoleBoardModel", name := "mayHit", desc := "(III)V" } : Jvm.MethodName)) ∈ lw_tbl := lw_at lw_m9 229 rfl
theorem q2294 : (Jvm.Cond.instanceMethod ({ cls := "MoleBoardModel", name := "mayHit", desc := "(III)V" } : Jvm.MethodName)) ∈ lw_all := lw_g (lw_at lw_m9 230 rfl) rfl
theorem q2295 : (Jvm.Cond.code ({ cls := "MoleBoardModel", name := "mayHit", desc := "(III)V" } : Jvm.MethodName) prog_16_method_76_code (7 : Nat) (Option.none : Option Jvm.ClassFile.FieldType)) ∈ lw_all := lw_g (lw_at lw_m9 231 rfl) rfl
theorem q2296 : (Jvm.Cond.methodLink "MoleBoardModel" (372 : Nat) ({ cls := "MoleBoardModel", name := "behind", desc := "(IIII)I" } : Jvm.MethodName)) ∈ lw_all := lw_g (lw_at lw_m9 232 rfl) rfl
theorem q2297 : (Jvm.Cond.privateMethod ({ cls := "MoleBoardModel", name := "behind", desc := "(IIII)I" } : Jvm.MethodName)) ∈ lw_tbl := lw_at lw_m9 233 rfl
theorem q2298 : (Jvm.Cond.instanceMethod ({ cls := "MoleBoardModel", name := "behind", desc := "(IIII)I" } : Jvm.MethodName)) ∈ lw_all := lw_g (lw_at lw_m9 234 rfl) rfl
theorem q2299 : (Jvm.Cond.code ({ cls := "MoleBoardModel", name := "behind", desc := "(IIII)I" } : Jvm.MethodName) prog_16_method_75_code (6 : Nat) (Option.some Jvm.ClassFile.FieldType.int)) ∈ lw_all := lw_g (lw_at lw_m9 235 rfl) rfl
theorem q2300 : (Jvm.Cond.methodLink "MoleBoardModel" (376 : Nat) ({ cls := "MoleBoardModel", name := "sooner", desc := "(III)V" } : Jvm.MethodName)) ∈ lw_all := lw_g (lw_at lw_m9 236 rfl) rfl
theorem q2301 : (Jvm.Cond.privateMethod ({ cls := "MoleBoardModel", name := "sooner", desc := "(III)V" } : Jvm.MethodName)) ∈ lw_tbl := lw_at lw_m9 237 rfl
theorem q2302 : (Jvm.Cond.instanceMethod ({ cls := "MoleBoardModel", name := "sooner", desc := "(III)V" } : Jvm.MethodName)) ∈ lw_all := lw_g (lw_at lw_m9 238 rfl) rfl
theorem q2303 : (Jvm.Cond.code ({ cls := "MoleBoardModel", name := "sooner", desc := "(III)V" } : Jvm.MethodName) prog_16_method_74_code (4 : Nat) (Option.none : Option Jvm.ClassFile.FieldType)) ∈ lw_all := lw_g (lw_at lw_m9 239 rfl) rfl
theorem q2305 : (Jvm.Cond.instanceMethod ({ cls := "MoleBoardModel", name := "ahead", desc := "(II)I" } : Jvm.MethodName)) ∈ lw_all := lw_g (lw_at lw_m10 1 rfl) rfl
theorem q2306 : (Jvm.Cond.selects "MoleBoardModel" ({ cls := "MoleBoardModel", name := "ahead", desc := "(II)I" } : Jvm.MethodName) ({ cls := "MoleBoardModel", name := "ahead", desc := "(II)I" } : Jvm.MethodName)) ∈ lw_all := lw_g (lw_at lw_m10 2 rfl) rfl
theorem q2307 : (Jvm.Cond.code ({ cls := "MoleBoardModel", name := "ahead", desc := "(II)I" } : Jvm.MethodName) prog_16_method_79_code (3 : Nat) (Option.some Jvm.ClassFile.FieldType.int)) ∈ lw_all := lw_g (lw_at lw_m10 3 rfl) rfl
theorem q2308 : (Jvm.Cond.constantLong "MoleBoardModel" (385 : Nat) (60 : Int64)) ∈ lw_all := lw_g (lw_at lw_m10 4 rfl) rfl
theorem q2310 : (Jvm.Cond.instanceMethod ({ cls := "MoleBoardModel", name := "learns", desc := "(II)I" } : Jvm.MethodName)) ∈ lw_all := lw_g (lw_at lw_m10 6 rfl) rfl
theorem q2311 : (Jvm.Cond.selects "MoleBoardModel" ({ cls := "MoleBoardModel", name := "learns", desc := "(II)I" } : Jvm.MethodName) ({ cls := "MoleBoardModel", name := "learns", desc := "(II)I" } : Jvm.MethodName)) ∈ lw_all := lw_g (lw_at lw_m10 7 rfl) rfl
theorem q2312 : (Jvm.Cond.code ({ cls := "MoleBoardModel", name := "learns", desc := "(II)I" } : Jvm.MethodName) prog_16_method_81_code (3 : Nat) (Option.some Jvm.ClassFile.FieldType.int)) ∈ lw_all := lw_g (lw_at lw_m10 8 rfl) rfl
theorem q2313 : (Jvm.Cond.constantLong "MoleBoardModel" (387 : Nat) (9 : Int64)) ∈ lw_all := lw_g (lw_at lw_m10 9 rfl) rfl
theorem q2314 : (Jvm.Cond.methodLink "MoleBoardModel" (389 : Nat) ({ cls := "MoleBoardModel", name := "learnsBy", desc := "(II)I" } : Jvm.MethodName)) ∈ lw_all := lw_g (lw_at lw_m10 10 rfl) rfl
theorem q2315 : (Jvm.Cond.privateMethod ({ cls := "MoleBoardModel", name := "learnsBy", desc := "(II)I" } : Jvm.MethodName)) ∈ lw_tbl := lw_at lw_m10 11 rfl
theorem q2316 : (Jvm.Cond.instanceMethod ({ cls := "MoleBoardModel", name := "learnsBy", desc := "(II)I" } : Jvm.MethodName)) ∈ lw_all := lw_g (lw_at lw_m10 12 rfl) rfl
theorem q2317 : (Jvm.Cond.code ({ cls := "MoleBoardModel", name := "learnsBy", desc := "(II)I" } : Jvm.MethodName) prog_16_method_80_code (3 : Nat) (Option.some Jvm.ClassFile.FieldType.int)) ∈ lw_all := lw_g (lw_at lw_m10 13 rfl) rfl
theorem q2319 : (Jvm.Cond.instanceMethod ({ cls := "MoleBoardModel", name := "enough", desc := "(I)I" } : Jvm.MethodName)) ∈ lw_all := lw_g (lw_at lw_m10 15 rfl) rfl
theorem q2320 : (Jvm.Cond.selects "MoleBoardModel" ({ cls := "MoleBoardModel", name := "enough", desc := "(I)I" } : Jvm.MethodName) ({ cls := "MoleBoardModel", name := "enough", desc := "(I)I" } : Jvm.MethodName)) ∈ lw_all := lw_g (lw_at lw_m10 16 rfl) rfl
theorem q2321 : (Jvm.Cond.code ({ cls := "MoleBoardModel", name := "enough", desc := "(I)I" } : Jvm.MethodName) prog_16_method_82_code (4 : Nat) (Option.some Jvm.ClassFile.FieldType.int)) ∈ lw_all := lw_g (lw_at lw_m10 17 rfl) rfl
theorem q2323 : (Jvm.Cond.instanceMethod ({ cls := "MoleBoardModel", name := "waits", desc := "(II)I" } : Jvm.MethodName)) ∈ lw_all := lw_g (lw_at lw_m10 19 rfl) rfl
theorem q2324 : (Jvm.Cond.selects "MoleBoardModel" ({ cls := "MoleBoardModel", name := "waits", desc := "(II)I" } : Jvm.MethodName) ({ cls := "MoleBoardModel", name := "waits", desc := "(II)I" } : Jvm.MethodName)) ∈ lw_all := lw_g (lw_at lw_m10 20 rfl) rfl
theorem q2325 : (Jvm.Cond.code ({ cls := "MoleBoardModel", name := "waits", desc := "(II)I" } : Jvm.MethodName) prog_16_method_84_code (5 : Nat) (Option.some Jvm.ClassFile.FieldType.int)) ∈ lw_all := lw_g (lw_at lw_m10 21 rfl) rfl
theorem q2326 : (Jvm.Cond.methodLink "MoleBoardModel" (392 : Nat) ({ cls := "MoleBoardModel", name := "waitingAt", desc := "(II)I" } : Jvm.MethodName)) ∈ lw_all := lw_g (lw_at lw_m10 22 rfl) rfl
theorem q2327 : (Jvm.Cond.privateMethod ({ cls := "MoleBoardModel", name := "waitingAt", desc := "(II)I" } : Jvm.MethodName)) ∈ lw_tbl := lw_at lw_m10 23 rfl
theorem q2328 : (Jvm.Cond.instanceMethod ({ cls := "MoleBoardModel", name := "waitingAt", desc := "(II)I" } : Jvm.MethodName)) ∈ lw_all := lw_g (lw_at lw_m10 24 rfl) rfl
theorem q2329 : (Jvm.Cond.code ({ cls := "MoleBoardModel", name := "waitingAt", desc := "(II)I" } : Jvm.MethodName) prog_16_method_83_code (3 : Nat) (Option.some Jvm.ClassFile.FieldType.int)) ∈ lw_all := lw_g (lw_at lw_m10 25 rfl) rfl
theorem q2331 : (Jvm.Cond.instanceMethod ({ cls := "MoleBoardModel", name := "mean", desc := "(II)I" } : Jvm.MethodName)) ∈ lw_all := lw_g (lw_at lw_m10 27 rfl) rfl
theorem q2332 : (Jvm.Cond.selects "MoleBoardModel" ({ cls := "MoleBoardModel", name := "mean", desc := "(II)I" } : Jvm.MethodName) ({ cls := "MoleBoardModel", name := "mean", desc := "(II)I" } : Jvm.MethodName)) ∈ lw_all := lw_g (lw_at lw_m10 28 rfl) rfl
theorem q2333 : (Jvm.Cond.code ({ cls := "MoleBoardModel", name := "mean", desc := "(II)I" } : Jvm.MethodName) prog_16_method_88_code (5 : Nat) (Option.some Jvm.ClassFile.FieldType.int)) ∈ lw_all := lw_g (lw_at lw_m10 29 rfl) rfl
theorem q2334 : (Jvm.Cond.methodLink "MoleBoardModel" (398 : Nat) ({ cls := "MoleBoardModel", name := "openHoles", desc := "()I" } : Jvm.MethodName)) ∈ lw_all := lw_g (lw_at lw_m10 30 rfl) rfl
theorem q2335 : (Jvm.Cond.privateMethod ({ cls := "MoleBoardModel", name := "openHoles", desc := "()I" } : Jvm.MethodName)) ∈ lw_tbl := lw_at lw_m10 31 rfl
theorem q2336 : (Jvm.Cond.instanceMethod ({ cls := "MoleBoardModel", name := "openHoles", desc := "()I" } : Jvm.MethodName)) ∈ lw_all := lw_g (lw_at lw_m10 32 rfl) rfl
theorem q2337 : (Jvm.Cond.code ({ cls := "MoleBoardModel", name := "openHoles", desc := "()I" } : Jvm.MethodName) prog_16_method_85_code (3 : Nat) (Option.some Jvm.ClassFile.FieldType.int)) ∈ lw_all := lw_g (lw_at lw_m10 33 rfl) rfl
theorem q2338 : (Jvm.Cond.methodLink "MoleBoardModel" (395 : Nat) ({ cls := "MoleBoardModel", name := "isShut", desc := "(I)Z" } : Jvm.MethodName)) ∈ lw_all := lw_g (lw_at lw_m10 34 rfl) rfl
theorem q2339 : (Jvm.Cond.privateMethod ({ cls := "MoleBoardModel", name := "isShut", desc := "(I)Z" } : Jvm.MethodName)) ∈ lw_tbl := lw_at lw_m10 35 rfl
theorem q2340 : (Jvm.Cond.instanceMethod ({ cls := "MoleBoardModel", name := "isShut", desc := "(I)Z" } : Jvm.MethodName)) ∈ lw_all := lw_g (lw_at lw_m10 36 rfl) rfl
theorem q2341 : (Jvm.Cond.code ({ cls := "MoleBoardModel", name := "isShut", desc := "(I)Z" } : Jvm.MethodName) prog_16_method_9_code (2 : Nat) (Option.some Jvm.ClassFile.FieldType.boolean)) ∈ lw_all := lw_g (lw_at lw_m10 37 rfl) rfl
theorem q2342 : (Jvm.Cond.methodLink "MoleBoardModel" (401 : Nat) ({ cls := "MoleBoardModel", name := "stepsToAll", desc := "(I)I" } : Jvm.MethodName)) ∈ lw_all := lw_g (lw_at lw_m10 38 rfl) rfl
theorem q2343 : (Jvm.Cond.privateMethod ({ cls := "MoleBoardModel", name := "stepsToAll", desc := "(I)I" } : Jvm.MethodName)) ∈ lw_tbl := lw_at lw_m10 39 rfl
theorem q2344 : (Jvm.Cond.instanceMethod ({ cls := "MoleBoardModel", name := "stepsToAll", desc := "(I)I" } : Jvm.MethodName)) ∈ lw_all := lw_g (lw_at lw_m10 40 rfl) rfl
theorem q2345 : (Jvm.Cond.code ({ cls := "MoleBoardModel", name := "stepsToAll", desc := "(I)I" } : Jvm.MethodName) prog_16_method_86_code (4 : Nat) (Option.some Jvm.ClassFile.FieldType.int)) ∈ lw_all := lw_g (lw_at lw_m10 41 rfl) rfl
theorem q2346 : (Jvm.Cond.methodLink "MoleBoardModel" (404 : Nat) ({ cls := "MoleBoardModel", name := "divisor", desc := "(II)I" } : Jvm.MethodName)) ∈ lw_all := lw_g (lw_at lw_m10 42 rfl) rfl
theorem q2347 : (Jvm.Cond.static ({ cls := "MoleBoardModel", name := "divisor", desc := "(II)I" } : Jvm.MethodName)) ∈ lw_all := lw_g (lw_at lw_m10 43 rfl) rfl
theorem q2348 : (Jvm.Cond.code ({ cls := "MoleBoardModel", name := "divisor", desc := "(II)I" } : Jvm.MethodName) prog_16_method_87_code (5 : Nat) (Option.some Jvm.ClassFile.FieldType.int)) ∈ lw_all := lw_g (lw_at lw_m10 44 rfl) rfl
theorem q2350 : (Jvm.Cond.instanceMethod ({ cls := "MoleBoardModel", name := "middle", desc := "(I)I" } : Jvm.MethodName)) ∈ lw_all := lw_g (lw_at lw_m10 46 rfl) rfl
theorem q2351 : (Jvm.Cond.selects "MoleBoardModel" ({ cls := "MoleBoardModel", name := "middle", desc := "(I)I" } : Jvm.MethodName) ({ cls := "MoleBoardModel", name := "middle", desc := "(I)I" } : Jvm.MethodName)) ∈ lw_all := lw_g (lw_at lw_m10 47 rfl) rfl
theorem q2352 : (Jvm.Cond.code ({ cls := "MoleBoardModel", name := "middle", desc := "(I)I" } : Jvm.MethodName) prog_16_method_89_code (4 : Nat) (Option.some Jvm.ClassFile.FieldType.int)) ∈ lw_all := lw_g (lw_at lw_m10 48 rfl) rfl
theorem q2354 : (Jvm.Cond.instanceMethod ({ cls := "MoleBoardModel", name := "reach", desc := "(II)I" } : Jvm.MethodName)) ∈ lw_all := lw_g (lw_at lw_m10 50 rfl) rfl
theorem q2355 : (Jvm.Cond.selects "MoleBoardModel" ({ cls := "MoleBoardModel", name := "reach", desc := "(II)I" } : Jvm.MethodName) ({ cls := "MoleBoardModel", name := "reach", desc := "(II)I" } : Jvm.MethodName)) ∈ lw_all := lw_g (lw_at lw_m10 51 rfl) rfl
theorem q2356 : (Jvm.Cond.code ({ cls := "MoleBoardModel", name := "reach", desc := "(II)I" } : Jvm.MethodName) prog_16_method_91_code (3 : Nat) (Option.some Jvm.ClassFile.FieldType.int)) ∈ lw_all := lw_g (lw_at lw_m10 52 rfl) rfl
theorem q2357 : (Jvm.Cond.methodLink "MoleBoardModel" (407 : Nat) ({ cls := "MoleBoardModel", name := "reachOf", desc := "(II)I" } : Jvm.MethodName)) ∈ lw_all := lw_g (lw_at lw_m10 53 rfl) rfl
theorem q2358 : (Jvm.Cond.privateMethod ({ cls := "MoleBoardModel", name := "reachOf", desc := "(II)I" } : Jvm.MethodName)) ∈ lw_tbl := lw_at lw_m10 54 rfl
theorem q2359 : (Jvm.Cond.instanceMethod ({ cls := "MoleBoardModel", name := "reachOf", desc := "(II)I" } : Jvm.MethodName)) ∈ lw_all := lw_g (lw_at lw_m10 55 rfl) rfl
theorem q2360 : (Jvm.Cond.code ({ cls := "MoleBoardModel", name := "reachOf", desc := "(II)I" } : Jvm.MethodName) prog_16_method_90_code (6 : Nat) (Option.some Jvm.ClassFile.FieldType.int)) ∈ lw_all := lw_g (lw_at lw_m10 56 rfl) rfl
theorem q2362 : (Jvm.Cond.instanceMethod ({ cls := "MoleBoardModel", name := "post", desc := "(I)I" } : Jvm.MethodName)) ∈ lw_all := lw_g (lw_at lw_m10 58 rfl) rfl
theorem q2363 : (Jvm.Cond.selects "MoleBoardModel" ({ cls := "MoleBoardModel", name := "post", desc := "(I)I" } : Jvm.MethodName) ({ cls := "MoleBoardModel", name := "post", desc := "(I)I" } : Jvm.MethodName)) ∈ lw_all := lw_g (lw_at lw_m10 59 rfl) rfl
theorem q2364 : (Jvm.Cond.code ({ cls := "MoleBoardModel", name := "post", desc := "(I)I" } : Jvm.MethodName) prog_16_method_93_code (4 : Nat) (Option.some Jvm.ClassFile.FieldType.int)) ∈ lw_all := lw_g (lw_at lw_m10 60 rfl) rfl
theorem q2365 : (Jvm.Cond.methodLink "MoleBoardModel" (410 : Nat) ({ cls := "MoleBoardModel", name := "bits", desc := "(I)I" } : Jvm.MethodName)) ∈ lw_all := lw_g (lw_at lw_m10 61 rfl) rfl
theorem q2366 : (Jvm.Cond.static ({ cls := "MoleBoardModel", name := "bits", desc := "(I)I" } : Jvm.MethodName)) ∈ lw_all := lw_g (lw_at lw_m10 62 rfl) rfl
theorem q2367 : (Jvm.Cond.code ({ cls := "MoleBoardModel", name := "bits", desc := "(I)I" } : Jvm.MethodName) prog_16_method_92_code (3 : Nat) (Option.some Jvm.ClassFile.FieldType.int)) ∈ lw_all := lw_g (lw_at lw_m10 63 rfl) rfl
theorem q2369 : (Jvm.Cond.instanceMethod ({ cls := "MoleBoardModel", name := "slack", desc := "(I)I" } : Jvm.MethodName)) ∈ lw_all := lw_g (lw_at lw_m10 65 rfl) rfl
theorem q2370 : (Jvm.Cond.selects "MoleBoardModel" ({ cls := "MoleBoardModel", name := "slack", desc := "(I)I" } : Jvm.MethodName) ({ cls := "MoleBoardModel", name := "slack", desc := "(I)I" } : Jvm.MethodName)) ∈ lw_all := lw_g (lw_at lw_m10 66 rfl) rfl
theorem q2371 : (Jvm.Cond.code ({ cls := "MoleBoardModel", name := "slack", desc := "(I)I" } : Jvm.MethodName) prog_16_method_95_code (5 : Nat) (Option.some Jvm.ClassFile.FieldType.int)) ∈ lw_all := lw_g (lw_at lw_m10 67 rfl) rfl
theorem q2372 : (Jvm.Cond.methodLink "MoleBoardModel" (413 : Nat) ({ cls := "MoleBoardModel", name := "lagging", desc := "(II)I" } : Jvm.MethodName)) ∈ lw_all := lw_g (lw_at lw_m10 68 rfl) rfl
theorem q2373 : (Jvm.Cond.privateMethod ({ cls := "MoleBoardModel", name := "lagging", desc := "(II)I" } : Jvm.MethodName)) ∈ lw_tbl := lw_at lw_m10 69 rfl
theorem q2374 : (Jvm.Cond.instanceMethod ({ cls := "MoleBoardModel", name := "lagging", desc := "(II)I" } : Jvm.MethodName)) ∈ lw_all := lw_g (lw_at lw_m10 70 rfl) rfl
theorem q2375 : (Jvm.Cond.code ({ cls := "MoleBoardModel", name := "lagging", desc := "(II)I" } : Jvm.MethodName) prog_16_method_94_code (3 : Nat) (Option.some Jvm.ClassFile.FieldType.int)) ∈ lw_all := lw_g (lw_at lw_m10 71 rfl) rfl
theorem q2377 : (Jvm.Cond.instanceMethod ({ cls := "MoleBoardModel", name := "rows", desc := "(II)J" } : Jvm.MethodName)) ∈ lw_all := lw_g (lw_at lw_m10 73 rfl) rfl
theorem q2378 : (Jvm.Cond.selects "MoleBoardModel" ({ cls := "MoleBoardModel", name := "rows", desc := "(II)J" } : Jvm.MethodName) ({ cls := "MoleBoardModel", name := "rows", desc := "(II)J" } : Jvm.MethodName)) ∈ lw_all := lw_g (lw_at lw_m10 74 rfl) rfl
theorem q2379 : (Jvm.Cond.code ({ cls := "MoleBoardModel", name := "rows", desc := "(II)J" } : Jvm.MethodName) prog_16_method_100_code (6 : Nat) (Option.some Jvm.ClassFile.FieldType.long)) ∈ lw_all := lw_g (lw_at lw_m10 75 rfl) rfl
theorem q2380 : (Jvm.Cond.methodLink "MoleBoardModel" (422 : Nat) ({ cls := "MoleBoardModel", name := "isLaw", desc := "(I)Z" } : Jvm.MethodName)) ∈ lw_all := lw_g (lw_at lw_m10 76 rfl) rfl
theorem q2381 : (Jvm.Cond.static ({ cls := "MoleBoardModel", name := "isLaw", desc := "(I)Z" } : Jvm.MethodName)) ∈ lw_all := lw_g (lw_at lw_m10 77 rfl) rfl
theorem q2382 : (Jvm.Cond.code ({ cls := "MoleBoardModel", name := "isLaw", desc := "(I)Z" } : Jvm.MethodName) prog_16_method_96_code (1 : Nat) (Option.some Jvm.ClassFile.FieldType.boolean)) ∈ lw_all := lw_g (lw_at lw_m10 78 rfl) rfl
theorem q2383 : (Jvm.Cond.constantLong "MoleBoardModel" (416 : Nat) (3 : Int64)) ∈ lw_all := lw_g (lw_at lw_m10 79 rfl) rfl
theorem q2384 : (Jvm.Cond.constantLong "MoleBoardModel" (425 : Nat) (12 : Int64)) ∈ lw_all := lw_g (lw_at lw_m10 80 rfl) rfl
theorem q2385 : (Jvm.Cond.constantLong "MoleBoardModel" (427 : Nat) (-2 : Int64)) ∈ lw_all := lw_g (lw_at lw_m10 81 rfl) rfl
theorem q2386 : (Jvm.Cond.methodLink "MoleBoardModel" (429 : Nat) ({ cls := "MoleBoardModel", name := "fillRows", desc := "(II)V" } : Jvm.MethodName)) ∈ lw_all := lw_g (lw_at lw_m10 82 rfl) rfl
theorem q2387 : (Jvm.Cond.privateMethod ({ cls := "MoleBoardModel", name := "fillRows", desc := "(II)V" } : Jvm.MethodName)) ∈ lw_tbl := lw_at lw_m10 83 rfl
theorem q2388 : (Jvm.Cond.instanceMethod ({ cls := "MoleBoardModel", name := "fillRows", desc := "(II)V" } : Jvm.MethodName)) ∈ lw_all := lw_g (lw_at lw_m10 84 rfl) rfl
theorem q2389 : (Jvm.Cond.code ({ cls := "MoleBoardModel", name := "fillRows", desc := "(II)V" } : Jvm.MethodName) prog_16_method_98_code (9 : Nat) (Option.none : Option Jvm.ClassFile.FieldType)) ∈ lw_all := lw_g (lw_at lw_m10 85 rfl) rfl
theorem q2390 : (Jvm.Cond.methodLink "MoleBoardModel" (418 : Nat) ({ cls := "MoleBoardModel", name := "lets", desc := "(IIII)Z" } : Jvm.MethodName)) ∈ lw_all := lw_g (lw_at lw_m10 86 rfl) rfl
theorem q2391 : (Jvm.Cond.privateMethod ({ cls := "MoleBoardModel", name := "lets", desc := "(IIII)Z" } : Jvm.MethodName)) ∈ lw_tbl := lw_at lw_m10 87 rfl
theorem q2392 : (Jvm.Cond.instanceMethod ({ cls := "MoleBoardModel", name := "lets", desc := "(IIII)Z" } : Jvm.MethodName)) ∈ lw_all := lw_g (lw_at lw_m10 88 rfl) rfl
theorem q2393 : (Jvm.Cond.code ({ cls := "MoleBoardModel", name := "lets", desc := "(IIII)Z" } : Jvm.MethodName) prog_16_method_97_code (5 : Nat) (Option.some Jvm.ClassFile.FieldType.boolean)) ∈ lw_all := lw_g (lw_at lw_m10 89 rfl) rfl
theorem q2394 : (Jvm.Cond.methodLink "MoleBoardModel" (433 : Nat) ({ cls := "MoleBoardModel", name := "endingIn", desc := "(I)J" } : Jvm.MethodName)) ∈ lw_all := lw_g (lw_at lw_m10 90 rfl) rfl
theorem q2395 : (Jvm.Cond.privateMethod ({ cls := "MoleBoardModel", name := "endingIn", desc := "(I)J" } : Jvm.MethodName)) ∈ lw_tbl := lw_at lw_m10 91 rfl
theorem q2396 : (Jvm.Cond.instanceMethod ({ cls := "MoleBoardModel", name := "endingIn", desc := "(I)J" } : Jvm.MethodName)) ∈ lw_all := lw_g (lw_at lw_m10 92 rfl) rfl
theorem q2397 : (Jvm.Cond.code ({ cls := "MoleBoardModel", name := "endingIn", desc := "(I)J" } : Jvm.MethodName) prog_16_method_99_code (5 : Nat) (Option.some Jvm.ClassFile.FieldType.long)) ∈ lw_all := lw_g (lw_at lw_m10 93 rfl) rfl
theorem q2399 : (Jvm.Cond.instanceMethod ({ cls := "MoleBoardModel", name := "ends", desc := "(III)J" } : Jvm.MethodName)) ∈ lw_all := lw_g (lw_at lw_m10 95 rfl) rfl
theorem q2400 : (Jvm.Cond.selects "MoleBoardModel" ({ cls := "MoleBoardModel", name := "ends", desc := "(III)J" } : Jvm.MethodName) ({ cls := "MoleBoardModel", name := "ends", desc := "(III)J" } : Jvm.MethodName)) ∈ lw_all := lw_g (lw_at lw_m10 96 rfl) rfl
theorem q2401 : (Jvm.Cond.code ({ cls := "MoleBoardModel", name := "ends", desc := "(III)J" } : Jvm.MethodName) prog_16_method_101_code (4 : Nat) (Option.some Jvm.ClassFile.FieldType.long)) ∈ lw_all := lw_g (lw_at lw_m10 97 rfl) rfl
theorem q2403 : (Jvm.Cond.instanceMethod ({ cls := "MoleBoardModel", name := "fair", desc := "(I)I" } : Jvm.MethodName)) ∈ lw_all := lw_g (lw_at lw_m10 99 rfl) rfl
theorem q2404 : (Jvm.Cond.selects "MoleBoardModel" ({ cls := "MoleBoardModel", name := "fair", desc := "(I)I" } : Jvm.MethodName) ({ cls := "MoleBoardModel", name := "fair", desc := "(I)I" } : Jvm.MethodName)) ∈ lw_all := lw_g (lw_at lw_m10 100 rfl) rfl
theorem q2405 : (Jvm.Cond.code ({ cls := "MoleBoardModel", name := "fair", desc := "(I)I" } : Jvm.MethodName) prog_16_method_102_code (5 : Nat) (Option.some Jvm.ClassFile.FieldType.int)) ∈ lw_all := lw_g (lw_at lw_m10 101 rfl) rfl
theorem q2407 : (Jvm.Cond.instanceMethod ({ cls := "MoleBoardModel", name := "breaks", desc := "(I)I" } : Jvm.MethodName)) ∈ lw_all := lw_g (lw_at lw_m10 103 rfl) rfl
theorem q2408 : (Jvm.Cond.selects "MoleBoardModel" ({ cls := "MoleBoardModel", name := "breaks", desc := "(I)I" } : Jvm.MethodName) ({ cls := "MoleBoardModel", name := "breaks", desc := "(I)I" } : Jvm.MethodName)) ∈ lw_all := lw_g (lw_at lw_m10 104 rfl) rfl
theorem q2409 : (Jvm.Cond.code ({ cls := "MoleBoardModel", name := "breaks", desc := "(I)I" } : Jvm.MethodName) prog_16_method_104_code (3 : Nat) (Option.some Jvm.ClassFile.FieldType.int)) ∈ lw_all := lw_g (lw_at lw_m10 105 rfl) rfl
theorem q2410 : (Jvm.Cond.methodLink "MoleBoardModel" (440 : Nat) ({ cls := "MoleBoardModel", name := "holeAt", desc := "(I)I" } : Jvm.MethodName)) ∈ lw_all := lw_g (lw_at lw_m10 106 rfl) rfl
theorem q2411 : (Jvm.Cond.privateMethod ({ cls := "MoleBoardModel", name := "holeAt", desc := "(I)I" } : Jvm.MethodName)) ∈ lw_tbl := lw_at lw_m10 107 rfl
theorem q2412 : (Jvm.Cond.instanceMethod ({ cls := "MoleBoardModel", name := "holeAt", desc := "(I)I" } : Jvm.MethodName)) ∈ lw_all := lw_g (lw_at lw_m10 108 rfl) rfl
theorem q2413 : (Jvm.Cond.code ({ cls := "MoleBoardModel", name := "holeAt", desc := "(I)I" } : Jvm.MethodName) prog_16_method_103_code (2 : Nat) (Option.some Jvm.ClassFile.FieldType.int)) ∈ lw_all := lw_g (lw_at lw_m10 109 rfl) rfl
theorem q2414 : (Jvm.Cond.methodLink "MoleBoardModel" (437 : Nat) ({ cls := "java/lang/Math", name := "floorMod", desc := "(II)I" } : Jvm.MethodName)) ∈ lw_all := lw_g (lw_at lw_m10 110 rfl) rfl
theorem q2416 : (Jvm.Cond.instanceMethod ({ cls := "MoleBoardModel", name := "period", desc := "(I)I" } : Jvm.MethodName)) ∈ lw_all := lw_g (lw_at lw_m10 112 rfl) rfl
theorem q2417 : (Jvm.Cond.selects "MoleBoardModel" ({ cls := "MoleBoardModel", name := "period", desc := "(I)I" } : Jvm.MethodName) ({ cls := "MoleBoardModel", name := "period", desc := "(I)I" } : Jvm.MethodName)) ∈ lw_all := lw_g (lw_at lw_m10 113 rfl) rfl
theorem q2418 : (Jvm.Cond.code ({ cls := "MoleBoardModel", name := "period", desc := "(I)I" } : Jvm.MethodName) prog_16_method_109_code (3 : Nat) (Option.some Jvm.ClassFile.FieldType.int)) ∈ lw_all := lw_g (lw_at lw_m10 114 rfl) rfl
theorem q2419 : (Jvm.Cond.methodLink "MoleBoardModel" (453 : Nat) ({ cls := "MoleBoardModel", name := "asksHeard", desc := "(I)I" } : Jvm.MethodName)) ∈ lw_all := lw_g (lw_at lw_m10 115 rfl) rfl
theorem q2420 : (Jvm.Cond.privateMethod ({ cls := "MoleBoardModel", name := "asksHeard", desc := "(I)I" } : Jvm.MethodName)) ∈ lw_tbl := lw_at lw_m10 116 rfl
theorem q2421 : (Jvm.Cond.instanceMethod ({ cls := "MoleBoardModel", name := "asksHeard", desc := "(I)I" } : Jvm.MethodName)) ∈ lw_all := lw_g (lw_at lw_m10 117 rfl) rfl
theorem q2422 : (Jvm.Cond.code ({ cls := "MoleBoardModel", name := "asksHeard", desc := "(I)I" } : Jvm.MethodName) prog_16_method_106_code (3 : Nat) (Option.some Jvm.ClassFile.FieldType.int)) ∈ lw_all := lw_g (lw_at lw_m10 118 rfl) rfl
theorem q2423 : (Jvm.Cond.methodLink "MoleBoardModel" (443 : Nat) ({ cls := "MoleBoardModel", name := "isSlot", desc := "(I)Z" } : Jvm.MethodName)) ∈ lw_all := lw_g (lw_at lw_m10 119 rfl) rfl
theorem q2424 : (Jvm.Cond.static ({ cls := "MoleBoardModel", name := "isSlot", desc := "(I)Z" } : Jvm.MethodName)) ∈ lw_all := lw_g (lw_at lw_m10 120 rfl) rfl
theorem q2425 : (Jvm.Cond.code ({ cls := "MoleBoardModel", name := "isSlot", desc := "(I)Z" } : Jvm.MethodName) prog_16_method_158_code (1 : Nat) (Option.some Jvm.ClassFile.FieldType.boolean)) ∈ lw_all := lw_g (lw_at lw_m10 121 rfl) rfl
theorem q2426 : (Jvm.Cond.methodLink "MoleBoardModel" (446 : Nat) ({ cls := "MoleBoardModel", name := "numberAt", desc := "(II)J" } : Jvm.MethodName)) ∈ lw_all := lw_g (lw_at lw_m10 122 rfl) rfl
theorem q2427 : (Jvm.Cond.privateMethod ({ cls := "MoleBoardModel", name := "numberAt", desc := "(II)J" } : Jvm.MethodName)) ∈ lw_tbl := lw_at lw_m10 123 rfl
theorem q2428 : (Jvm.Cond.instanceMethod ({ cls := "MoleBoardModel", name := "numberAt", desc := "(II)J" } : Jvm.MethodName)) ∈ lw_all := lw_g (lw_at lw_m10 124 rfl) rfl
theorem q2429 : (Jvm.Cond.code ({ cls := "MoleBoardModel", name := "numberAt", desc := "(II)J" } : Jvm.MethodName) prog_16_method_105_code (3 : Nat) (Option.some Jvm.ClassFile.FieldType.long)) ∈ lw_all := lw_g (lw_at lw_m10 125 rfl) rfl
theorem q2430 : (Jvm.Cond.methodLink "MoleBoardModel" (456 : Nat) ({ cls := "MoleBoardModel", name := "leastPeriod", desc := "(I)I" } : Jvm.MethodName)) ∈ lw_all := lw_g (lw_at lw_m10 126 rfl) rfl
theorem q2431 : (Jvm.Cond.privateMethod ({ cls := "MoleBoardModel", name := "leastPeriod", desc := "(I)I" } : Jvm.MethodName)) ∈ lw_tbl := lw_at lw_m10 127 rfl
theorem q2432 : (Jvm.Cond.instanceMethod ({ cls := "MoleBoardModel", name := "leastPeriod", desc := "(I)I" } : Jvm.MethodName)) ∈ lw_all := lw_g (lw_at lw_m10 128 rfl) rfl
theorem q2433 : (Jvm.Cond.code ({ cls := "MoleBoardModel", name := "leastPeriod", desc := "(I)I" } : Jvm.MethodName) prog_16_method_108_code (3 : Nat) (Option.some Jvm.ClassFile.FieldType.int)) ∈ lw_all := lw_g (lw_at lw_m10 129 rfl) rfl
theorem q2434 : (Jvm.Cond.methodLink "MoleBoardModel" (450 : Nat) ({ cls := "MoleBoardModel", name := "isPeriod", desc := "(II)Z" } : Jvm.MethodName)) ∈ lw_all := lw_g (lw_at lw_m10 130 rfl) rfl
theorem q2435 : (Jvm.Cond.privateMethod ({ cls := "MoleBoardModel", name := "isPeriod", desc := "(II)Z" } : Jvm.MethodName)) ∈ lw_tbl := lw_at lw_m10 131 rfl
theorem q2436 : (Jvm.Cond.instanceMethod ({ cls := "MoleBoardModel", name := "isPeriod", desc := "(II)Z" } : Jvm.MethodName)) ∈ lw_all := lw_g (lw_at lw_m10 132 rfl) rfl
theorem q2437 : (Jvm.Cond.code ({ cls := "MoleBoardModel", name := "isPeriod", desc := "(II)Z" } : Jvm.MethodName) prog_16_method_107_code (4 : Nat) (Option.some Jvm.ClassFile.FieldType.boolean)) ∈ lw_all := lw_g (lw_at lw_m10 133 rfl) rfl
theorem q2439 : (Jvm.Cond.instanceMethod ({ cls := "MoleBoardModel", name := "periods", desc := "(I)I" } : Jvm.MethodName)) ∈ lw_all := lw_g (lw_at lw_m10 135 rfl) rfl
theorem q2440 : (Jvm.Cond.selects "MoleBoardModel" ({ cls := "MoleBoardModel", name := "periods", desc := "(I)I" } : Jvm.MethodName) ({ cls := "MoleBoardModel", name := "periods", desc := "(I)I" } : Jvm.MethodName)) ∈ lw_all := lw_g (lw_at lw_m10 136 rfl) rfl
theorem q2441 : (Jvm.Cond.code ({ cls := "MoleBoardModel", name := "periods", desc := "(I)I" } : Jvm.MethodName) prog_16_method_110_code (5 : Nat) (Option.some Jvm.ClassFile.FieldType.int)) ∈ lw_all := lw_g (lw_at lw_m10 137 rfl) rfl
theorem q2443 : (Jvm.Cond.instanceMethod ({ cls := "MoleBoardModel", name := "luck", desc := "(I)I" } : Jvm.MethodName)) ∈ lw_all := lw_g (lw_at lw_m10 139 rfl) rfl
theorem q2444 : (Jvm.Cond.selects "MoleBoardModel" ({ cls := "MoleBoardModel", name := "luck", desc := "(I)I" } : Jvm.MethodName) ({ cls := "MoleBoardModel", name := "luck", desc := "(I)I" } : Jvm.MethodName)) ∈ lw_all := lw_g (lw_at lw_m10 140 rfl) rfl
theorem q2445 : (Jvm.Cond.code ({ cls := "MoleBoardModel", name := "luck", desc := "(I)I" } : Jvm.MethodName) prog_16_method_111_code (7 : Nat) (Option.some Jvm.ClassFile.FieldType.int)) ∈ lw_all := lw_g (lw_at lw_m10 141 rfl) rfl
theorem q2446 : (Jvm.Cond.constantLong "MoleBoardModel" (459 : Nat) (1000000000 : Int64)) ∈ lw_all := lw_g (lw_at lw_m10 142 rfl) rfl
theorem q2448 : (Jvm.Cond.instanceMethod ({ cls := "MoleBoardModel", name := "fits", desc := "(I)I" } : Jvm.MethodName)) ∈ lw_all := lw_g (lw_at lw_m10 144 rfl) rfl
theorem q2449 : (Jvm.Cond.selects "MoleBoardModel" ({ cls := "MoleBoardModel", name := "fits", desc := "(I)I" } : Jvm.MethodName) ({ cls := "MoleBoardModel", name := "fits", desc := "(I)I" } : Jvm.MethodName)) ∈ lw_all := lw_g (lw_at lw_m10 145 rfl) rfl
theorem q2450 : (Jvm.Cond.code ({ cls := "MoleBoardModel", name := "fits", desc := "(I)I" } : Jvm.MethodName) prog_16_method_113_code (5 : Nat) (Option.some Jvm.ClassFile.FieldType.int)) ∈ lw_all := lw_g (lw_at lw_m10 146 rfl) rfl
theorem q2451 : (Jvm.Cond.methodLink "MoleBoardModel" (461 : Nat) ({ cls := "MoleBoardModel", name := "fitsFrom", desc := "(II)Z" } : Jvm.MethodName)) ∈ lw_all := lw_g (lw_at lw_m10 147 rfl) rfl
theorem q2452 : (Jvm.Cond.privateMethod ({ cls := "MoleBoardModel", name := "fitsFrom", desc := "(II)Z" } : Jvm.MethodName)) ∈ lw_tbl := lw_at lw_m10 148 rfl
theorem q2453 : (Jvm.Cond.instanceMethod ({ cls := "MoleBoardModel", name := "fitsFrom", desc := "(II)Z" } : Jvm.MethodName)) ∈ lw_all := lw_g (lw_at lw_m10 149 rfl) rfl
theorem q2454 : (Jvm.Cond.code ({ cls := "MoleBoardModel", name := "fitsFrom", desc := "(II)Z" } : Jvm.MethodName) prog_16_method_112_code (4 : Nat) (Option.some Jvm.ClassFile.FieldType.boolean)) ∈ lw_all := lw_g (lw_at lw_m10 150 rfl) rfl
theorem q2456 : (Jvm.Cond.instanceMethod ({ cls := "MoleBoardModel", name := "place", desc := "(II)I" } : Jvm.MethodName)) ∈ lw_all := lw_g (lw_at lw_m10 152 rfl) rfl
theorem q2457 : (Jvm.Cond.selects "MoleBoardModel" ({ cls := "MoleBoardModel", name := "place", desc := "(II)I" } : Jvm.MethodName) ({ cls := "MoleBoardModel", name := "place", desc := "(II)I" } : Jvm.MethodName)) ∈ lw_all := lw_g (lw_at lw_m10 153 rfl) rfl
theorem q2458 : (Jvm.Cond.code ({ cls := "MoleBoardModel", name := "place", desc := "(II)I" } : Jvm.MethodName) prog_16_method_114_code (6 : Nat) (Option.some Jvm.ClassFile.FieldType.int)) ∈ lw_all := lw_g (lw_at lw_m10 154 rfl) rfl
theorem q2460 : (Jvm.Cond.instanceMethod ({ cls := "MoleBoardModel", name := "next", desc := "(I)I" } : Jvm.MethodName)) ∈ lw_all := lw_g (lw_at lw_m10 156 rfl) rfl
theorem q2461 : (Jvm.Cond.selects "MoleBoardModel" ({ cls := "MoleBoardModel", name := "next", desc := "(I)I" } : Jvm.MethodName) ({ cls := "MoleBoardModel", name := "next", desc := "(I)I" } : Jvm.MethodName)) ∈ lw_all := lw_g (lw_at lw_m10 157 rfl) rfl
theorem q2462 : (Jvm.Cond.code ({ cls := "MoleBoardModel", name := "next", desc := "(I)I" } : Jvm.MethodName) prog_16_method_115_code (6 : Nat) (Option.some Jvm.ClassFile.FieldType.int)) ∈ lw_all := lw_g (lw_at lw_m10 158 rfl) rfl
theorem q2464 : (Jvm.Cond.instanceMethod ({ cls := "MoleBoardModel", name := "needed", desc := "(I)I" } : Jvm.MethodName)) ∈ lw_all := lw_g (lw_at lw_m10 160 rfl) rfl
theorem q2465 : (Jvm.Cond.selects "MoleBoardModel" ({ cls := "MoleBoardModel", name := "needed", desc := "(I)I" } : Jvm.MethodName) ({ cls := "MoleBoardModel", name := "needed", desc := "(I)I" } : Jvm.MethodName)) ∈ lw_all := lw_g (lw_at lw_m10 161 rfl) rfl
theorem q2466 : (Jvm.Cond.code ({ cls := "MoleBoardModel", name := "needed", desc := "(I)I" } : Jvm.MethodName) prog_16_method_118_code (2 : Nat) (Option.some Jvm.ClassFile.FieldType.int)) ∈ lw_all := lw_g (lw_at lw_m10 162 rfl) rfl
theorem q2467 : (Jvm.Cond.methodLink "MoleBoardModel" (468 : Nat) ({ cls := "MoleBoardModel", name := "neededFrom", desc := "(I)I" } : Jvm.MethodName)) ∈ lw_all := lw_g (lw_at lw_m10 163 rfl) rfl
theorem q2468 : (Jvm.Cond.privateMethod ({ cls := "MoleBoardModel", name := "neededFrom", desc := "(I)I" } : Jvm.MethodName)) ∈ lw_tbl := lw_at lw_m10 164 rfl
theorem q2469 : (Jvm.Cond.instanceMethod ({ cls := "MoleBoardModel", name := "neededFrom", desc := "(I)I" } : Jvm.MethodName)) ∈ lw_all := lw_g (lw_at lw_m10 165 rfl) rfl
theorem q2470 : (Jvm.Cond.code ({ cls := "MoleBoardModel", name := "neededFrom", desc := "(I)I" } : Jvm.MethodName) prog_16_method_117_code (5 : Nat) (Option.some Jvm.ClassFile.FieldType.int)) ∈ lw_all := lw_g (lw_at lw_m10 166 rfl) rfl
theorem q2471 : (Jvm.Cond.methodLink "MoleBoardModel" (464 : Nat) ({ cls := "MoleBoardModel", name := "goesAlike", desc := "(III)Z" } : Jvm.MethodName)) ∈ lw_all := lw_g (lw_at lw_m10 167 rfl) rfl
theorem q2472 : (Jvm.Cond.privateMethod ({ cls := "MoleBoardModel", name := "goesAlike", desc := "(III)Z" } : Jvm.MethodName)) ∈ lw_tbl := lw_at lw_m10 168 rfl
theorem q2473 : (Jvm.Cond.instanceMethod ({ cls := "MoleBoardModel", name := "goesAlike", desc := "(III)Z" } : Jvm.MethodName)) ∈ lw_all := lw_g (lw_at lw_m10 169 rfl) rfl
theorem q2474 : (Jvm.Cond.code ({ cls := "MoleBoardModel", name := "goesAlike", desc := "(III)Z" } : Jvm.MethodName) prog_16_method_116_code (5 : Nat) (Option.some Jvm.ClassFile.FieldType.boolean)) ∈ lw_all := lw_g (lw_at lw_m10 170 rfl) rfl
theorem q2476 : (Jvm.Cond.instanceMethod ({ cls := "MoleBoardModel", name := "known", desc := "()I" } : Jvm.MethodName)) ∈ lw_all := lw_g (lw_at lw_m10 172 rfl) rfl
theorem q2477 : (Jvm.Cond.selects "MoleBoardModel" ({ cls := "MoleBoardModel", name := "known", desc := "()I" } : Jvm.MethodName) ({ cls := "MoleBoardModel", name := "known", desc := "()I" } : Jvm.MethodName)) ∈ lw_all := lw_g (lw_at lw_m10 173 rfl) rfl
theorem q2478 : (Jvm.Cond.code ({ cls := "MoleBoardModel", name := "known", desc := "()I" } : Jvm.MethodName) prog_16_method_119_code (4 : Nat) (Option.some Jvm.ClassFile.FieldType.int)) ∈ lw_all := lw_g (lw_at lw_m10 174 rfl) rfl
theorem q2480 : (Jvm.Cond.instanceMethod ({ cls := "MoleBoardModel", name := "rash", desc := "(I)I" } : Jvm.MethodName)) ∈ lw_all := lw_g (lw_at lw_m10 176 rfl) rfl
theorem q2481 : (Jvm.Cond.selects "MoleBoardModel" ({ cls := "MoleBoardModel", name := "rash", desc := "(I)I" } : Jvm.MethodName) ({ cls := "MoleBoardModel", name := "rash", desc := "(I)I" } : Jvm.MethodName)) ∈ lw_all := lw_g (lw_at lw_m10 177 rfl) rfl
theorem q2482 : (Jvm.Cond.code ({ cls := "MoleBoardModel", name := "rash", desc := "(I)I" } : Jvm.MethodName) prog_16_method_121_code (2 : Nat) (Option.some Jvm.ClassFile.FieldType.int)) ∈ lw_all := lw_g (lw_at lw_m10 178 rfl) rfl
theorem q2483 : (Jvm.Cond.methodLink "MoleBoardModel" (471 : Nat) ({ cls := "MoleBoardModel", name := "rashOf", desc := "(I)I" } : Jvm.MethodName)) ∈ lw_all := lw_g (lw_at lw_m10 179 rfl) rfl
theorem q2484 : (Jvm.Cond.privateMethod ({ cls := "MoleBoardModel", name := "rashOf", desc := "(I)I" } : Jvm.MethodName)) ∈ lw_tbl := lw_at lw_m10 180 rfl
theorem q2485 : (Jvm.Cond.instanceMethod ({ cls := "MoleBoardModel", name := "rashOf", desc := "(I)I" } : Jvm.MethodName)) ∈ lw_all := lw_g (lw_at lw_m10 181 rfl) rfl
theorem q2486 : (Jvm.Cond.code ({ cls := "MoleBoardModel", name := "rashOf", desc := "(I)I" } : Jvm.MethodName) prog_16_method_120_code (2 : Nat) (Option.some Jvm.ClassFile.FieldType.int)) ∈ lw_all := lw_g (lw_at lw_m10 182 rfl) rfl
theorem q2488 : (Jvm.Cond.instanceMethod ({ cls := "MoleBoardModel", name := "look", desc := "(II)I" } : Jvm.MethodName)) ∈ lw_all := lw_g (lw_at lw_m10 184 rfl) rfl
theorem q2489 : (Jvm.Cond.selects "MoleBoardModel" ({ cls := "MoleBoardModel", name := "look", desc := "(II)I" } : Jvm.MethodName) ({ cls := "MoleBoardModel", name := "look", desc := "(II)I" } : Jvm.MethodName)) ∈ lw_all := lw_g (lw_at lw_m10 185 rfl) rfl
theorem q2490 : (Jvm.Cond.code ({ cls := "MoleBoardModel", name := "look", desc := "(II)I" } : Jvm.MethodName) prog_16_method_123_code (3 : Nat) (Option.some Jvm.ClassFile.FieldType.int)) ∈ lw_all := lw_g (lw_at lw_m10 186 rfl) rfl
theorem q2491 : (Jvm.Cond.constantLong "MoleBoardModel" (474 : Nat) (20 : Int64)) ∈ lw_all := lw_g (lw_at lw_m10 187 rfl) rfl
theorem q2492 : (Jvm.Cond.methodLink "MoleBoardModel" (476 : Nat) ({ cls := "MoleBoardModel", name := "lookOf", desc := "(II)I" } : Jvm.MethodName)) ∈ lw_all := lw_g (lw_at lw_m10 188 rfl) rfl
theorem q2493 : (Jvm.Cond.privateMethod ({ cls := "MoleBoardModel", name := "lookOf", desc := "(II)I" } : Jvm.MethodName)) ∈ lw_tbl := lw_at lw_m10 189 rfl
theorem q2494 : (Jvm.Cond.instanceMethod ({ cls := "MoleBoardModel", name := "lookOf", desc := "(II)I" } : Jvm.MethodName)) ∈ lw_all := lw_g (lw_at lw_m10 190 rfl) rfl
theorem q2495 : (Jvm.Cond.code ({ cls := "MoleBoardModel", name := "lookOf", desc := "(II)I" } : Jvm.MethodName) prog_16_method_122_code (3 : Nat) (Option.some Jvm.ClassFile.FieldType.int)) ∈ lw_all := lw_g (lw_at lw_m10 191 rfl) rfl
theorem q2497 : (Jvm.Cond.instanceMethod ({ cls := "MoleBoardModel", name := "line", desc := "(I)I" } : Jvm.MethodName)) ∈ lw_all := lw_g (lw_at lw_m10 193 rfl) rfl
theorem q2498 : (Jvm.Cond.selects "MoleBoardModel" ({ cls := "MoleBoardModel", name := "line", desc := "(I)I" } : Jvm.MethodName) ({ cls := "MoleBoardModel", name := "line", desc := "(I)I" } : Jvm.MethodName)) ∈ lw_all := lw_g (lw_at lw_m10 194 rfl) rfl
theorem q2499 : (Jvm.Cond.code ({ cls := "MoleBoardModel", name := "line", desc := "(I)I" } : Jvm.MethodName) prog_16_method_124_code (4 : Nat) (Option.some Jvm.ClassFile.FieldType.int)) ∈ lw_all := lw_g (lw_at lw_m10 195 rfl) rfl
theorem q2501 : (Jvm.Cond.instanceMethod ({ cls := "MoleBoardModel", name := "two", desc := "(III)I" } : Jvm.MethodName)) ∈ lw_all := lw_g (lw_at lw_m10 197 rfl) rfl
theorem q2502 : (Jvm.Cond.selects "MoleBoardModel" ({ cls := "MoleBoardModel", name := "two", desc := "(III)I" } : Jvm.MethodName) ({ cls := "MoleBoardModel", name := "two", desc := "(III)I" } : Jvm.MethodName)) ∈ lw_all := lw_g (lw_at lw_m10 198 rfl) rfl
theorem q2503 : (Jvm.Cond.code ({ cls := "MoleBoardModel", name := "two", desc := "(III)I" } : Jvm.MethodName) prog_16_method_126_code (9 : Nat) (Option.some Jvm.ClassFile.FieldType.int)) ∈ lw_all := lw_g (lw_at lw_m10 199 rfl) rfl
theorem q2504 : (Jvm.Cond.methodLink "MoleBoardModel" (479 : Nat) ({ cls := "MoleBoardModel", name := "hitsOn", desc := "(II)I" } : Jvm.MethodName)) ∈ lw_all := lw_g (lw_at lw_m10 200 rfl) rfl
theorem q2505 : (Jvm.Cond.privateMethod ({ cls := "MoleBoardModel", name := "hitsOn", desc := "(II)I" } : Jvm.MethodName)) ∈ lw_tbl := lw_at lw_m10 201 rfl
theorem q2506 : (Jvm.Cond.instanceMethod ({ cls := "MoleBoardModel", name := "hitsOn", desc := "(II)I" } : Jvm.MethodName)) ∈ lw_all := lw_g (lw_at lw_m10 202 rfl) rfl
theorem q2507 : (Jvm.Cond.code ({ cls := "MoleBoardModel", name := "hitsOn", desc := "(II)I" } : Jvm.MethodName) prog_16_method_125_code (3 : Nat) (Option.some Jvm.ClassFile.FieldType.int)) ∈ lw_all := lw_g (lw_at lw_m10 203 rfl) rfl
theorem q2509 : (Jvm.Cond.instanceMethod ({ cls := "MoleBoardModel", name := "tickets", desc := "(I)I" } : Jvm.MethodName)) ∈ lw_all := lw_g (lw_at lw_m10 205 rfl) rfl
theorem q2510 : (Jvm.Cond.selects "MoleBoardModel" ({ cls := "MoleBoardModel", name := "tickets", desc := "(I)I" } : Jvm.MethodName) ({ cls := "MoleBoardModel", name := "tickets", desc := "(I)I" } : Jvm.MethodName)) ∈ lw_all := lw_g (lw_at lw_m10 206 rfl) rfl
theorem q2511 : (Jvm.Cond.code ({ cls := "MoleBoardModel", name := "tickets", desc := "(I)I" } : Jvm.MethodName) prog_16_method_128_code (2 : Nat) (Option.some Jvm.ClassFile.FieldType.int)) ∈ lw_all := lw_g (lw_at lw_m10 207 rfl) rfl
theorem q2512 : (Jvm.Cond.methodLink "MoleBoardModel" (482 : Nat) ({ cls := "MoleBoardModel", name := "ticketsOf", desc := "(I)I" } : Jvm.MethodName)) ∈ lw_all := lw_g (lw_at lw_m10 208 rfl) rfl
theorem q2513 : (Jvm.Cond.privateMethod ({ cls := "MoleBoardModel", name := "ticketsOf", desc := "(I)I" } : Jvm.MethodName)) ∈ lw_tbl := lw_at lw_m10 209 rfl
theorem q2514 : (Jvm.Cond.instanceMethod ({ cls := "MoleBoardModel", name := "ticketsOf", desc := "(I)I" } : Jvm.MethodName)) ∈ lw_all := lw_g (lw_at lw_m10 210 rfl) rfl
theorem q2515 : (Jvm.Cond.code ({ cls := "MoleBoardModel", name := "ticketsOf", desc := "(I)I" } : Jvm.MethodName) prog_16_method_127_code (2 : Nat) (Option.some Jvm.ClassFile.FieldType.int)) ∈ lw_all := lw_g (lw_at lw_m10 211 rfl) rfl
theorem q2517 : (Jvm.Cond.instanceMethod ({ cls := "MoleBoardModel", name := "prize", desc := "(I)I" } : Jvm.MethodName)) ∈ lw_all := lw_g (lw_at lw_m10 213 rfl) rfl
theorem q2518 : (Jvm.Cond.selects "MoleBoardModel" ({ cls := "MoleBoardModel", name := "prize", desc := "(I)I" } : Jvm.MethodName) ({ cls := "MoleBoardModel", name := "prize", desc := "(I)I" } : Jvm.MethodName)) ∈ lw_all := lw_g (lw_at lw_m10 214 rfl) rfl
theorem q2519 : (Jvm.Cond.code ({ cls := "MoleBoardModel", name := "prize", desc := "(I)I" } : Jvm.MethodName) prog_16_method_129_code (3 : Nat) (Option.some Jvm.ClassFile.FieldType.int)) ∈ lw_all := lw_g (lw_at lw_m10 215 rfl) rfl
theorem q2521 : (Jvm.Cond.instanceMethod ({ cls := "MoleBoardModel", name := "counted", desc := "(I)I" } : Jvm.MethodName)) ∈ lw_all := lw_g (lw_at lw_m10 217 rfl) rfl
theorem q2522 : (Jvm.Cond.selects "MoleBoardModel" ({ cls := "MoleBoardModel", name := "counted", desc := "(I)I" } : Jvm.MethodName) ({ cls := "MoleBoardModel", name := "counted", desc := "(I)I" } : Jvm.MethodName)) ∈ lw_all := lw_g (lw_at lw_m10 218 rfl) rfl
theorem q2523 : (Jvm.Cond.code ({ cls := "MoleBoardModel", name := "counted", desc := "(I)I" } : Jvm.MethodName) prog_16_method_133_code (3 : Nat) (Option.some Jvm.ClassFile.FieldType.int)) ∈ lw_all := lw_g (lw_at lw_m10 219 rfl) rfl
theorem q2524 : (Jvm.Cond.methodLink "MoleBoardModel" (497 : Nat) ({ cls := "MoleBoardModel", name := "asksBlows", desc := "(I)I" } : Jvm.MethodName)) ∈ lw_all := lw_g (lw_at lw_m10 220 rfl) rfl
theorem q2525 : (Jvm.Cond.privateMethod ({ cls := "MoleBoardModel", name := "asksBlows", desc := "(I)I" } : Jvm.MethodName)) ∈ lw_tbl := lw_at lw_m10 221 rfl
theorem q2526 : (Jvm.Cond.instanceMethod ({ cls := "MoleBoardModel", name := "asksBlows", desc := "(I)I" } : Jvm.MethodName)) ∈ lw_all := lw_g (lw_at lw_m10 222 rfl) rfl
theorem q2527 : (Jvm.Cond.code ({ cls := "MoleBoardModel", name := "asksBlows", desc := "(I)I" } : Jvm.MethodName) prog_16_method_130_code (3 : Nat) (Option.some Jvm.ClassFile.FieldType.int)) ∈ lw_all := lw_g (lw_at lw_m10 223 rfl) rfl
theorem q2528 : (Jvm.Cond.methodLink "MoleBoardModel" (500 : Nat) ({ cls := "MoleBoardModel", name := "layBlows", desc := "(II)V" } : Jvm.MethodName)) ∈ lw_all := lw_g (lw_at lw_m10 224 rfl) rfl
theorem q2529 : (Jvm.Cond.privateMethod ({ cls := "MoleBoardModel", name := "layBlows", desc := "(II)V" } : Jvm.MethodName)) ∈ lw_tbl := lw_at lw_m10 225 rfl
theorem q2530 : (Jvm.Cond.instanceMethod ({ cls := "MoleBoardModel", name := "layBlows", desc := "(II)V" } : Jvm.MethodName)) ∈ lw_all := lw_g (lw_at lw_m10 226 rfl) rfl
theorem q2531 : (Jvm.Cond.code ({ cls := "MoleBoardModel", name := "layBlows", desc := "(II)V" } : Jvm.MethodName) prog_16_method_132_code (4 : Nat) (Option.none : Option Jvm.ClassFile.FieldType)) ∈ lw_all := lw_g (lw_at lw_m10 227 rfl) rfl
theorem q2532 : (Jvm.Cond.methodLink "MoleBoardModel" (494 : Nat) ({ cls := "MoleBoardModel", name := "strike", desc := "(III)V" } : Jvm.MethodName)) ∈ lw_all := lw_g (lw_at lw_m10 228 rfl) rfl
theorem q2533 : (Jvm.Cond.privateMethod ({ cls := "MoleBoardModel", name := "strike", desc := "(III)V" } : Jvm.MethodName)) ∈ lw_tbl := lw_at lw_m10 229 rfl
theorem q2534 : (Jvm.Cond.instanceMethod ({ cls := "MoleBoardModel", name := "strike", desc := "(III)V" } : Jvm.MethodName)) ∈ lw_all := lw_g (lw_at lw_m10 230 rfl) rfl
theorem q2535 : (Jvm.Cond.code ({ cls := "MoleBoardModel", name := "strike", desc := "(III)V" } : Jvm.MethodName) prog_16_method_131_code (6 : Nat) (Option.none : Option Jvm.ClassFile.FieldType)) ∈ lw_all := lw_g (lw_at lw_m10 231 rfl) rfl
theorem q2537 : (Jvm.Cond.instanceMethod ({ cls := "MoleBoardModel", name := "scored", desc := "(I)I" } : Jvm.MethodName)) ∈ lw_all := lw_g (lw_at lw_m10 233 rfl) rfl
theorem q2538 : (Jvm.Cond.selects "MoleBoardModel" ({ cls := "MoleBoardModel", name := "scored", desc := "(I)I" } : Jvm.MethodName) ({ cls := "MoleBoardModel", name := "scored", desc := "(I)I" } : Jvm.MethodName)) ∈ lw_all := lw_g (lw_at lw_m10 234 rfl) rfl
theorem q2539 : (Jvm.Cond.code ({ cls := "MoleBoardModel", name := "scored", desc := "(I)I" } : Jvm.MethodName) prog_16_method_134_code (3 : Nat) (Option.some Jvm.ClassFile.FieldType.int)) ∈ lw_all := lw_g (lw_at lw_m10 235 rfl) rfl
theorem q2541 : (Jvm.Cond.instanceMethod ({ cls := "MoleBoardModel", name := "early", desc := "(II)I" } : Jvm.MethodName)) ∈ lw_all := lw_g (lw_at lw_m10 237 rfl) rfl
theorem q2542 : (Jvm.Cond.selects "MoleBoardModel" ({ cls := "MoleBoardModel", name := "early", desc := "(II)I" } : Jvm.MethodName) ({ cls := "MoleBoardModel", name := "early", desc := "(II)I" } : Jvm.MethodName)) ∈ lw_all := lw_g (lw_at lw_m10 238 rfl) rfl
theorem q2543 : (Jvm.Cond.code ({ cls := "MoleBoardModel", name := "early", desc := "(II)I" } : Jvm.MethodName) prog_16_method_135_code (4 : Nat) (Option.some Jvm.ClassFile.FieldType.int)) ∈ lw_all := lw_g (lw_at lw_m10 239 rfl) rfl
theorem q2545 : (Jvm.Cond.instanceMethod ({ cls := "MoleBoardModel", name := "often", desc := "(I)I" } : Jvm.MethodName)) ∈ lw_all := lw_g (lw_at lw_m11 1 rfl) rfl
theorem q2546 : (Jvm.Cond.selects "MoleBoardModel" ({ cls := "MoleBoardModel", name := "often", desc := "(I)I" } : Jvm.MethodName) ({ cls := "MoleBoardModel", name := "often", desc := "(I)I" } : Jvm.MethodName)) ∈ lw_all := lw_g (lw_at lw_m11 2 rfl) rfl
theorem q2547 : (Jvm.Cond.code ({ cls := "MoleBoardModel", name := "often", desc := "(I)I" } : Jvm.MethodName) prog_16_method_137_code (2 : Nat) (Option.some Jvm.ClassFile.FieldType.int)) ∈ lw_all := lw_g (lw_at lw_m11 3 rfl) rfl
theorem q2548 : (Jvm.Cond.methodLink "MoleBoardModel" (503 : Nat) ({ cls := "MoleBoardModel", name := "oftenOf", desc := "(I)I" } : Jvm.MethodName)) ∈ lw_all := lw_g (lw_at lw_m11 4 rfl) rfl
theorem q2549 : (Jvm.Cond.privateMethod ({ cls := "MoleBoardModel", name := "oftenOf", desc := "(I)I" } : Jvm.MethodName)) ∈ lw_tbl := lw_at lw_m11 5 rfl
theorem q2550 : (Jvm.Cond.instanceMethod ({ cls := "MoleBoardModel", name := "oftenOf", desc := "(I)I" } : Jvm.MethodName)) ∈ lw_all := lw_g (lw_at lw_m11 6 rfl) rfl
theorem q2551 : (Jvm.Cond.code ({ cls := "MoleBoardModel", name := "oftenOf", desc := "(I)I" } : Jvm.MethodName) prog_16_method_136_code (4 : Nat) (Option.some Jvm.ClassFile.FieldType.int)) ∈ lw_all := lw_g (lw_at lw_m11 7 rfl) rfl
theorem q2553 : (Jvm.Cond.instanceMethod ({ cls := "MoleBoardModel", name := "balance", desc := "()I" } : Jvm.MethodName)) ∈ lw_all := lw_g (lw_at lw_m11 9 rfl) rfl
theorem q2554 : (Jvm.Cond.selects "MoleBoardModel" ({ cls := "MoleBoardModel", name := "balance", desc := "()I" } : Jvm.MethodName) ({ cls := "MoleBoardModel", name := "balance", desc := "()I" } : Jvm.MethodName)) ∈ lw_all := lw_g (lw_at lw_m11 10 rfl) rfl
theorem q2555 : (Jvm.Cond.code ({ cls := "MoleBoardModel", name := "balance", desc := "()I" } : Jvm.MethodName) prog_16_method_138_code (4 : Nat) (Option.some Jvm.ClassFile.FieldType.int)) ∈ lw_all := lw_g (lw_at lw_m11 11 rfl) rfl
theorem q2557 : (Jvm.Cond.instanceMethod ({ cls := "MoleBoardModel", name := "path", desc := "()I" } : Jvm.MethodName)) ∈ lw_all := lw_g (lw_at lw_m11 13 rfl) rfl
theorem q2558 : (Jvm.Cond.selects "MoleBoardModel" ({ cls := "MoleBoardModel", name := "path", desc := "()I" } : Jvm.MethodName) ({ cls := "MoleBoardModel", name := "path", desc := "()I" } : Jvm.MethodName)) ∈ lw_all := lw_g (lw_at lw_m11 14 rfl) rfl
theorem q2559 : (Jvm.Cond.code ({ cls := "MoleBoardModel", name := "path", desc := "()I" } : Jvm.MethodName) prog_16_method_140_code (1 : Nat) (Option.some Jvm.ClassFile.FieldType.int)) ∈ lw_all := lw_g (lw_at lw_m11 15 rfl) rfl
theorem q2560 : (Jvm.Cond.methodLink "MoleBoardModel" (506 : Nat) ({ cls := "MoleBoardModel", name := "pathOf", desc := "()I" } : Jvm.MethodName)) ∈ lw_all := lw_g (lw_at lw_m11 16 rfl) rfl
theorem q2561 : (Jvm.Cond.privateMethod ({ cls := "MoleBoardModel", name := "pathOf", desc := "()I" } : Jvm.MethodName)) ∈ lw_tbl := lw_at lw_m11 17 rfl
theorem q2562 : (Jvm.Cond.instanceMethod ({ cls := "MoleBoardModel", name := "pathOf", desc := "()I" } : Jvm.MethodName)) ∈ lw_all := lw_g (lw_at lw_m11 18 rfl) rfl
theorem q2563 : (Jvm.Cond.code ({ cls := "MoleBoardModel", name := "pathOf", desc := "()I" } : Jvm.MethodName) prog_16_method_139_code (3 : Nat) (Option.some Jvm.ClassFile.FieldType.int)) ∈ lw_all := lw_g (lw_at lw_m11 19 rfl) rfl
theorem q2565 : (Jvm.Cond.instanceMethod ({ cls := "MoleBoardModel", name := "better", desc := "(I)I" } : Jvm.MethodName)) ∈ lw_all := lw_g (lw_at lw_m11 21 rfl) rfl
theorem q2566 : (Jvm.Cond.selects "MoleBoardModel" ({ cls := "MoleBoardModel", name := "better", desc := "(I)I" } : Jvm.MethodName) ({ cls := "MoleBoardModel", name := "better", desc := "(I)I" } : Jvm.MethodName)) ∈ lw_all := lw_g (lw_at lw_m11 22 rfl) rfl
theorem q2567 : (Jvm.Cond.code ({ cls := "MoleBoardModel", name := "better", desc := "(I)I" } : Jvm.MethodName) prog_16_method_142_code (7 : Nat) (Option.some Jvm.ClassFile.FieldType.int)) ∈ lw_all := lw_g (lw_at lw_m11 23 rfl) rfl
theorem q2568 : (Jvm.Cond.methodLink "MoleBoardModel" (509 : Nat) ({ cls := "MoleBoardModel", name := "trade", desc := "(II)V" } : Jvm.MethodName)) ∈ lw_all := lw_g (lw_at lw_m11 24 rfl) rfl
theorem q2569 : (Jvm.Cond.privateMethod ({ cls := "MoleBoardModel", name := "trade", desc := "(II)V" } : Jvm.MethodName)) ∈ lw_tbl := lw_at lw_m11 25 rfl
theorem q2570 : (Jvm.Cond.instanceMethod ({ cls := "MoleBoardModel", name := "trade", desc := "(II)V" } : Jvm.MethodName)) ∈ lw_all := lw_g (lw_at lw_m11 26 rfl) rfl
theorem q2571 : (Jvm.Cond.code ({ cls := "MoleBoardModel", name := "trade", desc := "(II)V" } : Jvm.MethodName) prog_16_method_141_code (5 : Nat) (Option.none : Option Jvm.ClassFile.FieldType)) ∈ lw_all := lw_g (lw_at lw_m11 27 rfl) rfl
theorem q2573 : (Jvm.Cond.instanceMethod ({ cls := "MoleBoardModel", name := "swap", desc := "(II)I" } : Jvm.MethodName)) ∈ lw_all := lw_g (lw_at lw_m11 29 rfl) rfl
theorem q2574 : (Jvm.Cond.selects "MoleBoardModel" ({ cls := "MoleBoardModel", name := "swap", desc := "(II)I" } : Jvm.MethodName) ({ cls := "MoleBoardModel", name := "swap", desc := "(II)I" } : Jvm.MethodName)) ∈ lw_all := lw_g (lw_at lw_m11 30 rfl) rfl
theorem q2575 : (Jvm.Cond.code ({ cls := "MoleBoardModel", name := "swap", desc := "(II)I" } : Jvm.MethodName) prog_16_method_143_code (3 : Nat) (Option.some Jvm.ClassFile.FieldType.int)) ∈ lw_all := lw_g (lw_at lw_m11 31 rfl) rfl
theorem q2577 : (Jvm.Cond.instanceMethod ({ cls := "MoleBoardModel", name := "paint", desc := "(II)I" } : Jvm.MethodName)) ∈ lw_all := lw_g (lw_at lw_m11 33 rfl) rfl
theorem q2578 : (Jvm.Cond.selects "MoleBoardModel" ({ cls := "MoleBoardModel", name := "paint", desc := "(II)I" } : Jvm.MethodName) ({ cls := "MoleBoardModel", name := "paint", desc := "(II)I" } : Jvm.MethodName)) ∈ lw_all := lw_g (lw_at lw_m11 34 rfl) rfl
theorem q2579 : (Jvm.Cond.code ({ cls := "MoleBoardModel", name := "paint", desc := "(II)I" } : Jvm.MethodName) prog_16_method_144_code (4 : Nat) (Option.some Jvm.ClassFile.FieldType.int)) ∈ lw_all := lw_g (lw_at lw_m11 35 rfl) rfl
theorem q2581 : (Jvm.Cond.instanceMethod ({ cls := "MoleBoardModel", name := "turn", desc := "(I)I" } : Jvm.MethodName)) ∈ lw_all := lw_g (lw_at lw_m11 37 rfl) rfl
theorem q2582 : (Jvm.Cond.selects "MoleBoardModel" ({ cls := "MoleBoardModel", name := "turn", desc := "(I)I" } : Jvm.MethodName) ({ cls := "MoleBoardModel", name := "turn", desc := "(I)I" } : Jvm.MethodName)) ∈ lw_all := lw_g (lw_at lw_m11 38 rfl) rfl
theorem q2583 : (Jvm.Cond.code ({ cls := "MoleBoardModel", name := "turn", desc := "(I)I" } : Jvm.MethodName) prog_16_method_145_code (3 : Nat) (Option.some Jvm.ClassFile.FieldType.int)) ∈ lw_all := lw_g (lw_at lw_m11 39 rfl) rfl
theorem q2585 : (Jvm.Cond.instanceMethod ({ cls := "MoleBoardModel", name := "lucky", desc := "(I)I" } : Jvm.MethodName)) ∈ lw_all := lw_g (lw_at lw_m11 41 rfl) rfl
theorem q2586 : (Jvm.Cond.selects "MoleBoardModel" ({ cls := "MoleBoardModel", name := "lucky", desc := "(I)I" } : Jvm.MethodName) ({ cls := "MoleBoardModel", name := "lucky", desc := "(I)I" } : Jvm.MethodName)) ∈ lw_all := lw_g (lw_at lw_m11 42 rfl) rfl
theorem q2587 : (Jvm.Cond.code ({ cls := "MoleBoardModel", name := "lucky", desc := "(I)I" } : Jvm.MethodName) prog_16_method_146_code (6 : Nat) (Option.some Jvm.ClassFile.FieldType.int)) ∈ lw_all := lw_g (lw_at lw_m11 43 rfl) rfl
theorem q2589 : (Jvm.Cond.instanceMethod ({ cls := "MoleBoardModel", name := "shut", desc := "(II)I" } : Jvm.MethodName)) ∈ lw_all := lw_g (lw_at lw_m11 45 rfl) rfl
theorem q2590 : (Jvm.Cond.selects "MoleBoardModel" ({ cls := "MoleBoardModel", name := "shut", desc := "(II)I" } : Jvm.MethodName) ({ cls := "MoleBoardModel", name := "shut", desc := "(II)I" } : Jvm.MethodName)) ∈ lw_all := lw_g (lw_at lw_m11 46 rfl) rfl
theorem q2591 : (Jvm.Cond.code ({ cls := "MoleBoardModel", name := "shut", desc := "(II)I" } : Jvm.MethodName) prog_16_method_147_code (4 : Nat) (Option.some Jvm.ClassFile.FieldType.int)) ∈ lw_all := lw_g (lw_at lw_m11 47 rfl) rfl
theorem q2593 : (Jvm.Cond.instanceMethod ({ cls := "MoleBoardModel", name := "train", desc := "(III)I" } : Jvm.MethodName)) ∈ lw_all := lw_g (lw_at lw_m11 49 rfl) rfl
theorem q2594 : (Jvm.Cond.selects "MoleBoardModel" ({ cls := "MoleBoardModel", name := "train", desc := "(III)I" } : Jvm.MethodName) ({ cls := "MoleBoardModel", name := "train", desc := "(III)I" } : Jvm.MethodName)) ∈ lw_all := lw_g (lw_at lw_m11 50 rfl) rfl
theorem q2595 : (Jvm.Cond.code ({ cls := "MoleBoardModel", name := "train", desc := "(III)I" } : Jvm.MethodName) prog_16_method_148_code (6 : Nat) (Option.some Jvm.ClassFile.FieldType.int)) ∈ lw_all := lw_g (lw_at lw_m11 51 rfl) rfl
theorem q2596 : (Jvm.Cond.constantLong "MoleBoardModel" (512 : Nat) (99 : Int64)) ∈ lw_all := lw_g (lw_at lw_m11 52 rfl) rfl
theorem q2598 : (Jvm.Cond.instanceMethod ({ cls := "MoleBoardModel", name := "drawn", desc := "(III)I" } : Jvm.MethodName)) ∈ lw_all := lw_g (lw_at lw_m11 54 rfl) rfl
theorem q2599 : (Jvm.Cond.selects "MoleBoardModel" ({ cls := "MoleBoardModel", name := "drawn", desc := "(III)I" } : Jvm.MethodName) ({ cls := "MoleBoardModel", name := "drawn", desc := "(III)I" } : Jvm.MethodName)) ∈ lw_all := lw_g (lw_at lw_m11 55 rfl) rfl
theorem q2600 : (Jvm.Cond.code ({ cls := "MoleBoardModel", name := "drawn", desc := "(III)I" } : Jvm.MethodName) prog_16_method_153_code (4 : Nat) (Option.some Jvm.ClassFile.FieldType.int)) ∈ lw_all := lw_g (lw_at lw_m11 56 rfl) rfl
theorem q2601 : (Jvm.Cond.methodLink "MoleBoardModel" (534 : Nat) ({ cls := "MoleBoardModel", name := "isSeed", desc := "(I)Z" } : Jvm.MethodName)) ∈ lw_all := lw_g (lw_at lw_m11 57 rfl) rfl
theorem q2602 : (Jvm.Cond.static ({ cls := "MoleBoardModel", name := "isSeed", desc := "(I)Z" } : Jvm.MethodName)) ∈ lw_all := lw_g (lw_at lw_m11 58 rfl) rfl
theorem q2603 : (Jvm.Cond.code ({ cls := "MoleBoardModel", name := "isSeed", desc := "(I)Z" } : Jvm.MethodName) prog_16_method_152_code (1 : Nat) (Option.some Jvm.ClassFile.FieldType.boolean)) ∈ lw_all := lw_g (lw_at lw_m11 59 rfl) rfl
theorem q2604 : (Jvm.Cond.constantLong "MoleBoardModel" (532 : Nat) (2000000000 : Int64)) ∈ lw_all := lw_g (lw_at lw_m11 60 rfl) rfl
theorem q2605 : (Jvm.Cond.methodLink "MoleBoardModel" (537 : Nat) ({ cls := "MoleBoardModel", name := "layNight", desc := "(JI)V" } : Jvm.MethodName)) ∈ lw_all := lw_g (lw_at lw_m11 61 rfl) rfl
theorem q2606 : (Jvm.Cond.privateMethod ({ cls := "MoleBoardModel", name := "layNight", desc := "(JI)V" } : Jvm.MethodName)) ∈ lw_tbl := lw_at lw_m11 62 rfl
theorem q2607 : (Jvm.Cond.instanceMethod ({ cls := "MoleBoardModel", name := "layNight", desc := "(JI)V" } : Jvm.MethodName)) ∈ lw_all := lw_g (lw_at lw_m11 63 rfl) rfl
theorem q2608 : (Jvm.Cond.code ({ cls := "MoleBoardModel", name := "layNight", desc := "(JI)V" } : Jvm.MethodName) prog_16_method_151_code (5 : Nat) (Option.none : Option Jvm.ClassFile.FieldType)) ∈ lw_all := lw_g (lw_at lw_m11 64 rfl) rfl
theorem q2609 : (Jvm.Cond.methodLink "MoleBoardModel" (529 : Nat) ({ cls := "MoleBoardModel", name := "holeByLot", desc := "(I)I" } : Jvm.MethodName)) ∈ lw_all := lw_g (lw_at lw_m11 65 rfl) rfl
theorem q2610 : (Jvm.Cond.privateMethod ({ cls := "MoleBoardModel", name := "holeByLot", desc := "(I)I" } : Jvm.MethodName)) ∈ lw_tbl := lw_at lw_m11 66 rfl
theorem q2611 : (Jvm.Cond.instanceMethod ({ cls := "MoleBoardModel", name := "holeByLot", desc := "(I)I" } : Jvm.MethodName)) ∈ lw_all := lw_g (lw_at lw_m11 67 rfl) rfl
theorem q2612 : (Jvm.Cond.code ({ cls := "MoleBoardModel", name := "holeByLot", desc := "(I)I" } : Jvm.MethodName) prog_16_method_150_code (7 : Nat) (Option.some Jvm.ClassFile.FieldType.int)) ∈ lw_all := lw_g (lw_at lw_m11 68 rfl) rfl
theorem q2613 : (Jvm.Cond.methodLink "MoleBoardModel" (526 : Nat) ({ cls := "MoleBoardModel", name := "draw", desc := "(I)I" } : Jvm.MethodName)) ∈ lw_all := lw_g (lw_at lw_m11 69 rfl) rfl
theorem q2614 : (Jvm.Cond.privateMethod ({ cls := "MoleBoardModel", name := "draw", desc := "(I)I" } : Jvm.MethodName)) ∈ lw_tbl := lw_at lw_m11 70 rfl
theorem q2615 : (Jvm.Cond.instanceMethod ({ cls := "MoleBoardModel", name := "draw", desc := "(I)I" } : Jvm.MethodName)) ∈ lw_all := lw_g (lw_at lw_m11 71 rfl) rfl
theorem q2616 : (Jvm.Cond.code ({ cls := "MoleBoardModel", name := "draw", desc := "(I)I" } : Jvm.MethodName) prog_16_method_149_code (2 : Nat) (Option.some Jvm.ClassFile.FieldType.int)) ∈ lw_all := lw_g (lw_at lw_m11 72 rfl) rfl
theorem q2617 : (Jvm.Cond.constantLong "MoleBoardModel" (514 : Nat) (1103515245 : Int64)) ∈ lw_all := lw_g (lw_at lw_m11 73 rfl) rfl
theorem q2618 : (Jvm.Cond.constantLong "MoleBoardModel" (520 : Nat) (12345 : Int64)) ∈ lw_all := lw_g (lw_at lw_m11 74 rfl) rfl
theorem q2619 : (Jvm.Cond.constantLong "MoleBoardModel" (522 : Nat) (2147483648 : Int64)) ∈ lw_all := lw_g (lw_at lw_m11 75 rfl) rfl
theorem q2620 : (Jvm.Cond.constantLong "MoleBoardModel" (524 : Nat) (65536 : Int64)) ∈ lw_all := lw_g (lw_at lw_m11 76 rfl) rfl
theorem q2622 : (Jvm.Cond.instanceMethod ({ cls := "MoleBoardModel", name := "night", desc := "(III)I" } : Jvm.MethodName)) ∈ lw_all := lw_g (lw_at lw_m11 78 rfl) rfl
theorem q2623 : (Jvm.Cond.selects "MoleBoardModel" ({ cls := "MoleBoardModel", name := "night", desc := "(III)I" } : Jvm.MethodName) ({ cls := "MoleBoardModel", name := "night", desc := "(III)I" } : Jvm.MethodName)) ∈ lw_all := lw_g (lw_at lw_m11 79 rfl) rfl
theorem q2624 : (Jvm.Cond.code ({ cls := "MoleBoardModel", name := "night", desc := "(III)I" } : Jvm.MethodName) prog_16_method_155_code (4 : Nat) (Option.some Jvm.ClassFile.FieldType.int)) ∈ lw_all := lw_g (lw_at lw_m11 80 rfl) rfl
theorem q2625 : (Jvm.Cond.methodLink "MoleBoardModel" (541 : Nat) ({ cls := "MoleBoardModel", name := "nightOf", desc := "(JII)I" } : Jvm.MethodName)) ∈ lw_all := lw_g (lw_at lw_m11 81 rfl) rfl
theorem q2626 : (Jvm.Cond.privateMethod ({ cls := "MoleBoardModel", name := "nightOf", desc := "(JII)I" } : Jvm.MethodName)) ∈ lw_tbl := lw_at lw_m11 82 rfl
theorem q2627 : (Jvm.Cond.instanceMethod ({ cls := "MoleBoardModel", name := "nightOf", desc := "(JII)I" } : Jvm.MethodName)) ∈ lw_all := lw_g (lw_at lw_m11 83 rfl) rfl
theorem q2628 : (Jvm.Cond.code ({ cls := "MoleBoardModel", name := "nightOf", desc := "(JII)I" } : Jvm.MethodName) prog_16_method_154_code (5 : Nat) (Option.some Jvm.ClassFile.FieldType.int)) ∈ lw_all := lw_g (lw_at lw_m11 84 rfl) rfl
theorem q2630 : (Jvm.Cond.instanceMethod ({ cls := "MoleBoardModel", name := "years", desc := "(IIII)I" } : Jvm.MethodName)) ∈ lw_all := lw_g (lw_at lw_m11 86 rfl) rfl
theorem q2631 : (Jvm.Cond.selects "MoleBoardModel" ({ cls := "MoleBoardModel", name := "years", desc := "(IIII)I" } : Jvm.MethodName) ({ cls := "MoleBoardModel", name := "years", desc := "(IIII)I" } : Jvm.MethodName)) ∈ lw_all := lw_g (lw_at lw_m11 87 rfl) rfl
theorem q2632 : (Jvm.Cond.code ({ cls := "MoleBoardModel", name := "years", desc := "(IIII)I" } : Jvm.MethodName) prog_16_method_156_code (7 : Nat) (Option.some Jvm.ClassFile.FieldType.int)) ∈ lw_all := lw_g (lw_at lw_m11 88 rfl) rfl
theorem q2634 : (Jvm.Cond.instanceMethod ({ cls := "MoleBoardModel", name := "count", desc := "(I)I" } : Jvm.MethodName)) ∈ lw_all := lw_g (lw_at lw_m11 90 rfl) rfl
theorem q2635 : (Jvm.Cond.selects "MoleBoardModel" ({ cls := "MoleBoardModel", name := "count", desc := "(I)I" } : Jvm.MethodName) ({ cls := "MoleBoardModel", name := "count", desc := "(I)I" } : Jvm.MethodName)) ∈ lw_all := lw_g (lw_at lw_m11 91 rfl) rfl
theorem q2636 : (Jvm.Cond.code ({ cls := "MoleBoardModel", name := "count", desc := "(I)I" } : Jvm.MethodName) prog_16_method_157_code (4 : Nat) (Option.some Jvm.ClassFile.FieldType.int)) ∈ lw_all := lw_g (lw_at lw_m11 92 rfl) rfl
theorem q2638 : (Jvm.Cond.instanceMethod ({ cls := "MoleBoardModel", name := "row", desc := "(III)I" } : Jvm.MethodName)) ∈ lw_all := lw_g (lw_at lw_m11 94 rfl) rfl
theorem q2639 : (Jvm.Cond.selects "MoleBoardModel" ({ cls := "MoleBoardModel", name := "row", desc := "(III)I" } : Jvm.MethodName) ({ cls := "MoleBoardModel", name := "row", desc := "(III)I" } : Jvm.MethodName)) ∈ lw_all := lw_g (lw_at lw_m11 95 rfl) rfl
theorem q2640 : (Jvm.Cond.code ({ cls := "MoleBoardModel", name := "row", desc := "(III)I" } : Jvm.MethodName) prog_16_method_160_code (5 : Nat) (Option.some Jvm.ClassFile.FieldType.int)) ∈ lw_all := lw_g (lw_at lw_m11 96 rfl) rfl
theorem q2642 : (Jvm.Cond.instanceMethod ({ cls := "MoleBoardModel", name := "write", desc := "(IIJ)I" } : Jvm.MethodName)) ∈ lw_all := lw_g (lw_at lw_m11 98 rfl) rfl
theorem q2643 : (Jvm.Cond.selects "MoleBoardModel" ({ cls := "MoleBoardModel", name := "write", desc := "(IIJ)I" } : Jvm.MethodName) ({ cls := "MoleBoardModel", name := "write", desc := "(IIJ)I" } : Jvm.MethodName)) ∈ lw_all := lw_g (lw_at lw_m11 99 rfl) rfl
theorem q2644 : (Jvm.Cond.code ({ cls := "MoleBoardModel", name := "write", desc := "(IIJ)I" } : Jvm.MethodName) prog_16_method_161_code (5 : Nat) (Option.some Jvm.ClassFile.FieldType.int)) ∈ lw_all := lw_g (lw_at lw_m11 100 rfl) rfl
theorem q2645 : (Jvm.Cond.methodLink "MoleBoardModel" (545 : Nat) ({ cls := "MoleBoardModel", name := "cut", desc := "(JI)J" } : Jvm.MethodName)) ∈ lw_all := lw_g (lw_at lw_m11 101 rfl) rfl
theorem q2646 : (Jvm.Cond.static ({ cls := "MoleBoardModel", name := "cut", desc := "(JI)J" } : Jvm.MethodName)) ∈ lw_all := lw_g (lw_at lw_m11 102 rfl) rfl
theorem q2647 : (Jvm.Cond.code ({ cls := "MoleBoardModel", name := "cut", desc := "(JI)J" } : Jvm.MethodName) prog_16_method_159_code (4 : Nat) (Option.some Jvm.ClassFile.FieldType.long)) ∈ lw_all := lw_g (lw_at lw_m11 103 rfl) rfl
theorem q2649 : (Jvm.Cond.instanceMethod ({ cls := "MoleBoardModel", name := "paste", desc := "(IIIII)I" } : Jvm.MethodName)) ∈ lw_all := lw_g (lw_at lw_m11 105 rfl) rfl
theorem q2650 : (Jvm.Cond.selects "MoleBoardModel" ({ cls := "MoleBoardModel", name := "paste", desc := "(IIIII)I" } : Jvm.MethodName) ({ cls := "MoleBoardModel", name := "paste", desc := "(IIIII)I" } : Jvm.MethodName)) ∈ lw_all := lw_g (lw_at lw_m11 106 rfl) rfl
theorem q2651 : (Jvm.Cond.code ({ cls := "MoleBoardModel", name := "paste", desc := "(IIIII)I" } : Jvm.MethodName) prog_16_method_162_code (7 : Nat) (Option.some Jvm.ClassFile.FieldType.int)) ∈ lw_all := lw_g (lw_at lw_m11 107 rfl) rfl
theorem q2667 : (Jvm.Cond.castable "MoleBoardModel" "java/lang/Object") ∈ lw_tbl := lw_at lw_m11 123 rfl
