/-! MoleBoard -/
set_option maxRecDepth 100000
set_option maxRecDepth 100000 in
set_option maxRecDepth 100000 in
abbrev cX0_row : ByteArray := prog_1_method_4_code
def yX0_row : MethodName := ⟨RX0, "row", "(III)I"⟩
def dkwX0_row_2 : List UInt8 := [16, 253, 172]
abbrev dktX0_row_2 : List UInt8 := dkwX0_row_2 ++ []
def dkwX0_row_1 : List UInt8 := [164, 0, 6, 16, 254, 172, 42, 180, 0, 13, 27, 50, 28, 29, 182, 0, 17, 153, 0, 7, 3, 167, 0, 5]
abbrev dktX0_row_1 : List UInt8 := dkwX0_row_1 ++ dktX0_row_2
def dkwX0_row_0 : List UInt8 := [27, 184, 0, 9, 153, 0, 21, 28, 133, 9, 20, 0, 3, 184, 0, 5, 153, 0, 9, 29, 16, 60]
abbrev dktX0_row_0 : List UInt8 := dkwX0_row_0 ++ dktX0_row_1
theorem dksX0_row_0 : cX0_row.data.toList.drop 0 = dktX0_row_0 := by decide +kernel
theorem dksX0_row_1 : cX0_row.data.toList.drop 22 = dktX0_row_1 := dk_seg dksX0_row_0 22 rfl rfl
theorem dksX0_row_2 : cX0_row.data.toList.drop 46 = dktX0_row_2 := dk_seg dksX0_row_1 24 rfl rfl
theorem dX0_row_0 : decode cX0_row 0 = .ok (.iload_n 1, 1) := dk_27 (dk_at dksX0_row_0 0 rfl rfl)
theorem dX0_row_1 : decode cX0_row 1 = .ok (.invokestatic 9, 3) := dk_184 0 9 (dk_at dksX0_row_0 1 rfl rfl)
theorem dX0_row_4 : decode cX0_row 4 = .ok (.ifCond .eq 21, 3) := dk_153 0 21 (dk_at dksX0_row_0 4 rfl rfl)
theorem dX0_row_7 : decode cX0_row 7 = .ok (.iload_n 2, 1) := dk_28 (dk_at dksX0_row_0 7 rfl rfl)
theorem dX0_row_8 : decode cX0_row 8 = .ok (.i2l, 1) := dk_133 (dk_at dksX0_row_0 8 rfl rfl)
theorem dX0_row_9 : decode cX0_row 9 = .ok (.lconst 0, 1) := dk_9 (dk_at dksX0_row_0 9 rfl rfl)
theorem dX0_row_10 : decode cX0_row 10 = .ok (.ldc2_w 3, 3) := dk_20 0 3 (dk_at dksX0_row_0 10 rfl rfl)
theorem dX0_row_13 : decode cX0_row 13 = .ok (.invokestatic 5, 3) := dk_184 0 5 (dk_at dksX0_row_0 13 rfl rfl)
theorem dX0_row_16 : decode cX0_row 16 = .ok (.ifCond .eq 9, 3) := dk_153 0 9 (dk_at dksX0_row_0 16 rfl rfl)
theorem dX0_row_19 : decode cX0_row 19 = .ok (.iload_n 3, 1) := dk_29 (dk_at dksX0_row_0 19 rfl rfl)
theorem dX0_row_20 : decode cX0_row 20 = .ok (.bipush 60, 2) := dk_16 60 (dk_at dksX0_row_0 20 rfl rfl)
theorem dX0_row_22 : decode cX0_row 22 = .ok (.if_icmp .le 6, 3) := dk_164 0 6 (dk_at dksX0_row_1 0 rfl rfl)
theorem dX0_row_25 : decode cX0_row 25 = .ok (.bipush (-2), 2) := dk_16 254 (dk_at dksX0_row_1 3 rfl rfl)
theorem dX0_row_27 : decode cX0_row 27 = .ok (.ireturn, 1) := dk_172 (dk_at dksX0_row_1 5 rfl rfl)
theorem dX0_row_28 : decode cX0_row 28 = .ok (.aload_n 0, 1) := dk_42 (dk_at dksX0_row_1 6 rfl rfl)
theorem dX0_row_29 : decode cX0_row 29 = .ok (.getfield 13, 3) := dk_180 0 13 (dk_at dksX0_row_1 7 rfl rfl)
theorem dX0_row_32 : decode cX0_row 32 = .ok (.iload_n 1, 1) := dk_27 (dk_at dksX0_row_1 10 rfl rfl)
theorem dX0_row_33 : decode cX0_row 33 = .ok (.aaload, 1) := dk_50 (dk_at dksX0_row_1 11 rfl rfl)
theorem dX0_row_34 : decode cX0_row 34 = .ok (.iload_n 2, 1) := dk_28 (dk_at dksX0_row_1 12 rfl rfl)
theorem dX0_row_35 : decode cX0_row 35 = .ok (.iload_n 3, 1) := dk_29 (dk_at dksX0_row_1 13 rfl rfl)
theorem dX0_row_36 : decode cX0_row 36 = .ok (.invokevirtual 17, 3) := dk_182 0 17 (dk_at dksX0_row_1 14 rfl rfl)
theorem dX0_row_39 : decode cX0_row 39 = .ok (.ifCond .eq 7, 3) := dk_153 0 7 (dk_at dksX0_row_1 17 rfl rfl)
theorem dX0_row_42 : decode cX0_row 42 = .ok (.iconst 0, 1) := dk_3 (dk_at dksX0_row_1 20 rfl rfl)
theorem dX0_row_43 : decode cX0_row 43 = .ok (.goto 5, 3) := dk_167 0 5 (dk_at dksX0_row_1 21 rfl rfl)
theorem dX0_row_46 : decode cX0_row 46 = .ok (.bipush (-3), 2) := dk_16 253 (dk_at dksX0_row_2 0 rfl rfl)
theorem dX0_row_48 : decode cX0_row 48 = .ok (.ireturn, 1) := dk_172 (dk_at dksX0_row_2 2 rfl rfl)
abbrev cX0_isSlot : ByteArray := prog_1_method_3_code
def yX0_isSlot : MethodName := ⟨RX0, "isSlot", "(I)Z"⟩
def dkwX0_isSlot_0 : List UInt8 := [26, 133, 9, 20, 0, 3, 184, 0, 5, 172]
abbrev dktX0_isSlot_0 : List UInt8 := dkwX0_isSlot_0 ++ []
theorem dksX0_isSlot_0 : cX0_isSlot.data.toList.drop 0 = dktX0_isSlot_0 := by decide +kernel
theorem dX0_isSlot_0 : decode cX0_isSlot 0 = .ok (.iload_n 0, 1) := dk_26 (dk_at dksX0_isSlot_0 0 rfl rfl)
theorem dX0_isSlot_1 : decode cX0_isSlot 1 = .ok (.i2l, 1) := dk_133 (dk_at dksX0_isSlot_0 1 rfl rfl)
theorem dX0_isSlot_2 : decode cX0_isSlot 2 = .ok (.lconst 0, 1) := dk_9 (dk_at dksX0_isSlot_0 2 rfl rfl)
theorem dX0_isSlot_3 : decode cX0_isSlot 3 = .ok (.ldc2_w 3, 3) := dk_20 0 3 (dk_at dksX0_isSlot_0 3 rfl rfl)
theorem dX0_isSlot_6 : decode cX0_isSlot 6 = .ok (.invokestatic 5, 3) := dk_184 0 5 (dk_at dksX0_isSlot_0 6 rfl rfl)
theorem dX0_isSlot_9 : decode cX0_isSlot 9 = .ok (.ireturn, 1) := dk_172 (dk_at dksX0_isSlot_0 9 rfl rfl)
abbrev cX0_in : ByteArray := prog_1_method_1_code
def yX0_in : MethodName := ⟨RX0, "in", "(JJJ)Z"⟩
def dkwX0_in_0 : List UInt8 := [30, 32, 148, 155, 0, 14, 30, 22, 4, 148, 157, 0, 7, 4, 167, 0, 4, 3, 172]
abbrev dktX0_in_0 : List UInt8 := dkwX0_in_0 ++ []
theorem dksX0_in_0 : cX0_in.data.toList.drop 0 = dktX0_in_0 := by decide +kernel
theorem dX0_in_0 : decode cX0_in 0 = .ok (.lload_n 0, 1) := dk_30 (dk_at dksX0_in_0 0 rfl rfl)
theorem dX0_in_1 : decode cX0_in 1 = .ok (.lload_n 2, 1) := dk_32 (dk_at dksX0_in_0 1 rfl rfl)
theorem dX0_in_2 : decode cX0_in 2 = .ok (.lcmp, 1) := dk_148 (dk_at dksX0_in_0 2 rfl rfl)
theorem dX0_in_3 : decode cX0_in 3 = .ok (.ifCond .lt 14, 3) := dk_155 0 14 (dk_at dksX0_in_0 3 rfl rfl)
theorem dX0_in_6 : decode cX0_in 6 = .ok (.lload_n 0, 1) := dk_30 (dk_at dksX0_in_0 6 rfl rfl)
theorem dX0_in_7 : decode cX0_in 7 = .ok (.lload 4, 2) := dk_22 4 (dk_at dksX0_in_0 7 rfl rfl)
theorem dX0_in_9 : decode cX0_in 9 = .ok (.lcmp, 1) := dk_148 (dk_at dksX0_in_0 9 rfl rfl)
theorem dX0_in_10 : decode cX0_in 10 = .ok (.ifCond .gt 7, 3) := dk_157 0 7 (dk_at dksX0_in_0 10 rfl rfl)
theorem dX0_in_13 : decode cX0_in 13 = .ok (.iconst 1, 1) := dk_4 (dk_at dksX0_in_0 13 rfl rfl)
theorem dX0_in_14 : decode cX0_in 14 = .ok (.goto 4, 3) := dk_167 0 4 (dk_at dksX0_in_0 14 rfl rfl)
theorem dX0_in_17 : decode cX0_in 17 = .ok (.iconst 0, 1) := dk_3 (dk_at dksX0_in_0 17 rfl rfl)
theorem dX0_in_18 : decode cX0_in 18 = .ok (.ireturn, 1) := dk_172 (dk_at dksX0_in_0 18 rfl rfl)
abbrev cX0_write : ByteArray := prog_1_method_5_code
def yX0_write : MethodName := ⟨RX0, "write", "(IIJ)I"⟩
def dkwX0_write_0 : List UInt8 := [27, 184, 0, 9, 153, 0, 17, 42, 180, 0, 13, 27, 50, 28, 33, 182, 0, 23, 167, 0, 5, 16, 254, 172]
abbrev dktX0_write_0 : List UInt8 := dkwX0_write_0 ++ []
theorem dksX0_write_0 : cX0_write.data.toList.drop 0 = dktX0_write_0 := by decide +kernel
theorem dX0_write_0 : decode cX0_write 0 = .ok (.iload_n 1, 1) := dk_27 (dk_at dksX0_write_0 0 rfl rfl)
theorem dX0_write_1 : decode cX0_write 1 = .ok (.invokestatic 9, 3) := dk_184 0 9 (dk_at dksX0_write_0 1 rfl rfl)
theorem dX0_write_4 : decode cX0_write 4 = .ok (.ifCond .eq 17, 3) := dk_153 0 17 (dk_at dksX0_write_0 4 rfl rfl)
theorem dX0_write_7 : decode cX0_write 7 = .ok (.aload_n 0, 1) := dk_42 (dk_at dksX0_write_0 7 rfl rfl)
theorem dX0_write_8 : decode cX0_write 8 = .ok (.getfield 13, 3) := dk_180 0 13 (dk_at dksX0_write_0 8 rfl rfl)
theorem dX0_write_11 : decode cX0_write 11 = .ok (.iload_n 1, 1) := dk_27 (dk_at dksX0_write_0 11 rfl rfl)
theorem dX0_write_12 : decode cX0_write 12 = .ok (.aaload, 1) := dk_50 (dk_at dksX0_write_0 12 rfl rfl)
theorem dX0_write_13 : decode cX0_write 13 = .ok (.iload_n 2, 1) := dk_28 (dk_at dksX0_write_0 13 rfl rfl)
theorem dX0_write_14 : decode cX0_write 14 = .ok (.lload_n 3, 1) := dk_33 (dk_at dksX0_write_0 14 rfl rfl)
theorem dX0_write_15 : decode cX0_write 15 = .ok (.invokevirtual 23, 3) := dk_182 0 23 (dk_at dksX0_write_0 15 rfl rfl)
theorem dX0_write_18 : decode cX0_write 18 = .ok (.goto 5, 3) := dk_167 0 5 (dk_at dksX0_write_0 18 rfl rfl)
theorem dX0_write_21 : decode cX0_write 21 = .ok (.bipush (-2), 2) := dk_16 254 (dk_at dksX0_write_0 21 rfl rfl)
theorem dX0_write_23 : decode cX0_write 23 = .ok (.ireturn, 1) := dk_172 (dk_at dksX0_write_0 23 rfl rfl)
abbrev cX0_paste : ByteArray := prog_1_method_6_code
def yX0_paste : MethodName := ⟨RX0, "paste", "(IIIII)I"⟩
def dkwX0_paste_1 : List UInt8 := [180, 0, 13, 29, 50, 21, 4, 21, 5, 182, 0, 27, 167, 0, 5, 16, 254, 172]
abbrev dktX0_paste_1 : List UInt8 := dkwX0_paste_1 ++ []
def dkwX0_paste_0 : List UInt8 := [27, 184, 0, 9, 153, 0, 33, 29, 184, 0, 9, 153, 0, 26, 42, 180, 0, 13, 27, 50, 28, 42]
abbrev dktX0_paste_0 : List UInt8 := dkwX0_paste_0 ++ dktX0_paste_1
theorem dksX0_paste_0 : cX0_paste.data.toList.drop 0 = dktX0_paste_0 := by decide +kernel
theorem dksX0_paste_1 : cX0_paste.data.toList.drop 22 = dktX0_paste_1 := dk_seg dksX0_paste_0 22 rfl rfl
theorem dX0_paste_0 : decode cX0_paste 0 = .ok (.iload_n 1, 1) := dk_27 (dk_at dksX0_paste_0 0 rfl rfl)
theorem dX0_paste_1 : decode cX0_paste 1 = .ok (.invokestatic 9, 3) := dk_184 0 9 (dk_at dksX0_paste_0 1 rfl rfl)
theorem dX0_paste_4 : decode cX0_paste 4 = .ok (.ifCond .eq 33, 3) := dk_153 0 33 (dk_at dksX0_paste_0 4 rfl rfl)
theorem dX0_paste_7 : decode cX0_paste 7 = .ok (.iload_n 3, 1) := dk_29 (dk_at dksX0_paste_0 7 rfl rfl)
theorem dX0_paste_8 : decode cX0_paste 8 = .ok (.invokestatic 9, 3) := dk_184 0 9 (dk_at dksX0_paste_0 8 rfl rfl)
theorem dX0_paste_11 : decode cX0_paste 11 = .ok (.ifCond .eq 26, 3) := dk_153 0 26 (dk_at dksX0_paste_0 11 rfl rfl)
theorem dX0_paste_14 : decode cX0_paste 14 = .ok (.aload_n 0, 1) := dk_42 (dk_at dksX0_paste_0 14 rfl rfl)
theorem dX0_paste_15 : decode cX0_paste 15 = .ok (.getfield 13, 3) := dk_180 0 13 (dk_at dksX0_paste_0 15 rfl rfl)
theorem dX0_paste_18 : decode cX0_paste 18 = .ok (.iload_n 1, 1) := dk_27 (dk_at dksX0_paste_0 18 rfl rfl)
theorem dX0_paste_19 : decode cX0_paste 19 = .ok (.aaload, 1) := dk_50 (dk_at dksX0_paste_0 19 rfl rfl)
theorem dX0_paste_20 : decode cX0_paste 20 = .ok (.iload_n 2, 1) := dk_28 (dk_at dksX0_paste_0 20 rfl rfl)
theorem dX0_paste_21 : decode cX0_paste 21 = .ok (.aload_n 0, 1) := dk_42 (dk_at dksX0_paste_0 21 rfl rfl)
theorem dX0_paste_22 : decode cX0_paste 22 = .ok (.getfield 13, 3) := dk_180 0 13 (dk_at dksX0_paste_1 0 rfl rfl)
theorem dX0_paste_25 : decode cX0_paste 25 = .ok (.iload_n 3, 1) := dk_29 (dk_at dksX0_paste_1 3 rfl rfl)
theorem dX0_paste_26 : decode cX0_paste 26 = .ok (.aaload, 1) := dk_50 (dk_at dksX0_paste_1 4 rfl rfl)
theorem dX0_paste_27 : decode cX0_paste 27 = .ok (.iload 4, 2) := dk_21 4 (dk_at dksX0_paste_1 5 rfl rfl)
theorem dX0_paste_29 : decode cX0_paste 29 = .ok (.iload 5, 2) := dk_21 5 (dk_at dksX0_paste_1 7 rfl rfl)
theorem dX0_paste_31 : decode cX0_paste 31 = .ok (.invokevirtual 27, 3) := dk_182 0 27 (dk_at dksX0_paste_1 9 rfl rfl)
theorem dX0_paste_34 : decode cX0_paste 34 = .ok (.goto 5, 3) := dk_167 0 5 (dk_at dksX0_paste_1 12 rfl rfl)
theorem dX0_paste_37 : decode cX0_paste 37 = .ok (.bipush (-2), 2) := dk_16 254 (dk_at dksX0_paste_1 15 rfl rfl)
theorem dX0_paste_39 : decode cX0_paste 39 = .ok (.ireturn, 1) := dk_172 (dk_at dksX0_paste_1 17 rfl rfl)
abbrev cX0_init : ByteArray := prog_1_method_7_code
def yX0_init : MethodName := ⟨RX0, "<init>", "()V"⟩
def dkwX0_init_6 : List UInt8 := [181, 0, 90, 42, 187, 0, 94, 89, 42, 183, 0, 96, 181, 0, 97, 177]
abbrev dktX0_init_6 : List UInt8 := dkwX0_init_6 ++ []
def dkwX0_init_5 : List UInt8 := [181, 0, 76, 42, 187, 0, 80, 89, 42, 183, 0, 82, 181, 0, 83, 42, 187, 0, 87, 89, 42, 183, 0, 89]
abbrev dktX0_init_5 : List UInt8 := dkwX0_init_5 ++ dktX0_init_6
def dkwX0_init_4 : List UInt8 := [181, 0, 62, 42, 187, 0, 66, 89, 42, 183, 0, 68, 181, 0, 69, 42, 187, 0, 73, 89, 42, 183, 0, 75]
abbrev dktX0_init_4 : List UInt8 := dkwX0_init_4 ++ dktX0_init_5
def dkwX0_init_3 : List UInt8 := [17, 4, 176, 188, 8, 181, 0, 49, 42, 2, 181, 0, 53, 42, 187, 0, 57, 89, 42, 183, 0, 59]
abbrev dktX0_init_3 : List UInt8 := dkwX0_init_3 ++ dktX0_init_4
def dkwX0_init_2 : List UInt8 := [83, 181, 0, 13, 42, 187, 0, 38, 89, 183, 0, 40, 181, 0, 41, 42, 6, 189, 0, 38, 181, 0, 45, 42]
abbrev dktX0_init_2 : List UInt8 := dkwX0_init_2 ++ dktX0_init_3
def dkwX0_init_1 : List UInt8 := [89, 183, 0, 37, 83, 89, 5, 187, 0, 18, 89, 183, 0, 37, 83, 89, 6, 187, 0, 18, 89, 183, 0, 37]
abbrev dktX0_init_1 : List UInt8 := dkwX0_init_1 ++ dktX0_init_2
def dkwX0_init_0 : List UInt8 := [42, 183, 0, 31, 42, 7, 189, 0, 18, 89, 3, 187, 0, 18, 89, 183, 0, 37, 83, 89, 4, 187, 0, 18]
abbrev dktX0_init_0 : List UInt8 := dkwX0_init_0 ++ dktX0_init_1
theorem dksX0_init_0 : cX0_init.data.toList.drop 0 = dktX0_init_0 := by decide +kernel
theorem dksX0_init_1 : cX0_init.data.toList.drop 24 = dktX0_init_1 := dk_seg dksX0_init_0 24 rfl rfl
theorem dksX0_init_2 : cX0_init.data.toList.drop 48 = dktX0_init_2 := dk_seg dksX0_init_1 24 rfl rfl
theorem dksX0_init_3 : cX0_init.data.toList.drop 72 = dktX0_init_3 := dk_seg dksX0_init_2 24 rfl rfl
theorem dksX0_init_4 : cX0_init.data.toList.drop 94 = dktX0_init_4 := dk_seg dksX0_init_3 22 rfl rfl
theorem dksX0_init_5 : cX0_init.data.toList.drop 118 = dktX0_init_5 := dk_seg dksX0_init_4 24 rfl rfl
theorem dksX0_init_6 : cX0_init.data.toList.drop 142 = dktX0_init_6 := dk_seg dksX0_init_5 24 rfl rfl
theorem dX0_init_0 : decode cX0_init 0 = .ok (.aload_n 0, 1) := dk_42 (dk_at dksX0_init_0 0 rfl rfl)
theorem dX0_init_1 : decode cX0_init 1 = .ok (.invokespecial 31, 3) := dk_183 0 31 (dk_at dksX0_init_0 1 rfl rfl)
theorem dX0_init_4 : decode cX0_init 4 = .ok (.aload_n 0, 1) := dk_42 (dk_at dksX0_init_0 4 rfl rfl)
theorem dX0_init_5 : decode cX0_init 5 = .ok (.iconst 4, 1) := dk_7 (dk_at dksX0_init_0 5 rfl rfl)
theorem dX0_init_6 : decode cX0_init 6 = .ok (.anewarray 18, 3) := dk_189 0 18 (dk_at dksX0_init_0 6 rfl rfl)
theorem dX0_init_9 : decode cX0_init 9 = .ok (.dup, 1) := dk_89 (dk_at dksX0_init_0 9 rfl rfl)
theorem dX0_init_10 : decode cX0_init 10 = .ok (.iconst 0, 1) := dk_3 (dk_at dksX0_init_0 10 rfl rfl)
theorem dX0_init_11 : decode cX0_init 11 = .ok (.new 18, 3) := dk_187 0 18 (dk_at dksX0_init_0 11 rfl rfl)
theorem dX0_init_14 : decode cX0_init 14 = .ok (.dup, 1) := dk_89 (dk_at dksX0_init_0 14 rfl rfl)
theorem dX0_init_15 : decode cX0_init 15 = .ok (.invokespecial 37, 3) := dk_183 0 37 (dk_at dksX0_init_0 15 rfl rfl)
theorem dX0_init_18 : decode cX0_init 18 = .ok (.aastore, 1) := dk_83 (dk_at dksX0_init_0 18 rfl rfl)
theorem dX0_init_19 : decode cX0_init 19 = .ok (.dup, 1) := dk_89 (dk_at dksX0_init_0 19 rfl rfl)
theorem dX0_init_20 : decode cX0_init 20 = .ok (.iconst 1, 1) := dk_4 (dk_at dksX0_init_0 20 rfl rfl)
theorem dX0_init_21 : decode cX0_init 21 = .ok (.new 18, 3) := dk_187 0 18 (dk_at dksX0_init_0 21 rfl rfl)
theorem dX0_init_24 : decode cX0_init 24 = .ok (.dup, 1) := dk_89 (dk_at dksX0_init_1 0 rfl rfl)
theorem dX0_init_25 : decode cX0_init 25 = .ok (.invokespecial 37, 3) := dk_183 0 37 (dk_at dksX0_init_1 1 rfl rfl)
theorem dX0_init_28 : decode cX0_init 28 = .ok (.aastore, 1) := dk_83 (dk_at dksX0_init_1 4 rfl rfl)
theorem dX0_init_29 : decode cX0_init 29 = .ok (.dup, 1) := dk_89 (dk_at dksX0_init_1 5 rfl rfl)
theorem dX0_init_30 : decode cX0_init 30 = .ok (.iconst 2, 1) := dk_5 (dk_at dksX0_init_1 6 rfl rfl)
theorem dX0_init_31 : decode cX0_init 31 = .ok (.new 18, 3) := dk_187 0 18 (dk_at dksX0_init_1 7 rfl rfl)
theorem dX0_init_34 : decode cX0_init 34 = .ok (.dup, 1) := dk_89 (dk_at dksX0_init_1 10 rfl rfl)
theorem dX0_init_35 : decode cX0_init 35 = .ok (.invokespecial 37, 3) := dk_183 0 37 (dk_at dksX0_init_1 11 rfl rfl)
theorem dX0_init_38 : decode cX0_init 38 = .ok (.aastore, 1) := dk_83 (dk_at dksX0_init_1 14 rfl rfl)
theorem dX0_init_39 : decode cX0_init 39 = .ok (.dup, 1) := dk_89 (dk_at dksX0_init_1 15 rfl rfl)
theorem dX0_init_40 : decode cX0_init 40 = .ok (.iconst 3, 1) := dk_6 (dk_at dksX0_init_1 16 rfl rfl)
theorem dX0_init_41 : decode cX0_init 41 = .ok (.new 18, 3) := dk_187 0 18 (dk_at dksX0_init_1 17 rfl rfl)
theorem dX0_init_44 : decode cX0_init 44 = .ok (.dup, 1) := dk_89 (dk_at dksX0_init_1 20 rfl rfl)
theorem dX0_init_45 : decode cX0_init 45 = .ok (.invokespecial 37, 3) := dk_183 0 37 (dk_at dksX0_init_1 21 rfl rfl)
theorem dX0_init_48 : decode cX0_init 48 = .ok (.aastore, 1) := dk_83 (dk_at dksX0_init_2 0 rfl rfl)
theorem dX0_init_49 : decode cX0_init 49 = .ok (.putfield 13, 3) := dk_181 0 13 (dk_at dksX0_init_2 1 rfl rfl)
theorem dX0_init_52 : decode cX0_init 52 = .ok (.aload_n 0, 1) := dk_42 (dk_at dksX0_init_2 4 rfl rfl)
theorem dX0_init_53 : decode cX0_init 53 = .ok (.new 38, 3) := dk_187 0 38 (dk_at dksX0_init_2 5 rfl rfl)
theorem dX0_init_56 : decode cX0_init 56 = .ok (.dup, 1) := dk_89 (dk_at dksX0_init_2 8 rfl rfl)
theorem dX0_init_57 : decode cX0_init 57 = .ok (.invokespecial 40, 3) := dk_183 0 40 (dk_at dksX0_init_2 9 rfl rfl)
theorem dX0_init_60 : decode cX0_init 60 = .ok (.putfield 41, 3) := dk_181 0 41 (dk_at dksX0_init_2 12 rfl rfl)
theorem dX0_init_63 : decode cX0_init 63 = .ok (.aload_n 0, 1) := dk_42 (dk_at dksX0_init_2 15 rfl rfl)
theorem dX0_init_64 : decode cX0_init 64 = .ok (.iconst 3, 1) := dk_6 (dk_at dksX0_init_2 16 rfl rfl)
theorem dX0_init_65 : decode cX0_init 65 = .ok (.anewarray 38, 3) := dk_189 0 38 (dk_at dksX0_init_2 17 rfl rfl)
theorem dX0_init_68 : decode cX0_init 68 = .ok (.putfield 45, 3) := dk_181 0 45 (dk_at dksX0_init_2 20 rfl rfl)
theorem dX0_init_71 : decode cX0_init 71 = .ok (.aload_n 0, 1) := dk_42 (dk_at dksX0_init_2 23 rfl rfl)
theorem dX0_init_72 : decode cX0_init 72 = .ok (.sipush 1200, 3) := dk_17 4 176 (dk_at dksX0_init_3 0 rfl rfl)
theorem dX0_init_75 : decode cX0_init 75 = .ok (.newarray .byte, 2) := dk_188_8 (dk_at dksX0_init_3 3 rfl rfl)
theorem dX0_init_77 : decode cX0_init 77 = .ok (.putfield 49, 3) := dk_181 0 49 (dk_at dksX0_init_3 5 rfl rfl)
theorem dX0_init_80 : decode cX0_init 80 = .ok (.aload_n 0, 1) := dk_42 (dk_at dksX0_init_3 8 rfl rfl)
theorem dX0_init_81 : decode cX0_init 81 = .ok (.iconst (-1), 1) := dk_2 (dk_at dksX0_init_3 9 rfl rfl)
theorem dX0_init_82 : decode cX0_init 82 = .ok (.putfield 53, 3) := dk_181 0 53 (dk_at dksX0_init_3 10 rfl rfl)
theorem dX0_init_85 : decode cX0_init 85 = .ok (.aload_n 0, 1) := dk_42 (dk_at dksX0_init_3 13 rfl rfl)
theorem dX0_init_86 : decode cX0_init 86 = .ok (.new 57, 3) := dk_187 0 57 (dk_at dksX0_init_3 14 rfl rfl)
theorem dX0_init_89 : decode cX0_init 89 = .ok (.dup, 1) := dk_89 (dk_at dksX0_init_3 17 rfl rfl)
theorem dX0_init_90 : decode cX0_init 90 = .ok (.aload_n 0, 1) := dk_42 (dk_at dksX0_init_3 18 rfl rfl)
theorem dX0_init_91 : decode cX0_init 91 = .ok (.invokespecial 59, 3) := dk_183 0 59 (dk_at dksX0_init_3 19 rfl rfl)
theorem dX0_init_94 : decode cX0_init 94 = .ok (.putfield 62, 3) := dk_181 0 62 (dk_at dksX0_init_4 0 rfl rfl)
theorem dX0_init_97 : decode cX0_init 97 = .ok (.aload_n 0, 1) := dk_42 (dk_at dksX0_init_4 3 rfl rfl)
theorem dX0_init_98 : decode cX0_init 98 = .ok (.new 66, 3) := dk_187 0 66 (dk_at dksX0_init_4 4 rfl rfl)
theorem dX0_init_101 : decode cX0_init 101 = .ok (.dup, 1) := dk_89 (dk_at dksX0_init_4 7 rfl rfl)
theorem dX0_init_102 : decode cX0_init 102 = .ok (.aload_n 0, 1) := dk_42 (dk_at dksX0_init_4 8 rfl rfl)
theorem dX0_init_103 : decode cX0_init 103 = .ok (.invokespecial 68, 3) := dk_183 0 68 (dk_at dksX0_init_4 9 rfl rfl)
theorem dX0_init_106 : decode cX0_init 106 = .ok (.putfield 69, 3) := dk_181 0 69 (dk_at dksX0_init_4 12 rfl rfl)
theorem dX0_init_109 : decode cX0_init 109 = .ok (.aload_n 0, 1) := dk_42 (dk_at dksX0_init_4 15 rfl rfl)
theorem dX0_init_110 : decode cX0_init 110 = .ok (.new 73, 3) := dk_187 0 73 (dk_at dksX0_init_4 16 rfl rfl)
theorem dX0_init_113 : decode cX0_init 113 = .ok (.dup, 1) := dk_89 (dk_at dksX0_init_4 19 rfl rfl)
theorem dX0_init_114 : decode cX0_init 114 = .ok (.aload_n 0, 1) := dk_42 (dk_at dksX0_init_4 20 rfl rfl)
theorem dX0_init_115 : decode cX0_init 115 = .ok (.invokespecial 75, 3) := dk_183 0 75 (dk_at dksX0_init_4 21 rfl rfl)
theorem dX0_init_118 : decode cX0_init 118 = .ok (.putfield 76, 3) := dk_181 0 76 (dk_at dksX0_init_5 0 rfl rfl)
theorem dX0_init_121 : decode cX0_init 121 = .ok (.aload_n 0, 1) := dk_42 (dk_at dksX0_init_5 3 rfl rfl)
theorem dX0_init_122 : decode cX0_init 122 = .ok (.new 80, 3) := dk_187 0 80 (dk_at dksX0_init_5 4 rfl rfl)
theorem dX0_init_125 : decode cX0_init 125 = .ok (.dup, 1) := dk_89 (dk_at dksX0_init_5 7 rfl rfl)
theorem dX0_init_126 : decode cX0_init 126 = .ok (.aload_n 0, 1) := dk_42 (dk_at dksX0_init_5 8 rfl rfl)
theorem dX0_init_127 : decode cX0_init 127 = .ok (.invokespecial 82, 3) := dk_183 0 82 (dk_at dksX0_init_5 9 rfl rfl)
theorem dX0_init_130 : decode cX0_init 130 = .ok (.putfield 83, 3) := dk_181 0 83 (dk_at dksX0_init_5 12 rfl rfl)
theorem dX0_init_133 : decode cX0_init 133 = .ok (.aload_n 0, 1) := dk_42 (dk_at dksX0_init_5 15 rfl rfl)
theorem dX0_init_134 : decode cX0_init 134 = .ok (.new 87, 3) := dk_187 0 87 (dk_at dksX0_init_5 16 rfl rfl)
theorem dX0_init_137 : decode cX0_init 137 = .ok (.dup, 1) := dk_89 (dk_at dksX0_init_5 19 rfl rfl)
theorem dX0_init_138 : decode cX0_init 138 = .ok (.aload_n 0, 1) := dk_42 (dk_at dksX0_init_5 20 rfl rfl)
theorem dX0_init_139 : decode cX0_init 139 = .ok (.invokespecial 89, 3) := dk_183 0 89 (dk_at dksX0_init_5 21 rfl rfl)
theorem dX0_init_142 : decode cX0_init 142 = .ok (.putfield 90, 3) := dk_181 0 90 (dk_at dksX0_init_6 0 rfl rfl)
theorem dX0_init_145 : decode cX0_init 145 = .ok (.aload_n 0, 1) := dk_42 (dk_at dksX0_init_6 3 rfl rfl)
theorem dX0_init_146 : decode cX0_init 146 = .ok (.new 94, 3) := dk_187 0 94 (dk_at dksX0_init_6 4 rfl rfl)
theorem dX0_init_149 : decode cX0_init 149 = .ok (.dup, 1) := dk_89 (dk_at dksX0_init_6 7 rfl rfl)
theorem dX0_init_150 : decode cX0_init 150 = .ok (.aload_n 0, 1) := dk_42 (dk_at dksX0_init_6 8 rfl rfl)
theorem dX0_init_151 : decode cX0_init 151 = .ok (.invokespecial 96, 3) := dk_183 0 96 (dk_at dksX0_init_6 9 rfl rfl)
theorem dX0_init_154 : decode cX0_init 154 = .ok (.putfield 97, 3) := dk_181 0 97 (dk_at dksX0_init_6 12 rfl rfl)
theorem dX0_init_157 : decode cX0_init 157 = .ok (.return_, 1) := dk_177 (dk_at dksX0_init_6 15 rfl rfl)
abbrev cX0_feed : ByteArray := prog_1_method_8_code
def yX0_feed : MethodName := ⟨RX0, "feed", "(IIIII)I"⟩
def dkwX0_feed_4 : List UInt8 := [16, 20, 96, 181, 0, 101, 42, 180, 0, 101, 172]
abbrev dktX0_feed_4 : List UInt8 := dkwX0_feed_4 ++ []
def dkwX0_feed_3 : List UInt8 := [16, 24, 16, 8, 21, 7, 7, 112, 104, 100, 122, 145, 84, 132, 7, 1, 167, 255, 215, 42, 89, 180, 0, 101]
abbrev dktX0_feed_3 : List UInt8 := dkwX0_feed_3 ++ dktX0_feed_4
def dkwX0_feed_2 : List UInt8 := [16, 20, 162, 0, 40, 42, 180, 0, 49, 42, 180, 0, 101, 21, 7, 96, 25, 6, 21, 7, 7, 108, 46]
abbrev dktX0_feed_2 : List UInt8 := dkwX0_feed_2 ++ dktX0_feed_3
def dkwX0_feed_1 : List UInt8 := [28, 79, 89, 5, 29, 79, 89, 6, 21, 4, 79, 89, 7, 21, 5, 79, 58, 6, 3, 54, 7, 21, 7]
abbrev dktX0_feed_1 : List UInt8 := dkwX0_feed_1 ++ dktX0_feed_2
def dkwX0_feed_0 : List UInt8 := [42, 180, 0, 101, 16, 20, 96, 17, 4, 176, 164, 0, 5, 2, 172, 8, 188, 10, 89, 3, 27, 79, 89, 4]
abbrev dktX0_feed_0 : List UInt8 := dkwX0_feed_0 ++ dktX0_feed_1
theorem dksX0_feed_0 : cX0_feed.data.toList.drop 0 = dktX0_feed_0 := by decide +kernel
theorem dksX0_feed_1 : cX0_feed.data.toList.drop 24 = dktX0_feed_1 := dk_seg dksX0_feed_0 24 rfl rfl
theorem dksX0_feed_2 : cX0_feed.data.toList.drop 47 = dktX0_feed_2 := dk_seg dksX0_feed_1 23 rfl rfl
theorem dksX0_feed_3 : cX0_feed.data.toList.drop 70 = dktX0_feed_3 := dk_seg dksX0_feed_2 23 rfl rfl
theorem dksX0_feed_4 : cX0_feed.data.toList.drop 94 = dktX0_feed_4 := dk_seg dksX0_feed_3 24 rfl rfl
theorem dX0_feed_0 : decode cX0_feed 0 = .ok (.aload_n 0, 1) := dk_42 (dk_at dksX0_feed_0 0 rfl rfl)
theorem dX0_feed_1 : decode cX0_feed 1 = .ok (.getfield 101, 3) := dk_180 0 101 (dk_at dksX0_feed_0 1 rfl rfl)
theorem dX0_feed_4 : decode cX0_feed 4 = .ok (.bipush 20, 2) := dk_16 20 (dk_at dksX0_feed_0 4 rfl rfl)
theorem dX0_feed_6 : decode cX0_feed 6 = .ok (.iadd, 1) := dk_96 (dk_at dksX0_feed_0 6 rfl rfl)
theorem dX0_feed_7 : decode cX0_feed 7 = .ok (.sipush 1200, 3) := dk_17 4 176 (dk_at dksX0_feed_0 7 rfl rfl)
theorem dX0_feed_10 : decode cX0_feed 10 = .ok (.if_icmp .le 5, 3) := dk_164 0 5 (dk_at dksX0_feed_0 10 rfl rfl)
theorem dX0_feed_13 : decode cX0_feed 13 = .ok (.iconst (-1), 1) := dk_2 (dk_at dksX0_feed_0 13 rfl rfl)
theorem dX0_feed_14 : decode cX0_feed 14 = .ok (.ireturn, 1) := dk_172 (dk_at dksX0_feed_0 14 rfl rfl)
theorem dX0_feed_15 : decode cX0_feed 15 = .ok (.iconst 5, 1) := dk_8 (dk_at dksX0_feed_0 15 rfl rfl)
theorem dX0_feed_16 : decode cX0_feed 16 = .ok (.newarray .int, 2) := dk_188_10 (dk_at dksX0_feed_0 16 rfl rfl)
theorem dX0_feed_18 : decode cX0_feed 18 = .ok (.dup, 1) := dk_89 (dk_at dksX0_feed_0 18 rfl rfl)
theorem dX0_feed_19 : decode cX0_feed 19 = .ok (.iconst 0, 1) := dk_3 (dk_at dksX0_feed_0 19 rfl rfl)
theorem dX0_feed_20 : decode cX0_feed 20 = .ok (.iload_n 1, 1) := dk_27 (dk_at dksX0_feed_0 20 rfl rfl)
theorem dX0_feed_21 : decode cX0_feed 21 = .ok (.iastore, 1) := dk_79 (dk_at dksX0_feed_0 21 rfl rfl)
theorem dX0_feed_22 : decode cX0_feed 22 = .ok (.dup, 1) := dk_89 (dk_at dksX0_feed_0 22 rfl rfl)
theorem dX0_feed_23 : decode cX0_feed 23 = .ok (.iconst 1, 1) := dk_4 (dk_at dksX0_feed_0 23 rfl rfl)
theorem dX0_feed_24 : decode cX0_feed 24 = .ok (.iload_n 2, 1) := dk_28 (dk_at dksX0_feed_1 0 rfl rfl)
theorem dX0_feed_25 : decode cX0_feed 25 = .ok (.iastore, 1) := dk_79 (dk_at dksX0_feed_1 1 rfl rfl)
theorem dX0_feed_26 : decode cX0_feed 26 = .ok (.dup, 1) := dk_89 (dk_at dksX0_feed_1 2 rfl rfl)
theorem dX0_feed_27 : decode cX0_feed 27 = .ok (.iconst 2, 1) := dk_5 (dk_at dksX0_feed_1 3 rfl rfl)
theorem dX0_feed_28 : decode cX0_feed 28 = .ok (.iload_n 3, 1) := dk_29 (dk_at dksX0_feed_1 4 rfl rfl)
theorem dX0_feed_29 : decode cX0_feed 29 = .ok (.iastore, 1) := dk_79 (dk_at dksX0_feed_1 5 rfl rfl)
theorem dX0_feed_30 : decode cX0_feed 30 = .ok (.dup, 1) := dk_89 (dk_at dksX0_feed_1 6 rfl rfl)
theorem dX0_feed_31 : decode cX0_feed 31 = .ok (.iconst 3, 1) := dk_6 (dk_at dksX0_feed_1 7 rfl rfl)
theorem dX0_feed_32 : decode cX0_feed 32 = .ok (.iload 4, 2) := dk_21 4 (dk_at dksX0_feed_1 8 rfl rfl)
theorem dX0_feed_34 : decode cX0_feed 34 = .ok (.iastore, 1) := dk_79 (dk_at dksX0_feed_1 10 rfl rfl)
theorem dX0_feed_35 : decode cX0_feed 35 = .ok (.dup, 1) := dk_89 (dk_at dksX0_feed_1 11 rfl rfl)
theorem dX0_feed_36 : decode cX0_feed 36 = .ok (.iconst 4, 1) := dk_7 (dk_at dksX0_feed_1 12 rfl rfl)
theorem dX0_feed_37 : decode cX0_feed 37 = .ok (.iload 5, 2) := dk_21 5 (dk_at dksX0_feed_1 13 rfl rfl)
theorem dX0_feed_39 : decode cX0_feed 39 = .ok (.iastore, 1) := dk_79 (dk_at dksX0_feed_1 15 rfl rfl)
theorem dX0_feed_40 : decode cX0_feed 40 = .ok (.astore 6, 2) := dk_58 6 (dk_at dksX0_feed_1 16 rfl rfl)
theorem dX0_feed_42 : decode cX0_feed 42 = .ok (.iconst 0, 1) := dk_3 (dk_at dksX0_feed_1 18 rfl rfl)
theorem dX0_feed_43 : decode cX0_feed 43 = .ok (.istore 7, 2) := dk_54 7 (dk_at dksX0_feed_1 19 rfl rfl)
theorem dX0_feed_45 : decode cX0_feed 45 = .ok (.iload 7, 2) := dk_21 7 (dk_at dksX0_feed_1 21 rfl rfl)
theorem dX0_feed_47 : decode cX0_feed 47 = .ok (.bipush 20, 2) := dk_16 20 (dk_at dksX0_feed_2 0 rfl rfl)
theorem dX0_feed_49 : decode cX0_feed 49 = .ok (.if_icmp .ge 40, 3) := dk_162 0 40 (dk_at dksX0_feed_2 2 rfl rfl)
theorem dX0_feed_52 : decode cX0_feed 52 = .ok (.aload_n 0, 1) := dk_42 (dk_at dksX0_feed_2 5 rfl rfl)
theorem dX0_feed_53 : decode cX0_feed 53 = .ok (.getfield 49, 3) := dk_180 0 49 (dk_at dksX0_feed_2 6 rfl rfl)
theorem dX0_feed_56 : decode cX0_feed 56 = .ok (.aload_n 0, 1) := dk_42 (dk_at dksX0_feed_2 9 rfl rfl)
theorem dX0_feed_57 : decode cX0_feed 57 = .ok (.getfield 101, 3) := dk_180 0 101 (dk_at dksX0_feed_2 10 rfl rfl)
theorem dX0_feed_60 : decode cX0_feed 60 = .ok (.iload 7, 2) := dk_21 7 (dk_at dksX0_feed_2 13 rfl rfl)
theorem dX0_feed_62 : decode cX0_feed 62 = .ok (.iadd, 1) := dk_96 (dk_at dksX0_feed_2 15 rfl rfl)
theorem dX0_feed_63 : decode cX0_feed 63 = .ok (.aload 6, 2) := dk_25 6 (dk_at dksX0_feed_2 16 rfl rfl)
theorem dX0_feed_65 : decode cX0_feed 65 = .ok (.iload 7, 2) := dk_21 7 (dk_at dksX0_feed_2 18 rfl rfl)
theorem dX0_feed_67 : decode cX0_feed 67 = .ok (.iconst 4, 1) := dk_7 (dk_at dksX0_feed_2 20 rfl rfl)
theorem dX0_feed_68 : decode cX0_feed 68 = .ok (.idiv, 1) := dk_108 (dk_at dksX0_feed_2 21 rfl rfl)
theorem dX0_feed_69 : decode cX0_feed 69 = .ok (.iaload, 1) := dk_46 (dk_at dksX0_feed_2 22 rfl rfl)
theorem dX0_feed_70 : decode cX0_feed 70 = .ok (.bipush 24, 2) := dk_16 24 (dk_at dksX0_feed_3 0 rfl rfl)
theorem dX0_feed_72 : decode cX0_feed 72 = .ok (.bipush 8, 2) := dk_16 8 (dk_at dksX0_feed_3 2 rfl rfl)
theorem dX0_feed_74 : decode cX0_feed 74 = .ok (.iload 7, 2) := dk_21 7 (dk_at dksX0_feed_3 4 rfl rfl)
theorem dX0_feed_76 : decode cX0_feed 76 = .ok (.iconst 4, 1) := dk_7 (dk_at dksX0_feed_3 6 rfl rfl)
theorem dX0_feed_77 : decode cX0_feed 77 = .ok (.irem, 1) := dk_112 (dk_at dksX0_feed_3 7 rfl rfl)
theorem dX0_feed_78 : decode cX0_feed 78 = .ok (.imul, 1) := dk_104 (dk_at dksX0_feed_3 8 rfl rfl)
theorem dX0_feed_79 : decode cX0_feed 79 = .ok (.isub, 1) := dk_100 (dk_at dksX0_feed_3 9 rfl rfl)
theorem dX0_feed_80 : decode cX0_feed 80 = .ok (.ishr, 1) := dk_122 (dk_at dksX0_feed_3 10 rfl rfl)
theorem dX0_feed_81 : decode cX0_feed 81 = .ok (.i2b, 1) := dk_145 (dk_at dksX0_feed_3 11 rfl rfl)
theorem dX0_feed_82 : decode cX0_feed 82 = .ok (.bastore, 1) := dk_84 (dk_at dksX0_feed_3 12 rfl rfl)
theorem dX0_feed_83 : decode cX0_feed 83 = .ok (.iinc 7 1, 3) := dk_132 7 1 (dk_at dksX0_feed_3 13 rfl rfl)
theorem dX0_feed_86 : decode cX0_feed 86 = .ok (.goto (-41), 3) := dk_167 255 215 (dk_at dksX0_feed_3 16 rfl rfl)
theorem dX0_feed_89 : decode cX0_feed 89 = .ok (.aload_n 0, 1) := dk_42 (dk_at dksX0_feed_3 19 rfl rfl)
theorem dX0_feed_90 : decode cX0_feed 90 = .ok (.dup, 1) := dk_89 (dk_at dksX0_feed_3 20 rfl rfl)
theorem dX0_feed_91 : decode cX0_feed 91 = .ok (.getfield 101, 3) := dk_180 0 101 (dk_at dksX0_feed_3 21 rfl rfl)
theorem dX0_feed_94 : decode cX0_feed 94 = .ok (.bipush 20, 2) := dk_16 20 (dk_at dksX0_feed_4 0 rfl rfl)
theorem dX0_feed_96 : decode cX0_feed 96 = .ok (.iadd, 1) := dk_96 (dk_at dksX0_feed_4 2 rfl rfl)
theorem dX0_feed_97 : decode cX0_feed 97 = .ok (.putfield 101, 3) := dk_181 0 101 (dk_at dksX0_feed_4 3 rfl rfl)
theorem dX0_feed_100 : decode cX0_feed 100 = .ok (.aload_n 0, 1) := dk_42 (dk_at dksX0_feed_4 6 rfl rfl)
theorem dX0_feed_101 : decode cX0_feed 101 = .ok (.getfield 101, 3) := dk_180 0 101 (dk_at dksX0_feed_4 7 rfl rfl)
theorem dX0_feed_104 : decode cX0_feed 104 = .ok (.ireturn, 1) := dk_172 (dk_at dksX0_feed_4 10 rfl rfl)
abbrev cX0_end : ByteArray := prog_1_method_9_code
def yX0_end : MethodName := ⟨RX0, "end", "(I)I"⟩
def dkwX0_end_0 : List UInt8 := [27, 133, 9, 42, 180, 0, 101, 133, 184, 0, 5, 154, 0, 5, 2, 172, 42, 27, 181, 0, 101, 27, 172]
abbrev dktX0_end_0 : List UInt8 := dkwX0_end_0 ++ []
theorem dksX0_end_0 : cX0_end.data.toList.drop 0 = dktX0_end_0 := by decide +kernel
theorem dX0_end_0 : decode cX0_end 0 = .ok (.iload_n 1, 1) := dk_27 (dk_at dksX0_end_0 0 rfl rfl)
theorem dX0_end_1 : decode cX0_end 1 = .ok (.i2l, 1) := dk_133 (dk_at dksX0_end_0 1 rfl rfl)
theorem dX0_end_2 : decode cX0_end 2 = .ok (.lconst 0, 1) := dk_9 (dk_at dksX0_end_0 2 rfl rfl)
theorem dX0_end_3 : decode cX0_end 3 = .ok (.aload_n 0, 1) := dk_42 (dk_at dksX0_end_0 3 rfl rfl)
theorem dX0_end_4 : decode cX0_end 4 = .ok (.getfield 101, 3) := dk_180 0 101 (dk_at dksX0_end_0 4 rfl rfl)
theorem dX0_end_7 : decode cX0_end 7 = .ok (.i2l, 1) := dk_133 (dk_at dksX0_end_0 7 rfl rfl)
theorem dX0_end_8 : decode cX0_end 8 = .ok (.invokestatic 5, 3) := dk_184 0 5 (dk_at dksX0_end_0 8 rfl rfl)
theorem dX0_end_11 : decode cX0_end 11 = .ok (.ifCond .ne 5, 3) := dk_154 0 5 (dk_at dksX0_end_0 11 rfl rfl)
theorem dX0_end_14 : decode cX0_end 14 = .ok (.iconst (-1), 1) := dk_2 (dk_at dksX0_end_0 14 rfl rfl)
theorem dX0_end_15 : decode cX0_end 15 = .ok (.ireturn, 1) := dk_172 (dk_at dksX0_end_0 15 rfl rfl)
theorem dX0_end_16 : decode cX0_end 16 = .ok (.aload_n 0, 1) := dk_42 (dk_at dksX0_end_0 16 rfl rfl)
theorem dX0_end_17 : decode cX0_end 17 = .ok (.iload_n 1, 1) := dk_27 (dk_at dksX0_end_0 17 rfl rfl)
theorem dX0_end_18 : decode cX0_end 18 = .ok (.putfield 101, 3) := dk_181 0 101 (dk_at dksX0_end_0 18 rfl rfl)
theorem dX0_end_21 : decode cX0_end 21 = .ok (.iload_n 1, 1) := dk_27 (dk_at dksX0_end_0 21 rfl rfl)
theorem dX0_end_22 : decode cX0_end 22 = .ok (.ireturn, 1) := dk_172 (dk_at dksX0_end_0 22 rfl rfl)
abbrev cX0_board : ByteArray := prog_1_method_10_code
def yX0_board : MethodName := ⟨RX0, "board", "()I"⟩
def dkwX0_board_4 : List UInt8 := [181, 0, 101, 45, 191]
abbrev dktX0_board_4 : List UInt8 := dkwX0_board_4 ++ []
def dkwX0_board_3 : List UInt8 := [181, 0, 117, 42, 43, 180, 0, 128, 181, 0, 53, 16, 252, 61, 42, 3, 181, 0, 101, 28, 172, 78, 42, 3]
abbrev dktX0_board_3 : List UInt8 := dkwX0_board_3 ++ dktX0_board_4
def dkwX0_board_2 : List UInt8 := [181, 0, 53, 42, 180, 0, 41, 180, 0, 120, 61, 42, 3, 181, 0, 101, 28, 172, 76, 42, 43, 180, 0, 125]
abbrev dktX0_board_2 : List UInt8 := dkwX0_board_2 ++ dktX0_board_3
def dkwX0_board_1 : List UInt8 := [153, 0, 7, 43, 167, 0, 10, 187, 0, 38, 89, 183, 0, 40, 181, 0, 41, 42, 3, 181, 0, 117, 42, 2]
abbrev dktX0_board_1 : List UInt8 := dkwX0_board_1 ++ dktX0_board_2
def dkwX0_board_0 : List UInt8 := [187, 0, 104, 89, 42, 180, 0, 49, 42, 180, 0, 101, 183, 0, 106, 182, 0, 109, 76, 42, 43, 182, 0, 113]
abbrev dktX0_board_0 : List UInt8 := dkwX0_board_0 ++ dktX0_board_1
theorem dksX0_board_0 : cX0_board.data.toList.drop 0 = dktX0_board_0 := by decide +kernel
theorem dksX0_board_1 : cX0_board.data.toList.drop 24 = dktX0_board_1 := dk_seg dksX0_board_0 24 rfl rfl
theorem dksX0_board_2 : cX0_board.data.toList.drop 48 = dktX0_board_2 := dk_seg dksX0_board_1 24 rfl rfl
theorem dksX0_board_3 : cX0_board.data.toList.drop 72 = dktX0_board_3 := dk_seg dksX0_board_2 24 rfl rfl
theorem dksX0_board_4 : cX0_board.data.toList.drop 96 = dktX0_board_4 := dk_seg dksX0_board_3 24 rfl rfl
theorem dX0_board_0 : decode cX0_board 0 = .ok (.new 104, 3) := dk_187 0 104 (dk_at dksX0_board_0 0 rfl rfl)
theorem dX0_board_3 : decode cX0_board 3 = .ok (.dup, 1) := dk_89 (dk_at dksX0_board_0 3 rfl rfl)
theorem dX0_board_4 : decode cX0_board 4 = .ok (.aload_n 0, 1) := dk_42 (dk_at dksX0_board_0 4 rfl rfl)
theorem dX0_board_5 : decode cX0_board 5 = .ok (.getfield 49, 3) := dk_180 0 49 (dk_at dksX0_board_0 5 rfl rfl)
theorem dX0_board_8 : decode cX0_board 8 = .ok (.aload_n 0, 1) := dk_42 (dk_at dksX0_board_0 8 rfl rfl)
theorem dX0_board_9 : decode cX0_board 9 = .ok (.getfield 101, 3) := dk_180 0 101 (dk_at dksX0_board_0 9 rfl rfl)
theorem dX0_board_12 : decode cX0_board 12 = .ok (.invokespecial 106, 3) := dk_183 0 106 (dk_at dksX0_board_0 12 rfl rfl)
theorem dX0_board_15 : decode cX0_board 15 = .ok (.invokevirtual 109, 3) := dk_182 0 109 (dk_at dksX0_board_0 15 rfl rfl)
theorem dX0_board_18 : decode cX0_board 18 = .ok (.astore_n 1, 1) := dk_76 (dk_at dksX0_board_0 18 rfl rfl)
theorem dX0_board_19 : decode cX0_board 19 = .ok (.aload_n 0, 1) := dk_42 (dk_at dksX0_board_0 19 rfl rfl)
theorem dX0_board_20 : decode cX0_board 20 = .ok (.aload_n 1, 1) := dk_43 (dk_at dksX0_board_0 20 rfl rfl)
theorem dX0_board_21 : decode cX0_board 21 = .ok (.invokevirtual 113, 3) := dk_182 0 113 (dk_at dksX0_board_0 21 rfl rfl)
theorem dX0_board_24 : decode cX0_board 24 = .ok (.ifCond .eq 7, 3) := dk_153 0 7 (dk_at dksX0_board_1 0 rfl rfl)
theorem dX0_board_27 : decode cX0_board 27 = .ok (.aload_n 1, 1) := dk_43 (dk_at dksX0_board_1 3 rfl rfl)
theorem dX0_board_28 : decode cX0_board 28 = .ok (.goto 10, 3) := dk_167 0 10 (dk_at dksX0_board_1 4 rfl rfl)
theorem dX0_board_31 : decode cX0_board 31 = .ok (.new 38, 3) := dk_187 0 38 (dk_at dksX0_board_1 7 rfl rfl)
theorem dX0_board_34 : decode cX0_board 34 = .ok (.dup, 1) := dk_89 (dk_at dksX0_board_1 10 rfl rfl)
theorem dX0_board_35 : decode cX0_board 35 = .ok (.invokespecial 40, 3) := dk_183 0 40 (dk_at dksX0_board_1 11 rfl rfl)
theorem dX0_board_38 : decode cX0_board 38 = .ok (.putfield 41, 3) := dk_181 0 41 (dk_at dksX0_board_1 14 rfl rfl)
theorem dX0_board_41 : decode cX0_board 41 = .ok (.aload_n 0, 1) := dk_42 (dk_at dksX0_board_1 17 rfl rfl)
theorem dX0_board_42 : decode cX0_board 42 = .ok (.iconst 0, 1) := dk_3 (dk_at dksX0_board_1 18 rfl rfl)
theorem dX0_board_43 : decode cX0_board 43 = .ok (.putfield 117, 3) := dk_181 0 117 (dk_at dksX0_board_1 19 rfl rfl)
theorem dX0_board_46 : decode cX0_board 46 = .ok (.aload_n 0, 1) := dk_42 (dk_at dksX0_board_1 22 rfl rfl)
theorem dX0_board_47 : decode cX0_board 47 = .ok (.iconst (-1), 1) := dk_2 (dk_at dksX0_board_1 23 rfl rfl)
theorem dX0_board_48 : decode cX0_board 48 = .ok (.putfield 53, 3) := dk_181 0 53 (dk_at dksX0_board_2 0 rfl rfl)
theorem dX0_board_51 : decode cX0_board 51 = .ok (.aload_n 0, 1) := dk_42 (dk_at dksX0_board_2 3 rfl rfl)
theorem dX0_board_52 : decode cX0_board 52 = .ok (.getfield 41, 3) := dk_180 0 41 (dk_at dksX0_board_2 4 rfl rfl)
theorem dX0_board_55 : decode cX0_board 55 = .ok (.getfield 120, 3) := dk_180 0 120 (dk_at dksX0_board_2 7 rfl rfl)
theorem dX0_board_58 : decode cX0_board 58 = .ok (.istore_n 2, 1) := dk_61 (dk_at dksX0_board_2 10 rfl rfl)
theorem dX0_board_59 : decode cX0_board 59 = .ok (.aload_n 0, 1) := dk_42 (dk_at dksX0_board_2 11 rfl rfl)
theorem dX0_board_60 : decode cX0_board 60 = .ok (.iconst 0, 1) := dk_3 (dk_at dksX0_board_2 12 rfl rfl)
theorem dX0_board_61 : decode cX0_board 61 = .ok (.putfield 101, 3) := dk_181 0 101 (dk_at dksX0_board_2 13 rfl rfl)
theorem dX0_board_64 : decode cX0_board 64 = .ok (.iload_n 2, 1) := dk_28 (dk_at dksX0_board_2 16 rfl rfl)
theorem dX0_board_65 : decode cX0_board 65 = .ok (.ireturn, 1) := dk_172 (dk_at dksX0_board_2 17 rfl rfl)
theorem dX0_board_66 : decode cX0_board 66 = .ok (.astore_n 1, 1) := dk_76 (dk_at dksX0_board_2 18 rfl rfl)
theorem dX0_board_67 : decode cX0_board 67 = .ok (.aload_n 0, 1) := dk_42 (dk_at dksX0_board_2 19 rfl rfl)
theorem dX0_board_68 : decode cX0_board 68 = .ok (.aload_n 1, 1) := dk_43 (dk_at dksX0_board_2 20 rfl rfl)
theorem dX0_board_69 : decode cX0_board 69 = .ok (.getfield 125, 3) := dk_180 0 125 (dk_at dksX0_board_2 21 rfl rfl)
theorem dX0_board_72 : decode cX0_board 72 = .ok (.putfield 117, 3) := dk_181 0 117 (dk_at dksX0_board_3 0 rfl rfl)
theorem dX0_board_75 : decode cX0_board 75 = .ok (.aload_n 0, 1) := dk_42 (dk_at dksX0_board_3 3 rfl rfl)
theorem dX0_board_76 : decode cX0_board 76 = .ok (.aload_n 1, 1) := dk_43 (dk_at dksX0_board_3 4 rfl rfl)
theorem dX0_board_77 : decode cX0_board 77 = .ok (.getfield 128, 3) := dk_180 0 128 (dk_at dksX0_board_3 5 rfl rfl)
theorem dX0_board_80 : decode cX0_board 80 = .ok (.putfield 53, 3) := dk_181 0 53 (dk_at dksX0_board_3 8 rfl rfl)
theorem dX0_board_83 : decode cX0_board 83 = .ok (.bipush (-4), 2) := dk_16 252 (dk_at dksX0_board_3 11 rfl rfl)
theorem dX0_board_85 : decode cX0_board 85 = .ok (.istore_n 2, 1) := dk_61 (dk_at dksX0_board_3 13 rfl rfl)
theorem dX0_board_86 : decode cX0_board 86 = .ok (.aload_n 0, 1) := dk_42 (dk_at dksX0_board_3 14 rfl rfl)
theorem dX0_board_87 : decode cX0_board 87 = .ok (.iconst 0, 1) := dk_3 (dk_at dksX0_board_3 15 rfl rfl)
theorem dX0_board_88 : decode cX0_board 88 = .ok (.putfield 101, 3) := dk_181 0 101 (dk_at dksX0_board_3 16 rfl rfl)
theorem dX0_board_91 : decode cX0_board 91 = .ok (.iload_n 2, 1) := dk_28 (dk_at dksX0_board_3 19 rfl rfl)
theorem dX0_board_92 : decode cX0_board 92 = .ok (.ireturn, 1) := dk_172 (dk_at dksX0_board_3 20 rfl rfl)
theorem dX0_board_93 : decode cX0_board 93 = .ok (.astore_n 3, 1) := dk_78 (dk_at dksX0_board_3 21 rfl rfl)
theorem dX0_board_94 : decode cX0_board 94 = .ok (.aload_n 0, 1) := dk_42 (dk_at dksX0_board_3 22 rfl rfl)
theorem dX0_board_95 : decode cX0_board 95 = .ok (.iconst 0, 1) := dk_3 (dk_at dksX0_board_3 23 rfl rfl)
theorem dX0_board_96 : decode cX0_board 96 = .ok (.putfield 101, 3) := dk_181 0 101 (dk_at dksX0_board_4 0 rfl rfl)
theorem dX0_board_99 : decode cX0_board 99 = .ok (.aload_n 3, 1) := dk_45 (dk_at dksX0_board_4 3 rfl rfl)
theorem dX0_board_100 : decode cX0_board 100 = .ok (.athrow, 1) := dk_191 (dk_at dksX0_board_4 4 rfl rfl)
abbrev cX0_isOn : ByteArray := prog_1_method_2_code
def yX0_isOn : MethodName := ⟨RX0, "isOn", "(II)Z"⟩
def dkwX0_isOn_0 : List UInt8 := [26, 27, 122, 4, 126, 4, 160, 0, 7, 4, 167, 0, 4, 3, 172]
abbrev dktX0_isOn_0 : List UInt8 := dkwX0_isOn_0 ++ []
theorem dksX0_isOn_0 : cX0_isOn.data.toList.drop 0 = dktX0_isOn_0 := by decide +kernel
theorem dX0_isOn_0 : decode cX0_isOn 0 = .ok (.iload_n 0, 1) := dk_26 (dk_at dksX0_isOn_0 0 rfl rfl)
theorem dX0_isOn_1 : decode cX0_isOn 1 = .ok (.iload_n 1, 1) := dk_27 (dk_at dksX0_isOn_0 1 rfl rfl)
theorem dX0_isOn_2 : decode cX0_isOn 2 = .ok (.ishr, 1) := dk_122 (dk_at dksX0_isOn_0 2 rfl rfl)
theorem dX0_isOn_3 : decode cX0_isOn 3 = .ok (.iconst 1, 1) := dk_4 (dk_at dksX0_isOn_0 3 rfl rfl)
theorem dX0_isOn_4 : decode cX0_isOn 4 = .ok (.iand, 1) := dk_126 (dk_at dksX0_isOn_0 4 rfl rfl)
theorem dX0_isOn_5 : decode cX0_isOn 5 = .ok (.iconst 1, 1) := dk_4 (dk_at dksX0_isOn_0 5 rfl rfl)
theorem dX0_isOn_6 : decode cX0_isOn 6 = .ok (.if_icmp .ne 7, 3) := dk_160 0 7 (dk_at dksX0_isOn_0 6 rfl rfl)
theorem dX0_isOn_9 : decode cX0_isOn 9 = .ok (.iconst 1, 1) := dk_4 (dk_at dksX0_isOn_0 9 rfl rfl)
theorem dX0_isOn_10 : decode cX0_isOn 10 = .ok (.goto 4, 3) := dk_167 0 4 (dk_at dksX0_isOn_0 10 rfl rfl)
theorem dX0_isOn_13 : decode cX0_isOn 13 = .ok (.iconst 0, 1) := dk_3 (dk_at dksX0_isOn_0 13 rfl rfl)
theorem dX0_isOn_14 : decode cX0_isOn 14 = .ok (.ireturn, 1) := dk_172 (dk_at dksX0_isOn_0 14 rfl rfl)
abbrev cX0_fault : ByteArray := prog_1_method_11_code
def yX0_fault : MethodName := ⟨RX0, "fault", "(I)I"⟩
def dkwX0_fault_1 : List UInt8 := [172]
abbrev dktX0_fault_1 : List UInt8 := dkwX0_fault_1 ++ []
def dkwX0_fault_0 : List UInt8 := [27, 154, 0, 10, 42, 180, 0, 117, 167, 0, 16, 27, 4, 160, 0, 10, 42, 180, 0, 53, 167, 0, 4, 2]
abbrev dktX0_fault_0 : List UInt8 := dkwX0_fault_0 ++ dktX0_fault_1
theorem dksX0_fault_0 : cX0_fault.data.toList.drop 0 = dktX0_fault_0 := by decide +kernel
theorem dksX0_fault_1 : cX0_fault.data.toList.drop 24 = dktX0_fault_1 := dk_seg dksX0_fault_0 24 rfl rfl
theorem dX0_fault_0 : decode cX0_fault 0 = .ok (.iload_n 1, 1) := dk_27 (dk_at dksX0_fault_0 0 rfl rfl)
theorem dX0_fault_1 : decode cX0_fault 1 = .ok (.ifCond .ne 10, 3) := dk_154 0 10 (dk_at dksX0_fault_0 1 rfl rfl)
theorem dX0_fault_4 : decode cX0_fault 4 = .ok (.aload_n 0, 1) := dk_42 (dk_at dksX0_fault_0 4 rfl rfl)
theorem dX0_fault_5 : decode cX0_fault 5 = .ok (.getfield 117, 3) := dk_180 0 117 (dk_at dksX0_fault_0 5 rfl rfl)
theorem dX0_fault_8 : decode cX0_fault 8 = .ok (.goto 16, 3) := dk_167 0 16 (dk_at dksX0_fault_0 8 rfl rfl)
theorem dX0_fault_11 : decode cX0_fault 11 = .ok (.iload_n 1, 1) := dk_27 (dk_at dksX0_fault_0 11 rfl rfl)
theorem dX0_fault_12 : decode cX0_fault 12 = .ok (.iconst 1, 1) := dk_4 (dk_at dksX0_fault_0 12 rfl rfl)
theorem dX0_fault_13 : decode cX0_fault 13 = .ok (.if_icmp .ne 10, 3) := dk_160 0 10 (dk_at dksX0_fault_0 13 rfl rfl)
theorem dX0_fault_16 : decode cX0_fault 16 = .ok (.aload_n 0, 1) := dk_42 (dk_at dksX0_fault_0 16 rfl rfl)
theorem dX0_fault_17 : decode cX0_fault 17 = .ok (.getfield 53, 3) := dk_180 0 53 (dk_at dksX0_fault_0 17 rfl rfl)
theorem dX0_fault_20 : decode cX0_fault 20 = .ok (.goto 4, 3) := dk_167 0 4 (dk_at dksX0_fault_0 20 rfl rfl)
theorem dX0_fault_23 : decode cX0_fault 23 = .ok (.iconst (-1), 1) := dk_2 (dk_at dksX0_fault_0 23 rfl rfl)
theorem dX0_fault_24 : decode cX0_fault 24 = .ok (.ireturn, 1) := dk_172 (dk_at dksX0_fault_1 0 rfl rfl)
abbrev cX0_drum : ByteArray := prog_1_method_22_code
def yX0_drum : MethodName := ⟨RX0, "drum", "(II)I"⟩
def dkwX0_drum_1 : List UInt8 := [182, 0, 185, 28, 184, 0, 189, 167, 0, 5, 16, 254, 172]
abbrev dktX0_drum_1 : List UInt8 := dkwX0_drum_1 ++ []
def dkwX0_drum_0 : List UInt8 := [42, 27, 182, 0, 180, 153, 0, 27, 28, 133, 9, 20, 0, 183, 184, 0, 5, 153, 0, 15, 42, 27]
abbrev dktX0_drum_0 : List UInt8 := dkwX0_drum_0 ++ dktX0_drum_1
theorem dksX0_drum_0 : cX0_drum.data.toList.drop 0 = dktX0_drum_0 := by decide +kernel
theorem dksX0_drum_1 : cX0_drum.data.toList.drop 22 = dktX0_drum_1 := dk_seg dksX0_drum_0 22 rfl rfl
theorem dX0_drum_0 : decode cX0_drum 0 = .ok (.aload_n 0, 1) := dk_42 (dk_at dksX0_drum_0 0 rfl rfl)
theorem dX0_drum_1 : decode cX0_drum 1 = .ok (.iload_n 1, 1) := dk_27 (dk_at dksX0_drum_0 1 rfl rfl)
theorem dX0_drum_2 : decode cX0_drum 2 = .ok (.invokevirtual 180, 3) := dk_182 0 180 (dk_at dksX0_drum_0 2 rfl rfl)
theorem dX0_drum_5 : decode cX0_drum 5 = .ok (.ifCond .eq 27, 3) := dk_153 0 27 (dk_at dksX0_drum_0 5 rfl rfl)
theorem dX0_drum_8 : decode cX0_drum 8 = .ok (.iload_n 2, 1) := dk_28 (dk_at dksX0_drum_0 8 rfl rfl)
theorem dX0_drum_9 : decode cX0_drum 9 = .ok (.i2l, 1) := dk_133 (dk_at dksX0_drum_0 9 rfl rfl)
theorem dX0_drum_10 : decode cX0_drum 10 = .ok (.lconst 0, 1) := dk_9 (dk_at dksX0_drum_0 10 rfl rfl)
theorem dX0_drum_11 : decode cX0_drum 11 = .ok (.ldc2_w 183, 3) := dk_20 0 183 (dk_at dksX0_drum_0 11 rfl rfl)
theorem dX0_drum_14 : decode cX0_drum 14 = .ok (.invokestatic 5, 3) := dk_184 0 5 (dk_at dksX0_drum_0 14 rfl rfl)
theorem dX0_drum_17 : decode cX0_drum 17 = .ok (.ifCond .eq 15, 3) := dk_153 0 15 (dk_at dksX0_drum_0 17 rfl rfl)
theorem dX0_drum_20 : decode cX0_drum 20 = .ok (.aload_n 0, 1) := dk_42 (dk_at dksX0_drum_0 20 rfl rfl)
theorem dX0_drum_21 : decode cX0_drum 21 = .ok (.iload_n 1, 1) := dk_27 (dk_at dksX0_drum_0 21 rfl rfl)
theorem dX0_drum_22 : decode cX0_drum 22 = .ok (.invokevirtual 185, 3) := dk_182 0 185 (dk_at dksX0_drum_1 0 rfl rfl)
theorem dX0_drum_25 : decode cX0_drum 25 = .ok (.iload_n 2, 1) := dk_28 (dk_at dksX0_drum_1 3 rfl rfl)
theorem dX0_drum_26 : decode cX0_drum 26 = .ok (.invokestatic 189, 3) := dk_184 0 189 (dk_at dksX0_drum_1 4 rfl rfl)
theorem dX0_drum_29 : decode cX0_drum 29 = .ok (.goto 5, 3) := dk_167 0 5 (dk_at dksX0_drum_1 7 rfl rfl)
theorem dX0_drum_32 : decode cX0_drum 32 = .ok (.bipush (-2), 2) := dk_16 254 (dk_at dksX0_drum_1 10 rfl rfl)
theorem dX0_drum_34 : decode cX0_drum 34 = .ok (.ireturn, 1) := dk_172 (dk_at dksX0_drum_1 12 rfl rfl)
abbrev cX0_isMole : ByteArray := prog_1_method_15_code
def yX0_isMole : MethodName := ⟨RX0, "isMole", "(I)Z"⟩
def dkwX0_isMole_0 : List UInt8 := [27, 133, 9, 42, 182, 0, 152, 4, 100, 133, 184, 0, 5, 172]
abbrev dktX0_isMole_0 : List UInt8 := dkwX0_isMole_0 ++ []
theorem dksX0_isMole_0 : cX0_isMole.data.toList.drop 0 = dktX0_isMole_0 := by decide +kernel
theorem dX0_isMole_0 : decode cX0_isMole 0 = .ok (.iload_n 1, 1) := dk_27 (dk_at dksX0_isMole_0 0 rfl rfl)
theorem dX0_isMole_1 : decode cX0_isMole 1 = .ok (.i2l, 1) := dk_133 (dk_at dksX0_isMole_0 1 rfl rfl)
theorem dX0_isMole_2 : decode cX0_isMole 2 = .ok (.lconst 0, 1) := dk_9 (dk_at dksX0_isMole_0 2 rfl rfl)
theorem dX0_isMole_3 : decode cX0_isMole 3 = .ok (.aload_n 0, 1) := dk_42 (dk_at dksX0_isMole_0 3 rfl rfl)
theorem dX0_isMole_4 : decode cX0_isMole 4 = .ok (.invokevirtual 152, 3) := dk_182 0 152 (dk_at dksX0_isMole_0 4 rfl rfl)
theorem dX0_isMole_7 : decode cX0_isMole 7 = .ok (.iconst 1, 1) := dk_4 (dk_at dksX0_isMole_0 7 rfl rfl)
theorem dX0_isMole_8 : decode cX0_isMole 8 = .ok (.isub, 1) := dk_100 (dk_at dksX0_isMole_0 8 rfl rfl)
theorem dX0_isMole_9 : decode cX0_isMole 9 = .ok (.i2l, 1) := dk_133 (dk_at dksX0_isMole_0 9 rfl rfl)
theorem dX0_isMole_10 : decode cX0_isMole 10 = .ok (.invokestatic 5, 3) := dk_184 0 5 (dk_at dksX0_isMole_0 10 rfl rfl)
theorem dX0_isMole_13 : decode cX0_isMole 13 = .ok (.ireturn, 1) := dk_172 (dk_at dksX0_isMole_0 13 rfl rfl)
abbrev cX0_comingsOfDrum : ByteArray := prog_1_method_12_code
def yX0_comingsOfDrum : MethodName := ⟨RX0, "comingsOfDrum", "()I"⟩
def dkwX0_comingsOfDrum_0 : List UInt8 := [42, 180, 0, 41, 180, 0, 131, 185, 0, 135, 1, 0, 172]
abbrev dktX0_comingsOfDrum_0 : List UInt8 := dkwX0_comingsOfDrum_0 ++ []
theorem dksX0_comingsOfDrum_0 : cX0_comingsOfDrum.data.toList.drop 0 = dktX0_comingsOfDrum_0 := by decide +kernel
theorem dX0_comingsOfDrum_0 : decode cX0_comingsOfDrum 0 = .ok (.aload_n 0, 1) := dk_42 (dk_at dksX0_comingsOfDrum_0 0 rfl rfl)
theorem dX0_comingsOfDrum_1 : decode cX0_comingsOfDrum 1 = .ok (.getfield 41, 3) := dk_180 0 41 (dk_at dksX0_comingsOfDrum_0 1 rfl rfl)
theorem dX0_comingsOfDrum_4 : decode cX0_comingsOfDrum 4 = .ok (.getfield 131, 3) := dk_180 0 131 (dk_at dksX0_comingsOfDrum_0 4 rfl rfl)
theorem dX0_comingsOfDrum_7 : decode cX0_comingsOfDrum 7 = .ok (.invokeinterface 135 1, 5) := by decide +kernel
theorem dX0_comingsOfDrum_12 : decode cX0_comingsOfDrum 12 = .ok (.ireturn, 1) := dk_172 (dk_at dksX0_comingsOfDrum_0 12 rfl rfl)
abbrev cX0_mole : ByteArray := prog_1_method_13_code
def yX0_mole : MethodName := ⟨RX0, "mole", "(I)LMoleBoard$Mole;"⟩
def dkwX0_mole_0 : List UInt8 := [42, 180, 0, 41, 180, 0, 131, 27, 185, 0, 141, 2, 0, 192, 0, 145, 176]
abbrev dktX0_mole_0 : List UInt8 := dkwX0_mole_0 ++ []
theorem dksX0_mole_0 : cX0_mole.data.toList.drop 0 = dktX0_mole_0 := by decide +kernel
theorem dX0_mole_0 : decode cX0_mole 0 = .ok (.aload_n 0, 1) := dk_42 (dk_at dksX0_mole_0 0 rfl rfl)
theorem dX0_mole_1 : decode cX0_mole 1 = .ok (.getfield 41, 3) := dk_180 0 41 (dk_at dksX0_mole_0 1 rfl rfl)
theorem dX0_mole_4 : decode cX0_mole 4 = .ok (.getfield 131, 3) := dk_180 0 131 (dk_at dksX0_mole_0 4 rfl rfl)
theorem dX0_mole_7 : decode cX0_mole 7 = .ok (.iload_n 1, 1) := dk_27 (dk_at dksX0_mole_0 7 rfl rfl)
theorem dX0_mole_8 : decode cX0_mole 8 = .ok (.invokeinterface 141 2, 5) := by decide +kernel
theorem dX0_mole_13 : decode cX0_mole 13 = .ok (.checkcast 145, 3) := dk_192 0 145 (dk_at dksX0_mole_0 13 rfl rfl)
theorem dX0_mole_16 : decode cX0_mole 16 = .ok (.areturn, 1) := dk_176 (dk_at dksX0_mole_0 16 rfl rfl)
abbrev cX0_told : ByteArray := prog_1_method_21_code
def yX0_told : MethodName := ⟨RX0, "told", "(LMoleBoard$Mole;I)I"⟩
def dkwX0_told_1 : List UInt8 := [180, 0, 176, 153, 0, 7, 4, 167, 0, 4, 3, 172]
abbrev dktX0_told_1 : List UInt8 := dkwX0_told_1 ++ []
def dkwX0_told_0 : List UInt8 := [27, 154, 0, 10, 42, 180, 0, 170, 167, 0, 27, 27, 4, 160, 0, 10, 42, 180, 0, 173, 167, 0, 15, 42]
abbrev dktX0_told_0 : List UInt8 := dkwX0_told_0 ++ dktX0_told_1
theorem dksX0_told_0 : cX0_told.data.toList.drop 0 = dktX0_told_0 := by decide +kernel
theorem dksX0_told_1 : cX0_told.data.toList.drop 24 = dktX0_told_1 := dk_seg dksX0_told_0 24 rfl rfl
theorem dX0_told_0 : decode cX0_told 0 = .ok (.iload_n 1, 1) := dk_27 (dk_at dksX0_told_0 0 rfl rfl)
theorem dX0_told_1 : decode cX0_told 1 = .ok (.ifCond .ne 10, 3) := dk_154 0 10 (dk_at dksX0_told_0 1 rfl rfl)
theorem dX0_told_4 : decode cX0_told 4 = .ok (.aload_n 0, 1) := dk_42 (dk_at dksX0_told_0 4 rfl rfl)
theorem dX0_told_5 : decode cX0_told 5 = .ok (.getfield 170, 3) := dk_180 0 170 (dk_at dksX0_told_0 5 rfl rfl)
theorem dX0_told_8 : decode cX0_told 8 = .ok (.goto 27, 3) := dk_167 0 27 (dk_at dksX0_told_0 8 rfl rfl)
theorem dX0_told_11 : decode cX0_told 11 = .ok (.iload_n 1, 1) := dk_27 (dk_at dksX0_told_0 11 rfl rfl)
theorem dX0_told_12 : decode cX0_told 12 = .ok (.iconst 1, 1) := dk_4 (dk_at dksX0_told_0 12 rfl rfl)
theorem dX0_told_13 : decode cX0_told 13 = .ok (.if_icmp .ne 10, 3) := dk_160 0 10 (dk_at dksX0_told_0 13 rfl rfl)
theorem dX0_told_16 : decode cX0_told 16 = .ok (.aload_n 0, 1) := dk_42 (dk_at dksX0_told_0 16 rfl rfl)
theorem dX0_told_17 : decode cX0_told 17 = .ok (.getfield 173, 3) := dk_180 0 173 (dk_at dksX0_told_0 17 rfl rfl)
theorem dX0_told_20 : decode cX0_told 20 = .ok (.goto 15, 3) := dk_167 0 15 (dk_at dksX0_told_0 20 rfl rfl)
theorem dX0_told_23 : decode cX0_told 23 = .ok (.aload_n 0, 1) := dk_42 (dk_at dksX0_told_0 23 rfl rfl)
theorem dX0_told_24 : decode cX0_told 24 = .ok (.getfield 176, 3) := dk_180 0 176 (dk_at dksX0_told_1 0 rfl rfl)
theorem dX0_told_27 : decode cX0_told 27 = .ok (.ifCond .eq 7, 3) := dk_153 0 7 (dk_at dksX0_told_1 3 rfl rfl)
theorem dX0_told_30 : decode cX0_told 30 = .ok (.iconst 1, 1) := dk_4 (dk_at dksX0_told_1 6 rfl rfl)
theorem dX0_told_31 : decode cX0_told 31 = .ok (.goto 4, 3) := dk_167 0 4 (dk_at dksX0_told_1 7 rfl rfl)
theorem dX0_told_34 : decode cX0_told 34 = .ok (.iconst 0, 1) := dk_3 (dk_at dksX0_told_1 10 rfl rfl)
theorem dX0_told_35 : decode cX0_told 35 = .ok (.ireturn, 1) := dk_172 (dk_at dksX0_told_1 11 rfl rfl)
abbrev cX0_player : ByteArray := prog_1_method_23_code
def yX0_player : MethodName := ⟨RX0, "player", "(II)I"⟩
def dkwX0_player_1 : List UInt8 := [182, 0, 198, 180, 0, 202, 28, 46, 167, 0, 5, 16, 254, 172]
abbrev dktX0_player_1 : List UInt8 := dkwX0_player_1 ++ []
def dkwX0_player_0 : List UInt8 := [42, 27, 182, 0, 193, 153, 0, 28, 28, 133, 9, 20, 0, 196, 184, 0, 5, 153, 0, 16, 42, 27]
abbrev dktX0_player_0 : List UInt8 := dkwX0_player_0 ++ dktX0_player_1
theorem dksX0_player_0 : cX0_player.data.toList.drop 0 = dktX0_player_0 := by decide +kernel
theorem dksX0_player_1 : cX0_player.data.toList.drop 22 = dktX0_player_1 := dk_seg dksX0_player_0 22 rfl rfl
theorem dX0_player_0 : decode cX0_player 0 = .ok (.aload_n 0, 1) := dk_42 (dk_at dksX0_player_0 0 rfl rfl)
theorem dX0_player_1 : decode cX0_player 1 = .ok (.iload_n 1, 1) := dk_27 (dk_at dksX0_player_0 1 rfl rfl)
theorem dX0_player_2 : decode cX0_player 2 = .ok (.invokevirtual 193, 3) := dk_182 0 193 (dk_at dksX0_player_0 2 rfl rfl)
theorem dX0_player_5 : decode cX0_player 5 = .ok (.ifCond .eq 28, 3) := dk_153 0 28 (dk_at dksX0_player_0 5 rfl rfl)
theorem dX0_player_8 : decode cX0_player 8 = .ok (.iload_n 2, 1) := dk_28 (dk_at dksX0_player_0 8 rfl rfl)
theorem dX0_player_9 : decode cX0_player 9 = .ok (.i2l, 1) := dk_133 (dk_at dksX0_player_0 9 rfl rfl)
theorem dX0_player_10 : decode cX0_player 10 = .ok (.lconst 0, 1) := dk_9 (dk_at dksX0_player_0 10 rfl rfl)
theorem dX0_player_11 : decode cX0_player 11 = .ok (.ldc2_w 196, 3) := dk_20 0 196 (dk_at dksX0_player_0 11 rfl rfl)
theorem dX0_player_14 : decode cX0_player 14 = .ok (.invokestatic 5, 3) := dk_184 0 5 (dk_at dksX0_player_0 14 rfl rfl)
theorem dX0_player_17 : decode cX0_player 17 = .ok (.ifCond .eq 16, 3) := dk_153 0 16 (dk_at dksX0_player_0 17 rfl rfl)
theorem dX0_player_20 : decode cX0_player 20 = .ok (.aload_n 0, 1) := dk_42 (dk_at dksX0_player_0 20 rfl rfl)
theorem dX0_player_21 : decode cX0_player 21 = .ok (.iload_n 1, 1) := dk_27 (dk_at dksX0_player_0 21 rfl rfl)
theorem dX0_player_22 : decode cX0_player 22 = .ok (.invokevirtual 198, 3) := dk_182 0 198 (dk_at dksX0_player_1 0 rfl rfl)
theorem dX0_player_25 : decode cX0_player 25 = .ok (.getfield 202, 3) := dk_180 0 202 (dk_at dksX0_player_1 3 rfl rfl)
theorem dX0_player_28 : decode cX0_player 28 = .ok (.iload_n 2, 1) := dk_28 (dk_at dksX0_player_1 6 rfl rfl)
theorem dX0_player_29 : decode cX0_player 29 = .ok (.iaload, 1) := dk_46 (dk_at dksX0_player_1 7 rfl rfl)
theorem dX0_player_30 : decode cX0_player 30 = .ok (.goto 5, 3) := dk_167 0 5 (dk_at dksX0_player_1 8 rfl rfl)
theorem dX0_player_33 : decode cX0_player 33 = .ok (.bipush (-2), 2) := dk_16 254 (dk_at dksX0_player_1 11 rfl rfl)
theorem dX0_player_35 : decode cX0_player 35 = .ok (.ireturn, 1) := dk_172 (dk_at dksX0_player_1 13 rfl rfl)
abbrev cX0_isPlayer : ByteArray := prog_1_method_16_code
def yX0_isPlayer : MethodName := ⟨RX0, "isPlayer", "(I)Z"⟩
def dkwX0_isPlayer_0 : List UInt8 := [27, 133, 9, 42, 180, 0, 41, 180, 0, 147, 185, 0, 135, 1, 0, 4, 100, 133, 184, 0, 5, 172]
abbrev dktX0_isPlayer_0 : List UInt8 := dkwX0_isPlayer_0 ++ []
theorem dksX0_isPlayer_0 : cX0_isPlayer.data.toList.drop 0 = dktX0_isPlayer_0 := by decide +kernel
theorem dX0_isPlayer_0 : decode cX0_isPlayer 0 = .ok (.iload_n 1, 1) := dk_27 (dk_at dksX0_isPlayer_0 0 rfl rfl)
theorem dX0_isPlayer_1 : decode cX0_isPlayer 1 = .ok (.i2l, 1) := dk_133 (dk_at dksX0_isPlayer_0 1 rfl rfl)
theorem dX0_isPlayer_2 : decode cX0_isPlayer 2 = .ok (.lconst 0, 1) := dk_9 (dk_at dksX0_isPlayer_0 2 rfl rfl)
theorem dX0_isPlayer_3 : decode cX0_isPlayer 3 = .ok (.aload_n 0, 1) := dk_42 (dk_at dksX0_isPlayer_0 3 rfl rfl)
theorem dX0_isPlayer_4 : decode cX0_isPlayer 4 = .ok (.getfield 41, 3) := dk_180 0 41 (dk_at dksX0_isPlayer_0 4 rfl rfl)
theorem dX0_isPlayer_7 : decode cX0_isPlayer 7 = .ok (.getfield 147, 3) := dk_180 0 147 (dk_at dksX0_isPlayer_0 7 rfl rfl)
theorem dX0_isPlayer_10 : decode cX0_isPlayer 10 = .ok (.invokeinterface 135 1, 5) := by decide +kernel
theorem dX0_isPlayer_15 : decode cX0_isPlayer 15 = .ok (.iconst 1, 1) := dk_4 (dk_at dksX0_isPlayer_0 15 rfl rfl)
theorem dX0_isPlayer_16 : decode cX0_isPlayer 16 = .ok (.isub, 1) := dk_100 (dk_at dksX0_isPlayer_0 16 rfl rfl)
theorem dX0_isPlayer_17 : decode cX0_isPlayer 17 = .ok (.i2l, 1) := dk_133 (dk_at dksX0_isPlayer_0 17 rfl rfl)
theorem dX0_isPlayer_18 : decode cX0_isPlayer 18 = .ok (.invokestatic 5, 3) := dk_184 0 5 (dk_at dksX0_isPlayer_0 18 rfl rfl)
theorem dX0_isPlayer_21 : decode cX0_isPlayer 21 = .ok (.ireturn, 1) := dk_172 (dk_at dksX0_isPlayer_0 21 rfl rfl)
abbrev cX0_one : ByteArray := prog_1_method_14_code
def yX0_one : MethodName := ⟨RX0, "one", "(I)LMoleBoard$Player;"⟩
def dkwX0_one_0 : List UInt8 := [42, 180, 0, 41, 180, 0, 147, 27, 185, 0, 141, 2, 0, 192, 0, 150, 176]
abbrev dktX0_one_0 : List UInt8 := dkwX0_one_0 ++ []
theorem dksX0_one_0 : cX0_one.data.toList.drop 0 = dktX0_one_0 := by decide +kernel
theorem dX0_one_0 : decode cX0_one 0 = .ok (.aload_n 0, 1) := dk_42 (dk_at dksX0_one_0 0 rfl rfl)
theorem dX0_one_1 : decode cX0_one 1 = .ok (.getfield 41, 3) := dk_180 0 41 (dk_at dksX0_one_0 1 rfl rfl)
theorem dX0_one_4 : decode cX0_one 4 = .ok (.getfield 147, 3) := dk_180 0 147 (dk_at dksX0_one_0 4 rfl rfl)
theorem dX0_one_7 : decode cX0_one 7 = .ok (.iload_n 1, 1) := dk_27 (dk_at dksX0_one_0 7 rfl rfl)
theorem dX0_one_8 : decode cX0_one 8 = .ok (.invokeinterface 141 2, 5) := by decide +kernel
theorem dX0_one_13 : decode cX0_one 13 = .ok (.checkcast 150, 3) := dk_192 0 150 (dk_at dksX0_one_0 13 rfl rfl)
theorem dX0_one_16 : decode cX0_one 16 = .ok (.areturn, 1) := dk_176 (dk_at dksX0_one_0 16 rfl rfl)
abbrev cX0_stay : ByteArray := prog_1_method_24_code
def yX0_stay : MethodName := ⟨RX0, "stay", "(I)I"⟩
def dkwX0_stay_0 : List UInt8 := [42, 27, 133, 182, 0, 205, 153, 0, 14, 42, 180, 0, 41, 27, 182, 0, 209, 167, 0, 5, 16, 254, 172]
abbrev dktX0_stay_0 : List UInt8 := dkwX0_stay_0 ++ []
theorem dksX0_stay_0 : cX0_stay.data.toList.drop 0 = dktX0_stay_0 := by decide +kernel
theorem dX0_stay_0 : decode cX0_stay 0 = .ok (.aload_n 0, 1) := dk_42 (dk_at dksX0_stay_0 0 rfl rfl)
theorem dX0_stay_1 : decode cX0_stay 1 = .ok (.iload_n 1, 1) := dk_27 (dk_at dksX0_stay_0 1 rfl rfl)
theorem dX0_stay_2 : decode cX0_stay 2 = .ok (.i2l, 1) := dk_133 (dk_at dksX0_stay_0 2 rfl rfl)
theorem dX0_stay_3 : decode cX0_stay 3 = .ok (.invokevirtual 205, 3) := dk_182 0 205 (dk_at dksX0_stay_0 3 rfl rfl)
theorem dX0_stay_6 : decode cX0_stay 6 = .ok (.ifCond .eq 14, 3) := dk_153 0 14 (dk_at dksX0_stay_0 6 rfl rfl)
theorem dX0_stay_9 : decode cX0_stay 9 = .ok (.aload_n 0, 1) := dk_42 (dk_at dksX0_stay_0 9 rfl rfl)
theorem dX0_stay_10 : decode cX0_stay 10 = .ok (.getfield 41, 3) := dk_180 0 41 (dk_at dksX0_stay_0 10 rfl rfl)
theorem dX0_stay_13 : decode cX0_stay 13 = .ok (.iload_n 1, 1) := dk_27 (dk_at dksX0_stay_0 13 rfl rfl)
theorem dX0_stay_14 : decode cX0_stay 14 = .ok (.invokevirtual 209, 3) := dk_182 0 209 (dk_at dksX0_stay_0 14 rfl rfl)
theorem dX0_stay_17 : decode cX0_stay 17 = .ok (.goto 5, 3) := dk_167 0 5 (dk_at dksX0_stay_0 17 rfl rfl)
theorem dX0_stay_20 : decode cX0_stay 20 = .ok (.bipush (-2), 2) := dk_16 254 (dk_at dksX0_stay_0 20 rfl rfl)
theorem dX0_stay_22 : decode cX0_stay 22 = .ok (.ireturn, 1) := dk_172 (dk_at dksX0_stay_0 22 rfl rfl)
abbrev cX0_isTick : ByteArray := prog_1_method_18_code
def yX0_isTick : MethodName := ⟨RX0, "isTick", "(J)Z"⟩
def dkwX0_isTick_0 : List UInt8 := [31, 9, 42, 180, 0, 41, 180, 0, 158, 4, 100, 133, 184, 0, 5, 172]
abbrev dktX0_isTick_0 : List UInt8 := dkwX0_isTick_0 ++ []
theorem dksX0_isTick_0 : cX0_isTick.data.toList.drop 0 = dktX0_isTick_0 := by decide +kernel
theorem dX0_isTick_0 : decode cX0_isTick 0 = .ok (.lload_n 1, 1) := dk_31 (dk_at dksX0_isTick_0 0 rfl rfl)
theorem dX0_isTick_1 : decode cX0_isTick 1 = .ok (.lconst 0, 1) := dk_9 (dk_at dksX0_isTick_0 1 rfl rfl)
theorem dX0_isTick_2 : decode cX0_isTick 2 = .ok (.aload_n 0, 1) := dk_42 (dk_at dksX0_isTick_0 2 rfl rfl)
theorem dX0_isTick_3 : decode cX0_isTick 3 = .ok (.getfield 41, 3) := dk_180 0 41 (dk_at dksX0_isTick_0 3 rfl rfl)
theorem dX0_isTick_6 : decode cX0_isTick 6 = .ok (.getfield 158, 3) := dk_180 0 158 (dk_at dksX0_isTick_0 6 rfl rfl)
theorem dX0_isTick_9 : decode cX0_isTick 9 = .ok (.iconst 1, 1) := dk_4 (dk_at dksX0_isTick_0 9 rfl rfl)
theorem dX0_isTick_10 : decode cX0_isTick 10 = .ok (.isub, 1) := dk_100 (dk_at dksX0_isTick_0 10 rfl rfl)
theorem dX0_isTick_11 : decode cX0_isTick 11 = .ok (.i2l, 1) := dk_133 (dk_at dksX0_isTick_0 11 rfl rfl)
theorem dX0_isTick_12 : decode cX0_isTick 12 = .ok (.invokestatic 5, 3) := dk_184 0 5 (dk_at dksX0_isTick_0 12 rfl rfl)
theorem dX0_isTick_15 : decode cX0_isTick 15 = .ok (.ireturn, 1) := dk_172 (dk_at dksX0_isTick_0 15 rfl rfl)
abbrev cX0_comings : ByteArray := prog_1_method_28_code
def yX0_comings : MethodName := ⟨RX0, "comings", "()I"⟩
def dkwX0_comings_0 : List UInt8 := [42, 180, 0, 41, 182, 0, 113, 153, 0, 13, 42, 182, 0, 229, 180, 0, 232, 167, 0, 5, 16, 254, 172]
abbrev dktX0_comings_0 : List UInt8 := dkwX0_comings_0 ++ []
theorem dksX0_comings_0 : cX0_comings.data.toList.drop 0 = dktX0_comings_0 := by decide +kernel
theorem dX0_comings_0 : decode cX0_comings 0 = .ok (.aload_n 0, 1) := dk_42 (dk_at dksX0_comings_0 0 rfl rfl)
theorem dX0_comings_1 : decode cX0_comings 1 = .ok (.getfield 41, 3) := dk_180 0 41 (dk_at dksX0_comings_0 1 rfl rfl)
theorem dX0_comings_4 : decode cX0_comings 4 = .ok (.invokevirtual 113, 3) := dk_182 0 113 (dk_at dksX0_comings_0 4 rfl rfl)
theorem dX0_comings_7 : decode cX0_comings 7 = .ok (.ifCond .eq 13, 3) := dk_153 0 13 (dk_at dksX0_comings_0 7 rfl rfl)
theorem dX0_comings_10 : decode cX0_comings 10 = .ok (.aload_n 0, 1) := dk_42 (dk_at dksX0_comings_0 10 rfl rfl)
theorem dX0_comings_11 : decode cX0_comings 11 = .ok (.invokevirtual 229, 3) := dk_182 0 229 (dk_at dksX0_comings_0 11 rfl rfl)
theorem dX0_comings_14 : decode cX0_comings 14 = .ok (.getfield 232, 3) := dk_180 0 232 (dk_at dksX0_comings_0 14 rfl rfl)
theorem dX0_comings_17 : decode cX0_comings 17 = .ok (.goto 5, 3) := dk_167 0 5 (dk_at dksX0_comings_0 17 rfl rfl)
theorem dX0_comings_20 : decode cX0_comings 20 = .ok (.bipush (-2), 2) := dk_16 254 (dk_at dksX0_comings_0 20 rfl rfl)
theorem dX0_comings_22 : decode cX0_comings 22 = .ok (.ireturn, 1) := dk_172 (dk_at dksX0_comings_0 22 rfl rfl)
abbrev cX0_game : ByteArray := prog_1_method_27_code
def yX0_game : MethodName := ⟨RX0, "game", "()LMoleBoard$Game;"⟩
def dkwX0_game_0 : List UInt8 := [42, 180, 0, 62, 182, 0, 225, 176]
abbrev dktX0_game_0 : List UInt8 := dkwX0_game_0 ++ []
theorem dksX0_game_0 : cX0_game.data.toList.drop 0 = dktX0_game_0 := by decide +kernel
theorem dX0_game_0 : decode cX0_game 0 = .ok (.aload_n 0, 1) := dk_42 (dk_at dksX0_game_0 0 rfl rfl)
theorem dX0_game_1 : decode cX0_game 1 = .ok (.getfield 62, 3) := dk_180 0 62 (dk_at dksX0_game_0 1 rfl rfl)
theorem dX0_game_4 : decode cX0_game 4 = .ok (.invokevirtual 225, 3) := dk_182 0 225 (dk_at dksX0_game_0 4 rfl rfl)
theorem dX0_game_7 : decode cX0_game 7 = .ok (.areturn, 1) := dk_176 (dk_at dksX0_game_0 7 rfl rfl)
abbrev cX0_mayFollow : ByteArray := prog_1_method_26_code
def yX0_mayFollow : MethodName := ⟨RX0, "mayFollow", "(IIII)Z"⟩
def dkwX0_mayFollow_2 : List UInt8 := [28, 4, 159, 0, 9, 27, 21, 4, 159, 0, 7, 4, 167, 0, 4, 3, 172]
abbrev dktX0_mayFollow_2 : List UInt8 := dkwX0_mayFollow_2 ++ []
def dkwX0_mayFollow_1 : List UInt8 := [160, 0, 19, 42, 27, 29, 182, 0, 221, 4, 164, 0, 7, 4, 167, 0, 4, 3, 172, 27, 29, 159, 0, 18]
abbrev dktX0_mayFollow_1 : List UInt8 := dkwX0_mayFollow_1 ++ dktX0_mayFollow_2
def dkwX0_mayFollow_0 : List UInt8 := [42, 27, 182, 0, 167, 154, 0, 5, 3, 172, 28, 153, 0, 8, 29, 2, 160, 0, 5, 4, 172, 28, 5]
abbrev dktX0_mayFollow_0 : List UInt8 := dkwX0_mayFollow_0 ++ dktX0_mayFollow_1
theorem dksX0_mayFollow_0 : cX0_mayFollow.data.toList.drop 0 = dktX0_mayFollow_0 := by decide +kernel
theorem dksX0_mayFollow_1 : cX0_mayFollow.data.toList.drop 23 = dktX0_mayFollow_1 := dk_seg dksX0_mayFollow_0 23 rfl rfl
theorem dksX0_mayFollow_2 : cX0_mayFollow.data.toList.drop 47 = dktX0_mayFollow_2 := dk_seg dksX0_mayFollow_1 24 rfl rfl
theorem dX0_mayFollow_0 : decode cX0_mayFollow 0 = .ok (.aload_n 0, 1) := dk_42 (dk_at dksX0_mayFollow_0 0 rfl rfl)
theorem dX0_mayFollow_1 : decode cX0_mayFollow 1 = .ok (.iload_n 1, 1) := dk_27 (dk_at dksX0_mayFollow_0 1 rfl rfl)
theorem dX0_mayFollow_2 : decode cX0_mayFollow 2 = .ok (.invokevirtual 167, 3) := dk_182 0 167 (dk_at dksX0_mayFollow_0 2 rfl rfl)
theorem dX0_mayFollow_5 : decode cX0_mayFollow 5 = .ok (.ifCond .ne 5, 3) := dk_154 0 5 (dk_at dksX0_mayFollow_0 5 rfl rfl)
theorem dX0_mayFollow_8 : decode cX0_mayFollow 8 = .ok (.iconst 0, 1) := dk_3 (dk_at dksX0_mayFollow_0 8 rfl rfl)
theorem dX0_mayFollow_9 : decode cX0_mayFollow 9 = .ok (.ireturn, 1) := dk_172 (dk_at dksX0_mayFollow_0 9 rfl rfl)
theorem dX0_mayFollow_10 : decode cX0_mayFollow 10 = .ok (.iload_n 2, 1) := dk_28 (dk_at dksX0_mayFollow_0 10 rfl rfl)
theorem dX0_mayFollow_11 : decode cX0_mayFollow 11 = .ok (.ifCond .eq 8, 3) := dk_153 0 8 (dk_at dksX0_mayFollow_0 11 rfl rfl)
theorem dX0_mayFollow_14 : decode cX0_mayFollow 14 = .ok (.iload_n 3, 1) := dk_29 (dk_at dksX0_mayFollow_0 14 rfl rfl)
theorem dX0_mayFollow_15 : decode cX0_mayFollow 15 = .ok (.iconst (-1), 1) := dk_2 (dk_at dksX0_mayFollow_0 15 rfl rfl)
theorem dX0_mayFollow_16 : decode cX0_mayFollow 16 = .ok (.if_icmp .ne 5, 3) := dk_160 0 5 (dk_at dksX0_mayFollow_0 16 rfl rfl)
theorem dX0_mayFollow_19 : decode cX0_mayFollow 19 = .ok (.iconst 1, 1) := dk_4 (dk_at dksX0_mayFollow_0 19 rfl rfl)
theorem dX0_mayFollow_20 : decode cX0_mayFollow 20 = .ok (.ireturn, 1) := dk_172 (dk_at dksX0_mayFollow_0 20 rfl rfl)
theorem dX0_mayFollow_21 : decode cX0_mayFollow 21 = .ok (.iload_n 2, 1) := dk_28 (dk_at dksX0_mayFollow_0 21 rfl rfl)
theorem dX0_mayFollow_22 : decode cX0_mayFollow 22 = .ok (.iconst 2, 1) := dk_5 (dk_at dksX0_mayFollow_0 22 rfl rfl)
theorem dX0_mayFollow_23 : decode cX0_mayFollow 23 = .ok (.if_icmp .ne 19, 3) := dk_160 0 19 (dk_at dksX0_mayFollow_1 0 rfl rfl)
theorem dX0_mayFollow_26 : decode cX0_mayFollow 26 = .ok (.aload_n 0, 1) := dk_42 (dk_at dksX0_mayFollow_1 3 rfl rfl)
theorem dX0_mayFollow_27 : decode cX0_mayFollow 27 = .ok (.iload_n 1, 1) := dk_27 (dk_at dksX0_mayFollow_1 4 rfl rfl)
theorem dX0_mayFollow_28 : decode cX0_mayFollow 28 = .ok (.iload_n 3, 1) := dk_29 (dk_at dksX0_mayFollow_1 5 rfl rfl)
theorem dX0_mayFollow_29 : decode cX0_mayFollow 29 = .ok (.invokevirtual 221, 3) := dk_182 0 221 (dk_at dksX0_mayFollow_1 6 rfl rfl)
theorem dX0_mayFollow_32 : decode cX0_mayFollow 32 = .ok (.iconst 1, 1) := dk_4 (dk_at dksX0_mayFollow_1 9 rfl rfl)
theorem dX0_mayFollow_33 : decode cX0_mayFollow 33 = .ok (.if_icmp .le 7, 3) := dk_164 0 7 (dk_at dksX0_mayFollow_1 10 rfl rfl)
theorem dX0_mayFollow_36 : decode cX0_mayFollow 36 = .ok (.iconst 1, 1) := dk_4 (dk_at dksX0_mayFollow_1 13 rfl rfl)
theorem dX0_mayFollow_37 : decode cX0_mayFollow 37 = .ok (.goto 4, 3) := dk_167 0 4 (dk_at dksX0_mayFollow_1 14 rfl rfl)
theorem dX0_mayFollow_40 : decode cX0_mayFollow 40 = .ok (.iconst 0, 1) := dk_3 (dk_at dksX0_mayFollow_1 17 rfl rfl)
theorem dX0_mayFollow_41 : decode cX0_mayFollow 41 = .ok (.ireturn, 1) := dk_172 (dk_at dksX0_mayFollow_1 18 rfl rfl)
theorem dX0_mayFollow_42 : decode cX0_mayFollow 42 = .ok (.iload_n 1, 1) := dk_27 (dk_at dksX0_mayFollow_1 19 rfl rfl)
theorem dX0_mayFollow_43 : decode cX0_mayFollow 43 = .ok (.iload_n 3, 1) := dk_29 (dk_at dksX0_mayFollow_1 20 rfl rfl)
theorem dX0_mayFollow_44 : decode cX0_mayFollow 44 = .ok (.if_icmp .eq 18, 3) := dk_159 0 18 (dk_at dksX0_mayFollow_1 21 rfl rfl)
theorem dX0_mayFollow_47 : decode cX0_mayFollow 47 = .ok (.iload_n 2, 1) := dk_28 (dk_at dksX0_mayFollow_2 0 rfl rfl)
theorem dX0_mayFollow_48 : decode cX0_mayFollow 48 = .ok (.iconst 1, 1) := dk_4 (dk_at dksX0_mayFollow_2 1 rfl rfl)
theorem dX0_mayFollow_49 : decode cX0_mayFollow 49 = .ok (.if_icmp .eq 9, 3) := dk_159 0 9 (dk_at dksX0_mayFollow_2 2 rfl rfl)
theorem dX0_mayFollow_52 : decode cX0_mayFollow 52 = .ok (.iload_n 1, 1) := dk_27 (dk_at dksX0_mayFollow_2 5 rfl rfl)
theorem dX0_mayFollow_53 : decode cX0_mayFollow 53 = .ok (.iload 4, 2) := dk_21 4 (dk_at dksX0_mayFollow_2 6 rfl rfl)
theorem dX0_mayFollow_55 : decode cX0_mayFollow 55 = .ok (.if_icmp .eq 7, 3) := dk_159 0 7 (dk_at dksX0_mayFollow_2 8 rfl rfl)
theorem dX0_mayFollow_58 : decode cX0_mayFollow 58 = .ok (.iconst 1, 1) := dk_4 (dk_at dksX0_mayFollow_2 11 rfl rfl)
theorem dX0_mayFollow_59 : decode cX0_mayFollow 59 = .ok (.goto 4, 3) := dk_167 0 4 (dk_at dksX0_mayFollow_2 12 rfl rfl)
theorem dX0_mayFollow_62 : decode cX0_mayFollow 62 = .ok (.iconst 0, 1) := dk_3 (dk_at dksX0_mayFollow_2 15 rfl rfl)
theorem dX0_mayFollow_63 : decode cX0_mayFollow 63 = .ok (.ireturn, 1) := dk_172 (dk_at dksX0_mayFollow_2 16 rfl rfl)
abbrev cX0_isOpen : ByteArray := prog_1_method_19_code
def yX0_isOpen : MethodName := ⟨RX0, "isOpen", "(I)Z"⟩
def dkwX0_isOpen_0 : List UInt8 := [42, 180, 0, 41, 180, 0, 161, 27, 184, 0, 164, 154, 0, 7, 4, 167, 0, 4, 3, 172]
abbrev dktX0_isOpen_0 : List UInt8 := dkwX0_isOpen_0 ++ []
theorem dksX0_isOpen_0 : cX0_isOpen.data.toList.drop 0 = dktX0_isOpen_0 := by decide +kernel
theorem dX0_isOpen_0 : decode cX0_isOpen 0 = .ok (.aload_n 0, 1) := dk_42 (dk_at dksX0_isOpen_0 0 rfl rfl)
theorem dX0_isOpen_1 : decode cX0_isOpen 1 = .ok (.getfield 41, 3) := dk_180 0 41 (dk_at dksX0_isOpen_0 1 rfl rfl)
theorem dX0_isOpen_4 : decode cX0_isOpen 4 = .ok (.getfield 161, 3) := dk_180 0 161 (dk_at dksX0_isOpen_0 4 rfl rfl)
theorem dX0_isOpen_7 : decode cX0_isOpen 7 = .ok (.iload_n 1, 1) := dk_27 (dk_at dksX0_isOpen_0 7 rfl rfl)
theorem dX0_isOpen_8 : decode cX0_isOpen 8 = .ok (.invokestatic 164, 3) := dk_184 0 164 (dk_at dksX0_isOpen_0 8 rfl rfl)
theorem dX0_isOpen_11 : decode cX0_isOpen 11 = .ok (.ifCond .ne 7, 3) := dk_154 0 7 (dk_at dksX0_isOpen_0 11 rfl rfl)
theorem dX0_isOpen_14 : decode cX0_isOpen 14 = .ok (.iconst 1, 1) := dk_4 (dk_at dksX0_isOpen_0 14 rfl rfl)
theorem dX0_isOpen_15 : decode cX0_isOpen 15 = .ok (.goto 4, 3) := dk_167 0 4 (dk_at dksX0_isOpen_0 15 rfl rfl)
theorem dX0_isOpen_18 : decode cX0_isOpen 18 = .ok (.iconst 0, 1) := dk_3 (dk_at dksX0_isOpen_0 18 rfl rfl)
theorem dX0_isOpen_19 : decode cX0_isOpen 19 = .ok (.ireturn, 1) := dk_172 (dk_at dksX0_isOpen_0 19 rfl rfl)
abbrev cX0_stepsOf : ByteArray := prog_1_method_25_code
def yX0_stepsOf : MethodName := ⟨RX0, "stepsOf", "(II)I"⟩
def dkwX0_stepsOf_1 : List UInt8 := [180, 0, 41, 180, 0, 213, 108, 28, 42, 180, 0, 41, 180, 0, 213, 108, 100, 184, 0, 216, 96, 172]
abbrev dktX0_stepsOf_1 : List UInt8 := dkwX0_stepsOf_1 ++ []
def dkwX0_stepsOf_0 : List UInt8 := [27, 42, 180, 0, 41, 180, 0, 213, 112, 28, 42, 180, 0, 41, 180, 0, 213, 112, 100, 184, 0, 216, 27, 42]
abbrev dktX0_stepsOf_0 : List UInt8 := dkwX0_stepsOf_0 ++ dktX0_stepsOf_1
theorem dksX0_stepsOf_0 : cX0_stepsOf.data.toList.drop 0 = dktX0_stepsOf_0 := by decide +kernel
theorem dksX0_stepsOf_1 : cX0_stepsOf.data.toList.drop 24 = dktX0_stepsOf_1 := dk_seg dksX0_stepsOf_0 24 rfl rfl
theorem dX0_stepsOf_0 : decode cX0_stepsOf 0 = .ok (.iload_n 1, 1) := dk_27 (dk_at dksX0_stepsOf_0 0 rfl rfl)
theorem dX0_stepsOf_1 : decode cX0_stepsOf 1 = .ok (.aload_n 0, 1) := dk_42 (dk_at dksX0_stepsOf_0 1 rfl rfl)
theorem dX0_stepsOf_2 : decode cX0_stepsOf 2 = .ok (.getfield 41, 3) := dk_180 0 41 (dk_at dksX0_stepsOf_0 2 rfl rfl)
theorem dX0_stepsOf_5 : decode cX0_stepsOf 5 = .ok (.getfield 213, 3) := dk_180 0 213 (dk_at dksX0_stepsOf_0 5 rfl rfl)
theorem dX0_stepsOf_8 : decode cX0_stepsOf 8 = .ok (.irem, 1) := dk_112 (dk_at dksX0_stepsOf_0 8 rfl rfl)
theorem dX0_stepsOf_9 : decode cX0_stepsOf 9 = .ok (.iload_n 2, 1) := dk_28 (dk_at dksX0_stepsOf_0 9 rfl rfl)
theorem dX0_stepsOf_10 : decode cX0_stepsOf 10 = .ok (.aload_n 0, 1) := dk_42 (dk_at dksX0_stepsOf_0 10 rfl rfl)
theorem dX0_stepsOf_11 : decode cX0_stepsOf 11 = .ok (.getfield 41, 3) := dk_180 0 41 (dk_at dksX0_stepsOf_0 11 rfl rfl)
theorem dX0_stepsOf_14 : decode cX0_stepsOf 14 = .ok (.getfield 213, 3) := dk_180 0 213 (dk_at dksX0_stepsOf_0 14 rfl rfl)
theorem dX0_stepsOf_17 : decode cX0_stepsOf 17 = .ok (.irem, 1) := dk_112 (dk_at dksX0_stepsOf_0 17 rfl rfl)
theorem dX0_stepsOf_18 : decode cX0_stepsOf 18 = .ok (.isub, 1) := dk_100 (dk_at dksX0_stepsOf_0 18 rfl rfl)
theorem dX0_stepsOf_19 : decode cX0_stepsOf 19 = .ok (.invokestatic 216, 3) := dk_184 0 216 (dk_at dksX0_stepsOf_0 19 rfl rfl)
theorem dX0_stepsOf_22 : decode cX0_stepsOf 22 = .ok (.iload_n 1, 1) := dk_27 (dk_at dksX0_stepsOf_0 22 rfl rfl)
theorem dX0_stepsOf_23 : decode cX0_stepsOf 23 = .ok (.aload_n 0, 1) := dk_42 (dk_at dksX0_stepsOf_0 23 rfl rfl)
theorem dX0_stepsOf_24 : decode cX0_stepsOf 24 = .ok (.getfield 41, 3) := dk_180 0 41 (dk_at dksX0_stepsOf_1 0 rfl rfl)
theorem dX0_stepsOf_27 : decode cX0_stepsOf 27 = .ok (.getfield 213, 3) := dk_180 0 213 (dk_at dksX0_stepsOf_1 3 rfl rfl)
theorem dX0_stepsOf_30 : decode cX0_stepsOf 30 = .ok (.idiv, 1) := dk_108 (dk_at dksX0_stepsOf_1 6 rfl rfl)
theorem dX0_stepsOf_31 : decode cX0_stepsOf 31 = .ok (.iload_n 2, 1) := dk_28 (dk_at dksX0_stepsOf_1 7 rfl rfl)
theorem dX0_stepsOf_32 : decode cX0_stepsOf 32 = .ok (.aload_n 0, 1) := dk_42 (dk_at dksX0_stepsOf_1 8 rfl rfl)
theorem dX0_stepsOf_33 : decode cX0_stepsOf 33 = .ok (.getfield 41, 3) := dk_180 0 41 (dk_at dksX0_stepsOf_1 9 rfl rfl)
theorem dX0_stepsOf_36 : decode cX0_stepsOf 36 = .ok (.getfield 213, 3) := dk_180 0 213 (dk_at dksX0_stepsOf_1 12 rfl rfl)
theorem dX0_stepsOf_39 : decode cX0_stepsOf 39 = .ok (.idiv, 1) := dk_108 (dk_at dksX0_stepsOf_1 15 rfl rfl)
theorem dX0_stepsOf_40 : decode cX0_stepsOf 40 = .ok (.isub, 1) := dk_100 (dk_at dksX0_stepsOf_1 16 rfl rfl)
theorem dX0_stepsOf_41 : decode cX0_stepsOf 41 = .ok (.invokestatic 216, 3) := dk_184 0 216 (dk_at dksX0_stepsOf_1 17 rfl rfl)
theorem dX0_stepsOf_44 : decode cX0_stepsOf 44 = .ok (.iadd, 1) := dk_96 (dk_at dksX0_stepsOf_1 20 rfl rfl)
theorem dX0_stepsOf_45 : decode cX0_stepsOf 45 = .ok (.ireturn, 1) := dk_172 (dk_at dksX0_stepsOf_1 21 rfl rfl)
abbrev cX0_comes : ByteArray := prog_1_method_29_code
def yX0_comes : MethodName := ⟨RX0, "comes", "(II)I"⟩
def dkwX0_comes_3 : List UInt8 := [180, 0, 238, 27, 46, 167, 0, 9, 45, 180, 0, 241, 27, 46, 172]
abbrev dktX0_comes_3 : List UInt8 := dkwX0_comes_3 ++ []
def dkwX0_comes_2 : List UInt8 := [28, 6, 162, 0, 15, 45, 27, 182, 0, 237, 28, 184, 0, 189, 167, 0, 23, 28, 6, 160, 0, 12, 45]
abbrev dktX0_comes_2 : List UInt8 := dkwX0_comes_2 ++ dktX0_comes_3
def dkwX0_comes_1 : List UInt8 := [172, 42, 182, 0, 229, 78, 27, 133, 9, 45, 180, 0, 232, 4, 100, 133, 184, 0, 5, 154, 0, 5, 2, 172]
abbrev dktX0_comes_1 : List UInt8 := dkwX0_comes_1 ++ dktX0_comes_2
def dkwX0_comes_0 : List UInt8 := [42, 180, 0, 41, 182, 0, 113, 153, 0, 15, 28, 133, 9, 20, 0, 196, 184, 0, 5, 154, 0, 6, 16, 254]
abbrev dktX0_comes_0 : List UInt8 := dkwX0_comes_0 ++ dktX0_comes_1
theorem dksX0_comes_0 : cX0_comes.data.toList.drop 0 = dktX0_comes_0 := by decide +kernel
theorem dksX0_comes_1 : cX0_comes.data.toList.drop 24 = dktX0_comes_1 := dk_seg dksX0_comes_0 24 rfl rfl
theorem dksX0_comes_2 : cX0_comes.data.toList.drop 48 = dktX0_comes_2 := dk_seg dksX0_comes_1 24 rfl rfl
theorem dksX0_comes_3 : cX0_comes.data.toList.drop 71 = dktX0_comes_3 := dk_seg dksX0_comes_2 23 rfl rfl
theorem dX0_comes_0 : decode cX0_comes 0 = .ok (.aload_n 0, 1) := dk_42 (dk_at dksX0_comes_0 0 rfl rfl)
theorem dX0_comes_1 : decode cX0_comes 1 = .ok (.getfield 41, 3) := dk_180 0 41 (dk_at dksX0_comes_0 1 rfl rfl)
theorem dX0_comes_4 : decode cX0_comes 4 = .ok (.invokevirtual 113, 3) := dk_182 0 113 (dk_at dksX0_comes_0 4 rfl rfl)
theorem dX0_comes_7 : decode cX0_comes 7 = .ok (.ifCond .eq 15, 3) := dk_153 0 15 (dk_at dksX0_comes_0 7 rfl rfl)
theorem dX0_comes_10 : decode cX0_comes 10 = .ok (.iload_n 2, 1) := dk_28 (dk_at dksX0_comes_0 10 rfl rfl)
theorem dX0_comes_11 : decode cX0_comes 11 = .ok (.i2l, 1) := dk_133 (dk_at dksX0_comes_0 11 rfl rfl)
theorem dX0_comes_12 : decode cX0_comes 12 = .ok (.lconst 0, 1) := dk_9 (dk_at dksX0_comes_0 12 rfl rfl)
theorem dX0_comes_13 : decode cX0_comes 13 = .ok (.ldc2_w 196, 3) := dk_20 0 196 (dk_at dksX0_comes_0 13 rfl rfl)
theorem dX0_comes_16 : decode cX0_comes 16 = .ok (.invokestatic 5, 3) := dk_184 0 5 (dk_at dksX0_comes_0 16 rfl rfl)
theorem dX0_comes_19 : decode cX0_comes 19 = .ok (.ifCond .ne 6, 3) := dk_154 0 6 (dk_at dksX0_comes_0 19 rfl rfl)
theorem dX0_comes_22 : decode cX0_comes 22 = .ok (.bipush (-2), 2) := dk_16 254 (dk_at dksX0_comes_0 22 rfl rfl)
theorem dX0_comes_24 : decode cX0_comes 24 = .ok (.ireturn, 1) := dk_172 (dk_at dksX0_comes_1 0 rfl rfl)
theorem dX0_comes_25 : decode cX0_comes 25 = .ok (.aload_n 0, 1) := dk_42 (dk_at dksX0_comes_1 1 rfl rfl)
theorem dX0_comes_26 : decode cX0_comes 26 = .ok (.invokevirtual 229, 3) := dk_182 0 229 (dk_at dksX0_comes_1 2 rfl rfl)
theorem dX0_comes_29 : decode cX0_comes 29 = .ok (.astore_n 3, 1) := dk_78 (dk_at dksX0_comes_1 5 rfl rfl)
theorem dX0_comes_30 : decode cX0_comes 30 = .ok (.iload_n 1, 1) := dk_27 (dk_at dksX0_comes_1 6 rfl rfl)
theorem dX0_comes_31 : decode cX0_comes 31 = .ok (.i2l, 1) := dk_133 (dk_at dksX0_comes_1 7 rfl rfl)
theorem dX0_comes_32 : decode cX0_comes 32 = .ok (.lconst 0, 1) := dk_9 (dk_at dksX0_comes_1 8 rfl rfl)
theorem dX0_comes_33 : decode cX0_comes 33 = .ok (.aload_n 3, 1) := dk_45 (dk_at dksX0_comes_1 9 rfl rfl)
theorem dX0_comes_34 : decode cX0_comes 34 = .ok (.getfield 232, 3) := dk_180 0 232 (dk_at dksX0_comes_1 10 rfl rfl)
theorem dX0_comes_37 : decode cX0_comes 37 = .ok (.iconst 1, 1) := dk_4 (dk_at dksX0_comes_1 13 rfl rfl)
theorem dX0_comes_38 : decode cX0_comes 38 = .ok (.isub, 1) := dk_100 (dk_at dksX0_comes_1 14 rfl rfl)
theorem dX0_comes_39 : decode cX0_comes 39 = .ok (.i2l, 1) := dk_133 (dk_at dksX0_comes_1 15 rfl rfl)
theorem dX0_comes_40 : decode cX0_comes 40 = .ok (.invokestatic 5, 3) := dk_184 0 5 (dk_at dksX0_comes_1 16 rfl rfl)
theorem dX0_comes_43 : decode cX0_comes 43 = .ok (.ifCond .ne 5, 3) := dk_154 0 5 (dk_at dksX0_comes_1 19 rfl rfl)
theorem dX0_comes_46 : decode cX0_comes 46 = .ok (.iconst (-1), 1) := dk_2 (dk_at dksX0_comes_1 22 rfl rfl)
theorem dX0_comes_47 : decode cX0_comes 47 = .ok (.ireturn, 1) := dk_172 (dk_at dksX0_comes_1 23 rfl rfl)
theorem dX0_comes_48 : decode cX0_comes 48 = .ok (.iload_n 2, 1) := dk_28 (dk_at dksX0_comes_2 0 rfl rfl)
theorem dX0_comes_49 : decode cX0_comes 49 = .ok (.iconst 3, 1) := dk_6 (dk_at dksX0_comes_2 1 rfl rfl)
theorem dX0_comes_50 : decode cX0_comes 50 = .ok (.if_icmp .ge 15, 3) := dk_162 0 15 (dk_at dksX0_comes_2 2 rfl rfl)
theorem dX0_comes_53 : decode cX0_comes 53 = .ok (.aload_n 3, 1) := dk_45 (dk_at dksX0_comes_2 5 rfl rfl)
theorem dX0_comes_54 : decode cX0_comes 54 = .ok (.iload_n 1, 1) := dk_27 (dk_at dksX0_comes_2 6 rfl rfl)
theorem dX0_comes_55 : decode cX0_comes 55 = .ok (.invokevirtual 237, 3) := dk_182 0 237 (dk_at dksX0_comes_2 7 rfl rfl)
theorem dX0_comes_58 : decode cX0_comes 58 = .ok (.iload_n 2, 1) := dk_28 (dk_at dksX0_comes_2 10 rfl rfl)
theorem dX0_comes_59 : decode cX0_comes 59 = .ok (.invokestatic 189, 3) := dk_184 0 189 (dk_at dksX0_comes_2 11 rfl rfl)
theorem dX0_comes_62 : decode cX0_comes 62 = .ok (.goto 23, 3) := dk_167 0 23 (dk_at dksX0_comes_2 14 rfl rfl)
theorem dX0_comes_65 : decode cX0_comes 65 = .ok (.iload_n 2, 1) := dk_28 (dk_at dksX0_comes_2 17 rfl rfl)
theorem dX0_comes_66 : decode cX0_comes 66 = .ok (.iconst 3, 1) := dk_6 (dk_at dksX0_comes_2 18 rfl rfl)
theorem dX0_comes_67 : decode cX0_comes 67 = .ok (.if_icmp .ne 12, 3) := dk_160 0 12 (dk_at dksX0_comes_2 19 rfl rfl)
theorem dX0_comes_70 : decode cX0_comes 70 = .ok (.aload_n 3, 1) := dk_45 (dk_at dksX0_comes_2 22 rfl rfl)
theorem dX0_comes_71 : decode cX0_comes 71 = .ok (.getfield 238, 3) := dk_180 0 238 (dk_at dksX0_comes_3 0 rfl rfl)
theorem dX0_comes_74 : decode cX0_comes 74 = .ok (.iload_n 1, 1) := dk_27 (dk_at dksX0_comes_3 3 rfl rfl)
theorem dX0_comes_75 : decode cX0_comes 75 = .ok (.iaload, 1) := dk_46 (dk_at dksX0_comes_3 4 rfl rfl)
theorem dX0_comes_76 : decode cX0_comes 76 = .ok (.goto 9, 3) := dk_167 0 9 (dk_at dksX0_comes_3 5 rfl rfl)
theorem dX0_comes_79 : decode cX0_comes 79 = .ok (.aload_n 3, 1) := dk_45 (dk_at dksX0_comes_3 8 rfl rfl)
theorem dX0_comes_80 : decode cX0_comes 80 = .ok (.getfield 241, 3) := dk_180 0 241 (dk_at dksX0_comes_3 9 rfl rfl)
theorem dX0_comes_83 : decode cX0_comes 83 = .ok (.iload_n 1, 1) := dk_27 (dk_at dksX0_comes_3 12 rfl rfl)
theorem dX0_comes_84 : decode cX0_comes 84 = .ok (.iaload, 1) := dk_46 (dk_at dksX0_comes_3 13 rfl rfl)
theorem dX0_comes_85 : decode cX0_comes 85 = .ok (.ireturn, 1) := dk_172 (dk_at dksX0_comes_3 14 rfl rfl)
abbrev cX0_up : ByteArray := prog_1_method_30_code
def yX0_up : MethodName := ⟨RX0, "up", "(I)I"⟩
def dkwX0_up_3 : List UInt8 := [182, 0, 237, 180, 0, 173, 120, 167, 0, 4, 3, 128, 128, 62, 132, 4, 1, 167, 255, 192, 29, 172]
abbrev dktX0_up_3 : List UInt8 := dkwX0_up_3 ++ []
def dkwX0_up_2 : List UInt8 := [182, 0, 237, 180, 0, 170, 120, 44, 21, 4, 182, 0, 237, 182, 0, 247, 153, 0, 17, 4, 44, 21, 4]
abbrev dktX0_up_2 : List UInt8 := dkwX0_up_2 ++ dktX0_up_3
def dkwX0_up_1 : List UInt8 := [44, 180, 0, 232, 162, 0, 61, 44, 21, 4, 27, 182, 0, 244, 153, 0, 45, 29, 4, 44, 21, 4]
abbrev dktX0_up_1 : List UInt8 := dkwX0_up_1 ++ dktX0_up_2
def dkwX0_up_0 : List UInt8 := [42, 27, 133, 182, 0, 205, 154, 0, 6, 16, 254, 172, 42, 182, 0, 229, 77, 3, 62, 3, 54, 4, 21, 4]
abbrev dktX0_up_0 : List UInt8 := dkwX0_up_0 ++ dktX0_up_1
theorem dksX0_up_0 : cX0_up.data.toList.drop 0 = dktX0_up_0 := by decide +kernel
theorem dksX0_up_1 : cX0_up.data.toList.drop 24 = dktX0_up_1 := dk_seg dksX0_up_0 24 rfl rfl
theorem dksX0_up_2 : cX0_up.data.toList.drop 46 = dktX0_up_2 := dk_seg dksX0_up_1 22 rfl rfl
theorem dksX0_up_3 : cX0_up.data.toList.drop 69 = dktX0_up_3 := dk_seg dksX0_up_2 23 rfl rfl
theorem dX0_up_0 : decode cX0_up 0 = .ok (.aload_n 0, 1) := dk_42 (dk_at dksX0_up_0 0 rfl rfl)
theorem dX0_up_1 : decode cX0_up 1 = .ok (.iload_n 1, 1) := dk_27 (dk_at dksX0_up_0 1 rfl rfl)
theorem dX0_up_2 : decode cX0_up 2 = .ok (.i2l, 1) := dk_133 (dk_at dksX0_up_0 2 rfl rfl)
theorem dX0_up_3 : decode cX0_up 3 = .ok (.invokevirtual 205, 3) := dk_182 0 205 (dk_at dksX0_up_0 3 rfl rfl)
theorem dX0_up_6 : decode cX0_up 6 = .ok (.ifCond .ne 6, 3) := dk_154 0 6 (dk_at dksX0_up_0 6 rfl rfl)
theorem dX0_up_9 : decode cX0_up 9 = .ok (.bipush (-2), 2) := dk_16 254 (dk_at dksX0_up_0 9 rfl rfl)
theorem dX0_up_11 : decode cX0_up 11 = .ok (.ireturn, 1) := dk_172 (dk_at dksX0_up_0 11 rfl rfl)
theorem dX0_up_12 : decode cX0_up 12 = .ok (.aload_n 0, 1) := dk_42 (dk_at dksX0_up_0 12 rfl rfl)
theorem dX0_up_13 : decode cX0_up 13 = .ok (.invokevirtual 229, 3) := dk_182 0 229 (dk_at dksX0_up_0 13 rfl rfl)
theorem dX0_up_16 : decode cX0_up 16 = .ok (.astore_n 2, 1) := dk_77 (dk_at dksX0_up_0 16 rfl rfl)
theorem dX0_up_17 : decode cX0_up 17 = .ok (.iconst 0, 1) := dk_3 (dk_at dksX0_up_0 17 rfl rfl)
theorem dX0_up_18 : decode cX0_up 18 = .ok (.istore_n 3, 1) := dk_62 (dk_at dksX0_up_0 18 rfl rfl)
theorem dX0_up_19 : decode cX0_up 19 = .ok (.iconst 0, 1) := dk_3 (dk_at dksX0_up_0 19 rfl rfl)
theorem dX0_up_20 : decode cX0_up 20 = .ok (.istore 4, 2) := dk_54 4 (dk_at dksX0_up_0 20 rfl rfl)
theorem dX0_up_22 : decode cX0_up 22 = .ok (.iload 4, 2) := dk_21 4 (dk_at dksX0_up_0 22 rfl rfl)
theorem dX0_up_24 : decode cX0_up 24 = .ok (.aload_n 2, 1) := dk_44 (dk_at dksX0_up_1 0 rfl rfl)
theorem dX0_up_25 : decode cX0_up 25 = .ok (.getfield 232, 3) := dk_180 0 232 (dk_at dksX0_up_1 1 rfl rfl)
theorem dX0_up_28 : decode cX0_up 28 = .ok (.if_icmp .ge 61, 3) := dk_162 0 61 (dk_at dksX0_up_1 4 rfl rfl)
theorem dX0_up_31 : decode cX0_up 31 = .ok (.aload_n 2, 1) := dk_44 (dk_at dksX0_up_1 7 rfl rfl)
theorem dX0_up_32 : decode cX0_up 32 = .ok (.iload 4, 2) := dk_21 4 (dk_at dksX0_up_1 8 rfl rfl)
theorem dX0_up_34 : decode cX0_up 34 = .ok (.iload_n 1, 1) := dk_27 (dk_at dksX0_up_1 10 rfl rfl)
theorem dX0_up_35 : decode cX0_up 35 = .ok (.invokevirtual 244, 3) := dk_182 0 244 (dk_at dksX0_up_1 11 rfl rfl)
theorem dX0_up_38 : decode cX0_up 38 = .ok (.ifCond .eq 45, 3) := dk_153 0 45 (dk_at dksX0_up_1 14 rfl rfl)
theorem dX0_up_41 : decode cX0_up 41 = .ok (.iload_n 3, 1) := dk_29 (dk_at dksX0_up_1 17 rfl rfl)
theorem dX0_up_42 : decode cX0_up 42 = .ok (.iconst 1, 1) := dk_4 (dk_at dksX0_up_1 18 rfl rfl)
theorem dX0_up_43 : decode cX0_up 43 = .ok (.aload_n 2, 1) := dk_44 (dk_at dksX0_up_1 19 rfl rfl)
theorem dX0_up_44 : decode cX0_up 44 = .ok (.iload 4, 2) := dk_21 4 (dk_at dksX0_up_1 20 rfl rfl)
theorem dX0_up_46 : decode cX0_up 46 = .ok (.invokevirtual 237, 3) := dk_182 0 237 (dk_at dksX0_up_2 0 rfl rfl)
theorem dX0_up_49 : decode cX0_up 49 = .ok (.getfield 170, 3) := dk_180 0 170 (dk_at dksX0_up_2 3 rfl rfl)
theorem dX0_up_52 : decode cX0_up 52 = .ok (.ishl, 1) := dk_120 (dk_at dksX0_up_2 6 rfl rfl)
theorem dX0_up_53 : decode cX0_up 53 = .ok (.aload_n 2, 1) := dk_44 (dk_at dksX0_up_2 7 rfl rfl)
theorem dX0_up_54 : decode cX0_up 54 = .ok (.iload 4, 2) := dk_21 4 (dk_at dksX0_up_2 8 rfl rfl)
theorem dX0_up_56 : decode cX0_up 56 = .ok (.invokevirtual 237, 3) := dk_182 0 237 (dk_at dksX0_up_2 10 rfl rfl)
theorem dX0_up_59 : decode cX0_up 59 = .ok (.invokevirtual 247, 3) := dk_182 0 247 (dk_at dksX0_up_2 13 rfl rfl)
theorem dX0_up_62 : decode cX0_up 62 = .ok (.ifCond .eq 17, 3) := dk_153 0 17 (dk_at dksX0_up_2 16 rfl rfl)
theorem dX0_up_65 : decode cX0_up 65 = .ok (.iconst 1, 1) := dk_4 (dk_at dksX0_up_2 19 rfl rfl)
theorem dX0_up_66 : decode cX0_up 66 = .ok (.aload_n 2, 1) := dk_44 (dk_at dksX0_up_2 20 rfl rfl)
theorem dX0_up_67 : decode cX0_up 67 = .ok (.iload 4, 2) := dk_21 4 (dk_at dksX0_up_2 21 rfl rfl)
theorem dX0_up_69 : decode cX0_up 69 = .ok (.invokevirtual 237, 3) := dk_182 0 237 (dk_at dksX0_up_3 0 rfl rfl)
theorem dX0_up_72 : decode cX0_up 72 = .ok (.getfield 173, 3) := dk_180 0 173 (dk_at dksX0_up_3 3 rfl rfl)
theorem dX0_up_75 : decode cX0_up 75 = .ok (.ishl, 1) := dk_120 (dk_at dksX0_up_3 6 rfl rfl)
theorem dX0_up_76 : decode cX0_up 76 = .ok (.goto 4, 3) := dk_167 0 4 (dk_at dksX0_up_3 7 rfl rfl)
theorem dX0_up_79 : decode cX0_up 79 = .ok (.iconst 0, 1) := dk_3 (dk_at dksX0_up_3 10 rfl rfl)
theorem dX0_up_80 : decode cX0_up 80 = .ok (.ior, 1) := dk_128 (dk_at dksX0_up_3 11 rfl rfl)
theorem dX0_up_81 : decode cX0_up 81 = .ok (.ior, 1) := dk_128 (dk_at dksX0_up_3 12 rfl rfl)
theorem dX0_up_82 : decode cX0_up 82 = .ok (.istore_n 3, 1) := dk_62 (dk_at dksX0_up_3 13 rfl rfl)
theorem dX0_up_83 : decode cX0_up 83 = .ok (.iinc 4 1, 3) := dk_132 4 1 (dk_at dksX0_up_3 14 rfl rfl)
theorem dX0_up_86 : decode cX0_up 86 = .ok (.goto (-64), 3) := dk_167 255 192 (dk_at dksX0_up_3 17 rfl rfl)
theorem dX0_up_89 : decode cX0_up 89 = .ok (.iload_n 3, 1) := dk_29 (dk_at dksX0_up_3 20 rfl rfl)
theorem dX0_up_90 : decode cX0_up 90 = .ok (.ireturn, 1) := dk_172 (dk_at dksX0_up_3 21 rfl rfl)
abbrev cX0_calm : ByteArray := prog_1_method_31_code
def yX0_calm : MethodName := ⟨RX0, "calm", "()I"⟩
def dkwX0_calm_2 : List UInt8 := [180, 0, 238, 29, 46, 100, 4, 96, 100, 61, 132, 3, 1, 167, 255, 227, 28, 172]
abbrev dktX0_calm_2 : List UInt8 := dkwX0_calm_2 ++ []
def dkwX0_calm_1 : List UInt8 := [180, 0, 158, 61, 3, 62, 29, 43, 180, 0, 232, 162, 0, 27, 28, 43, 180, 0, 241, 29, 46, 43]
abbrev dktX0_calm_1 : List UInt8 := dkwX0_calm_1 ++ dktX0_calm_2
def dkwX0_calm_0 : List UInt8 := [42, 180, 0, 41, 182, 0, 113, 154, 0, 6, 16, 254, 172, 42, 182, 0, 229, 76, 42, 180, 0, 41]
abbrev dktX0_calm_0 : List UInt8 := dkwX0_calm_0 ++ dktX0_calm_1
theorem dksX0_calm_0 : cX0_calm.data.toList.drop 0 = dktX0_calm_0 := by decide +kernel
theorem dksX0_calm_1 : cX0_calm.data.toList.drop 22 = dktX0_calm_1 := dk_seg dksX0_calm_0 22 rfl rfl
theorem dksX0_calm_2 : cX0_calm.data.toList.drop 44 = dktX0_calm_2 := dk_seg dksX0_calm_1 22 rfl rfl
theorem dX0_calm_0 : decode cX0_calm 0 = .ok (.aload_n 0, 1) := dk_42 (dk_at dksX0_calm_0 0 rfl rfl)
theorem dX0_calm_1 : decode cX0_calm 1 = .ok (.getfield 41, 3) := dk_180 0 41 (dk_at dksX0_calm_0 1 rfl rfl)
theorem dX0_calm_4 : decode cX0_calm 4 = .ok (.invokevirtual 113, 3) := dk_182 0 113 (dk_at dksX0_calm_0 4 rfl rfl)
theorem dX0_calm_7 : decode cX0_calm 7 = .ok (.ifCond .ne 6, 3) := dk_154 0 6 (dk_at dksX0_calm_0 7 rfl rfl)
theorem dX0_calm_10 : decode cX0_calm 10 = .ok (.bipush (-2), 2) := dk_16 254 (dk_at dksX0_calm_0 10 rfl rfl)
theorem dX0_calm_12 : decode cX0_calm 12 = .ok (.ireturn, 1) := dk_172 (dk_at dksX0_calm_0 12 rfl rfl)
theorem dX0_calm_13 : decode cX0_calm 13 = .ok (.aload_n 0, 1) := dk_42 (dk_at dksX0_calm_0 13 rfl rfl)
theorem dX0_calm_14 : decode cX0_calm 14 = .ok (.invokevirtual 229, 3) := dk_182 0 229 (dk_at dksX0_calm_0 14 rfl rfl)
theorem dX0_calm_17 : decode cX0_calm 17 = .ok (.astore_n 1, 1) := dk_76 (dk_at dksX0_calm_0 17 rfl rfl)
theorem dX0_calm_18 : decode cX0_calm 18 = .ok (.aload_n 0, 1) := dk_42 (dk_at dksX0_calm_0 18 rfl rfl)
theorem dX0_calm_19 : decode cX0_calm 19 = .ok (.getfield 41, 3) := dk_180 0 41 (dk_at dksX0_calm_0 19 rfl rfl)
theorem dX0_calm_22 : decode cX0_calm 22 = .ok (.getfield 158, 3) := dk_180 0 158 (dk_at dksX0_calm_1 0 rfl rfl)
theorem dX0_calm_25 : decode cX0_calm 25 = .ok (.istore_n 2, 1) := dk_61 (dk_at dksX0_calm_1 3 rfl rfl)
theorem dX0_calm_26 : decode cX0_calm 26 = .ok (.iconst 0, 1) := dk_3 (dk_at dksX0_calm_1 4 rfl rfl)
theorem dX0_calm_27 : decode cX0_calm 27 = .ok (.istore_n 3, 1) := dk_62 (dk_at dksX0_calm_1 5 rfl rfl)
theorem dX0_calm_28 : decode cX0_calm 28 = .ok (.iload_n 3, 1) := dk_29 (dk_at dksX0_calm_1 6 rfl rfl)
theorem dX0_calm_29 : decode cX0_calm 29 = .ok (.aload_n 1, 1) := dk_43 (dk_at dksX0_calm_1 7 rfl rfl)
theorem dX0_calm_30 : decode cX0_calm 30 = .ok (.getfield 232, 3) := dk_180 0 232 (dk_at dksX0_calm_1 8 rfl rfl)
theorem dX0_calm_33 : decode cX0_calm 33 = .ok (.if_icmp .ge 27, 3) := dk_162 0 27 (dk_at dksX0_calm_1 11 rfl rfl)
theorem dX0_calm_36 : decode cX0_calm 36 = .ok (.iload_n 2, 1) := dk_28 (dk_at dksX0_calm_1 14 rfl rfl)
theorem dX0_calm_37 : decode cX0_calm 37 = .ok (.aload_n 1, 1) := dk_43 (dk_at dksX0_calm_1 15 rfl rfl)
theorem dX0_calm_38 : decode cX0_calm 38 = .ok (.getfield 241, 3) := dk_180 0 241 (dk_at dksX0_calm_1 16 rfl rfl)
theorem dX0_calm_41 : decode cX0_calm 41 = .ok (.iload_n 3, 1) := dk_29 (dk_at dksX0_calm_1 19 rfl rfl)
theorem dX0_calm_42 : decode cX0_calm 42 = .ok (.iaload, 1) := dk_46 (dk_at dksX0_calm_1 20 rfl rfl)
theorem dX0_calm_43 : decode cX0_calm 43 = .ok (.aload_n 1, 1) := dk_43 (dk_at dksX0_calm_1 21 rfl rfl)
theorem dX0_calm_44 : decode cX0_calm 44 = .ok (.getfield 238, 3) := dk_180 0 238 (dk_at dksX0_calm_2 0 rfl rfl)
theorem dX0_calm_47 : decode cX0_calm 47 = .ok (.iload_n 3, 1) := dk_29 (dk_at dksX0_calm_2 3 rfl rfl)
theorem dX0_calm_48 : decode cX0_calm 48 = .ok (.iaload, 1) := dk_46 (dk_at dksX0_calm_2 4 rfl rfl)
theorem dX0_calm_49 : decode cX0_calm 49 = .ok (.isub, 1) := dk_100 (dk_at dksX0_calm_2 5 rfl rfl)
theorem dX0_calm_50 : decode cX0_calm 50 = .ok (.iconst 1, 1) := dk_4 (dk_at dksX0_calm_2 6 rfl rfl)
theorem dX0_calm_51 : decode cX0_calm 51 = .ok (.iadd, 1) := dk_96 (dk_at dksX0_calm_2 7 rfl rfl)
theorem dX0_calm_52 : decode cX0_calm 52 = .ok (.isub, 1) := dk_100 (dk_at dksX0_calm_2 8 rfl rfl)
theorem dX0_calm_53 : decode cX0_calm 53 = .ok (.istore_n 2, 1) := dk_61 (dk_at dksX0_calm_2 9 rfl rfl)
theorem dX0_calm_54 : decode cX0_calm 54 = .ok (.iinc 3 1, 3) := dk_132 3 1 (dk_at dksX0_calm_2 10 rfl rfl)
theorem dX0_calm_57 : decode cX0_calm 57 = .ok (.goto (-29), 3) := dk_167 255 227 (dk_at dksX0_calm_2 13 rfl rfl)
theorem dX0_calm_60 : decode cX0_calm 60 = .ok (.iload_n 2, 1) := dk_28 (dk_at dksX0_calm_2 16 rfl rfl)
theorem dX0_calm_61 : decode cX0_calm 61 = .ok (.ireturn, 1) := dk_172 (dk_at dksX0_calm_2 17 rfl rfl)
abbrev cX0_steps : ByteArray := prog_1_method_32_code
def yX0_steps : MethodName := ⟨RX0, "steps", "(II)I"⟩
def dkwX0_steps_1 : List UInt8 := [167, 0, 5, 16, 254, 172]
abbrev dktX0_steps_1 : List UInt8 := dkwX0_steps_1 ++ []
def dkwX0_steps_0 : List UInt8 := [42, 27, 133, 182, 0, 250, 153, 0, 21, 42, 28, 133, 182, 0, 250, 153, 0, 12, 42, 27, 28, 182, 0, 221]
abbrev dktX0_steps_0 : List UInt8 := dkwX0_steps_0 ++ dktX0_steps_1
theorem dksX0_steps_0 : cX0_steps.data.toList.drop 0 = dktX0_steps_0 := by decide +kernel
theorem dksX0_steps_1 : cX0_steps.data.toList.drop 24 = dktX0_steps_1 := dk_seg dksX0_steps_0 24 rfl rfl
theorem dX0_steps_0 : decode cX0_steps 0 = .ok (.aload_n 0, 1) := dk_42 (dk_at dksX0_steps_0 0 rfl rfl)
theorem dX0_steps_1 : decode cX0_steps 1 = .ok (.iload_n 1, 1) := dk_27 (dk_at dksX0_steps_0 1 rfl rfl)
theorem dX0_steps_2 : decode cX0_steps 2 = .ok (.i2l, 1) := dk_133 (dk_at dksX0_steps_0 2 rfl rfl)
theorem dX0_steps_3 : decode cX0_steps 3 = .ok (.invokevirtual 250, 3) := dk_182 0 250 (dk_at dksX0_steps_0 3 rfl rfl)
theorem dX0_steps_6 : decode cX0_steps 6 = .ok (.ifCond .eq 21, 3) := dk_153 0 21 (dk_at dksX0_steps_0 6 rfl rfl)
theorem dX0_steps_9 : decode cX0_steps 9 = .ok (.aload_n 0, 1) := dk_42 (dk_at dksX0_steps_0 9 rfl rfl)
theorem dX0_steps_10 : decode cX0_steps 10 = .ok (.iload_n 2, 1) := dk_28 (dk_at dksX0_steps_0 10 rfl rfl)
theorem dX0_steps_11 : decode cX0_steps 11 = .ok (.i2l, 1) := dk_133 (dk_at dksX0_steps_0 11 rfl rfl)
theorem dX0_steps_12 : decode cX0_steps 12 = .ok (.invokevirtual 250, 3) := dk_182 0 250 (dk_at dksX0_steps_0 12 rfl rfl)
theorem dX0_steps_15 : decode cX0_steps 15 = .ok (.ifCond .eq 12, 3) := dk_153 0 12 (dk_at dksX0_steps_0 15 rfl rfl)
theorem dX0_steps_18 : decode cX0_steps 18 = .ok (.aload_n 0, 1) := dk_42 (dk_at dksX0_steps_0 18 rfl rfl)
theorem dX0_steps_19 : decode cX0_steps 19 = .ok (.iload_n 1, 1) := dk_27 (dk_at dksX0_steps_0 19 rfl rfl)
theorem dX0_steps_20 : decode cX0_steps 20 = .ok (.iload_n 2, 1) := dk_28 (dk_at dksX0_steps_0 20 rfl rfl)
theorem dX0_steps_21 : decode cX0_steps 21 = .ok (.invokevirtual 221, 3) := dk_182 0 221 (dk_at dksX0_steps_0 21 rfl rfl)
theorem dX0_steps_24 : decode cX0_steps 24 = .ok (.goto 5, 3) := dk_167 0 5 (dk_at dksX0_steps_1 0 rfl rfl)
theorem dX0_steps_27 : decode cX0_steps 27 = .ok (.bipush (-2), 2) := dk_16 254 (dk_at dksX0_steps_1 3 rfl rfl)
theorem dX0_steps_29 : decode cX0_steps 29 = .ok (.ireturn, 1) := dk_172 (dk_at dksX0_steps_1 5 rfl rfl)
abbrev cX0_isHole : ByteArray := prog_1_method_17_code
def yX0_isHole : MethodName := ⟨RX0, "isHole", "(J)Z"⟩
def dkwX0_isHole_0 : List UInt8 := [31, 9, 42, 180, 0, 41, 182, 0, 155, 4, 100, 133, 184, 0, 5, 172]
abbrev dktX0_isHole_0 : List UInt8 := dkwX0_isHole_0 ++ []
theorem dksX0_isHole_0 : cX0_isHole.data.toList.drop 0 = dktX0_isHole_0 := by decide +kernel
theorem dX0_isHole_0 : decode cX0_isHole 0 = .ok (.lload_n 1, 1) := dk_31 (dk_at dksX0_isHole_0 0 rfl rfl)
theorem dX0_isHole_1 : decode cX0_isHole 1 = .ok (.lconst 0, 1) := dk_9 (dk_at dksX0_isHole_0 1 rfl rfl)
theorem dX0_isHole_2 : decode cX0_isHole 2 = .ok (.aload_n 0, 1) := dk_42 (dk_at dksX0_isHole_0 2 rfl rfl)
theorem dX0_isHole_3 : decode cX0_isHole 3 = .ok (.getfield 41, 3) := dk_180 0 41 (dk_at dksX0_isHole_0 3 rfl rfl)
theorem dX0_isHole_6 : decode cX0_isHole 6 = .ok (.invokevirtual 155, 3) := dk_182 0 155 (dk_at dksX0_isHole_0 6 rfl rfl)
theorem dX0_isHole_9 : decode cX0_isHole 9 = .ok (.iconst 1, 1) := dk_4 (dk_at dksX0_isHole_0 9 rfl rfl)
theorem dX0_isHole_10 : decode cX0_isHole 10 = .ok (.isub, 1) := dk_100 (dk_at dksX0_isHole_0 10 rfl rfl)
theorem dX0_isHole_11 : decode cX0_isHole 11 = .ok (.i2l, 1) := dk_133 (dk_at dksX0_isHole_0 11 rfl rfl)
theorem dX0_isHole_12 : decode cX0_isHole 12 = .ok (.invokestatic 5, 3) := dk_184 0 5 (dk_at dksX0_isHole_0 12 rfl rfl)
theorem dX0_isHole_15 : decode cX0_isHole 15 = .ok (.ireturn, 1) := dk_172 (dk_at dksX0_isHole_0 15 rfl rfl)
abbrev cX0_pace : ByteArray := prog_1_method_33_code
def yX0_pace : MethodName := ⟨RX0, "pace", "(II)I"⟩
def dkwX0_pace_1 : List UInt8 := [182, 0, 253, 167, 0, 5, 16, 254, 172]
abbrev dktX0_pace_1 : List UInt8 := dkwX0_pace_1 ++ []
def dkwX0_pace_0 : List UInt8 := [42, 27, 182, 0, 193, 153, 0, 24, 42, 28, 133, 182, 0, 205, 153, 0, 15, 42, 27, 182, 0, 198, 28]
abbrev dktX0_pace_0 : List UInt8 := dkwX0_pace_0 ++ dktX0_pace_1
theorem dksX0_pace_0 : cX0_pace.data.toList.drop 0 = dktX0_pace_0 := by decide +kernel
theorem dksX0_pace_1 : cX0_pace.data.toList.drop 23 = dktX0_pace_1 := dk_seg dksX0_pace_0 23 rfl rfl
theorem dX0_pace_0 : decode cX0_pace 0 = .ok (.aload_n 0, 1) := dk_42 (dk_at dksX0_pace_0 0 rfl rfl)
theorem dX0_pace_1 : decode cX0_pace 1 = .ok (.iload_n 1, 1) := dk_27 (dk_at dksX0_pace_0 1 rfl rfl)
theorem dX0_pace_2 : decode cX0_pace 2 = .ok (.invokevirtual 193, 3) := dk_182 0 193 (dk_at dksX0_pace_0 2 rfl rfl)
theorem dX0_pace_5 : decode cX0_pace 5 = .ok (.ifCond .eq 24, 3) := dk_153 0 24 (dk_at dksX0_pace_0 5 rfl rfl)
theorem dX0_pace_8 : decode cX0_pace 8 = .ok (.aload_n 0, 1) := dk_42 (dk_at dksX0_pace_0 8 rfl rfl)
theorem dX0_pace_9 : decode cX0_pace 9 = .ok (.iload_n 2, 1) := dk_28 (dk_at dksX0_pace_0 9 rfl rfl)
theorem dX0_pace_10 : decode cX0_pace 10 = .ok (.i2l, 1) := dk_133 (dk_at dksX0_pace_0 10 rfl rfl)
theorem dX0_pace_11 : decode cX0_pace 11 = .ok (.invokevirtual 205, 3) := dk_182 0 205 (dk_at dksX0_pace_0 11 rfl rfl)
theorem dX0_pace_14 : decode cX0_pace 14 = .ok (.ifCond .eq 15, 3) := dk_153 0 15 (dk_at dksX0_pace_0 14 rfl rfl)
theorem dX0_pace_17 : decode cX0_pace 17 = .ok (.aload_n 0, 1) := dk_42 (dk_at dksX0_pace_0 17 rfl rfl)
theorem dX0_pace_18 : decode cX0_pace 18 = .ok (.iload_n 1, 1) := dk_27 (dk_at dksX0_pace_0 18 rfl rfl)
theorem dX0_pace_19 : decode cX0_pace 19 = .ok (.invokevirtual 198, 3) := dk_182 0 198 (dk_at dksX0_pace_0 19 rfl rfl)
theorem dX0_pace_22 : decode cX0_pace 22 = .ok (.iload_n 2, 1) := dk_28 (dk_at dksX0_pace_0 22 rfl rfl)
theorem dX0_pace_23 : decode cX0_pace 23 = .ok (.invokevirtual 253, 3) := dk_182 0 253 (dk_at dksX0_pace_1 0 rfl rfl)
theorem dX0_pace_26 : decode cX0_pace 26 = .ok (.goto 5, 3) := dk_167 0 5 (dk_at dksX0_pace_1 3 rfl rfl)
theorem dX0_pace_29 : decode cX0_pace 29 = .ok (.bipush (-2), 2) := dk_16 254 (dk_at dksX0_pace_1 6 rfl rfl)
theorem dX0_pace_31 : decode cX0_pace 31 = .ok (.ireturn, 1) := dk_172 (dk_at dksX0_pace_1 8 rfl rfl)
abbrev cX0_aware : ByteArray := prog_1_method_35_code
def yX0_aware : MethodName := ⟨RX0, "aware", "(II)I"⟩
def dkwX0_aware_2 : List UInt8 := [180, 0, 202, 6, 46, 28, 184, 1, 3, 167, 0, 4, 2, 172]
abbrev dktX0_aware_2 : List UInt8 := dkwX0_aware_2 ++ []
def dkwX0_aware_1 : List UInt8 := [100, 133, 184, 0, 5, 153, 0, 31, 45, 42, 27, 182, 0, 198, 180, 0, 202, 4, 46, 42, 27, 182, 0, 198]
abbrev dktX0_aware_1 : List UInt8 := dkwX0_aware_1 ++ dktX0_aware_2
def dkwX0_aware_0 : List UInt8 := [42, 27, 182, 0, 193, 154, 0, 6, 16, 254, 172, 42, 182, 0, 229, 78, 28, 133, 9, 45, 180, 0, 232, 4]
abbrev dktX0_aware_0 : List UInt8 := dkwX0_aware_0 ++ dktX0_aware_1
theorem dksX0_aware_0 : cX0_aware.data.toList.drop 0 = dktX0_aware_0 := by decide +kernel
theorem dksX0_aware_1 : cX0_aware.data.toList.drop 24 = dktX0_aware_1 := dk_seg dksX0_aware_0 24 rfl rfl
theorem dksX0_aware_2 : cX0_aware.data.toList.drop 48 = dktX0_aware_2 := dk_seg dksX0_aware_1 24 rfl rfl
theorem dX0_aware_0 : decode cX0_aware 0 = .ok (.aload_n 0, 1) := dk_42 (dk_at dksX0_aware_0 0 rfl rfl)
theorem dX0_aware_1 : decode cX0_aware 1 = .ok (.iload_n 1, 1) := dk_27 (dk_at dksX0_aware_0 1 rfl rfl)
theorem dX0_aware_2 : decode cX0_aware 2 = .ok (.invokevirtual 193, 3) := dk_182 0 193 (dk_at dksX0_aware_0 2 rfl rfl)
theorem dX0_aware_5 : decode cX0_aware 5 = .ok (.ifCond .ne 6, 3) := dk_154 0 6 (dk_at dksX0_aware_0 5 rfl rfl)
theorem dX0_aware_8 : decode cX0_aware 8 = .ok (.bipush (-2), 2) := dk_16 254 (dk_at dksX0_aware_0 8 rfl rfl)
theorem dX0_aware_10 : decode cX0_aware 10 = .ok (.ireturn, 1) := dk_172 (dk_at dksX0_aware_0 10 rfl rfl)
theorem dX0_aware_11 : decode cX0_aware 11 = .ok (.aload_n 0, 1) := dk_42 (dk_at dksX0_aware_0 11 rfl rfl)
theorem dX0_aware_12 : decode cX0_aware 12 = .ok (.invokevirtual 229, 3) := dk_182 0 229 (dk_at dksX0_aware_0 12 rfl rfl)
theorem dX0_aware_15 : decode cX0_aware 15 = .ok (.astore_n 3, 1) := dk_78 (dk_at dksX0_aware_0 15 rfl rfl)
theorem dX0_aware_16 : decode cX0_aware 16 = .ok (.iload_n 2, 1) := dk_28 (dk_at dksX0_aware_0 16 rfl rfl)
theorem dX0_aware_17 : decode cX0_aware 17 = .ok (.i2l, 1) := dk_133 (dk_at dksX0_aware_0 17 rfl rfl)
theorem dX0_aware_18 : decode cX0_aware 18 = .ok (.lconst 0, 1) := dk_9 (dk_at dksX0_aware_0 18 rfl rfl)
theorem dX0_aware_19 : decode cX0_aware 19 = .ok (.aload_n 3, 1) := dk_45 (dk_at dksX0_aware_0 19 rfl rfl)
theorem dX0_aware_20 : decode cX0_aware 20 = .ok (.getfield 232, 3) := dk_180 0 232 (dk_at dksX0_aware_0 20 rfl rfl)
theorem dX0_aware_23 : decode cX0_aware 23 = .ok (.iconst 1, 1) := dk_4 (dk_at dksX0_aware_0 23 rfl rfl)
theorem dX0_aware_24 : decode cX0_aware 24 = .ok (.isub, 1) := dk_100 (dk_at dksX0_aware_1 0 rfl rfl)
theorem dX0_aware_25 : decode cX0_aware 25 = .ok (.i2l, 1) := dk_133 (dk_at dksX0_aware_1 1 rfl rfl)
theorem dX0_aware_26 : decode cX0_aware 26 = .ok (.invokestatic 5, 3) := dk_184 0 5 (dk_at dksX0_aware_1 2 rfl rfl)
theorem dX0_aware_29 : decode cX0_aware 29 = .ok (.ifCond .eq 31, 3) := dk_153 0 31 (dk_at dksX0_aware_1 5 rfl rfl)
theorem dX0_aware_32 : decode cX0_aware 32 = .ok (.aload_n 3, 1) := dk_45 (dk_at dksX0_aware_1 8 rfl rfl)
theorem dX0_aware_33 : decode cX0_aware 33 = .ok (.aload_n 0, 1) := dk_42 (dk_at dksX0_aware_1 9 rfl rfl)
theorem dX0_aware_34 : decode cX0_aware 34 = .ok (.iload_n 1, 1) := dk_27 (dk_at dksX0_aware_1 10 rfl rfl)
theorem dX0_aware_35 : decode cX0_aware 35 = .ok (.invokevirtual 198, 3) := dk_182 0 198 (dk_at dksX0_aware_1 11 rfl rfl)
theorem dX0_aware_38 : decode cX0_aware 38 = .ok (.getfield 202, 3) := dk_180 0 202 (dk_at dksX0_aware_1 14 rfl rfl)
theorem dX0_aware_41 : decode cX0_aware 41 = .ok (.iconst 1, 1) := dk_4 (dk_at dksX0_aware_1 17 rfl rfl)
theorem dX0_aware_42 : decode cX0_aware 42 = .ok (.iaload, 1) := dk_46 (dk_at dksX0_aware_1 18 rfl rfl)
theorem dX0_aware_43 : decode cX0_aware 43 = .ok (.aload_n 0, 1) := dk_42 (dk_at dksX0_aware_1 19 rfl rfl)
theorem dX0_aware_44 : decode cX0_aware 44 = .ok (.iload_n 1, 1) := dk_27 (dk_at dksX0_aware_1 20 rfl rfl)
theorem dX0_aware_45 : decode cX0_aware 45 = .ok (.invokevirtual 198, 3) := dk_182 0 198 (dk_at dksX0_aware_1 21 rfl rfl)
theorem dX0_aware_48 : decode cX0_aware 48 = .ok (.getfield 202, 3) := dk_180 0 202 (dk_at dksX0_aware_2 0 rfl rfl)
theorem dX0_aware_51 : decode cX0_aware 51 = .ok (.iconst 3, 1) := dk_6 (dk_at dksX0_aware_2 3 rfl rfl)
theorem dX0_aware_52 : decode cX0_aware 52 = .ok (.iaload, 1) := dk_46 (dk_at dksX0_aware_2 4 rfl rfl)
theorem dX0_aware_53 : decode cX0_aware 53 = .ok (.iload_n 2, 1) := dk_28 (dk_at dksX0_aware_2 5 rfl rfl)
theorem dX0_aware_54 : decode cX0_aware 54 = .ok (.invokestatic 259, 3) := dk_184 1 3 (dk_at dksX0_aware_2 6 rfl rfl)
theorem dX0_aware_57 : decode cX0_aware 57 = .ok (.goto 4, 3) := dk_167 0 4 (dk_at dksX0_aware_2 9 rfl rfl)
theorem dX0_aware_60 : decode cX0_aware 60 = .ok (.iconst (-1), 1) := dk_2 (dk_at dksX0_aware_2 12 rfl rfl)
theorem dX0_aware_61 : decode cX0_aware 61 = .ok (.ireturn, 1) := dk_172 (dk_at dksX0_aware_2 13 rfl rfl)
abbrev cX0_awareOf : ByteArray := prog_1_method_34_code
def yX0_awareOf : MethodName := ⟨RX0, "awareOf", "(LMoleBoard$Game;III)I"⟩
def dkwX0_awareOf_1 : List UInt8 := [162, 0, 7, 3, 167, 0, 11, 42, 180, 0, 238, 29, 28, 100, 46, 184, 1, 0, 172]
abbrev dktX0_awareOf_1 : List UInt8 := dkwX0_awareOf_1 ++ []
def dkwX0_awareOf_0 : List UInt8 := [42, 180, 0, 238, 29, 46, 27, 96, 54, 4, 28, 154, 0, 8, 21, 4, 167, 0, 25, 21, 4, 29, 28]
abbrev dktX0_awareOf_0 : List UInt8 := dkwX0_awareOf_0 ++ dktX0_awareOf_1
theorem dksX0_awareOf_0 : cX0_awareOf.data.toList.drop 0 = dktX0_awareOf_0 := by decide +kernel
theorem dksX0_awareOf_1 : cX0_awareOf.data.toList.drop 23 = dktX0_awareOf_1 := dk_seg dksX0_awareOf_0 23 rfl rfl
theorem dX0_awareOf_0 : decode cX0_awareOf 0 = .ok (.aload_n 0, 1) := dk_42 (dk_at dksX0_awareOf_0 0 rfl rfl)
theorem dX0_awareOf_1 : decode cX0_awareOf 1 = .ok (.getfield 238, 3) := dk_180 0 238 (dk_at dksX0_awareOf_0 1 rfl rfl)
theorem dX0_awareOf_4 : decode cX0_awareOf 4 = .ok (.iload_n 3, 1) := dk_29 (dk_at dksX0_awareOf_0 4 rfl rfl)
theorem dX0_awareOf_5 : decode cX0_awareOf 5 = .ok (.iaload, 1) := dk_46 (dk_at dksX0_awareOf_0 5 rfl rfl)
theorem dX0_awareOf_6 : decode cX0_awareOf 6 = .ok (.iload_n 1, 1) := dk_27 (dk_at dksX0_awareOf_0 6 rfl rfl)
theorem dX0_awareOf_7 : decode cX0_awareOf 7 = .ok (.iadd, 1) := dk_96 (dk_at dksX0_awareOf_0 7 rfl rfl)
theorem dX0_awareOf_8 : decode cX0_awareOf 8 = .ok (.istore 4, 2) := dk_54 4 (dk_at dksX0_awareOf_0 8 rfl rfl)
theorem dX0_awareOf_10 : decode cX0_awareOf 10 = .ok (.iload_n 2, 1) := dk_28 (dk_at dksX0_awareOf_0 10 rfl rfl)
theorem dX0_awareOf_11 : decode cX0_awareOf 11 = .ok (.ifCond .ne 8, 3) := dk_154 0 8 (dk_at dksX0_awareOf_0 11 rfl rfl)
theorem dX0_awareOf_14 : decode cX0_awareOf 14 = .ok (.iload 4, 2) := dk_21 4 (dk_at dksX0_awareOf_0 14 rfl rfl)
theorem dX0_awareOf_16 : decode cX0_awareOf 16 = .ok (.goto 25, 3) := dk_167 0 25 (dk_at dksX0_awareOf_0 16 rfl rfl)
theorem dX0_awareOf_19 : decode cX0_awareOf 19 = .ok (.iload 4, 2) := dk_21 4 (dk_at dksX0_awareOf_0 19 rfl rfl)
theorem dX0_awareOf_21 : decode cX0_awareOf 21 = .ok (.iload_n 3, 1) := dk_29 (dk_at dksX0_awareOf_0 21 rfl rfl)
theorem dX0_awareOf_22 : decode cX0_awareOf 22 = .ok (.iload_n 2, 1) := dk_28 (dk_at dksX0_awareOf_0 22 rfl rfl)
theorem dX0_awareOf_23 : decode cX0_awareOf 23 = .ok (.if_icmp .ge 7, 3) := dk_162 0 7 (dk_at dksX0_awareOf_1 0 rfl rfl)
theorem dX0_awareOf_26 : decode cX0_awareOf 26 = .ok (.iconst 0, 1) := dk_3 (dk_at dksX0_awareOf_1 3 rfl rfl)
theorem dX0_awareOf_27 : decode cX0_awareOf 27 = .ok (.goto 11, 3) := dk_167 0 11 (dk_at dksX0_awareOf_1 4 rfl rfl)
theorem dX0_awareOf_30 : decode cX0_awareOf 30 = .ok (.aload_n 0, 1) := dk_42 (dk_at dksX0_awareOf_1 7 rfl rfl)
theorem dX0_awareOf_31 : decode cX0_awareOf 31 = .ok (.getfield 238, 3) := dk_180 0 238 (dk_at dksX0_awareOf_1 8 rfl rfl)
theorem dX0_awareOf_34 : decode cX0_awareOf 34 = .ok (.iload_n 3, 1) := dk_29 (dk_at dksX0_awareOf_1 11 rfl rfl)
theorem dX0_awareOf_35 : decode cX0_awareOf 35 = .ok (.iload_n 2, 1) := dk_28 (dk_at dksX0_awareOf_1 12 rfl rfl)
theorem dX0_awareOf_36 : decode cX0_awareOf 36 = .ok (.isub, 1) := dk_100 (dk_at dksX0_awareOf_1 13 rfl rfl)
theorem dX0_awareOf_37 : decode cX0_awareOf 37 = .ok (.iaload, 1) := dk_46 (dk_at dksX0_awareOf_1 14 rfl rfl)
theorem dX0_awareOf_38 : decode cX0_awareOf 38 = .ok (.invokestatic 256, 3) := dk_184 1 0 (dk_at dksX0_awareOf_1 15 rfl rfl)
theorem dX0_awareOf_41 : decode cX0_awareOf 41 = .ok (.ireturn, 1) := dk_172 (dk_at dksX0_awareOf_1 18 rfl rfl)
abbrev cX0_hits : ByteArray := prog_1_method_37_code
def yX0_hits : MethodName := ⟨RX0, "hits", "(I)I"⟩
def dkwX0_hits_0 : List UInt8 := [42, 27, 182, 0, 193, 153, 0, 11, 42, 27, 182, 1, 18, 167, 0, 5, 16, 254, 172]
abbrev dktX0_hits_0 : List UInt8 := dkwX0_hits_0 ++ []
theorem dksX0_hits_0 : cX0_hits.data.toList.drop 0 = dktX0_hits_0 := by decide +kernel
theorem dX0_hits_0 : decode cX0_hits 0 = .ok (.aload_n 0, 1) := dk_42 (dk_at dksX0_hits_0 0 rfl rfl)
theorem dX0_hits_1 : decode cX0_hits 1 = .ok (.iload_n 1, 1) := dk_27 (dk_at dksX0_hits_0 1 rfl rfl)
theorem dX0_hits_2 : decode cX0_hits 2 = .ok (.invokevirtual 193, 3) := dk_182 0 193 (dk_at dksX0_hits_0 2 rfl rfl)
theorem dX0_hits_5 : decode cX0_hits 5 = .ok (.ifCond .eq 11, 3) := dk_153 0 11 (dk_at dksX0_hits_0 5 rfl rfl)
theorem dX0_hits_8 : decode cX0_hits 8 = .ok (.aload_n 0, 1) := dk_42 (dk_at dksX0_hits_0 8 rfl rfl)
theorem dX0_hits_9 : decode cX0_hits 9 = .ok (.iload_n 1, 1) := dk_27 (dk_at dksX0_hits_0 9 rfl rfl)
theorem dX0_hits_10 : decode cX0_hits 10 = .ok (.invokevirtual 274, 3) := dk_182 1 18 (dk_at dksX0_hits_0 10 rfl rfl)
theorem dX0_hits_13 : decode cX0_hits 13 = .ok (.goto 5, 3) := dk_167 0 5 (dk_at dksX0_hits_0 13 rfl rfl)
theorem dX0_hits_16 : decode cX0_hits 16 = .ok (.bipush (-2), 2) := dk_16 254 (dk_at dksX0_hits_0 16 rfl rfl)
theorem dX0_hits_18 : decode cX0_hits 18 = .ok (.ireturn, 1) := dk_172 (dk_at dksX0_hits_0 18 rfl rfl)
abbrev cX0_hitsOf : ByteArray := prog_1_method_36_code
def yX0_hitsOf : MethodName := ⟨RX0, "hitsOf", "(I)I"⟩
def dkwX0_hitsOf_0 : List UInt8 := [42, 180, 0, 76, 27, 182, 1, 7, 42, 182, 0, 229, 182, 1, 11, 180, 1, 15, 172]
abbrev dktX0_hitsOf_0 : List UInt8 := dkwX0_hitsOf_0 ++ []
theorem dksX0_hitsOf_0 : cX0_hitsOf.data.toList.drop 0 = dktX0_hitsOf_0 := by decide +kernel
theorem dX0_hitsOf_0 : decode cX0_hitsOf 0 = .ok (.aload_n 0, 1) := dk_42 (dk_at dksX0_hitsOf_0 0 rfl rfl)
theorem dX0_hitsOf_1 : decode cX0_hitsOf 1 = .ok (.getfield 76, 3) := dk_180 0 76 (dk_at dksX0_hitsOf_0 1 rfl rfl)
theorem dX0_hitsOf_4 : decode cX0_hitsOf 4 = .ok (.iload_n 1, 1) := dk_27 (dk_at dksX0_hitsOf_0 4 rfl rfl)
theorem dX0_hitsOf_5 : decode cX0_hitsOf 5 = .ok (.invokevirtual 263, 3) := dk_182 1 7 (dk_at dksX0_hitsOf_0 5 rfl rfl)
theorem dX0_hitsOf_8 : decode cX0_hitsOf 8 = .ok (.aload_n 0, 1) := dk_42 (dk_at dksX0_hitsOf_0 8 rfl rfl)
theorem dX0_hitsOf_9 : decode cX0_hitsOf 9 = .ok (.invokevirtual 229, 3) := dk_182 0 229 (dk_at dksX0_hitsOf_0 9 rfl rfl)
theorem dX0_hitsOf_12 : decode cX0_hitsOf 12 = .ok (.invokevirtual 267, 3) := dk_182 1 11 (dk_at dksX0_hitsOf_0 12 rfl rfl)
theorem dX0_hitsOf_15 : decode cX0_hitsOf 15 = .ok (.getfield 271, 3) := dk_180 1 15 (dk_at dksX0_hitsOf_0 15 rfl rfl)
theorem dX0_hitsOf_18 : decode cX0_hitsOf 18 = .ok (.ireturn, 1) := dk_172 (dk_at dksX0_hitsOf_0 18 rfl rfl)
abbrev cX0_hit : ByteArray := prog_1_method_38_code
def yX0_hit : MethodName := ⟨RX0, "hit", "(II)I"⟩
def dkwX0_hit_2 : List UInt8 := [46, 167, 0, 4, 2, 172]
abbrev dktX0_hit_2 : List UInt8 := dkwX0_hit_2 ++ []
def dkwX0_hit_1 : List UInt8 := [100, 133, 184, 0, 5, 153, 0, 23, 42, 180, 0, 76, 27, 182, 1, 7, 45, 182, 1, 11, 180, 1, 21, 28]
abbrev dktX0_hit_1 : List UInt8 := dkwX0_hit_1 ++ dktX0_hit_2
def dkwX0_hit_0 : List UInt8 := [42, 27, 182, 0, 193, 154, 0, 6, 16, 254, 172, 42, 182, 0, 229, 78, 28, 133, 9, 45, 180, 0, 232, 4]
abbrev dktX0_hit_0 : List UInt8 := dkwX0_hit_0 ++ dktX0_hit_1
theorem dksX0_hit_0 : cX0_hit.data.toList.drop 0 = dktX0_hit_0 := by decide +kernel
theorem dksX0_hit_1 : cX0_hit.data.toList.drop 24 = dktX0_hit_1 := dk_seg dksX0_hit_0 24 rfl rfl
theorem dksX0_hit_2 : cX0_hit.data.toList.drop 48 = dktX0_hit_2 := dk_seg dksX0_hit_1 24 rfl rfl
theorem dX0_hit_0 : decode cX0_hit 0 = .ok (.aload_n 0, 1) := dk_42 (dk_at dksX0_hit_0 0 rfl rfl)
theorem dX0_hit_1 : decode cX0_hit 1 = .ok (.iload_n 1, 1) := dk_27 (dk_at dksX0_hit_0 1 rfl rfl)
theorem dX0_hit_2 : decode cX0_hit 2 = .ok (.invokevirtual 193, 3) := dk_182 0 193 (dk_at dksX0_hit_0 2 rfl rfl)
theorem dX0_hit_5 : decode cX0_hit 5 = .ok (.ifCond .ne 6, 3) := dk_154 0 6 (dk_at dksX0_hit_0 5 rfl rfl)
theorem dX0_hit_8 : decode cX0_hit 8 = .ok (.bipush (-2), 2) := dk_16 254 (dk_at dksX0_hit_0 8 rfl rfl)
theorem dX0_hit_10 : decode cX0_hit 10 = .ok (.ireturn, 1) := dk_172 (dk_at dksX0_hit_0 10 rfl rfl)
theorem dX0_hit_11 : decode cX0_hit 11 = .ok (.aload_n 0, 1) := dk_42 (dk_at dksX0_hit_0 11 rfl rfl)
theorem dX0_hit_12 : decode cX0_hit 12 = .ok (.invokevirtual 229, 3) := dk_182 0 229 (dk_at dksX0_hit_0 12 rfl rfl)
theorem dX0_hit_15 : decode cX0_hit 15 = .ok (.astore_n 3, 1) := dk_78 (dk_at dksX0_hit_0 15 rfl rfl)
theorem dX0_hit_16 : decode cX0_hit 16 = .ok (.iload_n 2, 1) := dk_28 (dk_at dksX0_hit_0 16 rfl rfl)
theorem dX0_hit_17 : decode cX0_hit 17 = .ok (.i2l, 1) := dk_133 (dk_at dksX0_hit_0 17 rfl rfl)
theorem dX0_hit_18 : decode cX0_hit 18 = .ok (.lconst 0, 1) := dk_9 (dk_at dksX0_hit_0 18 rfl rfl)
theorem dX0_hit_19 : decode cX0_hit 19 = .ok (.aload_n 3, 1) := dk_45 (dk_at dksX0_hit_0 19 rfl rfl)
theorem dX0_hit_20 : decode cX0_hit 20 = .ok (.getfield 232, 3) := dk_180 0 232 (dk_at dksX0_hit_0 20 rfl rfl)
theorem dX0_hit_23 : decode cX0_hit 23 = .ok (.iconst 1, 1) := dk_4 (dk_at dksX0_hit_0 23 rfl rfl)
theorem dX0_hit_24 : decode cX0_hit 24 = .ok (.isub, 1) := dk_100 (dk_at dksX0_hit_1 0 rfl rfl)
theorem dX0_hit_25 : decode cX0_hit 25 = .ok (.i2l, 1) := dk_133 (dk_at dksX0_hit_1 1 rfl rfl)
theorem dX0_hit_26 : decode cX0_hit 26 = .ok (.invokestatic 5, 3) := dk_184 0 5 (dk_at dksX0_hit_1 2 rfl rfl)
theorem dX0_hit_29 : decode cX0_hit 29 = .ok (.ifCond .eq 23, 3) := dk_153 0 23 (dk_at dksX0_hit_1 5 rfl rfl)
theorem dX0_hit_32 : decode cX0_hit 32 = .ok (.aload_n 0, 1) := dk_42 (dk_at dksX0_hit_1 8 rfl rfl)
theorem dX0_hit_33 : decode cX0_hit 33 = .ok (.getfield 76, 3) := dk_180 0 76 (dk_at dksX0_hit_1 9 rfl rfl)
theorem dX0_hit_36 : decode cX0_hit 36 = .ok (.iload_n 1, 1) := dk_27 (dk_at dksX0_hit_1 12 rfl rfl)
theorem dX0_hit_37 : decode cX0_hit 37 = .ok (.invokevirtual 263, 3) := dk_182 1 7 (dk_at dksX0_hit_1 13 rfl rfl)
theorem dX0_hit_40 : decode cX0_hit 40 = .ok (.aload_n 3, 1) := dk_45 (dk_at dksX0_hit_1 16 rfl rfl)
theorem dX0_hit_41 : decode cX0_hit 41 = .ok (.invokevirtual 267, 3) := dk_182 1 11 (dk_at dksX0_hit_1 17 rfl rfl)
theorem dX0_hit_44 : decode cX0_hit 44 = .ok (.getfield 277, 3) := dk_180 1 21 (dk_at dksX0_hit_1 20 rfl rfl)
theorem dX0_hit_47 : decode cX0_hit 47 = .ok (.iload_n 2, 1) := dk_28 (dk_at dksX0_hit_1 23 rfl rfl)
theorem dX0_hit_48 : decode cX0_hit 48 = .ok (.iaload, 1) := dk_46 (dk_at dksX0_hit_2 0 rfl rfl)
theorem dX0_hit_49 : decode cX0_hit 49 = .ok (.goto 4, 3) := dk_167 0 4 (dk_at dksX0_hit_2 1 rfl rfl)
theorem dX0_hit_52 : decode cX0_hit 52 = .ok (.iconst (-1), 1) := dk_2 (dk_at dksX0_hit_2 4 rfl rfl)
theorem dX0_hit_53 : decode cX0_hit 53 = .ok (.ireturn, 1) := dk_172 (dk_at dksX0_hit_2 5 rfl rfl)
abbrev cX0_twice : ByteArray := prog_1_method_39_code
def yX0_twice : MethodName := ⟨RX0, "twice", "(II)I"⟩
def dkwX0_twice_2 : List UInt8 := [46, 167, 0, 4, 2, 172]
abbrev dktX0_twice_2 : List UInt8 := dkwX0_twice_2 ++ []
def dkwX0_twice_1 : List UInt8 := [100, 133, 184, 0, 5, 153, 0, 23, 42, 180, 0, 76, 27, 182, 1, 7, 45, 182, 1, 11, 180, 1, 24, 28]
abbrev dktX0_twice_1 : List UInt8 := dkwX0_twice_1 ++ dktX0_twice_2
def dkwX0_twice_0 : List UInt8 := [42, 27, 182, 0, 193, 154, 0, 6, 16, 254, 172, 42, 182, 0, 229, 78, 28, 133, 9, 45, 180, 0, 232, 4]
abbrev dktX0_twice_0 : List UInt8 := dkwX0_twice_0 ++ dktX0_twice_1
theorem dksX0_twice_0 : cX0_twice.data.toList.drop 0 = dktX0_twice_0 := by decide +kernel
theorem dksX0_twice_1 : cX0_twice.data.toList.drop 24 = dktX0_twice_1 := dk_seg dksX0_twice_0 24 rfl rfl
theorem dksX0_twice_2 : cX0_twice.data.toList.drop 48 = dktX0_twice_2 := dk_seg dksX0_twice_1 24 rfl rfl
theorem dX0_twice_0 : decode cX0_twice 0 = .ok (.aload_n 0, 1) := dk_42 (dk_at dksX0_twice_0 0 rfl rfl)
theorem dX0_twice_1 : decode cX0_twice 1 = .ok (.iload_n 1, 1) := dk_27 (dk_at dksX0_twice_0 1 rfl rfl)
theorem dX0_twice_2 : decode cX0_twice 2 = .ok (.invokevirtual 193, 3) := dk_182 0 193 (dk_at dksX0_twice_0 2 rfl rfl)
theorem dX0_twice_5 : decode cX0_twice 5 = .ok (.ifCond .ne 6, 3) := dk_154 0 6 (dk_at dksX0_twice_0 5 rfl rfl)
theorem dX0_twice_8 : decode cX0_twice 8 = .ok (.bipush (-2), 2) := dk_16 254 (dk_at dksX0_twice_0 8 rfl rfl)
theorem dX0_twice_10 : decode cX0_twice 10 = .ok (.ireturn, 1) := dk_172 (dk_at dksX0_twice_0 10 rfl rfl)
theorem dX0_twice_11 : decode cX0_twice 11 = .ok (.aload_n 0, 1) := dk_42 (dk_at dksX0_twice_0 11 rfl rfl)
theorem dX0_twice_12 : decode cX0_twice 12 = .ok (.invokevirtual 229, 3) := dk_182 0 229 (dk_at dksX0_twice_0 12 rfl rfl)
theorem dX0_twice_15 : decode cX0_twice 15 = .ok (.astore_n 3, 1) := dk_78 (dk_at dksX0_twice_0 15 rfl rfl)
theorem dX0_twice_16 : decode cX0_twice 16 = .ok (.iload_n 2, 1) := dk_28 (dk_at dksX0_twice_0 16 rfl rfl)
theorem dX0_twice_17 : decode cX0_twice 17 = .ok (.i2l, 1) := dk_133 (dk_at dksX0_twice_0 17 rfl rfl)
theorem dX0_twice_18 : decode cX0_twice 18 = .ok (.lconst 0, 1) := dk_9 (dk_at dksX0_twice_0 18 rfl rfl)
theorem dX0_twice_19 : decode cX0_twice 19 = .ok (.aload_n 3, 1) := dk_45 (dk_at dksX0_twice_0 19 rfl rfl)
theorem dX0_twice_20 : decode cX0_twice 20 = .ok (.getfield 232, 3) := dk_180 0 232 (dk_at dksX0_twice_0 20 rfl rfl)
theorem dX0_twice_23 : decode cX0_twice 23 = .ok (.iconst 1, 1) := dk_4 (dk_at dksX0_twice_0 23 rfl rfl)
theorem dX0_twice_24 : decode cX0_twice 24 = .ok (.isub, 1) := dk_100 (dk_at dksX0_twice_1 0 rfl rfl)
theorem dX0_twice_25 : decode cX0_twice 25 = .ok (.i2l, 1) := dk_133 (dk_at dksX0_twice_1 1 rfl rfl)
theorem dX0_twice_26 : decode cX0_twice 26 = .ok (.invokestatic 5, 3) := dk_184 0 5 (dk_at dksX0_twice_1 2 rfl rfl)
theorem dX0_twice_29 : decode cX0_twice 29 = .ok (.ifCond .eq 23, 3) := dk_153 0 23 (dk_at dksX0_twice_1 5 rfl rfl)
theorem dX0_twice_32 : decode cX0_twice 32 = .ok (.aload_n 0, 1) := dk_42 (dk_at dksX0_twice_1 8 rfl rfl)
theorem dX0_twice_33 : decode cX0_twice 33 = .ok (.getfield 76, 3) := dk_180 0 76 (dk_at dksX0_twice_1 9 rfl rfl)
theorem dX0_twice_36 : decode cX0_twice 36 = .ok (.iload_n 1, 1) := dk_27 (dk_at dksX0_twice_1 12 rfl rfl)
theorem dX0_twice_37 : decode cX0_twice 37 = .ok (.invokevirtual 263, 3) := dk_182 1 7 (dk_at dksX0_twice_1 13 rfl rfl)
theorem dX0_twice_40 : decode cX0_twice 40 = .ok (.aload_n 3, 1) := dk_45 (dk_at dksX0_twice_1 16 rfl rfl)
theorem dX0_twice_41 : decode cX0_twice 41 = .ok (.invokevirtual 267, 3) := dk_182 1 11 (dk_at dksX0_twice_1 17 rfl rfl)
theorem dX0_twice_44 : decode cX0_twice 44 = .ok (.getfield 280, 3) := dk_180 1 24 (dk_at dksX0_twice_1 20 rfl rfl)
theorem dX0_twice_47 : decode cX0_twice 47 = .ok (.iload_n 2, 1) := dk_28 (dk_at dksX0_twice_1 23 rfl rfl)
theorem dX0_twice_48 : decode cX0_twice 48 = .ok (.iaload, 1) := dk_46 (dk_at dksX0_twice_2 0 rfl rfl)
theorem dX0_twice_49 : decode cX0_twice 49 = .ok (.goto 4, 3) := dk_167 0 4 (dk_at dksX0_twice_2 1 rfl rfl)
theorem dX0_twice_52 : decode cX0_twice 52 = .ok (.iconst (-1), 1) := dk_2 (dk_at dksX0_twice_2 4 rfl rfl)
theorem dX0_twice_53 : decode cX0_twice 53 = .ok (.ireturn, 1) := dk_172 (dk_at dksX0_twice_2 5 rfl rfl)
abbrev cX0_where : ByteArray := prog_1_method_40_code
def yX0_where : MethodName := ⟨RX0, "where", "(II)I"⟩
def dkwX0_where_3 : List UInt8 := [163, 0, 14, 42, 180, 0, 76, 180, 1, 36, 21, 4, 46, 62, 132, 4, 1, 167, 255, 216, 29, 172]
abbrev dktX0_where_3 : List UInt8 := dkwX0_where_3 ++ []
def dkwX0_where_2 : List UInt8 := [21, 4, 42, 180, 0, 76, 180, 1, 30, 162, 0, 34, 42, 180, 0, 76, 180, 1, 33, 21, 4, 46, 28]
abbrev dktX0_where_2 : List UInt8 := dkwX0_where_2 ++ dktX0_where_3
def dkwX0_where_1 : List UInt8 := [27, 182, 1, 7, 42, 182, 0, 229, 182, 1, 11, 87, 42, 180, 0, 76, 180, 1, 27, 62, 3, 54, 4]
abbrev dktX0_where_1 : List UInt8 := dkwX0_where_1 ++ dktX0_where_2
def dkwX0_where_0 : List UInt8 := [42, 27, 182, 0, 193, 153, 0, 12, 42, 28, 133, 182, 0, 205, 154, 0, 6, 16, 254, 172, 42, 180, 0, 76]
abbrev dktX0_where_0 : List UInt8 := dkwX0_where_0 ++ dktX0_where_1
theorem dksX0_where_0 : cX0_where.data.toList.drop 0 = dktX0_where_0 := by decide +kernel
theorem dksX0_where_1 : cX0_where.data.toList.drop 24 = dktX0_where_1 := dk_seg dksX0_where_0 24 rfl rfl
theorem dksX0_where_2 : cX0_where.data.toList.drop 47 = dktX0_where_2 := dk_seg dksX0_where_1 23 rfl rfl
theorem dksX0_where_3 : cX0_where.data.toList.drop 70 = dktX0_where_3 := dk_seg dksX0_where_2 23 rfl rfl
theorem dX0_where_0 : decode cX0_where 0 = .ok (.aload_n 0, 1) := dk_42 (dk_at dksX0_where_0 0 rfl rfl)
theorem dX0_where_1 : decode cX0_where 1 = .ok (.iload_n 1, 1) := dk_27 (dk_at dksX0_where_0 1 rfl rfl)
theorem dX0_where_2 : decode cX0_where 2 = .ok (.invokevirtual 193, 3) := dk_182 0 193 (dk_at dksX0_where_0 2 rfl rfl)
theorem dX0_where_5 : decode cX0_where 5 = .ok (.ifCond .eq 12, 3) := dk_153 0 12 (dk_at dksX0_where_0 5 rfl rfl)
theorem dX0_where_8 : decode cX0_where 8 = .ok (.aload_n 0, 1) := dk_42 (dk_at dksX0_where_0 8 rfl rfl)
theorem dX0_where_9 : decode cX0_where 9 = .ok (.iload_n 2, 1) := dk_28 (dk_at dksX0_where_0 9 rfl rfl)
theorem dX0_where_10 : decode cX0_where 10 = .ok (.i2l, 1) := dk_133 (dk_at dksX0_where_0 10 rfl rfl)
theorem dX0_where_11 : decode cX0_where 11 = .ok (.invokevirtual 205, 3) := dk_182 0 205 (dk_at dksX0_where_0 11 rfl rfl)
theorem dX0_where_14 : decode cX0_where 14 = .ok (.ifCond .ne 6, 3) := dk_154 0 6 (dk_at dksX0_where_0 14 rfl rfl)
theorem dX0_where_17 : decode cX0_where 17 = .ok (.bipush (-2), 2) := dk_16 254 (dk_at dksX0_where_0 17 rfl rfl)
theorem dX0_where_19 : decode cX0_where 19 = .ok (.ireturn, 1) := dk_172 (dk_at dksX0_where_0 19 rfl rfl)
theorem dX0_where_20 : decode cX0_where 20 = .ok (.aload_n 0, 1) := dk_42 (dk_at dksX0_where_0 20 rfl rfl)
theorem dX0_where_21 : decode cX0_where 21 = .ok (.getfield 76, 3) := dk_180 0 76 (dk_at dksX0_where_0 21 rfl rfl)
theorem dX0_where_24 : decode cX0_where 24 = .ok (.iload_n 1, 1) := dk_27 (dk_at dksX0_where_1 0 rfl rfl)
theorem dX0_where_25 : decode cX0_where 25 = .ok (.invokevirtual 263, 3) := dk_182 1 7 (dk_at dksX0_where_1 1 rfl rfl)
theorem dX0_where_28 : decode cX0_where 28 = .ok (.aload_n 0, 1) := dk_42 (dk_at dksX0_where_1 4 rfl rfl)
theorem dX0_where_29 : decode cX0_where 29 = .ok (.invokevirtual 229, 3) := dk_182 0 229 (dk_at dksX0_where_1 5 rfl rfl)
theorem dX0_where_32 : decode cX0_where 32 = .ok (.invokevirtual 267, 3) := dk_182 1 11 (dk_at dksX0_where_1 8 rfl rfl)
theorem dX0_where_35 : decode cX0_where 35 = .ok (.pop, 1) := dk_87 (dk_at dksX0_where_1 11 rfl rfl)
theorem dX0_where_36 : decode cX0_where 36 = .ok (.aload_n 0, 1) := dk_42 (dk_at dksX0_where_1 12 rfl rfl)
theorem dX0_where_37 : decode cX0_where 37 = .ok (.getfield 76, 3) := dk_180 0 76 (dk_at dksX0_where_1 13 rfl rfl)
theorem dX0_where_40 : decode cX0_where 40 = .ok (.getfield 283, 3) := dk_180 1 27 (dk_at dksX0_where_1 16 rfl rfl)
theorem dX0_where_43 : decode cX0_where 43 = .ok (.istore_n 3, 1) := dk_62 (dk_at dksX0_where_1 19 rfl rfl)
theorem dX0_where_44 : decode cX0_where 44 = .ok (.iconst 0, 1) := dk_3 (dk_at dksX0_where_1 20 rfl rfl)
theorem dX0_where_45 : decode cX0_where 45 = .ok (.istore 4, 2) := dk_54 4 (dk_at dksX0_where_1 21 rfl rfl)
theorem dX0_where_47 : decode cX0_where 47 = .ok (.iload 4, 2) := dk_21 4 (dk_at dksX0_where_2 0 rfl rfl)
theorem dX0_where_49 : decode cX0_where 49 = .ok (.aload_n 0, 1) := dk_42 (dk_at dksX0_where_2 2 rfl rfl)
theorem dX0_where_50 : decode cX0_where 50 = .ok (.getfield 76, 3) := dk_180 0 76 (dk_at dksX0_where_2 3 rfl rfl)
theorem dX0_where_53 : decode cX0_where 53 = .ok (.getfield 286, 3) := dk_180 1 30 (dk_at dksX0_where_2 6 rfl rfl)
theorem dX0_where_56 : decode cX0_where 56 = .ok (.if_icmp .ge 34, 3) := dk_162 0 34 (dk_at dksX0_where_2 9 rfl rfl)
theorem dX0_where_59 : decode cX0_where 59 = .ok (.aload_n 0, 1) := dk_42 (dk_at dksX0_where_2 12 rfl rfl)
theorem dX0_where_60 : decode cX0_where 60 = .ok (.getfield 76, 3) := dk_180 0 76 (dk_at dksX0_where_2 13 rfl rfl)
theorem dX0_where_63 : decode cX0_where 63 = .ok (.getfield 289, 3) := dk_180 1 33 (dk_at dksX0_where_2 16 rfl rfl)
theorem dX0_where_66 : decode cX0_where 66 = .ok (.iload 4, 2) := dk_21 4 (dk_at dksX0_where_2 19 rfl rfl)
theorem dX0_where_68 : decode cX0_where 68 = .ok (.iaload, 1) := dk_46 (dk_at dksX0_where_2 21 rfl rfl)
theorem dX0_where_69 : decode cX0_where 69 = .ok (.iload_n 2, 1) := dk_28 (dk_at dksX0_where_2 22 rfl rfl)
theorem dX0_where_70 : decode cX0_where 70 = .ok (.if_icmp .gt 14, 3) := dk_163 0 14 (dk_at dksX0_where_3 0 rfl rfl)
theorem dX0_where_73 : decode cX0_where 73 = .ok (.aload_n 0, 1) := dk_42 (dk_at dksX0_where_3 3 rfl rfl)
theorem dX0_where_74 : decode cX0_where 74 = .ok (.getfield 76, 3) := dk_180 0 76 (dk_at dksX0_where_3 4 rfl rfl)
theorem dX0_where_77 : decode cX0_where 77 = .ok (.getfield 292, 3) := dk_180 1 36 (dk_at dksX0_where_3 7 rfl rfl)
theorem dX0_where_80 : decode cX0_where 80 = .ok (.iload 4, 2) := dk_21 4 (dk_at dksX0_where_3 10 rfl rfl)
theorem dX0_where_82 : decode cX0_where 82 = .ok (.iaload, 1) := dk_46 (dk_at dksX0_where_3 12 rfl rfl)
theorem dX0_where_83 : decode cX0_where 83 = .ok (.istore_n 3, 1) := dk_62 (dk_at dksX0_where_3 13 rfl rfl)
theorem dX0_where_84 : decode cX0_where 84 = .ok (.iinc 4 1, 3) := dk_132 4 1 (dk_at dksX0_where_3 14 rfl rfl)
theorem dX0_where_87 : decode cX0_where 87 = .ok (.goto (-40), 3) := dk_167 255 216 (dk_at dksX0_where_3 17 rfl rfl)
theorem dX0_where_90 : decode cX0_where 90 = .ok (.iload_n 3, 1) := dk_29 (dk_at dksX0_where_3 20 rfl rfl)
theorem dX0_where_91 : decode cX0_where 91 = .ok (.ireturn, 1) := dk_172 (dk_at dksX0_where_3 21 rfl rfl)
abbrev cX0_missed : ByteArray := prog_1_method_41_code
def yX0_missed : MethodName := ⟨RX0, "missed", "(I)I"⟩
def dkwX0_missed_3 : List UInt8 := [167, 0, 4, 4, 162, 0, 5, 29, 172, 132, 3, 1, 167, 255, 204, 2, 172]
abbrev dktX0_missed_3 : List UInt8 := dkwX0_missed_3 ++ []
def dkwX0_missed_2 : List UInt8 := [154, 0, 33, 42, 180, 0, 76, 180, 1, 24, 29, 46, 44, 29, 182, 0, 237, 182, 0, 247, 153, 0, 7, 5]
abbrev dktX0_missed_2 : List UInt8 := dkwX0_missed_2 ++ dktX0_missed_3
def dkwX0_missed_1 : List UInt8 := [44, 182, 1, 11, 87, 3, 62, 29, 44, 180, 0, 232, 162, 0, 50, 44, 29, 182, 0, 237, 180, 0, 176]
abbrev dktX0_missed_1 : List UInt8 := dkwX0_missed_1 ++ dktX0_missed_2
def dkwX0_missed_0 : List UInt8 := [42, 27, 182, 0, 193, 154, 0, 6, 16, 254, 172, 42, 182, 0, 229, 77, 42, 180, 0, 76, 27, 182, 1, 7]
abbrev dktX0_missed_0 : List UInt8 := dkwX0_missed_0 ++ dktX0_missed_1
theorem dksX0_missed_0 : cX0_missed.data.toList.drop 0 = dktX0_missed_0 := by decide +kernel
theorem dksX0_missed_1 : cX0_missed.data.toList.drop 24 = dktX0_missed_1 := dk_seg dksX0_missed_0 24 rfl rfl
theorem dksX0_missed_2 : cX0_missed.data.toList.drop 47 = dktX0_missed_2 := dk_seg dksX0_missed_1 23 rfl rfl
theorem dksX0_missed_3 : cX0_missed.data.toList.drop 71 = dktX0_missed_3 := dk_seg dksX0_missed_2 24 rfl rfl
theorem dX0_missed_0 : decode cX0_missed 0 = .ok (.aload_n 0, 1) := dk_42 (dk_at dksX0_missed_0 0 rfl rfl)
theorem dX0_missed_1 : decode cX0_missed 1 = .ok (.iload_n 1, 1) := dk_27 (dk_at dksX0_missed_0 1 rfl rfl)
theorem dX0_missed_2 : decode cX0_missed 2 = .ok (.invokevirtual 193, 3) := dk_182 0 193 (dk_at dksX0_missed_0 2 rfl rfl)
theorem dX0_missed_5 : decode cX0_missed 5 = .ok (.ifCond .ne 6, 3) := dk_154 0 6 (dk_at dksX0_missed_0 5 rfl rfl)
theorem dX0_missed_8 : decode cX0_missed 8 = .ok (.bipush (-2), 2) := dk_16 254 (dk_at dksX0_missed_0 8 rfl rfl)
theorem dX0_missed_10 : decode cX0_missed 10 = .ok (.ireturn, 1) := dk_172 (dk_at dksX0_missed_0 10 rfl rfl)
theorem dX0_missed_11 : decode cX0_missed 11 = .ok (.aload_n 0, 1) := dk_42 (dk_at dksX0_missed_0 11 rfl rfl)
theorem dX0_missed_12 : decode cX0_missed 12 = .ok (.invokevirtual 229, 3) := dk_182 0 229 (dk_at dksX0_missed_0 12 rfl rfl)
theorem dX0_missed_15 : decode cX0_missed 15 = .ok (.astore_n 2, 1) := dk_77 (dk_at dksX0_missed_0 15 rfl rfl)
theorem dX0_missed_16 : decode cX0_missed 16 = .ok (.aload_n 0, 1) := dk_42 (dk_at dksX0_missed_0 16 rfl rfl)
theorem dX0_missed_17 : decode cX0_missed 17 = .ok (.getfield 76, 3) := dk_180 0 76 (dk_at dksX0_missed_0 17 rfl rfl)
theorem dX0_missed_20 : decode cX0_missed 20 = .ok (.iload_n 1, 1) := dk_27 (dk_at dksX0_missed_0 20 rfl rfl)
theorem dX0_missed_21 : decode cX0_missed 21 = .ok (.invokevirtual 263, 3) := dk_182 1 7 (dk_at dksX0_missed_0 21 rfl rfl)
theorem dX0_missed_24 : decode cX0_missed 24 = .ok (.aload_n 2, 1) := dk_44 (dk_at dksX0_missed_1 0 rfl rfl)
theorem dX0_missed_25 : decode cX0_missed 25 = .ok (.invokevirtual 267, 3) := dk_182 1 11 (dk_at dksX0_missed_1 1 rfl rfl)
theorem dX0_missed_28 : decode cX0_missed 28 = .ok (.pop, 1) := dk_87 (dk_at dksX0_missed_1 4 rfl rfl)
theorem dX0_missed_29 : decode cX0_missed 29 = .ok (.iconst 0, 1) := dk_3 (dk_at dksX0_missed_1 5 rfl rfl)
theorem dX0_missed_30 : decode cX0_missed 30 = .ok (.istore_n 3, 1) := dk_62 (dk_at dksX0_missed_1 6 rfl rfl)
theorem dX0_missed_31 : decode cX0_missed 31 = .ok (.iload_n 3, 1) := dk_29 (dk_at dksX0_missed_1 7 rfl rfl)
theorem dX0_missed_32 : decode cX0_missed 32 = .ok (.aload_n 2, 1) := dk_44 (dk_at dksX0_missed_1 8 rfl rfl)
theorem dX0_missed_33 : decode cX0_missed 33 = .ok (.getfield 232, 3) := dk_180 0 232 (dk_at dksX0_missed_1 9 rfl rfl)
theorem dX0_missed_36 : decode cX0_missed 36 = .ok (.if_icmp .ge 50, 3) := dk_162 0 50 (dk_at dksX0_missed_1 12 rfl rfl)
theorem dX0_missed_39 : decode cX0_missed 39 = .ok (.aload_n 2, 1) := dk_44 (dk_at dksX0_missed_1 15 rfl rfl)
theorem dX0_missed_40 : decode cX0_missed 40 = .ok (.iload_n 3, 1) := dk_29 (dk_at dksX0_missed_1 16 rfl rfl)
theorem dX0_missed_41 : decode cX0_missed 41 = .ok (.invokevirtual 237, 3) := dk_182 0 237 (dk_at dksX0_missed_1 17 rfl rfl)
theorem dX0_missed_44 : decode cX0_missed 44 = .ok (.getfield 176, 3) := dk_180 0 176 (dk_at dksX0_missed_1 20 rfl rfl)
theorem dX0_missed_47 : decode cX0_missed 47 = .ok (.ifCond .ne 33, 3) := dk_154 0 33 (dk_at dksX0_missed_2 0 rfl rfl)
theorem dX0_missed_50 : decode cX0_missed 50 = .ok (.aload_n 0, 1) := dk_42 (dk_at dksX0_missed_2 3 rfl rfl)
theorem dX0_missed_51 : decode cX0_missed 51 = .ok (.getfield 76, 3) := dk_180 0 76 (dk_at dksX0_missed_2 4 rfl rfl)
theorem dX0_missed_54 : decode cX0_missed 54 = .ok (.getfield 280, 3) := dk_180 1 24 (dk_at dksX0_missed_2 7 rfl rfl)
theorem dX0_missed_57 : decode cX0_missed 57 = .ok (.iload_n 3, 1) := dk_29 (dk_at dksX0_missed_2 10 rfl rfl)
theorem dX0_missed_58 : decode cX0_missed 58 = .ok (.iaload, 1) := dk_46 (dk_at dksX0_missed_2 11 rfl rfl)
theorem dX0_missed_59 : decode cX0_missed 59 = .ok (.aload_n 2, 1) := dk_44 (dk_at dksX0_missed_2 12 rfl rfl)
theorem dX0_missed_60 : decode cX0_missed 60 = .ok (.iload_n 3, 1) := dk_29 (dk_at dksX0_missed_2 13 rfl rfl)
theorem dX0_missed_61 : decode cX0_missed 61 = .ok (.invokevirtual 237, 3) := dk_182 0 237 (dk_at dksX0_missed_2 14 rfl rfl)
theorem dX0_missed_64 : decode cX0_missed 64 = .ok (.invokevirtual 247, 3) := dk_182 0 247 (dk_at dksX0_missed_2 17 rfl rfl)
theorem dX0_missed_67 : decode cX0_missed 67 = .ok (.ifCond .eq 7, 3) := dk_153 0 7 (dk_at dksX0_missed_2 20 rfl rfl)
theorem dX0_missed_70 : decode cX0_missed 70 = .ok (.iconst 2, 1) := dk_5 (dk_at dksX0_missed_2 23 rfl rfl)
theorem dX0_missed_71 : decode cX0_missed 71 = .ok (.goto 4, 3) := dk_167 0 4 (dk_at dksX0_missed_3 0 rfl rfl)
theorem dX0_missed_74 : decode cX0_missed 74 = .ok (.iconst 1, 1) := dk_4 (dk_at dksX0_missed_3 3 rfl rfl)
theorem dX0_missed_75 : decode cX0_missed 75 = .ok (.if_icmp .ge 5, 3) := dk_162 0 5 (dk_at dksX0_missed_3 4 rfl rfl)
theorem dX0_missed_78 : decode cX0_missed 78 = .ok (.iload_n 3, 1) := dk_29 (dk_at dksX0_missed_3 7 rfl rfl)
theorem dX0_missed_79 : decode cX0_missed 79 = .ok (.ireturn, 1) := dk_172 (dk_at dksX0_missed_3 8 rfl rfl)
theorem dX0_missed_80 : decode cX0_missed 80 = .ok (.iinc 3 1, 3) := dk_132 3 1 (dk_at dksX0_missed_3 9 rfl rfl)
theorem dX0_missed_83 : decode cX0_missed 83 = .ok (.goto (-52), 3) := dk_167 255 204 (dk_at dksX0_missed_3 12 rfl rfl)
theorem dX0_missed_86 : decode cX0_missed 86 = .ok (.iconst (-1), 1) := dk_2 (dk_at dksX0_missed_3 15 rfl rfl)
theorem dX0_missed_87 : decode cX0_missed 87 = .ok (.ireturn, 1) := dk_172 (dk_at dksX0_missed_3 16 rfl rfl)
abbrev cX0_walked : ByteArray := prog_1_method_42_code
def yX0_walked : MethodName := ⟨RX0, "walked", "(I)I"⟩
def dkwX0_walked_1 : List UInt8 := [180, 1, 39, 167, 0, 5, 16, 254, 172]
abbrev dktX0_walked_1 : List UInt8 := dkwX0_walked_1 ++ []
def dkwX0_walked_0 : List UInt8 := [42, 27, 182, 0, 193, 153, 0, 24, 42, 180, 0, 76, 27, 182, 1, 7, 42, 182, 0, 229, 182, 1, 11]
abbrev dktX0_walked_0 : List UInt8 := dkwX0_walked_0 ++ dktX0_walked_1
theorem dksX0_walked_0 : cX0_walked.data.toList.drop 0 = dktX0_walked_0 := by decide +kernel
theorem dksX0_walked_1 : cX0_walked.data.toList.drop 23 = dktX0_walked_1 := dk_seg dksX0_walked_0 23 rfl rfl
theorem dX0_walked_0 : decode cX0_walked 0 = .ok (.aload_n 0, 1) := dk_42 (dk_at dksX0_walked_0 0 rfl rfl)
theorem dX0_walked_1 : decode cX0_walked 1 = .ok (.iload_n 1, 1) := dk_27 (dk_at dksX0_walked_0 1 rfl rfl)
theorem dX0_walked_2 : decode cX0_walked 2 = .ok (.invokevirtual 193, 3) := dk_182 0 193 (dk_at dksX0_walked_0 2 rfl rfl)
theorem dX0_walked_5 : decode cX0_walked 5 = .ok (.ifCond .eq 24, 3) := dk_153 0 24 (dk_at dksX0_walked_0 5 rfl rfl)
theorem dX0_walked_8 : decode cX0_walked 8 = .ok (.aload_n 0, 1) := dk_42 (dk_at dksX0_walked_0 8 rfl rfl)
theorem dX0_walked_9 : decode cX0_walked 9 = .ok (.getfield 76, 3) := dk_180 0 76 (dk_at dksX0_walked_0 9 rfl rfl)
theorem dX0_walked_12 : decode cX0_walked 12 = .ok (.iload_n 1, 1) := dk_27 (dk_at dksX0_walked_0 12 rfl rfl)
theorem dX0_walked_13 : decode cX0_walked 13 = .ok (.invokevirtual 263, 3) := dk_182 1 7 (dk_at dksX0_walked_0 13 rfl rfl)
theorem dX0_walked_16 : decode cX0_walked 16 = .ok (.aload_n 0, 1) := dk_42 (dk_at dksX0_walked_0 16 rfl rfl)
theorem dX0_walked_17 : decode cX0_walked 17 = .ok (.invokevirtual 229, 3) := dk_182 0 229 (dk_at dksX0_walked_0 17 rfl rfl)
theorem dX0_walked_20 : decode cX0_walked 20 = .ok (.invokevirtual 267, 3) := dk_182 1 11 (dk_at dksX0_walked_0 20 rfl rfl)
theorem dX0_walked_23 : decode cX0_walked 23 = .ok (.getfield 295, 3) := dk_180 1 39 (dk_at dksX0_walked_1 0 rfl rfl)
theorem dX0_walked_26 : decode cX0_walked 26 = .ok (.goto 5, 3) := dk_167 0 5 (dk_at dksX0_walked_1 3 rfl rfl)
theorem dX0_walked_29 : decode cX0_walked 29 = .ok (.bipush (-2), 2) := dk_16 254 (dk_at dksX0_walked_1 6 rfl rfl)
theorem dX0_walked_31 : decode cX0_walked 31 = .ok (.ireturn, 1) := dk_172 (dk_at dksX0_walked_1 8 rfl rfl)
abbrev cX0_best : ByteArray := prog_1_method_43_code
def yX0_best : MethodName := ⟨RX0, "best", "(I)I"⟩
def dkwX0_best_1 : List UInt8 := [167, 0, 5, 16, 254, 172]
abbrev dktX0_best_1 : List UInt8 := dkwX0_best_1 ++ []
def dkwX0_best_0 : List UInt8 := [42, 27, 182, 0, 193, 153, 0, 20, 42, 180, 0, 83, 27, 42, 182, 0, 229, 16, 60, 182, 1, 42]
abbrev dktX0_best_0 : List UInt8 := dkwX0_best_0 ++ dktX0_best_1
theorem dksX0_best_0 : cX0_best.data.toList.drop 0 = dktX0_best_0 := by decide +kernel
theorem dksX0_best_1 : cX0_best.data.toList.drop 22 = dktX0_best_1 := dk_seg dksX0_best_0 22 rfl rfl
theorem dX0_best_0 : decode cX0_best 0 = .ok (.aload_n 0, 1) := dk_42 (dk_at dksX0_best_0 0 rfl rfl)
theorem dX0_best_1 : decode cX0_best 1 = .ok (.iload_n 1, 1) := dk_27 (dk_at dksX0_best_0 1 rfl rfl)
theorem dX0_best_2 : decode cX0_best 2 = .ok (.invokevirtual 193, 3) := dk_182 0 193 (dk_at dksX0_best_0 2 rfl rfl)
theorem dX0_best_5 : decode cX0_best 5 = .ok (.ifCond .eq 20, 3) := dk_153 0 20 (dk_at dksX0_best_0 5 rfl rfl)
theorem dX0_best_8 : decode cX0_best 8 = .ok (.aload_n 0, 1) := dk_42 (dk_at dksX0_best_0 8 rfl rfl)
theorem dX0_best_9 : decode cX0_best 9 = .ok (.getfield 83, 3) := dk_180 0 83 (dk_at dksX0_best_0 9 rfl rfl)
theorem dX0_best_12 : decode cX0_best 12 = .ok (.iload_n 1, 1) := dk_27 (dk_at dksX0_best_0 12 rfl rfl)
theorem dX0_best_13 : decode cX0_best 13 = .ok (.aload_n 0, 1) := dk_42 (dk_at dksX0_best_0 13 rfl rfl)
theorem dX0_best_14 : decode cX0_best 14 = .ok (.invokevirtual 229, 3) := dk_182 0 229 (dk_at dksX0_best_0 14 rfl rfl)
theorem dX0_best_17 : decode cX0_best 17 = .ok (.bipush 60, 2) := dk_16 60 (dk_at dksX0_best_0 17 rfl rfl)
theorem dX0_best_19 : decode cX0_best 19 = .ok (.invokevirtual 298, 3) := dk_182 1 42 (dk_at dksX0_best_0 19 rfl rfl)
theorem dX0_best_22 : decode cX0_best 22 = .ok (.goto 5, 3) := dk_167 0 5 (dk_at dksX0_best_1 0 rfl rfl)
theorem dX0_best_25 : decode cX0_best 25 = .ok (.bipush (-2), 2) := dk_16 254 (dk_at dksX0_best_1 3 rfl rfl)
theorem dX0_best_27 : decode cX0_best 27 = .ok (.ireturn, 1) := dk_172 (dk_at dksX0_best_1 5 rfl rfl)
abbrev cX0_ahead : ByteArray := prog_1_method_44_code
def yX0_ahead : MethodName := ⟨RX0, "ahead", "(II)I"⟩
def dkwX0_ahead_1 : List UInt8 := [27, 42, 182, 0, 229, 28, 182, 1, 42, 167, 0, 5, 16, 254, 172]
abbrev dktX0_ahead_1 : List UInt8 := dkwX0_ahead_1 ++ []
def dkwX0_ahead_0 : List UInt8 := [42, 27, 182, 0, 193, 153, 0, 31, 28, 133, 9, 20, 1, 45, 184, 0, 5, 153, 0, 19, 42, 180, 0, 83]
abbrev dktX0_ahead_0 : List UInt8 := dkwX0_ahead_0 ++ dktX0_ahead_1
theorem dksX0_ahead_0 : cX0_ahead.data.toList.drop 0 = dktX0_ahead_0 := by decide +kernel
theorem dksX0_ahead_1 : cX0_ahead.data.toList.drop 24 = dktX0_ahead_1 := dk_seg dksX0_ahead_0 24 rfl rfl
theorem dX0_ahead_0 : decode cX0_ahead 0 = .ok (.aload_n 0, 1) := dk_42 (dk_at dksX0_ahead_0 0 rfl rfl)
theorem dX0_ahead_1 : decode cX0_ahead 1 = .ok (.iload_n 1, 1) := dk_27 (dk_at dksX0_ahead_0 1 rfl rfl)
theorem dX0_ahead_2 : decode cX0_ahead 2 = .ok (.invokevirtual 193, 3) := dk_182 0 193 (dk_at dksX0_ahead_0 2 rfl rfl)
theorem dX0_ahead_5 : decode cX0_ahead 5 = .ok (.ifCond .eq 31, 3) := dk_153 0 31 (dk_at dksX0_ahead_0 5 rfl rfl)
theorem dX0_ahead_8 : decode cX0_ahead 8 = .ok (.iload_n 2, 1) := dk_28 (dk_at dksX0_ahead_0 8 rfl rfl)
theorem dX0_ahead_9 : decode cX0_ahead 9 = .ok (.i2l, 1) := dk_133 (dk_at dksX0_ahead_0 9 rfl rfl)
theorem dX0_ahead_10 : decode cX0_ahead 10 = .ok (.lconst 0, 1) := dk_9 (dk_at dksX0_ahead_0 10 rfl rfl)
theorem dX0_ahead_11 : decode cX0_ahead 11 = .ok (.ldc2_w 301, 3) := dk_20 1 45 (dk_at dksX0_ahead_0 11 rfl rfl)
theorem dX0_ahead_14 : decode cX0_ahead 14 = .ok (.invokestatic 5, 3) := dk_184 0 5 (dk_at dksX0_ahead_0 14 rfl rfl)
theorem dX0_ahead_17 : decode cX0_ahead 17 = .ok (.ifCond .eq 19, 3) := dk_153 0 19 (dk_at dksX0_ahead_0 17 rfl rfl)
theorem dX0_ahead_20 : decode cX0_ahead 20 = .ok (.aload_n 0, 1) := dk_42 (dk_at dksX0_ahead_0 20 rfl rfl)
theorem dX0_ahead_21 : decode cX0_ahead 21 = .ok (.getfield 83, 3) := dk_180 0 83 (dk_at dksX0_ahead_0 21 rfl rfl)
theorem dX0_ahead_24 : decode cX0_ahead 24 = .ok (.iload_n 1, 1) := dk_27 (dk_at dksX0_ahead_1 0 rfl rfl)
theorem dX0_ahead_25 : decode cX0_ahead 25 = .ok (.aload_n 0, 1) := dk_42 (dk_at dksX0_ahead_1 1 rfl rfl)
theorem dX0_ahead_26 : decode cX0_ahead 26 = .ok (.invokevirtual 229, 3) := dk_182 0 229 (dk_at dksX0_ahead_1 2 rfl rfl)
theorem dX0_ahead_29 : decode cX0_ahead 29 = .ok (.iload_n 2, 1) := dk_28 (dk_at dksX0_ahead_1 5 rfl rfl)
theorem dX0_ahead_30 : decode cX0_ahead 30 = .ok (.invokevirtual 298, 3) := dk_182 1 42 (dk_at dksX0_ahead_1 6 rfl rfl)
theorem dX0_ahead_33 : decode cX0_ahead 33 = .ok (.goto 5, 3) := dk_167 0 5 (dk_at dksX0_ahead_1 9 rfl rfl)
theorem dX0_ahead_36 : decode cX0_ahead 36 = .ok (.bipush (-2), 2) := dk_16 254 (dk_at dksX0_ahead_1 12 rfl rfl)
theorem dX0_ahead_38 : decode cX0_ahead 38 = .ok (.ireturn, 1) := dk_172 (dk_at dksX0_ahead_1 14 rfl rfl)
abbrev cX0_learns : ByteArray := prog_1_method_46_code
def yX0_learns : MethodName := ⟨RX0, "learns", "(II)I"⟩
def dkwX0_learns_1 : List UInt8 := [182, 1, 52, 167, 0, 5, 16, 254, 172]
abbrev dktX0_learns_1 : List UInt8 := dkwX0_learns_1 ++ []
def dkwX0_learns_0 : List UInt8 := [42, 27, 182, 0, 193, 153, 0, 24, 28, 133, 9, 20, 1, 50, 184, 0, 5, 153, 0, 12, 42, 27, 28]
abbrev dktX0_learns_0 : List UInt8 := dkwX0_learns_0 ++ dktX0_learns_1
theorem dksX0_learns_0 : cX0_learns.data.toList.drop 0 = dktX0_learns_0 := by decide +kernel
theorem dksX0_learns_1 : cX0_learns.data.toList.drop 23 = dktX0_learns_1 := dk_seg dksX0_learns_0 23 rfl rfl
theorem dX0_learns_0 : decode cX0_learns 0 = .ok (.aload_n 0, 1) := dk_42 (dk_at dksX0_learns_0 0 rfl rfl)
theorem dX0_learns_1 : decode cX0_learns 1 = .ok (.iload_n 1, 1) := dk_27 (dk_at dksX0_learns_0 1 rfl rfl)
theorem dX0_learns_2 : decode cX0_learns 2 = .ok (.invokevirtual 193, 3) := dk_182 0 193 (dk_at dksX0_learns_0 2 rfl rfl)
theorem dX0_learns_5 : decode cX0_learns 5 = .ok (.ifCond .eq 24, 3) := dk_153 0 24 (dk_at dksX0_learns_0 5 rfl rfl)
theorem dX0_learns_8 : decode cX0_learns 8 = .ok (.iload_n 2, 1) := dk_28 (dk_at dksX0_learns_0 8 rfl rfl)
theorem dX0_learns_9 : decode cX0_learns 9 = .ok (.i2l, 1) := dk_133 (dk_at dksX0_learns_0 9 rfl rfl)
theorem dX0_learns_10 : decode cX0_learns 10 = .ok (.lconst 0, 1) := dk_9 (dk_at dksX0_learns_0 10 rfl rfl)
theorem dX0_learns_11 : decode cX0_learns 11 = .ok (.ldc2_w 306, 3) := dk_20 1 50 (dk_at dksX0_learns_0 11 rfl rfl)
theorem dX0_learns_14 : decode cX0_learns 14 = .ok (.invokestatic 5, 3) := dk_184 0 5 (dk_at dksX0_learns_0 14 rfl rfl)
theorem dX0_learns_17 : decode cX0_learns 17 = .ok (.ifCond .eq 12, 3) := dk_153 0 12 (dk_at dksX0_learns_0 17 rfl rfl)
theorem dX0_learns_20 : decode cX0_learns 20 = .ok (.aload_n 0, 1) := dk_42 (dk_at dksX0_learns_0 20 rfl rfl)
theorem dX0_learns_21 : decode cX0_learns 21 = .ok (.iload_n 1, 1) := dk_27 (dk_at dksX0_learns_0 21 rfl rfl)
theorem dX0_learns_22 : decode cX0_learns 22 = .ok (.iload_n 2, 1) := dk_28 (dk_at dksX0_learns_0 22 rfl rfl)
theorem dX0_learns_23 : decode cX0_learns 23 = .ok (.invokevirtual 308, 3) := dk_182 1 52 (dk_at dksX0_learns_1 0 rfl rfl)
theorem dX0_learns_26 : decode cX0_learns 26 = .ok (.goto 5, 3) := dk_167 0 5 (dk_at dksX0_learns_1 3 rfl rfl)
theorem dX0_learns_29 : decode cX0_learns 29 = .ok (.bipush (-2), 2) := dk_16 254 (dk_at dksX0_learns_1 6 rfl rfl)
theorem dX0_learns_31 : decode cX0_learns 31 = .ok (.ireturn, 1) := dk_172 (dk_at dksX0_learns_1 8 rfl rfl)
abbrev cX0_learnsOf : ByteArray := prog_1_method_45_code
def yX0_learnsOf : MethodName := ⟨RX0, "learnsOf", "(II)I"⟩
def dkwX0_learnsOf_1 : List UInt8 := [180, 1, 15, 172]
abbrev dktX0_learnsOf_1 : List UInt8 := dkwX0_learnsOf_1 ++ []
def dkwX0_learnsOf_0 : List UInt8 := [42, 180, 0, 76, 27, 182, 1, 7, 28, 181, 1, 47, 42, 180, 0, 76, 42, 182, 0, 229, 182, 1, 11]
abbrev dktX0_learnsOf_0 : List UInt8 := dkwX0_learnsOf_0 ++ dktX0_learnsOf_1
theorem dksX0_learnsOf_0 : cX0_learnsOf.data.toList.drop 0 = dktX0_learnsOf_0 := by decide +kernel
theorem dksX0_learnsOf_1 : cX0_learnsOf.data.toList.drop 23 = dktX0_learnsOf_1 := dk_seg dksX0_learnsOf_0 23 rfl rfl
theorem dX0_learnsOf_0 : decode cX0_learnsOf 0 = .ok (.aload_n 0, 1) := dk_42 (dk_at dksX0_learnsOf_0 0 rfl rfl)
theorem dX0_learnsOf_1 : decode cX0_learnsOf 1 = .ok (.getfield 76, 3) := dk_180 0 76 (dk_at dksX0_learnsOf_0 1 rfl rfl)
theorem dX0_learnsOf_4 : decode cX0_learnsOf 4 = .ok (.iload_n 1, 1) := dk_27 (dk_at dksX0_learnsOf_0 4 rfl rfl)
theorem dX0_learnsOf_5 : decode cX0_learnsOf 5 = .ok (.invokevirtual 263, 3) := dk_182 1 7 (dk_at dksX0_learnsOf_0 5 rfl rfl)
theorem dX0_learnsOf_8 : decode cX0_learnsOf 8 = .ok (.iload_n 2, 1) := dk_28 (dk_at dksX0_learnsOf_0 8 rfl rfl)
theorem dX0_learnsOf_9 : decode cX0_learnsOf 9 = .ok (.putfield 303, 3) := dk_181 1 47 (dk_at dksX0_learnsOf_0 9 rfl rfl)
theorem dX0_learnsOf_12 : decode cX0_learnsOf 12 = .ok (.aload_n 0, 1) := dk_42 (dk_at dksX0_learnsOf_0 12 rfl rfl)
theorem dX0_learnsOf_13 : decode cX0_learnsOf 13 = .ok (.getfield 76, 3) := dk_180 0 76 (dk_at dksX0_learnsOf_0 13 rfl rfl)
theorem dX0_learnsOf_16 : decode cX0_learnsOf 16 = .ok (.aload_n 0, 1) := dk_42 (dk_at dksX0_learnsOf_0 16 rfl rfl)
theorem dX0_learnsOf_17 : decode cX0_learnsOf 17 = .ok (.invokevirtual 229, 3) := dk_182 0 229 (dk_at dksX0_learnsOf_0 17 rfl rfl)
theorem dX0_learnsOf_20 : decode cX0_learnsOf 20 = .ok (.invokevirtual 267, 3) := dk_182 1 11 (dk_at dksX0_learnsOf_0 20 rfl rfl)
theorem dX0_learnsOf_23 : decode cX0_learnsOf 23 = .ok (.getfield 271, 3) := dk_180 1 15 (dk_at dksX0_learnsOf_1 0 rfl rfl)
theorem dX0_learnsOf_26 : decode cX0_learnsOf 26 = .ok (.ireturn, 1) := dk_172 (dk_at dksX0_learnsOf_1 3 rfl rfl)
abbrev cX0_enough : ByteArray := prog_1_method_47_code
def yX0_enough : MethodName := ⟨RX0, "enough", "(I)I"⟩
def dkwX0_enough_1 : List UInt8 := [182, 1, 52, 42, 27, 28, 182, 1, 52, 164, 0, 5, 29, 61, 132, 3, 1, 167, 255, 230, 28, 172]
abbrev dktX0_enough_1 : List UInt8 := dkwX0_enough_1 ++ []
def dkwX0_enough_0 : List UInt8 := [42, 27, 182, 0, 193, 154, 0, 6, 16, 254, 172, 3, 61, 4, 62, 29, 16, 9, 163, 0, 26, 42, 27, 29]
abbrev dktX0_enough_0 : List UInt8 := dkwX0_enough_0 ++ dktX0_enough_1
theorem dksX0_enough_0 : cX0_enough.data.toList.drop 0 = dktX0_enough_0 := by decide +kernel
theorem dksX0_enough_1 : cX0_enough.data.toList.drop 24 = dktX0_enough_1 := dk_seg dksX0_enough_0 24 rfl rfl
theorem dX0_enough_0 : decode cX0_enough 0 = .ok (.aload_n 0, 1) := dk_42 (dk_at dksX0_enough_0 0 rfl rfl)
theorem dX0_enough_1 : decode cX0_enough 1 = .ok (.iload_n 1, 1) := dk_27 (dk_at dksX0_enough_0 1 rfl rfl)
theorem dX0_enough_2 : decode cX0_enough 2 = .ok (.invokevirtual 193, 3) := dk_182 0 193 (dk_at dksX0_enough_0 2 rfl rfl)
theorem dX0_enough_5 : decode cX0_enough 5 = .ok (.ifCond .ne 6, 3) := dk_154 0 6 (dk_at dksX0_enough_0 5 rfl rfl)
theorem dX0_enough_8 : decode cX0_enough 8 = .ok (.bipush (-2), 2) := dk_16 254 (dk_at dksX0_enough_0 8 rfl rfl)
theorem dX0_enough_10 : decode cX0_enough 10 = .ok (.ireturn, 1) := dk_172 (dk_at dksX0_enough_0 10 rfl rfl)
theorem dX0_enough_11 : decode cX0_enough 11 = .ok (.iconst 0, 1) := dk_3 (dk_at dksX0_enough_0 11 rfl rfl)
theorem dX0_enough_12 : decode cX0_enough 12 = .ok (.istore_n 2, 1) := dk_61 (dk_at dksX0_enough_0 12 rfl rfl)
theorem dX0_enough_13 : decode cX0_enough 13 = .ok (.iconst 1, 1) := dk_4 (dk_at dksX0_enough_0 13 rfl rfl)
theorem dX0_enough_14 : decode cX0_enough 14 = .ok (.istore_n 3, 1) := dk_62 (dk_at dksX0_enough_0 14 rfl rfl)
theorem dX0_enough_15 : decode cX0_enough 15 = .ok (.iload_n 3, 1) := dk_29 (dk_at dksX0_enough_0 15 rfl rfl)
theorem dX0_enough_16 : decode cX0_enough 16 = .ok (.bipush 9, 2) := dk_16 9 (dk_at dksX0_enough_0 16 rfl rfl)
theorem dX0_enough_18 : decode cX0_enough 18 = .ok (.if_icmp .gt 26, 3) := dk_163 0 26 (dk_at dksX0_enough_0 18 rfl rfl)
theorem dX0_enough_21 : decode cX0_enough 21 = .ok (.aload_n 0, 1) := dk_42 (dk_at dksX0_enough_0 21 rfl rfl)
theorem dX0_enough_22 : decode cX0_enough 22 = .ok (.iload_n 1, 1) := dk_27 (dk_at dksX0_enough_0 22 rfl rfl)
theorem dX0_enough_23 : decode cX0_enough 23 = .ok (.iload_n 3, 1) := dk_29 (dk_at dksX0_enough_0 23 rfl rfl)
theorem dX0_enough_24 : decode cX0_enough 24 = .ok (.invokevirtual 308, 3) := dk_182 1 52 (dk_at dksX0_enough_1 0 rfl rfl)
theorem dX0_enough_27 : decode cX0_enough 27 = .ok (.aload_n 0, 1) := dk_42 (dk_at dksX0_enough_1 3 rfl rfl)
theorem dX0_enough_28 : decode cX0_enough 28 = .ok (.iload_n 1, 1) := dk_27 (dk_at dksX0_enough_1 4 rfl rfl)
theorem dX0_enough_29 : decode cX0_enough 29 = .ok (.iload_n 2, 1) := dk_28 (dk_at dksX0_enough_1 5 rfl rfl)
theorem dX0_enough_30 : decode cX0_enough 30 = .ok (.invokevirtual 308, 3) := dk_182 1 52 (dk_at dksX0_enough_1 6 rfl rfl)
theorem dX0_enough_33 : decode cX0_enough 33 = .ok (.if_icmp .le 5, 3) := dk_164 0 5 (dk_at dksX0_enough_1 9 rfl rfl)
theorem dX0_enough_36 : decode cX0_enough 36 = .ok (.iload_n 3, 1) := dk_29 (dk_at dksX0_enough_1 12 rfl rfl)
theorem dX0_enough_37 : decode cX0_enough 37 = .ok (.istore_n 2, 1) := dk_61 (dk_at dksX0_enough_1 13 rfl rfl)
theorem dX0_enough_38 : decode cX0_enough 38 = .ok (.iinc 3 1, 3) := dk_132 3 1 (dk_at dksX0_enough_1 14 rfl rfl)
theorem dX0_enough_41 : decode cX0_enough 41 = .ok (.goto (-26), 3) := dk_167 255 230 (dk_at dksX0_enough_1 17 rfl rfl)
theorem dX0_enough_44 : decode cX0_enough 44 = .ok (.iload_n 2, 1) := dk_28 (dk_at dksX0_enough_1 20 rfl rfl)
theorem dX0_enough_45 : decode cX0_enough 45 = .ok (.ireturn, 1) := dk_172 (dk_at dksX0_enough_1 21 rfl rfl)
abbrev cX0_waits : ByteArray := prog_1_method_49_code
def yX0_waits : MethodName := ⟨RX0, "waits", "(II)I"⟩
def dkwX0_waits_3 : List UInt8 := [27, 29, 182, 1, 55, 172]
abbrev dktX0_waits_3 : List UInt8 := dkwX0_waits_3 ++ []
def dkwX0_waits_2 : List UInt8 := [182, 1, 55, 164, 0, 6, 21, 4, 62, 132, 4, 1, 167, 255, 222, 28, 154, 0, 7, 29, 167, 0, 9, 42]
abbrev dktX0_waits_2 : List UInt8 := dkwX0_waits_2 ++ dktX0_waits_3
def dkwX0_waits_1 : List UInt8 := [54, 4, 21, 4, 42, 180, 0, 41, 182, 0, 155, 162, 0, 28, 42, 27, 21, 4, 182, 1, 55, 42, 27, 29]
abbrev dktX0_waits_1 : List UInt8 := dkwX0_waits_1 ++ dktX0_waits_2
def dkwX0_waits_0 : List UInt8 := [42, 27, 182, 0, 193, 153, 0, 13, 28, 133, 9, 10, 184, 0, 5, 154, 0, 6, 16, 254, 172, 3, 62, 4]
abbrev dktX0_waits_0 : List UInt8 := dkwX0_waits_0 ++ dktX0_waits_1
theorem dksX0_waits_0 : cX0_waits.data.toList.drop 0 = dktX0_waits_0 := by decide +kernel
theorem dksX0_waits_1 : cX0_waits.data.toList.drop 24 = dktX0_waits_1 := dk_seg dksX0_waits_0 24 rfl rfl
theorem dksX0_waits_2 : cX0_waits.data.toList.drop 48 = dktX0_waits_2 := dk_seg dksX0_waits_1 24 rfl rfl
theorem dksX0_waits_3 : cX0_waits.data.toList.drop 72 = dktX0_waits_3 := dk_seg dksX0_waits_2 24 rfl rfl
theorem dX0_waits_0 : decode cX0_waits 0 = .ok (.aload_n 0, 1) := dk_42 (dk_at dksX0_waits_0 0 rfl rfl)
theorem dX0_waits_1 : decode cX0_waits 1 = .ok (.iload_n 1, 1) := dk_27 (dk_at dksX0_waits_0 1 rfl rfl)
theorem dX0_waits_2 : decode cX0_waits 2 = .ok (.invokevirtual 193, 3) := dk_182 0 193 (dk_at dksX0_waits_0 2 rfl rfl)
theorem dX0_waits_5 : decode cX0_waits 5 = .ok (.ifCond .eq 13, 3) := dk_153 0 13 (dk_at dksX0_waits_0 5 rfl rfl)
theorem dX0_waits_8 : decode cX0_waits 8 = .ok (.iload_n 2, 1) := dk_28 (dk_at dksX0_waits_0 8 rfl rfl)
theorem dX0_waits_9 : decode cX0_waits 9 = .ok (.i2l, 1) := dk_133 (dk_at dksX0_waits_0 9 rfl rfl)
theorem dX0_waits_10 : decode cX0_waits 10 = .ok (.lconst 0, 1) := dk_9 (dk_at dksX0_waits_0 10 rfl rfl)
theorem dX0_waits_11 : decode cX0_waits 11 = .ok (.lconst 1, 1) := dk_10 (dk_at dksX0_waits_0 11 rfl rfl)
theorem dX0_waits_12 : decode cX0_waits 12 = .ok (.invokestatic 5, 3) := dk_184 0 5 (dk_at dksX0_waits_0 12 rfl rfl)
theorem dX0_waits_15 : decode cX0_waits 15 = .ok (.ifCond .ne 6, 3) := dk_154 0 6 (dk_at dksX0_waits_0 15 rfl rfl)
theorem dX0_waits_18 : decode cX0_waits 18 = .ok (.bipush (-2), 2) := dk_16 254 (dk_at dksX0_waits_0 18 rfl rfl)
theorem dX0_waits_20 : decode cX0_waits 20 = .ok (.ireturn, 1) := dk_172 (dk_at dksX0_waits_0 20 rfl rfl)
theorem dX0_waits_21 : decode cX0_waits 21 = .ok (.iconst 0, 1) := dk_3 (dk_at dksX0_waits_0 21 rfl rfl)
theorem dX0_waits_22 : decode cX0_waits 22 = .ok (.istore_n 3, 1) := dk_62 (dk_at dksX0_waits_0 22 rfl rfl)
theorem dX0_waits_23 : decode cX0_waits 23 = .ok (.iconst 1, 1) := dk_4 (dk_at dksX0_waits_0 23 rfl rfl)
theorem dX0_waits_24 : decode cX0_waits 24 = .ok (.istore 4, 2) := dk_54 4 (dk_at dksX0_waits_1 0 rfl rfl)
theorem dX0_waits_26 : decode cX0_waits 26 = .ok (.iload 4, 2) := dk_21 4 (dk_at dksX0_waits_1 2 rfl rfl)
theorem dX0_waits_28 : decode cX0_waits 28 = .ok (.aload_n 0, 1) := dk_42 (dk_at dksX0_waits_1 4 rfl rfl)
theorem dX0_waits_29 : decode cX0_waits 29 = .ok (.getfield 41, 3) := dk_180 0 41 (dk_at dksX0_waits_1 5 rfl rfl)
theorem dX0_waits_32 : decode cX0_waits 32 = .ok (.invokevirtual 155, 3) := dk_182 0 155 (dk_at dksX0_waits_1 8 rfl rfl)
theorem dX0_waits_35 : decode cX0_waits 35 = .ok (.if_icmp .ge 28, 3) := dk_162 0 28 (dk_at dksX0_waits_1 11 rfl rfl)
theorem dX0_waits_38 : decode cX0_waits 38 = .ok (.aload_n 0, 1) := dk_42 (dk_at dksX0_waits_1 14 rfl rfl)
theorem dX0_waits_39 : decode cX0_waits 39 = .ok (.iload_n 1, 1) := dk_27 (dk_at dksX0_waits_1 15 rfl rfl)
theorem dX0_waits_40 : decode cX0_waits 40 = .ok (.iload 4, 2) := dk_21 4 (dk_at dksX0_waits_1 16 rfl rfl)
theorem dX0_waits_42 : decode cX0_waits 42 = .ok (.invokevirtual 311, 3) := dk_182 1 55 (dk_at dksX0_waits_1 18 rfl rfl)
theorem dX0_waits_45 : decode cX0_waits 45 = .ok (.aload_n 0, 1) := dk_42 (dk_at dksX0_waits_1 21 rfl rfl)
theorem dX0_waits_46 : decode cX0_waits 46 = .ok (.iload_n 1, 1) := dk_27 (dk_at dksX0_waits_1 22 rfl rfl)
theorem dX0_waits_47 : decode cX0_waits 47 = .ok (.iload_n 3, 1) := dk_29 (dk_at dksX0_waits_1 23 rfl rfl)
theorem dX0_waits_48 : decode cX0_waits 48 = .ok (.invokevirtual 311, 3) := dk_182 1 55 (dk_at dksX0_waits_2 0 rfl rfl)
theorem dX0_waits_51 : decode cX0_waits 51 = .ok (.if_icmp .le 6, 3) := dk_164 0 6 (dk_at dksX0_waits_2 3 rfl rfl)
theorem dX0_waits_54 : decode cX0_waits 54 = .ok (.iload 4, 2) := dk_21 4 (dk_at dksX0_waits_2 6 rfl rfl)
theorem dX0_waits_56 : decode cX0_waits 56 = .ok (.istore_n 3, 1) := dk_62 (dk_at dksX0_waits_2 8 rfl rfl)
theorem dX0_waits_57 : decode cX0_waits 57 = .ok (.iinc 4 1, 3) := dk_132 4 1 (dk_at dksX0_waits_2 9 rfl rfl)
theorem dX0_waits_60 : decode cX0_waits 60 = .ok (.goto (-34), 3) := dk_167 255 222 (dk_at dksX0_waits_2 12 rfl rfl)
theorem dX0_waits_63 : decode cX0_waits 63 = .ok (.iload_n 2, 1) := dk_28 (dk_at dksX0_waits_2 15 rfl rfl)
theorem dX0_waits_64 : decode cX0_waits 64 = .ok (.ifCond .ne 7, 3) := dk_154 0 7 (dk_at dksX0_waits_2 16 rfl rfl)
theorem dX0_waits_67 : decode cX0_waits 67 = .ok (.iload_n 3, 1) := dk_29 (dk_at dksX0_waits_2 19 rfl rfl)
theorem dX0_waits_68 : decode cX0_waits 68 = .ok (.goto 9, 3) := dk_167 0 9 (dk_at dksX0_waits_2 20 rfl rfl)
theorem dX0_waits_71 : decode cX0_waits 71 = .ok (.aload_n 0, 1) := dk_42 (dk_at dksX0_waits_2 23 rfl rfl)
theorem dX0_waits_72 : decode cX0_waits 72 = .ok (.iload_n 1, 1) := dk_27 (dk_at dksX0_waits_3 0 rfl rfl)
theorem dX0_waits_73 : decode cX0_waits 73 = .ok (.iload_n 3, 1) := dk_29 (dk_at dksX0_waits_3 1 rfl rfl)
theorem dX0_waits_74 : decode cX0_waits 74 = .ok (.invokevirtual 311, 3) := dk_182 1 55 (dk_at dksX0_waits_3 2 rfl rfl)
theorem dX0_waits_77 : decode cX0_waits 77 = .ok (.ireturn, 1) := dk_172 (dk_at dksX0_waits_3 5 rfl rfl)
abbrev cX0_waitsOf : ByteArray := prog_1_method_48_code
def yX0_waitsOf : MethodName := ⟨RX0, "waitsOf", "(II)I"⟩
def dkwX0_waitsOf_1 : List UInt8 := [180, 1, 15, 172]
abbrev dktX0_waitsOf_1 : List UInt8 := dkwX0_waitsOf_1 ++ []
def dkwX0_waitsOf_0 : List UInt8 := [42, 180, 0, 76, 27, 182, 1, 7, 28, 181, 1, 27, 42, 180, 0, 76, 42, 182, 0, 229, 182, 1, 11]
abbrev dktX0_waitsOf_0 : List UInt8 := dkwX0_waitsOf_0 ++ dktX0_waitsOf_1
theorem dksX0_waitsOf_0 : cX0_waitsOf.data.toList.drop 0 = dktX0_waitsOf_0 := by decide +kernel
theorem dksX0_waitsOf_1 : cX0_waitsOf.data.toList.drop 23 = dktX0_waitsOf_1 := dk_seg dksX0_waitsOf_0 23 rfl rfl
theorem dX0_waitsOf_0 : decode cX0_waitsOf 0 = .ok (.aload_n 0, 1) := dk_42 (dk_at dksX0_waitsOf_0 0 rfl rfl)
theorem dX0_waitsOf_1 : decode cX0_waitsOf 1 = .ok (.getfield 76, 3) := dk_180 0 76 (dk_at dksX0_waitsOf_0 1 rfl rfl)
theorem dX0_waitsOf_4 : decode cX0_waitsOf 4 = .ok (.iload_n 1, 1) := dk_27 (dk_at dksX0_waitsOf_0 4 rfl rfl)
theorem dX0_waitsOf_5 : decode cX0_waitsOf 5 = .ok (.invokevirtual 263, 3) := dk_182 1 7 (dk_at dksX0_waitsOf_0 5 rfl rfl)
theorem dX0_waitsOf_8 : decode cX0_waitsOf 8 = .ok (.iload_n 2, 1) := dk_28 (dk_at dksX0_waitsOf_0 8 rfl rfl)
theorem dX0_waitsOf_9 : decode cX0_waitsOf 9 = .ok (.putfield 283, 3) := dk_181 1 27 (dk_at dksX0_waitsOf_0 9 rfl rfl)
theorem dX0_waitsOf_12 : decode cX0_waitsOf 12 = .ok (.aload_n 0, 1) := dk_42 (dk_at dksX0_waitsOf_0 12 rfl rfl)
theorem dX0_waitsOf_13 : decode cX0_waitsOf 13 = .ok (.getfield 76, 3) := dk_180 0 76 (dk_at dksX0_waitsOf_0 13 rfl rfl)
theorem dX0_waitsOf_16 : decode cX0_waitsOf 16 = .ok (.aload_n 0, 1) := dk_42 (dk_at dksX0_waitsOf_0 16 rfl rfl)
theorem dX0_waitsOf_17 : decode cX0_waitsOf 17 = .ok (.invokevirtual 229, 3) := dk_182 0 229 (dk_at dksX0_waitsOf_0 17 rfl rfl)
theorem dX0_waitsOf_20 : decode cX0_waitsOf 20 = .ok (.invokevirtual 267, 3) := dk_182 1 11 (dk_at dksX0_waitsOf_0 20 rfl rfl)
theorem dX0_waitsOf_23 : decode cX0_waitsOf 23 = .ok (.getfield 271, 3) := dk_180 1 15 (dk_at dksX0_waitsOf_1 0 rfl rfl)
theorem dX0_waitsOf_26 : decode cX0_waitsOf 26 = .ok (.ireturn, 1) := dk_172 (dk_at dksX0_waitsOf_1 3 rfl rfl)
abbrev cX0_mean : ByteArray := prog_1_method_52_code
def yX0_mean : MethodName := ⟨RX0, "mean", "(II)I"⟩
def dkwX0_mean_2 : List UInt8 := [167, 0, 4, 29, 21, 4, 133, 29, 133, 184, 1, 58, 136, 108, 172]
abbrev dktX0_mean_2 : List UInt8 := dkwX0_mean_2 ++ []
def dkwX0_mean_1 : List UInt8 := [182, 1, 62, 62, 29, 154, 0, 5, 2, 172, 42, 27, 182, 1, 65, 54, 4, 28, 154, 0, 8, 21, 4]
abbrev dktX0_mean_1 : List UInt8 := dkwX0_mean_1 ++ dktX0_mean_2
def dkwX0_mean_0 : List UInt8 := [42, 27, 133, 182, 0, 250, 153, 0, 13, 28, 133, 9, 10, 184, 0, 5, 154, 0, 6, 16, 254, 172, 42]
abbrev dktX0_mean_0 : List UInt8 := dkwX0_mean_0 ++ dktX0_mean_1
theorem dksX0_mean_0 : cX0_mean.data.toList.drop 0 = dktX0_mean_0 := by decide +kernel
theorem dksX0_mean_1 : cX0_mean.data.toList.drop 23 = dktX0_mean_1 := dk_seg dksX0_mean_0 23 rfl rfl
theorem dksX0_mean_2 : cX0_mean.data.toList.drop 46 = dktX0_mean_2 := dk_seg dksX0_mean_1 23 rfl rfl
theorem dX0_mean_0 : decode cX0_mean 0 = .ok (.aload_n 0, 1) := dk_42 (dk_at dksX0_mean_0 0 rfl rfl)
theorem dX0_mean_1 : decode cX0_mean 1 = .ok (.iload_n 1, 1) := dk_27 (dk_at dksX0_mean_0 1 rfl rfl)
theorem dX0_mean_2 : decode cX0_mean 2 = .ok (.i2l, 1) := dk_133 (dk_at dksX0_mean_0 2 rfl rfl)
theorem dX0_mean_3 : decode cX0_mean 3 = .ok (.invokevirtual 250, 3) := dk_182 0 250 (dk_at dksX0_mean_0 3 rfl rfl)
theorem dX0_mean_6 : decode cX0_mean 6 = .ok (.ifCond .eq 13, 3) := dk_153 0 13 (dk_at dksX0_mean_0 6 rfl rfl)
theorem dX0_mean_9 : decode cX0_mean 9 = .ok (.iload_n 2, 1) := dk_28 (dk_at dksX0_mean_0 9 rfl rfl)
theorem dX0_mean_10 : decode cX0_mean 10 = .ok (.i2l, 1) := dk_133 (dk_at dksX0_mean_0 10 rfl rfl)
theorem dX0_mean_11 : decode cX0_mean 11 = .ok (.lconst 0, 1) := dk_9 (dk_at dksX0_mean_0 11 rfl rfl)
theorem dX0_mean_12 : decode cX0_mean 12 = .ok (.lconst 1, 1) := dk_10 (dk_at dksX0_mean_0 12 rfl rfl)
theorem dX0_mean_13 : decode cX0_mean 13 = .ok (.invokestatic 5, 3) := dk_184 0 5 (dk_at dksX0_mean_0 13 rfl rfl)
theorem dX0_mean_16 : decode cX0_mean 16 = .ok (.ifCond .ne 6, 3) := dk_154 0 6 (dk_at dksX0_mean_0 16 rfl rfl)
theorem dX0_mean_19 : decode cX0_mean 19 = .ok (.bipush (-2), 2) := dk_16 254 (dk_at dksX0_mean_0 19 rfl rfl)
theorem dX0_mean_21 : decode cX0_mean 21 = .ok (.ireturn, 1) := dk_172 (dk_at dksX0_mean_0 21 rfl rfl)
theorem dX0_mean_22 : decode cX0_mean 22 = .ok (.aload_n 0, 1) := dk_42 (dk_at dksX0_mean_0 22 rfl rfl)
theorem dX0_mean_23 : decode cX0_mean 23 = .ok (.invokevirtual 318, 3) := dk_182 1 62 (dk_at dksX0_mean_1 0 rfl rfl)
theorem dX0_mean_26 : decode cX0_mean 26 = .ok (.istore_n 3, 1) := dk_62 (dk_at dksX0_mean_1 3 rfl rfl)
theorem dX0_mean_27 : decode cX0_mean 27 = .ok (.iload_n 3, 1) := dk_29 (dk_at dksX0_mean_1 4 rfl rfl)
theorem dX0_mean_28 : decode cX0_mean 28 = .ok (.ifCond .ne 5, 3) := dk_154 0 5 (dk_at dksX0_mean_1 5 rfl rfl)
theorem dX0_mean_31 : decode cX0_mean 31 = .ok (.iconst (-1), 1) := dk_2 (dk_at dksX0_mean_1 8 rfl rfl)
theorem dX0_mean_32 : decode cX0_mean 32 = .ok (.ireturn, 1) := dk_172 (dk_at dksX0_mean_1 9 rfl rfl)
theorem dX0_mean_33 : decode cX0_mean 33 = .ok (.aload_n 0, 1) := dk_42 (dk_at dksX0_mean_1 10 rfl rfl)
theorem dX0_mean_34 : decode cX0_mean 34 = .ok (.iload_n 1, 1) := dk_27 (dk_at dksX0_mean_1 11 rfl rfl)
theorem dX0_mean_35 : decode cX0_mean 35 = .ok (.invokevirtual 321, 3) := dk_182 1 65 (dk_at dksX0_mean_1 12 rfl rfl)
theorem dX0_mean_38 : decode cX0_mean 38 = .ok (.istore 4, 2) := dk_54 4 (dk_at dksX0_mean_1 15 rfl rfl)
theorem dX0_mean_40 : decode cX0_mean 40 = .ok (.iload_n 2, 1) := dk_28 (dk_at dksX0_mean_1 17 rfl rfl)
theorem dX0_mean_41 : decode cX0_mean 41 = .ok (.ifCond .ne 8, 3) := dk_154 0 8 (dk_at dksX0_mean_1 18 rfl rfl)
theorem dX0_mean_44 : decode cX0_mean 44 = .ok (.iload 4, 2) := dk_21 4 (dk_at dksX0_mean_1 21 rfl rfl)
theorem dX0_mean_46 : decode cX0_mean 46 = .ok (.goto 4, 3) := dk_167 0 4 (dk_at dksX0_mean_2 0 rfl rfl)
theorem dX0_mean_49 : decode cX0_mean 49 = .ok (.iload_n 3, 1) := dk_29 (dk_at dksX0_mean_2 3 rfl rfl)
theorem dX0_mean_50 : decode cX0_mean 50 = .ok (.iload 4, 2) := dk_21 4 (dk_at dksX0_mean_2 4 rfl rfl)
theorem dX0_mean_52 : decode cX0_mean 52 = .ok (.i2l, 1) := dk_133 (dk_at dksX0_mean_2 6 rfl rfl)
theorem dX0_mean_53 : decode cX0_mean 53 = .ok (.iload_n 3, 1) := dk_29 (dk_at dksX0_mean_2 7 rfl rfl)
theorem dX0_mean_54 : decode cX0_mean 54 = .ok (.i2l, 1) := dk_133 (dk_at dksX0_mean_2 8 rfl rfl)
theorem dX0_mean_55 : decode cX0_mean 55 = .ok (.invokestatic 314, 3) := dk_184 1 58 (dk_at dksX0_mean_2 9 rfl rfl)
theorem dX0_mean_58 : decode cX0_mean 58 = .ok (.l2i, 1) := dk_136 (dk_at dksX0_mean_2 12 rfl rfl)
theorem dX0_mean_59 : decode cX0_mean 59 = .ok (.idiv, 1) := dk_108 (dk_at dksX0_mean_2 13 rfl rfl)
theorem dX0_mean_60 : decode cX0_mean 60 = .ok (.ireturn, 1) := dk_172 (dk_at dksX0_mean_2 14 rfl rfl)
abbrev cX0_openOnes : ByteArray := prog_1_method_20_code
def yX0_openOnes : MethodName := ⟨RX0, "openOnes", "()I"⟩
def dkwX0_openOnes_1 : List UInt8 := [4, 167, 0, 4, 3, 96, 60, 132, 2, 1, 167, 255, 226, 27, 172]
abbrev dktX0_openOnes_1 : List UInt8 := dkwX0_openOnes_1 ++ []
def dkwX0_openOnes_0 : List UInt8 := [3, 60, 3, 61, 28, 42, 180, 0, 41, 182, 0, 155, 162, 0, 25, 27, 42, 28, 182, 0, 167, 153, 0, 7]
abbrev dktX0_openOnes_0 : List UInt8 := dkwX0_openOnes_0 ++ dktX0_openOnes_1
theorem dksX0_openOnes_0 : cX0_openOnes.data.toList.drop 0 = dktX0_openOnes_0 := by decide +kernel
theorem dksX0_openOnes_1 : cX0_openOnes.data.toList.drop 24 = dktX0_openOnes_1 := dk_seg dksX0_openOnes_0 24 rfl rfl
theorem dX0_openOnes_0 : decode cX0_openOnes 0 = .ok (.iconst 0, 1) := dk_3 (dk_at dksX0_openOnes_0 0 rfl rfl)
theorem dX0_openOnes_1 : decode cX0_openOnes 1 = .ok (.istore_n 1, 1) := dk_60 (dk_at dksX0_openOnes_0 1 rfl rfl)
theorem dX0_openOnes_2 : decode cX0_openOnes 2 = .ok (.iconst 0, 1) := dk_3 (dk_at dksX0_openOnes_0 2 rfl rfl)
theorem dX0_openOnes_3 : decode cX0_openOnes 3 = .ok (.istore_n 2, 1) := dk_61 (dk_at dksX0_openOnes_0 3 rfl rfl)
theorem dX0_openOnes_4 : decode cX0_openOnes 4 = .ok (.iload_n 2, 1) := dk_28 (dk_at dksX0_openOnes_0 4 rfl rfl)
theorem dX0_openOnes_5 : decode cX0_openOnes 5 = .ok (.aload_n 0, 1) := dk_42 (dk_at dksX0_openOnes_0 5 rfl rfl)
theorem dX0_openOnes_6 : decode cX0_openOnes 6 = .ok (.getfield 41, 3) := dk_180 0 41 (dk_at dksX0_openOnes_0 6 rfl rfl)
theorem dX0_openOnes_9 : decode cX0_openOnes 9 = .ok (.invokevirtual 155, 3) := dk_182 0 155 (dk_at dksX0_openOnes_0 9 rfl rfl)
theorem dX0_openOnes_12 : decode cX0_openOnes 12 = .ok (.if_icmp .ge 25, 3) := dk_162 0 25 (dk_at dksX0_openOnes_0 12 rfl rfl)
theorem dX0_openOnes_15 : decode cX0_openOnes 15 = .ok (.iload_n 1, 1) := dk_27 (dk_at dksX0_openOnes_0 15 rfl rfl)
theorem dX0_openOnes_16 : decode cX0_openOnes 16 = .ok (.aload_n 0, 1) := dk_42 (dk_at dksX0_openOnes_0 16 rfl rfl)
theorem dX0_openOnes_17 : decode cX0_openOnes 17 = .ok (.iload_n 2, 1) := dk_28 (dk_at dksX0_openOnes_0 17 rfl rfl)
theorem dX0_openOnes_18 : decode cX0_openOnes 18 = .ok (.invokevirtual 167, 3) := dk_182 0 167 (dk_at dksX0_openOnes_0 18 rfl rfl)
theorem dX0_openOnes_21 : decode cX0_openOnes 21 = .ok (.ifCond .eq 7, 3) := dk_153 0 7 (dk_at dksX0_openOnes_0 21 rfl rfl)
theorem dX0_openOnes_24 : decode cX0_openOnes 24 = .ok (.iconst 1, 1) := dk_4 (dk_at dksX0_openOnes_1 0 rfl rfl)
theorem dX0_openOnes_25 : decode cX0_openOnes 25 = .ok (.goto 4, 3) := dk_167 0 4 (dk_at dksX0_openOnes_1 1 rfl rfl)
theorem dX0_openOnes_28 : decode cX0_openOnes 28 = .ok (.iconst 0, 1) := dk_3 (dk_at dksX0_openOnes_1 4 rfl rfl)
theorem dX0_openOnes_29 : decode cX0_openOnes 29 = .ok (.iadd, 1) := dk_96 (dk_at dksX0_openOnes_1 5 rfl rfl)
theorem dX0_openOnes_30 : decode cX0_openOnes 30 = .ok (.istore_n 1, 1) := dk_60 (dk_at dksX0_openOnes_1 6 rfl rfl)
theorem dX0_openOnes_31 : decode cX0_openOnes 31 = .ok (.iinc 2 1, 3) := dk_132 2 1 (dk_at dksX0_openOnes_1 7 rfl rfl)
theorem dX0_openOnes_34 : decode cX0_openOnes 34 = .ok (.goto (-30), 3) := dk_167 255 226 (dk_at dksX0_openOnes_1 10 rfl rfl)
theorem dX0_openOnes_37 : decode cX0_openOnes 37 = .ok (.iload_n 1, 1) := dk_27 (dk_at dksX0_openOnes_1 13 rfl rfl)
theorem dX0_openOnes_38 : decode cX0_openOnes 38 = .ok (.ireturn, 1) := dk_172 (dk_at dksX0_openOnes_1 14 rfl rfl)
abbrev cX0_stepsFrom : ByteArray := prog_1_method_51_code
def yX0_stepsFrom : MethodName := ⟨RX0, "stepsFrom", "(I)I"⟩
def dkwX0_stepsFrom_1 : List UInt8 := [42, 27, 29, 182, 0, 221, 167, 0, 4, 3, 96, 61, 132, 3, 1, 167, 255, 221, 28, 172]
abbrev dktX0_stepsFrom_1 : List UInt8 := dkwX0_stepsFrom_1 ++ []
def dkwX0_stepsFrom_0 : List UInt8 := [3, 61, 3, 62, 29, 42, 180, 0, 41, 182, 0, 155, 162, 0, 30, 28, 42, 29, 182, 0, 167, 153, 0, 12]
abbrev dktX0_stepsFrom_0 : List UInt8 := dkwX0_stepsFrom_0 ++ dktX0_stepsFrom_1
theorem dksX0_stepsFrom_0 : cX0_stepsFrom.data.toList.drop 0 = dktX0_stepsFrom_0 := by decide +kernel
theorem dksX0_stepsFrom_1 : cX0_stepsFrom.data.toList.drop 24 = dktX0_stepsFrom_1 := dk_seg dksX0_stepsFrom_0 24 rfl rfl
theorem dX0_stepsFrom_0 : decode cX0_stepsFrom 0 = .ok (.iconst 0, 1) := dk_3 (dk_at dksX0_stepsFrom_0 0 rfl rfl)
theorem dX0_stepsFrom_1 : decode cX0_stepsFrom 1 = .ok (.istore_n 2, 1) := dk_61 (dk_at dksX0_stepsFrom_0 1 rfl rfl)
theorem dX0_stepsFrom_2 : decode cX0_stepsFrom 2 = .ok (.iconst 0, 1) := dk_3 (dk_at dksX0_stepsFrom_0 2 rfl rfl)
theorem dX0_stepsFrom_3 : decode cX0_stepsFrom 3 = .ok (.istore_n 3, 1) := dk_62 (dk_at dksX0_stepsFrom_0 3 rfl rfl)
theorem dX0_stepsFrom_4 : decode cX0_stepsFrom 4 = .ok (.iload_n 3, 1) := dk_29 (dk_at dksX0_stepsFrom_0 4 rfl rfl)
theorem dX0_stepsFrom_5 : decode cX0_stepsFrom 5 = .ok (.aload_n 0, 1) := dk_42 (dk_at dksX0_stepsFrom_0 5 rfl rfl)
theorem dX0_stepsFrom_6 : decode cX0_stepsFrom 6 = .ok (.getfield 41, 3) := dk_180 0 41 (dk_at dksX0_stepsFrom_0 6 rfl rfl)
theorem dX0_stepsFrom_9 : decode cX0_stepsFrom 9 = .ok (.invokevirtual 155, 3) := dk_182 0 155 (dk_at dksX0_stepsFrom_0 9 rfl rfl)
theorem dX0_stepsFrom_12 : decode cX0_stepsFrom 12 = .ok (.if_icmp .ge 30, 3) := dk_162 0 30 (dk_at dksX0_stepsFrom_0 12 rfl rfl)
theorem dX0_stepsFrom_15 : decode cX0_stepsFrom 15 = .ok (.iload_n 2, 1) := dk_28 (dk_at dksX0_stepsFrom_0 15 rfl rfl)
theorem dX0_stepsFrom_16 : decode cX0_stepsFrom 16 = .ok (.aload_n 0, 1) := dk_42 (dk_at dksX0_stepsFrom_0 16 rfl rfl)
theorem dX0_stepsFrom_17 : decode cX0_stepsFrom 17 = .ok (.iload_n 3, 1) := dk_29 (dk_at dksX0_stepsFrom_0 17 rfl rfl)
theorem dX0_stepsFrom_18 : decode cX0_stepsFrom 18 = .ok (.invokevirtual 167, 3) := dk_182 0 167 (dk_at dksX0_stepsFrom_0 18 rfl rfl)
theorem dX0_stepsFrom_21 : decode cX0_stepsFrom 21 = .ok (.ifCond .eq 12, 3) := dk_153 0 12 (dk_at dksX0_stepsFrom_0 21 rfl rfl)
theorem dX0_stepsFrom_24 : decode cX0_stepsFrom 24 = .ok (.aload_n 0, 1) := dk_42 (dk_at dksX0_stepsFrom_1 0 rfl rfl)
theorem dX0_stepsFrom_25 : decode cX0_stepsFrom 25 = .ok (.iload_n 1, 1) := dk_27 (dk_at dksX0_stepsFrom_1 1 rfl rfl)
theorem dX0_stepsFrom_26 : decode cX0_stepsFrom 26 = .ok (.iload_n 3, 1) := dk_29 (dk_at dksX0_stepsFrom_1 2 rfl rfl)
theorem dX0_stepsFrom_27 : decode cX0_stepsFrom 27 = .ok (.invokevirtual 221, 3) := dk_182 0 221 (dk_at dksX0_stepsFrom_1 3 rfl rfl)
theorem dX0_stepsFrom_30 : decode cX0_stepsFrom 30 = .ok (.goto 4, 3) := dk_167 0 4 (dk_at dksX0_stepsFrom_1 6 rfl rfl)
theorem dX0_stepsFrom_33 : decode cX0_stepsFrom 33 = .ok (.iconst 0, 1) := dk_3 (dk_at dksX0_stepsFrom_1 9 rfl rfl)
theorem dX0_stepsFrom_34 : decode cX0_stepsFrom 34 = .ok (.iadd, 1) := dk_96 (dk_at dksX0_stepsFrom_1 10 rfl rfl)
theorem dX0_stepsFrom_35 : decode cX0_stepsFrom 35 = .ok (.istore_n 2, 1) := dk_61 (dk_at dksX0_stepsFrom_1 11 rfl rfl)
theorem dX0_stepsFrom_36 : decode cX0_stepsFrom 36 = .ok (.iinc 3 1, 3) := dk_132 3 1 (dk_at dksX0_stepsFrom_1 12 rfl rfl)
theorem dX0_stepsFrom_39 : decode cX0_stepsFrom 39 = .ok (.goto (-35), 3) := dk_167 255 221 (dk_at dksX0_stepsFrom_1 15 rfl rfl)
theorem dX0_stepsFrom_42 : decode cX0_stepsFrom 42 = .ok (.iload_n 2, 1) := dk_28 (dk_at dksX0_stepsFrom_1 18 rfl rfl)
theorem dX0_stepsFrom_43 : decode cX0_stepsFrom 43 = .ok (.ireturn, 1) := dk_172 (dk_at dksX0_stepsFrom_1 19 rfl rfl)
abbrev cX0_common : ByteArray := prog_1_method_50_code
def yX0_common : MethodName := ⟨RX0, "common", "(JJ)J"⟩
def dkwX0_common_0 : List UInt8 := [32, 9, 148, 154, 0, 7, 30, 167, 0, 10, 32, 30, 32, 113, 184, 1, 58, 173]
abbrev dktX0_common_0 : List UInt8 := dkwX0_common_0 ++ []
theorem dksX0_common_0 : cX0_common.data.toList.drop 0 = dktX0_common_0 := by decide +kernel
theorem dX0_common_0 : decode cX0_common 0 = .ok (.lload_n 2, 1) := dk_32 (dk_at dksX0_common_0 0 rfl rfl)
theorem dX0_common_1 : decode cX0_common 1 = .ok (.lconst 0, 1) := dk_9 (dk_at dksX0_common_0 1 rfl rfl)
theorem dX0_common_2 : decode cX0_common 2 = .ok (.lcmp, 1) := dk_148 (dk_at dksX0_common_0 2 rfl rfl)
theorem dX0_common_3 : decode cX0_common 3 = .ok (.ifCond .ne 7, 3) := dk_154 0 7 (dk_at dksX0_common_0 3 rfl rfl)
theorem dX0_common_6 : decode cX0_common 6 = .ok (.lload_n 0, 1) := dk_30 (dk_at dksX0_common_0 6 rfl rfl)
theorem dX0_common_7 : decode cX0_common 7 = .ok (.goto 10, 3) := dk_167 0 10 (dk_at dksX0_common_0 7 rfl rfl)
theorem dX0_common_10 : decode cX0_common 10 = .ok (.lload_n 2, 1) := dk_32 (dk_at dksX0_common_0 10 rfl rfl)
theorem dX0_common_11 : decode cX0_common 11 = .ok (.lload_n 0, 1) := dk_30 (dk_at dksX0_common_0 11 rfl rfl)
theorem dX0_common_12 : decode cX0_common 12 = .ok (.lload_n 2, 1) := dk_32 (dk_at dksX0_common_0 12 rfl rfl)
theorem dX0_common_13 : decode cX0_common 13 = .ok (.lrem, 1) := dk_113 (dk_at dksX0_common_0 13 rfl rfl)
theorem dX0_common_14 : decode cX0_common 14 = .ok (.invokestatic 314, 3) := dk_184 1 58 (dk_at dksX0_common_0 14 rfl rfl)
theorem dX0_common_17 : decode cX0_common 17 = .ok (.lreturn, 1) := dk_173 (dk_at dksX0_common_0 17 rfl rfl)
abbrev cX0_middle : ByteArray := prog_1_method_53_code
def yX0_middle : MethodName := ⟨RX0, "middle", "(I)I"⟩
def dkwX0_middle_3 : List UInt8 := [42, 28, 182, 1, 65, 164, 0, 5, 29, 61, 132, 3, 1, 167, 255, 207, 28, 172]
abbrev dktX0_middle_3 : List UInt8 := dkwX0_middle_3 ++ []
def dkwX0_middle_2 : List UInt8 := [154, 0, 19, 42, 29, 182, 1, 65, 42, 28, 182, 1, 65, 162, 0, 21, 167, 0, 16, 42, 29, 182, 1, 65]
abbrev dktX0_middle_2 : List UInt8 := dkwX0_middle_2 ++ dktX0_middle_3
def dkwX0_middle_1 : List UInt8 := [182, 1, 62, 154, 0, 5, 2, 172, 3, 61, 4, 62, 29, 42, 180, 0, 41, 182, 0, 155, 162, 0, 44, 27]
abbrev dktX0_middle_1 : List UInt8 := dkwX0_middle_1 ++ dktX0_middle_2
def dkwX0_middle_0 : List UInt8 := [42, 180, 0, 41, 182, 0, 113, 153, 0, 13, 27, 133, 9, 10, 184, 0, 5, 154, 0, 6, 16, 254, 172, 42]
abbrev dktX0_middle_0 : List UInt8 := dkwX0_middle_0 ++ dktX0_middle_1
theorem dksX0_middle_0 : cX0_middle.data.toList.drop 0 = dktX0_middle_0 := by decide +kernel
theorem dksX0_middle_1 : cX0_middle.data.toList.drop 24 = dktX0_middle_1 := dk_seg dksX0_middle_0 24 rfl rfl
theorem dksX0_middle_2 : cX0_middle.data.toList.drop 48 = dktX0_middle_2 := dk_seg dksX0_middle_1 24 rfl rfl
theorem dksX0_middle_3 : cX0_middle.data.toList.drop 72 = dktX0_middle_3 := dk_seg dksX0_middle_2 24 rfl rfl
theorem dX0_middle_0 : decode cX0_middle 0 = .ok (.aload_n 0, 1) := dk_42 (dk_at dksX0_middle_0 0 rfl rfl)
theorem dX0_middle_1 : decode cX0_middle 1 = .ok (.getfield 41, 3) := dk_180 0 41 (dk_at dksX0_middle_0 1 rfl rfl)
theorem dX0_middle_4 : decode cX0_middle 4 = .ok (.invokevirtual 113, 3) := dk_182 0 113 (dk_at dksX0_middle_0 4 rfl rfl)
theorem dX0_middle_7 : decode cX0_middle 7 = .ok (.ifCond .eq 13, 3) := dk_153 0 13 (dk_at dksX0_middle_0 7 rfl rfl)
theorem dX0_middle_10 : decode cX0_middle 10 = .ok (.iload_n 1, 1) := dk_27 (dk_at dksX0_middle_0 10 rfl rfl)
theorem dX0_middle_11 : decode cX0_middle 11 = .ok (.i2l, 1) := dk_133 (dk_at dksX0_middle_0 11 rfl rfl)
theorem dX0_middle_12 : decode cX0_middle 12 = .ok (.lconst 0, 1) := dk_9 (dk_at dksX0_middle_0 12 rfl rfl)
theorem dX0_middle_13 : decode cX0_middle 13 = .ok (.lconst 1, 1) := dk_10 (dk_at dksX0_middle_0 13 rfl rfl)
theorem dX0_middle_14 : decode cX0_middle 14 = .ok (.invokestatic 5, 3) := dk_184 0 5 (dk_at dksX0_middle_0 14 rfl rfl)
theorem dX0_middle_17 : decode cX0_middle 17 = .ok (.ifCond .ne 6, 3) := dk_154 0 6 (dk_at dksX0_middle_0 17 rfl rfl)
theorem dX0_middle_20 : decode cX0_middle 20 = .ok (.bipush (-2), 2) := dk_16 254 (dk_at dksX0_middle_0 20 rfl rfl)
theorem dX0_middle_22 : decode cX0_middle 22 = .ok (.ireturn, 1) := dk_172 (dk_at dksX0_middle_0 22 rfl rfl)
theorem dX0_middle_23 : decode cX0_middle 23 = .ok (.aload_n 0, 1) := dk_42 (dk_at dksX0_middle_0 23 rfl rfl)
theorem dX0_middle_24 : decode cX0_middle 24 = .ok (.invokevirtual 318, 3) := dk_182 1 62 (dk_at dksX0_middle_1 0 rfl rfl)
theorem dX0_middle_27 : decode cX0_middle 27 = .ok (.ifCond .ne 5, 3) := dk_154 0 5 (dk_at dksX0_middle_1 3 rfl rfl)
theorem dX0_middle_30 : decode cX0_middle 30 = .ok (.iconst (-1), 1) := dk_2 (dk_at dksX0_middle_1 6 rfl rfl)
theorem dX0_middle_31 : decode cX0_middle 31 = .ok (.ireturn, 1) := dk_172 (dk_at dksX0_middle_1 7 rfl rfl)
theorem dX0_middle_32 : decode cX0_middle 32 = .ok (.iconst 0, 1) := dk_3 (dk_at dksX0_middle_1 8 rfl rfl)
theorem dX0_middle_33 : decode cX0_middle 33 = .ok (.istore_n 2, 1) := dk_61 (dk_at dksX0_middle_1 9 rfl rfl)
theorem dX0_middle_34 : decode cX0_middle 34 = .ok (.iconst 1, 1) := dk_4 (dk_at dksX0_middle_1 10 rfl rfl)
theorem dX0_middle_35 : decode cX0_middle 35 = .ok (.istore_n 3, 1) := dk_62 (dk_at dksX0_middle_1 11 rfl rfl)
theorem dX0_middle_36 : decode cX0_middle 36 = .ok (.iload_n 3, 1) := dk_29 (dk_at dksX0_middle_1 12 rfl rfl)
theorem dX0_middle_37 : decode cX0_middle 37 = .ok (.aload_n 0, 1) := dk_42 (dk_at dksX0_middle_1 13 rfl rfl)
theorem dX0_middle_38 : decode cX0_middle 38 = .ok (.getfield 41, 3) := dk_180 0 41 (dk_at dksX0_middle_1 14 rfl rfl)
theorem dX0_middle_41 : decode cX0_middle 41 = .ok (.invokevirtual 155, 3) := dk_182 0 155 (dk_at dksX0_middle_1 17 rfl rfl)
theorem dX0_middle_44 : decode cX0_middle 44 = .ok (.if_icmp .ge 44, 3) := dk_162 0 44 (dk_at dksX0_middle_1 20 rfl rfl)
theorem dX0_middle_47 : decode cX0_middle 47 = .ok (.iload_n 1, 1) := dk_27 (dk_at dksX0_middle_1 23 rfl rfl)
theorem dX0_middle_48 : decode cX0_middle 48 = .ok (.ifCond .ne 19, 3) := dk_154 0 19 (dk_at dksX0_middle_2 0 rfl rfl)
theorem dX0_middle_51 : decode cX0_middle 51 = .ok (.aload_n 0, 1) := dk_42 (dk_at dksX0_middle_2 3 rfl rfl)
theorem dX0_middle_52 : decode cX0_middle 52 = .ok (.iload_n 3, 1) := dk_29 (dk_at dksX0_middle_2 4 rfl rfl)
theorem dX0_middle_53 : decode cX0_middle 53 = .ok (.invokevirtual 321, 3) := dk_182 1 65 (dk_at dksX0_middle_2 5 rfl rfl)
theorem dX0_middle_56 : decode cX0_middle 56 = .ok (.aload_n 0, 1) := dk_42 (dk_at dksX0_middle_2 8 rfl rfl)
theorem dX0_middle_57 : decode cX0_middle 57 = .ok (.iload_n 2, 1) := dk_28 (dk_at dksX0_middle_2 9 rfl rfl)
theorem dX0_middle_58 : decode cX0_middle 58 = .ok (.invokevirtual 321, 3) := dk_182 1 65 (dk_at dksX0_middle_2 10 rfl rfl)
theorem dX0_middle_61 : decode cX0_middle 61 = .ok (.if_icmp .ge 21, 3) := dk_162 0 21 (dk_at dksX0_middle_2 13 rfl rfl)
theorem dX0_middle_64 : decode cX0_middle 64 = .ok (.goto 16, 3) := dk_167 0 16 (dk_at dksX0_middle_2 16 rfl rfl)
theorem dX0_middle_67 : decode cX0_middle 67 = .ok (.aload_n 0, 1) := dk_42 (dk_at dksX0_middle_2 19 rfl rfl)
theorem dX0_middle_68 : decode cX0_middle 68 = .ok (.iload_n 3, 1) := dk_29 (dk_at dksX0_middle_2 20 rfl rfl)
theorem dX0_middle_69 : decode cX0_middle 69 = .ok (.invokevirtual 321, 3) := dk_182 1 65 (dk_at dksX0_middle_2 21 rfl rfl)
theorem dX0_middle_72 : decode cX0_middle 72 = .ok (.aload_n 0, 1) := dk_42 (dk_at dksX0_middle_3 0 rfl rfl)
theorem dX0_middle_73 : decode cX0_middle 73 = .ok (.iload_n 2, 1) := dk_28 (dk_at dksX0_middle_3 1 rfl rfl)
theorem dX0_middle_74 : decode cX0_middle 74 = .ok (.invokevirtual 321, 3) := dk_182 1 65 (dk_at dksX0_middle_3 2 rfl rfl)
theorem dX0_middle_77 : decode cX0_middle 77 = .ok (.if_icmp .le 5, 3) := dk_164 0 5 (dk_at dksX0_middle_3 5 rfl rfl)
theorem dX0_middle_80 : decode cX0_middle 80 = .ok (.iload_n 3, 1) := dk_29 (dk_at dksX0_middle_3 8 rfl rfl)
theorem dX0_middle_81 : decode cX0_middle 81 = .ok (.istore_n 2, 1) := dk_61 (dk_at dksX0_middle_3 9 rfl rfl)
theorem dX0_middle_82 : decode cX0_middle 82 = .ok (.iinc 3 1, 3) := dk_132 3 1 (dk_at dksX0_middle_3 10 rfl rfl)
theorem dX0_middle_85 : decode cX0_middle 85 = .ok (.goto (-49), 3) := dk_167 255 207 (dk_at dksX0_middle_3 13 rfl rfl)
theorem dX0_middle_88 : decode cX0_middle 88 = .ok (.iload_n 2, 1) := dk_28 (dk_at dksX0_middle_3 16 rfl rfl)
theorem dX0_middle_89 : decode cX0_middle 89 = .ok (.ireturn, 1) := dk_172 (dk_at dksX0_middle_3 17 rfl rfl)
abbrev cX0_reach : ByteArray := prog_1_method_55_code
def yX0_reach : MethodName := ⟨RX0, "reach", "(II)I"⟩
def dkwX0_reach_1 : List UInt8 := [182, 1, 68, 167, 0, 5, 16, 254, 172]
abbrev dktX0_reach_1 : List UInt8 := dkwX0_reach_1 ++ []
def dkwX0_reach_0 : List UInt8 := [42, 27, 182, 0, 193, 153, 0, 25, 42, 28, 133, 182, 0, 250, 153, 0, 16, 42, 42, 27, 182, 0, 198, 28]
abbrev dktX0_reach_0 : List UInt8 := dkwX0_reach_0 ++ dktX0_reach_1
theorem dksX0_reach_0 : cX0_reach.data.toList.drop 0 = dktX0_reach_0 := by decide +kernel
theorem dksX0_reach_1 : cX0_reach.data.toList.drop 24 = dktX0_reach_1 := dk_seg dksX0_reach_0 24 rfl rfl
theorem dX0_reach_0 : decode cX0_reach 0 = .ok (.aload_n 0, 1) := dk_42 (dk_at dksX0_reach_0 0 rfl rfl)
theorem dX0_reach_1 : decode cX0_reach 1 = .ok (.iload_n 1, 1) := dk_27 (dk_at dksX0_reach_0 1 rfl rfl)
theorem dX0_reach_2 : decode cX0_reach 2 = .ok (.invokevirtual 193, 3) := dk_182 0 193 (dk_at dksX0_reach_0 2 rfl rfl)
theorem dX0_reach_5 : decode cX0_reach 5 = .ok (.ifCond .eq 25, 3) := dk_153 0 25 (dk_at dksX0_reach_0 5 rfl rfl)
theorem dX0_reach_8 : decode cX0_reach 8 = .ok (.aload_n 0, 1) := dk_42 (dk_at dksX0_reach_0 8 rfl rfl)
theorem dX0_reach_9 : decode cX0_reach 9 = .ok (.iload_n 2, 1) := dk_28 (dk_at dksX0_reach_0 9 rfl rfl)
theorem dX0_reach_10 : decode cX0_reach 10 = .ok (.i2l, 1) := dk_133 (dk_at dksX0_reach_0 10 rfl rfl)
theorem dX0_reach_11 : decode cX0_reach 11 = .ok (.invokevirtual 250, 3) := dk_182 0 250 (dk_at dksX0_reach_0 11 rfl rfl)
theorem dX0_reach_14 : decode cX0_reach 14 = .ok (.ifCond .eq 16, 3) := dk_153 0 16 (dk_at dksX0_reach_0 14 rfl rfl)
theorem dX0_reach_17 : decode cX0_reach 17 = .ok (.aload_n 0, 1) := dk_42 (dk_at dksX0_reach_0 17 rfl rfl)
theorem dX0_reach_18 : decode cX0_reach 18 = .ok (.aload_n 0, 1) := dk_42 (dk_at dksX0_reach_0 18 rfl rfl)
theorem dX0_reach_19 : decode cX0_reach 19 = .ok (.iload_n 1, 1) := dk_27 (dk_at dksX0_reach_0 19 rfl rfl)
theorem dX0_reach_20 : decode cX0_reach 20 = .ok (.invokevirtual 198, 3) := dk_182 0 198 (dk_at dksX0_reach_0 20 rfl rfl)
theorem dX0_reach_23 : decode cX0_reach 23 = .ok (.iload_n 2, 1) := dk_28 (dk_at dksX0_reach_0 23 rfl rfl)
theorem dX0_reach_24 : decode cX0_reach 24 = .ok (.invokevirtual 324, 3) := dk_182 1 68 (dk_at dksX0_reach_1 0 rfl rfl)
theorem dX0_reach_27 : decode cX0_reach 27 = .ok (.goto 5, 3) := dk_167 0 5 (dk_at dksX0_reach_1 3 rfl rfl)
theorem dX0_reach_30 : decode cX0_reach 30 = .ok (.bipush (-2), 2) := dk_16 254 (dk_at dksX0_reach_1 6 rfl rfl)
theorem dX0_reach_32 : decode cX0_reach 32 = .ok (.ireturn, 1) := dk_172 (dk_at dksX0_reach_1 8 rfl rfl)
abbrev cX0_reachOf : ByteArray := prog_1_method_54_code
def yX0_reachOf : MethodName := ⟨RX0, "reachOf", "(LMoleBoard$Player;I)I"⟩
def dkwX0_reachOf_3 : List UInt8 := [128, 54, 4, 132, 5, 1, 167, 255, 193, 21, 4, 172]
abbrev dktX0_reachOf_3 : List UInt8 := dkwX0_reachOf_3 ++ []
def dkwX0_reachOf_2 : List UInt8 := [182, 0, 253, 104, 96, 42, 180, 0, 41, 3, 182, 0, 209, 162, 0, 10, 4, 21, 5, 120, 167, 0, 4, 3]
abbrev dktX0_reachOf_2 : List UInt8 := dkwX0_reachOf_2 ++ dktX0_reachOf_3
def dkwX0_reachOf_1 : List UInt8 := [162, 0, 57, 21, 4, 42, 21, 5, 182, 0, 167, 153, 0, 36, 29, 42, 28, 21, 5, 182, 0, 221, 43, 29]
abbrev dktX0_reachOf_1 : List UInt8 := dkwX0_reachOf_1 ++ dktX0_reachOf_2
def dkwX0_reachOf_0 : List UInt8 := [43, 180, 0, 202, 4, 46, 62, 3, 54, 4, 3, 54, 5, 21, 5, 42, 180, 0, 41, 182, 0, 155]
abbrev dktX0_reachOf_0 : List UInt8 := dkwX0_reachOf_0 ++ dktX0_reachOf_1
theorem dksX0_reachOf_0 : cX0_reachOf.data.toList.drop 0 = dktX0_reachOf_0 := by decide +kernel
theorem dksX0_reachOf_1 : cX0_reachOf.data.toList.drop 22 = dktX0_reachOf_1 := dk_seg dksX0_reachOf_0 22 rfl rfl
theorem dksX0_reachOf_2 : cX0_reachOf.data.toList.drop 46 = dktX0_reachOf_2 := dk_seg dksX0_reachOf_1 24 rfl rfl
theorem dksX0_reachOf_3 : cX0_reachOf.data.toList.drop 70 = dktX0_reachOf_3 := dk_seg dksX0_reachOf_2 24 rfl rfl
theorem dX0_reachOf_0 : decode cX0_reachOf 0 = .ok (.aload_n 1, 1) := dk_43 (dk_at dksX0_reachOf_0 0 rfl rfl)
theorem dX0_reachOf_1 : decode cX0_reachOf 1 = .ok (.getfield 202, 3) := dk_180 0 202 (dk_at dksX0_reachOf_0 1 rfl rfl)
theorem dX0_reachOf_4 : decode cX0_reachOf 4 = .ok (.iconst 1, 1) := dk_4 (dk_at dksX0_reachOf_0 4 rfl rfl)
theorem dX0_reachOf_5 : decode cX0_reachOf 5 = .ok (.iaload, 1) := dk_46 (dk_at dksX0_reachOf_0 5 rfl rfl)
theorem dX0_reachOf_6 : decode cX0_reachOf 6 = .ok (.istore_n 3, 1) := dk_62 (dk_at dksX0_reachOf_0 6 rfl rfl)
theorem dX0_reachOf_7 : decode cX0_reachOf 7 = .ok (.iconst 0, 1) := dk_3 (dk_at dksX0_reachOf_0 7 rfl rfl)
theorem dX0_reachOf_8 : decode cX0_reachOf 8 = .ok (.istore 4, 2) := dk_54 4 (dk_at dksX0_reachOf_0 8 rfl rfl)
theorem dX0_reachOf_10 : decode cX0_reachOf 10 = .ok (.iconst 0, 1) := dk_3 (dk_at dksX0_reachOf_0 10 rfl rfl)
theorem dX0_reachOf_11 : decode cX0_reachOf 11 = .ok (.istore 5, 2) := dk_54 5 (dk_at dksX0_reachOf_0 11 rfl rfl)
theorem dX0_reachOf_13 : decode cX0_reachOf 13 = .ok (.iload 5, 2) := dk_21 5 (dk_at dksX0_reachOf_0 13 rfl rfl)
theorem dX0_reachOf_15 : decode cX0_reachOf 15 = .ok (.aload_n 0, 1) := dk_42 (dk_at dksX0_reachOf_0 15 rfl rfl)
theorem dX0_reachOf_16 : decode cX0_reachOf 16 = .ok (.getfield 41, 3) := dk_180 0 41 (dk_at dksX0_reachOf_0 16 rfl rfl)
theorem dX0_reachOf_19 : decode cX0_reachOf 19 = .ok (.invokevirtual 155, 3) := dk_182 0 155 (dk_at dksX0_reachOf_0 19 rfl rfl)
theorem dX0_reachOf_22 : decode cX0_reachOf 22 = .ok (.if_icmp .ge 57, 3) := dk_162 0 57 (dk_at dksX0_reachOf_1 0 rfl rfl)
theorem dX0_reachOf_25 : decode cX0_reachOf 25 = .ok (.iload 4, 2) := dk_21 4 (dk_at dksX0_reachOf_1 3 rfl rfl)
theorem dX0_reachOf_27 : decode cX0_reachOf 27 = .ok (.aload_n 0, 1) := dk_42 (dk_at dksX0_reachOf_1 5 rfl rfl)
theorem dX0_reachOf_28 : decode cX0_reachOf 28 = .ok (.iload 5, 2) := dk_21 5 (dk_at dksX0_reachOf_1 6 rfl rfl)
theorem dX0_reachOf_30 : decode cX0_reachOf 30 = .ok (.invokevirtual 167, 3) := dk_182 0 167 (dk_at dksX0_reachOf_1 8 rfl rfl)
theorem dX0_reachOf_33 : decode cX0_reachOf 33 = .ok (.ifCond .eq 36, 3) := dk_153 0 36 (dk_at dksX0_reachOf_1 11 rfl rfl)
theorem dX0_reachOf_36 : decode cX0_reachOf 36 = .ok (.iload_n 3, 1) := dk_29 (dk_at dksX0_reachOf_1 14 rfl rfl)
theorem dX0_reachOf_37 : decode cX0_reachOf 37 = .ok (.aload_n 0, 1) := dk_42 (dk_at dksX0_reachOf_1 15 rfl rfl)
theorem dX0_reachOf_38 : decode cX0_reachOf 38 = .ok (.iload_n 2, 1) := dk_28 (dk_at dksX0_reachOf_1 16 rfl rfl)
theorem dX0_reachOf_39 : decode cX0_reachOf 39 = .ok (.iload 5, 2) := dk_21 5 (dk_at dksX0_reachOf_1 17 rfl rfl)
theorem dX0_reachOf_41 : decode cX0_reachOf 41 = .ok (.invokevirtual 221, 3) := dk_182 0 221 (dk_at dksX0_reachOf_1 19 rfl rfl)
theorem dX0_reachOf_44 : decode cX0_reachOf 44 = .ok (.aload_n 1, 1) := dk_43 (dk_at dksX0_reachOf_1 22 rfl rfl)
theorem dX0_reachOf_45 : decode cX0_reachOf 45 = .ok (.iload_n 3, 1) := dk_29 (dk_at dksX0_reachOf_1 23 rfl rfl)
theorem dX0_reachOf_46 : decode cX0_reachOf 46 = .ok (.invokevirtual 253, 3) := dk_182 0 253 (dk_at dksX0_reachOf_2 0 rfl rfl)
theorem dX0_reachOf_49 : decode cX0_reachOf 49 = .ok (.imul, 1) := dk_104 (dk_at dksX0_reachOf_2 3 rfl rfl)
theorem dX0_reachOf_50 : decode cX0_reachOf 50 = .ok (.iadd, 1) := dk_96 (dk_at dksX0_reachOf_2 4 rfl rfl)
theorem dX0_reachOf_51 : decode cX0_reachOf 51 = .ok (.aload_n 0, 1) := dk_42 (dk_at dksX0_reachOf_2 5 rfl rfl)
theorem dX0_reachOf_52 : decode cX0_reachOf 52 = .ok (.getfield 41, 3) := dk_180 0 41 (dk_at dksX0_reachOf_2 6 rfl rfl)
theorem dX0_reachOf_55 : decode cX0_reachOf 55 = .ok (.iconst 0, 1) := dk_3 (dk_at dksX0_reachOf_2 9 rfl rfl)
theorem dX0_reachOf_56 : decode cX0_reachOf 56 = .ok (.invokevirtual 209, 3) := dk_182 0 209 (dk_at dksX0_reachOf_2 10 rfl rfl)
theorem dX0_reachOf_59 : decode cX0_reachOf 59 = .ok (.if_icmp .ge 10, 3) := dk_162 0 10 (dk_at dksX0_reachOf_2 13 rfl rfl)
theorem dX0_reachOf_62 : decode cX0_reachOf 62 = .ok (.iconst 1, 1) := dk_4 (dk_at dksX0_reachOf_2 16 rfl rfl)
theorem dX0_reachOf_63 : decode cX0_reachOf 63 = .ok (.iload 5, 2) := dk_21 5 (dk_at dksX0_reachOf_2 17 rfl rfl)
theorem dX0_reachOf_65 : decode cX0_reachOf 65 = .ok (.ishl, 1) := dk_120 (dk_at dksX0_reachOf_2 19 rfl rfl)
theorem dX0_reachOf_66 : decode cX0_reachOf 66 = .ok (.goto 4, 3) := dk_167 0 4 (dk_at dksX0_reachOf_2 20 rfl rfl)
theorem dX0_reachOf_69 : decode cX0_reachOf 69 = .ok (.iconst 0, 1) := dk_3 (dk_at dksX0_reachOf_2 23 rfl rfl)
theorem dX0_reachOf_70 : decode cX0_reachOf 70 = .ok (.ior, 1) := dk_128 (dk_at dksX0_reachOf_3 0 rfl rfl)
theorem dX0_reachOf_71 : decode cX0_reachOf 71 = .ok (.istore 4, 2) := dk_54 4 (dk_at dksX0_reachOf_3 1 rfl rfl)
theorem dX0_reachOf_73 : decode cX0_reachOf 73 = .ok (.iinc 5 1, 3) := dk_132 5 1 (dk_at dksX0_reachOf_3 3 rfl rfl)
theorem dX0_reachOf_76 : decode cX0_reachOf 76 = .ok (.goto (-63), 3) := dk_167 255 193 (dk_at dksX0_reachOf_3 6 rfl rfl)
theorem dX0_reachOf_79 : decode cX0_reachOf 79 = .ok (.iload 4, 2) := dk_21 4 (dk_at dksX0_reachOf_3 9 rfl rfl)
theorem dX0_reachOf_81 : decode cX0_reachOf 81 = .ok (.ireturn, 1) := dk_172 (dk_at dksX0_reachOf_3 11 rfl rfl)
abbrev cX0_post : ByteArray := prog_1_method_56_code
def yX0_post : MethodName := ⟨RX0, "post", "(I)I"⟩
def dkwX0_post_2 : List UInt8 := [182, 1, 68, 184, 1, 72, 164, 0, 5, 29, 61, 132, 3, 1, 167, 255, 211, 28, 172]
abbrev dktX0_post_2 : List UInt8 := dkwX0_post_2 ++ []
def dkwX0_post_1 : List UInt8 := [162, 0, 40, 42, 42, 27, 182, 0, 198, 29, 182, 1, 68, 184, 1, 72, 42, 42, 27, 182, 0, 198, 28]
abbrev dktX0_post_1 : List UInt8 := dkwX0_post_1 ++ dktX0_post_2
def dkwX0_post_0 : List UInt8 := [42, 27, 182, 0, 193, 154, 0, 6, 16, 254, 172, 3, 61, 4, 62, 29, 42, 180, 0, 41, 182, 0, 155]
abbrev dktX0_post_0 : List UInt8 := dkwX0_post_0 ++ dktX0_post_1
theorem dksX0_post_0 : cX0_post.data.toList.drop 0 = dktX0_post_0 := by decide +kernel
theorem dksX0_post_1 : cX0_post.data.toList.drop 23 = dktX0_post_1 := dk_seg dksX0_post_0 23 rfl rfl
theorem dksX0_post_2 : cX0_post.data.toList.drop 46 = dktX0_post_2 := dk_seg dksX0_post_1 23 rfl rfl
theorem dX0_post_0 : decode cX0_post 0 = .ok (.aload_n 0, 1) := dk_42 (dk_at dksX0_post_0 0 rfl rfl)
theorem dX0_post_1 : decode cX0_post 1 = .ok (.iload_n 1, 1) := dk_27 (dk_at dksX0_post_0 1 rfl rfl)
theorem dX0_post_2 : decode cX0_post 2 = .ok (.invokevirtual 193, 3) := dk_182 0 193 (dk_at dksX0_post_0 2 rfl rfl)
theorem dX0_post_5 : decode cX0_post 5 = .ok (.ifCond .ne 6, 3) := dk_154 0 6 (dk_at dksX0_post_0 5 rfl rfl)
theorem dX0_post_8 : decode cX0_post 8 = .ok (.bipush (-2), 2) := dk_16 254 (dk_at dksX0_post_0 8 rfl rfl)
theorem dX0_post_10 : decode cX0_post 10 = .ok (.ireturn, 1) := dk_172 (dk_at dksX0_post_0 10 rfl rfl)
theorem dX0_post_11 : decode cX0_post 11 = .ok (.iconst 0, 1) := dk_3 (dk_at dksX0_post_0 11 rfl rfl)
theorem dX0_post_12 : decode cX0_post 12 = .ok (.istore_n 2, 1) := dk_61 (dk_at dksX0_post_0 12 rfl rfl)
theorem dX0_post_13 : decode cX0_post 13 = .ok (.iconst 1, 1) := dk_4 (dk_at dksX0_post_0 13 rfl rfl)
theorem dX0_post_14 : decode cX0_post 14 = .ok (.istore_n 3, 1) := dk_62 (dk_at dksX0_post_0 14 rfl rfl)
theorem dX0_post_15 : decode cX0_post 15 = .ok (.iload_n 3, 1) := dk_29 (dk_at dksX0_post_0 15 rfl rfl)
theorem dX0_post_16 : decode cX0_post 16 = .ok (.aload_n 0, 1) := dk_42 (dk_at dksX0_post_0 16 rfl rfl)
theorem dX0_post_17 : decode cX0_post 17 = .ok (.getfield 41, 3) := dk_180 0 41 (dk_at dksX0_post_0 17 rfl rfl)
theorem dX0_post_20 : decode cX0_post 20 = .ok (.invokevirtual 155, 3) := dk_182 0 155 (dk_at dksX0_post_0 20 rfl rfl)
theorem dX0_post_23 : decode cX0_post 23 = .ok (.if_icmp .ge 40, 3) := dk_162 0 40 (dk_at dksX0_post_1 0 rfl rfl)
theorem dX0_post_26 : decode cX0_post 26 = .ok (.aload_n 0, 1) := dk_42 (dk_at dksX0_post_1 3 rfl rfl)
theorem dX0_post_27 : decode cX0_post 27 = .ok (.aload_n 0, 1) := dk_42 (dk_at dksX0_post_1 4 rfl rfl)
theorem dX0_post_28 : decode cX0_post 28 = .ok (.iload_n 1, 1) := dk_27 (dk_at dksX0_post_1 5 rfl rfl)
theorem dX0_post_29 : decode cX0_post 29 = .ok (.invokevirtual 198, 3) := dk_182 0 198 (dk_at dksX0_post_1 6 rfl rfl)
theorem dX0_post_32 : decode cX0_post 32 = .ok (.iload_n 3, 1) := dk_29 (dk_at dksX0_post_1 9 rfl rfl)
theorem dX0_post_33 : decode cX0_post 33 = .ok (.invokevirtual 324, 3) := dk_182 1 68 (dk_at dksX0_post_1 10 rfl rfl)
theorem dX0_post_36 : decode cX0_post 36 = .ok (.invokestatic 328, 3) := dk_184 1 72 (dk_at dksX0_post_1 13 rfl rfl)
theorem dX0_post_39 : decode cX0_post 39 = .ok (.aload_n 0, 1) := dk_42 (dk_at dksX0_post_1 16 rfl rfl)
theorem dX0_post_40 : decode cX0_post 40 = .ok (.aload_n 0, 1) := dk_42 (dk_at dksX0_post_1 17 rfl rfl)
theorem dX0_post_41 : decode cX0_post 41 = .ok (.iload_n 1, 1) := dk_27 (dk_at dksX0_post_1 18 rfl rfl)
theorem dX0_post_42 : decode cX0_post 42 = .ok (.invokevirtual 198, 3) := dk_182 0 198 (dk_at dksX0_post_1 19 rfl rfl)
theorem dX0_post_45 : decode cX0_post 45 = .ok (.iload_n 2, 1) := dk_28 (dk_at dksX0_post_1 22 rfl rfl)
theorem dX0_post_46 : decode cX0_post 46 = .ok (.invokevirtual 324, 3) := dk_182 1 68 (dk_at dksX0_post_2 0 rfl rfl)
theorem dX0_post_49 : decode cX0_post 49 = .ok (.invokestatic 328, 3) := dk_184 1 72 (dk_at dksX0_post_2 3 rfl rfl)
theorem dX0_post_52 : decode cX0_post 52 = .ok (.if_icmp .le 5, 3) := dk_164 0 5 (dk_at dksX0_post_2 6 rfl rfl)
theorem dX0_post_55 : decode cX0_post 55 = .ok (.iload_n 3, 1) := dk_29 (dk_at dksX0_post_2 9 rfl rfl)
theorem dX0_post_56 : decode cX0_post 56 = .ok (.istore_n 2, 1) := dk_61 (dk_at dksX0_post_2 10 rfl rfl)
theorem dX0_post_57 : decode cX0_post 57 = .ok (.iinc 3 1, 3) := dk_132 3 1 (dk_at dksX0_post_2 11 rfl rfl)
theorem dX0_post_60 : decode cX0_post 60 = .ok (.goto (-45), 3) := dk_167 255 211 (dk_at dksX0_post_2 14 rfl rfl)
theorem dX0_post_63 : decode cX0_post 63 = .ok (.iload_n 2, 1) := dk_28 (dk_at dksX0_post_2 17 rfl rfl)
theorem dX0_post_64 : decode cX0_post 64 = .ok (.ireturn, 1) := dk_172 (dk_at dksX0_post_2 18 rfl rfl)
abbrev cX0_slack : ByteArray := prog_1_method_58_code
def yX0_slack : MethodName := ⟨RX0, "slack", "(I)I"⟩
def dkwX0_slack_1 : List UInt8 := [182, 1, 80, 159, 0, 9, 132, 2, 255, 167, 255, 238, 28, 172]
abbrev dktX0_slack_1 : List UInt8 := dkwX0_slack_1 ++ []
def dkwX0_slack_0 : List UInt8 := [42, 27, 182, 0, 193, 154, 0, 6, 16, 254, 172, 16, 20, 61, 42, 27, 28, 182, 1, 80, 42, 27, 3]
abbrev dktX0_slack_0 : List UInt8 := dkwX0_slack_0 ++ dktX0_slack_1
theorem dksX0_slack_0 : cX0_slack.data.toList.drop 0 = dktX0_slack_0 := by decide +kernel
theorem dksX0_slack_1 : cX0_slack.data.toList.drop 23 = dktX0_slack_1 := dk_seg dksX0_slack_0 23 rfl rfl
theorem dX0_slack_0 : decode cX0_slack 0 = .ok (.aload_n 0, 1) := dk_42 (dk_at dksX0_slack_0 0 rfl rfl)
theorem dX0_slack_1 : decode cX0_slack 1 = .ok (.iload_n 1, 1) := dk_27 (dk_at dksX0_slack_0 1 rfl rfl)
theorem dX0_slack_2 : decode cX0_slack 2 = .ok (.invokevirtual 193, 3) := dk_182 0 193 (dk_at dksX0_slack_0 2 rfl rfl)
theorem dX0_slack_5 : decode cX0_slack 5 = .ok (.ifCond .ne 6, 3) := dk_154 0 6 (dk_at dksX0_slack_0 5 rfl rfl)
theorem dX0_slack_8 : decode cX0_slack 8 = .ok (.bipush (-2), 2) := dk_16 254 (dk_at dksX0_slack_0 8 rfl rfl)
theorem dX0_slack_10 : decode cX0_slack 10 = .ok (.ireturn, 1) := dk_172 (dk_at dksX0_slack_0 10 rfl rfl)
theorem dX0_slack_11 : decode cX0_slack 11 = .ok (.bipush 20, 2) := dk_16 20 (dk_at dksX0_slack_0 11 rfl rfl)
theorem dX0_slack_13 : decode cX0_slack 13 = .ok (.istore_n 2, 1) := dk_61 (dk_at dksX0_slack_0 13 rfl rfl)
theorem dX0_slack_14 : decode cX0_slack 14 = .ok (.aload_n 0, 1) := dk_42 (dk_at dksX0_slack_0 14 rfl rfl)
theorem dX0_slack_15 : decode cX0_slack 15 = .ok (.iload_n 1, 1) := dk_27 (dk_at dksX0_slack_0 15 rfl rfl)
theorem dX0_slack_16 : decode cX0_slack 16 = .ok (.iload_n 2, 1) := dk_28 (dk_at dksX0_slack_0 16 rfl rfl)
theorem dX0_slack_17 : decode cX0_slack 17 = .ok (.invokevirtual 336, 3) := dk_182 1 80 (dk_at dksX0_slack_0 17 rfl rfl)
theorem dX0_slack_20 : decode cX0_slack 20 = .ok (.aload_n 0, 1) := dk_42 (dk_at dksX0_slack_0 20 rfl rfl)
theorem dX0_slack_21 : decode cX0_slack 21 = .ok (.iload_n 1, 1) := dk_27 (dk_at dksX0_slack_0 21 rfl rfl)
theorem dX0_slack_22 : decode cX0_slack 22 = .ok (.iconst 0, 1) := dk_3 (dk_at dksX0_slack_0 22 rfl rfl)
theorem dX0_slack_23 : decode cX0_slack 23 = .ok (.invokevirtual 336, 3) := dk_182 1 80 (dk_at dksX0_slack_1 0 rfl rfl)
theorem dX0_slack_26 : decode cX0_slack 26 = .ok (.if_icmp .eq 9, 3) := dk_159 0 9 (dk_at dksX0_slack_1 3 rfl rfl)
theorem dX0_slack_29 : decode cX0_slack 29 = .ok (.iinc 2 (-1), 3) := dk_132 2 255 (dk_at dksX0_slack_1 6 rfl rfl)
theorem dX0_slack_32 : decode cX0_slack 32 = .ok (.goto (-18), 3) := dk_167 255 238 (dk_at dksX0_slack_1 9 rfl rfl)
theorem dX0_slack_35 : decode cX0_slack 35 = .ok (.iload_n 2, 1) := dk_28 (dk_at dksX0_slack_1 12 rfl rfl)
theorem dX0_slack_36 : decode cX0_slack 36 = .ok (.ireturn, 1) := dk_172 (dk_at dksX0_slack_1 13 rfl rfl)
abbrev cX0_laggingHits : ByteArray := prog_1_method_57_code
def yX0_laggingHits : MethodName := ⟨RX0, "laggingHits", "(II)I"⟩
def dkwX0_laggingHits_1 : List UInt8 := [180, 1, 15, 172]
abbrev dktX0_laggingHits_1 : List UInt8 := dkwX0_laggingHits_1 ++ []
def dkwX0_laggingHits_0 : List UInt8 := [42, 180, 0, 76, 27, 182, 1, 7, 28, 181, 1, 77, 42, 180, 0, 76, 42, 182, 0, 229, 182, 1, 11]
abbrev dktX0_laggingHits_0 : List UInt8 := dkwX0_laggingHits_0 ++ dktX0_laggingHits_1
theorem dksX0_laggingHits_0 : cX0_laggingHits.data.toList.drop 0 = dktX0_laggingHits_0 := by decide +kernel
theorem dksX0_laggingHits_1 : cX0_laggingHits.data.toList.drop 23 = dktX0_laggingHits_1 := dk_seg dksX0_laggingHits_0 23 rfl rfl
theorem dX0_laggingHits_0 : decode cX0_laggingHits 0 = .ok (.aload_n 0, 1) := dk_42 (dk_at dksX0_laggingHits_0 0 rfl rfl)
theorem dX0_laggingHits_1 : decode cX0_laggingHits 1 = .ok (.getfield 76, 3) := dk_180 0 76 (dk_at dksX0_laggingHits_0 1 rfl rfl)
theorem dX0_laggingHits_4 : decode cX0_laggingHits 4 = .ok (.iload_n 1, 1) := dk_27 (dk_at dksX0_laggingHits_0 4 rfl rfl)
theorem dX0_laggingHits_5 : decode cX0_laggingHits 5 = .ok (.invokevirtual 263, 3) := dk_182 1 7 (dk_at dksX0_laggingHits_0 5 rfl rfl)
theorem dX0_laggingHits_8 : decode cX0_laggingHits 8 = .ok (.iload_n 2, 1) := dk_28 (dk_at dksX0_laggingHits_0 8 rfl rfl)
theorem dX0_laggingHits_9 : decode cX0_laggingHits 9 = .ok (.putfield 333, 3) := dk_181 1 77 (dk_at dksX0_laggingHits_0 9 rfl rfl)
theorem dX0_laggingHits_12 : decode cX0_laggingHits 12 = .ok (.aload_n 0, 1) := dk_42 (dk_at dksX0_laggingHits_0 12 rfl rfl)
theorem dX0_laggingHits_13 : decode cX0_laggingHits 13 = .ok (.getfield 76, 3) := dk_180 0 76 (dk_at dksX0_laggingHits_0 13 rfl rfl)
theorem dX0_laggingHits_16 : decode cX0_laggingHits 16 = .ok (.aload_n 0, 1) := dk_42 (dk_at dksX0_laggingHits_0 16 rfl rfl)
theorem dX0_laggingHits_17 : decode cX0_laggingHits 17 = .ok (.invokevirtual 229, 3) := dk_182 0 229 (dk_at dksX0_laggingHits_0 17 rfl rfl)
theorem dX0_laggingHits_20 : decode cX0_laggingHits 20 = .ok (.invokevirtual 267, 3) := dk_182 1 11 (dk_at dksX0_laggingHits_0 20 rfl rfl)
theorem dX0_laggingHits_23 : decode cX0_laggingHits 23 = .ok (.getfield 271, 3) := dk_180 1 15 (dk_at dksX0_laggingHits_1 0 rfl rfl)
theorem dX0_laggingHits_26 : decode cX0_laggingHits 26 = .ok (.ireturn, 1) := dk_172 (dk_at dksX0_laggingHits_1 3 rfl rfl)
abbrev cX0_rows : ByteArray := prog_1_method_60_code
def yX0_rows : MethodName := ⟨RX0, "rows", "(II)J"⟩
def dkwX0_rows_2 : List UInt8 := [173]
abbrev dktX0_rows_2 : List UInt8 := dkwX0_rows_2 ++ []
def dkwX0_rows_1 : List UInt8 := [184, 0, 5, 153, 0, 18, 42, 180, 0, 90, 27, 28, 182, 1, 88, 182, 1, 91, 167, 0, 6, 20, 1, 95]
abbrev dktX0_rows_1 : List UInt8 := dkwX0_rows_1 ++ dktX0_rows_2
def dkwX0_rows_0 : List UInt8 := [42, 180, 0, 41, 182, 0, 113, 153, 0, 37, 27, 184, 1, 83, 153, 0, 30, 28, 133, 10, 20, 1, 86]
abbrev dktX0_rows_0 : List UInt8 := dkwX0_rows_0 ++ dktX0_rows_1
theorem dksX0_rows_0 : cX0_rows.data.toList.drop 0 = dktX0_rows_0 := by decide +kernel
theorem dksX0_rows_1 : cX0_rows.data.toList.drop 23 = dktX0_rows_1 := dk_seg dksX0_rows_0 23 rfl rfl
theorem dksX0_rows_2 : cX0_rows.data.toList.drop 47 = dktX0_rows_2 := dk_seg dksX0_rows_1 24 rfl rfl
theorem dX0_rows_0 : decode cX0_rows 0 = .ok (.aload_n 0, 1) := dk_42 (dk_at dksX0_rows_0 0 rfl rfl)
theorem dX0_rows_1 : decode cX0_rows 1 = .ok (.getfield 41, 3) := dk_180 0 41 (dk_at dksX0_rows_0 1 rfl rfl)
theorem dX0_rows_4 : decode cX0_rows 4 = .ok (.invokevirtual 113, 3) := dk_182 0 113 (dk_at dksX0_rows_0 4 rfl rfl)
theorem dX0_rows_7 : decode cX0_rows 7 = .ok (.ifCond .eq 37, 3) := dk_153 0 37 (dk_at dksX0_rows_0 7 rfl rfl)
theorem dX0_rows_10 : decode cX0_rows 10 = .ok (.iload_n 1, 1) := dk_27 (dk_at dksX0_rows_0 10 rfl rfl)
theorem dX0_rows_11 : decode cX0_rows 11 = .ok (.invokestatic 339, 3) := dk_184 1 83 (dk_at dksX0_rows_0 11 rfl rfl)
theorem dX0_rows_14 : decode cX0_rows 14 = .ok (.ifCond .eq 30, 3) := dk_153 0 30 (dk_at dksX0_rows_0 14 rfl rfl)
theorem dX0_rows_17 : decode cX0_rows 17 = .ok (.iload_n 2, 1) := dk_28 (dk_at dksX0_rows_0 17 rfl rfl)
theorem dX0_rows_18 : decode cX0_rows 18 = .ok (.i2l, 1) := dk_133 (dk_at dksX0_rows_0 18 rfl rfl)
theorem dX0_rows_19 : decode cX0_rows 19 = .ok (.lconst 1, 1) := dk_10 (dk_at dksX0_rows_0 19 rfl rfl)
theorem dX0_rows_20 : decode cX0_rows 20 = .ok (.ldc2_w 342, 3) := dk_20 1 86 (dk_at dksX0_rows_0 20 rfl rfl)
theorem dX0_rows_23 : decode cX0_rows 23 = .ok (.invokestatic 5, 3) := dk_184 0 5 (dk_at dksX0_rows_1 0 rfl rfl)
theorem dX0_rows_26 : decode cX0_rows 26 = .ok (.ifCond .eq 18, 3) := dk_153 0 18 (dk_at dksX0_rows_1 3 rfl rfl)
theorem dX0_rows_29 : decode cX0_rows 29 = .ok (.aload_n 0, 1) := dk_42 (dk_at dksX0_rows_1 6 rfl rfl)
theorem dX0_rows_30 : decode cX0_rows 30 = .ok (.getfield 90, 3) := dk_180 0 90 (dk_at dksX0_rows_1 7 rfl rfl)
theorem dX0_rows_33 : decode cX0_rows 33 = .ok (.iload_n 1, 1) := dk_27 (dk_at dksX0_rows_1 10 rfl rfl)
theorem dX0_rows_34 : decode cX0_rows 34 = .ok (.iload_n 2, 1) := dk_28 (dk_at dksX0_rows_1 11 rfl rfl)
theorem dX0_rows_35 : decode cX0_rows 35 = .ok (.invokevirtual 344, 3) := dk_182 1 88 (dk_at dksX0_rows_1 12 rfl rfl)
theorem dX0_rows_38 : decode cX0_rows 38 = .ok (.invokevirtual 347, 3) := dk_182 1 91 (dk_at dksX0_rows_1 15 rfl rfl)
theorem dX0_rows_41 : decode cX0_rows 41 = .ok (.goto 6, 3) := dk_167 0 6 (dk_at dksX0_rows_1 18 rfl rfl)
theorem dX0_rows_44 : decode cX0_rows 44 = .ok (.ldc2_w 351, 3) := dk_20 1 95 (dk_at dksX0_rows_1 21 rfl rfl)
theorem dX0_rows_47 : decode cX0_rows 47 = .ok (.lreturn, 1) := dk_173 (dk_at dksX0_rows_2 0 rfl rfl)
abbrev cX0_isLaw : ByteArray := prog_1_method_59_code
def yX0_isLaw : MethodName := ⟨RX0, "isLaw", "(I)Z"⟩
def dkwX0_isLaw_0 : List UInt8 := [26, 133, 9, 20, 0, 3, 184, 0, 5, 172]
abbrev dktX0_isLaw_0 : List UInt8 := dkwX0_isLaw_0 ++ []
theorem dksX0_isLaw_0 : cX0_isLaw.data.toList.drop 0 = dktX0_isLaw_0 := by decide +kernel
theorem dX0_isLaw_0 : decode cX0_isLaw 0 = .ok (.iload_n 0, 1) := dk_26 (dk_at dksX0_isLaw_0 0 rfl rfl)
theorem dX0_isLaw_1 : decode cX0_isLaw 1 = .ok (.i2l, 1) := dk_133 (dk_at dksX0_isLaw_0 1 rfl rfl)
theorem dX0_isLaw_2 : decode cX0_isLaw 2 = .ok (.lconst 0, 1) := dk_9 (dk_at dksX0_isLaw_0 2 rfl rfl)
theorem dX0_isLaw_3 : decode cX0_isLaw 3 = .ok (.ldc2_w 3, 3) := dk_20 0 3 (dk_at dksX0_isLaw_0 3 rfl rfl)
theorem dX0_isLaw_6 : decode cX0_isLaw 6 = .ok (.invokestatic 5, 3) := dk_184 0 5 (dk_at dksX0_isLaw_0 6 rfl rfl)
theorem dX0_isLaw_9 : decode cX0_isLaw 9 = .ok (.ireturn, 1) := dk_172 (dk_at dksX0_isLaw_0 9 rfl rfl)
abbrev cX0_ends : ByteArray := prog_1_method_61_code
def yX0_ends : MethodName := ⟨RX0, "ends", "(III)J"⟩
def dkwX0_ends_2 : List UInt8 := [20, 1, 95, 173]
abbrev dktX0_ends_2 : List UInt8 := dkwX0_ends_2 ++ []
def dkwX0_ends_1 : List UInt8 := [182, 0, 250, 153, 0, 19, 42, 180, 0, 90, 27, 28, 182, 1, 88, 29, 182, 1, 97, 167, 0, 6]
abbrev dktX0_ends_1 : List UInt8 := dkwX0_ends_1 ++ dktX0_ends_2
def dkwX0_ends_0 : List UInt8 := [27, 184, 1, 83, 153, 0, 40, 28, 133, 10, 20, 1, 86, 184, 0, 5, 153, 0, 28, 42, 29, 133]
abbrev dktX0_ends_0 : List UInt8 := dkwX0_ends_0 ++ dktX0_ends_1
theorem dksX0_ends_0 : cX0_ends.data.toList.drop 0 = dktX0_ends_0 := by decide +kernel
theorem dksX0_ends_1 : cX0_ends.data.toList.drop 22 = dktX0_ends_1 := dk_seg dksX0_ends_0 22 rfl rfl
theorem dksX0_ends_2 : cX0_ends.data.toList.drop 44 = dktX0_ends_2 := dk_seg dksX0_ends_1 22 rfl rfl
theorem dX0_ends_0 : decode cX0_ends 0 = .ok (.iload_n 1, 1) := dk_27 (dk_at dksX0_ends_0 0 rfl rfl)
theorem dX0_ends_1 : decode cX0_ends 1 = .ok (.invokestatic 339, 3) := dk_184 1 83 (dk_at dksX0_ends_0 1 rfl rfl)
theorem dX0_ends_4 : decode cX0_ends 4 = .ok (.ifCond .eq 40, 3) := dk_153 0 40 (dk_at dksX0_ends_0 4 rfl rfl)
theorem dX0_ends_7 : decode cX0_ends 7 = .ok (.iload_n 2, 1) := dk_28 (dk_at dksX0_ends_0 7 rfl rfl)
theorem dX0_ends_8 : decode cX0_ends 8 = .ok (.i2l, 1) := dk_133 (dk_at dksX0_ends_0 8 rfl rfl)
theorem dX0_ends_9 : decode cX0_ends 9 = .ok (.lconst 1, 1) := dk_10 (dk_at dksX0_ends_0 9 rfl rfl)
theorem dX0_ends_10 : decode cX0_ends 10 = .ok (.ldc2_w 342, 3) := dk_20 1 86 (dk_at dksX0_ends_0 10 rfl rfl)
theorem dX0_ends_13 : decode cX0_ends 13 = .ok (.invokestatic 5, 3) := dk_184 0 5 (dk_at dksX0_ends_0 13 rfl rfl)
theorem dX0_ends_16 : decode cX0_ends 16 = .ok (.ifCond .eq 28, 3) := dk_153 0 28 (dk_at dksX0_ends_0 16 rfl rfl)
theorem dX0_ends_19 : decode cX0_ends 19 = .ok (.aload_n 0, 1) := dk_42 (dk_at dksX0_ends_0 19 rfl rfl)
theorem dX0_ends_20 : decode cX0_ends 20 = .ok (.iload_n 3, 1) := dk_29 (dk_at dksX0_ends_0 20 rfl rfl)
theorem dX0_ends_21 : decode cX0_ends 21 = .ok (.i2l, 1) := dk_133 (dk_at dksX0_ends_0 21 rfl rfl)
theorem dX0_ends_22 : decode cX0_ends 22 = .ok (.invokevirtual 250, 3) := dk_182 0 250 (dk_at dksX0_ends_1 0 rfl rfl)
theorem dX0_ends_25 : decode cX0_ends 25 = .ok (.ifCond .eq 19, 3) := dk_153 0 19 (dk_at dksX0_ends_1 3 rfl rfl)
theorem dX0_ends_28 : decode cX0_ends 28 = .ok (.aload_n 0, 1) := dk_42 (dk_at dksX0_ends_1 6 rfl rfl)
theorem dX0_ends_29 : decode cX0_ends 29 = .ok (.getfield 90, 3) := dk_180 0 90 (dk_at dksX0_ends_1 7 rfl rfl)
theorem dX0_ends_32 : decode cX0_ends 32 = .ok (.iload_n 1, 1) := dk_27 (dk_at dksX0_ends_1 10 rfl rfl)
theorem dX0_ends_33 : decode cX0_ends 33 = .ok (.iload_n 2, 1) := dk_28 (dk_at dksX0_ends_1 11 rfl rfl)
theorem dX0_ends_34 : decode cX0_ends 34 = .ok (.invokevirtual 344, 3) := dk_182 1 88 (dk_at dksX0_ends_1 12 rfl rfl)
theorem dX0_ends_37 : decode cX0_ends 37 = .ok (.iload_n 3, 1) := dk_29 (dk_at dksX0_ends_1 15 rfl rfl)
theorem dX0_ends_38 : decode cX0_ends 38 = .ok (.invokevirtual 353, 3) := dk_182 1 97 (dk_at dksX0_ends_1 16 rfl rfl)
theorem dX0_ends_41 : decode cX0_ends 41 = .ok (.goto 6, 3) := dk_167 0 6 (dk_at dksX0_ends_1 19 rfl rfl)
theorem dX0_ends_44 : decode cX0_ends 44 = .ok (.ldc2_w 351, 3) := dk_20 1 95 (dk_at dksX0_ends_2 0 rfl rfl)
theorem dX0_ends_47 : decode cX0_ends 47 = .ok (.lreturn, 1) := dk_173 (dk_at dksX0_ends_2 3 rfl rfl)
abbrev cX0_fair : ByteArray := prog_1_method_62_code
def yX0_fair : MethodName := ⟨RX0, "fair", "(I)I"⟩
def dkwX0_fair_2 : List UInt8 := [132, 2, 1, 167, 255, 230, 4, 172]
abbrev dktX0_fair_2 : List UInt8 := dkwX0_fair_2 ++ []
def dkwX0_fair_1 : List UInt8 := [16, 12, 163, 0, 26, 42, 180, 0, 90, 27, 28, 182, 1, 88, 182, 1, 101, 154, 0, 5, 3, 172]
abbrev dktX0_fair_1 : List UInt8 := dkwX0_fair_1 ++ dktX0_fair_2
def dkwX0_fair_0 : List UInt8 := [42, 180, 0, 41, 182, 0, 113, 153, 0, 10, 27, 184, 1, 83, 154, 0, 6, 16, 254, 172, 4, 61, 28]
abbrev dktX0_fair_0 : List UInt8 := dkwX0_fair_0 ++ dktX0_fair_1
theorem dksX0_fair_0 : cX0_fair.data.toList.drop 0 = dktX0_fair_0 := by decide +kernel
theorem dksX0_fair_1 : cX0_fair.data.toList.drop 23 = dktX0_fair_1 := dk_seg dksX0_fair_0 23 rfl rfl
theorem dksX0_fair_2 : cX0_fair.data.toList.drop 45 = dktX0_fair_2 := dk_seg dksX0_fair_1 22 rfl rfl
theorem dX0_fair_0 : decode cX0_fair 0 = .ok (.aload_n 0, 1) := dk_42 (dk_at dksX0_fair_0 0 rfl rfl)
theorem dX0_fair_1 : decode cX0_fair 1 = .ok (.getfield 41, 3) := dk_180 0 41 (dk_at dksX0_fair_0 1 rfl rfl)
theorem dX0_fair_4 : decode cX0_fair 4 = .ok (.invokevirtual 113, 3) := dk_182 0 113 (dk_at dksX0_fair_0 4 rfl rfl)
theorem dX0_fair_7 : decode cX0_fair 7 = .ok (.ifCond .eq 10, 3) := dk_153 0 10 (dk_at dksX0_fair_0 7 rfl rfl)
theorem dX0_fair_10 : decode cX0_fair 10 = .ok (.iload_n 1, 1) := dk_27 (dk_at dksX0_fair_0 10 rfl rfl)
theorem dX0_fair_11 : decode cX0_fair 11 = .ok (.invokestatic 339, 3) := dk_184 1 83 (dk_at dksX0_fair_0 11 rfl rfl)
theorem dX0_fair_14 : decode cX0_fair 14 = .ok (.ifCond .ne 6, 3) := dk_154 0 6 (dk_at dksX0_fair_0 14 rfl rfl)
theorem dX0_fair_17 : decode cX0_fair 17 = .ok (.bipush (-2), 2) := dk_16 254 (dk_at dksX0_fair_0 17 rfl rfl)
theorem dX0_fair_19 : decode cX0_fair 19 = .ok (.ireturn, 1) := dk_172 (dk_at dksX0_fair_0 19 rfl rfl)
theorem dX0_fair_20 : decode cX0_fair 20 = .ok (.iconst 1, 1) := dk_4 (dk_at dksX0_fair_0 20 rfl rfl)
theorem dX0_fair_21 : decode cX0_fair 21 = .ok (.istore_n 2, 1) := dk_61 (dk_at dksX0_fair_0 21 rfl rfl)
theorem dX0_fair_22 : decode cX0_fair 22 = .ok (.iload_n 2, 1) := dk_28 (dk_at dksX0_fair_0 22 rfl rfl)
theorem dX0_fair_23 : decode cX0_fair 23 = .ok (.bipush 12, 2) := dk_16 12 (dk_at dksX0_fair_1 0 rfl rfl)
theorem dX0_fair_25 : decode cX0_fair 25 = .ok (.if_icmp .gt 26, 3) := dk_163 0 26 (dk_at dksX0_fair_1 2 rfl rfl)
theorem dX0_fair_28 : decode cX0_fair 28 = .ok (.aload_n 0, 1) := dk_42 (dk_at dksX0_fair_1 5 rfl rfl)
theorem dX0_fair_29 : decode cX0_fair 29 = .ok (.getfield 90, 3) := dk_180 0 90 (dk_at dksX0_fair_1 6 rfl rfl)
theorem dX0_fair_32 : decode cX0_fair 32 = .ok (.iload_n 1, 1) := dk_27 (dk_at dksX0_fair_1 9 rfl rfl)
theorem dX0_fair_33 : decode cX0_fair 33 = .ok (.iload_n 2, 1) := dk_28 (dk_at dksX0_fair_1 10 rfl rfl)
theorem dX0_fair_34 : decode cX0_fair 34 = .ok (.invokevirtual 344, 3) := dk_182 1 88 (dk_at dksX0_fair_1 11 rfl rfl)
theorem dX0_fair_37 : decode cX0_fair 37 = .ok (.invokevirtual 357, 3) := dk_182 1 101 (dk_at dksX0_fair_1 14 rfl rfl)
theorem dX0_fair_40 : decode cX0_fair 40 = .ok (.ifCond .ne 5, 3) := dk_154 0 5 (dk_at dksX0_fair_1 17 rfl rfl)
theorem dX0_fair_43 : decode cX0_fair 43 = .ok (.iconst 0, 1) := dk_3 (dk_at dksX0_fair_1 20 rfl rfl)
theorem dX0_fair_44 : decode cX0_fair 44 = .ok (.ireturn, 1) := dk_172 (dk_at dksX0_fair_1 21 rfl rfl)
theorem dX0_fair_45 : decode cX0_fair 45 = .ok (.iinc 2 1, 3) := dk_132 2 1 (dk_at dksX0_fair_2 0 rfl rfl)
theorem dX0_fair_48 : decode cX0_fair 48 = .ok (.goto (-26), 3) := dk_167 255 230 (dk_at dksX0_fair_2 3 rfl rfl)
theorem dX0_fair_51 : decode cX0_fair 51 = .ok (.iconst 1, 1) := dk_4 (dk_at dksX0_fair_2 6 rfl rfl)
theorem dX0_fair_52 : decode cX0_fair 52 = .ok (.ireturn, 1) := dk_172 (dk_at dksX0_fair_2 7 rfl rfl)
abbrev cX0_breaks : ByteArray := prog_1_method_64_code
def yX0_breaks : MethodName := ⟨RX0, "breaks", "(I)I"⟩
def dkwX0_breaks_2 : List UInt8 := [182, 1, 107, 182, 1, 110, 154, 0, 5, 28, 172, 132, 2, 1, 167, 255, 216, 2, 172]
abbrev dktX0_breaks_2 : List UInt8 := dkwX0_breaks_2 ++ []
def dkwX0_breaks_1 : List UInt8 := [182, 0, 152, 162, 0, 38, 42, 42, 28, 182, 1, 107, 27, 42, 28, 4, 100, 182, 1, 107, 42, 28, 5, 100]
abbrev dktX0_breaks_1 : List UInt8 := dkwX0_breaks_1 ++ dktX0_breaks_2
def dkwX0_breaks_0 : List UInt8 := [42, 180, 0, 41, 182, 0, 113, 153, 0, 10, 27, 184, 1, 83, 154, 0, 6, 16, 254, 172, 3, 61, 28, 42]
abbrev dktX0_breaks_0 : List UInt8 := dkwX0_breaks_0 ++ dktX0_breaks_1
theorem dksX0_breaks_0 : cX0_breaks.data.toList.drop 0 = dktX0_breaks_0 := by decide +kernel
theorem dksX0_breaks_1 : cX0_breaks.data.toList.drop 24 = dktX0_breaks_1 := dk_seg dksX0_breaks_0 24 rfl rfl
theorem dksX0_breaks_2 : cX0_breaks.data.toList.drop 48 = dktX0_breaks_2 := dk_seg dksX0_breaks_1 24 rfl rfl
theorem dX0_breaks_0 : decode cX0_breaks 0 = .ok (.aload_n 0, 1) := dk_42 (dk_at dksX0_breaks_0 0 rfl rfl)
theorem dX0_breaks_1 : decode cX0_breaks 1 = .ok (.getfield 41, 3) := dk_180 0 41 (dk_at dksX0_breaks_0 1 rfl rfl)
theorem dX0_breaks_4 : decode cX0_breaks 4 = .ok (.invokevirtual 113, 3) := dk_182 0 113 (dk_at dksX0_breaks_0 4 rfl rfl)
theorem dX0_breaks_7 : decode cX0_breaks 7 = .ok (.ifCond .eq 10, 3) := dk_153 0 10 (dk_at dksX0_breaks_0 7 rfl rfl)
theorem dX0_breaks_10 : decode cX0_breaks 10 = .ok (.iload_n 1, 1) := dk_27 (dk_at dksX0_breaks_0 10 rfl rfl)
theorem dX0_breaks_11 : decode cX0_breaks 11 = .ok (.invokestatic 339, 3) := dk_184 1 83 (dk_at dksX0_breaks_0 11 rfl rfl)
theorem dX0_breaks_14 : decode cX0_breaks 14 = .ok (.ifCond .ne 6, 3) := dk_154 0 6 (dk_at dksX0_breaks_0 14 rfl rfl)
theorem dX0_breaks_17 : decode cX0_breaks 17 = .ok (.bipush (-2), 2) := dk_16 254 (dk_at dksX0_breaks_0 17 rfl rfl)
theorem dX0_breaks_19 : decode cX0_breaks 19 = .ok (.ireturn, 1) := dk_172 (dk_at dksX0_breaks_0 19 rfl rfl)
theorem dX0_breaks_20 : decode cX0_breaks 20 = .ok (.iconst 0, 1) := dk_3 (dk_at dksX0_breaks_0 20 rfl rfl)
theorem dX0_breaks_21 : decode cX0_breaks 21 = .ok (.istore_n 2, 1) := dk_61 (dk_at dksX0_breaks_0 21 rfl rfl)
theorem dX0_breaks_22 : decode cX0_breaks 22 = .ok (.iload_n 2, 1) := dk_28 (dk_at dksX0_breaks_0 22 rfl rfl)
theorem dX0_breaks_23 : decode cX0_breaks 23 = .ok (.aload_n 0, 1) := dk_42 (dk_at dksX0_breaks_0 23 rfl rfl)
theorem dX0_breaks_24 : decode cX0_breaks 24 = .ok (.invokevirtual 152, 3) := dk_182 0 152 (dk_at dksX0_breaks_1 0 rfl rfl)
theorem dX0_breaks_27 : decode cX0_breaks 27 = .ok (.if_icmp .ge 38, 3) := dk_162 0 38 (dk_at dksX0_breaks_1 3 rfl rfl)
theorem dX0_breaks_30 : decode cX0_breaks 30 = .ok (.aload_n 0, 1) := dk_42 (dk_at dksX0_breaks_1 6 rfl rfl)
theorem dX0_breaks_31 : decode cX0_breaks 31 = .ok (.aload_n 0, 1) := dk_42 (dk_at dksX0_breaks_1 7 rfl rfl)
theorem dX0_breaks_32 : decode cX0_breaks 32 = .ok (.iload_n 2, 1) := dk_28 (dk_at dksX0_breaks_1 8 rfl rfl)
theorem dX0_breaks_33 : decode cX0_breaks 33 = .ok (.invokevirtual 363, 3) := dk_182 1 107 (dk_at dksX0_breaks_1 9 rfl rfl)
theorem dX0_breaks_36 : decode cX0_breaks 36 = .ok (.iload_n 1, 1) := dk_27 (dk_at dksX0_breaks_1 12 rfl rfl)
theorem dX0_breaks_37 : decode cX0_breaks 37 = .ok (.aload_n 0, 1) := dk_42 (dk_at dksX0_breaks_1 13 rfl rfl)
theorem dX0_breaks_38 : decode cX0_breaks 38 = .ok (.iload_n 2, 1) := dk_28 (dk_at dksX0_breaks_1 14 rfl rfl)
theorem dX0_breaks_39 : decode cX0_breaks 39 = .ok (.iconst 1, 1) := dk_4 (dk_at dksX0_breaks_1 15 rfl rfl)
theorem dX0_breaks_40 : decode cX0_breaks 40 = .ok (.isub, 1) := dk_100 (dk_at dksX0_breaks_1 16 rfl rfl)
theorem dX0_breaks_41 : decode cX0_breaks 41 = .ok (.invokevirtual 363, 3) := dk_182 1 107 (dk_at dksX0_breaks_1 17 rfl rfl)
theorem dX0_breaks_44 : decode cX0_breaks 44 = .ok (.aload_n 0, 1) := dk_42 (dk_at dksX0_breaks_1 20 rfl rfl)
theorem dX0_breaks_45 : decode cX0_breaks 45 = .ok (.iload_n 2, 1) := dk_28 (dk_at dksX0_breaks_1 21 rfl rfl)
theorem dX0_breaks_46 : decode cX0_breaks 46 = .ok (.iconst 2, 1) := dk_5 (dk_at dksX0_breaks_1 22 rfl rfl)
theorem dX0_breaks_47 : decode cX0_breaks 47 = .ok (.isub, 1) := dk_100 (dk_at dksX0_breaks_1 23 rfl rfl)
theorem dX0_breaks_48 : decode cX0_breaks 48 = .ok (.invokevirtual 363, 3) := dk_182 1 107 (dk_at dksX0_breaks_2 0 rfl rfl)
theorem dX0_breaks_51 : decode cX0_breaks 51 = .ok (.invokevirtual 366, 3) := dk_182 1 110 (dk_at dksX0_breaks_2 3 rfl rfl)
theorem dX0_breaks_54 : decode cX0_breaks 54 = .ok (.ifCond .ne 5, 3) := dk_154 0 5 (dk_at dksX0_breaks_2 6 rfl rfl)
theorem dX0_breaks_57 : decode cX0_breaks 57 = .ok (.iload_n 2, 1) := dk_28 (dk_at dksX0_breaks_2 9 rfl rfl)
theorem dX0_breaks_58 : decode cX0_breaks 58 = .ok (.ireturn, 1) := dk_172 (dk_at dksX0_breaks_2 10 rfl rfl)
theorem dX0_breaks_59 : decode cX0_breaks 59 = .ok (.iinc 2 1, 3) := dk_132 2 1 (dk_at dksX0_breaks_2 11 rfl rfl)
theorem dX0_breaks_62 : decode cX0_breaks 62 = .ok (.goto (-40), 3) := dk_167 255 216 (dk_at dksX0_breaks_2 14 rfl rfl)
theorem dX0_breaks_65 : decode cX0_breaks 65 = .ok (.iconst (-1), 1) := dk_2 (dk_at dksX0_breaks_2 17 rfl rfl)
theorem dX0_breaks_66 : decode cX0_breaks 66 = .ok (.ireturn, 1) := dk_172 (dk_at dksX0_breaks_2 18 rfl rfl)
abbrev cX0_holeOf : ByteArray := prog_1_method_63_code
def yX0_holeOf : MethodName := ⟨RX0, "holeOf", "(I)I"⟩
def dkwX0_holeOf_0 : List UInt8 := [42, 27, 42, 182, 0, 152, 184, 1, 104, 182, 0, 185, 180, 0, 170, 172]
abbrev dktX0_holeOf_0 : List UInt8 := dkwX0_holeOf_0 ++ []
theorem dksX0_holeOf_0 : cX0_holeOf.data.toList.drop 0 = dktX0_holeOf_0 := by decide +kernel
theorem dX0_holeOf_0 : decode cX0_holeOf 0 = .ok (.aload_n 0, 1) := dk_42 (dk_at dksX0_holeOf_0 0 rfl rfl)
theorem dX0_holeOf_1 : decode cX0_holeOf 1 = .ok (.iload_n 1, 1) := dk_27 (dk_at dksX0_holeOf_0 1 rfl rfl)
theorem dX0_holeOf_2 : decode cX0_holeOf 2 = .ok (.aload_n 0, 1) := dk_42 (dk_at dksX0_holeOf_0 2 rfl rfl)
theorem dX0_holeOf_3 : decode cX0_holeOf 3 = .ok (.invokevirtual 152, 3) := dk_182 0 152 (dk_at dksX0_holeOf_0 3 rfl rfl)
theorem dX0_holeOf_6 : decode cX0_holeOf 6 = .ok (.invokestatic 360, 3) := dk_184 1 104 (dk_at dksX0_holeOf_0 6 rfl rfl)
theorem dX0_holeOf_9 : decode cX0_holeOf 9 = .ok (.invokevirtual 185, 3) := dk_182 0 185 (dk_at dksX0_holeOf_0 9 rfl rfl)
theorem dX0_holeOf_12 : decode cX0_holeOf 12 = .ok (.getfield 170, 3) := dk_180 0 170 (dk_at dksX0_holeOf_0 12 rfl rfl)
theorem dX0_holeOf_15 : decode cX0_holeOf 15 = .ok (.ireturn, 1) := dk_172 (dk_at dksX0_holeOf_0 15 rfl rfl)
abbrev cX0_period : ByteArray := prog_1_method_68_code
def yX0_period : MethodName := ⟨RX0, "period", "(I)I"⟩
def dkwX0_period_0 : List UInt8 := [42, 27, 182, 1, 127, 61, 28, 153, 0, 7, 28, 167, 0, 12, 42, 180, 0, 13, 27, 50, 184, 1, 130, 172]
abbrev dktX0_period_0 : List UInt8 := dkwX0_period_0 ++ []
theorem dksX0_period_0 : cX0_period.data.toList.drop 0 = dktX0_period_0 := by decide +kernel
theorem dX0_period_0 : decode cX0_period 0 = .ok (.aload_n 0, 1) := dk_42 (dk_at dksX0_period_0 0 rfl rfl)
theorem dX0_period_1 : decode cX0_period 1 = .ok (.iload_n 1, 1) := dk_27 (dk_at dksX0_period_0 1 rfl rfl)
theorem dX0_period_2 : decode cX0_period 2 = .ok (.invokevirtual 383, 3) := dk_182 1 127 (dk_at dksX0_period_0 2 rfl rfl)
theorem dX0_period_5 : decode cX0_period 5 = .ok (.istore_n 2, 1) := dk_61 (dk_at dksX0_period_0 5 rfl rfl)
theorem dX0_period_6 : decode cX0_period 6 = .ok (.iload_n 2, 1) := dk_28 (dk_at dksX0_period_0 6 rfl rfl)
theorem dX0_period_7 : decode cX0_period 7 = .ok (.ifCond .eq 7, 3) := dk_153 0 7 (dk_at dksX0_period_0 7 rfl rfl)
theorem dX0_period_10 : decode cX0_period 10 = .ok (.iload_n 2, 1) := dk_28 (dk_at dksX0_period_0 10 rfl rfl)
theorem dX0_period_11 : decode cX0_period 11 = .ok (.goto 12, 3) := dk_167 0 12 (dk_at dksX0_period_0 11 rfl rfl)
theorem dX0_period_14 : decode cX0_period 14 = .ok (.aload_n 0, 1) := dk_42 (dk_at dksX0_period_0 14 rfl rfl)
theorem dX0_period_15 : decode cX0_period 15 = .ok (.getfield 13, 3) := dk_180 0 13 (dk_at dksX0_period_0 15 rfl rfl)
theorem dX0_period_18 : decode cX0_period 18 = .ok (.iload_n 1, 1) := dk_27 (dk_at dksX0_period_0 18 rfl rfl)
theorem dX0_period_19 : decode cX0_period 19 = .ok (.aaload, 1) := dk_50 (dk_at dksX0_period_0 19 rfl rfl)
theorem dX0_period_20 : decode cX0_period 20 = .ok (.invokestatic 386, 3) := dk_184 1 130 (dk_at dksX0_period_0 20 rfl rfl)
theorem dX0_period_23 : decode cX0_period 23 = .ok (.ireturn, 1) := dk_172 (dk_at dksX0_period_0 23 rfl rfl)
abbrev cX0_whyNot : ByteArray := prog_1_method_65_code
def yX0_whyNot : MethodName := ⟨RX0, "whyNot", "(I)I"⟩
def dkwX0_whyNot_2 : List UInt8 := [44, 29, 182, 1, 120, 182, 0, 250, 154, 0, 6, 16, 254, 172, 132, 3, 1, 167, 255, 230, 3, 172]
abbrev dktX0_whyNot_2 : List UInt8 := dkwX0_whyNot_2 ++ []
def dkwX0_whyNot_1 : List UInt8 := [27, 50, 77, 44, 180, 1, 114, 199, 0, 6, 16, 250, 172, 3, 62, 29, 44, 182, 1, 118, 162, 0, 24, 42]
abbrev dktX0_whyNot_1 : List UInt8 := dkwX0_whyNot_1 ++ dktX0_whyNot_2
def dkwX0_whyNot_0 : List UInt8 := [27, 184, 0, 9, 153, 0, 13, 42, 180, 0, 41, 182, 0, 113, 154, 0, 6, 16, 254, 172, 42, 180, 0, 13]
abbrev dktX0_whyNot_0 : List UInt8 := dkwX0_whyNot_0 ++ dktX0_whyNot_1
theorem dksX0_whyNot_0 : cX0_whyNot.data.toList.drop 0 = dktX0_whyNot_0 := by decide +kernel
theorem dksX0_whyNot_1 : cX0_whyNot.data.toList.drop 24 = dktX0_whyNot_1 := dk_seg dksX0_whyNot_0 24 rfl rfl
theorem dksX0_whyNot_2 : cX0_whyNot.data.toList.drop 48 = dktX0_whyNot_2 := dk_seg dksX0_whyNot_1 24 rfl rfl
theorem dX0_whyNot_0 : decode cX0_whyNot 0 = .ok (.iload_n 1, 1) := dk_27 (dk_at dksX0_whyNot_0 0 rfl rfl)
theorem dX0_whyNot_1 : decode cX0_whyNot 1 = .ok (.invokestatic 9, 3) := dk_184 0 9 (dk_at dksX0_whyNot_0 1 rfl rfl)
theorem dX0_whyNot_4 : decode cX0_whyNot 4 = .ok (.ifCond .eq 13, 3) := dk_153 0 13 (dk_at dksX0_whyNot_0 4 rfl rfl)
theorem dX0_whyNot_7 : decode cX0_whyNot 7 = .ok (.aload_n 0, 1) := dk_42 (dk_at dksX0_whyNot_0 7 rfl rfl)
theorem dX0_whyNot_8 : decode cX0_whyNot 8 = .ok (.getfield 41, 3) := dk_180 0 41 (dk_at dksX0_whyNot_0 8 rfl rfl)
theorem dX0_whyNot_11 : decode cX0_whyNot 11 = .ok (.invokevirtual 113, 3) := dk_182 0 113 (dk_at dksX0_whyNot_0 11 rfl rfl)
theorem dX0_whyNot_14 : decode cX0_whyNot 14 = .ok (.ifCond .ne 6, 3) := dk_154 0 6 (dk_at dksX0_whyNot_0 14 rfl rfl)
theorem dX0_whyNot_17 : decode cX0_whyNot 17 = .ok (.bipush (-2), 2) := dk_16 254 (dk_at dksX0_whyNot_0 17 rfl rfl)
theorem dX0_whyNot_19 : decode cX0_whyNot 19 = .ok (.ireturn, 1) := dk_172 (dk_at dksX0_whyNot_0 19 rfl rfl)
theorem dX0_whyNot_20 : decode cX0_whyNot 20 = .ok (.aload_n 0, 1) := dk_42 (dk_at dksX0_whyNot_0 20 rfl rfl)
theorem dX0_whyNot_21 : decode cX0_whyNot 21 = .ok (.getfield 13, 3) := dk_180 0 13 (dk_at dksX0_whyNot_0 21 rfl rfl)
theorem dX0_whyNot_24 : decode cX0_whyNot 24 = .ok (.iload_n 1, 1) := dk_27 (dk_at dksX0_whyNot_1 0 rfl rfl)
theorem dX0_whyNot_25 : decode cX0_whyNot 25 = .ok (.aaload, 1) := dk_50 (dk_at dksX0_whyNot_1 1 rfl rfl)
theorem dX0_whyNot_26 : decode cX0_whyNot 26 = .ok (.astore_n 2, 1) := dk_77 (dk_at dksX0_whyNot_1 2 rfl rfl)
theorem dX0_whyNot_27 : decode cX0_whyNot 27 = .ok (.aload_n 2, 1) := dk_44 (dk_at dksX0_whyNot_1 3 rfl rfl)
theorem dX0_whyNot_28 : decode cX0_whyNot 28 = .ok (.getfield 370, 3) := dk_180 1 114 (dk_at dksX0_whyNot_1 4 rfl rfl)
theorem dX0_whyNot_31 : decode cX0_whyNot 31 = .ok (.ifnonnull 6, 3) := dk_199 0 6 (dk_at dksX0_whyNot_1 7 rfl rfl)
theorem dX0_whyNot_34 : decode cX0_whyNot 34 = .ok (.bipush (-6), 2) := dk_16 250 (dk_at dksX0_whyNot_1 10 rfl rfl)
theorem dX0_whyNot_36 : decode cX0_whyNot 36 = .ok (.ireturn, 1) := dk_172 (dk_at dksX0_whyNot_1 12 rfl rfl)
theorem dX0_whyNot_37 : decode cX0_whyNot 37 = .ok (.iconst 0, 1) := dk_3 (dk_at dksX0_whyNot_1 13 rfl rfl)
theorem dX0_whyNot_38 : decode cX0_whyNot 38 = .ok (.istore_n 3, 1) := dk_62 (dk_at dksX0_whyNot_1 14 rfl rfl)
theorem dX0_whyNot_39 : decode cX0_whyNot 39 = .ok (.iload_n 3, 1) := dk_29 (dk_at dksX0_whyNot_1 15 rfl rfl)
theorem dX0_whyNot_40 : decode cX0_whyNot 40 = .ok (.aload_n 2, 1) := dk_44 (dk_at dksX0_whyNot_1 16 rfl rfl)
theorem dX0_whyNot_41 : decode cX0_whyNot 41 = .ok (.invokevirtual 374, 3) := dk_182 1 118 (dk_at dksX0_whyNot_1 17 rfl rfl)
theorem dX0_whyNot_44 : decode cX0_whyNot 44 = .ok (.if_icmp .ge 24, 3) := dk_162 0 24 (dk_at dksX0_whyNot_1 20 rfl rfl)
theorem dX0_whyNot_47 : decode cX0_whyNot 47 = .ok (.aload_n 0, 1) := dk_42 (dk_at dksX0_whyNot_1 23 rfl rfl)
theorem dX0_whyNot_48 : decode cX0_whyNot 48 = .ok (.aload_n 2, 1) := dk_44 (dk_at dksX0_whyNot_2 0 rfl rfl)
theorem dX0_whyNot_49 : decode cX0_whyNot 49 = .ok (.iload_n 3, 1) := dk_29 (dk_at dksX0_whyNot_2 1 rfl rfl)
theorem dX0_whyNot_50 : decode cX0_whyNot 50 = .ok (.invokevirtual 376, 3) := dk_182 1 120 (dk_at dksX0_whyNot_2 2 rfl rfl)
theorem dX0_whyNot_53 : decode cX0_whyNot 53 = .ok (.invokevirtual 250, 3) := dk_182 0 250 (dk_at dksX0_whyNot_2 5 rfl rfl)
theorem dX0_whyNot_56 : decode cX0_whyNot 56 = .ok (.ifCond .ne 6, 3) := dk_154 0 6 (dk_at dksX0_whyNot_2 8 rfl rfl)
theorem dX0_whyNot_59 : decode cX0_whyNot 59 = .ok (.bipush (-2), 2) := dk_16 254 (dk_at dksX0_whyNot_2 11 rfl rfl)
theorem dX0_whyNot_61 : decode cX0_whyNot 61 = .ok (.ireturn, 1) := dk_172 (dk_at dksX0_whyNot_2 13 rfl rfl)
theorem dX0_whyNot_62 : decode cX0_whyNot 62 = .ok (.iinc 3 1, 3) := dk_132 3 1 (dk_at dksX0_whyNot_2 14 rfl rfl)
theorem dX0_whyNot_65 : decode cX0_whyNot 65 = .ok (.goto (-26), 3) := dk_167 255 230 (dk_at dksX0_whyNot_2 17 rfl rfl)
theorem dX0_whyNot_68 : decode cX0_whyNot 68 = .ok (.iconst 0, 1) := dk_3 (dk_at dksX0_whyNot_2 20 rfl rfl)
theorem dX0_whyNot_69 : decode cX0_whyNot 69 = .ok (.ireturn, 1) := dk_172 (dk_at dksX0_whyNot_2 21 rfl rfl)
abbrev cX0_leastPeriod : ByteArray := prog_1_method_67_code
def yX0_leastPeriod : MethodName := ⟨RX0, "leastPeriod", "(LMoleBoard$Slot;)I"⟩
def dkwX0_leastPeriod_1 : List UInt8 := [167, 255, 235, 2, 172]
abbrev dktX0_leastPeriod_1 : List UInt8 := dkwX0_leastPeriod_1 ++ []
def dkwX0_leastPeriod_0 : List UInt8 := [4, 60, 27, 42, 182, 1, 118, 162, 0, 19, 42, 27, 184, 1, 123, 153, 0, 5, 27, 172, 132, 1, 1]
abbrev dktX0_leastPeriod_0 : List UInt8 := dkwX0_leastPeriod_0 ++ dktX0_leastPeriod_1
theorem dksX0_leastPeriod_0 : cX0_leastPeriod.data.toList.drop 0 = dktX0_leastPeriod_0 := by decide +kernel
theorem dksX0_leastPeriod_1 : cX0_leastPeriod.data.toList.drop 23 = dktX0_leastPeriod_1 := dk_seg dksX0_leastPeriod_0 23 rfl rfl
theorem dX0_leastPeriod_0 : decode cX0_leastPeriod 0 = .ok (.iconst 1, 1) := dk_4 (dk_at dksX0_leastPeriod_0 0 rfl rfl)
theorem dX0_leastPeriod_1 : decode cX0_leastPeriod 1 = .ok (.istore_n 1, 1) := dk_60 (dk_at dksX0_leastPeriod_0 1 rfl rfl)
theorem dX0_leastPeriod_2 : decode cX0_leastPeriod 2 = .ok (.iload_n 1, 1) := dk_27 (dk_at dksX0_leastPeriod_0 2 rfl rfl)
theorem dX0_leastPeriod_3 : decode cX0_leastPeriod 3 = .ok (.aload_n 0, 1) := dk_42 (dk_at dksX0_leastPeriod_0 3 rfl rfl)
theorem dX0_leastPeriod_4 : decode cX0_leastPeriod 4 = .ok (.invokevirtual 374, 3) := dk_182 1 118 (dk_at dksX0_leastPeriod_0 4 rfl rfl)
theorem dX0_leastPeriod_7 : decode cX0_leastPeriod 7 = .ok (.if_icmp .ge 19, 3) := dk_162 0 19 (dk_at dksX0_leastPeriod_0 7 rfl rfl)
theorem dX0_leastPeriod_10 : decode cX0_leastPeriod 10 = .ok (.aload_n 0, 1) := dk_42 (dk_at dksX0_leastPeriod_0 10 rfl rfl)
theorem dX0_leastPeriod_11 : decode cX0_leastPeriod 11 = .ok (.iload_n 1, 1) := dk_27 (dk_at dksX0_leastPeriod_0 11 rfl rfl)
theorem dX0_leastPeriod_12 : decode cX0_leastPeriod 12 = .ok (.invokestatic 379, 3) := dk_184 1 123 (dk_at dksX0_leastPeriod_0 12 rfl rfl)
theorem dX0_leastPeriod_15 : decode cX0_leastPeriod 15 = .ok (.ifCond .eq 5, 3) := dk_153 0 5 (dk_at dksX0_leastPeriod_0 15 rfl rfl)
theorem dX0_leastPeriod_18 : decode cX0_leastPeriod 18 = .ok (.iload_n 1, 1) := dk_27 (dk_at dksX0_leastPeriod_0 18 rfl rfl)
theorem dX0_leastPeriod_19 : decode cX0_leastPeriod 19 = .ok (.ireturn, 1) := dk_172 (dk_at dksX0_leastPeriod_0 19 rfl rfl)
theorem dX0_leastPeriod_20 : decode cX0_leastPeriod 20 = .ok (.iinc 1 1, 3) := dk_132 1 1 (dk_at dksX0_leastPeriod_0 20 rfl rfl)
theorem dX0_leastPeriod_23 : decode cX0_leastPeriod 23 = .ok (.goto (-21), 3) := dk_167 255 235 (dk_at dksX0_leastPeriod_1 0 rfl rfl)
theorem dX0_leastPeriod_26 : decode cX0_leastPeriod 26 = .ok (.iconst (-1), 1) := dk_2 (dk_at dksX0_leastPeriod_1 3 rfl rfl)
theorem dX0_leastPeriod_27 : decode cX0_leastPeriod 27 = .ok (.ireturn, 1) := dk_172 (dk_at dksX0_leastPeriod_1 4 rfl rfl)
abbrev cX0_isPeriod : ByteArray := prog_1_method_66_code
def yX0_isPeriod : MethodName := ⟨RX0, "isPeriod", "(LMoleBoard$Slot;I)Z"⟩
def dkwX0_isPeriod_1 : List UInt8 := [153, 0, 5, 3, 172, 132, 2, 1, 167, 255, 227, 4, 172]
abbrev dktX0_isPeriod_1 : List UInt8 := dkwX0_isPeriod_1 ++ []
def dkwX0_isPeriod_0 : List UInt8 := [27, 61, 28, 42, 182, 1, 118, 162, 0, 27, 42, 28, 182, 1, 120, 42, 28, 27, 100, 182, 1, 120, 148]
abbrev dktX0_isPeriod_0 : List UInt8 := dkwX0_isPeriod_0 ++ dktX0_isPeriod_1
theorem dksX0_isPeriod_0 : cX0_isPeriod.data.toList.drop 0 = dktX0_isPeriod_0 := by decide +kernel
theorem dksX0_isPeriod_1 : cX0_isPeriod.data.toList.drop 23 = dktX0_isPeriod_1 := dk_seg dksX0_isPeriod_0 23 rfl rfl
theorem dX0_isPeriod_0 : decode cX0_isPeriod 0 = .ok (.iload_n 1, 1) := dk_27 (dk_at dksX0_isPeriod_0 0 rfl rfl)
theorem dX0_isPeriod_1 : decode cX0_isPeriod 1 = .ok (.istore_n 2, 1) := dk_61 (dk_at dksX0_isPeriod_0 1 rfl rfl)
theorem dX0_isPeriod_2 : decode cX0_isPeriod 2 = .ok (.iload_n 2, 1) := dk_28 (dk_at dksX0_isPeriod_0 2 rfl rfl)
theorem dX0_isPeriod_3 : decode cX0_isPeriod 3 = .ok (.aload_n 0, 1) := dk_42 (dk_at dksX0_isPeriod_0 3 rfl rfl)
theorem dX0_isPeriod_4 : decode cX0_isPeriod 4 = .ok (.invokevirtual 374, 3) := dk_182 1 118 (dk_at dksX0_isPeriod_0 4 rfl rfl)
theorem dX0_isPeriod_7 : decode cX0_isPeriod 7 = .ok (.if_icmp .ge 27, 3) := dk_162 0 27 (dk_at dksX0_isPeriod_0 7 rfl rfl)
theorem dX0_isPeriod_10 : decode cX0_isPeriod 10 = .ok (.aload_n 0, 1) := dk_42 (dk_at dksX0_isPeriod_0 10 rfl rfl)
theorem dX0_isPeriod_11 : decode cX0_isPeriod 11 = .ok (.iload_n 2, 1) := dk_28 (dk_at dksX0_isPeriod_0 11 rfl rfl)
theorem dX0_isPeriod_12 : decode cX0_isPeriod 12 = .ok (.invokevirtual 376, 3) := dk_182 1 120 (dk_at dksX0_isPeriod_0 12 rfl rfl)
theorem dX0_isPeriod_15 : decode cX0_isPeriod 15 = .ok (.aload_n 0, 1) := dk_42 (dk_at dksX0_isPeriod_0 15 rfl rfl)
theorem dX0_isPeriod_16 : decode cX0_isPeriod 16 = .ok (.iload_n 2, 1) := dk_28 (dk_at dksX0_isPeriod_0 16 rfl rfl)
theorem dX0_isPeriod_17 : decode cX0_isPeriod 17 = .ok (.iload_n 1, 1) := dk_27 (dk_at dksX0_isPeriod_0 17 rfl rfl)
theorem dX0_isPeriod_18 : decode cX0_isPeriod 18 = .ok (.isub, 1) := dk_100 (dk_at dksX0_isPeriod_0 18 rfl rfl)
theorem dX0_isPeriod_19 : decode cX0_isPeriod 19 = .ok (.invokevirtual 376, 3) := dk_182 1 120 (dk_at dksX0_isPeriod_0 19 rfl rfl)
theorem dX0_isPeriod_22 : decode cX0_isPeriod 22 = .ok (.lcmp, 1) := dk_148 (dk_at dksX0_isPeriod_0 22 rfl rfl)
theorem dX0_isPeriod_23 : decode cX0_isPeriod 23 = .ok (.ifCond .eq 5, 3) := dk_153 0 5 (dk_at dksX0_isPeriod_1 0 rfl rfl)
theorem dX0_isPeriod_26 : decode cX0_isPeriod 26 = .ok (.iconst 0, 1) := dk_3 (dk_at dksX0_isPeriod_1 3 rfl rfl)
theorem dX0_isPeriod_27 : decode cX0_isPeriod 27 = .ok (.ireturn, 1) := dk_172 (dk_at dksX0_isPeriod_1 4 rfl rfl)
theorem dX0_isPeriod_28 : decode cX0_isPeriod 28 = .ok (.iinc 2 1, 3) := dk_132 2 1 (dk_at dksX0_isPeriod_1 5 rfl rfl)
theorem dX0_isPeriod_31 : decode cX0_isPeriod 31 = .ok (.goto (-29), 3) := dk_167 255 227 (dk_at dksX0_isPeriod_1 8 rfl rfl)
theorem dX0_isPeriod_34 : decode cX0_isPeriod 34 = .ok (.iconst 1, 1) := dk_4 (dk_at dksX0_isPeriod_1 11 rfl rfl)
theorem dX0_isPeriod_35 : decode cX0_isPeriod 35 = .ok (.ireturn, 1) := dk_172 (dk_at dksX0_isPeriod_1 12 rfl rfl)
abbrev cX0_periods : ByteArray := prog_1_method_69_code
def yX0_periods : MethodName := ⟨RX0, "periods", "(I)I"⟩
def dkwX0_periods_2 : List UInt8 := [167, 0, 4, 3, 96, 62, 132, 4, 1, 167, 255, 217, 29, 172]
abbrev dktX0_periods_2 : List UInt8 := dkwX0_periods_2 ++ []
def dkwX0_periods_1 : List UInt8 := [50, 182, 1, 118, 162, 0, 31, 29, 42, 180, 0, 13, 27, 50, 21, 4, 184, 1, 123, 153, 0, 7, 4]
abbrev dktX0_periods_1 : List UInt8 := dkwX0_periods_1 ++ dktX0_periods_2
def dkwX0_periods_0 : List UInt8 := [42, 27, 182, 1, 127, 61, 28, 153, 0, 5, 28, 172, 3, 62, 4, 54, 4, 21, 4, 42, 180, 0, 13, 27]
abbrev dktX0_periods_0 : List UInt8 := dkwX0_periods_0 ++ dktX0_periods_1
theorem dksX0_periods_0 : cX0_periods.data.toList.drop 0 = dktX0_periods_0 := by decide +kernel
theorem dksX0_periods_1 : cX0_periods.data.toList.drop 24 = dktX0_periods_1 := dk_seg dksX0_periods_0 24 rfl rfl
theorem dksX0_periods_2 : cX0_periods.data.toList.drop 47 = dktX0_periods_2 := dk_seg dksX0_periods_1 23 rfl rfl
theorem dX0_periods_0 : decode cX0_periods 0 = .ok (.aload_n 0, 1) := dk_42 (dk_at dksX0_periods_0 0 rfl rfl)
theorem dX0_periods_1 : decode cX0_periods 1 = .ok (.iload_n 1, 1) := dk_27 (dk_at dksX0_periods_0 1 rfl rfl)
theorem dX0_periods_2 : decode cX0_periods 2 = .ok (.invokevirtual 383, 3) := dk_182 1 127 (dk_at dksX0_periods_0 2 rfl rfl)
theorem dX0_periods_5 : decode cX0_periods 5 = .ok (.istore_n 2, 1) := dk_61 (dk_at dksX0_periods_0 5 rfl rfl)
theorem dX0_periods_6 : decode cX0_periods 6 = .ok (.iload_n 2, 1) := dk_28 (dk_at dksX0_periods_0 6 rfl rfl)
theorem dX0_periods_7 : decode cX0_periods 7 = .ok (.ifCond .eq 5, 3) := dk_153 0 5 (dk_at dksX0_periods_0 7 rfl rfl)
theorem dX0_periods_10 : decode cX0_periods 10 = .ok (.iload_n 2, 1) := dk_28 (dk_at dksX0_periods_0 10 rfl rfl)
theorem dX0_periods_11 : decode cX0_periods 11 = .ok (.ireturn, 1) := dk_172 (dk_at dksX0_periods_0 11 rfl rfl)
theorem dX0_periods_12 : decode cX0_periods 12 = .ok (.iconst 0, 1) := dk_3 (dk_at dksX0_periods_0 12 rfl rfl)
theorem dX0_periods_13 : decode cX0_periods 13 = .ok (.istore_n 3, 1) := dk_62 (dk_at dksX0_periods_0 13 rfl rfl)
theorem dX0_periods_14 : decode cX0_periods 14 = .ok (.iconst 1, 1) := dk_4 (dk_at dksX0_periods_0 14 rfl rfl)
theorem dX0_periods_15 : decode cX0_periods 15 = .ok (.istore 4, 2) := dk_54 4 (dk_at dksX0_periods_0 15 rfl rfl)
theorem dX0_periods_17 : decode cX0_periods 17 = .ok (.iload 4, 2) := dk_21 4 (dk_at dksX0_periods_0 17 rfl rfl)
theorem dX0_periods_19 : decode cX0_periods 19 = .ok (.aload_n 0, 1) := dk_42 (dk_at dksX0_periods_0 19 rfl rfl)
theorem dX0_periods_20 : decode cX0_periods 20 = .ok (.getfield 13, 3) := dk_180 0 13 (dk_at dksX0_periods_0 20 rfl rfl)
theorem dX0_periods_23 : decode cX0_periods 23 = .ok (.iload_n 1, 1) := dk_27 (dk_at dksX0_periods_0 23 rfl rfl)
theorem dX0_periods_24 : decode cX0_periods 24 = .ok (.aaload, 1) := dk_50 (dk_at dksX0_periods_1 0 rfl rfl)
theorem dX0_periods_25 : decode cX0_periods 25 = .ok (.invokevirtual 374, 3) := dk_182 1 118 (dk_at dksX0_periods_1 1 rfl rfl)
theorem dX0_periods_28 : decode cX0_periods 28 = .ok (.if_icmp .ge 31, 3) := dk_162 0 31 (dk_at dksX0_periods_1 4 rfl rfl)
theorem dX0_periods_31 : decode cX0_periods 31 = .ok (.iload_n 3, 1) := dk_29 (dk_at dksX0_periods_1 7 rfl rfl)
theorem dX0_periods_32 : decode cX0_periods 32 = .ok (.aload_n 0, 1) := dk_42 (dk_at dksX0_periods_1 8 rfl rfl)
theorem dX0_periods_33 : decode cX0_periods 33 = .ok (.getfield 13, 3) := dk_180 0 13 (dk_at dksX0_periods_1 9 rfl rfl)
theorem dX0_periods_36 : decode cX0_periods 36 = .ok (.iload_n 1, 1) := dk_27 (dk_at dksX0_periods_1 12 rfl rfl)
theorem dX0_periods_37 : decode cX0_periods 37 = .ok (.aaload, 1) := dk_50 (dk_at dksX0_periods_1 13 rfl rfl)
theorem dX0_periods_38 : decode cX0_periods 38 = .ok (.iload 4, 2) := dk_21 4 (dk_at dksX0_periods_1 14 rfl rfl)
theorem dX0_periods_40 : decode cX0_periods 40 = .ok (.invokestatic 379, 3) := dk_184 1 123 (dk_at dksX0_periods_1 16 rfl rfl)
theorem dX0_periods_43 : decode cX0_periods 43 = .ok (.ifCond .eq 7, 3) := dk_153 0 7 (dk_at dksX0_periods_1 19 rfl rfl)
theorem dX0_periods_46 : decode cX0_periods 46 = .ok (.iconst 1, 1) := dk_4 (dk_at dksX0_periods_1 22 rfl rfl)
theorem dX0_periods_47 : decode cX0_periods 47 = .ok (.goto 4, 3) := dk_167 0 4 (dk_at dksX0_periods_2 0 rfl rfl)
theorem dX0_periods_50 : decode cX0_periods 50 = .ok (.iconst 0, 1) := dk_3 (dk_at dksX0_periods_2 3 rfl rfl)
theorem dX0_periods_51 : decode cX0_periods 51 = .ok (.iadd, 1) := dk_96 (dk_at dksX0_periods_2 4 rfl rfl)
theorem dX0_periods_52 : decode cX0_periods 52 = .ok (.istore_n 3, 1) := dk_62 (dk_at dksX0_periods_2 5 rfl rfl)
theorem dX0_periods_53 : decode cX0_periods 53 = .ok (.iinc 4 1, 3) := dk_132 4 1 (dk_at dksX0_periods_2 6 rfl rfl)
theorem dX0_periods_56 : decode cX0_periods 56 = .ok (.goto (-39), 3) := dk_167 255 217 (dk_at dksX0_periods_2 9 rfl rfl)
theorem dX0_periods_59 : decode cX0_periods 59 = .ok (.iload_n 3, 1) := dk_29 (dk_at dksX0_periods_2 12 rfl rfl)
theorem dX0_periods_60 : decode cX0_periods 60 = .ok (.ireturn, 1) := dk_172 (dk_at dksX0_periods_2 13 rfl rfl)
abbrev cX0_luck : ByteArray := prog_1_method_70_code
def yX0_luck : MethodName := ⟨RX0, "luck", "(I)I"⟩
def dkwX0_luck_3 : List UInt8 := [132, 6, 255, 167, 255, 229, 22, 4, 20, 1, 134, 148, 158, 0, 7, 2, 167, 0, 6, 22, 4, 136, 172]
abbrev dktX0_luck_3 : List UInt8 := dkwX0_luck_3 ++ []
def dkwX0_luck_2 : List UInt8 := [158, 0, 28, 22, 4, 20, 1, 134, 148, 157, 0, 19, 22, 4, 42, 182, 1, 62, 133, 105, 55, 4]
abbrev dktX0_luck_2 : List UInt8 := dkwX0_luck_2 ++ dktX0_luck_3
def dkwX0_luck_1 : List UInt8 := [160, 0, 5, 2, 172, 10, 55, 4, 42, 180, 0, 13, 27, 50, 182, 1, 118, 29, 100, 54, 6, 21, 6]
abbrev dktX0_luck_1 : List UInt8 := dkwX0_luck_1 ++ dktX0_luck_2
def dkwX0_luck_0 : List UInt8 := [42, 27, 182, 1, 127, 61, 28, 153, 0, 5, 28, 172, 42, 180, 0, 13, 27, 50, 184, 1, 130, 62, 29, 2]
abbrev dktX0_luck_0 : List UInt8 := dkwX0_luck_0 ++ dktX0_luck_1
theorem dksX0_luck_0 : cX0_luck.data.toList.drop 0 = dktX0_luck_0 := by decide +kernel
theorem dksX0_luck_1 : cX0_luck.data.toList.drop 24 = dktX0_luck_1 := dk_seg dksX0_luck_0 24 rfl rfl
theorem dksX0_luck_2 : cX0_luck.data.toList.drop 47 = dktX0_luck_2 := dk_seg dksX0_luck_1 23 rfl rfl
theorem dksX0_luck_3 : cX0_luck.data.toList.drop 69 = dktX0_luck_3 := dk_seg dksX0_luck_2 22 rfl rfl
theorem dX0_luck_0 : decode cX0_luck 0 = .ok (.aload_n 0, 1) := dk_42 (dk_at dksX0_luck_0 0 rfl rfl)
theorem dX0_luck_1 : decode cX0_luck 1 = .ok (.iload_n 1, 1) := dk_27 (dk_at dksX0_luck_0 1 rfl rfl)
theorem dX0_luck_2 : decode cX0_luck 2 = .ok (.invokevirtual 383, 3) := dk_182 1 127 (dk_at dksX0_luck_0 2 rfl rfl)
theorem dX0_luck_5 : decode cX0_luck 5 = .ok (.istore_n 2, 1) := dk_61 (dk_at dksX0_luck_0 5 rfl rfl)
theorem dX0_luck_6 : decode cX0_luck 6 = .ok (.iload_n 2, 1) := dk_28 (dk_at dksX0_luck_0 6 rfl rfl)
theorem dX0_luck_7 : decode cX0_luck 7 = .ok (.ifCond .eq 5, 3) := dk_153 0 5 (dk_at dksX0_luck_0 7 rfl rfl)
theorem dX0_luck_10 : decode cX0_luck 10 = .ok (.iload_n 2, 1) := dk_28 (dk_at dksX0_luck_0 10 rfl rfl)
theorem dX0_luck_11 : decode cX0_luck 11 = .ok (.ireturn, 1) := dk_172 (dk_at dksX0_luck_0 11 rfl rfl)
theorem dX0_luck_12 : decode cX0_luck 12 = .ok (.aload_n 0, 1) := dk_42 (dk_at dksX0_luck_0 12 rfl rfl)
theorem dX0_luck_13 : decode cX0_luck 13 = .ok (.getfield 13, 3) := dk_180 0 13 (dk_at dksX0_luck_0 13 rfl rfl)
theorem dX0_luck_16 : decode cX0_luck 16 = .ok (.iload_n 1, 1) := dk_27 (dk_at dksX0_luck_0 16 rfl rfl)
theorem dX0_luck_17 : decode cX0_luck 17 = .ok (.aaload, 1) := dk_50 (dk_at dksX0_luck_0 17 rfl rfl)
theorem dX0_luck_18 : decode cX0_luck 18 = .ok (.invokestatic 386, 3) := dk_184 1 130 (dk_at dksX0_luck_0 18 rfl rfl)
theorem dX0_luck_21 : decode cX0_luck 21 = .ok (.istore_n 3, 1) := dk_62 (dk_at dksX0_luck_0 21 rfl rfl)
theorem dX0_luck_22 : decode cX0_luck 22 = .ok (.iload_n 3, 1) := dk_29 (dk_at dksX0_luck_0 22 rfl rfl)
theorem dX0_luck_23 : decode cX0_luck 23 = .ok (.iconst (-1), 1) := dk_2 (dk_at dksX0_luck_0 23 rfl rfl)
theorem dX0_luck_24 : decode cX0_luck 24 = .ok (.if_icmp .ne 5, 3) := dk_160 0 5 (dk_at dksX0_luck_1 0 rfl rfl)
theorem dX0_luck_27 : decode cX0_luck 27 = .ok (.iconst (-1), 1) := dk_2 (dk_at dksX0_luck_1 3 rfl rfl)
theorem dX0_luck_28 : decode cX0_luck 28 = .ok (.ireturn, 1) := dk_172 (dk_at dksX0_luck_1 4 rfl rfl)
theorem dX0_luck_29 : decode cX0_luck 29 = .ok (.lconst 1, 1) := dk_10 (dk_at dksX0_luck_1 5 rfl rfl)
theorem dX0_luck_30 : decode cX0_luck 30 = .ok (.lstore 4, 2) := dk_55 4 (dk_at dksX0_luck_1 6 rfl rfl)
theorem dX0_luck_32 : decode cX0_luck 32 = .ok (.aload_n 0, 1) := dk_42 (dk_at dksX0_luck_1 8 rfl rfl)
theorem dX0_luck_33 : decode cX0_luck 33 = .ok (.getfield 13, 3) := dk_180 0 13 (dk_at dksX0_luck_1 9 rfl rfl)
theorem dX0_luck_36 : decode cX0_luck 36 = .ok (.iload_n 1, 1) := dk_27 (dk_at dksX0_luck_1 12 rfl rfl)
theorem dX0_luck_37 : decode cX0_luck 37 = .ok (.aaload, 1) := dk_50 (dk_at dksX0_luck_1 13 rfl rfl)
theorem dX0_luck_38 : decode cX0_luck 38 = .ok (.invokevirtual 374, 3) := dk_182 1 118 (dk_at dksX0_luck_1 14 rfl rfl)
theorem dX0_luck_41 : decode cX0_luck 41 = .ok (.iload_n 3, 1) := dk_29 (dk_at dksX0_luck_1 17 rfl rfl)
theorem dX0_luck_42 : decode cX0_luck 42 = .ok (.isub, 1) := dk_100 (dk_at dksX0_luck_1 18 rfl rfl)
theorem dX0_luck_43 : decode cX0_luck 43 = .ok (.istore 6, 2) := dk_54 6 (dk_at dksX0_luck_1 19 rfl rfl)
theorem dX0_luck_45 : decode cX0_luck 45 = .ok (.iload 6, 2) := dk_21 6 (dk_at dksX0_luck_1 21 rfl rfl)
theorem dX0_luck_47 : decode cX0_luck 47 = .ok (.ifCond .le 28, 3) := dk_158 0 28 (dk_at dksX0_luck_2 0 rfl rfl)
theorem dX0_luck_50 : decode cX0_luck 50 = .ok (.lload 4, 2) := dk_22 4 (dk_at dksX0_luck_2 3 rfl rfl)
theorem dX0_luck_52 : decode cX0_luck 52 = .ok (.ldc2_w 390, 3) := dk_20 1 134 (dk_at dksX0_luck_2 5 rfl rfl)
theorem dX0_luck_55 : decode cX0_luck 55 = .ok (.lcmp, 1) := dk_148 (dk_at dksX0_luck_2 8 rfl rfl)
theorem dX0_luck_56 : decode cX0_luck 56 = .ok (.ifCond .gt 19, 3) := dk_157 0 19 (dk_at dksX0_luck_2 9 rfl rfl)
theorem dX0_luck_59 : decode cX0_luck 59 = .ok (.lload 4, 2) := dk_22 4 (dk_at dksX0_luck_2 12 rfl rfl)
theorem dX0_luck_61 : decode cX0_luck 61 = .ok (.aload_n 0, 1) := dk_42 (dk_at dksX0_luck_2 14 rfl rfl)
theorem dX0_luck_62 : decode cX0_luck 62 = .ok (.invokevirtual 318, 3) := dk_182 1 62 (dk_at dksX0_luck_2 15 rfl rfl)
theorem dX0_luck_65 : decode cX0_luck 65 = .ok (.i2l, 1) := dk_133 (dk_at dksX0_luck_2 18 rfl rfl)
theorem dX0_luck_66 : decode cX0_luck 66 = .ok (.lmul, 1) := dk_105 (dk_at dksX0_luck_2 19 rfl rfl)
theorem dX0_luck_67 : decode cX0_luck 67 = .ok (.lstore 4, 2) := dk_55 4 (dk_at dksX0_luck_2 20 rfl rfl)
theorem dX0_luck_69 : decode cX0_luck 69 = .ok (.iinc 6 (-1), 3) := dk_132 6 255 (dk_at dksX0_luck_3 0 rfl rfl)
theorem dX0_luck_72 : decode cX0_luck 72 = .ok (.goto (-27), 3) := dk_167 255 229 (dk_at dksX0_luck_3 3 rfl rfl)
theorem dX0_luck_75 : decode cX0_luck 75 = .ok (.lload 4, 2) := dk_22 4 (dk_at dksX0_luck_3 6 rfl rfl)
theorem dX0_luck_77 : decode cX0_luck 77 = .ok (.ldc2_w 390, 3) := dk_20 1 134 (dk_at dksX0_luck_3 8 rfl rfl)
theorem dX0_luck_80 : decode cX0_luck 80 = .ok (.lcmp, 1) := dk_148 (dk_at dksX0_luck_3 11 rfl rfl)
theorem dX0_luck_81 : decode cX0_luck 81 = .ok (.ifCond .le 7, 3) := dk_158 0 7 (dk_at dksX0_luck_3 12 rfl rfl)
theorem dX0_luck_84 : decode cX0_luck 84 = .ok (.iconst (-1), 1) := dk_2 (dk_at dksX0_luck_3 15 rfl rfl)
theorem dX0_luck_85 : decode cX0_luck 85 = .ok (.goto 6, 3) := dk_167 0 6 (dk_at dksX0_luck_3 16 rfl rfl)
theorem dX0_luck_88 : decode cX0_luck 88 = .ok (.lload 4, 2) := dk_22 4 (dk_at dksX0_luck_3 19 rfl rfl)
theorem dX0_luck_90 : decode cX0_luck 90 = .ok (.l2i, 1) := dk_136 (dk_at dksX0_luck_3 21 rfl rfl)
theorem dX0_luck_91 : decode cX0_luck 91 = .ok (.ireturn, 1) := dk_172 (dk_at dksX0_luck_3 22 rfl rfl)
abbrev cX0_fits : ByteArray := prog_1_method_72_code
def yX0_fits : MethodName := ⟨RX0, "fits", "(I)I"⟩
def dkwX0_fits_2 : List UInt8 := [96, 62, 132, 4, 1, 167, 255, 221, 29, 172]
abbrev dktX0_fits_2 : List UInt8 := dkwX0_fits_2 ++ []
def dkwX0_fits_1 : List UInt8 := [162, 0, 32, 29, 42, 42, 180, 0, 13, 27, 50, 21, 4, 182, 1, 136, 153, 0, 7, 4, 167, 0, 4, 3]
abbrev dktX0_fits_1 : List UInt8 := dkwX0_fits_1 ++ dktX0_fits_2
def dkwX0_fits_0 : List UInt8 := [42, 27, 182, 1, 127, 61, 28, 153, 0, 5, 28, 172, 3, 62, 3, 54, 4, 21, 4, 42, 182, 0, 152]
abbrev dktX0_fits_0 : List UInt8 := dkwX0_fits_0 ++ dktX0_fits_1
theorem dksX0_fits_0 : cX0_fits.data.toList.drop 0 = dktX0_fits_0 := by decide +kernel
theorem dksX0_fits_1 : cX0_fits.data.toList.drop 23 = dktX0_fits_1 := dk_seg dksX0_fits_0 23 rfl rfl
theorem dksX0_fits_2 : cX0_fits.data.toList.drop 47 = dktX0_fits_2 := dk_seg dksX0_fits_1 24 rfl rfl
theorem dX0_fits_0 : decode cX0_fits 0 = .ok (.aload_n 0, 1) := dk_42 (dk_at dksX0_fits_0 0 rfl rfl)
theorem dX0_fits_1 : decode cX0_fits 1 = .ok (.iload_n 1, 1) := dk_27 (dk_at dksX0_fits_0 1 rfl rfl)
theorem dX0_fits_2 : decode cX0_fits 2 = .ok (.invokevirtual 383, 3) := dk_182 1 127 (dk_at dksX0_fits_0 2 rfl rfl)
theorem dX0_fits_5 : decode cX0_fits 5 = .ok (.istore_n 2, 1) := dk_61 (dk_at dksX0_fits_0 5 rfl rfl)
theorem dX0_fits_6 : decode cX0_fits 6 = .ok (.iload_n 2, 1) := dk_28 (dk_at dksX0_fits_0 6 rfl rfl)
theorem dX0_fits_7 : decode cX0_fits 7 = .ok (.ifCond .eq 5, 3) := dk_153 0 5 (dk_at dksX0_fits_0 7 rfl rfl)
theorem dX0_fits_10 : decode cX0_fits 10 = .ok (.iload_n 2, 1) := dk_28 (dk_at dksX0_fits_0 10 rfl rfl)
theorem dX0_fits_11 : decode cX0_fits 11 = .ok (.ireturn, 1) := dk_172 (dk_at dksX0_fits_0 11 rfl rfl)
theorem dX0_fits_12 : decode cX0_fits 12 = .ok (.iconst 0, 1) := dk_3 (dk_at dksX0_fits_0 12 rfl rfl)
theorem dX0_fits_13 : decode cX0_fits 13 = .ok (.istore_n 3, 1) := dk_62 (dk_at dksX0_fits_0 13 rfl rfl)
theorem dX0_fits_14 : decode cX0_fits 14 = .ok (.iconst 0, 1) := dk_3 (dk_at dksX0_fits_0 14 rfl rfl)
theorem dX0_fits_15 : decode cX0_fits 15 = .ok (.istore 4, 2) := dk_54 4 (dk_at dksX0_fits_0 15 rfl rfl)
theorem dX0_fits_17 : decode cX0_fits 17 = .ok (.iload 4, 2) := dk_21 4 (dk_at dksX0_fits_0 17 rfl rfl)
theorem dX0_fits_19 : decode cX0_fits 19 = .ok (.aload_n 0, 1) := dk_42 (dk_at dksX0_fits_0 19 rfl rfl)
theorem dX0_fits_20 : decode cX0_fits 20 = .ok (.invokevirtual 152, 3) := dk_182 0 152 (dk_at dksX0_fits_0 20 rfl rfl)
theorem dX0_fits_23 : decode cX0_fits 23 = .ok (.if_icmp .ge 32, 3) := dk_162 0 32 (dk_at dksX0_fits_1 0 rfl rfl)
theorem dX0_fits_26 : decode cX0_fits 26 = .ok (.iload_n 3, 1) := dk_29 (dk_at dksX0_fits_1 3 rfl rfl)
theorem dX0_fits_27 : decode cX0_fits 27 = .ok (.aload_n 0, 1) := dk_42 (dk_at dksX0_fits_1 4 rfl rfl)
theorem dX0_fits_28 : decode cX0_fits 28 = .ok (.aload_n 0, 1) := dk_42 (dk_at dksX0_fits_1 5 rfl rfl)
theorem dX0_fits_29 : decode cX0_fits 29 = .ok (.getfield 13, 3) := dk_180 0 13 (dk_at dksX0_fits_1 6 rfl rfl)
theorem dX0_fits_32 : decode cX0_fits 32 = .ok (.iload_n 1, 1) := dk_27 (dk_at dksX0_fits_1 9 rfl rfl)
theorem dX0_fits_33 : decode cX0_fits 33 = .ok (.aaload, 1) := dk_50 (dk_at dksX0_fits_1 10 rfl rfl)
theorem dX0_fits_34 : decode cX0_fits 34 = .ok (.iload 4, 2) := dk_21 4 (dk_at dksX0_fits_1 11 rfl rfl)
theorem dX0_fits_36 : decode cX0_fits 36 = .ok (.invokevirtual 392, 3) := dk_182 1 136 (dk_at dksX0_fits_1 13 rfl rfl)
theorem dX0_fits_39 : decode cX0_fits 39 = .ok (.ifCond .eq 7, 3) := dk_153 0 7 (dk_at dksX0_fits_1 16 rfl rfl)
theorem dX0_fits_42 : decode cX0_fits 42 = .ok (.iconst 1, 1) := dk_4 (dk_at dksX0_fits_1 19 rfl rfl)
theorem dX0_fits_43 : decode cX0_fits 43 = .ok (.goto 4, 3) := dk_167 0 4 (dk_at dksX0_fits_1 20 rfl rfl)
theorem dX0_fits_46 : decode cX0_fits 46 = .ok (.iconst 0, 1) := dk_3 (dk_at dksX0_fits_1 23 rfl rfl)
theorem dX0_fits_47 : decode cX0_fits 47 = .ok (.iadd, 1) := dk_96 (dk_at dksX0_fits_2 0 rfl rfl)
theorem dX0_fits_48 : decode cX0_fits 48 = .ok (.istore_n 3, 1) := dk_62 (dk_at dksX0_fits_2 1 rfl rfl)
theorem dX0_fits_49 : decode cX0_fits 49 = .ok (.iinc 4 1, 3) := dk_132 4 1 (dk_at dksX0_fits_2 2 rfl rfl)
theorem dX0_fits_52 : decode cX0_fits 52 = .ok (.goto (-35), 3) := dk_167 255 221 (dk_at dksX0_fits_2 5 rfl rfl)
theorem dX0_fits_55 : decode cX0_fits 55 = .ok (.iload_n 3, 1) := dk_29 (dk_at dksX0_fits_2 8 rfl rfl)
theorem dX0_fits_56 : decode cX0_fits 56 = .ok (.ireturn, 1) := dk_172 (dk_at dksX0_fits_2 9 rfl rfl)
abbrev cX0_isFit : ByteArray := prog_1_method_71_code
def yX0_isFit : MethodName := ⟨RX0, "isFit", "(LMoleBoard$Slot;I)Z"⟩
def dkwX0_isFit_1 : List UInt8 := [153, 0, 5, 3, 172, 132, 3, 1, 167, 255, 226, 4, 172]
abbrev dktX0_isFit_1 : List UInt8 := dkwX0_isFit_1 ++ []
def dkwX0_isFit_0 : List UInt8 := [3, 62, 29, 43, 182, 1, 118, 162, 0, 28, 42, 28, 29, 96, 182, 1, 107, 133, 43, 29, 182, 1, 120, 148]
abbrev dktX0_isFit_0 : List UInt8 := dkwX0_isFit_0 ++ dktX0_isFit_1
theorem dksX0_isFit_0 : cX0_isFit.data.toList.drop 0 = dktX0_isFit_0 := by decide +kernel
theorem dksX0_isFit_1 : cX0_isFit.data.toList.drop 24 = dktX0_isFit_1 := dk_seg dksX0_isFit_0 24 rfl rfl
theorem dX0_isFit_0 : decode cX0_isFit 0 = .ok (.iconst 0, 1) := dk_3 (dk_at dksX0_isFit_0 0 rfl rfl)
theorem dX0_isFit_1 : decode cX0_isFit 1 = .ok (.istore_n 3, 1) := dk_62 (dk_at dksX0_isFit_0 1 rfl rfl)
theorem dX0_isFit_2 : decode cX0_isFit 2 = .ok (.iload_n 3, 1) := dk_29 (dk_at dksX0_isFit_0 2 rfl rfl)
theorem dX0_isFit_3 : decode cX0_isFit 3 = .ok (.aload_n 1, 1) := dk_43 (dk_at dksX0_isFit_0 3 rfl rfl)
theorem dX0_isFit_4 : decode cX0_isFit 4 = .ok (.invokevirtual 374, 3) := dk_182 1 118 (dk_at dksX0_isFit_0 4 rfl rfl)
theorem dX0_isFit_7 : decode cX0_isFit 7 = .ok (.if_icmp .ge 28, 3) := dk_162 0 28 (dk_at dksX0_isFit_0 7 rfl rfl)
theorem dX0_isFit_10 : decode cX0_isFit 10 = .ok (.aload_n 0, 1) := dk_42 (dk_at dksX0_isFit_0 10 rfl rfl)
theorem dX0_isFit_11 : decode cX0_isFit 11 = .ok (.iload_n 2, 1) := dk_28 (dk_at dksX0_isFit_0 11 rfl rfl)
theorem dX0_isFit_12 : decode cX0_isFit 12 = .ok (.iload_n 3, 1) := dk_29 (dk_at dksX0_isFit_0 12 rfl rfl)
theorem dX0_isFit_13 : decode cX0_isFit 13 = .ok (.iadd, 1) := dk_96 (dk_at dksX0_isFit_0 13 rfl rfl)
theorem dX0_isFit_14 : decode cX0_isFit 14 = .ok (.invokevirtual 363, 3) := dk_182 1 107 (dk_at dksX0_isFit_0 14 rfl rfl)
theorem dX0_isFit_17 : decode cX0_isFit 17 = .ok (.i2l, 1) := dk_133 (dk_at dksX0_isFit_0 17 rfl rfl)
theorem dX0_isFit_18 : decode cX0_isFit 18 = .ok (.aload_n 1, 1) := dk_43 (dk_at dksX0_isFit_0 18 rfl rfl)
theorem dX0_isFit_19 : decode cX0_isFit 19 = .ok (.iload_n 3, 1) := dk_29 (dk_at dksX0_isFit_0 19 rfl rfl)
theorem dX0_isFit_20 : decode cX0_isFit 20 = .ok (.invokevirtual 376, 3) := dk_182 1 120 (dk_at dksX0_isFit_0 20 rfl rfl)
theorem dX0_isFit_23 : decode cX0_isFit 23 = .ok (.lcmp, 1) := dk_148 (dk_at dksX0_isFit_0 23 rfl rfl)
theorem dX0_isFit_24 : decode cX0_isFit 24 = .ok (.ifCond .eq 5, 3) := dk_153 0 5 (dk_at dksX0_isFit_1 0 rfl rfl)
theorem dX0_isFit_27 : decode cX0_isFit 27 = .ok (.iconst 0, 1) := dk_3 (dk_at dksX0_isFit_1 3 rfl rfl)
theorem dX0_isFit_28 : decode cX0_isFit 28 = .ok (.ireturn, 1) := dk_172 (dk_at dksX0_isFit_1 4 rfl rfl)
theorem dX0_isFit_29 : decode cX0_isFit 29 = .ok (.iinc 3 1, 3) := dk_132 3 1 (dk_at dksX0_isFit_1 5 rfl rfl)
theorem dX0_isFit_32 : decode cX0_isFit 32 = .ok (.goto (-30), 3) := dk_167 255 226 (dk_at dksX0_isFit_1 8 rfl rfl)
theorem dX0_isFit_35 : decode cX0_isFit 35 = .ok (.iconst 1, 1) := dk_4 (dk_at dksX0_isFit_1 11 rfl rfl)
theorem dX0_isFit_36 : decode cX0_isFit 36 = .ok (.ireturn, 1) := dk_172 (dk_at dksX0_isFit_1 12 rfl rfl)
abbrev cX0_place : ByteArray := prog_1_method_73_code
def yX0_place : MethodName := ⟨RX0, "place", "(II)I"⟩
def dkwX0_place_2 : List UInt8 := [154, 0, 6, 21, 5, 172, 132, 4, 255, 132, 5, 1, 167, 255, 215, 2, 172]
abbrev dktX0_place_2 : List UInt8 := dkwX0_place_2 ++ []
def dkwX0_place_1 : List UInt8 := [162, 0, 38, 42, 42, 180, 0, 13, 27, 50, 21, 5, 182, 1, 136, 154, 0, 6, 167, 0, 14, 21, 4]
abbrev dktX0_place_1 : List UInt8 := dkwX0_place_1 ++ dktX0_place_2
def dkwX0_place_0 : List UInt8 := [42, 27, 182, 1, 127, 62, 29, 153, 0, 5, 29, 172, 28, 54, 4, 3, 54, 5, 21, 5, 42, 182, 0, 152]
abbrev dktX0_place_0 : List UInt8 := dkwX0_place_0 ++ dktX0_place_1
theorem dksX0_place_0 : cX0_place.data.toList.drop 0 = dktX0_place_0 := by decide +kernel
theorem dksX0_place_1 : cX0_place.data.toList.drop 24 = dktX0_place_1 := dk_seg dksX0_place_0 24 rfl rfl
theorem dksX0_place_2 : cX0_place.data.toList.drop 47 = dktX0_place_2 := dk_seg dksX0_place_1 23 rfl rfl
theorem dX0_place_0 : decode cX0_place 0 = .ok (.aload_n 0, 1) := dk_42 (dk_at dksX0_place_0 0 rfl rfl)
theorem dX0_place_1 : decode cX0_place 1 = .ok (.iload_n 1, 1) := dk_27 (dk_at dksX0_place_0 1 rfl rfl)
theorem dX0_place_2 : decode cX0_place 2 = .ok (.invokevirtual 383, 3) := dk_182 1 127 (dk_at dksX0_place_0 2 rfl rfl)
theorem dX0_place_5 : decode cX0_place 5 = .ok (.istore_n 3, 1) := dk_62 (dk_at dksX0_place_0 5 rfl rfl)
theorem dX0_place_6 : decode cX0_place 6 = .ok (.iload_n 3, 1) := dk_29 (dk_at dksX0_place_0 6 rfl rfl)
theorem dX0_place_7 : decode cX0_place 7 = .ok (.ifCond .eq 5, 3) := dk_153 0 5 (dk_at dksX0_place_0 7 rfl rfl)
theorem dX0_place_10 : decode cX0_place 10 = .ok (.iload_n 3, 1) := dk_29 (dk_at dksX0_place_0 10 rfl rfl)
theorem dX0_place_11 : decode cX0_place 11 = .ok (.ireturn, 1) := dk_172 (dk_at dksX0_place_0 11 rfl rfl)
theorem dX0_place_12 : decode cX0_place 12 = .ok (.iload_n 2, 1) := dk_28 (dk_at dksX0_place_0 12 rfl rfl)
theorem dX0_place_13 : decode cX0_place 13 = .ok (.istore 4, 2) := dk_54 4 (dk_at dksX0_place_0 13 rfl rfl)
theorem dX0_place_15 : decode cX0_place 15 = .ok (.iconst 0, 1) := dk_3 (dk_at dksX0_place_0 15 rfl rfl)
theorem dX0_place_16 : decode cX0_place 16 = .ok (.istore 5, 2) := dk_54 5 (dk_at dksX0_place_0 16 rfl rfl)
theorem dX0_place_18 : decode cX0_place 18 = .ok (.iload 5, 2) := dk_21 5 (dk_at dksX0_place_0 18 rfl rfl)
theorem dX0_place_20 : decode cX0_place 20 = .ok (.aload_n 0, 1) := dk_42 (dk_at dksX0_place_0 20 rfl rfl)
theorem dX0_place_21 : decode cX0_place 21 = .ok (.invokevirtual 152, 3) := dk_182 0 152 (dk_at dksX0_place_0 21 rfl rfl)
theorem dX0_place_24 : decode cX0_place 24 = .ok (.if_icmp .ge 38, 3) := dk_162 0 38 (dk_at dksX0_place_1 0 rfl rfl)
theorem dX0_place_27 : decode cX0_place 27 = .ok (.aload_n 0, 1) := dk_42 (dk_at dksX0_place_1 3 rfl rfl)
theorem dX0_place_28 : decode cX0_place 28 = .ok (.aload_n 0, 1) := dk_42 (dk_at dksX0_place_1 4 rfl rfl)
theorem dX0_place_29 : decode cX0_place 29 = .ok (.getfield 13, 3) := dk_180 0 13 (dk_at dksX0_place_1 5 rfl rfl)
theorem dX0_place_32 : decode cX0_place 32 = .ok (.iload_n 1, 1) := dk_27 (dk_at dksX0_place_1 8 rfl rfl)
theorem dX0_place_33 : decode cX0_place 33 = .ok (.aaload, 1) := dk_50 (dk_at dksX0_place_1 9 rfl rfl)
theorem dX0_place_34 : decode cX0_place 34 = .ok (.iload 5, 2) := dk_21 5 (dk_at dksX0_place_1 10 rfl rfl)
theorem dX0_place_36 : decode cX0_place 36 = .ok (.invokevirtual 392, 3) := dk_182 1 136 (dk_at dksX0_place_1 12 rfl rfl)
theorem dX0_place_39 : decode cX0_place 39 = .ok (.ifCond .ne 6, 3) := dk_154 0 6 (dk_at dksX0_place_1 15 rfl rfl)
theorem dX0_place_42 : decode cX0_place 42 = .ok (.goto 14, 3) := dk_167 0 14 (dk_at dksX0_place_1 18 rfl rfl)
theorem dX0_place_45 : decode cX0_place 45 = .ok (.iload 4, 2) := dk_21 4 (dk_at dksX0_place_1 21 rfl rfl)
theorem dX0_place_47 : decode cX0_place 47 = .ok (.ifCond .ne 6, 3) := dk_154 0 6 (dk_at dksX0_place_2 0 rfl rfl)
theorem dX0_place_50 : decode cX0_place 50 = .ok (.iload 5, 2) := dk_21 5 (dk_at dksX0_place_2 3 rfl rfl)
theorem dX0_place_52 : decode cX0_place 52 = .ok (.ireturn, 1) := dk_172 (dk_at dksX0_place_2 5 rfl rfl)
theorem dX0_place_53 : decode cX0_place 53 = .ok (.iinc 4 (-1), 3) := dk_132 4 255 (dk_at dksX0_place_2 6 rfl rfl)
theorem dX0_place_56 : decode cX0_place 56 = .ok (.iinc 5 1, 3) := dk_132 5 1 (dk_at dksX0_place_2 9 rfl rfl)
theorem dX0_place_59 : decode cX0_place 59 = .ok (.goto (-41), 3) := dk_167 255 215 (dk_at dksX0_place_2 12 rfl rfl)
theorem dX0_place_62 : decode cX0_place 62 = .ok (.iconst (-1), 1) := dk_2 (dk_at dksX0_place_2 15 rfl rfl)
theorem dX0_place_63 : decode cX0_place 63 = .ok (.ireturn, 1) := dk_172 (dk_at dksX0_place_2 16 rfl rfl)
abbrev cX0_next : ByteArray := prog_1_method_74_code
def yX0_next : MethodName := ⟨RX0, "next", "(I)I"⟩
def dkwX0_next_3 : List UInt8 := [159, 0, 5, 2, 172, 21, 5, 62, 132, 4, 1, 167, 255, 192, 29, 172]
abbrev dktX0_next_3 : List UInt8 := dkwX0_next_3 ++ []
def dkwX0_next_2 : List UInt8 := [42, 180, 0, 13, 27, 50, 182, 1, 118, 96, 182, 1, 107, 54, 5, 29, 2, 159, 0, 11, 29, 21, 5]
abbrev dktX0_next_2 : List UInt8 := dkwX0_next_2 ++ dktX0_next_3
def dkwX0_next_1 : List UInt8 := [162, 0, 61, 42, 42, 180, 0, 13, 27, 50, 21, 4, 182, 1, 136, 154, 0, 6, 167, 0, 37, 42, 21, 4]
abbrev dktX0_next_1 : List UInt8 := dkwX0_next_1 ++ dktX0_next_2
def dkwX0_next_0 : List UInt8 := [42, 27, 182, 1, 127, 61, 28, 153, 0, 5, 28, 172, 2, 62, 3, 54, 4, 21, 4, 42, 182, 0, 152]
abbrev dktX0_next_0 : List UInt8 := dkwX0_next_0 ++ dktX0_next_1
theorem dksX0_next_0 : cX0_next.data.toList.drop 0 = dktX0_next_0 := by decide +kernel
theorem dksX0_next_1 : cX0_next.data.toList.drop 23 = dktX0_next_1 := dk_seg dksX0_next_0 23 rfl rfl
theorem dksX0_next_2 : cX0_next.data.toList.drop 47 = dktX0_next_2 := dk_seg dksX0_next_1 24 rfl rfl
theorem dksX0_next_3 : cX0_next.data.toList.drop 70 = dktX0_next_3 := dk_seg dksX0_next_2 23 rfl rfl
theorem dX0_next_0 : decode cX0_next 0 = .ok (.aload_n 0, 1) := dk_42 (dk_at dksX0_next_0 0 rfl rfl)
theorem dX0_next_1 : decode cX0_next 1 = .ok (.iload_n 1, 1) := dk_27 (dk_at dksX0_next_0 1 rfl rfl)
theorem dX0_next_2 : decode cX0_next 2 = .ok (.invokevirtual 383, 3) := dk_182 1 127 (dk_at dksX0_next_0 2 rfl rfl)
theorem dX0_next_5 : decode cX0_next 5 = .ok (.istore_n 2, 1) := dk_61 (dk_at dksX0_next_0 5 rfl rfl)
theorem dX0_next_6 : decode cX0_next 6 = .ok (.iload_n 2, 1) := dk_28 (dk_at dksX0_next_0 6 rfl rfl)
theorem dX0_next_7 : decode cX0_next 7 = .ok (.ifCond .eq 5, 3) := dk_153 0 5 (dk_at dksX0_next_0 7 rfl rfl)
theorem dX0_next_10 : decode cX0_next 10 = .ok (.iload_n 2, 1) := dk_28 (dk_at dksX0_next_0 10 rfl rfl)
theorem dX0_next_11 : decode cX0_next 11 = .ok (.ireturn, 1) := dk_172 (dk_at dksX0_next_0 11 rfl rfl)
theorem dX0_next_12 : decode cX0_next 12 = .ok (.iconst (-1), 1) := dk_2 (dk_at dksX0_next_0 12 rfl rfl)
theorem dX0_next_13 : decode cX0_next 13 = .ok (.istore_n 3, 1) := dk_62 (dk_at dksX0_next_0 13 rfl rfl)
theorem dX0_next_14 : decode cX0_next 14 = .ok (.iconst 0, 1) := dk_3 (dk_at dksX0_next_0 14 rfl rfl)
theorem dX0_next_15 : decode cX0_next 15 = .ok (.istore 4, 2) := dk_54 4 (dk_at dksX0_next_0 15 rfl rfl)
theorem dX0_next_17 : decode cX0_next 17 = .ok (.iload 4, 2) := dk_21 4 (dk_at dksX0_next_0 17 rfl rfl)
theorem dX0_next_19 : decode cX0_next 19 = .ok (.aload_n 0, 1) := dk_42 (dk_at dksX0_next_0 19 rfl rfl)
theorem dX0_next_20 : decode cX0_next 20 = .ok (.invokevirtual 152, 3) := dk_182 0 152 (dk_at dksX0_next_0 20 rfl rfl)
theorem dX0_next_23 : decode cX0_next 23 = .ok (.if_icmp .ge 61, 3) := dk_162 0 61 (dk_at dksX0_next_1 0 rfl rfl)
theorem dX0_next_26 : decode cX0_next 26 = .ok (.aload_n 0, 1) := dk_42 (dk_at dksX0_next_1 3 rfl rfl)
theorem dX0_next_27 : decode cX0_next 27 = .ok (.aload_n 0, 1) := dk_42 (dk_at dksX0_next_1 4 rfl rfl)
theorem dX0_next_28 : decode cX0_next 28 = .ok (.getfield 13, 3) := dk_180 0 13 (dk_at dksX0_next_1 5 rfl rfl)
theorem dX0_next_31 : decode cX0_next 31 = .ok (.iload_n 1, 1) := dk_27 (dk_at dksX0_next_1 8 rfl rfl)
theorem dX0_next_32 : decode cX0_next 32 = .ok (.aaload, 1) := dk_50 (dk_at dksX0_next_1 9 rfl rfl)
theorem dX0_next_33 : decode cX0_next 33 = .ok (.iload 4, 2) := dk_21 4 (dk_at dksX0_next_1 10 rfl rfl)
theorem dX0_next_35 : decode cX0_next 35 = .ok (.invokevirtual 392, 3) := dk_182 1 136 (dk_at dksX0_next_1 12 rfl rfl)
theorem dX0_next_38 : decode cX0_next 38 = .ok (.ifCond .ne 6, 3) := dk_154 0 6 (dk_at dksX0_next_1 15 rfl rfl)
theorem dX0_next_41 : decode cX0_next 41 = .ok (.goto 37, 3) := dk_167 0 37 (dk_at dksX0_next_1 18 rfl rfl)
theorem dX0_next_44 : decode cX0_next 44 = .ok (.aload_n 0, 1) := dk_42 (dk_at dksX0_next_1 21 rfl rfl)
theorem dX0_next_45 : decode cX0_next 45 = .ok (.iload 4, 2) := dk_21 4 (dk_at dksX0_next_1 22 rfl rfl)
theorem dX0_next_47 : decode cX0_next 47 = .ok (.aload_n 0, 1) := dk_42 (dk_at dksX0_next_2 0 rfl rfl)
theorem dX0_next_48 : decode cX0_next 48 = .ok (.getfield 13, 3) := dk_180 0 13 (dk_at dksX0_next_2 1 rfl rfl)
theorem dX0_next_51 : decode cX0_next 51 = .ok (.iload_n 1, 1) := dk_27 (dk_at dksX0_next_2 4 rfl rfl)
theorem dX0_next_52 : decode cX0_next 52 = .ok (.aaload, 1) := dk_50 (dk_at dksX0_next_2 5 rfl rfl)
theorem dX0_next_53 : decode cX0_next 53 = .ok (.invokevirtual 374, 3) := dk_182 1 118 (dk_at dksX0_next_2 6 rfl rfl)
theorem dX0_next_56 : decode cX0_next 56 = .ok (.iadd, 1) := dk_96 (dk_at dksX0_next_2 9 rfl rfl)
theorem dX0_next_57 : decode cX0_next 57 = .ok (.invokevirtual 363, 3) := dk_182 1 107 (dk_at dksX0_next_2 10 rfl rfl)
theorem dX0_next_60 : decode cX0_next 60 = .ok (.istore 5, 2) := dk_54 5 (dk_at dksX0_next_2 13 rfl rfl)
theorem dX0_next_62 : decode cX0_next 62 = .ok (.iload_n 3, 1) := dk_29 (dk_at dksX0_next_2 15 rfl rfl)
theorem dX0_next_63 : decode cX0_next 63 = .ok (.iconst (-1), 1) := dk_2 (dk_at dksX0_next_2 16 rfl rfl)
theorem dX0_next_64 : decode cX0_next 64 = .ok (.if_icmp .eq 11, 3) := dk_159 0 11 (dk_at dksX0_next_2 17 rfl rfl)
theorem dX0_next_67 : decode cX0_next 67 = .ok (.iload_n 3, 1) := dk_29 (dk_at dksX0_next_2 20 rfl rfl)
theorem dX0_next_68 : decode cX0_next 68 = .ok (.iload 5, 2) := dk_21 5 (dk_at dksX0_next_2 21 rfl rfl)
theorem dX0_next_70 : decode cX0_next 70 = .ok (.if_icmp .eq 5, 3) := dk_159 0 5 (dk_at dksX0_next_3 0 rfl rfl)
theorem dX0_next_73 : decode cX0_next 73 = .ok (.iconst (-1), 1) := dk_2 (dk_at dksX0_next_3 3 rfl rfl)
theorem dX0_next_74 : decode cX0_next 74 = .ok (.ireturn, 1) := dk_172 (dk_at dksX0_next_3 4 rfl rfl)
theorem dX0_next_75 : decode cX0_next 75 = .ok (.iload 5, 2) := dk_21 5 (dk_at dksX0_next_3 5 rfl rfl)
theorem dX0_next_77 : decode cX0_next 77 = .ok (.istore_n 3, 1) := dk_62 (dk_at dksX0_next_3 7 rfl rfl)
theorem dX0_next_78 : decode cX0_next 78 = .ok (.iinc 4 1, 3) := dk_132 4 1 (dk_at dksX0_next_3 8 rfl rfl)
theorem dX0_next_81 : decode cX0_next 81 = .ok (.goto (-64), 3) := dk_167 255 192 (dk_at dksX0_next_3 11 rfl rfl)
theorem dX0_next_84 : decode cX0_next 84 = .ok (.iload_n 3, 1) := dk_29 (dk_at dksX0_next_3 14 rfl rfl)
theorem dX0_next_85 : decode cX0_next 85 = .ok (.ireturn, 1) := dk_172 (dk_at dksX0_next_3 15 rfl rfl)
abbrev cX0_needed : ByteArray := prog_1_method_76_code
def yX0_needed : MethodName := ⟨RX0, "needed", "(I)I"⟩
def dkwX0_needed_0 : List UInt8 := [42, 27, 182, 0, 180, 153, 0, 11, 42, 27, 182, 1, 139, 167, 0, 5, 16, 254, 172]
abbrev dktX0_needed_0 : List UInt8 := dkwX0_needed_0 ++ []
theorem dksX0_needed_0 : cX0_needed.data.toList.drop 0 = dktX0_needed_0 := by decide +kernel
theorem dX0_needed_0 : decode cX0_needed 0 = .ok (.aload_n 0, 1) := dk_42 (dk_at dksX0_needed_0 0 rfl rfl)
theorem dX0_needed_1 : decode cX0_needed 1 = .ok (.iload_n 1, 1) := dk_27 (dk_at dksX0_needed_0 1 rfl rfl)
theorem dX0_needed_2 : decode cX0_needed 2 = .ok (.invokevirtual 180, 3) := dk_182 0 180 (dk_at dksX0_needed_0 2 rfl rfl)
theorem dX0_needed_5 : decode cX0_needed 5 = .ok (.ifCond .eq 11, 3) := dk_153 0 11 (dk_at dksX0_needed_0 5 rfl rfl)
theorem dX0_needed_8 : decode cX0_needed 8 = .ok (.aload_n 0, 1) := dk_42 (dk_at dksX0_needed_0 8 rfl rfl)
theorem dX0_needed_9 : decode cX0_needed 9 = .ok (.iload_n 1, 1) := dk_27 (dk_at dksX0_needed_0 9 rfl rfl)
theorem dX0_needed_10 : decode cX0_needed 10 = .ok (.invokevirtual 395, 3) := dk_182 1 139 (dk_at dksX0_needed_0 10 rfl rfl)
theorem dX0_needed_13 : decode cX0_needed 13 = .ok (.goto 5, 3) := dk_167 0 5 (dk_at dksX0_needed_0 13 rfl rfl)
theorem dX0_needed_16 : decode cX0_needed 16 = .ok (.bipush (-2), 2) := dk_16 254 (dk_at dksX0_needed_0 16 rfl rfl)
theorem dX0_needed_18 : decode cX0_needed 18 = .ok (.ireturn, 1) := dk_172 (dk_at dksX0_needed_0 18 rfl rfl)
abbrev cX0_neededOf : ByteArray := prog_1_method_75_code
def yX0_neededOf : MethodName := ⟨RX0, "neededOf", "(I)I"⟩
def dkwX0_neededOf_4 : List UInt8 := [21, 4, 4, 160, 0, 5, 29, 172, 132, 3, 1, 167, 255, 157, 2, 172]
abbrev dktX0_neededOf_4 : List UInt8 := dkwX0_neededOf_4 ++ []
def dkwX0_neededOf_3 : List UInt8 := [167, 255, 215, 21, 4, 21, 6, 153, 0, 7, 4, 167, 0, 4, 3, 96, 54, 4, 132, 5, 1, 167, 255, 182]
abbrev dktX0_neededOf_3 : List UInt8 := dkwX0_neededOf_3 ++ dktX0_neededOf_4
def dkwX0_neededOf_2 : List UInt8 := [182, 1, 107, 42, 27, 21, 7, 96, 182, 1, 107, 160, 0, 7, 4, 167, 0, 4, 3, 54, 6, 132, 7, 1]
abbrev dktX0_neededOf_2 : List UInt8 := dkwX0_neededOf_2 ++ dktX0_neededOf_3
def dkwX0_neededOf_1 : List UInt8 := [4, 54, 6, 3, 54, 7, 21, 7, 29, 162, 0, 41, 21, 6, 153, 0, 36, 42, 21, 5, 21, 7, 96]
abbrev dktX0_neededOf_1 : List UInt8 := dkwX0_neededOf_1 ++ dktX0_neededOf_2
def dkwX0_neededOf_0 : List UInt8 := [42, 182, 0, 152, 61, 3, 62, 29, 28, 163, 0, 100, 3, 54, 4, 3, 54, 5, 21, 5, 28, 162, 0, 74]
abbrev dktX0_neededOf_0 : List UInt8 := dkwX0_neededOf_0 ++ dktX0_neededOf_1
theorem dksX0_neededOf_0 : cX0_neededOf.data.toList.drop 0 = dktX0_neededOf_0 := by decide +kernel
theorem dksX0_neededOf_1 : cX0_neededOf.data.toList.drop 24 = dktX0_neededOf_1 := dk_seg dksX0_neededOf_0 24 rfl rfl
theorem dksX0_neededOf_2 : cX0_neededOf.data.toList.drop 47 = dktX0_neededOf_2 := dk_seg dksX0_neededOf_1 23 rfl rfl
theorem dksX0_neededOf_3 : cX0_neededOf.data.toList.drop 71 = dktX0_neededOf_3 := dk_seg dksX0_neededOf_2 24 rfl rfl
theorem dksX0_neededOf_4 : cX0_neededOf.data.toList.drop 95 = dktX0_neededOf_4 := dk_seg dksX0_neededOf_3 24 rfl rfl
theorem dX0_neededOf_0 : decode cX0_neededOf 0 = .ok (.aload_n 0, 1) := dk_42 (dk_at dksX0_neededOf_0 0 rfl rfl)
theorem dX0_neededOf_1 : decode cX0_neededOf 1 = .ok (.invokevirtual 152, 3) := dk_182 0 152 (dk_at dksX0_neededOf_0 1 rfl rfl)
theorem dX0_neededOf_4 : decode cX0_neededOf 4 = .ok (.istore_n 2, 1) := dk_61 (dk_at dksX0_neededOf_0 4 rfl rfl)
theorem dX0_neededOf_5 : decode cX0_neededOf 5 = .ok (.iconst 0, 1) := dk_3 (dk_at dksX0_neededOf_0 5 rfl rfl)
theorem dX0_neededOf_6 : decode cX0_neededOf 6 = .ok (.istore_n 3, 1) := dk_62 (dk_at dksX0_neededOf_0 6 rfl rfl)
theorem dX0_neededOf_7 : decode cX0_neededOf 7 = .ok (.iload_n 3, 1) := dk_29 (dk_at dksX0_neededOf_0 7 rfl rfl)
theorem dX0_neededOf_8 : decode cX0_neededOf 8 = .ok (.iload_n 2, 1) := dk_28 (dk_at dksX0_neededOf_0 8 rfl rfl)
theorem dX0_neededOf_9 : decode cX0_neededOf 9 = .ok (.if_icmp .gt 100, 3) := dk_163 0 100 (dk_at dksX0_neededOf_0 9 rfl rfl)
theorem dX0_neededOf_12 : decode cX0_neededOf 12 = .ok (.iconst 0, 1) := dk_3 (dk_at dksX0_neededOf_0 12 rfl rfl)
theorem dX0_neededOf_13 : decode cX0_neededOf 13 = .ok (.istore 4, 2) := dk_54 4 (dk_at dksX0_neededOf_0 13 rfl rfl)
theorem dX0_neededOf_15 : decode cX0_neededOf 15 = .ok (.iconst 0, 1) := dk_3 (dk_at dksX0_neededOf_0 15 rfl rfl)
theorem dX0_neededOf_16 : decode cX0_neededOf 16 = .ok (.istore 5, 2) := dk_54 5 (dk_at dksX0_neededOf_0 16 rfl rfl)
theorem dX0_neededOf_18 : decode cX0_neededOf 18 = .ok (.iload 5, 2) := dk_21 5 (dk_at dksX0_neededOf_0 18 rfl rfl)
theorem dX0_neededOf_20 : decode cX0_neededOf 20 = .ok (.iload_n 2, 1) := dk_28 (dk_at dksX0_neededOf_0 20 rfl rfl)
theorem dX0_neededOf_21 : decode cX0_neededOf 21 = .ok (.if_icmp .ge 74, 3) := dk_162 0 74 (dk_at dksX0_neededOf_0 21 rfl rfl)
theorem dX0_neededOf_24 : decode cX0_neededOf 24 = .ok (.iconst 1, 1) := dk_4 (dk_at dksX0_neededOf_1 0 rfl rfl)
theorem dX0_neededOf_25 : decode cX0_neededOf 25 = .ok (.istore 6, 2) := dk_54 6 (dk_at dksX0_neededOf_1 1 rfl rfl)
theorem dX0_neededOf_27 : decode cX0_neededOf 27 = .ok (.iconst 0, 1) := dk_3 (dk_at dksX0_neededOf_1 3 rfl rfl)
theorem dX0_neededOf_28 : decode cX0_neededOf 28 = .ok (.istore 7, 2) := dk_54 7 (dk_at dksX0_neededOf_1 4 rfl rfl)
theorem dX0_neededOf_30 : decode cX0_neededOf 30 = .ok (.iload 7, 2) := dk_21 7 (dk_at dksX0_neededOf_1 6 rfl rfl)
theorem dX0_neededOf_32 : decode cX0_neededOf 32 = .ok (.iload_n 3, 1) := dk_29 (dk_at dksX0_neededOf_1 8 rfl rfl)
theorem dX0_neededOf_33 : decode cX0_neededOf 33 = .ok (.if_icmp .ge 41, 3) := dk_162 0 41 (dk_at dksX0_neededOf_1 9 rfl rfl)
theorem dX0_neededOf_36 : decode cX0_neededOf 36 = .ok (.iload 6, 2) := dk_21 6 (dk_at dksX0_neededOf_1 12 rfl rfl)
theorem dX0_neededOf_38 : decode cX0_neededOf 38 = .ok (.ifCond .eq 36, 3) := dk_153 0 36 (dk_at dksX0_neededOf_1 14 rfl rfl)
theorem dX0_neededOf_41 : decode cX0_neededOf 41 = .ok (.aload_n 0, 1) := dk_42 (dk_at dksX0_neededOf_1 17 rfl rfl)
theorem dX0_neededOf_42 : decode cX0_neededOf 42 = .ok (.iload 5, 2) := dk_21 5 (dk_at dksX0_neededOf_1 18 rfl rfl)
theorem dX0_neededOf_44 : decode cX0_neededOf 44 = .ok (.iload 7, 2) := dk_21 7 (dk_at dksX0_neededOf_1 20 rfl rfl)
theorem dX0_neededOf_46 : decode cX0_neededOf 46 = .ok (.iadd, 1) := dk_96 (dk_at dksX0_neededOf_1 22 rfl rfl)
theorem dX0_neededOf_47 : decode cX0_neededOf 47 = .ok (.invokevirtual 363, 3) := dk_182 1 107 (dk_at dksX0_neededOf_2 0 rfl rfl)
theorem dX0_neededOf_50 : decode cX0_neededOf 50 = .ok (.aload_n 0, 1) := dk_42 (dk_at dksX0_neededOf_2 3 rfl rfl)
theorem dX0_neededOf_51 : decode cX0_neededOf 51 = .ok (.iload_n 1, 1) := dk_27 (dk_at dksX0_neededOf_2 4 rfl rfl)
theorem dX0_neededOf_52 : decode cX0_neededOf 52 = .ok (.iload 7, 2) := dk_21 7 (dk_at dksX0_neededOf_2 5 rfl rfl)
theorem dX0_neededOf_54 : decode cX0_neededOf 54 = .ok (.iadd, 1) := dk_96 (dk_at dksX0_neededOf_2 7 rfl rfl)
theorem dX0_neededOf_55 : decode cX0_neededOf 55 = .ok (.invokevirtual 363, 3) := dk_182 1 107 (dk_at dksX0_neededOf_2 8 rfl rfl)
theorem dX0_neededOf_58 : decode cX0_neededOf 58 = .ok (.if_icmp .ne 7, 3) := dk_160 0 7 (dk_at dksX0_neededOf_2 11 rfl rfl)
theorem dX0_neededOf_61 : decode cX0_neededOf 61 = .ok (.iconst 1, 1) := dk_4 (dk_at dksX0_neededOf_2 14 rfl rfl)
theorem dX0_neededOf_62 : decode cX0_neededOf 62 = .ok (.goto 4, 3) := dk_167 0 4 (dk_at dksX0_neededOf_2 15 rfl rfl)
theorem dX0_neededOf_65 : decode cX0_neededOf 65 = .ok (.iconst 0, 1) := dk_3 (dk_at dksX0_neededOf_2 18 rfl rfl)
theorem dX0_neededOf_66 : decode cX0_neededOf 66 = .ok (.istore 6, 2) := dk_54 6 (dk_at dksX0_neededOf_2 19 rfl rfl)
theorem dX0_neededOf_68 : decode cX0_neededOf 68 = .ok (.iinc 7 1, 3) := dk_132 7 1 (dk_at dksX0_neededOf_2 21 rfl rfl)
theorem dX0_neededOf_71 : decode cX0_neededOf 71 = .ok (.goto (-41), 3) := dk_167 255 215 (dk_at dksX0_neededOf_3 0 rfl rfl)
theorem dX0_neededOf_74 : decode cX0_neededOf 74 = .ok (.iload 4, 2) := dk_21 4 (dk_at dksX0_neededOf_3 3 rfl rfl)
theorem dX0_neededOf_76 : decode cX0_neededOf 76 = .ok (.iload 6, 2) := dk_21 6 (dk_at dksX0_neededOf_3 5 rfl rfl)
theorem dX0_neededOf_78 : decode cX0_neededOf 78 = .ok (.ifCond .eq 7, 3) := dk_153 0 7 (dk_at dksX0_neededOf_3 7 rfl rfl)
theorem dX0_neededOf_81 : decode cX0_neededOf 81 = .ok (.iconst 1, 1) := dk_4 (dk_at dksX0_neededOf_3 10 rfl rfl)
theorem dX0_neededOf_82 : decode cX0_neededOf 82 = .ok (.goto 4, 3) := dk_167 0 4 (dk_at dksX0_neededOf_3 11 rfl rfl)
theorem dX0_neededOf_85 : decode cX0_neededOf 85 = .ok (.iconst 0, 1) := dk_3 (dk_at dksX0_neededOf_3 14 rfl rfl)
theorem dX0_neededOf_86 : decode cX0_neededOf 86 = .ok (.iadd, 1) := dk_96 (dk_at dksX0_neededOf_3 15 rfl rfl)
theorem dX0_neededOf_87 : decode cX0_neededOf 87 = .ok (.istore 4, 2) := dk_54 4 (dk_at dksX0_neededOf_3 16 rfl rfl)
theorem dX0_neededOf_89 : decode cX0_neededOf 89 = .ok (.iinc 5 1, 3) := dk_132 5 1 (dk_at dksX0_neededOf_3 18 rfl rfl)
theorem dX0_neededOf_92 : decode cX0_neededOf 92 = .ok (.goto (-74), 3) := dk_167 255 182 (dk_at dksX0_neededOf_3 21 rfl rfl)
theorem dX0_neededOf_95 : decode cX0_neededOf 95 = .ok (.iload 4, 2) := dk_21 4 (dk_at dksX0_neededOf_4 0 rfl rfl)
theorem dX0_neededOf_97 : decode cX0_neededOf 97 = .ok (.iconst 1, 1) := dk_4 (dk_at dksX0_neededOf_4 2 rfl rfl)
theorem dX0_neededOf_98 : decode cX0_neededOf 98 = .ok (.if_icmp .ne 5, 3) := dk_160 0 5 (dk_at dksX0_neededOf_4 3 rfl rfl)
theorem dX0_neededOf_101 : decode cX0_neededOf 101 = .ok (.iload_n 3, 1) := dk_29 (dk_at dksX0_neededOf_4 6 rfl rfl)
theorem dX0_neededOf_102 : decode cX0_neededOf 102 = .ok (.ireturn, 1) := dk_172 (dk_at dksX0_neededOf_4 7 rfl rfl)
theorem dX0_neededOf_103 : decode cX0_neededOf 103 = .ok (.iinc 3 1, 3) := dk_132 3 1 (dk_at dksX0_neededOf_4 8 rfl rfl)
theorem dX0_neededOf_106 : decode cX0_neededOf 106 = .ok (.goto (-99), 3) := dk_167 255 157 (dk_at dksX0_neededOf_4 11 rfl rfl)
theorem dX0_neededOf_109 : decode cX0_neededOf 109 = .ok (.iconst (-1), 1) := dk_2 (dk_at dksX0_neededOf_4 14 rfl rfl)
theorem dX0_neededOf_110 : decode cX0_neededOf 110 = .ok (.ireturn, 1) := dk_172 (dk_at dksX0_neededOf_4 15 rfl rfl)
abbrev cX0_known : ByteArray := prog_1_method_77_code
def yX0_known : MethodName := ⟨RX0, "known", "()I"⟩
def dkwX0_known_2 : List UInt8 := [132, 2, 1, 167, 255, 226, 27, 172]
abbrev dktX0_known_2 : List UInt8 := dkwX0_known_2 ++ []
def dkwX0_known_1 : List UInt8 := [162, 0, 28, 42, 28, 182, 1, 139, 62, 29, 2, 160, 0, 5, 2, 172, 27, 29, 184, 1, 142, 60]
abbrev dktX0_known_1 : List UInt8 := dkwX0_known_1 ++ dktX0_known_2
def dkwX0_known_0 : List UInt8 := [42, 180, 0, 41, 182, 0, 113, 154, 0, 6, 16, 254, 172, 2, 60, 3, 61, 28, 42, 182, 0, 152]
abbrev dktX0_known_0 : List UInt8 := dkwX0_known_0 ++ dktX0_known_1
theorem dksX0_known_0 : cX0_known.data.toList.drop 0 = dktX0_known_0 := by decide +kernel
theorem dksX0_known_1 : cX0_known.data.toList.drop 22 = dktX0_known_1 := dk_seg dksX0_known_0 22 rfl rfl
theorem dksX0_known_2 : cX0_known.data.toList.drop 44 = dktX0_known_2 := dk_seg dksX0_known_1 22 rfl rfl
theorem dX0_known_0 : decode cX0_known 0 = .ok (.aload_n 0, 1) := dk_42 (dk_at dksX0_known_0 0 rfl rfl)
theorem dX0_known_1 : decode cX0_known 1 = .ok (.getfield 41, 3) := dk_180 0 41 (dk_at dksX0_known_0 1 rfl rfl)
theorem dX0_known_4 : decode cX0_known 4 = .ok (.invokevirtual 113, 3) := dk_182 0 113 (dk_at dksX0_known_0 4 rfl rfl)
theorem dX0_known_7 : decode cX0_known 7 = .ok (.ifCond .ne 6, 3) := dk_154 0 6 (dk_at dksX0_known_0 7 rfl rfl)
theorem dX0_known_10 : decode cX0_known 10 = .ok (.bipush (-2), 2) := dk_16 254 (dk_at dksX0_known_0 10 rfl rfl)
theorem dX0_known_12 : decode cX0_known 12 = .ok (.ireturn, 1) := dk_172 (dk_at dksX0_known_0 12 rfl rfl)
theorem dX0_known_13 : decode cX0_known 13 = .ok (.iconst (-1), 1) := dk_2 (dk_at dksX0_known_0 13 rfl rfl)
theorem dX0_known_14 : decode cX0_known 14 = .ok (.istore_n 1, 1) := dk_60 (dk_at dksX0_known_0 14 rfl rfl)
theorem dX0_known_15 : decode cX0_known 15 = .ok (.iconst 0, 1) := dk_3 (dk_at dksX0_known_0 15 rfl rfl)
theorem dX0_known_16 : decode cX0_known 16 = .ok (.istore_n 2, 1) := dk_61 (dk_at dksX0_known_0 16 rfl rfl)
theorem dX0_known_17 : decode cX0_known 17 = .ok (.iload_n 2, 1) := dk_28 (dk_at dksX0_known_0 17 rfl rfl)
theorem dX0_known_18 : decode cX0_known 18 = .ok (.aload_n 0, 1) := dk_42 (dk_at dksX0_known_0 18 rfl rfl)
theorem dX0_known_19 : decode cX0_known 19 = .ok (.invokevirtual 152, 3) := dk_182 0 152 (dk_at dksX0_known_0 19 rfl rfl)
theorem dX0_known_22 : decode cX0_known 22 = .ok (.if_icmp .ge 28, 3) := dk_162 0 28 (dk_at dksX0_known_1 0 rfl rfl)
theorem dX0_known_25 : decode cX0_known 25 = .ok (.aload_n 0, 1) := dk_42 (dk_at dksX0_known_1 3 rfl rfl)
theorem dX0_known_26 : decode cX0_known 26 = .ok (.iload_n 2, 1) := dk_28 (dk_at dksX0_known_1 4 rfl rfl)
theorem dX0_known_27 : decode cX0_known 27 = .ok (.invokevirtual 395, 3) := dk_182 1 139 (dk_at dksX0_known_1 5 rfl rfl)
theorem dX0_known_30 : decode cX0_known 30 = .ok (.istore_n 3, 1) := dk_62 (dk_at dksX0_known_1 8 rfl rfl)
theorem dX0_known_31 : decode cX0_known 31 = .ok (.iload_n 3, 1) := dk_29 (dk_at dksX0_known_1 9 rfl rfl)
theorem dX0_known_32 : decode cX0_known 32 = .ok (.iconst (-1), 1) := dk_2 (dk_at dksX0_known_1 10 rfl rfl)
theorem dX0_known_33 : decode cX0_known 33 = .ok (.if_icmp .ne 5, 3) := dk_160 0 5 (dk_at dksX0_known_1 11 rfl rfl)
theorem dX0_known_36 : decode cX0_known 36 = .ok (.iconst (-1), 1) := dk_2 (dk_at dksX0_known_1 14 rfl rfl)
theorem dX0_known_37 : decode cX0_known 37 = .ok (.ireturn, 1) := dk_172 (dk_at dksX0_known_1 15 rfl rfl)
theorem dX0_known_38 : decode cX0_known 38 = .ok (.iload_n 1, 1) := dk_27 (dk_at dksX0_known_1 16 rfl rfl)
theorem dX0_known_39 : decode cX0_known 39 = .ok (.iload_n 3, 1) := dk_29 (dk_at dksX0_known_1 17 rfl rfl)
theorem dX0_known_40 : decode cX0_known 40 = .ok (.invokestatic 398, 3) := dk_184 1 142 (dk_at dksX0_known_1 18 rfl rfl)
theorem dX0_known_43 : decode cX0_known 43 = .ok (.istore_n 1, 1) := dk_60 (dk_at dksX0_known_1 21 rfl rfl)
theorem dX0_known_44 : decode cX0_known 44 = .ok (.iinc 2 1, 3) := dk_132 2 1 (dk_at dksX0_known_2 0 rfl rfl)
theorem dX0_known_47 : decode cX0_known 47 = .ok (.goto (-30), 3) := dk_167 255 226 (dk_at dksX0_known_2 3 rfl rfl)
theorem dX0_known_50 : decode cX0_known 50 = .ok (.iload_n 1, 1) := dk_27 (dk_at dksX0_known_2 6 rfl rfl)
theorem dX0_known_51 : decode cX0_known 51 = .ok (.ireturn, 1) := dk_172 (dk_at dksX0_known_2 7 rfl rfl)
abbrev cX0_rash : ByteArray := prog_1_method_80_code
def yX0_rash : MethodName := ⟨RX0, "rash", "(I)I"⟩
def dkwX0_rash_0 : List UInt8 := [42, 27, 182, 0, 193, 153, 0, 11, 42, 27, 182, 1, 151, 167, 0, 6, 17, 248, 48, 172]
abbrev dktX0_rash_0 : List UInt8 := dkwX0_rash_0 ++ []
theorem dksX0_rash_0 : cX0_rash.data.toList.drop 0 = dktX0_rash_0 := by decide +kernel
theorem dX0_rash_0 : decode cX0_rash 0 = .ok (.aload_n 0, 1) := dk_42 (dk_at dksX0_rash_0 0 rfl rfl)
theorem dX0_rash_1 : decode cX0_rash 1 = .ok (.iload_n 1, 1) := dk_27 (dk_at dksX0_rash_0 1 rfl rfl)
theorem dX0_rash_2 : decode cX0_rash 2 = .ok (.invokevirtual 193, 3) := dk_182 0 193 (dk_at dksX0_rash_0 2 rfl rfl)
theorem dX0_rash_5 : decode cX0_rash 5 = .ok (.ifCond .eq 11, 3) := dk_153 0 11 (dk_at dksX0_rash_0 5 rfl rfl)
theorem dX0_rash_8 : decode cX0_rash 8 = .ok (.aload_n 0, 1) := dk_42 (dk_at dksX0_rash_0 8 rfl rfl)
theorem dX0_rash_9 : decode cX0_rash 9 = .ok (.iload_n 1, 1) := dk_27 (dk_at dksX0_rash_0 9 rfl rfl)
theorem dX0_rash_10 : decode cX0_rash 10 = .ok (.invokevirtual 407, 3) := dk_182 1 151 (dk_at dksX0_rash_0 10 rfl rfl)
theorem dX0_rash_13 : decode cX0_rash 13 = .ok (.goto 6, 3) := dk_167 0 6 (dk_at dksX0_rash_0 13 rfl rfl)
theorem dX0_rash_16 : decode cX0_rash 16 = .ok (.sipush (-2000), 3) := dk_17 248 48 (dk_at dksX0_rash_0 16 rfl rfl)
theorem dX0_rash_19 : decode cX0_rash 19 = .ok (.ireturn, 1) := dk_172 (dk_at dksX0_rash_0 19 rfl rfl)
abbrev cX0_rashOf : ByteArray := prog_1_method_78_code
def yX0_rashOf : MethodName := ⟨RX0, "rashOf", "(I)I"⟩
def dkwX0_rashOf_1 : List UInt8 := [182, 1, 148, 172]
abbrev dktX0_rashOf_1 : List UInt8 := dkwX0_rashOf_1 ++ []
def dkwX0_rashOf_0 : List UInt8 := [42, 180, 0, 76, 27, 182, 1, 7, 4, 181, 1, 145, 42, 180, 0, 76, 42, 182, 0, 229, 182, 1, 11]
abbrev dktX0_rashOf_0 : List UInt8 := dkwX0_rashOf_0 ++ dktX0_rashOf_1
theorem dksX0_rashOf_0 : cX0_rashOf.data.toList.drop 0 = dktX0_rashOf_0 := by decide +kernel
theorem dksX0_rashOf_1 : cX0_rashOf.data.toList.drop 23 = dktX0_rashOf_1 := dk_seg dksX0_rashOf_0 23 rfl rfl
theorem dX0_rashOf_0 : decode cX0_rashOf 0 = .ok (.aload_n 0, 1) := dk_42 (dk_at dksX0_rashOf_0 0 rfl rfl)
theorem dX0_rashOf_1 : decode cX0_rashOf 1 = .ok (.getfield 76, 3) := dk_180 0 76 (dk_at dksX0_rashOf_0 1 rfl rfl)
theorem dX0_rashOf_4 : decode cX0_rashOf 4 = .ok (.iload_n 1, 1) := dk_27 (dk_at dksX0_rashOf_0 4 rfl rfl)
theorem dX0_rashOf_5 : decode cX0_rashOf 5 = .ok (.invokevirtual 263, 3) := dk_182 1 7 (dk_at dksX0_rashOf_0 5 rfl rfl)
theorem dX0_rashOf_8 : decode cX0_rashOf 8 = .ok (.iconst 1, 1) := dk_4 (dk_at dksX0_rashOf_0 8 rfl rfl)
theorem dX0_rashOf_9 : decode cX0_rashOf 9 = .ok (.putfield 401, 3) := dk_181 1 145 (dk_at dksX0_rashOf_0 9 rfl rfl)
theorem dX0_rashOf_12 : decode cX0_rashOf 12 = .ok (.aload_n 0, 1) := dk_42 (dk_at dksX0_rashOf_0 12 rfl rfl)
theorem dX0_rashOf_13 : decode cX0_rashOf 13 = .ok (.getfield 76, 3) := dk_180 0 76 (dk_at dksX0_rashOf_0 13 rfl rfl)
theorem dX0_rashOf_16 : decode cX0_rashOf 16 = .ok (.aload_n 0, 1) := dk_42 (dk_at dksX0_rashOf_0 16 rfl rfl)
theorem dX0_rashOf_17 : decode cX0_rashOf 17 = .ok (.invokevirtual 229, 3) := dk_182 0 229 (dk_at dksX0_rashOf_0 17 rfl rfl)
theorem dX0_rashOf_20 : decode cX0_rashOf 20 = .ok (.invokevirtual 267, 3) := dk_182 1 11 (dk_at dksX0_rashOf_0 20 rfl rfl)
theorem dX0_rashOf_23 : decode cX0_rashOf 23 = .ok (.invokevirtual 404, 3) := dk_182 1 148 (dk_at dksX0_rashOf_1 0 rfl rfl)
theorem dX0_rashOf_26 : decode cX0_rashOf 26 = .ok (.ireturn, 1) := dk_172 (dk_at dksX0_rashOf_1 3 rfl rfl)
abbrev cX0_look : ByteArray := prog_1_method_81_code
def yX0_look : MethodName := ⟨RX0, "look", "(II)I"⟩
def dkwX0_look_1 : List UInt8 := [182, 1, 156, 167, 0, 6, 17, 248, 48, 172]
abbrev dktX0_look_1 : List UInt8 := dkwX0_look_1 ++ []
def dkwX0_look_0 : List UInt8 := [42, 27, 182, 0, 193, 153, 0, 24, 28, 133, 9, 20, 1, 154, 184, 0, 5, 153, 0, 12, 42, 27, 28]
abbrev dktX0_look_0 : List UInt8 := dkwX0_look_0 ++ dktX0_look_1
theorem dksX0_look_0 : cX0_look.data.toList.drop 0 = dktX0_look_0 := by decide +kernel
theorem dksX0_look_1 : cX0_look.data.toList.drop 23 = dktX0_look_1 := dk_seg dksX0_look_0 23 rfl rfl
theorem dX0_look_0 : decode cX0_look 0 = .ok (.aload_n 0, 1) := dk_42 (dk_at dksX0_look_0 0 rfl rfl)
theorem dX0_look_1 : decode cX0_look 1 = .ok (.iload_n 1, 1) := dk_27 (dk_at dksX0_look_0 1 rfl rfl)
theorem dX0_look_2 : decode cX0_look 2 = .ok (.invokevirtual 193, 3) := dk_182 0 193 (dk_at dksX0_look_0 2 rfl rfl)
theorem dX0_look_5 : decode cX0_look 5 = .ok (.ifCond .eq 24, 3) := dk_153 0 24 (dk_at dksX0_look_0 5 rfl rfl)
theorem dX0_look_8 : decode cX0_look 8 = .ok (.iload_n 2, 1) := dk_28 (dk_at dksX0_look_0 8 rfl rfl)
theorem dX0_look_9 : decode cX0_look 9 = .ok (.i2l, 1) := dk_133 (dk_at dksX0_look_0 9 rfl rfl)
theorem dX0_look_10 : decode cX0_look 10 = .ok (.lconst 0, 1) := dk_9 (dk_at dksX0_look_0 10 rfl rfl)
theorem dX0_look_11 : decode cX0_look 11 = .ok (.ldc2_w 410, 3) := dk_20 1 154 (dk_at dksX0_look_0 11 rfl rfl)
theorem dX0_look_14 : decode cX0_look 14 = .ok (.invokestatic 5, 3) := dk_184 0 5 (dk_at dksX0_look_0 14 rfl rfl)
theorem dX0_look_17 : decode cX0_look 17 = .ok (.ifCond .eq 12, 3) := dk_153 0 12 (dk_at dksX0_look_0 17 rfl rfl)
theorem dX0_look_20 : decode cX0_look 20 = .ok (.aload_n 0, 1) := dk_42 (dk_at dksX0_look_0 20 rfl rfl)
theorem dX0_look_21 : decode cX0_look 21 = .ok (.iload_n 1, 1) := dk_27 (dk_at dksX0_look_0 21 rfl rfl)
theorem dX0_look_22 : decode cX0_look 22 = .ok (.iload_n 2, 1) := dk_28 (dk_at dksX0_look_0 22 rfl rfl)
theorem dX0_look_23 : decode cX0_look 23 = .ok (.invokevirtual 412, 3) := dk_182 1 156 (dk_at dksX0_look_1 0 rfl rfl)
theorem dX0_look_26 : decode cX0_look 26 = .ok (.goto 6, 3) := dk_167 0 6 (dk_at dksX0_look_1 3 rfl rfl)
theorem dX0_look_29 : decode cX0_look 29 = .ok (.sipush (-2000), 3) := dk_17 248 48 (dk_at dksX0_look_1 6 rfl rfl)
theorem dX0_look_32 : decode cX0_look 32 = .ok (.ireturn, 1) := dk_172 (dk_at dksX0_look_1 9 rfl rfl)
abbrev cX0_lookOf : ByteArray := prog_1_method_79_code
def yX0_lookOf : MethodName := ⟨RX0, "lookOf", "(II)I"⟩
def dkwX0_lookOf_1 : List UInt8 := [181, 1, 47, 42, 180, 0, 76, 42, 182, 0, 229, 182, 1, 11, 182, 1, 148, 172]
abbrev dktX0_lookOf_1 : List UInt8 := dkwX0_lookOf_1 ++ []
def dkwX0_lookOf_0 : List UInt8 := [42, 180, 0, 76, 27, 182, 1, 7, 89, 180, 1, 77, 28, 96, 181, 1, 77, 42, 180, 0, 76, 3]
abbrev dktX0_lookOf_0 : List UInt8 := dkwX0_lookOf_0 ++ dktX0_lookOf_1
theorem dksX0_lookOf_0 : cX0_lookOf.data.toList.drop 0 = dktX0_lookOf_0 := by decide +kernel
theorem dksX0_lookOf_1 : cX0_lookOf.data.toList.drop 22 = dktX0_lookOf_1 := dk_seg dksX0_lookOf_0 22 rfl rfl
theorem dX0_lookOf_0 : decode cX0_lookOf 0 = .ok (.aload_n 0, 1) := dk_42 (dk_at dksX0_lookOf_0 0 rfl rfl)
theorem dX0_lookOf_1 : decode cX0_lookOf 1 = .ok (.getfield 76, 3) := dk_180 0 76 (dk_at dksX0_lookOf_0 1 rfl rfl)
theorem dX0_lookOf_4 : decode cX0_lookOf 4 = .ok (.iload_n 1, 1) := dk_27 (dk_at dksX0_lookOf_0 4 rfl rfl)
theorem dX0_lookOf_5 : decode cX0_lookOf 5 = .ok (.invokevirtual 263, 3) := dk_182 1 7 (dk_at dksX0_lookOf_0 5 rfl rfl)
theorem dX0_lookOf_8 : decode cX0_lookOf 8 = .ok (.dup, 1) := dk_89 (dk_at dksX0_lookOf_0 8 rfl rfl)
theorem dX0_lookOf_9 : decode cX0_lookOf 9 = .ok (.getfield 333, 3) := dk_180 1 77 (dk_at dksX0_lookOf_0 9 rfl rfl)
theorem dX0_lookOf_12 : decode cX0_lookOf 12 = .ok (.iload_n 2, 1) := dk_28 (dk_at dksX0_lookOf_0 12 rfl rfl)
theorem dX0_lookOf_13 : decode cX0_lookOf 13 = .ok (.iadd, 1) := dk_96 (dk_at dksX0_lookOf_0 13 rfl rfl)
theorem dX0_lookOf_14 : decode cX0_lookOf 14 = .ok (.putfield 333, 3) := dk_181 1 77 (dk_at dksX0_lookOf_0 14 rfl rfl)
theorem dX0_lookOf_17 : decode cX0_lookOf 17 = .ok (.aload_n 0, 1) := dk_42 (dk_at dksX0_lookOf_0 17 rfl rfl)
theorem dX0_lookOf_18 : decode cX0_lookOf 18 = .ok (.getfield 76, 3) := dk_180 0 76 (dk_at dksX0_lookOf_0 18 rfl rfl)
theorem dX0_lookOf_21 : decode cX0_lookOf 21 = .ok (.iconst 0, 1) := dk_3 (dk_at dksX0_lookOf_0 21 rfl rfl)
theorem dX0_lookOf_22 : decode cX0_lookOf 22 = .ok (.putfield 303, 3) := dk_181 1 47 (dk_at dksX0_lookOf_1 0 rfl rfl)
theorem dX0_lookOf_25 : decode cX0_lookOf 25 = .ok (.aload_n 0, 1) := dk_42 (dk_at dksX0_lookOf_1 3 rfl rfl)
theorem dX0_lookOf_26 : decode cX0_lookOf 26 = .ok (.getfield 76, 3) := dk_180 0 76 (dk_at dksX0_lookOf_1 4 rfl rfl)
theorem dX0_lookOf_29 : decode cX0_lookOf 29 = .ok (.aload_n 0, 1) := dk_42 (dk_at dksX0_lookOf_1 7 rfl rfl)
theorem dX0_lookOf_30 : decode cX0_lookOf 30 = .ok (.invokevirtual 229, 3) := dk_182 0 229 (dk_at dksX0_lookOf_1 8 rfl rfl)
theorem dX0_lookOf_33 : decode cX0_lookOf 33 = .ok (.invokevirtual 267, 3) := dk_182 1 11 (dk_at dksX0_lookOf_1 11 rfl rfl)
theorem dX0_lookOf_36 : decode cX0_lookOf 36 = .ok (.invokevirtual 404, 3) := dk_182 1 148 (dk_at dksX0_lookOf_1 14 rfl rfl)
theorem dX0_lookOf_39 : decode cX0_lookOf 39 = .ok (.ireturn, 1) := dk_172 (dk_at dksX0_lookOf_1 17 rfl rfl)
abbrev cX0_line : ByteArray := prog_1_method_82_code
def yX0_line : MethodName := ⟨RX0, "line", "(I)I"⟩
def dkwX0_line_1 : List UInt8 := [42, 27, 29, 182, 1, 156, 28, 161, 0, 5, 29, 172, 132, 3, 255, 167, 255, 237, 2, 172]
abbrev dktX0_line_1 : List UInt8 := dkwX0_line_1 ++ []
def dkwX0_line_0 : List UInt8 := [42, 27, 182, 0, 193, 154, 0, 6, 16, 254, 172, 42, 27, 182, 1, 151, 61, 16, 20, 62, 29, 155, 0, 21]
abbrev dktX0_line_0 : List UInt8 := dkwX0_line_0 ++ dktX0_line_1
theorem dksX0_line_0 : cX0_line.data.toList.drop 0 = dktX0_line_0 := by decide +kernel
theorem dksX0_line_1 : cX0_line.data.toList.drop 24 = dktX0_line_1 := dk_seg dksX0_line_0 24 rfl rfl
theorem dX0_line_0 : decode cX0_line 0 = .ok (.aload_n 0, 1) := dk_42 (dk_at dksX0_line_0 0 rfl rfl)
theorem dX0_line_1 : decode cX0_line 1 = .ok (.iload_n 1, 1) := dk_27 (dk_at dksX0_line_0 1 rfl rfl)
theorem dX0_line_2 : decode cX0_line 2 = .ok (.invokevirtual 193, 3) := dk_182 0 193 (dk_at dksX0_line_0 2 rfl rfl)
theorem dX0_line_5 : decode cX0_line 5 = .ok (.ifCond .ne 6, 3) := dk_154 0 6 (dk_at dksX0_line_0 5 rfl rfl)
theorem dX0_line_8 : decode cX0_line 8 = .ok (.bipush (-2), 2) := dk_16 254 (dk_at dksX0_line_0 8 rfl rfl)
theorem dX0_line_10 : decode cX0_line 10 = .ok (.ireturn, 1) := dk_172 (dk_at dksX0_line_0 10 rfl rfl)
theorem dX0_line_11 : decode cX0_line 11 = .ok (.aload_n 0, 1) := dk_42 (dk_at dksX0_line_0 11 rfl rfl)
theorem dX0_line_12 : decode cX0_line 12 = .ok (.iload_n 1, 1) := dk_27 (dk_at dksX0_line_0 12 rfl rfl)
theorem dX0_line_13 : decode cX0_line 13 = .ok (.invokevirtual 407, 3) := dk_182 1 151 (dk_at dksX0_line_0 13 rfl rfl)
theorem dX0_line_16 : decode cX0_line 16 = .ok (.istore_n 2, 1) := dk_61 (dk_at dksX0_line_0 16 rfl rfl)
theorem dX0_line_17 : decode cX0_line 17 = .ok (.bipush 20, 2) := dk_16 20 (dk_at dksX0_line_0 17 rfl rfl)
theorem dX0_line_19 : decode cX0_line 19 = .ok (.istore_n 3, 1) := dk_62 (dk_at dksX0_line_0 19 rfl rfl)
theorem dX0_line_20 : decode cX0_line 20 = .ok (.iload_n 3, 1) := dk_29 (dk_at dksX0_line_0 20 rfl rfl)
theorem dX0_line_21 : decode cX0_line 21 = .ok (.ifCond .lt 21, 3) := dk_155 0 21 (dk_at dksX0_line_0 21 rfl rfl)
theorem dX0_line_24 : decode cX0_line 24 = .ok (.aload_n 0, 1) := dk_42 (dk_at dksX0_line_1 0 rfl rfl)
theorem dX0_line_25 : decode cX0_line 25 = .ok (.iload_n 1, 1) := dk_27 (dk_at dksX0_line_1 1 rfl rfl)
theorem dX0_line_26 : decode cX0_line 26 = .ok (.iload_n 3, 1) := dk_29 (dk_at dksX0_line_1 2 rfl rfl)
theorem dX0_line_27 : decode cX0_line 27 = .ok (.invokevirtual 412, 3) := dk_182 1 156 (dk_at dksX0_line_1 3 rfl rfl)
theorem dX0_line_30 : decode cX0_line 30 = .ok (.iload_n 2, 1) := dk_28 (dk_at dksX0_line_1 6 rfl rfl)
theorem dX0_line_31 : decode cX0_line 31 = .ok (.if_icmp .lt 5, 3) := dk_161 0 5 (dk_at dksX0_line_1 7 rfl rfl)
theorem dX0_line_34 : decode cX0_line 34 = .ok (.iload_n 3, 1) := dk_29 (dk_at dksX0_line_1 10 rfl rfl)
theorem dX0_line_35 : decode cX0_line 35 = .ok (.ireturn, 1) := dk_172 (dk_at dksX0_line_1 11 rfl rfl)
theorem dX0_line_36 : decode cX0_line 36 = .ok (.iinc 3 (-1), 3) := dk_132 3 255 (dk_at dksX0_line_1 12 rfl rfl)
theorem dX0_line_39 : decode cX0_line 39 = .ok (.goto (-19), 3) := dk_167 255 237 (dk_at dksX0_line_1 15 rfl rfl)
theorem dX0_line_42 : decode cX0_line 42 = .ok (.iconst (-1), 1) := dk_2 (dk_at dksX0_line_1 18 rfl rfl)
theorem dX0_line_43 : decode cX0_line 43 = .ok (.ireturn, 1) := dk_172 (dk_at dksX0_line_1 19 rfl rfl)
abbrev cX0_two : ByteArray := prog_1_method_84_code
def yX0_two : MethodName := ⟨RX0, "two", "(III)I"⟩
def dkwX0_two_5 : List UInt8 := [54, 5, 21, 8, 54, 6, 132, 7, 1, 167, 255, 190, 29, 154, 0, 8, 21, 6, 167, 0, 5, 21, 5, 172]
abbrev dktX0_two_5 : List UInt8 := dkwX0_two_5 ++ []
def dkwX0_two_4 : List UInt8 := [21, 7, 2, 130, 126, 182, 1, 161, 96, 54, 8, 21, 8, 21, 6, 163, 0, 6, 167, 0, 11, 21, 7]
abbrev dktX0_two_4 : List UInt8 := dkwX0_two_4 ++ dktX0_two_5
def dkwX0_two_3 : List UInt8 := [180, 0, 41, 180, 0, 161, 126, 153, 0, 6, 167, 0, 43, 42, 27, 21, 7, 182, 1, 161, 42, 28, 21, 4]
abbrev dktX0_two_3 : List UInt8 := dkwX0_two_3 ++ dktX0_two_4
def dkwX0_two_2 : List UInt8 := [4, 100, 54, 4, 3, 54, 5, 2, 54, 6, 3, 54, 7, 21, 7, 21, 4, 163, 0, 65, 21, 7, 42]
abbrev dktX0_two_2 : List UInt8 := dkwX0_two_2 ++ dktX0_two_3
def dkwX0_two_1 : List UInt8 := [10, 184, 0, 5, 154, 0, 6, 16, 254, 172, 42, 182, 0, 229, 87, 4, 42, 180, 0, 41, 182, 0, 155, 120]
abbrev dktX0_two_1 : List UInt8 := dkwX0_two_1 ++ dktX0_two_2
def dkwX0_two_0 : List UInt8 := [42, 27, 182, 0, 193, 153, 0, 26, 42, 28, 182, 0, 193, 153, 0, 18, 27, 28, 159, 0, 13, 29, 133, 9]
abbrev dktX0_two_0 : List UInt8 := dkwX0_two_0 ++ dktX0_two_1
theorem dksX0_two_0 : cX0_two.data.toList.drop 0 = dktX0_two_0 := by decide +kernel
theorem dksX0_two_1 : cX0_two.data.toList.drop 24 = dktX0_two_1 := dk_seg dksX0_two_0 24 rfl rfl
theorem dksX0_two_2 : cX0_two.data.toList.drop 48 = dktX0_two_2 := dk_seg dksX0_two_1 24 rfl rfl
theorem dksX0_two_3 : cX0_two.data.toList.drop 71 = dktX0_two_3 := dk_seg dksX0_two_2 23 rfl rfl
theorem dksX0_two_4 : cX0_two.data.toList.drop 95 = dktX0_two_4 := dk_seg dksX0_two_3 24 rfl rfl
theorem dksX0_two_5 : cX0_two.data.toList.drop 118 = dktX0_two_5 := dk_seg dksX0_two_4 23 rfl rfl
theorem dX0_two_0 : decode cX0_two 0 = .ok (.aload_n 0, 1) := dk_42 (dk_at dksX0_two_0 0 rfl rfl)
theorem dX0_two_1 : decode cX0_two 1 = .ok (.iload_n 1, 1) := dk_27 (dk_at dksX0_two_0 1 rfl rfl)
theorem dX0_two_2 : decode cX0_two 2 = .ok (.invokevirtual 193, 3) := dk_182 0 193 (dk_at dksX0_two_0 2 rfl rfl)
theorem dX0_two_5 : decode cX0_two 5 = .ok (.ifCond .eq 26, 3) := dk_153 0 26 (dk_at dksX0_two_0 5 rfl rfl)
theorem dX0_two_8 : decode cX0_two 8 = .ok (.aload_n 0, 1) := dk_42 (dk_at dksX0_two_0 8 rfl rfl)
theorem dX0_two_9 : decode cX0_two 9 = .ok (.iload_n 2, 1) := dk_28 (dk_at dksX0_two_0 9 rfl rfl)
theorem dX0_two_10 : decode cX0_two 10 = .ok (.invokevirtual 193, 3) := dk_182 0 193 (dk_at dksX0_two_0 10 rfl rfl)
theorem dX0_two_13 : decode cX0_two 13 = .ok (.ifCond .eq 18, 3) := dk_153 0 18 (dk_at dksX0_two_0 13 rfl rfl)
theorem dX0_two_16 : decode cX0_two 16 = .ok (.iload_n 1, 1) := dk_27 (dk_at dksX0_two_0 16 rfl rfl)
theorem dX0_two_17 : decode cX0_two 17 = .ok (.iload_n 2, 1) := dk_28 (dk_at dksX0_two_0 17 rfl rfl)
theorem dX0_two_18 : decode cX0_two 18 = .ok (.if_icmp .eq 13, 3) := dk_159 0 13 (dk_at dksX0_two_0 18 rfl rfl)
theorem dX0_two_21 : decode cX0_two 21 = .ok (.iload_n 3, 1) := dk_29 (dk_at dksX0_two_0 21 rfl rfl)
theorem dX0_two_22 : decode cX0_two 22 = .ok (.i2l, 1) := dk_133 (dk_at dksX0_two_0 22 rfl rfl)
theorem dX0_two_23 : decode cX0_two 23 = .ok (.lconst 0, 1) := dk_9 (dk_at dksX0_two_0 23 rfl rfl)
theorem dX0_two_24 : decode cX0_two 24 = .ok (.lconst 1, 1) := dk_10 (dk_at dksX0_two_1 0 rfl rfl)
theorem dX0_two_25 : decode cX0_two 25 = .ok (.invokestatic 5, 3) := dk_184 0 5 (dk_at dksX0_two_1 1 rfl rfl)
theorem dX0_two_28 : decode cX0_two 28 = .ok (.ifCond .ne 6, 3) := dk_154 0 6 (dk_at dksX0_two_1 4 rfl rfl)
theorem dX0_two_31 : decode cX0_two 31 = .ok (.bipush (-2), 2) := dk_16 254 (dk_at dksX0_two_1 7 rfl rfl)
theorem dX0_two_33 : decode cX0_two 33 = .ok (.ireturn, 1) := dk_172 (dk_at dksX0_two_1 9 rfl rfl)
theorem dX0_two_34 : decode cX0_two 34 = .ok (.aload_n 0, 1) := dk_42 (dk_at dksX0_two_1 10 rfl rfl)
theorem dX0_two_35 : decode cX0_two 35 = .ok (.invokevirtual 229, 3) := dk_182 0 229 (dk_at dksX0_two_1 11 rfl rfl)
theorem dX0_two_38 : decode cX0_two 38 = .ok (.pop, 1) := dk_87 (dk_at dksX0_two_1 14 rfl rfl)
theorem dX0_two_39 : decode cX0_two 39 = .ok (.iconst 1, 1) := dk_4 (dk_at dksX0_two_1 15 rfl rfl)
theorem dX0_two_40 : decode cX0_two 40 = .ok (.aload_n 0, 1) := dk_42 (dk_at dksX0_two_1 16 rfl rfl)
theorem dX0_two_41 : decode cX0_two 41 = .ok (.getfield 41, 3) := dk_180 0 41 (dk_at dksX0_two_1 17 rfl rfl)
theorem dX0_two_44 : decode cX0_two 44 = .ok (.invokevirtual 155, 3) := dk_182 0 155 (dk_at dksX0_two_1 20 rfl rfl)
theorem dX0_two_47 : decode cX0_two 47 = .ok (.ishl, 1) := dk_120 (dk_at dksX0_two_1 23 rfl rfl)
theorem dX0_two_48 : decode cX0_two 48 = .ok (.iconst 1, 1) := dk_4 (dk_at dksX0_two_2 0 rfl rfl)
theorem dX0_two_49 : decode cX0_two 49 = .ok (.isub, 1) := dk_100 (dk_at dksX0_two_2 1 rfl rfl)
theorem dX0_two_50 : decode cX0_two 50 = .ok (.istore 4, 2) := dk_54 4 (dk_at dksX0_two_2 2 rfl rfl)
theorem dX0_two_52 : decode cX0_two 52 = .ok (.iconst 0, 1) := dk_3 (dk_at dksX0_two_2 4 rfl rfl)
theorem dX0_two_53 : decode cX0_two 53 = .ok (.istore 5, 2) := dk_54 5 (dk_at dksX0_two_2 5 rfl rfl)
theorem dX0_two_55 : decode cX0_two 55 = .ok (.iconst (-1), 1) := dk_2 (dk_at dksX0_two_2 7 rfl rfl)
theorem dX0_two_56 : decode cX0_two 56 = .ok (.istore 6, 2) := dk_54 6 (dk_at dksX0_two_2 8 rfl rfl)
theorem dX0_two_58 : decode cX0_two 58 = .ok (.iconst 0, 1) := dk_3 (dk_at dksX0_two_2 10 rfl rfl)
theorem dX0_two_59 : decode cX0_two 59 = .ok (.istore 7, 2) := dk_54 7 (dk_at dksX0_two_2 11 rfl rfl)
theorem dX0_two_61 : decode cX0_two 61 = .ok (.iload 7, 2) := dk_21 7 (dk_at dksX0_two_2 13 rfl rfl)
theorem dX0_two_63 : decode cX0_two 63 = .ok (.iload 4, 2) := dk_21 4 (dk_at dksX0_two_2 15 rfl rfl)
theorem dX0_two_65 : decode cX0_two 65 = .ok (.if_icmp .gt 65, 3) := dk_163 0 65 (dk_at dksX0_two_2 17 rfl rfl)
theorem dX0_two_68 : decode cX0_two 68 = .ok (.iload 7, 2) := dk_21 7 (dk_at dksX0_two_2 20 rfl rfl)
theorem dX0_two_70 : decode cX0_two 70 = .ok (.aload_n 0, 1) := dk_42 (dk_at dksX0_two_2 22 rfl rfl)
theorem dX0_two_71 : decode cX0_two 71 = .ok (.getfield 41, 3) := dk_180 0 41 (dk_at dksX0_two_3 0 rfl rfl)
theorem dX0_two_74 : decode cX0_two 74 = .ok (.getfield 161, 3) := dk_180 0 161 (dk_at dksX0_two_3 3 rfl rfl)
theorem dX0_two_77 : decode cX0_two 77 = .ok (.iand, 1) := dk_126 (dk_at dksX0_two_3 6 rfl rfl)
theorem dX0_two_78 : decode cX0_two 78 = .ok (.ifCond .eq 6, 3) := dk_153 0 6 (dk_at dksX0_two_3 7 rfl rfl)
theorem dX0_two_81 : decode cX0_two 81 = .ok (.goto 43, 3) := dk_167 0 43 (dk_at dksX0_two_3 10 rfl rfl)
theorem dX0_two_84 : decode cX0_two 84 = .ok (.aload_n 0, 1) := dk_42 (dk_at dksX0_two_3 13 rfl rfl)
theorem dX0_two_85 : decode cX0_two 85 = .ok (.iload_n 1, 1) := dk_27 (dk_at dksX0_two_3 14 rfl rfl)
theorem dX0_two_86 : decode cX0_two 86 = .ok (.iload 7, 2) := dk_21 7 (dk_at dksX0_two_3 15 rfl rfl)
theorem dX0_two_88 : decode cX0_two 88 = .ok (.invokevirtual 417, 3) := dk_182 1 161 (dk_at dksX0_two_3 17 rfl rfl)
theorem dX0_two_91 : decode cX0_two 91 = .ok (.aload_n 0, 1) := dk_42 (dk_at dksX0_two_3 20 rfl rfl)
theorem dX0_two_92 : decode cX0_two 92 = .ok (.iload_n 2, 1) := dk_28 (dk_at dksX0_two_3 21 rfl rfl)
theorem dX0_two_93 : decode cX0_two 93 = .ok (.iload 4, 2) := dk_21 4 (dk_at dksX0_two_3 22 rfl rfl)
theorem dX0_two_95 : decode cX0_two 95 = .ok (.iload 7, 2) := dk_21 7 (dk_at dksX0_two_4 0 rfl rfl)
theorem dX0_two_97 : decode cX0_two 97 = .ok (.iconst (-1), 1) := dk_2 (dk_at dksX0_two_4 2 rfl rfl)
theorem dX0_two_98 : decode cX0_two 98 = .ok (.ixor, 1) := dk_130 (dk_at dksX0_two_4 3 rfl rfl)
theorem dX0_two_99 : decode cX0_two 99 = .ok (.iand, 1) := dk_126 (dk_at dksX0_two_4 4 rfl rfl)
theorem dX0_two_100 : decode cX0_two 100 = .ok (.invokevirtual 417, 3) := dk_182 1 161 (dk_at dksX0_two_4 5 rfl rfl)
theorem dX0_two_103 : decode cX0_two 103 = .ok (.iadd, 1) := dk_96 (dk_at dksX0_two_4 8 rfl rfl)
theorem dX0_two_104 : decode cX0_two 104 = .ok (.istore 8, 2) := dk_54 8 (dk_at dksX0_two_4 9 rfl rfl)
theorem dX0_two_106 : decode cX0_two 106 = .ok (.iload 8, 2) := dk_21 8 (dk_at dksX0_two_4 11 rfl rfl)
theorem dX0_two_108 : decode cX0_two 108 = .ok (.iload 6, 2) := dk_21 6 (dk_at dksX0_two_4 13 rfl rfl)
theorem dX0_two_110 : decode cX0_two 110 = .ok (.if_icmp .gt 6, 3) := dk_163 0 6 (dk_at dksX0_two_4 15 rfl rfl)
theorem dX0_two_113 : decode cX0_two 113 = .ok (.goto 11, 3) := dk_167 0 11 (dk_at dksX0_two_4 18 rfl rfl)
theorem dX0_two_116 : decode cX0_two 116 = .ok (.iload 7, 2) := dk_21 7 (dk_at dksX0_two_4 21 rfl rfl)
theorem dX0_two_118 : decode cX0_two 118 = .ok (.istore 5, 2) := dk_54 5 (dk_at dksX0_two_5 0 rfl rfl)
theorem dX0_two_120 : decode cX0_two 120 = .ok (.iload 8, 2) := dk_21 8 (dk_at dksX0_two_5 2 rfl rfl)
theorem dX0_two_122 : decode cX0_two 122 = .ok (.istore 6, 2) := dk_54 6 (dk_at dksX0_two_5 4 rfl rfl)
theorem dX0_two_124 : decode cX0_two 124 = .ok (.iinc 7 1, 3) := dk_132 7 1 (dk_at dksX0_two_5 6 rfl rfl)
theorem dX0_two_127 : decode cX0_two 127 = .ok (.goto (-66), 3) := dk_167 255 190 (dk_at dksX0_two_5 9 rfl rfl)
theorem dX0_two_130 : decode cX0_two 130 = .ok (.iload_n 3, 1) := dk_29 (dk_at dksX0_two_5 12 rfl rfl)
theorem dX0_two_131 : decode cX0_two 131 = .ok (.ifCond .ne 8, 3) := dk_154 0 8 (dk_at dksX0_two_5 13 rfl rfl)
theorem dX0_two_134 : decode cX0_two 134 = .ok (.iload 6, 2) := dk_21 6 (dk_at dksX0_two_5 16 rfl rfl)
theorem dX0_two_136 : decode cX0_two 136 = .ok (.goto 5, 3) := dk_167 0 5 (dk_at dksX0_two_5 18 rfl rfl)
theorem dX0_two_139 : decode cX0_two 139 = .ok (.iload 5, 2) := dk_21 5 (dk_at dksX0_two_5 21 rfl rfl)
theorem dX0_two_141 : decode cX0_two 141 = .ok (.ireturn, 1) := dk_172 (dk_at dksX0_two_5 23 rfl rfl)
abbrev cX0_hitsWithin : ByteArray := prog_1_method_83_code
def yX0_hitsWithin : MethodName := ⟨RX0, "hitsWithin", "(II)I"⟩
def dkwX0_hitsWithin_1 : List UInt8 := [180, 1, 15, 172]
abbrev dktX0_hitsWithin_1 : List UInt8 := dkwX0_hitsWithin_1 ++ []
def dkwX0_hitsWithin_0 : List UInt8 := [42, 180, 0, 76, 27, 182, 1, 7, 28, 181, 1, 159, 42, 180, 0, 76, 42, 180, 0, 62, 182, 1, 11]
abbrev dktX0_hitsWithin_0 : List UInt8 := dkwX0_hitsWithin_0 ++ dktX0_hitsWithin_1
theorem dksX0_hitsWithin_0 : cX0_hitsWithin.data.toList.drop 0 = dktX0_hitsWithin_0 := by decide +kernel
theorem dksX0_hitsWithin_1 : cX0_hitsWithin.data.toList.drop 23 = dktX0_hitsWithin_1 := dk_seg dksX0_hitsWithin_0 23 rfl rfl
theorem dX0_hitsWithin_0 : decode cX0_hitsWithin 0 = .ok (.aload_n 0, 1) := dk_42 (dk_at dksX0_hitsWithin_0 0 rfl rfl)
theorem dX0_hitsWithin_1 : decode cX0_hitsWithin 1 = .ok (.getfield 76, 3) := dk_180 0 76 (dk_at dksX0_hitsWithin_0 1 rfl rfl)
theorem dX0_hitsWithin_4 : decode cX0_hitsWithin 4 = .ok (.iload_n 1, 1) := dk_27 (dk_at dksX0_hitsWithin_0 4 rfl rfl)
theorem dX0_hitsWithin_5 : decode cX0_hitsWithin 5 = .ok (.invokevirtual 263, 3) := dk_182 1 7 (dk_at dksX0_hitsWithin_0 5 rfl rfl)
theorem dX0_hitsWithin_8 : decode cX0_hitsWithin 8 = .ok (.iload_n 2, 1) := dk_28 (dk_at dksX0_hitsWithin_0 8 rfl rfl)
theorem dX0_hitsWithin_9 : decode cX0_hitsWithin 9 = .ok (.putfield 415, 3) := dk_181 1 159 (dk_at dksX0_hitsWithin_0 9 rfl rfl)
theorem dX0_hitsWithin_12 : decode cX0_hitsWithin 12 = .ok (.aload_n 0, 1) := dk_42 (dk_at dksX0_hitsWithin_0 12 rfl rfl)
theorem dX0_hitsWithin_13 : decode cX0_hitsWithin 13 = .ok (.getfield 76, 3) := dk_180 0 76 (dk_at dksX0_hitsWithin_0 13 rfl rfl)
theorem dX0_hitsWithin_16 : decode cX0_hitsWithin 16 = .ok (.aload_n 0, 1) := dk_42 (dk_at dksX0_hitsWithin_0 16 rfl rfl)
theorem dX0_hitsWithin_17 : decode cX0_hitsWithin 17 = .ok (.getfield 62, 3) := dk_180 0 62 (dk_at dksX0_hitsWithin_0 17 rfl rfl)
theorem dX0_hitsWithin_20 : decode cX0_hitsWithin 20 = .ok (.invokevirtual 267, 3) := dk_182 1 11 (dk_at dksX0_hitsWithin_0 20 rfl rfl)
theorem dX0_hitsWithin_23 : decode cX0_hitsWithin 23 = .ok (.getfield 271, 3) := dk_180 1 15 (dk_at dksX0_hitsWithin_1 0 rfl rfl)
theorem dX0_hitsWithin_26 : decode cX0_hitsWithin 26 = .ok (.ireturn, 1) := dk_172 (dk_at dksX0_hitsWithin_1 3 rfl rfl)
abbrev cX0_tickets : ByteArray := prog_1_method_86_code
def yX0_tickets : MethodName := ⟨RX0, "tickets", "(I)I"⟩
def dkwX0_tickets_0 : List UInt8 := [42, 27, 182, 0, 193, 153, 0, 11, 42, 27, 182, 1, 167, 167, 0, 5, 16, 254, 172]
abbrev dktX0_tickets_0 : List UInt8 := dkwX0_tickets_0 ++ []
theorem dksX0_tickets_0 : cX0_tickets.data.toList.drop 0 = dktX0_tickets_0 := by decide +kernel
theorem dX0_tickets_0 : decode cX0_tickets 0 = .ok (.aload_n 0, 1) := dk_42 (dk_at dksX0_tickets_0 0 rfl rfl)
theorem dX0_tickets_1 : decode cX0_tickets 1 = .ok (.iload_n 1, 1) := dk_27 (dk_at dksX0_tickets_0 1 rfl rfl)
theorem dX0_tickets_2 : decode cX0_tickets 2 = .ok (.invokevirtual 193, 3) := dk_182 0 193 (dk_at dksX0_tickets_0 2 rfl rfl)
theorem dX0_tickets_5 : decode cX0_tickets 5 = .ok (.ifCond .eq 11, 3) := dk_153 0 11 (dk_at dksX0_tickets_0 5 rfl rfl)
theorem dX0_tickets_8 : decode cX0_tickets 8 = .ok (.aload_n 0, 1) := dk_42 (dk_at dksX0_tickets_0 8 rfl rfl)
theorem dX0_tickets_9 : decode cX0_tickets 9 = .ok (.iload_n 1, 1) := dk_27 (dk_at dksX0_tickets_0 9 rfl rfl)
theorem dX0_tickets_10 : decode cX0_tickets 10 = .ok (.invokevirtual 423, 3) := dk_182 1 167 (dk_at dksX0_tickets_0 10 rfl rfl)
theorem dX0_tickets_13 : decode cX0_tickets 13 = .ok (.goto 5, 3) := dk_167 0 5 (dk_at dksX0_tickets_0 13 rfl rfl)
theorem dX0_tickets_16 : decode cX0_tickets 16 = .ok (.bipush (-2), 2) := dk_16 254 (dk_at dksX0_tickets_0 16 rfl rfl)
theorem dX0_tickets_18 : decode cX0_tickets 18 = .ok (.ireturn, 1) := dk_172 (dk_at dksX0_tickets_0 18 rfl rfl)
abbrev cX0_ticketsOf : ByteArray := prog_1_method_85_code
def yX0_ticketsOf : MethodName := ⟨RX0, "ticketsOf", "(I)I"⟩
def dkwX0_ticketsOf_0 : List UInt8 := [16, 10, 42, 27, 182, 1, 18, 104, 42, 180, 0, 41, 180, 1, 164, 108, 172]
abbrev dktX0_ticketsOf_0 : List UInt8 := dkwX0_ticketsOf_0 ++ []
theorem dksX0_ticketsOf_0 : cX0_ticketsOf.data.toList.drop 0 = dktX0_ticketsOf_0 := by decide +kernel
theorem dX0_ticketsOf_0 : decode cX0_ticketsOf 0 = .ok (.bipush 10, 2) := dk_16 10 (dk_at dksX0_ticketsOf_0 0 rfl rfl)
theorem dX0_ticketsOf_2 : decode cX0_ticketsOf 2 = .ok (.aload_n 0, 1) := dk_42 (dk_at dksX0_ticketsOf_0 2 rfl rfl)
theorem dX0_ticketsOf_3 : decode cX0_ticketsOf 3 = .ok (.iload_n 1, 1) := dk_27 (dk_at dksX0_ticketsOf_0 3 rfl rfl)
theorem dX0_ticketsOf_4 : decode cX0_ticketsOf 4 = .ok (.invokevirtual 274, 3) := dk_182 1 18 (dk_at dksX0_ticketsOf_0 4 rfl rfl)
theorem dX0_ticketsOf_7 : decode cX0_ticketsOf 7 = .ok (.imul, 1) := dk_104 (dk_at dksX0_ticketsOf_0 7 rfl rfl)
theorem dX0_ticketsOf_8 : decode cX0_ticketsOf 8 = .ok (.aload_n 0, 1) := dk_42 (dk_at dksX0_ticketsOf_0 8 rfl rfl)
theorem dX0_ticketsOf_9 : decode cX0_ticketsOf 9 = .ok (.getfield 41, 3) := dk_180 0 41 (dk_at dksX0_ticketsOf_0 9 rfl rfl)
theorem dX0_ticketsOf_12 : decode cX0_ticketsOf 12 = .ok (.getfield 420, 3) := dk_180 1 164 (dk_at dksX0_ticketsOf_0 12 rfl rfl)
theorem dX0_ticketsOf_15 : decode cX0_ticketsOf 15 = .ok (.idiv, 1) := dk_108 (dk_at dksX0_ticketsOf_0 15 rfl rfl)
theorem dX0_ticketsOf_16 : decode cX0_ticketsOf 16 = .ok (.ireturn, 1) := dk_172 (dk_at dksX0_ticketsOf_0 16 rfl rfl)
abbrev cX0_prize : ByteArray := prog_1_method_87_code
def yX0_prize : MethodName := ⟨RX0, "prize", "(I)I"⟩
def dkwX0_prize_1 : List UInt8 := [167, 0, 16, 42, 180, 0, 41, 180, 1, 170, 28, 96, 4, 100, 28, 108, 172]
abbrev dktX0_prize_1 : List UInt8 := dkwX0_prize_1 ++ []
def dkwX0_prize_0 : List UInt8 := [42, 27, 182, 0, 193, 154, 0, 6, 16, 254, 172, 42, 27, 182, 1, 167, 61, 28, 154, 0, 7, 2]
abbrev dktX0_prize_0 : List UInt8 := dkwX0_prize_0 ++ dktX0_prize_1
theorem dksX0_prize_0 : cX0_prize.data.toList.drop 0 = dktX0_prize_0 := by decide +kernel
theorem dksX0_prize_1 : cX0_prize.data.toList.drop 22 = dktX0_prize_1 := dk_seg dksX0_prize_0 22 rfl rfl
theorem dX0_prize_0 : decode cX0_prize 0 = .ok (.aload_n 0, 1) := dk_42 (dk_at dksX0_prize_0 0 rfl rfl)
theorem dX0_prize_1 : decode cX0_prize 1 = .ok (.iload_n 1, 1) := dk_27 (dk_at dksX0_prize_0 1 rfl rfl)
theorem dX0_prize_2 : decode cX0_prize 2 = .ok (.invokevirtual 193, 3) := dk_182 0 193 (dk_at dksX0_prize_0 2 rfl rfl)
theorem dX0_prize_5 : decode cX0_prize 5 = .ok (.ifCond .ne 6, 3) := dk_154 0 6 (dk_at dksX0_prize_0 5 rfl rfl)
theorem dX0_prize_8 : decode cX0_prize 8 = .ok (.bipush (-2), 2) := dk_16 254 (dk_at dksX0_prize_0 8 rfl rfl)
theorem dX0_prize_10 : decode cX0_prize 10 = .ok (.ireturn, 1) := dk_172 (dk_at dksX0_prize_0 10 rfl rfl)
theorem dX0_prize_11 : decode cX0_prize 11 = .ok (.aload_n 0, 1) := dk_42 (dk_at dksX0_prize_0 11 rfl rfl)
theorem dX0_prize_12 : decode cX0_prize 12 = .ok (.iload_n 1, 1) := dk_27 (dk_at dksX0_prize_0 12 rfl rfl)
theorem dX0_prize_13 : decode cX0_prize 13 = .ok (.invokevirtual 423, 3) := dk_182 1 167 (dk_at dksX0_prize_0 13 rfl rfl)
theorem dX0_prize_16 : decode cX0_prize 16 = .ok (.istore_n 2, 1) := dk_61 (dk_at dksX0_prize_0 16 rfl rfl)
theorem dX0_prize_17 : decode cX0_prize 17 = .ok (.iload_n 2, 1) := dk_28 (dk_at dksX0_prize_0 17 rfl rfl)
theorem dX0_prize_18 : decode cX0_prize 18 = .ok (.ifCond .ne 7, 3) := dk_154 0 7 (dk_at dksX0_prize_0 18 rfl rfl)
theorem dX0_prize_21 : decode cX0_prize 21 = .ok (.iconst (-1), 1) := dk_2 (dk_at dksX0_prize_0 21 rfl rfl)
theorem dX0_prize_22 : decode cX0_prize 22 = .ok (.goto 16, 3) := dk_167 0 16 (dk_at dksX0_prize_1 0 rfl rfl)
theorem dX0_prize_25 : decode cX0_prize 25 = .ok (.aload_n 0, 1) := dk_42 (dk_at dksX0_prize_1 3 rfl rfl)
theorem dX0_prize_26 : decode cX0_prize 26 = .ok (.getfield 41, 3) := dk_180 0 41 (dk_at dksX0_prize_1 4 rfl rfl)
theorem dX0_prize_29 : decode cX0_prize 29 = .ok (.getfield 426, 3) := dk_180 1 170 (dk_at dksX0_prize_1 7 rfl rfl)
theorem dX0_prize_32 : decode cX0_prize 32 = .ok (.iload_n 2, 1) := dk_28 (dk_at dksX0_prize_1 10 rfl rfl)
theorem dX0_prize_33 : decode cX0_prize 33 = .ok (.iadd, 1) := dk_96 (dk_at dksX0_prize_1 11 rfl rfl)
theorem dX0_prize_34 : decode cX0_prize 34 = .ok (.iconst 1, 1) := dk_4 (dk_at dksX0_prize_1 12 rfl rfl)
theorem dX0_prize_35 : decode cX0_prize 35 = .ok (.isub, 1) := dk_100 (dk_at dksX0_prize_1 13 rfl rfl)
theorem dX0_prize_36 : decode cX0_prize 36 = .ok (.iload_n 2, 1) := dk_28 (dk_at dksX0_prize_1 14 rfl rfl)
theorem dX0_prize_37 : decode cX0_prize 37 = .ok (.idiv, 1) := dk_108 (dk_at dksX0_prize_1 15 rfl rfl)
theorem dX0_prize_38 : decode cX0_prize 38 = .ok (.ireturn, 1) := dk_172 (dk_at dksX0_prize_1 16 rfl rfl)
abbrev cX0_counted : ByteArray := prog_1_method_89_code
def yX0_counted : MethodName := ⟨RX0, "counted", "(I)I"⟩
def dkwX0_counted_1 : List UInt8 := [3, 182, 1, 176, 180, 1, 179, 172]
abbrev dktX0_counted_1 : List UInt8 := dkwX0_counted_1 ++ []
def dkwX0_counted_0 : List UInt8 := [42, 27, 182, 1, 173, 61, 28, 153, 0, 7, 28, 167, 0, 20, 42, 180, 0, 97, 42, 180, 0, 13, 27, 50]
abbrev dktX0_counted_0 : List UInt8 := dkwX0_counted_0 ++ dktX0_counted_1
theorem dksX0_counted_0 : cX0_counted.data.toList.drop 0 = dktX0_counted_0 := by decide +kernel
theorem dksX0_counted_1 : cX0_counted.data.toList.drop 24 = dktX0_counted_1 := dk_seg dksX0_counted_0 24 rfl rfl
theorem dX0_counted_0 : decode cX0_counted 0 = .ok (.aload_n 0, 1) := dk_42 (dk_at dksX0_counted_0 0 rfl rfl)
theorem dX0_counted_1 : decode cX0_counted 1 = .ok (.iload_n 1, 1) := dk_27 (dk_at dksX0_counted_0 1 rfl rfl)
theorem dX0_counted_2 : decode cX0_counted 2 = .ok (.invokevirtual 429, 3) := dk_182 1 173 (dk_at dksX0_counted_0 2 rfl rfl)
theorem dX0_counted_5 : decode cX0_counted 5 = .ok (.istore_n 2, 1) := dk_61 (dk_at dksX0_counted_0 5 rfl rfl)
theorem dX0_counted_6 : decode cX0_counted 6 = .ok (.iload_n 2, 1) := dk_28 (dk_at dksX0_counted_0 6 rfl rfl)
theorem dX0_counted_7 : decode cX0_counted 7 = .ok (.ifCond .eq 7, 3) := dk_153 0 7 (dk_at dksX0_counted_0 7 rfl rfl)
theorem dX0_counted_10 : decode cX0_counted 10 = .ok (.iload_n 2, 1) := dk_28 (dk_at dksX0_counted_0 10 rfl rfl)
theorem dX0_counted_11 : decode cX0_counted 11 = .ok (.goto 20, 3) := dk_167 0 20 (dk_at dksX0_counted_0 11 rfl rfl)
theorem dX0_counted_14 : decode cX0_counted 14 = .ok (.aload_n 0, 1) := dk_42 (dk_at dksX0_counted_0 14 rfl rfl)
theorem dX0_counted_15 : decode cX0_counted 15 = .ok (.getfield 97, 3) := dk_180 0 97 (dk_at dksX0_counted_0 15 rfl rfl)
theorem dX0_counted_18 : decode cX0_counted 18 = .ok (.aload_n 0, 1) := dk_42 (dk_at dksX0_counted_0 18 rfl rfl)
theorem dX0_counted_19 : decode cX0_counted 19 = .ok (.getfield 13, 3) := dk_180 0 13 (dk_at dksX0_counted_0 19 rfl rfl)
theorem dX0_counted_22 : decode cX0_counted 22 = .ok (.iload_n 1, 1) := dk_27 (dk_at dksX0_counted_0 22 rfl rfl)
theorem dX0_counted_23 : decode cX0_counted 23 = .ok (.aaload, 1) := dk_50 (dk_at dksX0_counted_0 23 rfl rfl)
theorem dX0_counted_24 : decode cX0_counted 24 = .ok (.iconst 0, 1) := dk_3 (dk_at dksX0_counted_1 0 rfl rfl)
theorem dX0_counted_25 : decode cX0_counted 25 = .ok (.invokevirtual 432, 3) := dk_182 1 176 (dk_at dksX0_counted_1 1 rfl rfl)
theorem dX0_counted_28 : decode cX0_counted 28 = .ok (.getfield 435, 3) := dk_180 1 179 (dk_at dksX0_counted_1 4 rfl rfl)
theorem dX0_counted_31 : decode cX0_counted 31 = .ok (.ireturn, 1) := dk_172 (dk_at dksX0_counted_1 7 rfl rfl)
abbrev cX0_whyNotBlows : ByteArray := prog_1_method_88_code
def yX0_whyNotBlows : MethodName := ⟨RX0, "whyNotBlows", "(I)I"⟩
def dkwX0_whyNotBlows_3 : List UInt8 := [44, 29, 4, 96, 182, 1, 120, 182, 0, 205, 154, 0, 6, 16, 254, 172, 132, 3, 2, 167, 255, 216, 3, 172]
abbrev dktX0_whyNotBlows_3 : List UInt8 := dkwX0_whyNotBlows_3 ++ []
def dkwX0_whyNotBlows_2 : List UInt8 := [172, 3, 62, 29, 44, 182, 1, 118, 162, 0, 38, 42, 44, 29, 182, 1, 120, 182, 0, 250, 153, 0, 17, 42]
abbrev dktX0_whyNotBlows_2 : List UInt8 := dkwX0_whyNotBlows_2 ++ dktX0_whyNotBlows_3
def dkwX0_whyNotBlows_1 : List UInt8 := [27, 50, 77, 44, 180, 1, 114, 199, 0, 6, 16, 250, 172, 44, 182, 1, 118, 5, 112, 153, 0, 6, 16, 254]
abbrev dktX0_whyNotBlows_1 : List UInt8 := dkwX0_whyNotBlows_1 ++ dktX0_whyNotBlows_2
def dkwX0_whyNotBlows_0 : List UInt8 := [27, 184, 0, 9, 153, 0, 13, 42, 180, 0, 41, 182, 0, 113, 154, 0, 6, 16, 254, 172, 42, 180, 0, 13]
abbrev dktX0_whyNotBlows_0 : List UInt8 := dkwX0_whyNotBlows_0 ++ dktX0_whyNotBlows_1
theorem dksX0_whyNotBlows_0 : cX0_whyNotBlows.data.toList.drop 0 = dktX0_whyNotBlows_0 := by decide +kernel
theorem dksX0_whyNotBlows_1 : cX0_whyNotBlows.data.toList.drop 24 = dktX0_whyNotBlows_1 := dk_seg dksX0_whyNotBlows_0 24 rfl rfl
theorem dksX0_whyNotBlows_2 : cX0_whyNotBlows.data.toList.drop 48 = dktX0_whyNotBlows_2 := dk_seg dksX0_whyNotBlows_1 24 rfl rfl
theorem dksX0_whyNotBlows_3 : cX0_whyNotBlows.data.toList.drop 72 = dktX0_whyNotBlows_3 := dk_seg dksX0_whyNotBlows_2 24 rfl rfl
theorem dX0_whyNotBlows_0 : decode cX0_whyNotBlows 0 = .ok (.iload_n 1, 1) := dk_27 (dk_at dksX0_whyNotBlows_0 0 rfl rfl)
theorem dX0_whyNotBlows_1 : decode cX0_whyNotBlows 1 = .ok (.invokestatic 9, 3) := dk_184 0 9 (dk_at dksX0_whyNotBlows_0 1 rfl rfl)
theorem dX0_whyNotBlows_4 : decode cX0_whyNotBlows 4 = .ok (.ifCond .eq 13, 3) := dk_153 0 13 (dk_at dksX0_whyNotBlows_0 4 rfl rfl)
theorem dX0_whyNotBlows_7 : decode cX0_whyNotBlows 7 = .ok (.aload_n 0, 1) := dk_42 (dk_at dksX0_whyNotBlows_0 7 rfl rfl)
theorem dX0_whyNotBlows_8 : decode cX0_whyNotBlows 8 = .ok (.getfield 41, 3) := dk_180 0 41 (dk_at dksX0_whyNotBlows_0 8 rfl rfl)
theorem dX0_whyNotBlows_11 : decode cX0_whyNotBlows 11 = .ok (.invokevirtual 113, 3) := dk_182 0 113 (dk_at dksX0_whyNotBlows_0 11 rfl rfl)
theorem dX0_whyNotBlows_14 : decode cX0_whyNotBlows 14 = .ok (.ifCond .ne 6, 3) := dk_154 0 6 (dk_at dksX0_whyNotBlows_0 14 rfl rfl)
theorem dX0_whyNotBlows_17 : decode cX0_whyNotBlows 17 = .ok (.bipush (-2), 2) := dk_16 254 (dk_at dksX0_whyNotBlows_0 17 rfl rfl)
theorem dX0_whyNotBlows_19 : decode cX0_whyNotBlows 19 = .ok (.ireturn, 1) := dk_172 (dk_at dksX0_whyNotBlows_0 19 rfl rfl)
theorem dX0_whyNotBlows_20 : decode cX0_whyNotBlows 20 = .ok (.aload_n 0, 1) := dk_42 (dk_at dksX0_whyNotBlows_0 20 rfl rfl)
theorem dX0_whyNotBlows_21 : decode cX0_whyNotBlows 21 = .ok (.getfield 13, 3) := dk_180 0 13 (dk_at dksX0_whyNotBlows_0 21 rfl rfl)
theorem dX0_whyNotBlows_24 : decode cX0_whyNotBlows 24 = .ok (.iload_n 1, 1) := dk_27 (dk_at dksX0_whyNotBlows_1 0 rfl rfl)
theorem dX0_whyNotBlows_25 : decode cX0_whyNotBlows 25 = .ok (.aaload, 1) := dk_50 (dk_at dksX0_whyNotBlows_1 1 rfl rfl)
theorem dX0_whyNotBlows_26 : decode cX0_whyNotBlows 26 = .ok (.astore_n 2, 1) := dk_77 (dk_at dksX0_whyNotBlows_1 2 rfl rfl)
theorem dX0_whyNotBlows_27 : decode cX0_whyNotBlows 27 = .ok (.aload_n 2, 1) := dk_44 (dk_at dksX0_whyNotBlows_1 3 rfl rfl)
theorem dX0_whyNotBlows_28 : decode cX0_whyNotBlows 28 = .ok (.getfield 370, 3) := dk_180 1 114 (dk_at dksX0_whyNotBlows_1 4 rfl rfl)
theorem dX0_whyNotBlows_31 : decode cX0_whyNotBlows 31 = .ok (.ifnonnull 6, 3) := dk_199 0 6 (dk_at dksX0_whyNotBlows_1 7 rfl rfl)
theorem dX0_whyNotBlows_34 : decode cX0_whyNotBlows 34 = .ok (.bipush (-6), 2) := dk_16 250 (dk_at dksX0_whyNotBlows_1 10 rfl rfl)
theorem dX0_whyNotBlows_36 : decode cX0_whyNotBlows 36 = .ok (.ireturn, 1) := dk_172 (dk_at dksX0_whyNotBlows_1 12 rfl rfl)
theorem dX0_whyNotBlows_37 : decode cX0_whyNotBlows 37 = .ok (.aload_n 2, 1) := dk_44 (dk_at dksX0_whyNotBlows_1 13 rfl rfl)
theorem dX0_whyNotBlows_38 : decode cX0_whyNotBlows 38 = .ok (.invokevirtual 374, 3) := dk_182 1 118 (dk_at dksX0_whyNotBlows_1 14 rfl rfl)
theorem dX0_whyNotBlows_41 : decode cX0_whyNotBlows 41 = .ok (.iconst 2, 1) := dk_5 (dk_at dksX0_whyNotBlows_1 17 rfl rfl)
theorem dX0_whyNotBlows_42 : decode cX0_whyNotBlows 42 = .ok (.irem, 1) := dk_112 (dk_at dksX0_whyNotBlows_1 18 rfl rfl)
theorem dX0_whyNotBlows_43 : decode cX0_whyNotBlows 43 = .ok (.ifCond .eq 6, 3) := dk_153 0 6 (dk_at dksX0_whyNotBlows_1 19 rfl rfl)
theorem dX0_whyNotBlows_46 : decode cX0_whyNotBlows 46 = .ok (.bipush (-2), 2) := dk_16 254 (dk_at dksX0_whyNotBlows_1 22 rfl rfl)
theorem dX0_whyNotBlows_48 : decode cX0_whyNotBlows 48 = .ok (.ireturn, 1) := dk_172 (dk_at dksX0_whyNotBlows_2 0 rfl rfl)
theorem dX0_whyNotBlows_49 : decode cX0_whyNotBlows 49 = .ok (.iconst 0, 1) := dk_3 (dk_at dksX0_whyNotBlows_2 1 rfl rfl)
theorem dX0_whyNotBlows_50 : decode cX0_whyNotBlows 50 = .ok (.istore_n 3, 1) := dk_62 (dk_at dksX0_whyNotBlows_2 2 rfl rfl)
theorem dX0_whyNotBlows_51 : decode cX0_whyNotBlows 51 = .ok (.iload_n 3, 1) := dk_29 (dk_at dksX0_whyNotBlows_2 3 rfl rfl)
theorem dX0_whyNotBlows_52 : decode cX0_whyNotBlows 52 = .ok (.aload_n 2, 1) := dk_44 (dk_at dksX0_whyNotBlows_2 4 rfl rfl)
theorem dX0_whyNotBlows_53 : decode cX0_whyNotBlows 53 = .ok (.invokevirtual 374, 3) := dk_182 1 118 (dk_at dksX0_whyNotBlows_2 5 rfl rfl)
theorem dX0_whyNotBlows_56 : decode cX0_whyNotBlows 56 = .ok (.if_icmp .ge 38, 3) := dk_162 0 38 (dk_at dksX0_whyNotBlows_2 8 rfl rfl)
theorem dX0_whyNotBlows_59 : decode cX0_whyNotBlows 59 = .ok (.aload_n 0, 1) := dk_42 (dk_at dksX0_whyNotBlows_2 11 rfl rfl)
theorem dX0_whyNotBlows_60 : decode cX0_whyNotBlows 60 = .ok (.aload_n 2, 1) := dk_44 (dk_at dksX0_whyNotBlows_2 12 rfl rfl)
theorem dX0_whyNotBlows_61 : decode cX0_whyNotBlows 61 = .ok (.iload_n 3, 1) := dk_29 (dk_at dksX0_whyNotBlows_2 13 rfl rfl)
theorem dX0_whyNotBlows_62 : decode cX0_whyNotBlows 62 = .ok (.invokevirtual 376, 3) := dk_182 1 120 (dk_at dksX0_whyNotBlows_2 14 rfl rfl)
theorem dX0_whyNotBlows_65 : decode cX0_whyNotBlows 65 = .ok (.invokevirtual 250, 3) := dk_182 0 250 (dk_at dksX0_whyNotBlows_2 17 rfl rfl)
theorem dX0_whyNotBlows_68 : decode cX0_whyNotBlows 68 = .ok (.ifCond .eq 17, 3) := dk_153 0 17 (dk_at dksX0_whyNotBlows_2 20 rfl rfl)
theorem dX0_whyNotBlows_71 : decode cX0_whyNotBlows 71 = .ok (.aload_n 0, 1) := dk_42 (dk_at dksX0_whyNotBlows_2 23 rfl rfl)
theorem dX0_whyNotBlows_72 : decode cX0_whyNotBlows 72 = .ok (.aload_n 2, 1) := dk_44 (dk_at dksX0_whyNotBlows_3 0 rfl rfl)
theorem dX0_whyNotBlows_73 : decode cX0_whyNotBlows 73 = .ok (.iload_n 3, 1) := dk_29 (dk_at dksX0_whyNotBlows_3 1 rfl rfl)
theorem dX0_whyNotBlows_74 : decode cX0_whyNotBlows 74 = .ok (.iconst 1, 1) := dk_4 (dk_at dksX0_whyNotBlows_3 2 rfl rfl)
theorem dX0_whyNotBlows_75 : decode cX0_whyNotBlows 75 = .ok (.iadd, 1) := dk_96 (dk_at dksX0_whyNotBlows_3 3 rfl rfl)
theorem dX0_whyNotBlows_76 : decode cX0_whyNotBlows 76 = .ok (.invokevirtual 376, 3) := dk_182 1 120 (dk_at dksX0_whyNotBlows_3 4 rfl rfl)
theorem dX0_whyNotBlows_79 : decode cX0_whyNotBlows 79 = .ok (.invokevirtual 205, 3) := dk_182 0 205 (dk_at dksX0_whyNotBlows_3 7 rfl rfl)
theorem dX0_whyNotBlows_82 : decode cX0_whyNotBlows 82 = .ok (.ifCond .ne 6, 3) := dk_154 0 6 (dk_at dksX0_whyNotBlows_3 10 rfl rfl)
theorem dX0_whyNotBlows_85 : decode cX0_whyNotBlows 85 = .ok (.bipush (-2), 2) := dk_16 254 (dk_at dksX0_whyNotBlows_3 13 rfl rfl)
theorem dX0_whyNotBlows_87 : decode cX0_whyNotBlows 87 = .ok (.ireturn, 1) := dk_172 (dk_at dksX0_whyNotBlows_3 15 rfl rfl)
theorem dX0_whyNotBlows_88 : decode cX0_whyNotBlows 88 = .ok (.iinc 3 2, 3) := dk_132 3 2 (dk_at dksX0_whyNotBlows_3 16 rfl rfl)
theorem dX0_whyNotBlows_91 : decode cX0_whyNotBlows 91 = .ok (.goto (-40), 3) := dk_167 255 216 (dk_at dksX0_whyNotBlows_3 19 rfl rfl)
theorem dX0_whyNotBlows_94 : decode cX0_whyNotBlows 94 = .ok (.iconst 0, 1) := dk_3 (dk_at dksX0_whyNotBlows_3 22 rfl rfl)
theorem dX0_whyNotBlows_95 : decode cX0_whyNotBlows 95 = .ok (.ireturn, 1) := dk_172 (dk_at dksX0_whyNotBlows_3 23 rfl rfl)
abbrev cX0_scored : ByteArray := prog_1_method_90_code
def yX0_scored : MethodName := ⟨RX0, "scored", "(I)I"⟩
def dkwX0_scored_2 : List UInt8 := [180, 0, 97, 180, 1, 179, 104, 16, 20, 42, 180, 0, 97, 180, 1, 182, 104, 100, 172]
abbrev dktX0_scored_2 : List UInt8 := dkwX0_scored_2 ++ []
def dkwX0_scored_1 : List UInt8 := [17, 232, 144, 172, 42, 180, 0, 97, 42, 180, 0, 13, 27, 50, 3, 182, 1, 176, 87, 16, 10, 42]
abbrev dktX0_scored_1 : List UInt8 := dkwX0_scored_1 ++ dktX0_scored_2
def dkwX0_scored_0 : List UInt8 := [42, 27, 182, 1, 173, 61, 28, 153, 0, 19, 28, 16, 254, 160, 0, 9, 17, 248, 48, 167, 0, 6]
abbrev dktX0_scored_0 : List UInt8 := dkwX0_scored_0 ++ dktX0_scored_1
theorem dksX0_scored_0 : cX0_scored.data.toList.drop 0 = dktX0_scored_0 := by decide +kernel
theorem dksX0_scored_1 : cX0_scored.data.toList.drop 22 = dktX0_scored_1 := dk_seg dksX0_scored_0 22 rfl rfl
theorem dksX0_scored_2 : cX0_scored.data.toList.drop 44 = dktX0_scored_2 := dk_seg dksX0_scored_1 22 rfl rfl
theorem dX0_scored_0 : decode cX0_scored 0 = .ok (.aload_n 0, 1) := dk_42 (dk_at dksX0_scored_0 0 rfl rfl)
theorem dX0_scored_1 : decode cX0_scored 1 = .ok (.iload_n 1, 1) := dk_27 (dk_at dksX0_scored_0 1 rfl rfl)
theorem dX0_scored_2 : decode cX0_scored 2 = .ok (.invokevirtual 429, 3) := dk_182 1 173 (dk_at dksX0_scored_0 2 rfl rfl)
theorem dX0_scored_5 : decode cX0_scored 5 = .ok (.istore_n 2, 1) := dk_61 (dk_at dksX0_scored_0 5 rfl rfl)
theorem dX0_scored_6 : decode cX0_scored 6 = .ok (.iload_n 2, 1) := dk_28 (dk_at dksX0_scored_0 6 rfl rfl)
theorem dX0_scored_7 : decode cX0_scored 7 = .ok (.ifCond .eq 19, 3) := dk_153 0 19 (dk_at dksX0_scored_0 7 rfl rfl)
theorem dX0_scored_10 : decode cX0_scored 10 = .ok (.iload_n 2, 1) := dk_28 (dk_at dksX0_scored_0 10 rfl rfl)
theorem dX0_scored_11 : decode cX0_scored 11 = .ok (.bipush (-2), 2) := dk_16 254 (dk_at dksX0_scored_0 11 rfl rfl)
theorem dX0_scored_13 : decode cX0_scored 13 = .ok (.if_icmp .ne 9, 3) := dk_160 0 9 (dk_at dksX0_scored_0 13 rfl rfl)
theorem dX0_scored_16 : decode cX0_scored 16 = .ok (.sipush (-2000), 3) := dk_17 248 48 (dk_at dksX0_scored_0 16 rfl rfl)
theorem dX0_scored_19 : decode cX0_scored 19 = .ok (.goto 6, 3) := dk_167 0 6 (dk_at dksX0_scored_0 19 rfl rfl)
theorem dX0_scored_22 : decode cX0_scored 22 = .ok (.sipush (-6000), 3) := dk_17 232 144 (dk_at dksX0_scored_1 0 rfl rfl)
theorem dX0_scored_25 : decode cX0_scored 25 = .ok (.ireturn, 1) := dk_172 (dk_at dksX0_scored_1 3 rfl rfl)
theorem dX0_scored_26 : decode cX0_scored 26 = .ok (.aload_n 0, 1) := dk_42 (dk_at dksX0_scored_1 4 rfl rfl)
theorem dX0_scored_27 : decode cX0_scored 27 = .ok (.getfield 97, 3) := dk_180 0 97 (dk_at dksX0_scored_1 5 rfl rfl)
theorem dX0_scored_30 : decode cX0_scored 30 = .ok (.aload_n 0, 1) := dk_42 (dk_at dksX0_scored_1 8 rfl rfl)
theorem dX0_scored_31 : decode cX0_scored 31 = .ok (.getfield 13, 3) := dk_180 0 13 (dk_at dksX0_scored_1 9 rfl rfl)
theorem dX0_scored_34 : decode cX0_scored 34 = .ok (.iload_n 1, 1) := dk_27 (dk_at dksX0_scored_1 12 rfl rfl)
theorem dX0_scored_35 : decode cX0_scored 35 = .ok (.aaload, 1) := dk_50 (dk_at dksX0_scored_1 13 rfl rfl)
theorem dX0_scored_36 : decode cX0_scored 36 = .ok (.iconst 0, 1) := dk_3 (dk_at dksX0_scored_1 14 rfl rfl)
theorem dX0_scored_37 : decode cX0_scored 37 = .ok (.invokevirtual 432, 3) := dk_182 1 176 (dk_at dksX0_scored_1 15 rfl rfl)
theorem dX0_scored_40 : decode cX0_scored 40 = .ok (.pop, 1) := dk_87 (dk_at dksX0_scored_1 18 rfl rfl)
theorem dX0_scored_41 : decode cX0_scored 41 = .ok (.bipush 10, 2) := dk_16 10 (dk_at dksX0_scored_1 19 rfl rfl)
theorem dX0_scored_43 : decode cX0_scored 43 = .ok (.aload_n 0, 1) := dk_42 (dk_at dksX0_scored_1 21 rfl rfl)
theorem dX0_scored_44 : decode cX0_scored 44 = .ok (.getfield 97, 3) := dk_180 0 97 (dk_at dksX0_scored_2 0 rfl rfl)
theorem dX0_scored_47 : decode cX0_scored 47 = .ok (.getfield 435, 3) := dk_180 1 179 (dk_at dksX0_scored_2 3 rfl rfl)
theorem dX0_scored_50 : decode cX0_scored 50 = .ok (.imul, 1) := dk_104 (dk_at dksX0_scored_2 6 rfl rfl)
theorem dX0_scored_51 : decode cX0_scored 51 = .ok (.bipush 20, 2) := dk_16 20 (dk_at dksX0_scored_2 7 rfl rfl)
theorem dX0_scored_53 : decode cX0_scored 53 = .ok (.aload_n 0, 1) := dk_42 (dk_at dksX0_scored_2 9 rfl rfl)
theorem dX0_scored_54 : decode cX0_scored 54 = .ok (.getfield 97, 3) := dk_180 0 97 (dk_at dksX0_scored_2 10 rfl rfl)
theorem dX0_scored_57 : decode cX0_scored 57 = .ok (.getfield 438, 3) := dk_180 1 182 (dk_at dksX0_scored_2 13 rfl rfl)
theorem dX0_scored_60 : decode cX0_scored 60 = .ok (.imul, 1) := dk_104 (dk_at dksX0_scored_2 16 rfl rfl)
theorem dX0_scored_61 : decode cX0_scored 61 = .ok (.isub, 1) := dk_100 (dk_at dksX0_scored_2 17 rfl rfl)
theorem dX0_scored_62 : decode cX0_scored 62 = .ok (.ireturn, 1) := dk_172 (dk_at dksX0_scored_2 18 rfl rfl)
abbrev cX0_early : ByteArray := prog_1_method_91_code
def yX0_early : MethodName := ⟨RX0, "early", "(II)I"⟩
def dkwX0_early_2 : List UInt8 := [172]
abbrev dktX0_early_2 : List UInt8 := dkwX0_early_2 ++ []
def dkwX0_early_1 : List UInt8 := [153, 0, 7, 29, 167, 0, 20, 42, 180, 0, 97, 42, 180, 0, 13, 27, 50, 28, 182, 1, 176, 180, 1, 185]
abbrev dktX0_early_1 : List UInt8 := dkwX0_early_1 ++ dktX0_early_2
def dkwX0_early_0 : List UInt8 := [28, 133, 9, 20, 1, 154, 184, 0, 5, 153, 0, 11, 42, 27, 182, 1, 173, 167, 0, 5, 16, 254, 62, 29]
abbrev dktX0_early_0 : List UInt8 := dkwX0_early_0 ++ dktX0_early_1
theorem dksX0_early_0 : cX0_early.data.toList.drop 0 = dktX0_early_0 := by decide +kernel
theorem dksX0_early_1 : cX0_early.data.toList.drop 24 = dktX0_early_1 := dk_seg dksX0_early_0 24 rfl rfl
theorem dksX0_early_2 : cX0_early.data.toList.drop 48 = dktX0_early_2 := dk_seg dksX0_early_1 24 rfl rfl
theorem dX0_early_0 : decode cX0_early 0 = .ok (.iload_n 2, 1) := dk_28 (dk_at dksX0_early_0 0 rfl rfl)
theorem dX0_early_1 : decode cX0_early 1 = .ok (.i2l, 1) := dk_133 (dk_at dksX0_early_0 1 rfl rfl)
theorem dX0_early_2 : decode cX0_early 2 = .ok (.lconst 0, 1) := dk_9 (dk_at dksX0_early_0 2 rfl rfl)
theorem dX0_early_3 : decode cX0_early 3 = .ok (.ldc2_w 410, 3) := dk_20 1 154 (dk_at dksX0_early_0 3 rfl rfl)
theorem dX0_early_6 : decode cX0_early 6 = .ok (.invokestatic 5, 3) := dk_184 0 5 (dk_at dksX0_early_0 6 rfl rfl)
theorem dX0_early_9 : decode cX0_early 9 = .ok (.ifCond .eq 11, 3) := dk_153 0 11 (dk_at dksX0_early_0 9 rfl rfl)
theorem dX0_early_12 : decode cX0_early 12 = .ok (.aload_n 0, 1) := dk_42 (dk_at dksX0_early_0 12 rfl rfl)
theorem dX0_early_13 : decode cX0_early 13 = .ok (.iload_n 1, 1) := dk_27 (dk_at dksX0_early_0 13 rfl rfl)
theorem dX0_early_14 : decode cX0_early 14 = .ok (.invokevirtual 429, 3) := dk_182 1 173 (dk_at dksX0_early_0 14 rfl rfl)
theorem dX0_early_17 : decode cX0_early 17 = .ok (.goto 5, 3) := dk_167 0 5 (dk_at dksX0_early_0 17 rfl rfl)
theorem dX0_early_20 : decode cX0_early 20 = .ok (.bipush (-2), 2) := dk_16 254 (dk_at dksX0_early_0 20 rfl rfl)
theorem dX0_early_22 : decode cX0_early 22 = .ok (.istore_n 3, 1) := dk_62 (dk_at dksX0_early_0 22 rfl rfl)
theorem dX0_early_23 : decode cX0_early 23 = .ok (.iload_n 3, 1) := dk_29 (dk_at dksX0_early_0 23 rfl rfl)
theorem dX0_early_24 : decode cX0_early 24 = .ok (.ifCond .eq 7, 3) := dk_153 0 7 (dk_at dksX0_early_1 0 rfl rfl)
theorem dX0_early_27 : decode cX0_early 27 = .ok (.iload_n 3, 1) := dk_29 (dk_at dksX0_early_1 3 rfl rfl)
theorem dX0_early_28 : decode cX0_early 28 = .ok (.goto 20, 3) := dk_167 0 20 (dk_at dksX0_early_1 4 rfl rfl)
theorem dX0_early_31 : decode cX0_early 31 = .ok (.aload_n 0, 1) := dk_42 (dk_at dksX0_early_1 7 rfl rfl)
theorem dX0_early_32 : decode cX0_early 32 = .ok (.getfield 97, 3) := dk_180 0 97 (dk_at dksX0_early_1 8 rfl rfl)
theorem dX0_early_35 : decode cX0_early 35 = .ok (.aload_n 0, 1) := dk_42 (dk_at dksX0_early_1 11 rfl rfl)
theorem dX0_early_36 : decode cX0_early 36 = .ok (.getfield 13, 3) := dk_180 0 13 (dk_at dksX0_early_1 12 rfl rfl)
theorem dX0_early_39 : decode cX0_early 39 = .ok (.iload_n 1, 1) := dk_27 (dk_at dksX0_early_1 15 rfl rfl)
theorem dX0_early_40 : decode cX0_early 40 = .ok (.aaload, 1) := dk_50 (dk_at dksX0_early_1 16 rfl rfl)
theorem dX0_early_41 : decode cX0_early 41 = .ok (.iload_n 2, 1) := dk_28 (dk_at dksX0_early_1 17 rfl rfl)
theorem dX0_early_42 : decode cX0_early 42 = .ok (.invokevirtual 432, 3) := dk_182 1 176 (dk_at dksX0_early_1 18 rfl rfl)
theorem dX0_early_45 : decode cX0_early 45 = .ok (.getfield 441, 3) := dk_180 1 185 (dk_at dksX0_early_1 21 rfl rfl)
theorem dX0_early_48 : decode cX0_early 48 = .ok (.ireturn, 1) := dk_172 (dk_at dksX0_early_2 0 rfl rfl)
abbrev cX0_often : ByteArray := prog_1_method_93_code
def yX0_often : MethodName := ⟨RX0, "often", "(I)I"⟩
def dkwX0_often_0 : List UInt8 := [42, 27, 133, 182, 0, 250, 153, 0, 11, 42, 27, 182, 1, 204, 167, 0, 5, 16, 254, 172]
abbrev dktX0_often_0 : List UInt8 := dkwX0_often_0 ++ []
theorem dksX0_often_0 : cX0_often.data.toList.drop 0 = dktX0_often_0 := by decide +kernel
theorem dX0_often_0 : decode cX0_often 0 = .ok (.aload_n 0, 1) := dk_42 (dk_at dksX0_often_0 0 rfl rfl)
theorem dX0_often_1 : decode cX0_often 1 = .ok (.iload_n 1, 1) := dk_27 (dk_at dksX0_often_0 1 rfl rfl)
theorem dX0_often_2 : decode cX0_often 2 = .ok (.i2l, 1) := dk_133 (dk_at dksX0_often_0 2 rfl rfl)
theorem dX0_often_3 : decode cX0_often 3 = .ok (.invokevirtual 250, 3) := dk_182 0 250 (dk_at dksX0_often_0 3 rfl rfl)
theorem dX0_often_6 : decode cX0_often 6 = .ok (.ifCond .eq 11, 3) := dk_153 0 11 (dk_at dksX0_often_0 6 rfl rfl)
theorem dX0_often_9 : decode cX0_often 9 = .ok (.aload_n 0, 1) := dk_42 (dk_at dksX0_often_0 9 rfl rfl)
theorem dX0_often_10 : decode cX0_often 10 = .ok (.iload_n 1, 1) := dk_27 (dk_at dksX0_often_0 10 rfl rfl)
theorem dX0_often_11 : decode cX0_often 11 = .ok (.invokevirtual 460, 3) := dk_182 1 204 (dk_at dksX0_often_0 11 rfl rfl)
theorem dX0_often_14 : decode cX0_often 14 = .ok (.goto 5, 3) := dk_167 0 5 (dk_at dksX0_often_0 14 rfl rfl)
theorem dX0_often_17 : decode cX0_often 17 = .ok (.bipush (-2), 2) := dk_16 254 (dk_at dksX0_often_0 17 rfl rfl)
theorem dX0_often_19 : decode cX0_often 19 = .ok (.ireturn, 1) := dk_172 (dk_at dksX0_often_0 19 rfl rfl)
abbrev cX0_oftenOf : ByteArray := prog_1_method_92_code
def yX0_oftenOf : MethodName := ⟨RX0, "oftenOf", "(I)I"⟩
def dkwX0_oftenOf_2 : List UInt8 := [167, 0, 4, 3, 96, 61, 167, 255, 219, 28, 172]
abbrev dktX0_oftenOf_2 : List UInt8 := dkwX0_oftenOf_2 ++ []
def dkwX0_oftenOf_1 : List UInt8 := [45, 185, 1, 197, 1, 0, 192, 0, 145, 58, 4, 28, 25, 4, 27, 182, 1, 201, 153, 0, 7, 4]
abbrev dktX0_oftenOf_1 : List UInt8 := dkwX0_oftenOf_1 ++ dktX0_oftenOf_2
def dkwX0_oftenOf_0 : List UInt8 := [3, 61, 42, 180, 0, 41, 180, 0, 131, 185, 1, 188, 1, 0, 78, 45, 185, 1, 192, 1, 0, 153, 0, 34]
abbrev dktX0_oftenOf_0 : List UInt8 := dkwX0_oftenOf_0 ++ dktX0_oftenOf_1
theorem dksX0_oftenOf_0 : cX0_oftenOf.data.toList.drop 0 = dktX0_oftenOf_0 := by decide +kernel
theorem dksX0_oftenOf_1 : cX0_oftenOf.data.toList.drop 24 = dktX0_oftenOf_1 := dk_seg dksX0_oftenOf_0 24 rfl rfl
theorem dksX0_oftenOf_2 : cX0_oftenOf.data.toList.drop 46 = dktX0_oftenOf_2 := dk_seg dksX0_oftenOf_1 22 rfl rfl
theorem dX0_oftenOf_0 : decode cX0_oftenOf 0 = .ok (.iconst 0, 1) := dk_3 (dk_at dksX0_oftenOf_0 0 rfl rfl)
theorem dX0_oftenOf_1 : decode cX0_oftenOf 1 = .ok (.istore_n 2, 1) := dk_61 (dk_at dksX0_oftenOf_0 1 rfl rfl)
theorem dX0_oftenOf_2 : decode cX0_oftenOf 2 = .ok (.aload_n 0, 1) := dk_42 (dk_at dksX0_oftenOf_0 2 rfl rfl)
theorem dX0_oftenOf_3 : decode cX0_oftenOf 3 = .ok (.getfield 41, 3) := dk_180 0 41 (dk_at dksX0_oftenOf_0 3 rfl rfl)
theorem dX0_oftenOf_6 : decode cX0_oftenOf 6 = .ok (.getfield 131, 3) := dk_180 0 131 (dk_at dksX0_oftenOf_0 6 rfl rfl)
theorem dX0_oftenOf_9 : decode cX0_oftenOf 9 = .ok (.invokeinterface 444 1, 5) := by decide +kernel
theorem dX0_oftenOf_14 : decode cX0_oftenOf 14 = .ok (.astore_n 3, 1) := dk_78 (dk_at dksX0_oftenOf_0 14 rfl rfl)
theorem dX0_oftenOf_15 : decode cX0_oftenOf 15 = .ok (.aload_n 3, 1) := dk_45 (dk_at dksX0_oftenOf_0 15 rfl rfl)
theorem dX0_oftenOf_16 : decode cX0_oftenOf 16 = .ok (.invokeinterface 448 1, 5) := by decide +kernel
theorem dX0_oftenOf_21 : decode cX0_oftenOf 21 = .ok (.ifCond .eq 34, 3) := dk_153 0 34 (dk_at dksX0_oftenOf_0 21 rfl rfl)
theorem dX0_oftenOf_24 : decode cX0_oftenOf 24 = .ok (.aload_n 3, 1) := dk_45 (dk_at dksX0_oftenOf_1 0 rfl rfl)
theorem dX0_oftenOf_25 : decode cX0_oftenOf 25 = .ok (.invokeinterface 453 1, 5) := by decide +kernel
theorem dX0_oftenOf_30 : decode cX0_oftenOf 30 = .ok (.checkcast 145, 3) := dk_192 0 145 (dk_at dksX0_oftenOf_1 6 rfl rfl)
theorem dX0_oftenOf_33 : decode cX0_oftenOf 33 = .ok (.astore 4, 2) := dk_58 4 (dk_at dksX0_oftenOf_1 9 rfl rfl)
theorem dX0_oftenOf_35 : decode cX0_oftenOf 35 = .ok (.iload_n 2, 1) := dk_28 (dk_at dksX0_oftenOf_1 11 rfl rfl)
theorem dX0_oftenOf_36 : decode cX0_oftenOf 36 = .ok (.aload 4, 2) := dk_25 4 (dk_at dksX0_oftenOf_1 12 rfl rfl)
theorem dX0_oftenOf_38 : decode cX0_oftenOf 38 = .ok (.iload_n 1, 1) := dk_27 (dk_at dksX0_oftenOf_1 14 rfl rfl)
theorem dX0_oftenOf_39 : decode cX0_oftenOf 39 = .ok (.invokevirtual 457, 3) := dk_182 1 201 (dk_at dksX0_oftenOf_1 15 rfl rfl)
theorem dX0_oftenOf_42 : decode cX0_oftenOf 42 = .ok (.ifCond .eq 7, 3) := dk_153 0 7 (dk_at dksX0_oftenOf_1 18 rfl rfl)
theorem dX0_oftenOf_45 : decode cX0_oftenOf 45 = .ok (.iconst 1, 1) := dk_4 (dk_at dksX0_oftenOf_1 21 rfl rfl)
theorem dX0_oftenOf_46 : decode cX0_oftenOf 46 = .ok (.goto 4, 3) := dk_167 0 4 (dk_at dksX0_oftenOf_2 0 rfl rfl)
theorem dX0_oftenOf_49 : decode cX0_oftenOf 49 = .ok (.iconst 0, 1) := dk_3 (dk_at dksX0_oftenOf_2 3 rfl rfl)
theorem dX0_oftenOf_50 : decode cX0_oftenOf 50 = .ok (.iadd, 1) := dk_96 (dk_at dksX0_oftenOf_2 4 rfl rfl)
theorem dX0_oftenOf_51 : decode cX0_oftenOf 51 = .ok (.istore_n 2, 1) := dk_61 (dk_at dksX0_oftenOf_2 5 rfl rfl)
theorem dX0_oftenOf_52 : decode cX0_oftenOf 52 = .ok (.goto (-37), 3) := dk_167 255 219 (dk_at dksX0_oftenOf_2 6 rfl rfl)
theorem dX0_oftenOf_55 : decode cX0_oftenOf 55 = .ok (.iload_n 2, 1) := dk_28 (dk_at dksX0_oftenOf_2 9 rfl rfl)
theorem dX0_oftenOf_56 : decode cX0_oftenOf 56 = .ok (.ireturn, 1) := dk_172 (dk_at dksX0_oftenOf_2 10 rfl rfl)
abbrev cX0_balance : ByteArray := prog_1_method_94_code
def yX0_balance : MethodName := ⟨RX0, "balance", "()I"⟩
def dkwX0_balance_3 : List UInt8 := [2, 160, 0, 7, 2, 167, 0, 6, 27, 28, 100, 172]
abbrev dktX0_balance_3 : List UInt8 := dkwX0_balance_3 ++ []
def dkwX0_balance_2 : List UInt8 := [182, 1, 204, 184, 1, 142, 60, 28, 42, 29, 182, 1, 204, 184, 1, 0, 61, 132, 3, 1, 167, 255, 211, 27]
abbrev dktX0_balance_2 : List UInt8 := dkwX0_balance_2 ++ dktX0_balance_3
def dkwX0_balance_1 : List UInt8 := [180, 0, 41, 182, 0, 155, 162, 0, 40, 42, 29, 182, 0, 167, 154, 0, 6, 167, 0, 23, 27, 42, 29]
abbrev dktX0_balance_1 : List UInt8 := dkwX0_balance_1 ++ dktX0_balance_2
def dkwX0_balance_0 : List UInt8 := [42, 180, 0, 41, 182, 0, 113, 154, 0, 6, 16, 254, 172, 2, 60, 19, 1, 207, 61, 3, 62, 29, 42]
abbrev dktX0_balance_0 : List UInt8 := dkwX0_balance_0 ++ dktX0_balance_1
theorem dksX0_balance_0 : cX0_balance.data.toList.drop 0 = dktX0_balance_0 := by decide +kernel
theorem dksX0_balance_1 : cX0_balance.data.toList.drop 23 = dktX0_balance_1 := dk_seg dksX0_balance_0 23 rfl rfl
theorem dksX0_balance_2 : cX0_balance.data.toList.drop 46 = dktX0_balance_2 := dk_seg dksX0_balance_1 23 rfl rfl
theorem dksX0_balance_3 : cX0_balance.data.toList.drop 70 = dktX0_balance_3 := dk_seg dksX0_balance_2 24 rfl rfl
theorem dX0_balance_0 : decode cX0_balance 0 = .ok (.aload_n 0, 1) := dk_42 (dk_at dksX0_balance_0 0 rfl rfl)
theorem dX0_balance_1 : decode cX0_balance 1 = .ok (.getfield 41, 3) := dk_180 0 41 (dk_at dksX0_balance_0 1 rfl rfl)
theorem dX0_balance_4 : decode cX0_balance 4 = .ok (.invokevirtual 113, 3) := dk_182 0 113 (dk_at dksX0_balance_0 4 rfl rfl)
theorem dX0_balance_7 : decode cX0_balance 7 = .ok (.ifCond .ne 6, 3) := dk_154 0 6 (dk_at dksX0_balance_0 7 rfl rfl)
theorem dX0_balance_10 : decode cX0_balance 10 = .ok (.bipush (-2), 2) := dk_16 254 (dk_at dksX0_balance_0 10 rfl rfl)
theorem dX0_balance_12 : decode cX0_balance 12 = .ok (.ireturn, 1) := dk_172 (dk_at dksX0_balance_0 12 rfl rfl)
theorem dX0_balance_13 : decode cX0_balance 13 = .ok (.iconst (-1), 1) := dk_2 (dk_at dksX0_balance_0 13 rfl rfl)
theorem dX0_balance_14 : decode cX0_balance 14 = .ok (.istore_n 1, 1) := dk_60 (dk_at dksX0_balance_0 14 rfl rfl)
theorem dX0_balance_15 : decode cX0_balance 15 = .ok (.ldc_w 463, 3) := dk_19 1 207 (dk_at dksX0_balance_0 15 rfl rfl)
theorem dX0_balance_18 : decode cX0_balance 18 = .ok (.istore_n 2, 1) := dk_61 (dk_at dksX0_balance_0 18 rfl rfl)
theorem dX0_balance_19 : decode cX0_balance 19 = .ok (.iconst 0, 1) := dk_3 (dk_at dksX0_balance_0 19 rfl rfl)
theorem dX0_balance_20 : decode cX0_balance 20 = .ok (.istore_n 3, 1) := dk_62 (dk_at dksX0_balance_0 20 rfl rfl)
theorem dX0_balance_21 : decode cX0_balance 21 = .ok (.iload_n 3, 1) := dk_29 (dk_at dksX0_balance_0 21 rfl rfl)
theorem dX0_balance_22 : decode cX0_balance 22 = .ok (.aload_n 0, 1) := dk_42 (dk_at dksX0_balance_0 22 rfl rfl)
theorem dX0_balance_23 : decode cX0_balance 23 = .ok (.getfield 41, 3) := dk_180 0 41 (dk_at dksX0_balance_1 0 rfl rfl)
theorem dX0_balance_26 : decode cX0_balance 26 = .ok (.invokevirtual 155, 3) := dk_182 0 155 (dk_at dksX0_balance_1 3 rfl rfl)
theorem dX0_balance_29 : decode cX0_balance 29 = .ok (.if_icmp .ge 40, 3) := dk_162 0 40 (dk_at dksX0_balance_1 6 rfl rfl)
theorem dX0_balance_32 : decode cX0_balance 32 = .ok (.aload_n 0, 1) := dk_42 (dk_at dksX0_balance_1 9 rfl rfl)
theorem dX0_balance_33 : decode cX0_balance 33 = .ok (.iload_n 3, 1) := dk_29 (dk_at dksX0_balance_1 10 rfl rfl)
theorem dX0_balance_34 : decode cX0_balance 34 = .ok (.invokevirtual 167, 3) := dk_182 0 167 (dk_at dksX0_balance_1 11 rfl rfl)
theorem dX0_balance_37 : decode cX0_balance 37 = .ok (.ifCond .ne 6, 3) := dk_154 0 6 (dk_at dksX0_balance_1 14 rfl rfl)
theorem dX0_balance_40 : decode cX0_balance 40 = .ok (.goto 23, 3) := dk_167 0 23 (dk_at dksX0_balance_1 17 rfl rfl)
theorem dX0_balance_43 : decode cX0_balance 43 = .ok (.iload_n 1, 1) := dk_27 (dk_at dksX0_balance_1 20 rfl rfl)
theorem dX0_balance_44 : decode cX0_balance 44 = .ok (.aload_n 0, 1) := dk_42 (dk_at dksX0_balance_1 21 rfl rfl)
theorem dX0_balance_45 : decode cX0_balance 45 = .ok (.iload_n 3, 1) := dk_29 (dk_at dksX0_balance_1 22 rfl rfl)
theorem dX0_balance_46 : decode cX0_balance 46 = .ok (.invokevirtual 460, 3) := dk_182 1 204 (dk_at dksX0_balance_2 0 rfl rfl)
theorem dX0_balance_49 : decode cX0_balance 49 = .ok (.invokestatic 398, 3) := dk_184 1 142 (dk_at dksX0_balance_2 3 rfl rfl)
theorem dX0_balance_52 : decode cX0_balance 52 = .ok (.istore_n 1, 1) := dk_60 (dk_at dksX0_balance_2 6 rfl rfl)
theorem dX0_balance_53 : decode cX0_balance 53 = .ok (.iload_n 2, 1) := dk_28 (dk_at dksX0_balance_2 7 rfl rfl)
theorem dX0_balance_54 : decode cX0_balance 54 = .ok (.aload_n 0, 1) := dk_42 (dk_at dksX0_balance_2 8 rfl rfl)
theorem dX0_balance_55 : decode cX0_balance 55 = .ok (.iload_n 3, 1) := dk_29 (dk_at dksX0_balance_2 9 rfl rfl)
theorem dX0_balance_56 : decode cX0_balance 56 = .ok (.invokevirtual 460, 3) := dk_182 1 204 (dk_at dksX0_balance_2 10 rfl rfl)
theorem dX0_balance_59 : decode cX0_balance 59 = .ok (.invokestatic 256, 3) := dk_184 1 0 (dk_at dksX0_balance_2 13 rfl rfl)
theorem dX0_balance_62 : decode cX0_balance 62 = .ok (.istore_n 2, 1) := dk_61 (dk_at dksX0_balance_2 16 rfl rfl)
theorem dX0_balance_63 : decode cX0_balance 63 = .ok (.iinc 3 1, 3) := dk_132 3 1 (dk_at dksX0_balance_2 17 rfl rfl)
theorem dX0_balance_66 : decode cX0_balance 66 = .ok (.goto (-45), 3) := dk_167 255 211 (dk_at dksX0_balance_2 20 rfl rfl)
theorem dX0_balance_69 : decode cX0_balance 69 = .ok (.iload_n 1, 1) := dk_27 (dk_at dksX0_balance_2 23 rfl rfl)
theorem dX0_balance_70 : decode cX0_balance 70 = .ok (.iconst (-1), 1) := dk_2 (dk_at dksX0_balance_3 0 rfl rfl)
theorem dX0_balance_71 : decode cX0_balance 71 = .ok (.if_icmp .ne 7, 3) := dk_160 0 7 (dk_at dksX0_balance_3 1 rfl rfl)
theorem dX0_balance_74 : decode cX0_balance 74 = .ok (.iconst (-1), 1) := dk_2 (dk_at dksX0_balance_3 4 rfl rfl)
theorem dX0_balance_75 : decode cX0_balance 75 = .ok (.goto 6, 3) := dk_167 0 6 (dk_at dksX0_balance_3 5 rfl rfl)
theorem dX0_balance_78 : decode cX0_balance 78 = .ok (.iload_n 1, 1) := dk_27 (dk_at dksX0_balance_3 8 rfl rfl)
theorem dX0_balance_79 : decode cX0_balance 79 = .ok (.iload_n 2, 1) := dk_28 (dk_at dksX0_balance_3 9 rfl rfl)
theorem dX0_balance_80 : decode cX0_balance 80 = .ok (.isub, 1) := dk_100 (dk_at dksX0_balance_3 10 rfl rfl)
theorem dX0_balance_81 : decode cX0_balance 81 = .ok (.ireturn, 1) := dk_172 (dk_at dksX0_balance_3 11 rfl rfl)
abbrev cX0_path : ByteArray := prog_1_method_96_code
def yX0_path : MethodName := ⟨RX0, "path", "()I"⟩
def dkwX0_path_0 : List UInt8 := [42, 180, 0, 41, 182, 0, 113, 153, 0, 10, 42, 182, 1, 208, 167, 0, 5, 16, 254, 172]
abbrev dktX0_path_0 : List UInt8 := dkwX0_path_0 ++ []
theorem dksX0_path_0 : cX0_path.data.toList.drop 0 = dktX0_path_0 := by decide +kernel
theorem dX0_path_0 : decode cX0_path 0 = .ok (.aload_n 0, 1) := dk_42 (dk_at dksX0_path_0 0 rfl rfl)
theorem dX0_path_1 : decode cX0_path 1 = .ok (.getfield 41, 3) := dk_180 0 41 (dk_at dksX0_path_0 1 rfl rfl)
theorem dX0_path_4 : decode cX0_path 4 = .ok (.invokevirtual 113, 3) := dk_182 0 113 (dk_at dksX0_path_0 4 rfl rfl)
theorem dX0_path_7 : decode cX0_path 7 = .ok (.ifCond .eq 10, 3) := dk_153 0 10 (dk_at dksX0_path_0 7 rfl rfl)
theorem dX0_path_10 : decode cX0_path 10 = .ok (.aload_n 0, 1) := dk_42 (dk_at dksX0_path_0 10 rfl rfl)
theorem dX0_path_11 : decode cX0_path 11 = .ok (.invokevirtual 464, 3) := dk_182 1 208 (dk_at dksX0_path_0 11 rfl rfl)
theorem dX0_path_14 : decode cX0_path 14 = .ok (.goto 5, 3) := dk_167 0 5 (dk_at dksX0_path_0 14 rfl rfl)
theorem dX0_path_17 : decode cX0_path 17 = .ok (.bipush (-2), 2) := dk_16 254 (dk_at dksX0_path_0 17 rfl rfl)
theorem dX0_path_19 : decode cX0_path 19 = .ok (.ireturn, 1) := dk_172 (dk_at dksX0_path_0 19 rfl rfl)
abbrev cX0_pathOf : ByteArray := prog_1_method_95_code
def yX0_pathOf : MethodName := ⟨RX0, "pathOf", "()I"⟩
def dkwX0_pathOf_1 : List UInt8 := [182, 1, 107, 182, 0, 221, 96, 60, 132, 2, 1, 167, 255, 226, 27, 172]
abbrev dktX0_pathOf_1 : List UInt8 := dkwX0_pathOf_1 ++ []
def dkwX0_pathOf_0 : List UInt8 := [3, 60, 3, 61, 28, 42, 182, 0, 152, 162, 0, 28, 27, 42, 42, 28, 182, 1, 107, 42, 28, 4, 96]
abbrev dktX0_pathOf_0 : List UInt8 := dkwX0_pathOf_0 ++ dktX0_pathOf_1
theorem dksX0_pathOf_0 : cX0_pathOf.data.toList.drop 0 = dktX0_pathOf_0 := by decide +kernel
theorem dksX0_pathOf_1 : cX0_pathOf.data.toList.drop 23 = dktX0_pathOf_1 := dk_seg dksX0_pathOf_0 23 rfl rfl
theorem dX0_pathOf_0 : decode cX0_pathOf 0 = .ok (.iconst 0, 1) := dk_3 (dk_at dksX0_pathOf_0 0 rfl rfl)
theorem dX0_pathOf_1 : decode cX0_pathOf 1 = .ok (.istore_n 1, 1) := dk_60 (dk_at dksX0_pathOf_0 1 rfl rfl)
theorem dX0_pathOf_2 : decode cX0_pathOf 2 = .ok (.iconst 0, 1) := dk_3 (dk_at dksX0_pathOf_0 2 rfl rfl)
theorem dX0_pathOf_3 : decode cX0_pathOf 3 = .ok (.istore_n 2, 1) := dk_61 (dk_at dksX0_pathOf_0 3 rfl rfl)
theorem dX0_pathOf_4 : decode cX0_pathOf 4 = .ok (.iload_n 2, 1) := dk_28 (dk_at dksX0_pathOf_0 4 rfl rfl)
theorem dX0_pathOf_5 : decode cX0_pathOf 5 = .ok (.aload_n 0, 1) := dk_42 (dk_at dksX0_pathOf_0 5 rfl rfl)
theorem dX0_pathOf_6 : decode cX0_pathOf 6 = .ok (.invokevirtual 152, 3) := dk_182 0 152 (dk_at dksX0_pathOf_0 6 rfl rfl)
theorem dX0_pathOf_9 : decode cX0_pathOf 9 = .ok (.if_icmp .ge 28, 3) := dk_162 0 28 (dk_at dksX0_pathOf_0 9 rfl rfl)
theorem dX0_pathOf_12 : decode cX0_pathOf 12 = .ok (.iload_n 1, 1) := dk_27 (dk_at dksX0_pathOf_0 12 rfl rfl)
theorem dX0_pathOf_13 : decode cX0_pathOf 13 = .ok (.aload_n 0, 1) := dk_42 (dk_at dksX0_pathOf_0 13 rfl rfl)
theorem dX0_pathOf_14 : decode cX0_pathOf 14 = .ok (.aload_n 0, 1) := dk_42 (dk_at dksX0_pathOf_0 14 rfl rfl)
theorem dX0_pathOf_15 : decode cX0_pathOf 15 = .ok (.iload_n 2, 1) := dk_28 (dk_at dksX0_pathOf_0 15 rfl rfl)
theorem dX0_pathOf_16 : decode cX0_pathOf 16 = .ok (.invokevirtual 363, 3) := dk_182 1 107 (dk_at dksX0_pathOf_0 16 rfl rfl)
theorem dX0_pathOf_19 : decode cX0_pathOf 19 = .ok (.aload_n 0, 1) := dk_42 (dk_at dksX0_pathOf_0 19 rfl rfl)
theorem dX0_pathOf_20 : decode cX0_pathOf 20 = .ok (.iload_n 2, 1) := dk_28 (dk_at dksX0_pathOf_0 20 rfl rfl)
theorem dX0_pathOf_21 : decode cX0_pathOf 21 = .ok (.iconst 1, 1) := dk_4 (dk_at dksX0_pathOf_0 21 rfl rfl)
theorem dX0_pathOf_22 : decode cX0_pathOf 22 = .ok (.iadd, 1) := dk_96 (dk_at dksX0_pathOf_0 22 rfl rfl)
theorem dX0_pathOf_23 : decode cX0_pathOf 23 = .ok (.invokevirtual 363, 3) := dk_182 1 107 (dk_at dksX0_pathOf_1 0 rfl rfl)
theorem dX0_pathOf_26 : decode cX0_pathOf 26 = .ok (.invokevirtual 221, 3) := dk_182 0 221 (dk_at dksX0_pathOf_1 3 rfl rfl)
theorem dX0_pathOf_29 : decode cX0_pathOf 29 = .ok (.iadd, 1) := dk_96 (dk_at dksX0_pathOf_1 6 rfl rfl)
theorem dX0_pathOf_30 : decode cX0_pathOf 30 = .ok (.istore_n 1, 1) := dk_60 (dk_at dksX0_pathOf_1 7 rfl rfl)
theorem dX0_pathOf_31 : decode cX0_pathOf 31 = .ok (.iinc 2 1, 3) := dk_132 2 1 (dk_at dksX0_pathOf_1 8 rfl rfl)
theorem dX0_pathOf_34 : decode cX0_pathOf 34 = .ok (.goto (-30), 3) := dk_167 255 226 (dk_at dksX0_pathOf_1 11 rfl rfl)
theorem dX0_pathOf_37 : decode cX0_pathOf 37 = .ok (.iload_n 1, 1) := dk_27 (dk_at dksX0_pathOf_1 14 rfl rfl)
theorem dX0_pathOf_38 : decode cX0_pathOf 38 = .ok (.ireturn, 1) := dk_172 (dk_at dksX0_pathOf_1 15 rfl rfl)
abbrev cX0_better : ByteArray := prog_1_method_98_code
def yX0_better : MethodName := ⟨RX0, "better", "(I)I"⟩
def dkwX0_better_5 : List UInt8 := [132, 4, 1, 167, 255, 167, 28, 172]
abbrev dktX0_better_5 : List UInt8 := dkwX0_better_5 ++ []
def dkwX0_better_4 : List UInt8 := [161, 0, 6, 167, 0, 15, 16, 100, 21, 4, 104, 21, 5, 96, 61, 21, 6, 62, 132, 5, 1, 167, 255, 188]
abbrev dktX0_better_4 : List UInt8 := dkwX0_better_4 ++ dktX0_better_5
def dkwX0_better_3 : List UInt8 := [21, 4, 21, 5, 182, 1, 215, 27, 154, 0, 12, 21, 6, 29, 163, 0, 15, 167, 0, 24, 21, 6, 29]
abbrev dktX0_better_3 : List UInt8 := dkwX0_better_3 ++ dktX0_better_4
def dkwX0_better_2 : List UInt8 := [21, 5, 42, 182, 0, 152, 162, 0, 65, 42, 21, 4, 21, 5, 182, 1, 215, 42, 182, 1, 208, 54, 6, 42]
abbrev dktX0_better_2 : List UInt8 := dkwX0_better_2 ++ dktX0_better_3
def dkwX0_better_1 : List UInt8 := [61, 42, 182, 1, 208, 62, 3, 54, 4, 21, 4, 42, 182, 0, 152, 162, 0, 86, 21, 4, 4, 96, 54, 5]
abbrev dktX0_better_1 : List UInt8 := dkwX0_better_1 ++ dktX0_better_2
def dkwX0_better_0 : List UInt8 := [42, 180, 0, 41, 182, 0, 113, 153, 0, 13, 27, 133, 9, 10, 184, 0, 5, 154, 0, 6, 16, 254, 172, 2]
abbrev dktX0_better_0 : List UInt8 := dkwX0_better_0 ++ dktX0_better_1
theorem dksX0_better_0 : cX0_better.data.toList.drop 0 = dktX0_better_0 := by decide +kernel
theorem dksX0_better_1 : cX0_better.data.toList.drop 24 = dktX0_better_1 := dk_seg dksX0_better_0 24 rfl rfl
theorem dksX0_better_2 : cX0_better.data.toList.drop 48 = dktX0_better_2 := dk_seg dksX0_better_1 24 rfl rfl
theorem dksX0_better_3 : cX0_better.data.toList.drop 72 = dktX0_better_3 := dk_seg dksX0_better_2 24 rfl rfl
theorem dksX0_better_4 : cX0_better.data.toList.drop 95 = dktX0_better_4 := dk_seg dksX0_better_3 23 rfl rfl
theorem dksX0_better_5 : cX0_better.data.toList.drop 119 = dktX0_better_5 := dk_seg dksX0_better_4 24 rfl rfl
theorem dX0_better_0 : decode cX0_better 0 = .ok (.aload_n 0, 1) := dk_42 (dk_at dksX0_better_0 0 rfl rfl)
theorem dX0_better_1 : decode cX0_better 1 = .ok (.getfield 41, 3) := dk_180 0 41 (dk_at dksX0_better_0 1 rfl rfl)
theorem dX0_better_4 : decode cX0_better 4 = .ok (.invokevirtual 113, 3) := dk_182 0 113 (dk_at dksX0_better_0 4 rfl rfl)
theorem dX0_better_7 : decode cX0_better 7 = .ok (.ifCond .eq 13, 3) := dk_153 0 13 (dk_at dksX0_better_0 7 rfl rfl)
theorem dX0_better_10 : decode cX0_better 10 = .ok (.iload_n 1, 1) := dk_27 (dk_at dksX0_better_0 10 rfl rfl)
theorem dX0_better_11 : decode cX0_better 11 = .ok (.i2l, 1) := dk_133 (dk_at dksX0_better_0 11 rfl rfl)
theorem dX0_better_12 : decode cX0_better 12 = .ok (.lconst 0, 1) := dk_9 (dk_at dksX0_better_0 12 rfl rfl)
theorem dX0_better_13 : decode cX0_better 13 = .ok (.lconst 1, 1) := dk_10 (dk_at dksX0_better_0 13 rfl rfl)
theorem dX0_better_14 : decode cX0_better 14 = .ok (.invokestatic 5, 3) := dk_184 0 5 (dk_at dksX0_better_0 14 rfl rfl)
theorem dX0_better_17 : decode cX0_better 17 = .ok (.ifCond .ne 6, 3) := dk_154 0 6 (dk_at dksX0_better_0 17 rfl rfl)
theorem dX0_better_20 : decode cX0_better 20 = .ok (.bipush (-2), 2) := dk_16 254 (dk_at dksX0_better_0 20 rfl rfl)
theorem dX0_better_22 : decode cX0_better 22 = .ok (.ireturn, 1) := dk_172 (dk_at dksX0_better_0 22 rfl rfl)
theorem dX0_better_23 : decode cX0_better 23 = .ok (.iconst (-1), 1) := dk_2 (dk_at dksX0_better_0 23 rfl rfl)
theorem dX0_better_24 : decode cX0_better 24 = .ok (.istore_n 2, 1) := dk_61 (dk_at dksX0_better_1 0 rfl rfl)
theorem dX0_better_25 : decode cX0_better 25 = .ok (.aload_n 0, 1) := dk_42 (dk_at dksX0_better_1 1 rfl rfl)
theorem dX0_better_26 : decode cX0_better 26 = .ok (.invokevirtual 464, 3) := dk_182 1 208 (dk_at dksX0_better_1 2 rfl rfl)
theorem dX0_better_29 : decode cX0_better 29 = .ok (.istore_n 3, 1) := dk_62 (dk_at dksX0_better_1 5 rfl rfl)
theorem dX0_better_30 : decode cX0_better 30 = .ok (.iconst 0, 1) := dk_3 (dk_at dksX0_better_1 6 rfl rfl)
theorem dX0_better_31 : decode cX0_better 31 = .ok (.istore 4, 2) := dk_54 4 (dk_at dksX0_better_1 7 rfl rfl)
theorem dX0_better_33 : decode cX0_better 33 = .ok (.iload 4, 2) := dk_21 4 (dk_at dksX0_better_1 9 rfl rfl)
theorem dX0_better_35 : decode cX0_better 35 = .ok (.aload_n 0, 1) := dk_42 (dk_at dksX0_better_1 11 rfl rfl)
theorem dX0_better_36 : decode cX0_better 36 = .ok (.invokevirtual 152, 3) := dk_182 0 152 (dk_at dksX0_better_1 12 rfl rfl)
theorem dX0_better_39 : decode cX0_better 39 = .ok (.if_icmp .ge 86, 3) := dk_162 0 86 (dk_at dksX0_better_1 15 rfl rfl)
theorem dX0_better_42 : decode cX0_better 42 = .ok (.iload 4, 2) := dk_21 4 (dk_at dksX0_better_1 18 rfl rfl)
theorem dX0_better_44 : decode cX0_better 44 = .ok (.iconst 1, 1) := dk_4 (dk_at dksX0_better_1 20 rfl rfl)
theorem dX0_better_45 : decode cX0_better 45 = .ok (.iadd, 1) := dk_96 (dk_at dksX0_better_1 21 rfl rfl)
theorem dX0_better_46 : decode cX0_better 46 = .ok (.istore 5, 2) := dk_54 5 (dk_at dksX0_better_1 22 rfl rfl)
theorem dX0_better_48 : decode cX0_better 48 = .ok (.iload 5, 2) := dk_21 5 (dk_at dksX0_better_2 0 rfl rfl)
theorem dX0_better_50 : decode cX0_better 50 = .ok (.aload_n 0, 1) := dk_42 (dk_at dksX0_better_2 2 rfl rfl)
theorem dX0_better_51 : decode cX0_better 51 = .ok (.invokevirtual 152, 3) := dk_182 0 152 (dk_at dksX0_better_2 3 rfl rfl)
theorem dX0_better_54 : decode cX0_better 54 = .ok (.if_icmp .ge 65, 3) := dk_162 0 65 (dk_at dksX0_better_2 6 rfl rfl)
theorem dX0_better_57 : decode cX0_better 57 = .ok (.aload_n 0, 1) := dk_42 (dk_at dksX0_better_2 9 rfl rfl)
theorem dX0_better_58 : decode cX0_better 58 = .ok (.iload 4, 2) := dk_21 4 (dk_at dksX0_better_2 10 rfl rfl)
theorem dX0_better_60 : decode cX0_better 60 = .ok (.iload 5, 2) := dk_21 5 (dk_at dksX0_better_2 12 rfl rfl)
theorem dX0_better_62 : decode cX0_better 62 = .ok (.invokevirtual 471, 3) := dk_182 1 215 (dk_at dksX0_better_2 14 rfl rfl)
theorem dX0_better_65 : decode cX0_better 65 = .ok (.aload_n 0, 1) := dk_42 (dk_at dksX0_better_2 17 rfl rfl)
theorem dX0_better_66 : decode cX0_better 66 = .ok (.invokevirtual 464, 3) := dk_182 1 208 (dk_at dksX0_better_2 18 rfl rfl)
theorem dX0_better_69 : decode cX0_better 69 = .ok (.istore 6, 2) := dk_54 6 (dk_at dksX0_better_2 21 rfl rfl)
theorem dX0_better_71 : decode cX0_better 71 = .ok (.aload_n 0, 1) := dk_42 (dk_at dksX0_better_2 23 rfl rfl)
theorem dX0_better_72 : decode cX0_better 72 = .ok (.iload 4, 2) := dk_21 4 (dk_at dksX0_better_3 0 rfl rfl)
theorem dX0_better_74 : decode cX0_better 74 = .ok (.iload 5, 2) := dk_21 5 (dk_at dksX0_better_3 2 rfl rfl)
theorem dX0_better_76 : decode cX0_better 76 = .ok (.invokevirtual 471, 3) := dk_182 1 215 (dk_at dksX0_better_3 4 rfl rfl)
theorem dX0_better_79 : decode cX0_better 79 = .ok (.iload_n 1, 1) := dk_27 (dk_at dksX0_better_3 7 rfl rfl)
theorem dX0_better_80 : decode cX0_better 80 = .ok (.ifCond .ne 12, 3) := dk_154 0 12 (dk_at dksX0_better_3 8 rfl rfl)
theorem dX0_better_83 : decode cX0_better 83 = .ok (.iload 6, 2) := dk_21 6 (dk_at dksX0_better_3 11 rfl rfl)
theorem dX0_better_85 : decode cX0_better 85 = .ok (.iload_n 3, 1) := dk_29 (dk_at dksX0_better_3 13 rfl rfl)
theorem dX0_better_86 : decode cX0_better 86 = .ok (.if_icmp .gt 15, 3) := dk_163 0 15 (dk_at dksX0_better_3 14 rfl rfl)
theorem dX0_better_89 : decode cX0_better 89 = .ok (.goto 24, 3) := dk_167 0 24 (dk_at dksX0_better_3 17 rfl rfl)
theorem dX0_better_92 : decode cX0_better 92 = .ok (.iload 6, 2) := dk_21 6 (dk_at dksX0_better_3 20 rfl rfl)
theorem dX0_better_94 : decode cX0_better 94 = .ok (.iload_n 3, 1) := dk_29 (dk_at dksX0_better_3 22 rfl rfl)
theorem dX0_better_95 : decode cX0_better 95 = .ok (.if_icmp .lt 6, 3) := dk_161 0 6 (dk_at dksX0_better_4 0 rfl rfl)
theorem dX0_better_98 : decode cX0_better 98 = .ok (.goto 15, 3) := dk_167 0 15 (dk_at dksX0_better_4 3 rfl rfl)
theorem dX0_better_101 : decode cX0_better 101 = .ok (.bipush 100, 2) := dk_16 100 (dk_at dksX0_better_4 6 rfl rfl)
theorem dX0_better_103 : decode cX0_better 103 = .ok (.iload 4, 2) := dk_21 4 (dk_at dksX0_better_4 8 rfl rfl)
theorem dX0_better_105 : decode cX0_better 105 = .ok (.imul, 1) := dk_104 (dk_at dksX0_better_4 10 rfl rfl)
theorem dX0_better_106 : decode cX0_better 106 = .ok (.iload 5, 2) := dk_21 5 (dk_at dksX0_better_4 11 rfl rfl)
theorem dX0_better_108 : decode cX0_better 108 = .ok (.iadd, 1) := dk_96 (dk_at dksX0_better_4 13 rfl rfl)
theorem dX0_better_109 : decode cX0_better 109 = .ok (.istore_n 2, 1) := dk_61 (dk_at dksX0_better_4 14 rfl rfl)
theorem dX0_better_110 : decode cX0_better 110 = .ok (.iload 6, 2) := dk_21 6 (dk_at dksX0_better_4 15 rfl rfl)
theorem dX0_better_112 : decode cX0_better 112 = .ok (.istore_n 3, 1) := dk_62 (dk_at dksX0_better_4 17 rfl rfl)
theorem dX0_better_113 : decode cX0_better 113 = .ok (.iinc 5 1, 3) := dk_132 5 1 (dk_at dksX0_better_4 18 rfl rfl)
theorem dX0_better_116 : decode cX0_better 116 = .ok (.goto (-68), 3) := dk_167 255 188 (dk_at dksX0_better_4 21 rfl rfl)
theorem dX0_better_119 : decode cX0_better 119 = .ok (.iinc 4 1, 3) := dk_132 4 1 (dk_at dksX0_better_5 0 rfl rfl)
theorem dX0_better_122 : decode cX0_better 122 = .ok (.goto (-89), 3) := dk_167 255 167 (dk_at dksX0_better_5 3 rfl rfl)
theorem dX0_better_125 : decode cX0_better 125 = .ok (.iload_n 2, 1) := dk_28 (dk_at dksX0_better_5 6 rfl rfl)
theorem dX0_better_126 : decode cX0_better 126 = .ok (.ireturn, 1) := dk_172 (dk_at dksX0_better_5 7 rfl rfl)
abbrev cX0_changes : ByteArray := prog_1_method_97_code
def yX0_changes : MethodName := ⟨RX0, "changes", "(II)V"⟩
def dkwX0_changes_1 : List UInt8 := [87, 42, 180, 0, 41, 180, 0, 131, 28, 45, 185, 1, 211, 3, 0, 87, 177]
abbrev dktX0_changes_1 : List UInt8 := dkwX0_changes_1 ++ []
def dkwX0_changes_0 : List UInt8 := [42, 27, 182, 0, 185, 78, 42, 180, 0, 41, 180, 0, 131, 27, 42, 28, 182, 0, 185, 185, 1, 211, 3, 0]
abbrev dktX0_changes_0 : List UInt8 := dkwX0_changes_0 ++ dktX0_changes_1
theorem dksX0_changes_0 : cX0_changes.data.toList.drop 0 = dktX0_changes_0 := by decide +kernel
theorem dksX0_changes_1 : cX0_changes.data.toList.drop 24 = dktX0_changes_1 := dk_seg dksX0_changes_0 24 rfl rfl
theorem dX0_changes_0 : decode cX0_changes 0 = .ok (.aload_n 0, 1) := dk_42 (dk_at dksX0_changes_0 0 rfl rfl)
theorem dX0_changes_1 : decode cX0_changes 1 = .ok (.iload_n 1, 1) := dk_27 (dk_at dksX0_changes_0 1 rfl rfl)
theorem dX0_changes_2 : decode cX0_changes 2 = .ok (.invokevirtual 185, 3) := dk_182 0 185 (dk_at dksX0_changes_0 2 rfl rfl)
theorem dX0_changes_5 : decode cX0_changes 5 = .ok (.astore_n 3, 1) := dk_78 (dk_at dksX0_changes_0 5 rfl rfl)
theorem dX0_changes_6 : decode cX0_changes 6 = .ok (.aload_n 0, 1) := dk_42 (dk_at dksX0_changes_0 6 rfl rfl)
theorem dX0_changes_7 : decode cX0_changes 7 = .ok (.getfield 41, 3) := dk_180 0 41 (dk_at dksX0_changes_0 7 rfl rfl)
theorem dX0_changes_10 : decode cX0_changes 10 = .ok (.getfield 131, 3) := dk_180 0 131 (dk_at dksX0_changes_0 10 rfl rfl)
theorem dX0_changes_13 : decode cX0_changes 13 = .ok (.iload_n 1, 1) := dk_27 (dk_at dksX0_changes_0 13 rfl rfl)
theorem dX0_changes_14 : decode cX0_changes 14 = .ok (.aload_n 0, 1) := dk_42 (dk_at dksX0_changes_0 14 rfl rfl)
theorem dX0_changes_15 : decode cX0_changes 15 = .ok (.iload_n 2, 1) := dk_28 (dk_at dksX0_changes_0 15 rfl rfl)
theorem dX0_changes_16 : decode cX0_changes 16 = .ok (.invokevirtual 185, 3) := dk_182 0 185 (dk_at dksX0_changes_0 16 rfl rfl)
theorem dX0_changes_19 : decode cX0_changes 19 = .ok (.invokeinterface 467 3, 5) := by decide +kernel
theorem dX0_changes_24 : decode cX0_changes 24 = .ok (.pop, 1) := dk_87 (dk_at dksX0_changes_1 0 rfl rfl)
theorem dX0_changes_25 : decode cX0_changes 25 = .ok (.aload_n 0, 1) := dk_42 (dk_at dksX0_changes_1 1 rfl rfl)
theorem dX0_changes_26 : decode cX0_changes 26 = .ok (.getfield 41, 3) := dk_180 0 41 (dk_at dksX0_changes_1 2 rfl rfl)
theorem dX0_changes_29 : decode cX0_changes 29 = .ok (.getfield 131, 3) := dk_180 0 131 (dk_at dksX0_changes_1 5 rfl rfl)
theorem dX0_changes_32 : decode cX0_changes 32 = .ok (.iload_n 2, 1) := dk_28 (dk_at dksX0_changes_1 8 rfl rfl)
theorem dX0_changes_33 : decode cX0_changes 33 = .ok (.aload_n 3, 1) := dk_45 (dk_at dksX0_changes_1 9 rfl rfl)
theorem dX0_changes_34 : decode cX0_changes 34 = .ok (.invokeinterface 467 3, 5) := by decide +kernel
theorem dX0_changes_39 : decode cX0_changes 39 = .ok (.pop, 1) := dk_87 (dk_at dksX0_changes_1 15 rfl rfl)
theorem dX0_changes_40 : decode cX0_changes 40 = .ok (.return_, 1) := dk_177 (dk_at dksX0_changes_1 16 rfl rfl)
abbrev cX0_swap : ByteArray := prog_1_method_99_code
def yX0_swap : MethodName := ⟨RX0, "swap", "(II)I"⟩
def dkwX0_swap_1 : List UInt8 := [182, 1, 215, 3, 172]
abbrev dktX0_swap_1 : List UInt8 := dkwX0_swap_1 ++ []
def dkwX0_swap_0 : List UInt8 := [42, 27, 182, 0, 180, 153, 0, 11, 42, 28, 182, 0, 180, 154, 0, 6, 16, 254, 172, 42, 27, 28]
abbrev dktX0_swap_0 : List UInt8 := dkwX0_swap_0 ++ dktX0_swap_1
theorem dksX0_swap_0 : cX0_swap.data.toList.drop 0 = dktX0_swap_0 := by decide +kernel
theorem dksX0_swap_1 : cX0_swap.data.toList.drop 22 = dktX0_swap_1 := dk_seg dksX0_swap_0 22 rfl rfl
theorem dX0_swap_0 : decode cX0_swap 0 = .ok (.aload_n 0, 1) := dk_42 (dk_at dksX0_swap_0 0 rfl rfl)
theorem dX0_swap_1 : decode cX0_swap 1 = .ok (.iload_n 1, 1) := dk_27 (dk_at dksX0_swap_0 1 rfl rfl)
theorem dX0_swap_2 : decode cX0_swap 2 = .ok (.invokevirtual 180, 3) := dk_182 0 180 (dk_at dksX0_swap_0 2 rfl rfl)
theorem dX0_swap_5 : decode cX0_swap 5 = .ok (.ifCond .eq 11, 3) := dk_153 0 11 (dk_at dksX0_swap_0 5 rfl rfl)
theorem dX0_swap_8 : decode cX0_swap 8 = .ok (.aload_n 0, 1) := dk_42 (dk_at dksX0_swap_0 8 rfl rfl)
theorem dX0_swap_9 : decode cX0_swap 9 = .ok (.iload_n 2, 1) := dk_28 (dk_at dksX0_swap_0 9 rfl rfl)
theorem dX0_swap_10 : decode cX0_swap 10 = .ok (.invokevirtual 180, 3) := dk_182 0 180 (dk_at dksX0_swap_0 10 rfl rfl)
theorem dX0_swap_13 : decode cX0_swap 13 = .ok (.ifCond .ne 6, 3) := dk_154 0 6 (dk_at dksX0_swap_0 13 rfl rfl)
theorem dX0_swap_16 : decode cX0_swap 16 = .ok (.bipush (-2), 2) := dk_16 254 (dk_at dksX0_swap_0 16 rfl rfl)
theorem dX0_swap_18 : decode cX0_swap 18 = .ok (.ireturn, 1) := dk_172 (dk_at dksX0_swap_0 18 rfl rfl)
theorem dX0_swap_19 : decode cX0_swap 19 = .ok (.aload_n 0, 1) := dk_42 (dk_at dksX0_swap_0 19 rfl rfl)
theorem dX0_swap_20 : decode cX0_swap 20 = .ok (.iload_n 1, 1) := dk_27 (dk_at dksX0_swap_0 20 rfl rfl)
theorem dX0_swap_21 : decode cX0_swap 21 = .ok (.iload_n 2, 1) := dk_28 (dk_at dksX0_swap_0 21 rfl rfl)
theorem dX0_swap_22 : decode cX0_swap 22 = .ok (.invokevirtual 471, 3) := dk_182 1 215 (dk_at dksX0_swap_1 0 rfl rfl)
theorem dX0_swap_25 : decode cX0_swap 25 = .ok (.iconst 0, 1) := dk_3 (dk_at dksX0_swap_1 3 rfl rfl)
theorem dX0_swap_26 : decode cX0_swap 26 = .ok (.ireturn, 1) := dk_172 (dk_at dksX0_swap_1 4 rfl rfl)
abbrev cX0_paint : ByteArray := prog_1_method_100_code
def yX0_paint : MethodName := ⟨RX0, "paint", "(II)I"⟩
def dkwX0_paint_2 : List UInt8 := [3, 62, 42, 27, 182, 0, 185, 28, 4, 160, 0, 7, 4, 167, 0, 4, 3, 181, 0, 176, 29, 172]
abbrev dktX0_paint_2 : List UInt8 := dkwX0_paint_2 ++ []
def dkwX0_paint_1 : List UInt8 := [182, 0, 247, 153, 0, 6, 16, 254, 172, 42, 27, 182, 0, 185, 180, 0, 176, 153, 0, 7, 4, 167, 0, 4]
abbrev dktX0_paint_1 : List UInt8 := dkwX0_paint_1 ++ dktX0_paint_2
def dkwX0_paint_0 : List UInt8 := [42, 27, 182, 0, 180, 153, 0, 24, 28, 133, 9, 10, 184, 0, 5, 153, 0, 14, 42, 27, 182, 0, 185]
abbrev dktX0_paint_0 : List UInt8 := dkwX0_paint_0 ++ dktX0_paint_1
theorem dksX0_paint_0 : cX0_paint.data.toList.drop 0 = dktX0_paint_0 := by decide +kernel
theorem dksX0_paint_1 : cX0_paint.data.toList.drop 23 = dktX0_paint_1 := dk_seg dksX0_paint_0 23 rfl rfl
theorem dksX0_paint_2 : cX0_paint.data.toList.drop 47 = dktX0_paint_2 := dk_seg dksX0_paint_1 24 rfl rfl
theorem dX0_paint_0 : decode cX0_paint 0 = .ok (.aload_n 0, 1) := dk_42 (dk_at dksX0_paint_0 0 rfl rfl)
theorem dX0_paint_1 : decode cX0_paint 1 = .ok (.iload_n 1, 1) := dk_27 (dk_at dksX0_paint_0 1 rfl rfl)
theorem dX0_paint_2 : decode cX0_paint 2 = .ok (.invokevirtual 180, 3) := dk_182 0 180 (dk_at dksX0_paint_0 2 rfl rfl)
theorem dX0_paint_5 : decode cX0_paint 5 = .ok (.ifCond .eq 24, 3) := dk_153 0 24 (dk_at dksX0_paint_0 5 rfl rfl)
theorem dX0_paint_8 : decode cX0_paint 8 = .ok (.iload_n 2, 1) := dk_28 (dk_at dksX0_paint_0 8 rfl rfl)
theorem dX0_paint_9 : decode cX0_paint 9 = .ok (.i2l, 1) := dk_133 (dk_at dksX0_paint_0 9 rfl rfl)
theorem dX0_paint_10 : decode cX0_paint 10 = .ok (.lconst 0, 1) := dk_9 (dk_at dksX0_paint_0 10 rfl rfl)
theorem dX0_paint_11 : decode cX0_paint 11 = .ok (.lconst 1, 1) := dk_10 (dk_at dksX0_paint_0 11 rfl rfl)
theorem dX0_paint_12 : decode cX0_paint 12 = .ok (.invokestatic 5, 3) := dk_184 0 5 (dk_at dksX0_paint_0 12 rfl rfl)
theorem dX0_paint_15 : decode cX0_paint 15 = .ok (.ifCond .eq 14, 3) := dk_153 0 14 (dk_at dksX0_paint_0 15 rfl rfl)
theorem dX0_paint_18 : decode cX0_paint 18 = .ok (.aload_n 0, 1) := dk_42 (dk_at dksX0_paint_0 18 rfl rfl)
theorem dX0_paint_19 : decode cX0_paint 19 = .ok (.iload_n 1, 1) := dk_27 (dk_at dksX0_paint_0 19 rfl rfl)
theorem dX0_paint_20 : decode cX0_paint 20 = .ok (.invokevirtual 185, 3) := dk_182 0 185 (dk_at dksX0_paint_0 20 rfl rfl)
theorem dX0_paint_23 : decode cX0_paint 23 = .ok (.invokevirtual 247, 3) := dk_182 0 247 (dk_at dksX0_paint_1 0 rfl rfl)
theorem dX0_paint_26 : decode cX0_paint 26 = .ok (.ifCond .eq 6, 3) := dk_153 0 6 (dk_at dksX0_paint_1 3 rfl rfl)
theorem dX0_paint_29 : decode cX0_paint 29 = .ok (.bipush (-2), 2) := dk_16 254 (dk_at dksX0_paint_1 6 rfl rfl)
theorem dX0_paint_31 : decode cX0_paint 31 = .ok (.ireturn, 1) := dk_172 (dk_at dksX0_paint_1 8 rfl rfl)
theorem dX0_paint_32 : decode cX0_paint 32 = .ok (.aload_n 0, 1) := dk_42 (dk_at dksX0_paint_1 9 rfl rfl)
theorem dX0_paint_33 : decode cX0_paint 33 = .ok (.iload_n 1, 1) := dk_27 (dk_at dksX0_paint_1 10 rfl rfl)
theorem dX0_paint_34 : decode cX0_paint 34 = .ok (.invokevirtual 185, 3) := dk_182 0 185 (dk_at dksX0_paint_1 11 rfl rfl)
theorem dX0_paint_37 : decode cX0_paint 37 = .ok (.getfield 176, 3) := dk_180 0 176 (dk_at dksX0_paint_1 14 rfl rfl)
theorem dX0_paint_40 : decode cX0_paint 40 = .ok (.ifCond .eq 7, 3) := dk_153 0 7 (dk_at dksX0_paint_1 17 rfl rfl)
theorem dX0_paint_43 : decode cX0_paint 43 = .ok (.iconst 1, 1) := dk_4 (dk_at dksX0_paint_1 20 rfl rfl)
theorem dX0_paint_44 : decode cX0_paint 44 = .ok (.goto 4, 3) := dk_167 0 4 (dk_at dksX0_paint_1 21 rfl rfl)
theorem dX0_paint_47 : decode cX0_paint 47 = .ok (.iconst 0, 1) := dk_3 (dk_at dksX0_paint_2 0 rfl rfl)
theorem dX0_paint_48 : decode cX0_paint 48 = .ok (.istore_n 3, 1) := dk_62 (dk_at dksX0_paint_2 1 rfl rfl)
theorem dX0_paint_49 : decode cX0_paint 49 = .ok (.aload_n 0, 1) := dk_42 (dk_at dksX0_paint_2 2 rfl rfl)
theorem dX0_paint_50 : decode cX0_paint 50 = .ok (.iload_n 1, 1) := dk_27 (dk_at dksX0_paint_2 3 rfl rfl)
theorem dX0_paint_51 : decode cX0_paint 51 = .ok (.invokevirtual 185, 3) := dk_182 0 185 (dk_at dksX0_paint_2 4 rfl rfl)
theorem dX0_paint_54 : decode cX0_paint 54 = .ok (.iload_n 2, 1) := dk_28 (dk_at dksX0_paint_2 7 rfl rfl)
theorem dX0_paint_55 : decode cX0_paint 55 = .ok (.iconst 1, 1) := dk_4 (dk_at dksX0_paint_2 8 rfl rfl)
theorem dX0_paint_56 : decode cX0_paint 56 = .ok (.if_icmp .ne 7, 3) := dk_160 0 7 (dk_at dksX0_paint_2 9 rfl rfl)
theorem dX0_paint_59 : decode cX0_paint 59 = .ok (.iconst 1, 1) := dk_4 (dk_at dksX0_paint_2 12 rfl rfl)
theorem dX0_paint_60 : decode cX0_paint 60 = .ok (.goto 4, 3) := dk_167 0 4 (dk_at dksX0_paint_2 13 rfl rfl)
theorem dX0_paint_63 : decode cX0_paint 63 = .ok (.iconst 0, 1) := dk_3 (dk_at dksX0_paint_2 16 rfl rfl)
theorem dX0_paint_64 : decode cX0_paint 64 = .ok (.putfield 176, 3) := dk_181 0 176 (dk_at dksX0_paint_2 17 rfl rfl)
theorem dX0_paint_67 : decode cX0_paint 67 = .ok (.iload_n 3, 1) := dk_29 (dk_at dksX0_paint_2 20 rfl rfl)
theorem dX0_paint_68 : decode cX0_paint 68 = .ok (.ireturn, 1) := dk_172 (dk_at dksX0_paint_2 21 rfl rfl)
abbrev cX0_turn : ByteArray := prog_1_method_101_code
def yX0_turn : MethodName := ⟨RX0, "turn", "(I)I"⟩
def dkwX0_turn_1 : List UInt8 := [181, 1, 219, 28, 172]
abbrev dktX0_turn_1 : List UInt8 := dkwX0_turn_1 ++ []
def dkwX0_turn_0 : List UInt8 := [42, 27, 182, 0, 180, 154, 0, 6, 16, 254, 172, 42, 180, 0, 41, 180, 1, 219, 61, 42, 180, 0, 41, 27]
abbrev dktX0_turn_0 : List UInt8 := dkwX0_turn_0 ++ dktX0_turn_1
theorem dksX0_turn_0 : cX0_turn.data.toList.drop 0 = dktX0_turn_0 := by decide +kernel
theorem dksX0_turn_1 : cX0_turn.data.toList.drop 24 = dktX0_turn_1 := dk_seg dksX0_turn_0 24 rfl rfl
theorem dX0_turn_0 : decode cX0_turn 0 = .ok (.aload_n 0, 1) := dk_42 (dk_at dksX0_turn_0 0 rfl rfl)
theorem dX0_turn_1 : decode cX0_turn 1 = .ok (.iload_n 1, 1) := dk_27 (dk_at dksX0_turn_0 1 rfl rfl)
theorem dX0_turn_2 : decode cX0_turn 2 = .ok (.invokevirtual 180, 3) := dk_182 0 180 (dk_at dksX0_turn_0 2 rfl rfl)
theorem dX0_turn_5 : decode cX0_turn 5 = .ok (.ifCond .ne 6, 3) := dk_154 0 6 (dk_at dksX0_turn_0 5 rfl rfl)
theorem dX0_turn_8 : decode cX0_turn 8 = .ok (.bipush (-2), 2) := dk_16 254 (dk_at dksX0_turn_0 8 rfl rfl)
theorem dX0_turn_10 : decode cX0_turn 10 = .ok (.ireturn, 1) := dk_172 (dk_at dksX0_turn_0 10 rfl rfl)
theorem dX0_turn_11 : decode cX0_turn 11 = .ok (.aload_n 0, 1) := dk_42 (dk_at dksX0_turn_0 11 rfl rfl)
theorem dX0_turn_12 : decode cX0_turn 12 = .ok (.getfield 41, 3) := dk_180 0 41 (dk_at dksX0_turn_0 12 rfl rfl)
theorem dX0_turn_15 : decode cX0_turn 15 = .ok (.getfield 475, 3) := dk_180 1 219 (dk_at dksX0_turn_0 15 rfl rfl)
theorem dX0_turn_18 : decode cX0_turn 18 = .ok (.istore_n 2, 1) := dk_61 (dk_at dksX0_turn_0 18 rfl rfl)
theorem dX0_turn_19 : decode cX0_turn 19 = .ok (.aload_n 0, 1) := dk_42 (dk_at dksX0_turn_0 19 rfl rfl)
theorem dX0_turn_20 : decode cX0_turn 20 = .ok (.getfield 41, 3) := dk_180 0 41 (dk_at dksX0_turn_0 20 rfl rfl)
theorem dX0_turn_23 : decode cX0_turn 23 = .ok (.iload_n 1, 1) := dk_27 (dk_at dksX0_turn_0 23 rfl rfl)
theorem dX0_turn_24 : decode cX0_turn 24 = .ok (.putfield 475, 3) := dk_181 1 219 (dk_at dksX0_turn_1 0 rfl rfl)
theorem dX0_turn_27 : decode cX0_turn 27 = .ok (.iload_n 2, 1) := dk_28 (dk_at dksX0_turn_1 3 rfl rfl)
theorem dX0_turn_28 : decode cX0_turn 28 = .ok (.ireturn, 1) := dk_172 (dk_at dksX0_turn_1 4 rfl rfl)
abbrev cX0_lucky : ByteArray := prog_1_method_102_code
def yX0_lucky : MethodName := ⟨RX0, "lucky", "(I)I"⟩
def dkwX0_lucky_3 : List UInt8 := [132, 5, 1, 167, 255, 211, 42, 180, 0, 41, 28, 181, 1, 219, 29, 172]
abbrev dktX0_lucky_3 : List UInt8 := dkwX0_lucky_3 ++ []
def dkwX0_lucky_2 : List UInt8 := [182, 1, 18, 54, 6, 21, 6, 21, 4, 163, 0, 6, 167, 0, 10, 21, 5, 62, 21, 6, 54, 4]
abbrev dktX0_lucky_2 : List UInt8 := dkwX0_lucky_2 ++ dktX0_lucky_3
def dkwX0_lucky_1 : List UInt8 := [3, 54, 5, 21, 5, 42, 182, 0, 152, 162, 0, 42, 42, 180, 0, 41, 21, 5, 181, 1, 219, 42, 27]
abbrev dktX0_lucky_1 : List UInt8 := dkwX0_lucky_1 ++ dktX0_lucky_2
def dkwX0_lucky_0 : List UInt8 := [42, 27, 182, 0, 193, 154, 0, 6, 16, 254, 172, 42, 180, 0, 41, 180, 1, 219, 61, 2, 62, 2, 54, 4]
abbrev dktX0_lucky_0 : List UInt8 := dkwX0_lucky_0 ++ dktX0_lucky_1
theorem dksX0_lucky_0 : cX0_lucky.data.toList.drop 0 = dktX0_lucky_0 := by decide +kernel
theorem dksX0_lucky_1 : cX0_lucky.data.toList.drop 24 = dktX0_lucky_1 := dk_seg dksX0_lucky_0 24 rfl rfl
theorem dksX0_lucky_2 : cX0_lucky.data.toList.drop 47 = dktX0_lucky_2 := dk_seg dksX0_lucky_1 23 rfl rfl
theorem dksX0_lucky_3 : cX0_lucky.data.toList.drop 69 = dktX0_lucky_3 := dk_seg dksX0_lucky_2 22 rfl rfl
theorem dX0_lucky_0 : decode cX0_lucky 0 = .ok (.aload_n 0, 1) := dk_42 (dk_at dksX0_lucky_0 0 rfl rfl)
theorem dX0_lucky_1 : decode cX0_lucky 1 = .ok (.iload_n 1, 1) := dk_27 (dk_at dksX0_lucky_0 1 rfl rfl)
theorem dX0_lucky_2 : decode cX0_lucky 2 = .ok (.invokevirtual 193, 3) := dk_182 0 193 (dk_at dksX0_lucky_0 2 rfl rfl)
theorem dX0_lucky_5 : decode cX0_lucky 5 = .ok (.ifCond .ne 6, 3) := dk_154 0 6 (dk_at dksX0_lucky_0 5 rfl rfl)
theorem dX0_lucky_8 : decode cX0_lucky 8 = .ok (.bipush (-2), 2) := dk_16 254 (dk_at dksX0_lucky_0 8 rfl rfl)
theorem dX0_lucky_10 : decode cX0_lucky 10 = .ok (.ireturn, 1) := dk_172 (dk_at dksX0_lucky_0 10 rfl rfl)
theorem dX0_lucky_11 : decode cX0_lucky 11 = .ok (.aload_n 0, 1) := dk_42 (dk_at dksX0_lucky_0 11 rfl rfl)
theorem dX0_lucky_12 : decode cX0_lucky 12 = .ok (.getfield 41, 3) := dk_180 0 41 (dk_at dksX0_lucky_0 12 rfl rfl)
theorem dX0_lucky_15 : decode cX0_lucky 15 = .ok (.getfield 475, 3) := dk_180 1 219 (dk_at dksX0_lucky_0 15 rfl rfl)
theorem dX0_lucky_18 : decode cX0_lucky 18 = .ok (.istore_n 2, 1) := dk_61 (dk_at dksX0_lucky_0 18 rfl rfl)
theorem dX0_lucky_19 : decode cX0_lucky 19 = .ok (.iconst (-1), 1) := dk_2 (dk_at dksX0_lucky_0 19 rfl rfl)
theorem dX0_lucky_20 : decode cX0_lucky 20 = .ok (.istore_n 3, 1) := dk_62 (dk_at dksX0_lucky_0 20 rfl rfl)
theorem dX0_lucky_21 : decode cX0_lucky 21 = .ok (.iconst (-1), 1) := dk_2 (dk_at dksX0_lucky_0 21 rfl rfl)
theorem dX0_lucky_22 : decode cX0_lucky 22 = .ok (.istore 4, 2) := dk_54 4 (dk_at dksX0_lucky_0 22 rfl rfl)
theorem dX0_lucky_24 : decode cX0_lucky 24 = .ok (.iconst 0, 1) := dk_3 (dk_at dksX0_lucky_1 0 rfl rfl)
theorem dX0_lucky_25 : decode cX0_lucky 25 = .ok (.istore 5, 2) := dk_54 5 (dk_at dksX0_lucky_1 1 rfl rfl)
theorem dX0_lucky_27 : decode cX0_lucky 27 = .ok (.iload 5, 2) := dk_21 5 (dk_at dksX0_lucky_1 3 rfl rfl)
theorem dX0_lucky_29 : decode cX0_lucky 29 = .ok (.aload_n 0, 1) := dk_42 (dk_at dksX0_lucky_1 5 rfl rfl)
theorem dX0_lucky_30 : decode cX0_lucky 30 = .ok (.invokevirtual 152, 3) := dk_182 0 152 (dk_at dksX0_lucky_1 6 rfl rfl)
theorem dX0_lucky_33 : decode cX0_lucky 33 = .ok (.if_icmp .ge 42, 3) := dk_162 0 42 (dk_at dksX0_lucky_1 9 rfl rfl)
theorem dX0_lucky_36 : decode cX0_lucky 36 = .ok (.aload_n 0, 1) := dk_42 (dk_at dksX0_lucky_1 12 rfl rfl)
theorem dX0_lucky_37 : decode cX0_lucky 37 = .ok (.getfield 41, 3) := dk_180 0 41 (dk_at dksX0_lucky_1 13 rfl rfl)
theorem dX0_lucky_40 : decode cX0_lucky 40 = .ok (.iload 5, 2) := dk_21 5 (dk_at dksX0_lucky_1 16 rfl rfl)
theorem dX0_lucky_42 : decode cX0_lucky 42 = .ok (.putfield 475, 3) := dk_181 1 219 (dk_at dksX0_lucky_1 18 rfl rfl)
theorem dX0_lucky_45 : decode cX0_lucky 45 = .ok (.aload_n 0, 1) := dk_42 (dk_at dksX0_lucky_1 21 rfl rfl)
theorem dX0_lucky_46 : decode cX0_lucky 46 = .ok (.iload_n 1, 1) := dk_27 (dk_at dksX0_lucky_1 22 rfl rfl)
theorem dX0_lucky_47 : decode cX0_lucky 47 = .ok (.invokevirtual 274, 3) := dk_182 1 18 (dk_at dksX0_lucky_2 0 rfl rfl)
theorem dX0_lucky_50 : decode cX0_lucky 50 = .ok (.istore 6, 2) := dk_54 6 (dk_at dksX0_lucky_2 3 rfl rfl)
theorem dX0_lucky_52 : decode cX0_lucky 52 = .ok (.iload 6, 2) := dk_21 6 (dk_at dksX0_lucky_2 5 rfl rfl)
theorem dX0_lucky_54 : decode cX0_lucky 54 = .ok (.iload 4, 2) := dk_21 4 (dk_at dksX0_lucky_2 7 rfl rfl)
theorem dX0_lucky_56 : decode cX0_lucky 56 = .ok (.if_icmp .gt 6, 3) := dk_163 0 6 (dk_at dksX0_lucky_2 9 rfl rfl)
theorem dX0_lucky_59 : decode cX0_lucky 59 = .ok (.goto 10, 3) := dk_167 0 10 (dk_at dksX0_lucky_2 12 rfl rfl)
theorem dX0_lucky_62 : decode cX0_lucky 62 = .ok (.iload 5, 2) := dk_21 5 (dk_at dksX0_lucky_2 15 rfl rfl)
theorem dX0_lucky_64 : decode cX0_lucky 64 = .ok (.istore_n 3, 1) := dk_62 (dk_at dksX0_lucky_2 17 rfl rfl)
theorem dX0_lucky_65 : decode cX0_lucky 65 = .ok (.iload 6, 2) := dk_21 6 (dk_at dksX0_lucky_2 18 rfl rfl)
theorem dX0_lucky_67 : decode cX0_lucky 67 = .ok (.istore 4, 2) := dk_54 4 (dk_at dksX0_lucky_2 20 rfl rfl)
theorem dX0_lucky_69 : decode cX0_lucky 69 = .ok (.iinc 5 1, 3) := dk_132 5 1 (dk_at dksX0_lucky_3 0 rfl rfl)
theorem dX0_lucky_72 : decode cX0_lucky 72 = .ok (.goto (-45), 3) := dk_167 255 211 (dk_at dksX0_lucky_3 3 rfl rfl)
theorem dX0_lucky_75 : decode cX0_lucky 75 = .ok (.aload_n 0, 1) := dk_42 (dk_at dksX0_lucky_3 6 rfl rfl)
theorem dX0_lucky_76 : decode cX0_lucky 76 = .ok (.getfield 41, 3) := dk_180 0 41 (dk_at dksX0_lucky_3 7 rfl rfl)
theorem dX0_lucky_79 : decode cX0_lucky 79 = .ok (.iload_n 2, 1) := dk_28 (dk_at dksX0_lucky_3 10 rfl rfl)
theorem dX0_lucky_80 : decode cX0_lucky 80 = .ok (.putfield 475, 3) := dk_181 1 219 (dk_at dksX0_lucky_3 11 rfl rfl)
theorem dX0_lucky_83 : decode cX0_lucky 83 = .ok (.iload_n 3, 1) := dk_29 (dk_at dksX0_lucky_3 14 rfl rfl)
theorem dX0_lucky_84 : decode cX0_lucky 84 = .ok (.ireturn, 1) := dk_172 (dk_at dksX0_lucky_3 15 rfl rfl)
abbrev cX0_shut : ByteArray := prog_1_method_103_code
def yX0_shut : MethodName := ⟨RX0, "shut", "(II)I"⟩
def dkwX0_shut_3 : List UInt8 := [180, 0, 41, 180, 0, 161, 4, 27, 120, 2, 130, 126, 181, 0, 161, 29, 172]
abbrev dktX0_shut_3 : List UInt8 := dkwX0_shut_3 ++ []
def dkwX0_shut_2 : List UInt8 := [180, 0, 41, 28, 4, 160, 0, 17, 42, 180, 0, 41, 180, 0, 161, 4, 27, 120, 128, 167, 0, 16, 42]
abbrev dktX0_shut_2 : List UInt8 := dkwX0_shut_2 ++ dktX0_shut_3
def dkwX0_shut_1 : List UInt8 := [182, 1, 222, 153, 0, 6, 16, 254, 172, 42, 180, 0, 41, 180, 0, 161, 27, 122, 4, 126, 62, 42]
abbrev dktX0_shut_1 : List UInt8 := dkwX0_shut_1 ++ dktX0_shut_2
def dkwX0_shut_0 : List UInt8 := [42, 27, 133, 182, 0, 250, 153, 0, 24, 28, 133, 9, 10, 184, 0, 5, 153, 0, 14, 42, 180, 0, 41, 27]
abbrev dktX0_shut_0 : List UInt8 := dkwX0_shut_0 ++ dktX0_shut_1
theorem dksX0_shut_0 : cX0_shut.data.toList.drop 0 = dktX0_shut_0 := by decide +kernel
theorem dksX0_shut_1 : cX0_shut.data.toList.drop 24 = dktX0_shut_1 := dk_seg dksX0_shut_0 24 rfl rfl
theorem dksX0_shut_2 : cX0_shut.data.toList.drop 46 = dktX0_shut_2 := dk_seg dksX0_shut_1 22 rfl rfl
theorem dksX0_shut_3 : cX0_shut.data.toList.drop 69 = dktX0_shut_3 := dk_seg dksX0_shut_2 23 rfl rfl
theorem dX0_shut_0 : decode cX0_shut 0 = .ok (.aload_n 0, 1) := dk_42 (dk_at dksX0_shut_0 0 rfl rfl)
theorem dX0_shut_1 : decode cX0_shut 1 = .ok (.iload_n 1, 1) := dk_27 (dk_at dksX0_shut_0 1 rfl rfl)
theorem dX0_shut_2 : decode cX0_shut 2 = .ok (.i2l, 1) := dk_133 (dk_at dksX0_shut_0 2 rfl rfl)
theorem dX0_shut_3 : decode cX0_shut 3 = .ok (.invokevirtual 250, 3) := dk_182 0 250 (dk_at dksX0_shut_0 3 rfl rfl)
theorem dX0_shut_6 : decode cX0_shut 6 = .ok (.ifCond .eq 24, 3) := dk_153 0 24 (dk_at dksX0_shut_0 6 rfl rfl)
theorem dX0_shut_9 : decode cX0_shut 9 = .ok (.iload_n 2, 1) := dk_28 (dk_at dksX0_shut_0 9 rfl rfl)
theorem dX0_shut_10 : decode cX0_shut 10 = .ok (.i2l, 1) := dk_133 (dk_at dksX0_shut_0 10 rfl rfl)
theorem dX0_shut_11 : decode cX0_shut 11 = .ok (.lconst 0, 1) := dk_9 (dk_at dksX0_shut_0 11 rfl rfl)
theorem dX0_shut_12 : decode cX0_shut 12 = .ok (.lconst 1, 1) := dk_10 (dk_at dksX0_shut_0 12 rfl rfl)
theorem dX0_shut_13 : decode cX0_shut 13 = .ok (.invokestatic 5, 3) := dk_184 0 5 (dk_at dksX0_shut_0 13 rfl rfl)
theorem dX0_shut_16 : decode cX0_shut 16 = .ok (.ifCond .eq 14, 3) := dk_153 0 14 (dk_at dksX0_shut_0 16 rfl rfl)
theorem dX0_shut_19 : decode cX0_shut 19 = .ok (.aload_n 0, 1) := dk_42 (dk_at dksX0_shut_0 19 rfl rfl)
theorem dX0_shut_20 : decode cX0_shut 20 = .ok (.getfield 41, 3) := dk_180 0 41 (dk_at dksX0_shut_0 20 rfl rfl)
theorem dX0_shut_23 : decode cX0_shut 23 = .ok (.iload_n 1, 1) := dk_27 (dk_at dksX0_shut_0 23 rfl rfl)
theorem dX0_shut_24 : decode cX0_shut 24 = .ok (.invokevirtual 478, 3) := dk_182 1 222 (dk_at dksX0_shut_1 0 rfl rfl)
theorem dX0_shut_27 : decode cX0_shut 27 = .ok (.ifCond .eq 6, 3) := dk_153 0 6 (dk_at dksX0_shut_1 3 rfl rfl)
theorem dX0_shut_30 : decode cX0_shut 30 = .ok (.bipush (-2), 2) := dk_16 254 (dk_at dksX0_shut_1 6 rfl rfl)
theorem dX0_shut_32 : decode cX0_shut 32 = .ok (.ireturn, 1) := dk_172 (dk_at dksX0_shut_1 8 rfl rfl)
theorem dX0_shut_33 : decode cX0_shut 33 = .ok (.aload_n 0, 1) := dk_42 (dk_at dksX0_shut_1 9 rfl rfl)
theorem dX0_shut_34 : decode cX0_shut 34 = .ok (.getfield 41, 3) := dk_180 0 41 (dk_at dksX0_shut_1 10 rfl rfl)
theorem dX0_shut_37 : decode cX0_shut 37 = .ok (.getfield 161, 3) := dk_180 0 161 (dk_at dksX0_shut_1 13 rfl rfl)
theorem dX0_shut_40 : decode cX0_shut 40 = .ok (.iload_n 1, 1) := dk_27 (dk_at dksX0_shut_1 16 rfl rfl)
theorem dX0_shut_41 : decode cX0_shut 41 = .ok (.ishr, 1) := dk_122 (dk_at dksX0_shut_1 17 rfl rfl)
theorem dX0_shut_42 : decode cX0_shut 42 = .ok (.iconst 1, 1) := dk_4 (dk_at dksX0_shut_1 18 rfl rfl)
theorem dX0_shut_43 : decode cX0_shut 43 = .ok (.iand, 1) := dk_126 (dk_at dksX0_shut_1 19 rfl rfl)
theorem dX0_shut_44 : decode cX0_shut 44 = .ok (.istore_n 3, 1) := dk_62 (dk_at dksX0_shut_1 20 rfl rfl)
theorem dX0_shut_45 : decode cX0_shut 45 = .ok (.aload_n 0, 1) := dk_42 (dk_at dksX0_shut_1 21 rfl rfl)
theorem dX0_shut_46 : decode cX0_shut 46 = .ok (.getfield 41, 3) := dk_180 0 41 (dk_at dksX0_shut_2 0 rfl rfl)
theorem dX0_shut_49 : decode cX0_shut 49 = .ok (.iload_n 2, 1) := dk_28 (dk_at dksX0_shut_2 3 rfl rfl)
theorem dX0_shut_50 : decode cX0_shut 50 = .ok (.iconst 1, 1) := dk_4 (dk_at dksX0_shut_2 4 rfl rfl)
theorem dX0_shut_51 : decode cX0_shut 51 = .ok (.if_icmp .ne 17, 3) := dk_160 0 17 (dk_at dksX0_shut_2 5 rfl rfl)
theorem dX0_shut_54 : decode cX0_shut 54 = .ok (.aload_n 0, 1) := dk_42 (dk_at dksX0_shut_2 8 rfl rfl)
theorem dX0_shut_55 : decode cX0_shut 55 = .ok (.getfield 41, 3) := dk_180 0 41 (dk_at dksX0_shut_2 9 rfl rfl)
theorem dX0_shut_58 : decode cX0_shut 58 = .ok (.getfield 161, 3) := dk_180 0 161 (dk_at dksX0_shut_2 12 rfl rfl)
theorem dX0_shut_61 : decode cX0_shut 61 = .ok (.iconst 1, 1) := dk_4 (dk_at dksX0_shut_2 15 rfl rfl)
theorem dX0_shut_62 : decode cX0_shut 62 = .ok (.iload_n 1, 1) := dk_27 (dk_at dksX0_shut_2 16 rfl rfl)
theorem dX0_shut_63 : decode cX0_shut 63 = .ok (.ishl, 1) := dk_120 (dk_at dksX0_shut_2 17 rfl rfl)
theorem dX0_shut_64 : decode cX0_shut 64 = .ok (.ior, 1) := dk_128 (dk_at dksX0_shut_2 18 rfl rfl)
theorem dX0_shut_65 : decode cX0_shut 65 = .ok (.goto 16, 3) := dk_167 0 16 (dk_at dksX0_shut_2 19 rfl rfl)
theorem dX0_shut_68 : decode cX0_shut 68 = .ok (.aload_n 0, 1) := dk_42 (dk_at dksX0_shut_2 22 rfl rfl)
theorem dX0_shut_69 : decode cX0_shut 69 = .ok (.getfield 41, 3) := dk_180 0 41 (dk_at dksX0_shut_3 0 rfl rfl)
theorem dX0_shut_72 : decode cX0_shut 72 = .ok (.getfield 161, 3) := dk_180 0 161 (dk_at dksX0_shut_3 3 rfl rfl)
theorem dX0_shut_75 : decode cX0_shut 75 = .ok (.iconst 1, 1) := dk_4 (dk_at dksX0_shut_3 6 rfl rfl)
theorem dX0_shut_76 : decode cX0_shut 76 = .ok (.iload_n 1, 1) := dk_27 (dk_at dksX0_shut_3 7 rfl rfl)
theorem dX0_shut_77 : decode cX0_shut 77 = .ok (.ishl, 1) := dk_120 (dk_at dksX0_shut_3 8 rfl rfl)
theorem dX0_shut_78 : decode cX0_shut 78 = .ok (.iconst (-1), 1) := dk_2 (dk_at dksX0_shut_3 9 rfl rfl)
theorem dX0_shut_79 : decode cX0_shut 79 = .ok (.ixor, 1) := dk_130 (dk_at dksX0_shut_3 10 rfl rfl)
theorem dX0_shut_80 : decode cX0_shut 80 = .ok (.iand, 1) := dk_126 (dk_at dksX0_shut_3 11 rfl rfl)
theorem dX0_shut_81 : decode cX0_shut 81 = .ok (.putfield 161, 3) := dk_181 0 161 (dk_at dksX0_shut_3 12 rfl rfl)
theorem dX0_shut_84 : decode cX0_shut 84 = .ok (.iload_n 3, 1) := dk_29 (dk_at dksX0_shut_3 15 rfl rfl)
theorem dX0_shut_85 : decode cX0_shut 85 = .ok (.ireturn, 1) := dk_172 (dk_at dksX0_shut_3 16 rfl rfl)
abbrev cX0_train : ByteArray := prog_1_method_104_code
def yX0_train : MethodName := ⟨RX0, "train", "(III)I"⟩
def dkwX0_train_3 : List UInt8 := [180, 0, 202, 28, 46, 54, 5, 42, 27, 182, 0, 198, 180, 0, 202, 28, 29, 79, 21, 5, 172]
abbrev dktX0_train_3 : List UInt8 := dkwX0_train_3 ++ []
def dkwX0_train_2 : List UInt8 := [28, 184, 1, 225, 133, 184, 0, 5, 54, 4, 21, 4, 154, 0, 6, 16, 254, 172, 42, 27, 182, 0, 198]
abbrev dktX0_train_2 : List UInt8 := dkwX0_train_2 ++ dktX0_train_3
def dkwX0_train_1 : List UInt8 := [7, 160, 0, 12, 42, 29, 133, 182, 0, 250, 167, 0, 22, 29, 133, 28, 154, 0, 7, 10, 167, 0, 4, 9]
abbrev dktX0_train_1 : List UInt8 := dkwX0_train_1 ++ dktX0_train_2
def dkwX0_train_0 : List UInt8 := [42, 27, 182, 0, 193, 153, 0, 15, 28, 133, 9, 20, 0, 196, 184, 0, 5, 154, 0, 6, 16, 254, 172, 28]
abbrev dktX0_train_0 : List UInt8 := dkwX0_train_0 ++ dktX0_train_1
theorem dksX0_train_0 : cX0_train.data.toList.drop 0 = dktX0_train_0 := by decide +kernel
theorem dksX0_train_1 : cX0_train.data.toList.drop 24 = dktX0_train_1 := dk_seg dksX0_train_0 24 rfl rfl
theorem dksX0_train_2 : cX0_train.data.toList.drop 48 = dktX0_train_2 := dk_seg dksX0_train_1 24 rfl rfl
theorem dksX0_train_3 : cX0_train.data.toList.drop 71 = dktX0_train_3 := dk_seg dksX0_train_2 23 rfl rfl
theorem dX0_train_0 : decode cX0_train 0 = .ok (.aload_n 0, 1) := dk_42 (dk_at dksX0_train_0 0 rfl rfl)
theorem dX0_train_1 : decode cX0_train 1 = .ok (.iload_n 1, 1) := dk_27 (dk_at dksX0_train_0 1 rfl rfl)
theorem dX0_train_2 : decode cX0_train 2 = .ok (.invokevirtual 193, 3) := dk_182 0 193 (dk_at dksX0_train_0 2 rfl rfl)
theorem dX0_train_5 : decode cX0_train 5 = .ok (.ifCond .eq 15, 3) := dk_153 0 15 (dk_at dksX0_train_0 5 rfl rfl)
theorem dX0_train_8 : decode cX0_train 8 = .ok (.iload_n 2, 1) := dk_28 (dk_at dksX0_train_0 8 rfl rfl)
theorem dX0_train_9 : decode cX0_train 9 = .ok (.i2l, 1) := dk_133 (dk_at dksX0_train_0 9 rfl rfl)
theorem dX0_train_10 : decode cX0_train 10 = .ok (.lconst 0, 1) := dk_9 (dk_at dksX0_train_0 10 rfl rfl)
theorem dX0_train_11 : decode cX0_train 11 = .ok (.ldc2_w 196, 3) := dk_20 0 196 (dk_at dksX0_train_0 11 rfl rfl)
theorem dX0_train_14 : decode cX0_train 14 = .ok (.invokestatic 5, 3) := dk_184 0 5 (dk_at dksX0_train_0 14 rfl rfl)
theorem dX0_train_17 : decode cX0_train 17 = .ok (.ifCond .ne 6, 3) := dk_154 0 6 (dk_at dksX0_train_0 17 rfl rfl)
theorem dX0_train_20 : decode cX0_train 20 = .ok (.bipush (-2), 2) := dk_16 254 (dk_at dksX0_train_0 20 rfl rfl)
theorem dX0_train_22 : decode cX0_train 22 = .ok (.ireturn, 1) := dk_172 (dk_at dksX0_train_0 22 rfl rfl)
theorem dX0_train_23 : decode cX0_train 23 = .ok (.iload_n 2, 1) := dk_28 (dk_at dksX0_train_0 23 rfl rfl)
theorem dX0_train_24 : decode cX0_train 24 = .ok (.iconst 4, 1) := dk_7 (dk_at dksX0_train_1 0 rfl rfl)
theorem dX0_train_25 : decode cX0_train 25 = .ok (.if_icmp .ne 12, 3) := dk_160 0 12 (dk_at dksX0_train_1 1 rfl rfl)
theorem dX0_train_28 : decode cX0_train 28 = .ok (.aload_n 0, 1) := dk_42 (dk_at dksX0_train_1 4 rfl rfl)
theorem dX0_train_29 : decode cX0_train 29 = .ok (.iload_n 3, 1) := dk_29 (dk_at dksX0_train_1 5 rfl rfl)
theorem dX0_train_30 : decode cX0_train 30 = .ok (.i2l, 1) := dk_133 (dk_at dksX0_train_1 6 rfl rfl)
theorem dX0_train_31 : decode cX0_train 31 = .ok (.invokevirtual 250, 3) := dk_182 0 250 (dk_at dksX0_train_1 7 rfl rfl)
theorem dX0_train_34 : decode cX0_train 34 = .ok (.goto 22, 3) := dk_167 0 22 (dk_at dksX0_train_1 10 rfl rfl)
theorem dX0_train_37 : decode cX0_train 37 = .ok (.iload_n 3, 1) := dk_29 (dk_at dksX0_train_1 13 rfl rfl)
theorem dX0_train_38 : decode cX0_train 38 = .ok (.i2l, 1) := dk_133 (dk_at dksX0_train_1 14 rfl rfl)
theorem dX0_train_39 : decode cX0_train 39 = .ok (.iload_n 2, 1) := dk_28 (dk_at dksX0_train_1 15 rfl rfl)
theorem dX0_train_40 : decode cX0_train 40 = .ok (.ifCond .ne 7, 3) := dk_154 0 7 (dk_at dksX0_train_1 16 rfl rfl)
theorem dX0_train_43 : decode cX0_train 43 = .ok (.lconst 1, 1) := dk_10 (dk_at dksX0_train_1 19 rfl rfl)
theorem dX0_train_44 : decode cX0_train 44 = .ok (.goto 4, 3) := dk_167 0 4 (dk_at dksX0_train_1 20 rfl rfl)
theorem dX0_train_47 : decode cX0_train 47 = .ok (.lconst 0, 1) := dk_9 (dk_at dksX0_train_1 23 rfl rfl)
theorem dX0_train_48 : decode cX0_train 48 = .ok (.iload_n 2, 1) := dk_28 (dk_at dksX0_train_2 0 rfl rfl)
theorem dX0_train_49 : decode cX0_train 49 = .ok (.invokestatic 481, 3) := dk_184 1 225 (dk_at dksX0_train_2 1 rfl rfl)
theorem dX0_train_52 : decode cX0_train 52 = .ok (.i2l, 1) := dk_133 (dk_at dksX0_train_2 4 rfl rfl)
theorem dX0_train_53 : decode cX0_train 53 = .ok (.invokestatic 5, 3) := dk_184 0 5 (dk_at dksX0_train_2 5 rfl rfl)
theorem dX0_train_56 : decode cX0_train 56 = .ok (.istore 4, 2) := dk_54 4 (dk_at dksX0_train_2 8 rfl rfl)
theorem dX0_train_58 : decode cX0_train 58 = .ok (.iload 4, 2) := dk_21 4 (dk_at dksX0_train_2 10 rfl rfl)
theorem dX0_train_60 : decode cX0_train 60 = .ok (.ifCond .ne 6, 3) := dk_154 0 6 (dk_at dksX0_train_2 12 rfl rfl)
theorem dX0_train_63 : decode cX0_train 63 = .ok (.bipush (-2), 2) := dk_16 254 (dk_at dksX0_train_2 15 rfl rfl)
theorem dX0_train_65 : decode cX0_train 65 = .ok (.ireturn, 1) := dk_172 (dk_at dksX0_train_2 17 rfl rfl)
theorem dX0_train_66 : decode cX0_train 66 = .ok (.aload_n 0, 1) := dk_42 (dk_at dksX0_train_2 18 rfl rfl)
theorem dX0_train_67 : decode cX0_train 67 = .ok (.iload_n 1, 1) := dk_27 (dk_at dksX0_train_2 19 rfl rfl)
theorem dX0_train_68 : decode cX0_train 68 = .ok (.invokevirtual 198, 3) := dk_182 0 198 (dk_at dksX0_train_2 20 rfl rfl)
theorem dX0_train_71 : decode cX0_train 71 = .ok (.getfield 202, 3) := dk_180 0 202 (dk_at dksX0_train_3 0 rfl rfl)
theorem dX0_train_74 : decode cX0_train 74 = .ok (.iload_n 2, 1) := dk_28 (dk_at dksX0_train_3 3 rfl rfl)
theorem dX0_train_75 : decode cX0_train 75 = .ok (.iaload, 1) := dk_46 (dk_at dksX0_train_3 4 rfl rfl)
theorem dX0_train_76 : decode cX0_train 76 = .ok (.istore 5, 2) := dk_54 5 (dk_at dksX0_train_3 5 rfl rfl)
theorem dX0_train_78 : decode cX0_train 78 = .ok (.aload_n 0, 1) := dk_42 (dk_at dksX0_train_3 7 rfl rfl)
theorem dX0_train_79 : decode cX0_train 79 = .ok (.iload_n 1, 1) := dk_27 (dk_at dksX0_train_3 8 rfl rfl)
theorem dX0_train_80 : decode cX0_train 80 = .ok (.invokevirtual 198, 3) := dk_182 0 198 (dk_at dksX0_train_3 9 rfl rfl)
theorem dX0_train_83 : decode cX0_train 83 = .ok (.getfield 202, 3) := dk_180 0 202 (dk_at dksX0_train_3 12 rfl rfl)
theorem dX0_train_86 : decode cX0_train 86 = .ok (.iload_n 2, 1) := dk_28 (dk_at dksX0_train_3 15 rfl rfl)
theorem dX0_train_87 : decode cX0_train 87 = .ok (.iload_n 3, 1) := dk_29 (dk_at dksX0_train_3 16 rfl rfl)
theorem dX0_train_88 : decode cX0_train 88 = .ok (.iastore, 1) := dk_79 (dk_at dksX0_train_3 17 rfl rfl)
theorem dX0_train_89 : decode cX0_train 89 = .ok (.iload 5, 2) := dk_21 5 (dk_at dksX0_train_3 18 rfl rfl)
theorem dX0_train_91 : decode cX0_train 91 = .ok (.ireturn, 1) := dk_172 (dk_at dksX0_train_3 20 rfl rfl)
abbrev cX0_drawn : ByteArray := prog_1_method_106_code
def yX0_drawn : MethodName := ⟨RX0, "drawn", "(III)I"⟩
def dkwX0_drawn_2 : List UInt8 := [180, 0, 170, 167, 0, 4, 2, 172]
abbrev dktX0_drawn_2 : List UInt8 := dkwX0_drawn_2 ++ []
def dkwX0_drawn_1 : List UInt8 := [29, 133, 9, 25, 4, 180, 0, 232, 4, 100, 133, 184, 0, 5, 153, 0, 15, 25, 4, 29, 182, 0, 237]
abbrev dktX0_drawn_1 : List UInt8 := dkwX0_drawn_1 ++ dktX0_drawn_2
def dkwX0_drawn_0 : List UInt8 := [42, 27, 28, 182, 1, 230, 154, 0, 6, 16, 254, 172, 42, 180, 0, 69, 27, 133, 28, 182, 1, 233, 58, 4]
abbrev dktX0_drawn_0 : List UInt8 := dkwX0_drawn_0 ++ dktX0_drawn_1
theorem dksX0_drawn_0 : cX0_drawn.data.toList.drop 0 = dktX0_drawn_0 := by decide +kernel
theorem dksX0_drawn_1 : cX0_drawn.data.toList.drop 24 = dktX0_drawn_1 := dk_seg dksX0_drawn_0 24 rfl rfl
theorem dksX0_drawn_2 : cX0_drawn.data.toList.drop 47 = dktX0_drawn_2 := dk_seg dksX0_drawn_1 23 rfl rfl
theorem dX0_drawn_0 : decode cX0_drawn 0 = .ok (.aload_n 0, 1) := dk_42 (dk_at dksX0_drawn_0 0 rfl rfl)
theorem dX0_drawn_1 : decode cX0_drawn 1 = .ok (.iload_n 1, 1) := dk_27 (dk_at dksX0_drawn_0 1 rfl rfl)
theorem dX0_drawn_2 : decode cX0_drawn 2 = .ok (.iload_n 2, 1) := dk_28 (dk_at dksX0_drawn_0 2 rfl rfl)
theorem dX0_drawn_3 : decode cX0_drawn 3 = .ok (.invokevirtual 486, 3) := dk_182 1 230 (dk_at dksX0_drawn_0 3 rfl rfl)
theorem dX0_drawn_6 : decode cX0_drawn 6 = .ok (.ifCond .ne 6, 3) := dk_154 0 6 (dk_at dksX0_drawn_0 6 rfl rfl)
theorem dX0_drawn_9 : decode cX0_drawn 9 = .ok (.bipush (-2), 2) := dk_16 254 (dk_at dksX0_drawn_0 9 rfl rfl)
theorem dX0_drawn_11 : decode cX0_drawn 11 = .ok (.ireturn, 1) := dk_172 (dk_at dksX0_drawn_0 11 rfl rfl)
theorem dX0_drawn_12 : decode cX0_drawn 12 = .ok (.aload_n 0, 1) := dk_42 (dk_at dksX0_drawn_0 12 rfl rfl)
theorem dX0_drawn_13 : decode cX0_drawn 13 = .ok (.getfield 69, 3) := dk_180 0 69 (dk_at dksX0_drawn_0 13 rfl rfl)
theorem dX0_drawn_16 : decode cX0_drawn 16 = .ok (.iload_n 1, 1) := dk_27 (dk_at dksX0_drawn_0 16 rfl rfl)
theorem dX0_drawn_17 : decode cX0_drawn 17 = .ok (.i2l, 1) := dk_133 (dk_at dksX0_drawn_0 17 rfl rfl)
theorem dX0_drawn_18 : decode cX0_drawn 18 = .ok (.iload_n 2, 1) := dk_28 (dk_at dksX0_drawn_0 18 rfl rfl)
theorem dX0_drawn_19 : decode cX0_drawn 19 = .ok (.invokevirtual 489, 3) := dk_182 1 233 (dk_at dksX0_drawn_0 19 rfl rfl)
theorem dX0_drawn_22 : decode cX0_drawn 22 = .ok (.astore 4, 2) := dk_58 4 (dk_at dksX0_drawn_0 22 rfl rfl)
theorem dX0_drawn_24 : decode cX0_drawn 24 = .ok (.iload_n 3, 1) := dk_29 (dk_at dksX0_drawn_1 0 rfl rfl)
theorem dX0_drawn_25 : decode cX0_drawn 25 = .ok (.i2l, 1) := dk_133 (dk_at dksX0_drawn_1 1 rfl rfl)
theorem dX0_drawn_26 : decode cX0_drawn 26 = .ok (.lconst 0, 1) := dk_9 (dk_at dksX0_drawn_1 2 rfl rfl)
theorem dX0_drawn_27 : decode cX0_drawn 27 = .ok (.aload 4, 2) := dk_25 4 (dk_at dksX0_drawn_1 3 rfl rfl)
theorem dX0_drawn_29 : decode cX0_drawn 29 = .ok (.getfield 232, 3) := dk_180 0 232 (dk_at dksX0_drawn_1 5 rfl rfl)
theorem dX0_drawn_32 : decode cX0_drawn 32 = .ok (.iconst 1, 1) := dk_4 (dk_at dksX0_drawn_1 8 rfl rfl)
theorem dX0_drawn_33 : decode cX0_drawn 33 = .ok (.isub, 1) := dk_100 (dk_at dksX0_drawn_1 9 rfl rfl)
theorem dX0_drawn_34 : decode cX0_drawn 34 = .ok (.i2l, 1) := dk_133 (dk_at dksX0_drawn_1 10 rfl rfl)
theorem dX0_drawn_35 : decode cX0_drawn 35 = .ok (.invokestatic 5, 3) := dk_184 0 5 (dk_at dksX0_drawn_1 11 rfl rfl)
theorem dX0_drawn_38 : decode cX0_drawn 38 = .ok (.ifCond .eq 15, 3) := dk_153 0 15 (dk_at dksX0_drawn_1 14 rfl rfl)
theorem dX0_drawn_41 : decode cX0_drawn 41 = .ok (.aload 4, 2) := dk_25 4 (dk_at dksX0_drawn_1 17 rfl rfl)
theorem dX0_drawn_43 : decode cX0_drawn 43 = .ok (.iload_n 3, 1) := dk_29 (dk_at dksX0_drawn_1 19 rfl rfl)
theorem dX0_drawn_44 : decode cX0_drawn 44 = .ok (.invokevirtual 237, 3) := dk_182 0 237 (dk_at dksX0_drawn_1 20 rfl rfl)
theorem dX0_drawn_47 : decode cX0_drawn 47 = .ok (.getfield 170, 3) := dk_180 0 170 (dk_at dksX0_drawn_2 0 rfl rfl)
theorem dX0_drawn_50 : decode cX0_drawn 50 = .ok (.goto 4, 3) := dk_167 0 4 (dk_at dksX0_drawn_2 3 rfl rfl)
theorem dX0_drawn_53 : decode cX0_drawn 53 = .ok (.iconst (-1), 1) := dk_2 (dk_at dksX0_drawn_2 6 rfl rfl)
theorem dX0_drawn_54 : decode cX0_drawn 54 = .ok (.ireturn, 1) := dk_172 (dk_at dksX0_drawn_2 7 rfl rfl)
abbrev cX0_isNight : ByteArray := prog_1_method_105_code
def yX0_isNight : MethodName := ⟨RX0, "isNight", "(II)Z"⟩
def dkwX0_isNight_1 : List UInt8 := [184, 1, 83, 153, 0, 7, 4, 167, 0, 4, 3, 172]
abbrev dktX0_isNight_1 : List UInt8 := dkwX0_isNight_1 ++ []
def dkwX0_isNight_0 : List UInt8 := [42, 180, 0, 41, 182, 0, 113, 153, 0, 26, 27, 133, 9, 20, 1, 228, 184, 0, 5, 153, 0, 14, 28]
abbrev dktX0_isNight_0 : List UInt8 := dkwX0_isNight_0 ++ dktX0_isNight_1
theorem dksX0_isNight_0 : cX0_isNight.data.toList.drop 0 = dktX0_isNight_0 := by decide +kernel
theorem dksX0_isNight_1 : cX0_isNight.data.toList.drop 23 = dktX0_isNight_1 := dk_seg dksX0_isNight_0 23 rfl rfl
theorem dX0_isNight_0 : decode cX0_isNight 0 = .ok (.aload_n 0, 1) := dk_42 (dk_at dksX0_isNight_0 0 rfl rfl)
theorem dX0_isNight_1 : decode cX0_isNight 1 = .ok (.getfield 41, 3) := dk_180 0 41 (dk_at dksX0_isNight_0 1 rfl rfl)
theorem dX0_isNight_4 : decode cX0_isNight 4 = .ok (.invokevirtual 113, 3) := dk_182 0 113 (dk_at dksX0_isNight_0 4 rfl rfl)
theorem dX0_isNight_7 : decode cX0_isNight 7 = .ok (.ifCond .eq 26, 3) := dk_153 0 26 (dk_at dksX0_isNight_0 7 rfl rfl)
theorem dX0_isNight_10 : decode cX0_isNight 10 = .ok (.iload_n 1, 1) := dk_27 (dk_at dksX0_isNight_0 10 rfl rfl)
theorem dX0_isNight_11 : decode cX0_isNight 11 = .ok (.i2l, 1) := dk_133 (dk_at dksX0_isNight_0 11 rfl rfl)
theorem dX0_isNight_12 : decode cX0_isNight 12 = .ok (.lconst 0, 1) := dk_9 (dk_at dksX0_isNight_0 12 rfl rfl)
theorem dX0_isNight_13 : decode cX0_isNight 13 = .ok (.ldc2_w 484, 3) := dk_20 1 228 (dk_at dksX0_isNight_0 13 rfl rfl)
theorem dX0_isNight_16 : decode cX0_isNight 16 = .ok (.invokestatic 5, 3) := dk_184 0 5 (dk_at dksX0_isNight_0 16 rfl rfl)
theorem dX0_isNight_19 : decode cX0_isNight 19 = .ok (.ifCond .eq 14, 3) := dk_153 0 14 (dk_at dksX0_isNight_0 19 rfl rfl)
theorem dX0_isNight_22 : decode cX0_isNight 22 = .ok (.iload_n 2, 1) := dk_28 (dk_at dksX0_isNight_0 22 rfl rfl)
theorem dX0_isNight_23 : decode cX0_isNight 23 = .ok (.invokestatic 339, 3) := dk_184 1 83 (dk_at dksX0_isNight_1 0 rfl rfl)
theorem dX0_isNight_26 : decode cX0_isNight 26 = .ok (.ifCond .eq 7, 3) := dk_153 0 7 (dk_at dksX0_isNight_1 3 rfl rfl)
theorem dX0_isNight_29 : decode cX0_isNight 29 = .ok (.iconst 1, 1) := dk_4 (dk_at dksX0_isNight_1 6 rfl rfl)
theorem dX0_isNight_30 : decode cX0_isNight 30 = .ok (.goto 4, 3) := dk_167 0 4 (dk_at dksX0_isNight_1 7 rfl rfl)
theorem dX0_isNight_33 : decode cX0_isNight 33 = .ok (.iconst 0, 1) := dk_3 (dk_at dksX0_isNight_1 10 rfl rfl)
theorem dX0_isNight_34 : decode cX0_isNight 34 = .ok (.ireturn, 1) := dk_172 (dk_at dksX0_isNight_1 11 rfl rfl)
abbrev cX0_night : ByteArray := prog_1_method_107_code
def yX0_night : MethodName := ⟨RX0, "night", "(III)I"⟩
def dkwX0_night_2 : List UInt8 := [172]
abbrev dktX0_night_2 : List UInt8 := dkwX0_night_2 ++ []
def dkwX0_night_1 : List UInt8 := [182, 1, 7, 42, 180, 0, 69, 27, 133, 28, 182, 1, 233, 182, 1, 11, 180, 1, 15, 167, 0, 5, 16, 254]
abbrev dktX0_night_1 : List UInt8 := dkwX0_night_1 ++ dktX0_night_2
def dkwX0_night_0 : List UInt8 := [42, 27, 28, 182, 1, 230, 153, 0, 38, 42, 29, 182, 0, 193, 153, 0, 30, 42, 180, 0, 76, 29]
abbrev dktX0_night_0 : List UInt8 := dkwX0_night_0 ++ dktX0_night_1
theorem dksX0_night_0 : cX0_night.data.toList.drop 0 = dktX0_night_0 := by decide +kernel
theorem dksX0_night_1 : cX0_night.data.toList.drop 22 = dktX0_night_1 := dk_seg dksX0_night_0 22 rfl rfl
theorem dksX0_night_2 : cX0_night.data.toList.drop 46 = dktX0_night_2 := dk_seg dksX0_night_1 24 rfl rfl
theorem dX0_night_0 : decode cX0_night 0 = .ok (.aload_n 0, 1) := dk_42 (dk_at dksX0_night_0 0 rfl rfl)
theorem dX0_night_1 : decode cX0_night 1 = .ok (.iload_n 1, 1) := dk_27 (dk_at dksX0_night_0 1 rfl rfl)
theorem dX0_night_2 : decode cX0_night 2 = .ok (.iload_n 2, 1) := dk_28 (dk_at dksX0_night_0 2 rfl rfl)
theorem dX0_night_3 : decode cX0_night 3 = .ok (.invokevirtual 486, 3) := dk_182 1 230 (dk_at dksX0_night_0 3 rfl rfl)
theorem dX0_night_6 : decode cX0_night 6 = .ok (.ifCond .eq 38, 3) := dk_153 0 38 (dk_at dksX0_night_0 6 rfl rfl)
theorem dX0_night_9 : decode cX0_night 9 = .ok (.aload_n 0, 1) := dk_42 (dk_at dksX0_night_0 9 rfl rfl)
theorem dX0_night_10 : decode cX0_night 10 = .ok (.iload_n 3, 1) := dk_29 (dk_at dksX0_night_0 10 rfl rfl)
theorem dX0_night_11 : decode cX0_night 11 = .ok (.invokevirtual 193, 3) := dk_182 0 193 (dk_at dksX0_night_0 11 rfl rfl)
theorem dX0_night_14 : decode cX0_night 14 = .ok (.ifCond .eq 30, 3) := dk_153 0 30 (dk_at dksX0_night_0 14 rfl rfl)
theorem dX0_night_17 : decode cX0_night 17 = .ok (.aload_n 0, 1) := dk_42 (dk_at dksX0_night_0 17 rfl rfl)
theorem dX0_night_18 : decode cX0_night 18 = .ok (.getfield 76, 3) := dk_180 0 76 (dk_at dksX0_night_0 18 rfl rfl)
theorem dX0_night_21 : decode cX0_night 21 = .ok (.iload_n 3, 1) := dk_29 (dk_at dksX0_night_0 21 rfl rfl)
theorem dX0_night_22 : decode cX0_night 22 = .ok (.invokevirtual 263, 3) := dk_182 1 7 (dk_at dksX0_night_1 0 rfl rfl)
theorem dX0_night_25 : decode cX0_night 25 = .ok (.aload_n 0, 1) := dk_42 (dk_at dksX0_night_1 3 rfl rfl)
theorem dX0_night_26 : decode cX0_night 26 = .ok (.getfield 69, 3) := dk_180 0 69 (dk_at dksX0_night_1 4 rfl rfl)
theorem dX0_night_29 : decode cX0_night 29 = .ok (.iload_n 1, 1) := dk_27 (dk_at dksX0_night_1 7 rfl rfl)
theorem dX0_night_30 : decode cX0_night 30 = .ok (.i2l, 1) := dk_133 (dk_at dksX0_night_1 8 rfl rfl)
theorem dX0_night_31 : decode cX0_night 31 = .ok (.iload_n 2, 1) := dk_28 (dk_at dksX0_night_1 9 rfl rfl)
theorem dX0_night_32 : decode cX0_night 32 = .ok (.invokevirtual 489, 3) := dk_182 1 233 (dk_at dksX0_night_1 10 rfl rfl)
theorem dX0_night_35 : decode cX0_night 35 = .ok (.invokevirtual 267, 3) := dk_182 1 11 (dk_at dksX0_night_1 13 rfl rfl)
theorem dX0_night_38 : decode cX0_night 38 = .ok (.getfield 271, 3) := dk_180 1 15 (dk_at dksX0_night_1 16 rfl rfl)
theorem dX0_night_41 : decode cX0_night 41 = .ok (.goto 5, 3) := dk_167 0 5 (dk_at dksX0_night_1 19 rfl rfl)
theorem dX0_night_44 : decode cX0_night 44 = .ok (.bipush (-2), 2) := dk_16 254 (dk_at dksX0_night_1 22 rfl rfl)
theorem dX0_night_46 : decode cX0_night 46 = .ok (.ireturn, 1) := dk_172 (dk_at dksX0_night_2 0 rfl rfl)
abbrev cX0_years : ByteArray := prog_1_method_108_code
def yX0_years : MethodName := ⟨RX0, "years", "(IIII)I"⟩
def dkwX0_years_3 : List UInt8 := [182, 1, 11, 180, 1, 15, 96, 54, 5, 132, 6, 1, 167, 255, 213, 21, 5, 172]
abbrev dktX0_years_3 : List UInt8 := dkwX0_years_3 ++ []
def dkwX0_years_2 : List UInt8 := [180, 0, 76, 21, 4, 182, 1, 7, 42, 180, 0, 69, 27, 133, 21, 6, 133, 97, 29, 182, 1, 233]
abbrev dktX0_years_2 : List UInt8 := dkwX0_years_2 ++ dktX0_years_3
def dkwX0_years_1 : List UInt8 := [182, 0, 193, 154, 0, 6, 16, 254, 172, 3, 54, 5, 3, 54, 6, 21, 6, 28, 162, 0, 43, 21, 5, 42]
abbrev dktX0_years_1 : List UInt8 := dkwX0_years_1 ++ dktX0_years_2
def dkwX0_years_0 : List UInt8 := [42, 27, 29, 182, 1, 230, 153, 0, 24, 28, 133, 10, 20, 1, 154, 184, 0, 5, 153, 0, 12, 42, 21, 4]
abbrev dktX0_years_0 : List UInt8 := dkwX0_years_0 ++ dktX0_years_1
theorem dksX0_years_0 : cX0_years.data.toList.drop 0 = dktX0_years_0 := by decide +kernel
theorem dksX0_years_1 : cX0_years.data.toList.drop 24 = dktX0_years_1 := dk_seg dksX0_years_0 24 rfl rfl
theorem dksX0_years_2 : cX0_years.data.toList.drop 48 = dktX0_years_2 := dk_seg dksX0_years_1 24 rfl rfl
theorem dksX0_years_3 : cX0_years.data.toList.drop 70 = dktX0_years_3 := dk_seg dksX0_years_2 22 rfl rfl
theorem dX0_years_0 : decode cX0_years 0 = .ok (.aload_n 0, 1) := dk_42 (dk_at dksX0_years_0 0 rfl rfl)
theorem dX0_years_1 : decode cX0_years 1 = .ok (.iload_n 1, 1) := dk_27 (dk_at dksX0_years_0 1 rfl rfl)
theorem dX0_years_2 : decode cX0_years 2 = .ok (.iload_n 3, 1) := dk_29 (dk_at dksX0_years_0 2 rfl rfl)
theorem dX0_years_3 : decode cX0_years 3 = .ok (.invokevirtual 486, 3) := dk_182 1 230 (dk_at dksX0_years_0 3 rfl rfl)
theorem dX0_years_6 : decode cX0_years 6 = .ok (.ifCond .eq 24, 3) := dk_153 0 24 (dk_at dksX0_years_0 6 rfl rfl)
theorem dX0_years_9 : decode cX0_years 9 = .ok (.iload_n 2, 1) := dk_28 (dk_at dksX0_years_0 9 rfl rfl)
theorem dX0_years_10 : decode cX0_years 10 = .ok (.i2l, 1) := dk_133 (dk_at dksX0_years_0 10 rfl rfl)
theorem dX0_years_11 : decode cX0_years 11 = .ok (.lconst 1, 1) := dk_10 (dk_at dksX0_years_0 11 rfl rfl)
theorem dX0_years_12 : decode cX0_years 12 = .ok (.ldc2_w 410, 3) := dk_20 1 154 (dk_at dksX0_years_0 12 rfl rfl)
theorem dX0_years_15 : decode cX0_years 15 = .ok (.invokestatic 5, 3) := dk_184 0 5 (dk_at dksX0_years_0 15 rfl rfl)
theorem dX0_years_18 : decode cX0_years 18 = .ok (.ifCond .eq 12, 3) := dk_153 0 12 (dk_at dksX0_years_0 18 rfl rfl)
theorem dX0_years_21 : decode cX0_years 21 = .ok (.aload_n 0, 1) := dk_42 (dk_at dksX0_years_0 21 rfl rfl)
theorem dX0_years_22 : decode cX0_years 22 = .ok (.iload 4, 2) := dk_21 4 (dk_at dksX0_years_0 22 rfl rfl)
theorem dX0_years_24 : decode cX0_years 24 = .ok (.invokevirtual 193, 3) := dk_182 0 193 (dk_at dksX0_years_1 0 rfl rfl)
theorem dX0_years_27 : decode cX0_years 27 = .ok (.ifCond .ne 6, 3) := dk_154 0 6 (dk_at dksX0_years_1 3 rfl rfl)
theorem dX0_years_30 : decode cX0_years 30 = .ok (.bipush (-2), 2) := dk_16 254 (dk_at dksX0_years_1 6 rfl rfl)
theorem dX0_years_32 : decode cX0_years 32 = .ok (.ireturn, 1) := dk_172 (dk_at dksX0_years_1 8 rfl rfl)
theorem dX0_years_33 : decode cX0_years 33 = .ok (.iconst 0, 1) := dk_3 (dk_at dksX0_years_1 9 rfl rfl)
theorem dX0_years_34 : decode cX0_years 34 = .ok (.istore 5, 2) := dk_54 5 (dk_at dksX0_years_1 10 rfl rfl)
theorem dX0_years_36 : decode cX0_years 36 = .ok (.iconst 0, 1) := dk_3 (dk_at dksX0_years_1 12 rfl rfl)
theorem dX0_years_37 : decode cX0_years 37 = .ok (.istore 6, 2) := dk_54 6 (dk_at dksX0_years_1 13 rfl rfl)
theorem dX0_years_39 : decode cX0_years 39 = .ok (.iload 6, 2) := dk_21 6 (dk_at dksX0_years_1 15 rfl rfl)
theorem dX0_years_41 : decode cX0_years 41 = .ok (.iload_n 2, 1) := dk_28 (dk_at dksX0_years_1 17 rfl rfl)
theorem dX0_years_42 : decode cX0_years 42 = .ok (.if_icmp .ge 43, 3) := dk_162 0 43 (dk_at dksX0_years_1 18 rfl rfl)
theorem dX0_years_45 : decode cX0_years 45 = .ok (.iload 5, 2) := dk_21 5 (dk_at dksX0_years_1 21 rfl rfl)
theorem dX0_years_47 : decode cX0_years 47 = .ok (.aload_n 0, 1) := dk_42 (dk_at dksX0_years_1 23 rfl rfl)
theorem dX0_years_48 : decode cX0_years 48 = .ok (.getfield 76, 3) := dk_180 0 76 (dk_at dksX0_years_2 0 rfl rfl)
theorem dX0_years_51 : decode cX0_years 51 = .ok (.iload 4, 2) := dk_21 4 (dk_at dksX0_years_2 3 rfl rfl)
theorem dX0_years_53 : decode cX0_years 53 = .ok (.invokevirtual 263, 3) := dk_182 1 7 (dk_at dksX0_years_2 5 rfl rfl)
theorem dX0_years_56 : decode cX0_years 56 = .ok (.aload_n 0, 1) := dk_42 (dk_at dksX0_years_2 8 rfl rfl)
theorem dX0_years_57 : decode cX0_years 57 = .ok (.getfield 69, 3) := dk_180 0 69 (dk_at dksX0_years_2 9 rfl rfl)
theorem dX0_years_60 : decode cX0_years 60 = .ok (.iload_n 1, 1) := dk_27 (dk_at dksX0_years_2 12 rfl rfl)
theorem dX0_years_61 : decode cX0_years 61 = .ok (.i2l, 1) := dk_133 (dk_at dksX0_years_2 13 rfl rfl)
theorem dX0_years_62 : decode cX0_years 62 = .ok (.iload 6, 2) := dk_21 6 (dk_at dksX0_years_2 14 rfl rfl)
theorem dX0_years_64 : decode cX0_years 64 = .ok (.i2l, 1) := dk_133 (dk_at dksX0_years_2 16 rfl rfl)
theorem dX0_years_65 : decode cX0_years 65 = .ok (.ladd, 1) := dk_97 (dk_at dksX0_years_2 17 rfl rfl)
theorem dX0_years_66 : decode cX0_years 66 = .ok (.iload_n 3, 1) := dk_29 (dk_at dksX0_years_2 18 rfl rfl)
theorem dX0_years_67 : decode cX0_years 67 = .ok (.invokevirtual 489, 3) := dk_182 1 233 (dk_at dksX0_years_2 19 rfl rfl)
theorem dX0_years_70 : decode cX0_years 70 = .ok (.invokevirtual 267, 3) := dk_182 1 11 (dk_at dksX0_years_3 0 rfl rfl)
theorem dX0_years_73 : decode cX0_years 73 = .ok (.getfield 271, 3) := dk_180 1 15 (dk_at dksX0_years_3 3 rfl rfl)
theorem dX0_years_76 : decode cX0_years 76 = .ok (.iadd, 1) := dk_96 (dk_at dksX0_years_3 6 rfl rfl)
theorem dX0_years_77 : decode cX0_years 77 = .ok (.istore 5, 2) := dk_54 5 (dk_at dksX0_years_3 7 rfl rfl)
theorem dX0_years_79 : decode cX0_years 79 = .ok (.iinc 6 1, 3) := dk_132 6 1 (dk_at dksX0_years_3 9 rfl rfl)
theorem dX0_years_82 : decode cX0_years 82 = .ok (.goto (-43), 3) := dk_167 255 213 (dk_at dksX0_years_3 12 rfl rfl)
theorem dX0_years_85 : decode cX0_years 85 = .ok (.iload 5, 2) := dk_21 5 (dk_at dksX0_years_3 15 rfl rfl)
theorem dX0_years_87 : decode cX0_years 87 = .ok (.ireturn, 1) := dk_172 (dk_at dksX0_years_3 17 rfl rfl)
abbrev cX0_count : ByteArray := prog_1_method_109_code
def yX0_count : MethodName := ⟨RX0, "count", "(I)I"⟩
def dkwX0_count_7 : List UInt8 := [3, 167, 0, 4, 4, 96, 61, 132, 5, 1, 167, 255, 224, 28, 172, 2, 172]
abbrev dktX0_count_7 : List UInt8 := dkwX0_count_7 ++ []
def dkwX0_count_6 : List UInt8 := [54, 5, 21, 5, 21, 4, 162, 0, 31, 45, 21, 5, 50, 58, 6, 28, 25, 6, 180, 1, 114, 199, 0, 7]
abbrev dktX0_count_6 : List UInt8 := dkwX0_count_6 ++ dktX0_count_7
def dkwX0_count_5 : List UInt8 := [180, 0, 41, 180, 0, 120, 172, 42, 180, 0, 101, 172, 3, 61, 42, 180, 0, 13, 78, 45, 190, 54, 4, 3]
abbrev dktX0_count_5 : List UInt8 := dkwX0_count_5 ++ dktX0_count_6
def dkwX0_count_4 : List UInt8 := [185, 0, 135, 1, 0, 172, 42, 180, 0, 41, 180, 0, 161, 172, 42, 180, 0, 41, 180, 1, 219, 172, 42]
abbrev dktX0_count_4 : List UInt8 := dkwX0_count_4 ++ dktX0_count_5
def dkwX0_count_3 : List UInt8 := [42, 180, 0, 41, 180, 1, 238, 172, 42, 182, 0, 152, 172, 42, 180, 0, 41, 180, 0, 147]
abbrev dktX0_count_3 : List UInt8 := dkwX0_count_3 ++ dktX0_count_4
def dkwX0_count_2 : List UInt8 := [42, 180, 0, 41, 180, 0, 213, 172, 42, 180, 0, 41, 180, 1, 236, 172, 42, 180, 0, 41, 180, 0, 158, 172]
abbrev dktX0_count_2 : List UInt8 := dkwX0_count_2 ++ dktX0_count_3
def dkwX0_count_1 : List UInt8 := [170, 0, 0, 0, 0, 0, 189, 0, 0, 0, 0, 0, 0, 0, 10, 0, 0, 0, 59, 0, 0, 0, 67, 0, 0, 0, 75, 0, 0, 0, 83, 0, 0, 0, 91, 0, 0, 0, 96, 0, 0, 0, 109, 0, 0, 0, 117, 0, 0, 0, 125, 0, 0, 0, 133, 0, 0, 0, 138]
abbrev dktX0_count_1 : List UInt8 := dkwX0_count_1 ++ dktX0_count_2
def dkwX0_count_0 : List UInt8 := [27]
abbrev dktX0_count_0 : List UInt8 := dkwX0_count_0 ++ dktX0_count_1
theorem dksX0_count_0 : cX0_count.data.toList.drop 0 = dktX0_count_0 := by decide +kernel
theorem dksX0_count_1 : cX0_count.data.toList.drop 1 = dktX0_count_1 := dk_seg dksX0_count_0 1 rfl rfl
theorem dksX0_count_2 : cX0_count.data.toList.drop 60 = dktX0_count_2 := dk_seg dksX0_count_1 59 rfl rfl
theorem dksX0_count_3 : cX0_count.data.toList.drop 84 = dktX0_count_3 := dk_seg dksX0_count_2 24 rfl rfl
theorem dksX0_count_4 : cX0_count.data.toList.drop 104 = dktX0_count_4 := dk_seg dksX0_count_3 20 rfl rfl
theorem dksX0_count_5 : cX0_count.data.toList.drop 127 = dktX0_count_5 := dk_seg dksX0_count_4 23 rfl rfl
theorem dksX0_count_6 : cX0_count.data.toList.drop 151 = dktX0_count_6 := dk_seg dksX0_count_5 24 rfl rfl
theorem dksX0_count_7 : cX0_count.data.toList.drop 175 = dktX0_count_7 := dk_seg dksX0_count_6 24 rfl rfl
theorem dX0_count_0 : decode cX0_count 0 = .ok (.iload_n 1, 1) := dk_27 (dk_at dksX0_count_0 0 rfl rfl)
theorem dX0_count_1 : decode cX0_count 1 = .ok (.tableswitch 189 0 10 #[59, 67, 75, 83, 91, 96, 109, 117, 125, 133, 138], 59) := by decide +kernel
theorem dX0_count_60 : decode cX0_count 60 = .ok (.aload_n 0, 1) := dk_42 (dk_at dksX0_count_2 0 rfl rfl)
theorem dX0_count_61 : decode cX0_count 61 = .ok (.getfield 41, 3) := dk_180 0 41 (dk_at dksX0_count_2 1 rfl rfl)
theorem dX0_count_64 : decode cX0_count 64 = .ok (.getfield 213, 3) := dk_180 0 213 (dk_at dksX0_count_2 4 rfl rfl)
theorem dX0_count_67 : decode cX0_count 67 = .ok (.ireturn, 1) := dk_172 (dk_at dksX0_count_2 7 rfl rfl)
theorem dX0_count_68 : decode cX0_count 68 = .ok (.aload_n 0, 1) := dk_42 (dk_at dksX0_count_2 8 rfl rfl)
theorem dX0_count_69 : decode cX0_count 69 = .ok (.getfield 41, 3) := dk_180 0 41 (dk_at dksX0_count_2 9 rfl rfl)
theorem dX0_count_72 : decode cX0_count 72 = .ok (.getfield 492, 3) := dk_180 1 236 (dk_at dksX0_count_2 12 rfl rfl)
theorem dX0_count_75 : decode cX0_count 75 = .ok (.ireturn, 1) := dk_172 (dk_at dksX0_count_2 15 rfl rfl)
theorem dX0_count_76 : decode cX0_count 76 = .ok (.aload_n 0, 1) := dk_42 (dk_at dksX0_count_2 16 rfl rfl)
theorem dX0_count_77 : decode cX0_count 77 = .ok (.getfield 41, 3) := dk_180 0 41 (dk_at dksX0_count_2 17 rfl rfl)
theorem dX0_count_80 : decode cX0_count 80 = .ok (.getfield 158, 3) := dk_180 0 158 (dk_at dksX0_count_2 20 rfl rfl)
theorem dX0_count_83 : decode cX0_count 83 = .ok (.ireturn, 1) := dk_172 (dk_at dksX0_count_2 23 rfl rfl)
theorem dX0_count_84 : decode cX0_count 84 = .ok (.aload_n 0, 1) := dk_42 (dk_at dksX0_count_3 0 rfl rfl)
theorem dX0_count_85 : decode cX0_count 85 = .ok (.getfield 41, 3) := dk_180 0 41 (dk_at dksX0_count_3 1 rfl rfl)
theorem dX0_count_88 : decode cX0_count 88 = .ok (.getfield 494, 3) := dk_180 1 238 (dk_at dksX0_count_3 4 rfl rfl)
theorem dX0_count_91 : decode cX0_count 91 = .ok (.ireturn, 1) := dk_172 (dk_at dksX0_count_3 7 rfl rfl)
theorem dX0_count_92 : decode cX0_count 92 = .ok (.aload_n 0, 1) := dk_42 (dk_at dksX0_count_3 8 rfl rfl)
theorem dX0_count_93 : decode cX0_count 93 = .ok (.invokevirtual 152, 3) := dk_182 0 152 (dk_at dksX0_count_3 9 rfl rfl)
theorem dX0_count_96 : decode cX0_count 96 = .ok (.ireturn, 1) := dk_172 (dk_at dksX0_count_3 12 rfl rfl)
theorem dX0_count_97 : decode cX0_count 97 = .ok (.aload_n 0, 1) := dk_42 (dk_at dksX0_count_3 13 rfl rfl)
theorem dX0_count_98 : decode cX0_count 98 = .ok (.getfield 41, 3) := dk_180 0 41 (dk_at dksX0_count_3 14 rfl rfl)
theorem dX0_count_101 : decode cX0_count 101 = .ok (.getfield 147, 3) := dk_180 0 147 (dk_at dksX0_count_3 17 rfl rfl)
theorem dX0_count_104 : decode cX0_count 104 = .ok (.invokeinterface 135 1, 5) := by decide +kernel
theorem dX0_count_109 : decode cX0_count 109 = .ok (.ireturn, 1) := dk_172 (dk_at dksX0_count_4 5 rfl rfl)
theorem dX0_count_110 : decode cX0_count 110 = .ok (.aload_n 0, 1) := dk_42 (dk_at dksX0_count_4 6 rfl rfl)
theorem dX0_count_111 : decode cX0_count 111 = .ok (.getfield 41, 3) := dk_180 0 41 (dk_at dksX0_count_4 7 rfl rfl)
theorem dX0_count_114 : decode cX0_count 114 = .ok (.getfield 161, 3) := dk_180 0 161 (dk_at dksX0_count_4 10 rfl rfl)
theorem dX0_count_117 : decode cX0_count 117 = .ok (.ireturn, 1) := dk_172 (dk_at dksX0_count_4 13 rfl rfl)
theorem dX0_count_118 : decode cX0_count 118 = .ok (.aload_n 0, 1) := dk_42 (dk_at dksX0_count_4 14 rfl rfl)
theorem dX0_count_119 : decode cX0_count 119 = .ok (.getfield 41, 3) := dk_180 0 41 (dk_at dksX0_count_4 15 rfl rfl)
theorem dX0_count_122 : decode cX0_count 122 = .ok (.getfield 475, 3) := dk_180 1 219 (dk_at dksX0_count_4 18 rfl rfl)
theorem dX0_count_125 : decode cX0_count 125 = .ok (.ireturn, 1) := dk_172 (dk_at dksX0_count_4 21 rfl rfl)
theorem dX0_count_126 : decode cX0_count 126 = .ok (.aload_n 0, 1) := dk_42 (dk_at dksX0_count_4 22 rfl rfl)
theorem dX0_count_127 : decode cX0_count 127 = .ok (.getfield 41, 3) := dk_180 0 41 (dk_at dksX0_count_5 0 rfl rfl)
theorem dX0_count_130 : decode cX0_count 130 = .ok (.getfield 120, 3) := dk_180 0 120 (dk_at dksX0_count_5 3 rfl rfl)
theorem dX0_count_133 : decode cX0_count 133 = .ok (.ireturn, 1) := dk_172 (dk_at dksX0_count_5 6 rfl rfl)
theorem dX0_count_134 : decode cX0_count 134 = .ok (.aload_n 0, 1) := dk_42 (dk_at dksX0_count_5 7 rfl rfl)
theorem dX0_count_135 : decode cX0_count 135 = .ok (.getfield 101, 3) := dk_180 0 101 (dk_at dksX0_count_5 8 rfl rfl)
theorem dX0_count_138 : decode cX0_count 138 = .ok (.ireturn, 1) := dk_172 (dk_at dksX0_count_5 11 rfl rfl)
theorem dX0_count_139 : decode cX0_count 139 = .ok (.iconst 0, 1) := dk_3 (dk_at dksX0_count_5 12 rfl rfl)
theorem dX0_count_140 : decode cX0_count 140 = .ok (.istore_n 2, 1) := dk_61 (dk_at dksX0_count_5 13 rfl rfl)
theorem dX0_count_141 : decode cX0_count 141 = .ok (.aload_n 0, 1) := dk_42 (dk_at dksX0_count_5 14 rfl rfl)
theorem dX0_count_142 : decode cX0_count 142 = .ok (.getfield 13, 3) := dk_180 0 13 (dk_at dksX0_count_5 15 rfl rfl)
theorem dX0_count_145 : decode cX0_count 145 = .ok (.astore_n 3, 1) := dk_78 (dk_at dksX0_count_5 18 rfl rfl)
theorem dX0_count_146 : decode cX0_count 146 = .ok (.aload_n 3, 1) := dk_45 (dk_at dksX0_count_5 19 rfl rfl)
theorem dX0_count_147 : decode cX0_count 147 = .ok (.arraylength, 1) := dk_190 (dk_at dksX0_count_5 20 rfl rfl)
theorem dX0_count_148 : decode cX0_count 148 = .ok (.istore 4, 2) := dk_54 4 (dk_at dksX0_count_5 21 rfl rfl)
theorem dX0_count_150 : decode cX0_count 150 = .ok (.iconst 0, 1) := dk_3 (dk_at dksX0_count_5 23 rfl rfl)
theorem dX0_count_151 : decode cX0_count 151 = .ok (.istore 5, 2) := dk_54 5 (dk_at dksX0_count_6 0 rfl rfl)
theorem dX0_count_153 : decode cX0_count 153 = .ok (.iload 5, 2) := dk_21 5 (dk_at dksX0_count_6 2 rfl rfl)
theorem dX0_count_155 : decode cX0_count 155 = .ok (.iload 4, 2) := dk_21 4 (dk_at dksX0_count_6 4 rfl rfl)
theorem dX0_count_157 : decode cX0_count 157 = .ok (.if_icmp .ge 31, 3) := dk_162 0 31 (dk_at dksX0_count_6 6 rfl rfl)
theorem dX0_count_160 : decode cX0_count 160 = .ok (.aload_n 3, 1) := dk_45 (dk_at dksX0_count_6 9 rfl rfl)
theorem dX0_count_161 : decode cX0_count 161 = .ok (.iload 5, 2) := dk_21 5 (dk_at dksX0_count_6 10 rfl rfl)
theorem dX0_count_163 : decode cX0_count 163 = .ok (.aaload, 1) := dk_50 (dk_at dksX0_count_6 12 rfl rfl)
theorem dX0_count_164 : decode cX0_count 164 = .ok (.astore 6, 2) := dk_58 6 (dk_at dksX0_count_6 13 rfl rfl)
theorem dX0_count_166 : decode cX0_count 166 = .ok (.iload_n 2, 1) := dk_28 (dk_at dksX0_count_6 15 rfl rfl)
theorem dX0_count_167 : decode cX0_count 167 = .ok (.aload 6, 2) := dk_25 6 (dk_at dksX0_count_6 16 rfl rfl)
theorem dX0_count_169 : decode cX0_count 169 = .ok (.getfield 370, 3) := dk_180 1 114 (dk_at dksX0_count_6 18 rfl rfl)
theorem dX0_count_172 : decode cX0_count 172 = .ok (.ifnonnull 7, 3) := dk_199 0 7 (dk_at dksX0_count_6 21 rfl rfl)
theorem dX0_count_175 : decode cX0_count 175 = .ok (.iconst 0, 1) := dk_3 (dk_at dksX0_count_7 0 rfl rfl)
theorem dX0_count_176 : decode cX0_count 176 = .ok (.goto 4, 3) := dk_167 0 4 (dk_at dksX0_count_7 1 rfl rfl)
theorem dX0_count_179 : decode cX0_count 179 = .ok (.iconst 1, 1) := dk_4 (dk_at dksX0_count_7 4 rfl rfl)
theorem dX0_count_180 : decode cX0_count 180 = .ok (.iadd, 1) := dk_96 (dk_at dksX0_count_7 5 rfl rfl)
theorem dX0_count_181 : decode cX0_count 181 = .ok (.istore_n 2, 1) := dk_61 (dk_at dksX0_count_7 6 rfl rfl)
theorem dX0_count_182 : decode cX0_count 182 = .ok (.iinc 5 1, 3) := dk_132 5 1 (dk_at dksX0_count_7 7 rfl rfl)
theorem dX0_count_185 : decode cX0_count 185 = .ok (.goto (-32), 3) := dk_167 255 224 (dk_at dksX0_count_7 10 rfl rfl)
theorem dX0_count_188 : decode cX0_count 188 = .ok (.iload_n 2, 1) := dk_28 (dk_at dksX0_count_7 13 rfl rfl)
theorem dX0_count_189 : decode cX0_count 189 = .ok (.ireturn, 1) := dk_172 (dk_at dksX0_count_7 14 rfl rfl)
theorem dX0_count_190 : decode cX0_count 190 = .ok (.iconst (-1), 1) := dk_2 (dk_at dksX0_count_7 15 rfl rfl)
theorem dX0_count_191 : decode cX0_count 191 = .ok (.ireturn, 1) := dk_172 (dk_at dksX0_count_7 16 rfl rfl)
abbrev cX0_image : ByteArray := prog_1_method_110_code
def yX0_image : MethodName := ⟨RX0, "image", "(I)I"⟩
def dkwX0_image_1 : List UInt8 := [182, 1, 241, 83, 3, 172]
abbrev dktX0_image_1 : List UInt8 := dkwX0_image_1 ++ []
def dkwX0_image_0 : List UInt8 := [27, 133, 9, 20, 0, 183, 184, 0, 5, 154, 0, 6, 16, 254, 172, 42, 180, 0, 45, 27, 42, 180, 0, 41]
abbrev dktX0_image_0 : List UInt8 := dkwX0_image_0 ++ dktX0_image_1
theorem dksX0_image_0 : cX0_image.data.toList.drop 0 = dktX0_image_0 := by decide +kernel
theorem dksX0_image_1 : cX0_image.data.toList.drop 24 = dktX0_image_1 := dk_seg dksX0_image_0 24 rfl rfl
theorem dX0_image_0 : decode cX0_image 0 = .ok (.iload_n 1, 1) := dk_27 (dk_at dksX0_image_0 0 rfl rfl)
theorem dX0_image_1 : decode cX0_image 1 = .ok (.i2l, 1) := dk_133 (dk_at dksX0_image_0 1 rfl rfl)
theorem dX0_image_2 : decode cX0_image 2 = .ok (.lconst 0, 1) := dk_9 (dk_at dksX0_image_0 2 rfl rfl)
theorem dX0_image_3 : decode cX0_image 3 = .ok (.ldc2_w 183, 3) := dk_20 0 183 (dk_at dksX0_image_0 3 rfl rfl)
theorem dX0_image_6 : decode cX0_image 6 = .ok (.invokestatic 5, 3) := dk_184 0 5 (dk_at dksX0_image_0 6 rfl rfl)
theorem dX0_image_9 : decode cX0_image 9 = .ok (.ifCond .ne 6, 3) := dk_154 0 6 (dk_at dksX0_image_0 9 rfl rfl)
theorem dX0_image_12 : decode cX0_image 12 = .ok (.bipush (-2), 2) := dk_16 254 (dk_at dksX0_image_0 12 rfl rfl)
theorem dX0_image_14 : decode cX0_image 14 = .ok (.ireturn, 1) := dk_172 (dk_at dksX0_image_0 14 rfl rfl)
theorem dX0_image_15 : decode cX0_image 15 = .ok (.aload_n 0, 1) := dk_42 (dk_at dksX0_image_0 15 rfl rfl)
theorem dX0_image_16 : decode cX0_image 16 = .ok (.getfield 45, 3) := dk_180 0 45 (dk_at dksX0_image_0 16 rfl rfl)
theorem dX0_image_19 : decode cX0_image 19 = .ok (.iload_n 1, 1) := dk_27 (dk_at dksX0_image_0 19 rfl rfl)
theorem dX0_image_20 : decode cX0_image 20 = .ok (.aload_n 0, 1) := dk_42 (dk_at dksX0_image_0 20 rfl rfl)
theorem dX0_image_21 : decode cX0_image 21 = .ok (.getfield 41, 3) := dk_180 0 41 (dk_at dksX0_image_0 21 rfl rfl)
theorem dX0_image_24 : decode cX0_image 24 = .ok (.invokevirtual 497, 3) := dk_182 1 241 (dk_at dksX0_image_1 0 rfl rfl)
theorem dX0_image_27 : decode cX0_image 27 = .ok (.aastore, 1) := dk_83 (dk_at dksX0_image_1 3 rfl rfl)
theorem dX0_image_28 : decode cX0_image 28 = .ok (.iconst 0, 1) := dk_3 (dk_at dksX0_image_1 4 rfl rfl)
theorem dX0_image_29 : decode cX0_image 29 = .ok (.ireturn, 1) := dk_172 (dk_at dksX0_image_1 5 rfl rfl)
abbrev cX0_back : ByteArray := prog_1_method_111_code
def yX0_back : MethodName := ⟨RX0, "back", "(I)I"⟩
def dkwX0_back_1 : List UInt8 := [16, 250, 172, 42, 42, 180, 0, 45, 27, 50, 182, 1, 241, 181, 0, 41, 3, 172]
abbrev dktX0_back_1 : List UInt8 := dkwX0_back_1 ++ []
def dkwX0_back_0 : List UInt8 := [27, 133, 9, 20, 0, 183, 184, 0, 5, 154, 0, 6, 16, 254, 172, 42, 180, 0, 45, 27, 50, 199, 0, 6]
abbrev dktX0_back_0 : List UInt8 := dkwX0_back_0 ++ dktX0_back_1
theorem dksX0_back_0 : cX0_back.data.toList.drop 0 = dktX0_back_0 := by decide +kernel
theorem dksX0_back_1 : cX0_back.data.toList.drop 24 = dktX0_back_1 := dk_seg dksX0_back_0 24 rfl rfl
theorem dX0_back_0 : decode cX0_back 0 = .ok (.iload_n 1, 1) := dk_27 (dk_at dksX0_back_0 0 rfl rfl)
theorem dX0_back_1 : decode cX0_back 1 = .ok (.i2l, 1) := dk_133 (dk_at dksX0_back_0 1 rfl rfl)
theorem dX0_back_2 : decode cX0_back 2 = .ok (.lconst 0, 1) := dk_9 (dk_at dksX0_back_0 2 rfl rfl)
theorem dX0_back_3 : decode cX0_back 3 = .ok (.ldc2_w 183, 3) := dk_20 0 183 (dk_at dksX0_back_0 3 rfl rfl)
theorem dX0_back_6 : decode cX0_back 6 = .ok (.invokestatic 5, 3) := dk_184 0 5 (dk_at dksX0_back_0 6 rfl rfl)
theorem dX0_back_9 : decode cX0_back 9 = .ok (.ifCond .ne 6, 3) := dk_154 0 6 (dk_at dksX0_back_0 9 rfl rfl)
theorem dX0_back_12 : decode cX0_back 12 = .ok (.bipush (-2), 2) := dk_16 254 (dk_at dksX0_back_0 12 rfl rfl)
theorem dX0_back_14 : decode cX0_back 14 = .ok (.ireturn, 1) := dk_172 (dk_at dksX0_back_0 14 rfl rfl)
theorem dX0_back_15 : decode cX0_back 15 = .ok (.aload_n 0, 1) := dk_42 (dk_at dksX0_back_0 15 rfl rfl)
theorem dX0_back_16 : decode cX0_back 16 = .ok (.getfield 45, 3) := dk_180 0 45 (dk_at dksX0_back_0 16 rfl rfl)
theorem dX0_back_19 : decode cX0_back 19 = .ok (.iload_n 1, 1) := dk_27 (dk_at dksX0_back_0 19 rfl rfl)
theorem dX0_back_20 : decode cX0_back 20 = .ok (.aaload, 1) := dk_50 (dk_at dksX0_back_0 20 rfl rfl)
theorem dX0_back_21 : decode cX0_back 21 = .ok (.ifnonnull 6, 3) := dk_199 0 6 (dk_at dksX0_back_0 21 rfl rfl)
theorem dX0_back_24 : decode cX0_back 24 = .ok (.bipush (-6), 2) := dk_16 250 (dk_at dksX0_back_1 0 rfl rfl)
theorem dX0_back_26 : decode cX0_back 26 = .ok (.ireturn, 1) := dk_172 (dk_at dksX0_back_1 2 rfl rfl)
theorem dX0_back_27 : decode cX0_back 27 = .ok (.aload_n 0, 1) := dk_42 (dk_at dksX0_back_1 3 rfl rfl)
theorem dX0_back_28 : decode cX0_back 28 = .ok (.aload_n 0, 1) := dk_42 (dk_at dksX0_back_1 4 rfl rfl)
theorem dX0_back_29 : decode cX0_back 29 = .ok (.getfield 45, 3) := dk_180 0 45 (dk_at dksX0_back_1 5 rfl rfl)
theorem dX0_back_32 : decode cX0_back 32 = .ok (.iload_n 1, 1) := dk_27 (dk_at dksX0_back_1 8 rfl rfl)
theorem dX0_back_33 : decode cX0_back 33 = .ok (.aaload, 1) := dk_50 (dk_at dksX0_back_1 9 rfl rfl)
theorem dX0_back_34 : decode cX0_back 34 = .ok (.invokevirtual 497, 3) := dk_182 1 241 (dk_at dksX0_back_1 10 rfl rfl)
theorem dX0_back_37 : decode cX0_back 37 = .ok (.putfield 41, 3) := dk_181 0 41 (dk_at dksX0_back_1 13 rfl rfl)
theorem dX0_back_40 : decode cX0_back 40 = .ok (.iconst 0, 1) := dk_3 (dk_at dksX0_back_1 16 rfl rfl)
theorem dX0_back_41 : decode cX0_back 41 = .ok (.ireturn, 1) := dk_172 (dk_at dksX0_back_1 17 rfl rfl)
theorem q145 : (Jvm.Cond.initialized "MoleBoard") ∈ lw_all := lw_g (lw_at lw_m1 1 rfl) rfl
theorem q183 : (Jvm.Cond.instanceMethod ({ cls := "MoleBoard", name := "row", desc := "(III)I" } : Jvm.MethodName)) ∈ lw_all := lw_g (lw_at lw_m1 39 rfl) rfl
theorem q184 : (Jvm.Cond.selects "MoleBoard" ({ cls := "MoleBoard", name := "row", desc := "(III)I" } : Jvm.MethodName) ({ cls := "MoleBoard", name := "row", desc := "(III)I" } : Jvm.MethodName)) ∈ lw_all := lw_g (lw_at lw_m1 40 rfl) rfl
theorem q185 : (Jvm.Cond.code ({ cls := "MoleBoard", name := "row", desc := "(III)I" } : Jvm.MethodName) prog_1_method_4_code (4 : Nat) (Option.some Jvm.ClassFile.FieldType.int)) ∈ lw_all := lw_g (lw_at lw_m1 41 rfl) rfl
theorem q186 : (Jvm.Cond.methodLink "MoleBoard" (9 : Nat) ({ cls := "MoleBoard", name := "isSlot", desc := "(I)Z" } : Jvm.MethodName)) ∈ lw_all := lw_g (lw_at lw_m1 42 rfl) rfl
theorem q187 : (Jvm.Cond.static ({ cls := "MoleBoard", name := "isSlot", desc := "(I)Z" } : Jvm.MethodName)) ∈ lw_all := lw_g (lw_at lw_m1 43 rfl) rfl
theorem q188 : (Jvm.Cond.code ({ cls := "MoleBoard", name := "isSlot", desc := "(I)Z" } : Jvm.MethodName) prog_1_method_3_code (1 : Nat) (Option.some Jvm.ClassFile.FieldType.boolean)) ∈ lw_all := lw_g (lw_at lw_m1 44 rfl) rfl
theorem q189 : (Jvm.Cond.constantLong "MoleBoard" (3 : Nat) (3 : Int64)) ∈ lw_all := lw_g (lw_at lw_m1 45 rfl) rfl
theorem q190 : (Jvm.Cond.methodLink "MoleBoard" (5 : Nat) ({ cls := "MoleBoard", name := "in", desc := "(JJJ)Z" } : Jvm.MethodName)) ∈ lw_all := lw_g (lw_at lw_m1 46 rfl) rfl
theorem q191 : (Jvm.Cond.static ({ cls := "MoleBoard", name := "in", desc := "(JJJ)Z" } : Jvm.MethodName)) ∈ lw_all := lw_g (lw_at lw_m1 47 rfl) rfl
theorem q192 : (Jvm.Cond.code ({ cls := "MoleBoard", name := "in", desc := "(JJJ)Z" } : Jvm.MethodName) prog_1_method_1_code (6 : Nat) (Option.some Jvm.ClassFile.FieldType.boolean)) ∈ lw_all := lw_g (lw_at lw_m1 48 rfl) rfl
theorem q193 : (Jvm.Cond.methodLink "MoleBoard" (17 : Nat) ({ cls := "MoleBoard$Slot", name := "begins", desc := "(II)Z" } : Jvm.MethodName)) ∈ lw_all := lw_g (lw_at lw_m1 49 rfl) rfl
theorem q289 : (Jvm.Cond.instanceMethod ({ cls := "MoleBoard", name := "write", desc := "(IIJ)I" } : Jvm.MethodName)) ∈ lw_all := lw_g (lw_at lw_m1 145 rfl) rfl
theorem q290 : (Jvm.Cond.selects "MoleBoard" ({ cls := "MoleBoard", name := "write", desc := "(IIJ)I" } : Jvm.MethodName) ({ cls := "MoleBoard", name := "write", desc := "(IIJ)I" } : Jvm.MethodName)) ∈ lw_all := lw_g (lw_at lw_m1 146 rfl) rfl
theorem q291 : (Jvm.Cond.code ({ cls := "MoleBoard", name := "write", desc := "(IIJ)I" } : Jvm.MethodName) prog_1_method_5_code (5 : Nat) (Option.some Jvm.ClassFile.FieldType.int)) ∈ lw_all := lw_g (lw_at lw_m1 147 rfl) rfl
theorem q292 : (Jvm.Cond.methodLink "MoleBoard" (23 : Nat) ({ cls := "MoleBoard$Slot", name := "puts", desc := "(IJ)I" } : Jvm.MethodName)) ∈ lw_all := lw_g (lw_at lw_m1 148 rfl) rfl
theorem q368 : (Jvm.Cond.instanceMethod ({ cls := "MoleBoard", name := "paste", desc := "(IIIII)I" } : Jvm.MethodName)) ∈ lw_all := lw_g (lw_at lw_m1 224 rfl) rfl
theorem q369 : (Jvm.Cond.selects "MoleBoard" ({ cls := "MoleBoard", name := "paste", desc := "(IIIII)I" } : Jvm.MethodName) ({ cls := "MoleBoard", name := "paste", desc := "(IIIII)I" } : Jvm.MethodName)) ∈ lw_all := lw_g (lw_at lw_m1 225 rfl) rfl
theorem q370 : (Jvm.Cond.code ({ cls := "MoleBoard", name := "paste", desc := "(IIIII)I" } : Jvm.MethodName) prog_1_method_6_code (6 : Nat) (Option.some Jvm.ClassFile.FieldType.int)) ∈ lw_all := lw_g (lw_at lw_m1 226 rfl) rfl
theorem q371 : (Jvm.Cond.methodLink "MoleBoard" (27 : Nat) ({ cls := "MoleBoard$Slot", name := "pastes", desc := "(ILMoleBoard$Slot;II)I" } : Jvm.MethodName)) ∈ lw_all := lw_g (lw_at lw_m1 227 rfl) rfl
theorem q384 : (Jvm.Cond.instantiable "MoleBoard" (13 : Nat)) ∈ lw_all := lw_g (lw_at lw_m2 0 rfl) rfl
theorem q386 : (Jvm.Cond.instanceMethod ({ cls := "MoleBoard", name := "<init>", desc := "()V" } : Jvm.MethodName)) ∈ lw_all := lw_g (lw_at lw_m2 2 rfl) rfl
theorem q387 : (Jvm.Cond.code ({ cls := "MoleBoard", name := "<init>", desc := "()V" } : Jvm.MethodName) prog_1_method_7_code (1 : Nat) (Option.none : Option Jvm.ClassFile.FieldType)) ∈ lw_all := lw_g (lw_at lw_m2 3 rfl) rfl
theorem q388 : (Jvm.Cond.methodLink "MoleBoard" (31 : Nat) ({ cls := "java/lang/Object", name := "<init>", desc := "()V" } : Jvm.MethodName)) ∈ lw_all := lw_g (lw_at lw_m2 4 rfl) rfl
theorem q389 : (Jvm.Cond.classLink "MoleBoard" (18 : Nat) "MoleBoard$Slot") ∈ lw_all := lw_g (lw_at lw_m2 5 rfl) rfl
theorem q391 : (Jvm.Cond.methodLinkNest "MoleBoard" (37 : Nat) ({ cls := "MoleBoard$Slot", name := "<init>", desc := "()V" } : Jvm.MethodName) "MoleBoard") ∈ lw_tbl := lw_at lw_m2 7 rfl
theorem q396 : (Jvm.Cond.fieldLinkNest "MoleBoard" (370 : Nat) "MoleBoard$Slot" "held" "Ljava/lang/Object;" "MoleBoard") ∈ lw_tbl := lw_at lw_m2 12 rfl
theorem q400 : (Jvm.Cond.classLink "MoleBoard" (38 : Nat) "MoleBoard$Board") ∈ lw_all := lw_g (lw_at lw_m2 16 rfl) rfl
theorem q402 : (Jvm.Cond.methodLinkNest "MoleBoard" (40 : Nat) ({ cls := "MoleBoard$Board", name := "<init>", desc := "()V" } : Jvm.MethodName) "MoleBoard") ∈ lw_tbl := lw_at lw_m2 18 rfl
theorem q439 : (Jvm.Cond.fieldLinkNest "MoleBoard" (131 : Nat) "MoleBoard$Board" "drum" "Ljava/util/List;" "MoleBoard") ∈ lw_tbl := lw_at lw_m2 55 rfl
theorem q442 : (Jvm.Cond.fieldLinkNest "MoleBoard" (147 : Nat) "MoleBoard$Board" "players" "Ljava/util/List;" "MoleBoard") ∈ lw_tbl := lw_at lw_m2 58 rfl
theorem q450 : (Jvm.Cond.fieldLinkNest "MoleBoard" (213 : Nat) "MoleBoard$Board" "wide" "I" "MoleBoard") ∈ lw_tbl := lw_at lw_m2 66 rfl
theorem q453 : (Jvm.Cond.fieldLinkNest "MoleBoard" (492 : Nat) "MoleBoard$Board" "high" "I" "MoleBoard") ∈ lw_tbl := lw_at lw_m2 69 rfl
theorem q457 : (Jvm.Cond.fieldLinkNest "MoleBoard" (158 : Nat) "MoleBoard$Board" "ticks" "I" "MoleBoard") ∈ lw_tbl := lw_at lw_m2 73 rfl
theorem q461 : (Jvm.Cond.fieldLinkNest "MoleBoard" (494 : Nat) "MoleBoard$Board" "pause" "I" "MoleBoard") ∈ lw_tbl := lw_at lw_m2 77 rfl
theorem q466 : (Jvm.Cond.fieldLinkNest "MoleBoard" (161 : Nat) "MoleBoard$Board" "shut" "I" "MoleBoard") ∈ lw_tbl := lw_at lw_m2 82 rfl
theorem q469 : (Jvm.Cond.fieldLinkNest "MoleBoard" (426 : Nat) "MoleBoard$Board" "tickets" "I" "MoleBoard") ∈ lw_tbl := lw_at lw_m2 85 rfl
theorem q472 : (Jvm.Cond.fieldLinkNest "MoleBoard" (420 : Nat) "MoleBoard$Board" "each" "I" "MoleBoard") ∈ lw_tbl := lw_at lw_m2 88 rfl
theorem q474 : (Jvm.Cond.fieldLinkNest "MoleBoard" (120 : Nat) "MoleBoard$Board" "lines" "I" "MoleBoard") ∈ lw_tbl := lw_at lw_m2 90 rfl
theorem q478 : (Jvm.Cond.fieldLinkNest "MoleBoard" (475 : Nat) "MoleBoard$Board" "stands" "I" "MoleBoard") ∈ lw_tbl := lw_at lw_m2 94 rfl
theorem q509 : (Jvm.Cond.classLink "MoleBoard" (57 : Nat) "MoleBoard$DrumGame") ∈ lw_all := lw_g (lw_at lw_m2 125 rfl) rfl
theorem q511 : (Jvm.Cond.methodLinkNest "MoleBoard" (59 : Nat) ({ cls := "MoleBoard$DrumGame", name := "<init>", desc := "(LMoleBoard;)V" } : Jvm.MethodName) "MoleBoard") ∈ lw_tbl := lw_at lw_m2 127 rfl
theorem q526 : (Jvm.Cond.fieldLink "MoleBoard" (238 : Nat) "MoleBoard$Game" "first" "[I") ∈ lw_all := lw_g (lw_at lw_m2 142 rfl) rfl
theorem q530 : (Jvm.Cond.fieldLink "MoleBoard" (241 : Nat) "MoleBoard$Game" "last" "[I") ∈ lw_all := lw_g (lw_at lw_m2 146 rfl) rfl
theorem q539 : (Jvm.Cond.fieldLink "MoleBoard" (232 : Nat) "MoleBoard$Game" "many" "I") ∈ lw_all := lw_g (lw_at lw_m2 155 rfl) rfl
theorem q554 : (Jvm.Cond.classLink "MoleBoard" (66 : Nat) "MoleBoard$Night") ∈ lw_all := lw_g (lw_at lw_m2 170 rfl) rfl
theorem q556 : (Jvm.Cond.methodLinkNest "MoleBoard" (68 : Nat) ({ cls := "MoleBoard$Night", name := "<init>", desc := "(LMoleBoard;)V" } : Jvm.MethodName) "MoleBoard") ∈ lw_tbl := lw_at lw_m2 172 rfl
theorem q578 : (Jvm.Cond.classLink "MoleBoard" (73 : Nat) "MoleBoard$Run") ∈ lw_all := lw_g (lw_at lw_m2 194 rfl) rfl
theorem q580 : (Jvm.Cond.methodLinkNest "MoleBoard" (75 : Nat) ({ cls := "MoleBoard$Run", name := "<init>", desc := "(LMoleBoard;)V" } : Jvm.MethodName) "MoleBoard") ∈ lw_tbl := lw_at lw_m2 196 rfl
theorem q585 : (Jvm.Cond.fieldLinkNest "MoleBoard" (280 : Nat) "MoleBoard$Run" "twice" "[I" "MoleBoard") ∈ lw_tbl := lw_at lw_m2 201 rfl
theorem q587 : (Jvm.Cond.fieldLinkNest "MoleBoard" (277 : Nat) "MoleBoard$Run" "tick" "[I" "MoleBoard") ∈ lw_tbl := lw_at lw_m2 203 rfl
theorem q589 : (Jvm.Cond.fieldLinkNest "MoleBoard" (292 : Nat) "MoleBoard$Run" "spot" "[I" "MoleBoard") ∈ lw_tbl := lw_at lw_m2 205 rfl
theorem q591 : (Jvm.Cond.fieldLinkNest "MoleBoard" (289 : Nat) "MoleBoard$Run" "when" "[I" "MoleBoard") ∈ lw_tbl := lw_at lw_m2 207 rfl
theorem q594 : (Jvm.Cond.fieldLinkNest "MoleBoard" (333 : Nat) "MoleBoard$Run" "lag" "I" "MoleBoard") ∈ lw_tbl := lw_at lw_m2 210 rfl
theorem q596 : (Jvm.Cond.fieldLinkNest "MoleBoard" (303 : Nat) "MoleBoard$Run" "knows" "I" "MoleBoard") ∈ lw_tbl := lw_at lw_m2 212 rfl
theorem q598 : (Jvm.Cond.fieldLinkNest "MoleBoard" (283 : Nat) "MoleBoard$Run" "wait" "I" "MoleBoard") ∈ lw_tbl := lw_at lw_m2 214 rfl
theorem q600 : (Jvm.Cond.fieldLinkNest "MoleBoard" (415 : Nat) "MoleBoard$Run" "holes" "I" "MoleBoard") ∈ lw_tbl := lw_at lw_m2 216 rfl
theorem q604 : (Jvm.Cond.fieldLinkNest "MoleBoard" (271 : Nat) "MoleBoard$Run" "hits" "I" "MoleBoard") ∈ lw_tbl := lw_at lw_m2 220 rfl
theorem q607 : (Jvm.Cond.fieldLinkNest "MoleBoard" (286 : Nat) "MoleBoard$Run" "strikes" "I" "MoleBoard") ∈ lw_tbl := lw_at lw_m2 223 rfl
theorem q609 : (Jvm.Cond.fieldLinkNest "MoleBoard" (295 : Nat) "MoleBoard$Run" "walked" "I" "MoleBoard") ∈ lw_tbl := lw_at lw_m2 225 rfl
theorem q611 : (Jvm.Cond.fieldLinkNest "MoleBoard" (401 : Nat) "MoleBoard$Run" "rash" "Z" "MoleBoard") ∈ lw_tbl := lw_at lw_m2 227 rfl
theorem q648 : (Jvm.Cond.classLink "MoleBoard" (80 : Nat) "MoleBoard$Best") ∈ lw_all := lw_g (lw_at lw_m3 24 rfl) rfl
theorem q650 : (Jvm.Cond.methodLinkNest "MoleBoard" (82 : Nat) ({ cls := "MoleBoard$Best", name := "<init>", desc := "(LMoleBoard;)V" } : Jvm.MethodName) "MoleBoard") ∈ lw_tbl := lw_at lw_m3 26 rfl
theorem q672 : (Jvm.Cond.classLink "MoleBoard" (87 : Nat) "MoleBoard$Lots") ∈ lw_all := lw_g (lw_at lw_m3 48 rfl) rfl
theorem q674 : (Jvm.Cond.methodLinkNest "MoleBoard" (89 : Nat) ({ cls := "MoleBoard$Lots", name := "<init>", desc := "(LMoleBoard;)V" } : Jvm.MethodName) "MoleBoard") ∈ lw_tbl := lw_at lw_m3 50 rfl
theorem q690 : (Jvm.Cond.classLink "MoleBoard" (94 : Nat) "MoleBoard$Blows") ∈ lw_all := lw_g (lw_at lw_m3 66 rfl) rfl
theorem q692 : (Jvm.Cond.methodLinkNest "MoleBoard" (96 : Nat) ({ cls := "MoleBoard$Blows", name := "<init>", desc := "(LMoleBoard;)V" } : Jvm.MethodName) "MoleBoard") ∈ lw_tbl := lw_at lw_m3 68 rfl
theorem q698 : (Jvm.Cond.fieldLinkNest "MoleBoard" (435 : Nat) "MoleBoard$Blows" "good" "I" "MoleBoard") ∈ lw_tbl := lw_at lw_m3 74 rfl
theorem q700 : (Jvm.Cond.fieldLinkNest "MoleBoard" (438 : Nat) "MoleBoard$Blows" "reds" "I" "MoleBoard") ∈ lw_tbl := lw_at lw_m3 76 rfl
theorem q702 : (Jvm.Cond.fieldLinkNest "MoleBoard" (441 : Nat) "MoleBoard$Blows" "early" "I" "MoleBoard") ∈ lw_tbl := lw_at lw_m3 78 rfl
theorem q715 : (Jvm.Cond.fieldLink "MoleBoard" (13 : Nat) "MoleBoard" "slots" "[LMoleBoard$Slot;") ∈ lw_all := lw_g (lw_at lw_m3 91 rfl) rfl
theorem q721 : (Jvm.Cond.fieldLink "MoleBoard" (41 : Nat) "MoleBoard" "now" "LMoleBoard$Board;") ∈ lw_all := lw_g (lw_at lw_m3 97 rfl) rfl
theorem q722 : (Jvm.Cond.fieldLink "MoleBoard" (45 : Nat) "MoleBoard" "images" "[LMoleBoard$Board;") ∈ lw_all := lw_g (lw_at lw_m3 98 rfl) rfl
theorem q723 : (Jvm.Cond.fieldLink "MoleBoard" (49 : Nat) "MoleBoard" "tape" "[B") ∈ lw_all := lw_g (lw_at lw_m3 99 rfl) rfl
theorem q724 : (Jvm.Cond.fieldLink "MoleBoard" (101 : Nat) "MoleBoard" "taped" "I") ∈ lw_all := lw_g (lw_at lw_m3 100 rfl) rfl
theorem q725 : (Jvm.Cond.fieldLink "MoleBoard" (117 : Nat) "MoleBoard" "faultKind" "I") ∈ lw_all := lw_g (lw_at lw_m3 101 rfl) rfl
theorem q726 : (Jvm.Cond.fieldLink "MoleBoard" (53 : Nat) "MoleBoard" "faultPlace" "I") ∈ lw_all := lw_g (lw_at lw_m3 102 rfl) rfl
theorem q727 : (Jvm.Cond.fieldLink "MoleBoard" (62 : Nat) "MoleBoard" "drumGame" "LMoleBoard$DrumGame;") ∈ lw_all := lw_g (lw_at lw_m3 103 rfl) rfl
theorem q728 : (Jvm.Cond.fieldLink "MoleBoard" (69 : Nat) "MoleBoard" "night" "LMoleBoard$Night;") ∈ lw_all := lw_g (lw_at lw_m3 104 rfl) rfl
theorem q729 : (Jvm.Cond.fieldLink "MoleBoard" (76 : Nat) "MoleBoard" "run" "LMoleBoard$Run;") ∈ lw_all := lw_g (lw_at lw_m3 105 rfl) rfl
theorem q730 : (Jvm.Cond.fieldLink "MoleBoard" (83 : Nat) "MoleBoard" "best" "LMoleBoard$Best;") ∈ lw_all := lw_g (lw_at lw_m3 106 rfl) rfl
theorem q731 : (Jvm.Cond.fieldLink "MoleBoard" (90 : Nat) "MoleBoard" "lots" "LMoleBoard$Lots;") ∈ lw_all := lw_g (lw_at lw_m3 107 rfl) rfl
theorem q732 : (Jvm.Cond.fieldLink "MoleBoard" (97 : Nat) "MoleBoard" "blows" "LMoleBoard$Blows;") ∈ lw_all := lw_g (lw_at lw_m3 108 rfl) rfl
theorem q733 : (Jvm.Cond.laysFinal "MoleBoard" "MoleBoard" "slots" "[LMoleBoard$Slot;") ∈ lw_all := lw_g (lw_at lw_m3 109 rfl) rfl
theorem q734 : (Jvm.Cond.soleField "MoleBoard" "slots") ∈ lw_all := lw_g (lw_at lw_m3 110 rfl) rfl
theorem q735 : (Jvm.Cond.lays "MoleBoard" "MoleBoard" "now" "LMoleBoard$Board;") ∈ lw_all := lw_g (lw_at lw_m3 111 rfl) rfl
theorem q736 : (Jvm.Cond.soleField "MoleBoard" "now") ∈ lw_all := lw_g (lw_at lw_m3 112 rfl) rfl
theorem q737 : (Jvm.Cond.laysFinal "MoleBoard" "MoleBoard" "images" "[LMoleBoard$Board;") ∈ lw_all := lw_g (lw_at lw_m3 113 rfl) rfl
theorem q738 : (Jvm.Cond.soleField "MoleBoard" "images") ∈ lw_all := lw_g (lw_at lw_m3 114 rfl) rfl
theorem q739 : (Jvm.Cond.laysFinal "MoleBoard" "MoleBoard" "tape" "[B") ∈ lw_all := lw_g (lw_at lw_m3 115 rfl) rfl
theorem q740 : (Jvm.Cond.soleField "MoleBoard" "tape") ∈ lw_all := lw_g (lw_at lw_m3 116 rfl) rfl
theorem q741 : (Jvm.Cond.lays "MoleBoard" "MoleBoard" "taped" "I") ∈ lw_all := lw_g (lw_at lw_m3 117 rfl) rfl
theorem q742 : (Jvm.Cond.soleField "MoleBoard" "taped") ∈ lw_all := lw_g (lw_at lw_m3 118 rfl) rfl
theorem q743 : (Jvm.Cond.lays "MoleBoard" "MoleBoard" "faultKind" "I") ∈ lw_all := lw_g (lw_at lw_m3 119 rfl) rfl
theorem q744 : (Jvm.Cond.soleField "MoleBoard" "faultKind") ∈ lw_all := lw_g (lw_at lw_m3 120 rfl) rfl
theorem q745 : (Jvm.Cond.lays "MoleBoard" "MoleBoard" "faultPlace" "I") ∈ lw_all := lw_g (lw_at lw_m3 121 rfl) rfl
theorem q746 : (Jvm.Cond.soleField "MoleBoard" "faultPlace") ∈ lw_all := lw_g (lw_at lw_m3 122 rfl) rfl
theorem q747 : (Jvm.Cond.laysFinal "MoleBoard" "MoleBoard" "drumGame" "LMoleBoard$DrumGame;") ∈ lw_all := lw_g (lw_at lw_m3 123 rfl) rfl
theorem q748 : (Jvm.Cond.soleField "MoleBoard" "drumGame") ∈ lw_all := lw_g (lw_at lw_m3 124 rfl) rfl
theorem q749 : (Jvm.Cond.laysFinal "MoleBoard" "MoleBoard" "night" "LMoleBoard$Night;") ∈ lw_all := lw_g (lw_at lw_m3 125 rfl) rfl
theorem q750 : (Jvm.Cond.soleField "MoleBoard" "night") ∈ lw_all := lw_g (lw_at lw_m3 126 rfl) rfl
theorem q751 : (Jvm.Cond.laysFinal "MoleBoard" "MoleBoard" "run" "LMoleBoard$Run;") ∈ lw_all := lw_g (lw_at lw_m3 127 rfl) rfl
theorem q752 : (Jvm.Cond.soleField "MoleBoard" "run") ∈ lw_all := lw_g (lw_at lw_m3 128 rfl) rfl
theorem q753 : (Jvm.Cond.laysFinal "MoleBoard" "MoleBoard" "best" "LMoleBoard$Best;") ∈ lw_all := lw_g (lw_at lw_m3 129 rfl) rfl
theorem q754 : (Jvm.Cond.soleField "MoleBoard" "best") ∈ lw_all := lw_g (lw_at lw_m3 130 rfl) rfl
theorem q755 : (Jvm.Cond.laysFinal "MoleBoard" "MoleBoard" "lots" "LMoleBoard$Lots;") ∈ lw_all := lw_g (lw_at lw_m3 131 rfl) rfl
theorem q756 : (Jvm.Cond.soleField "MoleBoard" "lots") ∈ lw_all := lw_g (lw_at lw_m3 132 rfl) rfl
theorem q757 : (Jvm.Cond.laysFinal "MoleBoard" "MoleBoard" "blows" "LMoleBoard$Blows;") ∈ lw_all := lw_g (lw_at lw_m3 133 rfl) rfl
theorem q758 : (Jvm.Cond.soleField "MoleBoard" "blows") ∈ lw_all := lw_g (lw_at lw_m3 134 rfl) rfl
theorem q759 : (Jvm.Cond.superclass "MoleBoard" "java/lang/Object") ∈ lw_all := lw_g (lw_at lw_m3 135 rfl) rfl
theorem q761 : (Jvm.Cond.instanceMethod ({ cls := "MoleBoard", name := "feed", desc := "(IIIII)I" } : Jvm.MethodName)) ∈ lw_all := lw_g (lw_at lw_m3 137 rfl) rfl
theorem q762 : (Jvm.Cond.selects "MoleBoard" ({ cls := "MoleBoard", name := "feed", desc := "(IIIII)I" } : Jvm.MethodName) ({ cls := "MoleBoard", name := "feed", desc := "(IIIII)I" } : Jvm.MethodName)) ∈ lw_all := lw_g (lw_at lw_m3 138 rfl) rfl
theorem q763 : (Jvm.Cond.code ({ cls := "MoleBoard", name := "feed", desc := "(IIIII)I" } : Jvm.MethodName) prog_1_method_8_code (8 : Nat) (Option.some Jvm.ClassFile.FieldType.int)) ∈ lw_all := lw_g (lw_at lw_m3 139 rfl) rfl
theorem q765 : (Jvm.Cond.instanceMethod ({ cls := "MoleBoard", name := "end", desc := "(I)I" } : Jvm.MethodName)) ∈ lw_all := lw_g (lw_at lw_m3 141 rfl) rfl
theorem q766 : (Jvm.Cond.selects "MoleBoard" ({ cls := "MoleBoard", name := "end", desc := "(I)I" } : Jvm.MethodName) ({ cls := "MoleBoard", name := "end", desc := "(I)I" } : Jvm.MethodName)) ∈ lw_all := lw_g (lw_at lw_m3 142 rfl) rfl
theorem q767 : (Jvm.Cond.code ({ cls := "MoleBoard", name := "end", desc := "(I)I" } : Jvm.MethodName) prog_1_method_9_code (2 : Nat) (Option.some Jvm.ClassFile.FieldType.int)) ∈ lw_all := lw_g (lw_at lw_m3 143 rfl) rfl
theorem q769 : (Jvm.Cond.instanceMethod ({ cls := "MoleBoard", name := "board", desc := "()I" } : Jvm.MethodName)) ∈ lw_all := lw_g (lw_at lw_m3 145 rfl) rfl
theorem q770 : (Jvm.Cond.selects "MoleBoard" ({ cls := "MoleBoard", name := "board", desc := "()I" } : Jvm.MethodName) ({ cls := "MoleBoard", name := "board", desc := "()I" } : Jvm.MethodName)) ∈ lw_all := lw_g (lw_at lw_m3 146 rfl) rfl
theorem q771 : (Jvm.Cond.codeWith ({ cls := "MoleBoard", name := "board", desc := "()I" } : Jvm.MethodName) prog_1_method_10_code (4 : Nat) (Option.some Jvm.ClassFile.FieldType.int) [((0 : Nat), (59 : Nat), (66 : Nat), (123 : Nat)), ((0 : Nat), (59 : Nat), (93 : Nat), (0 : Nat)), ((66 : Nat), (86 : Nat), (93 : Nat), (0 : Nat))]) ∈ lw_all := lw_g (lw_at lw_m3 147 rfl) rfl
theorem q772 : (Jvm.Cond.classLink "MoleBoard" (123 : Nat) "MoleBoard$Fault") ∈ lw_all := lw_g (lw_at lw_m3 148 rfl) rfl
theorem q773 : (Jvm.Cond.classLink "MoleBoard" (104 : Nat) "MoleBoard$Reader") ∈ lw_all := lw_g (lw_at lw_m3 149 rfl) rfl
theorem q775 : (Jvm.Cond.methodLink "MoleBoard" (106 : Nat) ({ cls := "MoleBoard$Reader", name := "<init>", desc := "([BI)V" } : Jvm.MethodName)) ∈ lw_all := lw_g (lw_at lw_m3 151 rfl) rfl
theorem q816 : (Jvm.Cond.methodLink "MoleBoard" (109 : Nat) ({ cls := "MoleBoard$Reader", name := "reads", desc := "()LMoleBoard$Board;" } : Jvm.MethodName)) ∈ lw_all := lw_g (lw_at lw_m3 192 rfl) rfl
theorem q907 : (Jvm.Cond.fieldLinkNest "MoleBoard" (125 : Nat) "MoleBoard$Fault" "kind" "I" "MoleBoard") ∈ lw_tbl := lw_at lw_m4 43 rfl
theorem q909 : (Jvm.Cond.fieldLinkNest "MoleBoard" (128 : Nat) "MoleBoard$Fault" "place" "I" "MoleBoard") ∈ lw_tbl := lw_at lw_m4 45 rfl
theorem q956 : (Jvm.Cond.static ({ cls := "MoleBoard", name := "isOn", desc := "(II)Z" } : Jvm.MethodName)) ∈ lw_all := lw_g (lw_at lw_m4 92 rfl) rfl
theorem q957 : (Jvm.Cond.code ({ cls := "MoleBoard", name := "isOn", desc := "(II)Z" } : Jvm.MethodName) prog_1_method_2_code (2 : Nat) (Option.some Jvm.ClassFile.FieldType.boolean)) ∈ lw_all := lw_g (lw_at lw_m4 93 rfl) rfl
theorem q1056 : (Jvm.Cond.fieldLinkNest "MoleBoard" (170 : Nat) "MoleBoard$Mole" "hole" "I" "MoleBoard") ∈ lw_tbl := lw_at lw_m4 192 rfl
theorem q1060 : (Jvm.Cond.fieldLinkNest "MoleBoard" (173 : Nat) "MoleBoard$Mole" "other" "I" "MoleBoard") ∈ lw_tbl := lw_at lw_m4 196 rfl
theorem q1065 : (Jvm.Cond.fieldLinkNest "MoleBoard" (176 : Nat) "MoleBoard$Mole" "red" "Z" "MoleBoard") ∈ lw_tbl := lw_at lw_m4 201 rfl
theorem q1112 : (Jvm.Cond.selects "MoleBoard" ({ cls := "java/lang/Object", name := "getClass", desc := "()Ljava/lang/Class;" } : Jvm.MethodName) ({ cls := "java/lang/Object", name := "getClass", desc := "()Ljava/lang/Class;" } : Jvm.MethodName)) ∈ lw_all := lw_g (lw_at lw_m5 8 rfl) rfl
theorem q1156 : (Jvm.Cond.fieldLinkNest "MoleBoard" (202 : Nat) "MoleBoard$Player" "is" "[I" "MoleBoard") ∈ lw_tbl := lw_at lw_m5 52 rfl
theorem q1167 : (Jvm.Cond.methodLink "MoleBoard" (113 : Nat) ({ cls := "MoleBoard$Board", name := "is", desc := "()Z" } : Jvm.MethodName)) ∈ lw_all := lw_g (lw_at lw_m5 63 rfl) rfl
theorem q1172 : (Jvm.Cond.instanceMethod ({ cls := "MoleBoard", name := "fault", desc := "(I)I" } : Jvm.MethodName)) ∈ lw_all := lw_g (lw_at lw_m5 68 rfl) rfl
theorem q1173 : (Jvm.Cond.selects "MoleBoard" ({ cls := "MoleBoard", name := "fault", desc := "(I)I" } : Jvm.MethodName) ({ cls := "MoleBoard", name := "fault", desc := "(I)I" } : Jvm.MethodName)) ∈ lw_all := lw_g (lw_at lw_m5 69 rfl) rfl
theorem q1174 : (Jvm.Cond.code ({ cls := "MoleBoard", name := "fault", desc := "(I)I" } : Jvm.MethodName) prog_1_method_11_code (2 : Nat) (Option.some Jvm.ClassFile.FieldType.int)) ∈ lw_all := lw_g (lw_at lw_m5 70 rfl) rfl
theorem q1176 : (Jvm.Cond.instanceMethod ({ cls := "MoleBoard", name := "drum", desc := "(II)I" } : Jvm.MethodName)) ∈ lw_all := lw_g (lw_at lw_m5 72 rfl) rfl
theorem q1177 : (Jvm.Cond.selects "MoleBoard" ({ cls := "MoleBoard", name := "drum", desc := "(II)I" } : Jvm.MethodName) ({ cls := "MoleBoard", name := "drum", desc := "(II)I" } : Jvm.MethodName)) ∈ lw_all := lw_g (lw_at lw_m5 73 rfl) rfl
theorem q1178 : (Jvm.Cond.code ({ cls := "MoleBoard", name := "drum", desc := "(II)I" } : Jvm.MethodName) prog_1_method_22_code (3 : Nat) (Option.some Jvm.ClassFile.FieldType.int)) ∈ lw_all := lw_g (lw_at lw_m5 74 rfl) rfl
theorem q1179 : (Jvm.Cond.methodLink "MoleBoard" (180 : Nat) ({ cls := "MoleBoard", name := "isMole", desc := "(I)Z" } : Jvm.MethodName)) ∈ lw_all := lw_g (lw_at lw_m5 75 rfl) rfl
theorem q1180 : (Jvm.Cond.privateMethod ({ cls := "MoleBoard", name := "isMole", desc := "(I)Z" } : Jvm.MethodName)) ∈ lw_tbl := lw_at lw_m5 76 rfl
theorem q1181 : (Jvm.Cond.instanceMethod ({ cls := "MoleBoard", name := "isMole", desc := "(I)Z" } : Jvm.MethodName)) ∈ lw_all := lw_g (lw_at lw_m5 77 rfl) rfl
theorem q1182 : (Jvm.Cond.code ({ cls := "MoleBoard", name := "isMole", desc := "(I)Z" } : Jvm.MethodName) prog_1_method_15_code (2 : Nat) (Option.some Jvm.ClassFile.FieldType.boolean)) ∈ lw_all := lw_g (lw_at lw_m5 78 rfl) rfl
theorem q1183 : (Jvm.Cond.methodLink "MoleBoard" (152 : Nat) ({ cls := "MoleBoard", name := "comingsOfDrum", desc := "()I" } : Jvm.MethodName)) ∈ lw_all := lw_g (lw_at lw_m5 79 rfl) rfl
theorem q1184 : (Jvm.Cond.privateMethod ({ cls := "MoleBoard", name := "comingsOfDrum", desc := "()I" } : Jvm.MethodName)) ∈ lw_tbl := lw_at lw_m5 80 rfl
theorem q1185 : (Jvm.Cond.instanceMethod ({ cls := "MoleBoard", name := "comingsOfDrum", desc := "()I" } : Jvm.MethodName)) ∈ lw_all := lw_g (lw_at lw_m5 81 rfl) rfl
theorem q1186 : (Jvm.Cond.code ({ cls := "MoleBoard", name := "comingsOfDrum", desc := "()I" } : Jvm.MethodName) prog_1_method_12_code (1 : Nat) (Option.some Jvm.ClassFile.FieldType.int)) ∈ lw_all := lw_g (lw_at lw_m5 82 rfl) rfl
theorem q1187 : (Jvm.Cond.interfaceEntry "MoleBoard" (135 : Nat)) ∈ lw_tbl := lw_at lw_m5 83 rfl
theorem q1188 : (Jvm.Cond.methodLink "MoleBoard" (135 : Nat) ({ cls := "java/util/List", name := "size", desc := "()I" } : Jvm.MethodName)) ∈ lw_all := lw_g (lw_at lw_m5 84 rfl) rfl
theorem q1189 : (Jvm.Cond.constantLong "MoleBoard" (183 : Nat) (2 : Int64)) ∈ lw_all := lw_g (lw_at lw_m5 85 rfl) rfl
theorem q1190 : (Jvm.Cond.methodLink "MoleBoard" (185 : Nat) ({ cls := "MoleBoard", name := "mole", desc := "(I)LMoleBoard$Mole;" } : Jvm.MethodName)) ∈ lw_all := lw_g (lw_at lw_m5 86 rfl) rfl
theorem q1191 : (Jvm.Cond.privateMethod ({ cls := "MoleBoard", name := "mole", desc := "(I)LMoleBoard$Mole;" } : Jvm.MethodName)) ∈ lw_tbl := lw_at lw_m5 87 rfl
theorem q1192 : (Jvm.Cond.instanceMethod ({ cls := "MoleBoard", name := "mole", desc := "(I)LMoleBoard$Mole;" } : Jvm.MethodName)) ∈ lw_all := lw_g (lw_at lw_m5 88 rfl) rfl
theorem q1193 : (Jvm.Cond.code ({ cls := "MoleBoard", name := "mole", desc := "(I)LMoleBoard$Mole;" } : Jvm.MethodName) prog_1_method_13_code (2 : Nat) (Option.some (Jvm.ClassFile.FieldType.object "MoleBoard$Mole"))) ∈ lw_all := lw_g (lw_at lw_m5 89 rfl) rfl
theorem q1194 : (Jvm.Cond.interfaceEntry "MoleBoard" (141 : Nat)) ∈ lw_tbl := lw_at lw_m5 90 rfl
theorem q1195 : (Jvm.Cond.methodLink "MoleBoard" (141 : Nat) ({ cls := "java/util/List", name := "get", desc := "(I)Ljava/lang/Object;" } : Jvm.MethodName)) ∈ lw_all := lw_g (lw_at lw_m5 91 rfl) rfl
theorem q1211 : (Jvm.Cond.classLink "MoleBoard" (145 : Nat) "MoleBoard$Mole") ∈ lw_all := lw_g (lw_at lw_m5 107 rfl) rfl
theorem q1212 : (Jvm.Cond.methodLink "MoleBoard" (189 : Nat) ({ cls := "MoleBoard", name := "told", desc := "(LMoleBoard$Mole;I)I" } : Jvm.MethodName)) ∈ lw_all := lw_g (lw_at lw_m5 108 rfl) rfl
theorem q1213 : (Jvm.Cond.static ({ cls := "MoleBoard", name := "told", desc := "(LMoleBoard$Mole;I)I" } : Jvm.MethodName)) ∈ lw_all := lw_g (lw_at lw_m5 109 rfl) rfl
theorem q1214 : (Jvm.Cond.code ({ cls := "MoleBoard", name := "told", desc := "(LMoleBoard$Mole;I)I" } : Jvm.MethodName) prog_1_method_21_code (2 : Nat) (Option.some Jvm.ClassFile.FieldType.int)) ∈ lw_all := lw_g (lw_at lw_m5 110 rfl) rfl
theorem q1216 : (Jvm.Cond.instanceMethod ({ cls := "MoleBoard", name := "player", desc := "(II)I" } : Jvm.MethodName)) ∈ lw_all := lw_g (lw_at lw_m5 112 rfl) rfl
theorem q1217 : (Jvm.Cond.selects "MoleBoard" ({ cls := "MoleBoard", name := "player", desc := "(II)I" } : Jvm.MethodName) ({ cls := "MoleBoard", name := "player", desc := "(II)I" } : Jvm.MethodName)) ∈ lw_all := lw_g (lw_at lw_m5 113 rfl) rfl
theorem q1218 : (Jvm.Cond.code ({ cls := "MoleBoard", name := "player", desc := "(II)I" } : Jvm.MethodName) prog_1_method_23_code (3 : Nat) (Option.some Jvm.ClassFile.FieldType.int)) ∈ lw_all := lw_g (lw_at lw_m5 114 rfl) rfl
theorem q1219 : (Jvm.Cond.methodLink "MoleBoard" (193 : Nat) ({ cls := "MoleBoard", name := "isPlayer", desc := "(I)Z" } : Jvm.MethodName)) ∈ lw_all := lw_g (lw_at lw_m5 115 rfl) rfl
theorem q1220 : (Jvm.Cond.privateMethod ({ cls := "MoleBoard", name := "isPlayer", desc := "(I)Z" } : Jvm.MethodName)) ∈ lw_tbl := lw_at lw_m5 116 rfl
theorem q1221 : (Jvm.Cond.instanceMethod ({ cls := "MoleBoard", name := "isPlayer", desc := "(I)Z" } : Jvm.MethodName)) ∈ lw_all := lw_g (lw_at lw_m5 117 rfl) rfl
theorem q1222 : (Jvm.Cond.code ({ cls := "MoleBoard", name := "isPlayer", desc := "(I)Z" } : Jvm.MethodName) prog_1_method_16_code (2 : Nat) (Option.some Jvm.ClassFile.FieldType.boolean)) ∈ lw_all := lw_g (lw_at lw_m5 118 rfl) rfl
theorem q1223 : (Jvm.Cond.constantLong "MoleBoard" (196 : Nat) (4 : Int64)) ∈ lw_all := lw_g (lw_at lw_m5 119 rfl) rfl
theorem q1224 : (Jvm.Cond.methodLink "MoleBoard" (198 : Nat) ({ cls := "MoleBoard", name := "one", desc := "(I)LMoleBoard$Player;" } : Jvm.MethodName)) ∈ lw_all := lw_g (lw_at lw_m5 120 rfl) rfl
theorem q1225 : (Jvm.Cond.privateMethod ({ cls := "MoleBoard", name := "one", desc := "(I)LMoleBoard$Player;" } : Jvm.MethodName)) ∈ lw_tbl := lw_at lw_m5 121 rfl
theorem q1226 : (Jvm.Cond.instanceMethod ({ cls := "MoleBoard", name := "one", desc := "(I)LMoleBoard$Player;" } : Jvm.MethodName)) ∈ lw_all := lw_g (lw_at lw_m5 122 rfl) rfl
theorem q1227 : (Jvm.Cond.code ({ cls := "MoleBoard", name := "one", desc := "(I)LMoleBoard$Player;" } : Jvm.MethodName) prog_1_method_14_code (2 : Nat) (Option.some (Jvm.ClassFile.FieldType.object "MoleBoard$Player"))) ∈ lw_all := lw_g (lw_at lw_m5 123 rfl) rfl
theorem q1228 : (Jvm.Cond.classLink "MoleBoard" (150 : Nat) "MoleBoard$Player") ∈ lw_all := lw_g (lw_at lw_m5 124 rfl) rfl
theorem q1230 : (Jvm.Cond.instanceMethod ({ cls := "MoleBoard", name := "stay", desc := "(I)I" } : Jvm.MethodName)) ∈ lw_all := lw_g (lw_at lw_m5 126 rfl) rfl
theorem q1231 : (Jvm.Cond.selects "MoleBoard" ({ cls := "MoleBoard", name := "stay", desc := "(I)I" } : Jvm.MethodName) ({ cls := "MoleBoard", name := "stay", desc := "(I)I" } : Jvm.MethodName)) ∈ lw_all := lw_g (lw_at lw_m5 127 rfl) rfl
theorem q1232 : (Jvm.Cond.code ({ cls := "MoleBoard", name := "stay", desc := "(I)I" } : Jvm.MethodName) prog_1_method_24_code (2 : Nat) (Option.some Jvm.ClassFile.FieldType.int)) ∈ lw_all := lw_g (lw_at lw_m5 128 rfl) rfl
theorem q1233 : (Jvm.Cond.methodLink "MoleBoard" (205 : Nat) ({ cls := "MoleBoard", name := "isTick", desc := "(J)Z" } : Jvm.MethodName)) ∈ lw_all := lw_g (lw_at lw_m5 129 rfl) rfl
theorem q1234 : (Jvm.Cond.privateMethod ({ cls := "MoleBoard", name := "isTick", desc := "(J)Z" } : Jvm.MethodName)) ∈ lw_tbl := lw_at lw_m5 130 rfl
theorem q1235 : (Jvm.Cond.instanceMethod ({ cls := "MoleBoard", name := "isTick", desc := "(J)Z" } : Jvm.MethodName)) ∈ lw_all := lw_g (lw_at lw_m5 131 rfl) rfl
theorem q1236 : (Jvm.Cond.code ({ cls := "MoleBoard", name := "isTick", desc := "(J)Z" } : Jvm.MethodName) prog_1_method_18_code (3 : Nat) (Option.some Jvm.ClassFile.FieldType.boolean)) ∈ lw_all := lw_g (lw_at lw_m5 132 rfl) rfl
theorem q1237 : (Jvm.Cond.methodLink "MoleBoard" (209 : Nat) ({ cls := "MoleBoard$Board", name := "stay", desc := "(I)I" } : Jvm.MethodName)) ∈ lw_all := lw_g (lw_at lw_m5 133 rfl) rfl
theorem q1242 : (Jvm.Cond.instanceMethod ({ cls := "MoleBoard", name := "comings", desc := "()I" } : Jvm.MethodName)) ∈ lw_all := lw_g (lw_at lw_m5 138 rfl) rfl
theorem q1243 : (Jvm.Cond.selects "MoleBoard" ({ cls := "MoleBoard", name := "comings", desc := "()I" } : Jvm.MethodName) ({ cls := "MoleBoard", name := "comings", desc := "()I" } : Jvm.MethodName)) ∈ lw_all := lw_g (lw_at lw_m5 139 rfl) rfl
theorem q1244 : (Jvm.Cond.code ({ cls := "MoleBoard", name := "comings", desc := "()I" } : Jvm.MethodName) prog_1_method_28_code (1 : Nat) (Option.some Jvm.ClassFile.FieldType.int)) ∈ lw_all := lw_g (lw_at lw_m5 140 rfl) rfl
theorem q1245 : (Jvm.Cond.methodLink "MoleBoard" (229 : Nat) ({ cls := "MoleBoard", name := "game", desc := "()LMoleBoard$Game;" } : Jvm.MethodName)) ∈ lw_all := lw_g (lw_at lw_m5 141 rfl) rfl
theorem q1246 : (Jvm.Cond.privateMethod ({ cls := "MoleBoard", name := "game", desc := "()LMoleBoard$Game;" } : Jvm.MethodName)) ∈ lw_tbl := lw_at lw_m5 142 rfl
theorem q1247 : (Jvm.Cond.instanceMethod ({ cls := "MoleBoard", name := "game", desc := "()LMoleBoard$Game;" } : Jvm.MethodName)) ∈ lw_all := lw_g (lw_at lw_m5 143 rfl) rfl
theorem q1248 : (Jvm.Cond.code ({ cls := "MoleBoard", name := "game", desc := "()LMoleBoard$Game;" } : Jvm.MethodName) prog_1_method_27_code (1 : Nat) (Option.some (Jvm.ClassFile.FieldType.object "MoleBoard$Game"))) ∈ lw_all := lw_g (lw_at lw_m5 144 rfl) rfl
theorem q1249 : (Jvm.Cond.methodLink "MoleBoard" (225 : Nat) ({ cls := "MoleBoard$DrumGame", name := "lays", desc := "()LMoleBoard$Game;" } : Jvm.MethodName)) ∈ lw_all := lw_g (lw_at lw_m5 145 rfl) rfl
theorem q1271 : (Jvm.Cond.privateMethod ({ cls := "MoleBoard", name := "mayFollow", desc := "(IIII)Z" } : Jvm.MethodName)) ∈ lw_tbl := lw_at lw_m5 167 rfl
theorem q1272 : (Jvm.Cond.instanceMethod ({ cls := "MoleBoard", name := "mayFollow", desc := "(IIII)Z" } : Jvm.MethodName)) ∈ lw_all := lw_g (lw_at lw_m5 168 rfl) rfl
theorem q1273 : (Jvm.Cond.code ({ cls := "MoleBoard", name := "mayFollow", desc := "(IIII)Z" } : Jvm.MethodName) prog_1_method_26_code (5 : Nat) (Option.some Jvm.ClassFile.FieldType.boolean)) ∈ lw_all := lw_g (lw_at lw_m5 169 rfl) rfl
theorem q1274 : (Jvm.Cond.methodLink "MoleBoard" (167 : Nat) ({ cls := "MoleBoard", name := "isOpen", desc := "(I)Z" } : Jvm.MethodName)) ∈ lw_all := lw_g (lw_at lw_m5 170 rfl) rfl
theorem q1275 : (Jvm.Cond.privateMethod ({ cls := "MoleBoard", name := "isOpen", desc := "(I)Z" } : Jvm.MethodName)) ∈ lw_tbl := lw_at lw_m5 171 rfl
theorem q1276 : (Jvm.Cond.instanceMethod ({ cls := "MoleBoard", name := "isOpen", desc := "(I)Z" } : Jvm.MethodName)) ∈ lw_all := lw_g (lw_at lw_m5 172 rfl) rfl
theorem q1277 : (Jvm.Cond.code ({ cls := "MoleBoard", name := "isOpen", desc := "(I)Z" } : Jvm.MethodName) prog_1_method_19_code (2 : Nat) (Option.some Jvm.ClassFile.FieldType.boolean)) ∈ lw_all := lw_g (lw_at lw_m5 173 rfl) rfl
theorem q1278 : (Jvm.Cond.methodLink "MoleBoard" (164 : Nat) ({ cls := "MoleBoard", name := "isOn", desc := "(II)Z" } : Jvm.MethodName)) ∈ lw_all := lw_g (lw_at lw_m5 174 rfl) rfl
theorem q1279 : (Jvm.Cond.methodLink "MoleBoard" (221 : Nat) ({ cls := "MoleBoard", name := "stepsOf", desc := "(II)I" } : Jvm.MethodName)) ∈ lw_all := lw_g (lw_at lw_m5 175 rfl) rfl
theorem q1280 : (Jvm.Cond.privateMethod ({ cls := "MoleBoard", name := "stepsOf", desc := "(II)I" } : Jvm.MethodName)) ∈ lw_tbl := lw_at lw_m5 176 rfl
theorem q1281 : (Jvm.Cond.instanceMethod ({ cls := "MoleBoard", name := "stepsOf", desc := "(II)I" } : Jvm.MethodName)) ∈ lw_all := lw_g (lw_at lw_m5 177 rfl) rfl
theorem q1282 : (Jvm.Cond.code ({ cls := "MoleBoard", name := "stepsOf", desc := "(II)I" } : Jvm.MethodName) prog_1_method_25_code (3 : Nat) (Option.some Jvm.ClassFile.FieldType.int)) ∈ lw_all := lw_g (lw_at lw_m5 178 rfl) rfl
theorem q1283 : (Jvm.Cond.methodLink "MoleBoard" (216 : Nat) ({ cls := "java/lang/Math", name := "abs", desc := "(I)I" } : Jvm.MethodName)) ∈ lw_all := lw_g (lw_at lw_m5 179 rfl) rfl
theorem q1293 : (Jvm.Cond.instanceMethod ({ cls := "MoleBoard", name := "comes", desc := "(II)I" } : Jvm.MethodName)) ∈ lw_all := lw_g (lw_at lw_m5 189 rfl) rfl
theorem q1294 : (Jvm.Cond.selects "MoleBoard" ({ cls := "MoleBoard", name := "comes", desc := "(II)I" } : Jvm.MethodName) ({ cls := "MoleBoard", name := "comes", desc := "(II)I" } : Jvm.MethodName)) ∈ lw_all := lw_g (lw_at lw_m5 190 rfl) rfl
theorem q1295 : (Jvm.Cond.code ({ cls := "MoleBoard", name := "comes", desc := "(II)I" } : Jvm.MethodName) prog_1_method_29_code (4 : Nat) (Option.some Jvm.ClassFile.FieldType.int)) ∈ lw_all := lw_g (lw_at lw_m5 191 rfl) rfl
theorem q1296 : (Jvm.Cond.methodLink "MoleBoard" (237 : Nat) ({ cls := "MoleBoard$Game", name := "mole", desc := "(I)LMoleBoard$Mole;" } : Jvm.MethodName)) ∈ lw_all := lw_g (lw_at lw_m5 192 rfl) rfl
theorem q1303 : (Jvm.Cond.instanceMethod ({ cls := "MoleBoard", name := "up", desc := "(I)I" } : Jvm.MethodName)) ∈ lw_all := lw_g (lw_at lw_m5 199 rfl) rfl
theorem q1304 : (Jvm.Cond.selects "MoleBoard" ({ cls := "MoleBoard", name := "up", desc := "(I)I" } : Jvm.MethodName) ({ cls := "MoleBoard", name := "up", desc := "(I)I" } : Jvm.MethodName)) ∈ lw_all := lw_g (lw_at lw_m5 200 rfl) rfl
theorem q1305 : (Jvm.Cond.code ({ cls := "MoleBoard", name := "up", desc := "(I)I" } : Jvm.MethodName) prog_1_method_30_code (5 : Nat) (Option.some Jvm.ClassFile.FieldType.int)) ∈ lw_all := lw_g (lw_at lw_m5 201 rfl) rfl
theorem q1306 : (Jvm.Cond.methodLink "MoleBoard" (244 : Nat) ({ cls := "MoleBoard$Game", name := "isUp", desc := "(II)Z" } : Jvm.MethodName)) ∈ lw_all := lw_g (lw_at lw_m5 202 rfl) rfl
theorem q1313 : (Jvm.Cond.methodLink "MoleBoard" (247 : Nat) ({ cls := "MoleBoard$Mole", name := "isTwin", desc := "()Z" } : Jvm.MethodName)) ∈ lw_all := lw_g (lw_at lw_m5 209 rfl) rfl
theorem q1318 : (Jvm.Cond.instanceMethod ({ cls := "MoleBoard", name := "calm", desc := "()I" } : Jvm.MethodName)) ∈ lw_all := lw_g (lw_at lw_m5 214 rfl) rfl
theorem q1319 : (Jvm.Cond.selects "MoleBoard" ({ cls := "MoleBoard", name := "calm", desc := "()I" } : Jvm.MethodName) ({ cls := "MoleBoard", name := "calm", desc := "()I" } : Jvm.MethodName)) ∈ lw_all := lw_g (lw_at lw_m5 215 rfl) rfl
theorem q1320 : (Jvm.Cond.code ({ cls := "MoleBoard", name := "calm", desc := "()I" } : Jvm.MethodName) prog_1_method_31_code (4 : Nat) (Option.some Jvm.ClassFile.FieldType.int)) ∈ lw_all := lw_g (lw_at lw_m5 216 rfl) rfl
theorem q1322 : (Jvm.Cond.instanceMethod ({ cls := "MoleBoard", name := "steps", desc := "(II)I" } : Jvm.MethodName)) ∈ lw_all := lw_g (lw_at lw_m5 218 rfl) rfl
theorem q1323 : (Jvm.Cond.selects "MoleBoard" ({ cls := "MoleBoard", name := "steps", desc := "(II)I" } : Jvm.MethodName) ({ cls := "MoleBoard", name := "steps", desc := "(II)I" } : Jvm.MethodName)) ∈ lw_all := lw_g (lw_at lw_m5 219 rfl) rfl
theorem q1324 : (Jvm.Cond.code ({ cls := "MoleBoard", name := "steps", desc := "(II)I" } : Jvm.MethodName) prog_1_method_32_code (3 : Nat) (Option.some Jvm.ClassFile.FieldType.int)) ∈ lw_all := lw_g (lw_at lw_m5 220 rfl) rfl
theorem q1325 : (Jvm.Cond.methodLink "MoleBoard" (250 : Nat) ({ cls := "MoleBoard", name := "isHole", desc := "(J)Z" } : Jvm.MethodName)) ∈ lw_all := lw_g (lw_at lw_m5 221 rfl) rfl
theorem q1326 : (Jvm.Cond.privateMethod ({ cls := "MoleBoard", name := "isHole", desc := "(J)Z" } : Jvm.MethodName)) ∈ lw_tbl := lw_at lw_m5 222 rfl
theorem q1327 : (Jvm.Cond.instanceMethod ({ cls := "MoleBoard", name := "isHole", desc := "(J)Z" } : Jvm.MethodName)) ∈ lw_all := lw_g (lw_at lw_m5 223 rfl) rfl
theorem q1328 : (Jvm.Cond.code ({ cls := "MoleBoard", name := "isHole", desc := "(J)Z" } : Jvm.MethodName) prog_1_method_17_code (3 : Nat) (Option.some Jvm.ClassFile.FieldType.boolean)) ∈ lw_all := lw_g (lw_at lw_m5 224 rfl) rfl
theorem q1329 : (Jvm.Cond.methodLink "MoleBoard" (155 : Nat) ({ cls := "MoleBoard$Board", name := "holes", desc := "()I" } : Jvm.MethodName)) ∈ lw_all := lw_g (lw_at lw_m5 225 rfl) rfl
theorem q1331 : (Jvm.Cond.instanceMethod ({ cls := "MoleBoard", name := "pace", desc := "(II)I" } : Jvm.MethodName)) ∈ lw_all := lw_g (lw_at lw_m5 227 rfl) rfl
theorem q1332 : (Jvm.Cond.selects "MoleBoard" ({ cls := "MoleBoard", name := "pace", desc := "(II)I" } : Jvm.MethodName) ({ cls := "MoleBoard", name := "pace", desc := "(II)I" } : Jvm.MethodName)) ∈ lw_all := lw_g (lw_at lw_m5 228 rfl) rfl
theorem q1333 : (Jvm.Cond.code ({ cls := "MoleBoard", name := "pace", desc := "(II)I" } : Jvm.MethodName) prog_1_method_33_code (3 : Nat) (Option.some Jvm.ClassFile.FieldType.int)) ∈ lw_all := lw_g (lw_at lw_m5 229 rfl) rfl
theorem q1334 : (Jvm.Cond.methodLink "MoleBoard" (253 : Nat) ({ cls := "MoleBoard$Player", name := "pace", desc := "(I)I" } : Jvm.MethodName)) ∈ lw_all := lw_g (lw_at lw_m5 230 rfl) rfl
theorem q1339 : (Jvm.Cond.instanceMethod ({ cls := "MoleBoard", name := "aware", desc := "(II)I" } : Jvm.MethodName)) ∈ lw_all := lw_g (lw_at lw_m5 235 rfl) rfl
theorem q1340 : (Jvm.Cond.selects "MoleBoard" ({ cls := "MoleBoard", name := "aware", desc := "(II)I" } : Jvm.MethodName) ({ cls := "MoleBoard", name := "aware", desc := "(II)I" } : Jvm.MethodName)) ∈ lw_all := lw_g (lw_at lw_m5 236 rfl) rfl
theorem q1341 : (Jvm.Cond.code ({ cls := "MoleBoard", name := "aware", desc := "(II)I" } : Jvm.MethodName) prog_1_method_35_code (4 : Nat) (Option.some Jvm.ClassFile.FieldType.int)) ∈ lw_all := lw_g (lw_at lw_m5 237 rfl) rfl
theorem q1342 : (Jvm.Cond.methodLink "MoleBoard" (259 : Nat) ({ cls := "MoleBoard", name := "awareOf", desc := "(LMoleBoard$Game;III)I" } : Jvm.MethodName)) ∈ lw_all := lw_g (lw_at lw_m5 238 rfl) rfl
theorem q1343 : (Jvm.Cond.static ({ cls := "MoleBoard", name := "awareOf", desc := "(LMoleBoard$Game;III)I" } : Jvm.MethodName)) ∈ lw_all := lw_g (lw_at lw_m5 239 rfl) rfl
theorem q1344 : (Jvm.Cond.code ({ cls := "MoleBoard", name := "awareOf", desc := "(LMoleBoard$Game;III)I" } : Jvm.MethodName) prog_1_method_34_code (5 : Nat) (Option.some Jvm.ClassFile.FieldType.int)) ∈ lw_all := lw_g (lw_at lw_m6 0 rfl) rfl
theorem q1345 : (Jvm.Cond.methodLink "MoleBoard" (256 : Nat) ({ cls := "java/lang/Math", name := "min", desc := "(II)I" } : Jvm.MethodName)) ∈ lw_all := lw_g (lw_at lw_m6 1 rfl) rfl
theorem q1347 : (Jvm.Cond.instanceMethod ({ cls := "MoleBoard", name := "hits", desc := "(I)I" } : Jvm.MethodName)) ∈ lw_all := lw_g (lw_at lw_m6 3 rfl) rfl
theorem q1348 : (Jvm.Cond.selects "MoleBoard" ({ cls := "MoleBoard", name := "hits", desc := "(I)I" } : Jvm.MethodName) ({ cls := "MoleBoard", name := "hits", desc := "(I)I" } : Jvm.MethodName)) ∈ lw_all := lw_g (lw_at lw_m6 4 rfl) rfl
theorem q1349 : (Jvm.Cond.code ({ cls := "MoleBoard", name := "hits", desc := "(I)I" } : Jvm.MethodName) prog_1_method_37_code (2 : Nat) (Option.some Jvm.ClassFile.FieldType.int)) ∈ lw_all := lw_g (lw_at lw_m6 5 rfl) rfl
theorem q1350 : (Jvm.Cond.methodLink "MoleBoard" (274 : Nat) ({ cls := "MoleBoard", name := "hitsOf", desc := "(I)I" } : Jvm.MethodName)) ∈ lw_all := lw_g (lw_at lw_m6 6 rfl) rfl
theorem q1351 : (Jvm.Cond.privateMethod ({ cls := "MoleBoard", name := "hitsOf", desc := "(I)I" } : Jvm.MethodName)) ∈ lw_tbl := lw_at lw_m6 7 rfl
theorem q1352 : (Jvm.Cond.instanceMethod ({ cls := "MoleBoard", name := "hitsOf", desc := "(I)I" } : Jvm.MethodName)) ∈ lw_all := lw_g (lw_at lw_m6 8 rfl) rfl
theorem q1353 : (Jvm.Cond.code ({ cls := "MoleBoard", name := "hitsOf", desc := "(I)I" } : Jvm.MethodName) prog_1_method_36_code (2 : Nat) (Option.some Jvm.ClassFile.FieldType.int)) ∈ lw_all := lw_g (lw_at lw_m6 9 rfl) rfl
theorem q1354 : (Jvm.Cond.methodLink "MoleBoard" (263 : Nat) ({ cls := "MoleBoard$Run", name := "plain", desc := "(I)LMoleBoard$Run;" } : Jvm.MethodName)) ∈ lw_all := lw_g (lw_at lw_m6 10 rfl) rfl
theorem q1359 : (Jvm.Cond.methodLink "MoleBoard" (267 : Nat) ({ cls := "MoleBoard$Run", name := "goes", desc := "(LMoleBoard$Game;)LMoleBoard$Run;" } : Jvm.MethodName)) ∈ lw_all := lw_g (lw_at lw_m6 15 rfl) rfl
theorem q1375 : (Jvm.Cond.instanceMethod ({ cls := "MoleBoard", name := "hit", desc := "(II)I" } : Jvm.MethodName)) ∈ lw_all := lw_g (lw_at lw_m6 31 rfl) rfl
theorem q1376 : (Jvm.Cond.selects "MoleBoard" ({ cls := "MoleBoard", name := "hit", desc := "(II)I" } : Jvm.MethodName) ({ cls := "MoleBoard", name := "hit", desc := "(II)I" } : Jvm.MethodName)) ∈ lw_all := lw_g (lw_at lw_m6 32 rfl) rfl
theorem q1377 : (Jvm.Cond.code ({ cls := "MoleBoard", name := "hit", desc := "(II)I" } : Jvm.MethodName) prog_1_method_38_code (4 : Nat) (Option.some Jvm.ClassFile.FieldType.int)) ∈ lw_all := lw_g (lw_at lw_m6 33 rfl) rfl
theorem q1379 : (Jvm.Cond.instanceMethod ({ cls := "MoleBoard", name := "twice", desc := "(II)I" } : Jvm.MethodName)) ∈ lw_all := lw_g (lw_at lw_m6 35 rfl) rfl
theorem q1380 : (Jvm.Cond.selects "MoleBoard" ({ cls := "MoleBoard", name := "twice", desc := "(II)I" } : Jvm.MethodName) ({ cls := "MoleBoard", name := "twice", desc := "(II)I" } : Jvm.MethodName)) ∈ lw_all := lw_g (lw_at lw_m6 36 rfl) rfl
theorem q1381 : (Jvm.Cond.code ({ cls := "MoleBoard", name := "twice", desc := "(II)I" } : Jvm.MethodName) prog_1_method_39_code (4 : Nat) (Option.some Jvm.ClassFile.FieldType.int)) ∈ lw_all := lw_g (lw_at lw_m6 37 rfl) rfl
theorem q1383 : (Jvm.Cond.instanceMethod ({ cls := "MoleBoard", name := "where", desc := "(II)I" } : Jvm.MethodName)) ∈ lw_all := lw_g (lw_at lw_m6 39 rfl) rfl
theorem q1384 : (Jvm.Cond.selects "MoleBoard" ({ cls := "MoleBoard", name := "where", desc := "(II)I" } : Jvm.MethodName) ({ cls := "MoleBoard", name := "where", desc := "(II)I" } : Jvm.MethodName)) ∈ lw_all := lw_g (lw_at lw_m6 40 rfl) rfl
theorem q1385 : (Jvm.Cond.code ({ cls := "MoleBoard", name := "where", desc := "(II)I" } : Jvm.MethodName) prog_1_method_40_code (5 : Nat) (Option.some Jvm.ClassFile.FieldType.int)) ∈ lw_all := lw_g (lw_at lw_m6 41 rfl) rfl
theorem q1387 : (Jvm.Cond.instanceMethod ({ cls := "MoleBoard", name := "missed", desc := "(I)I" } : Jvm.MethodName)) ∈ lw_all := lw_g (lw_at lw_m6 43 rfl) rfl
theorem q1388 : (Jvm.Cond.selects "MoleBoard" ({ cls := "MoleBoard", name := "missed", desc := "(I)I" } : Jvm.MethodName) ({ cls := "MoleBoard", name := "missed", desc := "(I)I" } : Jvm.MethodName)) ∈ lw_all := lw_g (lw_at lw_m6 44 rfl) rfl
theorem q1389 : (Jvm.Cond.code ({ cls := "MoleBoard", name := "missed", desc := "(I)I" } : Jvm.MethodName) prog_1_method_41_code (4 : Nat) (Option.some Jvm.ClassFile.FieldType.int)) ∈ lw_all := lw_g (lw_at lw_m6 45 rfl) rfl
theorem q1391 : (Jvm.Cond.instanceMethod ({ cls := "MoleBoard", name := "walked", desc := "(I)I" } : Jvm.MethodName)) ∈ lw_all := lw_g (lw_at lw_m6 47 rfl) rfl
theorem q1392 : (Jvm.Cond.selects "MoleBoard" ({ cls := "MoleBoard", name := "walked", desc := "(I)I" } : Jvm.MethodName) ({ cls := "MoleBoard", name := "walked", desc := "(I)I" } : Jvm.MethodName)) ∈ lw_all := lw_g (lw_at lw_m6 48 rfl) rfl
theorem q1393 : (Jvm.Cond.code ({ cls := "MoleBoard", name := "walked", desc := "(I)I" } : Jvm.MethodName) prog_1_method_42_code (2 : Nat) (Option.some Jvm.ClassFile.FieldType.int)) ∈ lw_all := lw_g (lw_at lw_m6 49 rfl) rfl
theorem q1395 : (Jvm.Cond.instanceMethod ({ cls := "MoleBoard", name := "best", desc := "(I)I" } : Jvm.MethodName)) ∈ lw_all := lw_g (lw_at lw_m6 51 rfl) rfl
theorem q1396 : (Jvm.Cond.selects "MoleBoard" ({ cls := "MoleBoard", name := "best", desc := "(I)I" } : Jvm.MethodName) ({ cls := "MoleBoard", name := "best", desc := "(I)I" } : Jvm.MethodName)) ∈ lw_all := lw_g (lw_at lw_m6 52 rfl) rfl
theorem q1397 : (Jvm.Cond.code ({ cls := "MoleBoard", name := "best", desc := "(I)I" } : Jvm.MethodName) prog_1_method_43_code (2 : Nat) (Option.some Jvm.ClassFile.FieldType.int)) ∈ lw_all := lw_g (lw_at lw_m6 53 rfl) rfl
theorem q1398 : (Jvm.Cond.methodLink "MoleBoard" (298 : Nat) ({ cls := "MoleBoard$Best", name := "goes", desc := "(ILMoleBoard$Game;I)I" } : Jvm.MethodName)) ∈ lw_all := lw_g (lw_at lw_m6 54 rfl) rfl
theorem q1428 : (Jvm.Cond.instanceMethod ({ cls := "MoleBoard", name := "ahead", desc := "(II)I" } : Jvm.MethodName)) ∈ lw_all := lw_g (lw_at lw_m6 84 rfl) rfl
theorem q1429 : (Jvm.Cond.selects "MoleBoard" ({ cls := "MoleBoard", name := "ahead", desc := "(II)I" } : Jvm.MethodName) ({ cls := "MoleBoard", name := "ahead", desc := "(II)I" } : Jvm.MethodName)) ∈ lw_all := lw_g (lw_at lw_m6 85 rfl) rfl
theorem q1430 : (Jvm.Cond.code ({ cls := "MoleBoard", name := "ahead", desc := "(II)I" } : Jvm.MethodName) prog_1_method_44_code (3 : Nat) (Option.some Jvm.ClassFile.FieldType.int)) ∈ lw_all := lw_g (lw_at lw_m6 86 rfl) rfl
theorem q1431 : (Jvm.Cond.constantLong "MoleBoard" (301 : Nat) (60 : Int64)) ∈ lw_all := lw_g (lw_at lw_m6 87 rfl) rfl
theorem q1433 : (Jvm.Cond.instanceMethod ({ cls := "MoleBoard", name := "learns", desc := "(II)I" } : Jvm.MethodName)) ∈ lw_all := lw_g (lw_at lw_m6 89 rfl) rfl
theorem q1434 : (Jvm.Cond.selects "MoleBoard" ({ cls := "MoleBoard", name := "learns", desc := "(II)I" } : Jvm.MethodName) ({ cls := "MoleBoard", name := "learns", desc := "(II)I" } : Jvm.MethodName)) ∈ lw_all := lw_g (lw_at lw_m6 90 rfl) rfl
theorem q1435 : (Jvm.Cond.code ({ cls := "MoleBoard", name := "learns", desc := "(II)I" } : Jvm.MethodName) prog_1_method_46_code (3 : Nat) (Option.some Jvm.ClassFile.FieldType.int)) ∈ lw_all := lw_g (lw_at lw_m6 91 rfl) rfl
theorem q1436 : (Jvm.Cond.constantLong "MoleBoard" (306 : Nat) (9 : Int64)) ∈ lw_all := lw_g (lw_at lw_m6 92 rfl) rfl
theorem q1437 : (Jvm.Cond.methodLink "MoleBoard" (308 : Nat) ({ cls := "MoleBoard", name := "learnsOf", desc := "(II)I" } : Jvm.MethodName)) ∈ lw_all := lw_g (lw_at lw_m6 93 rfl) rfl
theorem q1438 : (Jvm.Cond.privateMethod ({ cls := "MoleBoard", name := "learnsOf", desc := "(II)I" } : Jvm.MethodName)) ∈ lw_tbl := lw_at lw_m6 94 rfl
theorem q1439 : (Jvm.Cond.instanceMethod ({ cls := "MoleBoard", name := "learnsOf", desc := "(II)I" } : Jvm.MethodName)) ∈ lw_all := lw_g (lw_at lw_m6 95 rfl) rfl
theorem q1440 : (Jvm.Cond.code ({ cls := "MoleBoard", name := "learnsOf", desc := "(II)I" } : Jvm.MethodName) prog_1_method_45_code (3 : Nat) (Option.some Jvm.ClassFile.FieldType.int)) ∈ lw_all := lw_g (lw_at lw_m6 96 rfl) rfl
theorem q1442 : (Jvm.Cond.instanceMethod ({ cls := "MoleBoard", name := "enough", desc := "(I)I" } : Jvm.MethodName)) ∈ lw_all := lw_g (lw_at lw_m6 98 rfl) rfl
theorem q1443 : (Jvm.Cond.selects "MoleBoard" ({ cls := "MoleBoard", name := "enough", desc := "(I)I" } : Jvm.MethodName) ({ cls := "MoleBoard", name := "enough", desc := "(I)I" } : Jvm.MethodName)) ∈ lw_all := lw_g (lw_at lw_m6 99 rfl) rfl
theorem q1444 : (Jvm.Cond.code ({ cls := "MoleBoard", name := "enough", desc := "(I)I" } : Jvm.MethodName) prog_1_method_47_code (4 : Nat) (Option.some Jvm.ClassFile.FieldType.int)) ∈ lw_all := lw_g (lw_at lw_m6 100 rfl) rfl
theorem q1446 : (Jvm.Cond.instanceMethod ({ cls := "MoleBoard", name := "waits", desc := "(II)I" } : Jvm.MethodName)) ∈ lw_all := lw_g (lw_at lw_m6 102 rfl) rfl
theorem q1447 : (Jvm.Cond.selects "MoleBoard" ({ cls := "MoleBoard", name := "waits", desc := "(II)I" } : Jvm.MethodName) ({ cls := "MoleBoard", name := "waits", desc := "(II)I" } : Jvm.MethodName)) ∈ lw_all := lw_g (lw_at lw_m6 103 rfl) rfl
theorem q1448 : (Jvm.Cond.code ({ cls := "MoleBoard", name := "waits", desc := "(II)I" } : Jvm.MethodName) prog_1_method_49_code (5 : Nat) (Option.some Jvm.ClassFile.FieldType.int)) ∈ lw_all := lw_g (lw_at lw_m6 104 rfl) rfl
theorem q1449 : (Jvm.Cond.methodLink "MoleBoard" (311 : Nat) ({ cls := "MoleBoard", name := "waitsOf", desc := "(II)I" } : Jvm.MethodName)) ∈ lw_all := lw_g (lw_at lw_m6 105 rfl) rfl
theorem q1450 : (Jvm.Cond.privateMethod ({ cls := "MoleBoard", name := "waitsOf", desc := "(II)I" } : Jvm.MethodName)) ∈ lw_tbl := lw_at lw_m6 106 rfl
theorem q1451 : (Jvm.Cond.instanceMethod ({ cls := "MoleBoard", name := "waitsOf", desc := "(II)I" } : Jvm.MethodName)) ∈ lw_all := lw_g (lw_at lw_m6 107 rfl) rfl
theorem q1452 : (Jvm.Cond.code ({ cls := "MoleBoard", name := "waitsOf", desc := "(II)I" } : Jvm.MethodName) prog_1_method_48_code (3 : Nat) (Option.some Jvm.ClassFile.FieldType.int)) ∈ lw_all := lw_g (lw_at lw_m6 108 rfl) rfl
theorem q1454 : (Jvm.Cond.instanceMethod ({ cls := "MoleBoard", name := "mean", desc := "(II)I" } : Jvm.MethodName)) ∈ lw_all := lw_g (lw_at lw_m6 110 rfl) rfl
theorem q1455 : (Jvm.Cond.selects "MoleBoard" ({ cls := "MoleBoard", name := "mean", desc := "(II)I" } : Jvm.MethodName) ({ cls := "MoleBoard", name := "mean", desc := "(II)I" } : Jvm.MethodName)) ∈ lw_all := lw_g (lw_at lw_m6 111 rfl) rfl
theorem q1456 : (Jvm.Cond.code ({ cls := "MoleBoard", name := "mean", desc := "(II)I" } : Jvm.MethodName) prog_1_method_52_code (5 : Nat) (Option.some Jvm.ClassFile.FieldType.int)) ∈ lw_all := lw_g (lw_at lw_m6 112 rfl) rfl
theorem q1457 : (Jvm.Cond.methodLink "MoleBoard" (318 : Nat) ({ cls := "MoleBoard", name := "openOnes", desc := "()I" } : Jvm.MethodName)) ∈ lw_all := lw_g (lw_at lw_m6 113 rfl) rfl
theorem q1458 : (Jvm.Cond.privateMethod ({ cls := "MoleBoard", name := "openOnes", desc := "()I" } : Jvm.MethodName)) ∈ lw_tbl := lw_at lw_m6 114 rfl
theorem q1459 : (Jvm.Cond.instanceMethod ({ cls := "MoleBoard", name := "openOnes", desc := "()I" } : Jvm.MethodName)) ∈ lw_all := lw_g (lw_at lw_m6 115 rfl) rfl
theorem q1460 : (Jvm.Cond.code ({ cls := "MoleBoard", name := "openOnes", desc := "()I" } : Jvm.MethodName) prog_1_method_20_code (3 : Nat) (Option.some Jvm.ClassFile.FieldType.int)) ∈ lw_all := lw_g (lw_at lw_m6 116 rfl) rfl
theorem q1461 : (Jvm.Cond.methodLink "MoleBoard" (321 : Nat) ({ cls := "MoleBoard", name := "stepsFrom", desc := "(I)I" } : Jvm.MethodName)) ∈ lw_all := lw_g (lw_at lw_m6 117 rfl) rfl
theorem q1462 : (Jvm.Cond.privateMethod ({ cls := "MoleBoard", name := "stepsFrom", desc := "(I)I" } : Jvm.MethodName)) ∈ lw_tbl := lw_at lw_m6 118 rfl
theorem q1463 : (Jvm.Cond.instanceMethod ({ cls := "MoleBoard", name := "stepsFrom", desc := "(I)I" } : Jvm.MethodName)) ∈ lw_all := lw_g (lw_at lw_m6 119 rfl) rfl
theorem q1464 : (Jvm.Cond.code ({ cls := "MoleBoard", name := "stepsFrom", desc := "(I)I" } : Jvm.MethodName) prog_1_method_51_code (4 : Nat) (Option.some Jvm.ClassFile.FieldType.int)) ∈ lw_all := lw_g (lw_at lw_m6 120 rfl) rfl
theorem q1465 : (Jvm.Cond.methodLink "MoleBoard" (314 : Nat) ({ cls := "MoleBoard", name := "common", desc := "(JJ)J" } : Jvm.MethodName)) ∈ lw_all := lw_g (lw_at lw_m6 121 rfl) rfl
theorem q1466 : (Jvm.Cond.static ({ cls := "MoleBoard", name := "common", desc := "(JJ)J" } : Jvm.MethodName)) ∈ lw_all := lw_g (lw_at lw_m6 122 rfl) rfl
theorem q1467 : (Jvm.Cond.code ({ cls := "MoleBoard", name := "common", desc := "(JJ)J" } : Jvm.MethodName) prog_1_method_50_code (4 : Nat) (Option.some Jvm.ClassFile.FieldType.long)) ∈ lw_all := lw_g (lw_at lw_m6 123 rfl) rfl
theorem q1469 : (Jvm.Cond.instanceMethod ({ cls := "MoleBoard", name := "middle", desc := "(I)I" } : Jvm.MethodName)) ∈ lw_all := lw_g (lw_at lw_m6 125 rfl) rfl
theorem q1470 : (Jvm.Cond.selects "MoleBoard" ({ cls := "MoleBoard", name := "middle", desc := "(I)I" } : Jvm.MethodName) ({ cls := "MoleBoard", name := "middle", desc := "(I)I" } : Jvm.MethodName)) ∈ lw_all := lw_g (lw_at lw_m6 126 rfl) rfl
theorem q1471 : (Jvm.Cond.code ({ cls := "MoleBoard", name := "middle", desc := "(I)I" } : Jvm.MethodName) prog_1_method_53_code (4 : Nat) (Option.some Jvm.ClassFile.FieldType.int)) ∈ lw_all := lw_g (lw_at lw_m6 127 rfl) rfl
theorem q1473 : (Jvm.Cond.instanceMethod ({ cls := "MoleBoard", name := "reach", desc := "(II)I" } : Jvm.MethodName)) ∈ lw_all := lw_g (lw_at lw_m6 129 rfl) rfl
theorem q1474 : (Jvm.Cond.selects "MoleBoard" ({ cls := "MoleBoard", name := "reach", desc := "(II)I" } : Jvm.MethodName) ({ cls := "MoleBoard", name := "reach", desc := "(II)I" } : Jvm.MethodName)) ∈ lw_all := lw_g (lw_at lw_m6 130 rfl) rfl
theorem q1475 : (Jvm.Cond.code ({ cls := "MoleBoard", name := "reach", desc := "(II)I" } : Jvm.MethodName) prog_1_method_55_code (3 : Nat) (Option.some Jvm.ClassFile.FieldType.int)) ∈ lw_all := lw_g (lw_at lw_m6 131 rfl) rfl
theorem q1476 : (Jvm.Cond.methodLink "MoleBoard" (324 : Nat) ({ cls := "MoleBoard", name := "reachOf", desc := "(LMoleBoard$Player;I)I" } : Jvm.MethodName)) ∈ lw_all := lw_g (lw_at lw_m6 132 rfl) rfl
theorem q1477 : (Jvm.Cond.privateMethod ({ cls := "MoleBoard", name := "reachOf", desc := "(LMoleBoard$Player;I)I" } : Jvm.MethodName)) ∈ lw_tbl := lw_at lw_m6 133 rfl
theorem q1478 : (Jvm.Cond.instanceMethod ({ cls := "MoleBoard", name := "reachOf", desc := "(LMoleBoard$Player;I)I" } : Jvm.MethodName)) ∈ lw_all := lw_g (lw_at lw_m6 134 rfl) rfl
theorem q1479 : (Jvm.Cond.code ({ cls := "MoleBoard", name := "reachOf", desc := "(LMoleBoard$Player;I)I" } : Jvm.MethodName) prog_1_method_54_code (6 : Nat) (Option.some Jvm.ClassFile.FieldType.int)) ∈ lw_all := lw_g (lw_at lw_m6 135 rfl) rfl
theorem q1481 : (Jvm.Cond.instanceMethod ({ cls := "MoleBoard", name := "post", desc := "(I)I" } : Jvm.MethodName)) ∈ lw_all := lw_g (lw_at lw_m6 137 rfl) rfl
theorem q1482 : (Jvm.Cond.selects "MoleBoard" ({ cls := "MoleBoard", name := "post", desc := "(I)I" } : Jvm.MethodName) ({ cls := "MoleBoard", name := "post", desc := "(I)I" } : Jvm.MethodName)) ∈ lw_all := lw_g (lw_at lw_m6 138 rfl) rfl
theorem q1483 : (Jvm.Cond.code ({ cls := "MoleBoard", name := "post", desc := "(I)I" } : Jvm.MethodName) prog_1_method_56_code (4 : Nat) (Option.some Jvm.ClassFile.FieldType.int)) ∈ lw_all := lw_g (lw_at lw_m6 139 rfl) rfl
theorem q1484 : (Jvm.Cond.methodLink "MoleBoard" (328 : Nat) ({ cls := "java/lang/Integer", name := "bitCount", desc := "(I)I" } : Jvm.MethodName)) ∈ lw_all := lw_g (lw_at lw_m6 140 rfl) rfl
theorem q1491 : (Jvm.Cond.instanceMethod ({ cls := "MoleBoard", name := "slack", desc := "(I)I" } : Jvm.MethodName)) ∈ lw_all := lw_g (lw_at lw_m6 147 rfl) rfl
theorem q1492 : (Jvm.Cond.selects "MoleBoard" ({ cls := "MoleBoard", name := "slack", desc := "(I)I" } : Jvm.MethodName) ({ cls := "MoleBoard", name := "slack", desc := "(I)I" } : Jvm.MethodName)) ∈ lw_all := lw_g (lw_at lw_m6 148 rfl) rfl
theorem q1493 : (Jvm.Cond.code ({ cls := "MoleBoard", name := "slack", desc := "(I)I" } : Jvm.MethodName) prog_1_method_58_code (3 : Nat) (Option.some Jvm.ClassFile.FieldType.int)) ∈ lw_all := lw_g (lw_at lw_m6 149 rfl) rfl
theorem q1494 : (Jvm.Cond.methodLink "MoleBoard" (336 : Nat) ({ cls := "MoleBoard", name := "laggingHits", desc := "(II)I" } : Jvm.MethodName)) ∈ lw_all := lw_g (lw_at lw_m6 150 rfl) rfl
theorem q1495 : (Jvm.Cond.privateMethod ({ cls := "MoleBoard", name := "laggingHits", desc := "(II)I" } : Jvm.MethodName)) ∈ lw_tbl := lw_at lw_m6 151 rfl
theorem q1496 : (Jvm.Cond.instanceMethod ({ cls := "MoleBoard", name := "laggingHits", desc := "(II)I" } : Jvm.MethodName)) ∈ lw_all := lw_g (lw_at lw_m6 152 rfl) rfl
theorem q1497 : (Jvm.Cond.code ({ cls := "MoleBoard", name := "laggingHits", desc := "(II)I" } : Jvm.MethodName) prog_1_method_57_code (3 : Nat) (Option.some Jvm.ClassFile.FieldType.int)) ∈ lw_all := lw_g (lw_at lw_m6 153 rfl) rfl
theorem q1499 : (Jvm.Cond.instanceMethod ({ cls := "MoleBoard", name := "rows", desc := "(II)J" } : Jvm.MethodName)) ∈ lw_all := lw_g (lw_at lw_m6 155 rfl) rfl
theorem q1500 : (Jvm.Cond.selects "MoleBoard" ({ cls := "MoleBoard", name := "rows", desc := "(II)J" } : Jvm.MethodName) ({ cls := "MoleBoard", name := "rows", desc := "(II)J" } : Jvm.MethodName)) ∈ lw_all := lw_g (lw_at lw_m6 156 rfl) rfl
theorem q1501 : (Jvm.Cond.code ({ cls := "MoleBoard", name := "rows", desc := "(II)J" } : Jvm.MethodName) prog_1_method_60_code (3 : Nat) (Option.some Jvm.ClassFile.FieldType.long)) ∈ lw_all := lw_g (lw_at lw_m6 157 rfl) rfl
theorem q1502 : (Jvm.Cond.methodLink "MoleBoard" (339 : Nat) ({ cls := "MoleBoard", name := "isLaw", desc := "(I)Z" } : Jvm.MethodName)) ∈ lw_all := lw_g (lw_at lw_m6 158 rfl) rfl
theorem q1503 : (Jvm.Cond.static ({ cls := "MoleBoard", name := "isLaw", desc := "(I)Z" } : Jvm.MethodName)) ∈ lw_all := lw_g (lw_at lw_m6 159 rfl) rfl
theorem q1504 : (Jvm.Cond.code ({ cls := "MoleBoard", name := "isLaw", desc := "(I)Z" } : Jvm.MethodName) prog_1_method_59_code (1 : Nat) (Option.some Jvm.ClassFile.FieldType.boolean)) ∈ lw_all := lw_g (lw_at lw_m6 160 rfl) rfl
theorem q1505 : (Jvm.Cond.constantLong "MoleBoard" (342 : Nat) (12 : Int64)) ∈ lw_all := lw_g (lw_at lw_m6 161 rfl) rfl
theorem q1506 : (Jvm.Cond.methodLink "MoleBoard" (344 : Nat) ({ cls := "MoleBoard$Lots", name := "lays", desc := "(II)LMoleBoard$Lots;" } : Jvm.MethodName)) ∈ lw_all := lw_g (lw_at lw_m6 162 rfl) rfl
theorem q1522 : (Jvm.Cond.methodLink "MoleBoard" (347 : Nat) ({ cls := "MoleBoard$Lots", name := "all", desc := "()J" } : Jvm.MethodName)) ∈ lw_all := lw_g (lw_at lw_m6 178 rfl) rfl
theorem q1530 : (Jvm.Cond.constantLong "MoleBoard" (351 : Nat) (-2 : Int64)) ∈ lw_all := lw_g (lw_at lw_m6 186 rfl) rfl
theorem q1532 : (Jvm.Cond.instanceMethod ({ cls := "MoleBoard", name := "ends", desc := "(III)J" } : Jvm.MethodName)) ∈ lw_all := lw_g (lw_at lw_m6 188 rfl) rfl
theorem q1533 : (Jvm.Cond.selects "MoleBoard" ({ cls := "MoleBoard", name := "ends", desc := "(III)J" } : Jvm.MethodName) ({ cls := "MoleBoard", name := "ends", desc := "(III)J" } : Jvm.MethodName)) ∈ lw_all := lw_g (lw_at lw_m6 189 rfl) rfl
theorem q1534 : (Jvm.Cond.code ({ cls := "MoleBoard", name := "ends", desc := "(III)J" } : Jvm.MethodName) prog_1_method_61_code (4 : Nat) (Option.some Jvm.ClassFile.FieldType.long)) ∈ lw_all := lw_g (lw_at lw_m6 190 rfl) rfl
theorem q1535 : (Jvm.Cond.methodLink "MoleBoard" (353 : Nat) ({ cls := "MoleBoard$Lots", name := "ends", desc := "(I)J" } : Jvm.MethodName)) ∈ lw_all := lw_g (lw_at lw_m6 191 rfl) rfl
theorem q1537 : (Jvm.Cond.instanceMethod ({ cls := "MoleBoard", name := "fair", desc := "(I)I" } : Jvm.MethodName)) ∈ lw_all := lw_g (lw_at lw_m6 193 rfl) rfl
theorem q1538 : (Jvm.Cond.selects "MoleBoard" ({ cls := "MoleBoard", name := "fair", desc := "(I)I" } : Jvm.MethodName) ({ cls := "MoleBoard", name := "fair", desc := "(I)I" } : Jvm.MethodName)) ∈ lw_all := lw_g (lw_at lw_m6 194 rfl) rfl
theorem q1539 : (Jvm.Cond.code ({ cls := "MoleBoard", name := "fair", desc := "(I)I" } : Jvm.MethodName) prog_1_method_62_code (3 : Nat) (Option.some Jvm.ClassFile.FieldType.int)) ∈ lw_all := lw_g (lw_at lw_m6 195 rfl) rfl
theorem q1540 : (Jvm.Cond.methodLink "MoleBoard" (357 : Nat) ({ cls := "MoleBoard$Lots", name := "isEven", desc := "()Z" } : Jvm.MethodName)) ∈ lw_all := lw_g (lw_at lw_m6 196 rfl) rfl
theorem q1546 : (Jvm.Cond.instanceMethod ({ cls := "MoleBoard", name := "breaks", desc := "(I)I" } : Jvm.MethodName)) ∈ lw_all := lw_g (lw_at lw_m6 202 rfl) rfl
theorem q1547 : (Jvm.Cond.selects "MoleBoard" ({ cls := "MoleBoard", name := "breaks", desc := "(I)I" } : Jvm.MethodName) ({ cls := "MoleBoard", name := "breaks", desc := "(I)I" } : Jvm.MethodName)) ∈ lw_all := lw_g (lw_at lw_m6 203 rfl) rfl
theorem q1548 : (Jvm.Cond.code ({ cls := "MoleBoard", name := "breaks", desc := "(I)I" } : Jvm.MethodName) prog_1_method_64_code (3 : Nat) (Option.some Jvm.ClassFile.FieldType.int)) ∈ lw_all := lw_g (lw_at lw_m6 204 rfl) rfl
theorem q1549 : (Jvm.Cond.methodLink "MoleBoard" (363 : Nat) ({ cls := "MoleBoard", name := "holeOf", desc := "(I)I" } : Jvm.MethodName)) ∈ lw_all := lw_g (lw_at lw_m6 205 rfl) rfl
theorem q1550 : (Jvm.Cond.privateMethod ({ cls := "MoleBoard", name := "holeOf", desc := "(I)I" } : Jvm.MethodName)) ∈ lw_tbl := lw_at lw_m6 206 rfl
theorem q1551 : (Jvm.Cond.instanceMethod ({ cls := "MoleBoard", name := "holeOf", desc := "(I)I" } : Jvm.MethodName)) ∈ lw_all := lw_g (lw_at lw_m6 207 rfl) rfl
theorem q1552 : (Jvm.Cond.code ({ cls := "MoleBoard", name := "holeOf", desc := "(I)I" } : Jvm.MethodName) prog_1_method_63_code (2 : Nat) (Option.some Jvm.ClassFile.FieldType.int)) ∈ lw_all := lw_g (lw_at lw_m6 208 rfl) rfl
theorem q1553 : (Jvm.Cond.methodLink "MoleBoard" (360 : Nat) ({ cls := "java/lang/Math", name := "floorMod", desc := "(II)I" } : Jvm.MethodName)) ∈ lw_all := lw_g (lw_at lw_m6 209 rfl) rfl
theorem q1556 : (Jvm.Cond.methodLink "MoleBoard" (366 : Nat) ({ cls := "MoleBoard", name := "mayFollow", desc := "(IIII)Z" } : Jvm.MethodName)) ∈ lw_all := lw_g (lw_at lw_m6 212 rfl) rfl
theorem q1558 : (Jvm.Cond.instanceMethod ({ cls := "MoleBoard", name := "period", desc := "(I)I" } : Jvm.MethodName)) ∈ lw_all := lw_g (lw_at lw_m6 214 rfl) rfl
theorem q1559 : (Jvm.Cond.selects "MoleBoard" ({ cls := "MoleBoard", name := "period", desc := "(I)I" } : Jvm.MethodName) ({ cls := "MoleBoard", name := "period", desc := "(I)I" } : Jvm.MethodName)) ∈ lw_all := lw_g (lw_at lw_m6 215 rfl) rfl
theorem q1560 : (Jvm.Cond.code ({ cls := "MoleBoard", name := "period", desc := "(I)I" } : Jvm.MethodName) prog_1_method_68_code (3 : Nat) (Option.some Jvm.ClassFile.FieldType.int)) ∈ lw_all := lw_g (lw_at lw_m6 216 rfl) rfl
theorem q1561 : (Jvm.Cond.methodLink "MoleBoard" (383 : Nat) ({ cls := "MoleBoard", name := "whyNot", desc := "(I)I" } : Jvm.MethodName)) ∈ lw_all := lw_g (lw_at lw_m6 217 rfl) rfl
theorem q1562 : (Jvm.Cond.privateMethod ({ cls := "MoleBoard", name := "whyNot", desc := "(I)I" } : Jvm.MethodName)) ∈ lw_tbl := lw_at lw_m6 218 rfl
theorem q1563 : (Jvm.Cond.instanceMethod ({ cls := "MoleBoard", name := "whyNot", desc := "(I)I" } : Jvm.MethodName)) ∈ lw_all := lw_g (lw_at lw_m6 219 rfl) rfl
theorem q1564 : (Jvm.Cond.code ({ cls := "MoleBoard", name := "whyNot", desc := "(I)I" } : Jvm.MethodName) prog_1_method_65_code (4 : Nat) (Option.some Jvm.ClassFile.FieldType.int)) ∈ lw_all := lw_g (lw_at lw_m6 220 rfl) rfl
theorem q1565 : (Jvm.Cond.methodLink "MoleBoard" (374 : Nat) ({ cls := "MoleBoard$Slot", name := "many", desc := "()I" } : Jvm.MethodName)) ∈ lw_all := lw_g (lw_at lw_m6 221 rfl) rfl
theorem q1569 : (Jvm.Cond.methodLink "MoleBoard" (376 : Nat) ({ cls := "MoleBoard$Slot", name := "number", desc := "(I)J" } : Jvm.MethodName)) ∈ lw_all := lw_g (lw_at lw_m6 225 rfl) rfl
theorem q1573 : (Jvm.Cond.methodLink "MoleBoard" (386 : Nat) ({ cls := "MoleBoard", name := "leastPeriod", desc := "(LMoleBoard$Slot;)I" } : Jvm.MethodName)) ∈ lw_all := lw_g (lw_at lw_m6 229 rfl) rfl
theorem q1574 : (Jvm.Cond.static ({ cls := "MoleBoard", name := "leastPeriod", desc := "(LMoleBoard$Slot;)I" } : Jvm.MethodName)) ∈ lw_all := lw_g (lw_at lw_m6 230 rfl) rfl
theorem q1575 : (Jvm.Cond.code ({ cls := "MoleBoard", name := "leastPeriod", desc := "(LMoleBoard$Slot;)I" } : Jvm.MethodName) prog_1_method_67_code (2 : Nat) (Option.some Jvm.ClassFile.FieldType.int)) ∈ lw_all := lw_g (lw_at lw_m6 231 rfl) rfl
theorem q1576 : (Jvm.Cond.methodLink "MoleBoard" (379 : Nat) ({ cls := "MoleBoard", name := "isPeriod", desc := "(LMoleBoard$Slot;I)Z" } : Jvm.MethodName)) ∈ lw_all := lw_g (lw_at lw_m6 232 rfl) rfl
theorem q1577 : (Jvm.Cond.static ({ cls := "MoleBoard", name := "isPeriod", desc := "(LMoleBoard$Slot;I)Z" } : Jvm.MethodName)) ∈ lw_all := lw_g (lw_at lw_m6 233 rfl) rfl
theorem q1578 : (Jvm.Cond.code ({ cls := "MoleBoard", name := "isPeriod", desc := "(LMoleBoard$Slot;I)Z" } : Jvm.MethodName) prog_1_method_66_code (3 : Nat) (Option.some Jvm.ClassFile.FieldType.boolean)) ∈ lw_all := lw_g (lw_at lw_m6 234 rfl) rfl
theorem q1580 : (Jvm.Cond.instanceMethod ({ cls := "MoleBoard", name := "periods", desc := "(I)I" } : Jvm.MethodName)) ∈ lw_all := lw_g (lw_at lw_m6 236 rfl) rfl
theorem q1581 : (Jvm.Cond.selects "MoleBoard" ({ cls := "MoleBoard", name := "periods", desc := "(I)I" } : Jvm.MethodName) ({ cls := "MoleBoard", name := "periods", desc := "(I)I" } : Jvm.MethodName)) ∈ lw_all := lw_g (lw_at lw_m6 237 rfl) rfl
theorem q1582 : (Jvm.Cond.code ({ cls := "MoleBoard", name := "periods", desc := "(I)I" } : Jvm.MethodName) prog_1_method_69_code (5 : Nat) (Option.some Jvm.ClassFile.FieldType.int)) ∈ lw_all := lw_g (lw_at lw_m6 238 rfl) rfl
theorem q1584 : (Jvm.Cond.instanceMethod ({ cls := "MoleBoard", name := "luck", desc := "(I)I" } : Jvm.MethodName)) ∈ lw_all := lw_g (lw_at lw_m7 0 rfl) rfl
theorem q1585 : (Jvm.Cond.selects "MoleBoard" ({ cls := "MoleBoard", name := "luck", desc := "(I)I" } : Jvm.MethodName) ({ cls := "MoleBoard", name := "luck", desc := "(I)I" } : Jvm.MethodName)) ∈ lw_all := lw_g (lw_at lw_m7 1 rfl) rfl
theorem q1586 : (Jvm.Cond.code ({ cls := "MoleBoard", name := "luck", desc := "(I)I" } : Jvm.MethodName) prog_1_method_70_code (7 : Nat) (Option.some Jvm.ClassFile.FieldType.int)) ∈ lw_all := lw_g (lw_at lw_m7 2 rfl) rfl
theorem q1587 : (Jvm.Cond.constantLong "MoleBoard" (390 : Nat) (1000000000 : Int64)) ∈ lw_all := lw_g (lw_at lw_m7 3 rfl) rfl
theorem q1589 : (Jvm.Cond.instanceMethod ({ cls := "MoleBoard", name := "fits", desc := "(I)I" } : Jvm.MethodName)) ∈ lw_all := lw_g (lw_at lw_m7 5 rfl) rfl
theorem q1590 : (Jvm.Cond.selects "MoleBoard" ({ cls := "MoleBoard", name := "fits", desc := "(I)I" } : Jvm.MethodName) ({ cls := "MoleBoard", name := "fits", desc := "(I)I" } : Jvm.MethodName)) ∈ lw_all := lw_g (lw_at lw_m7 6 rfl) rfl
theorem q1591 : (Jvm.Cond.code ({ cls := "MoleBoard", name := "fits", desc := "(I)I" } : Jvm.MethodName) prog_1_method_72_code (5 : Nat) (Option.some Jvm.ClassFile.FieldType.int)) ∈ lw_all := lw_g (lw_at lw_m7 7 rfl) rfl
theorem q1592 : (Jvm.Cond.methodLink "MoleBoard" (392 : Nat) ({ cls := "MoleBoard", name := "isFit", desc := "(LMoleBoard$Slot;I)Z" } : Jvm.MethodName)) ∈ lw_all := lw_g (lw_at lw_m7 8 rfl) rfl
theorem q1593 : (Jvm.Cond.privateMethod ({ cls := "MoleBoard", name := "isFit", desc := "(LMoleBoard$Slot;I)Z" } : Jvm.MethodName)) ∈ lw_tbl := lw_at lw_m7 9 rfl
theorem q1594 : (Jvm.Cond.instanceMethod ({ cls := "MoleBoard", name := "isFit", desc := "(LMoleBoard$Slot;I)Z" } : Jvm.MethodName)) ∈ lw_all := lw_g (lw_at lw_m7 10 rfl) rfl
theorem q1595 : (Jvm.Cond.code ({ cls := "MoleBoard", name := "isFit", desc := "(LMoleBoard$Slot;I)Z" } : Jvm.MethodName) prog_1_method_71_code (4 : Nat) (Option.some Jvm.ClassFile.FieldType.boolean)) ∈ lw_all := lw_g (lw_at lw_m7 11 rfl) rfl
theorem q1597 : (Jvm.Cond.instanceMethod ({ cls := "MoleBoard", name := "place", desc := "(II)I" } : Jvm.MethodName)) ∈ lw_all := lw_g (lw_at lw_m7 13 rfl) rfl
theorem q1598 : (Jvm.Cond.selects "MoleBoard" ({ cls := "MoleBoard", name := "place", desc := "(II)I" } : Jvm.MethodName) ({ cls := "MoleBoard", name := "place", desc := "(II)I" } : Jvm.MethodName)) ∈ lw_all := lw_g (lw_at lw_m7 14 rfl) rfl
theorem q1599 : (Jvm.Cond.code ({ cls := "MoleBoard", name := "place", desc := "(II)I" } : Jvm.MethodName) prog_1_method_73_code (6 : Nat) (Option.some Jvm.ClassFile.FieldType.int)) ∈ lw_all := lw_g (lw_at lw_m7 15 rfl) rfl
theorem q1601 : (Jvm.Cond.instanceMethod ({ cls := "MoleBoard", name := "next", desc := "(I)I" } : Jvm.MethodName)) ∈ lw_all := lw_g (lw_at lw_m7 17 rfl) rfl
theorem q1602 : (Jvm.Cond.selects "MoleBoard" ({ cls := "MoleBoard", name := "next", desc := "(I)I" } : Jvm.MethodName) ({ cls := "MoleBoard", name := "next", desc := "(I)I" } : Jvm.MethodName)) ∈ lw_all := lw_g (lw_at lw_m7 18 rfl) rfl
theorem q1603 : (Jvm.Cond.code ({ cls := "MoleBoard", name := "next", desc := "(I)I" } : Jvm.MethodName) prog_1_method_74_code (6 : Nat) (Option.some Jvm.ClassFile.FieldType.int)) ∈ lw_all := lw_g (lw_at lw_m7 19 rfl) rfl
theorem q1605 : (Jvm.Cond.instanceMethod ({ cls := "MoleBoard", name := "needed", desc := "(I)I" } : Jvm.MethodName)) ∈ lw_all := lw_g (lw_at lw_m7 21 rfl) rfl
theorem q1606 : (Jvm.Cond.selects "MoleBoard" ({ cls := "MoleBoard", name := "needed", desc := "(I)I" } : Jvm.MethodName) ({ cls := "MoleBoard", name := "needed", desc := "(I)I" } : Jvm.MethodName)) ∈ lw_all := lw_g (lw_at lw_m7 22 rfl) rfl
theorem q1607 : (Jvm.Cond.code ({ cls := "MoleBoard", name := "needed", desc := "(I)I" } : Jvm.MethodName) prog_1_method_76_code (2 : Nat) (Option.some Jvm.ClassFile.FieldType.int)) ∈ lw_all := lw_g (lw_at lw_m7 23 rfl) rfl
theorem q1608 : (Jvm.Cond.methodLink "MoleBoard" (395 : Nat) ({ cls := "MoleBoard", name := "neededOf", desc := "(I)I" } : Jvm.MethodName)) ∈ lw_all := lw_g (lw_at lw_m7 24 rfl) rfl
theorem q1609 : (Jvm.Cond.privateMethod ({ cls := "MoleBoard", name := "neededOf", desc := "(I)I" } : Jvm.MethodName)) ∈ lw_tbl := lw_at lw_m7 25 rfl
theorem q1610 : (Jvm.Cond.instanceMethod ({ cls := "MoleBoard", name := "neededOf", desc := "(I)I" } : Jvm.MethodName)) ∈ lw_all := lw_g (lw_at lw_m7 26 rfl) rfl
theorem q1611 : (Jvm.Cond.code ({ cls := "MoleBoard", name := "neededOf", desc := "(I)I" } : Jvm.MethodName) prog_1_method_75_code (8 : Nat) (Option.some Jvm.ClassFile.FieldType.int)) ∈ lw_all := lw_g (lw_at lw_m7 27 rfl) rfl
theorem q1613 : (Jvm.Cond.instanceMethod ({ cls := "MoleBoard", name := "known", desc := "()I" } : Jvm.MethodName)) ∈ lw_all := lw_g (lw_at lw_m7 29 rfl) rfl
theorem q1614 : (Jvm.Cond.selects "MoleBoard" ({ cls := "MoleBoard", name := "known", desc := "()I" } : Jvm.MethodName) ({ cls := "MoleBoard", name := "known", desc := "()I" } : Jvm.MethodName)) ∈ lw_all := lw_g (lw_at lw_m7 30 rfl) rfl
theorem q1615 : (Jvm.Cond.code ({ cls := "MoleBoard", name := "known", desc := "()I" } : Jvm.MethodName) prog_1_method_77_code (4 : Nat) (Option.some Jvm.ClassFile.FieldType.int)) ∈ lw_all := lw_g (lw_at lw_m7 31 rfl) rfl
theorem q1616 : (Jvm.Cond.methodLink "MoleBoard" (398 : Nat) ({ cls := "java/lang/Math", name := "max", desc := "(II)I" } : Jvm.MethodName)) ∈ lw_all := lw_g (lw_at lw_m7 32 rfl) rfl
theorem q1618 : (Jvm.Cond.instanceMethod ({ cls := "MoleBoard", name := "rash", desc := "(I)I" } : Jvm.MethodName)) ∈ lw_all := lw_g (lw_at lw_m7 34 rfl) rfl
theorem q1619 : (Jvm.Cond.selects "MoleBoard" ({ cls := "MoleBoard", name := "rash", desc := "(I)I" } : Jvm.MethodName) ({ cls := "MoleBoard", name := "rash", desc := "(I)I" } : Jvm.MethodName)) ∈ lw_all := lw_g (lw_at lw_m7 35 rfl) rfl
theorem q1620 : (Jvm.Cond.code ({ cls := "MoleBoard", name := "rash", desc := "(I)I" } : Jvm.MethodName) prog_1_method_80_code (2 : Nat) (Option.some Jvm.ClassFile.FieldType.int)) ∈ lw_all := lw_g (lw_at lw_m7 36 rfl) rfl
theorem q1621 : (Jvm.Cond.methodLink "MoleBoard" (407 : Nat) ({ cls := "MoleBoard", name := "rashOf", desc := "(I)I" } : Jvm.MethodName)) ∈ lw_all := lw_g (lw_at lw_m7 37 rfl) rfl
theorem q1622 : (Jvm.Cond.privateMethod ({ cls := "MoleBoard", name := "rashOf", desc := "(I)I" } : Jvm.MethodName)) ∈ lw_tbl := lw_at lw_m7 38 rfl
theorem q1623 : (Jvm.Cond.instanceMethod ({ cls := "MoleBoard", name := "rashOf", desc := "(I)I" } : Jvm.MethodName)) ∈ lw_all := lw_g (lw_at lw_m7 39 rfl) rfl
theorem q1624 : (Jvm.Cond.code ({ cls := "MoleBoard", name := "rashOf", desc := "(I)I" } : Jvm.MethodName) prog_1_method_78_code (2 : Nat) (Option.some Jvm.ClassFile.FieldType.int)) ∈ lw_all := lw_g (lw_at lw_m7 40 rfl) rfl
theorem q1625 : (Jvm.Cond.methodLink "MoleBoard" (404 : Nat) ({ cls := "MoleBoard$Run", name := "points", desc := "()I" } : Jvm.MethodName)) ∈ lw_all := lw_g (lw_at lw_m7 41 rfl) rfl
theorem q1630 : (Jvm.Cond.instanceMethod ({ cls := "MoleBoard", name := "look", desc := "(II)I" } : Jvm.MethodName)) ∈ lw_all := lw_g (lw_at lw_m7 46 rfl) rfl
theorem q1631 : (Jvm.Cond.selects "MoleBoard" ({ cls := "MoleBoard", name := "look", desc := "(II)I" } : Jvm.MethodName) ({ cls := "MoleBoard", name := "look", desc := "(II)I" } : Jvm.MethodName)) ∈ lw_all := lw_g (lw_at lw_m7 47 rfl) rfl
theorem q1632 : (Jvm.Cond.code ({ cls := "MoleBoard", name := "look", desc := "(II)I" } : Jvm.MethodName) prog_1_method_81_code (3 : Nat) (Option.some Jvm.ClassFile.FieldType.int)) ∈ lw_all := lw_g (lw_at lw_m7 48 rfl) rfl
theorem q1633 : (Jvm.Cond.constantLong "MoleBoard" (410 : Nat) (20 : Int64)) ∈ lw_all := lw_g (lw_at lw_m7 49 rfl) rfl
theorem q1634 : (Jvm.Cond.methodLink "MoleBoard" (412 : Nat) ({ cls := "MoleBoard", name := "lookOf", desc := "(II)I" } : Jvm.MethodName)) ∈ lw_all := lw_g (lw_at lw_m7 50 rfl) rfl
theorem q1635 : (Jvm.Cond.privateMethod ({ cls := "MoleBoard", name := "lookOf", desc := "(II)I" } : Jvm.MethodName)) ∈ lw_tbl := lw_at lw_m7 51 rfl
theorem q1636 : (Jvm.Cond.instanceMethod ({ cls := "MoleBoard", name := "lookOf", desc := "(II)I" } : Jvm.MethodName)) ∈ lw_all := lw_g (lw_at lw_m7 52 rfl) rfl
theorem q1637 : (Jvm.Cond.code ({ cls := "MoleBoard", name := "lookOf", desc := "(II)I" } : Jvm.MethodName) prog_1_method_79_code (3 : Nat) (Option.some Jvm.ClassFile.FieldType.int)) ∈ lw_all := lw_g (lw_at lw_m7 53 rfl) rfl
theorem q1639 : (Jvm.Cond.instanceMethod ({ cls := "MoleBoard", name := "line", desc := "(I)I" } : Jvm.MethodName)) ∈ lw_all := lw_g (lw_at lw_m7 55 rfl) rfl
theorem q1640 : (Jvm.Cond.selects "MoleBoard" ({ cls := "MoleBoard", name := "line", desc := "(I)I" } : Jvm.MethodName) ({ cls := "MoleBoard", name := "line", desc := "(I)I" } : Jvm.MethodName)) ∈ lw_all := lw_g (lw_at lw_m7 56 rfl) rfl
theorem q1641 : (Jvm.Cond.code ({ cls := "MoleBoard", name := "line", desc := "(I)I" } : Jvm.MethodName) prog_1_method_82_code (4 : Nat) (Option.some Jvm.ClassFile.FieldType.int)) ∈ lw_all := lw_g (lw_at lw_m7 57 rfl) rfl
theorem q1643 : (Jvm.Cond.instanceMethod ({ cls := "MoleBoard", name := "two", desc := "(III)I" } : Jvm.MethodName)) ∈ lw_all := lw_g (lw_at lw_m7 59 rfl) rfl
theorem q1644 : (Jvm.Cond.selects "MoleBoard" ({ cls := "MoleBoard", name := "two", desc := "(III)I" } : Jvm.MethodName) ({ cls := "MoleBoard", name := "two", desc := "(III)I" } : Jvm.MethodName)) ∈ lw_all := lw_g (lw_at lw_m7 60 rfl) rfl
theorem q1645 : (Jvm.Cond.code ({ cls := "MoleBoard", name := "two", desc := "(III)I" } : Jvm.MethodName) prog_1_method_84_code (9 : Nat) (Option.some Jvm.ClassFile.FieldType.int)) ∈ lw_all := lw_g (lw_at lw_m7 61 rfl) rfl
theorem q1646 : (Jvm.Cond.methodLink "MoleBoard" (417 : Nat) ({ cls := "MoleBoard", name := "hitsWithin", desc := "(II)I" } : Jvm.MethodName)) ∈ lw_all := lw_g (lw_at lw_m7 62 rfl) rfl
theorem q1647 : (Jvm.Cond.privateMethod ({ cls := "MoleBoard", name := "hitsWithin", desc := "(II)I" } : Jvm.MethodName)) ∈ lw_tbl := lw_at lw_m7 63 rfl
theorem q1648 : (Jvm.Cond.instanceMethod ({ cls := "MoleBoard", name := "hitsWithin", desc := "(II)I" } : Jvm.MethodName)) ∈ lw_all := lw_g (lw_at lw_m7 64 rfl) rfl
theorem q1649 : (Jvm.Cond.code ({ cls := "MoleBoard", name := "hitsWithin", desc := "(II)I" } : Jvm.MethodName) prog_1_method_83_code (3 : Nat) (Option.some Jvm.ClassFile.FieldType.int)) ∈ lw_all := lw_g (lw_at lw_m7 65 rfl) rfl
theorem q1651 : (Jvm.Cond.instanceMethod ({ cls := "MoleBoard", name := "tickets", desc := "(I)I" } : Jvm.MethodName)) ∈ lw_all := lw_g (lw_at lw_m7 67 rfl) rfl
theorem q1652 : (Jvm.Cond.selects "MoleBoard" ({ cls := "MoleBoard", name := "tickets", desc := "(I)I" } : Jvm.MethodName) ({ cls := "MoleBoard", name := "tickets", desc := "(I)I" } : Jvm.MethodName)) ∈ lw_all := lw_g (lw_at lw_m7 68 rfl) rfl
theorem q1653 : (Jvm.Cond.code ({ cls := "MoleBoard", name := "tickets", desc := "(I)I" } : Jvm.MethodName) prog_1_method_86_code (2 : Nat) (Option.some Jvm.ClassFile.FieldType.int)) ∈ lw_all := lw_g (lw_at lw_m7 69 rfl) rfl
theorem q1654 : (Jvm.Cond.methodLink "MoleBoard" (423 : Nat) ({ cls := "MoleBoard", name := "ticketsOf", desc := "(I)I" } : Jvm.MethodName)) ∈ lw_all := lw_g (lw_at lw_m7 70 rfl) rfl
theorem q1655 : (Jvm.Cond.privateMethod ({ cls := "MoleBoard", name := "ticketsOf", desc := "(I)I" } : Jvm.MethodName)) ∈ lw_tbl := lw_at lw_m7 71 rfl
theorem q1656 : (Jvm.Cond.instanceMethod ({ cls := "MoleBoard", name := "ticketsOf", desc := "(I)I" } : Jvm.MethodName)) ∈ lw_all := lw_g (lw_at lw_m7 72 rfl) rfl
theorem q1657 : (Jvm.Cond.code ({ cls := "MoleBoard", name := "ticketsOf", desc := "(I)I" } : Jvm.MethodName) prog_1_method_85_code (2 : Nat) (Option.some Jvm.ClassFile.FieldType.int)) ∈ lw_all := lw_g (lw_at lw_m7 73 rfl) rfl
theorem q1659 : (Jvm.Cond.instanceMethod ({ cls := "MoleBoard", name := "prize", desc := "(I)I" } : Jvm.MethodName)) ∈ lw_all := lw_g (lw_at lw_m7 75 rfl) rfl
theorem q1660 : (Jvm.Cond.selects "MoleBoard" ({ cls := "MoleBoard", name := "prize", desc := "(I)I" } : Jvm.MethodName) ({ cls := "MoleBoard", name := "prize", desc := "(I)I" } : Jvm.MethodName)) ∈ lw_all := lw_g (lw_at lw_m7 76 rfl) rfl
theorem q1661 : (Jvm.Cond.code ({ cls := "MoleBoard", name := "prize", desc := "(I)I" } : Jvm.MethodName) prog_1_method_87_code (3 : Nat) (Option.some Jvm.ClassFile.FieldType.int)) ∈ lw_all := lw_g (lw_at lw_m7 77 rfl) rfl
theorem q1663 : (Jvm.Cond.instanceMethod ({ cls := "MoleBoard", name := "counted", desc := "(I)I" } : Jvm.MethodName)) ∈ lw_all := lw_g (lw_at lw_m7 79 rfl) rfl
theorem q1664 : (Jvm.Cond.selects "MoleBoard" ({ cls := "MoleBoard", name := "counted", desc := "(I)I" } : Jvm.MethodName) ({ cls := "MoleBoard", name := "counted", desc := "(I)I" } : Jvm.MethodName)) ∈ lw_all := lw_g (lw_at lw_m7 80 rfl) rfl
theorem q1665 : (Jvm.Cond.code ({ cls := "MoleBoard", name := "counted", desc := "(I)I" } : Jvm.MethodName) prog_1_method_89_code (3 : Nat) (Option.some Jvm.ClassFile.FieldType.int)) ∈ lw_all := lw_g (lw_at lw_m7 81 rfl) rfl
theorem q1666 : (Jvm.Cond.methodLink "MoleBoard" (429 : Nat) ({ cls := "MoleBoard", name := "whyNotBlows", desc := "(I)I" } : Jvm.MethodName)) ∈ lw_all := lw_g (lw_at lw_m7 82 rfl) rfl
theorem q1667 : (Jvm.Cond.privateMethod ({ cls := "MoleBoard", name := "whyNotBlows", desc := "(I)I" } : Jvm.MethodName)) ∈ lw_tbl := lw_at lw_m7 83 rfl
theorem q1668 : (Jvm.Cond.instanceMethod ({ cls := "MoleBoard", name := "whyNotBlows", desc := "(I)I" } : Jvm.MethodName)) ∈ lw_all := lw_g (lw_at lw_m7 84 rfl) rfl
theorem q1669 : (Jvm.Cond.code ({ cls := "MoleBoard", name := "whyNotBlows", desc := "(I)I" } : Jvm.MethodName) prog_1_method_88_code (4 : Nat) (Option.some Jvm.ClassFile.FieldType.int)) ∈ lw_all := lw_g (lw_at lw_m7 85 rfl) rfl
theorem q1670 : (Jvm.Cond.methodLink "MoleBoard" (432 : Nat) ({ cls := "MoleBoard$Blows", name := "goes", desc := "(LMoleBoard$Slot;I)LMoleBoard$Blows;" } : Jvm.MethodName)) ∈ lw_all := lw_g (lw_at lw_m7 86 rfl) rfl
theorem q1687 : (Jvm.Cond.instanceMethod ({ cls := "MoleBoard", name := "scored", desc := "(I)I" } : Jvm.MethodName)) ∈ lw_all := lw_g (lw_at lw_m7 103 rfl) rfl
theorem q1688 : (Jvm.Cond.selects "MoleBoard" ({ cls := "MoleBoard", name := "scored", desc := "(I)I" } : Jvm.MethodName) ({ cls := "MoleBoard", name := "scored", desc := "(I)I" } : Jvm.MethodName)) ∈ lw_all := lw_g (lw_at lw_m7 104 rfl) rfl
theorem q1689 : (Jvm.Cond.code ({ cls := "MoleBoard", name := "scored", desc := "(I)I" } : Jvm.MethodName) prog_1_method_90_code (3 : Nat) (Option.some Jvm.ClassFile.FieldType.int)) ∈ lw_all := lw_g (lw_at lw_m7 105 rfl) rfl
theorem q1691 : (Jvm.Cond.instanceMethod ({ cls := "MoleBoard", name := "early", desc := "(II)I" } : Jvm.MethodName)) ∈ lw_all := lw_g (lw_at lw_m7 107 rfl) rfl
theorem q1692 : (Jvm.Cond.selects "MoleBoard" ({ cls := "MoleBoard", name := "early", desc := "(II)I" } : Jvm.MethodName) ({ cls := "MoleBoard", name := "early", desc := "(II)I" } : Jvm.MethodName)) ∈ lw_all := lw_g (lw_at lw_m7 108 rfl) rfl
theorem q1693 : (Jvm.Cond.code ({ cls := "MoleBoard", name := "early", desc := "(II)I" } : Jvm.MethodName) prog_1_method_91_code (4 : Nat) (Option.some Jvm.ClassFile.FieldType.int)) ∈ lw_all := lw_g (lw_at lw_m7 109 rfl) rfl
theorem q1695 : (Jvm.Cond.instanceMethod ({ cls := "MoleBoard", name := "often", desc := "(I)I" } : Jvm.MethodName)) ∈ lw_all := lw_g (lw_at lw_m7 111 rfl) rfl
theorem q1696 : (Jvm.Cond.selects "MoleBoard" ({ cls := "MoleBoard", name := "often", desc := "(I)I" } : Jvm.MethodName) ({ cls := "MoleBoard", name := "often", desc := "(I)I" } : Jvm.MethodName)) ∈ lw_all := lw_g (lw_at lw_m7 112 rfl) rfl
theorem q1697 : (Jvm.Cond.code ({ cls := "MoleBoard", name := "often", desc := "(I)I" } : Jvm.MethodName) prog_1_method_93_code (2 : Nat) (Option.some Jvm.ClassFile.FieldType.int)) ∈ lw_all := lw_g (lw_at lw_m7 113 rfl) rfl
theorem q1698 : (Jvm.Cond.methodLink "MoleBoard" (460 : Nat) ({ cls := "MoleBoard", name := "oftenOf", desc := "(I)I" } : Jvm.MethodName)) ∈ lw_all := lw_g (lw_at lw_m7 114 rfl) rfl
theorem q1699 : (Jvm.Cond.privateMethod ({ cls := "MoleBoard", name := "oftenOf", desc := "(I)I" } : Jvm.MethodName)) ∈ lw_tbl := lw_at lw_m7 115 rfl
theorem q1700 : (Jvm.Cond.instanceMethod ({ cls := "MoleBoard", name := "oftenOf", desc := "(I)I" } : Jvm.MethodName)) ∈ lw_all := lw_g (lw_at lw_m7 116 rfl) rfl
theorem q1701 : (Jvm.Cond.code ({ cls := "MoleBoard", name := "oftenOf", desc := "(I)I" } : Jvm.MethodName) prog_1_method_92_code (5 : Nat) (Option.some Jvm.ClassFile.FieldType.int)) ∈ lw_all := lw_g (lw_at lw_m7 117 rfl) rfl
theorem q1702 : (Jvm.Cond.interfaceEntry "MoleBoard" (444 : Nat)) ∈ lw_tbl := lw_at lw_m7 118 rfl
theorem q1703 : (Jvm.Cond.methodLink "MoleBoard" (444 : Nat) ({ cls := "java/util/List", name := "iterator", desc := "()Ljava/util/Iterator;" } : Jvm.MethodName)) ∈ lw_all := lw_g (lw_at lw_m7 119 rfl) rfl
theorem q1704 : (Jvm.Cond.interfaceEntry "MoleBoard" (448 : Nat)) ∈ lw_tbl := lw_at lw_m7 120 rfl
theorem q1705 : (Jvm.Cond.methodLink "MoleBoard" (448 : Nat) ({ cls := "java/util/Iterator", name := "hasNext", desc := "()Z" } : Jvm.MethodName)) ∈ lw_all := lw_g (lw_at lw_m7 121 rfl) rfl
theorem q1706 : (Jvm.Cond.interfaceEntry "MoleBoard" (453 : Nat)) ∈ lw_tbl := lw_at lw_m7 122 rfl
theorem q1707 : (Jvm.Cond.methodLink "MoleBoard" (453 : Nat) ({ cls := "java/util/Iterator", name := "next", desc := "()Ljava/lang/Object;" } : Jvm.MethodName)) ∈ lw_all := lw_g (lw_at lw_m7 123 rfl) rfl
theorem q1708 : (Jvm.Cond.methodLink "MoleBoard" (457 : Nat) ({ cls := "MoleBoard$Mole", name := "isAt", desc := "(I)Z" } : Jvm.MethodName)) ∈ lw_all := lw_g (lw_at lw_m7 124 rfl) rfl
theorem q1710 : (Jvm.Cond.instanceMethod ({ cls := "MoleBoard", name := "balance", desc := "()I" } : Jvm.MethodName)) ∈ lw_all := lw_g (lw_at lw_m7 126 rfl) rfl
theorem q1711 : (Jvm.Cond.selects "MoleBoard" ({ cls := "MoleBoard", name := "balance", desc := "()I" } : Jvm.MethodName) ({ cls := "MoleBoard", name := "balance", desc := "()I" } : Jvm.MethodName)) ∈ lw_all := lw_g (lw_at lw_m7 127 rfl) rfl
theorem q1712 : (Jvm.Cond.code ({ cls := "MoleBoard", name := "balance", desc := "()I" } : Jvm.MethodName) prog_1_method_94_code (4 : Nat) (Option.some Jvm.ClassFile.FieldType.int)) ∈ lw_all := lw_g (lw_at lw_m7 128 rfl) rfl
theorem q1713 : (Jvm.Cond.constant "MoleBoard" (463 : Nat) (1000000 : Int32)) ∈ lw_all := lw_g (lw_at lw_m7 129 rfl) rfl
theorem q1715 : (Jvm.Cond.instanceMethod ({ cls := "MoleBoard", name := "path", desc := "()I" } : Jvm.MethodName)) ∈ lw_all := lw_g (lw_at lw_m7 131 rfl) rfl
theorem q1716 : (Jvm.Cond.selects "MoleBoard" ({ cls := "MoleBoard", name := "path", desc := "()I" } : Jvm.MethodName) ({ cls := "MoleBoard", name := "path", desc := "()I" } : Jvm.MethodName)) ∈ lw_all := lw_g (lw_at lw_m7 132 rfl) rfl
theorem q1717 : (Jvm.Cond.code ({ cls := "MoleBoard", name := "path", desc := "()I" } : Jvm.MethodName) prog_1_method_96_code (1 : Nat) (Option.some Jvm.ClassFile.FieldType.int)) ∈ lw_all := lw_g (lw_at lw_m7 133 rfl) rfl
theorem q1718 : (Jvm.Cond.methodLink "MoleBoard" (464 : Nat) ({ cls := "MoleBoard", name := "pathOf", desc := "()I" } : Jvm.MethodName)) ∈ lw_all := lw_g (lw_at lw_m7 134 rfl) rfl
theorem q1719 : (Jvm.Cond.privateMethod ({ cls := "MoleBoard", name := "pathOf", desc := "()I" } : Jvm.MethodName)) ∈ lw_tbl := lw_at lw_m7 135 rfl
theorem q1720 : (Jvm.Cond.instanceMethod ({ cls := "MoleBoard", name := "pathOf", desc := "()I" } : Jvm.MethodName)) ∈ lw_all := lw_g (lw_at lw_m7 136 rfl) rfl
theorem q1721 : (Jvm.Cond.code ({ cls := "MoleBoard", name := "pathOf", desc := "()I" } : Jvm.MethodName) prog_1_method_95_code (3 : Nat) (Option.some Jvm.ClassFile.FieldType.int)) ∈ lw_all := lw_g (lw_at lw_m7 137 rfl) rfl
theorem q1723 : (Jvm.Cond.instanceMethod ({ cls := "MoleBoard", name := "better", desc := "(I)I" } : Jvm.MethodName)) ∈ lw_all := lw_g (lw_at lw_m7 139 rfl) rfl
theorem q1724 : (Jvm.Cond.selects "MoleBoard" ({ cls := "MoleBoard", name := "better", desc := "(I)I" } : Jvm.MethodName) ({ cls := "MoleBoard", name := "better", desc := "(I)I" } : Jvm.MethodName)) ∈ lw_all := lw_g (lw_at lw_m7 140 rfl) rfl
theorem q1725 : (Jvm.Cond.code ({ cls := "MoleBoard", name := "better", desc := "(I)I" } : Jvm.MethodName) prog_1_method_98_code (7 : Nat) (Option.some Jvm.ClassFile.FieldType.int)) ∈ lw_all := lw_g (lw_at lw_m7 141 rfl) rfl
theorem q1726 : (Jvm.Cond.methodLink "MoleBoard" (471 : Nat) ({ cls := "MoleBoard", name := "changes", desc := "(II)V" } : Jvm.MethodName)) ∈ lw_all := lw_g (lw_at lw_m7 142 rfl) rfl
theorem q1727 : (Jvm.Cond.privateMethod ({ cls := "MoleBoard", name := "changes", desc := "(II)V" } : Jvm.MethodName)) ∈ lw_tbl := lw_at lw_m7 143 rfl
theorem q1728 : (Jvm.Cond.instanceMethod ({ cls := "MoleBoard", name := "changes", desc := "(II)V" } : Jvm.MethodName)) ∈ lw_all := lw_g (lw_at lw_m7 144 rfl) rfl
theorem q1729 : (Jvm.Cond.code ({ cls := "MoleBoard", name := "changes", desc := "(II)V" } : Jvm.MethodName) prog_1_method_97_code (4 : Nat) (Option.none : Option Jvm.ClassFile.FieldType)) ∈ lw_all := lw_g (lw_at lw_m7 145 rfl) rfl
theorem q1730 : (Jvm.Cond.interfaceEntry "MoleBoard" (467 : Nat)) ∈ lw_tbl := lw_at lw_m7 146 rfl
theorem q1731 : (Jvm.Cond.methodLink "MoleBoard" (467 : Nat) ({ cls := "java/util/List", name := "set", desc := "(ILjava/lang/Object;)Ljava/lang/Object;" } : Jvm.MethodName)) ∈ lw_all := lw_g (lw_at lw_m7 147 rfl) rfl
theorem q1740 : (Jvm.Cond.instanceMethod ({ cls := "MoleBoard", name := "swap", desc := "(II)I" } : Jvm.MethodName)) ∈ lw_all := lw_g (lw_at lw_m7 156 rfl) rfl
theorem q1741 : (Jvm.Cond.selects "MoleBoard" ({ cls := "MoleBoard", name := "swap", desc := "(II)I" } : Jvm.MethodName) ({ cls := "MoleBoard", name := "swap", desc := "(II)I" } : Jvm.MethodName)) ∈ lw_all := lw_g (lw_at lw_m7 157 rfl) rfl
theorem q1742 : (Jvm.Cond.code ({ cls := "MoleBoard", name := "swap", desc := "(II)I" } : Jvm.MethodName) prog_1_method_99_code (3 : Nat) (Option.some Jvm.ClassFile.FieldType.int)) ∈ lw_all := lw_g (lw_at lw_m7 158 rfl) rfl
theorem q1744 : (Jvm.Cond.instanceMethod ({ cls := "MoleBoard", name := "paint", desc := "(II)I" } : Jvm.MethodName)) ∈ lw_all := lw_g (lw_at lw_m7 160 rfl) rfl
theorem q1745 : (Jvm.Cond.selects "MoleBoard" ({ cls := "MoleBoard", name := "paint", desc := "(II)I" } : Jvm.MethodName) ({ cls := "MoleBoard", name := "paint", desc := "(II)I" } : Jvm.MethodName)) ∈ lw_all := lw_g (lw_at lw_m7 161 rfl) rfl
theorem q1746 : (Jvm.Cond.code ({ cls := "MoleBoard", name := "paint", desc := "(II)I" } : Jvm.MethodName) prog_1_method_100_code (4 : Nat) (Option.some Jvm.ClassFile.FieldType.int)) ∈ lw_all := lw_g (lw_at lw_m7 162 rfl) rfl
theorem q1748 : (Jvm.Cond.instanceMethod ({ cls := "MoleBoard", name := "turn", desc := "(I)I" } : Jvm.MethodName)) ∈ lw_all := lw_g (lw_at lw_m7 164 rfl) rfl
theorem q1749 : (Jvm.Cond.selects "MoleBoard" ({ cls := "MoleBoard", name := "turn", desc := "(I)I" } : Jvm.MethodName) ({ cls := "MoleBoard", name := "turn", desc := "(I)I" } : Jvm.MethodName)) ∈ lw_all := lw_g (lw_at lw_m7 165 rfl) rfl
theorem q1750 : (Jvm.Cond.code ({ cls := "MoleBoard", name := "turn", desc := "(I)I" } : Jvm.MethodName) prog_1_method_101_code (3 : Nat) (Option.some Jvm.ClassFile.FieldType.int)) ∈ lw_all := lw_g (lw_at lw_m7 166 rfl) rfl
theorem q1752 : (Jvm.Cond.instanceMethod ({ cls := "MoleBoard", name := "lucky", desc := "(I)I" } : Jvm.MethodName)) ∈ lw_all := lw_g (lw_at lw_m7 168 rfl) rfl
theorem q1753 : (Jvm.Cond.selects "MoleBoard" ({ cls := "MoleBoard", name := "lucky", desc := "(I)I" } : Jvm.MethodName) ({ cls := "MoleBoard", name := "lucky", desc := "(I)I" } : Jvm.MethodName)) ∈ lw_all := lw_g (lw_at lw_m7 169 rfl) rfl
theorem q1754 : (Jvm.Cond.code ({ cls := "MoleBoard", name := "lucky", desc := "(I)I" } : Jvm.MethodName) prog_1_method_102_code (7 : Nat) (Option.some Jvm.ClassFile.FieldType.int)) ∈ lw_all := lw_g (lw_at lw_m7 170 rfl) rfl
theorem q1756 : (Jvm.Cond.instanceMethod ({ cls := "MoleBoard", name := "shut", desc := "(II)I" } : Jvm.MethodName)) ∈ lw_all := lw_g (lw_at lw_m7 172 rfl) rfl
theorem q1757 : (Jvm.Cond.selects "MoleBoard" ({ cls := "MoleBoard", name := "shut", desc := "(II)I" } : Jvm.MethodName) ({ cls := "MoleBoard", name := "shut", desc := "(II)I" } : Jvm.MethodName)) ∈ lw_all := lw_g (lw_at lw_m7 173 rfl) rfl
theorem q1758 : (Jvm.Cond.code ({ cls := "MoleBoard", name := "shut", desc := "(II)I" } : Jvm.MethodName) prog_1_method_103_code (4 : Nat) (Option.some Jvm.ClassFile.FieldType.int)) ∈ lw_all := lw_g (lw_at lw_m7 174 rfl) rfl
theorem q1759 : (Jvm.Cond.methodLink "MoleBoard" (478 : Nat) ({ cls := "MoleBoard$Board", name := "isComing", desc := "(I)Z" } : Jvm.MethodName)) ∈ lw_all := lw_g (lw_at lw_m7 175 rfl) rfl
theorem q1761 : (Jvm.Cond.instanceMethod ({ cls := "MoleBoard", name := "train", desc := "(III)I" } : Jvm.MethodName)) ∈ lw_all := lw_g (lw_at lw_m7 177 rfl) rfl
theorem q1762 : (Jvm.Cond.selects "MoleBoard" ({ cls := "MoleBoard", name := "train", desc := "(III)I" } : Jvm.MethodName) ({ cls := "MoleBoard", name := "train", desc := "(III)I" } : Jvm.MethodName)) ∈ lw_all := lw_g (lw_at lw_m7 178 rfl) rfl
theorem q1763 : (Jvm.Cond.code ({ cls := "MoleBoard", name := "train", desc := "(III)I" } : Jvm.MethodName) prog_1_method_104_code (6 : Nat) (Option.some Jvm.ClassFile.FieldType.int)) ∈ lw_all := lw_g (lw_at lw_m7 179 rfl) rfl
theorem q1764 : (Jvm.Cond.methodLink "MoleBoard" (481 : Nat) ({ cls := "MoleBoard$Player", name := "high", desc := "(I)I" } : Jvm.MethodName)) ∈ lw_all := lw_g (lw_at lw_m7 180 rfl) rfl
theorem q1768 : (Jvm.Cond.instanceMethod ({ cls := "MoleBoard", name := "drawn", desc := "(III)I" } : Jvm.MethodName)) ∈ lw_all := lw_g (lw_at lw_m7 184 rfl) rfl
theorem q1769 : (Jvm.Cond.selects "MoleBoard" ({ cls := "MoleBoard", name := "drawn", desc := "(III)I" } : Jvm.MethodName) ({ cls := "MoleBoard", name := "drawn", desc := "(III)I" } : Jvm.MethodName)) ∈ lw_all := lw_g (lw_at lw_m7 185 rfl) rfl
theorem q1770 : (Jvm.Cond.code ({ cls := "MoleBoard", name := "drawn", desc := "(III)I" } : Jvm.MethodName) prog_1_method_106_code (5 : Nat) (Option.some Jvm.ClassFile.FieldType.int)) ∈ lw_all := lw_g (lw_at lw_m7 186 rfl) rfl
theorem q1771 : (Jvm.Cond.methodLink "MoleBoard" (486 : Nat) ({ cls := "MoleBoard", name := "isNight", desc := "(II)Z" } : Jvm.MethodName)) ∈ lw_all := lw_g (lw_at lw_m7 187 rfl) rfl
theorem q1772 : (Jvm.Cond.privateMethod ({ cls := "MoleBoard", name := "isNight", desc := "(II)Z" } : Jvm.MethodName)) ∈ lw_tbl := lw_at lw_m7 188 rfl
theorem q1773 : (Jvm.Cond.instanceMethod ({ cls := "MoleBoard", name := "isNight", desc := "(II)Z" } : Jvm.MethodName)) ∈ lw_all := lw_g (lw_at lw_m7 189 rfl) rfl
theorem q1774 : (Jvm.Cond.code ({ cls := "MoleBoard", name := "isNight", desc := "(II)Z" } : Jvm.MethodName) prog_1_method_105_code (3 : Nat) (Option.some Jvm.ClassFile.FieldType.boolean)) ∈ lw_all := lw_g (lw_at lw_m7 190 rfl) rfl
theorem q1775 : (Jvm.Cond.constantLong "MoleBoard" (484 : Nat) (2000000000 : Int64)) ∈ lw_all := lw_g (lw_at lw_m7 191 rfl) rfl
theorem q1776 : (Jvm.Cond.methodLink "MoleBoard" (489 : Nat) ({ cls := "MoleBoard$Night", name := "lays", desc := "(JI)LMoleBoard$Game;" } : Jvm.MethodName)) ∈ lw_all := lw_g (lw_at lw_m7 192 rfl) rfl
theorem q1784 : (Jvm.Cond.instanceMethod ({ cls := "MoleBoard", name := "night", desc := "(III)I" } : Jvm.MethodName)) ∈ lw_all := lw_g (lw_at lw_m7 200 rfl) rfl
theorem q1785 : (Jvm.Cond.selects "MoleBoard" ({ cls := "MoleBoard", name := "night", desc := "(III)I" } : Jvm.MethodName) ({ cls := "MoleBoard", name := "night", desc := "(III)I" } : Jvm.MethodName)) ∈ lw_all := lw_g (lw_at lw_m7 201 rfl) rfl
theorem q1786 : (Jvm.Cond.code ({ cls := "MoleBoard", name := "night", desc := "(III)I" } : Jvm.MethodName) prog_1_method_107_code (4 : Nat) (Option.some Jvm.ClassFile.FieldType.int)) ∈ lw_all := lw_g (lw_at lw_m7 202 rfl) rfl
theorem q1788 : (Jvm.Cond.instanceMethod ({ cls := "MoleBoard", name := "years", desc := "(IIII)I" } : Jvm.MethodName)) ∈ lw_all := lw_g (lw_at lw_m7 204 rfl) rfl
theorem q1789 : (Jvm.Cond.selects "MoleBoard" ({ cls := "MoleBoard", name := "years", desc := "(IIII)I" } : Jvm.MethodName) ({ cls := "MoleBoard", name := "years", desc := "(IIII)I" } : Jvm.MethodName)) ∈ lw_all := lw_g (lw_at lw_m7 205 rfl) rfl
theorem q1790 : (Jvm.Cond.code ({ cls := "MoleBoard", name := "years", desc := "(IIII)I" } : Jvm.MethodName) prog_1_method_108_code (7 : Nat) (Option.some Jvm.ClassFile.FieldType.int)) ∈ lw_all := lw_g (lw_at lw_m7 206 rfl) rfl
theorem q1792 : (Jvm.Cond.instanceMethod ({ cls := "MoleBoard", name := "count", desc := "(I)I" } : Jvm.MethodName)) ∈ lw_all := lw_g (lw_at lw_m7 208 rfl) rfl
theorem q1793 : (Jvm.Cond.selects "MoleBoard" ({ cls := "MoleBoard", name := "count", desc := "(I)I" } : Jvm.MethodName) ({ cls := "MoleBoard", name := "count", desc := "(I)I" } : Jvm.MethodName)) ∈ lw_all := lw_g (lw_at lw_m7 209 rfl) rfl
theorem q1794 : (Jvm.Cond.code ({ cls := "MoleBoard", name := "count", desc := "(I)I" } : Jvm.MethodName) prog_1_method_109_code (7 : Nat) (Option.some Jvm.ClassFile.FieldType.int)) ∈ lw_all := lw_g (lw_at lw_m7 210 rfl) rfl
theorem q1796 : (Jvm.Cond.instanceMethod ({ cls := "MoleBoard", name := "image", desc := "(I)I" } : Jvm.MethodName)) ∈ lw_all := lw_g (lw_at lw_m7 212 rfl) rfl
theorem q1797 : (Jvm.Cond.selects "MoleBoard" ({ cls := "MoleBoard", name := "image", desc := "(I)I" } : Jvm.MethodName) ({ cls := "MoleBoard", name := "image", desc := "(I)I" } : Jvm.MethodName)) ∈ lw_all := lw_g (lw_at lw_m7 213 rfl) rfl
theorem q1798 : (Jvm.Cond.code ({ cls := "MoleBoard", name := "image", desc := "(I)I" } : Jvm.MethodName) prog_1_method_110_code (2 : Nat) (Option.some Jvm.ClassFile.FieldType.int)) ∈ lw_all := lw_g (lw_at lw_m7 214 rfl) rfl
theorem q1799 : (Jvm.Cond.methodLink "MoleBoard" (497 : Nat) ({ cls := "MoleBoard$Board", name := "same", desc := "()LMoleBoard$Board;" } : Jvm.MethodName)) ∈ lw_all := lw_g (lw_at lw_m7 215 rfl) rfl
theorem q1823 : (Jvm.Cond.instanceMethod ({ cls := "MoleBoard", name := "back", desc := "(I)I" } : Jvm.MethodName)) ∈ lw_all := lw_g (lw_at lw_m7 239 rfl) rfl
theorem q1824 : (Jvm.Cond.selects "MoleBoard" ({ cls := "MoleBoard", name := "back", desc := "(I)I" } : Jvm.MethodName) ({ cls := "MoleBoard", name := "back", desc := "(I)I" } : Jvm.MethodName)) ∈ lw_all := lw_g (lw_at lw_m8 0 rfl) rfl
theorem q1825 : (Jvm.Cond.code ({ cls := "MoleBoard", name := "back", desc := "(I)I" } : Jvm.MethodName) prog_1_method_111_code (2 : Nat) (Option.some Jvm.ClassFile.FieldType.int)) ∈ lw_all := lw_g (lw_at lw_m8 1 rfl) rfl
theorem q2659 : (Jvm.Cond.castable "MoleBoard" "java/lang/Object") ∈ lw_tbl := lw_at lw_m11 115 rfl
