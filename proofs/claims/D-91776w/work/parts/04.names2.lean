/-! WiredNetsLaw -/
set_option maxRecDepth 100000
def RX0 : String := "WiredNetsLaw"
abbrev cX0_line : ByteArray := method_3_code
def yX0_line : MethodName := ⟨RX0, "line", "(LWiredNets;III[J)I"⟩
def dkwX0_line_1 : List UInt8 := [4, 172, 3, 172]
abbrev dktX0_line_1 : List UInt8 := dkwX0_line_1 ++ []
def dkwX0_line_0 : List UInt8 := [25, 4, 3, 42, 27, 28, 29, 182, 0, 7, 153, 0, 7, 10, 167, 0, 4, 9, 80, 167, 0, 7, 58, 5]
abbrev dktX0_line_0 : List UInt8 := dkwX0_line_0 ++ dktX0_line_1
theorem dksX0_line_0 : cX0_line.data.toList.drop 0 = dktX0_line_0 := by decide +kernel
theorem dksX0_line_1 : cX0_line.data.toList.drop 24 = dktX0_line_1 := dk_seg dksX0_line_0 24 rfl rfl
theorem dX0_line_0 : decode cX0_line 0 = .ok (.aload 4, 2) := dk_25 4 (dk_at dksX0_line_0 0 rfl rfl)
theorem dX0_line_2 : decode cX0_line 2 = .ok (.iconst 0, 1) := dk_3 (dk_at dksX0_line_0 2 rfl rfl)
theorem dX0_line_3 : decode cX0_line 3 = .ok (.aload_n 0, 1) := dk_42 (dk_at dksX0_line_0 3 rfl rfl)
theorem dX0_line_4 : decode cX0_line 4 = .ok (.iload_n 1, 1) := dk_27 (dk_at dksX0_line_0 4 rfl rfl)
theorem dX0_line_5 : decode cX0_line 5 = .ok (.iload_n 2, 1) := dk_28 (dk_at dksX0_line_0 5 rfl rfl)
theorem dX0_line_6 : decode cX0_line 6 = .ok (.iload_n 3, 1) := dk_29 (dk_at dksX0_line_0 6 rfl rfl)
theorem dX0_line_7 : decode cX0_line 7 = .ok (.invokevirtual 7, 3) := dk_182 0 7 (dk_at dksX0_line_0 7 rfl rfl)
theorem dX0_line_10 : decode cX0_line 10 = .ok (.ifCond .eq 7, 3) := dk_153 0 7 (dk_at dksX0_line_0 10 rfl rfl)
theorem dX0_line_13 : decode cX0_line 13 = .ok (.lconst 1, 1) := dk_10 (dk_at dksX0_line_0 13 rfl rfl)
theorem dX0_line_14 : decode cX0_line 14 = .ok (.goto 4, 3) := dk_167 0 4 (dk_at dksX0_line_0 14 rfl rfl)
theorem dX0_line_17 : decode cX0_line 17 = .ok (.lconst 0, 1) := dk_9 (dk_at dksX0_line_0 17 rfl rfl)
theorem dX0_line_18 : decode cX0_line 18 = .ok (.lastore, 1) := dk_80 (dk_at dksX0_line_0 18 rfl rfl)
theorem dX0_line_19 : decode cX0_line 19 = .ok (.goto 7, 3) := dk_167 0 7 (dk_at dksX0_line_0 19 rfl rfl)
theorem dX0_line_22 : decode cX0_line 22 = .ok (.astore 5, 2) := dk_58 5 (dk_at dksX0_line_0 22 rfl rfl)
theorem dX0_line_24 : decode cX0_line 24 = .ok (.iconst 1, 1) := dk_4 (dk_at dksX0_line_1 0 rfl rfl)
theorem dX0_line_25 : decode cX0_line 25 = .ok (.ireturn, 1) := dk_172 (dk_at dksX0_line_1 1 rfl rfl)
theorem dX0_line_26 : decode cX0_line 26 = .ok (.iconst 0, 1) := dk_3 (dk_at dksX0_line_1 2 rfl rfl)
theorem dX0_line_27 : decode cX0_line 27 = .ok (.ireturn, 1) := dk_172 (dk_at dksX0_line_1 3 rfl rfl)
abbrev cX0_off : ByteArray := method_4_code
def yX0_off : MethodName := ⟨RX0, "off", "(LWiredNets;III[J)I"⟩
def dkwX0_off_1 : List UInt8 := [4, 172, 3, 172]
abbrev dktX0_off_1 : List UInt8 := dkwX0_off_1 ++ []
def dkwX0_off_0 : List UInt8 := [25, 4, 3, 42, 27, 28, 29, 182, 0, 15, 153, 0, 7, 10, 167, 0, 4, 9, 80, 167, 0, 7, 58, 5]
abbrev dktX0_off_0 : List UInt8 := dkwX0_off_0 ++ dktX0_off_1
theorem dksX0_off_0 : cX0_off.data.toList.drop 0 = dktX0_off_0 := by decide +kernel
theorem dksX0_off_1 : cX0_off.data.toList.drop 24 = dktX0_off_1 := dk_seg dksX0_off_0 24 rfl rfl
theorem dX0_off_0 : decode cX0_off 0 = .ok (.aload 4, 2) := dk_25 4 (dk_at dksX0_off_0 0 rfl rfl)
theorem dX0_off_2 : decode cX0_off 2 = .ok (.iconst 0, 1) := dk_3 (dk_at dksX0_off_0 2 rfl rfl)
theorem dX0_off_3 : decode cX0_off 3 = .ok (.aload_n 0, 1) := dk_42 (dk_at dksX0_off_0 3 rfl rfl)
theorem dX0_off_4 : decode cX0_off 4 = .ok (.iload_n 1, 1) := dk_27 (dk_at dksX0_off_0 4 rfl rfl)
theorem dX0_off_5 : decode cX0_off 5 = .ok (.iload_n 2, 1) := dk_28 (dk_at dksX0_off_0 5 rfl rfl)
theorem dX0_off_6 : decode cX0_off 6 = .ok (.iload_n 3, 1) := dk_29 (dk_at dksX0_off_0 6 rfl rfl)
theorem dX0_off_7 : decode cX0_off 7 = .ok (.invokevirtual 15, 3) := dk_182 0 15 (dk_at dksX0_off_0 7 rfl rfl)
theorem dX0_off_10 : decode cX0_off 10 = .ok (.ifCond .eq 7, 3) := dk_153 0 7 (dk_at dksX0_off_0 10 rfl rfl)
theorem dX0_off_13 : decode cX0_off 13 = .ok (.lconst 1, 1) := dk_10 (dk_at dksX0_off_0 13 rfl rfl)
theorem dX0_off_14 : decode cX0_off 14 = .ok (.goto 4, 3) := dk_167 0 4 (dk_at dksX0_off_0 14 rfl rfl)
theorem dX0_off_17 : decode cX0_off 17 = .ok (.lconst 0, 1) := dk_9 (dk_at dksX0_off_0 17 rfl rfl)
theorem dX0_off_18 : decode cX0_off 18 = .ok (.lastore, 1) := dk_80 (dk_at dksX0_off_0 18 rfl rfl)
theorem dX0_off_19 : decode cX0_off 19 = .ok (.goto 7, 3) := dk_167 0 7 (dk_at dksX0_off_0 19 rfl rfl)
theorem dX0_off_22 : decode cX0_off 22 = .ok (.astore 5, 2) := dk_58 5 (dk_at dksX0_off_0 22 rfl rfl)
theorem dX0_off_24 : decode cX0_off 24 = .ok (.iconst 1, 1) := dk_4 (dk_at dksX0_off_1 0 rfl rfl)
theorem dX0_off_25 : decode cX0_off 25 = .ok (.ireturn, 1) := dk_172 (dk_at dksX0_off_1 1 rfl rfl)
theorem dX0_off_26 : decode cX0_off 26 = .ok (.iconst 0, 1) := dk_3 (dk_at dksX0_off_1 2 rfl rfl)
theorem dX0_off_27 : decode cX0_off 27 = .ok (.ireturn, 1) := dk_172 (dk_at dksX0_off_1 3 rfl rfl)
abbrev cX0_read : ByteArray := method_5_code
def yX0_read : MethodName := ⟨RX0, "read", "(LWiredNets;II[J)I"⟩
def dkwX0_read_0 : List UInt8 := [45, 3, 42, 27, 28, 182, 0, 18, 133, 80, 167, 0, 11, 58, 4, 4, 172, 58, 4, 5, 172, 3, 172]
abbrev dktX0_read_0 : List UInt8 := dkwX0_read_0 ++ []
theorem dksX0_read_0 : cX0_read.data.toList.drop 0 = dktX0_read_0 := by decide +kernel
theorem dX0_read_0 : decode cX0_read 0 = .ok (.aload_n 3, 1) := dk_45 (dk_at dksX0_read_0 0 rfl rfl)
theorem dX0_read_1 : decode cX0_read 1 = .ok (.iconst 0, 1) := dk_3 (dk_at dksX0_read_0 1 rfl rfl)
theorem dX0_read_2 : decode cX0_read 2 = .ok (.aload_n 0, 1) := dk_42 (dk_at dksX0_read_0 2 rfl rfl)
theorem dX0_read_3 : decode cX0_read 3 = .ok (.iload_n 1, 1) := dk_27 (dk_at dksX0_read_0 3 rfl rfl)
theorem dX0_read_4 : decode cX0_read 4 = .ok (.iload_n 2, 1) := dk_28 (dk_at dksX0_read_0 4 rfl rfl)
theorem dX0_read_5 : decode cX0_read 5 = .ok (.invokevirtual 18, 3) := dk_182 0 18 (dk_at dksX0_read_0 5 rfl rfl)
theorem dX0_read_8 : decode cX0_read 8 = .ok (.i2l, 1) := dk_133 (dk_at dksX0_read_0 8 rfl rfl)
theorem dX0_read_9 : decode cX0_read 9 = .ok (.lastore, 1) := dk_80 (dk_at dksX0_read_0 9 rfl rfl)
theorem dX0_read_10 : decode cX0_read 10 = .ok (.goto 11, 3) := dk_167 0 11 (dk_at dksX0_read_0 10 rfl rfl)
theorem dX0_read_13 : decode cX0_read 13 = .ok (.astore 4, 2) := dk_58 4 (dk_at dksX0_read_0 13 rfl rfl)
theorem dX0_read_15 : decode cX0_read 15 = .ok (.iconst 1, 1) := dk_4 (dk_at dksX0_read_0 15 rfl rfl)
theorem dX0_read_16 : decode cX0_read 16 = .ok (.ireturn, 1) := dk_172 (dk_at dksX0_read_0 16 rfl rfl)
theorem dX0_read_17 : decode cX0_read 17 = .ok (.astore 4, 2) := dk_58 4 (dk_at dksX0_read_0 17 rfl rfl)
theorem dX0_read_19 : decode cX0_read 19 = .ok (.iconst 2, 1) := dk_5 (dk_at dksX0_read_0 19 rfl rfl)
theorem dX0_read_20 : decode cX0_read 20 = .ok (.ireturn, 1) := dk_172 (dk_at dksX0_read_0 20 rfl rfl)
theorem dX0_read_21 : decode cX0_read 21 = .ok (.iconst 0, 1) := dk_3 (dk_at dksX0_read_0 21 rfl rfl)
theorem dX0_read_22 : decode cX0_read 22 = .ok (.ireturn, 1) := dk_172 (dk_at dksX0_read_0 22 rfl rfl)
abbrev cX0_glued : ByteArray := method_6_code
def yX0_glued : MethodName := ⟨RX0, "glued", "(LWiredNets;IIII[J)I"⟩
def dkwX0_glued_1 : List UInt8 := [58, 6, 4, 172, 3, 172]
abbrev dktX0_glued_1 : List UInt8 := dkwX0_glued_1 ++ []
def dkwX0_glued_0 : List UInt8 := [25, 5, 3, 42, 27, 28, 29, 21, 4, 182, 0, 24, 153, 0, 7, 10, 167, 0, 4, 9, 80, 167, 0, 7]
abbrev dktX0_glued_0 : List UInt8 := dkwX0_glued_0 ++ dktX0_glued_1
theorem dksX0_glued_0 : cX0_glued.data.toList.drop 0 = dktX0_glued_0 := by decide +kernel
theorem dksX0_glued_1 : cX0_glued.data.toList.drop 24 = dktX0_glued_1 := dk_seg dksX0_glued_0 24 rfl rfl
theorem dX0_glued_0 : decode cX0_glued 0 = .ok (.aload 5, 2) := dk_25 5 (dk_at dksX0_glued_0 0 rfl rfl)
theorem dX0_glued_2 : decode cX0_glued 2 = .ok (.iconst 0, 1) := dk_3 (dk_at dksX0_glued_0 2 rfl rfl)
theorem dX0_glued_3 : decode cX0_glued 3 = .ok (.aload_n 0, 1) := dk_42 (dk_at dksX0_glued_0 3 rfl rfl)
theorem dX0_glued_4 : decode cX0_glued 4 = .ok (.iload_n 1, 1) := dk_27 (dk_at dksX0_glued_0 4 rfl rfl)
theorem dX0_glued_5 : decode cX0_glued 5 = .ok (.iload_n 2, 1) := dk_28 (dk_at dksX0_glued_0 5 rfl rfl)
theorem dX0_glued_6 : decode cX0_glued 6 = .ok (.iload_n 3, 1) := dk_29 (dk_at dksX0_glued_0 6 rfl rfl)
theorem dX0_glued_7 : decode cX0_glued 7 = .ok (.iload 4, 2) := dk_21 4 (dk_at dksX0_glued_0 7 rfl rfl)
theorem dX0_glued_9 : decode cX0_glued 9 = .ok (.invokevirtual 24, 3) := dk_182 0 24 (dk_at dksX0_glued_0 9 rfl rfl)
theorem dX0_glued_12 : decode cX0_glued 12 = .ok (.ifCond .eq 7, 3) := dk_153 0 7 (dk_at dksX0_glued_0 12 rfl rfl)
theorem dX0_glued_15 : decode cX0_glued 15 = .ok (.lconst 1, 1) := dk_10 (dk_at dksX0_glued_0 15 rfl rfl)
theorem dX0_glued_16 : decode cX0_glued 16 = .ok (.goto 4, 3) := dk_167 0 4 (dk_at dksX0_glued_0 16 rfl rfl)
theorem dX0_glued_19 : decode cX0_glued 19 = .ok (.lconst 0, 1) := dk_9 (dk_at dksX0_glued_0 19 rfl rfl)
theorem dX0_glued_20 : decode cX0_glued 20 = .ok (.lastore, 1) := dk_80 (dk_at dksX0_glued_0 20 rfl rfl)
theorem dX0_glued_21 : decode cX0_glued 21 = .ok (.goto 7, 3) := dk_167 0 7 (dk_at dksX0_glued_0 21 rfl rfl)
theorem dX0_glued_24 : decode cX0_glued 24 = .ok (.astore 6, 2) := dk_58 6 (dk_at dksX0_glued_1 0 rfl rfl)
theorem dX0_glued_26 : decode cX0_glued 26 = .ok (.iconst 1, 1) := dk_4 (dk_at dksX0_glued_1 2 rfl rfl)
theorem dX0_glued_27 : decode cX0_glued 27 = .ok (.ireturn, 1) := dk_172 (dk_at dksX0_glued_1 3 rfl rfl)
theorem dX0_glued_28 : decode cX0_glued 28 = .ok (.iconst 0, 1) := dk_3 (dk_at dksX0_glued_1 4 rfl rfl)
theorem dX0_glued_29 : decode cX0_glued 29 = .ok (.ireturn, 1) := dk_172 (dk_at dksX0_glued_1 5 rfl rfl)
abbrev cX0_copy : ByteArray := method_7_code
def yX0_copy : MethodName := ⟨RX0, "copy", "(LWiredNets;II[J)I"⟩
def dkwX0_copy_1 : List UInt8 := [3, 172]
abbrev dktX0_copy_1 : List UInt8 := dkwX0_copy_1 ++ []
def dkwX0_copy_0 : List UInt8 := [45, 3, 42, 27, 28, 182, 0, 28, 153, 0, 7, 10, 167, 0, 4, 9, 80, 167, 0, 7, 58, 4, 4, 172]
abbrev dktX0_copy_0 : List UInt8 := dkwX0_copy_0 ++ dktX0_copy_1
theorem dksX0_copy_0 : cX0_copy.data.toList.drop 0 = dktX0_copy_0 := by decide +kernel
theorem dksX0_copy_1 : cX0_copy.data.toList.drop 24 = dktX0_copy_1 := dk_seg dksX0_copy_0 24 rfl rfl
theorem dX0_copy_0 : decode cX0_copy 0 = .ok (.aload_n 3, 1) := dk_45 (dk_at dksX0_copy_0 0 rfl rfl)
theorem dX0_copy_1 : decode cX0_copy 1 = .ok (.iconst 0, 1) := dk_3 (dk_at dksX0_copy_0 1 rfl rfl)
theorem dX0_copy_2 : decode cX0_copy 2 = .ok (.aload_n 0, 1) := dk_42 (dk_at dksX0_copy_0 2 rfl rfl)
theorem dX0_copy_3 : decode cX0_copy 3 = .ok (.iload_n 1, 1) := dk_27 (dk_at dksX0_copy_0 3 rfl rfl)
theorem dX0_copy_4 : decode cX0_copy 4 = .ok (.iload_n 2, 1) := dk_28 (dk_at dksX0_copy_0 4 rfl rfl)
theorem dX0_copy_5 : decode cX0_copy 5 = .ok (.invokevirtual 28, 3) := dk_182 0 28 (dk_at dksX0_copy_0 5 rfl rfl)
theorem dX0_copy_8 : decode cX0_copy 8 = .ok (.ifCond .eq 7, 3) := dk_153 0 7 (dk_at dksX0_copy_0 8 rfl rfl)
theorem dX0_copy_11 : decode cX0_copy 11 = .ok (.lconst 1, 1) := dk_10 (dk_at dksX0_copy_0 11 rfl rfl)
theorem dX0_copy_12 : decode cX0_copy 12 = .ok (.goto 4, 3) := dk_167 0 4 (dk_at dksX0_copy_0 12 rfl rfl)
theorem dX0_copy_15 : decode cX0_copy 15 = .ok (.lconst 0, 1) := dk_9 (dk_at dksX0_copy_0 15 rfl rfl)
theorem dX0_copy_16 : decode cX0_copy 16 = .ok (.lastore, 1) := dk_80 (dk_at dksX0_copy_0 16 rfl rfl)
theorem dX0_copy_17 : decode cX0_copy 17 = .ok (.goto 7, 3) := dk_167 0 7 (dk_at dksX0_copy_0 17 rfl rfl)
theorem dX0_copy_20 : decode cX0_copy 20 = .ok (.astore 4, 2) := dk_58 4 (dk_at dksX0_copy_0 20 rfl rfl)
theorem dX0_copy_22 : decode cX0_copy 22 = .ok (.iconst 1, 1) := dk_4 (dk_at dksX0_copy_0 22 rfl rfl)
theorem dX0_copy_23 : decode cX0_copy 23 = .ok (.ireturn, 1) := dk_172 (dk_at dksX0_copy_0 23 rfl rfl)
theorem dX0_copy_24 : decode cX0_copy 24 = .ok (.iconst 0, 1) := dk_3 (dk_at dksX0_copy_1 0 rfl rfl)
theorem dX0_copy_25 : decode cX0_copy 25 = .ok (.ireturn, 1) := dk_172 (dk_at dksX0_copy_1 1 rfl rfl)
abbrev cX0_about : ByteArray := method_8_code
def yX0_about : MethodName := ⟨RX0, "about", "(LWiredNets;II[J)I"⟩
def dkwX0_about_0 : List UInt8 := [45, 3, 42, 27, 28, 182, 0, 32, 133, 80, 167, 0, 7, 58, 4, 4, 172, 3, 172]
abbrev dktX0_about_0 : List UInt8 := dkwX0_about_0 ++ []
theorem dksX0_about_0 : cX0_about.data.toList.drop 0 = dktX0_about_0 := by decide +kernel
theorem dX0_about_0 : decode cX0_about 0 = .ok (.aload_n 3, 1) := dk_45 (dk_at dksX0_about_0 0 rfl rfl)
theorem dX0_about_1 : decode cX0_about 1 = .ok (.iconst 0, 1) := dk_3 (dk_at dksX0_about_0 1 rfl rfl)
theorem dX0_about_2 : decode cX0_about 2 = .ok (.aload_n 0, 1) := dk_42 (dk_at dksX0_about_0 2 rfl rfl)
theorem dX0_about_3 : decode cX0_about 3 = .ok (.iload_n 1, 1) := dk_27 (dk_at dksX0_about_0 3 rfl rfl)
theorem dX0_about_4 : decode cX0_about 4 = .ok (.iload_n 2, 1) := dk_28 (dk_at dksX0_about_0 4 rfl rfl)
theorem dX0_about_5 : decode cX0_about 5 = .ok (.invokevirtual 32, 3) := dk_182 0 32 (dk_at dksX0_about_0 5 rfl rfl)
theorem dX0_about_8 : decode cX0_about 8 = .ok (.i2l, 1) := dk_133 (dk_at dksX0_about_0 8 rfl rfl)
theorem dX0_about_9 : decode cX0_about 9 = .ok (.lastore, 1) := dk_80 (dk_at dksX0_about_0 9 rfl rfl)
theorem dX0_about_10 : decode cX0_about 10 = .ok (.goto 7, 3) := dk_167 0 7 (dk_at dksX0_about_0 10 rfl rfl)
theorem dX0_about_13 : decode cX0_about 13 = .ok (.astore 4, 2) := dk_58 4 (dk_at dksX0_about_0 13 rfl rfl)
theorem dX0_about_15 : decode cX0_about 15 = .ok (.iconst 1, 1) := dk_4 (dk_at dksX0_about_0 15 rfl rfl)
theorem dX0_about_16 : decode cX0_about 16 = .ok (.ireturn, 1) := dk_172 (dk_at dksX0_about_0 16 rfl rfl)
theorem dX0_about_17 : decode cX0_about 17 = .ok (.iconst 0, 1) := dk_3 (dk_at dksX0_about_0 17 rfl rfl)
theorem dX0_about_18 : decode cX0_about 18 = .ok (.ireturn, 1) := dk_172 (dk_at dksX0_about_0 18 rfl rfl)
abbrev cX0_lineAt : ByteArray := method_9_code
def yX0_lineAt : MethodName := ⟨RX0, "lineAt", "(LWiredNets;II[J)I"⟩
def dkwX0_lineAt_0 : List UInt8 := [45, 3, 42, 27, 28, 182, 0, 35, 133, 80, 167, 0, 7, 58, 4, 4, 172, 3, 172]
abbrev dktX0_lineAt_0 : List UInt8 := dkwX0_lineAt_0 ++ []
theorem dksX0_lineAt_0 : cX0_lineAt.data.toList.drop 0 = dktX0_lineAt_0 := by decide +kernel
theorem dX0_lineAt_0 : decode cX0_lineAt 0 = .ok (.aload_n 3, 1) := dk_45 (dk_at dksX0_lineAt_0 0 rfl rfl)
theorem dX0_lineAt_1 : decode cX0_lineAt 1 = .ok (.iconst 0, 1) := dk_3 (dk_at dksX0_lineAt_0 1 rfl rfl)
theorem dX0_lineAt_2 : decode cX0_lineAt 2 = .ok (.aload_n 0, 1) := dk_42 (dk_at dksX0_lineAt_0 2 rfl rfl)
theorem dX0_lineAt_3 : decode cX0_lineAt 3 = .ok (.iload_n 1, 1) := dk_27 (dk_at dksX0_lineAt_0 3 rfl rfl)
theorem dX0_lineAt_4 : decode cX0_lineAt 4 = .ok (.iload_n 2, 1) := dk_28 (dk_at dksX0_lineAt_0 4 rfl rfl)
theorem dX0_lineAt_5 : decode cX0_lineAt 5 = .ok (.invokevirtual 35, 3) := dk_182 0 35 (dk_at dksX0_lineAt_0 5 rfl rfl)
theorem dX0_lineAt_8 : decode cX0_lineAt 8 = .ok (.i2l, 1) := dk_133 (dk_at dksX0_lineAt_0 8 rfl rfl)
theorem dX0_lineAt_9 : decode cX0_lineAt 9 = .ok (.lastore, 1) := dk_80 (dk_at dksX0_lineAt_0 9 rfl rfl)
theorem dX0_lineAt_10 : decode cX0_lineAt 10 = .ok (.goto 7, 3) := dk_167 0 7 (dk_at dksX0_lineAt_0 10 rfl rfl)
theorem dX0_lineAt_13 : decode cX0_lineAt 13 = .ok (.astore 4, 2) := dk_58 4 (dk_at dksX0_lineAt_0 13 rfl rfl)
theorem dX0_lineAt_15 : decode cX0_lineAt 15 = .ok (.iconst 1, 1) := dk_4 (dk_at dksX0_lineAt_0 15 rfl rfl)
theorem dX0_lineAt_16 : decode cX0_lineAt 16 = .ok (.ireturn, 1) := dk_172 (dk_at dksX0_lineAt_0 16 rfl rfl)
theorem dX0_lineAt_17 : decode cX0_lineAt 17 = .ok (.iconst 0, 1) := dk_3 (dk_at dksX0_lineAt_0 17 rfl rfl)
theorem dX0_lineAt_18 : decode cX0_lineAt 18 = .ok (.ireturn, 1) := dk_172 (dk_at dksX0_lineAt_0 18 rfl rfl)
abbrev cX0_distance : ByteArray := method_10_code
def yX0_distance : MethodName := ⟨RX0, "distance", "(LWiredNets;III[J)I"⟩
def dkwX0_distance_0 : List UInt8 := [25, 4, 3, 42, 27, 28, 29, 182, 0, 38, 133, 80, 167, 0, 7, 58, 5, 4, 172, 3, 172]
abbrev dktX0_distance_0 : List UInt8 := dkwX0_distance_0 ++ []
theorem dksX0_distance_0 : cX0_distance.data.toList.drop 0 = dktX0_distance_0 := by decide +kernel
theorem dX0_distance_0 : decode cX0_distance 0 = .ok (.aload 4, 2) := dk_25 4 (dk_at dksX0_distance_0 0 rfl rfl)
theorem dX0_distance_2 : decode cX0_distance 2 = .ok (.iconst 0, 1) := dk_3 (dk_at dksX0_distance_0 2 rfl rfl)
theorem dX0_distance_3 : decode cX0_distance 3 = .ok (.aload_n 0, 1) := dk_42 (dk_at dksX0_distance_0 3 rfl rfl)
theorem dX0_distance_4 : decode cX0_distance 4 = .ok (.iload_n 1, 1) := dk_27 (dk_at dksX0_distance_0 4 rfl rfl)
theorem dX0_distance_5 : decode cX0_distance 5 = .ok (.iload_n 2, 1) := dk_28 (dk_at dksX0_distance_0 5 rfl rfl)
theorem dX0_distance_6 : decode cX0_distance 6 = .ok (.iload_n 3, 1) := dk_29 (dk_at dksX0_distance_0 6 rfl rfl)
theorem dX0_distance_7 : decode cX0_distance 7 = .ok (.invokevirtual 38, 3) := dk_182 0 38 (dk_at dksX0_distance_0 7 rfl rfl)
theorem dX0_distance_10 : decode cX0_distance 10 = .ok (.i2l, 1) := dk_133 (dk_at dksX0_distance_0 10 rfl rfl)
theorem dX0_distance_11 : decode cX0_distance 11 = .ok (.lastore, 1) := dk_80 (dk_at dksX0_distance_0 11 rfl rfl)
theorem dX0_distance_12 : decode cX0_distance 12 = .ok (.goto 7, 3) := dk_167 0 7 (dk_at dksX0_distance_0 12 rfl rfl)
theorem dX0_distance_15 : decode cX0_distance 15 = .ok (.astore 5, 2) := dk_58 5 (dk_at dksX0_distance_0 15 rfl rfl)
theorem dX0_distance_17 : decode cX0_distance 17 = .ok (.iconst 1, 1) := dk_4 (dk_at dksX0_distance_0 17 rfl rfl)
theorem dX0_distance_18 : decode cX0_distance 18 = .ok (.ireturn, 1) := dk_172 (dk_at dksX0_distance_0 18 rfl rfl)
theorem dX0_distance_19 : decode cX0_distance 19 = .ok (.iconst 0, 1) := dk_3 (dk_at dksX0_distance_0 19 rfl rfl)
theorem dX0_distance_20 : decode cX0_distance 20 = .ok (.ireturn, 1) := dk_172 (dk_at dksX0_distance_0 20 rfl rfl)
abbrev cX0_far : ByteArray := method_11_code
def yX0_far : MethodName := ⟨RX0, "far", "(LWiredNets;II[J)I"⟩
def dkwX0_far_0 : List UInt8 := [45, 3, 42, 27, 28, 182, 0, 42, 133, 80, 167, 0, 7, 58, 4, 4, 172, 3, 172]
abbrev dktX0_far_0 : List UInt8 := dkwX0_far_0 ++ []
theorem dksX0_far_0 : cX0_far.data.toList.drop 0 = dktX0_far_0 := by decide +kernel
theorem dX0_far_0 : decode cX0_far 0 = .ok (.aload_n 3, 1) := dk_45 (dk_at dksX0_far_0 0 rfl rfl)
theorem dX0_far_1 : decode cX0_far 1 = .ok (.iconst 0, 1) := dk_3 (dk_at dksX0_far_0 1 rfl rfl)
theorem dX0_far_2 : decode cX0_far 2 = .ok (.aload_n 0, 1) := dk_42 (dk_at dksX0_far_0 2 rfl rfl)
theorem dX0_far_3 : decode cX0_far 3 = .ok (.iload_n 1, 1) := dk_27 (dk_at dksX0_far_0 3 rfl rfl)
theorem dX0_far_4 : decode cX0_far 4 = .ok (.iload_n 2, 1) := dk_28 (dk_at dksX0_far_0 4 rfl rfl)
theorem dX0_far_5 : decode cX0_far 5 = .ok (.invokevirtual 42, 3) := dk_182 0 42 (dk_at dksX0_far_0 5 rfl rfl)
theorem dX0_far_8 : decode cX0_far 8 = .ok (.i2l, 1) := dk_133 (dk_at dksX0_far_0 8 rfl rfl)
theorem dX0_far_9 : decode cX0_far 9 = .ok (.lastore, 1) := dk_80 (dk_at dksX0_far_0 9 rfl rfl)
theorem dX0_far_10 : decode cX0_far 10 = .ok (.goto 7, 3) := dk_167 0 7 (dk_at dksX0_far_0 10 rfl rfl)
theorem dX0_far_13 : decode cX0_far 13 = .ok (.astore 4, 2) := dk_58 4 (dk_at dksX0_far_0 13 rfl rfl)
theorem dX0_far_15 : decode cX0_far 15 = .ok (.iconst 1, 1) := dk_4 (dk_at dksX0_far_0 15 rfl rfl)
theorem dX0_far_16 : decode cX0_far 16 = .ok (.ireturn, 1) := dk_172 (dk_at dksX0_far_0 16 rfl rfl)
theorem dX0_far_17 : decode cX0_far 17 = .ok (.iconst 0, 1) := dk_3 (dk_at dksX0_far_0 17 rfl rfl)
theorem dX0_far_18 : decode cX0_far 18 = .ok (.ireturn, 1) := dk_172 (dk_at dksX0_far_0 18 rfl rfl)
abbrev cX0_apart : ByteArray := method_12_code
def yX0_apart : MethodName := ⟨RX0, "apart", "(LWiredNets;III[J)I"⟩
def dkwX0_apart_0 : List UInt8 := [25, 4, 3, 42, 27, 28, 29, 182, 0, 45, 133, 80, 167, 0, 7, 58, 5, 4, 172, 3, 172]
abbrev dktX0_apart_0 : List UInt8 := dkwX0_apart_0 ++ []
theorem dksX0_apart_0 : cX0_apart.data.toList.drop 0 = dktX0_apart_0 := by decide +kernel
theorem dX0_apart_0 : decode cX0_apart 0 = .ok (.aload 4, 2) := dk_25 4 (dk_at dksX0_apart_0 0 rfl rfl)
theorem dX0_apart_2 : decode cX0_apart 2 = .ok (.iconst 0, 1) := dk_3 (dk_at dksX0_apart_0 2 rfl rfl)
theorem dX0_apart_3 : decode cX0_apart 3 = .ok (.aload_n 0, 1) := dk_42 (dk_at dksX0_apart_0 3 rfl rfl)
theorem dX0_apart_4 : decode cX0_apart 4 = .ok (.iload_n 1, 1) := dk_27 (dk_at dksX0_apart_0 4 rfl rfl)
theorem dX0_apart_5 : decode cX0_apart 5 = .ok (.iload_n 2, 1) := dk_28 (dk_at dksX0_apart_0 5 rfl rfl)
theorem dX0_apart_6 : decode cX0_apart 6 = .ok (.iload_n 3, 1) := dk_29 (dk_at dksX0_apart_0 6 rfl rfl)
theorem dX0_apart_7 : decode cX0_apart 7 = .ok (.invokevirtual 45, 3) := dk_182 0 45 (dk_at dksX0_apart_0 7 rfl rfl)
theorem dX0_apart_10 : decode cX0_apart 10 = .ok (.i2l, 1) := dk_133 (dk_at dksX0_apart_0 10 rfl rfl)
theorem dX0_apart_11 : decode cX0_apart 11 = .ok (.lastore, 1) := dk_80 (dk_at dksX0_apart_0 11 rfl rfl)
theorem dX0_apart_12 : decode cX0_apart 12 = .ok (.goto 7, 3) := dk_167 0 7 (dk_at dksX0_apart_0 12 rfl rfl)
theorem dX0_apart_15 : decode cX0_apart 15 = .ok (.astore 5, 2) := dk_58 5 (dk_at dksX0_apart_0 15 rfl rfl)
theorem dX0_apart_17 : decode cX0_apart 17 = .ok (.iconst 1, 1) := dk_4 (dk_at dksX0_apart_0 17 rfl rfl)
theorem dX0_apart_18 : decode cX0_apart 18 = .ok (.ireturn, 1) := dk_172 (dk_at dksX0_apart_0 18 rfl rfl)
theorem dX0_apart_19 : decode cX0_apart 19 = .ok (.iconst 0, 1) := dk_3 (dk_at dksX0_apart_0 19 rfl rfl)
theorem dX0_apart_20 : decode cX0_apart 20 = .ok (.ireturn, 1) := dk_172 (dk_at dksX0_apart_0 20 rfl rfl)
abbrev cX0_poly : ByteArray := method_13_code
def yX0_poly : MethodName := ⟨RX0, "poly", "(LWiredNets;II[J)I"⟩
def dkwX0_poly_0 : List UInt8 := [45, 3, 42, 27, 28, 182, 0, 48, 80, 167, 0, 11, 58, 4, 4, 172, 58, 4, 5, 172, 3, 172]
abbrev dktX0_poly_0 : List UInt8 := dkwX0_poly_0 ++ []
theorem dksX0_poly_0 : cX0_poly.data.toList.drop 0 = dktX0_poly_0 := by decide +kernel
theorem dX0_poly_0 : decode cX0_poly 0 = .ok (.aload_n 3, 1) := dk_45 (dk_at dksX0_poly_0 0 rfl rfl)
theorem dX0_poly_1 : decode cX0_poly 1 = .ok (.iconst 0, 1) := dk_3 (dk_at dksX0_poly_0 1 rfl rfl)
theorem dX0_poly_2 : decode cX0_poly 2 = .ok (.aload_n 0, 1) := dk_42 (dk_at dksX0_poly_0 2 rfl rfl)
theorem dX0_poly_3 : decode cX0_poly 3 = .ok (.iload_n 1, 1) := dk_27 (dk_at dksX0_poly_0 3 rfl rfl)
theorem dX0_poly_4 : decode cX0_poly 4 = .ok (.iload_n 2, 1) := dk_28 (dk_at dksX0_poly_0 4 rfl rfl)
theorem dX0_poly_5 : decode cX0_poly 5 = .ok (.invokevirtual 48, 3) := dk_182 0 48 (dk_at dksX0_poly_0 5 rfl rfl)
theorem dX0_poly_8 : decode cX0_poly 8 = .ok (.lastore, 1) := dk_80 (dk_at dksX0_poly_0 8 rfl rfl)
theorem dX0_poly_9 : decode cX0_poly 9 = .ok (.goto 11, 3) := dk_167 0 11 (dk_at dksX0_poly_0 9 rfl rfl)
theorem dX0_poly_12 : decode cX0_poly 12 = .ok (.astore 4, 2) := dk_58 4 (dk_at dksX0_poly_0 12 rfl rfl)
theorem dX0_poly_14 : decode cX0_poly 14 = .ok (.iconst 1, 1) := dk_4 (dk_at dksX0_poly_0 14 rfl rfl)
theorem dX0_poly_15 : decode cX0_poly 15 = .ok (.ireturn, 1) := dk_172 (dk_at dksX0_poly_0 15 rfl rfl)
theorem dX0_poly_16 : decode cX0_poly 16 = .ok (.astore 4, 2) := dk_58 4 (dk_at dksX0_poly_0 16 rfl rfl)
theorem dX0_poly_18 : decode cX0_poly 18 = .ok (.iconst 2, 1) := dk_5 (dk_at dksX0_poly_0 18 rfl rfl)
theorem dX0_poly_19 : decode cX0_poly 19 = .ok (.ireturn, 1) := dk_172 (dk_at dksX0_poly_0 19 rfl rfl)
theorem dX0_poly_20 : decode cX0_poly 20 = .ok (.iconst 0, 1) := dk_3 (dk_at dksX0_poly_0 20 rfl rfl)
theorem dX0_poly_21 : decode cX0_poly 21 = .ok (.ireturn, 1) := dk_172 (dk_at dksX0_poly_0 21 rfl rfl)
abbrev cX0_above : ByteArray := method_14_code
def yX0_above : MethodName := ⟨RX0, "above", "(LWiredNets;II[J)I"⟩
def dkwX0_above_0 : List UInt8 := [45, 3, 42, 27, 28, 182, 0, 52, 133, 80, 167, 0, 11, 58, 4, 4, 172, 58, 4, 5, 172, 3, 172]
abbrev dktX0_above_0 : List UInt8 := dkwX0_above_0 ++ []
theorem dksX0_above_0 : cX0_above.data.toList.drop 0 = dktX0_above_0 := by decide +kernel
theorem dX0_above_0 : decode cX0_above 0 = .ok (.aload_n 3, 1) := dk_45 (dk_at dksX0_above_0 0 rfl rfl)
theorem dX0_above_1 : decode cX0_above 1 = .ok (.iconst 0, 1) := dk_3 (dk_at dksX0_above_0 1 rfl rfl)
theorem dX0_above_2 : decode cX0_above 2 = .ok (.aload_n 0, 1) := dk_42 (dk_at dksX0_above_0 2 rfl rfl)
theorem dX0_above_3 : decode cX0_above 3 = .ok (.iload_n 1, 1) := dk_27 (dk_at dksX0_above_0 3 rfl rfl)
theorem dX0_above_4 : decode cX0_above 4 = .ok (.iload_n 2, 1) := dk_28 (dk_at dksX0_above_0 4 rfl rfl)
theorem dX0_above_5 : decode cX0_above 5 = .ok (.invokevirtual 52, 3) := dk_182 0 52 (dk_at dksX0_above_0 5 rfl rfl)
theorem dX0_above_8 : decode cX0_above 8 = .ok (.i2l, 1) := dk_133 (dk_at dksX0_above_0 8 rfl rfl)
theorem dX0_above_9 : decode cX0_above 9 = .ok (.lastore, 1) := dk_80 (dk_at dksX0_above_0 9 rfl rfl)
theorem dX0_above_10 : decode cX0_above 10 = .ok (.goto 11, 3) := dk_167 0 11 (dk_at dksX0_above_0 10 rfl rfl)
theorem dX0_above_13 : decode cX0_above 13 = .ok (.astore 4, 2) := dk_58 4 (dk_at dksX0_above_0 13 rfl rfl)
theorem dX0_above_15 : decode cX0_above 15 = .ok (.iconst 1, 1) := dk_4 (dk_at dksX0_above_0 15 rfl rfl)
theorem dX0_above_16 : decode cX0_above 16 = .ok (.ireturn, 1) := dk_172 (dk_at dksX0_above_0 16 rfl rfl)
theorem dX0_above_17 : decode cX0_above 17 = .ok (.astore 4, 2) := dk_58 4 (dk_at dksX0_above_0 17 rfl rfl)
theorem dX0_above_19 : decode cX0_above 19 = .ok (.iconst 2, 1) := dk_5 (dk_at dksX0_above_0 19 rfl rfl)
theorem dX0_above_20 : decode cX0_above 20 = .ok (.ireturn, 1) := dk_172 (dk_at dksX0_above_0 20 rfl rfl)
theorem dX0_above_21 : decode cX0_above 21 = .ok (.iconst 0, 1) := dk_3 (dk_at dksX0_above_0 21 rfl rfl)
theorem dX0_above_22 : decode cX0_above 22 = .ok (.ireturn, 1) := dk_172 (dk_at dksX0_above_0 22 rfl rfl)
abbrev cX0_walks : ByteArray := method_15_code
def yX0_walks : MethodName := ⟨RX0, "walks", "(LWiredNets;II[J)I"⟩
def dkwX0_walks_0 : List UInt8 := [45, 3, 42, 27, 28, 182, 0, 55, 80, 167, 0, 11, 58, 4, 4, 172, 58, 4, 5, 172, 3, 172]
abbrev dktX0_walks_0 : List UInt8 := dkwX0_walks_0 ++ []
theorem dksX0_walks_0 : cX0_walks.data.toList.drop 0 = dktX0_walks_0 := by decide +kernel
theorem dX0_walks_0 : decode cX0_walks 0 = .ok (.aload_n 3, 1) := dk_45 (dk_at dksX0_walks_0 0 rfl rfl)
theorem dX0_walks_1 : decode cX0_walks 1 = .ok (.iconst 0, 1) := dk_3 (dk_at dksX0_walks_0 1 rfl rfl)
theorem dX0_walks_2 : decode cX0_walks 2 = .ok (.aload_n 0, 1) := dk_42 (dk_at dksX0_walks_0 2 rfl rfl)
theorem dX0_walks_3 : decode cX0_walks 3 = .ok (.iload_n 1, 1) := dk_27 (dk_at dksX0_walks_0 3 rfl rfl)
theorem dX0_walks_4 : decode cX0_walks 4 = .ok (.iload_n 2, 1) := dk_28 (dk_at dksX0_walks_0 4 rfl rfl)
theorem dX0_walks_5 : decode cX0_walks 5 = .ok (.invokevirtual 55, 3) := dk_182 0 55 (dk_at dksX0_walks_0 5 rfl rfl)
theorem dX0_walks_8 : decode cX0_walks 8 = .ok (.lastore, 1) := dk_80 (dk_at dksX0_walks_0 8 rfl rfl)
theorem dX0_walks_9 : decode cX0_walks 9 = .ok (.goto 11, 3) := dk_167 0 11 (dk_at dksX0_walks_0 9 rfl rfl)
theorem dX0_walks_12 : decode cX0_walks 12 = .ok (.astore 4, 2) := dk_58 4 (dk_at dksX0_walks_0 12 rfl rfl)
theorem dX0_walks_14 : decode cX0_walks 14 = .ok (.iconst 1, 1) := dk_4 (dk_at dksX0_walks_0 14 rfl rfl)
theorem dX0_walks_15 : decode cX0_walks 15 = .ok (.ireturn, 1) := dk_172 (dk_at dksX0_walks_0 15 rfl rfl)
theorem dX0_walks_16 : decode cX0_walks 16 = .ok (.astore 4, 2) := dk_58 4 (dk_at dksX0_walks_0 16 rfl rfl)
theorem dX0_walks_18 : decode cX0_walks 18 = .ok (.iconst 2, 1) := dk_5 (dk_at dksX0_walks_0 18 rfl rfl)
theorem dX0_walks_19 : decode cX0_walks 19 = .ok (.ireturn, 1) := dk_172 (dk_at dksX0_walks_0 19 rfl rfl)
theorem dX0_walks_20 : decode cX0_walks 20 = .ok (.iconst 0, 1) := dk_3 (dk_at dksX0_walks_0 20 rfl rfl)
theorem dX0_walks_21 : decode cX0_walks 21 = .ok (.ireturn, 1) := dk_172 (dk_at dksX0_walks_0 21 rfl rfl)
abbrev cX0_change : ByteArray := method_16_code
def yX0_change : MethodName := ⟨RX0, "change", "(LWiredNets;IIIZ[J)I"⟩
def dkwX0_change_1 : List UInt8 := [58, 6, 4, 172, 3, 172]
abbrev dktX0_change_1 : List UInt8 := dkwX0_change_1 ++ []
def dkwX0_change_0 : List UInt8 := [25, 5, 3, 42, 27, 28, 29, 21, 4, 182, 0, 58, 153, 0, 7, 10, 167, 0, 4, 9, 80, 167, 0, 7]
abbrev dktX0_change_0 : List UInt8 := dkwX0_change_0 ++ dktX0_change_1
theorem dksX0_change_0 : cX0_change.data.toList.drop 0 = dktX0_change_0 := by decide +kernel
theorem dksX0_change_1 : cX0_change.data.toList.drop 24 = dktX0_change_1 := dk_seg dksX0_change_0 24 rfl rfl
theorem dX0_change_0 : decode cX0_change 0 = .ok (.aload 5, 2) := dk_25 5 (dk_at dksX0_change_0 0 rfl rfl)
theorem dX0_change_2 : decode cX0_change 2 = .ok (.iconst 0, 1) := dk_3 (dk_at dksX0_change_0 2 rfl rfl)
theorem dX0_change_3 : decode cX0_change 3 = .ok (.aload_n 0, 1) := dk_42 (dk_at dksX0_change_0 3 rfl rfl)
theorem dX0_change_4 : decode cX0_change 4 = .ok (.iload_n 1, 1) := dk_27 (dk_at dksX0_change_0 4 rfl rfl)
theorem dX0_change_5 : decode cX0_change 5 = .ok (.iload_n 2, 1) := dk_28 (dk_at dksX0_change_0 5 rfl rfl)
theorem dX0_change_6 : decode cX0_change 6 = .ok (.iload_n 3, 1) := dk_29 (dk_at dksX0_change_0 6 rfl rfl)
theorem dX0_change_7 : decode cX0_change 7 = .ok (.iload 4, 2) := dk_21 4 (dk_at dksX0_change_0 7 rfl rfl)
theorem dX0_change_9 : decode cX0_change 9 = .ok (.invokevirtual 58, 3) := dk_182 0 58 (dk_at dksX0_change_0 9 rfl rfl)
theorem dX0_change_12 : decode cX0_change 12 = .ok (.ifCond .eq 7, 3) := dk_153 0 7 (dk_at dksX0_change_0 12 rfl rfl)
theorem dX0_change_15 : decode cX0_change 15 = .ok (.lconst 1, 1) := dk_10 (dk_at dksX0_change_0 15 rfl rfl)
theorem dX0_change_16 : decode cX0_change 16 = .ok (.goto 4, 3) := dk_167 0 4 (dk_at dksX0_change_0 16 rfl rfl)
theorem dX0_change_19 : decode cX0_change 19 = .ok (.lconst 0, 1) := dk_9 (dk_at dksX0_change_0 19 rfl rfl)
theorem dX0_change_20 : decode cX0_change 20 = .ok (.lastore, 1) := dk_80 (dk_at dksX0_change_0 20 rfl rfl)
theorem dX0_change_21 : decode cX0_change 21 = .ok (.goto 7, 3) := dk_167 0 7 (dk_at dksX0_change_0 21 rfl rfl)
theorem dX0_change_24 : decode cX0_change 24 = .ok (.astore 6, 2) := dk_58 6 (dk_at dksX0_change_1 0 rfl rfl)
theorem dX0_change_26 : decode cX0_change 26 = .ok (.iconst 1, 1) := dk_4 (dk_at dksX0_change_1 2 rfl rfl)
theorem dX0_change_27 : decode cX0_change 27 = .ok (.ireturn, 1) := dk_172 (dk_at dksX0_change_1 3 rfl rfl)
theorem dX0_change_28 : decode cX0_change 28 = .ok (.iconst 0, 1) := dk_3 (dk_at dksX0_change_1 4 rfl rfl)
theorem dX0_change_29 : decode cX0_change 29 = .ok (.ireturn, 1) := dk_172 (dk_at dksX0_change_1 5 rfl rfl)
abbrev cX0_better : ByteArray := method_17_code
def yX0_better : MethodName := ⟨RX0, "better", "(LWiredNets;I[J)I"⟩
def dkwX0_better_0 : List UInt8 := [44, 3, 42, 27, 182, 0, 62, 133, 80, 167, 0, 6, 78, 4, 172, 3, 172]
abbrev dktX0_better_0 : List UInt8 := dkwX0_better_0 ++ []
theorem dksX0_better_0 : cX0_better.data.toList.drop 0 = dktX0_better_0 := by decide +kernel
theorem dX0_better_0 : decode cX0_better 0 = .ok (.aload_n 2, 1) := dk_44 (dk_at dksX0_better_0 0 rfl rfl)
theorem dX0_better_1 : decode cX0_better 1 = .ok (.iconst 0, 1) := dk_3 (dk_at dksX0_better_0 1 rfl rfl)
theorem dX0_better_2 : decode cX0_better 2 = .ok (.aload_n 0, 1) := dk_42 (dk_at dksX0_better_0 2 rfl rfl)
theorem dX0_better_3 : decode cX0_better 3 = .ok (.iload_n 1, 1) := dk_27 (dk_at dksX0_better_0 3 rfl rfl)
theorem dX0_better_4 : decode cX0_better 4 = .ok (.invokevirtual 62, 3) := dk_182 0 62 (dk_at dksX0_better_0 4 rfl rfl)
theorem dX0_better_7 : decode cX0_better 7 = .ok (.i2l, 1) := dk_133 (dk_at dksX0_better_0 7 rfl rfl)
theorem dX0_better_8 : decode cX0_better 8 = .ok (.lastore, 1) := dk_80 (dk_at dksX0_better_0 8 rfl rfl)
theorem dX0_better_9 : decode cX0_better 9 = .ok (.goto 6, 3) := dk_167 0 6 (dk_at dksX0_better_0 9 rfl rfl)
theorem dX0_better_12 : decode cX0_better 12 = .ok (.astore_n 3, 1) := dk_78 (dk_at dksX0_better_0 12 rfl rfl)
theorem dX0_better_13 : decode cX0_better 13 = .ok (.iconst 1, 1) := dk_4 (dk_at dksX0_better_0 13 rfl rfl)
theorem dX0_better_14 : decode cX0_better 14 = .ok (.ireturn, 1) := dk_172 (dk_at dksX0_better_0 14 rfl rfl)
theorem dX0_better_15 : decode cX0_better 15 = .ok (.iconst 0, 1) := dk_3 (dk_at dksX0_better_0 15 rfl rfl)
theorem dX0_better_16 : decode cX0_better 16 = .ok (.ireturn, 1) := dk_172 (dk_at dksX0_better_0 16 rfl rfl)
abbrev cX0_cool : ByteArray := method_18_code
def yX0_cool : MethodName := ⟨RX0, "cool", "(LWiredNets;IIII[J)I"⟩
def dkwX0_cool_1 : List UInt8 := [172, 3, 172]
abbrev dktX0_cool_1 : List UInt8 := dkwX0_cool_1 ++ []
def dkwX0_cool_0 : List UInt8 := [25, 5, 3, 42, 27, 28, 29, 21, 4, 182, 0, 66, 133, 80, 167, 0, 11, 58, 6, 4, 172, 58, 6, 5]
abbrev dktX0_cool_0 : List UInt8 := dkwX0_cool_0 ++ dktX0_cool_1
theorem dksX0_cool_0 : cX0_cool.data.toList.drop 0 = dktX0_cool_0 := by decide +kernel
theorem dksX0_cool_1 : cX0_cool.data.toList.drop 24 = dktX0_cool_1 := dk_seg dksX0_cool_0 24 rfl rfl
theorem dX0_cool_0 : decode cX0_cool 0 = .ok (.aload 5, 2) := dk_25 5 (dk_at dksX0_cool_0 0 rfl rfl)
theorem dX0_cool_2 : decode cX0_cool 2 = .ok (.iconst 0, 1) := dk_3 (dk_at dksX0_cool_0 2 rfl rfl)
theorem dX0_cool_3 : decode cX0_cool 3 = .ok (.aload_n 0, 1) := dk_42 (dk_at dksX0_cool_0 3 rfl rfl)
theorem dX0_cool_4 : decode cX0_cool 4 = .ok (.iload_n 1, 1) := dk_27 (dk_at dksX0_cool_0 4 rfl rfl)
theorem dX0_cool_5 : decode cX0_cool 5 = .ok (.iload_n 2, 1) := dk_28 (dk_at dksX0_cool_0 5 rfl rfl)
theorem dX0_cool_6 : decode cX0_cool 6 = .ok (.iload_n 3, 1) := dk_29 (dk_at dksX0_cool_0 6 rfl rfl)
theorem dX0_cool_7 : decode cX0_cool 7 = .ok (.iload 4, 2) := dk_21 4 (dk_at dksX0_cool_0 7 rfl rfl)
theorem dX0_cool_9 : decode cX0_cool 9 = .ok (.invokevirtual 66, 3) := dk_182 0 66 (dk_at dksX0_cool_0 9 rfl rfl)
theorem dX0_cool_12 : decode cX0_cool 12 = .ok (.i2l, 1) := dk_133 (dk_at dksX0_cool_0 12 rfl rfl)
theorem dX0_cool_13 : decode cX0_cool 13 = .ok (.lastore, 1) := dk_80 (dk_at dksX0_cool_0 13 rfl rfl)
theorem dX0_cool_14 : decode cX0_cool 14 = .ok (.goto 11, 3) := dk_167 0 11 (dk_at dksX0_cool_0 14 rfl rfl)
theorem dX0_cool_17 : decode cX0_cool 17 = .ok (.astore 6, 2) := dk_58 6 (dk_at dksX0_cool_0 17 rfl rfl)
theorem dX0_cool_19 : decode cX0_cool 19 = .ok (.iconst 1, 1) := dk_4 (dk_at dksX0_cool_0 19 rfl rfl)
theorem dX0_cool_20 : decode cX0_cool 20 = .ok (.ireturn, 1) := dk_172 (dk_at dksX0_cool_0 20 rfl rfl)
theorem dX0_cool_21 : decode cX0_cool 21 = .ok (.astore 6, 2) := dk_58 6 (dk_at dksX0_cool_0 21 rfl rfl)
theorem dX0_cool_23 : decode cX0_cool 23 = .ok (.iconst 2, 1) := dk_5 (dk_at dksX0_cool_0 23 rfl rfl)
theorem dX0_cool_24 : decode cX0_cool 24 = .ok (.ireturn, 1) := dk_172 (dk_at dksX0_cool_1 0 rfl rfl)
theorem dX0_cool_25 : decode cX0_cool 25 = .ok (.iconst 0, 1) := dk_3 (dk_at dksX0_cool_1 1 rfl rfl)
theorem dX0_cool_26 : decode cX0_cool 26 = .ok (.ireturn, 1) := dk_172 (dk_at dksX0_cool_1 2 rfl rfl)
abbrev cX0_seek : ByteArray := method_19_code
def yX0_seek : MethodName := ⟨RX0, "seek", "(LWiredNets;IIII[J)I"⟩
def dkwX0_seek_0 : List UInt8 := [25, 5, 3, 42, 27, 28, 29, 21, 4, 182, 0, 70, 133, 80, 167, 0, 7, 58, 6, 4, 172, 3, 172]
abbrev dktX0_seek_0 : List UInt8 := dkwX0_seek_0 ++ []
theorem dksX0_seek_0 : cX0_seek.data.toList.drop 0 = dktX0_seek_0 := by decide +kernel
theorem dX0_seek_0 : decode cX0_seek 0 = .ok (.aload 5, 2) := dk_25 5 (dk_at dksX0_seek_0 0 rfl rfl)
theorem dX0_seek_2 : decode cX0_seek 2 = .ok (.iconst 0, 1) := dk_3 (dk_at dksX0_seek_0 2 rfl rfl)
theorem dX0_seek_3 : decode cX0_seek 3 = .ok (.aload_n 0, 1) := dk_42 (dk_at dksX0_seek_0 3 rfl rfl)
theorem dX0_seek_4 : decode cX0_seek 4 = .ok (.iload_n 1, 1) := dk_27 (dk_at dksX0_seek_0 4 rfl rfl)
theorem dX0_seek_5 : decode cX0_seek 5 = .ok (.iload_n 2, 1) := dk_28 (dk_at dksX0_seek_0 5 rfl rfl)
theorem dX0_seek_6 : decode cX0_seek 6 = .ok (.iload_n 3, 1) := dk_29 (dk_at dksX0_seek_0 6 rfl rfl)
theorem dX0_seek_7 : decode cX0_seek 7 = .ok (.iload 4, 2) := dk_21 4 (dk_at dksX0_seek_0 7 rfl rfl)
theorem dX0_seek_9 : decode cX0_seek 9 = .ok (.invokevirtual 70, 3) := dk_182 0 70 (dk_at dksX0_seek_0 9 rfl rfl)
theorem dX0_seek_12 : decode cX0_seek 12 = .ok (.i2l, 1) := dk_133 (dk_at dksX0_seek_0 12 rfl rfl)
theorem dX0_seek_13 : decode cX0_seek 13 = .ok (.lastore, 1) := dk_80 (dk_at dksX0_seek_0 13 rfl rfl)
theorem dX0_seek_14 : decode cX0_seek 14 = .ok (.goto 7, 3) := dk_167 0 7 (dk_at dksX0_seek_0 14 rfl rfl)
theorem dX0_seek_17 : decode cX0_seek 17 = .ok (.astore 6, 2) := dk_58 6 (dk_at dksX0_seek_0 17 rfl rfl)
theorem dX0_seek_19 : decode cX0_seek 19 = .ok (.iconst 1, 1) := dk_4 (dk_at dksX0_seek_0 19 rfl rfl)
theorem dX0_seek_20 : decode cX0_seek 20 = .ok (.ireturn, 1) := dk_172 (dk_at dksX0_seek_0 20 rfl rfl)
theorem dX0_seek_21 : decode cX0_seek 21 = .ok (.iconst 0, 1) := dk_3 (dk_at dksX0_seek_0 21 rfl rfl)
theorem dX0_seek_22 : decode cX0_seek 22 = .ok (.ireturn, 1) := dk_172 (dk_at dksX0_seek_0 22 rfl rfl)
abbrev cX0_small : ByteArray := method_20_code
def yX0_small : MethodName := ⟨RX0, "small", "(LWiredNets;III[J)I"⟩
def dkwX0_small_0 : List UInt8 := [25, 4, 3, 42, 27, 28, 29, 182, 0, 73, 133, 80, 167, 0, 7, 58, 5, 4, 172, 3, 172]
abbrev dktX0_small_0 : List UInt8 := dkwX0_small_0 ++ []
theorem dksX0_small_0 : cX0_small.data.toList.drop 0 = dktX0_small_0 := by decide +kernel
theorem dX0_small_0 : decode cX0_small 0 = .ok (.aload 4, 2) := dk_25 4 (dk_at dksX0_small_0 0 rfl rfl)
theorem dX0_small_2 : decode cX0_small 2 = .ok (.iconst 0, 1) := dk_3 (dk_at dksX0_small_0 2 rfl rfl)
theorem dX0_small_3 : decode cX0_small 3 = .ok (.aload_n 0, 1) := dk_42 (dk_at dksX0_small_0 3 rfl rfl)
theorem dX0_small_4 : decode cX0_small 4 = .ok (.iload_n 1, 1) := dk_27 (dk_at dksX0_small_0 4 rfl rfl)
theorem dX0_small_5 : decode cX0_small 5 = .ok (.iload_n 2, 1) := dk_28 (dk_at dksX0_small_0 5 rfl rfl)
theorem dX0_small_6 : decode cX0_small 6 = .ok (.iload_n 3, 1) := dk_29 (dk_at dksX0_small_0 6 rfl rfl)
theorem dX0_small_7 : decode cX0_small 7 = .ok (.invokevirtual 73, 3) := dk_182 0 73 (dk_at dksX0_small_0 7 rfl rfl)
theorem dX0_small_10 : decode cX0_small 10 = .ok (.i2l, 1) := dk_133 (dk_at dksX0_small_0 10 rfl rfl)
theorem dX0_small_11 : decode cX0_small 11 = .ok (.lastore, 1) := dk_80 (dk_at dksX0_small_0 11 rfl rfl)
theorem dX0_small_12 : decode cX0_small 12 = .ok (.goto 7, 3) := dk_167 0 7 (dk_at dksX0_small_0 12 rfl rfl)
theorem dX0_small_15 : decode cX0_small 15 = .ok (.astore 5, 2) := dk_58 5 (dk_at dksX0_small_0 15 rfl rfl)
theorem dX0_small_17 : decode cX0_small 17 = .ok (.iconst 1, 1) := dk_4 (dk_at dksX0_small_0 17 rfl rfl)
theorem dX0_small_18 : decode cX0_small 18 = .ok (.ireturn, 1) := dk_172 (dk_at dksX0_small_0 18 rfl rfl)
theorem dX0_small_19 : decode cX0_small 19 = .ok (.iconst 0, 1) := dk_3 (dk_at dksX0_small_0 19 rfl rfl)
theorem dX0_small_20 : decode cX0_small 20 = .ok (.ireturn, 1) := dk_172 (dk_at dksX0_small_0 20 rfl rfl)
abbrev cX0_found : ByteArray := method_21_code
def yX0_found : MethodName := ⟨RX0, "found", "(LWiredNets;I[J)I"⟩
def dkwX0_found_0 : List UInt8 := [44, 3, 42, 27, 182, 0, 76, 133, 80, 167, 0, 6, 78, 4, 172, 3, 172]
abbrev dktX0_found_0 : List UInt8 := dkwX0_found_0 ++ []
theorem dksX0_found_0 : cX0_found.data.toList.drop 0 = dktX0_found_0 := by decide +kernel
theorem dX0_found_0 : decode cX0_found 0 = .ok (.aload_n 2, 1) := dk_44 (dk_at dksX0_found_0 0 rfl rfl)
theorem dX0_found_1 : decode cX0_found 1 = .ok (.iconst 0, 1) := dk_3 (dk_at dksX0_found_0 1 rfl rfl)
theorem dX0_found_2 : decode cX0_found 2 = .ok (.aload_n 0, 1) := dk_42 (dk_at dksX0_found_0 2 rfl rfl)
theorem dX0_found_3 : decode cX0_found 3 = .ok (.iload_n 1, 1) := dk_27 (dk_at dksX0_found_0 3 rfl rfl)
theorem dX0_found_4 : decode cX0_found 4 = .ok (.invokevirtual 76, 3) := dk_182 0 76 (dk_at dksX0_found_0 4 rfl rfl)
theorem dX0_found_7 : decode cX0_found 7 = .ok (.i2l, 1) := dk_133 (dk_at dksX0_found_0 7 rfl rfl)
theorem dX0_found_8 : decode cX0_found 8 = .ok (.lastore, 1) := dk_80 (dk_at dksX0_found_0 8 rfl rfl)
theorem dX0_found_9 : decode cX0_found 9 = .ok (.goto 6, 3) := dk_167 0 6 (dk_at dksX0_found_0 9 rfl rfl)
theorem dX0_found_12 : decode cX0_found 12 = .ok (.astore_n 3, 1) := dk_78 (dk_at dksX0_found_0 12 rfl rfl)
theorem dX0_found_13 : decode cX0_found 13 = .ok (.iconst 1, 1) := dk_4 (dk_at dksX0_found_0 13 rfl rfl)
theorem dX0_found_14 : decode cX0_found 14 = .ok (.ireturn, 1) := dk_172 (dk_at dksX0_found_0 14 rfl rfl)
theorem dX0_found_15 : decode cX0_found 15 = .ok (.iconst 0, 1) := dk_3 (dk_at dksX0_found_0 15 rfl rfl)
theorem dX0_found_16 : decode cX0_found 16 = .ok (.ireturn, 1) := dk_172 (dk_at dksX0_found_0 16 rfl rfl)
abbrev cX0_bound : ByteArray := method_22_code
def yX0_bound : MethodName := ⟨RX0, "bound", "(LWiredNets;II[J)I"⟩
def dkwX0_bound_0 : List UInt8 := [45, 3, 42, 27, 28, 182, 0, 79, 133, 80, 167, 0, 7, 58, 4, 4, 172, 3, 172]
abbrev dktX0_bound_0 : List UInt8 := dkwX0_bound_0 ++ []
theorem dksX0_bound_0 : cX0_bound.data.toList.drop 0 = dktX0_bound_0 := by decide +kernel
theorem dX0_bound_0 : decode cX0_bound 0 = .ok (.aload_n 3, 1) := dk_45 (dk_at dksX0_bound_0 0 rfl rfl)
theorem dX0_bound_1 : decode cX0_bound 1 = .ok (.iconst 0, 1) := dk_3 (dk_at dksX0_bound_0 1 rfl rfl)
theorem dX0_bound_2 : decode cX0_bound 2 = .ok (.aload_n 0, 1) := dk_42 (dk_at dksX0_bound_0 2 rfl rfl)
theorem dX0_bound_3 : decode cX0_bound 3 = .ok (.iload_n 1, 1) := dk_27 (dk_at dksX0_bound_0 3 rfl rfl)
theorem dX0_bound_4 : decode cX0_bound 4 = .ok (.iload_n 2, 1) := dk_28 (dk_at dksX0_bound_0 4 rfl rfl)
theorem dX0_bound_5 : decode cX0_bound 5 = .ok (.invokevirtual 79, 3) := dk_182 0 79 (dk_at dksX0_bound_0 5 rfl rfl)
theorem dX0_bound_8 : decode cX0_bound 8 = .ok (.i2l, 1) := dk_133 (dk_at dksX0_bound_0 8 rfl rfl)
theorem dX0_bound_9 : decode cX0_bound 9 = .ok (.lastore, 1) := dk_80 (dk_at dksX0_bound_0 9 rfl rfl)
theorem dX0_bound_10 : decode cX0_bound 10 = .ok (.goto 7, 3) := dk_167 0 7 (dk_at dksX0_bound_0 10 rfl rfl)
theorem dX0_bound_13 : decode cX0_bound 13 = .ok (.astore 4, 2) := dk_58 4 (dk_at dksX0_bound_0 13 rfl rfl)
theorem dX0_bound_15 : decode cX0_bound 15 = .ok (.iconst 1, 1) := dk_4 (dk_at dksX0_bound_0 15 rfl rfl)
theorem dX0_bound_16 : decode cX0_bound 16 = .ok (.ireturn, 1) := dk_172 (dk_at dksX0_bound_0 16 rfl rfl)
theorem dX0_bound_17 : decode cX0_bound 17 = .ok (.iconst 0, 1) := dk_3 (dk_at dksX0_bound_0 17 rfl rfl)
theorem dX0_bound_18 : decode cX0_bound 18 = .ok (.ireturn, 1) := dk_172 (dk_at dksX0_bound_0 18 rfl rfl)
abbrev cX0_falls : ByteArray := method_23_code
def yX0_falls : MethodName := ⟨RX0, "falls", "(LWiredNets;III[J)I"⟩
def dkwX0_falls_1 : List UInt8 := [172]
abbrev dktX0_falls_1 : List UInt8 := dkwX0_falls_1 ++ []
def dkwX0_falls_0 : List UInt8 := [25, 4, 3, 42, 27, 28, 29, 182, 0, 82, 133, 80, 167, 0, 11, 58, 5, 4, 172, 58, 5, 5, 172, 3]
abbrev dktX0_falls_0 : List UInt8 := dkwX0_falls_0 ++ dktX0_falls_1
theorem dksX0_falls_0 : cX0_falls.data.toList.drop 0 = dktX0_falls_0 := by decide +kernel
theorem dksX0_falls_1 : cX0_falls.data.toList.drop 24 = dktX0_falls_1 := dk_seg dksX0_falls_0 24 rfl rfl
theorem dX0_falls_0 : decode cX0_falls 0 = .ok (.aload 4, 2) := dk_25 4 (dk_at dksX0_falls_0 0 rfl rfl)
theorem dX0_falls_2 : decode cX0_falls 2 = .ok (.iconst 0, 1) := dk_3 (dk_at dksX0_falls_0 2 rfl rfl)
theorem dX0_falls_3 : decode cX0_falls 3 = .ok (.aload_n 0, 1) := dk_42 (dk_at dksX0_falls_0 3 rfl rfl)
theorem dX0_falls_4 : decode cX0_falls 4 = .ok (.iload_n 1, 1) := dk_27 (dk_at dksX0_falls_0 4 rfl rfl)
theorem dX0_falls_5 : decode cX0_falls 5 = .ok (.iload_n 2, 1) := dk_28 (dk_at dksX0_falls_0 5 rfl rfl)
theorem dX0_falls_6 : decode cX0_falls 6 = .ok (.iload_n 3, 1) := dk_29 (dk_at dksX0_falls_0 6 rfl rfl)
theorem dX0_falls_7 : decode cX0_falls 7 = .ok (.invokevirtual 82, 3) := dk_182 0 82 (dk_at dksX0_falls_0 7 rfl rfl)
theorem dX0_falls_10 : decode cX0_falls 10 = .ok (.i2l, 1) := dk_133 (dk_at dksX0_falls_0 10 rfl rfl)
theorem dX0_falls_11 : decode cX0_falls 11 = .ok (.lastore, 1) := dk_80 (dk_at dksX0_falls_0 11 rfl rfl)
theorem dX0_falls_12 : decode cX0_falls 12 = .ok (.goto 11, 3) := dk_167 0 11 (dk_at dksX0_falls_0 12 rfl rfl)
theorem dX0_falls_15 : decode cX0_falls 15 = .ok (.astore 5, 2) := dk_58 5 (dk_at dksX0_falls_0 15 rfl rfl)
theorem dX0_falls_17 : decode cX0_falls 17 = .ok (.iconst 1, 1) := dk_4 (dk_at dksX0_falls_0 17 rfl rfl)
theorem dX0_falls_18 : decode cX0_falls 18 = .ok (.ireturn, 1) := dk_172 (dk_at dksX0_falls_0 18 rfl rfl)
theorem dX0_falls_19 : decode cX0_falls 19 = .ok (.astore 5, 2) := dk_58 5 (dk_at dksX0_falls_0 19 rfl rfl)
theorem dX0_falls_21 : decode cX0_falls 21 = .ok (.iconst 2, 1) := dk_5 (dk_at dksX0_falls_0 21 rfl rfl)
theorem dX0_falls_22 : decode cX0_falls 22 = .ok (.ireturn, 1) := dk_172 (dk_at dksX0_falls_0 22 rfl rfl)
theorem dX0_falls_23 : decode cX0_falls 23 = .ok (.iconst 0, 1) := dk_3 (dk_at dksX0_falls_0 23 rfl rfl)
theorem dX0_falls_24 : decode cX0_falls 24 = .ok (.ireturn, 1) := dk_172 (dk_at dksX0_falls_1 0 rfl rfl)
abbrev cX0_fallen : ByteArray := method_24_code
def yX0_fallen : MethodName := ⟨RX0, "fallen", "(LWiredNets;I[J)I"⟩
def dkwX0_fallen_0 : List UInt8 := [44, 3, 42, 27, 182, 0, 85, 133, 80, 167, 0, 6, 78, 4, 172, 3, 172]
abbrev dktX0_fallen_0 : List UInt8 := dkwX0_fallen_0 ++ []
theorem dksX0_fallen_0 : cX0_fallen.data.toList.drop 0 = dktX0_fallen_0 := by decide +kernel
theorem dX0_fallen_0 : decode cX0_fallen 0 = .ok (.aload_n 2, 1) := dk_44 (dk_at dksX0_fallen_0 0 rfl rfl)
theorem dX0_fallen_1 : decode cX0_fallen 1 = .ok (.iconst 0, 1) := dk_3 (dk_at dksX0_fallen_0 1 rfl rfl)
theorem dX0_fallen_2 : decode cX0_fallen 2 = .ok (.aload_n 0, 1) := dk_42 (dk_at dksX0_fallen_0 2 rfl rfl)
theorem dX0_fallen_3 : decode cX0_fallen 3 = .ok (.iload_n 1, 1) := dk_27 (dk_at dksX0_fallen_0 3 rfl rfl)
theorem dX0_fallen_4 : decode cX0_fallen 4 = .ok (.invokevirtual 85, 3) := dk_182 0 85 (dk_at dksX0_fallen_0 4 rfl rfl)
theorem dX0_fallen_7 : decode cX0_fallen 7 = .ok (.i2l, 1) := dk_133 (dk_at dksX0_fallen_0 7 rfl rfl)
theorem dX0_fallen_8 : decode cX0_fallen 8 = .ok (.lastore, 1) := dk_80 (dk_at dksX0_fallen_0 8 rfl rfl)
theorem dX0_fallen_9 : decode cX0_fallen 9 = .ok (.goto 6, 3) := dk_167 0 6 (dk_at dksX0_fallen_0 9 rfl rfl)
theorem dX0_fallen_12 : decode cX0_fallen 12 = .ok (.astore_n 3, 1) := dk_78 (dk_at dksX0_fallen_0 12 rfl rfl)
theorem dX0_fallen_13 : decode cX0_fallen 13 = .ok (.iconst 1, 1) := dk_4 (dk_at dksX0_fallen_0 13 rfl rfl)
theorem dX0_fallen_14 : decode cX0_fallen 14 = .ok (.ireturn, 1) := dk_172 (dk_at dksX0_fallen_0 14 rfl rfl)
theorem dX0_fallen_15 : decode cX0_fallen 15 = .ok (.iconst 0, 1) := dk_3 (dk_at dksX0_fallen_0 15 rfl rfl)
theorem dX0_fallen_16 : decode cX0_fallen 16 = .ok (.ireturn, 1) := dk_172 (dk_at dksX0_fallen_0 16 rfl rfl)
abbrev cX0_halves : ByteArray := method_25_code
def yX0_halves : MethodName := ⟨RX0, "halves", "(LWiredNets;I[J)I"⟩
def dkwX0_halves_0 : List UInt8 := [44, 3, 42, 27, 182, 0, 88, 133, 80, 167, 0, 6, 78, 4, 172, 3, 172]
abbrev dktX0_halves_0 : List UInt8 := dkwX0_halves_0 ++ []
theorem dksX0_halves_0 : cX0_halves.data.toList.drop 0 = dktX0_halves_0 := by decide +kernel
theorem dX0_halves_0 : decode cX0_halves 0 = .ok (.aload_n 2, 1) := dk_44 (dk_at dksX0_halves_0 0 rfl rfl)
theorem dX0_halves_1 : decode cX0_halves 1 = .ok (.iconst 0, 1) := dk_3 (dk_at dksX0_halves_0 1 rfl rfl)
theorem dX0_halves_2 : decode cX0_halves 2 = .ok (.aload_n 0, 1) := dk_42 (dk_at dksX0_halves_0 2 rfl rfl)
theorem dX0_halves_3 : decode cX0_halves 3 = .ok (.iload_n 1, 1) := dk_27 (dk_at dksX0_halves_0 3 rfl rfl)
theorem dX0_halves_4 : decode cX0_halves 4 = .ok (.invokevirtual 88, 3) := dk_182 0 88 (dk_at dksX0_halves_0 4 rfl rfl)
theorem dX0_halves_7 : decode cX0_halves 7 = .ok (.i2l, 1) := dk_133 (dk_at dksX0_halves_0 7 rfl rfl)
theorem dX0_halves_8 : decode cX0_halves 8 = .ok (.lastore, 1) := dk_80 (dk_at dksX0_halves_0 8 rfl rfl)
theorem dX0_halves_9 : decode cX0_halves 9 = .ok (.goto 6, 3) := dk_167 0 6 (dk_at dksX0_halves_0 9 rfl rfl)
theorem dX0_halves_12 : decode cX0_halves 12 = .ok (.astore_n 3, 1) := dk_78 (dk_at dksX0_halves_0 12 rfl rfl)
theorem dX0_halves_13 : decode cX0_halves 13 = .ok (.iconst 1, 1) := dk_4 (dk_at dksX0_halves_0 13 rfl rfl)
theorem dX0_halves_14 : decode cX0_halves 14 = .ok (.ireturn, 1) := dk_172 (dk_at dksX0_halves_0 14 rfl rfl)
theorem dX0_halves_15 : decode cX0_halves 15 = .ok (.iconst 0, 1) := dk_3 (dk_at dksX0_halves_0 15 rfl rfl)
theorem dX0_halves_16 : decode cX0_halves 16 = .ok (.ireturn, 1) := dk_172 (dk_at dksX0_halves_0 16 rfl rfl)
abbrev cX0_lay : ByteArray := method_26_code
def yX0_lay : MethodName := ⟨RX0, "lay", "(LWiredNets;II[J)I"⟩
def dkwX0_lay_0 : List UInt8 := [45, 3, 42, 27, 28, 182, 0, 91, 133, 80, 167, 0, 11, 58, 4, 4, 172, 58, 4, 5, 172, 3, 172]
abbrev dktX0_lay_0 : List UInt8 := dkwX0_lay_0 ++ []
theorem dksX0_lay_0 : cX0_lay.data.toList.drop 0 = dktX0_lay_0 := by decide +kernel
theorem dX0_lay_0 : decode cX0_lay 0 = .ok (.aload_n 3, 1) := dk_45 (dk_at dksX0_lay_0 0 rfl rfl)
theorem dX0_lay_1 : decode cX0_lay 1 = .ok (.iconst 0, 1) := dk_3 (dk_at dksX0_lay_0 1 rfl rfl)
theorem dX0_lay_2 : decode cX0_lay 2 = .ok (.aload_n 0, 1) := dk_42 (dk_at dksX0_lay_0 2 rfl rfl)
theorem dX0_lay_3 : decode cX0_lay 3 = .ok (.iload_n 1, 1) := dk_27 (dk_at dksX0_lay_0 3 rfl rfl)
theorem dX0_lay_4 : decode cX0_lay 4 = .ok (.iload_n 2, 1) := dk_28 (dk_at dksX0_lay_0 4 rfl rfl)
theorem dX0_lay_5 : decode cX0_lay 5 = .ok (.invokevirtual 91, 3) := dk_182 0 91 (dk_at dksX0_lay_0 5 rfl rfl)
theorem dX0_lay_8 : decode cX0_lay 8 = .ok (.i2l, 1) := dk_133 (dk_at dksX0_lay_0 8 rfl rfl)
theorem dX0_lay_9 : decode cX0_lay 9 = .ok (.lastore, 1) := dk_80 (dk_at dksX0_lay_0 9 rfl rfl)
theorem dX0_lay_10 : decode cX0_lay 10 = .ok (.goto 11, 3) := dk_167 0 11 (dk_at dksX0_lay_0 10 rfl rfl)
theorem dX0_lay_13 : decode cX0_lay 13 = .ok (.astore 4, 2) := dk_58 4 (dk_at dksX0_lay_0 13 rfl rfl)
theorem dX0_lay_15 : decode cX0_lay 15 = .ok (.iconst 1, 1) := dk_4 (dk_at dksX0_lay_0 15 rfl rfl)
theorem dX0_lay_16 : decode cX0_lay 16 = .ok (.ireturn, 1) := dk_172 (dk_at dksX0_lay_0 16 rfl rfl)
theorem dX0_lay_17 : decode cX0_lay 17 = .ok (.astore 4, 2) := dk_58 4 (dk_at dksX0_lay_0 17 rfl rfl)
theorem dX0_lay_19 : decode cX0_lay 19 = .ok (.iconst 2, 1) := dk_5 (dk_at dksX0_lay_0 19 rfl rfl)
theorem dX0_lay_20 : decode cX0_lay 20 = .ok (.ireturn, 1) := dk_172 (dk_at dksX0_lay_0 20 rfl rfl)
theorem dX0_lay_21 : decode cX0_lay 21 = .ok (.iconst 0, 1) := dk_3 (dk_at dksX0_lay_0 21 rfl rfl)
theorem dX0_lay_22 : decode cX0_lay 22 = .ok (.ireturn, 1) := dk_172 (dk_at dksX0_lay_0 22 rfl rfl)
abbrev cX0_laid : ByteArray := method_27_code
def yX0_laid : MethodName := ⟨RX0, "laid", "(LWiredNets;I[J)I"⟩
def dkwX0_laid_0 : List UInt8 := [44, 3, 42, 27, 182, 0, 94, 133, 80, 167, 0, 6, 78, 4, 172, 3, 172]
abbrev dktX0_laid_0 : List UInt8 := dkwX0_laid_0 ++ []
theorem dksX0_laid_0 : cX0_laid.data.toList.drop 0 = dktX0_laid_0 := by decide +kernel
theorem dX0_laid_0 : decode cX0_laid 0 = .ok (.aload_n 2, 1) := dk_44 (dk_at dksX0_laid_0 0 rfl rfl)
theorem dX0_laid_1 : decode cX0_laid 1 = .ok (.iconst 0, 1) := dk_3 (dk_at dksX0_laid_0 1 rfl rfl)
theorem dX0_laid_2 : decode cX0_laid 2 = .ok (.aload_n 0, 1) := dk_42 (dk_at dksX0_laid_0 2 rfl rfl)
theorem dX0_laid_3 : decode cX0_laid 3 = .ok (.iload_n 1, 1) := dk_27 (dk_at dksX0_laid_0 3 rfl rfl)
theorem dX0_laid_4 : decode cX0_laid 4 = .ok (.invokevirtual 94, 3) := dk_182 0 94 (dk_at dksX0_laid_0 4 rfl rfl)
theorem dX0_laid_7 : decode cX0_laid 7 = .ok (.i2l, 1) := dk_133 (dk_at dksX0_laid_0 7 rfl rfl)
theorem dX0_laid_8 : decode cX0_laid 8 = .ok (.lastore, 1) := dk_80 (dk_at dksX0_laid_0 8 rfl rfl)
theorem dX0_laid_9 : decode cX0_laid 9 = .ok (.goto 6, 3) := dk_167 0 6 (dk_at dksX0_laid_0 9 rfl rfl)
theorem dX0_laid_12 : decode cX0_laid 12 = .ok (.astore_n 3, 1) := dk_78 (dk_at dksX0_laid_0 12 rfl rfl)
theorem dX0_laid_13 : decode cX0_laid 13 = .ok (.iconst 1, 1) := dk_4 (dk_at dksX0_laid_0 13 rfl rfl)
theorem dX0_laid_14 : decode cX0_laid 14 = .ok (.ireturn, 1) := dk_172 (dk_at dksX0_laid_0 14 rfl rfl)
theorem dX0_laid_15 : decode cX0_laid 15 = .ok (.iconst 0, 1) := dk_3 (dk_at dksX0_laid_0 15 rfl rfl)
theorem dX0_laid_16 : decode cX0_laid 16 = .ok (.ireturn, 1) := dk_172 (dk_at dksX0_laid_0 16 rfl rfl)
abbrev cX0_hop : ByteArray := method_28_code
def yX0_hop : MethodName := ⟨RX0, "hop", "(LWiredNets;III[J)I"⟩
def dkwX0_hop_0 : List UInt8 := [25, 4, 3, 42, 27, 28, 29, 182, 0, 97, 133, 80, 167, 0, 7, 58, 5, 4, 172, 3, 172]
abbrev dktX0_hop_0 : List UInt8 := dkwX0_hop_0 ++ []
theorem dksX0_hop_0 : cX0_hop.data.toList.drop 0 = dktX0_hop_0 := by decide +kernel
theorem dX0_hop_0 : decode cX0_hop 0 = .ok (.aload 4, 2) := dk_25 4 (dk_at dksX0_hop_0 0 rfl rfl)
theorem dX0_hop_2 : decode cX0_hop 2 = .ok (.iconst 0, 1) := dk_3 (dk_at dksX0_hop_0 2 rfl rfl)
theorem dX0_hop_3 : decode cX0_hop 3 = .ok (.aload_n 0, 1) := dk_42 (dk_at dksX0_hop_0 3 rfl rfl)
theorem dX0_hop_4 : decode cX0_hop 4 = .ok (.iload_n 1, 1) := dk_27 (dk_at dksX0_hop_0 4 rfl rfl)
theorem dX0_hop_5 : decode cX0_hop 5 = .ok (.iload_n 2, 1) := dk_28 (dk_at dksX0_hop_0 5 rfl rfl)
theorem dX0_hop_6 : decode cX0_hop 6 = .ok (.iload_n 3, 1) := dk_29 (dk_at dksX0_hop_0 6 rfl rfl)
theorem dX0_hop_7 : decode cX0_hop 7 = .ok (.invokevirtual 97, 3) := dk_182 0 97 (dk_at dksX0_hop_0 7 rfl rfl)
theorem dX0_hop_10 : decode cX0_hop 10 = .ok (.i2l, 1) := dk_133 (dk_at dksX0_hop_0 10 rfl rfl)
theorem dX0_hop_11 : decode cX0_hop 11 = .ok (.lastore, 1) := dk_80 (dk_at dksX0_hop_0 11 rfl rfl)
theorem dX0_hop_12 : decode cX0_hop 12 = .ok (.goto 7, 3) := dk_167 0 7 (dk_at dksX0_hop_0 12 rfl rfl)
theorem dX0_hop_15 : decode cX0_hop 15 = .ok (.astore 5, 2) := dk_58 5 (dk_at dksX0_hop_0 15 rfl rfl)
theorem dX0_hop_17 : decode cX0_hop 17 = .ok (.iconst 1, 1) := dk_4 (dk_at dksX0_hop_0 17 rfl rfl)
theorem dX0_hop_18 : decode cX0_hop 18 = .ok (.ireturn, 1) := dk_172 (dk_at dksX0_hop_0 18 rfl rfl)
theorem dX0_hop_19 : decode cX0_hop 19 = .ok (.iconst 0, 1) := dk_3 (dk_at dksX0_hop_0 19 rfl rfl)
theorem dX0_hop_20 : decode cX0_hop 20 = .ok (.ireturn, 1) := dk_172 (dk_at dksX0_hop_0 20 rfl rfl)
abbrev cX0_locks : ByteArray := method_29_code
def yX0_locks : MethodName := ⟨RX0, "locks", "(LWiredNets;I[J)I"⟩
def dkwX0_locks_0 : List UInt8 := [44, 3, 42, 27, 182, 0, 100, 153, 0, 7, 10, 167, 0, 4, 9, 80, 167, 0, 6, 78, 4, 172, 3, 172]
abbrev dktX0_locks_0 : List UInt8 := dkwX0_locks_0 ++ []
theorem dksX0_locks_0 : cX0_locks.data.toList.drop 0 = dktX0_locks_0 := by decide +kernel
theorem dX0_locks_0 : decode cX0_locks 0 = .ok (.aload_n 2, 1) := dk_44 (dk_at dksX0_locks_0 0 rfl rfl)
theorem dX0_locks_1 : decode cX0_locks 1 = .ok (.iconst 0, 1) := dk_3 (dk_at dksX0_locks_0 1 rfl rfl)
theorem dX0_locks_2 : decode cX0_locks 2 = .ok (.aload_n 0, 1) := dk_42 (dk_at dksX0_locks_0 2 rfl rfl)
theorem dX0_locks_3 : decode cX0_locks 3 = .ok (.iload_n 1, 1) := dk_27 (dk_at dksX0_locks_0 3 rfl rfl)
theorem dX0_locks_4 : decode cX0_locks 4 = .ok (.invokevirtual 100, 3) := dk_182 0 100 (dk_at dksX0_locks_0 4 rfl rfl)
theorem dX0_locks_7 : decode cX0_locks 7 = .ok (.ifCond .eq 7, 3) := dk_153 0 7 (dk_at dksX0_locks_0 7 rfl rfl)
theorem dX0_locks_10 : decode cX0_locks 10 = .ok (.lconst 1, 1) := dk_10 (dk_at dksX0_locks_0 10 rfl rfl)
theorem dX0_locks_11 : decode cX0_locks 11 = .ok (.goto 4, 3) := dk_167 0 4 (dk_at dksX0_locks_0 11 rfl rfl)
theorem dX0_locks_14 : decode cX0_locks 14 = .ok (.lconst 0, 1) := dk_9 (dk_at dksX0_locks_0 14 rfl rfl)
theorem dX0_locks_15 : decode cX0_locks 15 = .ok (.lastore, 1) := dk_80 (dk_at dksX0_locks_0 15 rfl rfl)
theorem dX0_locks_16 : decode cX0_locks 16 = .ok (.goto 6, 3) := dk_167 0 6 (dk_at dksX0_locks_0 16 rfl rfl)
theorem dX0_locks_19 : decode cX0_locks 19 = .ok (.astore_n 3, 1) := dk_78 (dk_at dksX0_locks_0 19 rfl rfl)
theorem dX0_locks_20 : decode cX0_locks 20 = .ok (.iconst 1, 1) := dk_4 (dk_at dksX0_locks_0 20 rfl rfl)
theorem dX0_locks_21 : decode cX0_locks 21 = .ok (.ireturn, 1) := dk_172 (dk_at dksX0_locks_0 21 rfl rfl)
theorem dX0_locks_22 : decode cX0_locks 22 = .ok (.iconst 0, 1) := dk_3 (dk_at dksX0_locks_0 22 rfl rfl)
theorem dX0_locks_23 : decode cX0_locks 23 = .ok (.ireturn, 1) := dk_172 (dk_at dksX0_locks_0 23 rfl rfl)
abbrev cX0_load : ByteArray := method_30_code
def yX0_load : MethodName := ⟨RX0, "load", "(LWiredNets;III[J)I"⟩
def dkwX0_load_0 : List UInt8 := [25, 4, 3, 42, 27, 28, 29, 182, 0, 104, 133, 80, 167, 0, 7, 58, 5, 4, 172, 3, 172]
abbrev dktX0_load_0 : List UInt8 := dkwX0_load_0 ++ []
theorem dksX0_load_0 : cX0_load.data.toList.drop 0 = dktX0_load_0 := by decide +kernel
theorem dX0_load_0 : decode cX0_load 0 = .ok (.aload 4, 2) := dk_25 4 (dk_at dksX0_load_0 0 rfl rfl)
theorem dX0_load_2 : decode cX0_load 2 = .ok (.iconst 0, 1) := dk_3 (dk_at dksX0_load_0 2 rfl rfl)
theorem dX0_load_3 : decode cX0_load 3 = .ok (.aload_n 0, 1) := dk_42 (dk_at dksX0_load_0 3 rfl rfl)
theorem dX0_load_4 : decode cX0_load 4 = .ok (.iload_n 1, 1) := dk_27 (dk_at dksX0_load_0 4 rfl rfl)
theorem dX0_load_5 : decode cX0_load 5 = .ok (.iload_n 2, 1) := dk_28 (dk_at dksX0_load_0 5 rfl rfl)
theorem dX0_load_6 : decode cX0_load 6 = .ok (.iload_n 3, 1) := dk_29 (dk_at dksX0_load_0 6 rfl rfl)
theorem dX0_load_7 : decode cX0_load 7 = .ok (.invokevirtual 104, 3) := dk_182 0 104 (dk_at dksX0_load_0 7 rfl rfl)
theorem dX0_load_10 : decode cX0_load 10 = .ok (.i2l, 1) := dk_133 (dk_at dksX0_load_0 10 rfl rfl)
theorem dX0_load_11 : decode cX0_load 11 = .ok (.lastore, 1) := dk_80 (dk_at dksX0_load_0 11 rfl rfl)
theorem dX0_load_12 : decode cX0_load 12 = .ok (.goto 7, 3) := dk_167 0 7 (dk_at dksX0_load_0 12 rfl rfl)
theorem dX0_load_15 : decode cX0_load 15 = .ok (.astore 5, 2) := dk_58 5 (dk_at dksX0_load_0 15 rfl rfl)
theorem dX0_load_17 : decode cX0_load 17 = .ok (.iconst 1, 1) := dk_4 (dk_at dksX0_load_0 17 rfl rfl)
theorem dX0_load_18 : decode cX0_load 18 = .ok (.ireturn, 1) := dk_172 (dk_at dksX0_load_0 18 rfl rfl)
theorem dX0_load_19 : decode cX0_load 19 = .ok (.iconst 0, 1) := dk_3 (dk_at dksX0_load_0 19 rfl rfl)
theorem dX0_load_20 : decode cX0_load 20 = .ok (.ireturn, 1) := dk_172 (dk_at dksX0_load_0 20 rfl rfl)
abbrev cX0_heavy : ByteArray := method_31_code
def yX0_heavy : MethodName := ⟨RX0, "heavy", "(LWiredNets;II[J)I"⟩
def dkwX0_heavy_0 : List UInt8 := [45, 3, 42, 27, 28, 182, 0, 107, 133, 80, 167, 0, 7, 58, 4, 4, 172, 3, 172]
abbrev dktX0_heavy_0 : List UInt8 := dkwX0_heavy_0 ++ []
theorem dksX0_heavy_0 : cX0_heavy.data.toList.drop 0 = dktX0_heavy_0 := by decide +kernel
theorem dX0_heavy_0 : decode cX0_heavy 0 = .ok (.aload_n 3, 1) := dk_45 (dk_at dksX0_heavy_0 0 rfl rfl)
theorem dX0_heavy_1 : decode cX0_heavy 1 = .ok (.iconst 0, 1) := dk_3 (dk_at dksX0_heavy_0 1 rfl rfl)
theorem dX0_heavy_2 : decode cX0_heavy 2 = .ok (.aload_n 0, 1) := dk_42 (dk_at dksX0_heavy_0 2 rfl rfl)
theorem dX0_heavy_3 : decode cX0_heavy 3 = .ok (.iload_n 1, 1) := dk_27 (dk_at dksX0_heavy_0 3 rfl rfl)
theorem dX0_heavy_4 : decode cX0_heavy 4 = .ok (.iload_n 2, 1) := dk_28 (dk_at dksX0_heavy_0 4 rfl rfl)
theorem dX0_heavy_5 : decode cX0_heavy 5 = .ok (.invokevirtual 107, 3) := dk_182 0 107 (dk_at dksX0_heavy_0 5 rfl rfl)
theorem dX0_heavy_8 : decode cX0_heavy 8 = .ok (.i2l, 1) := dk_133 (dk_at dksX0_heavy_0 8 rfl rfl)
theorem dX0_heavy_9 : decode cX0_heavy 9 = .ok (.lastore, 1) := dk_80 (dk_at dksX0_heavy_0 9 rfl rfl)
theorem dX0_heavy_10 : decode cX0_heavy 10 = .ok (.goto 7, 3) := dk_167 0 7 (dk_at dksX0_heavy_0 10 rfl rfl)
theorem dX0_heavy_13 : decode cX0_heavy 13 = .ok (.astore 4, 2) := dk_58 4 (dk_at dksX0_heavy_0 13 rfl rfl)
theorem dX0_heavy_15 : decode cX0_heavy 15 = .ok (.iconst 1, 1) := dk_4 (dk_at dksX0_heavy_0 15 rfl rfl)
theorem dX0_heavy_16 : decode cX0_heavy 16 = .ok (.ireturn, 1) := dk_172 (dk_at dksX0_heavy_0 16 rfl rfl)
theorem dX0_heavy_17 : decode cX0_heavy 17 = .ok (.iconst 0, 1) := dk_3 (dk_at dksX0_heavy_0 17 rfl rfl)
theorem dX0_heavy_18 : decode cX0_heavy 18 = .ok (.ireturn, 1) := dk_172 (dk_at dksX0_heavy_0 18 rfl rfl)
abbrev cX0_upward : ByteArray := method_32_code
def yX0_upward : MethodName := ⟨RX0, "upward", "(LWiredNets;III[J)I"⟩
def dkwX0_upward_0 : List UInt8 := [25, 4, 3, 42, 27, 28, 29, 182, 0, 110, 133, 80, 167, 0, 7, 58, 5, 4, 172, 3, 172]
abbrev dktX0_upward_0 : List UInt8 := dkwX0_upward_0 ++ []
theorem dksX0_upward_0 : cX0_upward.data.toList.drop 0 = dktX0_upward_0 := by decide +kernel
theorem dX0_upward_0 : decode cX0_upward 0 = .ok (.aload 4, 2) := dk_25 4 (dk_at dksX0_upward_0 0 rfl rfl)
theorem dX0_upward_2 : decode cX0_upward 2 = .ok (.iconst 0, 1) := dk_3 (dk_at dksX0_upward_0 2 rfl rfl)
theorem dX0_upward_3 : decode cX0_upward 3 = .ok (.aload_n 0, 1) := dk_42 (dk_at dksX0_upward_0 3 rfl rfl)
theorem dX0_upward_4 : decode cX0_upward 4 = .ok (.iload_n 1, 1) := dk_27 (dk_at dksX0_upward_0 4 rfl rfl)
theorem dX0_upward_5 : decode cX0_upward 5 = .ok (.iload_n 2, 1) := dk_28 (dk_at dksX0_upward_0 5 rfl rfl)
theorem dX0_upward_6 : decode cX0_upward 6 = .ok (.iload_n 3, 1) := dk_29 (dk_at dksX0_upward_0 6 rfl rfl)
theorem dX0_upward_7 : decode cX0_upward 7 = .ok (.invokevirtual 110, 3) := dk_182 0 110 (dk_at dksX0_upward_0 7 rfl rfl)
theorem dX0_upward_10 : decode cX0_upward 10 = .ok (.i2l, 1) := dk_133 (dk_at dksX0_upward_0 10 rfl rfl)
theorem dX0_upward_11 : decode cX0_upward 11 = .ok (.lastore, 1) := dk_80 (dk_at dksX0_upward_0 11 rfl rfl)
theorem dX0_upward_12 : decode cX0_upward 12 = .ok (.goto 7, 3) := dk_167 0 7 (dk_at dksX0_upward_0 12 rfl rfl)
theorem dX0_upward_15 : decode cX0_upward 15 = .ok (.astore 5, 2) := dk_58 5 (dk_at dksX0_upward_0 15 rfl rfl)
theorem dX0_upward_17 : decode cX0_upward 17 = .ok (.iconst 1, 1) := dk_4 (dk_at dksX0_upward_0 17 rfl rfl)
theorem dX0_upward_18 : decode cX0_upward 18 = .ok (.ireturn, 1) := dk_172 (dk_at dksX0_upward_0 18 rfl rfl)
theorem dX0_upward_19 : decode cX0_upward 19 = .ok (.iconst 0, 1) := dk_3 (dk_at dksX0_upward_0 19 rfl rfl)
theorem dX0_upward_20 : decode cX0_upward 20 = .ok (.ireturn, 1) := dk_172 (dk_at dksX0_upward_0 20 rfl rfl)
abbrev cX0_tell : ByteArray := method_33_code
def yX0_tell : MethodName := ⟨RX0, "tell", "(LWiredNets;II[J)I"⟩
def dkwX0_tell_0 : List UInt8 := [45, 3, 42, 27, 28, 182, 0, 113, 133, 80, 167, 0, 7, 58, 4, 4, 172, 3, 172]
abbrev dktX0_tell_0 : List UInt8 := dkwX0_tell_0 ++ []
theorem dksX0_tell_0 : cX0_tell.data.toList.drop 0 = dktX0_tell_0 := by decide +kernel
theorem dX0_tell_0 : decode cX0_tell 0 = .ok (.aload_n 3, 1) := dk_45 (dk_at dksX0_tell_0 0 rfl rfl)
theorem dX0_tell_1 : decode cX0_tell 1 = .ok (.iconst 0, 1) := dk_3 (dk_at dksX0_tell_0 1 rfl rfl)
theorem dX0_tell_2 : decode cX0_tell 2 = .ok (.aload_n 0, 1) := dk_42 (dk_at dksX0_tell_0 2 rfl rfl)
theorem dX0_tell_3 : decode cX0_tell 3 = .ok (.iload_n 1, 1) := dk_27 (dk_at dksX0_tell_0 3 rfl rfl)
theorem dX0_tell_4 : decode cX0_tell 4 = .ok (.iload_n 2, 1) := dk_28 (dk_at dksX0_tell_0 4 rfl rfl)
theorem dX0_tell_5 : decode cX0_tell 5 = .ok (.invokevirtual 113, 3) := dk_182 0 113 (dk_at dksX0_tell_0 5 rfl rfl)
theorem dX0_tell_8 : decode cX0_tell 8 = .ok (.i2l, 1) := dk_133 (dk_at dksX0_tell_0 8 rfl rfl)
theorem dX0_tell_9 : decode cX0_tell 9 = .ok (.lastore, 1) := dk_80 (dk_at dksX0_tell_0 9 rfl rfl)
theorem dX0_tell_10 : decode cX0_tell 10 = .ok (.goto 7, 3) := dk_167 0 7 (dk_at dksX0_tell_0 10 rfl rfl)
theorem dX0_tell_13 : decode cX0_tell 13 = .ok (.astore 4, 2) := dk_58 4 (dk_at dksX0_tell_0 13 rfl rfl)
theorem dX0_tell_15 : decode cX0_tell 15 = .ok (.iconst 1, 1) := dk_4 (dk_at dksX0_tell_0 15 rfl rfl)
theorem dX0_tell_16 : decode cX0_tell 16 = .ok (.ireturn, 1) := dk_172 (dk_at dksX0_tell_0 16 rfl rfl)
theorem dX0_tell_17 : decode cX0_tell 17 = .ok (.iconst 0, 1) := dk_3 (dk_at dksX0_tell_0 17 rfl rfl)
theorem dX0_tell_18 : decode cX0_tell 18 = .ok (.ireturn, 1) := dk_172 (dk_at dksX0_tell_0 18 rfl rfl)
abbrev cX0_grow : ByteArray := method_34_code
def yX0_grow : MethodName := ⟨RX0, "grow", "(LWiredNets;II[J)I"⟩
def dkwX0_grow_0 : List UInt8 := [45, 3, 42, 27, 28, 182, 0, 116, 133, 80, 167, 0, 11, 58, 4, 4, 172, 58, 4, 5, 172, 3, 172]
abbrev dktX0_grow_0 : List UInt8 := dkwX0_grow_0 ++ []
theorem dksX0_grow_0 : cX0_grow.data.toList.drop 0 = dktX0_grow_0 := by decide +kernel
theorem dX0_grow_0 : decode cX0_grow 0 = .ok (.aload_n 3, 1) := dk_45 (dk_at dksX0_grow_0 0 rfl rfl)
theorem dX0_grow_1 : decode cX0_grow 1 = .ok (.iconst 0, 1) := dk_3 (dk_at dksX0_grow_0 1 rfl rfl)
theorem dX0_grow_2 : decode cX0_grow 2 = .ok (.aload_n 0, 1) := dk_42 (dk_at dksX0_grow_0 2 rfl rfl)
theorem dX0_grow_3 : decode cX0_grow 3 = .ok (.iload_n 1, 1) := dk_27 (dk_at dksX0_grow_0 3 rfl rfl)
theorem dX0_grow_4 : decode cX0_grow 4 = .ok (.iload_n 2, 1) := dk_28 (dk_at dksX0_grow_0 4 rfl rfl)
theorem dX0_grow_5 : decode cX0_grow 5 = .ok (.invokevirtual 116, 3) := dk_182 0 116 (dk_at dksX0_grow_0 5 rfl rfl)
theorem dX0_grow_8 : decode cX0_grow 8 = .ok (.i2l, 1) := dk_133 (dk_at dksX0_grow_0 8 rfl rfl)
theorem dX0_grow_9 : decode cX0_grow 9 = .ok (.lastore, 1) := dk_80 (dk_at dksX0_grow_0 9 rfl rfl)
theorem dX0_grow_10 : decode cX0_grow 10 = .ok (.goto 11, 3) := dk_167 0 11 (dk_at dksX0_grow_0 10 rfl rfl)
theorem dX0_grow_13 : decode cX0_grow 13 = .ok (.astore 4, 2) := dk_58 4 (dk_at dksX0_grow_0 13 rfl rfl)
theorem dX0_grow_15 : decode cX0_grow 15 = .ok (.iconst 1, 1) := dk_4 (dk_at dksX0_grow_0 15 rfl rfl)
theorem dX0_grow_16 : decode cX0_grow 16 = .ok (.ireturn, 1) := dk_172 (dk_at dksX0_grow_0 16 rfl rfl)
theorem dX0_grow_17 : decode cX0_grow 17 = .ok (.astore 4, 2) := dk_58 4 (dk_at dksX0_grow_0 17 rfl rfl)
theorem dX0_grow_19 : decode cX0_grow 19 = .ok (.iconst 2, 1) := dk_5 (dk_at dksX0_grow_0 19 rfl rfl)
theorem dX0_grow_20 : decode cX0_grow 20 = .ok (.ireturn, 1) := dk_172 (dk_at dksX0_grow_0 20 rfl rfl)
theorem dX0_grow_21 : decode cX0_grow 21 = .ok (.iconst 0, 1) := dk_3 (dk_at dksX0_grow_0 21 rfl rfl)
theorem dX0_grow_22 : decode cX0_grow 22 = .ok (.ireturn, 1) := dk_172 (dk_at dksX0_grow_0 22 rfl rfl)
abbrev cX0_missing : ByteArray := method_35_code
def yX0_missing : MethodName := ⟨RX0, "missing", "(LWiredNets;I[J)I"⟩
def dkwX0_missing_0 : List UInt8 := [44, 3, 42, 27, 182, 0, 119, 133, 80, 167, 0, 6, 78, 4, 172, 3, 172]
abbrev dktX0_missing_0 : List UInt8 := dkwX0_missing_0 ++ []
theorem dksX0_missing_0 : cX0_missing.data.toList.drop 0 = dktX0_missing_0 := by decide +kernel
theorem dX0_missing_0 : decode cX0_missing 0 = .ok (.aload_n 2, 1) := dk_44 (dk_at dksX0_missing_0 0 rfl rfl)
theorem dX0_missing_1 : decode cX0_missing 1 = .ok (.iconst 0, 1) := dk_3 (dk_at dksX0_missing_0 1 rfl rfl)
theorem dX0_missing_2 : decode cX0_missing 2 = .ok (.aload_n 0, 1) := dk_42 (dk_at dksX0_missing_0 2 rfl rfl)
theorem dX0_missing_3 : decode cX0_missing 3 = .ok (.iload_n 1, 1) := dk_27 (dk_at dksX0_missing_0 3 rfl rfl)
theorem dX0_missing_4 : decode cX0_missing 4 = .ok (.invokevirtual 119, 3) := dk_182 0 119 (dk_at dksX0_missing_0 4 rfl rfl)
theorem dX0_missing_7 : decode cX0_missing 7 = .ok (.i2l, 1) := dk_133 (dk_at dksX0_missing_0 7 rfl rfl)
theorem dX0_missing_8 : decode cX0_missing 8 = .ok (.lastore, 1) := dk_80 (dk_at dksX0_missing_0 8 rfl rfl)
theorem dX0_missing_9 : decode cX0_missing 9 = .ok (.goto 6, 3) := dk_167 0 6 (dk_at dksX0_missing_0 9 rfl rfl)
theorem dX0_missing_12 : decode cX0_missing 12 = .ok (.astore_n 3, 1) := dk_78 (dk_at dksX0_missing_0 12 rfl rfl)
theorem dX0_missing_13 : decode cX0_missing 13 = .ok (.iconst 1, 1) := dk_4 (dk_at dksX0_missing_0 13 rfl rfl)
theorem dX0_missing_14 : decode cX0_missing 14 = .ok (.ireturn, 1) := dk_172 (dk_at dksX0_missing_0 14 rfl rfl)
theorem dX0_missing_15 : decode cX0_missing 15 = .ok (.iconst 0, 1) := dk_3 (dk_at dksX0_missing_0 15 rfl rfl)
theorem dX0_missing_16 : decode cX0_missing 16 = .ok (.ireturn, 1) := dk_172 (dk_at dksX0_missing_0 16 rfl rfl)
abbrev cX0_count : ByteArray := method_36_code
def yX0_count : MethodName := ⟨RX0, "count", "(LWiredNets;I[J)I"⟩
def dkwX0_count_0 : List UInt8 := [44, 3, 42, 27, 182, 0, 122, 133, 80, 167, 0, 6, 78, 4, 172, 3, 172]
abbrev dktX0_count_0 : List UInt8 := dkwX0_count_0 ++ []
theorem dksX0_count_0 : cX0_count.data.toList.drop 0 = dktX0_count_0 := by decide +kernel
theorem dX0_count_0 : decode cX0_count 0 = .ok (.aload_n 2, 1) := dk_44 (dk_at dksX0_count_0 0 rfl rfl)
theorem dX0_count_1 : decode cX0_count 1 = .ok (.iconst 0, 1) := dk_3 (dk_at dksX0_count_0 1 rfl rfl)
theorem dX0_count_2 : decode cX0_count 2 = .ok (.aload_n 0, 1) := dk_42 (dk_at dksX0_count_0 2 rfl rfl)
theorem dX0_count_3 : decode cX0_count 3 = .ok (.iload_n 1, 1) := dk_27 (dk_at dksX0_count_0 3 rfl rfl)
theorem dX0_count_4 : decode cX0_count 4 = .ok (.invokevirtual 122, 3) := dk_182 0 122 (dk_at dksX0_count_0 4 rfl rfl)
theorem dX0_count_7 : decode cX0_count 7 = .ok (.i2l, 1) := dk_133 (dk_at dksX0_count_0 7 rfl rfl)
theorem dX0_count_8 : decode cX0_count 8 = .ok (.lastore, 1) := dk_80 (dk_at dksX0_count_0 8 rfl rfl)
theorem dX0_count_9 : decode cX0_count 9 = .ok (.goto 6, 3) := dk_167 0 6 (dk_at dksX0_count_0 9 rfl rfl)
theorem dX0_count_12 : decode cX0_count 12 = .ok (.astore_n 3, 1) := dk_78 (dk_at dksX0_count_0 12 rfl rfl)
theorem dX0_count_13 : decode cX0_count 13 = .ok (.iconst 1, 1) := dk_4 (dk_at dksX0_count_0 13 rfl rfl)
theorem dX0_count_14 : decode cX0_count 14 = .ok (.ireturn, 1) := dk_172 (dk_at dksX0_count_0 14 rfl rfl)
theorem dX0_count_15 : decode cX0_count 15 = .ok (.iconst 0, 1) := dk_3 (dk_at dksX0_count_0 15 rfl rfl)
theorem dX0_count_16 : decode cX0_count 16 = .ok (.ireturn, 1) := dk_172 (dk_at dksX0_count_0 16 rfl rfl)
theorem q108 : (Jvm.Cond.initialized "WiredNetsLaw") ∈ lw_all := lw_g (lw_at lw_m1 0 rfl) rfl
theorem q143 : (Jvm.Cond.classLink "WiredNetsLaw" (8 : Nat) "WiredNets") ∈ lw_all := lw_g (lw_at lw_m1 35 rfl) rfl
theorem q145 : (Jvm.Cond.methodLink "WiredNetsLaw" (125 : Nat) ({ cls := "WiredNets", name := "<init>", desc := "()V" } : Jvm.MethodName)) ∈ lw_all := lw_g (lw_at lw_m1 37 rfl) rfl
theorem q342 : (Jvm.Cond.methodLink "WiredNetsLaw" (129 : Nat) ({ cls := "WiredNets", name := "net", desc := "(III)Z" } : Jvm.MethodName)) ∈ lw_all := lw_g (lw_at lw_m1 234 rfl) rfl
theorem q357 : (Jvm.Cond.methodLink "WiredNetsLaw" (146 : Nat) ({ cls := "WiredNets", name := "feed", desc := "(IIIII)I" } : Jvm.MethodName)) ∈ lw_all := lw_g (lw_at lw_m2 9 rfl) rfl
theorem q361 : (Jvm.Cond.methodLink "WiredNetsLaw" (155 : Nat) ({ cls := "WiredNets", name := "fault", desc := "()I" } : Jvm.MethodName)) ∈ lw_all := lw_g (lw_at lw_m2 13 rfl) rfl
theorem q365 : (Jvm.Cond.methodLink "WiredNetsLaw" (159 : Nat) ({ cls := "WiredNets", name := "turned", desc := "(IIIII)Z" } : Jvm.MethodName)) ∈ lw_all := lw_g (lw_at lw_m2 17 rfl) rfl
theorem q421 : (Jvm.Cond.methodLink "WiredNetsLaw" (133 : Nat) ({ cls := "WiredNetsLaw", name := "line", desc := "(LWiredNets;III[J)I" } : Jvm.MethodName)) ∈ lw_all := lw_g (lw_at lw_m2 73 rfl) rfl
theorem q422 : (Jvm.Cond.static ({ cls := "WiredNetsLaw", name := "line", desc := "(LWiredNets;III[J)I" } : Jvm.MethodName)) ∈ lw_all := lw_g (lw_at lw_m2 74 rfl) rfl
theorem q423 : (Jvm.Cond.codeWith ({ cls := "WiredNetsLaw", name := "line", desc := "(LWiredNets;III[J)I" } : Jvm.MethodName) method_3_code (6 : Nat) (Option.some Jvm.ClassFile.FieldType.int) [((0 : Nat), (19 : Nat), (22 : Nat), (13 : Nat))]) ∈ lw_all := lw_g (lw_at lw_m2 75 rfl) rfl
theorem q424 : (Jvm.Cond.classLink "WiredNetsLaw" (13 : Nat) "java/util/NoSuchElementException") ∈ lw_all := lw_g (lw_at lw_m2 76 rfl) rfl
theorem q425 : (Jvm.Cond.methodLink "WiredNetsLaw" (7 : Nat) ({ cls := "WiredNets", name := "line", desc := "(III)Z" } : Jvm.MethodName)) ∈ lw_all := lw_g (lw_at lw_m2 77 rfl) rfl
theorem q517 : (Jvm.Cond.methodLink "WiredNetsLaw" (143 : Nat) ({ cls := "WiredNetsLaw", name := "off", desc := "(LWiredNets;III[J)I" } : Jvm.MethodName)) ∈ lw_all := lw_g (lw_at lw_m2 169 rfl) rfl
theorem q518 : (Jvm.Cond.static ({ cls := "WiredNetsLaw", name := "off", desc := "(LWiredNets;III[J)I" } : Jvm.MethodName)) ∈ lw_all := lw_g (lw_at lw_m2 170 rfl) rfl
theorem q519 : (Jvm.Cond.codeWith ({ cls := "WiredNetsLaw", name := "off", desc := "(LWiredNets;III[J)I" } : Jvm.MethodName) method_4_code (6 : Nat) (Option.some Jvm.ClassFile.FieldType.int) [((0 : Nat), (19 : Nat), (22 : Nat), (13 : Nat))]) ∈ lw_all := lw_g (lw_at lw_m2 171 rfl) rfl
theorem q520 : (Jvm.Cond.methodLink "WiredNetsLaw" (15 : Nat) ({ cls := "WiredNets", name := "off", desc := "(III)Z" } : Jvm.MethodName)) ∈ lw_all := lw_g (lw_at lw_m2 172 rfl) rfl
theorem q529 : (Jvm.Cond.methodLink "WiredNetsLaw" (151 : Nat) ({ cls := "WiredNetsLaw", name := "read", desc := "(LWiredNets;II[J)I" } : Jvm.MethodName)) ∈ lw_all := lw_g (lw_at lw_m2 181 rfl) rfl
theorem q530 : (Jvm.Cond.static ({ cls := "WiredNetsLaw", name := "read", desc := "(LWiredNets;II[J)I" } : Jvm.MethodName)) ∈ lw_all := lw_g (lw_at lw_m2 182 rfl) rfl
theorem q531 : (Jvm.Cond.codeWith ({ cls := "WiredNetsLaw", name := "read", desc := "(LWiredNets;II[J)I" } : Jvm.MethodName) method_5_code (5 : Nat) (Option.some Jvm.ClassFile.FieldType.int) [((0 : Nat), (10 : Nat), (13 : Nat), (13 : Nat)), ((0 : Nat), (10 : Nat), (17 : Nat), (22 : Nat))]) ∈ lw_all := lw_g (lw_at lw_m2 183 rfl) rfl
theorem q532 : (Jvm.Cond.classLink "WiredNetsLaw" (22 : Nat) "java/lang/IllegalArgumentException") ∈ lw_all := lw_g (lw_at lw_m2 184 rfl) rfl
theorem q533 : (Jvm.Cond.methodLink "WiredNetsLaw" (18 : Nat) ({ cls := "WiredNets", name := "read", desc := "(II)I" } : Jvm.MethodName)) ∈ lw_all := lw_g (lw_at lw_m2 185 rfl) rfl
theorem q738 : (Jvm.Cond.methodLink "WiredNetsLaw" (164 : Nat) ({ cls := "WiredNetsLaw", name := "glued", desc := "(LWiredNets;IIII[J)I" } : Jvm.MethodName)) ∈ lw_all := lw_g (lw_at lw_m3 150 rfl) rfl
theorem q739 : (Jvm.Cond.static ({ cls := "WiredNetsLaw", name := "glued", desc := "(LWiredNets;IIII[J)I" } : Jvm.MethodName)) ∈ lw_all := lw_g (lw_at lw_m3 151 rfl) rfl
theorem q740 : (Jvm.Cond.codeWith ({ cls := "WiredNetsLaw", name := "glued", desc := "(LWiredNets;IIII[J)I" } : Jvm.MethodName) method_6_code (7 : Nat) (Option.some Jvm.ClassFile.FieldType.int) [((0 : Nat), (21 : Nat), (24 : Nat), (13 : Nat))]) ∈ lw_all := lw_g (lw_at lw_m3 152 rfl) rfl
theorem q741 : (Jvm.Cond.methodLink "WiredNetsLaw" (24 : Nat) ({ cls := "WiredNets", name := "glued", desc := "(IIII)Z" } : Jvm.MethodName)) ∈ lw_all := lw_g (lw_at lw_m3 153 rfl) rfl
theorem q745 : (Jvm.Cond.methodLink "WiredNetsLaw" (168 : Nat) ({ cls := "WiredNetsLaw", name := "copy", desc := "(LWiredNets;II[J)I" } : Jvm.MethodName)) ∈ lw_all := lw_g (lw_at lw_m3 157 rfl) rfl
theorem q746 : (Jvm.Cond.static ({ cls := "WiredNetsLaw", name := "copy", desc := "(LWiredNets;II[J)I" } : Jvm.MethodName)) ∈ lw_all := lw_g (lw_at lw_m3 158 rfl) rfl
theorem q747 : (Jvm.Cond.codeWith ({ cls := "WiredNetsLaw", name := "copy", desc := "(LWiredNets;II[J)I" } : Jvm.MethodName) method_7_code (5 : Nat) (Option.some Jvm.ClassFile.FieldType.int) [((0 : Nat), (17 : Nat), (20 : Nat), (13 : Nat))]) ∈ lw_all := lw_g (lw_at lw_m3 159 rfl) rfl
theorem q748 : (Jvm.Cond.methodLink "WiredNetsLaw" (28 : Nat) ({ cls := "WiredNets", name := "copy", desc := "(II)Z" } : Jvm.MethodName)) ∈ lw_all := lw_g (lw_at lw_m3 160 rfl) rfl
theorem q758 : (Jvm.Cond.methodLink "WiredNetsLaw" (171 : Nat) ({ cls := "WiredNetsLaw", name := "about", desc := "(LWiredNets;II[J)I" } : Jvm.MethodName)) ∈ lw_all := lw_g (lw_at lw_m3 170 rfl) rfl
theorem q759 : (Jvm.Cond.static ({ cls := "WiredNetsLaw", name := "about", desc := "(LWiredNets;II[J)I" } : Jvm.MethodName)) ∈ lw_all := lw_g (lw_at lw_m3 171 rfl) rfl
theorem q760 : (Jvm.Cond.codeWith ({ cls := "WiredNetsLaw", name := "about", desc := "(LWiredNets;II[J)I" } : Jvm.MethodName) method_8_code (5 : Nat) (Option.some Jvm.ClassFile.FieldType.int) [((0 : Nat), (10 : Nat), (13 : Nat), (13 : Nat))]) ∈ lw_all := lw_g (lw_at lw_m3 172 rfl) rfl
theorem q761 : (Jvm.Cond.methodLink "WiredNetsLaw" (32 : Nat) ({ cls := "WiredNets", name := "about", desc := "(II)I" } : Jvm.MethodName)) ∈ lw_all := lw_g (lw_at lw_m3 173 rfl) rfl
theorem q772 : (Jvm.Cond.methodLink "WiredNetsLaw" (174 : Nat) ({ cls := "WiredNetsLaw", name := "lineAt", desc := "(LWiredNets;II[J)I" } : Jvm.MethodName)) ∈ lw_all := lw_g (lw_at lw_m3 184 rfl) rfl
theorem q773 : (Jvm.Cond.static ({ cls := "WiredNetsLaw", name := "lineAt", desc := "(LWiredNets;II[J)I" } : Jvm.MethodName)) ∈ lw_all := lw_g (lw_at lw_m3 185 rfl) rfl
theorem q774 : (Jvm.Cond.codeWith ({ cls := "WiredNetsLaw", name := "lineAt", desc := "(LWiredNets;II[J)I" } : Jvm.MethodName) method_9_code (5 : Nat) (Option.some Jvm.ClassFile.FieldType.int) [((0 : Nat), (10 : Nat), (13 : Nat), (13 : Nat))]) ∈ lw_all := lw_g (lw_at lw_m3 186 rfl) rfl
theorem q775 : (Jvm.Cond.methodLink "WiredNetsLaw" (35 : Nat) ({ cls := "WiredNets", name := "lineAt", desc := "(II)I" } : Jvm.MethodName)) ∈ lw_all := lw_g (lw_at lw_m3 187 rfl) rfl
theorem q788 : (Jvm.Cond.methodLink "WiredNetsLaw" (177 : Nat) ({ cls := "WiredNetsLaw", name := "distance", desc := "(LWiredNets;III[J)I" } : Jvm.MethodName)) ∈ lw_all := lw_g (lw_at lw_m3 200 rfl) rfl
theorem q789 : (Jvm.Cond.static ({ cls := "WiredNetsLaw", name := "distance", desc := "(LWiredNets;III[J)I" } : Jvm.MethodName)) ∈ lw_all := lw_g (lw_at lw_m3 201 rfl) rfl
theorem q790 : (Jvm.Cond.codeWith ({ cls := "WiredNetsLaw", name := "distance", desc := "(LWiredNets;III[J)I" } : Jvm.MethodName) method_10_code (6 : Nat) (Option.some Jvm.ClassFile.FieldType.int) [((0 : Nat), (12 : Nat), (15 : Nat), (13 : Nat))]) ∈ lw_all := lw_g (lw_at lw_m3 202 rfl) rfl
theorem q791 : (Jvm.Cond.methodLink "WiredNetsLaw" (38 : Nat) ({ cls := "WiredNets", name := "distance", desc := "(III)I" } : Jvm.MethodName)) ∈ lw_all := lw_g (lw_at lw_m3 203 rfl) rfl
theorem q811 : (Jvm.Cond.methodLink "WiredNetsLaw" (180 : Nat) ({ cls := "WiredNetsLaw", name := "far", desc := "(LWiredNets;II[J)I" } : Jvm.MethodName)) ∈ lw_all := lw_g (lw_at lw_m3 223 rfl) rfl
theorem q812 : (Jvm.Cond.static ({ cls := "WiredNetsLaw", name := "far", desc := "(LWiredNets;II[J)I" } : Jvm.MethodName)) ∈ lw_all := lw_g (lw_at lw_m3 224 rfl) rfl
theorem q813 : (Jvm.Cond.codeWith ({ cls := "WiredNetsLaw", name := "far", desc := "(LWiredNets;II[J)I" } : Jvm.MethodName) method_11_code (5 : Nat) (Option.some Jvm.ClassFile.FieldType.int) [((0 : Nat), (10 : Nat), (13 : Nat), (13 : Nat))]) ∈ lw_all := lw_g (lw_at lw_m3 225 rfl) rfl
theorem q814 : (Jvm.Cond.methodLink "WiredNetsLaw" (42 : Nat) ({ cls := "WiredNets", name := "far", desc := "(II)I" } : Jvm.MethodName)) ∈ lw_all := lw_g (lw_at lw_m3 226 rfl) rfl
theorem q869 : (Jvm.Cond.methodLink "WiredNetsLaw" (183 : Nat) ({ cls := "WiredNetsLaw", name := "apart", desc := "(LWiredNets;III[J)I" } : Jvm.MethodName)) ∈ lw_all := lw_g (lw_at lw_m4 41 rfl) rfl
theorem q870 : (Jvm.Cond.static ({ cls := "WiredNetsLaw", name := "apart", desc := "(LWiredNets;III[J)I" } : Jvm.MethodName)) ∈ lw_all := lw_g (lw_at lw_m4 42 rfl) rfl
theorem q871 : (Jvm.Cond.codeWith ({ cls := "WiredNetsLaw", name := "apart", desc := "(LWiredNets;III[J)I" } : Jvm.MethodName) method_12_code (6 : Nat) (Option.some Jvm.ClassFile.FieldType.int) [((0 : Nat), (12 : Nat), (15 : Nat), (13 : Nat))]) ∈ lw_all := lw_g (lw_at lw_m4 43 rfl) rfl
theorem q872 : (Jvm.Cond.methodLink "WiredNetsLaw" (45 : Nat) ({ cls := "WiredNets", name := "apart", desc := "(III)I" } : Jvm.MethodName)) ∈ lw_all := lw_g (lw_at lw_m4 44 rfl) rfl
theorem q877 : (Jvm.Cond.methodLink "WiredNetsLaw" (186 : Nat) ({ cls := "WiredNetsLaw", name := "poly", desc := "(LWiredNets;II[J)I" } : Jvm.MethodName)) ∈ lw_all := lw_g (lw_at lw_m4 49 rfl) rfl
theorem q878 : (Jvm.Cond.static ({ cls := "WiredNetsLaw", name := "poly", desc := "(LWiredNets;II[J)I" } : Jvm.MethodName)) ∈ lw_all := lw_g (lw_at lw_m4 50 rfl) rfl
theorem q879 : (Jvm.Cond.codeWith ({ cls := "WiredNetsLaw", name := "poly", desc := "(LWiredNets;II[J)I" } : Jvm.MethodName) method_13_code (5 : Nat) (Option.some Jvm.ClassFile.FieldType.int) [((0 : Nat), (9 : Nat), (12 : Nat), (13 : Nat)), ((0 : Nat), (9 : Nat), (16 : Nat), (22 : Nat))]) ∈ lw_all := lw_g (lw_at lw_m4 51 rfl) rfl
theorem q880 : (Jvm.Cond.methodLink "WiredNetsLaw" (48 : Nat) ({ cls := "WiredNets", name := "poly", desc := "(II)J" } : Jvm.MethodName)) ∈ lw_all := lw_g (lw_at lw_m4 52 rfl) rfl
theorem q894 : (Jvm.Cond.methodLink "WiredNetsLaw" (189 : Nat) ({ cls := "WiredNetsLaw", name := "above", desc := "(LWiredNets;II[J)I" } : Jvm.MethodName)) ∈ lw_all := lw_g (lw_at lw_m4 66 rfl) rfl
theorem q895 : (Jvm.Cond.static ({ cls := "WiredNetsLaw", name := "above", desc := "(LWiredNets;II[J)I" } : Jvm.MethodName)) ∈ lw_all := lw_g (lw_at lw_m4 67 rfl) rfl
theorem q896 : (Jvm.Cond.codeWith ({ cls := "WiredNetsLaw", name := "above", desc := "(LWiredNets;II[J)I" } : Jvm.MethodName) method_14_code (5 : Nat) (Option.some Jvm.ClassFile.FieldType.int) [((0 : Nat), (10 : Nat), (13 : Nat), (13 : Nat)), ((0 : Nat), (10 : Nat), (17 : Nat), (22 : Nat))]) ∈ lw_all := lw_g (lw_at lw_m4 68 rfl) rfl
theorem q897 : (Jvm.Cond.methodLink "WiredNetsLaw" (52 : Nat) ({ cls := "WiredNets", name := "above", desc := "(II)I" } : Jvm.MethodName)) ∈ lw_all := lw_g (lw_at lw_m4 69 rfl) rfl
theorem q905 : (Jvm.Cond.methodLink "WiredNetsLaw" (192 : Nat) ({ cls := "WiredNetsLaw", name := "walks", desc := "(LWiredNets;II[J)I" } : Jvm.MethodName)) ∈ lw_all := lw_g (lw_at lw_m4 77 rfl) rfl
theorem q906 : (Jvm.Cond.static ({ cls := "WiredNetsLaw", name := "walks", desc := "(LWiredNets;II[J)I" } : Jvm.MethodName)) ∈ lw_all := lw_g (lw_at lw_m4 78 rfl) rfl
theorem q907 : (Jvm.Cond.codeWith ({ cls := "WiredNetsLaw", name := "walks", desc := "(LWiredNets;II[J)I" } : Jvm.MethodName) method_15_code (5 : Nat) (Option.some Jvm.ClassFile.FieldType.int) [((0 : Nat), (9 : Nat), (12 : Nat), (13 : Nat)), ((0 : Nat), (9 : Nat), (16 : Nat), (22 : Nat))]) ∈ lw_all := lw_g (lw_at lw_m4 79 rfl) rfl
theorem q908 : (Jvm.Cond.methodLink "WiredNetsLaw" (55 : Nat) ({ cls := "WiredNets", name := "walks", desc := "(II)J" } : Jvm.MethodName)) ∈ lw_all := lw_g (lw_at lw_m4 80 rfl) rfl
theorem q915 : (Jvm.Cond.methodLink "WiredNetsLaw" (195 : Nat) ({ cls := "WiredNetsLaw", name := "change", desc := "(LWiredNets;IIIZ[J)I" } : Jvm.MethodName)) ∈ lw_all := lw_g (lw_at lw_m4 87 rfl) rfl
theorem q916 : (Jvm.Cond.static ({ cls := "WiredNetsLaw", name := "change", desc := "(LWiredNets;IIIZ[J)I" } : Jvm.MethodName)) ∈ lw_all := lw_g (lw_at lw_m4 88 rfl) rfl
theorem q917 : (Jvm.Cond.codeWith ({ cls := "WiredNetsLaw", name := "change", desc := "(LWiredNets;IIIZ[J)I" } : Jvm.MethodName) method_16_code (7 : Nat) (Option.some Jvm.ClassFile.FieldType.int) [((0 : Nat), (21 : Nat), (24 : Nat), (13 : Nat))]) ∈ lw_all := lw_g (lw_at lw_m4 89 rfl) rfl
theorem q918 : (Jvm.Cond.methodLink "WiredNetsLaw" (58 : Nat) ({ cls := "WiredNets", name := "change", desc := "(IIIZ)Z" } : Jvm.MethodName)) ∈ lw_all := lw_g (lw_at lw_m4 90 rfl) rfl
theorem q925 : (Jvm.Cond.methodLink "WiredNetsLaw" (199 : Nat) ({ cls := "WiredNetsLaw", name := "better", desc := "(LWiredNets;I[J)I" } : Jvm.MethodName)) ∈ lw_all := lw_g (lw_at lw_m4 97 rfl) rfl
theorem q926 : (Jvm.Cond.static ({ cls := "WiredNetsLaw", name := "better", desc := "(LWiredNets;I[J)I" } : Jvm.MethodName)) ∈ lw_all := lw_g (lw_at lw_m4 98 rfl) rfl
theorem q927 : (Jvm.Cond.codeWith ({ cls := "WiredNetsLaw", name := "better", desc := "(LWiredNets;I[J)I" } : Jvm.MethodName) method_17_code (4 : Nat) (Option.some Jvm.ClassFile.FieldType.int) [((0 : Nat), (9 : Nat), (12 : Nat), (13 : Nat))]) ∈ lw_all := lw_g (lw_at lw_m4 99 rfl) rfl
theorem q928 : (Jvm.Cond.methodLink "WiredNetsLaw" (62 : Nat) ({ cls := "WiredNets", name := "better", desc := "(I)I" } : Jvm.MethodName)) ∈ lw_all := lw_g (lw_at lw_m4 100 rfl) rfl
theorem q939 : (Jvm.Cond.methodLink "WiredNetsLaw" (203 : Nat) ({ cls := "WiredNetsLaw", name := "cool", desc := "(LWiredNets;IIII[J)I" } : Jvm.MethodName)) ∈ lw_all := lw_g (lw_at lw_m4 111 rfl) rfl
theorem q940 : (Jvm.Cond.static ({ cls := "WiredNetsLaw", name := "cool", desc := "(LWiredNets;IIII[J)I" } : Jvm.MethodName)) ∈ lw_all := lw_g (lw_at lw_m4 112 rfl) rfl
theorem q941 : (Jvm.Cond.codeWith ({ cls := "WiredNetsLaw", name := "cool", desc := "(LWiredNets;IIII[J)I" } : Jvm.MethodName) method_18_code (7 : Nat) (Option.some Jvm.ClassFile.FieldType.int) [((0 : Nat), (14 : Nat), (17 : Nat), (13 : Nat)), ((0 : Nat), (14 : Nat), (21 : Nat), (22 : Nat))]) ∈ lw_all := lw_g (lw_at lw_m4 113 rfl) rfl
theorem q942 : (Jvm.Cond.methodLink "WiredNetsLaw" (66 : Nat) ({ cls := "WiredNets", name := "cool", desc := "(IIII)I" } : Jvm.MethodName)) ∈ lw_all := lw_g (lw_at lw_m4 114 rfl) rfl
theorem q948 : (Jvm.Cond.methodLink "WiredNetsLaw" (206 : Nat) ({ cls := "WiredNetsLaw", name := "seek", desc := "(LWiredNets;IIII[J)I" } : Jvm.MethodName)) ∈ lw_all := lw_g (lw_at lw_m4 120 rfl) rfl
theorem q949 : (Jvm.Cond.static ({ cls := "WiredNetsLaw", name := "seek", desc := "(LWiredNets;IIII[J)I" } : Jvm.MethodName)) ∈ lw_all := lw_g (lw_at lw_m4 121 rfl) rfl
theorem q950 : (Jvm.Cond.codeWith ({ cls := "WiredNetsLaw", name := "seek", desc := "(LWiredNets;IIII[J)I" } : Jvm.MethodName) method_19_code (7 : Nat) (Option.some Jvm.ClassFile.FieldType.int) [((0 : Nat), (14 : Nat), (17 : Nat), (22 : Nat))]) ∈ lw_all := lw_g (lw_at lw_m4 122 rfl) rfl
theorem q951 : (Jvm.Cond.methodLink "WiredNetsLaw" (70 : Nat) ({ cls := "WiredNets", name := "seek", desc := "(IIII)I" } : Jvm.MethodName)) ∈ lw_all := lw_g (lw_at lw_m4 123 rfl) rfl
theorem q1016 : (Jvm.Cond.methodLink "WiredNetsLaw" (209 : Nat) ({ cls := "WiredNetsLaw", name := "small", desc := "(LWiredNets;III[J)I" } : Jvm.MethodName)) ∈ lw_all := lw_g (lw_at lw_m4 188 rfl) rfl
theorem q1017 : (Jvm.Cond.static ({ cls := "WiredNetsLaw", name := "small", desc := "(LWiredNets;III[J)I" } : Jvm.MethodName)) ∈ lw_all := lw_g (lw_at lw_m4 189 rfl) rfl
theorem q1018 : (Jvm.Cond.codeWith ({ cls := "WiredNetsLaw", name := "small", desc := "(LWiredNets;III[J)I" } : Jvm.MethodName) method_20_code (6 : Nat) (Option.some Jvm.ClassFile.FieldType.int) [((0 : Nat), (12 : Nat), (15 : Nat), (22 : Nat))]) ∈ lw_all := lw_g (lw_at lw_m4 190 rfl) rfl
theorem q1019 : (Jvm.Cond.methodLink "WiredNetsLaw" (73 : Nat) ({ cls := "WiredNets", name := "small", desc := "(III)I" } : Jvm.MethodName)) ∈ lw_all := lw_g (lw_at lw_m4 191 rfl) rfl
theorem q1046 : (Jvm.Cond.methodLink "WiredNetsLaw" (212 : Nat) ({ cls := "WiredNetsLaw", name := "found", desc := "(LWiredNets;I[J)I" } : Jvm.MethodName)) ∈ lw_all := lw_g (lw_at lw_m4 218 rfl) rfl
theorem q1047 : (Jvm.Cond.static ({ cls := "WiredNetsLaw", name := "found", desc := "(LWiredNets;I[J)I" } : Jvm.MethodName)) ∈ lw_all := lw_g (lw_at lw_m4 219 rfl) rfl
theorem q1048 : (Jvm.Cond.codeWith ({ cls := "WiredNetsLaw", name := "found", desc := "(LWiredNets;I[J)I" } : Jvm.MethodName) method_21_code (4 : Nat) (Option.some Jvm.ClassFile.FieldType.int) [((0 : Nat), (9 : Nat), (12 : Nat), (13 : Nat))]) ∈ lw_all := lw_g (lw_at lw_m4 220 rfl) rfl
theorem q1049 : (Jvm.Cond.methodLink "WiredNetsLaw" (76 : Nat) ({ cls := "WiredNets", name := "found", desc := "(I)I" } : Jvm.MethodName)) ∈ lw_all := lw_g (lw_at lw_m4 221 rfl) rfl
theorem q1053 : (Jvm.Cond.methodLink "WiredNetsLaw" (215 : Nat) ({ cls := "WiredNetsLaw", name := "bound", desc := "(LWiredNets;II[J)I" } : Jvm.MethodName)) ∈ lw_all := lw_g (lw_at lw_m4 225 rfl) rfl
theorem q1054 : (Jvm.Cond.static ({ cls := "WiredNetsLaw", name := "bound", desc := "(LWiredNets;II[J)I" } : Jvm.MethodName)) ∈ lw_all := lw_g (lw_at lw_m4 226 rfl) rfl
theorem q1055 : (Jvm.Cond.codeWith ({ cls := "WiredNetsLaw", name := "bound", desc := "(LWiredNets;II[J)I" } : Jvm.MethodName) method_22_code (5 : Nat) (Option.some Jvm.ClassFile.FieldType.int) [((0 : Nat), (10 : Nat), (13 : Nat), (22 : Nat))]) ∈ lw_all := lw_g (lw_at lw_m4 227 rfl) rfl
theorem q1056 : (Jvm.Cond.methodLink "WiredNetsLaw" (79 : Nat) ({ cls := "WiredNets", name := "bound", desc := "(II)I" } : Jvm.MethodName)) ∈ lw_all := lw_g (lw_at lw_m4 228 rfl) rfl
theorem q1064 : (Jvm.Cond.methodLink "WiredNetsLaw" (218 : Nat) ({ cls := "WiredNetsLaw", name := "falls", desc := "(LWiredNets;III[J)I" } : Jvm.MethodName)) ∈ lw_all := lw_g (lw_at lw_m4 236 rfl) rfl
theorem q1065 : (Jvm.Cond.static ({ cls := "WiredNetsLaw", name := "falls", desc := "(LWiredNets;III[J)I" } : Jvm.MethodName)) ∈ lw_all := lw_g (lw_at lw_m4 237 rfl) rfl
theorem q1066 : (Jvm.Cond.codeWith ({ cls := "WiredNetsLaw", name := "falls", desc := "(LWiredNets;III[J)I" } : Jvm.MethodName) method_23_code (6 : Nat) (Option.some Jvm.ClassFile.FieldType.int) [((0 : Nat), (12 : Nat), (15 : Nat), (13 : Nat)), ((0 : Nat), (12 : Nat), (19 : Nat), (22 : Nat))]) ∈ lw_all := lw_g (lw_at lw_m4 238 rfl) rfl
theorem q1067 : (Jvm.Cond.methodLink "WiredNetsLaw" (82 : Nat) ({ cls := "WiredNets", name := "falls", desc := "(III)I" } : Jvm.MethodName)) ∈ lw_all := lw_g (lw_at lw_m4 239 rfl) rfl
theorem q1173 : (Jvm.Cond.methodLink "WiredNetsLaw" (221 : Nat) ({ cls := "WiredNetsLaw", name := "fallen", desc := "(LWiredNets;I[J)I" } : Jvm.MethodName)) ∈ lw_all := lw_g (lw_at lw_m5 105 rfl) rfl
theorem q1174 : (Jvm.Cond.static ({ cls := "WiredNetsLaw", name := "fallen", desc := "(LWiredNets;I[J)I" } : Jvm.MethodName)) ∈ lw_all := lw_g (lw_at lw_m5 106 rfl) rfl
theorem q1175 : (Jvm.Cond.codeWith ({ cls := "WiredNetsLaw", name := "fallen", desc := "(LWiredNets;I[J)I" } : Jvm.MethodName) method_24_code (4 : Nat) (Option.some Jvm.ClassFile.FieldType.int) [((0 : Nat), (9 : Nat), (12 : Nat), (13 : Nat))]) ∈ lw_all := lw_g (lw_at lw_m5 107 rfl) rfl
theorem q1176 : (Jvm.Cond.methodLink "WiredNetsLaw" (85 : Nat) ({ cls := "WiredNets", name := "fallen", desc := "(I)I" } : Jvm.MethodName)) ∈ lw_all := lw_g (lw_at lw_m5 108 rfl) rfl
theorem q1211 : (Jvm.Cond.methodLink "WiredNetsLaw" (224 : Nat) ({ cls := "WiredNetsLaw", name := "halves", desc := "(LWiredNets;I[J)I" } : Jvm.MethodName)) ∈ lw_all := lw_g (lw_at lw_m5 143 rfl) rfl
theorem q1212 : (Jvm.Cond.static ({ cls := "WiredNetsLaw", name := "halves", desc := "(LWiredNets;I[J)I" } : Jvm.MethodName)) ∈ lw_all := lw_g (lw_at lw_m5 144 rfl) rfl
theorem q1213 : (Jvm.Cond.codeWith ({ cls := "WiredNetsLaw", name := "halves", desc := "(LWiredNets;I[J)I" } : Jvm.MethodName) method_25_code (4 : Nat) (Option.some Jvm.ClassFile.FieldType.int) [((0 : Nat), (9 : Nat), (12 : Nat), (13 : Nat))]) ∈ lw_all := lw_g (lw_at lw_m5 145 rfl) rfl
theorem q1214 : (Jvm.Cond.methodLink "WiredNetsLaw" (88 : Nat) ({ cls := "WiredNets", name := "halves", desc := "(I)I" } : Jvm.MethodName)) ∈ lw_all := lw_g (lw_at lw_m5 146 rfl) rfl
theorem q1220 : (Jvm.Cond.methodLink "WiredNetsLaw" (227 : Nat) ({ cls := "WiredNetsLaw", name := "lay", desc := "(LWiredNets;II[J)I" } : Jvm.MethodName)) ∈ lw_all := lw_g (lw_at lw_m5 152 rfl) rfl
theorem q1221 : (Jvm.Cond.static ({ cls := "WiredNetsLaw", name := "lay", desc := "(LWiredNets;II[J)I" } : Jvm.MethodName)) ∈ lw_all := lw_g (lw_at lw_m5 153 rfl) rfl
theorem q1222 : (Jvm.Cond.codeWith ({ cls := "WiredNetsLaw", name := "lay", desc := "(LWiredNets;II[J)I" } : Jvm.MethodName) method_26_code (5 : Nat) (Option.some Jvm.ClassFile.FieldType.int) [((0 : Nat), (10 : Nat), (13 : Nat), (13 : Nat)), ((0 : Nat), (10 : Nat), (17 : Nat), (22 : Nat))]) ∈ lw_all := lw_g (lw_at lw_m5 154 rfl) rfl
theorem q1223 : (Jvm.Cond.methodLink "WiredNetsLaw" (91 : Nat) ({ cls := "WiredNets", name := "lay", desc := "(II)I" } : Jvm.MethodName)) ∈ lw_all := lw_g (lw_at lw_m5 155 rfl) rfl
theorem q1282 : (Jvm.Cond.methodLink "WiredNetsLaw" (230 : Nat) ({ cls := "WiredNetsLaw", name := "laid", desc := "(LWiredNets;I[J)I" } : Jvm.MethodName)) ∈ lw_all := lw_g (lw_at lw_m5 214 rfl) rfl
theorem q1283 : (Jvm.Cond.static ({ cls := "WiredNetsLaw", name := "laid", desc := "(LWiredNets;I[J)I" } : Jvm.MethodName)) ∈ lw_all := lw_g (lw_at lw_m5 215 rfl) rfl
theorem q1284 : (Jvm.Cond.codeWith ({ cls := "WiredNetsLaw", name := "laid", desc := "(LWiredNets;I[J)I" } : Jvm.MethodName) method_27_code (4 : Nat) (Option.some Jvm.ClassFile.FieldType.int) [((0 : Nat), (9 : Nat), (12 : Nat), (13 : Nat))]) ∈ lw_all := lw_g (lw_at lw_m5 216 rfl) rfl
theorem q1285 : (Jvm.Cond.methodLink "WiredNetsLaw" (94 : Nat) ({ cls := "WiredNets", name := "laid", desc := "(I)I" } : Jvm.MethodName)) ∈ lw_all := lw_g (lw_at lw_m5 217 rfl) rfl
theorem q1289 : (Jvm.Cond.methodLink "WiredNetsLaw" (233 : Nat) ({ cls := "WiredNetsLaw", name := "hop", desc := "(LWiredNets;III[J)I" } : Jvm.MethodName)) ∈ lw_all := lw_g (lw_at lw_m5 221 rfl) rfl
theorem q1290 : (Jvm.Cond.static ({ cls := "WiredNetsLaw", name := "hop", desc := "(LWiredNets;III[J)I" } : Jvm.MethodName)) ∈ lw_all := lw_g (lw_at lw_m5 222 rfl) rfl
theorem q1291 : (Jvm.Cond.codeWith ({ cls := "WiredNetsLaw", name := "hop", desc := "(LWiredNets;III[J)I" } : Jvm.MethodName) method_28_code (6 : Nat) (Option.some Jvm.ClassFile.FieldType.int) [((0 : Nat), (12 : Nat), (15 : Nat), (13 : Nat))]) ∈ lw_all := lw_g (lw_at lw_m5 223 rfl) rfl
theorem q1292 : (Jvm.Cond.methodLink "WiredNetsLaw" (97 : Nat) ({ cls := "WiredNets", name := "hop", desc := "(III)I" } : Jvm.MethodName)) ∈ lw_all := lw_g (lw_at lw_m5 224 rfl) rfl
theorem q1348 : (Jvm.Cond.methodLink "WiredNetsLaw" (236 : Nat) ({ cls := "WiredNetsLaw", name := "locks", desc := "(LWiredNets;I[J)I" } : Jvm.MethodName)) ∈ lw_all := lw_g (lw_at lw_m6 40 rfl) rfl
theorem q1349 : (Jvm.Cond.static ({ cls := "WiredNetsLaw", name := "locks", desc := "(LWiredNets;I[J)I" } : Jvm.MethodName)) ∈ lw_all := lw_g (lw_at lw_m6 41 rfl) rfl
theorem q1350 : (Jvm.Cond.codeWith ({ cls := "WiredNetsLaw", name := "locks", desc := "(LWiredNets;I[J)I" } : Jvm.MethodName) method_29_code (4 : Nat) (Option.some Jvm.ClassFile.FieldType.int) [((0 : Nat), (16 : Nat), (19 : Nat), (13 : Nat))]) ∈ lw_all := lw_g (lw_at lw_m6 42 rfl) rfl
theorem q1351 : (Jvm.Cond.methodLink "WiredNetsLaw" (100 : Nat) ({ cls := "WiredNets", name := "locks", desc := "(I)Z" } : Jvm.MethodName)) ∈ lw_all := lw_g (lw_at lw_m6 43 rfl) rfl
theorem q1361 : (Jvm.Cond.methodLink "WiredNetsLaw" (239 : Nat) ({ cls := "WiredNetsLaw", name := "load", desc := "(LWiredNets;III[J)I" } : Jvm.MethodName)) ∈ lw_all := lw_g (lw_at lw_m6 53 rfl) rfl
theorem q1362 : (Jvm.Cond.static ({ cls := "WiredNetsLaw", name := "load", desc := "(LWiredNets;III[J)I" } : Jvm.MethodName)) ∈ lw_all := lw_g (lw_at lw_m6 54 rfl) rfl
theorem q1363 : (Jvm.Cond.codeWith ({ cls := "WiredNetsLaw", name := "load", desc := "(LWiredNets;III[J)I" } : Jvm.MethodName) method_30_code (6 : Nat) (Option.some Jvm.ClassFile.FieldType.int) [((0 : Nat), (12 : Nat), (15 : Nat), (13 : Nat))]) ∈ lw_all := lw_g (lw_at lw_m6 55 rfl) rfl
theorem q1364 : (Jvm.Cond.methodLink "WiredNetsLaw" (104 : Nat) ({ cls := "WiredNets", name := "load", desc := "(III)I" } : Jvm.MethodName)) ∈ lw_all := lw_g (lw_at lw_m6 56 rfl) rfl
theorem q1368 : (Jvm.Cond.methodLink "WiredNetsLaw" (242 : Nat) ({ cls := "WiredNetsLaw", name := "heavy", desc := "(LWiredNets;II[J)I" } : Jvm.MethodName)) ∈ lw_all := lw_g (lw_at lw_m6 60 rfl) rfl
theorem q1369 : (Jvm.Cond.static ({ cls := "WiredNetsLaw", name := "heavy", desc := "(LWiredNets;II[J)I" } : Jvm.MethodName)) ∈ lw_all := lw_g (lw_at lw_m6 61 rfl) rfl
theorem q1370 : (Jvm.Cond.codeWith ({ cls := "WiredNetsLaw", name := "heavy", desc := "(LWiredNets;II[J)I" } : Jvm.MethodName) method_31_code (5 : Nat) (Option.some Jvm.ClassFile.FieldType.int) [((0 : Nat), (10 : Nat), (13 : Nat), (13 : Nat))]) ∈ lw_all := lw_g (lw_at lw_m6 62 rfl) rfl
theorem q1371 : (Jvm.Cond.methodLink "WiredNetsLaw" (107 : Nat) ({ cls := "WiredNets", name := "heavy", desc := "(II)I" } : Jvm.MethodName)) ∈ lw_all := lw_g (lw_at lw_m6 63 rfl) rfl
theorem q1396 : (Jvm.Cond.methodLink "WiredNetsLaw" (245 : Nat) ({ cls := "WiredNetsLaw", name := "upward", desc := "(LWiredNets;III[J)I" } : Jvm.MethodName)) ∈ lw_all := lw_g (lw_at lw_m6 88 rfl) rfl
theorem q1397 : (Jvm.Cond.static ({ cls := "WiredNetsLaw", name := "upward", desc := "(LWiredNets;III[J)I" } : Jvm.MethodName)) ∈ lw_all := lw_g (lw_at lw_m6 89 rfl) rfl
theorem q1398 : (Jvm.Cond.codeWith ({ cls := "WiredNetsLaw", name := "upward", desc := "(LWiredNets;III[J)I" } : Jvm.MethodName) method_32_code (6 : Nat) (Option.some Jvm.ClassFile.FieldType.int) [((0 : Nat), (12 : Nat), (15 : Nat), (13 : Nat))]) ∈ lw_all := lw_g (lw_at lw_m6 90 rfl) rfl
theorem q1399 : (Jvm.Cond.methodLink "WiredNetsLaw" (110 : Nat) ({ cls := "WiredNets", name := "upward", desc := "(III)I" } : Jvm.MethodName)) ∈ lw_all := lw_g (lw_at lw_m6 91 rfl) rfl
theorem q1417 : (Jvm.Cond.methodLink "WiredNetsLaw" (248 : Nat) ({ cls := "WiredNetsLaw", name := "tell", desc := "(LWiredNets;II[J)I" } : Jvm.MethodName)) ∈ lw_all := lw_g (lw_at lw_m6 109 rfl) rfl
theorem q1418 : (Jvm.Cond.static ({ cls := "WiredNetsLaw", name := "tell", desc := "(LWiredNets;II[J)I" } : Jvm.MethodName)) ∈ lw_all := lw_g (lw_at lw_m6 110 rfl) rfl
theorem q1419 : (Jvm.Cond.codeWith ({ cls := "WiredNetsLaw", name := "tell", desc := "(LWiredNets;II[J)I" } : Jvm.MethodName) method_33_code (5 : Nat) (Option.some Jvm.ClassFile.FieldType.int) [((0 : Nat), (10 : Nat), (13 : Nat), (13 : Nat))]) ∈ lw_all := lw_g (lw_at lw_m6 111 rfl) rfl
theorem q1420 : (Jvm.Cond.methodLink "WiredNetsLaw" (113 : Nat) ({ cls := "WiredNets", name := "tell", desc := "(II)I" } : Jvm.MethodName)) ∈ lw_all := lw_g (lw_at lw_m6 112 rfl) rfl
theorem q1449 : (Jvm.Cond.methodLink "WiredNetsLaw" (251 : Nat) ({ cls := "WiredNetsLaw", name := "grow", desc := "(LWiredNets;II[J)I" } : Jvm.MethodName)) ∈ lw_all := lw_g (lw_at lw_m6 141 rfl) rfl
theorem q1450 : (Jvm.Cond.static ({ cls := "WiredNetsLaw", name := "grow", desc := "(LWiredNets;II[J)I" } : Jvm.MethodName)) ∈ lw_all := lw_g (lw_at lw_m6 142 rfl) rfl
theorem q1451 : (Jvm.Cond.codeWith ({ cls := "WiredNetsLaw", name := "grow", desc := "(LWiredNets;II[J)I" } : Jvm.MethodName) method_34_code (5 : Nat) (Option.some Jvm.ClassFile.FieldType.int) [((0 : Nat), (10 : Nat), (13 : Nat), (13 : Nat)), ((0 : Nat), (10 : Nat), (17 : Nat), (22 : Nat))]) ∈ lw_all := lw_g (lw_at lw_m6 143 rfl) rfl
theorem q1452 : (Jvm.Cond.methodLink "WiredNetsLaw" (116 : Nat) ({ cls := "WiredNets", name := "grow", desc := "(II)I" } : Jvm.MethodName)) ∈ lw_all := lw_g (lw_at lw_m6 144 rfl) rfl
theorem q1459 : (Jvm.Cond.methodLink "WiredNetsLaw" (254 : Nat) ({ cls := "WiredNetsLaw", name := "missing", desc := "(LWiredNets;I[J)I" } : Jvm.MethodName)) ∈ lw_all := lw_g (lw_at lw_m6 151 rfl) rfl
theorem q1460 : (Jvm.Cond.static ({ cls := "WiredNetsLaw", name := "missing", desc := "(LWiredNets;I[J)I" } : Jvm.MethodName)) ∈ lw_all := lw_g (lw_at lw_m6 152 rfl) rfl
theorem q1461 : (Jvm.Cond.codeWith ({ cls := "WiredNetsLaw", name := "missing", desc := "(LWiredNets;I[J)I" } : Jvm.MethodName) method_35_code (4 : Nat) (Option.some Jvm.ClassFile.FieldType.int) [((0 : Nat), (9 : Nat), (12 : Nat), (13 : Nat))]) ∈ lw_all := lw_g (lw_at lw_m6 153 rfl) rfl
theorem q1462 : (Jvm.Cond.methodLink "WiredNetsLaw" (119 : Nat) ({ cls := "WiredNets", name := "missing", desc := "(I)I" } : Jvm.MethodName)) ∈ lw_all := lw_g (lw_at lw_m6 154 rfl) rfl
theorem q1466 : (Jvm.Cond.methodLink "WiredNetsLaw" (257 : Nat) ({ cls := "WiredNetsLaw", name := "count", desc := "(LWiredNets;I[J)I" } : Jvm.MethodName)) ∈ lw_all := lw_g (lw_at lw_m6 158 rfl) rfl
theorem q1467 : (Jvm.Cond.static ({ cls := "WiredNetsLaw", name := "count", desc := "(LWiredNets;I[J)I" } : Jvm.MethodName)) ∈ lw_all := lw_g (lw_at lw_m6 159 rfl) rfl
theorem q1468 : (Jvm.Cond.codeWith ({ cls := "WiredNetsLaw", name := "count", desc := "(LWiredNets;I[J)I" } : Jvm.MethodName) method_36_code (4 : Nat) (Option.some Jvm.ClassFile.FieldType.int) [((0 : Nat), (9 : Nat), (12 : Nat), (13 : Nat))]) ∈ lw_all := lw_g (lw_at lw_m6 160 rfl) rfl
theorem q1469 : (Jvm.Cond.methodLink "WiredNetsLaw" (122 : Nat) ({ cls := "WiredNets", name := "count", desc := "(I)I" } : Jvm.MethodName)) ∈ lw_all := lw_g (lw_at lw_m6 161 rfl) rfl
theorem q1473 : (Jvm.Cond.classLink "WiredNetsLaw" (126 : Nat) "WiredNetsModel") ∈ lw_all := lw_g (lw_at lw_m6 165 rfl) rfl
theorem q1475 : (Jvm.Cond.methodLink "WiredNetsLaw" (128 : Nat) ({ cls := "WiredNetsModel", name := "<init>", desc := "()V" } : Jvm.MethodName)) ∈ lw_all := lw_g (lw_at lw_m6 167 rfl) rfl
theorem q1706 : (Jvm.Cond.methodLink "WiredNetsLaw" (139 : Nat) ({ cls := "WiredNetsModel", name := "thrown", desc := "()I" } : Jvm.MethodName)) ∈ lw_all := lw_g (lw_at lw_m7 158 rfl) rfl
theorem q1710 : (Jvm.Cond.methodLink "WiredNetsLaw" (132 : Nat) ({ cls := "WiredNetsModel", name := "net", desc := "(III)Z" } : Jvm.MethodName)) ∈ lw_all := lw_g (lw_at lw_m7 162 rfl) rfl
theorem q1728 : (Jvm.Cond.methodLink "WiredNetsLaw" (138 : Nat) ({ cls := "WiredNetsModel", name := "line", desc := "(III)Z" } : Jvm.MethodName)) ∈ lw_all := lw_g (lw_at lw_m7 180 rfl) rfl
theorem q1759 : (Jvm.Cond.methodLink "WiredNetsLaw" (145 : Nat) ({ cls := "WiredNetsModel", name := "off", desc := "(III)Z" } : Jvm.MethodName)) ∈ lw_all := lw_g (lw_at lw_m7 211 rfl) rfl
theorem q1767 : (Jvm.Cond.methodLink "WiredNetsLaw" (150 : Nat) ({ cls := "WiredNetsModel", name := "feed", desc := "(IIIII)I" } : Jvm.MethodName)) ∈ lw_all := lw_g (lw_at lw_m7 219 rfl) rfl
theorem q1775 : (Jvm.Cond.methodLink "WiredNetsLaw" (154 : Nat) ({ cls := "WiredNetsModel", name := "read", desc := "(II)I" } : Jvm.MethodName)) ∈ lw_all := lw_g (lw_at lw_m7 227 rfl) rfl
theorem q1828 : (Jvm.Cond.methodLink "WiredNetsLaw" (158 : Nat) ({ cls := "WiredNetsModel", name := "fault", desc := "()I" } : Jvm.MethodName)) ∈ lw_all := lw_g (lw_at lw_m8 40 rfl) rfl
theorem q1832 : (Jvm.Cond.methodLink "WiredNetsLaw" (163 : Nat) ({ cls := "WiredNetsModel", name := "turned", desc := "(IIIII)Z" } : Jvm.MethodName)) ∈ lw_all := lw_g (lw_at lw_m8 44 rfl) rfl
theorem q1848 : (Jvm.Cond.methodLink "WiredNetsLaw" (167 : Nat) ({ cls := "WiredNetsModel", name := "glued", desc := "(IIII)Z" } : Jvm.MethodName)) ∈ lw_all := lw_g (lw_at lw_m8 60 rfl) rfl
theorem q1860 : (Jvm.Cond.methodLink "WiredNetsLaw" (170 : Nat) ({ cls := "WiredNetsModel", name := "copy", desc := "(II)Z" } : Jvm.MethodName)) ∈ lw_all := lw_g (lw_at lw_m8 72 rfl) rfl
theorem q1864 : (Jvm.Cond.methodLink "WiredNetsLaw" (173 : Nat) ({ cls := "WiredNetsModel", name := "about", desc := "(II)I" } : Jvm.MethodName)) ∈ lw_all := lw_g (lw_at lw_m8 76 rfl) rfl
theorem q1872 : (Jvm.Cond.methodLink "WiredNetsLaw" (176 : Nat) ({ cls := "WiredNetsModel", name := "lineAt", desc := "(II)I" } : Jvm.MethodName)) ∈ lw_all := lw_g (lw_at lw_m8 84 rfl) rfl
theorem q1876 : (Jvm.Cond.methodLink "WiredNetsLaw" (179 : Nat) ({ cls := "WiredNetsModel", name := "distance", desc := "(III)I" } : Jvm.MethodName)) ∈ lw_all := lw_g (lw_at lw_m8 88 rfl) rfl
theorem q1888 : (Jvm.Cond.methodLink "WiredNetsLaw" (182 : Nat) ({ cls := "WiredNetsModel", name := "far", desc := "(II)I" } : Jvm.MethodName)) ∈ lw_all := lw_g (lw_at lw_m8 100 rfl) rfl
theorem q1925 : (Jvm.Cond.methodLink "WiredNetsLaw" (185 : Nat) ({ cls := "WiredNetsModel", name := "apart", desc := "(III)I" } : Jvm.MethodName)) ∈ lw_all := lw_g (lw_at lw_m8 137 rfl) rfl
theorem q1929 : (Jvm.Cond.methodLink "WiredNetsLaw" (188 : Nat) ({ cls := "WiredNetsModel", name := "poly", desc := "(II)J" } : Jvm.MethodName)) ∈ lw_all := lw_g (lw_at lw_m8 141 rfl) rfl
theorem q1937 : (Jvm.Cond.methodLink "WiredNetsLaw" (191 : Nat) ({ cls := "WiredNetsModel", name := "above", desc := "(II)I" } : Jvm.MethodName)) ∈ lw_all := lw_g (lw_at lw_m8 149 rfl) rfl
theorem q1941 : (Jvm.Cond.methodLink "WiredNetsLaw" (194 : Nat) ({ cls := "WiredNetsModel", name := "walks", desc := "(II)J" } : Jvm.MethodName)) ∈ lw_all := lw_g (lw_at lw_m8 153 rfl) rfl
theorem q1945 : (Jvm.Cond.methodLink "WiredNetsLaw" (198 : Nat) ({ cls := "WiredNetsModel", name := "change", desc := "(IIIZ)Z" } : Jvm.MethodName)) ∈ lw_all := lw_g (lw_at lw_m8 157 rfl) rfl
theorem q1953 : (Jvm.Cond.methodLink "WiredNetsLaw" (202 : Nat) ({ cls := "WiredNetsModel", name := "better", desc := "(I)I" } : Jvm.MethodName)) ∈ lw_all := lw_g (lw_at lw_m8 165 rfl) rfl
theorem q1969 : (Jvm.Cond.methodLink "WiredNetsLaw" (205 : Nat) ({ cls := "WiredNetsModel", name := "cool", desc := "(IIII)I" } : Jvm.MethodName)) ∈ lw_all := lw_g (lw_at lw_m8 181 rfl) rfl
theorem q1978 : (Jvm.Cond.methodLink "WiredNetsLaw" (208 : Nat) ({ cls := "WiredNetsModel", name := "seek", desc := "(IIII)I" } : Jvm.MethodName)) ∈ lw_all := lw_g (lw_at lw_m8 190 rfl) rfl
theorem q1990 : (Jvm.Cond.methodLink "WiredNetsLaw" (211 : Nat) ({ cls := "WiredNetsModel", name := "small", desc := "(III)I" } : Jvm.MethodName)) ∈ lw_all := lw_g (lw_at lw_m8 202 rfl) rfl
theorem q2014 : (Jvm.Cond.methodLink "WiredNetsLaw" (214 : Nat) ({ cls := "WiredNetsModel", name := "found", desc := "(I)I" } : Jvm.MethodName)) ∈ lw_all := lw_g (lw_at lw_m8 226 rfl) rfl
theorem q2018 : (Jvm.Cond.methodLink "WiredNetsLaw" (217 : Nat) ({ cls := "WiredNetsModel", name := "bound", desc := "(II)I" } : Jvm.MethodName)) ∈ lw_all := lw_g (lw_at lw_m8 230 rfl) rfl
theorem q2023 : (Jvm.Cond.methodLink "WiredNetsLaw" (220 : Nat) ({ cls := "WiredNetsModel", name := "falls", desc := "(III)I" } : Jvm.MethodName)) ∈ lw_all := lw_g (lw_at lw_m8 235 rfl) rfl
theorem q2035 : (Jvm.Cond.methodLink "WiredNetsLaw" (223 : Nat) ({ cls := "WiredNetsModel", name := "fallen", desc := "(I)I" } : Jvm.MethodName)) ∈ lw_all := lw_g (lw_at lw_m9 7 rfl) rfl
theorem q2039 : (Jvm.Cond.methodLink "WiredNetsLaw" (226 : Nat) ({ cls := "WiredNetsModel", name := "halves", desc := "(I)I" } : Jvm.MethodName)) ∈ lw_all := lw_g (lw_at lw_m9 11 rfl) rfl
theorem q2043 : (Jvm.Cond.methodLink "WiredNetsLaw" (229 : Nat) ({ cls := "WiredNetsModel", name := "lay", desc := "(II)I" } : Jvm.MethodName)) ∈ lw_all := lw_g (lw_at lw_m9 15 rfl) rfl
theorem q2071 : (Jvm.Cond.methodLink "WiredNetsLaw" (232 : Nat) ({ cls := "WiredNetsModel", name := "laid", desc := "(I)I" } : Jvm.MethodName)) ∈ lw_all := lw_g (lw_at lw_m9 43 rfl) rfl
theorem q2075 : (Jvm.Cond.methodLink "WiredNetsLaw" (235 : Nat) ({ cls := "WiredNetsModel", name := "hop", desc := "(III)I" } : Jvm.MethodName)) ∈ lw_all := lw_g (lw_at lw_m9 47 rfl) rfl
theorem q2087 : (Jvm.Cond.methodLink "WiredNetsLaw" (238 : Nat) ({ cls := "WiredNetsModel", name := "locks", desc := "(I)Z" } : Jvm.MethodName)) ∈ lw_all := lw_g (lw_at lw_m9 59 rfl) rfl
theorem q2095 : (Jvm.Cond.methodLink "WiredNetsLaw" (241 : Nat) ({ cls := "WiredNetsModel", name := "load", desc := "(III)I" } : Jvm.MethodName)) ∈ lw_all := lw_g (lw_at lw_m9 67 rfl) rfl
theorem q2103 : (Jvm.Cond.methodLink "WiredNetsLaw" (244 : Nat) ({ cls := "WiredNetsModel", name := "heavy", desc := "(II)I" } : Jvm.MethodName)) ∈ lw_all := lw_g (lw_at lw_m9 75 rfl) rfl
theorem q2123 : (Jvm.Cond.methodLink "WiredNetsLaw" (247 : Nat) ({ cls := "WiredNetsModel", name := "upward", desc := "(III)I" } : Jvm.MethodName)) ∈ lw_all := lw_g (lw_at lw_m9 95 rfl) rfl
theorem q2135 : (Jvm.Cond.methodLink "WiredNetsLaw" (250 : Nat) ({ cls := "WiredNetsModel", name := "tell", desc := "(II)I" } : Jvm.MethodName)) ∈ lw_all := lw_g (lw_at lw_m9 107 rfl) rfl
theorem q2147 : (Jvm.Cond.methodLink "WiredNetsLaw" (253 : Nat) ({ cls := "WiredNetsModel", name := "grow", desc := "(II)I" } : Jvm.MethodName)) ∈ lw_all := lw_g (lw_at lw_m9 119 rfl) rfl
theorem q2159 : (Jvm.Cond.methodLink "WiredNetsLaw" (256 : Nat) ({ cls := "WiredNetsModel", name := "missing", desc := "(I)I" } : Jvm.MethodName)) ∈ lw_all := lw_g (lw_at lw_m9 131 rfl) rfl
theorem q2163 : (Jvm.Cond.methodLink "WiredNetsLaw" (259 : Nat) ({ cls := "WiredNetsModel", name := "count", desc := "(I)I" } : Jvm.MethodName)) ∈ lw_all := lw_g (lw_at lw_m9 135 rfl) rfl

/-! WiredNets -/
set_option maxRecDepth 100000
def RX1 : String := "WiredNets"
def TX1 : u_T := fun k => match k with
  | 0 => ("WiredNets", "nets", "[LWiredNets$Net;", true)
  | 1 => ("WiredNets", "tape", "[B", true)
  | 2 => ("WiredNets", "flood", "LWiredNets$Flood;", true)
  | 3 => ("WiredNets", "flow", "LWiredNets$Flow;", true)
  | 4 => ("WiredNets", "fallen", "Ljava/util/List;", true)
  | 5 => ("WiredNets", "taped", "I", false)
  | 6 => ("WiredNets", "faultPlace", "I", false)
  | 7 => ("WiredNets", "small", "LWiredNets$Small;", true)
  | _ => ("WiredNets", "laid", "[I", false)
def tyX1 : Nat → FieldType := fun k => match k with
  | 0 => .array (.object "WiredNets$Net")
  | 1 => .array .byte
  | 2 => .object "WiredNets$Flood"
  | 3 => .object "WiredNets$Flow"
  | 4 => .object "java/util/List"
  | 5 => .int
  | 6 => .int
  | 7 => .object "WiredNets$Small"
  | _ => .array .int
abbrev wsX10 : List Cond := u_ws RX1 TX1 9
theorem nmX1 : ∀ a, a < 9 → ∀ b, b < 9 → a ≠ b → (TX1 a).2.1 ≠ (TX1 b).2.1 := by decide +kernel
theorem tyX1_ok : ∀ k, k < 9 → parseFieldDescriptor (TX1 k).2.2.1 = some (tyX1 k) := by decide +kernel
abbrev cX1_init : ByteArray := prog_1_method_4_code
def yX1_init : MethodName := ⟨RX1, "<init>", "()V"⟩
def dkwX1_init_3 : List UInt8 := [181, 0, 53, 42, 3, 188, 10, 181, 0, 57, 177]
abbrev dktX1_init_3 : List UInt8 := dkwX1_init_3 ++ []
def dkwX1_init_2 : List UInt8 := [187, 0, 39, 89, 183, 0, 41, 181, 0, 42, 42, 2, 181, 0, 46, 42, 187, 0, 50, 89, 183, 0, 52]
abbrev dktX1_init_2 : List UInt8 := dkwX1_init_2 ++ dktX1_init_3
def dkwX1_init_1 : List UInt8 := [187, 0, 25, 89, 183, 0, 27, 181, 0, 28, 42, 187, 0, 32, 89, 183, 0, 34, 181, 0, 35, 42]
abbrev dktX1_init_1 : List UInt8 := dkwX1_init_1 ++ dktX1_init_2
def dkwX1_init_0 : List UInt8 := [42, 183, 0, 10, 42, 16, 8, 189, 0, 15, 181, 0, 17, 42, 17, 1, 144, 188, 8, 181, 0, 21, 42]
abbrev dktX1_init_0 : List UInt8 := dkwX1_init_0 ++ dktX1_init_1
theorem dksX1_init_0 : cX1_init.data.toList.drop 0 = dktX1_init_0 := by decide +kernel
theorem dksX1_init_1 : cX1_init.data.toList.drop 23 = dktX1_init_1 := dk_seg dksX1_init_0 23 rfl rfl
theorem dksX1_init_2 : cX1_init.data.toList.drop 45 = dktX1_init_2 := dk_seg dksX1_init_1 22 rfl rfl
theorem dksX1_init_3 : cX1_init.data.toList.drop 68 = dktX1_init_3 := dk_seg dksX1_init_2 23 rfl rfl
theorem dX1_init_0 : decode cX1_init 0 = .ok (.aload_n 0, 1) := dk_42 (dk_at dksX1_init_0 0 rfl rfl)
theorem dX1_init_1 : decode cX1_init 1 = .ok (.invokespecial 10, 3) := dk_183 0 10 (dk_at dksX1_init_0 1 rfl rfl)
theorem dX1_init_4 : decode cX1_init 4 = .ok (.aload_n 0, 1) := dk_42 (dk_at dksX1_init_0 4 rfl rfl)
theorem dX1_init_5 : decode cX1_init 5 = .ok (.bipush 8, 2) := dk_16 8 (dk_at dksX1_init_0 5 rfl rfl)
theorem dX1_init_7 : decode cX1_init 7 = .ok (.anewarray 15, 3) := dk_189 0 15 (dk_at dksX1_init_0 7 rfl rfl)
theorem dX1_init_10 : decode cX1_init 10 = .ok (.putfield 17, 3) := dk_181 0 17 (dk_at dksX1_init_0 10 rfl rfl)
theorem dX1_init_13 : decode cX1_init 13 = .ok (.aload_n 0, 1) := dk_42 (dk_at dksX1_init_0 13 rfl rfl)
theorem dX1_init_14 : decode cX1_init 14 = .ok (.sipush 400, 3) := dk_17 1 144 (dk_at dksX1_init_0 14 rfl rfl)
theorem dX1_init_17 : decode cX1_init 17 = .ok (.newarray .byte, 2) := dk_188_8 (dk_at dksX1_init_0 17 rfl rfl)
theorem dX1_init_19 : decode cX1_init 19 = .ok (.putfield 21, 3) := dk_181 0 21 (dk_at dksX1_init_0 19 rfl rfl)
theorem dX1_init_22 : decode cX1_init 22 = .ok (.aload_n 0, 1) := dk_42 (dk_at dksX1_init_0 22 rfl rfl)
theorem dX1_init_23 : decode cX1_init 23 = .ok (.new 25, 3) := dk_187 0 25 (dk_at dksX1_init_1 0 rfl rfl)
theorem dX1_init_26 : decode cX1_init 26 = .ok (.dup, 1) := dk_89 (dk_at dksX1_init_1 3 rfl rfl)
theorem dX1_init_27 : decode cX1_init 27 = .ok (.invokespecial 27, 3) := dk_183 0 27 (dk_at dksX1_init_1 4 rfl rfl)
theorem dX1_init_30 : decode cX1_init 30 = .ok (.putfield 28, 3) := dk_181 0 28 (dk_at dksX1_init_1 7 rfl rfl)
theorem dX1_init_33 : decode cX1_init 33 = .ok (.aload_n 0, 1) := dk_42 (dk_at dksX1_init_1 10 rfl rfl)
theorem dX1_init_34 : decode cX1_init 34 = .ok (.new 32, 3) := dk_187 0 32 (dk_at dksX1_init_1 11 rfl rfl)
theorem dX1_init_37 : decode cX1_init 37 = .ok (.dup, 1) := dk_89 (dk_at dksX1_init_1 14 rfl rfl)
theorem dX1_init_38 : decode cX1_init 38 = .ok (.invokespecial 34, 3) := dk_183 0 34 (dk_at dksX1_init_1 15 rfl rfl)
theorem dX1_init_41 : decode cX1_init 41 = .ok (.putfield 35, 3) := dk_181 0 35 (dk_at dksX1_init_1 18 rfl rfl)
theorem dX1_init_44 : decode cX1_init 44 = .ok (.aload_n 0, 1) := dk_42 (dk_at dksX1_init_1 21 rfl rfl)
theorem dX1_init_45 : decode cX1_init 45 = .ok (.new 39, 3) := dk_187 0 39 (dk_at dksX1_init_2 0 rfl rfl)
theorem dX1_init_48 : decode cX1_init 48 = .ok (.dup, 1) := dk_89 (dk_at dksX1_init_2 3 rfl rfl)
theorem dX1_init_49 : decode cX1_init 49 = .ok (.invokespecial 41, 3) := dk_183 0 41 (dk_at dksX1_init_2 4 rfl rfl)
theorem dX1_init_52 : decode cX1_init 52 = .ok (.putfield 42, 3) := dk_181 0 42 (dk_at dksX1_init_2 7 rfl rfl)
theorem dX1_init_55 : decode cX1_init 55 = .ok (.aload_n 0, 1) := dk_42 (dk_at dksX1_init_2 10 rfl rfl)
theorem dX1_init_56 : decode cX1_init 56 = .ok (.iconst (-1), 1) := dk_2 (dk_at dksX1_init_2 11 rfl rfl)
theorem dX1_init_57 : decode cX1_init 57 = .ok (.putfield 46, 3) := dk_181 0 46 (dk_at dksX1_init_2 12 rfl rfl)
theorem dX1_init_60 : decode cX1_init 60 = .ok (.aload_n 0, 1) := dk_42 (dk_at dksX1_init_2 15 rfl rfl)
theorem dX1_init_61 : decode cX1_init 61 = .ok (.new 50, 3) := dk_187 0 50 (dk_at dksX1_init_2 16 rfl rfl)
theorem dX1_init_64 : decode cX1_init 64 = .ok (.dup, 1) := dk_89 (dk_at dksX1_init_2 19 rfl rfl)
theorem dX1_init_65 : decode cX1_init 65 = .ok (.invokespecial 52, 3) := dk_183 0 52 (dk_at dksX1_init_2 20 rfl rfl)
theorem dX1_init_68 : decode cX1_init 68 = .ok (.putfield 53, 3) := dk_181 0 53 (dk_at dksX1_init_3 0 rfl rfl)
theorem dX1_init_71 : decode cX1_init 71 = .ok (.aload_n 0, 1) := dk_42 (dk_at dksX1_init_3 3 rfl rfl)
theorem dX1_init_72 : decode cX1_init 72 = .ok (.iconst 0, 1) := dk_3 (dk_at dksX1_init_3 4 rfl rfl)
theorem dX1_init_73 : decode cX1_init 73 = .ok (.newarray .int, 2) := dk_188_10 (dk_at dksX1_init_3 5 rfl rfl)
theorem dX1_init_75 : decode cX1_init 75 = .ok (.putfield 57, 3) := dk_181 0 57 (dk_at dksX1_init_3 7 rfl rfl)
theorem dX1_init_78 : decode cX1_init 78 = .ok (.return_, 1) := dk_177 (dk_at dksX1_init_3 10 rfl rfl)
abbrev cX1_net : ByteArray := prog_1_method_8_code
def yX1_net : MethodName := ⟨RX1, "net", "(III)Z"⟩
def dkwX1_net_1 : List UInt8 := [187, 0, 15, 89, 28, 29, 183, 0, 80, 83, 4, 172]
abbrev dktX1_net_1 : List UInt8 := dkwX1_net_1 ++ []
def dkwX1_net_0 : List UInt8 := [27, 184, 0, 65, 153, 0, 11, 28, 29, 184, 0, 76, 154, 0, 5, 3, 172, 42, 180, 0, 17, 27]
abbrev dktX1_net_0 : List UInt8 := dkwX1_net_0 ++ dktX1_net_1
theorem dksX1_net_0 : cX1_net.data.toList.drop 0 = dktX1_net_0 := by decide +kernel
theorem dksX1_net_1 : cX1_net.data.toList.drop 22 = dktX1_net_1 := dk_seg dksX1_net_0 22 rfl rfl
theorem dX1_net_0 : decode cX1_net 0 = .ok (.iload_n 1, 1) := dk_27 (dk_at dksX1_net_0 0 rfl rfl)
theorem dX1_net_1 : decode cX1_net 1 = .ok (.invokestatic 65, 3) := dk_184 0 65 (dk_at dksX1_net_0 1 rfl rfl)
theorem dX1_net_4 : decode cX1_net 4 = .ok (.ifCond .eq 11, 3) := dk_153 0 11 (dk_at dksX1_net_0 4 rfl rfl)
theorem dX1_net_7 : decode cX1_net 7 = .ok (.iload_n 2, 1) := dk_28 (dk_at dksX1_net_0 7 rfl rfl)
theorem dX1_net_8 : decode cX1_net 8 = .ok (.iload_n 3, 1) := dk_29 (dk_at dksX1_net_0 8 rfl rfl)
theorem dX1_net_9 : decode cX1_net 9 = .ok (.invokestatic 76, 3) := dk_184 0 76 (dk_at dksX1_net_0 9 rfl rfl)
theorem dX1_net_12 : decode cX1_net 12 = .ok (.ifCond .ne 5, 3) := dk_154 0 5 (dk_at dksX1_net_0 12 rfl rfl)
theorem dX1_net_15 : decode cX1_net 15 = .ok (.iconst 0, 1) := dk_3 (dk_at dksX1_net_0 15 rfl rfl)
theorem dX1_net_16 : decode cX1_net 16 = .ok (.ireturn, 1) := dk_172 (dk_at dksX1_net_0 16 rfl rfl)
theorem dX1_net_17 : decode cX1_net 17 = .ok (.aload_n 0, 1) := dk_42 (dk_at dksX1_net_0 17 rfl rfl)
theorem dX1_net_18 : decode cX1_net 18 = .ok (.getfield 17, 3) := dk_180 0 17 (dk_at dksX1_net_0 18 rfl rfl)
theorem dX1_net_21 : decode cX1_net 21 = .ok (.iload_n 1, 1) := dk_27 (dk_at dksX1_net_0 21 rfl rfl)
theorem dX1_net_22 : decode cX1_net 22 = .ok (.new 15, 3) := dk_187 0 15 (dk_at dksX1_net_1 0 rfl rfl)
theorem dX1_net_25 : decode cX1_net 25 = .ok (.dup, 1) := dk_89 (dk_at dksX1_net_1 3 rfl rfl)
theorem dX1_net_26 : decode cX1_net 26 = .ok (.iload_n 2, 1) := dk_28 (dk_at dksX1_net_1 4 rfl rfl)
theorem dX1_net_27 : decode cX1_net 27 = .ok (.iload_n 3, 1) := dk_29 (dk_at dksX1_net_1 5 rfl rfl)
theorem dX1_net_28 : decode cX1_net 28 = .ok (.invokespecial 80, 3) := dk_183 0 80 (dk_at dksX1_net_1 6 rfl rfl)
theorem dX1_net_31 : decode cX1_net 31 = .ok (.aastore, 1) := dk_83 (dk_at dksX1_net_1 9 rfl rfl)
theorem dX1_net_32 : decode cX1_net 32 = .ok (.iconst 1, 1) := dk_4 (dk_at dksX1_net_1 10 rfl rfl)
theorem dX1_net_33 : decode cX1_net 33 = .ok (.ireturn, 1) := dk_172 (dk_at dksX1_net_1 11 rfl rfl)
abbrev cX1_isSlot : ByteArray := prog_1_method_5_code
def yX1_isSlot : MethodName := ⟨RX1, "isSlot", "(I)Z"⟩
def dkwX1_isSlot_0 : List UInt8 := [26, 3, 16, 7, 184, 0, 61, 172]
abbrev dktX1_isSlot_0 : List UInt8 := dkwX1_isSlot_0 ++ []
theorem dksX1_isSlot_0 : cX1_isSlot.data.toList.drop 0 = dktX1_isSlot_0 := by decide +kernel
theorem dX1_isSlot_0 : decode cX1_isSlot 0 = .ok (.iload_n 0, 1) := dk_26 (dk_at dksX1_isSlot_0 0 rfl rfl)
theorem dX1_isSlot_1 : decode cX1_isSlot 1 = .ok (.iconst 0, 1) := dk_3 (dk_at dksX1_isSlot_0 1 rfl rfl)
theorem dX1_isSlot_2 : decode cX1_isSlot 2 = .ok (.bipush 7, 2) := dk_16 7 (dk_at dksX1_isSlot_0 2 rfl rfl)
theorem dX1_isSlot_4 : decode cX1_isSlot 4 = .ok (.invokestatic 61, 3) := dk_184 0 61 (dk_at dksX1_isSlot_0 4 rfl rfl)
theorem dX1_isSlot_7 : decode cX1_isSlot 7 = .ok (.ireturn, 1) := dk_172 (dk_at dksX1_isSlot_0 7 rfl rfl)
abbrev cX1_in : ByteArray := prog_1_method_1_code
def yX1_in : MethodName := ⟨RX1, "in", "(III)Z"⟩
def dkwX1_in_0 : List UInt8 := [26, 27, 161, 0, 12, 26, 28, 163, 0, 7, 4, 167, 0, 4, 3, 172]
abbrev dktX1_in_0 : List UInt8 := dkwX1_in_0 ++ []
theorem dksX1_in_0 : cX1_in.data.toList.drop 0 = dktX1_in_0 := by decide +kernel
theorem dX1_in_0 : decode cX1_in 0 = .ok (.iload_n 0, 1) := dk_26 (dk_at dksX1_in_0 0 rfl rfl)
theorem dX1_in_1 : decode cX1_in 1 = .ok (.iload_n 1, 1) := dk_27 (dk_at dksX1_in_0 1 rfl rfl)
theorem dX1_in_2 : decode cX1_in 2 = .ok (.if_icmp .lt 12, 3) := dk_161 0 12 (dk_at dksX1_in_0 2 rfl rfl)
theorem dX1_in_5 : decode cX1_in 5 = .ok (.iload_n 0, 1) := dk_26 (dk_at dksX1_in_0 5 rfl rfl)
theorem dX1_in_6 : decode cX1_in 6 = .ok (.iload_n 2, 1) := dk_28 (dk_at dksX1_in_0 6 rfl rfl)
theorem dX1_in_7 : decode cX1_in 7 = .ok (.if_icmp .gt 7, 3) := dk_163 0 7 (dk_at dksX1_in_0 7 rfl rfl)
theorem dX1_in_10 : decode cX1_in 10 = .ok (.iconst 1, 1) := dk_4 (dk_at dksX1_in_0 10 rfl rfl)
theorem dX1_in_11 : decode cX1_in 11 = .ok (.goto 4, 3) := dk_167 0 4 (dk_at dksX1_in_0 11 rfl rfl)
theorem dX1_in_14 : decode cX1_in 14 = .ok (.iconst 0, 1) := dk_3 (dk_at dksX1_in_0 14 rfl rfl)
theorem dX1_in_15 : decode cX1_in 15 = .ok (.ireturn, 1) := dk_172 (dk_at dksX1_in_0 15 rfl rfl)
abbrev cX1_feed : ByteArray := prog_1_method_11_code
def yX1_feed : MethodName := ⟨RX1, "feed", "(IIIII)I"⟩
def dkwX1_feed_5 : List UInt8 := [180, 0, 103, 172]
abbrev dktX1_feed_5 : List UInt8 := dkwX1_feed_5 ++ []
def dkwX1_feed_4 : List UInt8 := [112, 104, 100, 122, 145, 84, 132, 6, 1, 167, 255, 172, 42, 89, 180, 0, 103, 16, 20, 96, 181, 0, 103, 42]
abbrev dktX1_feed_4 : List UInt8 := dkwX1_feed_4 ++ dktX1_feed_5
def dkwX1_feed_3 : List UInt8 := [21, 5, 54, 7, 42, 180, 0, 21, 42, 180, 0, 103, 21, 6, 96, 21, 7, 16, 24, 16, 8, 21, 6, 7]
abbrev dktX1_feed_3 : List UInt8 := dkwX1_feed_3 ++ dktX1_feed_4
def dkwX1_feed_2 : List UInt8 := [21, 6, 16, 12, 162, 0, 7, 29, 167, 0, 17, 21, 6, 16, 16, 162, 0, 8, 21, 4, 167, 0, 5]
abbrev dktX1_feed_2 : List UInt8 := dkwX1_feed_2 ++ dktX1_feed_3
def dkwX1_feed_1 : List UInt8 := [162, 0, 83, 21, 6, 7, 162, 0, 7, 27, 167, 0, 39, 21, 6, 16, 8, 162, 0, 7, 28, 167, 0, 28]
abbrev dktX1_feed_1 : List UInt8 := dkwX1_feed_1 ++ dktX1_feed_2
def dkwX1_feed_0 : List UInt8 := [42, 180, 0, 103, 16, 20, 96, 17, 1, 144, 164, 0, 5, 2, 172, 3, 54, 6, 21, 6, 16, 20]
abbrev dktX1_feed_0 : List UInt8 := dkwX1_feed_0 ++ dktX1_feed_1
theorem dksX1_feed_0 : cX1_feed.data.toList.drop 0 = dktX1_feed_0 := by decide +kernel
theorem dksX1_feed_1 : cX1_feed.data.toList.drop 22 = dktX1_feed_1 := dk_seg dksX1_feed_0 22 rfl rfl
theorem dksX1_feed_2 : cX1_feed.data.toList.drop 46 = dktX1_feed_2 := dk_seg dksX1_feed_1 24 rfl rfl
theorem dksX1_feed_3 : cX1_feed.data.toList.drop 69 = dktX1_feed_3 := dk_seg dksX1_feed_2 23 rfl rfl
theorem dksX1_feed_4 : cX1_feed.data.toList.drop 93 = dktX1_feed_4 := dk_seg dksX1_feed_3 24 rfl rfl
theorem dksX1_feed_5 : cX1_feed.data.toList.drop 117 = dktX1_feed_5 := dk_seg dksX1_feed_4 24 rfl rfl
theorem dX1_feed_0 : decode cX1_feed 0 = .ok (.aload_n 0, 1) := dk_42 (dk_at dksX1_feed_0 0 rfl rfl)
theorem dX1_feed_1 : decode cX1_feed 1 = .ok (.getfield 103, 3) := dk_180 0 103 (dk_at dksX1_feed_0 1 rfl rfl)
theorem dX1_feed_4 : decode cX1_feed 4 = .ok (.bipush 20, 2) := dk_16 20 (dk_at dksX1_feed_0 4 rfl rfl)
theorem dX1_feed_6 : decode cX1_feed 6 = .ok (.iadd, 1) := dk_96 (dk_at dksX1_feed_0 6 rfl rfl)
theorem dX1_feed_7 : decode cX1_feed 7 = .ok (.sipush 400, 3) := dk_17 1 144 (dk_at dksX1_feed_0 7 rfl rfl)
theorem dX1_feed_10 : decode cX1_feed 10 = .ok (.if_icmp .le 5, 3) := dk_164 0 5 (dk_at dksX1_feed_0 10 rfl rfl)
theorem dX1_feed_13 : decode cX1_feed 13 = .ok (.iconst (-1), 1) := dk_2 (dk_at dksX1_feed_0 13 rfl rfl)
theorem dX1_feed_14 : decode cX1_feed 14 = .ok (.ireturn, 1) := dk_172 (dk_at dksX1_feed_0 14 rfl rfl)
theorem dX1_feed_15 : decode cX1_feed 15 = .ok (.iconst 0, 1) := dk_3 (dk_at dksX1_feed_0 15 rfl rfl)
theorem dX1_feed_16 : decode cX1_feed 16 = .ok (.istore 6, 2) := dk_54 6 (dk_at dksX1_feed_0 16 rfl rfl)
theorem dX1_feed_18 : decode cX1_feed 18 = .ok (.iload 6, 2) := dk_21 6 (dk_at dksX1_feed_0 18 rfl rfl)
theorem dX1_feed_20 : decode cX1_feed 20 = .ok (.bipush 20, 2) := dk_16 20 (dk_at dksX1_feed_0 20 rfl rfl)
theorem dX1_feed_22 : decode cX1_feed 22 = .ok (.if_icmp .ge 83, 3) := dk_162 0 83 (dk_at dksX1_feed_1 0 rfl rfl)
theorem dX1_feed_25 : decode cX1_feed 25 = .ok (.iload 6, 2) := dk_21 6 (dk_at dksX1_feed_1 3 rfl rfl)
theorem dX1_feed_27 : decode cX1_feed 27 = .ok (.iconst 4, 1) := dk_7 (dk_at dksX1_feed_1 5 rfl rfl)
theorem dX1_feed_28 : decode cX1_feed 28 = .ok (.if_icmp .ge 7, 3) := dk_162 0 7 (dk_at dksX1_feed_1 6 rfl rfl)
theorem dX1_feed_31 : decode cX1_feed 31 = .ok (.iload_n 1, 1) := dk_27 (dk_at dksX1_feed_1 9 rfl rfl)
theorem dX1_feed_32 : decode cX1_feed 32 = .ok (.goto 39, 3) := dk_167 0 39 (dk_at dksX1_feed_1 10 rfl rfl)
theorem dX1_feed_35 : decode cX1_feed 35 = .ok (.iload 6, 2) := dk_21 6 (dk_at dksX1_feed_1 13 rfl rfl)
theorem dX1_feed_37 : decode cX1_feed 37 = .ok (.bipush 8, 2) := dk_16 8 (dk_at dksX1_feed_1 15 rfl rfl)
theorem dX1_feed_39 : decode cX1_feed 39 = .ok (.if_icmp .ge 7, 3) := dk_162 0 7 (dk_at dksX1_feed_1 17 rfl rfl)
theorem dX1_feed_42 : decode cX1_feed 42 = .ok (.iload_n 2, 1) := dk_28 (dk_at dksX1_feed_1 20 rfl rfl)
theorem dX1_feed_43 : decode cX1_feed 43 = .ok (.goto 28, 3) := dk_167 0 28 (dk_at dksX1_feed_1 21 rfl rfl)
theorem dX1_feed_46 : decode cX1_feed 46 = .ok (.iload 6, 2) := dk_21 6 (dk_at dksX1_feed_2 0 rfl rfl)
theorem dX1_feed_48 : decode cX1_feed 48 = .ok (.bipush 12, 2) := dk_16 12 (dk_at dksX1_feed_2 2 rfl rfl)
theorem dX1_feed_50 : decode cX1_feed 50 = .ok (.if_icmp .ge 7, 3) := dk_162 0 7 (dk_at dksX1_feed_2 4 rfl rfl)
theorem dX1_feed_53 : decode cX1_feed 53 = .ok (.iload_n 3, 1) := dk_29 (dk_at dksX1_feed_2 7 rfl rfl)
theorem dX1_feed_54 : decode cX1_feed 54 = .ok (.goto 17, 3) := dk_167 0 17 (dk_at dksX1_feed_2 8 rfl rfl)
theorem dX1_feed_57 : decode cX1_feed 57 = .ok (.iload 6, 2) := dk_21 6 (dk_at dksX1_feed_2 11 rfl rfl)
theorem dX1_feed_59 : decode cX1_feed 59 = .ok (.bipush 16, 2) := dk_16 16 (dk_at dksX1_feed_2 13 rfl rfl)
theorem dX1_feed_61 : decode cX1_feed 61 = .ok (.if_icmp .ge 8, 3) := dk_162 0 8 (dk_at dksX1_feed_2 15 rfl rfl)
theorem dX1_feed_64 : decode cX1_feed 64 = .ok (.iload 4, 2) := dk_21 4 (dk_at dksX1_feed_2 18 rfl rfl)
theorem dX1_feed_66 : decode cX1_feed 66 = .ok (.goto 5, 3) := dk_167 0 5 (dk_at dksX1_feed_2 20 rfl rfl)
theorem dX1_feed_69 : decode cX1_feed 69 = .ok (.iload 5, 2) := dk_21 5 (dk_at dksX1_feed_3 0 rfl rfl)
theorem dX1_feed_71 : decode cX1_feed 71 = .ok (.istore 7, 2) := dk_54 7 (dk_at dksX1_feed_3 2 rfl rfl)
theorem dX1_feed_73 : decode cX1_feed 73 = .ok (.aload_n 0, 1) := dk_42 (dk_at dksX1_feed_3 4 rfl rfl)
theorem dX1_feed_74 : decode cX1_feed 74 = .ok (.getfield 21, 3) := dk_180 0 21 (dk_at dksX1_feed_3 5 rfl rfl)
theorem dX1_feed_77 : decode cX1_feed 77 = .ok (.aload_n 0, 1) := dk_42 (dk_at dksX1_feed_3 8 rfl rfl)
theorem dX1_feed_78 : decode cX1_feed 78 = .ok (.getfield 103, 3) := dk_180 0 103 (dk_at dksX1_feed_3 9 rfl rfl)
theorem dX1_feed_81 : decode cX1_feed 81 = .ok (.iload 6, 2) := dk_21 6 (dk_at dksX1_feed_3 12 rfl rfl)
theorem dX1_feed_83 : decode cX1_feed 83 = .ok (.iadd, 1) := dk_96 (dk_at dksX1_feed_3 14 rfl rfl)
theorem dX1_feed_84 : decode cX1_feed 84 = .ok (.iload 7, 2) := dk_21 7 (dk_at dksX1_feed_3 15 rfl rfl)
theorem dX1_feed_86 : decode cX1_feed 86 = .ok (.bipush 24, 2) := dk_16 24 (dk_at dksX1_feed_3 17 rfl rfl)
theorem dX1_feed_88 : decode cX1_feed 88 = .ok (.bipush 8, 2) := dk_16 8 (dk_at dksX1_feed_3 19 rfl rfl)
theorem dX1_feed_90 : decode cX1_feed 90 = .ok (.iload 6, 2) := dk_21 6 (dk_at dksX1_feed_3 21 rfl rfl)
theorem dX1_feed_92 : decode cX1_feed 92 = .ok (.iconst 4, 1) := dk_7 (dk_at dksX1_feed_3 23 rfl rfl)
theorem dX1_feed_93 : decode cX1_feed 93 = .ok (.irem, 1) := dk_112 (dk_at dksX1_feed_4 0 rfl rfl)
theorem dX1_feed_94 : decode cX1_feed 94 = .ok (.imul, 1) := dk_104 (dk_at dksX1_feed_4 1 rfl rfl)
theorem dX1_feed_95 : decode cX1_feed 95 = .ok (.isub, 1) := dk_100 (dk_at dksX1_feed_4 2 rfl rfl)
theorem dX1_feed_96 : decode cX1_feed 96 = .ok (.ishr, 1) := dk_122 (dk_at dksX1_feed_4 3 rfl rfl)
theorem dX1_feed_97 : decode cX1_feed 97 = .ok (.i2b, 1) := dk_145 (dk_at dksX1_feed_4 4 rfl rfl)
theorem dX1_feed_98 : decode cX1_feed 98 = .ok (.bastore, 1) := dk_84 (dk_at dksX1_feed_4 5 rfl rfl)
theorem dX1_feed_99 : decode cX1_feed 99 = .ok (.iinc 6 1, 3) := dk_132 6 1 (dk_at dksX1_feed_4 6 rfl rfl)
theorem dX1_feed_102 : decode cX1_feed 102 = .ok (.goto (-84), 3) := dk_167 255 172 (dk_at dksX1_feed_4 9 rfl rfl)
theorem dX1_feed_105 : decode cX1_feed 105 = .ok (.aload_n 0, 1) := dk_42 (dk_at dksX1_feed_4 12 rfl rfl)
theorem dX1_feed_106 : decode cX1_feed 106 = .ok (.dup, 1) := dk_89 (dk_at dksX1_feed_4 13 rfl rfl)
theorem dX1_feed_107 : decode cX1_feed 107 = .ok (.getfield 103, 3) := dk_180 0 103 (dk_at dksX1_feed_4 14 rfl rfl)
theorem dX1_feed_110 : decode cX1_feed 110 = .ok (.bipush 20, 2) := dk_16 20 (dk_at dksX1_feed_4 17 rfl rfl)
theorem dX1_feed_112 : decode cX1_feed 112 = .ok (.iadd, 1) := dk_96 (dk_at dksX1_feed_4 19 rfl rfl)
theorem dX1_feed_113 : decode cX1_feed 113 = .ok (.putfield 103, 3) := dk_181 0 103 (dk_at dksX1_feed_4 20 rfl rfl)
theorem dX1_feed_116 : decode cX1_feed 116 = .ok (.aload_n 0, 1) := dk_42 (dk_at dksX1_feed_4 23 rfl rfl)
theorem dX1_feed_117 : decode cX1_feed 117 = .ok (.getfield 103, 3) := dk_180 0 103 (dk_at dksX1_feed_5 0 rfl rfl)
theorem dX1_feed_120 : decode cX1_feed 120 = .ok (.ireturn, 1) := dk_172 (dk_at dksX1_feed_5 3 rfl rfl)
abbrev cX1_fault : ByteArray := prog_1_method_13_code
def yX1_fault : MethodName := ⟨RX1, "fault", "()I"⟩
theorem dX1_fault_0 : decode cX1_fault 0 = .ok (.aload_n 0, 1) := by decide +kernel
theorem dX1_fault_1 : decode cX1_fault 1 = .ok (.getfield 46, 3) := by decide +kernel
theorem dX1_fault_4 : decode cX1_fault 4 = .ok (.ireturn, 1) := by decide +kernel
abbrev cX1_turned : ByteArray := prog_1_method_14_code
def yX1_turned : MethodName := ⟨RX1, "turned", "(IIIII)Z"⟩
def dkwX1_turned_2 : List UInt8 := [27, 25, 6, 21, 5, 182, 0, 136, 83, 4, 172]
abbrev dktX1_turned_2 : List UInt8 := dkwX1_turned_2 ++ []
def dkwX1_turned_1 : List UInt8 := [29, 21, 4, 183, 0, 130, 58, 6, 25, 6, 21, 5, 182, 0, 133, 154, 0, 5, 3, 172, 42, 180, 0, 17]
abbrev dktX1_turned_1 : List UInt8 := dkwX1_turned_1 ++ dktX1_turned_2
def dkwX1_turned_0 : List UInt8 := [27, 184, 0, 65, 153, 0, 13, 28, 29, 21, 4, 184, 0, 126, 154, 0, 5, 3, 172, 187, 0, 127, 89, 28]
abbrev dktX1_turned_0 : List UInt8 := dkwX1_turned_0 ++ dktX1_turned_1
theorem dksX1_turned_0 : cX1_turned.data.toList.drop 0 = dktX1_turned_0 := by decide +kernel
theorem dksX1_turned_1 : cX1_turned.data.toList.drop 24 = dktX1_turned_1 := dk_seg dksX1_turned_0 24 rfl rfl
theorem dksX1_turned_2 : cX1_turned.data.toList.drop 48 = dktX1_turned_2 := dk_seg dksX1_turned_1 24 rfl rfl
theorem dX1_turned_0 : decode cX1_turned 0 = .ok (.iload_n 1, 1) := dk_27 (dk_at dksX1_turned_0 0 rfl rfl)
theorem dX1_turned_1 : decode cX1_turned 1 = .ok (.invokestatic 65, 3) := dk_184 0 65 (dk_at dksX1_turned_0 1 rfl rfl)
theorem dX1_turned_4 : decode cX1_turned 4 = .ok (.ifCond .eq 13, 3) := dk_153 0 13 (dk_at dksX1_turned_0 4 rfl rfl)
theorem dX1_turned_7 : decode cX1_turned 7 = .ok (.iload_n 2, 1) := dk_28 (dk_at dksX1_turned_0 7 rfl rfl)
theorem dX1_turned_8 : decode cX1_turned 8 = .ok (.iload_n 3, 1) := dk_29 (dk_at dksX1_turned_0 8 rfl rfl)
theorem dX1_turned_9 : decode cX1_turned 9 = .ok (.iload 4, 2) := dk_21 4 (dk_at dksX1_turned_0 9 rfl rfl)
theorem dX1_turned_11 : decode cX1_turned 11 = .ok (.invokestatic 126, 3) := dk_184 0 126 (dk_at dksX1_turned_0 11 rfl rfl)
theorem dX1_turned_14 : decode cX1_turned 14 = .ok (.ifCond .ne 5, 3) := dk_154 0 5 (dk_at dksX1_turned_0 14 rfl rfl)
theorem dX1_turned_17 : decode cX1_turned 17 = .ok (.iconst 0, 1) := dk_3 (dk_at dksX1_turned_0 17 rfl rfl)
theorem dX1_turned_18 : decode cX1_turned 18 = .ok (.ireturn, 1) := dk_172 (dk_at dksX1_turned_0 18 rfl rfl)
theorem dX1_turned_19 : decode cX1_turned 19 = .ok (.new 127, 3) := dk_187 0 127 (dk_at dksX1_turned_0 19 rfl rfl)
theorem dX1_turned_22 : decode cX1_turned 22 = .ok (.dup, 1) := dk_89 (dk_at dksX1_turned_0 22 rfl rfl)
theorem dX1_turned_23 : decode cX1_turned 23 = .ok (.iload_n 2, 1) := dk_28 (dk_at dksX1_turned_0 23 rfl rfl)
theorem dX1_turned_24 : decode cX1_turned 24 = .ok (.iload_n 3, 1) := dk_29 (dk_at dksX1_turned_1 0 rfl rfl)
theorem dX1_turned_25 : decode cX1_turned 25 = .ok (.iload 4, 2) := dk_21 4 (dk_at dksX1_turned_1 1 rfl rfl)
theorem dX1_turned_27 : decode cX1_turned 27 = .ok (.invokespecial 130, 3) := dk_183 0 130 (dk_at dksX1_turned_1 3 rfl rfl)
theorem dX1_turned_30 : decode cX1_turned 30 = .ok (.astore 6, 2) := dk_58 6 (dk_at dksX1_turned_1 6 rfl rfl)
theorem dX1_turned_32 : decode cX1_turned 32 = .ok (.aload 6, 2) := dk_25 6 (dk_at dksX1_turned_1 8 rfl rfl)
theorem dX1_turned_34 : decode cX1_turned 34 = .ok (.iload 5, 2) := dk_21 5 (dk_at dksX1_turned_1 10 rfl rfl)
theorem dX1_turned_36 : decode cX1_turned 36 = .ok (.invokevirtual 133, 3) := dk_182 0 133 (dk_at dksX1_turned_1 12 rfl rfl)
theorem dX1_turned_39 : decode cX1_turned 39 = .ok (.ifCond .ne 5, 3) := dk_154 0 5 (dk_at dksX1_turned_1 15 rfl rfl)
theorem dX1_turned_42 : decode cX1_turned 42 = .ok (.iconst 0, 1) := dk_3 (dk_at dksX1_turned_1 18 rfl rfl)
theorem dX1_turned_43 : decode cX1_turned 43 = .ok (.ireturn, 1) := dk_172 (dk_at dksX1_turned_1 19 rfl rfl)
theorem dX1_turned_44 : decode cX1_turned 44 = .ok (.aload_n 0, 1) := dk_42 (dk_at dksX1_turned_1 20 rfl rfl)
theorem dX1_turned_45 : decode cX1_turned 45 = .ok (.getfield 17, 3) := dk_180 0 17 (dk_at dksX1_turned_1 21 rfl rfl)
theorem dX1_turned_48 : decode cX1_turned 48 = .ok (.iload_n 1, 1) := dk_27 (dk_at dksX1_turned_2 0 rfl rfl)
theorem dX1_turned_49 : decode cX1_turned 49 = .ok (.aload 6, 2) := dk_25 6 (dk_at dksX1_turned_2 1 rfl rfl)
theorem dX1_turned_51 : decode cX1_turned 51 = .ok (.iload 5, 2) := dk_21 5 (dk_at dksX1_turned_2 3 rfl rfl)
theorem dX1_turned_53 : decode cX1_turned 53 = .ok (.invokevirtual 136, 3) := dk_182 0 136 (dk_at dksX1_turned_2 5 rfl rfl)
theorem dX1_turned_56 : decode cX1_turned 56 = .ok (.aastore, 1) := dk_83 (dk_at dksX1_turned_2 8 rfl rfl)
theorem dX1_turned_57 : decode cX1_turned 57 = .ok (.iconst 1, 1) := dk_4 (dk_at dksX1_turned_2 9 rfl rfl)
theorem dX1_turned_58 : decode cX1_turned 58 = .ok (.ireturn, 1) := dk_172 (dk_at dksX1_turned_2 10 rfl rfl)
abbrev cX1_line : ByteArray := prog_1_method_9_code
def yX1_line : MethodName := ⟨RX1, "line", "(III)Z"⟩
def dkwX1_line_1 : List UInt8 := [182, 0, 91, 154, 0, 5, 3, 172, 25, 4, 28, 29, 182, 0, 94, 4, 172]
abbrev dktX1_line_1 : List UInt8 := dkwX1_line_1 ++ []
def dkwX1_line_0 : List UInt8 := [42, 27, 182, 0, 83, 58, 4, 25, 4, 28, 184, 0, 87, 25, 4, 29, 184, 0, 87, 25, 4, 28, 29]
abbrev dktX1_line_0 : List UInt8 := dkwX1_line_0 ++ dktX1_line_1
theorem dksX1_line_0 : cX1_line.data.toList.drop 0 = dktX1_line_0 := by decide +kernel
theorem dksX1_line_1 : cX1_line.data.toList.drop 23 = dktX1_line_1 := dk_seg dksX1_line_0 23 rfl rfl
theorem dX1_line_0 : decode cX1_line 0 = .ok (.aload_n 0, 1) := dk_42 (dk_at dksX1_line_0 0 rfl rfl)
theorem dX1_line_1 : decode cX1_line 1 = .ok (.iload_n 1, 1) := dk_27 (dk_at dksX1_line_0 1 rfl rfl)
theorem dX1_line_2 : decode cX1_line 2 = .ok (.invokevirtual 83, 3) := dk_182 0 83 (dk_at dksX1_line_0 2 rfl rfl)
theorem dX1_line_5 : decode cX1_line 5 = .ok (.astore 4, 2) := dk_58 4 (dk_at dksX1_line_0 5 rfl rfl)
theorem dX1_line_7 : decode cX1_line 7 = .ok (.aload 4, 2) := dk_25 4 (dk_at dksX1_line_0 7 rfl rfl)
theorem dX1_line_9 : decode cX1_line 9 = .ok (.iload_n 2, 1) := dk_28 (dk_at dksX1_line_0 9 rfl rfl)
theorem dX1_line_10 : decode cX1_line 10 = .ok (.invokestatic 87, 3) := dk_184 0 87 (dk_at dksX1_line_0 10 rfl rfl)
theorem dX1_line_13 : decode cX1_line 13 = .ok (.aload 4, 2) := dk_25 4 (dk_at dksX1_line_0 13 rfl rfl)
theorem dX1_line_15 : decode cX1_line 15 = .ok (.iload_n 3, 1) := dk_29 (dk_at dksX1_line_0 15 rfl rfl)
theorem dX1_line_16 : decode cX1_line 16 = .ok (.invokestatic 87, 3) := dk_184 0 87 (dk_at dksX1_line_0 16 rfl rfl)
theorem dX1_line_19 : decode cX1_line 19 = .ok (.aload 4, 2) := dk_25 4 (dk_at dksX1_line_0 19 rfl rfl)
theorem dX1_line_21 : decode cX1_line 21 = .ok (.iload_n 2, 1) := dk_28 (dk_at dksX1_line_0 21 rfl rfl)
theorem dX1_line_22 : decode cX1_line 22 = .ok (.iload_n 3, 1) := dk_29 (dk_at dksX1_line_0 22 rfl rfl)
theorem dX1_line_23 : decode cX1_line 23 = .ok (.invokevirtual 91, 3) := dk_182 0 91 (dk_at dksX1_line_1 0 rfl rfl)
theorem dX1_line_26 : decode cX1_line 26 = .ok (.ifCond .ne 5, 3) := dk_154 0 5 (dk_at dksX1_line_1 3 rfl rfl)
theorem dX1_line_29 : decode cX1_line 29 = .ok (.iconst 0, 1) := dk_3 (dk_at dksX1_line_1 6 rfl rfl)
theorem dX1_line_30 : decode cX1_line 30 = .ok (.ireturn, 1) := dk_172 (dk_at dksX1_line_1 7 rfl rfl)
theorem dX1_line_31 : decode cX1_line 31 = .ok (.aload 4, 2) := dk_25 4 (dk_at dksX1_line_1 8 rfl rfl)
theorem dX1_line_33 : decode cX1_line 33 = .ok (.iload_n 2, 1) := dk_28 (dk_at dksX1_line_1 10 rfl rfl)
theorem dX1_line_34 : decode cX1_line 34 = .ok (.iload_n 3, 1) := dk_29 (dk_at dksX1_line_1 11 rfl rfl)
theorem dX1_line_35 : decode cX1_line 35 = .ok (.invokevirtual 94, 3) := dk_182 0 94 (dk_at dksX1_line_1 12 rfl rfl)
theorem dX1_line_38 : decode cX1_line 38 = .ok (.iconst 1, 1) := dk_4 (dk_at dksX1_line_1 15 rfl rfl)
theorem dX1_line_39 : decode cX1_line 39 = .ok (.ireturn, 1) := dk_172 (dk_at dksX1_line_1 16 rfl rfl)
abbrev cX1_netAt : ByteArray := prog_1_method_6_code
def yX1_netAt : MethodName := ⟨RX1, "netAt", "(I)LWiredNets$Net;"⟩
def dkwX1_netAt_1 : List UInt8 := [42, 180, 0, 17, 27, 50, 176]
abbrev dktX1_netAt_1 : List UInt8 := dkwX1_netAt_1 ++ []
def dkwX1_netAt_0 : List UInt8 := [27, 184, 0, 65, 153, 0, 16, 42, 180, 0, 17, 27, 50, 198, 0, 7, 4, 167, 0, 4, 3, 184, 0, 69]
abbrev dktX1_netAt_0 : List UInt8 := dkwX1_netAt_0 ++ dktX1_netAt_1
theorem dksX1_netAt_0 : cX1_netAt.data.toList.drop 0 = dktX1_netAt_0 := by decide +kernel
theorem dksX1_netAt_1 : cX1_netAt.data.toList.drop 24 = dktX1_netAt_1 := dk_seg dksX1_netAt_0 24 rfl rfl
theorem dX1_netAt_0 : decode cX1_netAt 0 = .ok (.iload_n 1, 1) := dk_27 (dk_at dksX1_netAt_0 0 rfl rfl)
theorem dX1_netAt_1 : decode cX1_netAt 1 = .ok (.invokestatic 65, 3) := dk_184 0 65 (dk_at dksX1_netAt_0 1 rfl rfl)
theorem dX1_netAt_4 : decode cX1_netAt 4 = .ok (.ifCond .eq 16, 3) := dk_153 0 16 (dk_at dksX1_netAt_0 4 rfl rfl)
theorem dX1_netAt_7 : decode cX1_netAt 7 = .ok (.aload_n 0, 1) := dk_42 (dk_at dksX1_netAt_0 7 rfl rfl)
theorem dX1_netAt_8 : decode cX1_netAt 8 = .ok (.getfield 17, 3) := dk_180 0 17 (dk_at dksX1_netAt_0 8 rfl rfl)
theorem dX1_netAt_11 : decode cX1_netAt 11 = .ok (.iload_n 1, 1) := dk_27 (dk_at dksX1_netAt_0 11 rfl rfl)
theorem dX1_netAt_12 : decode cX1_netAt 12 = .ok (.aaload, 1) := dk_50 (dk_at dksX1_netAt_0 12 rfl rfl)
theorem dX1_netAt_13 : decode cX1_netAt 13 = .ok (.ifnull 7, 3) := dk_198 0 7 (dk_at dksX1_netAt_0 13 rfl rfl)
theorem dX1_netAt_16 : decode cX1_netAt 16 = .ok (.iconst 1, 1) := dk_4 (dk_at dksX1_netAt_0 16 rfl rfl)
theorem dX1_netAt_17 : decode cX1_netAt 17 = .ok (.goto 4, 3) := dk_167 0 4 (dk_at dksX1_netAt_0 17 rfl rfl)
theorem dX1_netAt_20 : decode cX1_netAt 20 = .ok (.iconst 0, 1) := dk_3 (dk_at dksX1_netAt_0 20 rfl rfl)
theorem dX1_netAt_21 : decode cX1_netAt 21 = .ok (.invokestatic 69, 3) := dk_184 0 69 (dk_at dksX1_netAt_0 21 rfl rfl)
theorem dX1_netAt_24 : decode cX1_netAt 24 = .ok (.aload_n 0, 1) := dk_42 (dk_at dksX1_netAt_1 0 rfl rfl)
theorem dX1_netAt_25 : decode cX1_netAt 25 = .ok (.getfield 17, 3) := dk_180 0 17 (dk_at dksX1_netAt_1 1 rfl rfl)
theorem dX1_netAt_28 : decode cX1_netAt 28 = .ok (.iload_n 1, 1) := dk_27 (dk_at dksX1_netAt_1 4 rfl rfl)
theorem dX1_netAt_29 : decode cX1_netAt 29 = .ok (.aaload, 1) := dk_50 (dk_at dksX1_netAt_1 5 rfl rfl)
theorem dX1_netAt_30 : decode cX1_netAt 30 = .ok (.areturn, 1) := dk_176 (dk_at dksX1_netAt_1 6 rfl rfl)
abbrev cX1_found : ByteArray := prog_1_method_2_code
def yX1_found : MethodName := ⟨RX1, "found", "(Z)V"⟩
def dkwX1_found_0 : List UInt8 := [26, 154, 0, 11, 187, 0, 1, 89, 183, 0, 3, 191, 177]
abbrev dktX1_found_0 : List UInt8 := dkwX1_found_0 ++ []
theorem dksX1_found_0 : cX1_found.data.toList.drop 0 = dktX1_found_0 := by decide +kernel
theorem dX1_found_0 : decode cX1_found 0 = .ok (.iload_n 0, 1) := dk_26 (dk_at dksX1_found_0 0 rfl rfl)
theorem dX1_found_1 : decode cX1_found 1 = .ok (.ifCond .ne 11, 3) := dk_154 0 11 (dk_at dksX1_found_0 1 rfl rfl)
theorem dX1_found_4 : decode cX1_found 4 = .ok (.new 1, 3) := dk_187 0 1 (dk_at dksX1_found_0 4 rfl rfl)
theorem dX1_found_7 : decode cX1_found 7 = .ok (.dup, 1) := dk_89 (dk_at dksX1_found_0 7 rfl rfl)
theorem dX1_found_8 : decode cX1_found 8 = .ok (.invokespecial 3, 3) := dk_183 0 3 (dk_at dksX1_found_0 8 rfl rfl)
theorem dX1_found_11 : decode cX1_found 11 = .ok (.athrow, 1) := dk_191 (dk_at dksX1_found_0 11 rfl rfl)
theorem dX1_found_12 : decode cX1_found 12 = .ok (.return_, 1) := dk_177 (dk_at dksX1_found_0 12 rfl rfl)
abbrev cX1_knot : ByteArray := prog_1_method_7_code
def yX1_knot : MethodName := ⟨RX1, "knot", "(LWiredNets$Net;I)V"⟩
def dkwX1_knot_0 : List UInt8 := [27, 3, 42, 180, 0, 73, 4, 100, 184, 0, 61, 184, 0, 69, 177]
abbrev dktX1_knot_0 : List UInt8 := dkwX1_knot_0 ++ []
theorem dksX1_knot_0 : cX1_knot.data.toList.drop 0 = dktX1_knot_0 := by decide +kernel
theorem dX1_knot_0 : decode cX1_knot 0 = .ok (.iload_n 1, 1) := dk_27 (dk_at dksX1_knot_0 0 rfl rfl)
theorem dX1_knot_1 : decode cX1_knot 1 = .ok (.iconst 0, 1) := dk_3 (dk_at dksX1_knot_0 1 rfl rfl)
theorem dX1_knot_2 : decode cX1_knot 2 = .ok (.aload_n 0, 1) := dk_42 (dk_at dksX1_knot_0 2 rfl rfl)
theorem dX1_knot_3 : decode cX1_knot 3 = .ok (.getfield 73, 3) := dk_180 0 73 (dk_at dksX1_knot_0 3 rfl rfl)
theorem dX1_knot_6 : decode cX1_knot 6 = .ok (.iconst 1, 1) := dk_4 (dk_at dksX1_knot_0 6 rfl rfl)
theorem dX1_knot_7 : decode cX1_knot 7 = .ok (.isub, 1) := dk_100 (dk_at dksX1_knot_0 7 rfl rfl)
theorem dX1_knot_8 : decode cX1_knot 8 = .ok (.invokestatic 61, 3) := dk_184 0 61 (dk_at dksX1_knot_0 8 rfl rfl)
theorem dX1_knot_11 : decode cX1_knot 11 = .ok (.invokestatic 69, 3) := dk_184 0 69 (dk_at dksX1_knot_0 11 rfl rfl)
theorem dX1_knot_14 : decode cX1_knot 14 = .ok (.return_, 1) := dk_177 (dk_at dksX1_knot_0 14 rfl rfl)
abbrev cX1_off : ByteArray := prog_1_method_10_code
def yX1_off : MethodName := ⟨RX1, "off", "(III)Z"⟩
def dkwX1_off_1 : List UInt8 := [182, 0, 97, 154, 0, 5, 3, 172, 25, 4, 28, 29, 182, 0, 100, 4, 172]
abbrev dktX1_off_1 : List UInt8 := dkwX1_off_1 ++ []
def dkwX1_off_0 : List UInt8 := [42, 27, 182, 0, 83, 58, 4, 25, 4, 28, 184, 0, 87, 25, 4, 29, 184, 0, 87, 25, 4, 28, 29]
abbrev dktX1_off_0 : List UInt8 := dkwX1_off_0 ++ dktX1_off_1
theorem dksX1_off_0 : cX1_off.data.toList.drop 0 = dktX1_off_0 := by decide +kernel
theorem dksX1_off_1 : cX1_off.data.toList.drop 23 = dktX1_off_1 := dk_seg dksX1_off_0 23 rfl rfl
theorem dX1_off_0 : decode cX1_off 0 = .ok (.aload_n 0, 1) := dk_42 (dk_at dksX1_off_0 0 rfl rfl)
theorem dX1_off_1 : decode cX1_off 1 = .ok (.iload_n 1, 1) := dk_27 (dk_at dksX1_off_0 1 rfl rfl)
theorem dX1_off_2 : decode cX1_off 2 = .ok (.invokevirtual 83, 3) := dk_182 0 83 (dk_at dksX1_off_0 2 rfl rfl)
theorem dX1_off_5 : decode cX1_off 5 = .ok (.astore 4, 2) := dk_58 4 (dk_at dksX1_off_0 5 rfl rfl)
theorem dX1_off_7 : decode cX1_off 7 = .ok (.aload 4, 2) := dk_25 4 (dk_at dksX1_off_0 7 rfl rfl)
theorem dX1_off_9 : decode cX1_off 9 = .ok (.iload_n 2, 1) := dk_28 (dk_at dksX1_off_0 9 rfl rfl)
theorem dX1_off_10 : decode cX1_off 10 = .ok (.invokestatic 87, 3) := dk_184 0 87 (dk_at dksX1_off_0 10 rfl rfl)
theorem dX1_off_13 : decode cX1_off 13 = .ok (.aload 4, 2) := dk_25 4 (dk_at dksX1_off_0 13 rfl rfl)
theorem dX1_off_15 : decode cX1_off 15 = .ok (.iload_n 3, 1) := dk_29 (dk_at dksX1_off_0 15 rfl rfl)
theorem dX1_off_16 : decode cX1_off 16 = .ok (.invokestatic 87, 3) := dk_184 0 87 (dk_at dksX1_off_0 16 rfl rfl)
theorem dX1_off_19 : decode cX1_off 19 = .ok (.aload 4, 2) := dk_25 4 (dk_at dksX1_off_0 19 rfl rfl)
theorem dX1_off_21 : decode cX1_off 21 = .ok (.iload_n 2, 1) := dk_28 (dk_at dksX1_off_0 21 rfl rfl)
theorem dX1_off_22 : decode cX1_off 22 = .ok (.iload_n 3, 1) := dk_29 (dk_at dksX1_off_0 22 rfl rfl)
theorem dX1_off_23 : decode cX1_off 23 = .ok (.invokevirtual 97, 3) := dk_182 0 97 (dk_at dksX1_off_1 0 rfl rfl)
theorem dX1_off_26 : decode cX1_off 26 = .ok (.ifCond .ne 5, 3) := dk_154 0 5 (dk_at dksX1_off_1 3 rfl rfl)
theorem dX1_off_29 : decode cX1_off 29 = .ok (.iconst 0, 1) := dk_3 (dk_at dksX1_off_1 6 rfl rfl)
theorem dX1_off_30 : decode cX1_off 30 = .ok (.ireturn, 1) := dk_172 (dk_at dksX1_off_1 7 rfl rfl)
theorem dX1_off_31 : decode cX1_off 31 = .ok (.aload 4, 2) := dk_25 4 (dk_at dksX1_off_1 8 rfl rfl)
theorem dX1_off_33 : decode cX1_off 33 = .ok (.iload_n 2, 1) := dk_28 (dk_at dksX1_off_1 10 rfl rfl)
theorem dX1_off_34 : decode cX1_off 34 = .ok (.iload_n 3, 1) := dk_29 (dk_at dksX1_off_1 11 rfl rfl)
theorem dX1_off_35 : decode cX1_off 35 = .ok (.invokevirtual 100, 3) := dk_182 0 100 (dk_at dksX1_off_1 12 rfl rfl)
theorem dX1_off_38 : decode cX1_off 38 = .ok (.iconst 1, 1) := dk_4 (dk_at dksX1_off_1 15 rfl rfl)
theorem dX1_off_39 : decode cX1_off 39 = .ok (.ireturn, 1) := dk_172 (dk_at dksX1_off_1 16 rfl rfl)
abbrev cX1_read : ByteArray := prog_1_method_12_code
def yX1_read : MethodName := ⟨RX1, "read", "(II)I"⟩
def dkwX1_read_3 : List UInt8 := [180, 0, 123, 172]
abbrev dktX1_read_3 : List UInt8 := dkwX1_read_3 ++ []
def dkwX1_read_2 : List UInt8 := [180, 0, 17, 27, 45, 182, 0, 114, 83, 3, 172, 58, 4, 42, 45, 180, 0, 120, 181, 0, 46, 25, 4]
abbrev dktX1_read_2 : List UInt8 := dkwX1_read_2 ++ dktX1_read_3
def dkwX1_read_1 : List UInt8 := [184, 0, 106, 42, 3, 181, 0, 103, 42, 2, 181, 0, 46, 187, 0, 109, 89, 42, 28, 183, 0, 111, 78, 42]
abbrev dktX1_read_1 : List UInt8 := dkwX1_read_1 ++ dktX1_read_2
def dkwX1_read_0 : List UInt8 := [27, 184, 0, 65, 184, 0, 69, 28, 155, 0, 15, 28, 42, 180, 0, 103, 163, 0, 7, 4, 167, 0, 4, 3]
abbrev dktX1_read_0 : List UInt8 := dkwX1_read_0 ++ dktX1_read_1
theorem dksX1_read_0 : cX1_read.data.toList.drop 0 = dktX1_read_0 := by decide +kernel
theorem dksX1_read_1 : cX1_read.data.toList.drop 24 = dktX1_read_1 := dk_seg dksX1_read_0 24 rfl rfl
theorem dksX1_read_2 : cX1_read.data.toList.drop 48 = dktX1_read_2 := dk_seg dksX1_read_1 24 rfl rfl
theorem dksX1_read_3 : cX1_read.data.toList.drop 71 = dktX1_read_3 := dk_seg dksX1_read_2 23 rfl rfl
theorem dX1_read_0 : decode cX1_read 0 = .ok (.iload_n 1, 1) := dk_27 (dk_at dksX1_read_0 0 rfl rfl)
theorem dX1_read_1 : decode cX1_read 1 = .ok (.invokestatic 65, 3) := dk_184 0 65 (dk_at dksX1_read_0 1 rfl rfl)
theorem dX1_read_4 : decode cX1_read 4 = .ok (.invokestatic 69, 3) := dk_184 0 69 (dk_at dksX1_read_0 4 rfl rfl)
theorem dX1_read_7 : decode cX1_read 7 = .ok (.iload_n 2, 1) := dk_28 (dk_at dksX1_read_0 7 rfl rfl)
theorem dX1_read_8 : decode cX1_read 8 = .ok (.ifCond .lt 15, 3) := dk_155 0 15 (dk_at dksX1_read_0 8 rfl rfl)
theorem dX1_read_11 : decode cX1_read 11 = .ok (.iload_n 2, 1) := dk_28 (dk_at dksX1_read_0 11 rfl rfl)
theorem dX1_read_12 : decode cX1_read 12 = .ok (.aload_n 0, 1) := dk_42 (dk_at dksX1_read_0 12 rfl rfl)
theorem dX1_read_13 : decode cX1_read 13 = .ok (.getfield 103, 3) := dk_180 0 103 (dk_at dksX1_read_0 13 rfl rfl)
theorem dX1_read_16 : decode cX1_read 16 = .ok (.if_icmp .gt 7, 3) := dk_163 0 7 (dk_at dksX1_read_0 16 rfl rfl)
theorem dX1_read_19 : decode cX1_read 19 = .ok (.iconst 1, 1) := dk_4 (dk_at dksX1_read_0 19 rfl rfl)
theorem dX1_read_20 : decode cX1_read 20 = .ok (.goto 4, 3) := dk_167 0 4 (dk_at dksX1_read_0 20 rfl rfl)
theorem dX1_read_23 : decode cX1_read 23 = .ok (.iconst 0, 1) := dk_3 (dk_at dksX1_read_0 23 rfl rfl)
theorem dX1_read_24 : decode cX1_read 24 = .ok (.invokestatic 106, 3) := dk_184 0 106 (dk_at dksX1_read_1 0 rfl rfl)
theorem dX1_read_27 : decode cX1_read 27 = .ok (.aload_n 0, 1) := dk_42 (dk_at dksX1_read_1 3 rfl rfl)
theorem dX1_read_28 : decode cX1_read 28 = .ok (.iconst 0, 1) := dk_3 (dk_at dksX1_read_1 4 rfl rfl)
theorem dX1_read_29 : decode cX1_read 29 = .ok (.putfield 103, 3) := dk_181 0 103 (dk_at dksX1_read_1 5 rfl rfl)
theorem dX1_read_32 : decode cX1_read 32 = .ok (.aload_n 0, 1) := dk_42 (dk_at dksX1_read_1 8 rfl rfl)
theorem dX1_read_33 : decode cX1_read 33 = .ok (.iconst (-1), 1) := dk_2 (dk_at dksX1_read_1 9 rfl rfl)
theorem dX1_read_34 : decode cX1_read 34 = .ok (.putfield 46, 3) := dk_181 0 46 (dk_at dksX1_read_1 10 rfl rfl)
theorem dX1_read_37 : decode cX1_read 37 = .ok (.new 109, 3) := dk_187 0 109 (dk_at dksX1_read_1 13 rfl rfl)
theorem dX1_read_40 : decode cX1_read 40 = .ok (.dup, 1) := dk_89 (dk_at dksX1_read_1 16 rfl rfl)
theorem dX1_read_41 : decode cX1_read 41 = .ok (.aload_n 0, 1) := dk_42 (dk_at dksX1_read_1 17 rfl rfl)
theorem dX1_read_42 : decode cX1_read 42 = .ok (.iload_n 2, 1) := dk_28 (dk_at dksX1_read_1 18 rfl rfl)
theorem dX1_read_43 : decode cX1_read 43 = .ok (.invokespecial 111, 3) := dk_183 0 111 (dk_at dksX1_read_1 19 rfl rfl)
theorem dX1_read_46 : decode cX1_read 46 = .ok (.astore_n 3, 1) := dk_78 (dk_at dksX1_read_1 22 rfl rfl)
theorem dX1_read_47 : decode cX1_read 47 = .ok (.aload_n 0, 1) := dk_42 (dk_at dksX1_read_1 23 rfl rfl)
theorem dX1_read_48 : decode cX1_read 48 = .ok (.getfield 17, 3) := dk_180 0 17 (dk_at dksX1_read_2 0 rfl rfl)
theorem dX1_read_51 : decode cX1_read 51 = .ok (.iload_n 1, 1) := dk_27 (dk_at dksX1_read_2 3 rfl rfl)
theorem dX1_read_52 : decode cX1_read 52 = .ok (.aload_n 3, 1) := dk_45 (dk_at dksX1_read_2 4 rfl rfl)
theorem dX1_read_53 : decode cX1_read 53 = .ok (.invokevirtual 114, 3) := dk_182 0 114 (dk_at dksX1_read_2 5 rfl rfl)
theorem dX1_read_56 : decode cX1_read 56 = .ok (.aastore, 1) := dk_83 (dk_at dksX1_read_2 8 rfl rfl)
theorem dX1_read_57 : decode cX1_read 57 = .ok (.iconst 0, 1) := dk_3 (dk_at dksX1_read_2 9 rfl rfl)
theorem dX1_read_58 : decode cX1_read 58 = .ok (.ireturn, 1) := dk_172 (dk_at dksX1_read_2 10 rfl rfl)
theorem dX1_read_59 : decode cX1_read 59 = .ok (.astore 4, 2) := dk_58 4 (dk_at dksX1_read_2 11 rfl rfl)
theorem dX1_read_61 : decode cX1_read 61 = .ok (.aload_n 0, 1) := dk_42 (dk_at dksX1_read_2 13 rfl rfl)
theorem dX1_read_62 : decode cX1_read 62 = .ok (.aload_n 3, 1) := dk_45 (dk_at dksX1_read_2 14 rfl rfl)
theorem dX1_read_63 : decode cX1_read 63 = .ok (.getfield 120, 3) := dk_180 0 120 (dk_at dksX1_read_2 15 rfl rfl)
theorem dX1_read_66 : decode cX1_read 66 = .ok (.putfield 46, 3) := dk_181 0 46 (dk_at dksX1_read_2 18 rfl rfl)
theorem dX1_read_69 : decode cX1_read 69 = .ok (.aload 4, 2) := dk_25 4 (dk_at dksX1_read_2 21 rfl rfl)
theorem dX1_read_71 : decode cX1_read 71 = .ok (.getfield 123, 3) := dk_180 0 123 (dk_at dksX1_read_3 0 rfl rfl)
theorem dX1_read_74 : decode cX1_read 74 = .ok (.ireturn, 1) := dk_172 (dk_at dksX1_read_3 3 rfl rfl)
abbrev cX1_right : ByteArray := prog_1_method_3_code
def yX1_right : MethodName := ⟨RX1, "right", "(Z)V"⟩
def dkwX1_right_0 : List UInt8 := [26, 154, 0, 11, 187, 0, 7, 89, 183, 0, 9, 191, 177]
abbrev dktX1_right_0 : List UInt8 := dkwX1_right_0 ++ []
theorem dksX1_right_0 : cX1_right.data.toList.drop 0 = dktX1_right_0 := by decide +kernel
theorem dX1_right_0 : decode cX1_right 0 = .ok (.iload_n 0, 1) := dk_26 (dk_at dksX1_right_0 0 rfl rfl)
theorem dX1_right_1 : decode cX1_right 1 = .ok (.ifCond .ne 11, 3) := dk_154 0 11 (dk_at dksX1_right_0 1 rfl rfl)
theorem dX1_right_4 : decode cX1_right 4 = .ok (.new 7, 3) := dk_187 0 7 (dk_at dksX1_right_0 4 rfl rfl)
theorem dX1_right_7 : decode cX1_right 7 = .ok (.dup, 1) := dk_89 (dk_at dksX1_right_0 7 rfl rfl)
theorem dX1_right_8 : decode cX1_right 8 = .ok (.invokespecial 9, 3) := dk_183 0 9 (dk_at dksX1_right_0 8 rfl rfl)
theorem dX1_right_11 : decode cX1_right 11 = .ok (.athrow, 1) := dk_191 (dk_at dksX1_right_0 11 rfl rfl)
theorem dX1_right_12 : decode cX1_right 12 = .ok (.return_, 1) := dk_177 (dk_at dksX1_right_0 12 rfl rfl)
abbrev cX1_glued : ByteArray := prog_1_method_15_code
def yX1_glued : MethodName := ⟨RX1, "glued", "(IIII)Z"⟩
def dkwX1_glued_12 : List UInt8 := [172]
abbrev dktX1_glued_12 : List UInt8 := dkwX1_glued_12 ++ []
def dkwX1_glued_11 : List UInt8 := [182, 0, 94, 132, 9, 1, 167, 255, 100, 132, 8, 1, 167, 255, 81, 42, 180, 0, 17, 27, 25, 7, 83, 4]
abbrev dktX1_glued_11 : List UInt8 := dkwX1_glued_11 ++ dktX1_glued_12
def dkwX1_glued_10 : List UInt8 := [180, 0, 73, 108, 21, 9, 25, 5, 180, 0, 73, 108, 182, 0, 97, 153, 0, 12, 25, 7, 21, 8, 21, 9]
abbrev dktX1_glued_10 : List UInt8 := dkwX1_glued_10 ++ dktX1_glued_11
def dkwX1_glued_9 : List UInt8 := [167, 0, 4, 3, 54, 12, 21, 12, 154, 0, 32, 21, 10, 153, 0, 36, 25, 6, 21, 8, 25, 5]
abbrev dktX1_glued_9 : List UInt8 := dkwX1_glued_9 ++ dktX1_glued_10
def dkwX1_glued_8 : List UInt8 := [21, 8, 25, 5, 180, 0, 73, 112, 21, 9, 25, 5, 180, 0, 73, 112, 182, 0, 97, 153, 0, 7, 4]
abbrev dktX1_glued_8 : List UInt8 := dkwX1_glued_8 ++ dktX1_glued_9
def dkwX1_glued_7 : List UInt8 := [54, 11, 21, 11, 153, 0, 46, 28, 153, 0, 14, 21, 8, 25, 5, 180, 0, 73, 108, 154, 0, 31, 25, 5]
abbrev dktX1_glued_7 : List UInt8 := dkwX1_glued_7 ++ dktX1_glued_8
def dkwX1_glued_6 : List UInt8 := [21, 8, 25, 5, 180, 0, 73, 108, 21, 9, 25, 5, 180, 0, 73, 108, 160, 0, 7, 4, 167, 0, 4, 3]
abbrev dktX1_glued_6 : List UInt8 := dkwX1_glued_6 ++ dktX1_glued_7
def dkwX1_glued_5 : List UInt8 := [25, 5, 180, 0, 73, 112, 21, 9, 25, 5, 180, 0, 73, 112, 160, 0, 7, 4, 167, 0, 4, 3, 54, 10]
abbrev dktX1_glued_5 : List UInt8 := dkwX1_glued_5 ++ dktX1_glued_6
def dkwX1_glued_4 : List UInt8 := [54, 8, 21, 8, 25, 7, 180, 0, 73, 162, 0, 171, 3, 54, 9, 21, 9, 21, 8, 162, 0, 155, 21, 8]
abbrev dktX1_glued_4 : List UInt8 := dkwX1_glued_4 ++ dktX1_glued_5
def dkwX1_glued_3 : List UInt8 := [25, 6, 180, 0, 73, 104, 25, 5, 180, 0, 139, 25, 6, 180, 0, 139, 96, 183, 0, 80, 58, 7, 3]
abbrev dktX1_glued_3 : List UInt8 := dkwX1_glued_3 ++ dktX1_glued_4
def dkwX1_glued_2 : List UInt8 := [25, 6, 180, 0, 139, 96, 184, 0, 76, 154, 0, 5, 3, 172, 187, 0, 15, 89, 25, 5, 180, 0, 73]
abbrev dktX1_glued_2 : List UInt8 := dkwX1_glued_2 ++ dktX1_glued_3
def dkwX1_glued_1 : List UInt8 := [4, 184, 0, 61, 153, 0, 31, 25, 5, 180, 0, 73, 25, 6, 180, 0, 73, 104, 25, 5, 180, 0, 139]
abbrev dktX1_glued_1 : List UInt8 := dkwX1_glued_1 ++ dktX1_glued_2
def dkwX1_glued_0 : List UInt8 := [42, 29, 182, 0, 83, 58, 5, 42, 21, 4, 182, 0, 83, 58, 6, 27, 184, 0, 65, 153, 0, 40, 28, 3]
abbrev dktX1_glued_0 : List UInt8 := dkwX1_glued_0 ++ dktX1_glued_1
theorem dksX1_glued_0 : cX1_glued.data.toList.drop 0 = dktX1_glued_0 := by decide +kernel
theorem dksX1_glued_1 : cX1_glued.data.toList.drop 24 = dktX1_glued_1 := dk_seg dksX1_glued_0 24 rfl rfl
theorem dksX1_glued_2 : cX1_glued.data.toList.drop 47 = dktX1_glued_2 := dk_seg dksX1_glued_1 23 rfl rfl
theorem dksX1_glued_3 : cX1_glued.data.toList.drop 70 = dktX1_glued_3 := dk_seg dksX1_glued_2 23 rfl rfl
theorem dksX1_glued_4 : cX1_glued.data.toList.drop 93 = dktX1_glued_4 := dk_seg dksX1_glued_3 23 rfl rfl
theorem dksX1_glued_5 : cX1_glued.data.toList.drop 117 = dktX1_glued_5 := dk_seg dksX1_glued_4 24 rfl rfl
theorem dksX1_glued_6 : cX1_glued.data.toList.drop 141 = dktX1_glued_6 := dk_seg dksX1_glued_5 24 rfl rfl
theorem dksX1_glued_7 : cX1_glued.data.toList.drop 165 = dktX1_glued_7 := dk_seg dksX1_glued_6 24 rfl rfl
theorem dksX1_glued_8 : cX1_glued.data.toList.drop 189 = dktX1_glued_8 := dk_seg dksX1_glued_7 24 rfl rfl
theorem dksX1_glued_9 : cX1_glued.data.toList.drop 212 = dktX1_glued_9 := dk_seg dksX1_glued_8 23 rfl rfl
theorem dksX1_glued_10 : cX1_glued.data.toList.drop 234 = dktX1_glued_10 := dk_seg dksX1_glued_9 22 rfl rfl
theorem dksX1_glued_11 : cX1_glued.data.toList.drop 258 = dktX1_glued_11 := dk_seg dksX1_glued_10 24 rfl rfl
theorem dksX1_glued_12 : cX1_glued.data.toList.drop 282 = dktX1_glued_12 := dk_seg dksX1_glued_11 24 rfl rfl
theorem dX1_glued_0 : decode cX1_glued 0 = .ok (.aload_n 0, 1) := dk_42 (dk_at dksX1_glued_0 0 rfl rfl)
theorem dX1_glued_1 : decode cX1_glued 1 = .ok (.iload_n 3, 1) := dk_29 (dk_at dksX1_glued_0 1 rfl rfl)
theorem dX1_glued_2 : decode cX1_glued 2 = .ok (.invokevirtual 83, 3) := dk_182 0 83 (dk_at dksX1_glued_0 2 rfl rfl)
theorem dX1_glued_5 : decode cX1_glued 5 = .ok (.astore 5, 2) := dk_58 5 (dk_at dksX1_glued_0 5 rfl rfl)
theorem dX1_glued_7 : decode cX1_glued 7 = .ok (.aload_n 0, 1) := dk_42 (dk_at dksX1_glued_0 7 rfl rfl)
theorem dX1_glued_8 : decode cX1_glued 8 = .ok (.iload 4, 2) := dk_21 4 (dk_at dksX1_glued_0 8 rfl rfl)
theorem dX1_glued_10 : decode cX1_glued 10 = .ok (.invokevirtual 83, 3) := dk_182 0 83 (dk_at dksX1_glued_0 10 rfl rfl)
theorem dX1_glued_13 : decode cX1_glued 13 = .ok (.astore 6, 2) := dk_58 6 (dk_at dksX1_glued_0 13 rfl rfl)
theorem dX1_glued_15 : decode cX1_glued 15 = .ok (.iload_n 1, 1) := dk_27 (dk_at dksX1_glued_0 15 rfl rfl)
theorem dX1_glued_16 : decode cX1_glued 16 = .ok (.invokestatic 65, 3) := dk_184 0 65 (dk_at dksX1_glued_0 16 rfl rfl)
theorem dX1_glued_19 : decode cX1_glued 19 = .ok (.ifCond .eq 40, 3) := dk_153 0 40 (dk_at dksX1_glued_0 19 rfl rfl)
theorem dX1_glued_22 : decode cX1_glued 22 = .ok (.iload_n 2, 1) := dk_28 (dk_at dksX1_glued_0 22 rfl rfl)
theorem dX1_glued_23 : decode cX1_glued 23 = .ok (.iconst 0, 1) := dk_3 (dk_at dksX1_glued_0 23 rfl rfl)
theorem dX1_glued_24 : decode cX1_glued 24 = .ok (.iconst 1, 1) := dk_4 (dk_at dksX1_glued_1 0 rfl rfl)
theorem dX1_glued_25 : decode cX1_glued 25 = .ok (.invokestatic 61, 3) := dk_184 0 61 (dk_at dksX1_glued_1 1 rfl rfl)
theorem dX1_glued_28 : decode cX1_glued 28 = .ok (.ifCond .eq 31, 3) := dk_153 0 31 (dk_at dksX1_glued_1 4 rfl rfl)
theorem dX1_glued_31 : decode cX1_glued 31 = .ok (.aload 5, 2) := dk_25 5 (dk_at dksX1_glued_1 7 rfl rfl)
theorem dX1_glued_33 : decode cX1_glued 33 = .ok (.getfield 73, 3) := dk_180 0 73 (dk_at dksX1_glued_1 9 rfl rfl)
theorem dX1_glued_36 : decode cX1_glued 36 = .ok (.aload 6, 2) := dk_25 6 (dk_at dksX1_glued_1 12 rfl rfl)
theorem dX1_glued_38 : decode cX1_glued 38 = .ok (.getfield 73, 3) := dk_180 0 73 (dk_at dksX1_glued_1 14 rfl rfl)
theorem dX1_glued_41 : decode cX1_glued 41 = .ok (.imul, 1) := dk_104 (dk_at dksX1_glued_1 17 rfl rfl)
theorem dX1_glued_42 : decode cX1_glued 42 = .ok (.aload 5, 2) := dk_25 5 (dk_at dksX1_glued_1 18 rfl rfl)
theorem dX1_glued_44 : decode cX1_glued 44 = .ok (.getfield 139, 3) := dk_180 0 139 (dk_at dksX1_glued_1 20 rfl rfl)
theorem dX1_glued_47 : decode cX1_glued 47 = .ok (.aload 6, 2) := dk_25 6 (dk_at dksX1_glued_2 0 rfl rfl)
theorem dX1_glued_49 : decode cX1_glued 49 = .ok (.getfield 139, 3) := dk_180 0 139 (dk_at dksX1_glued_2 2 rfl rfl)
theorem dX1_glued_52 : decode cX1_glued 52 = .ok (.iadd, 1) := dk_96 (dk_at dksX1_glued_2 5 rfl rfl)
theorem dX1_glued_53 : decode cX1_glued 53 = .ok (.invokestatic 76, 3) := dk_184 0 76 (dk_at dksX1_glued_2 6 rfl rfl)
theorem dX1_glued_56 : decode cX1_glued 56 = .ok (.ifCond .ne 5, 3) := dk_154 0 5 (dk_at dksX1_glued_2 9 rfl rfl)
theorem dX1_glued_59 : decode cX1_glued 59 = .ok (.iconst 0, 1) := dk_3 (dk_at dksX1_glued_2 12 rfl rfl)
theorem dX1_glued_60 : decode cX1_glued 60 = .ok (.ireturn, 1) := dk_172 (dk_at dksX1_glued_2 13 rfl rfl)
theorem dX1_glued_61 : decode cX1_glued 61 = .ok (.new 15, 3) := dk_187 0 15 (dk_at dksX1_glued_2 14 rfl rfl)
theorem dX1_glued_64 : decode cX1_glued 64 = .ok (.dup, 1) := dk_89 (dk_at dksX1_glued_2 17 rfl rfl)
theorem dX1_glued_65 : decode cX1_glued 65 = .ok (.aload 5, 2) := dk_25 5 (dk_at dksX1_glued_2 18 rfl rfl)
theorem dX1_glued_67 : decode cX1_glued 67 = .ok (.getfield 73, 3) := dk_180 0 73 (dk_at dksX1_glued_2 20 rfl rfl)
theorem dX1_glued_70 : decode cX1_glued 70 = .ok (.aload 6, 2) := dk_25 6 (dk_at dksX1_glued_3 0 rfl rfl)
theorem dX1_glued_72 : decode cX1_glued 72 = .ok (.getfield 73, 3) := dk_180 0 73 (dk_at dksX1_glued_3 2 rfl rfl)
theorem dX1_glued_75 : decode cX1_glued 75 = .ok (.imul, 1) := dk_104 (dk_at dksX1_glued_3 5 rfl rfl)
theorem dX1_glued_76 : decode cX1_glued 76 = .ok (.aload 5, 2) := dk_25 5 (dk_at dksX1_glued_3 6 rfl rfl)
theorem dX1_glued_78 : decode cX1_glued 78 = .ok (.getfield 139, 3) := dk_180 0 139 (dk_at dksX1_glued_3 8 rfl rfl)
theorem dX1_glued_81 : decode cX1_glued 81 = .ok (.aload 6, 2) := dk_25 6 (dk_at dksX1_glued_3 11 rfl rfl)
theorem dX1_glued_83 : decode cX1_glued 83 = .ok (.getfield 139, 3) := dk_180 0 139 (dk_at dksX1_glued_3 13 rfl rfl)
theorem dX1_glued_86 : decode cX1_glued 86 = .ok (.iadd, 1) := dk_96 (dk_at dksX1_glued_3 16 rfl rfl)
theorem dX1_glued_87 : decode cX1_glued 87 = .ok (.invokespecial 80, 3) := dk_183 0 80 (dk_at dksX1_glued_3 17 rfl rfl)
theorem dX1_glued_90 : decode cX1_glued 90 = .ok (.astore 7, 2) := dk_58 7 (dk_at dksX1_glued_3 20 rfl rfl)
theorem dX1_glued_92 : decode cX1_glued 92 = .ok (.iconst 0, 1) := dk_3 (dk_at dksX1_glued_3 22 rfl rfl)
theorem dX1_glued_93 : decode cX1_glued 93 = .ok (.istore 8, 2) := dk_54 8 (dk_at dksX1_glued_4 0 rfl rfl)
theorem dX1_glued_95 : decode cX1_glued 95 = .ok (.iload 8, 2) := dk_21 8 (dk_at dksX1_glued_4 2 rfl rfl)
theorem dX1_glued_97 : decode cX1_glued 97 = .ok (.aload 7, 2) := dk_25 7 (dk_at dksX1_glued_4 4 rfl rfl)
theorem dX1_glued_99 : decode cX1_glued 99 = .ok (.getfield 73, 3) := dk_180 0 73 (dk_at dksX1_glued_4 6 rfl rfl)
theorem dX1_glued_102 : decode cX1_glued 102 = .ok (.if_icmp .ge 171, 3) := dk_162 0 171 (dk_at dksX1_glued_4 9 rfl rfl)
theorem dX1_glued_105 : decode cX1_glued 105 = .ok (.iconst 0, 1) := dk_3 (dk_at dksX1_glued_4 12 rfl rfl)
theorem dX1_glued_106 : decode cX1_glued 106 = .ok (.istore 9, 2) := dk_54 9 (dk_at dksX1_glued_4 13 rfl rfl)
theorem dX1_glued_108 : decode cX1_glued 108 = .ok (.iload 9, 2) := dk_21 9 (dk_at dksX1_glued_4 15 rfl rfl)
theorem dX1_glued_110 : decode cX1_glued 110 = .ok (.iload 8, 2) := dk_21 8 (dk_at dksX1_glued_4 17 rfl rfl)
theorem dX1_glued_112 : decode cX1_glued 112 = .ok (.if_icmp .ge 155, 3) := dk_162 0 155 (dk_at dksX1_glued_4 19 rfl rfl)
theorem dX1_glued_115 : decode cX1_glued 115 = .ok (.iload 8, 2) := dk_21 8 (dk_at dksX1_glued_4 22 rfl rfl)
theorem dX1_glued_117 : decode cX1_glued 117 = .ok (.aload 5, 2) := dk_25 5 (dk_at dksX1_glued_5 0 rfl rfl)
theorem dX1_glued_119 : decode cX1_glued 119 = .ok (.getfield 73, 3) := dk_180 0 73 (dk_at dksX1_glued_5 2 rfl rfl)
theorem dX1_glued_122 : decode cX1_glued 122 = .ok (.irem, 1) := dk_112 (dk_at dksX1_glued_5 5 rfl rfl)
theorem dX1_glued_123 : decode cX1_glued 123 = .ok (.iload 9, 2) := dk_21 9 (dk_at dksX1_glued_5 6 rfl rfl)
theorem dX1_glued_125 : decode cX1_glued 125 = .ok (.aload 5, 2) := dk_25 5 (dk_at dksX1_glued_5 8 rfl rfl)
theorem dX1_glued_127 : decode cX1_glued 127 = .ok (.getfield 73, 3) := dk_180 0 73 (dk_at dksX1_glued_5 10 rfl rfl)
theorem dX1_glued_130 : decode cX1_glued 130 = .ok (.irem, 1) := dk_112 (dk_at dksX1_glued_5 13 rfl rfl)
theorem dX1_glued_131 : decode cX1_glued 131 = .ok (.if_icmp .ne 7, 3) := dk_160 0 7 (dk_at dksX1_glued_5 14 rfl rfl)
theorem dX1_glued_134 : decode cX1_glued 134 = .ok (.iconst 1, 1) := dk_4 (dk_at dksX1_glued_5 17 rfl rfl)
theorem dX1_glued_135 : decode cX1_glued 135 = .ok (.goto 4, 3) := dk_167 0 4 (dk_at dksX1_glued_5 18 rfl rfl)
theorem dX1_glued_138 : decode cX1_glued 138 = .ok (.iconst 0, 1) := dk_3 (dk_at dksX1_glued_5 21 rfl rfl)
theorem dX1_glued_139 : decode cX1_glued 139 = .ok (.istore 10, 2) := dk_54 10 (dk_at dksX1_glued_5 22 rfl rfl)
theorem dX1_glued_141 : decode cX1_glued 141 = .ok (.iload 8, 2) := dk_21 8 (dk_at dksX1_glued_6 0 rfl rfl)
theorem dX1_glued_143 : decode cX1_glued 143 = .ok (.aload 5, 2) := dk_25 5 (dk_at dksX1_glued_6 2 rfl rfl)
theorem dX1_glued_145 : decode cX1_glued 145 = .ok (.getfield 73, 3) := dk_180 0 73 (dk_at dksX1_glued_6 4 rfl rfl)
theorem dX1_glued_148 : decode cX1_glued 148 = .ok (.idiv, 1) := dk_108 (dk_at dksX1_glued_6 7 rfl rfl)
theorem dX1_glued_149 : decode cX1_glued 149 = .ok (.iload 9, 2) := dk_21 9 (dk_at dksX1_glued_6 8 rfl rfl)
theorem dX1_glued_151 : decode cX1_glued 151 = .ok (.aload 5, 2) := dk_25 5 (dk_at dksX1_glued_6 10 rfl rfl)
theorem dX1_glued_153 : decode cX1_glued 153 = .ok (.getfield 73, 3) := dk_180 0 73 (dk_at dksX1_glued_6 12 rfl rfl)
theorem dX1_glued_156 : decode cX1_glued 156 = .ok (.idiv, 1) := dk_108 (dk_at dksX1_glued_6 15 rfl rfl)
theorem dX1_glued_157 : decode cX1_glued 157 = .ok (.if_icmp .ne 7, 3) := dk_160 0 7 (dk_at dksX1_glued_6 16 rfl rfl)
theorem dX1_glued_160 : decode cX1_glued 160 = .ok (.iconst 1, 1) := dk_4 (dk_at dksX1_glued_6 19 rfl rfl)
theorem dX1_glued_161 : decode cX1_glued 161 = .ok (.goto 4, 3) := dk_167 0 4 (dk_at dksX1_glued_6 20 rfl rfl)
theorem dX1_glued_164 : decode cX1_glued 164 = .ok (.iconst 0, 1) := dk_3 (dk_at dksX1_glued_6 23 rfl rfl)
theorem dX1_glued_165 : decode cX1_glued 165 = .ok (.istore 11, 2) := dk_54 11 (dk_at dksX1_glued_7 0 rfl rfl)
theorem dX1_glued_167 : decode cX1_glued 167 = .ok (.iload 11, 2) := dk_21 11 (dk_at dksX1_glued_7 2 rfl rfl)
theorem dX1_glued_169 : decode cX1_glued 169 = .ok (.ifCond .eq 46, 3) := dk_153 0 46 (dk_at dksX1_glued_7 4 rfl rfl)
theorem dX1_glued_172 : decode cX1_glued 172 = .ok (.iload_n 2, 1) := dk_28 (dk_at dksX1_glued_7 7 rfl rfl)
theorem dX1_glued_173 : decode cX1_glued 173 = .ok (.ifCond .eq 14, 3) := dk_153 0 14 (dk_at dksX1_glued_7 8 rfl rfl)
theorem dX1_glued_176 : decode cX1_glued 176 = .ok (.iload 8, 2) := dk_21 8 (dk_at dksX1_glued_7 11 rfl rfl)
theorem dX1_glued_178 : decode cX1_glued 178 = .ok (.aload 5, 2) := dk_25 5 (dk_at dksX1_glued_7 13 rfl rfl)
theorem dX1_glued_180 : decode cX1_glued 180 = .ok (.getfield 73, 3) := dk_180 0 73 (dk_at dksX1_glued_7 15 rfl rfl)
theorem dX1_glued_183 : decode cX1_glued 183 = .ok (.idiv, 1) := dk_108 (dk_at dksX1_glued_7 18 rfl rfl)
theorem dX1_glued_184 : decode cX1_glued 184 = .ok (.ifCond .ne 31, 3) := dk_154 0 31 (dk_at dksX1_glued_7 19 rfl rfl)
theorem dX1_glued_187 : decode cX1_glued 187 = .ok (.aload 5, 2) := dk_25 5 (dk_at dksX1_glued_7 22 rfl rfl)
theorem dX1_glued_189 : decode cX1_glued 189 = .ok (.iload 8, 2) := dk_21 8 (dk_at dksX1_glued_8 0 rfl rfl)
theorem dX1_glued_191 : decode cX1_glued 191 = .ok (.aload 5, 2) := dk_25 5 (dk_at dksX1_glued_8 2 rfl rfl)
theorem dX1_glued_193 : decode cX1_glued 193 = .ok (.getfield 73, 3) := dk_180 0 73 (dk_at dksX1_glued_8 4 rfl rfl)
theorem dX1_glued_196 : decode cX1_glued 196 = .ok (.irem, 1) := dk_112 (dk_at dksX1_glued_8 7 rfl rfl)
theorem dX1_glued_197 : decode cX1_glued 197 = .ok (.iload 9, 2) := dk_21 9 (dk_at dksX1_glued_8 8 rfl rfl)
theorem dX1_glued_199 : decode cX1_glued 199 = .ok (.aload 5, 2) := dk_25 5 (dk_at dksX1_glued_8 10 rfl rfl)
theorem dX1_glued_201 : decode cX1_glued 201 = .ok (.getfield 73, 3) := dk_180 0 73 (dk_at dksX1_glued_8 12 rfl rfl)
theorem dX1_glued_204 : decode cX1_glued 204 = .ok (.irem, 1) := dk_112 (dk_at dksX1_glued_8 15 rfl rfl)
theorem dX1_glued_205 : decode cX1_glued 205 = .ok (.invokevirtual 97, 3) := dk_182 0 97 (dk_at dksX1_glued_8 16 rfl rfl)
theorem dX1_glued_208 : decode cX1_glued 208 = .ok (.ifCond .eq 7, 3) := dk_153 0 7 (dk_at dksX1_glued_8 19 rfl rfl)
theorem dX1_glued_211 : decode cX1_glued 211 = .ok (.iconst 1, 1) := dk_4 (dk_at dksX1_glued_8 22 rfl rfl)
theorem dX1_glued_212 : decode cX1_glued 212 = .ok (.goto 4, 3) := dk_167 0 4 (dk_at dksX1_glued_9 0 rfl rfl)
theorem dX1_glued_215 : decode cX1_glued 215 = .ok (.iconst 0, 1) := dk_3 (dk_at dksX1_glued_9 3 rfl rfl)
theorem dX1_glued_216 : decode cX1_glued 216 = .ok (.istore 12, 2) := dk_54 12 (dk_at dksX1_glued_9 4 rfl rfl)
theorem dX1_glued_218 : decode cX1_glued 218 = .ok (.iload 12, 2) := dk_21 12 (dk_at dksX1_glued_9 6 rfl rfl)
theorem dX1_glued_220 : decode cX1_glued 220 = .ok (.ifCond .ne 32, 3) := dk_154 0 32 (dk_at dksX1_glued_9 8 rfl rfl)
theorem dX1_glued_223 : decode cX1_glued 223 = .ok (.iload 10, 2) := dk_21 10 (dk_at dksX1_glued_9 11 rfl rfl)
theorem dX1_glued_225 : decode cX1_glued 225 = .ok (.ifCond .eq 36, 3) := dk_153 0 36 (dk_at dksX1_glued_9 13 rfl rfl)
theorem dX1_glued_228 : decode cX1_glued 228 = .ok (.aload 6, 2) := dk_25 6 (dk_at dksX1_glued_9 16 rfl rfl)
theorem dX1_glued_230 : decode cX1_glued 230 = .ok (.iload 8, 2) := dk_21 8 (dk_at dksX1_glued_9 18 rfl rfl)
theorem dX1_glued_232 : decode cX1_glued 232 = .ok (.aload 5, 2) := dk_25 5 (dk_at dksX1_glued_9 20 rfl rfl)
theorem dX1_glued_234 : decode cX1_glued 234 = .ok (.getfield 73, 3) := dk_180 0 73 (dk_at dksX1_glued_10 0 rfl rfl)
theorem dX1_glued_237 : decode cX1_glued 237 = .ok (.idiv, 1) := dk_108 (dk_at dksX1_glued_10 3 rfl rfl)
theorem dX1_glued_238 : decode cX1_glued 238 = .ok (.iload 9, 2) := dk_21 9 (dk_at dksX1_glued_10 4 rfl rfl)
theorem dX1_glued_240 : decode cX1_glued 240 = .ok (.aload 5, 2) := dk_25 5 (dk_at dksX1_glued_10 6 rfl rfl)
theorem dX1_glued_242 : decode cX1_glued 242 = .ok (.getfield 73, 3) := dk_180 0 73 (dk_at dksX1_glued_10 8 rfl rfl)
theorem dX1_glued_245 : decode cX1_glued 245 = .ok (.idiv, 1) := dk_108 (dk_at dksX1_glued_10 11 rfl rfl)
theorem dX1_glued_246 : decode cX1_glued 246 = .ok (.invokevirtual 97, 3) := dk_182 0 97 (dk_at dksX1_glued_10 12 rfl rfl)
theorem dX1_glued_249 : decode cX1_glued 249 = .ok (.ifCond .eq 12, 3) := dk_153 0 12 (dk_at dksX1_glued_10 15 rfl rfl)
theorem dX1_glued_252 : decode cX1_glued 252 = .ok (.aload 7, 2) := dk_25 7 (dk_at dksX1_glued_10 18 rfl rfl)
theorem dX1_glued_254 : decode cX1_glued 254 = .ok (.iload 8, 2) := dk_21 8 (dk_at dksX1_glued_10 20 rfl rfl)
theorem dX1_glued_256 : decode cX1_glued 256 = .ok (.iload 9, 2) := dk_21 9 (dk_at dksX1_glued_10 22 rfl rfl)
theorem dX1_glued_258 : decode cX1_glued 258 = .ok (.invokevirtual 94, 3) := dk_182 0 94 (dk_at dksX1_glued_11 0 rfl rfl)
theorem dX1_glued_261 : decode cX1_glued 261 = .ok (.iinc 9 1, 3) := dk_132 9 1 (dk_at dksX1_glued_11 3 rfl rfl)
theorem dX1_glued_264 : decode cX1_glued 264 = .ok (.goto (-156), 3) := dk_167 255 100 (dk_at dksX1_glued_11 6 rfl rfl)
theorem dX1_glued_267 : decode cX1_glued 267 = .ok (.iinc 8 1, 3) := dk_132 8 1 (dk_at dksX1_glued_11 9 rfl rfl)
theorem dX1_glued_270 : decode cX1_glued 270 = .ok (.goto (-175), 3) := dk_167 255 81 (dk_at dksX1_glued_11 12 rfl rfl)
theorem dX1_glued_273 : decode cX1_glued 273 = .ok (.aload_n 0, 1) := dk_42 (dk_at dksX1_glued_11 15 rfl rfl)
theorem dX1_glued_274 : decode cX1_glued 274 = .ok (.getfield 17, 3) := dk_180 0 17 (dk_at dksX1_glued_11 16 rfl rfl)
theorem dX1_glued_277 : decode cX1_glued 277 = .ok (.iload_n 1, 1) := dk_27 (dk_at dksX1_glued_11 19 rfl rfl)
theorem dX1_glued_278 : decode cX1_glued 278 = .ok (.aload 7, 2) := dk_25 7 (dk_at dksX1_glued_11 20 rfl rfl)
theorem dX1_glued_280 : decode cX1_glued 280 = .ok (.aastore, 1) := dk_83 (dk_at dksX1_glued_11 22 rfl rfl)
theorem dX1_glued_281 : decode cX1_glued 281 = .ok (.iconst 1, 1) := dk_4 (dk_at dksX1_glued_11 23 rfl rfl)
theorem dX1_glued_282 : decode cX1_glued 282 = .ok (.ireturn, 1) := dk_172 (dk_at dksX1_glued_12 0 rfl rfl)
abbrev cX1_copy : ByteArray := prog_1_method_16_code
def yX1_copy : MethodName := ⟨RX1, "copy", "(II)Z"⟩
def dkwX1_copy_1 : List UInt8 := [83, 4, 172]
abbrev dktX1_copy_1 : List UInt8 := dkwX1_copy_1 ++ []
def dkwX1_copy_0 : List UInt8 := [42, 27, 182, 0, 83, 78, 28, 184, 0, 65, 154, 0, 5, 3, 172, 42, 180, 0, 17, 28, 45, 182, 0, 142]
abbrev dktX1_copy_0 : List UInt8 := dkwX1_copy_0 ++ dktX1_copy_1
theorem dksX1_copy_0 : cX1_copy.data.toList.drop 0 = dktX1_copy_0 := by decide +kernel
theorem dksX1_copy_1 : cX1_copy.data.toList.drop 24 = dktX1_copy_1 := dk_seg dksX1_copy_0 24 rfl rfl
theorem dX1_copy_0 : decode cX1_copy 0 = .ok (.aload_n 0, 1) := dk_42 (dk_at dksX1_copy_0 0 rfl rfl)
theorem dX1_copy_1 : decode cX1_copy 1 = .ok (.iload_n 1, 1) := dk_27 (dk_at dksX1_copy_0 1 rfl rfl)
theorem dX1_copy_2 : decode cX1_copy 2 = .ok (.invokevirtual 83, 3) := dk_182 0 83 (dk_at dksX1_copy_0 2 rfl rfl)
theorem dX1_copy_5 : decode cX1_copy 5 = .ok (.astore_n 3, 1) := dk_78 (dk_at dksX1_copy_0 5 rfl rfl)
theorem dX1_copy_6 : decode cX1_copy 6 = .ok (.iload_n 2, 1) := dk_28 (dk_at dksX1_copy_0 6 rfl rfl)
theorem dX1_copy_7 : decode cX1_copy 7 = .ok (.invokestatic 65, 3) := dk_184 0 65 (dk_at dksX1_copy_0 7 rfl rfl)
theorem dX1_copy_10 : decode cX1_copy 10 = .ok (.ifCond .ne 5, 3) := dk_154 0 5 (dk_at dksX1_copy_0 10 rfl rfl)
theorem dX1_copy_13 : decode cX1_copy 13 = .ok (.iconst 0, 1) := dk_3 (dk_at dksX1_copy_0 13 rfl rfl)
theorem dX1_copy_14 : decode cX1_copy 14 = .ok (.ireturn, 1) := dk_172 (dk_at dksX1_copy_0 14 rfl rfl)
theorem dX1_copy_15 : decode cX1_copy 15 = .ok (.aload_n 0, 1) := dk_42 (dk_at dksX1_copy_0 15 rfl rfl)
theorem dX1_copy_16 : decode cX1_copy 16 = .ok (.getfield 17, 3) := dk_180 0 17 (dk_at dksX1_copy_0 16 rfl rfl)
theorem dX1_copy_19 : decode cX1_copy 19 = .ok (.iload_n 2, 1) := dk_28 (dk_at dksX1_copy_0 19 rfl rfl)
theorem dX1_copy_20 : decode cX1_copy 20 = .ok (.aload_n 3, 1) := dk_45 (dk_at dksX1_copy_0 20 rfl rfl)
theorem dX1_copy_21 : decode cX1_copy 21 = .ok (.invokevirtual 142, 3) := dk_182 0 142 (dk_at dksX1_copy_0 21 rfl rfl)
theorem dX1_copy_24 : decode cX1_copy 24 = .ok (.aastore, 1) := dk_83 (dk_at dksX1_copy_1 0 rfl rfl)
theorem dX1_copy_25 : decode cX1_copy 25 = .ok (.iconst 1, 1) := dk_4 (dk_at dksX1_copy_1 1 rfl rfl)
theorem dX1_copy_26 : decode cX1_copy 26 = .ok (.ireturn, 1) := dk_172 (dk_at dksX1_copy_1 2 rfl rfl)
abbrev cX1_about : ByteArray := prog_1_method_17_code
def yX1_about : MethodName := ⟨RX1, "about", "(II)I"⟩
def dkwX1_about_4 : List UInt8 := [184, 0, 159, 54, 4, 132, 5, 1, 167, 255, 212, 21, 4, 172]
abbrev dktX1_about_4 : List UInt8 := dkwX1_about_4 ++ []
def dkwX1_about_3 : List UInt8 := [21, 4, 45, 21, 5, 182, 0, 149, 184, 0, 153, 167, 0, 14, 21, 4, 45, 21, 5, 182, 0, 149]
abbrev dktX1_about_3 : List UInt8 := dkwX1_about_3 ++ dktX1_about_4
def dkwX1_about_2 : List UInt8 := [45, 3, 182, 0, 149, 54, 4, 4, 54, 5, 21, 5, 45, 180, 0, 73, 162, 0, 41, 28, 6, 160, 0, 17]
abbrev dktX1_about_2 : List UInt8 := dkwX1_about_2 ++ dktX1_about_3
def dkwX1_about_1 : List UInt8 := [45, 180, 0, 73, 167, 0, 19, 28, 4, 160, 0, 10, 45, 180, 0, 139, 167, 0, 7, 45, 182, 0, 145, 172]
abbrev dktX1_about_1 : List UInt8 := dkwX1_about_1 ++ dktX1_about_2
def dkwX1_about_0 : List UInt8 := [42, 27, 182, 0, 83, 78, 28, 3, 7, 184, 0, 61, 184, 0, 69, 28, 6, 162, 0, 31, 28, 154, 0, 10]
abbrev dktX1_about_0 : List UInt8 := dkwX1_about_0 ++ dktX1_about_1
theorem dksX1_about_0 : cX1_about.data.toList.drop 0 = dktX1_about_0 := by decide +kernel
theorem dksX1_about_1 : cX1_about.data.toList.drop 24 = dktX1_about_1 := dk_seg dksX1_about_0 24 rfl rfl
theorem dksX1_about_2 : cX1_about.data.toList.drop 48 = dktX1_about_2 := dk_seg dksX1_about_1 24 rfl rfl
theorem dksX1_about_3 : cX1_about.data.toList.drop 72 = dktX1_about_3 := dk_seg dksX1_about_2 24 rfl rfl
theorem dksX1_about_4 : cX1_about.data.toList.drop 94 = dktX1_about_4 := dk_seg dksX1_about_3 22 rfl rfl
theorem dX1_about_0 : decode cX1_about 0 = .ok (.aload_n 0, 1) := dk_42 (dk_at dksX1_about_0 0 rfl rfl)
theorem dX1_about_1 : decode cX1_about 1 = .ok (.iload_n 1, 1) := dk_27 (dk_at dksX1_about_0 1 rfl rfl)
theorem dX1_about_2 : decode cX1_about 2 = .ok (.invokevirtual 83, 3) := dk_182 0 83 (dk_at dksX1_about_0 2 rfl rfl)
theorem dX1_about_5 : decode cX1_about 5 = .ok (.astore_n 3, 1) := dk_78 (dk_at dksX1_about_0 5 rfl rfl)
theorem dX1_about_6 : decode cX1_about 6 = .ok (.iload_n 2, 1) := dk_28 (dk_at dksX1_about_0 6 rfl rfl)
theorem dX1_about_7 : decode cX1_about 7 = .ok (.iconst 0, 1) := dk_3 (dk_at dksX1_about_0 7 rfl rfl)
theorem dX1_about_8 : decode cX1_about 8 = .ok (.iconst 4, 1) := dk_7 (dk_at dksX1_about_0 8 rfl rfl)
theorem dX1_about_9 : decode cX1_about 9 = .ok (.invokestatic 61, 3) := dk_184 0 61 (dk_at dksX1_about_0 9 rfl rfl)
theorem dX1_about_12 : decode cX1_about 12 = .ok (.invokestatic 69, 3) := dk_184 0 69 (dk_at dksX1_about_0 12 rfl rfl)
theorem dX1_about_15 : decode cX1_about 15 = .ok (.iload_n 2, 1) := dk_28 (dk_at dksX1_about_0 15 rfl rfl)
theorem dX1_about_16 : decode cX1_about 16 = .ok (.iconst 3, 1) := dk_6 (dk_at dksX1_about_0 16 rfl rfl)
theorem dX1_about_17 : decode cX1_about 17 = .ok (.if_icmp .ge 31, 3) := dk_162 0 31 (dk_at dksX1_about_0 17 rfl rfl)
theorem dX1_about_20 : decode cX1_about 20 = .ok (.iload_n 2, 1) := dk_28 (dk_at dksX1_about_0 20 rfl rfl)
theorem dX1_about_21 : decode cX1_about 21 = .ok (.ifCond .ne 10, 3) := dk_154 0 10 (dk_at dksX1_about_0 21 rfl rfl)
theorem dX1_about_24 : decode cX1_about 24 = .ok (.aload_n 3, 1) := dk_45 (dk_at dksX1_about_1 0 rfl rfl)
theorem dX1_about_25 : decode cX1_about 25 = .ok (.getfield 73, 3) := dk_180 0 73 (dk_at dksX1_about_1 1 rfl rfl)
theorem dX1_about_28 : decode cX1_about 28 = .ok (.goto 19, 3) := dk_167 0 19 (dk_at dksX1_about_1 4 rfl rfl)
theorem dX1_about_31 : decode cX1_about 31 = .ok (.iload_n 2, 1) := dk_28 (dk_at dksX1_about_1 7 rfl rfl)
theorem dX1_about_32 : decode cX1_about 32 = .ok (.iconst 1, 1) := dk_4 (dk_at dksX1_about_1 8 rfl rfl)
theorem dX1_about_33 : decode cX1_about 33 = .ok (.if_icmp .ne 10, 3) := dk_160 0 10 (dk_at dksX1_about_1 9 rfl rfl)
theorem dX1_about_36 : decode cX1_about 36 = .ok (.aload_n 3, 1) := dk_45 (dk_at dksX1_about_1 12 rfl rfl)
theorem dX1_about_37 : decode cX1_about 37 = .ok (.getfield 139, 3) := dk_180 0 139 (dk_at dksX1_about_1 13 rfl rfl)
theorem dX1_about_40 : decode cX1_about 40 = .ok (.goto 7, 3) := dk_167 0 7 (dk_at dksX1_about_1 16 rfl rfl)
theorem dX1_about_43 : decode cX1_about 43 = .ok (.aload_n 3, 1) := dk_45 (dk_at dksX1_about_1 19 rfl rfl)
theorem dX1_about_44 : decode cX1_about 44 = .ok (.invokevirtual 145, 3) := dk_182 0 145 (dk_at dksX1_about_1 20 rfl rfl)
theorem dX1_about_47 : decode cX1_about 47 = .ok (.ireturn, 1) := dk_172 (dk_at dksX1_about_1 23 rfl rfl)
theorem dX1_about_48 : decode cX1_about 48 = .ok (.aload_n 3, 1) := dk_45 (dk_at dksX1_about_2 0 rfl rfl)
theorem dX1_about_49 : decode cX1_about 49 = .ok (.iconst 0, 1) := dk_3 (dk_at dksX1_about_2 1 rfl rfl)
theorem dX1_about_50 : decode cX1_about 50 = .ok (.invokevirtual 149, 3) := dk_182 0 149 (dk_at dksX1_about_2 2 rfl rfl)
theorem dX1_about_53 : decode cX1_about 53 = .ok (.istore 4, 2) := dk_54 4 (dk_at dksX1_about_2 5 rfl rfl)
theorem dX1_about_55 : decode cX1_about 55 = .ok (.iconst 1, 1) := dk_4 (dk_at dksX1_about_2 7 rfl rfl)
theorem dX1_about_56 : decode cX1_about 56 = .ok (.istore 5, 2) := dk_54 5 (dk_at dksX1_about_2 8 rfl rfl)
theorem dX1_about_58 : decode cX1_about 58 = .ok (.iload 5, 2) := dk_21 5 (dk_at dksX1_about_2 10 rfl rfl)
theorem dX1_about_60 : decode cX1_about 60 = .ok (.aload_n 3, 1) := dk_45 (dk_at dksX1_about_2 12 rfl rfl)
theorem dX1_about_61 : decode cX1_about 61 = .ok (.getfield 73, 3) := dk_180 0 73 (dk_at dksX1_about_2 13 rfl rfl)
theorem dX1_about_64 : decode cX1_about 64 = .ok (.if_icmp .ge 41, 3) := dk_162 0 41 (dk_at dksX1_about_2 16 rfl rfl)
theorem dX1_about_67 : decode cX1_about 67 = .ok (.iload_n 2, 1) := dk_28 (dk_at dksX1_about_2 19 rfl rfl)
theorem dX1_about_68 : decode cX1_about 68 = .ok (.iconst 3, 1) := dk_6 (dk_at dksX1_about_2 20 rfl rfl)
theorem dX1_about_69 : decode cX1_about 69 = .ok (.if_icmp .ne 17, 3) := dk_160 0 17 (dk_at dksX1_about_2 21 rfl rfl)
theorem dX1_about_72 : decode cX1_about 72 = .ok (.iload 4, 2) := dk_21 4 (dk_at dksX1_about_3 0 rfl rfl)
theorem dX1_about_74 : decode cX1_about 74 = .ok (.aload_n 3, 1) := dk_45 (dk_at dksX1_about_3 2 rfl rfl)
theorem dX1_about_75 : decode cX1_about 75 = .ok (.iload 5, 2) := dk_21 5 (dk_at dksX1_about_3 3 rfl rfl)
theorem dX1_about_77 : decode cX1_about 77 = .ok (.invokevirtual 149, 3) := dk_182 0 149 (dk_at dksX1_about_3 5 rfl rfl)
theorem dX1_about_80 : decode cX1_about 80 = .ok (.invokestatic 153, 3) := dk_184 0 153 (dk_at dksX1_about_3 8 rfl rfl)
theorem dX1_about_83 : decode cX1_about 83 = .ok (.goto 14, 3) := dk_167 0 14 (dk_at dksX1_about_3 11 rfl rfl)
theorem dX1_about_86 : decode cX1_about 86 = .ok (.iload 4, 2) := dk_21 4 (dk_at dksX1_about_3 14 rfl rfl)
theorem dX1_about_88 : decode cX1_about 88 = .ok (.aload_n 3, 1) := dk_45 (dk_at dksX1_about_3 16 rfl rfl)
theorem dX1_about_89 : decode cX1_about 89 = .ok (.iload 5, 2) := dk_21 5 (dk_at dksX1_about_3 17 rfl rfl)
theorem dX1_about_91 : decode cX1_about 91 = .ok (.invokevirtual 149, 3) := dk_182 0 149 (dk_at dksX1_about_3 19 rfl rfl)
theorem dX1_about_94 : decode cX1_about 94 = .ok (.invokestatic 159, 3) := dk_184 0 159 (dk_at dksX1_about_4 0 rfl rfl)
theorem dX1_about_97 : decode cX1_about 97 = .ok (.istore 4, 2) := dk_54 4 (dk_at dksX1_about_4 3 rfl rfl)
theorem dX1_about_99 : decode cX1_about 99 = .ok (.iinc 5 1, 3) := dk_132 5 1 (dk_at dksX1_about_4 5 rfl rfl)
theorem dX1_about_102 : decode cX1_about 102 = .ok (.goto (-44), 3) := dk_167 255 212 (dk_at dksX1_about_4 8 rfl rfl)
theorem dX1_about_105 : decode cX1_about 105 = .ok (.iload 4, 2) := dk_21 4 (dk_at dksX1_about_4 11 rfl rfl)
theorem dX1_about_107 : decode cX1_about 107 = .ok (.ireturn, 1) := dk_172 (dk_at dksX1_about_4 13 rfl rfl)
abbrev cX1_lineAt : ByteArray := prog_1_method_18_code
def yX1_lineAt : MethodName := ⟨RX1, "lineAt", "(II)I"⟩
def dkwX1_lineAt_1 : List UInt8 := [172]
abbrev dktX1_lineAt_1 : List UInt8 := dkwX1_lineAt_1 ++ []
def dkwX1_lineAt_0 : List UInt8 := [42, 27, 182, 0, 83, 182, 0, 162, 78, 28, 3, 45, 190, 4, 100, 184, 0, 61, 184, 0, 69, 45, 28, 46]
abbrev dktX1_lineAt_0 : List UInt8 := dkwX1_lineAt_0 ++ dktX1_lineAt_1
theorem dksX1_lineAt_0 : cX1_lineAt.data.toList.drop 0 = dktX1_lineAt_0 := by decide +kernel
theorem dksX1_lineAt_1 : cX1_lineAt.data.toList.drop 24 = dktX1_lineAt_1 := dk_seg dksX1_lineAt_0 24 rfl rfl
theorem dX1_lineAt_0 : decode cX1_lineAt 0 = .ok (.aload_n 0, 1) := dk_42 (dk_at dksX1_lineAt_0 0 rfl rfl)
theorem dX1_lineAt_1 : decode cX1_lineAt 1 = .ok (.iload_n 1, 1) := dk_27 (dk_at dksX1_lineAt_0 1 rfl rfl)
theorem dX1_lineAt_2 : decode cX1_lineAt 2 = .ok (.invokevirtual 83, 3) := dk_182 0 83 (dk_at dksX1_lineAt_0 2 rfl rfl)
theorem dX1_lineAt_5 : decode cX1_lineAt 5 = .ok (.invokevirtual 162, 3) := dk_182 0 162 (dk_at dksX1_lineAt_0 5 rfl rfl)
theorem dX1_lineAt_8 : decode cX1_lineAt 8 = .ok (.astore_n 3, 1) := dk_78 (dk_at dksX1_lineAt_0 8 rfl rfl)
theorem dX1_lineAt_9 : decode cX1_lineAt 9 = .ok (.iload_n 2, 1) := dk_28 (dk_at dksX1_lineAt_0 9 rfl rfl)
theorem dX1_lineAt_10 : decode cX1_lineAt 10 = .ok (.iconst 0, 1) := dk_3 (dk_at dksX1_lineAt_0 10 rfl rfl)
theorem dX1_lineAt_11 : decode cX1_lineAt 11 = .ok (.aload_n 3, 1) := dk_45 (dk_at dksX1_lineAt_0 11 rfl rfl)
theorem dX1_lineAt_12 : decode cX1_lineAt 12 = .ok (.arraylength, 1) := dk_190 (dk_at dksX1_lineAt_0 12 rfl rfl)
theorem dX1_lineAt_13 : decode cX1_lineAt 13 = .ok (.iconst 1, 1) := dk_4 (dk_at dksX1_lineAt_0 13 rfl rfl)
theorem dX1_lineAt_14 : decode cX1_lineAt 14 = .ok (.isub, 1) := dk_100 (dk_at dksX1_lineAt_0 14 rfl rfl)
theorem dX1_lineAt_15 : decode cX1_lineAt 15 = .ok (.invokestatic 61, 3) := dk_184 0 61 (dk_at dksX1_lineAt_0 15 rfl rfl)
theorem dX1_lineAt_18 : decode cX1_lineAt 18 = .ok (.invokestatic 69, 3) := dk_184 0 69 (dk_at dksX1_lineAt_0 18 rfl rfl)
theorem dX1_lineAt_21 : decode cX1_lineAt 21 = .ok (.aload_n 3, 1) := dk_45 (dk_at dksX1_lineAt_0 21 rfl rfl)
theorem dX1_lineAt_22 : decode cX1_lineAt 22 = .ok (.iload_n 2, 1) := dk_28 (dk_at dksX1_lineAt_0 22 rfl rfl)
theorem dX1_lineAt_23 : decode cX1_lineAt 23 = .ok (.iaload, 1) := dk_46 (dk_at dksX1_lineAt_0 23 rfl rfl)
theorem dX1_lineAt_24 : decode cX1_lineAt 24 = .ok (.ireturn, 1) := dk_172 (dk_at dksX1_lineAt_1 0 rfl rfl)
abbrev cX1_distance : ByteArray := prog_1_method_19_code
def yX1_distance : MethodName := ⟨RX1, "distance", "(III)I"⟩
def dkwX1_distance_1 : List UInt8 := [25, 4, 28, 29, 182, 0, 166, 172]
abbrev dktX1_distance_1 : List UInt8 := dkwX1_distance_1 ++ []
def dkwX1_distance_0 : List UInt8 := [42, 27, 182, 0, 83, 58, 4, 25, 4, 28, 184, 0, 87, 25, 4, 29, 184, 0, 87, 42, 180, 0, 28]
abbrev dktX1_distance_0 : List UInt8 := dkwX1_distance_0 ++ dktX1_distance_1
theorem dksX1_distance_0 : cX1_distance.data.toList.drop 0 = dktX1_distance_0 := by decide +kernel
theorem dksX1_distance_1 : cX1_distance.data.toList.drop 23 = dktX1_distance_1 := dk_seg dksX1_distance_0 23 rfl rfl
theorem dX1_distance_0 : decode cX1_distance 0 = .ok (.aload_n 0, 1) := dk_42 (dk_at dksX1_distance_0 0 rfl rfl)
theorem dX1_distance_1 : decode cX1_distance 1 = .ok (.iload_n 1, 1) := dk_27 (dk_at dksX1_distance_0 1 rfl rfl)
theorem dX1_distance_2 : decode cX1_distance 2 = .ok (.invokevirtual 83, 3) := dk_182 0 83 (dk_at dksX1_distance_0 2 rfl rfl)
theorem dX1_distance_5 : decode cX1_distance 5 = .ok (.astore 4, 2) := dk_58 4 (dk_at dksX1_distance_0 5 rfl rfl)
theorem dX1_distance_7 : decode cX1_distance 7 = .ok (.aload 4, 2) := dk_25 4 (dk_at dksX1_distance_0 7 rfl rfl)
theorem dX1_distance_9 : decode cX1_distance 9 = .ok (.iload_n 2, 1) := dk_28 (dk_at dksX1_distance_0 9 rfl rfl)
theorem dX1_distance_10 : decode cX1_distance 10 = .ok (.invokestatic 87, 3) := dk_184 0 87 (dk_at dksX1_distance_0 10 rfl rfl)
theorem dX1_distance_13 : decode cX1_distance 13 = .ok (.aload 4, 2) := dk_25 4 (dk_at dksX1_distance_0 13 rfl rfl)
theorem dX1_distance_15 : decode cX1_distance 15 = .ok (.iload_n 3, 1) := dk_29 (dk_at dksX1_distance_0 15 rfl rfl)
theorem dX1_distance_16 : decode cX1_distance 16 = .ok (.invokestatic 87, 3) := dk_184 0 87 (dk_at dksX1_distance_0 16 rfl rfl)
theorem dX1_distance_19 : decode cX1_distance 19 = .ok (.aload_n 0, 1) := dk_42 (dk_at dksX1_distance_0 19 rfl rfl)
theorem dX1_distance_20 : decode cX1_distance 20 = .ok (.getfield 28, 3) := dk_180 0 28 (dk_at dksX1_distance_0 20 rfl rfl)
theorem dX1_distance_23 : decode cX1_distance 23 = .ok (.aload 4, 2) := dk_25 4 (dk_at dksX1_distance_1 0 rfl rfl)
theorem dX1_distance_25 : decode cX1_distance 25 = .ok (.iload_n 2, 1) := dk_28 (dk_at dksX1_distance_1 2 rfl rfl)
theorem dX1_distance_26 : decode cX1_distance 26 = .ok (.iload_n 3, 1) := dk_29 (dk_at dksX1_distance_1 3 rfl rfl)
theorem dX1_distance_27 : decode cX1_distance 27 = .ok (.invokevirtual 166, 3) := dk_182 0 166 (dk_at dksX1_distance_1 4 rfl rfl)
theorem dX1_distance_30 : decode cX1_distance 30 = .ok (.ireturn, 1) := dk_172 (dk_at dksX1_distance_1 7 rfl rfl)
abbrev cX1_far : ByteArray := prog_1_method_20_code
def yX1_far : MethodName := ⟨RX1, "far", "(II)I"⟩
def dkwX1_far_6 : List UInt8 := [191]
abbrev dktX1_far_6 : List UInt8 := dkwX1_far_6 ++ []
def dkwX1_far_5 : List UInt8 := [180, 0, 35, 45, 182, 0, 191, 172, 42, 180, 0, 28, 45, 182, 0, 194, 172, 187, 0, 1, 89, 183, 0, 3]
abbrev dktX1_far_5 : List UInt8 := dkwX1_far_5 ++ dktX1_far_6
def dkwX1_far_4 : List UInt8 := [167, 0, 4, 2, 172, 42, 180, 0, 28, 45, 182, 0, 185, 172, 42, 180, 0, 35, 45, 182, 0, 188, 172, 42]
abbrev dktX1_far_4 : List UInt8 := dkwX1_far_4 ++ dktX1_far_5
def dkwX1_far_3 : List UInt8 := [167, 0, 4, 2, 172, 42, 180, 0, 28, 45, 182, 0, 170, 153, 0, 14, 42, 180, 0, 28, 45, 182, 0, 181]
abbrev dktX1_far_3 : List UInt8 := dkwX1_far_3 ++ dktX1_far_4
def dkwX1_far_2 : List UInt8 := [42, 180, 0, 28, 45, 182, 0, 170, 153, 0, 18, 42, 180, 0, 28, 45, 45, 182, 0, 174, 182, 0, 177]
abbrev dktX1_far_2 : List UInt8 := dkwX1_far_2 ++ dktX1_far_3
def dkwX1_far_1 : List UInt8 := [170, 0, 0, 0, 125, 0, 0, 0, 0, 0, 0, 0, 5, 0, 0, 0, 37, 0, 0, 0, 65, 0, 0, 0, 89, 0, 0, 0, 98, 0, 0, 0, 107, 0, 0, 0, 116]
abbrev dktX1_far_1 : List UInt8 := dkwX1_far_1 ++ dktX1_far_2
def dkwX1_far_0 : List UInt8 := [42, 27, 182, 0, 83, 78, 28]
abbrev dktX1_far_0 : List UInt8 := dkwX1_far_0 ++ dktX1_far_1
theorem dksX1_far_0 : cX1_far.data.toList.drop 0 = dktX1_far_0 := by decide +kernel
theorem dksX1_far_1 : cX1_far.data.toList.drop 7 = dktX1_far_1 := dk_seg dksX1_far_0 7 rfl rfl
theorem dksX1_far_2 : cX1_far.data.toList.drop 44 = dktX1_far_2 := dk_seg dksX1_far_1 37 rfl rfl
theorem dksX1_far_3 : cX1_far.data.toList.drop 67 = dktX1_far_3 := dk_seg dksX1_far_2 23 rfl rfl
theorem dksX1_far_4 : cX1_far.data.toList.drop 91 = dktX1_far_4 := dk_seg dksX1_far_3 24 rfl rfl
theorem dksX1_far_5 : cX1_far.data.toList.drop 115 = dktX1_far_5 := dk_seg dksX1_far_4 24 rfl rfl
theorem dksX1_far_6 : cX1_far.data.toList.drop 139 = dktX1_far_6 := dk_seg dksX1_far_5 24 rfl rfl
theorem dX1_far_0 : decode cX1_far 0 = .ok (.aload_n 0, 1) := dk_42 (dk_at dksX1_far_0 0 rfl rfl)
theorem dX1_far_1 : decode cX1_far 1 = .ok (.iload_n 1, 1) := dk_27 (dk_at dksX1_far_0 1 rfl rfl)
theorem dX1_far_2 : decode cX1_far 2 = .ok (.invokevirtual 83, 3) := dk_182 0 83 (dk_at dksX1_far_0 2 rfl rfl)
theorem dX1_far_5 : decode cX1_far 5 = .ok (.astore_n 3, 1) := dk_78 (dk_at dksX1_far_0 5 rfl rfl)
theorem dX1_far_6 : decode cX1_far 6 = .ok (.iload_n 2, 1) := dk_28 (dk_at dksX1_far_0 6 rfl rfl)
theorem dX1_far_7 : decode cX1_far 7 = .ok (.tableswitch 125 0 5 #[37, 65, 89, 98, 107, 116], 37) := by decide +kernel
theorem dX1_far_44 : decode cX1_far 44 = .ok (.aload_n 0, 1) := dk_42 (dk_at dksX1_far_2 0 rfl rfl)
theorem dX1_far_45 : decode cX1_far 45 = .ok (.getfield 28, 3) := dk_180 0 28 (dk_at dksX1_far_2 1 rfl rfl)
theorem dX1_far_48 : decode cX1_far 48 = .ok (.aload_n 3, 1) := dk_45 (dk_at dksX1_far_2 4 rfl rfl)
theorem dX1_far_49 : decode cX1_far 49 = .ok (.invokevirtual 170, 3) := dk_182 0 170 (dk_at dksX1_far_2 5 rfl rfl)
theorem dX1_far_52 : decode cX1_far 52 = .ok (.ifCond .eq 18, 3) := dk_153 0 18 (dk_at dksX1_far_2 8 rfl rfl)
theorem dX1_far_55 : decode cX1_far 55 = .ok (.aload_n 0, 1) := dk_42 (dk_at dksX1_far_2 11 rfl rfl)
theorem dX1_far_56 : decode cX1_far 56 = .ok (.getfield 28, 3) := dk_180 0 28 (dk_at dksX1_far_2 12 rfl rfl)
theorem dX1_far_59 : decode cX1_far 59 = .ok (.aload_n 3, 1) := dk_45 (dk_at dksX1_far_2 15 rfl rfl)
theorem dX1_far_60 : decode cX1_far 60 = .ok (.aload_n 3, 1) := dk_45 (dk_at dksX1_far_2 16 rfl rfl)
theorem dX1_far_61 : decode cX1_far 61 = .ok (.invokevirtual 174, 3) := dk_182 0 174 (dk_at dksX1_far_2 17 rfl rfl)
theorem dX1_far_64 : decode cX1_far 64 = .ok (.invokevirtual 177, 3) := dk_182 0 177 (dk_at dksX1_far_2 20 rfl rfl)
theorem dX1_far_67 : decode cX1_far 67 = .ok (.goto 4, 3) := dk_167 0 4 (dk_at dksX1_far_3 0 rfl rfl)
theorem dX1_far_70 : decode cX1_far 70 = .ok (.iconst (-1), 1) := dk_2 (dk_at dksX1_far_3 3 rfl rfl)
theorem dX1_far_71 : decode cX1_far 71 = .ok (.ireturn, 1) := dk_172 (dk_at dksX1_far_3 4 rfl rfl)
theorem dX1_far_72 : decode cX1_far 72 = .ok (.aload_n 0, 1) := dk_42 (dk_at dksX1_far_3 5 rfl rfl)
theorem dX1_far_73 : decode cX1_far 73 = .ok (.getfield 28, 3) := dk_180 0 28 (dk_at dksX1_far_3 6 rfl rfl)
theorem dX1_far_76 : decode cX1_far 76 = .ok (.aload_n 3, 1) := dk_45 (dk_at dksX1_far_3 9 rfl rfl)
theorem dX1_far_77 : decode cX1_far 77 = .ok (.invokevirtual 170, 3) := dk_182 0 170 (dk_at dksX1_far_3 10 rfl rfl)
theorem dX1_far_80 : decode cX1_far 80 = .ok (.ifCond .eq 14, 3) := dk_153 0 14 (dk_at dksX1_far_3 13 rfl rfl)
theorem dX1_far_83 : decode cX1_far 83 = .ok (.aload_n 0, 1) := dk_42 (dk_at dksX1_far_3 16 rfl rfl)
theorem dX1_far_84 : decode cX1_far 84 = .ok (.getfield 28, 3) := dk_180 0 28 (dk_at dksX1_far_3 17 rfl rfl)
theorem dX1_far_87 : decode cX1_far 87 = .ok (.aload_n 3, 1) := dk_45 (dk_at dksX1_far_3 20 rfl rfl)
theorem dX1_far_88 : decode cX1_far 88 = .ok (.invokevirtual 181, 3) := dk_182 0 181 (dk_at dksX1_far_3 21 rfl rfl)
theorem dX1_far_91 : decode cX1_far 91 = .ok (.goto 4, 3) := dk_167 0 4 (dk_at dksX1_far_4 0 rfl rfl)
theorem dX1_far_94 : decode cX1_far 94 = .ok (.iconst (-1), 1) := dk_2 (dk_at dksX1_far_4 3 rfl rfl)
theorem dX1_far_95 : decode cX1_far 95 = .ok (.ireturn, 1) := dk_172 (dk_at dksX1_far_4 4 rfl rfl)
theorem dX1_far_96 : decode cX1_far 96 = .ok (.aload_n 0, 1) := dk_42 (dk_at dksX1_far_4 5 rfl rfl)
theorem dX1_far_97 : decode cX1_far 97 = .ok (.getfield 28, 3) := dk_180 0 28 (dk_at dksX1_far_4 6 rfl rfl)
theorem dX1_far_100 : decode cX1_far 100 = .ok (.aload_n 3, 1) := dk_45 (dk_at dksX1_far_4 9 rfl rfl)
theorem dX1_far_101 : decode cX1_far 101 = .ok (.invokevirtual 185, 3) := dk_182 0 185 (dk_at dksX1_far_4 10 rfl rfl)
theorem dX1_far_104 : decode cX1_far 104 = .ok (.ireturn, 1) := dk_172 (dk_at dksX1_far_4 13 rfl rfl)
theorem dX1_far_105 : decode cX1_far 105 = .ok (.aload_n 0, 1) := dk_42 (dk_at dksX1_far_4 14 rfl rfl)
theorem dX1_far_106 : decode cX1_far 106 = .ok (.getfield 35, 3) := dk_180 0 35 (dk_at dksX1_far_4 15 rfl rfl)
theorem dX1_far_109 : decode cX1_far 109 = .ok (.aload_n 3, 1) := dk_45 (dk_at dksX1_far_4 18 rfl rfl)
theorem dX1_far_110 : decode cX1_far 110 = .ok (.invokevirtual 188, 3) := dk_182 0 188 (dk_at dksX1_far_4 19 rfl rfl)
theorem dX1_far_113 : decode cX1_far 113 = .ok (.ireturn, 1) := dk_172 (dk_at dksX1_far_4 22 rfl rfl)
theorem dX1_far_114 : decode cX1_far 114 = .ok (.aload_n 0, 1) := dk_42 (dk_at dksX1_far_4 23 rfl rfl)
theorem dX1_far_115 : decode cX1_far 115 = .ok (.getfield 35, 3) := dk_180 0 35 (dk_at dksX1_far_5 0 rfl rfl)
theorem dX1_far_118 : decode cX1_far 118 = .ok (.aload_n 3, 1) := dk_45 (dk_at dksX1_far_5 3 rfl rfl)
theorem dX1_far_119 : decode cX1_far 119 = .ok (.invokevirtual 191, 3) := dk_182 0 191 (dk_at dksX1_far_5 4 rfl rfl)
theorem dX1_far_122 : decode cX1_far 122 = .ok (.ireturn, 1) := dk_172 (dk_at dksX1_far_5 7 rfl rfl)
theorem dX1_far_123 : decode cX1_far 123 = .ok (.aload_n 0, 1) := dk_42 (dk_at dksX1_far_5 8 rfl rfl)
theorem dX1_far_124 : decode cX1_far 124 = .ok (.getfield 28, 3) := dk_180 0 28 (dk_at dksX1_far_5 9 rfl rfl)
theorem dX1_far_127 : decode cX1_far 127 = .ok (.aload_n 3, 1) := dk_45 (dk_at dksX1_far_5 12 rfl rfl)
theorem dX1_far_128 : decode cX1_far 128 = .ok (.invokevirtual 194, 3) := dk_182 0 194 (dk_at dksX1_far_5 13 rfl rfl)
theorem dX1_far_131 : decode cX1_far 131 = .ok (.ireturn, 1) := dk_172 (dk_at dksX1_far_5 16 rfl rfl)
theorem dX1_far_132 : decode cX1_far 132 = .ok (.new 1, 3) := dk_187 0 1 (dk_at dksX1_far_5 17 rfl rfl)
theorem dX1_far_135 : decode cX1_far 135 = .ok (.dup, 1) := dk_89 (dk_at dksX1_far_5 20 rfl rfl)
theorem dX1_far_136 : decode cX1_far 136 = .ok (.invokespecial 3, 3) := dk_183 0 3 (dk_at dksX1_far_5 21 rfl rfl)
theorem dX1_far_139 : decode cX1_far 139 = .ok (.athrow, 1) := dk_191 (dk_at dksX1_far_6 0 rfl rfl)
abbrev cX1_apart : ByteArray := prog_1_method_21_code
def yX1_apart : MethodName := ⟨RX1, "apart", "(III)I"⟩
def dkwX1_apart_1 : List UInt8 := [3, 167, 0, 15, 42, 180, 0, 35, 25, 4, 28, 29, 3, 182, 0, 197, 172]
abbrev dktX1_apart_1 : List UInt8 := dkwX1_apart_1 ++ []
def dkwX1_apart_0 : List UInt8 := [42, 27, 182, 0, 83, 58, 4, 25, 4, 28, 184, 0, 87, 25, 4, 29, 184, 0, 87, 28, 29, 160, 0, 7]
abbrev dktX1_apart_0 : List UInt8 := dkwX1_apart_0 ++ dktX1_apart_1
theorem dksX1_apart_0 : cX1_apart.data.toList.drop 0 = dktX1_apart_0 := by decide +kernel
theorem dksX1_apart_1 : cX1_apart.data.toList.drop 24 = dktX1_apart_1 := dk_seg dksX1_apart_0 24 rfl rfl
theorem dX1_apart_0 : decode cX1_apart 0 = .ok (.aload_n 0, 1) := dk_42 (dk_at dksX1_apart_0 0 rfl rfl)
theorem dX1_apart_1 : decode cX1_apart 1 = .ok (.iload_n 1, 1) := dk_27 (dk_at dksX1_apart_0 1 rfl rfl)
theorem dX1_apart_2 : decode cX1_apart 2 = .ok (.invokevirtual 83, 3) := dk_182 0 83 (dk_at dksX1_apart_0 2 rfl rfl)
theorem dX1_apart_5 : decode cX1_apart 5 = .ok (.astore 4, 2) := dk_58 4 (dk_at dksX1_apart_0 5 rfl rfl)
theorem dX1_apart_7 : decode cX1_apart 7 = .ok (.aload 4, 2) := dk_25 4 (dk_at dksX1_apart_0 7 rfl rfl)
theorem dX1_apart_9 : decode cX1_apart 9 = .ok (.iload_n 2, 1) := dk_28 (dk_at dksX1_apart_0 9 rfl rfl)
theorem dX1_apart_10 : decode cX1_apart 10 = .ok (.invokestatic 87, 3) := dk_184 0 87 (dk_at dksX1_apart_0 10 rfl rfl)
theorem dX1_apart_13 : decode cX1_apart 13 = .ok (.aload 4, 2) := dk_25 4 (dk_at dksX1_apart_0 13 rfl rfl)
theorem dX1_apart_15 : decode cX1_apart 15 = .ok (.iload_n 3, 1) := dk_29 (dk_at dksX1_apart_0 15 rfl rfl)
theorem dX1_apart_16 : decode cX1_apart 16 = .ok (.invokestatic 87, 3) := dk_184 0 87 (dk_at dksX1_apart_0 16 rfl rfl)
theorem dX1_apart_19 : decode cX1_apart 19 = .ok (.iload_n 2, 1) := dk_28 (dk_at dksX1_apart_0 19 rfl rfl)
theorem dX1_apart_20 : decode cX1_apart 20 = .ok (.iload_n 3, 1) := dk_29 (dk_at dksX1_apart_0 20 rfl rfl)
theorem dX1_apart_21 : decode cX1_apart 21 = .ok (.if_icmp .ne 7, 3) := dk_160 0 7 (dk_at dksX1_apart_0 21 rfl rfl)
theorem dX1_apart_24 : decode cX1_apart 24 = .ok (.iconst 0, 1) := dk_3 (dk_at dksX1_apart_1 0 rfl rfl)
theorem dX1_apart_25 : decode cX1_apart 25 = .ok (.goto 15, 3) := dk_167 0 15 (dk_at dksX1_apart_1 1 rfl rfl)
theorem dX1_apart_28 : decode cX1_apart 28 = .ok (.aload_n 0, 1) := dk_42 (dk_at dksX1_apart_1 4 rfl rfl)
theorem dX1_apart_29 : decode cX1_apart 29 = .ok (.getfield 35, 3) := dk_180 0 35 (dk_at dksX1_apart_1 5 rfl rfl)
theorem dX1_apart_32 : decode cX1_apart 32 = .ok (.aload 4, 2) := dk_25 4 (dk_at dksX1_apart_1 8 rfl rfl)
theorem dX1_apart_34 : decode cX1_apart 34 = .ok (.iload_n 2, 1) := dk_28 (dk_at dksX1_apart_1 10 rfl rfl)
theorem dX1_apart_35 : decode cX1_apart 35 = .ok (.iload_n 3, 1) := dk_29 (dk_at dksX1_apart_1 11 rfl rfl)
theorem dX1_apart_36 : decode cX1_apart 36 = .ok (.iconst 0, 1) := dk_3 (dk_at dksX1_apart_1 12 rfl rfl)
theorem dX1_apart_37 : decode cX1_apart 37 = .ok (.invokevirtual 197, 3) := dk_182 0 197 (dk_at dksX1_apart_1 13 rfl rfl)
theorem dX1_apart_40 : decode cX1_apart 40 = .ok (.ireturn, 1) := dk_172 (dk_at dksX1_apart_1 16 rfl rfl)
abbrev cX1_poly : ByteArray := prog_1_method_22_code
def yX1_poly : MethodName := ⟨RX1, "poly", "(II)J"⟩
def dkwX1_poly_1 : List UInt8 := [163, 0, 7, 4, 167, 0, 4, 3, 184, 0, 106, 45, 184, 0, 201, 28, 47, 173]
abbrev dktX1_poly_1 : List UInt8 := dkwX1_poly_1 ++ []
def dkwX1_poly_0 : List UInt8 := [42, 27, 182, 0, 83, 78, 28, 3, 45, 180, 0, 73, 184, 0, 61, 184, 0, 69, 45, 180, 0, 73, 16, 12]
abbrev dktX1_poly_0 : List UInt8 := dkwX1_poly_0 ++ dktX1_poly_1
theorem dksX1_poly_0 : cX1_poly.data.toList.drop 0 = dktX1_poly_0 := by decide +kernel
theorem dksX1_poly_1 : cX1_poly.data.toList.drop 24 = dktX1_poly_1 := dk_seg dksX1_poly_0 24 rfl rfl
theorem dX1_poly_0 : decode cX1_poly 0 = .ok (.aload_n 0, 1) := dk_42 (dk_at dksX1_poly_0 0 rfl rfl)
theorem dX1_poly_1 : decode cX1_poly 1 = .ok (.iload_n 1, 1) := dk_27 (dk_at dksX1_poly_0 1 rfl rfl)
theorem dX1_poly_2 : decode cX1_poly 2 = .ok (.invokevirtual 83, 3) := dk_182 0 83 (dk_at dksX1_poly_0 2 rfl rfl)
theorem dX1_poly_5 : decode cX1_poly 5 = .ok (.astore_n 3, 1) := dk_78 (dk_at dksX1_poly_0 5 rfl rfl)
theorem dX1_poly_6 : decode cX1_poly 6 = .ok (.iload_n 2, 1) := dk_28 (dk_at dksX1_poly_0 6 rfl rfl)
theorem dX1_poly_7 : decode cX1_poly 7 = .ok (.iconst 0, 1) := dk_3 (dk_at dksX1_poly_0 7 rfl rfl)
theorem dX1_poly_8 : decode cX1_poly 8 = .ok (.aload_n 3, 1) := dk_45 (dk_at dksX1_poly_0 8 rfl rfl)
theorem dX1_poly_9 : decode cX1_poly 9 = .ok (.getfield 73, 3) := dk_180 0 73 (dk_at dksX1_poly_0 9 rfl rfl)
theorem dX1_poly_12 : decode cX1_poly 12 = .ok (.invokestatic 61, 3) := dk_184 0 61 (dk_at dksX1_poly_0 12 rfl rfl)
theorem dX1_poly_15 : decode cX1_poly 15 = .ok (.invokestatic 69, 3) := dk_184 0 69 (dk_at dksX1_poly_0 15 rfl rfl)
theorem dX1_poly_18 : decode cX1_poly 18 = .ok (.aload_n 3, 1) := dk_45 (dk_at dksX1_poly_0 18 rfl rfl)
theorem dX1_poly_19 : decode cX1_poly 19 = .ok (.getfield 73, 3) := dk_180 0 73 (dk_at dksX1_poly_0 19 rfl rfl)
theorem dX1_poly_22 : decode cX1_poly 22 = .ok (.bipush 12, 2) := dk_16 12 (dk_at dksX1_poly_0 22 rfl rfl)
theorem dX1_poly_24 : decode cX1_poly 24 = .ok (.if_icmp .gt 7, 3) := dk_163 0 7 (dk_at dksX1_poly_1 0 rfl rfl)
theorem dX1_poly_27 : decode cX1_poly 27 = .ok (.iconst 1, 1) := dk_4 (dk_at dksX1_poly_1 3 rfl rfl)
theorem dX1_poly_28 : decode cX1_poly 28 = .ok (.goto 4, 3) := dk_167 0 4 (dk_at dksX1_poly_1 4 rfl rfl)
theorem dX1_poly_31 : decode cX1_poly 31 = .ok (.iconst 0, 1) := dk_3 (dk_at dksX1_poly_1 7 rfl rfl)
theorem dX1_poly_32 : decode cX1_poly 32 = .ok (.invokestatic 106, 3) := dk_184 0 106 (dk_at dksX1_poly_1 8 rfl rfl)
theorem dX1_poly_35 : decode cX1_poly 35 = .ok (.aload_n 3, 1) := dk_45 (dk_at dksX1_poly_1 11 rfl rfl)
theorem dX1_poly_36 : decode cX1_poly 36 = .ok (.invokestatic 201, 3) := dk_184 0 201 (dk_at dksX1_poly_1 12 rfl rfl)
theorem dX1_poly_39 : decode cX1_poly 39 = .ok (.iload_n 2, 1) := dk_28 (dk_at dksX1_poly_1 15 rfl rfl)
theorem dX1_poly_40 : decode cX1_poly 40 = .ok (.laload, 1) := dk_47 (dk_at dksX1_poly_1 16 rfl rfl)
theorem dX1_poly_41 : decode cX1_poly 41 = .ok (.lreturn, 1) := dk_173 (dk_at dksX1_poly_1 17 rfl rfl)
abbrev cX1_above : ByteArray := prog_1_method_23_code
def yX1_above : MethodName := ⟨RX1, "above", "(II)I"⟩
def dkwX1_above_1 : List UInt8 := [153, 0, 7, 4, 167, 0, 4, 3, 184, 0, 106, 45, 28, 184, 0, 207, 172]
abbrev dktX1_above_1 : List UInt8 := dkwX1_above_1 ++ []
def dkwX1_above_0 : List UInt8 := [42, 27, 182, 0, 83, 78, 45, 180, 0, 73, 16, 12, 163, 0, 18, 28, 16, 244, 16, 12, 184, 0, 61]
abbrev dktX1_above_0 : List UInt8 := dkwX1_above_0 ++ dktX1_above_1
theorem dksX1_above_0 : cX1_above.data.toList.drop 0 = dktX1_above_0 := by decide +kernel
theorem dksX1_above_1 : cX1_above.data.toList.drop 23 = dktX1_above_1 := dk_seg dksX1_above_0 23 rfl rfl
theorem dX1_above_0 : decode cX1_above 0 = .ok (.aload_n 0, 1) := dk_42 (dk_at dksX1_above_0 0 rfl rfl)
theorem dX1_above_1 : decode cX1_above 1 = .ok (.iload_n 1, 1) := dk_27 (dk_at dksX1_above_0 1 rfl rfl)
theorem dX1_above_2 : decode cX1_above 2 = .ok (.invokevirtual 83, 3) := dk_182 0 83 (dk_at dksX1_above_0 2 rfl rfl)
theorem dX1_above_5 : decode cX1_above 5 = .ok (.astore_n 3, 1) := dk_78 (dk_at dksX1_above_0 5 rfl rfl)
theorem dX1_above_6 : decode cX1_above 6 = .ok (.aload_n 3, 1) := dk_45 (dk_at dksX1_above_0 6 rfl rfl)
theorem dX1_above_7 : decode cX1_above 7 = .ok (.getfield 73, 3) := dk_180 0 73 (dk_at dksX1_above_0 7 rfl rfl)
theorem dX1_above_10 : decode cX1_above 10 = .ok (.bipush 12, 2) := dk_16 12 (dk_at dksX1_above_0 10 rfl rfl)
theorem dX1_above_12 : decode cX1_above 12 = .ok (.if_icmp .gt 18, 3) := dk_163 0 18 (dk_at dksX1_above_0 12 rfl rfl)
theorem dX1_above_15 : decode cX1_above 15 = .ok (.iload_n 2, 1) := dk_28 (dk_at dksX1_above_0 15 rfl rfl)
theorem dX1_above_16 : decode cX1_above 16 = .ok (.bipush (-12), 2) := dk_16 244 (dk_at dksX1_above_0 16 rfl rfl)
theorem dX1_above_18 : decode cX1_above 18 = .ok (.bipush 12, 2) := dk_16 12 (dk_at dksX1_above_0 18 rfl rfl)
theorem dX1_above_20 : decode cX1_above 20 = .ok (.invokestatic 61, 3) := dk_184 0 61 (dk_at dksX1_above_0 20 rfl rfl)
theorem dX1_above_23 : decode cX1_above 23 = .ok (.ifCond .eq 7, 3) := dk_153 0 7 (dk_at dksX1_above_1 0 rfl rfl)
theorem dX1_above_26 : decode cX1_above 26 = .ok (.iconst 1, 1) := dk_4 (dk_at dksX1_above_1 3 rfl rfl)
theorem dX1_above_27 : decode cX1_above 27 = .ok (.goto 4, 3) := dk_167 0 4 (dk_at dksX1_above_1 4 rfl rfl)
theorem dX1_above_30 : decode cX1_above 30 = .ok (.iconst 0, 1) := dk_3 (dk_at dksX1_above_1 7 rfl rfl)
theorem dX1_above_31 : decode cX1_above 31 = .ok (.invokestatic 106, 3) := dk_184 0 106 (dk_at dksX1_above_1 8 rfl rfl)
theorem dX1_above_34 : decode cX1_above 34 = .ok (.aload_n 3, 1) := dk_45 (dk_at dksX1_above_1 11 rfl rfl)
theorem dX1_above_35 : decode cX1_above 35 = .ok (.iload_n 2, 1) := dk_28 (dk_at dksX1_above_1 12 rfl rfl)
theorem dX1_above_36 : decode cX1_above 36 = .ok (.invokestatic 207, 3) := dk_184 0 207 (dk_at dksX1_above_1 13 rfl rfl)
theorem dX1_above_39 : decode cX1_above 39 = .ok (.ireturn, 1) := dk_172 (dk_at dksX1_above_1 16 rfl rfl)
abbrev cX1_walks : ByteArray := prog_1_method_24_code
def yX1_walks : MethodName := ⟨RX1, "walks", "(II)J"⟩
def dkwX1_walks_0 : List UInt8 := [42, 27, 182, 0, 83, 78, 28, 3, 16, 10, 184, 0, 61, 184, 0, 106, 45, 28, 184, 0, 210, 173]
abbrev dktX1_walks_0 : List UInt8 := dkwX1_walks_0 ++ []
theorem dksX1_walks_0 : cX1_walks.data.toList.drop 0 = dktX1_walks_0 := by decide +kernel
theorem dX1_walks_0 : decode cX1_walks 0 = .ok (.aload_n 0, 1) := dk_42 (dk_at dksX1_walks_0 0 rfl rfl)
theorem dX1_walks_1 : decode cX1_walks 1 = .ok (.iload_n 1, 1) := dk_27 (dk_at dksX1_walks_0 1 rfl rfl)
theorem dX1_walks_2 : decode cX1_walks 2 = .ok (.invokevirtual 83, 3) := dk_182 0 83 (dk_at dksX1_walks_0 2 rfl rfl)
theorem dX1_walks_5 : decode cX1_walks 5 = .ok (.astore_n 3, 1) := dk_78 (dk_at dksX1_walks_0 5 rfl rfl)
theorem dX1_walks_6 : decode cX1_walks 6 = .ok (.iload_n 2, 1) := dk_28 (dk_at dksX1_walks_0 6 rfl rfl)
theorem dX1_walks_7 : decode cX1_walks 7 = .ok (.iconst 0, 1) := dk_3 (dk_at dksX1_walks_0 7 rfl rfl)
theorem dX1_walks_8 : decode cX1_walks 8 = .ok (.bipush 10, 2) := dk_16 10 (dk_at dksX1_walks_0 8 rfl rfl)
theorem dX1_walks_10 : decode cX1_walks 10 = .ok (.invokestatic 61, 3) := dk_184 0 61 (dk_at dksX1_walks_0 10 rfl rfl)
theorem dX1_walks_13 : decode cX1_walks 13 = .ok (.invokestatic 106, 3) := dk_184 0 106 (dk_at dksX1_walks_0 13 rfl rfl)
theorem dX1_walks_16 : decode cX1_walks 16 = .ok (.aload_n 3, 1) := dk_45 (dk_at dksX1_walks_0 16 rfl rfl)
theorem dX1_walks_17 : decode cX1_walks 17 = .ok (.iload_n 2, 1) := dk_28 (dk_at dksX1_walks_0 17 rfl rfl)
theorem dX1_walks_18 : decode cX1_walks 18 = .ok (.invokestatic 210, 3) := dk_184 0 210 (dk_at dksX1_walks_0 18 rfl rfl)
theorem dX1_walks_21 : decode cX1_walks 21 = .ok (.lreturn, 1) := dk_173 (dk_at dksX1_walks_0 21 rfl rfl)
abbrev cX1_change : ByteArray := prog_1_method_27_code
def yX1_change : MethodName := ⟨RX1, "change", "(IIIZ)Z"⟩
def dkwX1_change_2 : List UInt8 := [21, 4, 184, 0, 214, 172]
abbrev dktX1_change_2 : List UInt8 := dkwX1_change_2 ++ []
def dkwX1_change_1 : List UInt8 := [25, 6, 190, 162, 0, 7, 4, 167, 0, 4, 3, 184, 0, 69, 25, 5, 25, 6, 28, 46, 25, 6, 29, 46]
abbrev dktX1_change_1 : List UInt8 := dkwX1_change_1 ++ dktX1_change_2
def dkwX1_change_0 : List UInt8 := [42, 27, 182, 0, 83, 58, 5, 25, 5, 182, 0, 162, 58, 6, 28, 155, 0, 19, 28, 29, 162, 0, 14, 29]
abbrev dktX1_change_0 : List UInt8 := dkwX1_change_0 ++ dktX1_change_1
theorem dksX1_change_0 : cX1_change.data.toList.drop 0 = dktX1_change_0 := by decide +kernel
theorem dksX1_change_1 : cX1_change.data.toList.drop 24 = dktX1_change_1 := dk_seg dksX1_change_0 24 rfl rfl
theorem dksX1_change_2 : cX1_change.data.toList.drop 48 = dktX1_change_2 := dk_seg dksX1_change_1 24 rfl rfl
theorem dX1_change_0 : decode cX1_change 0 = .ok (.aload_n 0, 1) := dk_42 (dk_at dksX1_change_0 0 rfl rfl)
theorem dX1_change_1 : decode cX1_change 1 = .ok (.iload_n 1, 1) := dk_27 (dk_at dksX1_change_0 1 rfl rfl)
theorem dX1_change_2 : decode cX1_change 2 = .ok (.invokevirtual 83, 3) := dk_182 0 83 (dk_at dksX1_change_0 2 rfl rfl)
theorem dX1_change_5 : decode cX1_change 5 = .ok (.astore 5, 2) := dk_58 5 (dk_at dksX1_change_0 5 rfl rfl)
theorem dX1_change_7 : decode cX1_change 7 = .ok (.aload 5, 2) := dk_25 5 (dk_at dksX1_change_0 7 rfl rfl)
theorem dX1_change_9 : decode cX1_change 9 = .ok (.invokevirtual 162, 3) := dk_182 0 162 (dk_at dksX1_change_0 9 rfl rfl)
theorem dX1_change_12 : decode cX1_change 12 = .ok (.astore 6, 2) := dk_58 6 (dk_at dksX1_change_0 12 rfl rfl)
theorem dX1_change_14 : decode cX1_change 14 = .ok (.iload_n 2, 1) := dk_28 (dk_at dksX1_change_0 14 rfl rfl)
theorem dX1_change_15 : decode cX1_change 15 = .ok (.ifCond .lt 19, 3) := dk_155 0 19 (dk_at dksX1_change_0 15 rfl rfl)
theorem dX1_change_18 : decode cX1_change 18 = .ok (.iload_n 2, 1) := dk_28 (dk_at dksX1_change_0 18 rfl rfl)
theorem dX1_change_19 : decode cX1_change 19 = .ok (.iload_n 3, 1) := dk_29 (dk_at dksX1_change_0 19 rfl rfl)
theorem dX1_change_20 : decode cX1_change 20 = .ok (.if_icmp .ge 14, 3) := dk_162 0 14 (dk_at dksX1_change_0 20 rfl rfl)
theorem dX1_change_23 : decode cX1_change 23 = .ok (.iload_n 3, 1) := dk_29 (dk_at dksX1_change_0 23 rfl rfl)
theorem dX1_change_24 : decode cX1_change 24 = .ok (.aload 6, 2) := dk_25 6 (dk_at dksX1_change_1 0 rfl rfl)
theorem dX1_change_26 : decode cX1_change 26 = .ok (.arraylength, 1) := dk_190 (dk_at dksX1_change_1 2 rfl rfl)
theorem dX1_change_27 : decode cX1_change 27 = .ok (.if_icmp .ge 7, 3) := dk_162 0 7 (dk_at dksX1_change_1 3 rfl rfl)
theorem dX1_change_30 : decode cX1_change 30 = .ok (.iconst 1, 1) := dk_4 (dk_at dksX1_change_1 6 rfl rfl)
theorem dX1_change_31 : decode cX1_change 31 = .ok (.goto 4, 3) := dk_167 0 4 (dk_at dksX1_change_1 7 rfl rfl)
theorem dX1_change_34 : decode cX1_change 34 = .ok (.iconst 0, 1) := dk_3 (dk_at dksX1_change_1 10 rfl rfl)
theorem dX1_change_35 : decode cX1_change 35 = .ok (.invokestatic 69, 3) := dk_184 0 69 (dk_at dksX1_change_1 11 rfl rfl)
theorem dX1_change_38 : decode cX1_change 38 = .ok (.aload 5, 2) := dk_25 5 (dk_at dksX1_change_1 14 rfl rfl)
theorem dX1_change_40 : decode cX1_change 40 = .ok (.aload 6, 2) := dk_25 6 (dk_at dksX1_change_1 16 rfl rfl)
theorem dX1_change_42 : decode cX1_change 42 = .ok (.iload_n 2, 1) := dk_28 (dk_at dksX1_change_1 18 rfl rfl)
theorem dX1_change_43 : decode cX1_change 43 = .ok (.iaload, 1) := dk_46 (dk_at dksX1_change_1 19 rfl rfl)
theorem dX1_change_44 : decode cX1_change 44 = .ok (.aload 6, 2) := dk_25 6 (dk_at dksX1_change_1 20 rfl rfl)
theorem dX1_change_46 : decode cX1_change 46 = .ok (.iload_n 3, 1) := dk_29 (dk_at dksX1_change_1 22 rfl rfl)
theorem dX1_change_47 : decode cX1_change 47 = .ok (.iaload, 1) := dk_46 (dk_at dksX1_change_1 23 rfl rfl)
theorem dX1_change_48 : decode cX1_change 48 = .ok (.iload 4, 2) := dk_21 4 (dk_at dksX1_change_2 0 rfl rfl)
theorem dX1_change_50 : decode cX1_change 50 = .ok (.invokestatic 214, 3) := dk_184 0 214 (dk_at dksX1_change_2 2 rfl rfl)
theorem dX1_change_53 : decode cX1_change 53 = .ok (.ireturn, 1) := dk_172 (dk_at dksX1_change_2 5 rfl rfl)
abbrev cX1_changes : ByteArray := prog_1_method_25_code
def yX1_changes : MethodName := ⟨RX1, "changes", "(LWiredNets$Net;IIZ)Z"⟩
def dkwX1_changes_5 : List UInt8 := [42, 21, 5, 21, 7, 182, 0, 94, 4, 172]
abbrev dktX1_changes_5 : List UInt8 := dkwX1_changes_5 ++ []
def dkwX1_changes_4 : List UInt8 := [42, 21, 4, 21, 5, 182, 0, 100, 42, 21, 6, 21, 7, 182, 0, 100, 42, 21, 4, 21, 6, 182, 0, 94]
abbrev dktX1_changes_4 : List UInt8 := dkwX1_changes_4 ++ dktX1_changes_5
def dkwX1_changes_3 : List UInt8 := [42, 21, 4, 21, 6, 182, 0, 97, 154, 0, 14, 42, 21, 5, 21, 7, 182, 0, 97, 153, 0, 5, 3, 172]
abbrev dktX1_changes_3 : List UInt8 := dkwX1_changes_3 ++ dktX1_changes_4
def dkwX1_changes_2 : List UInt8 := [159, 0, 46, 21, 4, 21, 7, 159, 0, 39, 21, 5, 21, 6, 159, 0, 32, 21, 5, 21, 7, 159, 0, 25]
abbrev dktX1_changes_2 : List UInt8 := dkwX1_changes_2 ++ dktX1_changes_3
def dkwX1_changes_1 : List UInt8 := [122, 54, 6, 29, 153, 0, 9, 28, 8, 122, 167, 0, 7, 28, 16, 31, 126, 54, 7, 21, 4, 21, 6]
abbrev dktX1_changes_1 : List UInt8 := dkwX1_changes_1 ++ dktX1_changes_2
def dkwX1_changes_0 : List UInt8 := [27, 8, 122, 54, 4, 27, 16, 31, 126, 54, 5, 29, 153, 0, 10, 28, 16, 31, 126, 167, 0, 6, 28, 8]
abbrev dktX1_changes_0 : List UInt8 := dkwX1_changes_0 ++ dktX1_changes_1
theorem dksX1_changes_0 : cX1_changes.data.toList.drop 0 = dktX1_changes_0 := by decide +kernel
theorem dksX1_changes_1 : cX1_changes.data.toList.drop 24 = dktX1_changes_1 := dk_seg dksX1_changes_0 24 rfl rfl
theorem dksX1_changes_2 : cX1_changes.data.toList.drop 47 = dktX1_changes_2 := dk_seg dksX1_changes_1 23 rfl rfl
theorem dksX1_changes_3 : cX1_changes.data.toList.drop 71 = dktX1_changes_3 := dk_seg dksX1_changes_2 24 rfl rfl
theorem dksX1_changes_4 : cX1_changes.data.toList.drop 95 = dktX1_changes_4 := dk_seg dksX1_changes_3 24 rfl rfl
theorem dksX1_changes_5 : cX1_changes.data.toList.drop 119 = dktX1_changes_5 := dk_seg dksX1_changes_4 24 rfl rfl
theorem dX1_changes_0 : decode cX1_changes 0 = .ok (.iload_n 1, 1) := dk_27 (dk_at dksX1_changes_0 0 rfl rfl)
theorem dX1_changes_1 : decode cX1_changes 1 = .ok (.iconst 5, 1) := dk_8 (dk_at dksX1_changes_0 1 rfl rfl)
theorem dX1_changes_2 : decode cX1_changes 2 = .ok (.ishr, 1) := dk_122 (dk_at dksX1_changes_0 2 rfl rfl)
theorem dX1_changes_3 : decode cX1_changes 3 = .ok (.istore 4, 2) := dk_54 4 (dk_at dksX1_changes_0 3 rfl rfl)
theorem dX1_changes_5 : decode cX1_changes 5 = .ok (.iload_n 1, 1) := dk_27 (dk_at dksX1_changes_0 5 rfl rfl)
theorem dX1_changes_6 : decode cX1_changes 6 = .ok (.bipush 31, 2) := dk_16 31 (dk_at dksX1_changes_0 6 rfl rfl)
theorem dX1_changes_8 : decode cX1_changes 8 = .ok (.iand, 1) := dk_126 (dk_at dksX1_changes_0 8 rfl rfl)
theorem dX1_changes_9 : decode cX1_changes 9 = .ok (.istore 5, 2) := dk_54 5 (dk_at dksX1_changes_0 9 rfl rfl)
theorem dX1_changes_11 : decode cX1_changes 11 = .ok (.iload_n 3, 1) := dk_29 (dk_at dksX1_changes_0 11 rfl rfl)
theorem dX1_changes_12 : decode cX1_changes 12 = .ok (.ifCond .eq 10, 3) := dk_153 0 10 (dk_at dksX1_changes_0 12 rfl rfl)
theorem dX1_changes_15 : decode cX1_changes 15 = .ok (.iload_n 2, 1) := dk_28 (dk_at dksX1_changes_0 15 rfl rfl)
theorem dX1_changes_16 : decode cX1_changes 16 = .ok (.bipush 31, 2) := dk_16 31 (dk_at dksX1_changes_0 16 rfl rfl)
theorem dX1_changes_18 : decode cX1_changes 18 = .ok (.iand, 1) := dk_126 (dk_at dksX1_changes_0 18 rfl rfl)
theorem dX1_changes_19 : decode cX1_changes 19 = .ok (.goto 6, 3) := dk_167 0 6 (dk_at dksX1_changes_0 19 rfl rfl)
theorem dX1_changes_22 : decode cX1_changes 22 = .ok (.iload_n 2, 1) := dk_28 (dk_at dksX1_changes_0 22 rfl rfl)
theorem dX1_changes_23 : decode cX1_changes 23 = .ok (.iconst 5, 1) := dk_8 (dk_at dksX1_changes_0 23 rfl rfl)
theorem dX1_changes_24 : decode cX1_changes 24 = .ok (.ishr, 1) := dk_122 (dk_at dksX1_changes_1 0 rfl rfl)
theorem dX1_changes_25 : decode cX1_changes 25 = .ok (.istore 6, 2) := dk_54 6 (dk_at dksX1_changes_1 1 rfl rfl)
theorem dX1_changes_27 : decode cX1_changes 27 = .ok (.iload_n 3, 1) := dk_29 (dk_at dksX1_changes_1 3 rfl rfl)
theorem dX1_changes_28 : decode cX1_changes 28 = .ok (.ifCond .eq 9, 3) := dk_153 0 9 (dk_at dksX1_changes_1 4 rfl rfl)
theorem dX1_changes_31 : decode cX1_changes 31 = .ok (.iload_n 2, 1) := dk_28 (dk_at dksX1_changes_1 7 rfl rfl)
theorem dX1_changes_32 : decode cX1_changes 32 = .ok (.iconst 5, 1) := dk_8 (dk_at dksX1_changes_1 8 rfl rfl)
theorem dX1_changes_33 : decode cX1_changes 33 = .ok (.ishr, 1) := dk_122 (dk_at dksX1_changes_1 9 rfl rfl)
theorem dX1_changes_34 : decode cX1_changes 34 = .ok (.goto 7, 3) := dk_167 0 7 (dk_at dksX1_changes_1 10 rfl rfl)
theorem dX1_changes_37 : decode cX1_changes 37 = .ok (.iload_n 2, 1) := dk_28 (dk_at dksX1_changes_1 13 rfl rfl)
theorem dX1_changes_38 : decode cX1_changes 38 = .ok (.bipush 31, 2) := dk_16 31 (dk_at dksX1_changes_1 14 rfl rfl)
theorem dX1_changes_40 : decode cX1_changes 40 = .ok (.iand, 1) := dk_126 (dk_at dksX1_changes_1 16 rfl rfl)
theorem dX1_changes_41 : decode cX1_changes 41 = .ok (.istore 7, 2) := dk_54 7 (dk_at dksX1_changes_1 17 rfl rfl)
theorem dX1_changes_43 : decode cX1_changes 43 = .ok (.iload 4, 2) := dk_21 4 (dk_at dksX1_changes_1 19 rfl rfl)
theorem dX1_changes_45 : decode cX1_changes 45 = .ok (.iload 6, 2) := dk_21 6 (dk_at dksX1_changes_1 21 rfl rfl)
theorem dX1_changes_47 : decode cX1_changes 47 = .ok (.if_icmp .eq 46, 3) := dk_159 0 46 (dk_at dksX1_changes_2 0 rfl rfl)
theorem dX1_changes_50 : decode cX1_changes 50 = .ok (.iload 4, 2) := dk_21 4 (dk_at dksX1_changes_2 3 rfl rfl)
theorem dX1_changes_52 : decode cX1_changes 52 = .ok (.iload 7, 2) := dk_21 7 (dk_at dksX1_changes_2 5 rfl rfl)
theorem dX1_changes_54 : decode cX1_changes 54 = .ok (.if_icmp .eq 39, 3) := dk_159 0 39 (dk_at dksX1_changes_2 7 rfl rfl)
theorem dX1_changes_57 : decode cX1_changes 57 = .ok (.iload 5, 2) := dk_21 5 (dk_at dksX1_changes_2 10 rfl rfl)
theorem dX1_changes_59 : decode cX1_changes 59 = .ok (.iload 6, 2) := dk_21 6 (dk_at dksX1_changes_2 12 rfl rfl)
theorem dX1_changes_61 : decode cX1_changes 61 = .ok (.if_icmp .eq 32, 3) := dk_159 0 32 (dk_at dksX1_changes_2 14 rfl rfl)
theorem dX1_changes_64 : decode cX1_changes 64 = .ok (.iload 5, 2) := dk_21 5 (dk_at dksX1_changes_2 17 rfl rfl)
theorem dX1_changes_66 : decode cX1_changes 66 = .ok (.iload 7, 2) := dk_21 7 (dk_at dksX1_changes_2 19 rfl rfl)
theorem dX1_changes_68 : decode cX1_changes 68 = .ok (.if_icmp .eq 25, 3) := dk_159 0 25 (dk_at dksX1_changes_2 21 rfl rfl)
theorem dX1_changes_71 : decode cX1_changes 71 = .ok (.aload_n 0, 1) := dk_42 (dk_at dksX1_changes_3 0 rfl rfl)
theorem dX1_changes_72 : decode cX1_changes 72 = .ok (.iload 4, 2) := dk_21 4 (dk_at dksX1_changes_3 1 rfl rfl)
theorem dX1_changes_74 : decode cX1_changes 74 = .ok (.iload 6, 2) := dk_21 6 (dk_at dksX1_changes_3 3 rfl rfl)
theorem dX1_changes_76 : decode cX1_changes 76 = .ok (.invokevirtual 97, 3) := dk_182 0 97 (dk_at dksX1_changes_3 5 rfl rfl)
theorem dX1_changes_79 : decode cX1_changes 79 = .ok (.ifCond .ne 14, 3) := dk_154 0 14 (dk_at dksX1_changes_3 8 rfl rfl)
theorem dX1_changes_82 : decode cX1_changes 82 = .ok (.aload_n 0, 1) := dk_42 (dk_at dksX1_changes_3 11 rfl rfl)
theorem dX1_changes_83 : decode cX1_changes 83 = .ok (.iload 5, 2) := dk_21 5 (dk_at dksX1_changes_3 12 rfl rfl)
theorem dX1_changes_85 : decode cX1_changes 85 = .ok (.iload 7, 2) := dk_21 7 (dk_at dksX1_changes_3 14 rfl rfl)
theorem dX1_changes_87 : decode cX1_changes 87 = .ok (.invokevirtual 97, 3) := dk_182 0 97 (dk_at dksX1_changes_3 16 rfl rfl)
theorem dX1_changes_90 : decode cX1_changes 90 = .ok (.ifCond .eq 5, 3) := dk_153 0 5 (dk_at dksX1_changes_3 19 rfl rfl)
theorem dX1_changes_93 : decode cX1_changes 93 = .ok (.iconst 0, 1) := dk_3 (dk_at dksX1_changes_3 22 rfl rfl)
theorem dX1_changes_94 : decode cX1_changes 94 = .ok (.ireturn, 1) := dk_172 (dk_at dksX1_changes_3 23 rfl rfl)
theorem dX1_changes_95 : decode cX1_changes 95 = .ok (.aload_n 0, 1) := dk_42 (dk_at dksX1_changes_4 0 rfl rfl)
theorem dX1_changes_96 : decode cX1_changes 96 = .ok (.iload 4, 2) := dk_21 4 (dk_at dksX1_changes_4 1 rfl rfl)
theorem dX1_changes_98 : decode cX1_changes 98 = .ok (.iload 5, 2) := dk_21 5 (dk_at dksX1_changes_4 3 rfl rfl)
theorem dX1_changes_100 : decode cX1_changes 100 = .ok (.invokevirtual 100, 3) := dk_182 0 100 (dk_at dksX1_changes_4 5 rfl rfl)
theorem dX1_changes_103 : decode cX1_changes 103 = .ok (.aload_n 0, 1) := dk_42 (dk_at dksX1_changes_4 8 rfl rfl)
theorem dX1_changes_104 : decode cX1_changes 104 = .ok (.iload 6, 2) := dk_21 6 (dk_at dksX1_changes_4 9 rfl rfl)
theorem dX1_changes_106 : decode cX1_changes 106 = .ok (.iload 7, 2) := dk_21 7 (dk_at dksX1_changes_4 11 rfl rfl)
theorem dX1_changes_108 : decode cX1_changes 108 = .ok (.invokevirtual 100, 3) := dk_182 0 100 (dk_at dksX1_changes_4 13 rfl rfl)
theorem dX1_changes_111 : decode cX1_changes 111 = .ok (.aload_n 0, 1) := dk_42 (dk_at dksX1_changes_4 16 rfl rfl)
theorem dX1_changes_112 : decode cX1_changes 112 = .ok (.iload 4, 2) := dk_21 4 (dk_at dksX1_changes_4 17 rfl rfl)
theorem dX1_changes_114 : decode cX1_changes 114 = .ok (.iload 6, 2) := dk_21 6 (dk_at dksX1_changes_4 19 rfl rfl)
theorem dX1_changes_116 : decode cX1_changes 116 = .ok (.invokevirtual 94, 3) := dk_182 0 94 (dk_at dksX1_changes_4 21 rfl rfl)
theorem dX1_changes_119 : decode cX1_changes 119 = .ok (.aload_n 0, 1) := dk_42 (dk_at dksX1_changes_5 0 rfl rfl)
theorem dX1_changes_120 : decode cX1_changes 120 = .ok (.iload 5, 2) := dk_21 5 (dk_at dksX1_changes_5 1 rfl rfl)
theorem dX1_changes_122 : decode cX1_changes 122 = .ok (.iload 7, 2) := dk_21 7 (dk_at dksX1_changes_5 3 rfl rfl)
theorem dX1_changes_124 : decode cX1_changes 124 = .ok (.invokevirtual 94, 3) := dk_182 0 94 (dk_at dksX1_changes_5 5 rfl rfl)
theorem dX1_changes_127 : decode cX1_changes 127 = .ok (.iconst 1, 1) := dk_4 (dk_at dksX1_changes_5 8 rfl rfl)
theorem dX1_changes_128 : decode cX1_changes 128 = .ok (.ireturn, 1) := dk_172 (dk_at dksX1_changes_5 9 rfl rfl)
abbrev cX1_better : ByteArray := prog_1_method_29_code
def yX1_better : MethodName := ⟨RX1, "better", "(I)I"⟩
def dkwX1_better_1 : List UInt8 := [153, 0, 9, 132, 3, 1, 167, 255, 245, 29, 172]
abbrev dktX1_better_1 : List UInt8 := dkwX1_better_1 ++ []
def dkwX1_better_0 : List UInt8 := [42, 27, 182, 0, 83, 77, 44, 180, 0, 73, 16, 12, 164, 0, 5, 2, 172, 3, 62, 42, 44, 182, 0, 222]
abbrev dktX1_better_0 : List UInt8 := dkwX1_better_0 ++ dktX1_better_1
theorem dksX1_better_0 : cX1_better.data.toList.drop 0 = dktX1_better_0 := by decide +kernel
theorem dksX1_better_1 : cX1_better.data.toList.drop 24 = dktX1_better_1 := dk_seg dksX1_better_0 24 rfl rfl
theorem dX1_better_0 : decode cX1_better 0 = .ok (.aload_n 0, 1) := dk_42 (dk_at dksX1_better_0 0 rfl rfl)
theorem dX1_better_1 : decode cX1_better 1 = .ok (.iload_n 1, 1) := dk_27 (dk_at dksX1_better_0 1 rfl rfl)
theorem dX1_better_2 : decode cX1_better 2 = .ok (.invokevirtual 83, 3) := dk_182 0 83 (dk_at dksX1_better_0 2 rfl rfl)
theorem dX1_better_5 : decode cX1_better 5 = .ok (.astore_n 2, 1) := dk_77 (dk_at dksX1_better_0 5 rfl rfl)
theorem dX1_better_6 : decode cX1_better 6 = .ok (.aload_n 2, 1) := dk_44 (dk_at dksX1_better_0 6 rfl rfl)
theorem dX1_better_7 : decode cX1_better 7 = .ok (.getfield 73, 3) := dk_180 0 73 (dk_at dksX1_better_0 7 rfl rfl)
theorem dX1_better_10 : decode cX1_better 10 = .ok (.bipush 12, 2) := dk_16 12 (dk_at dksX1_better_0 10 rfl rfl)
theorem dX1_better_12 : decode cX1_better 12 = .ok (.if_icmp .le 5, 3) := dk_164 0 5 (dk_at dksX1_better_0 12 rfl rfl)
theorem dX1_better_15 : decode cX1_better 15 = .ok (.iconst (-1), 1) := dk_2 (dk_at dksX1_better_0 15 rfl rfl)
theorem dX1_better_16 : decode cX1_better 16 = .ok (.ireturn, 1) := dk_172 (dk_at dksX1_better_0 16 rfl rfl)
theorem dX1_better_17 : decode cX1_better 17 = .ok (.iconst 0, 1) := dk_3 (dk_at dksX1_better_0 17 rfl rfl)
theorem dX1_better_18 : decode cX1_better 18 = .ok (.istore_n 3, 1) := dk_62 (dk_at dksX1_better_0 18 rfl rfl)
theorem dX1_better_19 : decode cX1_better 19 = .ok (.aload_n 0, 1) := dk_42 (dk_at dksX1_better_0 19 rfl rfl)
theorem dX1_better_20 : decode cX1_better 20 = .ok (.aload_n 2, 1) := dk_44 (dk_at dksX1_better_0 20 rfl rfl)
theorem dX1_better_21 : decode cX1_better 21 = .ok (.invokevirtual 222, 3) := dk_182 0 222 (dk_at dksX1_better_0 21 rfl rfl)
theorem dX1_better_24 : decode cX1_better 24 = .ok (.ifCond .eq 9, 3) := dk_153 0 9 (dk_at dksX1_better_1 0 rfl rfl)
theorem dX1_better_27 : decode cX1_better 27 = .ok (.iinc 3 1, 3) := dk_132 3 1 (dk_at dksX1_better_1 3 rfl rfl)
theorem dX1_better_30 : decode cX1_better 30 = .ok (.goto (-11), 3) := dk_167 255 245 (dk_at dksX1_better_1 6 rfl rfl)
theorem dX1_better_33 : decode cX1_better 33 = .ok (.iload_n 3, 1) := dk_29 (dk_at dksX1_better_1 9 rfl rfl)
theorem dX1_better_34 : decode cX1_better 34 = .ok (.ireturn, 1) := dk_172 (dk_at dksX1_better_1 10 rfl rfl)
abbrev cX1_betters : ByteArray := prog_1_method_28_code
def yX1_betters : MethodName := ⟨RX1, "betters", "(LWiredNets$Net;)Z"⟩
def dkwX1_betters_8 : List UInt8 := [160, 0, 7, 4, 167, 0, 4, 3, 184, 0, 214, 153, 0, 7, 4, 167, 0, 4, 3, 172]
abbrev dktX1_betters_8 : List UInt8 := dkwX1_betters_8 ++ []
def dkwX1_betters_7 : List UInt8 := [43, 44, 21, 4, 17, 1, 0, 108, 46, 44, 21, 4, 5, 108, 17, 0, 128, 112, 46, 21, 4, 5, 112, 4]
abbrev dktX1_betters_7 : List UInt8 := dkwX1_betters_7 ++ dktX1_betters_8
def dkwX1_betters_6 : List UInt8 := [132, 7, 1, 167, 255, 157, 132, 6, 1, 167, 255, 141, 132, 5, 1, 167, 255, 122, 21, 4, 2, 159, 0, 45]
abbrev dktX1_betters_6 : List UInt8 := dkwX1_betters_6 ++ dktX1_betters_7
def dkwX1_betters_5 : List UInt8 := [167, 0, 22, 21, 8, 62, 17, 0, 128, 21, 5, 104, 21, 6, 96, 5, 104, 21, 7, 96, 54, 4]
abbrev dktX1_betters_5 : List UInt8 := dkwX1_betters_5 ++ dktX1_betters_6
def dkwX1_betters_4 : List UInt8 := [44, 21, 6, 46, 21, 7, 4, 160, 0, 7, 4, 167, 0, 4, 3, 184, 0, 218, 21, 8, 29, 161, 0, 6]
abbrev dktX1_betters_4 : List UInt8 := dkwX1_betters_4 ++ dktX1_betters_5
def dkwX1_betters_3 : List UInt8 := [184, 0, 214, 154, 0, 6, 167, 0, 64, 42, 180, 0, 28, 43, 182, 0, 194, 54, 8, 43, 44, 21, 5, 46]
abbrev dktX1_betters_3 : List UInt8 := dkwX1_betters_3 ++ dktX1_betters_4
def dkwX1_betters_2 : List UInt8 := [162, 0, 99, 43, 44, 21, 5, 46, 44, 21, 6, 46, 21, 7, 4, 160, 0, 7, 4, 167, 0, 4, 3]
abbrev dktX1_betters_2 : List UInt8 := dkwX1_betters_2 ++ dktX1_betters_3
def dkwX1_betters_1 : List UInt8 := [162, 0, 133, 21, 5, 4, 96, 54, 6, 21, 6, 44, 190, 162, 0, 114, 3, 54, 7, 21, 7, 5]
abbrev dktX1_betters_1 : List UInt8 := dkwX1_betters_1 ++ dktX1_betters_2
def dkwX1_betters_0 : List UInt8 := [43, 182, 0, 162, 77, 42, 180, 0, 28, 43, 182, 0, 194, 62, 2, 54, 4, 3, 54, 5, 21, 5, 44, 190]
abbrev dktX1_betters_0 : List UInt8 := dkwX1_betters_0 ++ dktX1_betters_1
theorem dksX1_betters_0 : cX1_betters.data.toList.drop 0 = dktX1_betters_0 := by decide +kernel
theorem dksX1_betters_1 : cX1_betters.data.toList.drop 24 = dktX1_betters_1 := dk_seg dksX1_betters_0 24 rfl rfl
theorem dksX1_betters_2 : cX1_betters.data.toList.drop 46 = dktX1_betters_2 := dk_seg dksX1_betters_1 22 rfl rfl
theorem dksX1_betters_3 : cX1_betters.data.toList.drop 69 = dktX1_betters_3 := dk_seg dksX1_betters_2 23 rfl rfl
theorem dksX1_betters_4 : cX1_betters.data.toList.drop 93 = dktX1_betters_4 := dk_seg dksX1_betters_3 24 rfl rfl
theorem dksX1_betters_5 : cX1_betters.data.toList.drop 117 = dktX1_betters_5 := dk_seg dksX1_betters_4 24 rfl rfl
theorem dksX1_betters_6 : cX1_betters.data.toList.drop 139 = dktX1_betters_6 := dk_seg dksX1_betters_5 22 rfl rfl
theorem dksX1_betters_7 : cX1_betters.data.toList.drop 163 = dktX1_betters_7 := dk_seg dksX1_betters_6 24 rfl rfl
theorem dksX1_betters_8 : cX1_betters.data.toList.drop 187 = dktX1_betters_8 := dk_seg dksX1_betters_7 24 rfl rfl
theorem dX1_betters_0 : decode cX1_betters 0 = .ok (.aload_n 1, 1) := dk_43 (dk_at dksX1_betters_0 0 rfl rfl)
theorem dX1_betters_1 : decode cX1_betters 1 = .ok (.invokevirtual 162, 3) := dk_182 0 162 (dk_at dksX1_betters_0 1 rfl rfl)
theorem dX1_betters_4 : decode cX1_betters 4 = .ok (.astore_n 2, 1) := dk_77 (dk_at dksX1_betters_0 4 rfl rfl)
theorem dX1_betters_5 : decode cX1_betters 5 = .ok (.aload_n 0, 1) := dk_42 (dk_at dksX1_betters_0 5 rfl rfl)
theorem dX1_betters_6 : decode cX1_betters 6 = .ok (.getfield 28, 3) := dk_180 0 28 (dk_at dksX1_betters_0 6 rfl rfl)
theorem dX1_betters_9 : decode cX1_betters 9 = .ok (.aload_n 1, 1) := dk_43 (dk_at dksX1_betters_0 9 rfl rfl)
theorem dX1_betters_10 : decode cX1_betters 10 = .ok (.invokevirtual 194, 3) := dk_182 0 194 (dk_at dksX1_betters_0 10 rfl rfl)
theorem dX1_betters_13 : decode cX1_betters 13 = .ok (.istore_n 3, 1) := dk_62 (dk_at dksX1_betters_0 13 rfl rfl)
theorem dX1_betters_14 : decode cX1_betters 14 = .ok (.iconst (-1), 1) := dk_2 (dk_at dksX1_betters_0 14 rfl rfl)
theorem dX1_betters_15 : decode cX1_betters 15 = .ok (.istore 4, 2) := dk_54 4 (dk_at dksX1_betters_0 15 rfl rfl)
theorem dX1_betters_17 : decode cX1_betters 17 = .ok (.iconst 0, 1) := dk_3 (dk_at dksX1_betters_0 17 rfl rfl)
theorem dX1_betters_18 : decode cX1_betters 18 = .ok (.istore 5, 2) := dk_54 5 (dk_at dksX1_betters_0 18 rfl rfl)
theorem dX1_betters_20 : decode cX1_betters 20 = .ok (.iload 5, 2) := dk_21 5 (dk_at dksX1_betters_0 20 rfl rfl)
theorem dX1_betters_22 : decode cX1_betters 22 = .ok (.aload_n 2, 1) := dk_44 (dk_at dksX1_betters_0 22 rfl rfl)
theorem dX1_betters_23 : decode cX1_betters 23 = .ok (.arraylength, 1) := dk_190 (dk_at dksX1_betters_0 23 rfl rfl)
theorem dX1_betters_24 : decode cX1_betters 24 = .ok (.if_icmp .ge 133, 3) := dk_162 0 133 (dk_at dksX1_betters_1 0 rfl rfl)
theorem dX1_betters_27 : decode cX1_betters 27 = .ok (.iload 5, 2) := dk_21 5 (dk_at dksX1_betters_1 3 rfl rfl)
theorem dX1_betters_29 : decode cX1_betters 29 = .ok (.iconst 1, 1) := dk_4 (dk_at dksX1_betters_1 5 rfl rfl)
theorem dX1_betters_30 : decode cX1_betters 30 = .ok (.iadd, 1) := dk_96 (dk_at dksX1_betters_1 6 rfl rfl)
theorem dX1_betters_31 : decode cX1_betters 31 = .ok (.istore 6, 2) := dk_54 6 (dk_at dksX1_betters_1 7 rfl rfl)
theorem dX1_betters_33 : decode cX1_betters 33 = .ok (.iload 6, 2) := dk_21 6 (dk_at dksX1_betters_1 9 rfl rfl)
theorem dX1_betters_35 : decode cX1_betters 35 = .ok (.aload_n 2, 1) := dk_44 (dk_at dksX1_betters_1 11 rfl rfl)
theorem dX1_betters_36 : decode cX1_betters 36 = .ok (.arraylength, 1) := dk_190 (dk_at dksX1_betters_1 12 rfl rfl)
theorem dX1_betters_37 : decode cX1_betters 37 = .ok (.if_icmp .ge 114, 3) := dk_162 0 114 (dk_at dksX1_betters_1 13 rfl rfl)
theorem dX1_betters_40 : decode cX1_betters 40 = .ok (.iconst 0, 1) := dk_3 (dk_at dksX1_betters_1 16 rfl rfl)
theorem dX1_betters_41 : decode cX1_betters 41 = .ok (.istore 7, 2) := dk_54 7 (dk_at dksX1_betters_1 17 rfl rfl)
theorem dX1_betters_43 : decode cX1_betters 43 = .ok (.iload 7, 2) := dk_21 7 (dk_at dksX1_betters_1 19 rfl rfl)
theorem dX1_betters_45 : decode cX1_betters 45 = .ok (.iconst 2, 1) := dk_5 (dk_at dksX1_betters_1 21 rfl rfl)
theorem dX1_betters_46 : decode cX1_betters 46 = .ok (.if_icmp .ge 99, 3) := dk_162 0 99 (dk_at dksX1_betters_2 0 rfl rfl)
theorem dX1_betters_49 : decode cX1_betters 49 = .ok (.aload_n 1, 1) := dk_43 (dk_at dksX1_betters_2 3 rfl rfl)
theorem dX1_betters_50 : decode cX1_betters 50 = .ok (.aload_n 2, 1) := dk_44 (dk_at dksX1_betters_2 4 rfl rfl)
theorem dX1_betters_51 : decode cX1_betters 51 = .ok (.iload 5, 2) := dk_21 5 (dk_at dksX1_betters_2 5 rfl rfl)
theorem dX1_betters_53 : decode cX1_betters 53 = .ok (.iaload, 1) := dk_46 (dk_at dksX1_betters_2 7 rfl rfl)
theorem dX1_betters_54 : decode cX1_betters 54 = .ok (.aload_n 2, 1) := dk_44 (dk_at dksX1_betters_2 8 rfl rfl)
theorem dX1_betters_55 : decode cX1_betters 55 = .ok (.iload 6, 2) := dk_21 6 (dk_at dksX1_betters_2 9 rfl rfl)
theorem dX1_betters_57 : decode cX1_betters 57 = .ok (.iaload, 1) := dk_46 (dk_at dksX1_betters_2 11 rfl rfl)
theorem dX1_betters_58 : decode cX1_betters 58 = .ok (.iload 7, 2) := dk_21 7 (dk_at dksX1_betters_2 12 rfl rfl)
theorem dX1_betters_60 : decode cX1_betters 60 = .ok (.iconst 1, 1) := dk_4 (dk_at dksX1_betters_2 14 rfl rfl)
theorem dX1_betters_61 : decode cX1_betters 61 = .ok (.if_icmp .ne 7, 3) := dk_160 0 7 (dk_at dksX1_betters_2 15 rfl rfl)
theorem dX1_betters_64 : decode cX1_betters 64 = .ok (.iconst 1, 1) := dk_4 (dk_at dksX1_betters_2 18 rfl rfl)
theorem dX1_betters_65 : decode cX1_betters 65 = .ok (.goto 4, 3) := dk_167 0 4 (dk_at dksX1_betters_2 19 rfl rfl)
theorem dX1_betters_68 : decode cX1_betters 68 = .ok (.iconst 0, 1) := dk_3 (dk_at dksX1_betters_2 22 rfl rfl)
theorem dX1_betters_69 : decode cX1_betters 69 = .ok (.invokestatic 214, 3) := dk_184 0 214 (dk_at dksX1_betters_3 0 rfl rfl)
theorem dX1_betters_72 : decode cX1_betters 72 = .ok (.ifCond .ne 6, 3) := dk_154 0 6 (dk_at dksX1_betters_3 3 rfl rfl)
theorem dX1_betters_75 : decode cX1_betters 75 = .ok (.goto 64, 3) := dk_167 0 64 (dk_at dksX1_betters_3 6 rfl rfl)
theorem dX1_betters_78 : decode cX1_betters 78 = .ok (.aload_n 0, 1) := dk_42 (dk_at dksX1_betters_3 9 rfl rfl)
theorem dX1_betters_79 : decode cX1_betters 79 = .ok (.getfield 28, 3) := dk_180 0 28 (dk_at dksX1_betters_3 10 rfl rfl)
theorem dX1_betters_82 : decode cX1_betters 82 = .ok (.aload_n 1, 1) := dk_43 (dk_at dksX1_betters_3 13 rfl rfl)
theorem dX1_betters_83 : decode cX1_betters 83 = .ok (.invokevirtual 194, 3) := dk_182 0 194 (dk_at dksX1_betters_3 14 rfl rfl)
theorem dX1_betters_86 : decode cX1_betters 86 = .ok (.istore 8, 2) := dk_54 8 (dk_at dksX1_betters_3 17 rfl rfl)
theorem dX1_betters_88 : decode cX1_betters 88 = .ok (.aload_n 1, 1) := dk_43 (dk_at dksX1_betters_3 19 rfl rfl)
theorem dX1_betters_89 : decode cX1_betters 89 = .ok (.aload_n 2, 1) := dk_44 (dk_at dksX1_betters_3 20 rfl rfl)
theorem dX1_betters_90 : decode cX1_betters 90 = .ok (.iload 5, 2) := dk_21 5 (dk_at dksX1_betters_3 21 rfl rfl)
theorem dX1_betters_92 : decode cX1_betters 92 = .ok (.iaload, 1) := dk_46 (dk_at dksX1_betters_3 23 rfl rfl)
theorem dX1_betters_93 : decode cX1_betters 93 = .ok (.aload_n 2, 1) := dk_44 (dk_at dksX1_betters_4 0 rfl rfl)
theorem dX1_betters_94 : decode cX1_betters 94 = .ok (.iload 6, 2) := dk_21 6 (dk_at dksX1_betters_4 1 rfl rfl)
theorem dX1_betters_96 : decode cX1_betters 96 = .ok (.iaload, 1) := dk_46 (dk_at dksX1_betters_4 3 rfl rfl)
theorem dX1_betters_97 : decode cX1_betters 97 = .ok (.iload 7, 2) := dk_21 7 (dk_at dksX1_betters_4 4 rfl rfl)
theorem dX1_betters_99 : decode cX1_betters 99 = .ok (.iconst 1, 1) := dk_4 (dk_at dksX1_betters_4 6 rfl rfl)
theorem dX1_betters_100 : decode cX1_betters 100 = .ok (.if_icmp .ne 7, 3) := dk_160 0 7 (dk_at dksX1_betters_4 7 rfl rfl)
theorem dX1_betters_103 : decode cX1_betters 103 = .ok (.iconst 1, 1) := dk_4 (dk_at dksX1_betters_4 10 rfl rfl)
theorem dX1_betters_104 : decode cX1_betters 104 = .ok (.goto 4, 3) := dk_167 0 4 (dk_at dksX1_betters_4 11 rfl rfl)
theorem dX1_betters_107 : decode cX1_betters 107 = .ok (.iconst 0, 1) := dk_3 (dk_at dksX1_betters_4 14 rfl rfl)
theorem dX1_betters_108 : decode cX1_betters 108 = .ok (.invokestatic 218, 3) := dk_184 0 218 (dk_at dksX1_betters_4 15 rfl rfl)
theorem dX1_betters_111 : decode cX1_betters 111 = .ok (.iload 8, 2) := dk_21 8 (dk_at dksX1_betters_4 18 rfl rfl)
theorem dX1_betters_113 : decode cX1_betters 113 = .ok (.iload_n 3, 1) := dk_29 (dk_at dksX1_betters_4 20 rfl rfl)
theorem dX1_betters_114 : decode cX1_betters 114 = .ok (.if_icmp .lt 6, 3) := dk_161 0 6 (dk_at dksX1_betters_4 21 rfl rfl)
theorem dX1_betters_117 : decode cX1_betters 117 = .ok (.goto 22, 3) := dk_167 0 22 (dk_at dksX1_betters_5 0 rfl rfl)
theorem dX1_betters_120 : decode cX1_betters 120 = .ok (.iload 8, 2) := dk_21 8 (dk_at dksX1_betters_5 3 rfl rfl)
theorem dX1_betters_122 : decode cX1_betters 122 = .ok (.istore_n 3, 1) := dk_62 (dk_at dksX1_betters_5 5 rfl rfl)
theorem dX1_betters_123 : decode cX1_betters 123 = .ok (.sipush 128, 3) := dk_17 0 128 (dk_at dksX1_betters_5 6 rfl rfl)
theorem dX1_betters_126 : decode cX1_betters 126 = .ok (.iload 5, 2) := dk_21 5 (dk_at dksX1_betters_5 9 rfl rfl)
theorem dX1_betters_128 : decode cX1_betters 128 = .ok (.imul, 1) := dk_104 (dk_at dksX1_betters_5 11 rfl rfl)
theorem dX1_betters_129 : decode cX1_betters 129 = .ok (.iload 6, 2) := dk_21 6 (dk_at dksX1_betters_5 12 rfl rfl)
theorem dX1_betters_131 : decode cX1_betters 131 = .ok (.iadd, 1) := dk_96 (dk_at dksX1_betters_5 14 rfl rfl)
theorem dX1_betters_132 : decode cX1_betters 132 = .ok (.iconst 2, 1) := dk_5 (dk_at dksX1_betters_5 15 rfl rfl)
theorem dX1_betters_133 : decode cX1_betters 133 = .ok (.imul, 1) := dk_104 (dk_at dksX1_betters_5 16 rfl rfl)
theorem dX1_betters_134 : decode cX1_betters 134 = .ok (.iload 7, 2) := dk_21 7 (dk_at dksX1_betters_5 17 rfl rfl)
theorem dX1_betters_136 : decode cX1_betters 136 = .ok (.iadd, 1) := dk_96 (dk_at dksX1_betters_5 19 rfl rfl)
theorem dX1_betters_137 : decode cX1_betters 137 = .ok (.istore 4, 2) := dk_54 4 (dk_at dksX1_betters_5 20 rfl rfl)
theorem dX1_betters_139 : decode cX1_betters 139 = .ok (.iinc 7 1, 3) := dk_132 7 1 (dk_at dksX1_betters_6 0 rfl rfl)
theorem dX1_betters_142 : decode cX1_betters 142 = .ok (.goto (-99), 3) := dk_167 255 157 (dk_at dksX1_betters_6 3 rfl rfl)
theorem dX1_betters_145 : decode cX1_betters 145 = .ok (.iinc 6 1, 3) := dk_132 6 1 (dk_at dksX1_betters_6 6 rfl rfl)
theorem dX1_betters_148 : decode cX1_betters 148 = .ok (.goto (-115), 3) := dk_167 255 141 (dk_at dksX1_betters_6 9 rfl rfl)
theorem dX1_betters_151 : decode cX1_betters 151 = .ok (.iinc 5 1, 3) := dk_132 5 1 (dk_at dksX1_betters_6 12 rfl rfl)
theorem dX1_betters_154 : decode cX1_betters 154 = .ok (.goto (-134), 3) := dk_167 255 122 (dk_at dksX1_betters_6 15 rfl rfl)
theorem dX1_betters_157 : decode cX1_betters 157 = .ok (.iload 4, 2) := dk_21 4 (dk_at dksX1_betters_6 18 rfl rfl)
theorem dX1_betters_159 : decode cX1_betters 159 = .ok (.iconst (-1), 1) := dk_2 (dk_at dksX1_betters_6 20 rfl rfl)
theorem dX1_betters_160 : decode cX1_betters 160 = .ok (.if_icmp .eq 45, 3) := dk_159 0 45 (dk_at dksX1_betters_6 21 rfl rfl)
theorem dX1_betters_163 : decode cX1_betters 163 = .ok (.aload_n 1, 1) := dk_43 (dk_at dksX1_betters_7 0 rfl rfl)
theorem dX1_betters_164 : decode cX1_betters 164 = .ok (.aload_n 2, 1) := dk_44 (dk_at dksX1_betters_7 1 rfl rfl)
theorem dX1_betters_165 : decode cX1_betters 165 = .ok (.iload 4, 2) := dk_21 4 (dk_at dksX1_betters_7 2 rfl rfl)
theorem dX1_betters_167 : decode cX1_betters 167 = .ok (.sipush 256, 3) := dk_17 1 0 (dk_at dksX1_betters_7 4 rfl rfl)
theorem dX1_betters_170 : decode cX1_betters 170 = .ok (.idiv, 1) := dk_108 (dk_at dksX1_betters_7 7 rfl rfl)
theorem dX1_betters_171 : decode cX1_betters 171 = .ok (.iaload, 1) := dk_46 (dk_at dksX1_betters_7 8 rfl rfl)
theorem dX1_betters_172 : decode cX1_betters 172 = .ok (.aload_n 2, 1) := dk_44 (dk_at dksX1_betters_7 9 rfl rfl)
theorem dX1_betters_173 : decode cX1_betters 173 = .ok (.iload 4, 2) := dk_21 4 (dk_at dksX1_betters_7 10 rfl rfl)
theorem dX1_betters_175 : decode cX1_betters 175 = .ok (.iconst 2, 1) := dk_5 (dk_at dksX1_betters_7 12 rfl rfl)
theorem dX1_betters_176 : decode cX1_betters 176 = .ok (.idiv, 1) := dk_108 (dk_at dksX1_betters_7 13 rfl rfl)
theorem dX1_betters_177 : decode cX1_betters 177 = .ok (.sipush 128, 3) := dk_17 0 128 (dk_at dksX1_betters_7 14 rfl rfl)
theorem dX1_betters_180 : decode cX1_betters 180 = .ok (.irem, 1) := dk_112 (dk_at dksX1_betters_7 17 rfl rfl)
theorem dX1_betters_181 : decode cX1_betters 181 = .ok (.iaload, 1) := dk_46 (dk_at dksX1_betters_7 18 rfl rfl)
theorem dX1_betters_182 : decode cX1_betters 182 = .ok (.iload 4, 2) := dk_21 4 (dk_at dksX1_betters_7 19 rfl rfl)
theorem dX1_betters_184 : decode cX1_betters 184 = .ok (.iconst 2, 1) := dk_5 (dk_at dksX1_betters_7 21 rfl rfl)
theorem dX1_betters_185 : decode cX1_betters 185 = .ok (.irem, 1) := dk_112 (dk_at dksX1_betters_7 22 rfl rfl)
theorem dX1_betters_186 : decode cX1_betters 186 = .ok (.iconst 1, 1) := dk_4 (dk_at dksX1_betters_7 23 rfl rfl)
theorem dX1_betters_187 : decode cX1_betters 187 = .ok (.if_icmp .ne 7, 3) := dk_160 0 7 (dk_at dksX1_betters_8 0 rfl rfl)
theorem dX1_betters_190 : decode cX1_betters 190 = .ok (.iconst 1, 1) := dk_4 (dk_at dksX1_betters_8 3 rfl rfl)
theorem dX1_betters_191 : decode cX1_betters 191 = .ok (.goto 4, 3) := dk_167 0 4 (dk_at dksX1_betters_8 4 rfl rfl)
theorem dX1_betters_194 : decode cX1_betters 194 = .ok (.iconst 0, 1) := dk_3 (dk_at dksX1_betters_8 7 rfl rfl)
theorem dX1_betters_195 : decode cX1_betters 195 = .ok (.invokestatic 214, 3) := dk_184 0 214 (dk_at dksX1_betters_8 8 rfl rfl)
theorem dX1_betters_198 : decode cX1_betters 198 = .ok (.ifCond .eq 7, 3) := dk_153 0 7 (dk_at dksX1_betters_8 11 rfl rfl)
theorem dX1_betters_201 : decode cX1_betters 201 = .ok (.iconst 1, 1) := dk_4 (dk_at dksX1_betters_8 14 rfl rfl)
theorem dX1_betters_202 : decode cX1_betters 202 = .ok (.goto 4, 3) := dk_167 0 4 (dk_at dksX1_betters_8 15 rfl rfl)
theorem dX1_betters_205 : decode cX1_betters 205 = .ok (.iconst 0, 1) := dk_3 (dk_at dksX1_betters_8 18 rfl rfl)
theorem dX1_betters_206 : decode cX1_betters 206 = .ok (.ireturn, 1) := dk_172 (dk_at dksX1_betters_8 19 rfl rfl)
abbrev cX1_takeBack : ByteArray := prog_1_method_26_code
def yX1_takeBack : MethodName := ⟨RX1, "takeBack", "(LWiredNets$Net;IIZ)V"⟩
def dkwX1_takeBack_3 : List UInt8 := [177]
abbrev dktX1_takeBack_3 : List UInt8 := dkwX1_takeBack_3 ++ []
def dkwX1_takeBack_2 : List UInt8 := [21, 5, 182, 0, 100, 42, 27, 8, 122, 27, 16, 31, 126, 182, 0, 94, 42, 21, 4, 21, 5, 182, 0, 94]
abbrev dktX1_takeBack_2 : List UInt8 := dkwX1_takeBack_2 ++ dktX1_takeBack_3
def dkwX1_takeBack_1 : List UInt8 := [167, 0, 7, 28, 16, 31, 126, 54, 5, 42, 27, 8, 122, 21, 4, 182, 0, 100, 42, 27, 16, 31, 126]
abbrev dktX1_takeBack_1 : List UInt8 := dkwX1_takeBack_1 ++ dktX1_takeBack_2
def dkwX1_takeBack_0 : List UInt8 := [29, 153, 0, 10, 28, 16, 31, 126, 167, 0, 6, 28, 8, 122, 54, 4, 29, 153, 0, 9, 28, 8, 122]
abbrev dktX1_takeBack_0 : List UInt8 := dkwX1_takeBack_0 ++ dktX1_takeBack_1
theorem dksX1_takeBack_0 : cX1_takeBack.data.toList.drop 0 = dktX1_takeBack_0 := by decide +kernel
theorem dksX1_takeBack_1 : cX1_takeBack.data.toList.drop 23 = dktX1_takeBack_1 := dk_seg dksX1_takeBack_0 23 rfl rfl
theorem dksX1_takeBack_2 : cX1_takeBack.data.toList.drop 46 = dktX1_takeBack_2 := dk_seg dksX1_takeBack_1 23 rfl rfl
theorem dksX1_takeBack_3 : cX1_takeBack.data.toList.drop 70 = dktX1_takeBack_3 := dk_seg dksX1_takeBack_2 24 rfl rfl
theorem dX1_takeBack_0 : decode cX1_takeBack 0 = .ok (.iload_n 3, 1) := dk_29 (dk_at dksX1_takeBack_0 0 rfl rfl)
theorem dX1_takeBack_1 : decode cX1_takeBack 1 = .ok (.ifCond .eq 10, 3) := dk_153 0 10 (dk_at dksX1_takeBack_0 1 rfl rfl)
theorem dX1_takeBack_4 : decode cX1_takeBack 4 = .ok (.iload_n 2, 1) := dk_28 (dk_at dksX1_takeBack_0 4 rfl rfl)
theorem dX1_takeBack_5 : decode cX1_takeBack 5 = .ok (.bipush 31, 2) := dk_16 31 (dk_at dksX1_takeBack_0 5 rfl rfl)
theorem dX1_takeBack_7 : decode cX1_takeBack 7 = .ok (.iand, 1) := dk_126 (dk_at dksX1_takeBack_0 7 rfl rfl)
theorem dX1_takeBack_8 : decode cX1_takeBack 8 = .ok (.goto 6, 3) := dk_167 0 6 (dk_at dksX1_takeBack_0 8 rfl rfl)
theorem dX1_takeBack_11 : decode cX1_takeBack 11 = .ok (.iload_n 2, 1) := dk_28 (dk_at dksX1_takeBack_0 11 rfl rfl)
theorem dX1_takeBack_12 : decode cX1_takeBack 12 = .ok (.iconst 5, 1) := dk_8 (dk_at dksX1_takeBack_0 12 rfl rfl)
theorem dX1_takeBack_13 : decode cX1_takeBack 13 = .ok (.ishr, 1) := dk_122 (dk_at dksX1_takeBack_0 13 rfl rfl)
theorem dX1_takeBack_14 : decode cX1_takeBack 14 = .ok (.istore 4, 2) := dk_54 4 (dk_at dksX1_takeBack_0 14 rfl rfl)
theorem dX1_takeBack_16 : decode cX1_takeBack 16 = .ok (.iload_n 3, 1) := dk_29 (dk_at dksX1_takeBack_0 16 rfl rfl)
theorem dX1_takeBack_17 : decode cX1_takeBack 17 = .ok (.ifCond .eq 9, 3) := dk_153 0 9 (dk_at dksX1_takeBack_0 17 rfl rfl)
theorem dX1_takeBack_20 : decode cX1_takeBack 20 = .ok (.iload_n 2, 1) := dk_28 (dk_at dksX1_takeBack_0 20 rfl rfl)
theorem dX1_takeBack_21 : decode cX1_takeBack 21 = .ok (.iconst 5, 1) := dk_8 (dk_at dksX1_takeBack_0 21 rfl rfl)
theorem dX1_takeBack_22 : decode cX1_takeBack 22 = .ok (.ishr, 1) := dk_122 (dk_at dksX1_takeBack_0 22 rfl rfl)
theorem dX1_takeBack_23 : decode cX1_takeBack 23 = .ok (.goto 7, 3) := dk_167 0 7 (dk_at dksX1_takeBack_1 0 rfl rfl)
theorem dX1_takeBack_26 : decode cX1_takeBack 26 = .ok (.iload_n 2, 1) := dk_28 (dk_at dksX1_takeBack_1 3 rfl rfl)
theorem dX1_takeBack_27 : decode cX1_takeBack 27 = .ok (.bipush 31, 2) := dk_16 31 (dk_at dksX1_takeBack_1 4 rfl rfl)
theorem dX1_takeBack_29 : decode cX1_takeBack 29 = .ok (.iand, 1) := dk_126 (dk_at dksX1_takeBack_1 6 rfl rfl)
theorem dX1_takeBack_30 : decode cX1_takeBack 30 = .ok (.istore 5, 2) := dk_54 5 (dk_at dksX1_takeBack_1 7 rfl rfl)
theorem dX1_takeBack_32 : decode cX1_takeBack 32 = .ok (.aload_n 0, 1) := dk_42 (dk_at dksX1_takeBack_1 9 rfl rfl)
theorem dX1_takeBack_33 : decode cX1_takeBack 33 = .ok (.iload_n 1, 1) := dk_27 (dk_at dksX1_takeBack_1 10 rfl rfl)
theorem dX1_takeBack_34 : decode cX1_takeBack 34 = .ok (.iconst 5, 1) := dk_8 (dk_at dksX1_takeBack_1 11 rfl rfl)
theorem dX1_takeBack_35 : decode cX1_takeBack 35 = .ok (.ishr, 1) := dk_122 (dk_at dksX1_takeBack_1 12 rfl rfl)
theorem dX1_takeBack_36 : decode cX1_takeBack 36 = .ok (.iload 4, 2) := dk_21 4 (dk_at dksX1_takeBack_1 13 rfl rfl)
theorem dX1_takeBack_38 : decode cX1_takeBack 38 = .ok (.invokevirtual 100, 3) := dk_182 0 100 (dk_at dksX1_takeBack_1 15 rfl rfl)
theorem dX1_takeBack_41 : decode cX1_takeBack 41 = .ok (.aload_n 0, 1) := dk_42 (dk_at dksX1_takeBack_1 18 rfl rfl)
theorem dX1_takeBack_42 : decode cX1_takeBack 42 = .ok (.iload_n 1, 1) := dk_27 (dk_at dksX1_takeBack_1 19 rfl rfl)
theorem dX1_takeBack_43 : decode cX1_takeBack 43 = .ok (.bipush 31, 2) := dk_16 31 (dk_at dksX1_takeBack_1 20 rfl rfl)
theorem dX1_takeBack_45 : decode cX1_takeBack 45 = .ok (.iand, 1) := dk_126 (dk_at dksX1_takeBack_1 22 rfl rfl)
theorem dX1_takeBack_46 : decode cX1_takeBack 46 = .ok (.iload 5, 2) := dk_21 5 (dk_at dksX1_takeBack_2 0 rfl rfl)
theorem dX1_takeBack_48 : decode cX1_takeBack 48 = .ok (.invokevirtual 100, 3) := dk_182 0 100 (dk_at dksX1_takeBack_2 2 rfl rfl)
theorem dX1_takeBack_51 : decode cX1_takeBack 51 = .ok (.aload_n 0, 1) := dk_42 (dk_at dksX1_takeBack_2 5 rfl rfl)
theorem dX1_takeBack_52 : decode cX1_takeBack 52 = .ok (.iload_n 1, 1) := dk_27 (dk_at dksX1_takeBack_2 6 rfl rfl)
theorem dX1_takeBack_53 : decode cX1_takeBack 53 = .ok (.iconst 5, 1) := dk_8 (dk_at dksX1_takeBack_2 7 rfl rfl)
theorem dX1_takeBack_54 : decode cX1_takeBack 54 = .ok (.ishr, 1) := dk_122 (dk_at dksX1_takeBack_2 8 rfl rfl)
theorem dX1_takeBack_55 : decode cX1_takeBack 55 = .ok (.iload_n 1, 1) := dk_27 (dk_at dksX1_takeBack_2 9 rfl rfl)
theorem dX1_takeBack_56 : decode cX1_takeBack 56 = .ok (.bipush 31, 2) := dk_16 31 (dk_at dksX1_takeBack_2 10 rfl rfl)
theorem dX1_takeBack_58 : decode cX1_takeBack 58 = .ok (.iand, 1) := dk_126 (dk_at dksX1_takeBack_2 12 rfl rfl)
theorem dX1_takeBack_59 : decode cX1_takeBack 59 = .ok (.invokevirtual 94, 3) := dk_182 0 94 (dk_at dksX1_takeBack_2 13 rfl rfl)
theorem dX1_takeBack_62 : decode cX1_takeBack 62 = .ok (.aload_n 0, 1) := dk_42 (dk_at dksX1_takeBack_2 16 rfl rfl)
theorem dX1_takeBack_63 : decode cX1_takeBack 63 = .ok (.iload 4, 2) := dk_21 4 (dk_at dksX1_takeBack_2 17 rfl rfl)
theorem dX1_takeBack_65 : decode cX1_takeBack 65 = .ok (.iload 5, 2) := dk_21 5 (dk_at dksX1_takeBack_2 19 rfl rfl)
theorem dX1_takeBack_67 : decode cX1_takeBack 67 = .ok (.invokevirtual 94, 3) := dk_182 0 94 (dk_at dksX1_takeBack_2 21 rfl rfl)
theorem dX1_takeBack_70 : decode cX1_takeBack 70 = .ok (.return_, 1) := dk_177 (dk_at dksX1_takeBack_3 0 rfl rfl)
abbrev cX1_cool : ByteArray := prog_1_method_30_code
def yX1_cool : MethodName := ⟨RX1, "cool", "(IIII)I"⟩
def dkwX1_cool_12 : List UInt8 := [167, 255, 54, 21, 9, 172]
abbrev dktX1_cool_12 : List UInt8 := dkwX1_cool_12 ++ []
def dkwX1_cool_11 : List UInt8 := [25, 10, 21, 14, 46, 25, 11, 5, 46, 4, 160, 0, 7, 4, 167, 0, 4, 3, 184, 0, 218, 132, 12, 1]
abbrev dktX1_cool_11 : List UInt8 := dkwX1_cool_11 ++ dktX1_cool_12
def dkwX1_cool_10 : List UInt8 := [21, 15, 54, 8, 132, 9, 1, 25, 5, 25, 10, 182, 0, 226, 167, 0, 31, 25, 5, 25, 10, 21, 13, 46]
abbrev dktX1_cool_10 : List UInt8 := dkwX1_cool_10 ++ dktX1_cool_11
def dkwX1_cool_9 : List UInt8 := [25, 5, 182, 0, 194, 54, 15, 21, 15, 21, 8, 3, 21, 4, 21, 12, 100, 184, 0, 159, 96, 163, 0, 20]
abbrev dktX1_cool_9 : List UInt8 := dkwX1_cool_9 ++ dktX1_cool_10
def dkwX1_cool_8 : List UInt8 := [46, 4, 160, 0, 7, 4, 167, 0, 4, 3, 184, 0, 214, 154, 0, 6, 167, 0, 76, 42, 180, 0, 28]
abbrev dktX1_cool_8 : List UInt8 := dkwX1_cool_8 ++ dktX1_cool_9
def dkwX1_cool_7 : List UInt8 := [54, 14, 21, 13, 21, 14, 159, 0, 110, 25, 5, 25, 10, 21, 13, 46, 25, 10, 21, 14, 46, 25, 11, 5]
abbrev dktX1_cool_7 : List UInt8 := dkwX1_cool_7 ++ dktX1_cool_8
def dkwX1_cool_6 : List UInt8 := [25, 11, 3, 46, 25, 11, 4, 46, 184, 0, 153, 54, 13, 25, 11, 3, 46, 25, 11, 4, 46, 184, 0, 159]
abbrev dktX1_cool_6 : List UInt8 := dkwX1_cool_6 ++ dktX1_cool_7
def dkwX1_cool_5 : List UInt8 := [17, 127, 255, 126, 21, 13, 5, 162, 0, 8, 21, 6, 167, 0, 4, 5, 112, 79, 132, 13, 1, 167, 255, 209]
abbrev dktX1_cool_5 : List UInt8 := dkwX1_cool_5 ++ dktX1_cool_6
def dkwX1_cool_4 : List UInt8 := [6, 162, 0, 47, 21, 7, 18, 225, 104, 17, 48, 57, 96, 54, 7, 25, 11, 21, 13, 21, 7, 16, 16, 122]
abbrev dktX1_cool_4 : List UInt8 := dkwX1_cool_4 ++ dktX1_cool_5
def dkwX1_cool_3 : List UInt8 := [182, 0, 162, 58, 10, 6, 188, 10, 58, 11, 3, 54, 12, 21, 12, 29, 162, 0, 202, 3, 54, 13, 21, 13]
abbrev dktX1_cool_3 : List UInt8 := dkwX1_cool_3 ++ dktX1_cool_4
def dkwX1_cool_2 : List UInt8 := [154, 0, 5, 3, 172, 28, 54, 7, 42, 180, 0, 28, 25, 5, 182, 0, 194, 54, 8, 3, 54, 9, 25, 5]
abbrev dktX1_cool_2 : List UInt8 := dkwX1_cool_2 ++ dktX1_cool_3
def dkwX1_cool_1 : List UInt8 := [184, 0, 61, 153, 0, 7, 4, 167, 0, 4, 3, 184, 0, 106, 25, 5, 182, 0, 145, 54, 6, 21, 6]
abbrev dktX1_cool_1 : List UInt8 := dkwX1_cool_1 ++ dktX1_cool_2
def dkwX1_cool_0 : List UInt8 := [42, 27, 182, 0, 83, 58, 5, 29, 3, 17, 1, 244, 184, 0, 61, 153, 0, 19, 21, 4, 3, 17, 39, 16]
abbrev dktX1_cool_0 : List UInt8 := dkwX1_cool_0 ++ dktX1_cool_1
theorem dksX1_cool_0 : cX1_cool.data.toList.drop 0 = dktX1_cool_0 := by decide +kernel
theorem dksX1_cool_1 : cX1_cool.data.toList.drop 24 = dktX1_cool_1 := dk_seg dksX1_cool_0 24 rfl rfl
theorem dksX1_cool_2 : cX1_cool.data.toList.drop 47 = dktX1_cool_2 := dk_seg dksX1_cool_1 23 rfl rfl
theorem dksX1_cool_3 : cX1_cool.data.toList.drop 71 = dktX1_cool_3 := dk_seg dksX1_cool_2 24 rfl rfl
theorem dksX1_cool_4 : cX1_cool.data.toList.drop 95 = dktX1_cool_4 := dk_seg dksX1_cool_3 24 rfl rfl
theorem dksX1_cool_5 : cX1_cool.data.toList.drop 119 = dktX1_cool_5 := dk_seg dksX1_cool_4 24 rfl rfl
theorem dksX1_cool_6 : cX1_cool.data.toList.drop 143 = dktX1_cool_6 := dk_seg dksX1_cool_5 24 rfl rfl
theorem dksX1_cool_7 : cX1_cool.data.toList.drop 167 = dktX1_cool_7 := dk_seg dksX1_cool_6 24 rfl rfl
theorem dksX1_cool_8 : cX1_cool.data.toList.drop 191 = dktX1_cool_8 := dk_seg dksX1_cool_7 24 rfl rfl
theorem dksX1_cool_9 : cX1_cool.data.toList.drop 214 = dktX1_cool_9 := dk_seg dksX1_cool_8 23 rfl rfl
theorem dksX1_cool_10 : cX1_cool.data.toList.drop 238 = dktX1_cool_10 := dk_seg dksX1_cool_9 24 rfl rfl
theorem dksX1_cool_11 : cX1_cool.data.toList.drop 262 = dktX1_cool_11 := dk_seg dksX1_cool_10 24 rfl rfl
theorem dksX1_cool_12 : cX1_cool.data.toList.drop 286 = dktX1_cool_12 := dk_seg dksX1_cool_11 24 rfl rfl
theorem dX1_cool_0 : decode cX1_cool 0 = .ok (.aload_n 0, 1) := dk_42 (dk_at dksX1_cool_0 0 rfl rfl)
theorem dX1_cool_1 : decode cX1_cool 1 = .ok (.iload_n 1, 1) := dk_27 (dk_at dksX1_cool_0 1 rfl rfl)
theorem dX1_cool_2 : decode cX1_cool 2 = .ok (.invokevirtual 83, 3) := dk_182 0 83 (dk_at dksX1_cool_0 2 rfl rfl)
theorem dX1_cool_5 : decode cX1_cool 5 = .ok (.astore 5, 2) := dk_58 5 (dk_at dksX1_cool_0 5 rfl rfl)
theorem dX1_cool_7 : decode cX1_cool 7 = .ok (.iload_n 3, 1) := dk_29 (dk_at dksX1_cool_0 7 rfl rfl)
theorem dX1_cool_8 : decode cX1_cool 8 = .ok (.iconst 0, 1) := dk_3 (dk_at dksX1_cool_0 8 rfl rfl)
theorem dX1_cool_9 : decode cX1_cool 9 = .ok (.sipush 500, 3) := dk_17 1 244 (dk_at dksX1_cool_0 9 rfl rfl)
theorem dX1_cool_12 : decode cX1_cool 12 = .ok (.invokestatic 61, 3) := dk_184 0 61 (dk_at dksX1_cool_0 12 rfl rfl)
theorem dX1_cool_15 : decode cX1_cool 15 = .ok (.ifCond .eq 19, 3) := dk_153 0 19 (dk_at dksX1_cool_0 15 rfl rfl)
theorem dX1_cool_18 : decode cX1_cool 18 = .ok (.iload 4, 2) := dk_21 4 (dk_at dksX1_cool_0 18 rfl rfl)
theorem dX1_cool_20 : decode cX1_cool 20 = .ok (.iconst 0, 1) := dk_3 (dk_at dksX1_cool_0 20 rfl rfl)
theorem dX1_cool_21 : decode cX1_cool 21 = .ok (.sipush 10000, 3) := dk_17 39 16 (dk_at dksX1_cool_0 21 rfl rfl)
theorem dX1_cool_24 : decode cX1_cool 24 = .ok (.invokestatic 61, 3) := dk_184 0 61 (dk_at dksX1_cool_1 0 rfl rfl)
theorem dX1_cool_27 : decode cX1_cool 27 = .ok (.ifCond .eq 7, 3) := dk_153 0 7 (dk_at dksX1_cool_1 3 rfl rfl)
theorem dX1_cool_30 : decode cX1_cool 30 = .ok (.iconst 1, 1) := dk_4 (dk_at dksX1_cool_1 6 rfl rfl)
theorem dX1_cool_31 : decode cX1_cool 31 = .ok (.goto 4, 3) := dk_167 0 4 (dk_at dksX1_cool_1 7 rfl rfl)
theorem dX1_cool_34 : decode cX1_cool 34 = .ok (.iconst 0, 1) := dk_3 (dk_at dksX1_cool_1 10 rfl rfl)
theorem dX1_cool_35 : decode cX1_cool 35 = .ok (.invokestatic 106, 3) := dk_184 0 106 (dk_at dksX1_cool_1 11 rfl rfl)
theorem dX1_cool_38 : decode cX1_cool 38 = .ok (.aload 5, 2) := dk_25 5 (dk_at dksX1_cool_1 14 rfl rfl)
theorem dX1_cool_40 : decode cX1_cool 40 = .ok (.invokevirtual 145, 3) := dk_182 0 145 (dk_at dksX1_cool_1 16 rfl rfl)
theorem dX1_cool_43 : decode cX1_cool 43 = .ok (.istore 6, 2) := dk_54 6 (dk_at dksX1_cool_1 19 rfl rfl)
theorem dX1_cool_45 : decode cX1_cool 45 = .ok (.iload 6, 2) := dk_21 6 (dk_at dksX1_cool_1 21 rfl rfl)
theorem dX1_cool_47 : decode cX1_cool 47 = .ok (.ifCond .ne 5, 3) := dk_154 0 5 (dk_at dksX1_cool_2 0 rfl rfl)
theorem dX1_cool_50 : decode cX1_cool 50 = .ok (.iconst 0, 1) := dk_3 (dk_at dksX1_cool_2 3 rfl rfl)
theorem dX1_cool_51 : decode cX1_cool 51 = .ok (.ireturn, 1) := dk_172 (dk_at dksX1_cool_2 4 rfl rfl)
theorem dX1_cool_52 : decode cX1_cool 52 = .ok (.iload_n 2, 1) := dk_28 (dk_at dksX1_cool_2 5 rfl rfl)
theorem dX1_cool_53 : decode cX1_cool 53 = .ok (.istore 7, 2) := dk_54 7 (dk_at dksX1_cool_2 6 rfl rfl)
theorem dX1_cool_55 : decode cX1_cool 55 = .ok (.aload_n 0, 1) := dk_42 (dk_at dksX1_cool_2 8 rfl rfl)
theorem dX1_cool_56 : decode cX1_cool 56 = .ok (.getfield 28, 3) := dk_180 0 28 (dk_at dksX1_cool_2 9 rfl rfl)
theorem dX1_cool_59 : decode cX1_cool 59 = .ok (.aload 5, 2) := dk_25 5 (dk_at dksX1_cool_2 12 rfl rfl)
theorem dX1_cool_61 : decode cX1_cool 61 = .ok (.invokevirtual 194, 3) := dk_182 0 194 (dk_at dksX1_cool_2 14 rfl rfl)
theorem dX1_cool_64 : decode cX1_cool 64 = .ok (.istore 8, 2) := dk_54 8 (dk_at dksX1_cool_2 17 rfl rfl)
theorem dX1_cool_66 : decode cX1_cool 66 = .ok (.iconst 0, 1) := dk_3 (dk_at dksX1_cool_2 19 rfl rfl)
theorem dX1_cool_67 : decode cX1_cool 67 = .ok (.istore 9, 2) := dk_54 9 (dk_at dksX1_cool_2 20 rfl rfl)
theorem dX1_cool_69 : decode cX1_cool 69 = .ok (.aload 5, 2) := dk_25 5 (dk_at dksX1_cool_2 22 rfl rfl)
theorem dX1_cool_71 : decode cX1_cool 71 = .ok (.invokevirtual 162, 3) := dk_182 0 162 (dk_at dksX1_cool_3 0 rfl rfl)
theorem dX1_cool_74 : decode cX1_cool 74 = .ok (.astore 10, 2) := dk_58 10 (dk_at dksX1_cool_3 3 rfl rfl)
theorem dX1_cool_76 : decode cX1_cool 76 = .ok (.iconst 3, 1) := dk_6 (dk_at dksX1_cool_3 5 rfl rfl)
theorem dX1_cool_77 : decode cX1_cool 77 = .ok (.newarray .int, 2) := dk_188_10 (dk_at dksX1_cool_3 6 rfl rfl)
theorem dX1_cool_79 : decode cX1_cool 79 = .ok (.astore 11, 2) := dk_58 11 (dk_at dksX1_cool_3 8 rfl rfl)
theorem dX1_cool_81 : decode cX1_cool 81 = .ok (.iconst 0, 1) := dk_3 (dk_at dksX1_cool_3 10 rfl rfl)
theorem dX1_cool_82 : decode cX1_cool 82 = .ok (.istore 12, 2) := dk_54 12 (dk_at dksX1_cool_3 11 rfl rfl)
theorem dX1_cool_84 : decode cX1_cool 84 = .ok (.iload 12, 2) := dk_21 12 (dk_at dksX1_cool_3 13 rfl rfl)
theorem dX1_cool_86 : decode cX1_cool 86 = .ok (.iload_n 3, 1) := dk_29 (dk_at dksX1_cool_3 15 rfl rfl)
theorem dX1_cool_87 : decode cX1_cool 87 = .ok (.if_icmp .ge 202, 3) := dk_162 0 202 (dk_at dksX1_cool_3 16 rfl rfl)
theorem dX1_cool_90 : decode cX1_cool 90 = .ok (.iconst 0, 1) := dk_3 (dk_at dksX1_cool_3 19 rfl rfl)
theorem dX1_cool_91 : decode cX1_cool 91 = .ok (.istore 13, 2) := dk_54 13 (dk_at dksX1_cool_3 20 rfl rfl)
theorem dX1_cool_93 : decode cX1_cool 93 = .ok (.iload 13, 2) := dk_21 13 (dk_at dksX1_cool_3 22 rfl rfl)
theorem dX1_cool_95 : decode cX1_cool 95 = .ok (.iconst 3, 1) := dk_6 (dk_at dksX1_cool_4 0 rfl rfl)
theorem dX1_cool_96 : decode cX1_cool 96 = .ok (.if_icmp .ge 47, 3) := dk_162 0 47 (dk_at dksX1_cool_4 1 rfl rfl)
theorem dX1_cool_99 : decode cX1_cool 99 = .ok (.iload 7, 2) := dk_21 7 (dk_at dksX1_cool_4 4 rfl rfl)
theorem dX1_cool_101 : decode cX1_cool 101 = .ok (.ldc 225, 2) := dk_18 225 (dk_at dksX1_cool_4 6 rfl rfl)
theorem dX1_cool_103 : decode cX1_cool 103 = .ok (.imul, 1) := dk_104 (dk_at dksX1_cool_4 8 rfl rfl)
theorem dX1_cool_104 : decode cX1_cool 104 = .ok (.sipush 12345, 3) := dk_17 48 57 (dk_at dksX1_cool_4 9 rfl rfl)
theorem dX1_cool_107 : decode cX1_cool 107 = .ok (.iadd, 1) := dk_96 (dk_at dksX1_cool_4 12 rfl rfl)
theorem dX1_cool_108 : decode cX1_cool 108 = .ok (.istore 7, 2) := dk_54 7 (dk_at dksX1_cool_4 13 rfl rfl)
theorem dX1_cool_110 : decode cX1_cool 110 = .ok (.aload 11, 2) := dk_25 11 (dk_at dksX1_cool_4 15 rfl rfl)
theorem dX1_cool_112 : decode cX1_cool 112 = .ok (.iload 13, 2) := dk_21 13 (dk_at dksX1_cool_4 17 rfl rfl)
theorem dX1_cool_114 : decode cX1_cool 114 = .ok (.iload 7, 2) := dk_21 7 (dk_at dksX1_cool_4 19 rfl rfl)
theorem dX1_cool_116 : decode cX1_cool 116 = .ok (.bipush 16, 2) := dk_16 16 (dk_at dksX1_cool_4 21 rfl rfl)
theorem dX1_cool_118 : decode cX1_cool 118 = .ok (.ishr, 1) := dk_122 (dk_at dksX1_cool_4 23 rfl rfl)
theorem dX1_cool_119 : decode cX1_cool 119 = .ok (.sipush 32767, 3) := dk_17 127 255 (dk_at dksX1_cool_5 0 rfl rfl)
theorem dX1_cool_122 : decode cX1_cool 122 = .ok (.iand, 1) := dk_126 (dk_at dksX1_cool_5 3 rfl rfl)
theorem dX1_cool_123 : decode cX1_cool 123 = .ok (.iload 13, 2) := dk_21 13 (dk_at dksX1_cool_5 4 rfl rfl)
theorem dX1_cool_125 : decode cX1_cool 125 = .ok (.iconst 2, 1) := dk_5 (dk_at dksX1_cool_5 6 rfl rfl)
theorem dX1_cool_126 : decode cX1_cool 126 = .ok (.if_icmp .ge 8, 3) := dk_162 0 8 (dk_at dksX1_cool_5 7 rfl rfl)
theorem dX1_cool_129 : decode cX1_cool 129 = .ok (.iload 6, 2) := dk_21 6 (dk_at dksX1_cool_5 10 rfl rfl)
theorem dX1_cool_131 : decode cX1_cool 131 = .ok (.goto 4, 3) := dk_167 0 4 (dk_at dksX1_cool_5 12 rfl rfl)
theorem dX1_cool_134 : decode cX1_cool 134 = .ok (.iconst 2, 1) := dk_5 (dk_at dksX1_cool_5 15 rfl rfl)
theorem dX1_cool_135 : decode cX1_cool 135 = .ok (.irem, 1) := dk_112 (dk_at dksX1_cool_5 16 rfl rfl)
theorem dX1_cool_136 : decode cX1_cool 136 = .ok (.iastore, 1) := dk_79 (dk_at dksX1_cool_5 17 rfl rfl)
theorem dX1_cool_137 : decode cX1_cool 137 = .ok (.iinc 13 1, 3) := dk_132 13 1 (dk_at dksX1_cool_5 18 rfl rfl)
theorem dX1_cool_140 : decode cX1_cool 140 = .ok (.goto (-47), 3) := dk_167 255 209 (dk_at dksX1_cool_5 21 rfl rfl)
theorem dX1_cool_143 : decode cX1_cool 143 = .ok (.aload 11, 2) := dk_25 11 (dk_at dksX1_cool_6 0 rfl rfl)
theorem dX1_cool_145 : decode cX1_cool 145 = .ok (.iconst 0, 1) := dk_3 (dk_at dksX1_cool_6 2 rfl rfl)
theorem dX1_cool_146 : decode cX1_cool 146 = .ok (.iaload, 1) := dk_46 (dk_at dksX1_cool_6 3 rfl rfl)
theorem dX1_cool_147 : decode cX1_cool 147 = .ok (.aload 11, 2) := dk_25 11 (dk_at dksX1_cool_6 4 rfl rfl)
theorem dX1_cool_149 : decode cX1_cool 149 = .ok (.iconst 1, 1) := dk_4 (dk_at dksX1_cool_6 6 rfl rfl)
theorem dX1_cool_150 : decode cX1_cool 150 = .ok (.iaload, 1) := dk_46 (dk_at dksX1_cool_6 7 rfl rfl)
theorem dX1_cool_151 : decode cX1_cool 151 = .ok (.invokestatic 153, 3) := dk_184 0 153 (dk_at dksX1_cool_6 8 rfl rfl)
theorem dX1_cool_154 : decode cX1_cool 154 = .ok (.istore 13, 2) := dk_54 13 (dk_at dksX1_cool_6 11 rfl rfl)
theorem dX1_cool_156 : decode cX1_cool 156 = .ok (.aload 11, 2) := dk_25 11 (dk_at dksX1_cool_6 13 rfl rfl)
theorem dX1_cool_158 : decode cX1_cool 158 = .ok (.iconst 0, 1) := dk_3 (dk_at dksX1_cool_6 15 rfl rfl)
theorem dX1_cool_159 : decode cX1_cool 159 = .ok (.iaload, 1) := dk_46 (dk_at dksX1_cool_6 16 rfl rfl)
theorem dX1_cool_160 : decode cX1_cool 160 = .ok (.aload 11, 2) := dk_25 11 (dk_at dksX1_cool_6 17 rfl rfl)
theorem dX1_cool_162 : decode cX1_cool 162 = .ok (.iconst 1, 1) := dk_4 (dk_at dksX1_cool_6 19 rfl rfl)
theorem dX1_cool_163 : decode cX1_cool 163 = .ok (.iaload, 1) := dk_46 (dk_at dksX1_cool_6 20 rfl rfl)
theorem dX1_cool_164 : decode cX1_cool 164 = .ok (.invokestatic 159, 3) := dk_184 0 159 (dk_at dksX1_cool_6 21 rfl rfl)
theorem dX1_cool_167 : decode cX1_cool 167 = .ok (.istore 14, 2) := dk_54 14 (dk_at dksX1_cool_7 0 rfl rfl)
theorem dX1_cool_169 : decode cX1_cool 169 = .ok (.iload 13, 2) := dk_21 13 (dk_at dksX1_cool_7 2 rfl rfl)
theorem dX1_cool_171 : decode cX1_cool 171 = .ok (.iload 14, 2) := dk_21 14 (dk_at dksX1_cool_7 4 rfl rfl)
theorem dX1_cool_173 : decode cX1_cool 173 = .ok (.if_icmp .eq 110, 3) := dk_159 0 110 (dk_at dksX1_cool_7 6 rfl rfl)
theorem dX1_cool_176 : decode cX1_cool 176 = .ok (.aload 5, 2) := dk_25 5 (dk_at dksX1_cool_7 9 rfl rfl)
theorem dX1_cool_178 : decode cX1_cool 178 = .ok (.aload 10, 2) := dk_25 10 (dk_at dksX1_cool_7 11 rfl rfl)
theorem dX1_cool_180 : decode cX1_cool 180 = .ok (.iload 13, 2) := dk_21 13 (dk_at dksX1_cool_7 13 rfl rfl)
theorem dX1_cool_182 : decode cX1_cool 182 = .ok (.iaload, 1) := dk_46 (dk_at dksX1_cool_7 15 rfl rfl)
theorem dX1_cool_183 : decode cX1_cool 183 = .ok (.aload 10, 2) := dk_25 10 (dk_at dksX1_cool_7 16 rfl rfl)
theorem dX1_cool_185 : decode cX1_cool 185 = .ok (.iload 14, 2) := dk_21 14 (dk_at dksX1_cool_7 18 rfl rfl)
theorem dX1_cool_187 : decode cX1_cool 187 = .ok (.iaload, 1) := dk_46 (dk_at dksX1_cool_7 20 rfl rfl)
theorem dX1_cool_188 : decode cX1_cool 188 = .ok (.aload 11, 2) := dk_25 11 (dk_at dksX1_cool_7 21 rfl rfl)
theorem dX1_cool_190 : decode cX1_cool 190 = .ok (.iconst 2, 1) := dk_5 (dk_at dksX1_cool_7 23 rfl rfl)
theorem dX1_cool_191 : decode cX1_cool 191 = .ok (.iaload, 1) := dk_46 (dk_at dksX1_cool_8 0 rfl rfl)
theorem dX1_cool_192 : decode cX1_cool 192 = .ok (.iconst 1, 1) := dk_4 (dk_at dksX1_cool_8 1 rfl rfl)
theorem dX1_cool_193 : decode cX1_cool 193 = .ok (.if_icmp .ne 7, 3) := dk_160 0 7 (dk_at dksX1_cool_8 2 rfl rfl)
theorem dX1_cool_196 : decode cX1_cool 196 = .ok (.iconst 1, 1) := dk_4 (dk_at dksX1_cool_8 5 rfl rfl)
theorem dX1_cool_197 : decode cX1_cool 197 = .ok (.goto 4, 3) := dk_167 0 4 (dk_at dksX1_cool_8 6 rfl rfl)
theorem dX1_cool_200 : decode cX1_cool 200 = .ok (.iconst 0, 1) := dk_3 (dk_at dksX1_cool_8 9 rfl rfl)
theorem dX1_cool_201 : decode cX1_cool 201 = .ok (.invokestatic 214, 3) := dk_184 0 214 (dk_at dksX1_cool_8 10 rfl rfl)
theorem dX1_cool_204 : decode cX1_cool 204 = .ok (.ifCond .ne 6, 3) := dk_154 0 6 (dk_at dksX1_cool_8 13 rfl rfl)
theorem dX1_cool_207 : decode cX1_cool 207 = .ok (.goto 76, 3) := dk_167 0 76 (dk_at dksX1_cool_8 16 rfl rfl)
theorem dX1_cool_210 : decode cX1_cool 210 = .ok (.aload_n 0, 1) := dk_42 (dk_at dksX1_cool_8 19 rfl rfl)
theorem dX1_cool_211 : decode cX1_cool 211 = .ok (.getfield 28, 3) := dk_180 0 28 (dk_at dksX1_cool_8 20 rfl rfl)
theorem dX1_cool_214 : decode cX1_cool 214 = .ok (.aload 5, 2) := dk_25 5 (dk_at dksX1_cool_9 0 rfl rfl)
theorem dX1_cool_216 : decode cX1_cool 216 = .ok (.invokevirtual 194, 3) := dk_182 0 194 (dk_at dksX1_cool_9 2 rfl rfl)
theorem dX1_cool_219 : decode cX1_cool 219 = .ok (.istore 15, 2) := dk_54 15 (dk_at dksX1_cool_9 5 rfl rfl)
theorem dX1_cool_221 : decode cX1_cool 221 = .ok (.iload 15, 2) := dk_21 15 (dk_at dksX1_cool_9 7 rfl rfl)
theorem dX1_cool_223 : decode cX1_cool 223 = .ok (.iload 8, 2) := dk_21 8 (dk_at dksX1_cool_9 9 rfl rfl)
theorem dX1_cool_225 : decode cX1_cool 225 = .ok (.iconst 0, 1) := dk_3 (dk_at dksX1_cool_9 11 rfl rfl)
theorem dX1_cool_226 : decode cX1_cool 226 = .ok (.iload 4, 2) := dk_21 4 (dk_at dksX1_cool_9 12 rfl rfl)
theorem dX1_cool_228 : decode cX1_cool 228 = .ok (.iload 12, 2) := dk_21 12 (dk_at dksX1_cool_9 14 rfl rfl)
theorem dX1_cool_230 : decode cX1_cool 230 = .ok (.isub, 1) := dk_100 (dk_at dksX1_cool_9 16 rfl rfl)
theorem dX1_cool_231 : decode cX1_cool 231 = .ok (.invokestatic 159, 3) := dk_184 0 159 (dk_at dksX1_cool_9 17 rfl rfl)
theorem dX1_cool_234 : decode cX1_cool 234 = .ok (.iadd, 1) := dk_96 (dk_at dksX1_cool_9 20 rfl rfl)
theorem dX1_cool_235 : decode cX1_cool 235 = .ok (.if_icmp .gt 20, 3) := dk_163 0 20 (dk_at dksX1_cool_9 21 rfl rfl)
theorem dX1_cool_238 : decode cX1_cool 238 = .ok (.iload 15, 2) := dk_21 15 (dk_at dksX1_cool_10 0 rfl rfl)
theorem dX1_cool_240 : decode cX1_cool 240 = .ok (.istore 8, 2) := dk_54 8 (dk_at dksX1_cool_10 2 rfl rfl)
theorem dX1_cool_242 : decode cX1_cool 242 = .ok (.iinc 9 1, 3) := dk_132 9 1 (dk_at dksX1_cool_10 4 rfl rfl)
theorem dX1_cool_245 : decode cX1_cool 245 = .ok (.aload 5, 2) := dk_25 5 (dk_at dksX1_cool_10 7 rfl rfl)
theorem dX1_cool_247 : decode cX1_cool 247 = .ok (.aload 10, 2) := dk_25 10 (dk_at dksX1_cool_10 9 rfl rfl)
theorem dX1_cool_249 : decode cX1_cool 249 = .ok (.invokevirtual 226, 3) := dk_182 0 226 (dk_at dksX1_cool_10 11 rfl rfl)
theorem dX1_cool_252 : decode cX1_cool 252 = .ok (.goto 31, 3) := dk_167 0 31 (dk_at dksX1_cool_10 14 rfl rfl)
theorem dX1_cool_255 : decode cX1_cool 255 = .ok (.aload 5, 2) := dk_25 5 (dk_at dksX1_cool_10 17 rfl rfl)
theorem dX1_cool_257 : decode cX1_cool 257 = .ok (.aload 10, 2) := dk_25 10 (dk_at dksX1_cool_10 19 rfl rfl)
theorem dX1_cool_259 : decode cX1_cool 259 = .ok (.iload 13, 2) := dk_21 13 (dk_at dksX1_cool_10 21 rfl rfl)
theorem dX1_cool_261 : decode cX1_cool 261 = .ok (.iaload, 1) := dk_46 (dk_at dksX1_cool_10 23 rfl rfl)
theorem dX1_cool_262 : decode cX1_cool 262 = .ok (.aload 10, 2) := dk_25 10 (dk_at dksX1_cool_11 0 rfl rfl)
theorem dX1_cool_264 : decode cX1_cool 264 = .ok (.iload 14, 2) := dk_21 14 (dk_at dksX1_cool_11 2 rfl rfl)
theorem dX1_cool_266 : decode cX1_cool 266 = .ok (.iaload, 1) := dk_46 (dk_at dksX1_cool_11 4 rfl rfl)
theorem dX1_cool_267 : decode cX1_cool 267 = .ok (.aload 11, 2) := dk_25 11 (dk_at dksX1_cool_11 5 rfl rfl)
theorem dX1_cool_269 : decode cX1_cool 269 = .ok (.iconst 2, 1) := dk_5 (dk_at dksX1_cool_11 7 rfl rfl)
theorem dX1_cool_270 : decode cX1_cool 270 = .ok (.iaload, 1) := dk_46 (dk_at dksX1_cool_11 8 rfl rfl)
theorem dX1_cool_271 : decode cX1_cool 271 = .ok (.iconst 1, 1) := dk_4 (dk_at dksX1_cool_11 9 rfl rfl)
theorem dX1_cool_272 : decode cX1_cool 272 = .ok (.if_icmp .ne 7, 3) := dk_160 0 7 (dk_at dksX1_cool_11 10 rfl rfl)
theorem dX1_cool_275 : decode cX1_cool 275 = .ok (.iconst 1, 1) := dk_4 (dk_at dksX1_cool_11 13 rfl rfl)
theorem dX1_cool_276 : decode cX1_cool 276 = .ok (.goto 4, 3) := dk_167 0 4 (dk_at dksX1_cool_11 14 rfl rfl)
theorem dX1_cool_279 : decode cX1_cool 279 = .ok (.iconst 0, 1) := dk_3 (dk_at dksX1_cool_11 17 rfl rfl)
theorem dX1_cool_280 : decode cX1_cool 280 = .ok (.invokestatic 218, 3) := dk_184 0 218 (dk_at dksX1_cool_11 18 rfl rfl)
theorem dX1_cool_283 : decode cX1_cool 283 = .ok (.iinc 12 1, 3) := dk_132 12 1 (dk_at dksX1_cool_11 21 rfl rfl)
theorem dX1_cool_286 : decode cX1_cool 286 = .ok (.goto (-202), 3) := dk_167 255 54 (dk_at dksX1_cool_12 0 rfl rfl)
theorem dX1_cool_289 : decode cX1_cool 289 = .ok (.iload 9, 2) := dk_21 9 (dk_at dksX1_cool_12 3 rfl rfl)
theorem dX1_cool_291 : decode cX1_cool 291 = .ok (.ireturn, 1) := dk_172 (dk_at dksX1_cool_12 5 rfl rfl)
abbrev cX1_seek : ByteArray := prog_1_method_31_code
def yX1_seek : MethodName := ⟨RX1, "seek", "(IIII)I"⟩
def dkwX1_seek_2 : List UInt8 := [182, 0, 235, 172]
abbrev dktX1_seek_2 : List UInt8 := dkwX1_seek_2 ++ []
def dkwX1_seek_1 : List UInt8 := [3, 184, 0, 106, 187, 0, 230, 89, 187, 0, 127, 89, 27, 28, 29, 183, 0, 130, 21, 4, 183, 0, 232]
abbrev dktX1_seek_1 : List UInt8 := dkwX1_seek_1 ++ dktX1_seek_2
def dkwX1_seek_0 : List UInt8 := [27, 28, 29, 184, 0, 126, 153, 0, 18, 21, 4, 4, 16, 8, 184, 0, 61, 153, 0, 7, 4, 167, 0, 4]
abbrev dktX1_seek_0 : List UInt8 := dkwX1_seek_0 ++ dktX1_seek_1
theorem dksX1_seek_0 : cX1_seek.data.toList.drop 0 = dktX1_seek_0 := by decide +kernel
theorem dksX1_seek_1 : cX1_seek.data.toList.drop 24 = dktX1_seek_1 := dk_seg dksX1_seek_0 24 rfl rfl
theorem dksX1_seek_2 : cX1_seek.data.toList.drop 47 = dktX1_seek_2 := dk_seg dksX1_seek_1 23 rfl rfl
theorem dX1_seek_0 : decode cX1_seek 0 = .ok (.iload_n 1, 1) := dk_27 (dk_at dksX1_seek_0 0 rfl rfl)
theorem dX1_seek_1 : decode cX1_seek 1 = .ok (.iload_n 2, 1) := dk_28 (dk_at dksX1_seek_0 1 rfl rfl)
theorem dX1_seek_2 : decode cX1_seek 2 = .ok (.iload_n 3, 1) := dk_29 (dk_at dksX1_seek_0 2 rfl rfl)
theorem dX1_seek_3 : decode cX1_seek 3 = .ok (.invokestatic 126, 3) := dk_184 0 126 (dk_at dksX1_seek_0 3 rfl rfl)
theorem dX1_seek_6 : decode cX1_seek 6 = .ok (.ifCond .eq 18, 3) := dk_153 0 18 (dk_at dksX1_seek_0 6 rfl rfl)
theorem dX1_seek_9 : decode cX1_seek 9 = .ok (.iload 4, 2) := dk_21 4 (dk_at dksX1_seek_0 9 rfl rfl)
theorem dX1_seek_11 : decode cX1_seek 11 = .ok (.iconst 1, 1) := dk_4 (dk_at dksX1_seek_0 11 rfl rfl)
theorem dX1_seek_12 : decode cX1_seek 12 = .ok (.bipush 8, 2) := dk_16 8 (dk_at dksX1_seek_0 12 rfl rfl)
theorem dX1_seek_14 : decode cX1_seek 14 = .ok (.invokestatic 61, 3) := dk_184 0 61 (dk_at dksX1_seek_0 14 rfl rfl)
theorem dX1_seek_17 : decode cX1_seek 17 = .ok (.ifCond .eq 7, 3) := dk_153 0 7 (dk_at dksX1_seek_0 17 rfl rfl)
theorem dX1_seek_20 : decode cX1_seek 20 = .ok (.iconst 1, 1) := dk_4 (dk_at dksX1_seek_0 20 rfl rfl)
theorem dX1_seek_21 : decode cX1_seek 21 = .ok (.goto 4, 3) := dk_167 0 4 (dk_at dksX1_seek_0 21 rfl rfl)
theorem dX1_seek_24 : decode cX1_seek 24 = .ok (.iconst 0, 1) := dk_3 (dk_at dksX1_seek_1 0 rfl rfl)
theorem dX1_seek_25 : decode cX1_seek 25 = .ok (.invokestatic 106, 3) := dk_184 0 106 (dk_at dksX1_seek_1 1 rfl rfl)
theorem dX1_seek_28 : decode cX1_seek 28 = .ok (.new 230, 3) := dk_187 0 230 (dk_at dksX1_seek_1 4 rfl rfl)
theorem dX1_seek_31 : decode cX1_seek 31 = .ok (.dup, 1) := dk_89 (dk_at dksX1_seek_1 7 rfl rfl)
theorem dX1_seek_32 : decode cX1_seek 32 = .ok (.new 127, 3) := dk_187 0 127 (dk_at dksX1_seek_1 8 rfl rfl)
theorem dX1_seek_35 : decode cX1_seek 35 = .ok (.dup, 1) := dk_89 (dk_at dksX1_seek_1 11 rfl rfl)
theorem dX1_seek_36 : decode cX1_seek 36 = .ok (.iload_n 1, 1) := dk_27 (dk_at dksX1_seek_1 12 rfl rfl)
theorem dX1_seek_37 : decode cX1_seek 37 = .ok (.iload_n 2, 1) := dk_28 (dk_at dksX1_seek_1 13 rfl rfl)
theorem dX1_seek_38 : decode cX1_seek 38 = .ok (.iload_n 3, 1) := dk_29 (dk_at dksX1_seek_1 14 rfl rfl)
theorem dX1_seek_39 : decode cX1_seek 39 = .ok (.invokespecial 130, 3) := dk_183 0 130 (dk_at dksX1_seek_1 15 rfl rfl)
theorem dX1_seek_42 : decode cX1_seek 42 = .ok (.iload 4, 2) := dk_21 4 (dk_at dksX1_seek_1 18 rfl rfl)
theorem dX1_seek_44 : decode cX1_seek 44 = .ok (.invokespecial 232, 3) := dk_183 0 232 (dk_at dksX1_seek_1 20 rfl rfl)
theorem dX1_seek_47 : decode cX1_seek 47 = .ok (.invokevirtual 235, 3) := dk_182 0 235 (dk_at dksX1_seek_2 0 rfl rfl)
theorem dX1_seek_50 : decode cX1_seek 50 = .ok (.ireturn, 1) := dk_172 (dk_at dksX1_seek_2 3 rfl rfl)
abbrev cX1_small : ByteArray := prog_1_method_32_code
def yX1_small : MethodName := ⟨RX1, "small", "(III)I"⟩
def dkwX1_small_1 : List UInt8 := [4, 167, 0, 4, 3, 184, 0, 106, 42, 180, 0, 53, 27, 28, 29, 182, 0, 238, 172]
abbrev dktX1_small_1 : List UInt8 := dkwX1_small_1 ++ []
def dkwX1_small_0 : List UInt8 := [27, 4, 16, 6, 184, 0, 61, 153, 0, 21, 28, 4, 16, 8, 184, 0, 61, 153, 0, 11, 29, 155, 0, 7]
abbrev dktX1_small_0 : List UInt8 := dkwX1_small_0 ++ dktX1_small_1
theorem dksX1_small_0 : cX1_small.data.toList.drop 0 = dktX1_small_0 := by decide +kernel
theorem dksX1_small_1 : cX1_small.data.toList.drop 24 = dktX1_small_1 := dk_seg dksX1_small_0 24 rfl rfl
theorem dX1_small_0 : decode cX1_small 0 = .ok (.iload_n 1, 1) := dk_27 (dk_at dksX1_small_0 0 rfl rfl)
theorem dX1_small_1 : decode cX1_small 1 = .ok (.iconst 1, 1) := dk_4 (dk_at dksX1_small_0 1 rfl rfl)
theorem dX1_small_2 : decode cX1_small 2 = .ok (.bipush 6, 2) := dk_16 6 (dk_at dksX1_small_0 2 rfl rfl)
theorem dX1_small_4 : decode cX1_small 4 = .ok (.invokestatic 61, 3) := dk_184 0 61 (dk_at dksX1_small_0 4 rfl rfl)
theorem dX1_small_7 : decode cX1_small 7 = .ok (.ifCond .eq 21, 3) := dk_153 0 21 (dk_at dksX1_small_0 7 rfl rfl)
theorem dX1_small_10 : decode cX1_small 10 = .ok (.iload_n 2, 1) := dk_28 (dk_at dksX1_small_0 10 rfl rfl)
theorem dX1_small_11 : decode cX1_small 11 = .ok (.iconst 1, 1) := dk_4 (dk_at dksX1_small_0 11 rfl rfl)
theorem dX1_small_12 : decode cX1_small 12 = .ok (.bipush 8, 2) := dk_16 8 (dk_at dksX1_small_0 12 rfl rfl)
theorem dX1_small_14 : decode cX1_small 14 = .ok (.invokestatic 61, 3) := dk_184 0 61 (dk_at dksX1_small_0 14 rfl rfl)
theorem dX1_small_17 : decode cX1_small 17 = .ok (.ifCond .eq 11, 3) := dk_153 0 11 (dk_at dksX1_small_0 17 rfl rfl)
theorem dX1_small_20 : decode cX1_small 20 = .ok (.iload_n 3, 1) := dk_29 (dk_at dksX1_small_0 20 rfl rfl)
theorem dX1_small_21 : decode cX1_small 21 = .ok (.ifCond .lt 7, 3) := dk_155 0 7 (dk_at dksX1_small_0 21 rfl rfl)
theorem dX1_small_24 : decode cX1_small 24 = .ok (.iconst 1, 1) := dk_4 (dk_at dksX1_small_1 0 rfl rfl)
theorem dX1_small_25 : decode cX1_small 25 = .ok (.goto 4, 3) := dk_167 0 4 (dk_at dksX1_small_1 1 rfl rfl)
theorem dX1_small_28 : decode cX1_small 28 = .ok (.iconst 0, 1) := dk_3 (dk_at dksX1_small_1 4 rfl rfl)
theorem dX1_small_29 : decode cX1_small 29 = .ok (.invokestatic 106, 3) := dk_184 0 106 (dk_at dksX1_small_1 5 rfl rfl)
theorem dX1_small_32 : decode cX1_small 32 = .ok (.aload_n 0, 1) := dk_42 (dk_at dksX1_small_1 8 rfl rfl)
theorem dX1_small_33 : decode cX1_small 33 = .ok (.getfield 53, 3) := dk_180 0 53 (dk_at dksX1_small_1 9 rfl rfl)
theorem dX1_small_36 : decode cX1_small 36 = .ok (.iload_n 1, 1) := dk_27 (dk_at dksX1_small_1 12 rfl rfl)
theorem dX1_small_37 : decode cX1_small 37 = .ok (.iload_n 2, 1) := dk_28 (dk_at dksX1_small_1 13 rfl rfl)
theorem dX1_small_38 : decode cX1_small 38 = .ok (.iload_n 3, 1) := dk_29 (dk_at dksX1_small_1 14 rfl rfl)
theorem dX1_small_39 : decode cX1_small 39 = .ok (.invokevirtual 238, 3) := dk_182 0 238 (dk_at dksX1_small_1 15 rfl rfl)
theorem dX1_small_42 : decode cX1_small 42 = .ok (.ireturn, 1) := dk_172 (dk_at dksX1_small_1 18 rfl rfl)
abbrev cX1_found_2 : ByteArray := prog_1_method_33_code
def yX1_found_2 : MethodName := ⟨RX1, "found", "(I)I"⟩
def dkwX1_found_2_3 : List UInt8 := [42, 180, 0, 53, 180, 0, 254, 172]
abbrev dktX1_found_2_3 : List UInt8 := dkwX1_found_2_3 ++ []
def dkwX1_found_2_2 : List UInt8 := [180, 0, 53, 180, 0, 248, 167, 0, 25, 27, 5, 160, 0, 13, 42, 180, 0, 53, 180, 0, 251, 167, 0, 10]
abbrev dktX1_found_2_2 : List UInt8 := dkwX1_found_2_2 ++ dktX1_found_2_3
def dkwX1_found_2_1 : List UInt8 := [184, 0, 69, 27, 154, 0, 13, 42, 180, 0, 53, 180, 0, 245, 167, 0, 40, 27, 4, 160, 0, 13, 42]
abbrev dktX1_found_2_1 : List UInt8 := dkwX1_found_2_1 ++ dktX1_found_2_2
def dkwX1_found_2_0 : List UInt8 := [42, 180, 0, 53, 180, 0, 241, 153, 0, 16, 27, 3, 6, 184, 0, 61, 153, 0, 7, 4, 167, 0, 4, 3]
abbrev dktX1_found_2_0 : List UInt8 := dkwX1_found_2_0 ++ dktX1_found_2_1
theorem dksX1_found_2_0 : cX1_found_2.data.toList.drop 0 = dktX1_found_2_0 := by decide +kernel
theorem dksX1_found_2_1 : cX1_found_2.data.toList.drop 24 = dktX1_found_2_1 := dk_seg dksX1_found_2_0 24 rfl rfl
theorem dksX1_found_2_2 : cX1_found_2.data.toList.drop 47 = dktX1_found_2_2 := dk_seg dksX1_found_2_1 23 rfl rfl
theorem dksX1_found_2_3 : cX1_found_2.data.toList.drop 71 = dktX1_found_2_3 := dk_seg dksX1_found_2_2 24 rfl rfl
theorem dX1_found_2_0 : decode cX1_found_2 0 = .ok (.aload_n 0, 1) := dk_42 (dk_at dksX1_found_2_0 0 rfl rfl)
theorem dX1_found_2_1 : decode cX1_found_2 1 = .ok (.getfield 53, 3) := dk_180 0 53 (dk_at dksX1_found_2_0 1 rfl rfl)
theorem dX1_found_2_4 : decode cX1_found_2 4 = .ok (.getfield 241, 3) := dk_180 0 241 (dk_at dksX1_found_2_0 4 rfl rfl)
theorem dX1_found_2_7 : decode cX1_found_2 7 = .ok (.ifCond .eq 16, 3) := dk_153 0 16 (dk_at dksX1_found_2_0 7 rfl rfl)
theorem dX1_found_2_10 : decode cX1_found_2 10 = .ok (.iload_n 1, 1) := dk_27 (dk_at dksX1_found_2_0 10 rfl rfl)
theorem dX1_found_2_11 : decode cX1_found_2 11 = .ok (.iconst 0, 1) := dk_3 (dk_at dksX1_found_2_0 11 rfl rfl)
theorem dX1_found_2_12 : decode cX1_found_2 12 = .ok (.iconst 3, 1) := dk_6 (dk_at dksX1_found_2_0 12 rfl rfl)
theorem dX1_found_2_13 : decode cX1_found_2 13 = .ok (.invokestatic 61, 3) := dk_184 0 61 (dk_at dksX1_found_2_0 13 rfl rfl)
theorem dX1_found_2_16 : decode cX1_found_2 16 = .ok (.ifCond .eq 7, 3) := dk_153 0 7 (dk_at dksX1_found_2_0 16 rfl rfl)
theorem dX1_found_2_19 : decode cX1_found_2 19 = .ok (.iconst 1, 1) := dk_4 (dk_at dksX1_found_2_0 19 rfl rfl)
theorem dX1_found_2_20 : decode cX1_found_2 20 = .ok (.goto 4, 3) := dk_167 0 4 (dk_at dksX1_found_2_0 20 rfl rfl)
theorem dX1_found_2_23 : decode cX1_found_2 23 = .ok (.iconst 0, 1) := dk_3 (dk_at dksX1_found_2_0 23 rfl rfl)
theorem dX1_found_2_24 : decode cX1_found_2 24 = .ok (.invokestatic 69, 3) := dk_184 0 69 (dk_at dksX1_found_2_1 0 rfl rfl)
theorem dX1_found_2_27 : decode cX1_found_2 27 = .ok (.iload_n 1, 1) := dk_27 (dk_at dksX1_found_2_1 3 rfl rfl)
theorem dX1_found_2_28 : decode cX1_found_2 28 = .ok (.ifCond .ne 13, 3) := dk_154 0 13 (dk_at dksX1_found_2_1 4 rfl rfl)
theorem dX1_found_2_31 : decode cX1_found_2 31 = .ok (.aload_n 0, 1) := dk_42 (dk_at dksX1_found_2_1 7 rfl rfl)
theorem dX1_found_2_32 : decode cX1_found_2 32 = .ok (.getfield 53, 3) := dk_180 0 53 (dk_at dksX1_found_2_1 8 rfl rfl)
theorem dX1_found_2_35 : decode cX1_found_2 35 = .ok (.getfield 245, 3) := dk_180 0 245 (dk_at dksX1_found_2_1 11 rfl rfl)
theorem dX1_found_2_38 : decode cX1_found_2 38 = .ok (.goto 40, 3) := dk_167 0 40 (dk_at dksX1_found_2_1 14 rfl rfl)
theorem dX1_found_2_41 : decode cX1_found_2 41 = .ok (.iload_n 1, 1) := dk_27 (dk_at dksX1_found_2_1 17 rfl rfl)
theorem dX1_found_2_42 : decode cX1_found_2 42 = .ok (.iconst 1, 1) := dk_4 (dk_at dksX1_found_2_1 18 rfl rfl)
theorem dX1_found_2_43 : decode cX1_found_2 43 = .ok (.if_icmp .ne 13, 3) := dk_160 0 13 (dk_at dksX1_found_2_1 19 rfl rfl)
theorem dX1_found_2_46 : decode cX1_found_2 46 = .ok (.aload_n 0, 1) := dk_42 (dk_at dksX1_found_2_1 22 rfl rfl)
theorem dX1_found_2_47 : decode cX1_found_2 47 = .ok (.getfield 53, 3) := dk_180 0 53 (dk_at dksX1_found_2_2 0 rfl rfl)
theorem dX1_found_2_50 : decode cX1_found_2 50 = .ok (.getfield 248, 3) := dk_180 0 248 (dk_at dksX1_found_2_2 3 rfl rfl)
theorem dX1_found_2_53 : decode cX1_found_2 53 = .ok (.goto 25, 3) := dk_167 0 25 (dk_at dksX1_found_2_2 6 rfl rfl)
theorem dX1_found_2_56 : decode cX1_found_2 56 = .ok (.iload_n 1, 1) := dk_27 (dk_at dksX1_found_2_2 9 rfl rfl)
theorem dX1_found_2_57 : decode cX1_found_2 57 = .ok (.iconst 2, 1) := dk_5 (dk_at dksX1_found_2_2 10 rfl rfl)
theorem dX1_found_2_58 : decode cX1_found_2 58 = .ok (.if_icmp .ne 13, 3) := dk_160 0 13 (dk_at dksX1_found_2_2 11 rfl rfl)
theorem dX1_found_2_61 : decode cX1_found_2 61 = .ok (.aload_n 0, 1) := dk_42 (dk_at dksX1_found_2_2 14 rfl rfl)
theorem dX1_found_2_62 : decode cX1_found_2 62 = .ok (.getfield 53, 3) := dk_180 0 53 (dk_at dksX1_found_2_2 15 rfl rfl)
theorem dX1_found_2_65 : decode cX1_found_2 65 = .ok (.getfield 251, 3) := dk_180 0 251 (dk_at dksX1_found_2_2 18 rfl rfl)
theorem dX1_found_2_68 : decode cX1_found_2 68 = .ok (.goto 10, 3) := dk_167 0 10 (dk_at dksX1_found_2_2 21 rfl rfl)
theorem dX1_found_2_71 : decode cX1_found_2 71 = .ok (.aload_n 0, 1) := dk_42 (dk_at dksX1_found_2_3 0 rfl rfl)
theorem dX1_found_2_72 : decode cX1_found_2 72 = .ok (.getfield 53, 3) := dk_180 0 53 (dk_at dksX1_found_2_3 1 rfl rfl)
theorem dX1_found_2_75 : decode cX1_found_2 75 = .ok (.getfield 254, 3) := dk_180 0 254 (dk_at dksX1_found_2_3 4 rfl rfl)
theorem dX1_found_2_78 : decode cX1_found_2 78 = .ok (.ireturn, 1) := dk_172 (dk_at dksX1_found_2_3 7 rfl rfl)
abbrev cX1_bound : ByteArray := prog_1_method_34_code
def yX1_bound : MethodName := ⟨RX1, "bound", "(II)I"⟩
def dkwX1_bound_3 : List UInt8 := [20, 1, 1, 33, 184, 1, 3, 136, 172]
abbrev dktX1_bound_3 : List UInt8 := dkwX1_bound_3 ++ []
def dkwX1_bound_2 : List UInt8 := [156, 0, 23, 33, 22, 5, 97, 66, 22, 5, 27, 4, 100, 133, 105, 55, 5, 132, 7, 1, 167, 255, 225]
abbrev dktX1_bound_2 : List UInt8 := dkwX1_bound_2 ++ dktX1_bound_3
def dkwX1_bound_1 : List UInt8 := [3, 184, 0, 106, 10, 66, 27, 133, 55, 5, 3, 54, 7, 21, 7, 28, 162, 0, 31, 33, 20, 1, 1, 148]
abbrev dktX1_bound_1 : List UInt8 := dkwX1_bound_1 ++ dktX1_bound_2
def dkwX1_bound_0 : List UInt8 := [27, 4, 16, 8, 184, 0, 61, 153, 0, 17, 28, 3, 16, 24, 184, 0, 61, 153, 0, 7, 4, 167, 0, 4]
abbrev dktX1_bound_0 : List UInt8 := dkwX1_bound_0 ++ dktX1_bound_1
theorem dksX1_bound_0 : cX1_bound.data.toList.drop 0 = dktX1_bound_0 := by decide +kernel
theorem dksX1_bound_1 : cX1_bound.data.toList.drop 24 = dktX1_bound_1 := dk_seg dksX1_bound_0 24 rfl rfl
theorem dksX1_bound_2 : cX1_bound.data.toList.drop 48 = dktX1_bound_2 := dk_seg dksX1_bound_1 24 rfl rfl
theorem dksX1_bound_3 : cX1_bound.data.toList.drop 71 = dktX1_bound_3 := dk_seg dksX1_bound_2 23 rfl rfl
theorem dX1_bound_0 : decode cX1_bound 0 = .ok (.iload_n 1, 1) := dk_27 (dk_at dksX1_bound_0 0 rfl rfl)
theorem dX1_bound_1 : decode cX1_bound 1 = .ok (.iconst 1, 1) := dk_4 (dk_at dksX1_bound_0 1 rfl rfl)
theorem dX1_bound_2 : decode cX1_bound 2 = .ok (.bipush 8, 2) := dk_16 8 (dk_at dksX1_bound_0 2 rfl rfl)
theorem dX1_bound_4 : decode cX1_bound 4 = .ok (.invokestatic 61, 3) := dk_184 0 61 (dk_at dksX1_bound_0 4 rfl rfl)
theorem dX1_bound_7 : decode cX1_bound 7 = .ok (.ifCond .eq 17, 3) := dk_153 0 17 (dk_at dksX1_bound_0 7 rfl rfl)
theorem dX1_bound_10 : decode cX1_bound 10 = .ok (.iload_n 2, 1) := dk_28 (dk_at dksX1_bound_0 10 rfl rfl)
theorem dX1_bound_11 : decode cX1_bound 11 = .ok (.iconst 0, 1) := dk_3 (dk_at dksX1_bound_0 11 rfl rfl)
theorem dX1_bound_12 : decode cX1_bound 12 = .ok (.bipush 24, 2) := dk_16 24 (dk_at dksX1_bound_0 12 rfl rfl)
theorem dX1_bound_14 : decode cX1_bound 14 = .ok (.invokestatic 61, 3) := dk_184 0 61 (dk_at dksX1_bound_0 14 rfl rfl)
theorem dX1_bound_17 : decode cX1_bound 17 = .ok (.ifCond .eq 7, 3) := dk_153 0 7 (dk_at dksX1_bound_0 17 rfl rfl)
theorem dX1_bound_20 : decode cX1_bound 20 = .ok (.iconst 1, 1) := dk_4 (dk_at dksX1_bound_0 20 rfl rfl)
theorem dX1_bound_21 : decode cX1_bound 21 = .ok (.goto 4, 3) := dk_167 0 4 (dk_at dksX1_bound_0 21 rfl rfl)
theorem dX1_bound_24 : decode cX1_bound 24 = .ok (.iconst 0, 1) := dk_3 (dk_at dksX1_bound_1 0 rfl rfl)
theorem dX1_bound_25 : decode cX1_bound 25 = .ok (.invokestatic 106, 3) := dk_184 0 106 (dk_at dksX1_bound_1 1 rfl rfl)
theorem dX1_bound_28 : decode cX1_bound 28 = .ok (.lconst 1, 1) := dk_10 (dk_at dksX1_bound_1 4 rfl rfl)
theorem dX1_bound_29 : decode cX1_bound 29 = .ok (.lstore_n 3, 1) := dk_66 (dk_at dksX1_bound_1 5 rfl rfl)
theorem dX1_bound_30 : decode cX1_bound 30 = .ok (.iload_n 1, 1) := dk_27 (dk_at dksX1_bound_1 6 rfl rfl)
theorem dX1_bound_31 : decode cX1_bound 31 = .ok (.i2l, 1) := dk_133 (dk_at dksX1_bound_1 7 rfl rfl)
theorem dX1_bound_32 : decode cX1_bound 32 = .ok (.lstore 5, 2) := dk_55 5 (dk_at dksX1_bound_1 8 rfl rfl)
theorem dX1_bound_34 : decode cX1_bound 34 = .ok (.iconst 0, 1) := dk_3 (dk_at dksX1_bound_1 10 rfl rfl)
theorem dX1_bound_35 : decode cX1_bound 35 = .ok (.istore 7, 2) := dk_54 7 (dk_at dksX1_bound_1 11 rfl rfl)
theorem dX1_bound_37 : decode cX1_bound 37 = .ok (.iload 7, 2) := dk_21 7 (dk_at dksX1_bound_1 13 rfl rfl)
theorem dX1_bound_39 : decode cX1_bound 39 = .ok (.iload_n 2, 1) := dk_28 (dk_at dksX1_bound_1 15 rfl rfl)
theorem dX1_bound_40 : decode cX1_bound 40 = .ok (.if_icmp .ge 31, 3) := dk_162 0 31 (dk_at dksX1_bound_1 16 rfl rfl)
theorem dX1_bound_43 : decode cX1_bound 43 = .ok (.lload_n 3, 1) := dk_33 (dk_at dksX1_bound_1 19 rfl rfl)
theorem dX1_bound_44 : decode cX1_bound 44 = .ok (.ldc2_w 257, 3) := dk_20 1 1 (dk_at dksX1_bound_1 20 rfl rfl)
theorem dX1_bound_47 : decode cX1_bound 47 = .ok (.lcmp, 1) := dk_148 (dk_at dksX1_bound_1 23 rfl rfl)
theorem dX1_bound_48 : decode cX1_bound 48 = .ok (.ifCond .ge 23, 3) := dk_156 0 23 (dk_at dksX1_bound_2 0 rfl rfl)
theorem dX1_bound_51 : decode cX1_bound 51 = .ok (.lload_n 3, 1) := dk_33 (dk_at dksX1_bound_2 3 rfl rfl)
theorem dX1_bound_52 : decode cX1_bound 52 = .ok (.lload 5, 2) := dk_22 5 (dk_at dksX1_bound_2 4 rfl rfl)
theorem dX1_bound_54 : decode cX1_bound 54 = .ok (.ladd, 1) := dk_97 (dk_at dksX1_bound_2 6 rfl rfl)
theorem dX1_bound_55 : decode cX1_bound 55 = .ok (.lstore_n 3, 1) := dk_66 (dk_at dksX1_bound_2 7 rfl rfl)
theorem dX1_bound_56 : decode cX1_bound 56 = .ok (.lload 5, 2) := dk_22 5 (dk_at dksX1_bound_2 8 rfl rfl)
theorem dX1_bound_58 : decode cX1_bound 58 = .ok (.iload_n 1, 1) := dk_27 (dk_at dksX1_bound_2 10 rfl rfl)
theorem dX1_bound_59 : decode cX1_bound 59 = .ok (.iconst 1, 1) := dk_4 (dk_at dksX1_bound_2 11 rfl rfl)
theorem dX1_bound_60 : decode cX1_bound 60 = .ok (.isub, 1) := dk_100 (dk_at dksX1_bound_2 12 rfl rfl)
theorem dX1_bound_61 : decode cX1_bound 61 = .ok (.i2l, 1) := dk_133 (dk_at dksX1_bound_2 13 rfl rfl)
theorem dX1_bound_62 : decode cX1_bound 62 = .ok (.lmul, 1) := dk_105 (dk_at dksX1_bound_2 14 rfl rfl)
theorem dX1_bound_63 : decode cX1_bound 63 = .ok (.lstore 5, 2) := dk_55 5 (dk_at dksX1_bound_2 15 rfl rfl)
theorem dX1_bound_65 : decode cX1_bound 65 = .ok (.iinc 7 1, 3) := dk_132 7 1 (dk_at dksX1_bound_2 17 rfl rfl)
theorem dX1_bound_68 : decode cX1_bound 68 = .ok (.goto (-31), 3) := dk_167 255 225 (dk_at dksX1_bound_2 20 rfl rfl)
theorem dX1_bound_71 : decode cX1_bound 71 = .ok (.ldc2_w 257, 3) := dk_20 1 1 (dk_at dksX1_bound_3 0 rfl rfl)
theorem dX1_bound_74 : decode cX1_bound 74 = .ok (.lload_n 3, 1) := dk_33 (dk_at dksX1_bound_3 3 rfl rfl)
theorem dX1_bound_75 : decode cX1_bound 75 = .ok (.invokestatic 259, 3) := dk_184 1 3 (dk_at dksX1_bound_3 4 rfl rfl)
theorem dX1_bound_78 : decode cX1_bound 78 = .ok (.l2i, 1) := dk_136 (dk_at dksX1_bound_3 7 rfl rfl)
theorem dX1_bound_79 : decode cX1_bound 79 = .ok (.ireturn, 1) := dk_172 (dk_at dksX1_bound_3 8 rfl rfl)
abbrev cX1_falls : ByteArray := prog_1_method_37_code
def yX1_falls : MethodName := ⟨RX1, "falls", "(III)I"⟩
def dkwX1_falls_10 : List UInt8 := [185, 1, 24, 2, 0, 87, 21, 7, 172]
abbrev dktX1_falls_10 : List UInt8 := dkwX1_falls_10 ++ []
def dkwX1_falls_9 : List UInt8 := [184, 1, 18, 185, 1, 24, 2, 0, 87, 21, 9, 2, 159, 0, 18, 42, 180, 0, 42, 21, 9, 184, 1, 18]
abbrev dktX1_falls_9 : List UInt8 := dkwX1_falls_9 ++ dktX1_falls_10
def dkwX1_falls_8 : List UInt8 := [167, 255, 164, 42, 180, 0, 42, 185, 1, 14, 1, 0, 21, 8, 2, 159, 0, 18, 42, 180, 0, 42, 21, 8]
abbrev dktX1_falls_8 : List UInt8 := dkwX1_falls_8 ++ dktX1_falls_9
def dkwX1_falls_7 : List UInt8 := [167, 0, 15, 21, 12, 54, 7, 21, 10, 54, 8, 21, 11, 54, 9, 132, 11, 1, 167, 255, 200, 132, 10, 1]
abbrev dktX1_falls_7 : List UInt8 := dkwX1_falls_7 ++ dktX1_falls_8
def dkwX1_falls_6 : List UInt8 := [42, 25, 4, 25, 5, 28, 21, 10, 21, 11, 182, 1, 10, 54, 12, 21, 12, 21, 7, 163, 0, 6]
abbrev dktX1_falls_6 : List UInt8 := dkwX1_falls_6 ++ dktX1_falls_7
def dkwX1_falls_5 : List UInt8 := [4, 96, 167, 0, 4, 2, 54, 11, 21, 11, 29, 4, 164, 0, 8, 21, 6, 167, 0, 4, 3, 162, 0, 46]
abbrev dktX1_falls_5 : List UInt8 := dkwX1_falls_5 ++ dktX1_falls_6
def dkwX1_falls_4 : List UInt8 := [54, 10, 21, 10, 29, 158, 0, 8, 21, 6, 167, 0, 4, 3, 162, 0, 83, 29, 4, 164, 0, 10, 21, 10]
abbrev dktX1_falls_4 : List UInt8 := dkwX1_falls_4 ++ dktX1_falls_5
def dkwX1_falls_3 : List UInt8 := [160, 0, 5, 2, 172, 2, 54, 7, 2, 54, 8, 2, 54, 9, 29, 158, 0, 7, 3, 167, 0, 4, 2]
abbrev dktX1_falls_3 : List UInt8 := dkwX1_falls_3 ++ dktX1_falls_4
def dkwX1_falls_2 : List UInt8 := [167, 0, 8, 25, 4, 180, 0, 73, 54, 6, 29, 21, 6, 163, 0, 14, 28, 4, 160, 0, 11, 29, 21, 6]
abbrev dktX1_falls_2 : List UInt8 := dkwX1_falls_2 ++ dktX1_falls_3
def dkwX1_falls_1 : List UInt8 := [29, 3, 5, 184, 0, 61, 184, 0, 106, 25, 4, 182, 0, 162, 58, 5, 28, 154, 0, 9, 25, 5, 190]
abbrev dktX1_falls_1 : List UInt8 := dkwX1_falls_1 ++ dktX1_falls_2
def dkwX1_falls_0 : List UInt8 := [42, 27, 182, 0, 83, 58, 4, 28, 153, 0, 8, 28, 4, 160, 0, 7, 4, 167, 0, 4, 3, 184, 0, 69]
abbrev dktX1_falls_0 : List UInt8 := dkwX1_falls_0 ++ dktX1_falls_1
theorem dksX1_falls_0 : cX1_falls.data.toList.drop 0 = dktX1_falls_0 := by decide +kernel
theorem dksX1_falls_1 : cX1_falls.data.toList.drop 24 = dktX1_falls_1 := dk_seg dksX1_falls_0 24 rfl rfl
theorem dksX1_falls_2 : cX1_falls.data.toList.drop 47 = dktX1_falls_2 := dk_seg dksX1_falls_1 23 rfl rfl
theorem dksX1_falls_3 : cX1_falls.data.toList.drop 71 = dktX1_falls_3 := dk_seg dksX1_falls_2 24 rfl rfl
theorem dksX1_falls_4 : cX1_falls.data.toList.drop 94 = dktX1_falls_4 := dk_seg dksX1_falls_3 23 rfl rfl
theorem dksX1_falls_5 : cX1_falls.data.toList.drop 118 = dktX1_falls_5 := dk_seg dksX1_falls_4 24 rfl rfl
theorem dksX1_falls_6 : cX1_falls.data.toList.drop 142 = dktX1_falls_6 := dk_seg dksX1_falls_5 24 rfl rfl
theorem dksX1_falls_7 : cX1_falls.data.toList.drop 164 = dktX1_falls_7 := dk_seg dksX1_falls_6 22 rfl rfl
theorem dksX1_falls_8 : cX1_falls.data.toList.drop 188 = dktX1_falls_8 := dk_seg dksX1_falls_7 24 rfl rfl
theorem dksX1_falls_9 : cX1_falls.data.toList.drop 212 = dktX1_falls_9 := dk_seg dksX1_falls_8 24 rfl rfl
theorem dksX1_falls_10 : cX1_falls.data.toList.drop 236 = dktX1_falls_10 := dk_seg dksX1_falls_9 24 rfl rfl
theorem dX1_falls_0 : decode cX1_falls 0 = .ok (.aload_n 0, 1) := dk_42 (dk_at dksX1_falls_0 0 rfl rfl)
theorem dX1_falls_1 : decode cX1_falls 1 = .ok (.iload_n 1, 1) := dk_27 (dk_at dksX1_falls_0 1 rfl rfl)
theorem dX1_falls_2 : decode cX1_falls 2 = .ok (.invokevirtual 83, 3) := dk_182 0 83 (dk_at dksX1_falls_0 2 rfl rfl)
theorem dX1_falls_5 : decode cX1_falls 5 = .ok (.astore 4, 2) := dk_58 4 (dk_at dksX1_falls_0 5 rfl rfl)
theorem dX1_falls_7 : decode cX1_falls 7 = .ok (.iload_n 2, 1) := dk_28 (dk_at dksX1_falls_0 7 rfl rfl)
theorem dX1_falls_8 : decode cX1_falls 8 = .ok (.ifCond .eq 8, 3) := dk_153 0 8 (dk_at dksX1_falls_0 8 rfl rfl)
theorem dX1_falls_11 : decode cX1_falls 11 = .ok (.iload_n 2, 1) := dk_28 (dk_at dksX1_falls_0 11 rfl rfl)
theorem dX1_falls_12 : decode cX1_falls 12 = .ok (.iconst 1, 1) := dk_4 (dk_at dksX1_falls_0 12 rfl rfl)
theorem dX1_falls_13 : decode cX1_falls 13 = .ok (.if_icmp .ne 7, 3) := dk_160 0 7 (dk_at dksX1_falls_0 13 rfl rfl)
theorem dX1_falls_16 : decode cX1_falls 16 = .ok (.iconst 1, 1) := dk_4 (dk_at dksX1_falls_0 16 rfl rfl)
theorem dX1_falls_17 : decode cX1_falls 17 = .ok (.goto 4, 3) := dk_167 0 4 (dk_at dksX1_falls_0 17 rfl rfl)
theorem dX1_falls_20 : decode cX1_falls 20 = .ok (.iconst 0, 1) := dk_3 (dk_at dksX1_falls_0 20 rfl rfl)
theorem dX1_falls_21 : decode cX1_falls 21 = .ok (.invokestatic 69, 3) := dk_184 0 69 (dk_at dksX1_falls_0 21 rfl rfl)
theorem dX1_falls_24 : decode cX1_falls 24 = .ok (.iload_n 3, 1) := dk_29 (dk_at dksX1_falls_1 0 rfl rfl)
theorem dX1_falls_25 : decode cX1_falls 25 = .ok (.iconst 0, 1) := dk_3 (dk_at dksX1_falls_1 1 rfl rfl)
theorem dX1_falls_26 : decode cX1_falls 26 = .ok (.iconst 2, 1) := dk_5 (dk_at dksX1_falls_1 2 rfl rfl)
theorem dX1_falls_27 : decode cX1_falls 27 = .ok (.invokestatic 61, 3) := dk_184 0 61 (dk_at dksX1_falls_1 3 rfl rfl)
theorem dX1_falls_30 : decode cX1_falls 30 = .ok (.invokestatic 106, 3) := dk_184 0 106 (dk_at dksX1_falls_1 6 rfl rfl)
theorem dX1_falls_33 : decode cX1_falls 33 = .ok (.aload 4, 2) := dk_25 4 (dk_at dksX1_falls_1 9 rfl rfl)
theorem dX1_falls_35 : decode cX1_falls 35 = .ok (.invokevirtual 162, 3) := dk_182 0 162 (dk_at dksX1_falls_1 11 rfl rfl)
theorem dX1_falls_38 : decode cX1_falls 38 = .ok (.astore 5, 2) := dk_58 5 (dk_at dksX1_falls_1 14 rfl rfl)
theorem dX1_falls_40 : decode cX1_falls 40 = .ok (.iload_n 2, 1) := dk_28 (dk_at dksX1_falls_1 16 rfl rfl)
theorem dX1_falls_41 : decode cX1_falls 41 = .ok (.ifCond .ne 9, 3) := dk_154 0 9 (dk_at dksX1_falls_1 17 rfl rfl)
theorem dX1_falls_44 : decode cX1_falls 44 = .ok (.aload 5, 2) := dk_25 5 (dk_at dksX1_falls_1 20 rfl rfl)
theorem dX1_falls_46 : decode cX1_falls 46 = .ok (.arraylength, 1) := dk_190 (dk_at dksX1_falls_1 22 rfl rfl)
theorem dX1_falls_47 : decode cX1_falls 47 = .ok (.goto 8, 3) := dk_167 0 8 (dk_at dksX1_falls_2 0 rfl rfl)
theorem dX1_falls_50 : decode cX1_falls 50 = .ok (.aload 4, 2) := dk_25 4 (dk_at dksX1_falls_2 3 rfl rfl)
theorem dX1_falls_52 : decode cX1_falls 52 = .ok (.getfield 73, 3) := dk_180 0 73 (dk_at dksX1_falls_2 5 rfl rfl)
theorem dX1_falls_55 : decode cX1_falls 55 = .ok (.istore 6, 2) := dk_54 6 (dk_at dksX1_falls_2 8 rfl rfl)
theorem dX1_falls_57 : decode cX1_falls 57 = .ok (.iload_n 3, 1) := dk_29 (dk_at dksX1_falls_2 10 rfl rfl)
theorem dX1_falls_58 : decode cX1_falls 58 = .ok (.iload 6, 2) := dk_21 6 (dk_at dksX1_falls_2 11 rfl rfl)
theorem dX1_falls_60 : decode cX1_falls 60 = .ok (.if_icmp .gt 14, 3) := dk_163 0 14 (dk_at dksX1_falls_2 13 rfl rfl)
theorem dX1_falls_63 : decode cX1_falls 63 = .ok (.iload_n 2, 1) := dk_28 (dk_at dksX1_falls_2 16 rfl rfl)
theorem dX1_falls_64 : decode cX1_falls 64 = .ok (.iconst 1, 1) := dk_4 (dk_at dksX1_falls_2 17 rfl rfl)
theorem dX1_falls_65 : decode cX1_falls 65 = .ok (.if_icmp .ne 11, 3) := dk_160 0 11 (dk_at dksX1_falls_2 18 rfl rfl)
theorem dX1_falls_68 : decode cX1_falls 68 = .ok (.iload_n 3, 1) := dk_29 (dk_at dksX1_falls_2 21 rfl rfl)
theorem dX1_falls_69 : decode cX1_falls 69 = .ok (.iload 6, 2) := dk_21 6 (dk_at dksX1_falls_2 22 rfl rfl)
theorem dX1_falls_71 : decode cX1_falls 71 = .ok (.if_icmp .ne 5, 3) := dk_160 0 5 (dk_at dksX1_falls_3 0 rfl rfl)
theorem dX1_falls_74 : decode cX1_falls 74 = .ok (.iconst (-1), 1) := dk_2 (dk_at dksX1_falls_3 3 rfl rfl)
theorem dX1_falls_75 : decode cX1_falls 75 = .ok (.ireturn, 1) := dk_172 (dk_at dksX1_falls_3 4 rfl rfl)
theorem dX1_falls_76 : decode cX1_falls 76 = .ok (.iconst (-1), 1) := dk_2 (dk_at dksX1_falls_3 5 rfl rfl)
theorem dX1_falls_77 : decode cX1_falls 77 = .ok (.istore 7, 2) := dk_54 7 (dk_at dksX1_falls_3 6 rfl rfl)
theorem dX1_falls_79 : decode cX1_falls 79 = .ok (.iconst (-1), 1) := dk_2 (dk_at dksX1_falls_3 8 rfl rfl)
theorem dX1_falls_80 : decode cX1_falls 80 = .ok (.istore 8, 2) := dk_54 8 (dk_at dksX1_falls_3 9 rfl rfl)
theorem dX1_falls_82 : decode cX1_falls 82 = .ok (.iconst (-1), 1) := dk_2 (dk_at dksX1_falls_3 11 rfl rfl)
theorem dX1_falls_83 : decode cX1_falls 83 = .ok (.istore 9, 2) := dk_54 9 (dk_at dksX1_falls_3 12 rfl rfl)
theorem dX1_falls_85 : decode cX1_falls 85 = .ok (.iload_n 3, 1) := dk_29 (dk_at dksX1_falls_3 14 rfl rfl)
theorem dX1_falls_86 : decode cX1_falls 86 = .ok (.ifCond .le 7, 3) := dk_158 0 7 (dk_at dksX1_falls_3 15 rfl rfl)
theorem dX1_falls_89 : decode cX1_falls 89 = .ok (.iconst 0, 1) := dk_3 (dk_at dksX1_falls_3 18 rfl rfl)
theorem dX1_falls_90 : decode cX1_falls 90 = .ok (.goto 4, 3) := dk_167 0 4 (dk_at dksX1_falls_3 19 rfl rfl)
theorem dX1_falls_93 : decode cX1_falls 93 = .ok (.iconst (-1), 1) := dk_2 (dk_at dksX1_falls_3 22 rfl rfl)
theorem dX1_falls_94 : decode cX1_falls 94 = .ok (.istore 10, 2) := dk_54 10 (dk_at dksX1_falls_4 0 rfl rfl)
theorem dX1_falls_96 : decode cX1_falls 96 = .ok (.iload 10, 2) := dk_21 10 (dk_at dksX1_falls_4 2 rfl rfl)
theorem dX1_falls_98 : decode cX1_falls 98 = .ok (.iload_n 3, 1) := dk_29 (dk_at dksX1_falls_4 4 rfl rfl)
theorem dX1_falls_99 : decode cX1_falls 99 = .ok (.ifCond .le 8, 3) := dk_158 0 8 (dk_at dksX1_falls_4 5 rfl rfl)
theorem dX1_falls_102 : decode cX1_falls 102 = .ok (.iload 6, 2) := dk_21 6 (dk_at dksX1_falls_4 8 rfl rfl)
theorem dX1_falls_104 : decode cX1_falls 104 = .ok (.goto 4, 3) := dk_167 0 4 (dk_at dksX1_falls_4 10 rfl rfl)
theorem dX1_falls_107 : decode cX1_falls 107 = .ok (.iconst 0, 1) := dk_3 (dk_at dksX1_falls_4 13 rfl rfl)
theorem dX1_falls_108 : decode cX1_falls 108 = .ok (.if_icmp .ge 83, 3) := dk_162 0 83 (dk_at dksX1_falls_4 14 rfl rfl)
theorem dX1_falls_111 : decode cX1_falls 111 = .ok (.iload_n 3, 1) := dk_29 (dk_at dksX1_falls_4 17 rfl rfl)
theorem dX1_falls_112 : decode cX1_falls 112 = .ok (.iconst 1, 1) := dk_4 (dk_at dksX1_falls_4 18 rfl rfl)
theorem dX1_falls_113 : decode cX1_falls 113 = .ok (.if_icmp .le 10, 3) := dk_164 0 10 (dk_at dksX1_falls_4 19 rfl rfl)
theorem dX1_falls_116 : decode cX1_falls 116 = .ok (.iload 10, 2) := dk_21 10 (dk_at dksX1_falls_4 22 rfl rfl)
theorem dX1_falls_118 : decode cX1_falls 118 = .ok (.iconst 1, 1) := dk_4 (dk_at dksX1_falls_5 0 rfl rfl)
theorem dX1_falls_119 : decode cX1_falls 119 = .ok (.iadd, 1) := dk_96 (dk_at dksX1_falls_5 1 rfl rfl)
theorem dX1_falls_120 : decode cX1_falls 120 = .ok (.goto 4, 3) := dk_167 0 4 (dk_at dksX1_falls_5 2 rfl rfl)
theorem dX1_falls_123 : decode cX1_falls 123 = .ok (.iconst (-1), 1) := dk_2 (dk_at dksX1_falls_5 5 rfl rfl)
theorem dX1_falls_124 : decode cX1_falls 124 = .ok (.istore 11, 2) := dk_54 11 (dk_at dksX1_falls_5 6 rfl rfl)
theorem dX1_falls_126 : decode cX1_falls 126 = .ok (.iload 11, 2) := dk_21 11 (dk_at dksX1_falls_5 8 rfl rfl)
theorem dX1_falls_128 : decode cX1_falls 128 = .ok (.iload_n 3, 1) := dk_29 (dk_at dksX1_falls_5 10 rfl rfl)
theorem dX1_falls_129 : decode cX1_falls 129 = .ok (.iconst 1, 1) := dk_4 (dk_at dksX1_falls_5 11 rfl rfl)
theorem dX1_falls_130 : decode cX1_falls 130 = .ok (.if_icmp .le 8, 3) := dk_164 0 8 (dk_at dksX1_falls_5 12 rfl rfl)
theorem dX1_falls_133 : decode cX1_falls 133 = .ok (.iload 6, 2) := dk_21 6 (dk_at dksX1_falls_5 15 rfl rfl)
theorem dX1_falls_135 : decode cX1_falls 135 = .ok (.goto 4, 3) := dk_167 0 4 (dk_at dksX1_falls_5 17 rfl rfl)
theorem dX1_falls_138 : decode cX1_falls 138 = .ok (.iconst 0, 1) := dk_3 (dk_at dksX1_falls_5 20 rfl rfl)
theorem dX1_falls_139 : decode cX1_falls 139 = .ok (.if_icmp .ge 46, 3) := dk_162 0 46 (dk_at dksX1_falls_5 21 rfl rfl)
theorem dX1_falls_142 : decode cX1_falls 142 = .ok (.aload_n 0, 1) := dk_42 (dk_at dksX1_falls_6 0 rfl rfl)
theorem dX1_falls_143 : decode cX1_falls 143 = .ok (.aload 4, 2) := dk_25 4 (dk_at dksX1_falls_6 1 rfl rfl)
theorem dX1_falls_145 : decode cX1_falls 145 = .ok (.aload 5, 2) := dk_25 5 (dk_at dksX1_falls_6 3 rfl rfl)
theorem dX1_falls_147 : decode cX1_falls 147 = .ok (.iload_n 2, 1) := dk_28 (dk_at dksX1_falls_6 5 rfl rfl)
theorem dX1_falls_148 : decode cX1_falls 148 = .ok (.iload 10, 2) := dk_21 10 (dk_at dksX1_falls_6 6 rfl rfl)
theorem dX1_falls_150 : decode cX1_falls 150 = .ok (.iload 11, 2) := dk_21 11 (dk_at dksX1_falls_6 8 rfl rfl)
theorem dX1_falls_152 : decode cX1_falls 152 = .ok (.invokevirtual 266, 3) := dk_182 1 10 (dk_at dksX1_falls_6 10 rfl rfl)
theorem dX1_falls_155 : decode cX1_falls 155 = .ok (.istore 12, 2) := dk_54 12 (dk_at dksX1_falls_6 13 rfl rfl)
theorem dX1_falls_157 : decode cX1_falls 157 = .ok (.iload 12, 2) := dk_21 12 (dk_at dksX1_falls_6 15 rfl rfl)
theorem dX1_falls_159 : decode cX1_falls 159 = .ok (.iload 7, 2) := dk_21 7 (dk_at dksX1_falls_6 17 rfl rfl)
theorem dX1_falls_161 : decode cX1_falls 161 = .ok (.if_icmp .gt 6, 3) := dk_163 0 6 (dk_at dksX1_falls_6 19 rfl rfl)
theorem dX1_falls_164 : decode cX1_falls 164 = .ok (.goto 15, 3) := dk_167 0 15 (dk_at dksX1_falls_7 0 rfl rfl)
theorem dX1_falls_167 : decode cX1_falls 167 = .ok (.iload 12, 2) := dk_21 12 (dk_at dksX1_falls_7 3 rfl rfl)
theorem dX1_falls_169 : decode cX1_falls 169 = .ok (.istore 7, 2) := dk_54 7 (dk_at dksX1_falls_7 5 rfl rfl)
theorem dX1_falls_171 : decode cX1_falls 171 = .ok (.iload 10, 2) := dk_21 10 (dk_at dksX1_falls_7 7 rfl rfl)
theorem dX1_falls_173 : decode cX1_falls 173 = .ok (.istore 8, 2) := dk_54 8 (dk_at dksX1_falls_7 9 rfl rfl)
theorem dX1_falls_175 : decode cX1_falls 175 = .ok (.iload 11, 2) := dk_21 11 (dk_at dksX1_falls_7 11 rfl rfl)
theorem dX1_falls_177 : decode cX1_falls 177 = .ok (.istore 9, 2) := dk_54 9 (dk_at dksX1_falls_7 13 rfl rfl)
theorem dX1_falls_179 : decode cX1_falls 179 = .ok (.iinc 11 1, 3) := dk_132 11 1 (dk_at dksX1_falls_7 15 rfl rfl)
theorem dX1_falls_182 : decode cX1_falls 182 = .ok (.goto (-56), 3) := dk_167 255 200 (dk_at dksX1_falls_7 18 rfl rfl)
theorem dX1_falls_185 : decode cX1_falls 185 = .ok (.iinc 10 1, 3) := dk_132 10 1 (dk_at dksX1_falls_7 21 rfl rfl)
theorem dX1_falls_188 : decode cX1_falls 188 = .ok (.goto (-92), 3) := dk_167 255 164 (dk_at dksX1_falls_8 0 rfl rfl)
theorem dX1_falls_191 : decode cX1_falls 191 = .ok (.aload_n 0, 1) := dk_42 (dk_at dksX1_falls_8 3 rfl rfl)
theorem dX1_falls_192 : decode cX1_falls 192 = .ok (.getfield 42, 3) := dk_180 0 42 (dk_at dksX1_falls_8 4 rfl rfl)
theorem dX1_falls_195 : decode cX1_falls 195 = .ok (.invokeinterface 270 1, 5) := by decide +kernel
theorem dX1_falls_200 : decode cX1_falls 200 = .ok (.iload 8, 2) := dk_21 8 (dk_at dksX1_falls_8 12 rfl rfl)
theorem dX1_falls_202 : decode cX1_falls 202 = .ok (.iconst (-1), 1) := dk_2 (dk_at dksX1_falls_8 14 rfl rfl)
theorem dX1_falls_203 : decode cX1_falls 203 = .ok (.if_icmp .eq 18, 3) := dk_159 0 18 (dk_at dksX1_falls_8 15 rfl rfl)
theorem dX1_falls_206 : decode cX1_falls 206 = .ok (.aload_n 0, 1) := dk_42 (dk_at dksX1_falls_8 18 rfl rfl)
theorem dX1_falls_207 : decode cX1_falls 207 = .ok (.getfield 42, 3) := dk_180 0 42 (dk_at dksX1_falls_8 19 rfl rfl)
theorem dX1_falls_210 : decode cX1_falls 210 = .ok (.iload 8, 2) := dk_21 8 (dk_at dksX1_falls_8 22 rfl rfl)
theorem dX1_falls_212 : decode cX1_falls 212 = .ok (.invokestatic 274, 3) := dk_184 1 18 (dk_at dksX1_falls_9 0 rfl rfl)
theorem dX1_falls_215 : decode cX1_falls 215 = .ok (.invokeinterface 280 2, 5) := by decide +kernel
theorem dX1_falls_220 : decode cX1_falls 220 = .ok (.pop, 1) := dk_87 (dk_at dksX1_falls_9 8 rfl rfl)
theorem dX1_falls_221 : decode cX1_falls 221 = .ok (.iload 9, 2) := dk_21 9 (dk_at dksX1_falls_9 9 rfl rfl)
theorem dX1_falls_223 : decode cX1_falls 223 = .ok (.iconst (-1), 1) := dk_2 (dk_at dksX1_falls_9 11 rfl rfl)
theorem dX1_falls_224 : decode cX1_falls 224 = .ok (.if_icmp .eq 18, 3) := dk_159 0 18 (dk_at dksX1_falls_9 12 rfl rfl)
theorem dX1_falls_227 : decode cX1_falls 227 = .ok (.aload_n 0, 1) := dk_42 (dk_at dksX1_falls_9 15 rfl rfl)
theorem dX1_falls_228 : decode cX1_falls 228 = .ok (.getfield 42, 3) := dk_180 0 42 (dk_at dksX1_falls_9 16 rfl rfl)
theorem dX1_falls_231 : decode cX1_falls 231 = .ok (.iload 9, 2) := dk_21 9 (dk_at dksX1_falls_9 19 rfl rfl)
theorem dX1_falls_233 : decode cX1_falls 233 = .ok (.invokestatic 274, 3) := dk_184 1 18 (dk_at dksX1_falls_9 21 rfl rfl)
theorem dX1_falls_236 : decode cX1_falls 236 = .ok (.invokeinterface 280 2, 5) := by decide +kernel
theorem dX1_falls_241 : decode cX1_falls 241 = .ok (.pop, 1) := dk_87 (dk_at dksX1_falls_10 5 rfl rfl)
theorem dX1_falls_242 : decode cX1_falls 242 = .ok (.iload 7, 2) := dk_21 7 (dk_at dksX1_falls_10 6 rfl rfl)
theorem dX1_falls_244 : decode cX1_falls 244 = .ok (.ireturn, 1) := dk_172 (dk_at dksX1_falls_10 8 rfl rfl)
abbrev cX1_left : ByteArray := prog_1_method_36_code
def yX1_left : MethodName := ⟨RX1, "left", "(LWiredNets$Net;[IIII)I"⟩
def dkwX1_left_4 : List UInt8 := [184, 1, 6, 21, 6, 172]
abbrev dktX1_left_4 : List UInt8 := dkwX1_left_4 ++ []
def dkwX1_left_3 : List UInt8 := [43, 43, 182, 0, 174, 182, 0, 177, 54, 6, 43, 44, 21, 4, 3, 184, 1, 6, 43, 44, 21, 5, 3]
abbrev dktX1_left_3 : List UInt8 := dkwX1_left_3 ++ dktX1_left_4
def dkwX1_left_2 : List UInt8 := [182, 0, 177, 172, 43, 44, 21, 4, 4, 184, 1, 6, 43, 44, 21, 5, 4, 184, 1, 6, 42, 180, 0, 28]
abbrev dktX1_left_2 : List UInt8 := dkwX1_left_2 ++ dktX1_left_3
def dkwX1_left_1 : List UInt8 := [4, 21, 4, 120, 2, 130, 126, 21, 5, 2, 160, 0, 7, 3, 167, 0, 7, 4, 21, 5, 120, 2, 130, 126]
abbrev dktX1_left_1 : List UInt8 := dkwX1_left_1 ++ dktX1_left_2
def dkwX1_left_0 : List UInt8 := [29, 4, 160, 0, 50, 42, 180, 0, 28, 43, 43, 182, 0, 174, 21, 4, 2, 160, 0, 7, 3, 167, 0, 7]
abbrev dktX1_left_0 : List UInt8 := dkwX1_left_0 ++ dktX1_left_1
theorem dksX1_left_0 : cX1_left.data.toList.drop 0 = dktX1_left_0 := by decide +kernel
theorem dksX1_left_1 : cX1_left.data.toList.drop 24 = dktX1_left_1 := dk_seg dksX1_left_0 24 rfl rfl
theorem dksX1_left_2 : cX1_left.data.toList.drop 48 = dktX1_left_2 := dk_seg dksX1_left_1 24 rfl rfl
theorem dksX1_left_3 : cX1_left.data.toList.drop 72 = dktX1_left_3 := dk_seg dksX1_left_2 24 rfl rfl
theorem dksX1_left_4 : cX1_left.data.toList.drop 95 = dktX1_left_4 := dk_seg dksX1_left_3 23 rfl rfl
theorem dX1_left_0 : decode cX1_left 0 = .ok (.iload_n 3, 1) := dk_29 (dk_at dksX1_left_0 0 rfl rfl)
theorem dX1_left_1 : decode cX1_left 1 = .ok (.iconst 1, 1) := dk_4 (dk_at dksX1_left_0 1 rfl rfl)
theorem dX1_left_2 : decode cX1_left 2 = .ok (.if_icmp .ne 50, 3) := dk_160 0 50 (dk_at dksX1_left_0 2 rfl rfl)
theorem dX1_left_5 : decode cX1_left 5 = .ok (.aload_n 0, 1) := dk_42 (dk_at dksX1_left_0 5 rfl rfl)
theorem dX1_left_6 : decode cX1_left 6 = .ok (.getfield 28, 3) := dk_180 0 28 (dk_at dksX1_left_0 6 rfl rfl)
theorem dX1_left_9 : decode cX1_left 9 = .ok (.aload_n 1, 1) := dk_43 (dk_at dksX1_left_0 9 rfl rfl)
theorem dX1_left_10 : decode cX1_left 10 = .ok (.aload_n 1, 1) := dk_43 (dk_at dksX1_left_0 10 rfl rfl)
theorem dX1_left_11 : decode cX1_left 11 = .ok (.invokevirtual 174, 3) := dk_182 0 174 (dk_at dksX1_left_0 11 rfl rfl)
theorem dX1_left_14 : decode cX1_left 14 = .ok (.iload 4, 2) := dk_21 4 (dk_at dksX1_left_0 14 rfl rfl)
theorem dX1_left_16 : decode cX1_left 16 = .ok (.iconst (-1), 1) := dk_2 (dk_at dksX1_left_0 16 rfl rfl)
theorem dX1_left_17 : decode cX1_left 17 = .ok (.if_icmp .ne 7, 3) := dk_160 0 7 (dk_at dksX1_left_0 17 rfl rfl)
theorem dX1_left_20 : decode cX1_left 20 = .ok (.iconst 0, 1) := dk_3 (dk_at dksX1_left_0 20 rfl rfl)
theorem dX1_left_21 : decode cX1_left 21 = .ok (.goto 7, 3) := dk_167 0 7 (dk_at dksX1_left_0 21 rfl rfl)
theorem dX1_left_24 : decode cX1_left 24 = .ok (.iconst 1, 1) := dk_4 (dk_at dksX1_left_1 0 rfl rfl)
theorem dX1_left_25 : decode cX1_left 25 = .ok (.iload 4, 2) := dk_21 4 (dk_at dksX1_left_1 1 rfl rfl)
theorem dX1_left_27 : decode cX1_left 27 = .ok (.ishl, 1) := dk_120 (dk_at dksX1_left_1 3 rfl rfl)
theorem dX1_left_28 : decode cX1_left 28 = .ok (.iconst (-1), 1) := dk_2 (dk_at dksX1_left_1 4 rfl rfl)
theorem dX1_left_29 : decode cX1_left 29 = .ok (.ixor, 1) := dk_130 (dk_at dksX1_left_1 5 rfl rfl)
theorem dX1_left_30 : decode cX1_left 30 = .ok (.iand, 1) := dk_126 (dk_at dksX1_left_1 6 rfl rfl)
theorem dX1_left_31 : decode cX1_left 31 = .ok (.iload 5, 2) := dk_21 5 (dk_at dksX1_left_1 7 rfl rfl)
theorem dX1_left_33 : decode cX1_left 33 = .ok (.iconst (-1), 1) := dk_2 (dk_at dksX1_left_1 9 rfl rfl)
theorem dX1_left_34 : decode cX1_left 34 = .ok (.if_icmp .ne 7, 3) := dk_160 0 7 (dk_at dksX1_left_1 10 rfl rfl)
theorem dX1_left_37 : decode cX1_left 37 = .ok (.iconst 0, 1) := dk_3 (dk_at dksX1_left_1 13 rfl rfl)
theorem dX1_left_38 : decode cX1_left 38 = .ok (.goto 7, 3) := dk_167 0 7 (dk_at dksX1_left_1 14 rfl rfl)
theorem dX1_left_41 : decode cX1_left 41 = .ok (.iconst 1, 1) := dk_4 (dk_at dksX1_left_1 17 rfl rfl)
theorem dX1_left_42 : decode cX1_left 42 = .ok (.iload 5, 2) := dk_21 5 (dk_at dksX1_left_1 18 rfl rfl)
theorem dX1_left_44 : decode cX1_left 44 = .ok (.ishl, 1) := dk_120 (dk_at dksX1_left_1 20 rfl rfl)
theorem dX1_left_45 : decode cX1_left 45 = .ok (.iconst (-1), 1) := dk_2 (dk_at dksX1_left_1 21 rfl rfl)
theorem dX1_left_46 : decode cX1_left 46 = .ok (.ixor, 1) := dk_130 (dk_at dksX1_left_1 22 rfl rfl)
theorem dX1_left_47 : decode cX1_left 47 = .ok (.iand, 1) := dk_126 (dk_at dksX1_left_1 23 rfl rfl)
theorem dX1_left_48 : decode cX1_left 48 = .ok (.invokevirtual 177, 3) := dk_182 0 177 (dk_at dksX1_left_2 0 rfl rfl)
theorem dX1_left_51 : decode cX1_left 51 = .ok (.ireturn, 1) := dk_172 (dk_at dksX1_left_2 3 rfl rfl)
theorem dX1_left_52 : decode cX1_left 52 = .ok (.aload_n 1, 1) := dk_43 (dk_at dksX1_left_2 4 rfl rfl)
theorem dX1_left_53 : decode cX1_left 53 = .ok (.aload_n 2, 1) := dk_44 (dk_at dksX1_left_2 5 rfl rfl)
theorem dX1_left_54 : decode cX1_left 54 = .ok (.iload 4, 2) := dk_21 4 (dk_at dksX1_left_2 6 rfl rfl)
theorem dX1_left_56 : decode cX1_left 56 = .ok (.iconst 1, 1) := dk_4 (dk_at dksX1_left_2 8 rfl rfl)
theorem dX1_left_57 : decode cX1_left 57 = .ok (.invokestatic 262, 3) := dk_184 1 6 (dk_at dksX1_left_2 9 rfl rfl)
theorem dX1_left_60 : decode cX1_left 60 = .ok (.aload_n 1, 1) := dk_43 (dk_at dksX1_left_2 12 rfl rfl)
theorem dX1_left_61 : decode cX1_left 61 = .ok (.aload_n 2, 1) := dk_44 (dk_at dksX1_left_2 13 rfl rfl)
theorem dX1_left_62 : decode cX1_left 62 = .ok (.iload 5, 2) := dk_21 5 (dk_at dksX1_left_2 14 rfl rfl)
theorem dX1_left_64 : decode cX1_left 64 = .ok (.iconst 1, 1) := dk_4 (dk_at dksX1_left_2 16 rfl rfl)
theorem dX1_left_65 : decode cX1_left 65 = .ok (.invokestatic 262, 3) := dk_184 1 6 (dk_at dksX1_left_2 17 rfl rfl)
theorem dX1_left_68 : decode cX1_left 68 = .ok (.aload_n 0, 1) := dk_42 (dk_at dksX1_left_2 20 rfl rfl)
theorem dX1_left_69 : decode cX1_left 69 = .ok (.getfield 28, 3) := dk_180 0 28 (dk_at dksX1_left_2 21 rfl rfl)
theorem dX1_left_72 : decode cX1_left 72 = .ok (.aload_n 1, 1) := dk_43 (dk_at dksX1_left_3 0 rfl rfl)
theorem dX1_left_73 : decode cX1_left 73 = .ok (.aload_n 1, 1) := dk_43 (dk_at dksX1_left_3 1 rfl rfl)
theorem dX1_left_74 : decode cX1_left 74 = .ok (.invokevirtual 174, 3) := dk_182 0 174 (dk_at dksX1_left_3 2 rfl rfl)
theorem dX1_left_77 : decode cX1_left 77 = .ok (.invokevirtual 177, 3) := dk_182 0 177 (dk_at dksX1_left_3 5 rfl rfl)
theorem dX1_left_80 : decode cX1_left 80 = .ok (.istore 6, 2) := dk_54 6 (dk_at dksX1_left_3 8 rfl rfl)
theorem dX1_left_82 : decode cX1_left 82 = .ok (.aload_n 1, 1) := dk_43 (dk_at dksX1_left_3 10 rfl rfl)
theorem dX1_left_83 : decode cX1_left 83 = .ok (.aload_n 2, 1) := dk_44 (dk_at dksX1_left_3 11 rfl rfl)
theorem dX1_left_84 : decode cX1_left 84 = .ok (.iload 4, 2) := dk_21 4 (dk_at dksX1_left_3 12 rfl rfl)
theorem dX1_left_86 : decode cX1_left 86 = .ok (.iconst 0, 1) := dk_3 (dk_at dksX1_left_3 14 rfl rfl)
theorem dX1_left_87 : decode cX1_left 87 = .ok (.invokestatic 262, 3) := dk_184 1 6 (dk_at dksX1_left_3 15 rfl rfl)
theorem dX1_left_90 : decode cX1_left 90 = .ok (.aload_n 1, 1) := dk_43 (dk_at dksX1_left_3 18 rfl rfl)
theorem dX1_left_91 : decode cX1_left 91 = .ok (.aload_n 2, 1) := dk_44 (dk_at dksX1_left_3 19 rfl rfl)
theorem dX1_left_92 : decode cX1_left 92 = .ok (.iload 5, 2) := dk_21 5 (dk_at dksX1_left_3 20 rfl rfl)
theorem dX1_left_94 : decode cX1_left 94 = .ok (.iconst 0, 1) := dk_3 (dk_at dksX1_left_3 22 rfl rfl)
theorem dX1_left_95 : decode cX1_left 95 = .ok (.invokestatic 262, 3) := dk_184 1 6 (dk_at dksX1_left_4 0 rfl rfl)
theorem dX1_left_98 : decode cX1_left 98 = .ok (.iload 6, 2) := dk_21 6 (dk_at dksX1_left_4 3 rfl rfl)
theorem dX1_left_100 : decode cX1_left 100 = .ok (.ireturn, 1) := dk_172 (dk_at dksX1_left_4 5 rfl rfl)
abbrev cX1_fall : ByteArray := prog_1_method_35_code
def yX1_fall : MethodName := ⟨RX1, "fall", "(LWiredNets$Net;[IIZ)V"⟩
def dkwX1_fall_1 : List UInt8 := [182, 0, 100, 167, 0, 18, 42, 43, 28, 46, 8, 122, 43, 28, 46, 16, 31, 126, 182, 0, 94, 177]
abbrev dktX1_fall_1 : List UInt8 := dkwX1_fall_1 ++ []
def dkwX1_fall_0 : List UInt8 := [28, 2, 160, 0, 4, 177, 29, 153, 0, 21, 42, 43, 28, 46, 8, 122, 43, 28, 46, 16, 31, 126]
abbrev dktX1_fall_0 : List UInt8 := dkwX1_fall_0 ++ dktX1_fall_1
theorem dksX1_fall_0 : cX1_fall.data.toList.drop 0 = dktX1_fall_0 := by decide +kernel
theorem dksX1_fall_1 : cX1_fall.data.toList.drop 22 = dktX1_fall_1 := dk_seg dksX1_fall_0 22 rfl rfl
theorem dX1_fall_0 : decode cX1_fall 0 = .ok (.iload_n 2, 1) := dk_28 (dk_at dksX1_fall_0 0 rfl rfl)
theorem dX1_fall_1 : decode cX1_fall 1 = .ok (.iconst (-1), 1) := dk_2 (dk_at dksX1_fall_0 1 rfl rfl)
theorem dX1_fall_2 : decode cX1_fall 2 = .ok (.if_icmp .ne 4, 3) := dk_160 0 4 (dk_at dksX1_fall_0 2 rfl rfl)
theorem dX1_fall_5 : decode cX1_fall 5 = .ok (.return_, 1) := dk_177 (dk_at dksX1_fall_0 5 rfl rfl)
theorem dX1_fall_6 : decode cX1_fall 6 = .ok (.iload_n 3, 1) := dk_29 (dk_at dksX1_fall_0 6 rfl rfl)
theorem dX1_fall_7 : decode cX1_fall 7 = .ok (.ifCond .eq 21, 3) := dk_153 0 21 (dk_at dksX1_fall_0 7 rfl rfl)
theorem dX1_fall_10 : decode cX1_fall 10 = .ok (.aload_n 0, 1) := dk_42 (dk_at dksX1_fall_0 10 rfl rfl)
theorem dX1_fall_11 : decode cX1_fall 11 = .ok (.aload_n 1, 1) := dk_43 (dk_at dksX1_fall_0 11 rfl rfl)
theorem dX1_fall_12 : decode cX1_fall 12 = .ok (.iload_n 2, 1) := dk_28 (dk_at dksX1_fall_0 12 rfl rfl)
theorem dX1_fall_13 : decode cX1_fall 13 = .ok (.iaload, 1) := dk_46 (dk_at dksX1_fall_0 13 rfl rfl)
theorem dX1_fall_14 : decode cX1_fall 14 = .ok (.iconst 5, 1) := dk_8 (dk_at dksX1_fall_0 14 rfl rfl)
theorem dX1_fall_15 : decode cX1_fall 15 = .ok (.ishr, 1) := dk_122 (dk_at dksX1_fall_0 15 rfl rfl)
theorem dX1_fall_16 : decode cX1_fall 16 = .ok (.aload_n 1, 1) := dk_43 (dk_at dksX1_fall_0 16 rfl rfl)
theorem dX1_fall_17 : decode cX1_fall 17 = .ok (.iload_n 2, 1) := dk_28 (dk_at dksX1_fall_0 17 rfl rfl)
theorem dX1_fall_18 : decode cX1_fall 18 = .ok (.iaload, 1) := dk_46 (dk_at dksX1_fall_0 18 rfl rfl)
theorem dX1_fall_19 : decode cX1_fall 19 = .ok (.bipush 31, 2) := dk_16 31 (dk_at dksX1_fall_0 19 rfl rfl)
theorem dX1_fall_21 : decode cX1_fall 21 = .ok (.iand, 1) := dk_126 (dk_at dksX1_fall_0 21 rfl rfl)
theorem dX1_fall_22 : decode cX1_fall 22 = .ok (.invokevirtual 100, 3) := dk_182 0 100 (dk_at dksX1_fall_1 0 rfl rfl)
theorem dX1_fall_25 : decode cX1_fall 25 = .ok (.goto 18, 3) := dk_167 0 18 (dk_at dksX1_fall_1 3 rfl rfl)
theorem dX1_fall_28 : decode cX1_fall 28 = .ok (.aload_n 0, 1) := dk_42 (dk_at dksX1_fall_1 6 rfl rfl)
theorem dX1_fall_29 : decode cX1_fall 29 = .ok (.aload_n 1, 1) := dk_43 (dk_at dksX1_fall_1 7 rfl rfl)
theorem dX1_fall_30 : decode cX1_fall 30 = .ok (.iload_n 2, 1) := dk_28 (dk_at dksX1_fall_1 8 rfl rfl)
theorem dX1_fall_31 : decode cX1_fall 31 = .ok (.iaload, 1) := dk_46 (dk_at dksX1_fall_1 9 rfl rfl)
theorem dX1_fall_32 : decode cX1_fall 32 = .ok (.iconst 5, 1) := dk_8 (dk_at dksX1_fall_1 10 rfl rfl)
theorem dX1_fall_33 : decode cX1_fall 33 = .ok (.ishr, 1) := dk_122 (dk_at dksX1_fall_1 11 rfl rfl)
theorem dX1_fall_34 : decode cX1_fall 34 = .ok (.aload_n 1, 1) := dk_43 (dk_at dksX1_fall_1 12 rfl rfl)
theorem dX1_fall_35 : decode cX1_fall 35 = .ok (.iload_n 2, 1) := dk_28 (dk_at dksX1_fall_1 13 rfl rfl)
theorem dX1_fall_36 : decode cX1_fall 36 = .ok (.iaload, 1) := dk_46 (dk_at dksX1_fall_1 14 rfl rfl)
theorem dX1_fall_37 : decode cX1_fall 37 = .ok (.bipush 31, 2) := dk_16 31 (dk_at dksX1_fall_1 15 rfl rfl)
theorem dX1_fall_39 : decode cX1_fall 39 = .ok (.iand, 1) := dk_126 (dk_at dksX1_fall_1 17 rfl rfl)
theorem dX1_fall_40 : decode cX1_fall 40 = .ok (.invokevirtual 94, 3) := dk_182 0 94 (dk_at dksX1_fall_1 18 rfl rfl)
theorem dX1_fall_43 : decode cX1_fall 43 = .ok (.return_, 1) := dk_177 (dk_at dksX1_fall_1 21 rfl rfl)
abbrev cX1_fallen : ByteArray := prog_1_method_38_code
def yX1_fallen : MethodName := ⟨RX1, "fallen", "(I)I"⟩
def dkwX1_fallen_1 : List UInt8 := [185, 1, 31, 2, 0, 192, 1, 19, 182, 1, 35, 172]
abbrev dktX1_fallen_1 : List UInt8 := dkwX1_fallen_1 ++ []
def dkwX1_fallen_0 : List UInt8 := [27, 3, 42, 180, 0, 42, 185, 1, 28, 1, 0, 4, 100, 184, 0, 61, 184, 0, 69, 42, 180, 0, 42, 27]
abbrev dktX1_fallen_0 : List UInt8 := dkwX1_fallen_0 ++ dktX1_fallen_1
theorem dksX1_fallen_0 : cX1_fallen.data.toList.drop 0 = dktX1_fallen_0 := by decide +kernel
theorem dksX1_fallen_1 : cX1_fallen.data.toList.drop 24 = dktX1_fallen_1 := dk_seg dksX1_fallen_0 24 rfl rfl
theorem dX1_fallen_0 : decode cX1_fallen 0 = .ok (.iload_n 1, 1) := dk_27 (dk_at dksX1_fallen_0 0 rfl rfl)
theorem dX1_fallen_1 : decode cX1_fallen 1 = .ok (.iconst 0, 1) := dk_3 (dk_at dksX1_fallen_0 1 rfl rfl)
theorem dX1_fallen_2 : decode cX1_fallen 2 = .ok (.aload_n 0, 1) := dk_42 (dk_at dksX1_fallen_0 2 rfl rfl)
theorem dX1_fallen_3 : decode cX1_fallen 3 = .ok (.getfield 42, 3) := dk_180 0 42 (dk_at dksX1_fallen_0 3 rfl rfl)
theorem dX1_fallen_6 : decode cX1_fallen 6 = .ok (.invokeinterface 284 1, 5) := by decide +kernel
theorem dX1_fallen_11 : decode cX1_fallen 11 = .ok (.iconst 1, 1) := dk_4 (dk_at dksX1_fallen_0 11 rfl rfl)
theorem dX1_fallen_12 : decode cX1_fallen 12 = .ok (.isub, 1) := dk_100 (dk_at dksX1_fallen_0 12 rfl rfl)
theorem dX1_fallen_13 : decode cX1_fallen 13 = .ok (.invokestatic 61, 3) := dk_184 0 61 (dk_at dksX1_fallen_0 13 rfl rfl)
theorem dX1_fallen_16 : decode cX1_fallen 16 = .ok (.invokestatic 69, 3) := dk_184 0 69 (dk_at dksX1_fallen_0 16 rfl rfl)
theorem dX1_fallen_19 : decode cX1_fallen 19 = .ok (.aload_n 0, 1) := dk_42 (dk_at dksX1_fallen_0 19 rfl rfl)
theorem dX1_fallen_20 : decode cX1_fallen 20 = .ok (.getfield 42, 3) := dk_180 0 42 (dk_at dksX1_fallen_0 20 rfl rfl)
theorem dX1_fallen_23 : decode cX1_fallen 23 = .ok (.iload_n 1, 1) := dk_27 (dk_at dksX1_fallen_0 23 rfl rfl)
theorem dX1_fallen_24 : decode cX1_fallen 24 = .ok (.invokeinterface 287 2, 5) := by decide +kernel
theorem dX1_fallen_29 : decode cX1_fallen 29 = .ok (.checkcast 275, 3) := dk_192 1 19 (dk_at dksX1_fallen_1 5 rfl rfl)
theorem dX1_fallen_32 : decode cX1_fallen 32 = .ok (.invokevirtual 291, 3) := dk_182 1 35 (dk_at dksX1_fallen_1 8 rfl rfl)
theorem dX1_fallen_35 : decode cX1_fallen 35 = .ok (.ireturn, 1) := dk_172 (dk_at dksX1_fallen_1 11 rfl rfl)
abbrev cX1_halves : ByteArray := prog_1_method_39_code
def yX1_halves : MethodName := ⟨RX1, "halves", "(I)I"⟩
def dkwX1_halves_4 : List UInt8 := [2, 159, 0, 9, 21, 5, 29, 162, 0, 6, 21, 5, 62, 132, 4, 1, 167, 255, 166, 29, 172]
abbrev dktX1_halves_4 : List UInt8 := dkwX1_halves_4 ++ []
def dkwX1_halves_3 : List UInt8 := [21, 4, 2, 130, 126, 184, 1, 38, 96, 54, 5, 21, 6, 21, 6, 4, 100, 126, 54, 6, 167, 255, 219, 29]
abbrev dktX1_halves_3 : List UInt8 := dkwX1_halves_3 ++ dktX1_halves_4
def dkwX1_halves_2 : List UInt8 := [3, 54, 5, 21, 4, 54, 6, 21, 6, 153, 0, 38, 21, 5, 44, 180, 1, 41, 21, 6, 184, 1, 44, 46]
abbrev dktX1_halves_2 : List UInt8 := dkwX1_halves_2 ++ dktX1_halves_3
def dkwX1_halves_1 : List UInt8 := [44, 182, 0, 174, 163, 0, 87, 21, 4, 184, 1, 38, 44, 180, 0, 73, 5, 108, 159, 0, 6, 167, 0, 64]
abbrev dktX1_halves_1 : List UInt8 := dkwX1_halves_1 ++ dktX1_halves_2
def dkwX1_halves_0 : List UInt8 := [42, 27, 182, 0, 83, 77, 44, 180, 0, 73, 16, 14, 164, 0, 5, 2, 172, 2, 62, 3, 54, 4, 21, 4]
abbrev dktX1_halves_0 : List UInt8 := dkwX1_halves_0 ++ dktX1_halves_1
theorem dksX1_halves_0 : cX1_halves.data.toList.drop 0 = dktX1_halves_0 := by decide +kernel
theorem dksX1_halves_1 : cX1_halves.data.toList.drop 24 = dktX1_halves_1 := dk_seg dksX1_halves_0 24 rfl rfl
theorem dksX1_halves_2 : cX1_halves.data.toList.drop 48 = dktX1_halves_2 := dk_seg dksX1_halves_1 24 rfl rfl
theorem dksX1_halves_3 : cX1_halves.data.toList.drop 72 = dktX1_halves_3 := dk_seg dksX1_halves_2 24 rfl rfl
theorem dksX1_halves_4 : cX1_halves.data.toList.drop 96 = dktX1_halves_4 := dk_seg dksX1_halves_3 24 rfl rfl
theorem dX1_halves_0 : decode cX1_halves 0 = .ok (.aload_n 0, 1) := dk_42 (dk_at dksX1_halves_0 0 rfl rfl)
theorem dX1_halves_1 : decode cX1_halves 1 = .ok (.iload_n 1, 1) := dk_27 (dk_at dksX1_halves_0 1 rfl rfl)
theorem dX1_halves_2 : decode cX1_halves 2 = .ok (.invokevirtual 83, 3) := dk_182 0 83 (dk_at dksX1_halves_0 2 rfl rfl)
theorem dX1_halves_5 : decode cX1_halves 5 = .ok (.astore_n 2, 1) := dk_77 (dk_at dksX1_halves_0 5 rfl rfl)
theorem dX1_halves_6 : decode cX1_halves 6 = .ok (.aload_n 2, 1) := dk_44 (dk_at dksX1_halves_0 6 rfl rfl)
theorem dX1_halves_7 : decode cX1_halves 7 = .ok (.getfield 73, 3) := dk_180 0 73 (dk_at dksX1_halves_0 7 rfl rfl)
theorem dX1_halves_10 : decode cX1_halves 10 = .ok (.bipush 14, 2) := dk_16 14 (dk_at dksX1_halves_0 10 rfl rfl)
theorem dX1_halves_12 : decode cX1_halves 12 = .ok (.if_icmp .le 5, 3) := dk_164 0 5 (dk_at dksX1_halves_0 12 rfl rfl)
theorem dX1_halves_15 : decode cX1_halves 15 = .ok (.iconst (-1), 1) := dk_2 (dk_at dksX1_halves_0 15 rfl rfl)
theorem dX1_halves_16 : decode cX1_halves 16 = .ok (.ireturn, 1) := dk_172 (dk_at dksX1_halves_0 16 rfl rfl)
theorem dX1_halves_17 : decode cX1_halves 17 = .ok (.iconst (-1), 1) := dk_2 (dk_at dksX1_halves_0 17 rfl rfl)
theorem dX1_halves_18 : decode cX1_halves 18 = .ok (.istore_n 3, 1) := dk_62 (dk_at dksX1_halves_0 18 rfl rfl)
theorem dX1_halves_19 : decode cX1_halves 19 = .ok (.iconst 0, 1) := dk_3 (dk_at dksX1_halves_0 19 rfl rfl)
theorem dX1_halves_20 : decode cX1_halves 20 = .ok (.istore 4, 2) := dk_54 4 (dk_at dksX1_halves_0 20 rfl rfl)
theorem dX1_halves_22 : decode cX1_halves 22 = .ok (.iload 4, 2) := dk_21 4 (dk_at dksX1_halves_0 22 rfl rfl)
theorem dX1_halves_24 : decode cX1_halves 24 = .ok (.aload_n 2, 1) := dk_44 (dk_at dksX1_halves_1 0 rfl rfl)
theorem dX1_halves_25 : decode cX1_halves 25 = .ok (.invokevirtual 174, 3) := dk_182 0 174 (dk_at dksX1_halves_1 1 rfl rfl)
theorem dX1_halves_28 : decode cX1_halves 28 = .ok (.if_icmp .gt 87, 3) := dk_163 0 87 (dk_at dksX1_halves_1 4 rfl rfl)
theorem dX1_halves_31 : decode cX1_halves 31 = .ok (.iload 4, 2) := dk_21 4 (dk_at dksX1_halves_1 7 rfl rfl)
theorem dX1_halves_33 : decode cX1_halves 33 = .ok (.invokestatic 294, 3) := dk_184 1 38 (dk_at dksX1_halves_1 9 rfl rfl)
theorem dX1_halves_36 : decode cX1_halves 36 = .ok (.aload_n 2, 1) := dk_44 (dk_at dksX1_halves_1 12 rfl rfl)
theorem dX1_halves_37 : decode cX1_halves 37 = .ok (.getfield 73, 3) := dk_180 0 73 (dk_at dksX1_halves_1 13 rfl rfl)
theorem dX1_halves_40 : decode cX1_halves 40 = .ok (.iconst 2, 1) := dk_5 (dk_at dksX1_halves_1 16 rfl rfl)
theorem dX1_halves_41 : decode cX1_halves 41 = .ok (.idiv, 1) := dk_108 (dk_at dksX1_halves_1 17 rfl rfl)
theorem dX1_halves_42 : decode cX1_halves 42 = .ok (.if_icmp .eq 6, 3) := dk_159 0 6 (dk_at dksX1_halves_1 18 rfl rfl)
theorem dX1_halves_45 : decode cX1_halves 45 = .ok (.goto 64, 3) := dk_167 0 64 (dk_at dksX1_halves_1 21 rfl rfl)
theorem dX1_halves_48 : decode cX1_halves 48 = .ok (.iconst 0, 1) := dk_3 (dk_at dksX1_halves_2 0 rfl rfl)
theorem dX1_halves_49 : decode cX1_halves 49 = .ok (.istore 5, 2) := dk_54 5 (dk_at dksX1_halves_2 1 rfl rfl)
theorem dX1_halves_51 : decode cX1_halves 51 = .ok (.iload 4, 2) := dk_21 4 (dk_at dksX1_halves_2 3 rfl rfl)
theorem dX1_halves_53 : decode cX1_halves 53 = .ok (.istore 6, 2) := dk_54 6 (dk_at dksX1_halves_2 5 rfl rfl)
theorem dX1_halves_55 : decode cX1_halves 55 = .ok (.iload 6, 2) := dk_21 6 (dk_at dksX1_halves_2 7 rfl rfl)
theorem dX1_halves_57 : decode cX1_halves 57 = .ok (.ifCond .eq 38, 3) := dk_153 0 38 (dk_at dksX1_halves_2 9 rfl rfl)
theorem dX1_halves_60 : decode cX1_halves 60 = .ok (.iload 5, 2) := dk_21 5 (dk_at dksX1_halves_2 12 rfl rfl)
theorem dX1_halves_62 : decode cX1_halves 62 = .ok (.aload_n 2, 1) := dk_44 (dk_at dksX1_halves_2 14 rfl rfl)
theorem dX1_halves_63 : decode cX1_halves 63 = .ok (.getfield 297, 3) := dk_180 1 41 (dk_at dksX1_halves_2 15 rfl rfl)
theorem dX1_halves_66 : decode cX1_halves 66 = .ok (.iload 6, 2) := dk_21 6 (dk_at dksX1_halves_2 18 rfl rfl)
theorem dX1_halves_68 : decode cX1_halves 68 = .ok (.invokestatic 300, 3) := dk_184 1 44 (dk_at dksX1_halves_2 20 rfl rfl)
theorem dX1_halves_71 : decode cX1_halves 71 = .ok (.iaload, 1) := dk_46 (dk_at dksX1_halves_2 23 rfl rfl)
theorem dX1_halves_72 : decode cX1_halves 72 = .ok (.iload 4, 2) := dk_21 4 (dk_at dksX1_halves_3 0 rfl rfl)
theorem dX1_halves_74 : decode cX1_halves 74 = .ok (.iconst (-1), 1) := dk_2 (dk_at dksX1_halves_3 2 rfl rfl)
theorem dX1_halves_75 : decode cX1_halves 75 = .ok (.ixor, 1) := dk_130 (dk_at dksX1_halves_3 3 rfl rfl)
theorem dX1_halves_76 : decode cX1_halves 76 = .ok (.iand, 1) := dk_126 (dk_at dksX1_halves_3 4 rfl rfl)
theorem dX1_halves_77 : decode cX1_halves 77 = .ok (.invokestatic 294, 3) := dk_184 1 38 (dk_at dksX1_halves_3 5 rfl rfl)
theorem dX1_halves_80 : decode cX1_halves 80 = .ok (.iadd, 1) := dk_96 (dk_at dksX1_halves_3 8 rfl rfl)
theorem dX1_halves_81 : decode cX1_halves 81 = .ok (.istore 5, 2) := dk_54 5 (dk_at dksX1_halves_3 9 rfl rfl)
theorem dX1_halves_83 : decode cX1_halves 83 = .ok (.iload 6, 2) := dk_21 6 (dk_at dksX1_halves_3 11 rfl rfl)
theorem dX1_halves_85 : decode cX1_halves 85 = .ok (.iload 6, 2) := dk_21 6 (dk_at dksX1_halves_3 13 rfl rfl)
theorem dX1_halves_87 : decode cX1_halves 87 = .ok (.iconst 1, 1) := dk_4 (dk_at dksX1_halves_3 15 rfl rfl)
theorem dX1_halves_88 : decode cX1_halves 88 = .ok (.isub, 1) := dk_100 (dk_at dksX1_halves_3 16 rfl rfl)
theorem dX1_halves_89 : decode cX1_halves 89 = .ok (.iand, 1) := dk_126 (dk_at dksX1_halves_3 17 rfl rfl)
theorem dX1_halves_90 : decode cX1_halves 90 = .ok (.istore 6, 2) := dk_54 6 (dk_at dksX1_halves_3 18 rfl rfl)
theorem dX1_halves_92 : decode cX1_halves 92 = .ok (.goto (-37), 3) := dk_167 255 219 (dk_at dksX1_halves_3 20 rfl rfl)
theorem dX1_halves_95 : decode cX1_halves 95 = .ok (.iload_n 3, 1) := dk_29 (dk_at dksX1_halves_3 23 rfl rfl)
theorem dX1_halves_96 : decode cX1_halves 96 = .ok (.iconst (-1), 1) := dk_2 (dk_at dksX1_halves_4 0 rfl rfl)
theorem dX1_halves_97 : decode cX1_halves 97 = .ok (.if_icmp .eq 9, 3) := dk_159 0 9 (dk_at dksX1_halves_4 1 rfl rfl)
theorem dX1_halves_100 : decode cX1_halves 100 = .ok (.iload 5, 2) := dk_21 5 (dk_at dksX1_halves_4 4 rfl rfl)
theorem dX1_halves_102 : decode cX1_halves 102 = .ok (.iload_n 3, 1) := dk_29 (dk_at dksX1_halves_4 6 rfl rfl)
theorem dX1_halves_103 : decode cX1_halves 103 = .ok (.if_icmp .ge 6, 3) := dk_162 0 6 (dk_at dksX1_halves_4 7 rfl rfl)
theorem dX1_halves_106 : decode cX1_halves 106 = .ok (.iload 5, 2) := dk_21 5 (dk_at dksX1_halves_4 10 rfl rfl)
theorem dX1_halves_108 : decode cX1_halves 108 = .ok (.istore_n 3, 1) := dk_62 (dk_at dksX1_halves_4 12 rfl rfl)
theorem dX1_halves_109 : decode cX1_halves 109 = .ok (.iinc 4 1, 3) := dk_132 4 1 (dk_at dksX1_halves_4 13 rfl rfl)
theorem dX1_halves_112 : decode cX1_halves 112 = .ok (.goto (-90), 3) := dk_167 255 166 (dk_at dksX1_halves_4 16 rfl rfl)
theorem dX1_halves_115 : decode cX1_halves 115 = .ok (.iload_n 3, 1) := dk_29 (dk_at dksX1_halves_4 19 rfl rfl)
theorem dX1_halves_116 : decode cX1_halves 116 = .ok (.ireturn, 1) := dk_172 (dk_at dksX1_halves_4 20 rfl rfl)
abbrev cX1_lay : ByteArray := prog_1_method_40_code
def yX1_lay : MethodName := ⟨RX1, "lay", "(II)I"⟩
def dkwX1_lay_1 : List UInt8 := [183, 1, 49, 58, 4, 25, 4, 182, 1, 51, 54, 5, 42, 25, 4, 180, 1, 52, 181, 0, 57, 21, 5, 172]
abbrev dktX1_lay_1 : List UInt8 := dkwX1_lay_1 ++ []
def dkwX1_lay_0 : List UInt8 := [42, 27, 182, 0, 83, 78, 28, 4, 16, 24, 184, 0, 61, 184, 0, 106, 187, 1, 47, 89, 45, 28]
abbrev dktX1_lay_0 : List UInt8 := dkwX1_lay_0 ++ dktX1_lay_1
theorem dksX1_lay_0 : cX1_lay.data.toList.drop 0 = dktX1_lay_0 := by decide +kernel
theorem dksX1_lay_1 : cX1_lay.data.toList.drop 22 = dktX1_lay_1 := dk_seg dksX1_lay_0 22 rfl rfl
theorem dX1_lay_0 : decode cX1_lay 0 = .ok (.aload_n 0, 1) := dk_42 (dk_at dksX1_lay_0 0 rfl rfl)
theorem dX1_lay_1 : decode cX1_lay 1 = .ok (.iload_n 1, 1) := dk_27 (dk_at dksX1_lay_0 1 rfl rfl)
theorem dX1_lay_2 : decode cX1_lay 2 = .ok (.invokevirtual 83, 3) := dk_182 0 83 (dk_at dksX1_lay_0 2 rfl rfl)
theorem dX1_lay_5 : decode cX1_lay 5 = .ok (.astore_n 3, 1) := dk_78 (dk_at dksX1_lay_0 5 rfl rfl)
theorem dX1_lay_6 : decode cX1_lay 6 = .ok (.iload_n 2, 1) := dk_28 (dk_at dksX1_lay_0 6 rfl rfl)
theorem dX1_lay_7 : decode cX1_lay 7 = .ok (.iconst 1, 1) := dk_4 (dk_at dksX1_lay_0 7 rfl rfl)
theorem dX1_lay_8 : decode cX1_lay 8 = .ok (.bipush 24, 2) := dk_16 24 (dk_at dksX1_lay_0 8 rfl rfl)
theorem dX1_lay_10 : decode cX1_lay 10 = .ok (.invokestatic 61, 3) := dk_184 0 61 (dk_at dksX1_lay_0 10 rfl rfl)
theorem dX1_lay_13 : decode cX1_lay 13 = .ok (.invokestatic 106, 3) := dk_184 0 106 (dk_at dksX1_lay_0 13 rfl rfl)
theorem dX1_lay_16 : decode cX1_lay 16 = .ok (.new 303, 3) := dk_187 1 47 (dk_at dksX1_lay_0 16 rfl rfl)
theorem dX1_lay_19 : decode cX1_lay 19 = .ok (.dup, 1) := dk_89 (dk_at dksX1_lay_0 19 rfl rfl)
theorem dX1_lay_20 : decode cX1_lay 20 = .ok (.aload_n 3, 1) := dk_45 (dk_at dksX1_lay_0 20 rfl rfl)
theorem dX1_lay_21 : decode cX1_lay 21 = .ok (.iload_n 2, 1) := dk_28 (dk_at dksX1_lay_0 21 rfl rfl)
theorem dX1_lay_22 : decode cX1_lay 22 = .ok (.invokespecial 305, 3) := dk_183 1 49 (dk_at dksX1_lay_1 0 rfl rfl)
theorem dX1_lay_25 : decode cX1_lay 25 = .ok (.astore 4, 2) := dk_58 4 (dk_at dksX1_lay_1 3 rfl rfl)
theorem dX1_lay_27 : decode cX1_lay 27 = .ok (.aload 4, 2) := dk_25 4 (dk_at dksX1_lay_1 5 rfl rfl)
theorem dX1_lay_29 : decode cX1_lay 29 = .ok (.invokevirtual 307, 3) := dk_182 1 51 (dk_at dksX1_lay_1 7 rfl rfl)
theorem dX1_lay_32 : decode cX1_lay 32 = .ok (.istore 5, 2) := dk_54 5 (dk_at dksX1_lay_1 10 rfl rfl)
theorem dX1_lay_34 : decode cX1_lay 34 = .ok (.aload_n 0, 1) := dk_42 (dk_at dksX1_lay_1 12 rfl rfl)
theorem dX1_lay_35 : decode cX1_lay 35 = .ok (.aload 4, 2) := dk_25 4 (dk_at dksX1_lay_1 13 rfl rfl)
theorem dX1_lay_37 : decode cX1_lay 37 = .ok (.getfield 308, 3) := dk_180 1 52 (dk_at dksX1_lay_1 15 rfl rfl)
theorem dX1_lay_40 : decode cX1_lay 40 = .ok (.putfield 57, 3) := dk_181 0 57 (dk_at dksX1_lay_1 18 rfl rfl)
theorem dX1_lay_43 : decode cX1_lay 43 = .ok (.iload 5, 2) := dk_21 5 (dk_at dksX1_lay_1 21 rfl rfl)
theorem dX1_lay_45 : decode cX1_lay 45 = .ok (.ireturn, 1) := dk_172 (dk_at dksX1_lay_1 23 rfl rfl)
abbrev cX1_laid : ByteArray := prog_1_method_41_code
def yX1_laid : MethodName := ⟨RX1, "laid", "(I)I"⟩
def dkwX1_laid_0 : List UInt8 := [27, 3, 42, 180, 0, 57, 190, 4, 100, 184, 0, 61, 184, 0, 69, 42, 180, 0, 57, 27, 46, 172]
abbrev dktX1_laid_0 : List UInt8 := dkwX1_laid_0 ++ []
theorem dksX1_laid_0 : cX1_laid.data.toList.drop 0 = dktX1_laid_0 := by decide +kernel
theorem dX1_laid_0 : decode cX1_laid 0 = .ok (.iload_n 1, 1) := dk_27 (dk_at dksX1_laid_0 0 rfl rfl)
theorem dX1_laid_1 : decode cX1_laid 1 = .ok (.iconst 0, 1) := dk_3 (dk_at dksX1_laid_0 1 rfl rfl)
theorem dX1_laid_2 : decode cX1_laid 2 = .ok (.aload_n 0, 1) := dk_42 (dk_at dksX1_laid_0 2 rfl rfl)
theorem dX1_laid_3 : decode cX1_laid 3 = .ok (.getfield 57, 3) := dk_180 0 57 (dk_at dksX1_laid_0 3 rfl rfl)
theorem dX1_laid_6 : decode cX1_laid 6 = .ok (.arraylength, 1) := dk_190 (dk_at dksX1_laid_0 6 rfl rfl)
theorem dX1_laid_7 : decode cX1_laid 7 = .ok (.iconst 1, 1) := dk_4 (dk_at dksX1_laid_0 7 rfl rfl)
theorem dX1_laid_8 : decode cX1_laid 8 = .ok (.isub, 1) := dk_100 (dk_at dksX1_laid_0 8 rfl rfl)
theorem dX1_laid_9 : decode cX1_laid 9 = .ok (.invokestatic 61, 3) := dk_184 0 61 (dk_at dksX1_laid_0 9 rfl rfl)
theorem dX1_laid_12 : decode cX1_laid 12 = .ok (.invokestatic 69, 3) := dk_184 0 69 (dk_at dksX1_laid_0 12 rfl rfl)
theorem dX1_laid_15 : decode cX1_laid 15 = .ok (.aload_n 0, 1) := dk_42 (dk_at dksX1_laid_0 15 rfl rfl)
theorem dX1_laid_16 : decode cX1_laid 16 = .ok (.getfield 57, 3) := dk_180 0 57 (dk_at dksX1_laid_0 16 rfl rfl)
theorem dX1_laid_19 : decode cX1_laid 19 = .ok (.iload_n 1, 1) := dk_27 (dk_at dksX1_laid_0 19 rfl rfl)
theorem dX1_laid_20 : decode cX1_laid 20 = .ok (.iaload, 1) := dk_46 (dk_at dksX1_laid_0 20 rfl rfl)
theorem dX1_laid_21 : decode cX1_laid 21 = .ok (.ireturn, 1) := dk_172 (dk_at dksX1_laid_0 21 rfl rfl)
abbrev cX1_hop : ByteArray := prog_1_method_42_code
def yX1_hop : MethodName := ⟨RX1, "hop", "(III)I"⟩
def dkwX1_hop_2 : List UInt8 := [167, 0, 4, 2, 172]
abbrev dktX1_hop_2 : List UInt8 := dkwX1_hop_2 ++ []
def dkwX1_hop_1 : List UInt8 := [25, 4, 183, 1, 57, 58, 5, 25, 5, 180, 1, 60, 153, 0, 15, 25, 5, 180, 1, 63, 28, 50, 29, 46]
abbrev dktX1_hop_1 : List UInt8 := dkwX1_hop_1 ++ dktX1_hop_2
def dkwX1_hop_0 : List UInt8 := [42, 27, 182, 0, 83, 58, 4, 25, 4, 28, 184, 0, 87, 25, 4, 29, 184, 0, 87, 187, 1, 55, 89]
abbrev dktX1_hop_0 : List UInt8 := dkwX1_hop_0 ++ dktX1_hop_1
theorem dksX1_hop_0 : cX1_hop.data.toList.drop 0 = dktX1_hop_0 := by decide +kernel
theorem dksX1_hop_1 : cX1_hop.data.toList.drop 23 = dktX1_hop_1 := dk_seg dksX1_hop_0 23 rfl rfl
theorem dksX1_hop_2 : cX1_hop.data.toList.drop 47 = dktX1_hop_2 := dk_seg dksX1_hop_1 24 rfl rfl
theorem dX1_hop_0 : decode cX1_hop 0 = .ok (.aload_n 0, 1) := dk_42 (dk_at dksX1_hop_0 0 rfl rfl)
theorem dX1_hop_1 : decode cX1_hop 1 = .ok (.iload_n 1, 1) := dk_27 (dk_at dksX1_hop_0 1 rfl rfl)
theorem dX1_hop_2 : decode cX1_hop 2 = .ok (.invokevirtual 83, 3) := dk_182 0 83 (dk_at dksX1_hop_0 2 rfl rfl)
theorem dX1_hop_5 : decode cX1_hop 5 = .ok (.astore 4, 2) := dk_58 4 (dk_at dksX1_hop_0 5 rfl rfl)
theorem dX1_hop_7 : decode cX1_hop 7 = .ok (.aload 4, 2) := dk_25 4 (dk_at dksX1_hop_0 7 rfl rfl)
theorem dX1_hop_9 : decode cX1_hop 9 = .ok (.iload_n 2, 1) := dk_28 (dk_at dksX1_hop_0 9 rfl rfl)
theorem dX1_hop_10 : decode cX1_hop 10 = .ok (.invokestatic 87, 3) := dk_184 0 87 (dk_at dksX1_hop_0 10 rfl rfl)
theorem dX1_hop_13 : decode cX1_hop 13 = .ok (.aload 4, 2) := dk_25 4 (dk_at dksX1_hop_0 13 rfl rfl)
theorem dX1_hop_15 : decode cX1_hop 15 = .ok (.iload_n 3, 1) := dk_29 (dk_at dksX1_hop_0 15 rfl rfl)
theorem dX1_hop_16 : decode cX1_hop 16 = .ok (.invokestatic 87, 3) := dk_184 0 87 (dk_at dksX1_hop_0 16 rfl rfl)
theorem dX1_hop_19 : decode cX1_hop 19 = .ok (.new 311, 3) := dk_187 1 55 (dk_at dksX1_hop_0 19 rfl rfl)
theorem dX1_hop_22 : decode cX1_hop 22 = .ok (.dup, 1) := dk_89 (dk_at dksX1_hop_0 22 rfl rfl)
theorem dX1_hop_23 : decode cX1_hop 23 = .ok (.aload 4, 2) := dk_25 4 (dk_at dksX1_hop_1 0 rfl rfl)
theorem dX1_hop_25 : decode cX1_hop 25 = .ok (.invokespecial 313, 3) := dk_183 1 57 (dk_at dksX1_hop_1 2 rfl rfl)
theorem dX1_hop_28 : decode cX1_hop 28 = .ok (.astore 5, 2) := dk_58 5 (dk_at dksX1_hop_1 5 rfl rfl)
theorem dX1_hop_30 : decode cX1_hop 30 = .ok (.aload 5, 2) := dk_25 5 (dk_at dksX1_hop_1 7 rfl rfl)
theorem dX1_hop_32 : decode cX1_hop 32 = .ok (.getfield 316, 3) := dk_180 1 60 (dk_at dksX1_hop_1 9 rfl rfl)
theorem dX1_hop_35 : decode cX1_hop 35 = .ok (.ifCond .eq 15, 3) := dk_153 0 15 (dk_at dksX1_hop_1 12 rfl rfl)
theorem dX1_hop_38 : decode cX1_hop 38 = .ok (.aload 5, 2) := dk_25 5 (dk_at dksX1_hop_1 15 rfl rfl)
theorem dX1_hop_40 : decode cX1_hop 40 = .ok (.getfield 319, 3) := dk_180 1 63 (dk_at dksX1_hop_1 17 rfl rfl)
theorem dX1_hop_43 : decode cX1_hop 43 = .ok (.iload_n 2, 1) := dk_28 (dk_at dksX1_hop_1 20 rfl rfl)
theorem dX1_hop_44 : decode cX1_hop 44 = .ok (.aaload, 1) := dk_50 (dk_at dksX1_hop_1 21 rfl rfl)
theorem dX1_hop_45 : decode cX1_hop 45 = .ok (.iload_n 3, 1) := dk_29 (dk_at dksX1_hop_1 22 rfl rfl)
theorem dX1_hop_46 : decode cX1_hop 46 = .ok (.iaload, 1) := dk_46 (dk_at dksX1_hop_1 23 rfl rfl)
theorem dX1_hop_47 : decode cX1_hop 47 = .ok (.goto 4, 3) := dk_167 0 4 (dk_at dksX1_hop_2 0 rfl rfl)
theorem dX1_hop_50 : decode cX1_hop 50 = .ok (.iconst (-1), 1) := dk_2 (dk_at dksX1_hop_2 3 rfl rfl)
theorem dX1_hop_51 : decode cX1_hop 51 = .ok (.ireturn, 1) := dk_172 (dk_at dksX1_hop_2 4 rfl rfl)
abbrev cX1_locks : ByteArray := prog_1_method_43_code
def yX1_locks : MethodName := ⟨RX1, "locks", "(I)Z"⟩
def dkwX1_locks_0 : List UInt8 := [187, 1, 55, 89, 42, 27, 182, 0, 83, 183, 1, 57, 182, 1, 67, 172]
abbrev dktX1_locks_0 : List UInt8 := dkwX1_locks_0 ++ []
theorem dksX1_locks_0 : cX1_locks.data.toList.drop 0 = dktX1_locks_0 := by decide +kernel
theorem dX1_locks_0 : decode cX1_locks 0 = .ok (.new 311, 3) := dk_187 1 55 (dk_at dksX1_locks_0 0 rfl rfl)
theorem dX1_locks_3 : decode cX1_locks 3 = .ok (.dup, 1) := dk_89 (dk_at dksX1_locks_0 3 rfl rfl)
theorem dX1_locks_4 : decode cX1_locks 4 = .ok (.aload_n 0, 1) := dk_42 (dk_at dksX1_locks_0 4 rfl rfl)
theorem dX1_locks_5 : decode cX1_locks 5 = .ok (.iload_n 1, 1) := dk_27 (dk_at dksX1_locks_0 5 rfl rfl)
theorem dX1_locks_6 : decode cX1_locks 6 = .ok (.invokevirtual 83, 3) := dk_182 0 83 (dk_at dksX1_locks_0 6 rfl rfl)
theorem dX1_locks_9 : decode cX1_locks 9 = .ok (.invokespecial 313, 3) := dk_183 1 57 (dk_at dksX1_locks_0 9 rfl rfl)
theorem dX1_locks_12 : decode cX1_locks 12 = .ok (.invokevirtual 323, 3) := dk_182 1 67 (dk_at dksX1_locks_0 12 rfl rfl)
theorem dX1_locks_15 : decode cX1_locks 15 = .ok (.ireturn, 1) := dk_172 (dk_at dksX1_locks_0 15 rfl rfl)
abbrev cX1_load : ByteArray := prog_1_method_44_code
def yX1_load : MethodName := ⟨RX1, "load", "(III)I"⟩
def dkwX1_load_1 : List UInt8 := [25, 4, 183, 1, 57, 180, 1, 71, 28, 50, 29, 46, 172]
abbrev dktX1_load_1 : List UInt8 := dkwX1_load_1 ++ []
def dkwX1_load_0 : List UInt8 := [42, 27, 182, 0, 83, 58, 4, 25, 4, 28, 184, 0, 87, 25, 4, 29, 184, 0, 87, 187, 1, 55, 89]
abbrev dktX1_load_0 : List UInt8 := dkwX1_load_0 ++ dktX1_load_1
theorem dksX1_load_0 : cX1_load.data.toList.drop 0 = dktX1_load_0 := by decide +kernel
theorem dksX1_load_1 : cX1_load.data.toList.drop 23 = dktX1_load_1 := dk_seg dksX1_load_0 23 rfl rfl
theorem dX1_load_0 : decode cX1_load 0 = .ok (.aload_n 0, 1) := dk_42 (dk_at dksX1_load_0 0 rfl rfl)
theorem dX1_load_1 : decode cX1_load 1 = .ok (.iload_n 1, 1) := dk_27 (dk_at dksX1_load_0 1 rfl rfl)
theorem dX1_load_2 : decode cX1_load 2 = .ok (.invokevirtual 83, 3) := dk_182 0 83 (dk_at dksX1_load_0 2 rfl rfl)
theorem dX1_load_5 : decode cX1_load 5 = .ok (.astore 4, 2) := dk_58 4 (dk_at dksX1_load_0 5 rfl rfl)
theorem dX1_load_7 : decode cX1_load 7 = .ok (.aload 4, 2) := dk_25 4 (dk_at dksX1_load_0 7 rfl rfl)
theorem dX1_load_9 : decode cX1_load 9 = .ok (.iload_n 2, 1) := dk_28 (dk_at dksX1_load_0 9 rfl rfl)
theorem dX1_load_10 : decode cX1_load 10 = .ok (.invokestatic 87, 3) := dk_184 0 87 (dk_at dksX1_load_0 10 rfl rfl)
theorem dX1_load_13 : decode cX1_load 13 = .ok (.aload 4, 2) := dk_25 4 (dk_at dksX1_load_0 13 rfl rfl)
theorem dX1_load_15 : decode cX1_load 15 = .ok (.iload_n 3, 1) := dk_29 (dk_at dksX1_load_0 15 rfl rfl)
theorem dX1_load_16 : decode cX1_load 16 = .ok (.invokestatic 87, 3) := dk_184 0 87 (dk_at dksX1_load_0 16 rfl rfl)
theorem dX1_load_19 : decode cX1_load 19 = .ok (.new 311, 3) := dk_187 1 55 (dk_at dksX1_load_0 19 rfl rfl)
theorem dX1_load_22 : decode cX1_load 22 = .ok (.dup, 1) := dk_89 (dk_at dksX1_load_0 22 rfl rfl)
theorem dX1_load_23 : decode cX1_load 23 = .ok (.aload 4, 2) := dk_25 4 (dk_at dksX1_load_1 0 rfl rfl)
theorem dX1_load_25 : decode cX1_load 25 = .ok (.invokespecial 313, 3) := dk_183 1 57 (dk_at dksX1_load_1 2 rfl rfl)
theorem dX1_load_28 : decode cX1_load 28 = .ok (.getfield 327, 3) := dk_180 1 71 (dk_at dksX1_load_1 5 rfl rfl)
theorem dX1_load_31 : decode cX1_load 31 = .ok (.iload_n 2, 1) := dk_28 (dk_at dksX1_load_1 8 rfl rfl)
theorem dX1_load_32 : decode cX1_load 32 = .ok (.aaload, 1) := dk_50 (dk_at dksX1_load_1 9 rfl rfl)
theorem dX1_load_33 : decode cX1_load 33 = .ok (.iload_n 3, 1) := dk_29 (dk_at dksX1_load_1 10 rfl rfl)
theorem dX1_load_34 : decode cX1_load 34 = .ok (.iaload, 1) := dk_46 (dk_at dksX1_load_1 11 rfl rfl)
theorem dX1_load_35 : decode cX1_load 35 = .ok (.ireturn, 1) := dk_172 (dk_at dksX1_load_1 12 rfl rfl)
abbrev cX1_heavy : ByteArray := prog_1_method_45_code
def yX1_heavy : MethodName := ⟨RX1, "heavy", "(II)I"⟩
def dkwX1_heavy_3 : List UInt8 := [167, 0, 19, 25, 4, 180, 1, 71, 21, 5, 8, 122, 50, 21, 5, 16, 31, 126, 46, 172]
abbrev dktX1_heavy_3 : List UInt8 := dkwX1_heavy_3 ++ []
def dkwX1_heavy_2 : List UInt8 := [25, 4, 182, 1, 77, 54, 5, 28, 4, 160, 0, 8, 21, 5, 167, 0, 29, 21, 5, 2, 160, 0, 7, 3]
abbrev dktX1_heavy_2 : List UInt8 := dkwX1_heavy_2 ++ dktX1_heavy_3
def dkwX1_heavy_1 : List UInt8 := [58, 4, 25, 4, 180, 1, 60, 154, 0, 5, 2, 172, 28, 5, 160, 0, 9, 25, 4, 182, 1, 74, 172]
abbrev dktX1_heavy_1 : List UInt8 := dkwX1_heavy_1 ++ dktX1_heavy_2
def dkwX1_heavy_0 : List UInt8 := [42, 27, 182, 0, 83, 78, 28, 3, 5, 184, 0, 61, 184, 0, 69, 187, 1, 55, 89, 45, 183, 1, 57]
abbrev dktX1_heavy_0 : List UInt8 := dkwX1_heavy_0 ++ dktX1_heavy_1
theorem dksX1_heavy_0 : cX1_heavy.data.toList.drop 0 = dktX1_heavy_0 := by decide +kernel
theorem dksX1_heavy_1 : cX1_heavy.data.toList.drop 23 = dktX1_heavy_1 := dk_seg dksX1_heavy_0 23 rfl rfl
theorem dksX1_heavy_2 : cX1_heavy.data.toList.drop 46 = dktX1_heavy_2 := dk_seg dksX1_heavy_1 23 rfl rfl
theorem dksX1_heavy_3 : cX1_heavy.data.toList.drop 70 = dktX1_heavy_3 := dk_seg dksX1_heavy_2 24 rfl rfl
theorem dX1_heavy_0 : decode cX1_heavy 0 = .ok (.aload_n 0, 1) := dk_42 (dk_at dksX1_heavy_0 0 rfl rfl)
theorem dX1_heavy_1 : decode cX1_heavy 1 = .ok (.iload_n 1, 1) := dk_27 (dk_at dksX1_heavy_0 1 rfl rfl)
theorem dX1_heavy_2 : decode cX1_heavy 2 = .ok (.invokevirtual 83, 3) := dk_182 0 83 (dk_at dksX1_heavy_0 2 rfl rfl)
theorem dX1_heavy_5 : decode cX1_heavy 5 = .ok (.astore_n 3, 1) := dk_78 (dk_at dksX1_heavy_0 5 rfl rfl)
theorem dX1_heavy_6 : decode cX1_heavy 6 = .ok (.iload_n 2, 1) := dk_28 (dk_at dksX1_heavy_0 6 rfl rfl)
theorem dX1_heavy_7 : decode cX1_heavy 7 = .ok (.iconst 0, 1) := dk_3 (dk_at dksX1_heavy_0 7 rfl rfl)
theorem dX1_heavy_8 : decode cX1_heavy 8 = .ok (.iconst 2, 1) := dk_5 (dk_at dksX1_heavy_0 8 rfl rfl)
theorem dX1_heavy_9 : decode cX1_heavy 9 = .ok (.invokestatic 61, 3) := dk_184 0 61 (dk_at dksX1_heavy_0 9 rfl rfl)
theorem dX1_heavy_12 : decode cX1_heavy 12 = .ok (.invokestatic 69, 3) := dk_184 0 69 (dk_at dksX1_heavy_0 12 rfl rfl)
theorem dX1_heavy_15 : decode cX1_heavy 15 = .ok (.new 311, 3) := dk_187 1 55 (dk_at dksX1_heavy_0 15 rfl rfl)
theorem dX1_heavy_18 : decode cX1_heavy 18 = .ok (.dup, 1) := dk_89 (dk_at dksX1_heavy_0 18 rfl rfl)
theorem dX1_heavy_19 : decode cX1_heavy 19 = .ok (.aload_n 3, 1) := dk_45 (dk_at dksX1_heavy_0 19 rfl rfl)
theorem dX1_heavy_20 : decode cX1_heavy 20 = .ok (.invokespecial 313, 3) := dk_183 1 57 (dk_at dksX1_heavy_0 20 rfl rfl)
theorem dX1_heavy_23 : decode cX1_heavy 23 = .ok (.astore 4, 2) := dk_58 4 (dk_at dksX1_heavy_1 0 rfl rfl)
theorem dX1_heavy_25 : decode cX1_heavy 25 = .ok (.aload 4, 2) := dk_25 4 (dk_at dksX1_heavy_1 2 rfl rfl)
theorem dX1_heavy_27 : decode cX1_heavy 27 = .ok (.getfield 316, 3) := dk_180 1 60 (dk_at dksX1_heavy_1 4 rfl rfl)
theorem dX1_heavy_30 : decode cX1_heavy 30 = .ok (.ifCond .ne 5, 3) := dk_154 0 5 (dk_at dksX1_heavy_1 7 rfl rfl)
theorem dX1_heavy_33 : decode cX1_heavy 33 = .ok (.iconst (-1), 1) := dk_2 (dk_at dksX1_heavy_1 10 rfl rfl)
theorem dX1_heavy_34 : decode cX1_heavy 34 = .ok (.ireturn, 1) := dk_172 (dk_at dksX1_heavy_1 11 rfl rfl)
theorem dX1_heavy_35 : decode cX1_heavy 35 = .ok (.iload_n 2, 1) := dk_28 (dk_at dksX1_heavy_1 12 rfl rfl)
theorem dX1_heavy_36 : decode cX1_heavy 36 = .ok (.iconst 2, 1) := dk_5 (dk_at dksX1_heavy_1 13 rfl rfl)
theorem dX1_heavy_37 : decode cX1_heavy 37 = .ok (.if_icmp .ne 9, 3) := dk_160 0 9 (dk_at dksX1_heavy_1 14 rfl rfl)
theorem dX1_heavy_40 : decode cX1_heavy 40 = .ok (.aload 4, 2) := dk_25 4 (dk_at dksX1_heavy_1 17 rfl rfl)
theorem dX1_heavy_42 : decode cX1_heavy 42 = .ok (.invokevirtual 330, 3) := dk_182 1 74 (dk_at dksX1_heavy_1 19 rfl rfl)
theorem dX1_heavy_45 : decode cX1_heavy 45 = .ok (.ireturn, 1) := dk_172 (dk_at dksX1_heavy_1 22 rfl rfl)
theorem dX1_heavy_46 : decode cX1_heavy 46 = .ok (.aload 4, 2) := dk_25 4 (dk_at dksX1_heavy_2 0 rfl rfl)
theorem dX1_heavy_48 : decode cX1_heavy 48 = .ok (.invokevirtual 333, 3) := dk_182 1 77 (dk_at dksX1_heavy_2 2 rfl rfl)
theorem dX1_heavy_51 : decode cX1_heavy 51 = .ok (.istore 5, 2) := dk_54 5 (dk_at dksX1_heavy_2 5 rfl rfl)
theorem dX1_heavy_53 : decode cX1_heavy 53 = .ok (.iload_n 2, 1) := dk_28 (dk_at dksX1_heavy_2 7 rfl rfl)
theorem dX1_heavy_54 : decode cX1_heavy 54 = .ok (.iconst 1, 1) := dk_4 (dk_at dksX1_heavy_2 8 rfl rfl)
theorem dX1_heavy_55 : decode cX1_heavy 55 = .ok (.if_icmp .ne 8, 3) := dk_160 0 8 (dk_at dksX1_heavy_2 9 rfl rfl)
theorem dX1_heavy_58 : decode cX1_heavy 58 = .ok (.iload 5, 2) := dk_21 5 (dk_at dksX1_heavy_2 12 rfl rfl)
theorem dX1_heavy_60 : decode cX1_heavy 60 = .ok (.goto 29, 3) := dk_167 0 29 (dk_at dksX1_heavy_2 14 rfl rfl)
theorem dX1_heavy_63 : decode cX1_heavy 63 = .ok (.iload 5, 2) := dk_21 5 (dk_at dksX1_heavy_2 17 rfl rfl)
theorem dX1_heavy_65 : decode cX1_heavy 65 = .ok (.iconst (-1), 1) := dk_2 (dk_at dksX1_heavy_2 19 rfl rfl)
theorem dX1_heavy_66 : decode cX1_heavy 66 = .ok (.if_icmp .ne 7, 3) := dk_160 0 7 (dk_at dksX1_heavy_2 20 rfl rfl)
theorem dX1_heavy_69 : decode cX1_heavy 69 = .ok (.iconst 0, 1) := dk_3 (dk_at dksX1_heavy_2 23 rfl rfl)
theorem dX1_heavy_70 : decode cX1_heavy 70 = .ok (.goto 19, 3) := dk_167 0 19 (dk_at dksX1_heavy_3 0 rfl rfl)
theorem dX1_heavy_73 : decode cX1_heavy 73 = .ok (.aload 4, 2) := dk_25 4 (dk_at dksX1_heavy_3 3 rfl rfl)
theorem dX1_heavy_75 : decode cX1_heavy 75 = .ok (.getfield 327, 3) := dk_180 1 71 (dk_at dksX1_heavy_3 5 rfl rfl)
theorem dX1_heavy_78 : decode cX1_heavy 78 = .ok (.iload 5, 2) := dk_21 5 (dk_at dksX1_heavy_3 8 rfl rfl)
theorem dX1_heavy_80 : decode cX1_heavy 80 = .ok (.iconst 5, 1) := dk_8 (dk_at dksX1_heavy_3 10 rfl rfl)
theorem dX1_heavy_81 : decode cX1_heavy 81 = .ok (.ishr, 1) := dk_122 (dk_at dksX1_heavy_3 11 rfl rfl)
theorem dX1_heavy_82 : decode cX1_heavy 82 = .ok (.aaload, 1) := dk_50 (dk_at dksX1_heavy_3 12 rfl rfl)
theorem dX1_heavy_83 : decode cX1_heavy 83 = .ok (.iload 5, 2) := dk_21 5 (dk_at dksX1_heavy_3 13 rfl rfl)
theorem dX1_heavy_85 : decode cX1_heavy 85 = .ok (.bipush 31, 2) := dk_16 31 (dk_at dksX1_heavy_3 15 rfl rfl)
theorem dX1_heavy_87 : decode cX1_heavy 87 = .ok (.iand, 1) := dk_126 (dk_at dksX1_heavy_3 17 rfl rfl)
theorem dX1_heavy_88 : decode cX1_heavy 88 = .ok (.iaload, 1) := dk_46 (dk_at dksX1_heavy_3 18 rfl rfl)
theorem dX1_heavy_89 : decode cX1_heavy 89 = .ok (.ireturn, 1) := dk_172 (dk_at dksX1_heavy_3 19 rfl rfl)
abbrev cX1_upward : ByteArray := prog_1_method_46_code
def yX1_upward : MethodName := ⟨RX1, "upward", "(III)I"⟩
def dkwX1_upward_2 : List UInt8 := [153, 0, 22, 25, 5, 28, 29, 4, 160, 0, 7, 4, 167, 0, 4, 3, 182, 1, 80, 167, 0, 4, 2, 172]
abbrev dktX1_upward_2 : List UInt8 := dkwX1_upward_2 ++ []
def dkwX1_upward_1 : List UInt8 := [167, 0, 4, 3, 184, 0, 69, 187, 1, 55, 89, 25, 4, 183, 1, 57, 58, 5, 25, 5, 180, 1, 60]
abbrev dktX1_upward_1 : List UInt8 := dkwX1_upward_1 ++ dktX1_upward_2
def dkwX1_upward_0 : List UInt8 := [42, 27, 182, 0, 83, 58, 4, 25, 4, 28, 184, 0, 87, 29, 153, 0, 8, 29, 4, 160, 0, 7, 4]
abbrev dktX1_upward_0 : List UInt8 := dkwX1_upward_0 ++ dktX1_upward_1
theorem dksX1_upward_0 : cX1_upward.data.toList.drop 0 = dktX1_upward_0 := by decide +kernel
theorem dksX1_upward_1 : cX1_upward.data.toList.drop 23 = dktX1_upward_1 := dk_seg dksX1_upward_0 23 rfl rfl
theorem dksX1_upward_2 : cX1_upward.data.toList.drop 46 = dktX1_upward_2 := dk_seg dksX1_upward_1 23 rfl rfl
theorem dX1_upward_0 : decode cX1_upward 0 = .ok (.aload_n 0, 1) := dk_42 (dk_at dksX1_upward_0 0 rfl rfl)
theorem dX1_upward_1 : decode cX1_upward 1 = .ok (.iload_n 1, 1) := dk_27 (dk_at dksX1_upward_0 1 rfl rfl)
theorem dX1_upward_2 : decode cX1_upward 2 = .ok (.invokevirtual 83, 3) := dk_182 0 83 (dk_at dksX1_upward_0 2 rfl rfl)
theorem dX1_upward_5 : decode cX1_upward 5 = .ok (.astore 4, 2) := dk_58 4 (dk_at dksX1_upward_0 5 rfl rfl)
theorem dX1_upward_7 : decode cX1_upward 7 = .ok (.aload 4, 2) := dk_25 4 (dk_at dksX1_upward_0 7 rfl rfl)
theorem dX1_upward_9 : decode cX1_upward 9 = .ok (.iload_n 2, 1) := dk_28 (dk_at dksX1_upward_0 9 rfl rfl)
theorem dX1_upward_10 : decode cX1_upward 10 = .ok (.invokestatic 87, 3) := dk_184 0 87 (dk_at dksX1_upward_0 10 rfl rfl)
theorem dX1_upward_13 : decode cX1_upward 13 = .ok (.iload_n 3, 1) := dk_29 (dk_at dksX1_upward_0 13 rfl rfl)
theorem dX1_upward_14 : decode cX1_upward 14 = .ok (.ifCond .eq 8, 3) := dk_153 0 8 (dk_at dksX1_upward_0 14 rfl rfl)
theorem dX1_upward_17 : decode cX1_upward 17 = .ok (.iload_n 3, 1) := dk_29 (dk_at dksX1_upward_0 17 rfl rfl)
theorem dX1_upward_18 : decode cX1_upward 18 = .ok (.iconst 1, 1) := dk_4 (dk_at dksX1_upward_0 18 rfl rfl)
theorem dX1_upward_19 : decode cX1_upward 19 = .ok (.if_icmp .ne 7, 3) := dk_160 0 7 (dk_at dksX1_upward_0 19 rfl rfl)
theorem dX1_upward_22 : decode cX1_upward 22 = .ok (.iconst 1, 1) := dk_4 (dk_at dksX1_upward_0 22 rfl rfl)
theorem dX1_upward_23 : decode cX1_upward 23 = .ok (.goto 4, 3) := dk_167 0 4 (dk_at dksX1_upward_1 0 rfl rfl)
theorem dX1_upward_26 : decode cX1_upward 26 = .ok (.iconst 0, 1) := dk_3 (dk_at dksX1_upward_1 3 rfl rfl)
theorem dX1_upward_27 : decode cX1_upward 27 = .ok (.invokestatic 69, 3) := dk_184 0 69 (dk_at dksX1_upward_1 4 rfl rfl)
theorem dX1_upward_30 : decode cX1_upward 30 = .ok (.new 311, 3) := dk_187 1 55 (dk_at dksX1_upward_1 7 rfl rfl)
theorem dX1_upward_33 : decode cX1_upward 33 = .ok (.dup, 1) := dk_89 (dk_at dksX1_upward_1 10 rfl rfl)
theorem dX1_upward_34 : decode cX1_upward 34 = .ok (.aload 4, 2) := dk_25 4 (dk_at dksX1_upward_1 11 rfl rfl)
theorem dX1_upward_36 : decode cX1_upward 36 = .ok (.invokespecial 313, 3) := dk_183 1 57 (dk_at dksX1_upward_1 13 rfl rfl)
theorem dX1_upward_39 : decode cX1_upward 39 = .ok (.astore 5, 2) := dk_58 5 (dk_at dksX1_upward_1 16 rfl rfl)
theorem dX1_upward_41 : decode cX1_upward 41 = .ok (.aload 5, 2) := dk_25 5 (dk_at dksX1_upward_1 18 rfl rfl)
theorem dX1_upward_43 : decode cX1_upward 43 = .ok (.getfield 316, 3) := dk_180 1 60 (dk_at dksX1_upward_1 20 rfl rfl)
theorem dX1_upward_46 : decode cX1_upward 46 = .ok (.ifCond .eq 22, 3) := dk_153 0 22 (dk_at dksX1_upward_2 0 rfl rfl)
theorem dX1_upward_49 : decode cX1_upward 49 = .ok (.aload 5, 2) := dk_25 5 (dk_at dksX1_upward_2 3 rfl rfl)
theorem dX1_upward_51 : decode cX1_upward 51 = .ok (.iload_n 2, 1) := dk_28 (dk_at dksX1_upward_2 5 rfl rfl)
theorem dX1_upward_52 : decode cX1_upward 52 = .ok (.iload_n 3, 1) := dk_29 (dk_at dksX1_upward_2 6 rfl rfl)
theorem dX1_upward_53 : decode cX1_upward 53 = .ok (.iconst 1, 1) := dk_4 (dk_at dksX1_upward_2 7 rfl rfl)
theorem dX1_upward_54 : decode cX1_upward 54 = .ok (.if_icmp .ne 7, 3) := dk_160 0 7 (dk_at dksX1_upward_2 8 rfl rfl)
theorem dX1_upward_57 : decode cX1_upward 57 = .ok (.iconst 1, 1) := dk_4 (dk_at dksX1_upward_2 11 rfl rfl)
theorem dX1_upward_58 : decode cX1_upward 58 = .ok (.goto 4, 3) := dk_167 0 4 (dk_at dksX1_upward_2 12 rfl rfl)
theorem dX1_upward_61 : decode cX1_upward 61 = .ok (.iconst 0, 1) := dk_3 (dk_at dksX1_upward_2 15 rfl rfl)
theorem dX1_upward_62 : decode cX1_upward 62 = .ok (.invokevirtual 336, 3) := dk_182 1 80 (dk_at dksX1_upward_2 16 rfl rfl)
theorem dX1_upward_65 : decode cX1_upward 65 = .ok (.goto 4, 3) := dk_167 0 4 (dk_at dksX1_upward_2 19 rfl rfl)
theorem dX1_upward_68 : decode cX1_upward 68 = .ok (.iconst (-1), 1) := dk_2 (dk_at dksX1_upward_2 22 rfl rfl)
theorem dX1_upward_69 : decode cX1_upward 69 = .ok (.ireturn, 1) := dk_172 (dk_at dksX1_upward_2 23 rfl rfl)
abbrev cX1_tell : ByteArray := prog_1_method_47_code
def yX1_tell : MethodName := ⟨RX1, "tell", "(II)I"⟩
def dkwX1_tell_1 : List UInt8 := [45, 182, 0, 170, 154, 0, 7, 2, 167, 0, 15, 187, 1, 84, 89, 45, 183, 1, 86, 28, 182, 1, 87, 172]
abbrev dktX1_tell_1 : List UInt8 := dkwX1_tell_1 ++ []
def dkwX1_tell_0 : List UInt8 := [42, 27, 182, 0, 83, 78, 45, 28, 184, 0, 87, 45, 180, 0, 73, 16, 10, 163, 0, 14, 42, 180, 0, 28]
abbrev dktX1_tell_0 : List UInt8 := dkwX1_tell_0 ++ dktX1_tell_1
theorem dksX1_tell_0 : cX1_tell.data.toList.drop 0 = dktX1_tell_0 := by decide +kernel
theorem dksX1_tell_1 : cX1_tell.data.toList.drop 24 = dktX1_tell_1 := dk_seg dksX1_tell_0 24 rfl rfl
theorem dX1_tell_0 : decode cX1_tell 0 = .ok (.aload_n 0, 1) := dk_42 (dk_at dksX1_tell_0 0 rfl rfl)
theorem dX1_tell_1 : decode cX1_tell 1 = .ok (.iload_n 1, 1) := dk_27 (dk_at dksX1_tell_0 1 rfl rfl)
theorem dX1_tell_2 : decode cX1_tell 2 = .ok (.invokevirtual 83, 3) := dk_182 0 83 (dk_at dksX1_tell_0 2 rfl rfl)
theorem dX1_tell_5 : decode cX1_tell 5 = .ok (.astore_n 3, 1) := dk_78 (dk_at dksX1_tell_0 5 rfl rfl)
theorem dX1_tell_6 : decode cX1_tell 6 = .ok (.aload_n 3, 1) := dk_45 (dk_at dksX1_tell_0 6 rfl rfl)
theorem dX1_tell_7 : decode cX1_tell 7 = .ok (.iload_n 2, 1) := dk_28 (dk_at dksX1_tell_0 7 rfl rfl)
theorem dX1_tell_8 : decode cX1_tell 8 = .ok (.invokestatic 87, 3) := dk_184 0 87 (dk_at dksX1_tell_0 8 rfl rfl)
theorem dX1_tell_11 : decode cX1_tell 11 = .ok (.aload_n 3, 1) := dk_45 (dk_at dksX1_tell_0 11 rfl rfl)
theorem dX1_tell_12 : decode cX1_tell 12 = .ok (.getfield 73, 3) := dk_180 0 73 (dk_at dksX1_tell_0 12 rfl rfl)
theorem dX1_tell_15 : decode cX1_tell 15 = .ok (.bipush 10, 2) := dk_16 10 (dk_at dksX1_tell_0 15 rfl rfl)
theorem dX1_tell_17 : decode cX1_tell 17 = .ok (.if_icmp .gt 14, 3) := dk_163 0 14 (dk_at dksX1_tell_0 17 rfl rfl)
theorem dX1_tell_20 : decode cX1_tell 20 = .ok (.aload_n 0, 1) := dk_42 (dk_at dksX1_tell_0 20 rfl rfl)
theorem dX1_tell_21 : decode cX1_tell 21 = .ok (.getfield 28, 3) := dk_180 0 28 (dk_at dksX1_tell_0 21 rfl rfl)
theorem dX1_tell_24 : decode cX1_tell 24 = .ok (.aload_n 3, 1) := dk_45 (dk_at dksX1_tell_1 0 rfl rfl)
theorem dX1_tell_25 : decode cX1_tell 25 = .ok (.invokevirtual 170, 3) := dk_182 0 170 (dk_at dksX1_tell_1 1 rfl rfl)
theorem dX1_tell_28 : decode cX1_tell 28 = .ok (.ifCond .ne 7, 3) := dk_154 0 7 (dk_at dksX1_tell_1 4 rfl rfl)
theorem dX1_tell_31 : decode cX1_tell 31 = .ok (.iconst (-1), 1) := dk_2 (dk_at dksX1_tell_1 7 rfl rfl)
theorem dX1_tell_32 : decode cX1_tell 32 = .ok (.goto 15, 3) := dk_167 0 15 (dk_at dksX1_tell_1 8 rfl rfl)
theorem dX1_tell_35 : decode cX1_tell 35 = .ok (.new 340, 3) := dk_187 1 84 (dk_at dksX1_tell_1 11 rfl rfl)
theorem dX1_tell_38 : decode cX1_tell 38 = .ok (.dup, 1) := dk_89 (dk_at dksX1_tell_1 14 rfl rfl)
theorem dX1_tell_39 : decode cX1_tell 39 = .ok (.aload_n 3, 1) := dk_45 (dk_at dksX1_tell_1 15 rfl rfl)
theorem dX1_tell_40 : decode cX1_tell 40 = .ok (.invokespecial 342, 3) := dk_183 1 86 (dk_at dksX1_tell_1 16 rfl rfl)
theorem dX1_tell_43 : decode cX1_tell 43 = .ok (.iload_n 2, 1) := dk_28 (dk_at dksX1_tell_1 19 rfl rfl)
theorem dX1_tell_44 : decode cX1_tell 44 = .ok (.invokevirtual 343, 3) := dk_182 1 87 (dk_at dksX1_tell_1 20 rfl rfl)
theorem dX1_tell_47 : decode cX1_tell 47 = .ok (.ireturn, 1) := dk_172 (dk_at dksX1_tell_1 23 rfl rfl)
abbrev cX1_grow : ByteArray := prog_1_method_49_code
def yX1_grow : MethodName := ⟨RX1, "grow", "(II)I"⟩
def dkwX1_grow_9 : List UInt8 := [45, 21, 6, 21, 7, 184, 1, 89, 87, 42, 180, 0, 17, 27, 25, 5, 83, 21, 8, 172]
abbrev dktX1_grow_9 : List UInt8 := dkwX1_grow_9 ++ []
def dkwX1_grow_8 : List UInt8 := [54, 8, 132, 10, 1, 167, 255, 168, 132, 9, 1, 167, 255, 135, 21, 6, 2, 160, 0, 5, 2, 172, 25, 5]
abbrev dktX1_grow_8 : List UInt8 := dkwX1_grow_8 ++ dktX1_grow_9
def dkwX1_grow_7 : List UInt8 := [21, 12, 21, 8, 161, 0, 6, 167, 0, 18, 25, 4, 21, 9, 46, 54, 6, 21, 11, 54, 7, 21, 12]
abbrev dktX1_grow_7 : List UInt8 := dkwX1_grow_7 ++ dktX1_grow_8
def dkwX1_grow_6 : List UInt8 := [154, 0, 6, 167, 0, 45, 42, 180, 0, 28, 25, 5, 182, 0, 194, 54, 12, 21, 6, 2, 159, 0, 13]
abbrev dktX1_grow_6 : List UInt8 := dkwX1_grow_6 ++ dktX1_grow_7
def dkwX1_grow_5 : List UInt8 := [2, 167, 0, 8, 25, 4, 21, 10, 46, 54, 11, 25, 5, 45, 25, 4, 21, 9, 46, 21, 11, 184, 1, 89]
abbrev dktX1_grow_5 : List UInt8 := dkwX1_grow_5 ++ dktX1_grow_6
def dkwX1_grow_4 : List UInt8 := [4, 100, 167, 0, 7, 21, 9, 4, 96, 54, 10, 21, 10, 25, 4, 190, 162, 0, 86, 28, 4, 160, 0, 7]
abbrev dktX1_grow_4 : List UInt8 := dkwX1_grow_4 ++ dktX1_grow_5
def dkwX1_grow_3 : List UInt8 := [54, 7, 3, 54, 8, 3, 54, 9, 21, 9, 25, 4, 190, 162, 0, 119, 28, 4, 160, 0, 11, 25, 4, 190]
abbrev dktX1_grow_3 : List UInt8 := dkwX1_grow_3 ++ dktX1_grow_4
def dkwX1_grow_2 : List UInt8 := [180, 0, 73, 4, 96, 45, 180, 0, 139, 5, 28, 104, 184, 0, 159, 183, 0, 80, 58, 5, 2, 54, 6, 2]
abbrev dktX1_grow_2 : List UInt8 := dkwX1_grow_2 ++ dktX1_grow_3
def dkwX1_grow_1 : List UInt8 := [45, 180, 0, 73, 16, 24, 160, 0, 5, 2, 172, 45, 182, 0, 162, 58, 4, 187, 0, 15, 89, 45]
abbrev dktX1_grow_1 : List UInt8 := dkwX1_grow_1 ++ dktX1_grow_2
def dkwX1_grow_0 : List UInt8 := [42, 27, 182, 0, 83, 78, 28, 4, 159, 0, 8, 28, 5, 160, 0, 7, 4, 167, 0, 4, 3, 184, 0, 106]
abbrev dktX1_grow_0 : List UInt8 := dkwX1_grow_0 ++ dktX1_grow_1
theorem dksX1_grow_0 : cX1_grow.data.toList.drop 0 = dktX1_grow_0 := by decide +kernel
theorem dksX1_grow_1 : cX1_grow.data.toList.drop 24 = dktX1_grow_1 := dk_seg dksX1_grow_0 24 rfl rfl
theorem dksX1_grow_2 : cX1_grow.data.toList.drop 46 = dktX1_grow_2 := dk_seg dksX1_grow_1 22 rfl rfl
theorem dksX1_grow_3 : cX1_grow.data.toList.drop 70 = dktX1_grow_3 := dk_seg dksX1_grow_2 24 rfl rfl
theorem dksX1_grow_4 : cX1_grow.data.toList.drop 94 = dktX1_grow_4 := dk_seg dksX1_grow_3 24 rfl rfl
theorem dksX1_grow_5 : cX1_grow.data.toList.drop 118 = dktX1_grow_5 := dk_seg dksX1_grow_4 24 rfl rfl
theorem dksX1_grow_6 : cX1_grow.data.toList.drop 142 = dktX1_grow_6 := dk_seg dksX1_grow_5 24 rfl rfl
theorem dksX1_grow_7 : cX1_grow.data.toList.drop 165 = dktX1_grow_7 := dk_seg dksX1_grow_6 23 rfl rfl
theorem dksX1_grow_8 : cX1_grow.data.toList.drop 188 = dktX1_grow_8 := dk_seg dksX1_grow_7 23 rfl rfl
theorem dksX1_grow_9 : cX1_grow.data.toList.drop 212 = dktX1_grow_9 := dk_seg dksX1_grow_8 24 rfl rfl
theorem dX1_grow_0 : decode cX1_grow 0 = .ok (.aload_n 0, 1) := dk_42 (dk_at dksX1_grow_0 0 rfl rfl)
theorem dX1_grow_1 : decode cX1_grow 1 = .ok (.iload_n 1, 1) := dk_27 (dk_at dksX1_grow_0 1 rfl rfl)
theorem dX1_grow_2 : decode cX1_grow 2 = .ok (.invokevirtual 83, 3) := dk_182 0 83 (dk_at dksX1_grow_0 2 rfl rfl)
theorem dX1_grow_5 : decode cX1_grow 5 = .ok (.astore_n 3, 1) := dk_78 (dk_at dksX1_grow_0 5 rfl rfl)
theorem dX1_grow_6 : decode cX1_grow 6 = .ok (.iload_n 2, 1) := dk_28 (dk_at dksX1_grow_0 6 rfl rfl)
theorem dX1_grow_7 : decode cX1_grow 7 = .ok (.iconst 1, 1) := dk_4 (dk_at dksX1_grow_0 7 rfl rfl)
theorem dX1_grow_8 : decode cX1_grow 8 = .ok (.if_icmp .eq 8, 3) := dk_159 0 8 (dk_at dksX1_grow_0 8 rfl rfl)
theorem dX1_grow_11 : decode cX1_grow 11 = .ok (.iload_n 2, 1) := dk_28 (dk_at dksX1_grow_0 11 rfl rfl)
theorem dX1_grow_12 : decode cX1_grow 12 = .ok (.iconst 2, 1) := dk_5 (dk_at dksX1_grow_0 12 rfl rfl)
theorem dX1_grow_13 : decode cX1_grow 13 = .ok (.if_icmp .ne 7, 3) := dk_160 0 7 (dk_at dksX1_grow_0 13 rfl rfl)
theorem dX1_grow_16 : decode cX1_grow 16 = .ok (.iconst 1, 1) := dk_4 (dk_at dksX1_grow_0 16 rfl rfl)
theorem dX1_grow_17 : decode cX1_grow 17 = .ok (.goto 4, 3) := dk_167 0 4 (dk_at dksX1_grow_0 17 rfl rfl)
theorem dX1_grow_20 : decode cX1_grow 20 = .ok (.iconst 0, 1) := dk_3 (dk_at dksX1_grow_0 20 rfl rfl)
theorem dX1_grow_21 : decode cX1_grow 21 = .ok (.invokestatic 106, 3) := dk_184 0 106 (dk_at dksX1_grow_0 21 rfl rfl)
theorem dX1_grow_24 : decode cX1_grow 24 = .ok (.aload_n 3, 1) := dk_45 (dk_at dksX1_grow_1 0 rfl rfl)
theorem dX1_grow_25 : decode cX1_grow 25 = .ok (.getfield 73, 3) := dk_180 0 73 (dk_at dksX1_grow_1 1 rfl rfl)
theorem dX1_grow_28 : decode cX1_grow 28 = .ok (.bipush 24, 2) := dk_16 24 (dk_at dksX1_grow_1 4 rfl rfl)
theorem dX1_grow_30 : decode cX1_grow 30 = .ok (.if_icmp .ne 5, 3) := dk_160 0 5 (dk_at dksX1_grow_1 6 rfl rfl)
theorem dX1_grow_33 : decode cX1_grow 33 = .ok (.iconst (-1), 1) := dk_2 (dk_at dksX1_grow_1 9 rfl rfl)
theorem dX1_grow_34 : decode cX1_grow 34 = .ok (.ireturn, 1) := dk_172 (dk_at dksX1_grow_1 10 rfl rfl)
theorem dX1_grow_35 : decode cX1_grow 35 = .ok (.aload_n 3, 1) := dk_45 (dk_at dksX1_grow_1 11 rfl rfl)
theorem dX1_grow_36 : decode cX1_grow 36 = .ok (.invokevirtual 162, 3) := dk_182 0 162 (dk_at dksX1_grow_1 12 rfl rfl)
theorem dX1_grow_39 : decode cX1_grow 39 = .ok (.astore 4, 2) := dk_58 4 (dk_at dksX1_grow_1 15 rfl rfl)
theorem dX1_grow_41 : decode cX1_grow 41 = .ok (.new 15, 3) := dk_187 0 15 (dk_at dksX1_grow_1 17 rfl rfl)
theorem dX1_grow_44 : decode cX1_grow 44 = .ok (.dup, 1) := dk_89 (dk_at dksX1_grow_1 20 rfl rfl)
theorem dX1_grow_45 : decode cX1_grow 45 = .ok (.aload_n 3, 1) := dk_45 (dk_at dksX1_grow_1 21 rfl rfl)
theorem dX1_grow_46 : decode cX1_grow 46 = .ok (.getfield 73, 3) := dk_180 0 73 (dk_at dksX1_grow_2 0 rfl rfl)
theorem dX1_grow_49 : decode cX1_grow 49 = .ok (.iconst 1, 1) := dk_4 (dk_at dksX1_grow_2 3 rfl rfl)
theorem dX1_grow_50 : decode cX1_grow 50 = .ok (.iadd, 1) := dk_96 (dk_at dksX1_grow_2 4 rfl rfl)
theorem dX1_grow_51 : decode cX1_grow 51 = .ok (.aload_n 3, 1) := dk_45 (dk_at dksX1_grow_2 5 rfl rfl)
theorem dX1_grow_52 : decode cX1_grow 52 = .ok (.getfield 139, 3) := dk_180 0 139 (dk_at dksX1_grow_2 6 rfl rfl)
theorem dX1_grow_55 : decode cX1_grow 55 = .ok (.iconst 2, 1) := dk_5 (dk_at dksX1_grow_2 9 rfl rfl)
theorem dX1_grow_56 : decode cX1_grow 56 = .ok (.iload_n 2, 1) := dk_28 (dk_at dksX1_grow_2 10 rfl rfl)
theorem dX1_grow_57 : decode cX1_grow 57 = .ok (.imul, 1) := dk_104 (dk_at dksX1_grow_2 11 rfl rfl)
theorem dX1_grow_58 : decode cX1_grow 58 = .ok (.invokestatic 159, 3) := dk_184 0 159 (dk_at dksX1_grow_2 12 rfl rfl)
theorem dX1_grow_61 : decode cX1_grow 61 = .ok (.invokespecial 80, 3) := dk_183 0 80 (dk_at dksX1_grow_2 15 rfl rfl)
theorem dX1_grow_64 : decode cX1_grow 64 = .ok (.astore 5, 2) := dk_58 5 (dk_at dksX1_grow_2 18 rfl rfl)
theorem dX1_grow_66 : decode cX1_grow 66 = .ok (.iconst (-1), 1) := dk_2 (dk_at dksX1_grow_2 20 rfl rfl)
theorem dX1_grow_67 : decode cX1_grow 67 = .ok (.istore 6, 2) := dk_54 6 (dk_at dksX1_grow_2 21 rfl rfl)
theorem dX1_grow_69 : decode cX1_grow 69 = .ok (.iconst (-1), 1) := dk_2 (dk_at dksX1_grow_2 23 rfl rfl)
theorem dX1_grow_70 : decode cX1_grow 70 = .ok (.istore 7, 2) := dk_54 7 (dk_at dksX1_grow_3 0 rfl rfl)
theorem dX1_grow_72 : decode cX1_grow 72 = .ok (.iconst 0, 1) := dk_3 (dk_at dksX1_grow_3 2 rfl rfl)
theorem dX1_grow_73 : decode cX1_grow 73 = .ok (.istore 8, 2) := dk_54 8 (dk_at dksX1_grow_3 3 rfl rfl)
theorem dX1_grow_75 : decode cX1_grow 75 = .ok (.iconst 0, 1) := dk_3 (dk_at dksX1_grow_3 5 rfl rfl)
theorem dX1_grow_76 : decode cX1_grow 76 = .ok (.istore 9, 2) := dk_54 9 (dk_at dksX1_grow_3 6 rfl rfl)
theorem dX1_grow_78 : decode cX1_grow 78 = .ok (.iload 9, 2) := dk_21 9 (dk_at dksX1_grow_3 8 rfl rfl)
theorem dX1_grow_80 : decode cX1_grow 80 = .ok (.aload 4, 2) := dk_25 4 (dk_at dksX1_grow_3 10 rfl rfl)
theorem dX1_grow_82 : decode cX1_grow 82 = .ok (.arraylength, 1) := dk_190 (dk_at dksX1_grow_3 12 rfl rfl)
theorem dX1_grow_83 : decode cX1_grow 83 = .ok (.if_icmp .ge 119, 3) := dk_162 0 119 (dk_at dksX1_grow_3 13 rfl rfl)
theorem dX1_grow_86 : decode cX1_grow 86 = .ok (.iload_n 2, 1) := dk_28 (dk_at dksX1_grow_3 16 rfl rfl)
theorem dX1_grow_87 : decode cX1_grow 87 = .ok (.iconst 1, 1) := dk_4 (dk_at dksX1_grow_3 17 rfl rfl)
theorem dX1_grow_88 : decode cX1_grow 88 = .ok (.if_icmp .ne 11, 3) := dk_160 0 11 (dk_at dksX1_grow_3 18 rfl rfl)
theorem dX1_grow_91 : decode cX1_grow 91 = .ok (.aload 4, 2) := dk_25 4 (dk_at dksX1_grow_3 21 rfl rfl)
theorem dX1_grow_93 : decode cX1_grow 93 = .ok (.arraylength, 1) := dk_190 (dk_at dksX1_grow_3 23 rfl rfl)
theorem dX1_grow_94 : decode cX1_grow 94 = .ok (.iconst 1, 1) := dk_4 (dk_at dksX1_grow_4 0 rfl rfl)
theorem dX1_grow_95 : decode cX1_grow 95 = .ok (.isub, 1) := dk_100 (dk_at dksX1_grow_4 1 rfl rfl)
theorem dX1_grow_96 : decode cX1_grow 96 = .ok (.goto 7, 3) := dk_167 0 7 (dk_at dksX1_grow_4 2 rfl rfl)
theorem dX1_grow_99 : decode cX1_grow 99 = .ok (.iload 9, 2) := dk_21 9 (dk_at dksX1_grow_4 5 rfl rfl)
theorem dX1_grow_101 : decode cX1_grow 101 = .ok (.iconst 1, 1) := dk_4 (dk_at dksX1_grow_4 7 rfl rfl)
theorem dX1_grow_102 : decode cX1_grow 102 = .ok (.iadd, 1) := dk_96 (dk_at dksX1_grow_4 8 rfl rfl)
theorem dX1_grow_103 : decode cX1_grow 103 = .ok (.istore 10, 2) := dk_54 10 (dk_at dksX1_grow_4 9 rfl rfl)
theorem dX1_grow_105 : decode cX1_grow 105 = .ok (.iload 10, 2) := dk_21 10 (dk_at dksX1_grow_4 11 rfl rfl)
theorem dX1_grow_107 : decode cX1_grow 107 = .ok (.aload 4, 2) := dk_25 4 (dk_at dksX1_grow_4 13 rfl rfl)
theorem dX1_grow_109 : decode cX1_grow 109 = .ok (.arraylength, 1) := dk_190 (dk_at dksX1_grow_4 15 rfl rfl)
theorem dX1_grow_110 : decode cX1_grow 110 = .ok (.if_icmp .ge 86, 3) := dk_162 0 86 (dk_at dksX1_grow_4 16 rfl rfl)
theorem dX1_grow_113 : decode cX1_grow 113 = .ok (.iload_n 2, 1) := dk_28 (dk_at dksX1_grow_4 19 rfl rfl)
theorem dX1_grow_114 : decode cX1_grow 114 = .ok (.iconst 1, 1) := dk_4 (dk_at dksX1_grow_4 20 rfl rfl)
theorem dX1_grow_115 : decode cX1_grow 115 = .ok (.if_icmp .ne 7, 3) := dk_160 0 7 (dk_at dksX1_grow_4 21 rfl rfl)
theorem dX1_grow_118 : decode cX1_grow 118 = .ok (.iconst (-1), 1) := dk_2 (dk_at dksX1_grow_5 0 rfl rfl)
theorem dX1_grow_119 : decode cX1_grow 119 = .ok (.goto 8, 3) := dk_167 0 8 (dk_at dksX1_grow_5 1 rfl rfl)
theorem dX1_grow_122 : decode cX1_grow 122 = .ok (.aload 4, 2) := dk_25 4 (dk_at dksX1_grow_5 4 rfl rfl)
theorem dX1_grow_124 : decode cX1_grow 124 = .ok (.iload 10, 2) := dk_21 10 (dk_at dksX1_grow_5 6 rfl rfl)
theorem dX1_grow_126 : decode cX1_grow 126 = .ok (.iaload, 1) := dk_46 (dk_at dksX1_grow_5 8 rfl rfl)
theorem dX1_grow_127 : decode cX1_grow 127 = .ok (.istore 11, 2) := dk_54 11 (dk_at dksX1_grow_5 9 rfl rfl)
theorem dX1_grow_129 : decode cX1_grow 129 = .ok (.aload 5, 2) := dk_25 5 (dk_at dksX1_grow_5 11 rfl rfl)
theorem dX1_grow_131 : decode cX1_grow 131 = .ok (.aload_n 3, 1) := dk_45 (dk_at dksX1_grow_5 13 rfl rfl)
theorem dX1_grow_132 : decode cX1_grow 132 = .ok (.aload 4, 2) := dk_25 4 (dk_at dksX1_grow_5 14 rfl rfl)
theorem dX1_grow_134 : decode cX1_grow 134 = .ok (.iload 9, 2) := dk_21 9 (dk_at dksX1_grow_5 16 rfl rfl)
theorem dX1_grow_136 : decode cX1_grow 136 = .ok (.iaload, 1) := dk_46 (dk_at dksX1_grow_5 18 rfl rfl)
theorem dX1_grow_137 : decode cX1_grow 137 = .ok (.iload 11, 2) := dk_21 11 (dk_at dksX1_grow_5 19 rfl rfl)
theorem dX1_grow_139 : decode cX1_grow 139 = .ok (.invokestatic 345, 3) := dk_184 1 89 (dk_at dksX1_grow_5 21 rfl rfl)
theorem dX1_grow_142 : decode cX1_grow 142 = .ok (.ifCond .ne 6, 3) := dk_154 0 6 (dk_at dksX1_grow_6 0 rfl rfl)
theorem dX1_grow_145 : decode cX1_grow 145 = .ok (.goto 45, 3) := dk_167 0 45 (dk_at dksX1_grow_6 3 rfl rfl)
theorem dX1_grow_148 : decode cX1_grow 148 = .ok (.aload_n 0, 1) := dk_42 (dk_at dksX1_grow_6 6 rfl rfl)
theorem dX1_grow_149 : decode cX1_grow 149 = .ok (.getfield 28, 3) := dk_180 0 28 (dk_at dksX1_grow_6 7 rfl rfl)
theorem dX1_grow_152 : decode cX1_grow 152 = .ok (.aload 5, 2) := dk_25 5 (dk_at dksX1_grow_6 10 rfl rfl)
theorem dX1_grow_154 : decode cX1_grow 154 = .ok (.invokevirtual 194, 3) := dk_182 0 194 (dk_at dksX1_grow_6 12 rfl rfl)
theorem dX1_grow_157 : decode cX1_grow 157 = .ok (.istore 12, 2) := dk_54 12 (dk_at dksX1_grow_6 15 rfl rfl)
theorem dX1_grow_159 : decode cX1_grow 159 = .ok (.iload 6, 2) := dk_21 6 (dk_at dksX1_grow_6 17 rfl rfl)
theorem dX1_grow_161 : decode cX1_grow 161 = .ok (.iconst (-1), 1) := dk_2 (dk_at dksX1_grow_6 19 rfl rfl)
theorem dX1_grow_162 : decode cX1_grow 162 = .ok (.if_icmp .eq 13, 3) := dk_159 0 13 (dk_at dksX1_grow_6 20 rfl rfl)
theorem dX1_grow_165 : decode cX1_grow 165 = .ok (.iload 12, 2) := dk_21 12 (dk_at dksX1_grow_7 0 rfl rfl)
theorem dX1_grow_167 : decode cX1_grow 167 = .ok (.iload 8, 2) := dk_21 8 (dk_at dksX1_grow_7 2 rfl rfl)
theorem dX1_grow_169 : decode cX1_grow 169 = .ok (.if_icmp .lt 6, 3) := dk_161 0 6 (dk_at dksX1_grow_7 4 rfl rfl)
theorem dX1_grow_172 : decode cX1_grow 172 = .ok (.goto 18, 3) := dk_167 0 18 (dk_at dksX1_grow_7 7 rfl rfl)
theorem dX1_grow_175 : decode cX1_grow 175 = .ok (.aload 4, 2) := dk_25 4 (dk_at dksX1_grow_7 10 rfl rfl)
theorem dX1_grow_177 : decode cX1_grow 177 = .ok (.iload 9, 2) := dk_21 9 (dk_at dksX1_grow_7 12 rfl rfl)
theorem dX1_grow_179 : decode cX1_grow 179 = .ok (.iaload, 1) := dk_46 (dk_at dksX1_grow_7 14 rfl rfl)
theorem dX1_grow_180 : decode cX1_grow 180 = .ok (.istore 6, 2) := dk_54 6 (dk_at dksX1_grow_7 15 rfl rfl)
theorem dX1_grow_182 : decode cX1_grow 182 = .ok (.iload 11, 2) := dk_21 11 (dk_at dksX1_grow_7 17 rfl rfl)
theorem dX1_grow_184 : decode cX1_grow 184 = .ok (.istore 7, 2) := dk_54 7 (dk_at dksX1_grow_7 19 rfl rfl)
theorem dX1_grow_186 : decode cX1_grow 186 = .ok (.iload 12, 2) := dk_21 12 (dk_at dksX1_grow_7 21 rfl rfl)
theorem dX1_grow_188 : decode cX1_grow 188 = .ok (.istore 8, 2) := dk_54 8 (dk_at dksX1_grow_8 0 rfl rfl)
theorem dX1_grow_190 : decode cX1_grow 190 = .ok (.iinc 10 1, 3) := dk_132 10 1 (dk_at dksX1_grow_8 2 rfl rfl)
theorem dX1_grow_193 : decode cX1_grow 193 = .ok (.goto (-88), 3) := dk_167 255 168 (dk_at dksX1_grow_8 5 rfl rfl)
theorem dX1_grow_196 : decode cX1_grow 196 = .ok (.iinc 9 1, 3) := dk_132 9 1 (dk_at dksX1_grow_8 8 rfl rfl)
theorem dX1_grow_199 : decode cX1_grow 199 = .ok (.goto (-121), 3) := dk_167 255 135 (dk_at dksX1_grow_8 11 rfl rfl)
theorem dX1_grow_202 : decode cX1_grow 202 = .ok (.iload 6, 2) := dk_21 6 (dk_at dksX1_grow_8 14 rfl rfl)
theorem dX1_grow_204 : decode cX1_grow 204 = .ok (.iconst (-1), 1) := dk_2 (dk_at dksX1_grow_8 16 rfl rfl)
theorem dX1_grow_205 : decode cX1_grow 205 = .ok (.if_icmp .ne 5, 3) := dk_160 0 5 (dk_at dksX1_grow_8 17 rfl rfl)
theorem dX1_grow_208 : decode cX1_grow 208 = .ok (.iconst (-1), 1) := dk_2 (dk_at dksX1_grow_8 20 rfl rfl)
theorem dX1_grow_209 : decode cX1_grow 209 = .ok (.ireturn, 1) := dk_172 (dk_at dksX1_grow_8 21 rfl rfl)
theorem dX1_grow_210 : decode cX1_grow 210 = .ok (.aload 5, 2) := dk_25 5 (dk_at dksX1_grow_8 22 rfl rfl)
theorem dX1_grow_212 : decode cX1_grow 212 = .ok (.aload_n 3, 1) := dk_45 (dk_at dksX1_grow_9 0 rfl rfl)
theorem dX1_grow_213 : decode cX1_grow 213 = .ok (.iload 6, 2) := dk_21 6 (dk_at dksX1_grow_9 1 rfl rfl)
theorem dX1_grow_215 : decode cX1_grow 215 = .ok (.iload 7, 2) := dk_21 7 (dk_at dksX1_grow_9 3 rfl rfl)
theorem dX1_grow_217 : decode cX1_grow 217 = .ok (.invokestatic 345, 3) := dk_184 1 89 (dk_at dksX1_grow_9 5 rfl rfl)
theorem dX1_grow_220 : decode cX1_grow 220 = .ok (.pop, 1) := dk_87 (dk_at dksX1_grow_9 8 rfl rfl)
theorem dX1_grow_221 : decode cX1_grow 221 = .ok (.aload_n 0, 1) := dk_42 (dk_at dksX1_grow_9 9 rfl rfl)
theorem dX1_grow_222 : decode cX1_grow 222 = .ok (.getfield 17, 3) := dk_180 0 17 (dk_at dksX1_grow_9 10 rfl rfl)
theorem dX1_grow_225 : decode cX1_grow 225 = .ok (.iload_n 1, 1) := dk_27 (dk_at dksX1_grow_9 13 rfl rfl)
theorem dX1_grow_226 : decode cX1_grow 226 = .ok (.aload 5, 2) := dk_25 5 (dk_at dksX1_grow_9 14 rfl rfl)
theorem dX1_grow_228 : decode cX1_grow 228 = .ok (.aastore, 1) := dk_83 (dk_at dksX1_grow_9 16 rfl rfl)
theorem dX1_grow_229 : decode cX1_grow 229 = .ok (.iload 8, 2) := dk_21 8 (dk_at dksX1_grow_9 17 rfl rfl)
theorem dX1_grow_231 : decode cX1_grow 231 = .ok (.ireturn, 1) := dk_172 (dk_at dksX1_grow_9 19 rfl rfl)
abbrev cX1_grows : ByteArray := prog_1_method_48_code
def yX1_grows : MethodName := ⟨RX1, "grows", "(LWiredNets$Net;LWiredNets$Net;II)Z"⟩
def dkwX1_grows_6 : List UInt8 := [21, 6, 4, 100, 126, 54, 6, 167, 255, 229, 4, 172]
abbrev dktX1_grows_6 : List UInt8 := dkwX1_grows_6 ++ []
def dkwX1_grows_5 : List UInt8 := [128, 54, 6, 21, 6, 153, 0, 28, 42, 43, 180, 0, 73, 21, 6, 184, 1, 44, 182, 0, 94, 21, 6]
abbrev dktX1_grows_5 : List UInt8 := dkwX1_grows_5 ++ dktX1_grows_6
def dkwX1_grows_4 : List UInt8 := [126, 182, 0, 100, 29, 2, 159, 0, 14, 42, 29, 8, 122, 29, 16, 31, 126, 182, 0, 100, 21, 4, 21, 5]
abbrev dktX1_grows_4 : List UInt8 := dkwX1_grows_4 ++ dktX1_grows_5
def dkwX1_grows_3 : List UInt8 := [79, 132, 6, 1, 167, 255, 230, 42, 180, 1, 41, 43, 180, 0, 73, 3, 79, 42, 28, 8, 122, 28, 16, 31]
abbrev dktX1_grows_3 : List UInt8 := dkwX1_grows_3 ++ dktX1_grows_4
def dkwX1_grows_2 : List UInt8 := [54, 6, 21, 6, 43, 180, 0, 73, 162, 0, 23, 42, 180, 1, 41, 21, 6, 43, 180, 1, 41, 21, 6, 46]
abbrev dktX1_grows_2 : List UInt8 := dkwX1_grows_2 ++ dktX1_grows_3
def dkwX1_grows_1 : List UInt8 := [29, 8, 122, 120, 4, 29, 16, 31, 126, 120, 128, 54, 5, 21, 4, 21, 5, 126, 153, 0, 5, 3, 172, 3]
abbrev dktX1_grows_1 : List UInt8 := dkwX1_grows_1 ++ dktX1_grows_2
def dkwX1_grows_0 : List UInt8 := [4, 28, 8, 122, 120, 4, 28, 16, 31, 126, 120, 128, 54, 4, 29, 2, 160, 0, 7, 3, 167, 0, 15, 4]
abbrev dktX1_grows_0 : List UInt8 := dkwX1_grows_0 ++ dktX1_grows_1
theorem dksX1_grows_0 : cX1_grows.data.toList.drop 0 = dktX1_grows_0 := by decide +kernel
theorem dksX1_grows_1 : cX1_grows.data.toList.drop 24 = dktX1_grows_1 := dk_seg dksX1_grows_0 24 rfl rfl
theorem dksX1_grows_2 : cX1_grows.data.toList.drop 48 = dktX1_grows_2 := dk_seg dksX1_grows_1 24 rfl rfl
theorem dksX1_grows_3 : cX1_grows.data.toList.drop 72 = dktX1_grows_3 := dk_seg dksX1_grows_2 24 rfl rfl
theorem dksX1_grows_4 : cX1_grows.data.toList.drop 96 = dktX1_grows_4 := dk_seg dksX1_grows_3 24 rfl rfl
theorem dksX1_grows_5 : cX1_grows.data.toList.drop 120 = dktX1_grows_5 := dk_seg dksX1_grows_4 24 rfl rfl
theorem dksX1_grows_6 : cX1_grows.data.toList.drop 143 = dktX1_grows_6 := dk_seg dksX1_grows_5 23 rfl rfl
theorem dX1_grows_0 : decode cX1_grows 0 = .ok (.iconst 1, 1) := dk_4 (dk_at dksX1_grows_0 0 rfl rfl)
theorem dX1_grows_1 : decode cX1_grows 1 = .ok (.iload_n 2, 1) := dk_28 (dk_at dksX1_grows_0 1 rfl rfl)
theorem dX1_grows_2 : decode cX1_grows 2 = .ok (.iconst 5, 1) := dk_8 (dk_at dksX1_grows_0 2 rfl rfl)
theorem dX1_grows_3 : decode cX1_grows 3 = .ok (.ishr, 1) := dk_122 (dk_at dksX1_grows_0 3 rfl rfl)
theorem dX1_grows_4 : decode cX1_grows 4 = .ok (.ishl, 1) := dk_120 (dk_at dksX1_grows_0 4 rfl rfl)
theorem dX1_grows_5 : decode cX1_grows 5 = .ok (.iconst 1, 1) := dk_4 (dk_at dksX1_grows_0 5 rfl rfl)
theorem dX1_grows_6 : decode cX1_grows 6 = .ok (.iload_n 2, 1) := dk_28 (dk_at dksX1_grows_0 6 rfl rfl)
theorem dX1_grows_7 : decode cX1_grows 7 = .ok (.bipush 31, 2) := dk_16 31 (dk_at dksX1_grows_0 7 rfl rfl)
theorem dX1_grows_9 : decode cX1_grows 9 = .ok (.iand, 1) := dk_126 (dk_at dksX1_grows_0 9 rfl rfl)
theorem dX1_grows_10 : decode cX1_grows 10 = .ok (.ishl, 1) := dk_120 (dk_at dksX1_grows_0 10 rfl rfl)
theorem dX1_grows_11 : decode cX1_grows 11 = .ok (.ior, 1) := dk_128 (dk_at dksX1_grows_0 11 rfl rfl)
theorem dX1_grows_12 : decode cX1_grows 12 = .ok (.istore 4, 2) := dk_54 4 (dk_at dksX1_grows_0 12 rfl rfl)
theorem dX1_grows_14 : decode cX1_grows 14 = .ok (.iload_n 3, 1) := dk_29 (dk_at dksX1_grows_0 14 rfl rfl)
theorem dX1_grows_15 : decode cX1_grows 15 = .ok (.iconst (-1), 1) := dk_2 (dk_at dksX1_grows_0 15 rfl rfl)
theorem dX1_grows_16 : decode cX1_grows 16 = .ok (.if_icmp .ne 7, 3) := dk_160 0 7 (dk_at dksX1_grows_0 16 rfl rfl)
theorem dX1_grows_19 : decode cX1_grows 19 = .ok (.iconst 0, 1) := dk_3 (dk_at dksX1_grows_0 19 rfl rfl)
theorem dX1_grows_20 : decode cX1_grows 20 = .ok (.goto 15, 3) := dk_167 0 15 (dk_at dksX1_grows_0 20 rfl rfl)
theorem dX1_grows_23 : decode cX1_grows 23 = .ok (.iconst 1, 1) := dk_4 (dk_at dksX1_grows_0 23 rfl rfl)
theorem dX1_grows_24 : decode cX1_grows 24 = .ok (.iload_n 3, 1) := dk_29 (dk_at dksX1_grows_1 0 rfl rfl)
theorem dX1_grows_25 : decode cX1_grows 25 = .ok (.iconst 5, 1) := dk_8 (dk_at dksX1_grows_1 1 rfl rfl)
theorem dX1_grows_26 : decode cX1_grows 26 = .ok (.ishr, 1) := dk_122 (dk_at dksX1_grows_1 2 rfl rfl)
theorem dX1_grows_27 : decode cX1_grows 27 = .ok (.ishl, 1) := dk_120 (dk_at dksX1_grows_1 3 rfl rfl)
theorem dX1_grows_28 : decode cX1_grows 28 = .ok (.iconst 1, 1) := dk_4 (dk_at dksX1_grows_1 4 rfl rfl)
theorem dX1_grows_29 : decode cX1_grows 29 = .ok (.iload_n 3, 1) := dk_29 (dk_at dksX1_grows_1 5 rfl rfl)
theorem dX1_grows_30 : decode cX1_grows 30 = .ok (.bipush 31, 2) := dk_16 31 (dk_at dksX1_grows_1 6 rfl rfl)
theorem dX1_grows_32 : decode cX1_grows 32 = .ok (.iand, 1) := dk_126 (dk_at dksX1_grows_1 8 rfl rfl)
theorem dX1_grows_33 : decode cX1_grows 33 = .ok (.ishl, 1) := dk_120 (dk_at dksX1_grows_1 9 rfl rfl)
theorem dX1_grows_34 : decode cX1_grows 34 = .ok (.ior, 1) := dk_128 (dk_at dksX1_grows_1 10 rfl rfl)
theorem dX1_grows_35 : decode cX1_grows 35 = .ok (.istore 5, 2) := dk_54 5 (dk_at dksX1_grows_1 11 rfl rfl)
theorem dX1_grows_37 : decode cX1_grows 37 = .ok (.iload 4, 2) := dk_21 4 (dk_at dksX1_grows_1 13 rfl rfl)
theorem dX1_grows_39 : decode cX1_grows 39 = .ok (.iload 5, 2) := dk_21 5 (dk_at dksX1_grows_1 15 rfl rfl)
theorem dX1_grows_41 : decode cX1_grows 41 = .ok (.iand, 1) := dk_126 (dk_at dksX1_grows_1 17 rfl rfl)
theorem dX1_grows_42 : decode cX1_grows 42 = .ok (.ifCond .eq 5, 3) := dk_153 0 5 (dk_at dksX1_grows_1 18 rfl rfl)
theorem dX1_grows_45 : decode cX1_grows 45 = .ok (.iconst 0, 1) := dk_3 (dk_at dksX1_grows_1 21 rfl rfl)
theorem dX1_grows_46 : decode cX1_grows 46 = .ok (.ireturn, 1) := dk_172 (dk_at dksX1_grows_1 22 rfl rfl)
theorem dX1_grows_47 : decode cX1_grows 47 = .ok (.iconst 0, 1) := dk_3 (dk_at dksX1_grows_1 23 rfl rfl)
theorem dX1_grows_48 : decode cX1_grows 48 = .ok (.istore 6, 2) := dk_54 6 (dk_at dksX1_grows_2 0 rfl rfl)
theorem dX1_grows_50 : decode cX1_grows 50 = .ok (.iload 6, 2) := dk_21 6 (dk_at dksX1_grows_2 2 rfl rfl)
theorem dX1_grows_52 : decode cX1_grows 52 = .ok (.aload_n 1, 1) := dk_43 (dk_at dksX1_grows_2 4 rfl rfl)
theorem dX1_grows_53 : decode cX1_grows 53 = .ok (.getfield 73, 3) := dk_180 0 73 (dk_at dksX1_grows_2 5 rfl rfl)
theorem dX1_grows_56 : decode cX1_grows 56 = .ok (.if_icmp .ge 23, 3) := dk_162 0 23 (dk_at dksX1_grows_2 8 rfl rfl)
theorem dX1_grows_59 : decode cX1_grows 59 = .ok (.aload_n 0, 1) := dk_42 (dk_at dksX1_grows_2 11 rfl rfl)
theorem dX1_grows_60 : decode cX1_grows 60 = .ok (.getfield 297, 3) := dk_180 1 41 (dk_at dksX1_grows_2 12 rfl rfl)
theorem dX1_grows_63 : decode cX1_grows 63 = .ok (.iload 6, 2) := dk_21 6 (dk_at dksX1_grows_2 15 rfl rfl)
theorem dX1_grows_65 : decode cX1_grows 65 = .ok (.aload_n 1, 1) := dk_43 (dk_at dksX1_grows_2 17 rfl rfl)
theorem dX1_grows_66 : decode cX1_grows 66 = .ok (.getfield 297, 3) := dk_180 1 41 (dk_at dksX1_grows_2 18 rfl rfl)
theorem dX1_grows_69 : decode cX1_grows 69 = .ok (.iload 6, 2) := dk_21 6 (dk_at dksX1_grows_2 21 rfl rfl)
theorem dX1_grows_71 : decode cX1_grows 71 = .ok (.iaload, 1) := dk_46 (dk_at dksX1_grows_2 23 rfl rfl)
theorem dX1_grows_72 : decode cX1_grows 72 = .ok (.iastore, 1) := dk_79 (dk_at dksX1_grows_3 0 rfl rfl)
theorem dX1_grows_73 : decode cX1_grows 73 = .ok (.iinc 6 1, 3) := dk_132 6 1 (dk_at dksX1_grows_3 1 rfl rfl)
theorem dX1_grows_76 : decode cX1_grows 76 = .ok (.goto (-26), 3) := dk_167 255 230 (dk_at dksX1_grows_3 4 rfl rfl)
theorem dX1_grows_79 : decode cX1_grows 79 = .ok (.aload_n 0, 1) := dk_42 (dk_at dksX1_grows_3 7 rfl rfl)
theorem dX1_grows_80 : decode cX1_grows 80 = .ok (.getfield 297, 3) := dk_180 1 41 (dk_at dksX1_grows_3 8 rfl rfl)
theorem dX1_grows_83 : decode cX1_grows 83 = .ok (.aload_n 1, 1) := dk_43 (dk_at dksX1_grows_3 11 rfl rfl)
theorem dX1_grows_84 : decode cX1_grows 84 = .ok (.getfield 73, 3) := dk_180 0 73 (dk_at dksX1_grows_3 12 rfl rfl)
theorem dX1_grows_87 : decode cX1_grows 87 = .ok (.iconst 0, 1) := dk_3 (dk_at dksX1_grows_3 15 rfl rfl)
theorem dX1_grows_88 : decode cX1_grows 88 = .ok (.iastore, 1) := dk_79 (dk_at dksX1_grows_3 16 rfl rfl)
theorem dX1_grows_89 : decode cX1_grows 89 = .ok (.aload_n 0, 1) := dk_42 (dk_at dksX1_grows_3 17 rfl rfl)
theorem dX1_grows_90 : decode cX1_grows 90 = .ok (.iload_n 2, 1) := dk_28 (dk_at dksX1_grows_3 18 rfl rfl)
theorem dX1_grows_91 : decode cX1_grows 91 = .ok (.iconst 5, 1) := dk_8 (dk_at dksX1_grows_3 19 rfl rfl)
theorem dX1_grows_92 : decode cX1_grows 92 = .ok (.ishr, 1) := dk_122 (dk_at dksX1_grows_3 20 rfl rfl)
theorem dX1_grows_93 : decode cX1_grows 93 = .ok (.iload_n 2, 1) := dk_28 (dk_at dksX1_grows_3 21 rfl rfl)
theorem dX1_grows_94 : decode cX1_grows 94 = .ok (.bipush 31, 2) := dk_16 31 (dk_at dksX1_grows_3 22 rfl rfl)
theorem dX1_grows_96 : decode cX1_grows 96 = .ok (.iand, 1) := dk_126 (dk_at dksX1_grows_4 0 rfl rfl)
theorem dX1_grows_97 : decode cX1_grows 97 = .ok (.invokevirtual 100, 3) := dk_182 0 100 (dk_at dksX1_grows_4 1 rfl rfl)
theorem dX1_grows_100 : decode cX1_grows 100 = .ok (.iload_n 3, 1) := dk_29 (dk_at dksX1_grows_4 4 rfl rfl)
theorem dX1_grows_101 : decode cX1_grows 101 = .ok (.iconst (-1), 1) := dk_2 (dk_at dksX1_grows_4 5 rfl rfl)
theorem dX1_grows_102 : decode cX1_grows 102 = .ok (.if_icmp .eq 14, 3) := dk_159 0 14 (dk_at dksX1_grows_4 6 rfl rfl)
theorem dX1_grows_105 : decode cX1_grows 105 = .ok (.aload_n 0, 1) := dk_42 (dk_at dksX1_grows_4 9 rfl rfl)
theorem dX1_grows_106 : decode cX1_grows 106 = .ok (.iload_n 3, 1) := dk_29 (dk_at dksX1_grows_4 10 rfl rfl)
theorem dX1_grows_107 : decode cX1_grows 107 = .ok (.iconst 5, 1) := dk_8 (dk_at dksX1_grows_4 11 rfl rfl)
theorem dX1_grows_108 : decode cX1_grows 108 = .ok (.ishr, 1) := dk_122 (dk_at dksX1_grows_4 12 rfl rfl)
theorem dX1_grows_109 : decode cX1_grows 109 = .ok (.iload_n 3, 1) := dk_29 (dk_at dksX1_grows_4 13 rfl rfl)
theorem dX1_grows_110 : decode cX1_grows 110 = .ok (.bipush 31, 2) := dk_16 31 (dk_at dksX1_grows_4 14 rfl rfl)
theorem dX1_grows_112 : decode cX1_grows 112 = .ok (.iand, 1) := dk_126 (dk_at dksX1_grows_4 16 rfl rfl)
theorem dX1_grows_113 : decode cX1_grows 113 = .ok (.invokevirtual 100, 3) := dk_182 0 100 (dk_at dksX1_grows_4 17 rfl rfl)
theorem dX1_grows_116 : decode cX1_grows 116 = .ok (.iload 4, 2) := dk_21 4 (dk_at dksX1_grows_4 20 rfl rfl)
theorem dX1_grows_118 : decode cX1_grows 118 = .ok (.iload 5, 2) := dk_21 5 (dk_at dksX1_grows_4 22 rfl rfl)
theorem dX1_grows_120 : decode cX1_grows 120 = .ok (.ior, 1) := dk_128 (dk_at dksX1_grows_5 0 rfl rfl)
theorem dX1_grows_121 : decode cX1_grows 121 = .ok (.istore 6, 2) := dk_54 6 (dk_at dksX1_grows_5 1 rfl rfl)
theorem dX1_grows_123 : decode cX1_grows 123 = .ok (.iload 6, 2) := dk_21 6 (dk_at dksX1_grows_5 3 rfl rfl)
theorem dX1_grows_125 : decode cX1_grows 125 = .ok (.ifCond .eq 28, 3) := dk_153 0 28 (dk_at dksX1_grows_5 5 rfl rfl)
theorem dX1_grows_128 : decode cX1_grows 128 = .ok (.aload_n 0, 1) := dk_42 (dk_at dksX1_grows_5 8 rfl rfl)
theorem dX1_grows_129 : decode cX1_grows 129 = .ok (.aload_n 1, 1) := dk_43 (dk_at dksX1_grows_5 9 rfl rfl)
theorem dX1_grows_130 : decode cX1_grows 130 = .ok (.getfield 73, 3) := dk_180 0 73 (dk_at dksX1_grows_5 10 rfl rfl)
theorem dX1_grows_133 : decode cX1_grows 133 = .ok (.iload 6, 2) := dk_21 6 (dk_at dksX1_grows_5 13 rfl rfl)
theorem dX1_grows_135 : decode cX1_grows 135 = .ok (.invokestatic 300, 3) := dk_184 1 44 (dk_at dksX1_grows_5 15 rfl rfl)
theorem dX1_grows_138 : decode cX1_grows 138 = .ok (.invokevirtual 94, 3) := dk_182 0 94 (dk_at dksX1_grows_5 18 rfl rfl)
theorem dX1_grows_141 : decode cX1_grows 141 = .ok (.iload 6, 2) := dk_21 6 (dk_at dksX1_grows_5 21 rfl rfl)
theorem dX1_grows_143 : decode cX1_grows 143 = .ok (.iload 6, 2) := dk_21 6 (dk_at dksX1_grows_6 0 rfl rfl)
theorem dX1_grows_145 : decode cX1_grows 145 = .ok (.iconst 1, 1) := dk_4 (dk_at dksX1_grows_6 2 rfl rfl)
theorem dX1_grows_146 : decode cX1_grows 146 = .ok (.isub, 1) := dk_100 (dk_at dksX1_grows_6 3 rfl rfl)
theorem dX1_grows_147 : decode cX1_grows 147 = .ok (.iand, 1) := dk_126 (dk_at dksX1_grows_6 4 rfl rfl)
theorem dX1_grows_148 : decode cX1_grows 148 = .ok (.istore 6, 2) := dk_54 6 (dk_at dksX1_grows_6 5 rfl rfl)
theorem dX1_grows_150 : decode cX1_grows 150 = .ok (.goto (-27), 3) := dk_167 255 229 (dk_at dksX1_grows_6 7 rfl rfl)
theorem dX1_grows_153 : decode cX1_grows 153 = .ok (.iconst 1, 1) := dk_4 (dk_at dksX1_grows_6 10 rfl rfl)
theorem dX1_grows_154 : decode cX1_grows 154 = .ok (.ireturn, 1) := dk_172 (dk_at dksX1_grows_6 11 rfl rfl)
abbrev cX1_missing : ByteArray := prog_1_method_50_code
def yX1_missing : MethodName := ⟨RX1, "missing", "(I)I"⟩
def dkwX1_missing_5 : List UInt8 := [167, 255, 155, 29, 172]
abbrev dktX1_missing_5 : List UInt8 := dkwX1_missing_5 ++ []
def dkwX1_missing_4 : List UInt8 := [16, 32, 21, 5, 104, 21, 6, 96, 62, 21, 7, 54, 4, 132, 6, 1, 167, 255, 176, 132, 5, 1]
abbrev dktX1_missing_4 : List UInt8 := dkwX1_missing_4 ++ dktX1_missing_5
def dkwX1_missing_3 : List UInt8 := [44, 21, 5, 21, 6, 182, 0, 100, 29, 2, 159, 0, 13, 21, 7, 21, 4, 161, 0, 6, 167, 0, 16]
abbrev dktX1_missing_3 : List UInt8 := dkwX1_missing_3 ++ dktX1_missing_4
def dkwX1_missing_2 : List UInt8 := [153, 0, 6, 167, 0, 57, 44, 21, 5, 21, 6, 182, 0, 94, 42, 180, 0, 28, 44, 182, 0, 194, 54, 7]
abbrev dktX1_missing_2 : List UInt8 := dkwX1_missing_2 ++ dktX1_missing_3
def dkwX1_missing_1 : List UInt8 := [21, 5, 4, 96, 54, 6, 21, 6, 44, 180, 0, 73, 162, 0, 77, 44, 21, 5, 21, 6, 182, 0, 97]
abbrev dktX1_missing_1 : List UInt8 := dkwX1_missing_1 ++ dktX1_missing_2
def dkwX1_missing_0 : List UInt8 := [42, 27, 182, 0, 83, 77, 2, 62, 3, 54, 4, 3, 54, 5, 21, 5, 44, 180, 0, 73, 162, 0, 98]
abbrev dktX1_missing_0 : List UInt8 := dkwX1_missing_0 ++ dktX1_missing_1
theorem dksX1_missing_0 : cX1_missing.data.toList.drop 0 = dktX1_missing_0 := by decide +kernel
theorem dksX1_missing_1 : cX1_missing.data.toList.drop 23 = dktX1_missing_1 := dk_seg dksX1_missing_0 23 rfl rfl
theorem dksX1_missing_2 : cX1_missing.data.toList.drop 46 = dktX1_missing_2 := dk_seg dksX1_missing_1 23 rfl rfl
theorem dksX1_missing_3 : cX1_missing.data.toList.drop 70 = dktX1_missing_3 := dk_seg dksX1_missing_2 24 rfl rfl
theorem dksX1_missing_4 : cX1_missing.data.toList.drop 93 = dktX1_missing_4 := dk_seg dksX1_missing_3 23 rfl rfl
theorem dksX1_missing_5 : cX1_missing.data.toList.drop 115 = dktX1_missing_5 := dk_seg dksX1_missing_4 22 rfl rfl
theorem dX1_missing_0 : decode cX1_missing 0 = .ok (.aload_n 0, 1) := dk_42 (dk_at dksX1_missing_0 0 rfl rfl)
theorem dX1_missing_1 : decode cX1_missing 1 = .ok (.iload_n 1, 1) := dk_27 (dk_at dksX1_missing_0 1 rfl rfl)
theorem dX1_missing_2 : decode cX1_missing 2 = .ok (.invokevirtual 83, 3) := dk_182 0 83 (dk_at dksX1_missing_0 2 rfl rfl)
theorem dX1_missing_5 : decode cX1_missing 5 = .ok (.astore_n 2, 1) := dk_77 (dk_at dksX1_missing_0 5 rfl rfl)
theorem dX1_missing_6 : decode cX1_missing 6 = .ok (.iconst (-1), 1) := dk_2 (dk_at dksX1_missing_0 6 rfl rfl)
theorem dX1_missing_7 : decode cX1_missing 7 = .ok (.istore_n 3, 1) := dk_62 (dk_at dksX1_missing_0 7 rfl rfl)
theorem dX1_missing_8 : decode cX1_missing 8 = .ok (.iconst 0, 1) := dk_3 (dk_at dksX1_missing_0 8 rfl rfl)
theorem dX1_missing_9 : decode cX1_missing 9 = .ok (.istore 4, 2) := dk_54 4 (dk_at dksX1_missing_0 9 rfl rfl)
theorem dX1_missing_11 : decode cX1_missing 11 = .ok (.iconst 0, 1) := dk_3 (dk_at dksX1_missing_0 11 rfl rfl)
theorem dX1_missing_12 : decode cX1_missing 12 = .ok (.istore 5, 2) := dk_54 5 (dk_at dksX1_missing_0 12 rfl rfl)
theorem dX1_missing_14 : decode cX1_missing 14 = .ok (.iload 5, 2) := dk_21 5 (dk_at dksX1_missing_0 14 rfl rfl)
theorem dX1_missing_16 : decode cX1_missing 16 = .ok (.aload_n 2, 1) := dk_44 (dk_at dksX1_missing_0 16 rfl rfl)
theorem dX1_missing_17 : decode cX1_missing 17 = .ok (.getfield 73, 3) := dk_180 0 73 (dk_at dksX1_missing_0 17 rfl rfl)
theorem dX1_missing_20 : decode cX1_missing 20 = .ok (.if_icmp .ge 98, 3) := dk_162 0 98 (dk_at dksX1_missing_0 20 rfl rfl)
theorem dX1_missing_23 : decode cX1_missing 23 = .ok (.iload 5, 2) := dk_21 5 (dk_at dksX1_missing_1 0 rfl rfl)
theorem dX1_missing_25 : decode cX1_missing 25 = .ok (.iconst 1, 1) := dk_4 (dk_at dksX1_missing_1 2 rfl rfl)
theorem dX1_missing_26 : decode cX1_missing 26 = .ok (.iadd, 1) := dk_96 (dk_at dksX1_missing_1 3 rfl rfl)
theorem dX1_missing_27 : decode cX1_missing 27 = .ok (.istore 6, 2) := dk_54 6 (dk_at dksX1_missing_1 4 rfl rfl)
theorem dX1_missing_29 : decode cX1_missing 29 = .ok (.iload 6, 2) := dk_21 6 (dk_at dksX1_missing_1 6 rfl rfl)
theorem dX1_missing_31 : decode cX1_missing 31 = .ok (.aload_n 2, 1) := dk_44 (dk_at dksX1_missing_1 8 rfl rfl)
theorem dX1_missing_32 : decode cX1_missing 32 = .ok (.getfield 73, 3) := dk_180 0 73 (dk_at dksX1_missing_1 9 rfl rfl)
theorem dX1_missing_35 : decode cX1_missing 35 = .ok (.if_icmp .ge 77, 3) := dk_162 0 77 (dk_at dksX1_missing_1 12 rfl rfl)
theorem dX1_missing_38 : decode cX1_missing 38 = .ok (.aload_n 2, 1) := dk_44 (dk_at dksX1_missing_1 15 rfl rfl)
theorem dX1_missing_39 : decode cX1_missing 39 = .ok (.iload 5, 2) := dk_21 5 (dk_at dksX1_missing_1 16 rfl rfl)
theorem dX1_missing_41 : decode cX1_missing 41 = .ok (.iload 6, 2) := dk_21 6 (dk_at dksX1_missing_1 18 rfl rfl)
theorem dX1_missing_43 : decode cX1_missing 43 = .ok (.invokevirtual 97, 3) := dk_182 0 97 (dk_at dksX1_missing_1 20 rfl rfl)
theorem dX1_missing_46 : decode cX1_missing 46 = .ok (.ifCond .eq 6, 3) := dk_153 0 6 (dk_at dksX1_missing_2 0 rfl rfl)
theorem dX1_missing_49 : decode cX1_missing 49 = .ok (.goto 57, 3) := dk_167 0 57 (dk_at dksX1_missing_2 3 rfl rfl)
theorem dX1_missing_52 : decode cX1_missing 52 = .ok (.aload_n 2, 1) := dk_44 (dk_at dksX1_missing_2 6 rfl rfl)
theorem dX1_missing_53 : decode cX1_missing 53 = .ok (.iload 5, 2) := dk_21 5 (dk_at dksX1_missing_2 7 rfl rfl)
theorem dX1_missing_55 : decode cX1_missing 55 = .ok (.iload 6, 2) := dk_21 6 (dk_at dksX1_missing_2 9 rfl rfl)
theorem dX1_missing_57 : decode cX1_missing 57 = .ok (.invokevirtual 94, 3) := dk_182 0 94 (dk_at dksX1_missing_2 11 rfl rfl)
theorem dX1_missing_60 : decode cX1_missing 60 = .ok (.aload_n 0, 1) := dk_42 (dk_at dksX1_missing_2 14 rfl rfl)
theorem dX1_missing_61 : decode cX1_missing 61 = .ok (.getfield 28, 3) := dk_180 0 28 (dk_at dksX1_missing_2 15 rfl rfl)
theorem dX1_missing_64 : decode cX1_missing 64 = .ok (.aload_n 2, 1) := dk_44 (dk_at dksX1_missing_2 18 rfl rfl)
theorem dX1_missing_65 : decode cX1_missing 65 = .ok (.invokevirtual 194, 3) := dk_182 0 194 (dk_at dksX1_missing_2 19 rfl rfl)
theorem dX1_missing_68 : decode cX1_missing 68 = .ok (.istore 7, 2) := dk_54 7 (dk_at dksX1_missing_2 22 rfl rfl)
theorem dX1_missing_70 : decode cX1_missing 70 = .ok (.aload_n 2, 1) := dk_44 (dk_at dksX1_missing_3 0 rfl rfl)
theorem dX1_missing_71 : decode cX1_missing 71 = .ok (.iload 5, 2) := dk_21 5 (dk_at dksX1_missing_3 1 rfl rfl)
theorem dX1_missing_73 : decode cX1_missing 73 = .ok (.iload 6, 2) := dk_21 6 (dk_at dksX1_missing_3 3 rfl rfl)
theorem dX1_missing_75 : decode cX1_missing 75 = .ok (.invokevirtual 100, 3) := dk_182 0 100 (dk_at dksX1_missing_3 5 rfl rfl)
theorem dX1_missing_78 : decode cX1_missing 78 = .ok (.iload_n 3, 1) := dk_29 (dk_at dksX1_missing_3 8 rfl rfl)
theorem dX1_missing_79 : decode cX1_missing 79 = .ok (.iconst (-1), 1) := dk_2 (dk_at dksX1_missing_3 9 rfl rfl)
theorem dX1_missing_80 : decode cX1_missing 80 = .ok (.if_icmp .eq 13, 3) := dk_159 0 13 (dk_at dksX1_missing_3 10 rfl rfl)
theorem dX1_missing_83 : decode cX1_missing 83 = .ok (.iload 7, 2) := dk_21 7 (dk_at dksX1_missing_3 13 rfl rfl)
theorem dX1_missing_85 : decode cX1_missing 85 = .ok (.iload 4, 2) := dk_21 4 (dk_at dksX1_missing_3 15 rfl rfl)
theorem dX1_missing_87 : decode cX1_missing 87 = .ok (.if_icmp .lt 6, 3) := dk_161 0 6 (dk_at dksX1_missing_3 17 rfl rfl)
theorem dX1_missing_90 : decode cX1_missing 90 = .ok (.goto 16, 3) := dk_167 0 16 (dk_at dksX1_missing_3 20 rfl rfl)
theorem dX1_missing_93 : decode cX1_missing 93 = .ok (.bipush 32, 2) := dk_16 32 (dk_at dksX1_missing_4 0 rfl rfl)
theorem dX1_missing_95 : decode cX1_missing 95 = .ok (.iload 5, 2) := dk_21 5 (dk_at dksX1_missing_4 2 rfl rfl)
theorem dX1_missing_97 : decode cX1_missing 97 = .ok (.imul, 1) := dk_104 (dk_at dksX1_missing_4 4 rfl rfl)
theorem dX1_missing_98 : decode cX1_missing 98 = .ok (.iload 6, 2) := dk_21 6 (dk_at dksX1_missing_4 5 rfl rfl)
theorem dX1_missing_100 : decode cX1_missing 100 = .ok (.iadd, 1) := dk_96 (dk_at dksX1_missing_4 7 rfl rfl)
theorem dX1_missing_101 : decode cX1_missing 101 = .ok (.istore_n 3, 1) := dk_62 (dk_at dksX1_missing_4 8 rfl rfl)
theorem dX1_missing_102 : decode cX1_missing 102 = .ok (.iload 7, 2) := dk_21 7 (dk_at dksX1_missing_4 9 rfl rfl)
theorem dX1_missing_104 : decode cX1_missing 104 = .ok (.istore 4, 2) := dk_54 4 (dk_at dksX1_missing_4 11 rfl rfl)
theorem dX1_missing_106 : decode cX1_missing 106 = .ok (.iinc 6 1, 3) := dk_132 6 1 (dk_at dksX1_missing_4 13 rfl rfl)
theorem dX1_missing_109 : decode cX1_missing 109 = .ok (.goto (-80), 3) := dk_167 255 176 (dk_at dksX1_missing_4 16 rfl rfl)
theorem dX1_missing_112 : decode cX1_missing 112 = .ok (.iinc 5 1, 3) := dk_132 5 1 (dk_at dksX1_missing_4 19 rfl rfl)
theorem dX1_missing_115 : decode cX1_missing 115 = .ok (.goto (-101), 3) := dk_167 255 155 (dk_at dksX1_missing_5 0 rfl rfl)
theorem dX1_missing_118 : decode cX1_missing 118 = .ok (.iload_n 3, 1) := dk_29 (dk_at dksX1_missing_5 3 rfl rfl)
theorem dX1_missing_119 : decode cX1_missing 119 = .ok (.ireturn, 1) := dk_172 (dk_at dksX1_missing_5 4 rfl rfl)
abbrev cX1_count : ByteArray := prog_1_method_51_code
def yX1_count : MethodName := ⟨RX1, "count", "(I)I"⟩
def dkwX1_count_2 : List UInt8 := [132, 2, 1, 132, 3, 1, 167, 255, 235, 28, 172]
abbrev dktX1_count_2 : List UInt8 := dkwX1_count_2 ++ []
def dkwX1_count_1 : List UInt8 := [180, 0, 103, 172, 3, 61, 3, 62, 29, 16, 8, 162, 0, 21, 42, 180, 0, 17, 29, 50, 198, 0, 6]
abbrev dktX1_count_1 : List UInt8 := dkwX1_count_1 ++ dktX1_count_2
def dkwX1_count_0 : List UInt8 := [27, 153, 0, 8, 27, 4, 160, 0, 7, 4, 167, 0, 4, 3, 184, 0, 69, 27, 4, 160, 0, 8, 42]
abbrev dktX1_count_0 : List UInt8 := dkwX1_count_0 ++ dktX1_count_1
theorem dksX1_count_0 : cX1_count.data.toList.drop 0 = dktX1_count_0 := by decide +kernel
theorem dksX1_count_1 : cX1_count.data.toList.drop 23 = dktX1_count_1 := dk_seg dksX1_count_0 23 rfl rfl
theorem dksX1_count_2 : cX1_count.data.toList.drop 46 = dktX1_count_2 := dk_seg dksX1_count_1 23 rfl rfl
theorem dX1_count_0 : decode cX1_count 0 = .ok (.iload_n 1, 1) := dk_27 (dk_at dksX1_count_0 0 rfl rfl)
theorem dX1_count_1 : decode cX1_count 1 = .ok (.ifCond .eq 8, 3) := dk_153 0 8 (dk_at dksX1_count_0 1 rfl rfl)
theorem dX1_count_4 : decode cX1_count 4 = .ok (.iload_n 1, 1) := dk_27 (dk_at dksX1_count_0 4 rfl rfl)
theorem dX1_count_5 : decode cX1_count 5 = .ok (.iconst 1, 1) := dk_4 (dk_at dksX1_count_0 5 rfl rfl)
theorem dX1_count_6 : decode cX1_count 6 = .ok (.if_icmp .ne 7, 3) := dk_160 0 7 (dk_at dksX1_count_0 6 rfl rfl)
theorem dX1_count_9 : decode cX1_count 9 = .ok (.iconst 1, 1) := dk_4 (dk_at dksX1_count_0 9 rfl rfl)
theorem dX1_count_10 : decode cX1_count 10 = .ok (.goto 4, 3) := dk_167 0 4 (dk_at dksX1_count_0 10 rfl rfl)
theorem dX1_count_13 : decode cX1_count 13 = .ok (.iconst 0, 1) := dk_3 (dk_at dksX1_count_0 13 rfl rfl)
theorem dX1_count_14 : decode cX1_count 14 = .ok (.invokestatic 69, 3) := dk_184 0 69 (dk_at dksX1_count_0 14 rfl rfl)
theorem dX1_count_17 : decode cX1_count 17 = .ok (.iload_n 1, 1) := dk_27 (dk_at dksX1_count_0 17 rfl rfl)
theorem dX1_count_18 : decode cX1_count 18 = .ok (.iconst 1, 1) := dk_4 (dk_at dksX1_count_0 18 rfl rfl)
theorem dX1_count_19 : decode cX1_count 19 = .ok (.if_icmp .ne 8, 3) := dk_160 0 8 (dk_at dksX1_count_0 19 rfl rfl)
theorem dX1_count_22 : decode cX1_count 22 = .ok (.aload_n 0, 1) := dk_42 (dk_at dksX1_count_0 22 rfl rfl)
theorem dX1_count_23 : decode cX1_count 23 = .ok (.getfield 103, 3) := dk_180 0 103 (dk_at dksX1_count_1 0 rfl rfl)
theorem dX1_count_26 : decode cX1_count 26 = .ok (.ireturn, 1) := dk_172 (dk_at dksX1_count_1 3 rfl rfl)
theorem dX1_count_27 : decode cX1_count 27 = .ok (.iconst 0, 1) := dk_3 (dk_at dksX1_count_1 4 rfl rfl)
theorem dX1_count_28 : decode cX1_count 28 = .ok (.istore_n 2, 1) := dk_61 (dk_at dksX1_count_1 5 rfl rfl)
theorem dX1_count_29 : decode cX1_count 29 = .ok (.iconst 0, 1) := dk_3 (dk_at dksX1_count_1 6 rfl rfl)
theorem dX1_count_30 : decode cX1_count 30 = .ok (.istore_n 3, 1) := dk_62 (dk_at dksX1_count_1 7 rfl rfl)
theorem dX1_count_31 : decode cX1_count 31 = .ok (.iload_n 3, 1) := dk_29 (dk_at dksX1_count_1 8 rfl rfl)
theorem dX1_count_32 : decode cX1_count 32 = .ok (.bipush 8, 2) := dk_16 8 (dk_at dksX1_count_1 9 rfl rfl)
theorem dX1_count_34 : decode cX1_count 34 = .ok (.if_icmp .ge 21, 3) := dk_162 0 21 (dk_at dksX1_count_1 11 rfl rfl)
theorem dX1_count_37 : decode cX1_count 37 = .ok (.aload_n 0, 1) := dk_42 (dk_at dksX1_count_1 14 rfl rfl)
theorem dX1_count_38 : decode cX1_count 38 = .ok (.getfield 17, 3) := dk_180 0 17 (dk_at dksX1_count_1 15 rfl rfl)
theorem dX1_count_41 : decode cX1_count 41 = .ok (.iload_n 3, 1) := dk_29 (dk_at dksX1_count_1 18 rfl rfl)
theorem dX1_count_42 : decode cX1_count 42 = .ok (.aaload, 1) := dk_50 (dk_at dksX1_count_1 19 rfl rfl)
theorem dX1_count_43 : decode cX1_count 43 = .ok (.ifnull 6, 3) := dk_198 0 6 (dk_at dksX1_count_1 20 rfl rfl)
theorem dX1_count_46 : decode cX1_count 46 = .ok (.iinc 2 1, 3) := dk_132 2 1 (dk_at dksX1_count_2 0 rfl rfl)
theorem dX1_count_49 : decode cX1_count 49 = .ok (.iinc 3 1, 3) := dk_132 3 1 (dk_at dksX1_count_2 3 rfl rfl)
theorem dX1_count_52 : decode cX1_count 52 = .ok (.goto (-21), 3) := dk_167 255 235 (dk_at dksX1_count_2 6 rfl rfl)
theorem dX1_count_55 : decode cX1_count 55 = .ok (.iload_n 2, 1) := dk_28 (dk_at dksX1_count_2 9 rfl rfl)
theorem dX1_count_56 : decode cX1_count 56 = .ok (.ireturn, 1) := dk_172 (dk_at dksX1_count_2 10 rfl rfl)
theorem q109 : (Jvm.Cond.initialized "WiredNets") ∈ lw_all := lw_g (lw_at lw_m1 1 rfl) rfl
theorem q144 : (Jvm.Cond.instantiable "WiredNets" (9 : Nat)) ∈ lw_all := lw_g (lw_at lw_m1 36 rfl) rfl
theorem q146 : (Jvm.Cond.instanceMethod ({ cls := "WiredNets", name := "<init>", desc := "()V" } : Jvm.MethodName)) ∈ lw_all := lw_g (lw_at lw_m1 38 rfl) rfl
theorem q147 : (Jvm.Cond.code ({ cls := "WiredNets", name := "<init>", desc := "()V" } : Jvm.MethodName) prog_1_method_4_code (1 : Nat) (Option.none : Option Jvm.ClassFile.FieldType)) ∈ lw_all := lw_g (lw_at lw_m1 39 rfl) rfl
theorem q148 : (Jvm.Cond.methodLink "WiredNets" (10 : Nat) ({ cls := "java/lang/Object", name := "<init>", desc := "()V" } : Jvm.MethodName)) ∈ lw_all := lw_g (lw_at lw_m1 40 rfl) rfl
theorem q151 : (Jvm.Cond.classLink "WiredNets" (15 : Nat) "WiredNets$Net") ∈ lw_all := lw_g (lw_at lw_m1 43 rfl) rfl
theorem q153 : (Jvm.Cond.classLink "WiredNets" (25 : Nat) "WiredNets$Flood") ∈ lw_all := lw_g (lw_at lw_m1 45 rfl) rfl
theorem q155 : (Jvm.Cond.methodLinkNest "WiredNets" (27 : Nat) ({ cls := "WiredNets$Flood", name := "<init>", desc := "()V" } : Jvm.MethodName) "WiredNets") ∈ lw_tbl := lw_at lw_m1 47 rfl
theorem q175 : (Jvm.Cond.classLink "WiredNets" (32 : Nat) "WiredNets$Flow") ∈ lw_all := lw_g (lw_at lw_m1 67 rfl) rfl
theorem q177 : (Jvm.Cond.methodLinkNest "WiredNets" (34 : Nat) ({ cls := "WiredNets$Flow", name := "<init>", desc := "()V" } : Jvm.MethodName) "WiredNets") ∈ lw_tbl := lw_at lw_m1 69 rfl
theorem q196 : (Jvm.Cond.classLink "WiredNets" (39 : Nat) "java/util/ArrayList") ∈ lw_all := lw_g (lw_at lw_m1 88 rfl) rfl
theorem q198 : (Jvm.Cond.methodLink "WiredNets" (41 : Nat) ({ cls := "java/util/ArrayList", name := "<init>", desc := "()V" } : Jvm.MethodName)) ∈ lw_all := lw_g (lw_at lw_m1 90 rfl) rfl
theorem q222 : (Jvm.Cond.classLink "WiredNets" (50 : Nat) "WiredNets$Small") ∈ lw_all := lw_g (lw_at lw_m1 114 rfl) rfl
theorem q224 : (Jvm.Cond.methodLinkNest "WiredNets" (52 : Nat) ({ cls := "WiredNets$Small", name := "<init>", desc := "()V" } : Jvm.MethodName) "WiredNets") ∈ lw_tbl := lw_at lw_m1 116 rfl
theorem q245 : (Jvm.Cond.fieldLinkNest "WiredNets" (73 : Nat) "WiredNets$Net" "n" "I" "WiredNets") ∈ lw_tbl := lw_at lw_m1 137 rfl
theorem q248 : (Jvm.Cond.fieldLinkNest "WiredNets" (139 : Nat) "WiredNets$Net" "degree" "I" "WiredNets") ∈ lw_tbl := lw_at lw_m1 140 rfl
theorem q256 : (Jvm.Cond.fieldLinkNest "WiredNets" (297 : Nat) "WiredNets$Net" "near" "[I" "WiredNets") ∈ lw_tbl := lw_at lw_m1 148 rfl
theorem q271 : (Jvm.Cond.fieldLinkNest "WiredNets" (241 : Nat) "WiredNets$Small" "isTold" "Z" "WiredNets") ∈ lw_tbl := lw_at lw_m1 163 rfl
theorem q274 : (Jvm.Cond.fieldLinkNest "WiredNets" (245 : Nat) "WiredNets$Small" "many" "I" "WiredNets") ∈ lw_tbl := lw_at lw_m1 166 rfl
theorem q276 : (Jvm.Cond.fieldLinkNest "WiredNets" (248 : Nat) "WiredNets$Small" "kinds" "I" "WiredNets") ∈ lw_tbl := lw_at lw_m1 168 rfl
theorem q278 : (Jvm.Cond.fieldLinkNest "WiredNets" (251 : Nat) "WiredNets$Small" "fewest" "I" "WiredNets") ∈ lw_tbl := lw_at lw_m1 170 rfl
theorem q280 : (Jvm.Cond.fieldLinkNest "WiredNets" (254 : Nat) "WiredNets$Small" "least" "I" "WiredNets") ∈ lw_tbl := lw_at lw_m1 172 rfl
theorem q313 : (Jvm.Cond.fieldLink "WiredNets" (17 : Nat) "WiredNets" "nets" "[LWiredNets$Net;") ∈ lw_all := lw_g (lw_at lw_m1 205 rfl) rfl
theorem q315 : (Jvm.Cond.fieldLink "WiredNets" (21 : Nat) "WiredNets" "tape" "[B") ∈ lw_all := lw_g (lw_at lw_m1 207 rfl) rfl
theorem q316 : (Jvm.Cond.fieldLink "WiredNets" (28 : Nat) "WiredNets" "flood" "LWiredNets$Flood;") ∈ lw_all := lw_g (lw_at lw_m1 208 rfl) rfl
theorem q317 : (Jvm.Cond.fieldLink "WiredNets" (35 : Nat) "WiredNets" "flow" "LWiredNets$Flow;") ∈ lw_all := lw_g (lw_at lw_m1 209 rfl) rfl
theorem q318 : (Jvm.Cond.fieldLink "WiredNets" (42 : Nat) "WiredNets" "fallen" "Ljava/util/List;") ∈ lw_all := lw_g (lw_at lw_m1 210 rfl) rfl
theorem q319 : (Jvm.Cond.fieldLink "WiredNets" (103 : Nat) "WiredNets" "taped" "I") ∈ lw_all := lw_g (lw_at lw_m1 211 rfl) rfl
theorem q320 : (Jvm.Cond.fieldLink "WiredNets" (46 : Nat) "WiredNets" "faultPlace" "I") ∈ lw_all := lw_g (lw_at lw_m1 212 rfl) rfl
theorem q321 : (Jvm.Cond.fieldLink "WiredNets" (53 : Nat) "WiredNets" "small" "LWiredNets$Small;") ∈ lw_all := lw_g (lw_at lw_m1 213 rfl) rfl
theorem q322 : (Jvm.Cond.fieldLink "WiredNets" (57 : Nat) "WiredNets" "laid" "[I") ∈ lw_all := lw_g (lw_at lw_m1 214 rfl) rfl
theorem q323 : (Jvm.Cond.laysFinal "WiredNets" "WiredNets" "nets" "[LWiredNets$Net;") ∈ lw_all := lw_g (lw_at lw_m1 215 rfl) rfl
theorem q324 : (Jvm.Cond.soleField "WiredNets" "nets") ∈ lw_all := lw_g (lw_at lw_m1 216 rfl) rfl
theorem q325 : (Jvm.Cond.laysFinal "WiredNets" "WiredNets" "tape" "[B") ∈ lw_all := lw_g (lw_at lw_m1 217 rfl) rfl
theorem q326 : (Jvm.Cond.soleField "WiredNets" "tape") ∈ lw_all := lw_g (lw_at lw_m1 218 rfl) rfl
theorem q327 : (Jvm.Cond.laysFinal "WiredNets" "WiredNets" "flood" "LWiredNets$Flood;") ∈ lw_all := lw_g (lw_at lw_m1 219 rfl) rfl
theorem q328 : (Jvm.Cond.soleField "WiredNets" "flood") ∈ lw_all := lw_g (lw_at lw_m1 220 rfl) rfl
theorem q329 : (Jvm.Cond.laysFinal "WiredNets" "WiredNets" "flow" "LWiredNets$Flow;") ∈ lw_all := lw_g (lw_at lw_m1 221 rfl) rfl
theorem q330 : (Jvm.Cond.soleField "WiredNets" "flow") ∈ lw_all := lw_g (lw_at lw_m1 222 rfl) rfl
theorem q331 : (Jvm.Cond.laysFinal "WiredNets" "WiredNets" "fallen" "Ljava/util/List;") ∈ lw_all := lw_g (lw_at lw_m1 223 rfl) rfl
theorem q332 : (Jvm.Cond.soleField "WiredNets" "fallen") ∈ lw_all := lw_g (lw_at lw_m1 224 rfl) rfl
theorem q333 : (Jvm.Cond.lays "WiredNets" "WiredNets" "taped" "I") ∈ lw_all := lw_g (lw_at lw_m1 225 rfl) rfl
theorem q334 : (Jvm.Cond.soleField "WiredNets" "taped") ∈ lw_all := lw_g (lw_at lw_m1 226 rfl) rfl
theorem q335 : (Jvm.Cond.lays "WiredNets" "WiredNets" "faultPlace" "I") ∈ lw_all := lw_g (lw_at lw_m1 227 rfl) rfl
theorem q336 : (Jvm.Cond.soleField "WiredNets" "faultPlace") ∈ lw_all := lw_g (lw_at lw_m1 228 rfl) rfl
theorem q337 : (Jvm.Cond.laysFinal "WiredNets" "WiredNets" "small" "LWiredNets$Small;") ∈ lw_all := lw_g (lw_at lw_m1 229 rfl) rfl
theorem q338 : (Jvm.Cond.soleField "WiredNets" "small") ∈ lw_all := lw_g (lw_at lw_m1 230 rfl) rfl
theorem q339 : (Jvm.Cond.lays "WiredNets" "WiredNets" "laid" "[I") ∈ lw_all := lw_g (lw_at lw_m1 231 rfl) rfl
theorem q340 : (Jvm.Cond.soleField "WiredNets" "laid") ∈ lw_all := lw_g (lw_at lw_m1 232 rfl) rfl
theorem q341 : (Jvm.Cond.superclass "WiredNets" "java/lang/Object") ∈ lw_all := lw_g (lw_at lw_m1 233 rfl) rfl
theorem q343 : (Jvm.Cond.instanceMethod ({ cls := "WiredNets", name := "net", desc := "(III)Z" } : Jvm.MethodName)) ∈ lw_all := lw_g (lw_at lw_m1 235 rfl) rfl
theorem q344 : (Jvm.Cond.selects "WiredNets" ({ cls := "WiredNets", name := "net", desc := "(III)Z" } : Jvm.MethodName) ({ cls := "WiredNets", name := "net", desc := "(III)Z" } : Jvm.MethodName)) ∈ lw_all := lw_g (lw_at lw_m1 236 rfl) rfl
theorem q345 : (Jvm.Cond.code ({ cls := "WiredNets", name := "net", desc := "(III)Z" } : Jvm.MethodName) prog_1_method_8_code (4 : Nat) (Option.some Jvm.ClassFile.FieldType.boolean)) ∈ lw_all := lw_g (lw_at lw_m1 237 rfl) rfl
theorem q346 : (Jvm.Cond.methodLink "WiredNets" (65 : Nat) ({ cls := "WiredNets", name := "isSlot", desc := "(I)Z" } : Jvm.MethodName)) ∈ lw_all := lw_g (lw_at lw_m1 238 rfl) rfl
theorem q347 : (Jvm.Cond.static ({ cls := "WiredNets", name := "isSlot", desc := "(I)Z" } : Jvm.MethodName)) ∈ lw_all := lw_g (lw_at lw_m1 239 rfl) rfl
theorem q348 : (Jvm.Cond.code ({ cls := "WiredNets", name := "isSlot", desc := "(I)Z" } : Jvm.MethodName) prog_1_method_5_code (1 : Nat) (Option.some Jvm.ClassFile.FieldType.boolean)) ∈ lw_all := lw_g (lw_at lw_m2 0 rfl) rfl
theorem q349 : (Jvm.Cond.methodLink "WiredNets" (61 : Nat) ({ cls := "WiredNets", name := "in", desc := "(III)Z" } : Jvm.MethodName)) ∈ lw_all := lw_g (lw_at lw_m2 1 rfl) rfl
theorem q350 : (Jvm.Cond.static ({ cls := "WiredNets", name := "in", desc := "(III)Z" } : Jvm.MethodName)) ∈ lw_all := lw_g (lw_at lw_m2 2 rfl) rfl
theorem q351 : (Jvm.Cond.code ({ cls := "WiredNets", name := "in", desc := "(III)Z" } : Jvm.MethodName) prog_1_method_1_code (3 : Nat) (Option.some Jvm.ClassFile.FieldType.boolean)) ∈ lw_all := lw_g (lw_at lw_m2 3 rfl) rfl
theorem q352 : (Jvm.Cond.methodLink "WiredNets" (76 : Nat) ({ cls := "WiredNets$Net", name := "can", desc := "(II)Z" } : Jvm.MethodName)) ∈ lw_all := lw_g (lw_at lw_m2 4 rfl) rfl
theorem q356 : (Jvm.Cond.methodLink "WiredNets" (80 : Nat) ({ cls := "WiredNets$Net", name := "<init>", desc := "(II)V" } : Jvm.MethodName)) ∈ lw_all := lw_g (lw_at lw_m2 8 rfl) rfl
theorem q358 : (Jvm.Cond.instanceMethod ({ cls := "WiredNets", name := "feed", desc := "(IIIII)I" } : Jvm.MethodName)) ∈ lw_all := lw_g (lw_at lw_m2 10 rfl) rfl
theorem q359 : (Jvm.Cond.selects "WiredNets" ({ cls := "WiredNets", name := "feed", desc := "(IIIII)I" } : Jvm.MethodName) ({ cls := "WiredNets", name := "feed", desc := "(IIIII)I" } : Jvm.MethodName)) ∈ lw_all := lw_g (lw_at lw_m2 11 rfl) rfl
theorem q360 : (Jvm.Cond.code ({ cls := "WiredNets", name := "feed", desc := "(IIIII)I" } : Jvm.MethodName) prog_1_method_11_code (8 : Nat) (Option.some Jvm.ClassFile.FieldType.int)) ∈ lw_all := lw_g (lw_at lw_m2 12 rfl) rfl
theorem q362 : (Jvm.Cond.instanceMethod ({ cls := "WiredNets", name := "fault", desc := "()I" } : Jvm.MethodName)) ∈ lw_all := lw_g (lw_at lw_m2 14 rfl) rfl
theorem q363 : (Jvm.Cond.selects "WiredNets" ({ cls := "WiredNets", name := "fault", desc := "()I" } : Jvm.MethodName) ({ cls := "WiredNets", name := "fault", desc := "()I" } : Jvm.MethodName)) ∈ lw_all := lw_g (lw_at lw_m2 15 rfl) rfl
theorem q364 : (Jvm.Cond.code ({ cls := "WiredNets", name := "fault", desc := "()I" } : Jvm.MethodName) prog_1_method_13_code (1 : Nat) (Option.some Jvm.ClassFile.FieldType.int)) ∈ lw_all := lw_g (lw_at lw_m2 16 rfl) rfl
theorem q366 : (Jvm.Cond.instanceMethod ({ cls := "WiredNets", name := "turned", desc := "(IIIII)Z" } : Jvm.MethodName)) ∈ lw_all := lw_g (lw_at lw_m2 18 rfl) rfl
theorem q367 : (Jvm.Cond.selects "WiredNets" ({ cls := "WiredNets", name := "turned", desc := "(IIIII)Z" } : Jvm.MethodName) ({ cls := "WiredNets", name := "turned", desc := "(IIIII)Z" } : Jvm.MethodName)) ∈ lw_all := lw_g (lw_at lw_m2 19 rfl) rfl
theorem q368 : (Jvm.Cond.code ({ cls := "WiredNets", name := "turned", desc := "(IIIII)Z" } : Jvm.MethodName) prog_1_method_14_code (7 : Nat) (Option.some Jvm.ClassFile.FieldType.boolean)) ∈ lw_all := lw_g (lw_at lw_m2 20 rfl) rfl
theorem q369 : (Jvm.Cond.methodLink "WiredNets" (126 : Nat) ({ cls := "WiredNets$Group", name := "can", desc := "(III)Z" } : Jvm.MethodName)) ∈ lw_all := lw_g (lw_at lw_m2 21 rfl) rfl
theorem q373 : (Jvm.Cond.classLink "WiredNets" (127 : Nat) "WiredNets$Group") ∈ lw_all := lw_g (lw_at lw_m2 25 rfl) rfl
theorem q375 : (Jvm.Cond.methodLink "WiredNets" (130 : Nat) ({ cls := "WiredNets$Group", name := "<init>", desc := "(III)V" } : Jvm.MethodName)) ∈ lw_all := lw_g (lw_at lw_m2 27 rfl) rfl
theorem q390 : (Jvm.Cond.methodLink "WiredNets" (133 : Nat) ({ cls := "WiredNets$Group", name := "areMoves", desc := "(I)Z" } : Jvm.MethodName)) ∈ lw_all := lw_g (lw_at lw_m2 42 rfl) rfl
theorem q408 : (Jvm.Cond.methodLink "WiredNets" (136 : Nat) ({ cls := "WiredNets$Group", name := "net", desc := "(I)LWiredNets$Net;" } : Jvm.MethodName)) ∈ lw_all := lw_g (lw_at lw_m2 60 rfl) rfl
theorem q426 : (Jvm.Cond.instanceMethod ({ cls := "WiredNets", name := "line", desc := "(III)Z" } : Jvm.MethodName)) ∈ lw_all := lw_g (lw_at lw_m2 78 rfl) rfl
theorem q427 : (Jvm.Cond.selects "WiredNets" ({ cls := "WiredNets", name := "line", desc := "(III)Z" } : Jvm.MethodName) ({ cls := "WiredNets", name := "line", desc := "(III)Z" } : Jvm.MethodName)) ∈ lw_all := lw_g (lw_at lw_m2 79 rfl) rfl
theorem q428 : (Jvm.Cond.code ({ cls := "WiredNets", name := "line", desc := "(III)Z" } : Jvm.MethodName) prog_1_method_9_code (5 : Nat) (Option.some Jvm.ClassFile.FieldType.boolean)) ∈ lw_all := lw_g (lw_at lw_m2 80 rfl) rfl
theorem q429 : (Jvm.Cond.methodLink "WiredNets" (83 : Nat) ({ cls := "WiredNets", name := "netAt", desc := "(I)LWiredNets$Net;" } : Jvm.MethodName)) ∈ lw_all := lw_g (lw_at lw_m2 81 rfl) rfl
theorem q430 : (Jvm.Cond.privateMethod ({ cls := "WiredNets", name := "netAt", desc := "(I)LWiredNets$Net;" } : Jvm.MethodName)) ∈ lw_tbl := lw_at lw_m2 82 rfl
theorem q431 : (Jvm.Cond.instanceMethod ({ cls := "WiredNets", name := "netAt", desc := "(I)LWiredNets$Net;" } : Jvm.MethodName)) ∈ lw_all := lw_g (lw_at lw_m2 83 rfl) rfl
theorem q432 : (Jvm.Cond.code ({ cls := "WiredNets", name := "netAt", desc := "(I)LWiredNets$Net;" } : Jvm.MethodName) prog_1_method_6_code (2 : Nat) (Option.some (Jvm.ClassFile.FieldType.object "WiredNets$Net"))) ∈ lw_all := lw_g (lw_at lw_m2 84 rfl) rfl
theorem q433 : (Jvm.Cond.methodLink "WiredNets" (69 : Nat) ({ cls := "WiredNets", name := "found", desc := "(Z)V" } : Jvm.MethodName)) ∈ lw_all := lw_g (lw_at lw_m2 85 rfl) rfl
theorem q434 : (Jvm.Cond.static ({ cls := "WiredNets", name := "found", desc := "(Z)V" } : Jvm.MethodName)) ∈ lw_all := lw_g (lw_at lw_m2 86 rfl) rfl
theorem q435 : (Jvm.Cond.code ({ cls := "WiredNets", name := "found", desc := "(Z)V" } : Jvm.MethodName) prog_1_method_2_code (1 : Nat) (Option.none : Option Jvm.ClassFile.FieldType)) ∈ lw_all := lw_g (lw_at lw_m2 87 rfl) rfl
theorem q436 : (Jvm.Cond.classLink "WiredNets" (1 : Nat) "java/util/NoSuchElementException") ∈ lw_all := lw_g (lw_at lw_m2 88 rfl) rfl
theorem q477 : (Jvm.Cond.methodLink "WiredNets" (3 : Nat) ({ cls := "java/util/NoSuchElementException", name := "<init>", desc := "()V" } : Jvm.MethodName)) ∈ lw_all := lw_g (lw_at lw_m2 129 rfl) rfl
theorem q500 : (Jvm.Cond.methodLink "WiredNets" (87 : Nat) ({ cls := "WiredNets", name := "knot", desc := "(LWiredNets$Net;I)V" } : Jvm.MethodName)) ∈ lw_all := lw_g (lw_at lw_m2 152 rfl) rfl
theorem q501 : (Jvm.Cond.static ({ cls := "WiredNets", name := "knot", desc := "(LWiredNets$Net;I)V" } : Jvm.MethodName)) ∈ lw_all := lw_g (lw_at lw_m2 153 rfl) rfl
theorem q502 : (Jvm.Cond.code ({ cls := "WiredNets", name := "knot", desc := "(LWiredNets$Net;I)V" } : Jvm.MethodName) prog_1_method_7_code (2 : Nat) (Option.none : Option Jvm.ClassFile.FieldType)) ∈ lw_all := lw_g (lw_at lw_m2 154 rfl) rfl
theorem q503 : (Jvm.Cond.methodLink "WiredNets" (91 : Nat) ({ cls := "WiredNets$Net", name := "mayJoin", desc := "(II)Z" } : Jvm.MethodName)) ∈ lw_all := lw_g (lw_at lw_m2 155 rfl) rfl
theorem q516 : (Jvm.Cond.methodLink "WiredNets" (94 : Nat) ({ cls := "WiredNets$Net", name := "set", desc := "(II)V" } : Jvm.MethodName)) ∈ lw_all := lw_g (lw_at lw_m2 168 rfl) rfl
theorem q521 : (Jvm.Cond.instanceMethod ({ cls := "WiredNets", name := "off", desc := "(III)Z" } : Jvm.MethodName)) ∈ lw_all := lw_g (lw_at lw_m2 173 rfl) rfl
theorem q522 : (Jvm.Cond.selects "WiredNets" ({ cls := "WiredNets", name := "off", desc := "(III)Z" } : Jvm.MethodName) ({ cls := "WiredNets", name := "off", desc := "(III)Z" } : Jvm.MethodName)) ∈ lw_all := lw_g (lw_at lw_m2 174 rfl) rfl
theorem q523 : (Jvm.Cond.code ({ cls := "WiredNets", name := "off", desc := "(III)Z" } : Jvm.MethodName) prog_1_method_10_code (5 : Nat) (Option.some Jvm.ClassFile.FieldType.boolean)) ∈ lw_all := lw_g (lw_at lw_m2 175 rfl) rfl
theorem q524 : (Jvm.Cond.methodLink "WiredNets" (97 : Nat) ({ cls := "WiredNets$Net", name := "has", desc := "(II)Z" } : Jvm.MethodName)) ∈ lw_all := lw_g (lw_at lw_m2 176 rfl) rfl
theorem q525 : (Jvm.Cond.methodLink "WiredNets" (100 : Nat) ({ cls := "WiredNets$Net", name := "clear", desc := "(II)V" } : Jvm.MethodName)) ∈ lw_all := lw_g (lw_at lw_m2 177 rfl) rfl
theorem q534 : (Jvm.Cond.instanceMethod ({ cls := "WiredNets", name := "read", desc := "(II)I" } : Jvm.MethodName)) ∈ lw_all := lw_g (lw_at lw_m2 186 rfl) rfl
theorem q535 : (Jvm.Cond.selects "WiredNets" ({ cls := "WiredNets", name := "read", desc := "(II)I" } : Jvm.MethodName) ({ cls := "WiredNets", name := "read", desc := "(II)I" } : Jvm.MethodName)) ∈ lw_all := lw_g (lw_at lw_m2 187 rfl) rfl
theorem q536 : (Jvm.Cond.codeWith ({ cls := "WiredNets", name := "read", desc := "(II)I" } : Jvm.MethodName) prog_1_method_12_code (5 : Nat) (Option.some Jvm.ClassFile.FieldType.int) [((47 : Nat), (58 : Nat), (59 : Nat), (118 : Nat))]) ∈ lw_all := lw_g (lw_at lw_m2 188 rfl) rfl
theorem q537 : (Jvm.Cond.classLink "WiredNets" (118 : Nat) "WiredNets$Wrong") ∈ lw_all := lw_g (lw_at lw_m2 189 rfl) rfl
theorem q538 : (Jvm.Cond.methodLink "WiredNets" (106 : Nat) ({ cls := "WiredNets", name := "right", desc := "(Z)V" } : Jvm.MethodName)) ∈ lw_all := lw_g (lw_at lw_m2 190 rfl) rfl
theorem q539 : (Jvm.Cond.static ({ cls := "WiredNets", name := "right", desc := "(Z)V" } : Jvm.MethodName)) ∈ lw_all := lw_g (lw_at lw_m2 191 rfl) rfl
theorem q540 : (Jvm.Cond.code ({ cls := "WiredNets", name := "right", desc := "(Z)V" } : Jvm.MethodName) prog_1_method_3_code (1 : Nat) (Option.none : Option Jvm.ClassFile.FieldType)) ∈ lw_all := lw_g (lw_at lw_m2 192 rfl) rfl
theorem q541 : (Jvm.Cond.classLink "WiredNets" (7 : Nat) "java/lang/IllegalArgumentException") ∈ lw_all := lw_g (lw_at lw_m2 193 rfl) rfl
theorem q550 : (Jvm.Cond.methodLink "WiredNets" (9 : Nat) ({ cls := "java/lang/IllegalArgumentException", name := "<init>", desc := "()V" } : Jvm.MethodName)) ∈ lw_all := lw_g (lw_at lw_m2 202 rfl) rfl
theorem q556 : (Jvm.Cond.classLink "WiredNets" (109 : Nat) "WiredNets$Reader") ∈ lw_all := lw_g (lw_at lw_m2 208 rfl) rfl
theorem q558 : (Jvm.Cond.methodLink "WiredNets" (111 : Nat) ({ cls := "WiredNets$Reader", name := "<init>", desc := "(LWiredNets;I)V" } : Jvm.MethodName)) ∈ lw_all := lw_g (lw_at lw_m2 210 rfl) rfl
theorem q567 : (Jvm.Cond.fieldLinkNest "WiredNets" (120 : Nat) "WiredNets$Reader" "begins" "I" "WiredNets") ∈ lw_tbl := lw_at lw_m2 219 rfl
theorem q597 : (Jvm.Cond.methodLink "WiredNets" (114 : Nat) ({ cls := "WiredNets$Reader", name := "read", desc := "()LWiredNets$Net;" } : Jvm.MethodName)) ∈ lw_all := lw_g (lw_at lw_m3 9 rfl) rfl
theorem q701 : (Jvm.Cond.fieldLinkNest "WiredNets" (123 : Nat) "WiredNets$Wrong" "kind" "I" "WiredNets") ∈ lw_tbl := lw_at lw_m3 113 rfl
theorem q742 : (Jvm.Cond.instanceMethod ({ cls := "WiredNets", name := "glued", desc := "(IIII)Z" } : Jvm.MethodName)) ∈ lw_all := lw_g (lw_at lw_m3 154 rfl) rfl
theorem q743 : (Jvm.Cond.selects "WiredNets" ({ cls := "WiredNets", name := "glued", desc := "(IIII)Z" } : Jvm.MethodName) ({ cls := "WiredNets", name := "glued", desc := "(IIII)Z" } : Jvm.MethodName)) ∈ lw_all := lw_g (lw_at lw_m3 155 rfl) rfl
theorem q744 : (Jvm.Cond.code ({ cls := "WiredNets", name := "glued", desc := "(IIII)Z" } : Jvm.MethodName) prog_1_method_15_code (13 : Nat) (Option.some Jvm.ClassFile.FieldType.boolean)) ∈ lw_all := lw_g (lw_at lw_m3 156 rfl) rfl
theorem q749 : (Jvm.Cond.instanceMethod ({ cls := "WiredNets", name := "copy", desc := "(II)Z" } : Jvm.MethodName)) ∈ lw_all := lw_g (lw_at lw_m3 161 rfl) rfl
theorem q750 : (Jvm.Cond.selects "WiredNets" ({ cls := "WiredNets", name := "copy", desc := "(II)Z" } : Jvm.MethodName) ({ cls := "WiredNets", name := "copy", desc := "(II)Z" } : Jvm.MethodName)) ∈ lw_all := lw_g (lw_at lw_m3 162 rfl) rfl
theorem q751 : (Jvm.Cond.code ({ cls := "WiredNets", name := "copy", desc := "(II)Z" } : Jvm.MethodName) prog_1_method_16_code (4 : Nat) (Option.some Jvm.ClassFile.FieldType.boolean)) ∈ lw_all := lw_g (lw_at lw_m3 163 rfl) rfl
theorem q752 : (Jvm.Cond.methodLink "WiredNets" (142 : Nat) ({ cls := "WiredNets$Net", name := "copy", desc := "()LWiredNets$Net;" } : Jvm.MethodName)) ∈ lw_all := lw_g (lw_at lw_m3 164 rfl) rfl
theorem q762 : (Jvm.Cond.instanceMethod ({ cls := "WiredNets", name := "about", desc := "(II)I" } : Jvm.MethodName)) ∈ lw_all := lw_g (lw_at lw_m3 174 rfl) rfl
theorem q763 : (Jvm.Cond.selects "WiredNets" ({ cls := "WiredNets", name := "about", desc := "(II)I" } : Jvm.MethodName) ({ cls := "WiredNets", name := "about", desc := "(II)I" } : Jvm.MethodName)) ∈ lw_all := lw_g (lw_at lw_m3 175 rfl) rfl
theorem q764 : (Jvm.Cond.code ({ cls := "WiredNets", name := "about", desc := "(II)I" } : Jvm.MethodName) prog_1_method_17_code (6 : Nat) (Option.some Jvm.ClassFile.FieldType.int)) ∈ lw_all := lw_g (lw_at lw_m3 176 rfl) rfl
theorem q765 : (Jvm.Cond.methodLink "WiredNets" (145 : Nat) ({ cls := "WiredNets$Net", name := "count", desc := "()I" } : Jvm.MethodName)) ∈ lw_all := lw_g (lw_at lw_m3 177 rfl) rfl
theorem q769 : (Jvm.Cond.methodLink "WiredNets" (149 : Nat) ({ cls := "WiredNets$Net", name := "lines", desc := "(I)I" } : Jvm.MethodName)) ∈ lw_all := lw_g (lw_at lw_m3 181 rfl) rfl
theorem q770 : (Jvm.Cond.methodLink "WiredNets" (153 : Nat) ({ cls := "java/lang/Math", name := "min", desc := "(II)I" } : Jvm.MethodName)) ∈ lw_all := lw_g (lw_at lw_m3 182 rfl) rfl
theorem q771 : (Jvm.Cond.methodLink "WiredNets" (159 : Nat) ({ cls := "java/lang/Math", name := "max", desc := "(II)I" } : Jvm.MethodName)) ∈ lw_all := lw_g (lw_at lw_m3 183 rfl) rfl
theorem q776 : (Jvm.Cond.instanceMethod ({ cls := "WiredNets", name := "lineAt", desc := "(II)I" } : Jvm.MethodName)) ∈ lw_all := lw_g (lw_at lw_m3 188 rfl) rfl
theorem q777 : (Jvm.Cond.selects "WiredNets" ({ cls := "WiredNets", name := "lineAt", desc := "(II)I" } : Jvm.MethodName) ({ cls := "WiredNets", name := "lineAt", desc := "(II)I" } : Jvm.MethodName)) ∈ lw_all := lw_g (lw_at lw_m3 189 rfl) rfl
theorem q778 : (Jvm.Cond.code ({ cls := "WiredNets", name := "lineAt", desc := "(II)I" } : Jvm.MethodName) prog_1_method_18_code (4 : Nat) (Option.some Jvm.ClassFile.FieldType.int)) ∈ lw_all := lw_g (lw_at lw_m3 190 rfl) rfl
theorem q779 : (Jvm.Cond.methodLink "WiredNets" (162 : Nat) ({ cls := "WiredNets$Net", name := "row", desc := "()[I" } : Jvm.MethodName)) ∈ lw_all := lw_g (lw_at lw_m3 191 rfl) rfl
theorem q792 : (Jvm.Cond.instanceMethod ({ cls := "WiredNets", name := "distance", desc := "(III)I" } : Jvm.MethodName)) ∈ lw_all := lw_g (lw_at lw_m3 204 rfl) rfl
theorem q793 : (Jvm.Cond.selects "WiredNets" ({ cls := "WiredNets", name := "distance", desc := "(III)I" } : Jvm.MethodName) ({ cls := "WiredNets", name := "distance", desc := "(III)I" } : Jvm.MethodName)) ∈ lw_all := lw_g (lw_at lw_m3 205 rfl) rfl
theorem q794 : (Jvm.Cond.code ({ cls := "WiredNets", name := "distance", desc := "(III)I" } : Jvm.MethodName) prog_1_method_19_code (5 : Nat) (Option.some Jvm.ClassFile.FieldType.int)) ∈ lw_all := lw_g (lw_at lw_m3 206 rfl) rfl
theorem q795 : (Jvm.Cond.methodLink "WiredNets" (166 : Nat) ({ cls := "WiredNets$Flood", name := "distance", desc := "(LWiredNets$Net;II)I" } : Jvm.MethodName)) ∈ lw_all := lw_g (lw_at lw_m3 207 rfl) rfl
theorem q815 : (Jvm.Cond.instanceMethod ({ cls := "WiredNets", name := "far", desc := "(II)I" } : Jvm.MethodName)) ∈ lw_all := lw_g (lw_at lw_m3 227 rfl) rfl
theorem q816 : (Jvm.Cond.selects "WiredNets" ({ cls := "WiredNets", name := "far", desc := "(II)I" } : Jvm.MethodName) ({ cls := "WiredNets", name := "far", desc := "(II)I" } : Jvm.MethodName)) ∈ lw_all := lw_g (lw_at lw_m3 228 rfl) rfl
theorem q817 : (Jvm.Cond.code ({ cls := "WiredNets", name := "far", desc := "(II)I" } : Jvm.MethodName) prog_1_method_20_code (4 : Nat) (Option.some Jvm.ClassFile.FieldType.int)) ∈ lw_all := lw_g (lw_at lw_m3 229 rfl) rfl
theorem q818 : (Jvm.Cond.methodLink "WiredNets" (170 : Nat) ({ cls := "WiredNets$Flood", name := "isJoined", desc := "(LWiredNets$Net;)Z" } : Jvm.MethodName)) ∈ lw_all := lw_g (lw_at lw_m3 230 rfl) rfl
theorem q822 : (Jvm.Cond.methodLink "WiredNets" (174 : Nat) ({ cls := "WiredNets$Net", name := "all", desc := "()I" } : Jvm.MethodName)) ∈ lw_all := lw_g (lw_at lw_m3 234 rfl) rfl
theorem q823 : (Jvm.Cond.methodLink "WiredNets" (177 : Nat) ({ cls := "WiredNets$Flood", name := "farthest", desc := "(LWiredNets$Net;I)I" } : Jvm.MethodName)) ∈ lw_all := lw_g (lw_at lw_m3 235 rfl) rfl
theorem q828 : (Jvm.Cond.methodLink "WiredNets" (181 : Nat) ({ cls := "WiredNets$Flood", name := "sums", desc := "(LWiredNets$Net;)I" } : Jvm.MethodName)) ∈ lw_all := lw_g (lw_at lw_m4 0 rfl) rfl
theorem q832 : (Jvm.Cond.methodLink "WiredNets" (185 : Nat) ({ cls := "WiredNets$Flood", name := "girth", desc := "(LWiredNets$Net;)I" } : Jvm.MethodName)) ∈ lw_all := lw_g (lw_at lw_m4 4 rfl) rfl
theorem q840 : (Jvm.Cond.methodLink "WiredNets" (188 : Nat) ({ cls := "WiredNets$Flow", name := "thin", desc := "(LWiredNets$Net;)I" } : Jvm.MethodName)) ∈ lw_all := lw_g (lw_at lw_m4 12 rfl) rfl
theorem q858 : (Jvm.Cond.methodLink "WiredNets" (191 : Nat) ({ cls := "WiredNets$Flow", name := "thinKnots", desc := "(LWiredNets$Net;)I" } : Jvm.MethodName)) ∈ lw_all := lw_g (lw_at lw_m4 30 rfl) rfl
theorem q862 : (Jvm.Cond.methodLink "WiredNets" (194 : Nat) ({ cls := "WiredNets$Flood", name := "price", desc := "(LWiredNets$Net;)I" } : Jvm.MethodName)) ∈ lw_all := lw_g (lw_at lw_m4 34 rfl) rfl
theorem q873 : (Jvm.Cond.instanceMethod ({ cls := "WiredNets", name := "apart", desc := "(III)I" } : Jvm.MethodName)) ∈ lw_all := lw_g (lw_at lw_m4 45 rfl) rfl
theorem q874 : (Jvm.Cond.selects "WiredNets" ({ cls := "WiredNets", name := "apart", desc := "(III)I" } : Jvm.MethodName) ({ cls := "WiredNets", name := "apart", desc := "(III)I" } : Jvm.MethodName)) ∈ lw_all := lw_g (lw_at lw_m4 46 rfl) rfl
theorem q875 : (Jvm.Cond.code ({ cls := "WiredNets", name := "apart", desc := "(III)I" } : Jvm.MethodName) prog_1_method_21_code (5 : Nat) (Option.some Jvm.ClassFile.FieldType.int)) ∈ lw_all := lw_g (lw_at lw_m4 47 rfl) rfl
theorem q876 : (Jvm.Cond.methodLink "WiredNets" (197 : Nat) ({ cls := "WiredNets$Flow", name := "most", desc := "(LWiredNets$Net;IIZ)I" } : Jvm.MethodName)) ∈ lw_all := lw_g (lw_at lw_m4 48 rfl) rfl
theorem q881 : (Jvm.Cond.instanceMethod ({ cls := "WiredNets", name := "poly", desc := "(II)J" } : Jvm.MethodName)) ∈ lw_all := lw_g (lw_at lw_m4 53 rfl) rfl
theorem q882 : (Jvm.Cond.selects "WiredNets" ({ cls := "WiredNets", name := "poly", desc := "(II)J" } : Jvm.MethodName) ({ cls := "WiredNets", name := "poly", desc := "(II)J" } : Jvm.MethodName)) ∈ lw_all := lw_g (lw_at lw_m4 54 rfl) rfl
theorem q883 : (Jvm.Cond.code ({ cls := "WiredNets", name := "poly", desc := "(II)J" } : Jvm.MethodName) prog_1_method_22_code (4 : Nat) (Option.some Jvm.ClassFile.FieldType.long)) ∈ lw_all := lw_g (lw_at lw_m4 55 rfl) rfl
theorem q884 : (Jvm.Cond.methodLink "WiredNets" (201 : Nat) ({ cls := "WiredNets$Own", name := "poly", desc := "(LWiredNets$Net;)[J" } : Jvm.MethodName)) ∈ lw_all := lw_g (lw_at lw_m4 56 rfl) rfl
theorem q898 : (Jvm.Cond.instanceMethod ({ cls := "WiredNets", name := "above", desc := "(II)I" } : Jvm.MethodName)) ∈ lw_all := lw_g (lw_at lw_m4 70 rfl) rfl
theorem q899 : (Jvm.Cond.selects "WiredNets" ({ cls := "WiredNets", name := "above", desc := "(II)I" } : Jvm.MethodName) ({ cls := "WiredNets", name := "above", desc := "(II)I" } : Jvm.MethodName)) ∈ lw_all := lw_g (lw_at lw_m4 71 rfl) rfl
theorem q900 : (Jvm.Cond.code ({ cls := "WiredNets", name := "above", desc := "(II)I" } : Jvm.MethodName) prog_1_method_23_code (4 : Nat) (Option.some Jvm.ClassFile.FieldType.int)) ∈ lw_all := lw_g (lw_at lw_m4 72 rfl) rfl
theorem q901 : (Jvm.Cond.methodLink "WiredNets" (207 : Nat) ({ cls := "WiredNets$Own", name := "above", desc := "(LWiredNets$Net;I)I" } : Jvm.MethodName)) ∈ lw_all := lw_g (lw_at lw_m4 73 rfl) rfl
theorem q909 : (Jvm.Cond.instanceMethod ({ cls := "WiredNets", name := "walks", desc := "(II)J" } : Jvm.MethodName)) ∈ lw_all := lw_g (lw_at lw_m4 81 rfl) rfl
theorem q910 : (Jvm.Cond.selects "WiredNets" ({ cls := "WiredNets", name := "walks", desc := "(II)J" } : Jvm.MethodName) ({ cls := "WiredNets", name := "walks", desc := "(II)J" } : Jvm.MethodName)) ∈ lw_all := lw_g (lw_at lw_m4 82 rfl) rfl
theorem q911 : (Jvm.Cond.code ({ cls := "WiredNets", name := "walks", desc := "(II)J" } : Jvm.MethodName) prog_1_method_24_code (4 : Nat) (Option.some Jvm.ClassFile.FieldType.long)) ∈ lw_all := lw_g (lw_at lw_m4 83 rfl) rfl
theorem q912 : (Jvm.Cond.methodLink "WiredNets" (210 : Nat) ({ cls := "WiredNets$Own", name := "walks", desc := "(LWiredNets$Net;I)J" } : Jvm.MethodName)) ∈ lw_all := lw_g (lw_at lw_m4 84 rfl) rfl
theorem q919 : (Jvm.Cond.instanceMethod ({ cls := "WiredNets", name := "change", desc := "(IIIZ)Z" } : Jvm.MethodName)) ∈ lw_all := lw_g (lw_at lw_m4 91 rfl) rfl
theorem q920 : (Jvm.Cond.selects "WiredNets" ({ cls := "WiredNets", name := "change", desc := "(IIIZ)Z" } : Jvm.MethodName) ({ cls := "WiredNets", name := "change", desc := "(IIIZ)Z" } : Jvm.MethodName)) ∈ lw_all := lw_g (lw_at lw_m4 92 rfl) rfl
theorem q921 : (Jvm.Cond.code ({ cls := "WiredNets", name := "change", desc := "(IIIZ)Z" } : Jvm.MethodName) prog_1_method_27_code (7 : Nat) (Option.some Jvm.ClassFile.FieldType.boolean)) ∈ lw_all := lw_g (lw_at lw_m4 93 rfl) rfl
theorem q922 : (Jvm.Cond.methodLink "WiredNets" (214 : Nat) ({ cls := "WiredNets", name := "changes", desc := "(LWiredNets$Net;IIZ)Z" } : Jvm.MethodName)) ∈ lw_all := lw_g (lw_at lw_m4 94 rfl) rfl
theorem q923 : (Jvm.Cond.static ({ cls := "WiredNets", name := "changes", desc := "(LWiredNets$Net;IIZ)Z" } : Jvm.MethodName)) ∈ lw_all := lw_g (lw_at lw_m4 95 rfl) rfl
theorem q924 : (Jvm.Cond.code ({ cls := "WiredNets", name := "changes", desc := "(LWiredNets$Net;IIZ)Z" } : Jvm.MethodName) prog_1_method_25_code (8 : Nat) (Option.some Jvm.ClassFile.FieldType.boolean)) ∈ lw_all := lw_g (lw_at lw_m4 96 rfl) rfl
theorem q929 : (Jvm.Cond.instanceMethod ({ cls := "WiredNets", name := "better", desc := "(I)I" } : Jvm.MethodName)) ∈ lw_all := lw_g (lw_at lw_m4 101 rfl) rfl
theorem q930 : (Jvm.Cond.selects "WiredNets" ({ cls := "WiredNets", name := "better", desc := "(I)I" } : Jvm.MethodName) ({ cls := "WiredNets", name := "better", desc := "(I)I" } : Jvm.MethodName)) ∈ lw_all := lw_g (lw_at lw_m4 102 rfl) rfl
theorem q931 : (Jvm.Cond.code ({ cls := "WiredNets", name := "better", desc := "(I)I" } : Jvm.MethodName) prog_1_method_29_code (4 : Nat) (Option.some Jvm.ClassFile.FieldType.int)) ∈ lw_all := lw_g (lw_at lw_m4 103 rfl) rfl
theorem q932 : (Jvm.Cond.methodLink "WiredNets" (222 : Nat) ({ cls := "WiredNets", name := "betters", desc := "(LWiredNets$Net;)Z" } : Jvm.MethodName)) ∈ lw_all := lw_g (lw_at lw_m4 104 rfl) rfl
theorem q933 : (Jvm.Cond.privateMethod ({ cls := "WiredNets", name := "betters", desc := "(LWiredNets$Net;)Z" } : Jvm.MethodName)) ∈ lw_tbl := lw_at lw_m4 105 rfl
theorem q934 : (Jvm.Cond.instanceMethod ({ cls := "WiredNets", name := "betters", desc := "(LWiredNets$Net;)Z" } : Jvm.MethodName)) ∈ lw_all := lw_g (lw_at lw_m4 106 rfl) rfl
theorem q935 : (Jvm.Cond.code ({ cls := "WiredNets", name := "betters", desc := "(LWiredNets$Net;)Z" } : Jvm.MethodName) prog_1_method_28_code (9 : Nat) (Option.some Jvm.ClassFile.FieldType.boolean)) ∈ lw_all := lw_g (lw_at lw_m4 107 rfl) rfl
theorem q936 : (Jvm.Cond.methodLink "WiredNets" (218 : Nat) ({ cls := "WiredNets", name := "takeBack", desc := "(LWiredNets$Net;IIZ)V" } : Jvm.MethodName)) ∈ lw_all := lw_g (lw_at lw_m4 108 rfl) rfl
theorem q937 : (Jvm.Cond.static ({ cls := "WiredNets", name := "takeBack", desc := "(LWiredNets$Net;IIZ)V" } : Jvm.MethodName)) ∈ lw_all := lw_g (lw_at lw_m4 109 rfl) rfl
theorem q938 : (Jvm.Cond.code ({ cls := "WiredNets", name := "takeBack", desc := "(LWiredNets$Net;IIZ)V" } : Jvm.MethodName) prog_1_method_26_code (6 : Nat) (Option.none : Option Jvm.ClassFile.FieldType)) ∈ lw_all := lw_g (lw_at lw_m4 110 rfl) rfl
theorem q943 : (Jvm.Cond.instanceMethod ({ cls := "WiredNets", name := "cool", desc := "(IIII)I" } : Jvm.MethodName)) ∈ lw_all := lw_g (lw_at lw_m4 115 rfl) rfl
theorem q944 : (Jvm.Cond.selects "WiredNets" ({ cls := "WiredNets", name := "cool", desc := "(IIII)I" } : Jvm.MethodName) ({ cls := "WiredNets", name := "cool", desc := "(IIII)I" } : Jvm.MethodName)) ∈ lw_all := lw_g (lw_at lw_m4 116 rfl) rfl
theorem q945 : (Jvm.Cond.code ({ cls := "WiredNets", name := "cool", desc := "(IIII)I" } : Jvm.MethodName) prog_1_method_30_code (16 : Nat) (Option.some Jvm.ClassFile.FieldType.int)) ∈ lw_all := lw_g (lw_at lw_m4 117 rfl) rfl
theorem q946 : (Jvm.Cond.constant "WiredNets" (225 : Nat) (1103515245 : Int32)) ∈ lw_all := lw_g (lw_at lw_m4 118 rfl) rfl
theorem q947 : (Jvm.Cond.methodLink "WiredNets" (226 : Nat) ({ cls := "WiredNets$Net", name := "tellRow", desc := "([I)V" } : Jvm.MethodName)) ∈ lw_all := lw_g (lw_at lw_m4 119 rfl) rfl
theorem q952 : (Jvm.Cond.instanceMethod ({ cls := "WiredNets", name := "seek", desc := "(IIII)I" } : Jvm.MethodName)) ∈ lw_all := lw_g (lw_at lw_m4 124 rfl) rfl
theorem q953 : (Jvm.Cond.selects "WiredNets" ({ cls := "WiredNets", name := "seek", desc := "(IIII)I" } : Jvm.MethodName) ({ cls := "WiredNets", name := "seek", desc := "(IIII)I" } : Jvm.MethodName)) ∈ lw_all := lw_g (lw_at lw_m4 125 rfl) rfl
theorem q954 : (Jvm.Cond.code ({ cls := "WiredNets", name := "seek", desc := "(IIII)I" } : Jvm.MethodName) prog_1_method_31_code (5 : Nat) (Option.some Jvm.ClassFile.FieldType.int)) ∈ lw_all := lw_g (lw_at lw_m4 126 rfl) rfl
theorem q955 : (Jvm.Cond.classLink "WiredNets" (230 : Nat) "WiredNets$Seek") ∈ lw_all := lw_g (lw_at lw_m4 127 rfl) rfl
theorem q957 : (Jvm.Cond.methodLink "WiredNets" (232 : Nat) ({ cls := "WiredNets$Seek", name := "<init>", desc := "(LWiredNets$Group;I)V" } : Jvm.MethodName)) ∈ lw_all := lw_g (lw_at lw_m4 129 rfl) rfl
theorem q998 : (Jvm.Cond.methodLink "WiredNets" (235 : Nat) ({ cls := "WiredNets$Seek", name := "run", desc := "()I" } : Jvm.MethodName)) ∈ lw_all := lw_g (lw_at lw_m4 170 rfl) rfl
theorem q1020 : (Jvm.Cond.instanceMethod ({ cls := "WiredNets", name := "small", desc := "(III)I" } : Jvm.MethodName)) ∈ lw_all := lw_g (lw_at lw_m4 192 rfl) rfl
theorem q1021 : (Jvm.Cond.selects "WiredNets" ({ cls := "WiredNets", name := "small", desc := "(III)I" } : Jvm.MethodName) ({ cls := "WiredNets", name := "small", desc := "(III)I" } : Jvm.MethodName)) ∈ lw_all := lw_g (lw_at lw_m4 193 rfl) rfl
theorem q1022 : (Jvm.Cond.code ({ cls := "WiredNets", name := "small", desc := "(III)I" } : Jvm.MethodName) prog_1_method_32_code (4 : Nat) (Option.some Jvm.ClassFile.FieldType.int)) ∈ lw_all := lw_g (lw_at lw_m4 194 rfl) rfl
theorem q1023 : (Jvm.Cond.methodLink "WiredNets" (238 : Nat) ({ cls := "WiredNets$Small", name := "run", desc := "(III)I" } : Jvm.MethodName)) ∈ lw_all := lw_g (lw_at lw_m4 195 rfl) rfl
theorem q1050 : (Jvm.Cond.instanceMethod ({ cls := "WiredNets", name := "found", desc := "(I)I" } : Jvm.MethodName)) ∈ lw_all := lw_g (lw_at lw_m4 222 rfl) rfl
theorem q1051 : (Jvm.Cond.selects "WiredNets" ({ cls := "WiredNets", name := "found", desc := "(I)I" } : Jvm.MethodName) ({ cls := "WiredNets", name := "found", desc := "(I)I" } : Jvm.MethodName)) ∈ lw_all := lw_g (lw_at lw_m4 223 rfl) rfl
theorem q1052 : (Jvm.Cond.code ({ cls := "WiredNets", name := "found", desc := "(I)I" } : Jvm.MethodName) prog_1_method_33_code (2 : Nat) (Option.some Jvm.ClassFile.FieldType.int)) ∈ lw_all := lw_g (lw_at lw_m4 224 rfl) rfl
theorem q1057 : (Jvm.Cond.instanceMethod ({ cls := "WiredNets", name := "bound", desc := "(II)I" } : Jvm.MethodName)) ∈ lw_all := lw_g (lw_at lw_m4 229 rfl) rfl
theorem q1058 : (Jvm.Cond.selects "WiredNets" ({ cls := "WiredNets", name := "bound", desc := "(II)I" } : Jvm.MethodName) ({ cls := "WiredNets", name := "bound", desc := "(II)I" } : Jvm.MethodName)) ∈ lw_all := lw_g (lw_at lw_m4 230 rfl) rfl
theorem q1059 : (Jvm.Cond.code ({ cls := "WiredNets", name := "bound", desc := "(II)I" } : Jvm.MethodName) prog_1_method_34_code (8 : Nat) (Option.some Jvm.ClassFile.FieldType.int)) ∈ lw_all := lw_g (lw_at lw_m4 231 rfl) rfl
theorem q1060 : (Jvm.Cond.constantLong "WiredNets" (257 : Nat) (1000000000 : Int64)) ∈ lw_all := lw_g (lw_at lw_m4 232 rfl) rfl
theorem q1061 : (Jvm.Cond.methodLink "WiredNets" (259 : Nat) ({ cls := "java/lang/Math", name := "min", desc := "(JJ)J" } : Jvm.MethodName)) ∈ lw_all := lw_g (lw_at lw_m4 233 rfl) rfl
theorem q1068 : (Jvm.Cond.instanceMethod ({ cls := "WiredNets", name := "falls", desc := "(III)I" } : Jvm.MethodName)) ∈ lw_all := lw_g (lw_at lw_m5 0 rfl) rfl
theorem q1069 : (Jvm.Cond.selects "WiredNets" ({ cls := "WiredNets", name := "falls", desc := "(III)I" } : Jvm.MethodName) ({ cls := "WiredNets", name := "falls", desc := "(III)I" } : Jvm.MethodName)) ∈ lw_all := lw_g (lw_at lw_m5 1 rfl) rfl
theorem q1070 : (Jvm.Cond.code ({ cls := "WiredNets", name := "falls", desc := "(III)I" } : Jvm.MethodName) prog_1_method_37_code (13 : Nat) (Option.some Jvm.ClassFile.FieldType.int)) ∈ lw_all := lw_g (lw_at lw_m5 2 rfl) rfl
theorem q1071 : (Jvm.Cond.methodLink "WiredNets" (266 : Nat) ({ cls := "WiredNets", name := "left", desc := "(LWiredNets$Net;[IIII)I" } : Jvm.MethodName)) ∈ lw_all := lw_g (lw_at lw_m5 3 rfl) rfl
theorem q1072 : (Jvm.Cond.privateMethod ({ cls := "WiredNets", name := "left", desc := "(LWiredNets$Net;[IIII)I" } : Jvm.MethodName)) ∈ lw_tbl := lw_at lw_m5 4 rfl
theorem q1073 : (Jvm.Cond.instanceMethod ({ cls := "WiredNets", name := "left", desc := "(LWiredNets$Net;[IIII)I" } : Jvm.MethodName)) ∈ lw_all := lw_g (lw_at lw_m5 5 rfl) rfl
theorem q1074 : (Jvm.Cond.code ({ cls := "WiredNets", name := "left", desc := "(LWiredNets$Net;[IIII)I" } : Jvm.MethodName) prog_1_method_36_code (7 : Nat) (Option.some Jvm.ClassFile.FieldType.int)) ∈ lw_all := lw_g (lw_at lw_m5 6 rfl) rfl
theorem q1075 : (Jvm.Cond.methodLink "WiredNets" (262 : Nat) ({ cls := "WiredNets", name := "fall", desc := "(LWiredNets$Net;[IIZ)V" } : Jvm.MethodName)) ∈ lw_all := lw_g (lw_at lw_m5 7 rfl) rfl
theorem q1076 : (Jvm.Cond.static ({ cls := "WiredNets", name := "fall", desc := "(LWiredNets$Net;[IIZ)V" } : Jvm.MethodName)) ∈ lw_all := lw_g (lw_at lw_m5 8 rfl) rfl
theorem q1077 : (Jvm.Cond.code ({ cls := "WiredNets", name := "fall", desc := "(LWiredNets$Net;[IIZ)V" } : Jvm.MethodName) prog_1_method_35_code (4 : Nat) (Option.none : Option Jvm.ClassFile.FieldType)) ∈ lw_all := lw_g (lw_at lw_m5 9 rfl) rfl
theorem q1078 : (Jvm.Cond.interfaceEntry "WiredNets" (270 : Nat)) ∈ lw_tbl := lw_at lw_m5 10 rfl
theorem q1079 : (Jvm.Cond.methodLink "WiredNets" (270 : Nat) ({ cls := "java/util/List", name := "clear", desc := "()V" } : Jvm.MethodName)) ∈ lw_all := lw_g (lw_at lw_m5 11 rfl) rfl
theorem q1088 : (Jvm.Cond.methodLink "WiredNets" (274 : Nat) ({ cls := "java/lang/Integer", name := "valueOf", desc := "(I)Ljava/lang/Integer;" } : Jvm.MethodName)) ∈ lw_all := lw_g (lw_at lw_m5 20 rfl) rfl
theorem q1108 : (Jvm.Cond.interfaceEntry "WiredNets" (280 : Nat)) ∈ lw_tbl := lw_at lw_m5 40 rfl
theorem q1109 : (Jvm.Cond.methodLink "WiredNets" (280 : Nat) ({ cls := "java/util/List", name := "add", desc := "(Ljava/lang/Object;)Z" } : Jvm.MethodName)) ∈ lw_all := lw_g (lw_at lw_m5 41 rfl) rfl
theorem q1143 : (Jvm.Cond.selects "WiredNets" ({ cls := "java/lang/Object", name := "getClass", desc := "()Ljava/lang/Class;" } : Jvm.MethodName) ({ cls := "java/lang/Object", name := "getClass", desc := "()Ljava/lang/Class;" } : Jvm.MethodName)) ∈ lw_all := lw_g (lw_at lw_m5 75 rfl) rfl
theorem q1177 : (Jvm.Cond.instanceMethod ({ cls := "WiredNets", name := "fallen", desc := "(I)I" } : Jvm.MethodName)) ∈ lw_all := lw_g (lw_at lw_m5 109 rfl) rfl
theorem q1178 : (Jvm.Cond.selects "WiredNets" ({ cls := "WiredNets", name := "fallen", desc := "(I)I" } : Jvm.MethodName) ({ cls := "WiredNets", name := "fallen", desc := "(I)I" } : Jvm.MethodName)) ∈ lw_all := lw_g (lw_at lw_m5 110 rfl) rfl
theorem q1179 : (Jvm.Cond.code ({ cls := "WiredNets", name := "fallen", desc := "(I)I" } : Jvm.MethodName) prog_1_method_38_code (2 : Nat) (Option.some Jvm.ClassFile.FieldType.int)) ∈ lw_all := lw_g (lw_at lw_m5 111 rfl) rfl
theorem q1180 : (Jvm.Cond.interfaceEntry "WiredNets" (284 : Nat)) ∈ lw_tbl := lw_at lw_m5 112 rfl
theorem q1181 : (Jvm.Cond.methodLink "WiredNets" (284 : Nat) ({ cls := "java/util/List", name := "size", desc := "()I" } : Jvm.MethodName)) ∈ lw_all := lw_g (lw_at lw_m5 113 rfl) rfl
theorem q1189 : (Jvm.Cond.interfaceEntry "WiredNets" (287 : Nat)) ∈ lw_tbl := lw_at lw_m5 121 rfl
theorem q1190 : (Jvm.Cond.methodLink "WiredNets" (287 : Nat) ({ cls := "java/util/List", name := "get", desc := "(I)Ljava/lang/Object;" } : Jvm.MethodName)) ∈ lw_all := lw_g (lw_at lw_m5 122 rfl) rfl
theorem q1206 : (Jvm.Cond.classLink "WiredNets" (275 : Nat) "java/lang/Integer") ∈ lw_all := lw_g (lw_at lw_m5 138 rfl) rfl
theorem q1207 : (Jvm.Cond.methodLink "WiredNets" (291 : Nat) ({ cls := "java/lang/Integer", name := "intValue", desc := "()I" } : Jvm.MethodName)) ∈ lw_all := lw_g (lw_at lw_m5 139 rfl) rfl
theorem q1215 : (Jvm.Cond.instanceMethod ({ cls := "WiredNets", name := "halves", desc := "(I)I" } : Jvm.MethodName)) ∈ lw_all := lw_g (lw_at lw_m5 147 rfl) rfl
theorem q1216 : (Jvm.Cond.selects "WiredNets" ({ cls := "WiredNets", name := "halves", desc := "(I)I" } : Jvm.MethodName) ({ cls := "WiredNets", name := "halves", desc := "(I)I" } : Jvm.MethodName)) ∈ lw_all := lw_g (lw_at lw_m5 148 rfl) rfl
theorem q1217 : (Jvm.Cond.code ({ cls := "WiredNets", name := "halves", desc := "(I)I" } : Jvm.MethodName) prog_1_method_39_code (7 : Nat) (Option.some Jvm.ClassFile.FieldType.int)) ∈ lw_all := lw_g (lw_at lw_m5 149 rfl) rfl
theorem q1218 : (Jvm.Cond.methodLink "WiredNets" (294 : Nat) ({ cls := "java/lang/Integer", name := "bitCount", desc := "(I)I" } : Jvm.MethodName)) ∈ lw_all := lw_g (lw_at lw_m5 150 rfl) rfl
theorem q1219 : (Jvm.Cond.methodLink "WiredNets" (300 : Nat) ({ cls := "java/lang/Integer", name := "numberOfTrailingZeros", desc := "(I)I" } : Jvm.MethodName)) ∈ lw_all := lw_g (lw_at lw_m5 151 rfl) rfl
theorem q1224 : (Jvm.Cond.instanceMethod ({ cls := "WiredNets", name := "lay", desc := "(II)I" } : Jvm.MethodName)) ∈ lw_all := lw_g (lw_at lw_m5 156 rfl) rfl
theorem q1225 : (Jvm.Cond.selects "WiredNets" ({ cls := "WiredNets", name := "lay", desc := "(II)I" } : Jvm.MethodName) ({ cls := "WiredNets", name := "lay", desc := "(II)I" } : Jvm.MethodName)) ∈ lw_all := lw_g (lw_at lw_m5 157 rfl) rfl
theorem q1226 : (Jvm.Cond.code ({ cls := "WiredNets", name := "lay", desc := "(II)I" } : Jvm.MethodName) prog_1_method_40_code (6 : Nat) (Option.some Jvm.ClassFile.FieldType.int)) ∈ lw_all := lw_g (lw_at lw_m5 158 rfl) rfl
theorem q1227 : (Jvm.Cond.classLink "WiredNets" (303 : Nat) "WiredNets$Floor") ∈ lw_all := lw_g (lw_at lw_m5 159 rfl) rfl
theorem q1229 : (Jvm.Cond.methodLink "WiredNets" (305 : Nat) ({ cls := "WiredNets$Floor", name := "<init>", desc := "(LWiredNets$Net;I)V" } : Jvm.MethodName)) ∈ lw_all := lw_g (lw_at lw_m5 161 rfl) rfl
theorem q1239 : (Jvm.Cond.fieldLinkNest "WiredNets" (308 : Nat) "WiredNets$Floor" "best" "[I" "WiredNets") ∈ lw_tbl := lw_at lw_m5 171 rfl
theorem q1254 : (Jvm.Cond.methodLink "WiredNets" (307 : Nat) ({ cls := "WiredNets$Floor", name := "run", desc := "()I" } : Jvm.MethodName)) ∈ lw_all := lw_g (lw_at lw_m5 186 rfl) rfl
theorem q1286 : (Jvm.Cond.instanceMethod ({ cls := "WiredNets", name := "laid", desc := "(I)I" } : Jvm.MethodName)) ∈ lw_all := lw_g (lw_at lw_m5 218 rfl) rfl
theorem q1287 : (Jvm.Cond.selects "WiredNets" ({ cls := "WiredNets", name := "laid", desc := "(I)I" } : Jvm.MethodName) ({ cls := "WiredNets", name := "laid", desc := "(I)I" } : Jvm.MethodName)) ∈ lw_all := lw_g (lw_at lw_m5 219 rfl) rfl
theorem q1288 : (Jvm.Cond.code ({ cls := "WiredNets", name := "laid", desc := "(I)I" } : Jvm.MethodName) prog_1_method_41_code (2 : Nat) (Option.some Jvm.ClassFile.FieldType.int)) ∈ lw_all := lw_g (lw_at lw_m5 220 rfl) rfl
theorem q1293 : (Jvm.Cond.instanceMethod ({ cls := "WiredNets", name := "hop", desc := "(III)I" } : Jvm.MethodName)) ∈ lw_all := lw_g (lw_at lw_m5 225 rfl) rfl
theorem q1294 : (Jvm.Cond.selects "WiredNets" ({ cls := "WiredNets", name := "hop", desc := "(III)I" } : Jvm.MethodName) ({ cls := "WiredNets", name := "hop", desc := "(III)I" } : Jvm.MethodName)) ∈ lw_all := lw_g (lw_at lw_m5 226 rfl) rfl
theorem q1295 : (Jvm.Cond.code ({ cls := "WiredNets", name := "hop", desc := "(III)I" } : Jvm.MethodName) prog_1_method_42_code (6 : Nat) (Option.some Jvm.ClassFile.FieldType.int)) ∈ lw_all := lw_g (lw_at lw_m5 227 rfl) rfl
theorem q1296 : (Jvm.Cond.classLink "WiredNets" (311 : Nat) "WiredNets$Ways") ∈ lw_all := lw_g (lw_at lw_m5 228 rfl) rfl
theorem q1298 : (Jvm.Cond.methodLink "WiredNets" (313 : Nat) ({ cls := "WiredNets$Ways", name := "<init>", desc := "(LWiredNets$Net;)V" } : Jvm.MethodName)) ∈ lw_all := lw_g (lw_at lw_m5 230 rfl) rfl
theorem q1319 : (Jvm.Cond.fieldLinkNest "WiredNets" (316 : Nat) "WiredNets$Ways" "joined" "Z" "WiredNets") ∈ lw_tbl := lw_at lw_m6 11 rfl
theorem q1322 : (Jvm.Cond.fieldLinkNest "WiredNets" (319 : Nat) "WiredNets$Ways" "hop" "[[I" "WiredNets") ∈ lw_tbl := lw_at lw_m6 14 rfl
theorem q1324 : (Jvm.Cond.fieldLinkNest "WiredNets" (327 : Nat) "WiredNets$Ways" "load" "[[I" "WiredNets") ∈ lw_tbl := lw_at lw_m6 16 rfl
theorem q1352 : (Jvm.Cond.instanceMethod ({ cls := "WiredNets", name := "locks", desc := "(I)Z" } : Jvm.MethodName)) ∈ lw_all := lw_g (lw_at lw_m6 44 rfl) rfl
theorem q1353 : (Jvm.Cond.selects "WiredNets" ({ cls := "WiredNets", name := "locks", desc := "(I)Z" } : Jvm.MethodName) ({ cls := "WiredNets", name := "locks", desc := "(I)Z" } : Jvm.MethodName)) ∈ lw_all := lw_g (lw_at lw_m6 45 rfl) rfl
theorem q1354 : (Jvm.Cond.code ({ cls := "WiredNets", name := "locks", desc := "(I)Z" } : Jvm.MethodName) prog_1_method_43_code (2 : Nat) (Option.some Jvm.ClassFile.FieldType.boolean)) ∈ lw_all := lw_g (lw_at lw_m6 46 rfl) rfl
theorem q1355 : (Jvm.Cond.methodLink "WiredNets" (323 : Nat) ({ cls := "WiredNets$Ways", name := "locks", desc := "()Z" } : Jvm.MethodName)) ∈ lw_all := lw_g (lw_at lw_m6 47 rfl) rfl
theorem q1365 : (Jvm.Cond.instanceMethod ({ cls := "WiredNets", name := "load", desc := "(III)I" } : Jvm.MethodName)) ∈ lw_all := lw_g (lw_at lw_m6 57 rfl) rfl
theorem q1366 : (Jvm.Cond.selects "WiredNets" ({ cls := "WiredNets", name := "load", desc := "(III)I" } : Jvm.MethodName) ({ cls := "WiredNets", name := "load", desc := "(III)I" } : Jvm.MethodName)) ∈ lw_all := lw_g (lw_at lw_m6 58 rfl) rfl
theorem q1367 : (Jvm.Cond.code ({ cls := "WiredNets", name := "load", desc := "(III)I" } : Jvm.MethodName) prog_1_method_44_code (5 : Nat) (Option.some Jvm.ClassFile.FieldType.int)) ∈ lw_all := lw_g (lw_at lw_m6 59 rfl) rfl
theorem q1372 : (Jvm.Cond.instanceMethod ({ cls := "WiredNets", name := "heavy", desc := "(II)I" } : Jvm.MethodName)) ∈ lw_all := lw_g (lw_at lw_m6 64 rfl) rfl
theorem q1373 : (Jvm.Cond.selects "WiredNets" ({ cls := "WiredNets", name := "heavy", desc := "(II)I" } : Jvm.MethodName) ({ cls := "WiredNets", name := "heavy", desc := "(II)I" } : Jvm.MethodName)) ∈ lw_all := lw_g (lw_at lw_m6 65 rfl) rfl
theorem q1374 : (Jvm.Cond.code ({ cls := "WiredNets", name := "heavy", desc := "(II)I" } : Jvm.MethodName) prog_1_method_45_code (6 : Nat) (Option.some Jvm.ClassFile.FieldType.int)) ∈ lw_all := lw_g (lw_at lw_m6 66 rfl) rfl
theorem q1375 : (Jvm.Cond.methodLink "WiredNets" (330 : Nat) ({ cls := "WiredNets$Ways", name := "pattern", desc := "()I" } : Jvm.MethodName)) ∈ lw_all := lw_g (lw_at lw_m6 67 rfl) rfl
theorem q1392 : (Jvm.Cond.methodLink "WiredNets" (333 : Nat) ({ cls := "WiredNets$Ways", name := "heaviest", desc := "()I" } : Jvm.MethodName)) ∈ lw_all := lw_g (lw_at lw_m6 84 rfl) rfl
theorem q1400 : (Jvm.Cond.instanceMethod ({ cls := "WiredNets", name := "upward", desc := "(III)I" } : Jvm.MethodName)) ∈ lw_all := lw_g (lw_at lw_m6 92 rfl) rfl
theorem q1401 : (Jvm.Cond.selects "WiredNets" ({ cls := "WiredNets", name := "upward", desc := "(III)I" } : Jvm.MethodName) ({ cls := "WiredNets", name := "upward", desc := "(III)I" } : Jvm.MethodName)) ∈ lw_all := lw_g (lw_at lw_m6 93 rfl) rfl
theorem q1402 : (Jvm.Cond.code ({ cls := "WiredNets", name := "upward", desc := "(III)I" } : Jvm.MethodName) prog_1_method_46_code (6 : Nat) (Option.some Jvm.ClassFile.FieldType.int)) ∈ lw_all := lw_g (lw_at lw_m6 94 rfl) rfl
theorem q1403 : (Jvm.Cond.methodLink "WiredNets" (336 : Nat) ({ cls := "WiredNets$Ways", name := "upward", desc := "(IZ)I" } : Jvm.MethodName)) ∈ lw_all := lw_g (lw_at lw_m6 95 rfl) rfl
theorem q1421 : (Jvm.Cond.instanceMethod ({ cls := "WiredNets", name := "tell", desc := "(II)I" } : Jvm.MethodName)) ∈ lw_all := lw_g (lw_at lw_m6 113 rfl) rfl
theorem q1422 : (Jvm.Cond.selects "WiredNets" ({ cls := "WiredNets", name := "tell", desc := "(II)I" } : Jvm.MethodName) ({ cls := "WiredNets", name := "tell", desc := "(II)I" } : Jvm.MethodName)) ∈ lw_all := lw_g (lw_at lw_m6 114 rfl) rfl
theorem q1423 : (Jvm.Cond.code ({ cls := "WiredNets", name := "tell", desc := "(II)I" } : Jvm.MethodName) prog_1_method_47_code (4 : Nat) (Option.some Jvm.ClassFile.FieldType.int)) ∈ lw_all := lw_g (lw_at lw_m6 115 rfl) rfl
theorem q1424 : (Jvm.Cond.classLink "WiredNets" (340 : Nat) "WiredNets$Rounds") ∈ lw_all := lw_g (lw_at lw_m6 116 rfl) rfl
theorem q1426 : (Jvm.Cond.methodLink "WiredNets" (342 : Nat) ({ cls := "WiredNets$Rounds", name := "<init>", desc := "(LWiredNets$Net;)V" } : Jvm.MethodName)) ∈ lw_all := lw_g (lw_at lw_m6 118 rfl) rfl
theorem q1440 : (Jvm.Cond.methodLink "WiredNets" (343 : Nat) ({ cls := "WiredNets$Rounds", name := "run", desc := "(I)I" } : Jvm.MethodName)) ∈ lw_all := lw_g (lw_at lw_m6 132 rfl) rfl
theorem q1453 : (Jvm.Cond.instanceMethod ({ cls := "WiredNets", name := "grow", desc := "(II)I" } : Jvm.MethodName)) ∈ lw_all := lw_g (lw_at lw_m6 145 rfl) rfl
theorem q1454 : (Jvm.Cond.selects "WiredNets" ({ cls := "WiredNets", name := "grow", desc := "(II)I" } : Jvm.MethodName) ({ cls := "WiredNets", name := "grow", desc := "(II)I" } : Jvm.MethodName)) ∈ lw_all := lw_g (lw_at lw_m6 146 rfl) rfl
theorem q1455 : (Jvm.Cond.code ({ cls := "WiredNets", name := "grow", desc := "(II)I" } : Jvm.MethodName) prog_1_method_49_code (13 : Nat) (Option.some Jvm.ClassFile.FieldType.int)) ∈ lw_all := lw_g (lw_at lw_m6 147 rfl) rfl
theorem q1456 : (Jvm.Cond.methodLink "WiredNets" (345 : Nat) ({ cls := "WiredNets", name := "grows", desc := "(LWiredNets$Net;LWiredNets$Net;II)Z" } : Jvm.MethodName)) ∈ lw_all := lw_g (lw_at lw_m6 148 rfl) rfl
theorem q1457 : (Jvm.Cond.static ({ cls := "WiredNets", name := "grows", desc := "(LWiredNets$Net;LWiredNets$Net;II)Z" } : Jvm.MethodName)) ∈ lw_all := lw_g (lw_at lw_m6 149 rfl) rfl
theorem q1458 : (Jvm.Cond.code ({ cls := "WiredNets", name := "grows", desc := "(LWiredNets$Net;LWiredNets$Net;II)Z" } : Jvm.MethodName) prog_1_method_48_code (7 : Nat) (Option.some Jvm.ClassFile.FieldType.boolean)) ∈ lw_all := lw_g (lw_at lw_m6 150 rfl) rfl
theorem q1463 : (Jvm.Cond.instanceMethod ({ cls := "WiredNets", name := "missing", desc := "(I)I" } : Jvm.MethodName)) ∈ lw_all := lw_g (lw_at lw_m6 155 rfl) rfl
theorem q1464 : (Jvm.Cond.selects "WiredNets" ({ cls := "WiredNets", name := "missing", desc := "(I)I" } : Jvm.MethodName) ({ cls := "WiredNets", name := "missing", desc := "(I)I" } : Jvm.MethodName)) ∈ lw_all := lw_g (lw_at lw_m6 156 rfl) rfl
theorem q1465 : (Jvm.Cond.code ({ cls := "WiredNets", name := "missing", desc := "(I)I" } : Jvm.MethodName) prog_1_method_50_code (8 : Nat) (Option.some Jvm.ClassFile.FieldType.int)) ∈ lw_all := lw_g (lw_at lw_m6 157 rfl) rfl
theorem q1470 : (Jvm.Cond.instanceMethod ({ cls := "WiredNets", name := "count", desc := "(I)I" } : Jvm.MethodName)) ∈ lw_all := lw_g (lw_at lw_m6 162 rfl) rfl
theorem q1471 : (Jvm.Cond.selects "WiredNets" ({ cls := "WiredNets", name := "count", desc := "(I)I" } : Jvm.MethodName) ({ cls := "WiredNets", name := "count", desc := "(I)I" } : Jvm.MethodName)) ∈ lw_all := lw_g (lw_at lw_m6 163 rfl) rfl
theorem q1472 : (Jvm.Cond.code ({ cls := "WiredNets", name := "count", desc := "(I)I" } : Jvm.MethodName) prog_1_method_51_code (4 : Nat) (Option.some Jvm.ClassFile.FieldType.int)) ∈ lw_all := lw_g (lw_at lw_m6 164 rfl) rfl
theorem q2170 : (Jvm.Cond.castable "WiredNets" "java/lang/Object") ∈ lw_tbl := lw_at lw_m9 142 rfl
theorem in_X1 : ∀ w ∈ wsX10, w ∈ lw_all := lw_in wsX10 [323, 325, 327, 329, 331, 333, 335, 337, 339] (by decide +kernel) (by decide +kernel)

/-! WiredNets$Reader -/
set_option maxRecDepth 100000
def RX7 : String := "WiredNets$Reader"
def TX7 : u_T := fun k => match k with
  | 0 => ("WiredNets$Reader", "size", "I", true)
  | 1 => ("WiredNets$Reader", "named", "[I", true)
  | 2 => ("WiredNets$Reader", "at", "I", false)
  | 3 => ("WiredNets$Reader", "token", "I", false)
  | 4 => ("WiredNets$Reader", "begins", "I", false)
  | 5 => ("WiredNets$Reader", "ends", "I", false)
  | 6 => ("WiredNets$Reader", "number", "I", false)
  | 7 => ("WiredNets$Reader", "many", "I", false)
  | 8 => ("WiredNets$Reader", "net", "LWiredNets$Net;", false)
  | 9 => ("WiredNets$Reader", "clauses", "I", false)
  | _ => ("WiredNets$Reader", "this$0", "LWiredNets;", true)
def tyX7 : Nat → FieldType := fun k => match k with
  | 0 => .int
  | 1 => .array .int
  | 2 => .int
  | 3 => .int
  | 4 => .int
  | 5 => .int
  | 6 => .int
  | 7 => .int
  | 8 => .object "WiredNets$Net"
  | 9 => .int
  | _ => .object "WiredNets"
abbrev wsX70 : List Cond := u_ws RX7 TX7 11
theorem nmX7 : ∀ a, a < 11 → ∀ b, b < 11 → a ≠ b → (TX7 a).2.1 ≠ (TX7 b).2.1 := by decide +kernel
theorem tyX7_ok : ∀ k, k < 11 → parseFieldDescriptor (TX7 k).2.2.1 = some (tyX7 k) := by decide +kernel
abbrev cX7_init : ByteArray := prog_8_method_1_code
def yX7_init : MethodName := ⟨RX7, "<init>", "(LWiredNets;I)V"⟩
def dkwX7_init_0 : List UInt8 := [42, 43, 181, 0, 3, 42, 183, 0, 9, 42, 16, 12, 188, 10, 181, 0, 15, 42, 28, 181, 0, 19, 177]
abbrev dktX7_init_0 : List UInt8 := dkwX7_init_0 ++ []
theorem dksX7_init_0 : cX7_init.data.toList.drop 0 = dktX7_init_0 := by decide +kernel
theorem dX7_init_0 : decode cX7_init 0 = .ok (.aload_n 0, 1) := dk_42 (dk_at dksX7_init_0 0 rfl rfl)
theorem dX7_init_1 : decode cX7_init 1 = .ok (.aload_n 1, 1) := dk_43 (dk_at dksX7_init_0 1 rfl rfl)
theorem dX7_init_2 : decode cX7_init 2 = .ok (.putfield 3, 3) := dk_181 0 3 (dk_at dksX7_init_0 2 rfl rfl)
theorem dX7_init_5 : decode cX7_init 5 = .ok (.aload_n 0, 1) := dk_42 (dk_at dksX7_init_0 5 rfl rfl)
theorem dX7_init_6 : decode cX7_init 6 = .ok (.invokespecial 9, 3) := dk_183 0 9 (dk_at dksX7_init_0 6 rfl rfl)
theorem dX7_init_9 : decode cX7_init 9 = .ok (.aload_n 0, 1) := dk_42 (dk_at dksX7_init_0 9 rfl rfl)
theorem dX7_init_10 : decode cX7_init 10 = .ok (.bipush 12, 2) := dk_16 12 (dk_at dksX7_init_0 10 rfl rfl)
theorem dX7_init_12 : decode cX7_init 12 = .ok (.newarray .int, 2) := dk_188_10 (dk_at dksX7_init_0 12 rfl rfl)
theorem dX7_init_14 : decode cX7_init 14 = .ok (.putfield 15, 3) := dk_181 0 15 (dk_at dksX7_init_0 14 rfl rfl)
theorem dX7_init_17 : decode cX7_init 17 = .ok (.aload_n 0, 1) := dk_42 (dk_at dksX7_init_0 17 rfl rfl)
theorem dX7_init_18 : decode cX7_init 18 = .ok (.iload_n 2, 1) := dk_28 (dk_at dksX7_init_0 18 rfl rfl)
theorem dX7_init_19 : decode cX7_init 19 = .ok (.putfield 19, 3) := dk_181 0 19 (dk_at dksX7_init_0 19 rfl rfl)
theorem dX7_init_22 : decode cX7_init 22 = .ok (.return_, 1) := dk_177 (dk_at dksX7_init_0 22 rfl rfl)
abbrev cX7_read : ByteArray := prog_8_method_14_code
def yX7_read : MethodName := ⟨RX7, "read", "()LWiredNets$Net;"⟩
def dkwX7_read_2 : List UInt8 := [180, 0, 41, 153, 0, 10, 42, 182, 0, 148, 167, 255, 245, 42, 180, 0, 91, 176]
abbrev dktX7_read_2 : List UInt8 := dkwX7_read_2 ++ []
def dkwX7_read_1 : List UInt8 := [42, 187, 0, 96, 89, 27, 42, 4, 16, 8, 182, 0, 139, 183, 0, 143, 181, 0, 91, 42, 182, 0, 145, 42]
abbrev dktX7_read_1 : List UInt8 := dkwX7_read_1 ++ dktX7_read_2
def dkwX7_read_0 : List UInt8 := [42, 182, 0, 85, 42, 18, 133, 182, 0, 135, 42, 4, 16, 24, 182, 0, 139, 60, 42, 18, 141, 182, 0, 135]
abbrev dktX7_read_0 : List UInt8 := dkwX7_read_0 ++ dktX7_read_1
theorem dksX7_read_0 : cX7_read.data.toList.drop 0 = dktX7_read_0 := by decide +kernel
theorem dksX7_read_1 : cX7_read.data.toList.drop 24 = dktX7_read_1 := dk_seg dksX7_read_0 24 rfl rfl
theorem dksX7_read_2 : cX7_read.data.toList.drop 48 = dktX7_read_2 := dk_seg dksX7_read_1 24 rfl rfl
theorem dX7_read_0 : decode cX7_read 0 = .ok (.aload_n 0, 1) := dk_42 (dk_at dksX7_read_0 0 rfl rfl)
theorem dX7_read_1 : decode cX7_read 1 = .ok (.invokevirtual 85, 3) := dk_182 0 85 (dk_at dksX7_read_0 1 rfl rfl)
theorem dX7_read_4 : decode cX7_read 4 = .ok (.aload_n 0, 1) := dk_42 (dk_at dksX7_read_0 4 rfl rfl)
theorem dX7_read_5 : decode cX7_read 5 = .ok (.ldc 133, 2) := dk_18 133 (dk_at dksX7_read_0 5 rfl rfl)
theorem dX7_read_7 : decode cX7_read 7 = .ok (.invokevirtual 135, 3) := dk_182 0 135 (dk_at dksX7_read_0 7 rfl rfl)
theorem dX7_read_10 : decode cX7_read 10 = .ok (.aload_n 0, 1) := dk_42 (dk_at dksX7_read_0 10 rfl rfl)
theorem dX7_read_11 : decode cX7_read 11 = .ok (.iconst 1, 1) := dk_4 (dk_at dksX7_read_0 11 rfl rfl)
theorem dX7_read_12 : decode cX7_read 12 = .ok (.bipush 24, 2) := dk_16 24 (dk_at dksX7_read_0 12 rfl rfl)
theorem dX7_read_14 : decode cX7_read 14 = .ok (.invokevirtual 139, 3) := dk_182 0 139 (dk_at dksX7_read_0 14 rfl rfl)
theorem dX7_read_17 : decode cX7_read 17 = .ok (.istore_n 1, 1) := dk_60 (dk_at dksX7_read_0 17 rfl rfl)
theorem dX7_read_18 : decode cX7_read 18 = .ok (.aload_n 0, 1) := dk_42 (dk_at dksX7_read_0 18 rfl rfl)
theorem dX7_read_19 : decode cX7_read 19 = .ok (.ldc 141, 2) := dk_18 141 (dk_at dksX7_read_0 19 rfl rfl)
theorem dX7_read_21 : decode cX7_read 21 = .ok (.invokevirtual 135, 3) := dk_182 0 135 (dk_at dksX7_read_0 21 rfl rfl)
theorem dX7_read_24 : decode cX7_read 24 = .ok (.aload_n 0, 1) := dk_42 (dk_at dksX7_read_1 0 rfl rfl)
theorem dX7_read_25 : decode cX7_read 25 = .ok (.new 96, 3) := dk_187 0 96 (dk_at dksX7_read_1 1 rfl rfl)
theorem dX7_read_28 : decode cX7_read 28 = .ok (.dup, 1) := dk_89 (dk_at dksX7_read_1 4 rfl rfl)
theorem dX7_read_29 : decode cX7_read 29 = .ok (.iload_n 1, 1) := dk_27 (dk_at dksX7_read_1 5 rfl rfl)
theorem dX7_read_30 : decode cX7_read 30 = .ok (.aload_n 0, 1) := dk_42 (dk_at dksX7_read_1 6 rfl rfl)
theorem dX7_read_31 : decode cX7_read 31 = .ok (.iconst 1, 1) := dk_4 (dk_at dksX7_read_1 7 rfl rfl)
theorem dX7_read_32 : decode cX7_read 32 = .ok (.bipush 8, 2) := dk_16 8 (dk_at dksX7_read_1 8 rfl rfl)
theorem dX7_read_34 : decode cX7_read 34 = .ok (.invokevirtual 139, 3) := dk_182 0 139 (dk_at dksX7_read_1 10 rfl rfl)
theorem dX7_read_37 : decode cX7_read 37 = .ok (.invokespecial 143, 3) := dk_183 0 143 (dk_at dksX7_read_1 13 rfl rfl)
theorem dX7_read_40 : decode cX7_read 40 = .ok (.putfield 91, 3) := dk_181 0 91 (dk_at dksX7_read_1 16 rfl rfl)
theorem dX7_read_43 : decode cX7_read 43 = .ok (.aload_n 0, 1) := dk_42 (dk_at dksX7_read_1 19 rfl rfl)
theorem dX7_read_44 : decode cX7_read 44 = .ok (.invokevirtual 145, 3) := dk_182 0 145 (dk_at dksX7_read_1 20 rfl rfl)
theorem dX7_read_47 : decode cX7_read 47 = .ok (.aload_n 0, 1) := dk_42 (dk_at dksX7_read_1 23 rfl rfl)
theorem dX7_read_48 : decode cX7_read 48 = .ok (.getfield 41, 3) := dk_180 0 41 (dk_at dksX7_read_2 0 rfl rfl)
theorem dX7_read_51 : decode cX7_read 51 = .ok (.ifCond .eq 10, 3) := dk_153 0 10 (dk_at dksX7_read_2 3 rfl rfl)
theorem dX7_read_54 : decode cX7_read 54 = .ok (.aload_n 0, 1) := dk_42 (dk_at dksX7_read_2 6 rfl rfl)
theorem dX7_read_55 : decode cX7_read 55 = .ok (.invokevirtual 148, 3) := dk_182 0 148 (dk_at dksX7_read_2 7 rfl rfl)
theorem dX7_read_58 : decode cX7_read 58 = .ok (.goto (-11), 3) := dk_167 255 245 (dk_at dksX7_read_2 10 rfl rfl)
theorem dX7_read_61 : decode cX7_read 61 = .ok (.aload_n 0, 1) := dk_42 (dk_at dksX7_read_2 13 rfl rfl)
theorem dX7_read_62 : decode cX7_read 62 = .ok (.getfield 91, 3) := dk_180 0 91 (dk_at dksX7_read_2 14 rfl rfl)
theorem dX7_read_65 : decode cX7_read 65 = .ok (.areturn, 1) := dk_176 (dk_at dksX7_read_2 17 rfl rfl)
abbrev cX7_next : ByteArray := prog_8_method_5_code
def yX7_next : MethodName := ⟨RX7, "next", "()V"⟩
def dkwX7_next_8 : List UInt8 := [180, 0, 23, 181, 0, 60, 177]
abbrev dktX7_next_8 : List UInt8 := dkwX7_next_8 ++ []
def dkwX7_next_7 : List UInt8 := [160, 0, 7, 6, 167, 0, 4, 7, 181, 0, 41, 42, 89, 180, 0, 23, 4, 96, 181, 0, 23, 42, 42]
abbrev dktX7_next_7 : List UInt8 := dkwX7_next_7 ++ dktX7_next_8
def dkwX7_next_6 : List UInt8 := [96, 181, 0, 23, 167, 255, 214, 42, 5, 181, 0, 41, 167, 0, 31, 42, 42, 182, 0, 30, 16, 59]
abbrev dktX7_next_6 : List UInt8 := dkwX7_next_6 ++ dktX7_next_7
def dkwX7_next_5 : List UInt8 := [180, 0, 51, 104, 42, 182, 0, 30, 96, 16, 48, 100, 184, 0, 54, 181, 0, 51, 42, 89, 180, 0, 23, 4]
abbrev dktX7_next_5 : List UInt8 := dkwX7_next_5 ++ dktX7_next_6
def dkwX7_next_4 : List UInt8 := [153, 0, 61, 42, 3, 181, 0, 51, 42, 182, 0, 48, 153, 0, 41, 42, 17, 39, 16, 16, 10, 42]
abbrev dktX7_next_4 : List UInt8 := dkwX7_next_4 ++ dktX7_next_5
def dkwX7_next_3 : List UInt8 := [180, 0, 23, 4, 96, 181, 0, 23, 167, 255, 239, 42, 4, 181, 0, 41, 167, 0, 96, 42, 182, 0, 48]
abbrev dktX7_next_3 : List UInt8 := dkwX7_next_3 ++ dktX7_next_4
def dkwX7_next_2 : List UInt8 := [3, 181, 0, 41, 167, 0, 131, 42, 182, 0, 44, 153, 0, 31, 42, 182, 0, 44, 153, 0, 16, 42, 89]
abbrev dktX7_next_2 : List UInt8 := dkwX7_next_2 ++ dktX7_next_3
def dkwX7_next_1 : List UInt8 := [96, 181, 0, 23, 167, 255, 228, 42, 42, 180, 0, 23, 181, 0, 38, 42, 182, 0, 30, 2, 160, 0, 11, 42]
abbrev dktX7_next_1 : List UInt8 := dkwX7_next_1 ++ dktX7_next_2
def dkwX7_next_0 : List UInt8 := [42, 182, 0, 30, 16, 32, 159, 0, 12, 42, 182, 0, 30, 16, 10, 160, 0, 16, 42, 89, 180, 0, 23, 4]
abbrev dktX7_next_0 : List UInt8 := dkwX7_next_0 ++ dktX7_next_1
theorem dksX7_next_0 : cX7_next.data.toList.drop 0 = dktX7_next_0 := by decide +kernel
theorem dksX7_next_1 : cX7_next.data.toList.drop 24 = dktX7_next_1 := dk_seg dksX7_next_0 24 rfl rfl
theorem dksX7_next_2 : cX7_next.data.toList.drop 48 = dktX7_next_2 := dk_seg dksX7_next_1 24 rfl rfl
theorem dksX7_next_3 : cX7_next.data.toList.drop 71 = dktX7_next_3 := dk_seg dksX7_next_2 23 rfl rfl
theorem dksX7_next_4 : cX7_next.data.toList.drop 94 = dktX7_next_4 := dk_seg dksX7_next_3 23 rfl rfl
theorem dksX7_next_5 : cX7_next.data.toList.drop 116 = dktX7_next_5 := dk_seg dksX7_next_4 22 rfl rfl
theorem dksX7_next_6 : cX7_next.data.toList.drop 140 = dktX7_next_6 := dk_seg dksX7_next_5 24 rfl rfl
theorem dksX7_next_7 : cX7_next.data.toList.drop 162 = dktX7_next_7 := dk_seg dksX7_next_6 22 rfl rfl
theorem dksX7_next_8 : cX7_next.data.toList.drop 185 = dktX7_next_8 := dk_seg dksX7_next_7 23 rfl rfl
theorem dX7_next_0 : decode cX7_next 0 = .ok (.aload_n 0, 1) := dk_42 (dk_at dksX7_next_0 0 rfl rfl)
theorem dX7_next_1 : decode cX7_next 1 = .ok (.invokevirtual 30, 3) := dk_182 0 30 (dk_at dksX7_next_0 1 rfl rfl)
theorem dX7_next_4 : decode cX7_next 4 = .ok (.bipush 32, 2) := dk_16 32 (dk_at dksX7_next_0 4 rfl rfl)
theorem dX7_next_6 : decode cX7_next 6 = .ok (.if_icmp .eq 12, 3) := dk_159 0 12 (dk_at dksX7_next_0 6 rfl rfl)
theorem dX7_next_9 : decode cX7_next 9 = .ok (.aload_n 0, 1) := dk_42 (dk_at dksX7_next_0 9 rfl rfl)
theorem dX7_next_10 : decode cX7_next 10 = .ok (.invokevirtual 30, 3) := dk_182 0 30 (dk_at dksX7_next_0 10 rfl rfl)
theorem dX7_next_13 : decode cX7_next 13 = .ok (.bipush 10, 2) := dk_16 10 (dk_at dksX7_next_0 13 rfl rfl)
theorem dX7_next_15 : decode cX7_next 15 = .ok (.if_icmp .ne 16, 3) := dk_160 0 16 (dk_at dksX7_next_0 15 rfl rfl)
theorem dX7_next_18 : decode cX7_next 18 = .ok (.aload_n 0, 1) := dk_42 (dk_at dksX7_next_0 18 rfl rfl)
theorem dX7_next_19 : decode cX7_next 19 = .ok (.dup, 1) := dk_89 (dk_at dksX7_next_0 19 rfl rfl)
theorem dX7_next_20 : decode cX7_next 20 = .ok (.getfield 23, 3) := dk_180 0 23 (dk_at dksX7_next_0 20 rfl rfl)
theorem dX7_next_23 : decode cX7_next 23 = .ok (.iconst 1, 1) := dk_4 (dk_at dksX7_next_0 23 rfl rfl)
theorem dX7_next_24 : decode cX7_next 24 = .ok (.iadd, 1) := dk_96 (dk_at dksX7_next_1 0 rfl rfl)
theorem dX7_next_25 : decode cX7_next 25 = .ok (.putfield 23, 3) := dk_181 0 23 (dk_at dksX7_next_1 1 rfl rfl)
theorem dX7_next_28 : decode cX7_next 28 = .ok (.goto (-28), 3) := dk_167 255 228 (dk_at dksX7_next_1 4 rfl rfl)
theorem dX7_next_31 : decode cX7_next 31 = .ok (.aload_n 0, 1) := dk_42 (dk_at dksX7_next_1 7 rfl rfl)
theorem dX7_next_32 : decode cX7_next 32 = .ok (.aload_n 0, 1) := dk_42 (dk_at dksX7_next_1 8 rfl rfl)
theorem dX7_next_33 : decode cX7_next 33 = .ok (.getfield 23, 3) := dk_180 0 23 (dk_at dksX7_next_1 9 rfl rfl)
theorem dX7_next_36 : decode cX7_next 36 = .ok (.putfield 38, 3) := dk_181 0 38 (dk_at dksX7_next_1 12 rfl rfl)
theorem dX7_next_39 : decode cX7_next 39 = .ok (.aload_n 0, 1) := dk_42 (dk_at dksX7_next_1 15 rfl rfl)
theorem dX7_next_40 : decode cX7_next 40 = .ok (.invokevirtual 30, 3) := dk_182 0 30 (dk_at dksX7_next_1 16 rfl rfl)
theorem dX7_next_43 : decode cX7_next 43 = .ok (.iconst (-1), 1) := dk_2 (dk_at dksX7_next_1 19 rfl rfl)
theorem dX7_next_44 : decode cX7_next 44 = .ok (.if_icmp .ne 11, 3) := dk_160 0 11 (dk_at dksX7_next_1 20 rfl rfl)
theorem dX7_next_47 : decode cX7_next 47 = .ok (.aload_n 0, 1) := dk_42 (dk_at dksX7_next_1 23 rfl rfl)
theorem dX7_next_48 : decode cX7_next 48 = .ok (.iconst 0, 1) := dk_3 (dk_at dksX7_next_2 0 rfl rfl)
theorem dX7_next_49 : decode cX7_next 49 = .ok (.putfield 41, 3) := dk_181 0 41 (dk_at dksX7_next_2 1 rfl rfl)
theorem dX7_next_52 : decode cX7_next 52 = .ok (.goto 131, 3) := dk_167 0 131 (dk_at dksX7_next_2 4 rfl rfl)
theorem dX7_next_55 : decode cX7_next 55 = .ok (.aload_n 0, 1) := dk_42 (dk_at dksX7_next_2 7 rfl rfl)
theorem dX7_next_56 : decode cX7_next 56 = .ok (.invokevirtual 44, 3) := dk_182 0 44 (dk_at dksX7_next_2 8 rfl rfl)
theorem dX7_next_59 : decode cX7_next 59 = .ok (.ifCond .eq 31, 3) := dk_153 0 31 (dk_at dksX7_next_2 11 rfl rfl)
theorem dX7_next_62 : decode cX7_next 62 = .ok (.aload_n 0, 1) := dk_42 (dk_at dksX7_next_2 14 rfl rfl)
theorem dX7_next_63 : decode cX7_next 63 = .ok (.invokevirtual 44, 3) := dk_182 0 44 (dk_at dksX7_next_2 15 rfl rfl)
theorem dX7_next_66 : decode cX7_next 66 = .ok (.ifCond .eq 16, 3) := dk_153 0 16 (dk_at dksX7_next_2 18 rfl rfl)
theorem dX7_next_69 : decode cX7_next 69 = .ok (.aload_n 0, 1) := dk_42 (dk_at dksX7_next_2 21 rfl rfl)
theorem dX7_next_70 : decode cX7_next 70 = .ok (.dup, 1) := dk_89 (dk_at dksX7_next_2 22 rfl rfl)
theorem dX7_next_71 : decode cX7_next 71 = .ok (.getfield 23, 3) := dk_180 0 23 (dk_at dksX7_next_3 0 rfl rfl)
theorem dX7_next_74 : decode cX7_next 74 = .ok (.iconst 1, 1) := dk_4 (dk_at dksX7_next_3 3 rfl rfl)
theorem dX7_next_75 : decode cX7_next 75 = .ok (.iadd, 1) := dk_96 (dk_at dksX7_next_3 4 rfl rfl)
theorem dX7_next_76 : decode cX7_next 76 = .ok (.putfield 23, 3) := dk_181 0 23 (dk_at dksX7_next_3 5 rfl rfl)
theorem dX7_next_79 : decode cX7_next 79 = .ok (.goto (-17), 3) := dk_167 255 239 (dk_at dksX7_next_3 8 rfl rfl)
theorem dX7_next_82 : decode cX7_next 82 = .ok (.aload_n 0, 1) := dk_42 (dk_at dksX7_next_3 11 rfl rfl)
theorem dX7_next_83 : decode cX7_next 83 = .ok (.iconst 1, 1) := dk_4 (dk_at dksX7_next_3 12 rfl rfl)
theorem dX7_next_84 : decode cX7_next 84 = .ok (.putfield 41, 3) := dk_181 0 41 (dk_at dksX7_next_3 13 rfl rfl)
theorem dX7_next_87 : decode cX7_next 87 = .ok (.goto 96, 3) := dk_167 0 96 (dk_at dksX7_next_3 16 rfl rfl)
theorem dX7_next_90 : decode cX7_next 90 = .ok (.aload_n 0, 1) := dk_42 (dk_at dksX7_next_3 19 rfl rfl)
theorem dX7_next_91 : decode cX7_next 91 = .ok (.invokevirtual 48, 3) := dk_182 0 48 (dk_at dksX7_next_3 20 rfl rfl)
theorem dX7_next_94 : decode cX7_next 94 = .ok (.ifCond .eq 61, 3) := dk_153 0 61 (dk_at dksX7_next_4 0 rfl rfl)
theorem dX7_next_97 : decode cX7_next 97 = .ok (.aload_n 0, 1) := dk_42 (dk_at dksX7_next_4 3 rfl rfl)
theorem dX7_next_98 : decode cX7_next 98 = .ok (.iconst 0, 1) := dk_3 (dk_at dksX7_next_4 4 rfl rfl)
theorem dX7_next_99 : decode cX7_next 99 = .ok (.putfield 51, 3) := dk_181 0 51 (dk_at dksX7_next_4 5 rfl rfl)
theorem dX7_next_102 : decode cX7_next 102 = .ok (.aload_n 0, 1) := dk_42 (dk_at dksX7_next_4 8 rfl rfl)
theorem dX7_next_103 : decode cX7_next 103 = .ok (.invokevirtual 48, 3) := dk_182 0 48 (dk_at dksX7_next_4 9 rfl rfl)
theorem dX7_next_106 : decode cX7_next 106 = .ok (.ifCond .eq 41, 3) := dk_153 0 41 (dk_at dksX7_next_4 12 rfl rfl)
theorem dX7_next_109 : decode cX7_next 109 = .ok (.aload_n 0, 1) := dk_42 (dk_at dksX7_next_4 15 rfl rfl)
theorem dX7_next_110 : decode cX7_next 110 = .ok (.sipush 10000, 3) := dk_17 39 16 (dk_at dksX7_next_4 16 rfl rfl)
theorem dX7_next_113 : decode cX7_next 113 = .ok (.bipush 10, 2) := dk_16 10 (dk_at dksX7_next_4 19 rfl rfl)
theorem dX7_next_115 : decode cX7_next 115 = .ok (.aload_n 0, 1) := dk_42 (dk_at dksX7_next_4 21 rfl rfl)
theorem dX7_next_116 : decode cX7_next 116 = .ok (.getfield 51, 3) := dk_180 0 51 (dk_at dksX7_next_5 0 rfl rfl)
theorem dX7_next_119 : decode cX7_next 119 = .ok (.imul, 1) := dk_104 (dk_at dksX7_next_5 3 rfl rfl)
theorem dX7_next_120 : decode cX7_next 120 = .ok (.aload_n 0, 1) := dk_42 (dk_at dksX7_next_5 4 rfl rfl)
theorem dX7_next_121 : decode cX7_next 121 = .ok (.invokevirtual 30, 3) := dk_182 0 30 (dk_at dksX7_next_5 5 rfl rfl)
theorem dX7_next_124 : decode cX7_next 124 = .ok (.iadd, 1) := dk_96 (dk_at dksX7_next_5 8 rfl rfl)
theorem dX7_next_125 : decode cX7_next 125 = .ok (.bipush 48, 2) := dk_16 48 (dk_at dksX7_next_5 9 rfl rfl)
theorem dX7_next_127 : decode cX7_next 127 = .ok (.isub, 1) := dk_100 (dk_at dksX7_next_5 11 rfl rfl)
theorem dX7_next_128 : decode cX7_next 128 = .ok (.invokestatic 54, 3) := dk_184 0 54 (dk_at dksX7_next_5 12 rfl rfl)
theorem dX7_next_131 : decode cX7_next 131 = .ok (.putfield 51, 3) := dk_181 0 51 (dk_at dksX7_next_5 15 rfl rfl)
theorem dX7_next_134 : decode cX7_next 134 = .ok (.aload_n 0, 1) := dk_42 (dk_at dksX7_next_5 18 rfl rfl)
theorem dX7_next_135 : decode cX7_next 135 = .ok (.dup, 1) := dk_89 (dk_at dksX7_next_5 19 rfl rfl)
theorem dX7_next_136 : decode cX7_next 136 = .ok (.getfield 23, 3) := dk_180 0 23 (dk_at dksX7_next_5 20 rfl rfl)
theorem dX7_next_139 : decode cX7_next 139 = .ok (.iconst 1, 1) := dk_4 (dk_at dksX7_next_5 23 rfl rfl)
theorem dX7_next_140 : decode cX7_next 140 = .ok (.iadd, 1) := dk_96 (dk_at dksX7_next_6 0 rfl rfl)
theorem dX7_next_141 : decode cX7_next 141 = .ok (.putfield 23, 3) := dk_181 0 23 (dk_at dksX7_next_6 1 rfl rfl)
theorem dX7_next_144 : decode cX7_next 144 = .ok (.goto (-42), 3) := dk_167 255 214 (dk_at dksX7_next_6 4 rfl rfl)
theorem dX7_next_147 : decode cX7_next 147 = .ok (.aload_n 0, 1) := dk_42 (dk_at dksX7_next_6 7 rfl rfl)
theorem dX7_next_148 : decode cX7_next 148 = .ok (.iconst 2, 1) := dk_5 (dk_at dksX7_next_6 8 rfl rfl)
theorem dX7_next_149 : decode cX7_next 149 = .ok (.putfield 41, 3) := dk_181 0 41 (dk_at dksX7_next_6 9 rfl rfl)
theorem dX7_next_152 : decode cX7_next 152 = .ok (.goto 31, 3) := dk_167 0 31 (dk_at dksX7_next_6 12 rfl rfl)
theorem dX7_next_155 : decode cX7_next 155 = .ok (.aload_n 0, 1) := dk_42 (dk_at dksX7_next_6 15 rfl rfl)
theorem dX7_next_156 : decode cX7_next 156 = .ok (.aload_n 0, 1) := dk_42 (dk_at dksX7_next_6 16 rfl rfl)
theorem dX7_next_157 : decode cX7_next 157 = .ok (.invokevirtual 30, 3) := dk_182 0 30 (dk_at dksX7_next_6 17 rfl rfl)
theorem dX7_next_160 : decode cX7_next 160 = .ok (.bipush 59, 2) := dk_16 59 (dk_at dksX7_next_6 20 rfl rfl)
theorem dX7_next_162 : decode cX7_next 162 = .ok (.if_icmp .ne 7, 3) := dk_160 0 7 (dk_at dksX7_next_7 0 rfl rfl)
theorem dX7_next_165 : decode cX7_next 165 = .ok (.iconst 3, 1) := dk_6 (dk_at dksX7_next_7 3 rfl rfl)
theorem dX7_next_166 : decode cX7_next 166 = .ok (.goto 4, 3) := dk_167 0 4 (dk_at dksX7_next_7 4 rfl rfl)
theorem dX7_next_169 : decode cX7_next 169 = .ok (.iconst 4, 1) := dk_7 (dk_at dksX7_next_7 7 rfl rfl)
theorem dX7_next_170 : decode cX7_next 170 = .ok (.putfield 41, 3) := dk_181 0 41 (dk_at dksX7_next_7 8 rfl rfl)
theorem dX7_next_173 : decode cX7_next 173 = .ok (.aload_n 0, 1) := dk_42 (dk_at dksX7_next_7 11 rfl rfl)
theorem dX7_next_174 : decode cX7_next 174 = .ok (.dup, 1) := dk_89 (dk_at dksX7_next_7 12 rfl rfl)
theorem dX7_next_175 : decode cX7_next 175 = .ok (.getfield 23, 3) := dk_180 0 23 (dk_at dksX7_next_7 13 rfl rfl)
theorem dX7_next_178 : decode cX7_next 178 = .ok (.iconst 1, 1) := dk_4 (dk_at dksX7_next_7 16 rfl rfl)
theorem dX7_next_179 : decode cX7_next 179 = .ok (.iadd, 1) := dk_96 (dk_at dksX7_next_7 17 rfl rfl)
theorem dX7_next_180 : decode cX7_next 180 = .ok (.putfield 23, 3) := dk_181 0 23 (dk_at dksX7_next_7 18 rfl rfl)
theorem dX7_next_183 : decode cX7_next 183 = .ok (.aload_n 0, 1) := dk_42 (dk_at dksX7_next_7 21 rfl rfl)
theorem dX7_next_184 : decode cX7_next 184 = .ok (.aload_n 0, 1) := dk_42 (dk_at dksX7_next_7 22 rfl rfl)
theorem dX7_next_185 : decode cX7_next 185 = .ok (.getfield 23, 3) := dk_180 0 23 (dk_at dksX7_next_8 0 rfl rfl)
theorem dX7_next_188 : decode cX7_next 188 = .ok (.putfield 60, 3) := dk_181 0 60 (dk_at dksX7_next_8 3 rfl rfl)
theorem dX7_next_191 : decode cX7_next 191 = .ok (.return_, 1) := dk_177 (dk_at dksX7_next_8 6 rfl rfl)
abbrev cX7_here : ByteArray := prog_8_method_2_code
def yX7_here : MethodName := ⟨RX7, "here", "()I"⟩
def dkwX7_here_1 : List UInt8 := [17, 0, 255, 126, 167, 0, 4, 2, 172]
abbrev dktX7_here_1 : List UInt8 := dkwX7_here_1 ++ []
def dkwX7_here_0 : List UInt8 := [42, 180, 0, 23, 42, 180, 0, 19, 162, 0, 22, 42, 180, 0, 3, 180, 0, 26, 42, 180, 0, 23, 51]
abbrev dktX7_here_0 : List UInt8 := dkwX7_here_0 ++ dktX7_here_1
theorem dksX7_here_0 : cX7_here.data.toList.drop 0 = dktX7_here_0 := by decide +kernel
theorem dksX7_here_1 : cX7_here.data.toList.drop 23 = dktX7_here_1 := dk_seg dksX7_here_0 23 rfl rfl
theorem dX7_here_0 : decode cX7_here 0 = .ok (.aload_n 0, 1) := dk_42 (dk_at dksX7_here_0 0 rfl rfl)
theorem dX7_here_1 : decode cX7_here 1 = .ok (.getfield 23, 3) := dk_180 0 23 (dk_at dksX7_here_0 1 rfl rfl)
theorem dX7_here_4 : decode cX7_here 4 = .ok (.aload_n 0, 1) := dk_42 (dk_at dksX7_here_0 4 rfl rfl)
theorem dX7_here_5 : decode cX7_here 5 = .ok (.getfield 19, 3) := dk_180 0 19 (dk_at dksX7_here_0 5 rfl rfl)
theorem dX7_here_8 : decode cX7_here 8 = .ok (.if_icmp .ge 22, 3) := dk_162 0 22 (dk_at dksX7_here_0 8 rfl rfl)
theorem dX7_here_11 : decode cX7_here 11 = .ok (.aload_n 0, 1) := dk_42 (dk_at dksX7_here_0 11 rfl rfl)
theorem dX7_here_12 : decode cX7_here 12 = .ok (.getfield 3, 3) := dk_180 0 3 (dk_at dksX7_here_0 12 rfl rfl)
theorem dX7_here_15 : decode cX7_here 15 = .ok (.getfield 26, 3) := dk_180 0 26 (dk_at dksX7_here_0 15 rfl rfl)
theorem dX7_here_18 : decode cX7_here 18 = .ok (.aload_n 0, 1) := dk_42 (dk_at dksX7_here_0 18 rfl rfl)
theorem dX7_here_19 : decode cX7_here 19 = .ok (.getfield 23, 3) := dk_180 0 23 (dk_at dksX7_here_0 19 rfl rfl)
theorem dX7_here_22 : decode cX7_here 22 = .ok (.baload, 1) := dk_51 (dk_at dksX7_here_0 22 rfl rfl)
theorem dX7_here_23 : decode cX7_here 23 = .ok (.sipush 255, 3) := dk_17 0 255 (dk_at dksX7_here_1 0 rfl rfl)
theorem dX7_here_26 : decode cX7_here 26 = .ok (.iand, 1) := dk_126 (dk_at dksX7_here_1 3 rfl rfl)
theorem dX7_here_27 : decode cX7_here 27 = .ok (.goto 4, 3) := dk_167 0 4 (dk_at dksX7_here_1 4 rfl rfl)
theorem dX7_here_30 : decode cX7_here 30 = .ok (.iconst (-1), 1) := dk_2 (dk_at dksX7_here_1 7 rfl rfl)
theorem dX7_here_31 : decode cX7_here 31 = .ok (.ireturn, 1) := dk_172 (dk_at dksX7_here_1 8 rfl rfl)
abbrev cX7_isLetter : ByteArray := prog_8_method_3_code
def yX7_isLetter : MethodName := ⟨RX7, "isLetter", "()Z"⟩
def dkwX7_isLetter_0 : List UInt8 := [42, 182, 0, 30, 16, 97, 16, 122, 184, 0, 34, 172]
abbrev dktX7_isLetter_0 : List UInt8 := dkwX7_isLetter_0 ++ []
theorem dksX7_isLetter_0 : cX7_isLetter.data.toList.drop 0 = dktX7_isLetter_0 := by decide +kernel
theorem dX7_isLetter_0 : decode cX7_isLetter 0 = .ok (.aload_n 0, 1) := dk_42 (dk_at dksX7_isLetter_0 0 rfl rfl)
theorem dX7_isLetter_1 : decode cX7_isLetter 1 = .ok (.invokevirtual 30, 3) := dk_182 0 30 (dk_at dksX7_isLetter_0 1 rfl rfl)
theorem dX7_isLetter_4 : decode cX7_isLetter 4 = .ok (.bipush 97, 2) := dk_16 97 (dk_at dksX7_isLetter_0 4 rfl rfl)
theorem dX7_isLetter_6 : decode cX7_isLetter 6 = .ok (.bipush 122, 2) := dk_16 122 (dk_at dksX7_isLetter_0 6 rfl rfl)
theorem dX7_isLetter_8 : decode cX7_isLetter 8 = .ok (.invokestatic 34, 3) := dk_184 0 34 (dk_at dksX7_isLetter_0 8 rfl rfl)
theorem dX7_isLetter_11 : decode cX7_isLetter 11 = .ok (.ireturn, 1) := dk_172 (dk_at dksX7_isLetter_0 11 rfl rfl)
abbrev cX7_isDigit : ByteArray := prog_8_method_4_code
def yX7_isDigit : MethodName := ⟨RX7, "isDigit", "()Z"⟩
def dkwX7_isDigit_0 : List UInt8 := [42, 182, 0, 30, 16, 48, 16, 57, 184, 0, 34, 172]
abbrev dktX7_isDigit_0 : List UInt8 := dkwX7_isDigit_0 ++ []
theorem dksX7_isDigit_0 : cX7_isDigit.data.toList.drop 0 = dktX7_isDigit_0 := by decide +kernel
theorem dX7_isDigit_0 : decode cX7_isDigit 0 = .ok (.aload_n 0, 1) := dk_42 (dk_at dksX7_isDigit_0 0 rfl rfl)
theorem dX7_isDigit_1 : decode cX7_isDigit 1 = .ok (.invokevirtual 30, 3) := dk_182 0 30 (dk_at dksX7_isDigit_0 1 rfl rfl)
theorem dX7_isDigit_4 : decode cX7_isDigit 4 = .ok (.bipush 48, 2) := dk_16 48 (dk_at dksX7_isDigit_0 4 rfl rfl)
theorem dX7_isDigit_6 : decode cX7_isDigit 6 = .ok (.bipush 57, 2) := dk_16 57 (dk_at dksX7_isDigit_0 6 rfl rfl)
theorem dX7_isDigit_8 : decode cX7_isDigit 8 = .ok (.invokestatic 34, 3) := dk_184 0 34 (dk_at dksX7_isDigit_0 8 rfl rfl)
theorem dX7_isDigit_11 : decode cX7_isDigit 11 = .ok (.ireturn, 1) := dk_172 (dk_at dksX7_isDigit_0 11 rfl rfl)
abbrev cX7_word : ByteArray := prog_8_method_8_code
def yX7_word : MethodName := ⟨RX7, "word", "(Ljava/lang/String;)V"⟩
def dkwX7_word_0 : List UInt8 := [42, 42, 43, 182, 0, 77, 4, 182, 0, 81, 42, 182, 0, 85, 177]
abbrev dktX7_word_0 : List UInt8 := dkwX7_word_0 ++ []
theorem dksX7_word_0 : cX7_word.data.toList.drop 0 = dktX7_word_0 := by decide +kernel
theorem dX7_word_0 : decode cX7_word 0 = .ok (.aload_n 0, 1) := dk_42 (dk_at dksX7_word_0 0 rfl rfl)
theorem dX7_word_1 : decode cX7_word 1 = .ok (.aload_n 0, 1) := dk_42 (dk_at dksX7_word_0 1 rfl rfl)
theorem dX7_word_2 : decode cX7_word 2 = .ok (.aload_n 1, 1) := dk_43 (dk_at dksX7_word_0 2 rfl rfl)
theorem dX7_word_3 : decode cX7_word 3 = .ok (.invokevirtual 77, 3) := dk_182 0 77 (dk_at dksX7_word_0 3 rfl rfl)
theorem dX7_word_6 : decode cX7_word 6 = .ok (.iconst 1, 1) := dk_4 (dk_at dksX7_word_0 6 rfl rfl)
theorem dX7_word_7 : decode cX7_word 7 = .ok (.invokevirtual 81, 3) := dk_182 0 81 (dk_at dksX7_word_0 7 rfl rfl)
theorem dX7_word_10 : decode cX7_word 10 = .ok (.aload_n 0, 1) := dk_42 (dk_at dksX7_word_0 10 rfl rfl)
theorem dX7_word_11 : decode cX7_word 11 = .ok (.invokevirtual 85, 3) := dk_182 0 85 (dk_at dksX7_word_0 11 rfl rfl)
theorem dX7_word_14 : decode cX7_word 14 = .ok (.return_, 1) := dk_177 (dk_at dksX7_word_0 14 rfl rfl)
abbrev cX7_is : ByteArray := prog_8_method_6_code
def yX7_is : MethodName := ⟨RX7, "is", "(Ljava/lang/String;)Z"⟩
def dkwX7_is_2 : List UInt8 := [42, 180, 0, 38, 28, 96, 51, 159, 0, 5, 3, 172, 132, 2, 1, 167, 255, 221, 4, 172]
abbrev dktX7_is_2 : List UInt8 := dkwX7_is_2 ++ []
def dkwX7_is_1 : List UInt8 := [3, 172, 3, 61, 28, 43, 182, 0, 63, 162, 0, 33, 43, 28, 182, 0, 68, 42, 180, 0, 3, 180, 0, 26]
abbrev dktX7_is_1 : List UInt8 := dkwX7_is_1 ++ dktX7_is_2
def dkwX7_is_0 : List UInt8 := [42, 180, 0, 41, 4, 160, 0, 19, 43, 182, 0, 63, 42, 180, 0, 60, 42, 180, 0, 38, 100, 159, 0, 5]
abbrev dktX7_is_0 : List UInt8 := dkwX7_is_0 ++ dktX7_is_1
theorem dksX7_is_0 : cX7_is.data.toList.drop 0 = dktX7_is_0 := by decide +kernel
theorem dksX7_is_1 : cX7_is.data.toList.drop 24 = dktX7_is_1 := dk_seg dksX7_is_0 24 rfl rfl
theorem dksX7_is_2 : cX7_is.data.toList.drop 48 = dktX7_is_2 := dk_seg dksX7_is_1 24 rfl rfl
theorem dX7_is_0 : decode cX7_is 0 = .ok (.aload_n 0, 1) := dk_42 (dk_at dksX7_is_0 0 rfl rfl)
theorem dX7_is_1 : decode cX7_is 1 = .ok (.getfield 41, 3) := dk_180 0 41 (dk_at dksX7_is_0 1 rfl rfl)
theorem dX7_is_4 : decode cX7_is 4 = .ok (.iconst 1, 1) := dk_4 (dk_at dksX7_is_0 4 rfl rfl)
theorem dX7_is_5 : decode cX7_is 5 = .ok (.if_icmp .ne 19, 3) := dk_160 0 19 (dk_at dksX7_is_0 5 rfl rfl)
theorem dX7_is_8 : decode cX7_is 8 = .ok (.aload_n 1, 1) := dk_43 (dk_at dksX7_is_0 8 rfl rfl)
theorem dX7_is_9 : decode cX7_is 9 = .ok (.invokevirtual 63, 3) := dk_182 0 63 (dk_at dksX7_is_0 9 rfl rfl)
theorem dX7_is_12 : decode cX7_is 12 = .ok (.aload_n 0, 1) := dk_42 (dk_at dksX7_is_0 12 rfl rfl)
theorem dX7_is_13 : decode cX7_is 13 = .ok (.getfield 60, 3) := dk_180 0 60 (dk_at dksX7_is_0 13 rfl rfl)
theorem dX7_is_16 : decode cX7_is 16 = .ok (.aload_n 0, 1) := dk_42 (dk_at dksX7_is_0 16 rfl rfl)
theorem dX7_is_17 : decode cX7_is 17 = .ok (.getfield 38, 3) := dk_180 0 38 (dk_at dksX7_is_0 17 rfl rfl)
theorem dX7_is_20 : decode cX7_is 20 = .ok (.isub, 1) := dk_100 (dk_at dksX7_is_0 20 rfl rfl)
theorem dX7_is_21 : decode cX7_is 21 = .ok (.if_icmp .eq 5, 3) := dk_159 0 5 (dk_at dksX7_is_0 21 rfl rfl)
theorem dX7_is_24 : decode cX7_is 24 = .ok (.iconst 0, 1) := dk_3 (dk_at dksX7_is_1 0 rfl rfl)
theorem dX7_is_25 : decode cX7_is 25 = .ok (.ireturn, 1) := dk_172 (dk_at dksX7_is_1 1 rfl rfl)
theorem dX7_is_26 : decode cX7_is 26 = .ok (.iconst 0, 1) := dk_3 (dk_at dksX7_is_1 2 rfl rfl)
theorem dX7_is_27 : decode cX7_is 27 = .ok (.istore_n 2, 1) := dk_61 (dk_at dksX7_is_1 3 rfl rfl)
theorem dX7_is_28 : decode cX7_is 28 = .ok (.iload_n 2, 1) := dk_28 (dk_at dksX7_is_1 4 rfl rfl)
theorem dX7_is_29 : decode cX7_is 29 = .ok (.aload_n 1, 1) := dk_43 (dk_at dksX7_is_1 5 rfl rfl)
theorem dX7_is_30 : decode cX7_is 30 = .ok (.invokevirtual 63, 3) := dk_182 0 63 (dk_at dksX7_is_1 6 rfl rfl)
theorem dX7_is_33 : decode cX7_is 33 = .ok (.if_icmp .ge 33, 3) := dk_162 0 33 (dk_at dksX7_is_1 9 rfl rfl)
theorem dX7_is_36 : decode cX7_is 36 = .ok (.aload_n 1, 1) := dk_43 (dk_at dksX7_is_1 12 rfl rfl)
theorem dX7_is_37 : decode cX7_is 37 = .ok (.iload_n 2, 1) := dk_28 (dk_at dksX7_is_1 13 rfl rfl)
theorem dX7_is_38 : decode cX7_is 38 = .ok (.invokevirtual 68, 3) := dk_182 0 68 (dk_at dksX7_is_1 14 rfl rfl)
theorem dX7_is_41 : decode cX7_is 41 = .ok (.aload_n 0, 1) := dk_42 (dk_at dksX7_is_1 17 rfl rfl)
theorem dX7_is_42 : decode cX7_is 42 = .ok (.getfield 3, 3) := dk_180 0 3 (dk_at dksX7_is_1 18 rfl rfl)
theorem dX7_is_45 : decode cX7_is 45 = .ok (.getfield 26, 3) := dk_180 0 26 (dk_at dksX7_is_1 21 rfl rfl)
theorem dX7_is_48 : decode cX7_is 48 = .ok (.aload_n 0, 1) := dk_42 (dk_at dksX7_is_2 0 rfl rfl)
theorem dX7_is_49 : decode cX7_is 49 = .ok (.getfield 38, 3) := dk_180 0 38 (dk_at dksX7_is_2 1 rfl rfl)
theorem dX7_is_52 : decode cX7_is 52 = .ok (.iload_n 2, 1) := dk_28 (dk_at dksX7_is_2 4 rfl rfl)
theorem dX7_is_53 : decode cX7_is 53 = .ok (.iadd, 1) := dk_96 (dk_at dksX7_is_2 5 rfl rfl)
theorem dX7_is_54 : decode cX7_is 54 = .ok (.baload, 1) := dk_51 (dk_at dksX7_is_2 6 rfl rfl)
theorem dX7_is_55 : decode cX7_is 55 = .ok (.if_icmp .eq 5, 3) := dk_159 0 5 (dk_at dksX7_is_2 7 rfl rfl)
theorem dX7_is_58 : decode cX7_is 58 = .ok (.iconst 0, 1) := dk_3 (dk_at dksX7_is_2 10 rfl rfl)
theorem dX7_is_59 : decode cX7_is 59 = .ok (.ireturn, 1) := dk_172 (dk_at dksX7_is_2 11 rfl rfl)
theorem dX7_is_60 : decode cX7_is 60 = .ok (.iinc 2 1, 3) := dk_132 2 1 (dk_at dksX7_is_2 12 rfl rfl)
theorem dX7_is_63 : decode cX7_is 63 = .ok (.goto (-35), 3) := dk_167 255 221 (dk_at dksX7_is_2 15 rfl rfl)
theorem dX7_is_66 : decode cX7_is 66 = .ok (.iconst 1, 1) := dk_4 (dk_at dksX7_is_2 18 rfl rfl)
theorem dX7_is_67 : decode cX7_is 67 = .ok (.ireturn, 1) := dk_172 (dk_at dksX7_is_2 19 rfl rfl)
abbrev cX7_want : ByteArray := prog_8_method_7_code
def yX7_want : MethodName := ⟨RX7, "want", "(ZI)V"⟩
def dkwX7_want_0 : List UInt8 := [27, 154, 0, 12, 187, 0, 72, 89, 28, 183, 0, 74, 191, 177]
abbrev dktX7_want_0 : List UInt8 := dkwX7_want_0 ++ []
theorem dksX7_want_0 : cX7_want.data.toList.drop 0 = dktX7_want_0 := by decide +kernel
theorem dX7_want_0 : decode cX7_want 0 = .ok (.iload_n 1, 1) := dk_27 (dk_at dksX7_want_0 0 rfl rfl)
theorem dX7_want_1 : decode cX7_want 1 = .ok (.ifCond .ne 12, 3) := dk_154 0 12 (dk_at dksX7_want_0 1 rfl rfl)
theorem dX7_want_4 : decode cX7_want 4 = .ok (.new 72, 3) := dk_187 0 72 (dk_at dksX7_want_0 4 rfl rfl)
theorem dX7_want_7 : decode cX7_want 7 = .ok (.dup, 1) := dk_89 (dk_at dksX7_want_0 7 rfl rfl)
theorem dX7_want_8 : decode cX7_want 8 = .ok (.iload_n 2, 1) := dk_28 (dk_at dksX7_want_0 8 rfl rfl)
theorem dX7_want_9 : decode cX7_want 9 = .ok (.invokespecial 74, 3) := dk_183 0 74 (dk_at dksX7_want_0 9 rfl rfl)
theorem dX7_want_12 : decode cX7_want 12 = .ok (.athrow, 1) := dk_191 (dk_at dksX7_want_0 12 rfl rfl)
theorem dX7_want_13 : decode cX7_want 13 = .ok (.return_, 1) := dk_177 (dk_at dksX7_want_0 13 rfl rfl)
abbrev cX7_number : ByteArray := prog_8_method_9_code
def yX7_number : MethodName := ⟨RX7, "number", "(II)I"⟩
def dkwX7_number_2 : List UInt8 := [4, 167, 0, 4, 3, 5, 182, 0, 81, 42, 180, 0, 51, 62, 42, 182, 0, 85, 29, 172]
abbrev dktX7_number_2 : List UInt8 := dkwX7_number_2 ++ []
def dkwX7_number_1 : List UInt8 := [180, 0, 38, 100, 6, 163, 0, 23, 42, 180, 0, 51, 27, 161, 0, 15, 42, 180, 0, 51, 28, 163, 0, 7]
abbrev dktX7_number_1 : List UInt8 := dkwX7_number_1 ++ dktX7_number_2
def dkwX7_number_0 : List UInt8 := [42, 42, 180, 0, 41, 5, 160, 0, 7, 4, 167, 0, 4, 3, 4, 182, 0, 81, 42, 42, 180, 0, 60, 42]
abbrev dktX7_number_0 : List UInt8 := dkwX7_number_0 ++ dktX7_number_1
theorem dksX7_number_0 : cX7_number.data.toList.drop 0 = dktX7_number_0 := by decide +kernel
theorem dksX7_number_1 : cX7_number.data.toList.drop 24 = dktX7_number_1 := dk_seg dksX7_number_0 24 rfl rfl
theorem dksX7_number_2 : cX7_number.data.toList.drop 48 = dktX7_number_2 := dk_seg dksX7_number_1 24 rfl rfl
theorem dX7_number_0 : decode cX7_number 0 = .ok (.aload_n 0, 1) := dk_42 (dk_at dksX7_number_0 0 rfl rfl)
theorem dX7_number_1 : decode cX7_number 1 = .ok (.aload_n 0, 1) := dk_42 (dk_at dksX7_number_0 1 rfl rfl)
theorem dX7_number_2 : decode cX7_number 2 = .ok (.getfield 41, 3) := dk_180 0 41 (dk_at dksX7_number_0 2 rfl rfl)
theorem dX7_number_5 : decode cX7_number 5 = .ok (.iconst 2, 1) := dk_5 (dk_at dksX7_number_0 5 rfl rfl)
theorem dX7_number_6 : decode cX7_number 6 = .ok (.if_icmp .ne 7, 3) := dk_160 0 7 (dk_at dksX7_number_0 6 rfl rfl)
theorem dX7_number_9 : decode cX7_number 9 = .ok (.iconst 1, 1) := dk_4 (dk_at dksX7_number_0 9 rfl rfl)
theorem dX7_number_10 : decode cX7_number 10 = .ok (.goto 4, 3) := dk_167 0 4 (dk_at dksX7_number_0 10 rfl rfl)
theorem dX7_number_13 : decode cX7_number 13 = .ok (.iconst 0, 1) := dk_3 (dk_at dksX7_number_0 13 rfl rfl)
theorem dX7_number_14 : decode cX7_number 14 = .ok (.iconst 1, 1) := dk_4 (dk_at dksX7_number_0 14 rfl rfl)
theorem dX7_number_15 : decode cX7_number 15 = .ok (.invokevirtual 81, 3) := dk_182 0 81 (dk_at dksX7_number_0 15 rfl rfl)
theorem dX7_number_18 : decode cX7_number 18 = .ok (.aload_n 0, 1) := dk_42 (dk_at dksX7_number_0 18 rfl rfl)
theorem dX7_number_19 : decode cX7_number 19 = .ok (.aload_n 0, 1) := dk_42 (dk_at dksX7_number_0 19 rfl rfl)
theorem dX7_number_20 : decode cX7_number 20 = .ok (.getfield 60, 3) := dk_180 0 60 (dk_at dksX7_number_0 20 rfl rfl)
theorem dX7_number_23 : decode cX7_number 23 = .ok (.aload_n 0, 1) := dk_42 (dk_at dksX7_number_0 23 rfl rfl)
theorem dX7_number_24 : decode cX7_number 24 = .ok (.getfield 38, 3) := dk_180 0 38 (dk_at dksX7_number_1 0 rfl rfl)
theorem dX7_number_27 : decode cX7_number 27 = .ok (.isub, 1) := dk_100 (dk_at dksX7_number_1 3 rfl rfl)
theorem dX7_number_28 : decode cX7_number 28 = .ok (.iconst 3, 1) := dk_6 (dk_at dksX7_number_1 4 rfl rfl)
theorem dX7_number_29 : decode cX7_number 29 = .ok (.if_icmp .gt 23, 3) := dk_163 0 23 (dk_at dksX7_number_1 5 rfl rfl)
theorem dX7_number_32 : decode cX7_number 32 = .ok (.aload_n 0, 1) := dk_42 (dk_at dksX7_number_1 8 rfl rfl)
theorem dX7_number_33 : decode cX7_number 33 = .ok (.getfield 51, 3) := dk_180 0 51 (dk_at dksX7_number_1 9 rfl rfl)
theorem dX7_number_36 : decode cX7_number 36 = .ok (.iload_n 1, 1) := dk_27 (dk_at dksX7_number_1 12 rfl rfl)
theorem dX7_number_37 : decode cX7_number 37 = .ok (.if_icmp .lt 15, 3) := dk_161 0 15 (dk_at dksX7_number_1 13 rfl rfl)
theorem dX7_number_40 : decode cX7_number 40 = .ok (.aload_n 0, 1) := dk_42 (dk_at dksX7_number_1 16 rfl rfl)
theorem dX7_number_41 : decode cX7_number 41 = .ok (.getfield 51, 3) := dk_180 0 51 (dk_at dksX7_number_1 17 rfl rfl)
theorem dX7_number_44 : decode cX7_number 44 = .ok (.iload_n 2, 1) := dk_28 (dk_at dksX7_number_1 20 rfl rfl)
theorem dX7_number_45 : decode cX7_number 45 = .ok (.if_icmp .gt 7, 3) := dk_163 0 7 (dk_at dksX7_number_1 21 rfl rfl)
theorem dX7_number_48 : decode cX7_number 48 = .ok (.iconst 1, 1) := dk_4 (dk_at dksX7_number_2 0 rfl rfl)
theorem dX7_number_49 : decode cX7_number 49 = .ok (.goto 4, 3) := dk_167 0 4 (dk_at dksX7_number_2 1 rfl rfl)
theorem dX7_number_52 : decode cX7_number 52 = .ok (.iconst 0, 1) := dk_3 (dk_at dksX7_number_2 4 rfl rfl)
theorem dX7_number_53 : decode cX7_number 53 = .ok (.iconst 2, 1) := dk_5 (dk_at dksX7_number_2 5 rfl rfl)
theorem dX7_number_54 : decode cX7_number 54 = .ok (.invokevirtual 81, 3) := dk_182 0 81 (dk_at dksX7_number_2 6 rfl rfl)
theorem dX7_number_57 : decode cX7_number 57 = .ok (.aload_n 0, 1) := dk_42 (dk_at dksX7_number_2 9 rfl rfl)
theorem dX7_number_58 : decode cX7_number 58 = .ok (.getfield 51, 3) := dk_180 0 51 (dk_at dksX7_number_2 10 rfl rfl)
theorem dX7_number_61 : decode cX7_number 61 = .ok (.istore_n 3, 1) := dk_62 (dk_at dksX7_number_2 13 rfl rfl)
theorem dX7_number_62 : decode cX7_number 62 = .ok (.aload_n 0, 1) := dk_42 (dk_at dksX7_number_2 14 rfl rfl)
theorem dX7_number_63 : decode cX7_number 63 = .ok (.invokevirtual 85, 3) := dk_182 0 85 (dk_at dksX7_number_2 15 rfl rfl)
theorem dX7_number_66 : decode cX7_number 66 = .ok (.iload_n 3, 1) := dk_29 (dk_at dksX7_number_2 18 rfl rfl)
theorem dX7_number_67 : decode cX7_number 67 = .ok (.ireturn, 1) := dk_172 (dk_at dksX7_number_2 19 rfl rfl)
abbrev cX7_semi : ByteArray := prog_8_method_10_code
def yX7_semi : MethodName := ⟨RX7, "semi", "()V"⟩
def dkwX7_semi_0 : List UInt8 := [42, 42, 180, 0, 41, 6, 160, 0, 7, 4, 167, 0, 4, 3, 4, 182, 0, 81, 42, 182, 0, 85, 177]
abbrev dktX7_semi_0 : List UInt8 := dkwX7_semi_0 ++ []
theorem dksX7_semi_0 : cX7_semi.data.toList.drop 0 = dktX7_semi_0 := by decide +kernel
theorem dX7_semi_0 : decode cX7_semi 0 = .ok (.aload_n 0, 1) := dk_42 (dk_at dksX7_semi_0 0 rfl rfl)
theorem dX7_semi_1 : decode cX7_semi 1 = .ok (.aload_n 0, 1) := dk_42 (dk_at dksX7_semi_0 1 rfl rfl)
theorem dX7_semi_2 : decode cX7_semi 2 = .ok (.getfield 41, 3) := dk_180 0 41 (dk_at dksX7_semi_0 2 rfl rfl)
theorem dX7_semi_5 : decode cX7_semi 5 = .ok (.iconst 3, 1) := dk_6 (dk_at dksX7_semi_0 5 rfl rfl)
theorem dX7_semi_6 : decode cX7_semi 6 = .ok (.if_icmp .ne 7, 3) := dk_160 0 7 (dk_at dksX7_semi_0 6 rfl rfl)
theorem dX7_semi_9 : decode cX7_semi 9 = .ok (.iconst 1, 1) := dk_4 (dk_at dksX7_semi_0 9 rfl rfl)
theorem dX7_semi_10 : decode cX7_semi 10 = .ok (.goto 4, 3) := dk_167 0 4 (dk_at dksX7_semi_0 10 rfl rfl)
theorem dX7_semi_13 : decode cX7_semi 13 = .ok (.iconst 0, 1) := dk_3 (dk_at dksX7_semi_0 13 rfl rfl)
theorem dX7_semi_14 : decode cX7_semi 14 = .ok (.iconst 1, 1) := dk_4 (dk_at dksX7_semi_0 14 rfl rfl)
theorem dX7_semi_15 : decode cX7_semi 15 = .ok (.invokevirtual 81, 3) := dk_182 0 81 (dk_at dksX7_semi_0 15 rfl rfl)
theorem dX7_semi_18 : decode cX7_semi 18 = .ok (.aload_n 0, 1) := dk_42 (dk_at dksX7_semi_0 18 rfl rfl)
theorem dX7_semi_19 : decode cX7_semi 19 = .ok (.invokevirtual 85, 3) := dk_182 0 85 (dk_at dksX7_semi_0 19 rfl rfl)
theorem dX7_semi_22 : decode cX7_semi 22 = .ok (.return_, 1) := dk_177 (dk_at dksX7_semi_0 22 rfl rfl)
abbrev cX7_clause : ByteArray := prog_8_method_13_code
def yX7_clause : MethodName := ⟨RX7, "clause", "()V"⟩
def dkwX7_clause_16 : List UInt8 := [182, 0, 85, 177]
abbrev dktX7_clause_16 : List UInt8 := dkwX7_clause_16 ++ []
def dkwX7_clause_15 : List UInt8 := [180, 0, 15, 21, 6, 46, 182, 0, 130, 132, 7, 1, 167, 255, 228, 132, 6, 1, 167, 255, 206, 42]
abbrev dktX7_clause_15 : List UInt8 := dkwX7_clause_15 ++ dktX7_clause_16
def dkwX7_clause_14 : List UInt8 := [153, 0, 43, 3, 54, 7, 21, 7, 21, 6, 162, 0, 27, 42, 42, 180, 0, 15, 21, 7, 46, 42]
abbrev dktX7_clause_14 : List UInt8 := dkwX7_clause_14 ++ dktX7_clause_15
def dkwX7_clause_13 : List UInt8 := [46, 182, 0, 130, 132, 6, 1, 167, 255, 222, 4, 54, 6, 21, 6, 42, 180, 0, 88, 162, 0, 47, 29]
abbrev dktX7_clause_13 : List UInt8 := dkwX7_clause_13 ++ dktX7_clause_14
def dkwX7_clause_12 : List UInt8 := [180, 0, 88, 162, 0, 31, 21, 4, 153, 0, 26, 42, 42, 180, 0, 15, 3, 46, 42, 180, 0, 15, 21, 6]
abbrev dktX7_clause_12 : List UInt8 := dkwX7_clause_12 ++ dktX7_clause_13
def dkwX7_clause_11 : List UInt8 := [42, 180, 0, 88, 4, 100, 46, 42, 180, 0, 15, 3, 46, 182, 0, 130, 4, 54, 6, 21, 6, 42]
abbrev dktX7_clause_11 : List UInt8 := dkwX7_clause_11 ++ dktX7_clause_12
def dkwX7_clause_10 : List UInt8 := [180, 0, 15, 21, 6, 46, 182, 0, 130, 132, 6, 1, 167, 255, 216, 28, 153, 0, 24, 42, 42, 180, 0, 15]
abbrev dktX7_clause_10 : List UInt8 := dkwX7_clause_10 ++ dktX7_clause_11
def dkwX7_clause_9 : List UInt8 := [162, 0, 37, 27, 154, 0, 7, 28, 153, 0, 29, 42, 42, 180, 0, 15, 21, 6, 4, 100, 46, 42]
abbrev dktX7_clause_9 : List UInt8 := dkwX7_clause_9 ++ dktX7_clause_10
def dkwX7_clause_8 : List UInt8 := [180, 0, 15, 3, 46, 42, 180, 0, 15, 4, 46, 182, 0, 127, 4, 54, 6, 21, 6, 42, 180, 0, 88]
abbrev dktX7_clause_8 : List UInt8 := dkwX7_clause_8 ++ dktX7_clause_9
def dkwX7_clause_7 : List UInt8 := [180, 0, 15, 3, 46, 42, 180, 0, 15, 4, 46, 182, 0, 100, 8, 182, 0, 81, 42, 180, 0, 91, 42]
abbrev dktX7_clause_7 : List UInt8 := dkwX7_clause_7 ++ dktX7_clause_8
def dkwX7_clause_6 : List UInt8 := [160, 0, 7, 4, 167, 0, 4, 3, 4, 182, 0, 81, 21, 5, 153, 0, 46, 42, 42, 180, 0, 91, 42]
abbrev dktX7_clause_6 : List UInt8 := dkwX7_clause_6 ++ dktX7_clause_7
def dkwX7_clause_5 : List UInt8 := [5, 160, 0, 15, 21, 5, 154, 0, 10, 42, 182, 0, 124, 167, 255, 239, 42, 42, 180, 0, 41, 6]
abbrev dktX7_clause_5 : List UInt8 := dkwX7_clause_5 ++ dktX7_clause_6
def dkwX7_clause_4 : List UInt8 := [181, 0, 121, 42, 182, 0, 85, 42, 3, 181, 0, 88, 42, 182, 0, 124, 42, 182, 0, 124, 42, 180, 0, 41]
abbrev dktX7_clause_4 : List UInt8 := dkwX7_clause_4 ++ dktX7_clause_5
def dkwX7_clause_3 : List UInt8 := [180, 0, 121, 16, 20, 162, 0, 7, 4, 167, 0, 4, 3, 5, 182, 0, 81, 42, 89, 180, 0, 121, 4, 96]
abbrev dktX7_clause_3 : List UInt8 := dkwX7_clause_3 ++ dktX7_clause_4
def dkwX7_clause_2 : List UInt8 := [154, 0, 13, 21, 4, 154, 0, 8, 21, 5, 153, 0, 7, 4, 167, 0, 4, 3, 4, 182, 0, 81, 42, 42]
abbrev dktX7_clause_2 : List UInt8 := dkwX7_clause_2 ++ dktX7_clause_3
def dkwX7_clause_1 : List UInt8 := [182, 0, 77, 54, 4, 42, 18, 119, 182, 0, 77, 54, 5, 42, 27, 154, 0, 21, 28, 154, 0, 17, 29]
abbrev dktX7_clause_1 : List UInt8 := dkwX7_clause_1 ++ dktX7_clause_2
def dkwX7_clause_0 : List UInt8 := [42, 18, 111, 182, 0, 77, 60, 42, 18, 113, 182, 0, 77, 61, 42, 18, 115, 182, 0, 77, 62, 42, 18, 117]
abbrev dktX7_clause_0 : List UInt8 := dkwX7_clause_0 ++ dktX7_clause_1
theorem dksX7_clause_0 : cX7_clause.data.toList.drop 0 = dktX7_clause_0 := by decide +kernel
theorem dksX7_clause_1 : cX7_clause.data.toList.drop 24 = dktX7_clause_1 := dk_seg dksX7_clause_0 24 rfl rfl
theorem dksX7_clause_2 : cX7_clause.data.toList.drop 47 = dktX7_clause_2 := dk_seg dksX7_clause_1 23 rfl rfl
theorem dksX7_clause_3 : cX7_clause.data.toList.drop 71 = dktX7_clause_3 := dk_seg dksX7_clause_2 24 rfl rfl
theorem dksX7_clause_4 : cX7_clause.data.toList.drop 95 = dktX7_clause_4 := dk_seg dksX7_clause_3 24 rfl rfl
theorem dksX7_clause_5 : cX7_clause.data.toList.drop 119 = dktX7_clause_5 := dk_seg dksX7_clause_4 24 rfl rfl
theorem dksX7_clause_6 : cX7_clause.data.toList.drop 141 = dktX7_clause_6 := dk_seg dksX7_clause_5 22 rfl rfl
theorem dksX7_clause_7 : cX7_clause.data.toList.drop 164 = dktX7_clause_7 := dk_seg dksX7_clause_6 23 rfl rfl
theorem dksX7_clause_8 : cX7_clause.data.toList.drop 187 = dktX7_clause_8 := dk_seg dksX7_clause_7 23 rfl rfl
theorem dksX7_clause_9 : cX7_clause.data.toList.drop 210 = dktX7_clause_9 := dk_seg dksX7_clause_8 23 rfl rfl
theorem dksX7_clause_10 : cX7_clause.data.toList.drop 232 = dktX7_clause_10 := dk_seg dksX7_clause_9 22 rfl rfl
theorem dksX7_clause_11 : cX7_clause.data.toList.drop 256 = dktX7_clause_11 := dk_seg dksX7_clause_10 24 rfl rfl
theorem dksX7_clause_12 : cX7_clause.data.toList.drop 278 = dktX7_clause_12 := dk_seg dksX7_clause_11 22 rfl rfl
theorem dksX7_clause_13 : cX7_clause.data.toList.drop 302 = dktX7_clause_13 := dk_seg dksX7_clause_12 24 rfl rfl
theorem dksX7_clause_14 : cX7_clause.data.toList.drop 325 = dktX7_clause_14 := dk_seg dksX7_clause_13 23 rfl rfl
theorem dksX7_clause_15 : cX7_clause.data.toList.drop 347 = dktX7_clause_15 := dk_seg dksX7_clause_14 22 rfl rfl
theorem dksX7_clause_16 : cX7_clause.data.toList.drop 369 = dktX7_clause_16 := dk_seg dksX7_clause_15 22 rfl rfl
theorem dX7_clause_0 : decode cX7_clause 0 = .ok (.aload_n 0, 1) := dk_42 (dk_at dksX7_clause_0 0 rfl rfl)
theorem dX7_clause_1 : decode cX7_clause 1 = .ok (.ldc 111, 2) := dk_18 111 (dk_at dksX7_clause_0 1 rfl rfl)
theorem dX7_clause_3 : decode cX7_clause 3 = .ok (.invokevirtual 77, 3) := dk_182 0 77 (dk_at dksX7_clause_0 3 rfl rfl)
theorem dX7_clause_6 : decode cX7_clause 6 = .ok (.istore_n 1, 1) := dk_60 (dk_at dksX7_clause_0 6 rfl rfl)
theorem dX7_clause_7 : decode cX7_clause 7 = .ok (.aload_n 0, 1) := dk_42 (dk_at dksX7_clause_0 7 rfl rfl)
theorem dX7_clause_8 : decode cX7_clause 8 = .ok (.ldc 113, 2) := dk_18 113 (dk_at dksX7_clause_0 8 rfl rfl)
theorem dX7_clause_10 : decode cX7_clause 10 = .ok (.invokevirtual 77, 3) := dk_182 0 77 (dk_at dksX7_clause_0 10 rfl rfl)
theorem dX7_clause_13 : decode cX7_clause 13 = .ok (.istore_n 2, 1) := dk_61 (dk_at dksX7_clause_0 13 rfl rfl)
theorem dX7_clause_14 : decode cX7_clause 14 = .ok (.aload_n 0, 1) := dk_42 (dk_at dksX7_clause_0 14 rfl rfl)
theorem dX7_clause_15 : decode cX7_clause 15 = .ok (.ldc 115, 2) := dk_18 115 (dk_at dksX7_clause_0 15 rfl rfl)
theorem dX7_clause_17 : decode cX7_clause 17 = .ok (.invokevirtual 77, 3) := dk_182 0 77 (dk_at dksX7_clause_0 17 rfl rfl)
theorem dX7_clause_20 : decode cX7_clause 20 = .ok (.istore_n 3, 1) := dk_62 (dk_at dksX7_clause_0 20 rfl rfl)
theorem dX7_clause_21 : decode cX7_clause 21 = .ok (.aload_n 0, 1) := dk_42 (dk_at dksX7_clause_0 21 rfl rfl)
theorem dX7_clause_22 : decode cX7_clause 22 = .ok (.ldc 117, 2) := dk_18 117 (dk_at dksX7_clause_0 22 rfl rfl)
theorem dX7_clause_24 : decode cX7_clause 24 = .ok (.invokevirtual 77, 3) := dk_182 0 77 (dk_at dksX7_clause_1 0 rfl rfl)
theorem dX7_clause_27 : decode cX7_clause 27 = .ok (.istore 4, 2) := dk_54 4 (dk_at dksX7_clause_1 3 rfl rfl)
theorem dX7_clause_29 : decode cX7_clause 29 = .ok (.aload_n 0, 1) := dk_42 (dk_at dksX7_clause_1 5 rfl rfl)
theorem dX7_clause_30 : decode cX7_clause 30 = .ok (.ldc 119, 2) := dk_18 119 (dk_at dksX7_clause_1 6 rfl rfl)
theorem dX7_clause_32 : decode cX7_clause 32 = .ok (.invokevirtual 77, 3) := dk_182 0 77 (dk_at dksX7_clause_1 8 rfl rfl)
theorem dX7_clause_35 : decode cX7_clause 35 = .ok (.istore 5, 2) := dk_54 5 (dk_at dksX7_clause_1 11 rfl rfl)
theorem dX7_clause_37 : decode cX7_clause 37 = .ok (.aload_n 0, 1) := dk_42 (dk_at dksX7_clause_1 13 rfl rfl)
theorem dX7_clause_38 : decode cX7_clause 38 = .ok (.iload_n 1, 1) := dk_27 (dk_at dksX7_clause_1 14 rfl rfl)
theorem dX7_clause_39 : decode cX7_clause 39 = .ok (.ifCond .ne 21, 3) := dk_154 0 21 (dk_at dksX7_clause_1 15 rfl rfl)
theorem dX7_clause_42 : decode cX7_clause 42 = .ok (.iload_n 2, 1) := dk_28 (dk_at dksX7_clause_1 18 rfl rfl)
theorem dX7_clause_43 : decode cX7_clause 43 = .ok (.ifCond .ne 17, 3) := dk_154 0 17 (dk_at dksX7_clause_1 19 rfl rfl)
theorem dX7_clause_46 : decode cX7_clause 46 = .ok (.iload_n 3, 1) := dk_29 (dk_at dksX7_clause_1 22 rfl rfl)
theorem dX7_clause_47 : decode cX7_clause 47 = .ok (.ifCond .ne 13, 3) := dk_154 0 13 (dk_at dksX7_clause_2 0 rfl rfl)
theorem dX7_clause_50 : decode cX7_clause 50 = .ok (.iload 4, 2) := dk_21 4 (dk_at dksX7_clause_2 3 rfl rfl)
theorem dX7_clause_52 : decode cX7_clause 52 = .ok (.ifCond .ne 8, 3) := dk_154 0 8 (dk_at dksX7_clause_2 5 rfl rfl)
theorem dX7_clause_55 : decode cX7_clause 55 = .ok (.iload 5, 2) := dk_21 5 (dk_at dksX7_clause_2 8 rfl rfl)
theorem dX7_clause_57 : decode cX7_clause 57 = .ok (.ifCond .eq 7, 3) := dk_153 0 7 (dk_at dksX7_clause_2 10 rfl rfl)
theorem dX7_clause_60 : decode cX7_clause 60 = .ok (.iconst 1, 1) := dk_4 (dk_at dksX7_clause_2 13 rfl rfl)
theorem dX7_clause_61 : decode cX7_clause 61 = .ok (.goto 4, 3) := dk_167 0 4 (dk_at dksX7_clause_2 14 rfl rfl)
theorem dX7_clause_64 : decode cX7_clause 64 = .ok (.iconst 0, 1) := dk_3 (dk_at dksX7_clause_2 17 rfl rfl)
theorem dX7_clause_65 : decode cX7_clause 65 = .ok (.iconst 1, 1) := dk_4 (dk_at dksX7_clause_2 18 rfl rfl)
theorem dX7_clause_66 : decode cX7_clause 66 = .ok (.invokevirtual 81, 3) := dk_182 0 81 (dk_at dksX7_clause_2 19 rfl rfl)
theorem dX7_clause_69 : decode cX7_clause 69 = .ok (.aload_n 0, 1) := dk_42 (dk_at dksX7_clause_2 22 rfl rfl)
theorem dX7_clause_70 : decode cX7_clause 70 = .ok (.aload_n 0, 1) := dk_42 (dk_at dksX7_clause_2 23 rfl rfl)
theorem dX7_clause_71 : decode cX7_clause 71 = .ok (.getfield 121, 3) := dk_180 0 121 (dk_at dksX7_clause_3 0 rfl rfl)
theorem dX7_clause_74 : decode cX7_clause 74 = .ok (.bipush 20, 2) := dk_16 20 (dk_at dksX7_clause_3 3 rfl rfl)
theorem dX7_clause_76 : decode cX7_clause 76 = .ok (.if_icmp .ge 7, 3) := dk_162 0 7 (dk_at dksX7_clause_3 5 rfl rfl)
theorem dX7_clause_79 : decode cX7_clause 79 = .ok (.iconst 1, 1) := dk_4 (dk_at dksX7_clause_3 8 rfl rfl)
theorem dX7_clause_80 : decode cX7_clause 80 = .ok (.goto 4, 3) := dk_167 0 4 (dk_at dksX7_clause_3 9 rfl rfl)
theorem dX7_clause_83 : decode cX7_clause 83 = .ok (.iconst 0, 1) := dk_3 (dk_at dksX7_clause_3 12 rfl rfl)
theorem dX7_clause_84 : decode cX7_clause 84 = .ok (.iconst 2, 1) := dk_5 (dk_at dksX7_clause_3 13 rfl rfl)
theorem dX7_clause_85 : decode cX7_clause 85 = .ok (.invokevirtual 81, 3) := dk_182 0 81 (dk_at dksX7_clause_3 14 rfl rfl)
theorem dX7_clause_88 : decode cX7_clause 88 = .ok (.aload_n 0, 1) := dk_42 (dk_at dksX7_clause_3 17 rfl rfl)
theorem dX7_clause_89 : decode cX7_clause 89 = .ok (.dup, 1) := dk_89 (dk_at dksX7_clause_3 18 rfl rfl)
theorem dX7_clause_90 : decode cX7_clause 90 = .ok (.getfield 121, 3) := dk_180 0 121 (dk_at dksX7_clause_3 19 rfl rfl)
theorem dX7_clause_93 : decode cX7_clause 93 = .ok (.iconst 1, 1) := dk_4 (dk_at dksX7_clause_3 22 rfl rfl)
theorem dX7_clause_94 : decode cX7_clause 94 = .ok (.iadd, 1) := dk_96 (dk_at dksX7_clause_3 23 rfl rfl)
theorem dX7_clause_95 : decode cX7_clause 95 = .ok (.putfield 121, 3) := dk_181 0 121 (dk_at dksX7_clause_4 0 rfl rfl)
theorem dX7_clause_98 : decode cX7_clause 98 = .ok (.aload_n 0, 1) := dk_42 (dk_at dksX7_clause_4 3 rfl rfl)
theorem dX7_clause_99 : decode cX7_clause 99 = .ok (.invokevirtual 85, 3) := dk_182 0 85 (dk_at dksX7_clause_4 4 rfl rfl)
theorem dX7_clause_102 : decode cX7_clause 102 = .ok (.aload_n 0, 1) := dk_42 (dk_at dksX7_clause_4 7 rfl rfl)
theorem dX7_clause_103 : decode cX7_clause 103 = .ok (.iconst 0, 1) := dk_3 (dk_at dksX7_clause_4 8 rfl rfl)
theorem dX7_clause_104 : decode cX7_clause 104 = .ok (.putfield 88, 3) := dk_181 0 88 (dk_at dksX7_clause_4 9 rfl rfl)
theorem dX7_clause_107 : decode cX7_clause 107 = .ok (.aload_n 0, 1) := dk_42 (dk_at dksX7_clause_4 12 rfl rfl)
theorem dX7_clause_108 : decode cX7_clause 108 = .ok (.invokevirtual 124, 3) := dk_182 0 124 (dk_at dksX7_clause_4 13 rfl rfl)
theorem dX7_clause_111 : decode cX7_clause 111 = .ok (.aload_n 0, 1) := dk_42 (dk_at dksX7_clause_4 16 rfl rfl)
theorem dX7_clause_112 : decode cX7_clause 112 = .ok (.invokevirtual 124, 3) := dk_182 0 124 (dk_at dksX7_clause_4 17 rfl rfl)
theorem dX7_clause_115 : decode cX7_clause 115 = .ok (.aload_n 0, 1) := dk_42 (dk_at dksX7_clause_4 20 rfl rfl)
theorem dX7_clause_116 : decode cX7_clause 116 = .ok (.getfield 41, 3) := dk_180 0 41 (dk_at dksX7_clause_4 21 rfl rfl)
theorem dX7_clause_119 : decode cX7_clause 119 = .ok (.iconst 2, 1) := dk_5 (dk_at dksX7_clause_5 0 rfl rfl)
theorem dX7_clause_120 : decode cX7_clause 120 = .ok (.if_icmp .ne 15, 3) := dk_160 0 15 (dk_at dksX7_clause_5 1 rfl rfl)
theorem dX7_clause_123 : decode cX7_clause 123 = .ok (.iload 5, 2) := dk_21 5 (dk_at dksX7_clause_5 4 rfl rfl)
theorem dX7_clause_125 : decode cX7_clause 125 = .ok (.ifCond .ne 10, 3) := dk_154 0 10 (dk_at dksX7_clause_5 6 rfl rfl)
theorem dX7_clause_128 : decode cX7_clause 128 = .ok (.aload_n 0, 1) := dk_42 (dk_at dksX7_clause_5 9 rfl rfl)
theorem dX7_clause_129 : decode cX7_clause 129 = .ok (.invokevirtual 124, 3) := dk_182 0 124 (dk_at dksX7_clause_5 10 rfl rfl)
theorem dX7_clause_132 : decode cX7_clause 132 = .ok (.goto (-17), 3) := dk_167 255 239 (dk_at dksX7_clause_5 13 rfl rfl)
theorem dX7_clause_135 : decode cX7_clause 135 = .ok (.aload_n 0, 1) := dk_42 (dk_at dksX7_clause_5 16 rfl rfl)
theorem dX7_clause_136 : decode cX7_clause 136 = .ok (.aload_n 0, 1) := dk_42 (dk_at dksX7_clause_5 17 rfl rfl)
theorem dX7_clause_137 : decode cX7_clause 137 = .ok (.getfield 41, 3) := dk_180 0 41 (dk_at dksX7_clause_5 18 rfl rfl)
theorem dX7_clause_140 : decode cX7_clause 140 = .ok (.iconst 3, 1) := dk_6 (dk_at dksX7_clause_5 21 rfl rfl)
theorem dX7_clause_141 : decode cX7_clause 141 = .ok (.if_icmp .ne 7, 3) := dk_160 0 7 (dk_at dksX7_clause_6 0 rfl rfl)
theorem dX7_clause_144 : decode cX7_clause 144 = .ok (.iconst 1, 1) := dk_4 (dk_at dksX7_clause_6 3 rfl rfl)
theorem dX7_clause_145 : decode cX7_clause 145 = .ok (.goto 4, 3) := dk_167 0 4 (dk_at dksX7_clause_6 4 rfl rfl)
theorem dX7_clause_148 : decode cX7_clause 148 = .ok (.iconst 0, 1) := dk_3 (dk_at dksX7_clause_6 7 rfl rfl)
theorem dX7_clause_149 : decode cX7_clause 149 = .ok (.iconst 1, 1) := dk_4 (dk_at dksX7_clause_6 8 rfl rfl)
theorem dX7_clause_150 : decode cX7_clause 150 = .ok (.invokevirtual 81, 3) := dk_182 0 81 (dk_at dksX7_clause_6 9 rfl rfl)
theorem dX7_clause_153 : decode cX7_clause 153 = .ok (.iload 5, 2) := dk_21 5 (dk_at dksX7_clause_6 12 rfl rfl)
theorem dX7_clause_155 : decode cX7_clause 155 = .ok (.ifCond .eq 46, 3) := dk_153 0 46 (dk_at dksX7_clause_6 14 rfl rfl)
theorem dX7_clause_158 : decode cX7_clause 158 = .ok (.aload_n 0, 1) := dk_42 (dk_at dksX7_clause_6 17 rfl rfl)
theorem dX7_clause_159 : decode cX7_clause 159 = .ok (.aload_n 0, 1) := dk_42 (dk_at dksX7_clause_6 18 rfl rfl)
theorem dX7_clause_160 : decode cX7_clause 160 = .ok (.getfield 91, 3) := dk_180 0 91 (dk_at dksX7_clause_6 19 rfl rfl)
theorem dX7_clause_163 : decode cX7_clause 163 = .ok (.aload_n 0, 1) := dk_42 (dk_at dksX7_clause_6 22 rfl rfl)
theorem dX7_clause_164 : decode cX7_clause 164 = .ok (.getfield 15, 3) := dk_180 0 15 (dk_at dksX7_clause_7 0 rfl rfl)
theorem dX7_clause_167 : decode cX7_clause 167 = .ok (.iconst 0, 1) := dk_3 (dk_at dksX7_clause_7 3 rfl rfl)
theorem dX7_clause_168 : decode cX7_clause 168 = .ok (.iaload, 1) := dk_46 (dk_at dksX7_clause_7 4 rfl rfl)
theorem dX7_clause_169 : decode cX7_clause 169 = .ok (.aload_n 0, 1) := dk_42 (dk_at dksX7_clause_7 5 rfl rfl)
theorem dX7_clause_170 : decode cX7_clause 170 = .ok (.getfield 15, 3) := dk_180 0 15 (dk_at dksX7_clause_7 6 rfl rfl)
theorem dX7_clause_173 : decode cX7_clause 173 = .ok (.iconst 1, 1) := dk_4 (dk_at dksX7_clause_7 9 rfl rfl)
theorem dX7_clause_174 : decode cX7_clause 174 = .ok (.iaload, 1) := dk_46 (dk_at dksX7_clause_7 10 rfl rfl)
theorem dX7_clause_175 : decode cX7_clause 175 = .ok (.invokevirtual 100, 3) := dk_182 0 100 (dk_at dksX7_clause_7 11 rfl rfl)
theorem dX7_clause_178 : decode cX7_clause 178 = .ok (.iconst 5, 1) := dk_8 (dk_at dksX7_clause_7 14 rfl rfl)
theorem dX7_clause_179 : decode cX7_clause 179 = .ok (.invokevirtual 81, 3) := dk_182 0 81 (dk_at dksX7_clause_7 15 rfl rfl)
theorem dX7_clause_182 : decode cX7_clause 182 = .ok (.aload_n 0, 1) := dk_42 (dk_at dksX7_clause_7 18 rfl rfl)
theorem dX7_clause_183 : decode cX7_clause 183 = .ok (.getfield 91, 3) := dk_180 0 91 (dk_at dksX7_clause_7 19 rfl rfl)
theorem dX7_clause_186 : decode cX7_clause 186 = .ok (.aload_n 0, 1) := dk_42 (dk_at dksX7_clause_7 22 rfl rfl)
theorem dX7_clause_187 : decode cX7_clause 187 = .ok (.getfield 15, 3) := dk_180 0 15 (dk_at dksX7_clause_8 0 rfl rfl)
theorem dX7_clause_190 : decode cX7_clause 190 = .ok (.iconst 0, 1) := dk_3 (dk_at dksX7_clause_8 3 rfl rfl)
theorem dX7_clause_191 : decode cX7_clause 191 = .ok (.iaload, 1) := dk_46 (dk_at dksX7_clause_8 4 rfl rfl)
theorem dX7_clause_192 : decode cX7_clause 192 = .ok (.aload_n 0, 1) := dk_42 (dk_at dksX7_clause_8 5 rfl rfl)
theorem dX7_clause_193 : decode cX7_clause 193 = .ok (.getfield 15, 3) := dk_180 0 15 (dk_at dksX7_clause_8 6 rfl rfl)
theorem dX7_clause_196 : decode cX7_clause 196 = .ok (.iconst 1, 1) := dk_4 (dk_at dksX7_clause_8 9 rfl rfl)
theorem dX7_clause_197 : decode cX7_clause 197 = .ok (.iaload, 1) := dk_46 (dk_at dksX7_clause_8 10 rfl rfl)
theorem dX7_clause_198 : decode cX7_clause 198 = .ok (.invokevirtual 127, 3) := dk_182 0 127 (dk_at dksX7_clause_8 11 rfl rfl)
theorem dX7_clause_201 : decode cX7_clause 201 = .ok (.iconst 1, 1) := dk_4 (dk_at dksX7_clause_8 14 rfl rfl)
theorem dX7_clause_202 : decode cX7_clause 202 = .ok (.istore 6, 2) := dk_54 6 (dk_at dksX7_clause_8 15 rfl rfl)
theorem dX7_clause_204 : decode cX7_clause 204 = .ok (.iload 6, 2) := dk_21 6 (dk_at dksX7_clause_8 17 rfl rfl)
theorem dX7_clause_206 : decode cX7_clause 206 = .ok (.aload_n 0, 1) := dk_42 (dk_at dksX7_clause_8 19 rfl rfl)
theorem dX7_clause_207 : decode cX7_clause 207 = .ok (.getfield 88, 3) := dk_180 0 88 (dk_at dksX7_clause_8 20 rfl rfl)
theorem dX7_clause_210 : decode cX7_clause 210 = .ok (.if_icmp .ge 37, 3) := dk_162 0 37 (dk_at dksX7_clause_9 0 rfl rfl)
theorem dX7_clause_213 : decode cX7_clause 213 = .ok (.iload_n 1, 1) := dk_27 (dk_at dksX7_clause_9 3 rfl rfl)
theorem dX7_clause_214 : decode cX7_clause 214 = .ok (.ifCond .ne 7, 3) := dk_154 0 7 (dk_at dksX7_clause_9 4 rfl rfl)
theorem dX7_clause_217 : decode cX7_clause 217 = .ok (.iload_n 2, 1) := dk_28 (dk_at dksX7_clause_9 7 rfl rfl)
theorem dX7_clause_218 : decode cX7_clause 218 = .ok (.ifCond .eq 29, 3) := dk_153 0 29 (dk_at dksX7_clause_9 8 rfl rfl)
theorem dX7_clause_221 : decode cX7_clause 221 = .ok (.aload_n 0, 1) := dk_42 (dk_at dksX7_clause_9 11 rfl rfl)
theorem dX7_clause_222 : decode cX7_clause 222 = .ok (.aload_n 0, 1) := dk_42 (dk_at dksX7_clause_9 12 rfl rfl)
theorem dX7_clause_223 : decode cX7_clause 223 = .ok (.getfield 15, 3) := dk_180 0 15 (dk_at dksX7_clause_9 13 rfl rfl)
theorem dX7_clause_226 : decode cX7_clause 226 = .ok (.iload 6, 2) := dk_21 6 (dk_at dksX7_clause_9 16 rfl rfl)
theorem dX7_clause_228 : decode cX7_clause 228 = .ok (.iconst 1, 1) := dk_4 (dk_at dksX7_clause_9 18 rfl rfl)
theorem dX7_clause_229 : decode cX7_clause 229 = .ok (.isub, 1) := dk_100 (dk_at dksX7_clause_9 19 rfl rfl)
theorem dX7_clause_230 : decode cX7_clause 230 = .ok (.iaload, 1) := dk_46 (dk_at dksX7_clause_9 20 rfl rfl)
theorem dX7_clause_231 : decode cX7_clause 231 = .ok (.aload_n 0, 1) := dk_42 (dk_at dksX7_clause_9 21 rfl rfl)
theorem dX7_clause_232 : decode cX7_clause 232 = .ok (.getfield 15, 3) := dk_180 0 15 (dk_at dksX7_clause_10 0 rfl rfl)
theorem dX7_clause_235 : decode cX7_clause 235 = .ok (.iload 6, 2) := dk_21 6 (dk_at dksX7_clause_10 3 rfl rfl)
theorem dX7_clause_237 : decode cX7_clause 237 = .ok (.iaload, 1) := dk_46 (dk_at dksX7_clause_10 5 rfl rfl)
theorem dX7_clause_238 : decode cX7_clause 238 = .ok (.invokevirtual 130, 3) := dk_182 0 130 (dk_at dksX7_clause_10 6 rfl rfl)
theorem dX7_clause_241 : decode cX7_clause 241 = .ok (.iinc 6 1, 3) := dk_132 6 1 (dk_at dksX7_clause_10 9 rfl rfl)
theorem dX7_clause_244 : decode cX7_clause 244 = .ok (.goto (-40), 3) := dk_167 255 216 (dk_at dksX7_clause_10 12 rfl rfl)
theorem dX7_clause_247 : decode cX7_clause 247 = .ok (.iload_n 2, 1) := dk_28 (dk_at dksX7_clause_10 15 rfl rfl)
theorem dX7_clause_248 : decode cX7_clause 248 = .ok (.ifCond .eq 24, 3) := dk_153 0 24 (dk_at dksX7_clause_10 16 rfl rfl)
theorem dX7_clause_251 : decode cX7_clause 251 = .ok (.aload_n 0, 1) := dk_42 (dk_at dksX7_clause_10 19 rfl rfl)
theorem dX7_clause_252 : decode cX7_clause 252 = .ok (.aload_n 0, 1) := dk_42 (dk_at dksX7_clause_10 20 rfl rfl)
theorem dX7_clause_253 : decode cX7_clause 253 = .ok (.getfield 15, 3) := dk_180 0 15 (dk_at dksX7_clause_10 21 rfl rfl)
theorem dX7_clause_256 : decode cX7_clause 256 = .ok (.aload_n 0, 1) := dk_42 (dk_at dksX7_clause_11 0 rfl rfl)
theorem dX7_clause_257 : decode cX7_clause 257 = .ok (.getfield 88, 3) := dk_180 0 88 (dk_at dksX7_clause_11 1 rfl rfl)
theorem dX7_clause_260 : decode cX7_clause 260 = .ok (.iconst 1, 1) := dk_4 (dk_at dksX7_clause_11 4 rfl rfl)
theorem dX7_clause_261 : decode cX7_clause 261 = .ok (.isub, 1) := dk_100 (dk_at dksX7_clause_11 5 rfl rfl)
theorem dX7_clause_262 : decode cX7_clause 262 = .ok (.iaload, 1) := dk_46 (dk_at dksX7_clause_11 6 rfl rfl)
theorem dX7_clause_263 : decode cX7_clause 263 = .ok (.aload_n 0, 1) := dk_42 (dk_at dksX7_clause_11 7 rfl rfl)
theorem dX7_clause_264 : decode cX7_clause 264 = .ok (.getfield 15, 3) := dk_180 0 15 (dk_at dksX7_clause_11 8 rfl rfl)
theorem dX7_clause_267 : decode cX7_clause 267 = .ok (.iconst 0, 1) := dk_3 (dk_at dksX7_clause_11 11 rfl rfl)
theorem dX7_clause_268 : decode cX7_clause 268 = .ok (.iaload, 1) := dk_46 (dk_at dksX7_clause_11 12 rfl rfl)
theorem dX7_clause_269 : decode cX7_clause 269 = .ok (.invokevirtual 130, 3) := dk_182 0 130 (dk_at dksX7_clause_11 13 rfl rfl)
theorem dX7_clause_272 : decode cX7_clause 272 = .ok (.iconst 1, 1) := dk_4 (dk_at dksX7_clause_11 16 rfl rfl)
theorem dX7_clause_273 : decode cX7_clause 273 = .ok (.istore 6, 2) := dk_54 6 (dk_at dksX7_clause_11 17 rfl rfl)
theorem dX7_clause_275 : decode cX7_clause 275 = .ok (.iload 6, 2) := dk_21 6 (dk_at dksX7_clause_11 19 rfl rfl)
theorem dX7_clause_277 : decode cX7_clause 277 = .ok (.aload_n 0, 1) := dk_42 (dk_at dksX7_clause_11 21 rfl rfl)
theorem dX7_clause_278 : decode cX7_clause 278 = .ok (.getfield 88, 3) := dk_180 0 88 (dk_at dksX7_clause_12 0 rfl rfl)
theorem dX7_clause_281 : decode cX7_clause 281 = .ok (.if_icmp .ge 31, 3) := dk_162 0 31 (dk_at dksX7_clause_12 3 rfl rfl)
theorem dX7_clause_284 : decode cX7_clause 284 = .ok (.iload 4, 2) := dk_21 4 (dk_at dksX7_clause_12 6 rfl rfl)
theorem dX7_clause_286 : decode cX7_clause 286 = .ok (.ifCond .eq 26, 3) := dk_153 0 26 (dk_at dksX7_clause_12 8 rfl rfl)
theorem dX7_clause_289 : decode cX7_clause 289 = .ok (.aload_n 0, 1) := dk_42 (dk_at dksX7_clause_12 11 rfl rfl)
theorem dX7_clause_290 : decode cX7_clause 290 = .ok (.aload_n 0, 1) := dk_42 (dk_at dksX7_clause_12 12 rfl rfl)
theorem dX7_clause_291 : decode cX7_clause 291 = .ok (.getfield 15, 3) := dk_180 0 15 (dk_at dksX7_clause_12 13 rfl rfl)
theorem dX7_clause_294 : decode cX7_clause 294 = .ok (.iconst 0, 1) := dk_3 (dk_at dksX7_clause_12 16 rfl rfl)
theorem dX7_clause_295 : decode cX7_clause 295 = .ok (.iaload, 1) := dk_46 (dk_at dksX7_clause_12 17 rfl rfl)
theorem dX7_clause_296 : decode cX7_clause 296 = .ok (.aload_n 0, 1) := dk_42 (dk_at dksX7_clause_12 18 rfl rfl)
theorem dX7_clause_297 : decode cX7_clause 297 = .ok (.getfield 15, 3) := dk_180 0 15 (dk_at dksX7_clause_12 19 rfl rfl)
theorem dX7_clause_300 : decode cX7_clause 300 = .ok (.iload 6, 2) := dk_21 6 (dk_at dksX7_clause_12 22 rfl rfl)
theorem dX7_clause_302 : decode cX7_clause 302 = .ok (.iaload, 1) := dk_46 (dk_at dksX7_clause_13 0 rfl rfl)
theorem dX7_clause_303 : decode cX7_clause 303 = .ok (.invokevirtual 130, 3) := dk_182 0 130 (dk_at dksX7_clause_13 1 rfl rfl)
theorem dX7_clause_306 : decode cX7_clause 306 = .ok (.iinc 6 1, 3) := dk_132 6 1 (dk_at dksX7_clause_13 4 rfl rfl)
theorem dX7_clause_309 : decode cX7_clause 309 = .ok (.goto (-34), 3) := dk_167 255 222 (dk_at dksX7_clause_13 7 rfl rfl)
theorem dX7_clause_312 : decode cX7_clause 312 = .ok (.iconst 1, 1) := dk_4 (dk_at dksX7_clause_13 10 rfl rfl)
theorem dX7_clause_313 : decode cX7_clause 313 = .ok (.istore 6, 2) := dk_54 6 (dk_at dksX7_clause_13 11 rfl rfl)
theorem dX7_clause_315 : decode cX7_clause 315 = .ok (.iload 6, 2) := dk_21 6 (dk_at dksX7_clause_13 13 rfl rfl)
theorem dX7_clause_317 : decode cX7_clause 317 = .ok (.aload_n 0, 1) := dk_42 (dk_at dksX7_clause_13 15 rfl rfl)
theorem dX7_clause_318 : decode cX7_clause 318 = .ok (.getfield 88, 3) := dk_180 0 88 (dk_at dksX7_clause_13 16 rfl rfl)
theorem dX7_clause_321 : decode cX7_clause 321 = .ok (.if_icmp .ge 47, 3) := dk_162 0 47 (dk_at dksX7_clause_13 19 rfl rfl)
theorem dX7_clause_324 : decode cX7_clause 324 = .ok (.iload_n 3, 1) := dk_29 (dk_at dksX7_clause_13 22 rfl rfl)
theorem dX7_clause_325 : decode cX7_clause 325 = .ok (.ifCond .eq 43, 3) := dk_153 0 43 (dk_at dksX7_clause_14 0 rfl rfl)
theorem dX7_clause_328 : decode cX7_clause 328 = .ok (.iconst 0, 1) := dk_3 (dk_at dksX7_clause_14 3 rfl rfl)
theorem dX7_clause_329 : decode cX7_clause 329 = .ok (.istore 7, 2) := dk_54 7 (dk_at dksX7_clause_14 4 rfl rfl)
theorem dX7_clause_331 : decode cX7_clause 331 = .ok (.iload 7, 2) := dk_21 7 (dk_at dksX7_clause_14 6 rfl rfl)
theorem dX7_clause_333 : decode cX7_clause 333 = .ok (.iload 6, 2) := dk_21 6 (dk_at dksX7_clause_14 8 rfl rfl)
theorem dX7_clause_335 : decode cX7_clause 335 = .ok (.if_icmp .ge 27, 3) := dk_162 0 27 (dk_at dksX7_clause_14 10 rfl rfl)
theorem dX7_clause_338 : decode cX7_clause 338 = .ok (.aload_n 0, 1) := dk_42 (dk_at dksX7_clause_14 13 rfl rfl)
theorem dX7_clause_339 : decode cX7_clause 339 = .ok (.aload_n 0, 1) := dk_42 (dk_at dksX7_clause_14 14 rfl rfl)
theorem dX7_clause_340 : decode cX7_clause 340 = .ok (.getfield 15, 3) := dk_180 0 15 (dk_at dksX7_clause_14 15 rfl rfl)
theorem dX7_clause_343 : decode cX7_clause 343 = .ok (.iload 7, 2) := dk_21 7 (dk_at dksX7_clause_14 18 rfl rfl)
theorem dX7_clause_345 : decode cX7_clause 345 = .ok (.iaload, 1) := dk_46 (dk_at dksX7_clause_14 20 rfl rfl)
theorem dX7_clause_346 : decode cX7_clause 346 = .ok (.aload_n 0, 1) := dk_42 (dk_at dksX7_clause_14 21 rfl rfl)
theorem dX7_clause_347 : decode cX7_clause 347 = .ok (.getfield 15, 3) := dk_180 0 15 (dk_at dksX7_clause_15 0 rfl rfl)
theorem dX7_clause_350 : decode cX7_clause 350 = .ok (.iload 6, 2) := dk_21 6 (dk_at dksX7_clause_15 3 rfl rfl)
theorem dX7_clause_352 : decode cX7_clause 352 = .ok (.iaload, 1) := dk_46 (dk_at dksX7_clause_15 5 rfl rfl)
theorem dX7_clause_353 : decode cX7_clause 353 = .ok (.invokevirtual 130, 3) := dk_182 0 130 (dk_at dksX7_clause_15 6 rfl rfl)
theorem dX7_clause_356 : decode cX7_clause 356 = .ok (.iinc 7 1, 3) := dk_132 7 1 (dk_at dksX7_clause_15 9 rfl rfl)
theorem dX7_clause_359 : decode cX7_clause 359 = .ok (.goto (-28), 3) := dk_167 255 228 (dk_at dksX7_clause_15 12 rfl rfl)
theorem dX7_clause_362 : decode cX7_clause 362 = .ok (.iinc 6 1, 3) := dk_132 6 1 (dk_at dksX7_clause_15 15 rfl rfl)
theorem dX7_clause_365 : decode cX7_clause 365 = .ok (.goto (-50), 3) := dk_167 255 206 (dk_at dksX7_clause_15 18 rfl rfl)
theorem dX7_clause_368 : decode cX7_clause 368 = .ok (.aload_n 0, 1) := dk_42 (dk_at dksX7_clause_15 21 rfl rfl)
theorem dX7_clause_369 : decode cX7_clause 369 = .ok (.invokevirtual 85, 3) := dk_182 0 85 (dk_at dksX7_clause_16 0 rfl rfl)
theorem dX7_clause_372 : decode cX7_clause 372 = .ok (.return_, 1) := dk_177 (dk_at dksX7_clause_16 3 rfl rfl)
abbrev cX7_knot : ByteArray := prog_8_method_11_code
def yX7_knot : MethodName := ⟨RX7, "knot", "()V"⟩
def dkwX7_knot_5 : List UInt8 := [180, 0, 88, 42, 180, 0, 51, 79, 42, 89, 180, 0, 88, 4, 96, 181, 0, 88, 42, 182, 0, 85, 177]
abbrev dktX7_knot_5 : List UInt8 := dkwX7_knot_5 ++ []
def dkwX7_knot_4 : List UInt8 := [159, 0, 7, 4, 167, 0, 4, 3, 7, 182, 0, 81, 132, 1, 1, 167, 255, 222, 42, 180, 0, 15, 42]
abbrev dktX7_knot_4 : List UInt8 := dkwX7_knot_4 ++ dktX7_knot_5
def dkwX7_knot_3 : List UInt8 := [182, 0, 81, 3, 60, 27, 42, 180, 0, 88, 162, 0, 32, 42, 42, 180, 0, 15, 27, 46, 42, 180, 0, 51]
abbrev dktX7_knot_3 : List UInt8 := dkwX7_knot_3 ++ dktX7_knot_4
def dkwX7_knot_2 : List UInt8 := [182, 0, 81, 42, 42, 180, 0, 51, 42, 180, 0, 91, 180, 0, 95, 162, 0, 7, 4, 167, 0, 4, 3, 6]
abbrev dktX7_knot_2 : List UInt8 := dkwX7_knot_2 ++ dktX7_knot_3
def dkwX7_knot_1 : List UInt8 := [180, 0, 38, 100, 6, 163, 0, 16, 42, 180, 0, 88, 16, 12, 162, 0, 7, 4, 167, 0, 4, 3, 5]
abbrev dktX7_knot_1 : List UInt8 := dkwX7_knot_1 ++ dktX7_knot_2
def dkwX7_knot_0 : List UInt8 := [42, 42, 180, 0, 41, 5, 160, 0, 7, 4, 167, 0, 4, 3, 4, 182, 0, 81, 42, 42, 180, 0, 60, 42]
abbrev dktX7_knot_0 : List UInt8 := dkwX7_knot_0 ++ dktX7_knot_1
theorem dksX7_knot_0 : cX7_knot.data.toList.drop 0 = dktX7_knot_0 := by decide +kernel
theorem dksX7_knot_1 : cX7_knot.data.toList.drop 24 = dktX7_knot_1 := dk_seg dksX7_knot_0 24 rfl rfl
theorem dksX7_knot_2 : cX7_knot.data.toList.drop 47 = dktX7_knot_2 := dk_seg dksX7_knot_1 23 rfl rfl
theorem dksX7_knot_3 : cX7_knot.data.toList.drop 71 = dktX7_knot_3 := dk_seg dksX7_knot_2 24 rfl rfl
theorem dksX7_knot_4 : cX7_knot.data.toList.drop 95 = dktX7_knot_4 := dk_seg dksX7_knot_3 24 rfl rfl
theorem dksX7_knot_5 : cX7_knot.data.toList.drop 118 = dktX7_knot_5 := dk_seg dksX7_knot_4 23 rfl rfl
theorem dX7_knot_0 : decode cX7_knot 0 = .ok (.aload_n 0, 1) := dk_42 (dk_at dksX7_knot_0 0 rfl rfl)
theorem dX7_knot_1 : decode cX7_knot 1 = .ok (.aload_n 0, 1) := dk_42 (dk_at dksX7_knot_0 1 rfl rfl)
theorem dX7_knot_2 : decode cX7_knot 2 = .ok (.getfield 41, 3) := dk_180 0 41 (dk_at dksX7_knot_0 2 rfl rfl)
theorem dX7_knot_5 : decode cX7_knot 5 = .ok (.iconst 2, 1) := dk_5 (dk_at dksX7_knot_0 5 rfl rfl)
theorem dX7_knot_6 : decode cX7_knot 6 = .ok (.if_icmp .ne 7, 3) := dk_160 0 7 (dk_at dksX7_knot_0 6 rfl rfl)
theorem dX7_knot_9 : decode cX7_knot 9 = .ok (.iconst 1, 1) := dk_4 (dk_at dksX7_knot_0 9 rfl rfl)
theorem dX7_knot_10 : decode cX7_knot 10 = .ok (.goto 4, 3) := dk_167 0 4 (dk_at dksX7_knot_0 10 rfl rfl)
theorem dX7_knot_13 : decode cX7_knot 13 = .ok (.iconst 0, 1) := dk_3 (dk_at dksX7_knot_0 13 rfl rfl)
theorem dX7_knot_14 : decode cX7_knot 14 = .ok (.iconst 1, 1) := dk_4 (dk_at dksX7_knot_0 14 rfl rfl)
theorem dX7_knot_15 : decode cX7_knot 15 = .ok (.invokevirtual 81, 3) := dk_182 0 81 (dk_at dksX7_knot_0 15 rfl rfl)
theorem dX7_knot_18 : decode cX7_knot 18 = .ok (.aload_n 0, 1) := dk_42 (dk_at dksX7_knot_0 18 rfl rfl)
theorem dX7_knot_19 : decode cX7_knot 19 = .ok (.aload_n 0, 1) := dk_42 (dk_at dksX7_knot_0 19 rfl rfl)
theorem dX7_knot_20 : decode cX7_knot 20 = .ok (.getfield 60, 3) := dk_180 0 60 (dk_at dksX7_knot_0 20 rfl rfl)
theorem dX7_knot_23 : decode cX7_knot 23 = .ok (.aload_n 0, 1) := dk_42 (dk_at dksX7_knot_0 23 rfl rfl)
theorem dX7_knot_24 : decode cX7_knot 24 = .ok (.getfield 38, 3) := dk_180 0 38 (dk_at dksX7_knot_1 0 rfl rfl)
theorem dX7_knot_27 : decode cX7_knot 27 = .ok (.isub, 1) := dk_100 (dk_at dksX7_knot_1 3 rfl rfl)
theorem dX7_knot_28 : decode cX7_knot 28 = .ok (.iconst 3, 1) := dk_6 (dk_at dksX7_knot_1 4 rfl rfl)
theorem dX7_knot_29 : decode cX7_knot 29 = .ok (.if_icmp .gt 16, 3) := dk_163 0 16 (dk_at dksX7_knot_1 5 rfl rfl)
theorem dX7_knot_32 : decode cX7_knot 32 = .ok (.aload_n 0, 1) := dk_42 (dk_at dksX7_knot_1 8 rfl rfl)
theorem dX7_knot_33 : decode cX7_knot 33 = .ok (.getfield 88, 3) := dk_180 0 88 (dk_at dksX7_knot_1 9 rfl rfl)
theorem dX7_knot_36 : decode cX7_knot 36 = .ok (.bipush 12, 2) := dk_16 12 (dk_at dksX7_knot_1 12 rfl rfl)
theorem dX7_knot_38 : decode cX7_knot 38 = .ok (.if_icmp .ge 7, 3) := dk_162 0 7 (dk_at dksX7_knot_1 14 rfl rfl)
theorem dX7_knot_41 : decode cX7_knot 41 = .ok (.iconst 1, 1) := dk_4 (dk_at dksX7_knot_1 17 rfl rfl)
theorem dX7_knot_42 : decode cX7_knot 42 = .ok (.goto 4, 3) := dk_167 0 4 (dk_at dksX7_knot_1 18 rfl rfl)
theorem dX7_knot_45 : decode cX7_knot 45 = .ok (.iconst 0, 1) := dk_3 (dk_at dksX7_knot_1 21 rfl rfl)
theorem dX7_knot_46 : decode cX7_knot 46 = .ok (.iconst 2, 1) := dk_5 (dk_at dksX7_knot_1 22 rfl rfl)
theorem dX7_knot_47 : decode cX7_knot 47 = .ok (.invokevirtual 81, 3) := dk_182 0 81 (dk_at dksX7_knot_2 0 rfl rfl)
theorem dX7_knot_50 : decode cX7_knot 50 = .ok (.aload_n 0, 1) := dk_42 (dk_at dksX7_knot_2 3 rfl rfl)
theorem dX7_knot_51 : decode cX7_knot 51 = .ok (.aload_n 0, 1) := dk_42 (dk_at dksX7_knot_2 4 rfl rfl)
theorem dX7_knot_52 : decode cX7_knot 52 = .ok (.getfield 51, 3) := dk_180 0 51 (dk_at dksX7_knot_2 5 rfl rfl)
theorem dX7_knot_55 : decode cX7_knot 55 = .ok (.aload_n 0, 1) := dk_42 (dk_at dksX7_knot_2 8 rfl rfl)
theorem dX7_knot_56 : decode cX7_knot 56 = .ok (.getfield 91, 3) := dk_180 0 91 (dk_at dksX7_knot_2 9 rfl rfl)
theorem dX7_knot_59 : decode cX7_knot 59 = .ok (.getfield 95, 3) := dk_180 0 95 (dk_at dksX7_knot_2 12 rfl rfl)
theorem dX7_knot_62 : decode cX7_knot 62 = .ok (.if_icmp .ge 7, 3) := dk_162 0 7 (dk_at dksX7_knot_2 15 rfl rfl)
theorem dX7_knot_65 : decode cX7_knot 65 = .ok (.iconst 1, 1) := dk_4 (dk_at dksX7_knot_2 18 rfl rfl)
theorem dX7_knot_66 : decode cX7_knot 66 = .ok (.goto 4, 3) := dk_167 0 4 (dk_at dksX7_knot_2 19 rfl rfl)
theorem dX7_knot_69 : decode cX7_knot 69 = .ok (.iconst 0, 1) := dk_3 (dk_at dksX7_knot_2 22 rfl rfl)
theorem dX7_knot_70 : decode cX7_knot 70 = .ok (.iconst 3, 1) := dk_6 (dk_at dksX7_knot_2 23 rfl rfl)
theorem dX7_knot_71 : decode cX7_knot 71 = .ok (.invokevirtual 81, 3) := dk_182 0 81 (dk_at dksX7_knot_3 0 rfl rfl)
theorem dX7_knot_74 : decode cX7_knot 74 = .ok (.iconst 0, 1) := dk_3 (dk_at dksX7_knot_3 3 rfl rfl)
theorem dX7_knot_75 : decode cX7_knot 75 = .ok (.istore_n 1, 1) := dk_60 (dk_at dksX7_knot_3 4 rfl rfl)
theorem dX7_knot_76 : decode cX7_knot 76 = .ok (.iload_n 1, 1) := dk_27 (dk_at dksX7_knot_3 5 rfl rfl)
theorem dX7_knot_77 : decode cX7_knot 77 = .ok (.aload_n 0, 1) := dk_42 (dk_at dksX7_knot_3 6 rfl rfl)
theorem dX7_knot_78 : decode cX7_knot 78 = .ok (.getfield 88, 3) := dk_180 0 88 (dk_at dksX7_knot_3 7 rfl rfl)
theorem dX7_knot_81 : decode cX7_knot 81 = .ok (.if_icmp .ge 32, 3) := dk_162 0 32 (dk_at dksX7_knot_3 10 rfl rfl)
theorem dX7_knot_84 : decode cX7_knot 84 = .ok (.aload_n 0, 1) := dk_42 (dk_at dksX7_knot_3 13 rfl rfl)
theorem dX7_knot_85 : decode cX7_knot 85 = .ok (.aload_n 0, 1) := dk_42 (dk_at dksX7_knot_3 14 rfl rfl)
theorem dX7_knot_86 : decode cX7_knot 86 = .ok (.getfield 15, 3) := dk_180 0 15 (dk_at dksX7_knot_3 15 rfl rfl)
theorem dX7_knot_89 : decode cX7_knot 89 = .ok (.iload_n 1, 1) := dk_27 (dk_at dksX7_knot_3 18 rfl rfl)
theorem dX7_knot_90 : decode cX7_knot 90 = .ok (.iaload, 1) := dk_46 (dk_at dksX7_knot_3 19 rfl rfl)
theorem dX7_knot_91 : decode cX7_knot 91 = .ok (.aload_n 0, 1) := dk_42 (dk_at dksX7_knot_3 20 rfl rfl)
theorem dX7_knot_92 : decode cX7_knot 92 = .ok (.getfield 51, 3) := dk_180 0 51 (dk_at dksX7_knot_3 21 rfl rfl)
theorem dX7_knot_95 : decode cX7_knot 95 = .ok (.if_icmp .eq 7, 3) := dk_159 0 7 (dk_at dksX7_knot_4 0 rfl rfl)
theorem dX7_knot_98 : decode cX7_knot 98 = .ok (.iconst 1, 1) := dk_4 (dk_at dksX7_knot_4 3 rfl rfl)
theorem dX7_knot_99 : decode cX7_knot 99 = .ok (.goto 4, 3) := dk_167 0 4 (dk_at dksX7_knot_4 4 rfl rfl)
theorem dX7_knot_102 : decode cX7_knot 102 = .ok (.iconst 0, 1) := dk_3 (dk_at dksX7_knot_4 7 rfl rfl)
theorem dX7_knot_103 : decode cX7_knot 103 = .ok (.iconst 4, 1) := dk_7 (dk_at dksX7_knot_4 8 rfl rfl)
theorem dX7_knot_104 : decode cX7_knot 104 = .ok (.invokevirtual 81, 3) := dk_182 0 81 (dk_at dksX7_knot_4 9 rfl rfl)
theorem dX7_knot_107 : decode cX7_knot 107 = .ok (.iinc 1 1, 3) := dk_132 1 1 (dk_at dksX7_knot_4 12 rfl rfl)
theorem dX7_knot_110 : decode cX7_knot 110 = .ok (.goto (-34), 3) := dk_167 255 222 (dk_at dksX7_knot_4 15 rfl rfl)
theorem dX7_knot_113 : decode cX7_knot 113 = .ok (.aload_n 0, 1) := dk_42 (dk_at dksX7_knot_4 18 rfl rfl)
theorem dX7_knot_114 : decode cX7_knot 114 = .ok (.getfield 15, 3) := dk_180 0 15 (dk_at dksX7_knot_4 19 rfl rfl)
theorem dX7_knot_117 : decode cX7_knot 117 = .ok (.aload_n 0, 1) := dk_42 (dk_at dksX7_knot_4 22 rfl rfl)
theorem dX7_knot_118 : decode cX7_knot 118 = .ok (.getfield 88, 3) := dk_180 0 88 (dk_at dksX7_knot_5 0 rfl rfl)
theorem dX7_knot_121 : decode cX7_knot 121 = .ok (.aload_n 0, 1) := dk_42 (dk_at dksX7_knot_5 3 rfl rfl)
theorem dX7_knot_122 : decode cX7_knot 122 = .ok (.getfield 51, 3) := dk_180 0 51 (dk_at dksX7_knot_5 4 rfl rfl)
theorem dX7_knot_125 : decode cX7_knot 125 = .ok (.iastore, 1) := dk_79 (dk_at dksX7_knot_5 7 rfl rfl)
theorem dX7_knot_126 : decode cX7_knot 126 = .ok (.aload_n 0, 1) := dk_42 (dk_at dksX7_knot_5 8 rfl rfl)
theorem dX7_knot_127 : decode cX7_knot 127 = .ok (.dup, 1) := dk_89 (dk_at dksX7_knot_5 9 rfl rfl)
theorem dX7_knot_128 : decode cX7_knot 128 = .ok (.getfield 88, 3) := dk_180 0 88 (dk_at dksX7_knot_5 10 rfl rfl)
theorem dX7_knot_131 : decode cX7_knot 131 = .ok (.iconst 1, 1) := dk_4 (dk_at dksX7_knot_5 13 rfl rfl)
theorem dX7_knot_132 : decode cX7_knot 132 = .ok (.iadd, 1) := dk_96 (dk_at dksX7_knot_5 14 rfl rfl)
theorem dX7_knot_133 : decode cX7_knot 133 = .ok (.putfield 88, 3) := dk_181 0 88 (dk_at dksX7_knot_5 15 rfl rfl)
theorem dX7_knot_136 : decode cX7_knot 136 = .ok (.aload_n 0, 1) := dk_42 (dk_at dksX7_knot_5 18 rfl rfl)
theorem dX7_knot_137 : decode cX7_knot 137 = .ok (.invokevirtual 85, 3) := dk_182 0 85 (dk_at dksX7_knot_5 19 rfl rfl)
theorem dX7_knot_140 : decode cX7_knot 140 = .ok (.return_, 1) := dk_177 (dk_at dksX7_knot_5 22 rfl rfl)
abbrev cX7_join : ByteArray := prog_8_method_12_code
def yX7_join : MethodName := ⟨RX7, "join", "(II)V"⟩
def dkwX7_join_1 : List UInt8 := [180, 0, 91, 27, 28, 182, 0, 104, 16, 6, 182, 0, 81, 42, 180, 0, 91, 27, 28, 182, 0, 107, 177]
abbrev dktX7_join_1 : List UInt8 := dkwX7_join_1 ++ []
def dkwX7_join_0 : List UInt8 := [42, 42, 180, 0, 91, 27, 28, 182, 0, 100, 154, 0, 7, 4, 167, 0, 4, 3, 8, 182, 0, 81, 42, 42]
abbrev dktX7_join_0 : List UInt8 := dkwX7_join_0 ++ dktX7_join_1
theorem dksX7_join_0 : cX7_join.data.toList.drop 0 = dktX7_join_0 := by decide +kernel
theorem dksX7_join_1 : cX7_join.data.toList.drop 24 = dktX7_join_1 := dk_seg dksX7_join_0 24 rfl rfl
theorem dX7_join_0 : decode cX7_join 0 = .ok (.aload_n 0, 1) := dk_42 (dk_at dksX7_join_0 0 rfl rfl)
theorem dX7_join_1 : decode cX7_join 1 = .ok (.aload_n 0, 1) := dk_42 (dk_at dksX7_join_0 1 rfl rfl)
theorem dX7_join_2 : decode cX7_join 2 = .ok (.getfield 91, 3) := dk_180 0 91 (dk_at dksX7_join_0 2 rfl rfl)
theorem dX7_join_5 : decode cX7_join 5 = .ok (.iload_n 1, 1) := dk_27 (dk_at dksX7_join_0 5 rfl rfl)
theorem dX7_join_6 : decode cX7_join 6 = .ok (.iload_n 2, 1) := dk_28 (dk_at dksX7_join_0 6 rfl rfl)
theorem dX7_join_7 : decode cX7_join 7 = .ok (.invokevirtual 100, 3) := dk_182 0 100 (dk_at dksX7_join_0 7 rfl rfl)
theorem dX7_join_10 : decode cX7_join 10 = .ok (.ifCond .ne 7, 3) := dk_154 0 7 (dk_at dksX7_join_0 10 rfl rfl)
theorem dX7_join_13 : decode cX7_join 13 = .ok (.iconst 1, 1) := dk_4 (dk_at dksX7_join_0 13 rfl rfl)
theorem dX7_join_14 : decode cX7_join 14 = .ok (.goto 4, 3) := dk_167 0 4 (dk_at dksX7_join_0 14 rfl rfl)
theorem dX7_join_17 : decode cX7_join 17 = .ok (.iconst 0, 1) := dk_3 (dk_at dksX7_join_0 17 rfl rfl)
theorem dX7_join_18 : decode cX7_join 18 = .ok (.iconst 5, 1) := dk_8 (dk_at dksX7_join_0 18 rfl rfl)
theorem dX7_join_19 : decode cX7_join 19 = .ok (.invokevirtual 81, 3) := dk_182 0 81 (dk_at dksX7_join_0 19 rfl rfl)
theorem dX7_join_22 : decode cX7_join 22 = .ok (.aload_n 0, 1) := dk_42 (dk_at dksX7_join_0 22 rfl rfl)
theorem dX7_join_23 : decode cX7_join 23 = .ok (.aload_n 0, 1) := dk_42 (dk_at dksX7_join_0 23 rfl rfl)
theorem dX7_join_24 : decode cX7_join 24 = .ok (.getfield 91, 3) := dk_180 0 91 (dk_at dksX7_join_1 0 rfl rfl)
theorem dX7_join_27 : decode cX7_join 27 = .ok (.iload_n 1, 1) := dk_27 (dk_at dksX7_join_1 3 rfl rfl)
theorem dX7_join_28 : decode cX7_join 28 = .ok (.iload_n 2, 1) := dk_28 (dk_at dksX7_join_1 4 rfl rfl)
theorem dX7_join_29 : decode cX7_join 29 = .ok (.invokevirtual 104, 3) := dk_182 0 104 (dk_at dksX7_join_1 5 rfl rfl)
theorem dX7_join_32 : decode cX7_join 32 = .ok (.bipush 6, 2) := dk_16 6 (dk_at dksX7_join_1 8 rfl rfl)
theorem dX7_join_34 : decode cX7_join 34 = .ok (.invokevirtual 81, 3) := dk_182 0 81 (dk_at dksX7_join_1 10 rfl rfl)
theorem dX7_join_37 : decode cX7_join 37 = .ok (.aload_n 0, 1) := dk_42 (dk_at dksX7_join_1 13 rfl rfl)
theorem dX7_join_38 : decode cX7_join 38 = .ok (.getfield 91, 3) := dk_180 0 91 (dk_at dksX7_join_1 14 rfl rfl)
theorem dX7_join_41 : decode cX7_join 41 = .ok (.iload_n 1, 1) := dk_27 (dk_at dksX7_join_1 17 rfl rfl)
theorem dX7_join_42 : decode cX7_join 42 = .ok (.iload_n 2, 1) := dk_28 (dk_at dksX7_join_1 18 rfl rfl)
theorem dX7_join_43 : decode cX7_join 43 = .ok (.invokevirtual 107, 3) := dk_182 0 107 (dk_at dksX7_join_1 19 rfl rfl)
theorem dX7_join_46 : decode cX7_join 46 = .ok (.return_, 1) := dk_177 (dk_at dksX7_join_1 22 rfl rfl)
theorem q125 : (Jvm.Cond.initialized "WiredNets$Reader") ∈ lw_all := lw_g (lw_at lw_m1 17 rfl) rfl
theorem q246 : (Jvm.Cond.fieldLinkNest "WiredNets$Reader" (95 : Nat) "WiredNets$Net" "n" "I" "WiredNets") ∈ lw_tbl := lw_at lw_m1 138 rfl
theorem q314 : (Jvm.Cond.fieldLinkNest "WiredNets$Reader" (26 : Nat) "WiredNets" "tape" "[B" "WiredNets") ∈ lw_tbl := lw_at lw_m1 206 rfl
theorem q557 : (Jvm.Cond.instantiable "WiredNets$Reader" (11 : Nat)) ∈ lw_all := lw_g (lw_at lw_m2 209 rfl) rfl
theorem q559 : (Jvm.Cond.instanceMethod ({ cls := "WiredNets$Reader", name := "<init>", desc := "(LWiredNets;I)V" } : Jvm.MethodName)) ∈ lw_all := lw_g (lw_at lw_m2 211 rfl) rfl
theorem q560 : (Jvm.Cond.code ({ cls := "WiredNets$Reader", name := "<init>", desc := "(LWiredNets;I)V" } : Jvm.MethodName) prog_8_method_1_code (3 : Nat) (Option.none : Option Jvm.ClassFile.FieldType)) ∈ lw_all := lw_g (lw_at lw_m2 212 rfl) rfl
theorem q561 : (Jvm.Cond.methodLink "WiredNets$Reader" (9 : Nat) ({ cls := "java/lang/Object", name := "<init>", desc := "()V" } : Jvm.MethodName)) ∈ lw_all := lw_g (lw_at lw_m2 213 rfl) rfl
theorem q562 : (Jvm.Cond.fieldLink "WiredNets$Reader" (19 : Nat) "WiredNets$Reader" "size" "I") ∈ lw_all := lw_g (lw_at lw_m2 214 rfl) rfl
theorem q563 : (Jvm.Cond.fieldLink "WiredNets$Reader" (15 : Nat) "WiredNets$Reader" "named" "[I") ∈ lw_all := lw_g (lw_at lw_m2 215 rfl) rfl
theorem q564 : (Jvm.Cond.fieldLink "WiredNets$Reader" (23 : Nat) "WiredNets$Reader" "at" "I") ∈ lw_all := lw_g (lw_at lw_m2 216 rfl) rfl
theorem q565 : (Jvm.Cond.fieldLink "WiredNets$Reader" (41 : Nat) "WiredNets$Reader" "token" "I") ∈ lw_all := lw_g (lw_at lw_m2 217 rfl) rfl
theorem q566 : (Jvm.Cond.fieldLink "WiredNets$Reader" (38 : Nat) "WiredNets$Reader" "begins" "I") ∈ lw_all := lw_g (lw_at lw_m2 218 rfl) rfl
theorem q568 : (Jvm.Cond.fieldLink "WiredNets$Reader" (60 : Nat) "WiredNets$Reader" "ends" "I") ∈ lw_all := lw_g (lw_at lw_m2 220 rfl) rfl
theorem q569 : (Jvm.Cond.fieldLink "WiredNets$Reader" (51 : Nat) "WiredNets$Reader" "number" "I") ∈ lw_all := lw_g (lw_at lw_m2 221 rfl) rfl
theorem q570 : (Jvm.Cond.fieldLink "WiredNets$Reader" (88 : Nat) "WiredNets$Reader" "many" "I") ∈ lw_all := lw_g (lw_at lw_m2 222 rfl) rfl
theorem q571 : (Jvm.Cond.fieldLink "WiredNets$Reader" (91 : Nat) "WiredNets$Reader" "net" "LWiredNets$Net;") ∈ lw_all := lw_g (lw_at lw_m2 223 rfl) rfl
theorem q572 : (Jvm.Cond.fieldLink "WiredNets$Reader" (121 : Nat) "WiredNets$Reader" "clauses" "I") ∈ lw_all := lw_g (lw_at lw_m2 224 rfl) rfl
theorem q573 : (Jvm.Cond.fieldLink "WiredNets$Reader" (3 : Nat) "WiredNets$Reader" "this$0" "LWiredNets;") ∈ lw_all := lw_g (lw_at lw_m2 225 rfl) rfl
theorem q574 : (Jvm.Cond.laysFinal "WiredNets$Reader" "WiredNets$Reader" "size" "I") ∈ lw_all := lw_g (lw_at lw_m2 226 rfl) rfl
theorem q575 : (Jvm.Cond.soleField "WiredNets$Reader" "size") ∈ lw_all := lw_g (lw_at lw_m2 227 rfl) rfl
theorem q576 : (Jvm.Cond.laysFinal "WiredNets$Reader" "WiredNets$Reader" "named" "[I") ∈ lw_all := lw_g (lw_at lw_m2 228 rfl) rfl
theorem q577 : (Jvm.Cond.soleField "WiredNets$Reader" "named") ∈ lw_all := lw_g (lw_at lw_m2 229 rfl) rfl
theorem q578 : (Jvm.Cond.lays "WiredNets$Reader" "WiredNets$Reader" "at" "I") ∈ lw_all := lw_g (lw_at lw_m2 230 rfl) rfl
theorem q579 : (Jvm.Cond.soleField "WiredNets$Reader" "at") ∈ lw_all := lw_g (lw_at lw_m2 231 rfl) rfl
theorem q580 : (Jvm.Cond.lays "WiredNets$Reader" "WiredNets$Reader" "token" "I") ∈ lw_all := lw_g (lw_at lw_m2 232 rfl) rfl
theorem q581 : (Jvm.Cond.soleField "WiredNets$Reader" "token") ∈ lw_all := lw_g (lw_at lw_m2 233 rfl) rfl
theorem q582 : (Jvm.Cond.lays "WiredNets$Reader" "WiredNets$Reader" "begins" "I") ∈ lw_all := lw_g (lw_at lw_m2 234 rfl) rfl
theorem q583 : (Jvm.Cond.soleField "WiredNets$Reader" "begins") ∈ lw_all := lw_g (lw_at lw_m2 235 rfl) rfl
theorem q584 : (Jvm.Cond.lays "WiredNets$Reader" "WiredNets$Reader" "ends" "I") ∈ lw_all := lw_g (lw_at lw_m2 236 rfl) rfl
theorem q585 : (Jvm.Cond.soleField "WiredNets$Reader" "ends") ∈ lw_all := lw_g (lw_at lw_m2 237 rfl) rfl
theorem q586 : (Jvm.Cond.lays "WiredNets$Reader" "WiredNets$Reader" "number" "I") ∈ lw_all := lw_g (lw_at lw_m2 238 rfl) rfl
theorem q587 : (Jvm.Cond.soleField "WiredNets$Reader" "number") ∈ lw_all := lw_g (lw_at lw_m2 239 rfl) rfl
theorem q588 : (Jvm.Cond.lays "WiredNets$Reader" "WiredNets$Reader" "many" "I") ∈ lw_all := lw_g (lw_at lw_m3 0 rfl) rfl
theorem q589 : (Jvm.Cond.soleField "WiredNets$Reader" "many") ∈ lw_all := lw_g (lw_at lw_m3 1 rfl) rfl
theorem q590 : (Jvm.Cond.lays "WiredNets$Reader" "WiredNets$Reader" "net" "LWiredNets$Net;") ∈ lw_all := lw_g (lw_at lw_m3 2 rfl) rfl
theorem q591 : (Jvm.Cond.soleField "WiredNets$Reader" "net") ∈ lw_all := lw_g (lw_at lw_m3 3 rfl) rfl
theorem q592 : (Jvm.Cond.lays "WiredNets$Reader" "WiredNets$Reader" "clauses" "I") ∈ lw_all := lw_g (lw_at lw_m3 4 rfl) rfl
theorem q593 : (Jvm.Cond.soleField "WiredNets$Reader" "clauses") ∈ lw_all := lw_g (lw_at lw_m3 5 rfl) rfl
theorem q594 : (Jvm.Cond.laysFinal "WiredNets$Reader" "WiredNets$Reader" "this$0" "LWiredNets;") ∈ lw_all := lw_g (lw_at lw_m3 6 rfl) rfl
theorem q595 : (Jvm.Cond.soleField "WiredNets$Reader" "this$0") ∈ lw_all := lw_g (lw_at lw_m3 7 rfl) rfl
theorem q596 : (Jvm.Cond.superclass "WiredNets$Reader" "java/lang/Object") ∈ lw_all := lw_g (lw_at lw_m3 8 rfl) rfl
theorem q598 : (Jvm.Cond.instanceMethod ({ cls := "WiredNets$Reader", name := "read", desc := "()LWiredNets$Net;" } : Jvm.MethodName)) ∈ lw_all := lw_g (lw_at lw_m3 10 rfl) rfl
theorem q599 : (Jvm.Cond.selects "WiredNets$Reader" ({ cls := "WiredNets$Reader", name := "read", desc := "()LWiredNets$Net;" } : Jvm.MethodName) ({ cls := "WiredNets$Reader", name := "read", desc := "()LWiredNets$Net;" } : Jvm.MethodName)) ∈ lw_all := lw_g (lw_at lw_m3 11 rfl) rfl
theorem q600 : (Jvm.Cond.code ({ cls := "WiredNets$Reader", name := "read", desc := "()LWiredNets$Net;" } : Jvm.MethodName) prog_8_method_14_code (2 : Nat) (Option.some (Jvm.ClassFile.FieldType.object "WiredNets$Net"))) ∈ lw_all := lw_g (lw_at lw_m3 12 rfl) rfl
theorem q601 : (Jvm.Cond.methodLink "WiredNets$Reader" (85 : Nat) ({ cls := "WiredNets$Reader", name := "next", desc := "()V" } : Jvm.MethodName)) ∈ lw_all := lw_g (lw_at lw_m3 13 rfl) rfl
theorem q602 : (Jvm.Cond.privateMethod ({ cls := "WiredNets$Reader", name := "next", desc := "()V" } : Jvm.MethodName)) ∈ lw_tbl := lw_at lw_m3 14 rfl
theorem q603 : (Jvm.Cond.instanceMethod ({ cls := "WiredNets$Reader", name := "next", desc := "()V" } : Jvm.MethodName)) ∈ lw_all := lw_g (lw_at lw_m3 15 rfl) rfl
theorem q604 : (Jvm.Cond.code ({ cls := "WiredNets$Reader", name := "next", desc := "()V" } : Jvm.MethodName) prog_8_method_5_code (1 : Nat) (Option.none : Option Jvm.ClassFile.FieldType)) ∈ lw_all := lw_g (lw_at lw_m3 16 rfl) rfl
theorem q605 : (Jvm.Cond.methodLink "WiredNets$Reader" (30 : Nat) ({ cls := "WiredNets$Reader", name := "here", desc := "()I" } : Jvm.MethodName)) ∈ lw_all := lw_g (lw_at lw_m3 17 rfl) rfl
theorem q606 : (Jvm.Cond.privateMethod ({ cls := "WiredNets$Reader", name := "here", desc := "()I" } : Jvm.MethodName)) ∈ lw_tbl := lw_at lw_m3 18 rfl
theorem q607 : (Jvm.Cond.instanceMethod ({ cls := "WiredNets$Reader", name := "here", desc := "()I" } : Jvm.MethodName)) ∈ lw_all := lw_g (lw_at lw_m3 19 rfl) rfl
theorem q608 : (Jvm.Cond.code ({ cls := "WiredNets$Reader", name := "here", desc := "()I" } : Jvm.MethodName) prog_8_method_2_code (1 : Nat) (Option.some Jvm.ClassFile.FieldType.int)) ∈ lw_all := lw_g (lw_at lw_m3 20 rfl) rfl
theorem q609 : (Jvm.Cond.methodLink "WiredNets$Reader" (44 : Nat) ({ cls := "WiredNets$Reader", name := "isLetter", desc := "()Z" } : Jvm.MethodName)) ∈ lw_all := lw_g (lw_at lw_m3 21 rfl) rfl
theorem q610 : (Jvm.Cond.privateMethod ({ cls := "WiredNets$Reader", name := "isLetter", desc := "()Z" } : Jvm.MethodName)) ∈ lw_tbl := lw_at lw_m3 22 rfl
theorem q611 : (Jvm.Cond.instanceMethod ({ cls := "WiredNets$Reader", name := "isLetter", desc := "()Z" } : Jvm.MethodName)) ∈ lw_all := lw_g (lw_at lw_m3 23 rfl) rfl
theorem q612 : (Jvm.Cond.code ({ cls := "WiredNets$Reader", name := "isLetter", desc := "()Z" } : Jvm.MethodName) prog_8_method_3_code (1 : Nat) (Option.some Jvm.ClassFile.FieldType.boolean)) ∈ lw_all := lw_g (lw_at lw_m3 24 rfl) rfl
theorem q613 : (Jvm.Cond.methodLinkNest "WiredNets$Reader" (34 : Nat) ({ cls := "WiredNets", name := "in", desc := "(III)Z" } : Jvm.MethodName) "WiredNets") ∈ lw_tbl := lw_at lw_m3 25 rfl
theorem q614 : (Jvm.Cond.methodLink "WiredNets$Reader" (48 : Nat) ({ cls := "WiredNets$Reader", name := "isDigit", desc := "()Z" } : Jvm.MethodName)) ∈ lw_all := lw_g (lw_at lw_m3 26 rfl) rfl
theorem q615 : (Jvm.Cond.privateMethod ({ cls := "WiredNets$Reader", name := "isDigit", desc := "()Z" } : Jvm.MethodName)) ∈ lw_tbl := lw_at lw_m3 27 rfl
theorem q616 : (Jvm.Cond.instanceMethod ({ cls := "WiredNets$Reader", name := "isDigit", desc := "()Z" } : Jvm.MethodName)) ∈ lw_all := lw_g (lw_at lw_m3 28 rfl) rfl
theorem q617 : (Jvm.Cond.code ({ cls := "WiredNets$Reader", name := "isDigit", desc := "()Z" } : Jvm.MethodName) prog_8_method_4_code (1 : Nat) (Option.some Jvm.ClassFile.FieldType.boolean)) ∈ lw_all := lw_g (lw_at lw_m3 29 rfl) rfl
theorem q618 : (Jvm.Cond.methodLink "WiredNets$Reader" (54 : Nat) ({ cls := "java/lang/Math", name := "min", desc := "(II)I" } : Jvm.MethodName)) ∈ lw_all := lw_g (lw_at lw_m3 30 rfl) rfl
theorem q621 : (Jvm.Cond.stringRef "WiredNets$Reader" (133 : Nat) "knots") ∈ lw_tbl := lw_at lw_m3 33 rfl
theorem q622 : (Jvm.Cond.methodLink "WiredNets$Reader" (135 : Nat) ({ cls := "WiredNets$Reader", name := "word", desc := "(Ljava/lang/String;)V" } : Jvm.MethodName)) ∈ lw_all := lw_g (lw_at lw_m3 34 rfl) rfl
theorem q623 : (Jvm.Cond.privateMethod ({ cls := "WiredNets$Reader", name := "word", desc := "(Ljava/lang/String;)V" } : Jvm.MethodName)) ∈ lw_tbl := lw_at lw_m3 35 rfl
theorem q624 : (Jvm.Cond.instanceMethod ({ cls := "WiredNets$Reader", name := "word", desc := "(Ljava/lang/String;)V" } : Jvm.MethodName)) ∈ lw_all := lw_g (lw_at lw_m3 36 rfl) rfl
theorem q625 : (Jvm.Cond.code ({ cls := "WiredNets$Reader", name := "word", desc := "(Ljava/lang/String;)V" } : Jvm.MethodName) prog_8_method_8_code (2 : Nat) (Option.none : Option Jvm.ClassFile.FieldType)) ∈ lw_all := lw_g (lw_at lw_m3 37 rfl) rfl
theorem q626 : (Jvm.Cond.methodLink "WiredNets$Reader" (77 : Nat) ({ cls := "WiredNets$Reader", name := "is", desc := "(Ljava/lang/String;)Z" } : Jvm.MethodName)) ∈ lw_all := lw_g (lw_at lw_m3 38 rfl) rfl
theorem q627 : (Jvm.Cond.privateMethod ({ cls := "WiredNets$Reader", name := "is", desc := "(Ljava/lang/String;)Z" } : Jvm.MethodName)) ∈ lw_tbl := lw_at lw_m3 39 rfl
theorem q628 : (Jvm.Cond.instanceMethod ({ cls := "WiredNets$Reader", name := "is", desc := "(Ljava/lang/String;)Z" } : Jvm.MethodName)) ∈ lw_all := lw_g (lw_at lw_m3 40 rfl) rfl
theorem q629 : (Jvm.Cond.code ({ cls := "WiredNets$Reader", name := "is", desc := "(Ljava/lang/String;)Z" } : Jvm.MethodName) prog_8_method_6_code (3 : Nat) (Option.some Jvm.ClassFile.FieldType.boolean)) ∈ lw_all := lw_g (lw_at lw_m3 41 rfl) rfl
theorem q630 : (Jvm.Cond.methodLink "WiredNets$Reader" (63 : Nat) ({ cls := "java/lang/String", name := "length", desc := "()I" } : Jvm.MethodName)) ∈ lw_all := lw_g (lw_at lw_m3 42 rfl) rfl
theorem q640 : (Jvm.Cond.methodLink "WiredNets$Reader" (68 : Nat) ({ cls := "java/lang/String", name := "charAt", desc := "(I)C" } : Jvm.MethodName)) ∈ lw_all := lw_g (lw_at lw_m3 52 rfl) rfl
theorem q678 : (Jvm.Cond.methodLink "WiredNets$Reader" (81 : Nat) ({ cls := "WiredNets$Reader", name := "want", desc := "(ZI)V" } : Jvm.MethodName)) ∈ lw_all := lw_g (lw_at lw_m3 90 rfl) rfl
theorem q679 : (Jvm.Cond.privateMethod ({ cls := "WiredNets$Reader", name := "want", desc := "(ZI)V" } : Jvm.MethodName)) ∈ lw_tbl := lw_at lw_m3 91 rfl
theorem q680 : (Jvm.Cond.instanceMethod ({ cls := "WiredNets$Reader", name := "want", desc := "(ZI)V" } : Jvm.MethodName)) ∈ lw_all := lw_g (lw_at lw_m3 92 rfl) rfl
theorem q681 : (Jvm.Cond.code ({ cls := "WiredNets$Reader", name := "want", desc := "(ZI)V" } : Jvm.MethodName) prog_8_method_7_code (3 : Nat) (Option.none : Option Jvm.ClassFile.FieldType)) ∈ lw_all := lw_g (lw_at lw_m3 93 rfl) rfl
theorem q682 : (Jvm.Cond.classLink "WiredNets$Reader" (72 : Nat) "WiredNets$Wrong") ∈ lw_all := lw_g (lw_at lw_m3 94 rfl) rfl
theorem q691 : (Jvm.Cond.methodLink "WiredNets$Reader" (74 : Nat) ({ cls := "WiredNets$Wrong", name := "<init>", desc := "(I)V" } : Jvm.MethodName)) ∈ lw_all := lw_g (lw_at lw_m3 103 rfl) rfl
theorem q706 : (Jvm.Cond.methodLink "WiredNets$Reader" (139 : Nat) ({ cls := "WiredNets$Reader", name := "number", desc := "(II)I" } : Jvm.MethodName)) ∈ lw_all := lw_g (lw_at lw_m3 118 rfl) rfl
theorem q707 : (Jvm.Cond.privateMethod ({ cls := "WiredNets$Reader", name := "number", desc := "(II)I" } : Jvm.MethodName)) ∈ lw_tbl := lw_at lw_m3 119 rfl
theorem q708 : (Jvm.Cond.instanceMethod ({ cls := "WiredNets$Reader", name := "number", desc := "(II)I" } : Jvm.MethodName)) ∈ lw_all := lw_g (lw_at lw_m3 120 rfl) rfl
theorem q709 : (Jvm.Cond.code ({ cls := "WiredNets$Reader", name := "number", desc := "(II)I" } : Jvm.MethodName) prog_8_method_9_code (4 : Nat) (Option.some Jvm.ClassFile.FieldType.int)) ∈ lw_all := lw_g (lw_at lw_m3 121 rfl) rfl
theorem q710 : (Jvm.Cond.stringRef "WiredNets$Reader" (141 : Nat) "degree") ∈ lw_tbl := lw_at lw_m3 122 rfl
theorem q711 : (Jvm.Cond.classLink "WiredNets$Reader" (96 : Nat) "WiredNets$Net") ∈ lw_all := lw_g (lw_at lw_m3 123 rfl) rfl
theorem q712 : (Jvm.Cond.methodLink "WiredNets$Reader" (143 : Nat) ({ cls := "WiredNets$Net", name := "<init>", desc := "(II)V" } : Jvm.MethodName)) ∈ lw_all := lw_g (lw_at lw_m3 124 rfl) rfl
theorem q713 : (Jvm.Cond.methodLink "WiredNets$Reader" (145 : Nat) ({ cls := "WiredNets$Reader", name := "semi", desc := "()V" } : Jvm.MethodName)) ∈ lw_all := lw_g (lw_at lw_m3 125 rfl) rfl
theorem q714 : (Jvm.Cond.privateMethod ({ cls := "WiredNets$Reader", name := "semi", desc := "()V" } : Jvm.MethodName)) ∈ lw_tbl := lw_at lw_m3 126 rfl
theorem q715 : (Jvm.Cond.instanceMethod ({ cls := "WiredNets$Reader", name := "semi", desc := "()V" } : Jvm.MethodName)) ∈ lw_all := lw_g (lw_at lw_m3 127 rfl) rfl
theorem q716 : (Jvm.Cond.code ({ cls := "WiredNets$Reader", name := "semi", desc := "()V" } : Jvm.MethodName) prog_8_method_10_code (1 : Nat) (Option.none : Option Jvm.ClassFile.FieldType)) ∈ lw_all := lw_g (lw_at lw_m3 128 rfl) rfl
theorem q717 : (Jvm.Cond.methodLink "WiredNets$Reader" (148 : Nat) ({ cls := "WiredNets$Reader", name := "clause", desc := "()V" } : Jvm.MethodName)) ∈ lw_all := lw_g (lw_at lw_m3 129 rfl) rfl
theorem q718 : (Jvm.Cond.privateMethod ({ cls := "WiredNets$Reader", name := "clause", desc := "()V" } : Jvm.MethodName)) ∈ lw_tbl := lw_at lw_m3 130 rfl
theorem q719 : (Jvm.Cond.instanceMethod ({ cls := "WiredNets$Reader", name := "clause", desc := "()V" } : Jvm.MethodName)) ∈ lw_all := lw_g (lw_at lw_m3 131 rfl) rfl
theorem q720 : (Jvm.Cond.code ({ cls := "WiredNets$Reader", name := "clause", desc := "()V" } : Jvm.MethodName) prog_8_method_13_code (8 : Nat) (Option.none : Option Jvm.ClassFile.FieldType)) ∈ lw_all := lw_g (lw_at lw_m3 132 rfl) rfl
theorem q721 : (Jvm.Cond.stringRef "WiredNets$Reader" (111 : Nat) "row") ∈ lw_tbl := lw_at lw_m3 133 rfl
theorem q722 : (Jvm.Cond.stringRef "WiredNets$Reader" (113 : Nat) "ring") ∈ lw_tbl := lw_at lw_m3 134 rfl
theorem q723 : (Jvm.Cond.stringRef "WiredNets$Reader" (115 : Nat) "all") ∈ lw_tbl := lw_at lw_m3 135 rfl
theorem q724 : (Jvm.Cond.stringRef "WiredNets$Reader" (117 : Nat) "star") ∈ lw_tbl := lw_at lw_m3 136 rfl
theorem q725 : (Jvm.Cond.stringRef "WiredNets$Reader" (119 : Nat) "off") ∈ lw_tbl := lw_at lw_m3 137 rfl
theorem q726 : (Jvm.Cond.methodLink "WiredNets$Reader" (124 : Nat) ({ cls := "WiredNets$Reader", name := "knot", desc := "()V" } : Jvm.MethodName)) ∈ lw_all := lw_g (lw_at lw_m3 138 rfl) rfl
theorem q727 : (Jvm.Cond.privateMethod ({ cls := "WiredNets$Reader", name := "knot", desc := "()V" } : Jvm.MethodName)) ∈ lw_tbl := lw_at lw_m3 139 rfl
theorem q728 : (Jvm.Cond.instanceMethod ({ cls := "WiredNets$Reader", name := "knot", desc := "()V" } : Jvm.MethodName)) ∈ lw_all := lw_g (lw_at lw_m3 140 rfl) rfl
theorem q729 : (Jvm.Cond.code ({ cls := "WiredNets$Reader", name := "knot", desc := "()V" } : Jvm.MethodName) prog_8_method_11_code (2 : Nat) (Option.none : Option Jvm.ClassFile.FieldType)) ∈ lw_all := lw_g (lw_at lw_m3 141 rfl) rfl
theorem q730 : (Jvm.Cond.methodLink "WiredNets$Reader" (100 : Nat) ({ cls := "WiredNets$Net", name := "has", desc := "(II)Z" } : Jvm.MethodName)) ∈ lw_all := lw_g (lw_at lw_m3 142 rfl) rfl
theorem q731 : (Jvm.Cond.methodLink "WiredNets$Reader" (127 : Nat) ({ cls := "WiredNets$Net", name := "clear", desc := "(II)V" } : Jvm.MethodName)) ∈ lw_all := lw_g (lw_at lw_m3 143 rfl) rfl
theorem q732 : (Jvm.Cond.methodLink "WiredNets$Reader" (130 : Nat) ({ cls := "WiredNets$Reader", name := "join", desc := "(II)V" } : Jvm.MethodName)) ∈ lw_all := lw_g (lw_at lw_m3 144 rfl) rfl
theorem q733 : (Jvm.Cond.privateMethod ({ cls := "WiredNets$Reader", name := "join", desc := "(II)V" } : Jvm.MethodName)) ∈ lw_tbl := lw_at lw_m3 145 rfl
theorem q734 : (Jvm.Cond.instanceMethod ({ cls := "WiredNets$Reader", name := "join", desc := "(II)V" } : Jvm.MethodName)) ∈ lw_all := lw_g (lw_at lw_m3 146 rfl) rfl
theorem q735 : (Jvm.Cond.code ({ cls := "WiredNets$Reader", name := "join", desc := "(II)V" } : Jvm.MethodName) prog_8_method_12_code (3 : Nat) (Option.none : Option Jvm.ClassFile.FieldType)) ∈ lw_all := lw_g (lw_at lw_m3 147 rfl) rfl
theorem q736 : (Jvm.Cond.methodLink "WiredNets$Reader" (104 : Nat) ({ cls := "WiredNets$Net", name := "mayJoin", desc := "(II)Z" } : Jvm.MethodName)) ∈ lw_all := lw_g (lw_at lw_m3 148 rfl) rfl
theorem q737 : (Jvm.Cond.methodLink "WiredNets$Reader" (107 : Nat) ({ cls := "WiredNets$Net", name := "set", desc := "(II)V" } : Jvm.MethodName)) ∈ lw_all := lw_g (lw_at lw_m3 149 rfl) rfl
theorem q1149 : (Jvm.Cond.selects "WiredNets$Reader" ({ cls := "java/lang/Object", name := "getClass", desc := "()Ljava/lang/Class;" } : Jvm.MethodName) ({ cls := "java/lang/Object", name := "getClass", desc := "()Ljava/lang/Class;" } : Jvm.MethodName)) ∈ lw_all := lw_g (lw_at lw_m5 81 rfl) rfl
theorem q2178 : (Jvm.Cond.castable "WiredNets$Reader" "java/lang/Object") ∈ lw_tbl := lw_at lw_m9 150 rfl
theorem in_X7 : ∀ w ∈ wsX70, w ∈ lw_all := lw_in wsX70 [574, 576, 578, 580, 582, 584, 586, 588, 590, 592, 594] (by decide +kernel) (by decide +kernel)

/-! WiredNets$Wrong -/
set_option maxRecDepth 100000
def RX8 : String := "WiredNets$Wrong"
def TX8 : u_T := fun k => match k with
  | 0 => ("java/lang/Throwable", "cause", "Ljava/lang/Throwable;", false)
  | 1 => ("java/lang/Throwable", "stackTrace", "[Ljava/lang/StackTraceElement;", false)
  | 2 => ("java/lang/Throwable", "suppressedExceptions", "Ljava/util/List;", false)
  | 3 => ("java/lang/Throwable", "detailMessage", "Ljava/lang/String;", false)
  | 4 => ("java/lang/Throwable", "backtrace", "Ljava/lang/Object;", false)
  | 5 => ("java/lang/Throwable", "depth", "I", false)
  | _ => ("WiredNets$Wrong", "kind", "I", true)
def tyX8 : Nat → FieldType := fun k => match k with
  | 0 => .object "java/lang/Throwable"
  | 1 => .array (.object "java/lang/StackTraceElement")
  | 2 => .object "java/util/List"
  | 3 => .object "java/lang/String"
  | 4 => .object "java/lang/Object"
  | 5 => .int
  | _ => .int
abbrev wsX80 : List Cond := u_ws RX8 TX8 7
theorem nmX8 : ∀ a, a < 7 → ∀ b, b < 7 → a ≠ b → (TX8 a).2.1 ≠ (TX8 b).2.1 := by decide +kernel
theorem tyX8_ok : ∀ k, k < 7 → parseFieldDescriptor (TX8 k).2.2.1 = some (tyX8 k) := by decide +kernel
abbrev cX8_init : ByteArray := prog_13_method_1_code
def yX8_init : MethodName := ⟨RX8, "<init>", "(I)V"⟩
def dkwX8_init_0 : List UInt8 := [42, 1, 1, 3, 3, 183, 0, 1, 42, 27, 181, 0, 7, 177]
abbrev dktX8_init_0 : List UInt8 := dkwX8_init_0 ++ []
theorem dksX8_init_0 : cX8_init.data.toList.drop 0 = dktX8_init_0 := by decide +kernel
theorem dX8_init_0 : decode cX8_init 0 = .ok (.aload_n 0, 1) := dk_42 (dk_at dksX8_init_0 0 rfl rfl)
theorem dX8_init_1 : decode cX8_init 1 = .ok (.aconst_null, 1) := dk_1 (dk_at dksX8_init_0 1 rfl rfl)
theorem dX8_init_2 : decode cX8_init 2 = .ok (.aconst_null, 1) := dk_1 (dk_at dksX8_init_0 2 rfl rfl)
theorem dX8_init_3 : decode cX8_init 3 = .ok (.iconst 0, 1) := dk_3 (dk_at dksX8_init_0 3 rfl rfl)
theorem dX8_init_4 : decode cX8_init 4 = .ok (.iconst 0, 1) := dk_3 (dk_at dksX8_init_0 4 rfl rfl)
theorem dX8_init_5 : decode cX8_init 5 = .ok (.invokespecial 1, 3) := dk_183 0 1 (dk_at dksX8_init_0 5 rfl rfl)
theorem dX8_init_8 : decode cX8_init 8 = .ok (.aload_n 0, 1) := dk_42 (dk_at dksX8_init_0 8 rfl rfl)
theorem dX8_init_9 : decode cX8_init 9 = .ok (.iload_n 1, 1) := dk_27 (dk_at dksX8_init_0 9 rfl rfl)
theorem dX8_init_10 : decode cX8_init 10 = .ok (.putfield 7, 3) := dk_181 0 7 (dk_at dksX8_init_0 10 rfl rfl)
theorem dX8_init_13 : decode cX8_init 13 = .ok (.return_, 1) := dk_177 (dk_at dksX8_init_0 13 rfl rfl)
theorem q131 : (Jvm.Cond.initialized "WiredNets$Wrong") ∈ lw_all := lw_g (lw_at lw_m1 23 rfl) rfl
theorem q469 : (Jvm.Cond.selects "WiredNets$Wrong" ({ cls := "java/lang/Throwable", name := "fillInStackTrace", desc := "()Ljava/lang/Throwable;" } : Jvm.MethodName) ({ cls := "java/lang/Throwable", name := "fillInStackTrace", desc := "()Ljava/lang/Throwable;" } : Jvm.MethodName)) ∈ lw_all := lw_g (lw_at lw_m2 121 rfl) rfl
theorem q683 : (Jvm.Cond.instantiable "WiredNets$Wrong" (7 : Nat)) ∈ lw_all := lw_g (lw_at lw_m3 95 rfl) rfl
theorem q684 : (Jvm.Cond.castable "WiredNets$Wrong" "WiredNets$Wrong") ∈ lw_tbl := lw_at lw_m3 96 rfl
theorem q685 : (Jvm.Cond.selects "WiredNets$Wrong" ({ cls := "java/lang/Throwable", name := "fillInStackTrace", desc := "(I)Ljava/lang/Throwable;" } : Jvm.MethodName) ({ cls := "java/lang/Throwable", name := "fillInStackTrace", desc := "(I)Ljava/lang/Throwable;" } : Jvm.MethodName)) ∈ lw_all := lw_g (lw_at lw_m3 97 rfl) rfl
theorem q686 : (Jvm.Cond.lays "WiredNets$Wrong" "java/lang/Throwable" "cause" "Ljava/lang/Throwable;") ∈ lw_all := lw_g (lw_at lw_m3 98 rfl) rfl
theorem q687 : (Jvm.Cond.lays "WiredNets$Wrong" "java/lang/Throwable" "stackTrace" "[Ljava/lang/StackTraceElement;") ∈ lw_all := lw_g (lw_at lw_m3 99 rfl) rfl
theorem q688 : (Jvm.Cond.lays "WiredNets$Wrong" "java/lang/Throwable" "suppressedExceptions" "Ljava/util/List;") ∈ lw_all := lw_g (lw_at lw_m3 100 rfl) rfl
theorem q689 : (Jvm.Cond.lays "WiredNets$Wrong" "java/lang/Throwable" "detailMessage" "Ljava/lang/String;") ∈ lw_all := lw_g (lw_at lw_m3 101 rfl) rfl
theorem q690 : (Jvm.Cond.lays "WiredNets$Wrong" "java/lang/Throwable" "backtrace" "Ljava/lang/Object;") ∈ lw_all := lw_g (lw_at lw_m3 102 rfl) rfl
theorem q692 : (Jvm.Cond.instanceMethod ({ cls := "WiredNets$Wrong", name := "<init>", desc := "(I)V" } : Jvm.MethodName)) ∈ lw_all := lw_g (lw_at lw_m3 104 rfl) rfl
theorem q693 : (Jvm.Cond.code ({ cls := "WiredNets$Wrong", name := "<init>", desc := "(I)V" } : Jvm.MethodName) prog_13_method_1_code (2 : Nat) (Option.none : Option Jvm.ClassFile.FieldType)) ∈ lw_all := lw_g (lw_at lw_m3 105 rfl) rfl
theorem q694 : (Jvm.Cond.methodLink "WiredNets$Wrong" (1 : Nat) ({ cls := "java/lang/Exception", name := "<init>", desc := "(Ljava/lang/String;Ljava/lang/Throwable;ZZ)V" } : Jvm.MethodName)) ∈ lw_all := lw_g (lw_at lw_m3 106 rfl) rfl
theorem q700 : (Jvm.Cond.fieldLink "WiredNets$Wrong" (7 : Nat) "WiredNets$Wrong" "kind" "I") ∈ lw_all := lw_g (lw_at lw_m3 112 rfl) rfl
theorem q702 : (Jvm.Cond.laysFinal "WiredNets$Wrong" "WiredNets$Wrong" "kind" "I") ∈ lw_all := lw_g (lw_at lw_m3 114 rfl) rfl
theorem q703 : (Jvm.Cond.soleField "WiredNets$Wrong" "kind") ∈ lw_all := lw_g (lw_at lw_m3 115 rfl) rfl
theorem q704 : (Jvm.Cond.lays "WiredNets$Wrong" "java/lang/Throwable" "depth" "I") ∈ lw_all := lw_g (lw_at lw_m3 116 rfl) rfl
theorem q705 : (Jvm.Cond.superclass "WiredNets$Wrong" "java/lang/Exception") ∈ lw_all := lw_g (lw_at lw_m3 117 rfl) rfl
theorem q1154 : (Jvm.Cond.selects "WiredNets$Wrong" ({ cls := "java/lang/Object", name := "getClass", desc := "()Ljava/lang/Class;" } : Jvm.MethodName) ({ cls := "java/lang/Object", name := "getClass", desc := "()Ljava/lang/Class;" } : Jvm.MethodName)) ∈ lw_all := lw_g (lw_at lw_m5 86 rfl) rfl
theorem q2179 : (Jvm.Cond.castable "WiredNets$Wrong" "java/lang/Object") ∈ lw_tbl := lw_at lw_m9 151 rfl
theorem in_X8 : ∀ w ∈ wsX80, w ∈ lw_all := lw_in wsX80 [686, 687, 688, 689, 690, 704, 702] (by decide +kernel) (by decide +kernel)

/-! java/util/AbstractCollection -/
set_option maxRecDepth 100000
def RJ0 : String := "java/util/AbstractCollection"
abbrev cJ0_init : ByteArray := prog_31_method_1_code
def yJ0_init : MethodName := ⟨RJ0, "<init>", "()V"⟩
theorem dJ0_init_0 : decode cJ0_init 0 = .ok (.aload_n 0, 1) := by decide +kernel
theorem dJ0_init_1 : decode cJ0_init 1 = .ok (.invokespecial 1, 3) := by decide +kernel
theorem dJ0_init_4 : decode cJ0_init 4 = .ok (.return_, 1) := by decide +kernel
theorem q112 : (Jvm.Cond.initialized "java/util/AbstractCollection") ∈ lw_all := lw_g (lw_at lw_m1 4 rfl) rfl
theorem q205 : (Jvm.Cond.instanceMethod ({ cls := "java/util/AbstractCollection", name := "<init>", desc := "()V" } : Jvm.MethodName)) ∈ lw_all := lw_g (lw_at lw_m1 97 rfl) rfl
theorem q206 : (Jvm.Cond.code ({ cls := "java/util/AbstractCollection", name := "<init>", desc := "()V" } : Jvm.MethodName) prog_31_method_1_code (1 : Nat) (Option.none : Option Jvm.ClassFile.FieldType)) ∈ lw_all := lw_g (lw_at lw_m1 98 rfl) rfl
theorem q207 : (Jvm.Cond.methodLink "java/util/AbstractCollection" (1 : Nat) ({ cls := "java/lang/Object", name := "<init>", desc := "()V" } : Jvm.MethodName)) ∈ lw_all := lw_g (lw_at lw_m1 99 rfl) rfl

/-! java/util/AbstractList -/
set_option maxRecDepth 100000
def RJ1 : String := "java/util/AbstractList"
abbrev cJ1_init : ByteArray := prog_32_method_1_code
def yJ1_init : MethodName := ⟨RJ1, "<init>", "()V"⟩
def dkwJ1_init_0 : List UInt8 := [42, 183, 0, 1, 42, 3, 181, 0, 7, 177]
abbrev dktJ1_init_0 : List UInt8 := dkwJ1_init_0 ++ []
theorem dksJ1_init_0 : cJ1_init.data.toList.drop 0 = dktJ1_init_0 := by decide +kernel
theorem dJ1_init_0 : decode cJ1_init 0 = .ok (.aload_n 0, 1) := dk_42 (dk_at dksJ1_init_0 0 rfl rfl)
theorem dJ1_init_1 : decode cJ1_init 1 = .ok (.invokespecial 1, 3) := dk_183 0 1 (dk_at dksJ1_init_0 1 rfl rfl)
theorem dJ1_init_4 : decode cJ1_init 4 = .ok (.aload_n 0, 1) := dk_42 (dk_at dksJ1_init_0 4 rfl rfl)
theorem dJ1_init_5 : decode cJ1_init 5 = .ok (.iconst 0, 1) := dk_3 (dk_at dksJ1_init_0 5 rfl rfl)
theorem dJ1_init_6 : decode cJ1_init 6 = .ok (.putfield 7, 3) := dk_181 0 7 (dk_at dksJ1_init_0 6 rfl rfl)
theorem dJ1_init_9 : decode cJ1_init 9 = .ok (.return_, 1) := dk_177 (dk_at dksJ1_init_0 9 rfl rfl)
theorem q113 : (Jvm.Cond.initialized "java/util/AbstractList") ∈ lw_all := lw_g (lw_at lw_m1 5 rfl) rfl
theorem q202 : (Jvm.Cond.instanceMethod ({ cls := "java/util/AbstractList", name := "<init>", desc := "()V" } : Jvm.MethodName)) ∈ lw_all := lw_g (lw_at lw_m1 94 rfl) rfl
theorem q203 : (Jvm.Cond.code ({ cls := "java/util/AbstractList", name := "<init>", desc := "()V" } : Jvm.MethodName) prog_32_method_1_code (1 : Nat) (Option.none : Option Jvm.ClassFile.FieldType)) ∈ lw_all := lw_g (lw_at lw_m1 95 rfl) rfl
theorem q204 : (Jvm.Cond.methodLink "java/util/AbstractList" (1 : Nat) ({ cls := "java/util/AbstractCollection", name := "<init>", desc := "()V" } : Jvm.MethodName)) ∈ lw_all := lw_g (lw_at lw_m1 96 rfl) rfl
theorem q212 : (Jvm.Cond.fieldLink "java/util/AbstractList" (7 : Nat) "java/util/AbstractList" "modCount" "I") ∈ lw_all := lw_g (lw_at lw_m1 104 rfl) rfl
theorem q220 : (Jvm.Cond.soleField "java/util/AbstractList" "modCount") ∈ lw_all := lw_g (lw_at lw_m1 112 rfl) rfl

/-! java/util/ArrayList -/
set_option maxRecDepth 100000
def RJ2 : String := "java/util/ArrayList"
def TJ2 : u_T := fun k => match k with
  | 0 => ("java/util/AbstractList", "modCount", "I", false)
  | 1 => ("java/util/ArrayList", "elementData", "[Ljava/lang/Object;", false)
  | _ => ("java/util/ArrayList", "size", "I", false)
def tyJ2 : Nat → FieldType := fun k => match k with
  | 0 => .int
  | 1 => .array (.object "java/lang/Object")
  | _ => .int
abbrev wsJ20 : List Cond := u_ws RJ2 TJ2 3
theorem nmJ2 : ∀ a, a < 3 → ∀ b, b < 3 → a ≠ b → (TJ2 a).2.1 ≠ (TJ2 b).2.1 := by decide +kernel
theorem tyJ2_ok : ∀ k, k < 3 → parseFieldDescriptor (TJ2 k).2.2.1 = some (tyJ2 k) := by decide +kernel
abbrev cJ2_init : ByteArray := prog_33_method_2_code
def yJ2_init : MethodName := ⟨RJ2, "<init>", "()V"⟩
def dkwJ2_init_0 : List UInt8 := [42, 183, 0, 1, 42, 178, 0, 39, 181, 0, 9, 177]
abbrev dktJ2_init_0 : List UInt8 := dkwJ2_init_0 ++ []
theorem dksJ2_init_0 : cJ2_init.data.toList.drop 0 = dktJ2_init_0 := by decide +kernel
theorem dJ2_init_0 : decode cJ2_init 0 = .ok (.aload_n 0, 1) := dk_42 (dk_at dksJ2_init_0 0 rfl rfl)
theorem dJ2_init_1 : decode cJ2_init 1 = .ok (.invokespecial 1, 3) := dk_183 0 1 (dk_at dksJ2_init_0 1 rfl rfl)
theorem dJ2_init_4 : decode cJ2_init 4 = .ok (.aload_n 0, 1) := dk_42 (dk_at dksJ2_init_0 4 rfl rfl)
theorem dJ2_init_5 : decode cJ2_init 5 = .ok (.getstatic 39, 3) := dk_178 0 39 (dk_at dksJ2_init_0 5 rfl rfl)
theorem dJ2_init_8 : decode cJ2_init 8 = .ok (.putfield 9, 3) := dk_181 0 9 (dk_at dksJ2_init_0 8 rfl rfl)
theorem dJ2_init_11 : decode cJ2_init 11 = .ok (.return_, 1) := dk_177 (dk_at dksJ2_init_0 11 rfl rfl)
abbrev cJ2_clear : ByteArray := prog_33_method_40_code
def yJ2_clear : MethodName := ⟨RJ2, "clear", "()V"⟩
def dkwJ2_clear_1 : List UInt8 := [181, 0, 48, 62, 29, 28, 162, 0, 13, 43, 29, 1, 83, 132, 3, 1, 167, 255, 244, 177]
abbrev dktJ2_clear_1 : List UInt8 := dkwJ2_clear_1 ++ []
def dkwJ2_clear_0 : List UInt8 := [42, 89, 180, 0, 63, 4, 96, 181, 0, 63, 42, 180, 0, 9, 76, 42, 180, 0, 48, 61, 42, 3, 90]
abbrev dktJ2_clear_0 : List UInt8 := dkwJ2_clear_0 ++ dktJ2_clear_1
theorem dksJ2_clear_0 : cJ2_clear.data.toList.drop 0 = dktJ2_clear_0 := by decide +kernel
theorem dksJ2_clear_1 : cJ2_clear.data.toList.drop 23 = dktJ2_clear_1 := dk_seg dksJ2_clear_0 23 rfl rfl
theorem dJ2_clear_0 : decode cJ2_clear 0 = .ok (.aload_n 0, 1) := dk_42 (dk_at dksJ2_clear_0 0 rfl rfl)
theorem dJ2_clear_1 : decode cJ2_clear 1 = .ok (.dup, 1) := dk_89 (dk_at dksJ2_clear_0 1 rfl rfl)
theorem dJ2_clear_2 : decode cJ2_clear 2 = .ok (.getfield 63, 3) := dk_180 0 63 (dk_at dksJ2_clear_0 2 rfl rfl)
theorem dJ2_clear_5 : decode cJ2_clear 5 = .ok (.iconst 1, 1) := dk_4 (dk_at dksJ2_clear_0 5 rfl rfl)
theorem dJ2_clear_6 : decode cJ2_clear 6 = .ok (.iadd, 1) := dk_96 (dk_at dksJ2_clear_0 6 rfl rfl)
theorem dJ2_clear_7 : decode cJ2_clear 7 = .ok (.putfield 63, 3) := dk_181 0 63 (dk_at dksJ2_clear_0 7 rfl rfl)
theorem dJ2_clear_10 : decode cJ2_clear 10 = .ok (.aload_n 0, 1) := dk_42 (dk_at dksJ2_clear_0 10 rfl rfl)
theorem dJ2_clear_11 : decode cJ2_clear 11 = .ok (.getfield 9, 3) := dk_180 0 9 (dk_at dksJ2_clear_0 11 rfl rfl)
theorem dJ2_clear_14 : decode cJ2_clear 14 = .ok (.astore_n 1, 1) := dk_76 (dk_at dksJ2_clear_0 14 rfl rfl)
theorem dJ2_clear_15 : decode cJ2_clear 15 = .ok (.aload_n 0, 1) := dk_42 (dk_at dksJ2_clear_0 15 rfl rfl)
theorem dJ2_clear_16 : decode cJ2_clear 16 = .ok (.getfield 48, 3) := dk_180 0 48 (dk_at dksJ2_clear_0 16 rfl rfl)
theorem dJ2_clear_19 : decode cJ2_clear 19 = .ok (.istore_n 2, 1) := dk_61 (dk_at dksJ2_clear_0 19 rfl rfl)
theorem dJ2_clear_20 : decode cJ2_clear 20 = .ok (.aload_n 0, 1) := dk_42 (dk_at dksJ2_clear_0 20 rfl rfl)
theorem dJ2_clear_21 : decode cJ2_clear 21 = .ok (.iconst 0, 1) := dk_3 (dk_at dksJ2_clear_0 21 rfl rfl)
theorem dJ2_clear_22 : decode cJ2_clear 22 = .ok (.dup_x1, 1) := dk_90 (dk_at dksJ2_clear_0 22 rfl rfl)
theorem dJ2_clear_23 : decode cJ2_clear 23 = .ok (.putfield 48, 3) := dk_181 0 48 (dk_at dksJ2_clear_1 0 rfl rfl)
theorem dJ2_clear_26 : decode cJ2_clear 26 = .ok (.istore_n 3, 1) := dk_62 (dk_at dksJ2_clear_1 3 rfl rfl)
theorem dJ2_clear_27 : decode cJ2_clear 27 = .ok (.iload_n 3, 1) := dk_29 (dk_at dksJ2_clear_1 4 rfl rfl)
theorem dJ2_clear_28 : decode cJ2_clear 28 = .ok (.iload_n 2, 1) := dk_28 (dk_at dksJ2_clear_1 5 rfl rfl)
theorem dJ2_clear_29 : decode cJ2_clear 29 = .ok (.if_icmp .ge 13, 3) := dk_162 0 13 (dk_at dksJ2_clear_1 6 rfl rfl)
theorem dJ2_clear_32 : decode cJ2_clear 32 = .ok (.aload_n 1, 1) := dk_43 (dk_at dksJ2_clear_1 9 rfl rfl)
theorem dJ2_clear_33 : decode cJ2_clear 33 = .ok (.iload_n 3, 1) := dk_29 (dk_at dksJ2_clear_1 10 rfl rfl)
theorem dJ2_clear_34 : decode cJ2_clear 34 = .ok (.aconst_null, 1) := dk_1 (dk_at dksJ2_clear_1 11 rfl rfl)
theorem dJ2_clear_35 : decode cJ2_clear 35 = .ok (.aastore, 1) := dk_83 (dk_at dksJ2_clear_1 12 rfl rfl)
theorem dJ2_clear_36 : decode cJ2_clear 36 = .ok (.iinc 3 1, 3) := dk_132 3 1 (dk_at dksJ2_clear_1 13 rfl rfl)
theorem dJ2_clear_39 : decode cJ2_clear 39 = .ok (.goto (-12), 3) := dk_167 255 244 (dk_at dksJ2_clear_1 16 rfl rfl)
theorem dJ2_clear_42 : decode cJ2_clear 42 = .ok (.return_, 1) := dk_177 (dk_at dksJ2_clear_1 19 rfl rfl)
abbrev cJ2_add : ByteArray := prog_33_method_25_code
def yJ2_add : MethodName := ⟨RJ2, "add", "(Ljava/lang/Object;)Z"⟩
def dkwJ2_add_1 : List UInt8 := [172]
abbrev dktJ2_add_1 : List UInt8 := dkwJ2_add_1 ++ []
def dkwJ2_add_0 : List UInt8 := [42, 89, 180, 0, 63, 4, 96, 181, 0, 63, 42, 43, 42, 180, 0, 9, 42, 180, 0, 48, 182, 0, 131, 4]
abbrev dktJ2_add_0 : List UInt8 := dkwJ2_add_0 ++ dktJ2_add_1
theorem dksJ2_add_0 : cJ2_add.data.toList.drop 0 = dktJ2_add_0 := by decide +kernel
theorem dksJ2_add_1 : cJ2_add.data.toList.drop 24 = dktJ2_add_1 := dk_seg dksJ2_add_0 24 rfl rfl
theorem dJ2_add_0 : decode cJ2_add 0 = .ok (.aload_n 0, 1) := dk_42 (dk_at dksJ2_add_0 0 rfl rfl)
theorem dJ2_add_1 : decode cJ2_add 1 = .ok (.dup, 1) := dk_89 (dk_at dksJ2_add_0 1 rfl rfl)
theorem dJ2_add_2 : decode cJ2_add 2 = .ok (.getfield 63, 3) := dk_180 0 63 (dk_at dksJ2_add_0 2 rfl rfl)
theorem dJ2_add_5 : decode cJ2_add 5 = .ok (.iconst 1, 1) := dk_4 (dk_at dksJ2_add_0 5 rfl rfl)
theorem dJ2_add_6 : decode cJ2_add 6 = .ok (.iadd, 1) := dk_96 (dk_at dksJ2_add_0 6 rfl rfl)
theorem dJ2_add_7 : decode cJ2_add 7 = .ok (.putfield 63, 3) := dk_181 0 63 (dk_at dksJ2_add_0 7 rfl rfl)
theorem dJ2_add_10 : decode cJ2_add 10 = .ok (.aload_n 0, 1) := dk_42 (dk_at dksJ2_add_0 10 rfl rfl)
theorem dJ2_add_11 : decode cJ2_add 11 = .ok (.aload_n 1, 1) := dk_43 (dk_at dksJ2_add_0 11 rfl rfl)
theorem dJ2_add_12 : decode cJ2_add 12 = .ok (.aload_n 0, 1) := dk_42 (dk_at dksJ2_add_0 12 rfl rfl)
theorem dJ2_add_13 : decode cJ2_add 13 = .ok (.getfield 9, 3) := dk_180 0 9 (dk_at dksJ2_add_0 13 rfl rfl)
theorem dJ2_add_16 : decode cJ2_add 16 = .ok (.aload_n 0, 1) := dk_42 (dk_at dksJ2_add_0 16 rfl rfl)
theorem dJ2_add_17 : decode cJ2_add 17 = .ok (.getfield 48, 3) := dk_180 0 48 (dk_at dksJ2_add_0 17 rfl rfl)
theorem dJ2_add_20 : decode cJ2_add 20 = .ok (.invokevirtual 131, 3) := dk_182 0 131 (dk_at dksJ2_add_0 20 rfl rfl)
theorem dJ2_add_23 : decode cJ2_add 23 = .ok (.iconst 1, 1) := dk_4 (dk_at dksJ2_add_0 23 rfl rfl)
theorem dJ2_add_24 : decode cJ2_add 24 = .ok (.ireturn, 1) := dk_172 (dk_at dksJ2_add_1 0 rfl rfl)
abbrev cJ2_add_2 : ByteArray := prog_33_method_24_code
def yJ2_add_2 : MethodName := ⟨RJ2, "add", "(Ljava/lang/Object;[Ljava/lang/Object;I)V"⟩
def dkwJ2_add_2_0 : List UInt8 := [29, 44, 190, 160, 0, 8, 42, 182, 0, 129, 77, 44, 29, 43, 83, 42, 29, 4, 96, 181, 0, 48, 177]
abbrev dktJ2_add_2_0 : List UInt8 := dkwJ2_add_2_0 ++ []
theorem dksJ2_add_2_0 : cJ2_add_2.data.toList.drop 0 = dktJ2_add_2_0 := by decide +kernel
theorem dJ2_add_2_0 : decode cJ2_add_2 0 = .ok (.iload_n 3, 1) := dk_29 (dk_at dksJ2_add_2_0 0 rfl rfl)
theorem dJ2_add_2_1 : decode cJ2_add_2 1 = .ok (.aload_n 2, 1) := dk_44 (dk_at dksJ2_add_2_0 1 rfl rfl)
theorem dJ2_add_2_2 : decode cJ2_add_2 2 = .ok (.arraylength, 1) := dk_190 (dk_at dksJ2_add_2_0 2 rfl rfl)
theorem dJ2_add_2_3 : decode cJ2_add_2 3 = .ok (.if_icmp .ne 8, 3) := dk_160 0 8 (dk_at dksJ2_add_2_0 3 rfl rfl)
theorem dJ2_add_2_6 : decode cJ2_add_2 6 = .ok (.aload_n 0, 1) := dk_42 (dk_at dksJ2_add_2_0 6 rfl rfl)
theorem dJ2_add_2_7 : decode cJ2_add_2 7 = .ok (.invokevirtual 129, 3) := dk_182 0 129 (dk_at dksJ2_add_2_0 7 rfl rfl)
theorem dJ2_add_2_10 : decode cJ2_add_2 10 = .ok (.astore_n 2, 1) := dk_77 (dk_at dksJ2_add_2_0 10 rfl rfl)
theorem dJ2_add_2_11 : decode cJ2_add_2 11 = .ok (.aload_n 2, 1) := dk_44 (dk_at dksJ2_add_2_0 11 rfl rfl)
theorem dJ2_add_2_12 : decode cJ2_add_2 12 = .ok (.iload_n 3, 1) := dk_29 (dk_at dksJ2_add_2_0 12 rfl rfl)
theorem dJ2_add_2_13 : decode cJ2_add_2 13 = .ok (.aload_n 1, 1) := dk_43 (dk_at dksJ2_add_2_0 13 rfl rfl)
theorem dJ2_add_2_14 : decode cJ2_add_2 14 = .ok (.aastore, 1) := dk_83 (dk_at dksJ2_add_2_0 14 rfl rfl)
theorem dJ2_add_2_15 : decode cJ2_add_2 15 = .ok (.aload_n 0, 1) := dk_42 (dk_at dksJ2_add_2_0 15 rfl rfl)
theorem dJ2_add_2_16 : decode cJ2_add_2 16 = .ok (.iload_n 3, 1) := dk_29 (dk_at dksJ2_add_2_0 16 rfl rfl)
theorem dJ2_add_2_17 : decode cJ2_add_2 17 = .ok (.iconst 1, 1) := dk_4 (dk_at dksJ2_add_2_0 17 rfl rfl)
theorem dJ2_add_2_18 : decode cJ2_add_2 18 = .ok (.iadd, 1) := dk_96 (dk_at dksJ2_add_2_0 18 rfl rfl)
theorem dJ2_add_2_19 : decode cJ2_add_2 19 = .ok (.putfield 48, 3) := dk_181 0 48 (dk_at dksJ2_add_2_0 19 rfl rfl)
theorem dJ2_add_2_22 : decode cJ2_add_2 22 = .ok (.return_, 1) := dk_177 (dk_at dksJ2_add_2_0 22 rfl rfl)
abbrev cJ2_grow : ByteArray := prog_33_method_7_code
def yJ2_grow : MethodName := ⟨RJ2, "grow", "()[Ljava/lang/Object;"⟩
def dkwJ2_grow_0 : List UInt8 := [42, 42, 180, 0, 48, 4, 96, 182, 0, 69, 176]
abbrev dktJ2_grow_0 : List UInt8 := dkwJ2_grow_0 ++ []
theorem dksJ2_grow_0 : cJ2_grow.data.toList.drop 0 = dktJ2_grow_0 := by decide +kernel
theorem dJ2_grow_0 : decode cJ2_grow 0 = .ok (.aload_n 0, 1) := dk_42 (dk_at dksJ2_grow_0 0 rfl rfl)
theorem dJ2_grow_1 : decode cJ2_grow 1 = .ok (.aload_n 0, 1) := dk_42 (dk_at dksJ2_grow_0 1 rfl rfl)
theorem dJ2_grow_2 : decode cJ2_grow 2 = .ok (.getfield 48, 3) := dk_180 0 48 (dk_at dksJ2_grow_0 2 rfl rfl)
theorem dJ2_grow_5 : decode cJ2_grow 5 = .ok (.iconst 1, 1) := dk_4 (dk_at dksJ2_grow_0 5 rfl rfl)
theorem dJ2_grow_6 : decode cJ2_grow 6 = .ok (.iadd, 1) := dk_96 (dk_at dksJ2_grow_0 6 rfl rfl)
theorem dJ2_grow_7 : decode cJ2_grow 7 = .ok (.invokevirtual 69, 3) := dk_182 0 69 (dk_at dksJ2_grow_0 7 rfl rfl)
theorem dJ2_grow_10 : decode cJ2_grow 10 = .ok (.areturn, 1) := dk_176 (dk_at dksJ2_grow_0 10 rfl rfl)
abbrev cJ2_grow_2 : ByteArray := prog_33_method_6_code
def yJ2_grow_2 : MethodName := ⟨RJ2, "grow", "(I)[Ljava/lang/Object;"⟩
def dkwJ2_grow_2_2 : List UInt8 := [27, 184, 0, 79, 189, 0, 7, 90, 181, 0, 9, 176]
abbrev dktJ2_grow_2_2 : List UInt8 := dkwJ2_grow_2_2 ++ []
def dkwJ2_grow_2_1 : List UInt8 := [28, 4, 122, 184, 0, 73, 62, 42, 42, 180, 0, 9, 29, 184, 0, 66, 90, 181, 0, 9, 176, 42, 16, 10]
abbrev dktJ2_grow_2_1 : List UInt8 := dkwJ2_grow_2_1 ++ dktJ2_grow_2_2
def dkwJ2_grow_2_0 : List UInt8 := [42, 180, 0, 9, 190, 61, 28, 157, 0, 13, 42, 180, 0, 9, 178, 0, 39, 165, 0, 28, 28, 27, 28, 100]
abbrev dktJ2_grow_2_0 : List UInt8 := dkwJ2_grow_2_0 ++ dktJ2_grow_2_1
theorem dksJ2_grow_2_0 : cJ2_grow_2.data.toList.drop 0 = dktJ2_grow_2_0 := by decide +kernel
theorem dksJ2_grow_2_1 : cJ2_grow_2.data.toList.drop 24 = dktJ2_grow_2_1 := dk_seg dksJ2_grow_2_0 24 rfl rfl
theorem dksJ2_grow_2_2 : cJ2_grow_2.data.toList.drop 48 = dktJ2_grow_2_2 := dk_seg dksJ2_grow_2_1 24 rfl rfl
theorem dJ2_grow_2_0 : decode cJ2_grow_2 0 = .ok (.aload_n 0, 1) := dk_42 (dk_at dksJ2_grow_2_0 0 rfl rfl)
theorem dJ2_grow_2_1 : decode cJ2_grow_2 1 = .ok (.getfield 9, 3) := dk_180 0 9 (dk_at dksJ2_grow_2_0 1 rfl rfl)
theorem dJ2_grow_2_4 : decode cJ2_grow_2 4 = .ok (.arraylength, 1) := dk_190 (dk_at dksJ2_grow_2_0 4 rfl rfl)
theorem dJ2_grow_2_5 : decode cJ2_grow_2 5 = .ok (.istore_n 2, 1) := dk_61 (dk_at dksJ2_grow_2_0 5 rfl rfl)
theorem dJ2_grow_2_6 : decode cJ2_grow_2 6 = .ok (.iload_n 2, 1) := dk_28 (dk_at dksJ2_grow_2_0 6 rfl rfl)
theorem dJ2_grow_2_7 : decode cJ2_grow_2 7 = .ok (.ifCond .gt 13, 3) := dk_157 0 13 (dk_at dksJ2_grow_2_0 7 rfl rfl)
theorem dJ2_grow_2_10 : decode cJ2_grow_2 10 = .ok (.aload_n 0, 1) := dk_42 (dk_at dksJ2_grow_2_0 10 rfl rfl)
theorem dJ2_grow_2_11 : decode cJ2_grow_2 11 = .ok (.getfield 9, 3) := dk_180 0 9 (dk_at dksJ2_grow_2_0 11 rfl rfl)
theorem dJ2_grow_2_14 : decode cJ2_grow_2 14 = .ok (.getstatic 39, 3) := dk_178 0 39 (dk_at dksJ2_grow_2_0 14 rfl rfl)
theorem dJ2_grow_2_17 : decode cJ2_grow_2 17 = .ok (.if_acmp .eq 28, 3) := dk_165 0 28 (dk_at dksJ2_grow_2_0 17 rfl rfl)
theorem dJ2_grow_2_20 : decode cJ2_grow_2 20 = .ok (.iload_n 2, 1) := dk_28 (dk_at dksJ2_grow_2_0 20 rfl rfl)
theorem dJ2_grow_2_21 : decode cJ2_grow_2 21 = .ok (.iload_n 1, 1) := dk_27 (dk_at dksJ2_grow_2_0 21 rfl rfl)
theorem dJ2_grow_2_22 : decode cJ2_grow_2 22 = .ok (.iload_n 2, 1) := dk_28 (dk_at dksJ2_grow_2_0 22 rfl rfl)
theorem dJ2_grow_2_23 : decode cJ2_grow_2 23 = .ok (.isub, 1) := dk_100 (dk_at dksJ2_grow_2_0 23 rfl rfl)
theorem dJ2_grow_2_24 : decode cJ2_grow_2 24 = .ok (.iload_n 2, 1) := dk_28 (dk_at dksJ2_grow_2_1 0 rfl rfl)
theorem dJ2_grow_2_25 : decode cJ2_grow_2 25 = .ok (.iconst 1, 1) := dk_4 (dk_at dksJ2_grow_2_1 1 rfl rfl)
theorem dJ2_grow_2_26 : decode cJ2_grow_2 26 = .ok (.ishr, 1) := dk_122 (dk_at dksJ2_grow_2_1 2 rfl rfl)
theorem dJ2_grow_2_27 : decode cJ2_grow_2 27 = .ok (.invokestatic 73, 3) := dk_184 0 73 (dk_at dksJ2_grow_2_1 3 rfl rfl)
theorem dJ2_grow_2_30 : decode cJ2_grow_2 30 = .ok (.istore_n 3, 1) := dk_62 (dk_at dksJ2_grow_2_1 6 rfl rfl)
theorem dJ2_grow_2_31 : decode cJ2_grow_2 31 = .ok (.aload_n 0, 1) := dk_42 (dk_at dksJ2_grow_2_1 7 rfl rfl)
theorem dJ2_grow_2_32 : decode cJ2_grow_2 32 = .ok (.aload_n 0, 1) := dk_42 (dk_at dksJ2_grow_2_1 8 rfl rfl)
theorem dJ2_grow_2_33 : decode cJ2_grow_2 33 = .ok (.getfield 9, 3) := dk_180 0 9 (dk_at dksJ2_grow_2_1 9 rfl rfl)
theorem dJ2_grow_2_36 : decode cJ2_grow_2 36 = .ok (.iload_n 3, 1) := dk_29 (dk_at dksJ2_grow_2_1 12 rfl rfl)
theorem dJ2_grow_2_37 : decode cJ2_grow_2 37 = .ok (.invokestatic 66, 3) := dk_184 0 66 (dk_at dksJ2_grow_2_1 13 rfl rfl)
theorem dJ2_grow_2_40 : decode cJ2_grow_2 40 = .ok (.dup_x1, 1) := dk_90 (dk_at dksJ2_grow_2_1 16 rfl rfl)
theorem dJ2_grow_2_41 : decode cJ2_grow_2 41 = .ok (.putfield 9, 3) := dk_181 0 9 (dk_at dksJ2_grow_2_1 17 rfl rfl)
theorem dJ2_grow_2_44 : decode cJ2_grow_2 44 = .ok (.areturn, 1) := dk_176 (dk_at dksJ2_grow_2_1 20 rfl rfl)
theorem dJ2_grow_2_45 : decode cJ2_grow_2 45 = .ok (.aload_n 0, 1) := dk_42 (dk_at dksJ2_grow_2_1 21 rfl rfl)
theorem dJ2_grow_2_46 : decode cJ2_grow_2 46 = .ok (.bipush 10, 2) := dk_16 10 (dk_at dksJ2_grow_2_1 22 rfl rfl)
theorem dJ2_grow_2_48 : decode cJ2_grow_2 48 = .ok (.iload_n 1, 1) := dk_27 (dk_at dksJ2_grow_2_2 0 rfl rfl)
theorem dJ2_grow_2_49 : decode cJ2_grow_2 49 = .ok (.invokestatic 79, 3) := dk_184 0 79 (dk_at dksJ2_grow_2_2 1 rfl rfl)
theorem dJ2_grow_2_52 : decode cJ2_grow_2 52 = .ok (.anewarray 7, 3) := dk_189 0 7 (dk_at dksJ2_grow_2_2 4 rfl rfl)
theorem dJ2_grow_2_55 : decode cJ2_grow_2 55 = .ok (.dup_x1, 1) := dk_90 (dk_at dksJ2_grow_2_2 7 rfl rfl)
theorem dJ2_grow_2_56 : decode cJ2_grow_2 56 = .ok (.putfield 9, 3) := dk_181 0 9 (dk_at dksJ2_grow_2_2 8 rfl rfl)
theorem dJ2_grow_2_59 : decode cJ2_grow_2 59 = .ok (.areturn, 1) := dk_176 (dk_at dksJ2_grow_2_2 11 rfl rfl)
abbrev cJ2_size : ByteArray := prog_33_method_8_code
def yJ2_size : MethodName := ⟨RJ2, "size", "()I"⟩
theorem dJ2_size_0 : decode cJ2_size 0 = .ok (.aload_n 0, 1) := by decide +kernel
theorem dJ2_size_1 : decode cJ2_size 1 = .ok (.getfield 48, 3) := by decide +kernel
theorem dJ2_size_4 : decode cJ2_size 4 = .ok (.ireturn, 1) := by decide +kernel
abbrev cJ2_get : ByteArray := prog_33_method_20_code
def yJ2_get : MethodName := ⟨RJ2, "get", "(I)Ljava/lang/Object;"⟩
def dkwJ2_get_0 : List UInt8 := [27, 42, 180, 0, 48, 184, 0, 118, 87, 42, 27, 182, 0, 123, 176]
abbrev dktJ2_get_0 : List UInt8 := dkwJ2_get_0 ++ []
theorem dksJ2_get_0 : cJ2_get.data.toList.drop 0 = dktJ2_get_0 := by decide +kernel
theorem dJ2_get_0 : decode cJ2_get 0 = .ok (.iload_n 1, 1) := dk_27 (dk_at dksJ2_get_0 0 rfl rfl)
theorem dJ2_get_1 : decode cJ2_get 1 = .ok (.aload_n 0, 1) := dk_42 (dk_at dksJ2_get_0 1 rfl rfl)
theorem dJ2_get_2 : decode cJ2_get 2 = .ok (.getfield 48, 3) := dk_180 0 48 (dk_at dksJ2_get_0 2 rfl rfl)
theorem dJ2_get_5 : decode cJ2_get 5 = .ok (.invokestatic 118, 3) := dk_184 0 118 (dk_at dksJ2_get_0 5 rfl rfl)
theorem dJ2_get_8 : decode cJ2_get 8 = .ok (.pop, 1) := dk_87 (dk_at dksJ2_get_0 8 rfl rfl)
theorem dJ2_get_9 : decode cJ2_get 9 = .ok (.aload_n 0, 1) := dk_42 (dk_at dksJ2_get_0 9 rfl rfl)
theorem dJ2_get_10 : decode cJ2_get 10 = .ok (.iload_n 1, 1) := dk_27 (dk_at dksJ2_get_0 10 rfl rfl)
theorem dJ2_get_11 : decode cJ2_get 11 = .ok (.invokevirtual 123, 3) := dk_182 0 123 (dk_at dksJ2_get_0 11 rfl rfl)
theorem dJ2_get_14 : decode cJ2_get 14 = .ok (.areturn, 1) := dk_176 (dk_at dksJ2_get_0 14 rfl rfl)
abbrev cJ2_elementData : ByteArray := prog_33_method_18_code
def yJ2_elementData : MethodName := ⟨RJ2, "elementData", "(I)Ljava/lang/Object;"⟩
def dkwJ2_elementData_0 : List UInt8 := [42, 180, 0, 9, 27, 50, 176]
abbrev dktJ2_elementData_0 : List UInt8 := dkwJ2_elementData_0 ++ []
theorem dksJ2_elementData_0 : cJ2_elementData.data.toList.drop 0 = dktJ2_elementData_0 := by decide +kernel
theorem dJ2_elementData_0 : decode cJ2_elementData 0 = .ok (.aload_n 0, 1) := dk_42 (dk_at dksJ2_elementData_0 0 rfl rfl)
theorem dJ2_elementData_1 : decode cJ2_elementData 1 = .ok (.getfield 9, 3) := dk_180 0 9 (dk_at dksJ2_elementData_0 1 rfl rfl)
theorem dJ2_elementData_4 : decode cJ2_elementData 4 = .ok (.iload_n 1, 1) := dk_27 (dk_at dksJ2_elementData_0 4 rfl rfl)
theorem dJ2_elementData_5 : decode cJ2_elementData 5 = .ok (.aaload, 1) := dk_50 (dk_at dksJ2_elementData_0 5 rfl rfl)
theorem dJ2_elementData_6 : decode cJ2_elementData 6 = .ok (.areturn, 1) := dk_176 (dk_at dksJ2_elementData_0 6 rfl rfl)
theorem q114 : (Jvm.Cond.initialized "java/util/ArrayList") ∈ lw_all := lw_g (lw_at lw_m1 6 rfl) rfl
theorem q197 : (Jvm.Cond.instantiable "java/util/ArrayList" (3 : Nat)) ∈ lw_all := lw_g (lw_at lw_m1 89 rfl) rfl
theorem q199 : (Jvm.Cond.instanceMethod ({ cls := "java/util/ArrayList", name := "<init>", desc := "()V" } : Jvm.MethodName)) ∈ lw_all := lw_g (lw_at lw_m1 91 rfl) rfl
theorem q200 : (Jvm.Cond.code ({ cls := "java/util/ArrayList", name := "<init>", desc := "()V" } : Jvm.MethodName) prog_33_method_2_code (1 : Nat) (Option.none : Option Jvm.ClassFile.FieldType)) ∈ lw_all := lw_g (lw_at lw_m1 92 rfl) rfl
theorem q201 : (Jvm.Cond.methodLink "java/util/ArrayList" (1 : Nat) ({ cls := "java/util/AbstractList", name := "<init>", desc := "()V" } : Jvm.MethodName)) ∈ lw_all := lw_g (lw_at lw_m1 93 rfl) rfl
theorem q208 : (Jvm.Cond.fieldLink "java/util/ArrayList" (39 : Nat) "java/util/ArrayList" "DEFAULTCAPACITY_EMPTY_ELEMENTDATA" "[Ljava/lang/Object;") ∈ lw_all := lw_g (lw_at lw_m1 100 rfl) rfl
theorem q209 : (Jvm.Cond.laysStatic "java/util/ArrayList" "DEFAULTCAPACITY_EMPTY_ELEMENTDATA" "[Ljava/lang/Object;") ∈ lw_tbl := lw_at lw_m1 101 rfl
theorem q210 : (Jvm.Cond.fieldLink "java/util/ArrayList" (9 : Nat) "java/util/ArrayList" "elementData" "[Ljava/lang/Object;") ∈ lw_all := lw_g (lw_at lw_m1 102 rfl) rfl
theorem q211 : (Jvm.Cond.fieldLink "java/util/ArrayList" (48 : Nat) "java/util/ArrayList" "size" "I") ∈ lw_all := lw_g (lw_at lw_m1 103 rfl) rfl
theorem q213 : (Jvm.Cond.fieldLink "java/util/ArrayList" (63 : Nat) "java/util/ArrayList" "modCount" "I") ∈ lw_all := lw_g (lw_at lw_m1 105 rfl) rfl
theorem q214 : (Jvm.Cond.sameField "java/util/ArrayList" "java/util/AbstractList" "modCount" "I") ∈ lw_all := lw_g (lw_at lw_m1 106 rfl) rfl
theorem q215 : (Jvm.Cond.lays "java/util/ArrayList" "java/util/ArrayList" "elementData" "[Ljava/lang/Object;") ∈ lw_all := lw_g (lw_at lw_m1 107 rfl) rfl
theorem q216 : (Jvm.Cond.soleField "java/util/ArrayList" "elementData") ∈ lw_all := lw_g (lw_at lw_m1 108 rfl) rfl
theorem q217 : (Jvm.Cond.lays "java/util/ArrayList" "java/util/ArrayList" "size" "I") ∈ lw_all := lw_g (lw_at lw_m1 109 rfl) rfl
theorem q218 : (Jvm.Cond.soleField "java/util/ArrayList" "size") ∈ lw_all := lw_g (lw_at lw_m1 110 rfl) rfl
theorem q219 : (Jvm.Cond.lays "java/util/ArrayList" "java/util/AbstractList" "modCount" "I") ∈ lw_all := lw_g (lw_at lw_m1 111 rfl) rfl
theorem q221 : (Jvm.Cond.superclass "java/util/ArrayList" "java/util/AbstractList") ∈ lw_all := lw_g (lw_at lw_m1 113 rfl) rfl
theorem q1082 : (Jvm.Cond.castable "java/util/ArrayList" "java/util/List") ∈ lw_tbl := lw_at lw_m5 14 rfl
theorem q1083 : (Jvm.Cond.selects "java/util/ArrayList" ({ cls := "java/util/List", name := "clear", desc := "()V" } : Jvm.MethodName) ({ cls := "java/util/ArrayList", name := "clear", desc := "()V" } : Jvm.MethodName)) ∈ lw_all := lw_g (lw_at lw_m5 15 rfl) rfl
theorem q1084 : (Jvm.Cond.unhidden "java/util/ArrayList" "clear" "()V") ∈ lw_tbl := lw_at lw_m5 16 rfl
theorem q1085 : (Jvm.Cond.instanceMethod ({ cls := "java/util/ArrayList", name := "clear", desc := "()V" } : Jvm.MethodName)) ∈ lw_all := lw_g (lw_at lw_m5 17 rfl) rfl
theorem q1086 : (Jvm.Cond.publicMethod ({ cls := "java/util/ArrayList", name := "clear", desc := "()V" } : Jvm.MethodName)) ∈ lw_tbl := lw_at lw_m5 18 rfl
theorem q1087 : (Jvm.Cond.code ({ cls := "java/util/ArrayList", name := "clear", desc := "()V" } : Jvm.MethodName) prog_33_method_40_code (4 : Nat) (Option.none : Option Jvm.ClassFile.FieldType)) ∈ lw_all := lw_g (lw_at lw_m5 19 rfl) rfl
theorem q1112 : (Jvm.Cond.selects "java/util/ArrayList" ({ cls := "java/util/List", name := "add", desc := "(Ljava/lang/Object;)Z" } : Jvm.MethodName) ({ cls := "java/util/ArrayList", name := "add", desc := "(Ljava/lang/Object;)Z" } : Jvm.MethodName)) ∈ lw_all := lw_g (lw_at lw_m5 44 rfl) rfl
theorem q1113 : (Jvm.Cond.unhidden "java/util/ArrayList" "add" "(Ljava/lang/Object;)Z") ∈ lw_tbl := lw_at lw_m5 45 rfl
theorem q1114 : (Jvm.Cond.instanceMethod ({ cls := "java/util/ArrayList", name := "add", desc := "(Ljava/lang/Object;)Z" } : Jvm.MethodName)) ∈ lw_all := lw_g (lw_at lw_m5 46 rfl) rfl
theorem q1115 : (Jvm.Cond.publicMethod ({ cls := "java/util/ArrayList", name := "add", desc := "(Ljava/lang/Object;)Z" } : Jvm.MethodName)) ∈ lw_tbl := lw_at lw_m5 47 rfl
theorem q1116 : (Jvm.Cond.code ({ cls := "java/util/ArrayList", name := "add", desc := "(Ljava/lang/Object;)Z" } : Jvm.MethodName) prog_33_method_25_code (2 : Nat) (Option.some Jvm.ClassFile.FieldType.boolean)) ∈ lw_all := lw_g (lw_at lw_m5 48 rfl) rfl
theorem q1117 : (Jvm.Cond.methodLink "java/util/ArrayList" (131 : Nat) ({ cls := "java/util/ArrayList", name := "add", desc := "(Ljava/lang/Object;[Ljava/lang/Object;I)V" } : Jvm.MethodName)) ∈ lw_all := lw_g (lw_at lw_m5 49 rfl) rfl
theorem q1118 : (Jvm.Cond.privateMethod ({ cls := "java/util/ArrayList", name := "add", desc := "(Ljava/lang/Object;[Ljava/lang/Object;I)V" } : Jvm.MethodName)) ∈ lw_tbl := lw_at lw_m5 50 rfl
theorem q1119 : (Jvm.Cond.instanceMethod ({ cls := "java/util/ArrayList", name := "add", desc := "(Ljava/lang/Object;[Ljava/lang/Object;I)V" } : Jvm.MethodName)) ∈ lw_all := lw_g (lw_at lw_m5 51 rfl) rfl
theorem q1120 : (Jvm.Cond.code ({ cls := "java/util/ArrayList", name := "add", desc := "(Ljava/lang/Object;[Ljava/lang/Object;I)V" } : Jvm.MethodName) prog_33_method_24_code (4 : Nat) (Option.none : Option Jvm.ClassFile.FieldType)) ∈ lw_all := lw_g (lw_at lw_m5 52 rfl) rfl
theorem q1121 : (Jvm.Cond.methodLink "java/util/ArrayList" (129 : Nat) ({ cls := "java/util/ArrayList", name := "grow", desc := "()[Ljava/lang/Object;" } : Jvm.MethodName)) ∈ lw_all := lw_g (lw_at lw_m5 53 rfl) rfl
theorem q1122 : (Jvm.Cond.privateMethod ({ cls := "java/util/ArrayList", name := "grow", desc := "()[Ljava/lang/Object;" } : Jvm.MethodName)) ∈ lw_tbl := lw_at lw_m5 54 rfl
theorem q1123 : (Jvm.Cond.instanceMethod ({ cls := "java/util/ArrayList", name := "grow", desc := "()[Ljava/lang/Object;" } : Jvm.MethodName)) ∈ lw_all := lw_g (lw_at lw_m5 55 rfl) rfl
theorem q1124 : (Jvm.Cond.code ({ cls := "java/util/ArrayList", name := "grow", desc := "()[Ljava/lang/Object;" } : Jvm.MethodName) prog_33_method_7_code (1 : Nat) (Option.some (Jvm.ClassFile.FieldType.array (Jvm.ClassFile.FieldType.object "java/lang/Object")))) ∈ lw_all := lw_g (lw_at lw_m5 56 rfl) rfl
theorem q1125 : (Jvm.Cond.methodLink "java/util/ArrayList" (69 : Nat) ({ cls := "java/util/ArrayList", name := "grow", desc := "(I)[Ljava/lang/Object;" } : Jvm.MethodName)) ∈ lw_all := lw_g (lw_at lw_m5 57 rfl) rfl
theorem q1126 : (Jvm.Cond.privateMethod ({ cls := "java/util/ArrayList", name := "grow", desc := "(I)[Ljava/lang/Object;" } : Jvm.MethodName)) ∈ lw_tbl := lw_at lw_m5 58 rfl
theorem q1127 : (Jvm.Cond.instanceMethod ({ cls := "java/util/ArrayList", name := "grow", desc := "(I)[Ljava/lang/Object;" } : Jvm.MethodName)) ∈ lw_all := lw_g (lw_at lw_m5 59 rfl) rfl
theorem q1128 : (Jvm.Cond.code ({ cls := "java/util/ArrayList", name := "grow", desc := "(I)[Ljava/lang/Object;" } : Jvm.MethodName) prog_33_method_6_code (4 : Nat) (Option.some (Jvm.ClassFile.FieldType.array (Jvm.ClassFile.FieldType.object "java/lang/Object")))) ∈ lw_all := lw_g (lw_at lw_m5 60 rfl) rfl
theorem q1129 : (Jvm.Cond.methodLink "java/util/ArrayList" (73 : Nat) ({ cls := "jdk/internal/util/ArraysSupport", name := "newLength", desc := "(III)I" } : Jvm.MethodName)) ∈ lw_all := lw_g (lw_at lw_m5 61 rfl) rfl
theorem q1137 : (Jvm.Cond.methodLink "java/util/ArrayList" (66 : Nat) ({ cls := "java/util/Arrays", name := "copyOf", desc := "([Ljava/lang/Object;I)[Ljava/lang/Object;" } : Jvm.MethodName)) ∈ lw_all := lw_g (lw_at lw_m5 69 rfl) rfl
theorem q1158 : (Jvm.Cond.selects "java/util/ArrayList" ({ cls := "java/lang/Object", name := "getClass", desc := "()Ljava/lang/Class;" } : Jvm.MethodName) ({ cls := "java/lang/Object", name := "getClass", desc := "()Ljava/lang/Class;" } : Jvm.MethodName)) ∈ lw_all := lw_g (lw_at lw_m5 90 rfl) rfl
theorem q1171 : (Jvm.Cond.methodLink "java/util/ArrayList" (79 : Nat) ({ cls := "java/lang/Math", name := "max", desc := "(II)I" } : Jvm.MethodName)) ∈ lw_all := lw_g (lw_at lw_m5 103 rfl) rfl
theorem q1172 : (Jvm.Cond.classLink "java/util/ArrayList" (7 : Nat) "java/lang/Object") ∈ lw_all := lw_g (lw_at lw_m5 104 rfl) rfl
theorem q1184 : (Jvm.Cond.selects "java/util/ArrayList" ({ cls := "java/util/List", name := "size", desc := "()I" } : Jvm.MethodName) ({ cls := "java/util/ArrayList", name := "size", desc := "()I" } : Jvm.MethodName)) ∈ lw_all := lw_g (lw_at lw_m5 116 rfl) rfl
theorem q1185 : (Jvm.Cond.unhidden "java/util/ArrayList" "size" "()I") ∈ lw_tbl := lw_at lw_m5 117 rfl
theorem q1186 : (Jvm.Cond.instanceMethod ({ cls := "java/util/ArrayList", name := "size", desc := "()I" } : Jvm.MethodName)) ∈ lw_all := lw_g (lw_at lw_m5 118 rfl) rfl
theorem q1187 : (Jvm.Cond.publicMethod ({ cls := "java/util/ArrayList", name := "size", desc := "()I" } : Jvm.MethodName)) ∈ lw_tbl := lw_at lw_m5 119 rfl
theorem q1188 : (Jvm.Cond.code ({ cls := "java/util/ArrayList", name := "size", desc := "()I" } : Jvm.MethodName) prog_33_method_8_code (1 : Nat) (Option.some Jvm.ClassFile.FieldType.int)) ∈ lw_all := lw_g (lw_at lw_m5 120 rfl) rfl
theorem q1193 : (Jvm.Cond.selects "java/util/ArrayList" ({ cls := "java/util/List", name := "get", desc := "(I)Ljava/lang/Object;" } : Jvm.MethodName) ({ cls := "java/util/ArrayList", name := "get", desc := "(I)Ljava/lang/Object;" } : Jvm.MethodName)) ∈ lw_all := lw_g (lw_at lw_m5 125 rfl) rfl
theorem q1194 : (Jvm.Cond.unhidden "java/util/ArrayList" "get" "(I)Ljava/lang/Object;") ∈ lw_tbl := lw_at lw_m5 126 rfl
theorem q1195 : (Jvm.Cond.instanceMethod ({ cls := "java/util/ArrayList", name := "get", desc := "(I)Ljava/lang/Object;" } : Jvm.MethodName)) ∈ lw_all := lw_g (lw_at lw_m5 127 rfl) rfl
theorem q1196 : (Jvm.Cond.publicMethod ({ cls := "java/util/ArrayList", name := "get", desc := "(I)Ljava/lang/Object;" } : Jvm.MethodName)) ∈ lw_tbl := lw_at lw_m5 128 rfl
theorem q1197 : (Jvm.Cond.code ({ cls := "java/util/ArrayList", name := "get", desc := "(I)Ljava/lang/Object;" } : Jvm.MethodName) prog_33_method_20_code (2 : Nat) (Option.some (Jvm.ClassFile.FieldType.object "java/lang/Object"))) ∈ lw_all := lw_g (lw_at lw_m5 129 rfl) rfl
theorem q1198 : (Jvm.Cond.methodLink "java/util/ArrayList" (118 : Nat) ({ cls := "java/util/Objects", name := "checkIndex", desc := "(II)I" } : Jvm.MethodName)) ∈ lw_all := lw_g (lw_at lw_m5 130 rfl) rfl
theorem q1202 : (Jvm.Cond.methodLink "java/util/ArrayList" (123 : Nat) ({ cls := "java/util/ArrayList", name := "elementData", desc := "(I)Ljava/lang/Object;" } : Jvm.MethodName)) ∈ lw_all := lw_g (lw_at lw_m5 134 rfl) rfl
theorem q1203 : (Jvm.Cond.instanceMethod ({ cls := "java/util/ArrayList", name := "elementData", desc := "(I)Ljava/lang/Object;" } : Jvm.MethodName)) ∈ lw_all := lw_g (lw_at lw_m5 135 rfl) rfl
theorem q1204 : (Jvm.Cond.selects "java/util/ArrayList" ({ cls := "java/util/ArrayList", name := "elementData", desc := "(I)Ljava/lang/Object;" } : Jvm.MethodName) ({ cls := "java/util/ArrayList", name := "elementData", desc := "(I)Ljava/lang/Object;" } : Jvm.MethodName)) ∈ lw_all := lw_g (lw_at lw_m5 136 rfl) rfl
theorem q1205 : (Jvm.Cond.code ({ cls := "java/util/ArrayList", name := "elementData", desc := "(I)Ljava/lang/Object;" } : Jvm.MethodName) prog_33_method_18_code (2 : Nat) (Option.some (Jvm.ClassFile.FieldType.object "java/lang/Object"))) ∈ lw_all := lw_g (lw_at lw_m5 137 rfl) rfl
theorem q2173 : (Jvm.Cond.castable "java/util/ArrayList" "java/lang/Object") ∈ lw_tbl := lw_at lw_m9 145 rfl
theorem in_J2 : ∀ w ∈ wsJ20, w ∈ lw_all := lw_in wsJ20 [219, 215, 217] (by decide +kernel) (by decide +kernel)

/-! java/lang/Throwable -/
set_option maxRecDepth 100000
def RJ3 : String := "java/lang/Throwable"
def TJ3 : u_T := fun k => match k with
  | 0 => ("java/lang/Throwable", "cause", "Ljava/lang/Throwable;", false)
  | 1 => ("java/lang/Throwable", "stackTrace", "[Ljava/lang/StackTraceElement;", false)
  | 2 => ("java/lang/Throwable", "suppressedExceptions", "Ljava/util/List;", false)
  | 3 => ("java/lang/Throwable", "detailMessage", "Ljava/lang/String;", false)
  | _ => ("java/lang/Throwable", "backtrace", "Ljava/lang/Object;", false)
def tyJ3 : Nat → FieldType := fun k => match k with
  | 0 => .object "java/lang/Throwable"
  | 1 => .array (.object "java/lang/StackTraceElement")
  | 2 => .object "java/util/List"
  | 3 => .object "java/lang/String"
  | _ => .object "java/lang/Object"
abbrev wsJ30 : List Cond := u_ws RJ3 TJ3 5
theorem nmJ3 : ∀ a, a < 5 → ∀ b, b < 5 → a ≠ b → (TJ3 a).2.1 ≠ (TJ3 b).2.1 := by decide +kernel
theorem tyJ3_ok : ∀ k, k < 5 → parseFieldDescriptor (TJ3 k).2.2.1 = some (tyJ3 k) := by decide +kernel
abbrev cJ3_init : ByteArray := prog_30_method_1_code
def yJ3_init : MethodName := ⟨RJ3, "<init>", "()V"⟩
def dkwJ3_init_1 : List UInt8 := [182, 0, 27, 87, 177]
abbrev dktJ3_init_1 : List UInt8 := dkwJ3_init_1 ++ []
def dkwJ3_init_0 : List UInt8 := [42, 183, 0, 1, 42, 42, 181, 0, 7, 42, 178, 0, 13, 181, 0, 17, 42, 178, 0, 20, 181, 0, 24, 42]
abbrev dktJ3_init_0 : List UInt8 := dkwJ3_init_0 ++ dktJ3_init_1
theorem dksJ3_init_0 : cJ3_init.data.toList.drop 0 = dktJ3_init_0 := by decide +kernel
theorem dksJ3_init_1 : cJ3_init.data.toList.drop 24 = dktJ3_init_1 := dk_seg dksJ3_init_0 24 rfl rfl
theorem dJ3_init_0 : decode cJ3_init 0 = .ok (.aload_n 0, 1) := dk_42 (dk_at dksJ3_init_0 0 rfl rfl)
theorem dJ3_init_1 : decode cJ3_init 1 = .ok (.invokespecial 1, 3) := dk_183 0 1 (dk_at dksJ3_init_0 1 rfl rfl)
theorem dJ3_init_4 : decode cJ3_init 4 = .ok (.aload_n 0, 1) := dk_42 (dk_at dksJ3_init_0 4 rfl rfl)
theorem dJ3_init_5 : decode cJ3_init 5 = .ok (.aload_n 0, 1) := dk_42 (dk_at dksJ3_init_0 5 rfl rfl)
theorem dJ3_init_6 : decode cJ3_init 6 = .ok (.putfield 7, 3) := dk_181 0 7 (dk_at dksJ3_init_0 6 rfl rfl)
theorem dJ3_init_9 : decode cJ3_init 9 = .ok (.aload_n 0, 1) := dk_42 (dk_at dksJ3_init_0 9 rfl rfl)
theorem dJ3_init_10 : decode cJ3_init 10 = .ok (.getstatic 13, 3) := dk_178 0 13 (dk_at dksJ3_init_0 10 rfl rfl)
theorem dJ3_init_13 : decode cJ3_init 13 = .ok (.putfield 17, 3) := dk_181 0 17 (dk_at dksJ3_init_0 13 rfl rfl)
theorem dJ3_init_16 : decode cJ3_init 16 = .ok (.aload_n 0, 1) := dk_42 (dk_at dksJ3_init_0 16 rfl rfl)
theorem dJ3_init_17 : decode cJ3_init 17 = .ok (.getstatic 20, 3) := dk_178 0 20 (dk_at dksJ3_init_0 17 rfl rfl)
theorem dJ3_init_20 : decode cJ3_init 20 = .ok (.putfield 24, 3) := dk_181 0 24 (dk_at dksJ3_init_0 20 rfl rfl)
theorem dJ3_init_23 : decode cJ3_init 23 = .ok (.aload_n 0, 1) := dk_42 (dk_at dksJ3_init_0 23 rfl rfl)
theorem dJ3_init_24 : decode cJ3_init 24 = .ok (.invokevirtual 27, 3) := dk_182 0 27 (dk_at dksJ3_init_1 0 rfl rfl)
theorem dJ3_init_27 : decode cJ3_init 27 = .ok (.pop, 1) := dk_87 (dk_at dksJ3_init_1 3 rfl rfl)
theorem dJ3_init_28 : decode cJ3_init 28 = .ok (.return_, 1) := dk_177 (dk_at dksJ3_init_1 4 rfl rfl)
abbrev cJ3_init_2 : ByteArray := prog_30_method_5_code
def yJ3_init_2 : MethodName := ⟨RJ3, "<init>", "(Ljava/lang/String;Ljava/lang/Throwable;ZZ)V"⟩
def dkwJ3_init_2_2 : List UInt8 := [44, 181, 0, 7, 29, 154, 0, 8, 42, 1, 181, 0, 24, 177]
abbrev dktJ3_init_2_2 : List UInt8 := dkwJ3_init_2_2 ++ []
def dkwJ3_init_2_1 : List UInt8 := [21, 4, 153, 0, 11, 42, 182, 0, 27, 87, 167, 0, 8, 42, 1, 181, 0, 17, 42, 43, 181, 0, 31, 42]
abbrev dktJ3_init_2_1 : List UInt8 := dkwJ3_init_2_1 ++ dktJ3_init_2_2
def dkwJ3_init_2_0 : List UInt8 := [42, 183, 0, 1, 42, 42, 181, 0, 7, 42, 178, 0, 13, 181, 0, 17, 42, 178, 0, 20, 181, 0, 24]
abbrev dktJ3_init_2_0 : List UInt8 := dkwJ3_init_2_0 ++ dktJ3_init_2_1
theorem dksJ3_init_2_0 : cJ3_init_2.data.toList.drop 0 = dktJ3_init_2_0 := by decide +kernel
theorem dksJ3_init_2_1 : cJ3_init_2.data.toList.drop 23 = dktJ3_init_2_1 := dk_seg dksJ3_init_2_0 23 rfl rfl
theorem dksJ3_init_2_2 : cJ3_init_2.data.toList.drop 47 = dktJ3_init_2_2 := dk_seg dksJ3_init_2_1 24 rfl rfl
theorem dJ3_init_2_0 : decode cJ3_init_2 0 = .ok (.aload_n 0, 1) := dk_42 (dk_at dksJ3_init_2_0 0 rfl rfl)
theorem dJ3_init_2_1 : decode cJ3_init_2 1 = .ok (.invokespecial 1, 3) := dk_183 0 1 (dk_at dksJ3_init_2_0 1 rfl rfl)
theorem dJ3_init_2_4 : decode cJ3_init_2 4 = .ok (.aload_n 0, 1) := dk_42 (dk_at dksJ3_init_2_0 4 rfl rfl)
theorem dJ3_init_2_5 : decode cJ3_init_2 5 = .ok (.aload_n 0, 1) := dk_42 (dk_at dksJ3_init_2_0 5 rfl rfl)
theorem dJ3_init_2_6 : decode cJ3_init_2 6 = .ok (.putfield 7, 3) := dk_181 0 7 (dk_at dksJ3_init_2_0 6 rfl rfl)
theorem dJ3_init_2_9 : decode cJ3_init_2 9 = .ok (.aload_n 0, 1) := dk_42 (dk_at dksJ3_init_2_0 9 rfl rfl)
theorem dJ3_init_2_10 : decode cJ3_init_2 10 = .ok (.getstatic 13, 3) := dk_178 0 13 (dk_at dksJ3_init_2_0 10 rfl rfl)
theorem dJ3_init_2_13 : decode cJ3_init_2 13 = .ok (.putfield 17, 3) := dk_181 0 17 (dk_at dksJ3_init_2_0 13 rfl rfl)
theorem dJ3_init_2_16 : decode cJ3_init_2 16 = .ok (.aload_n 0, 1) := dk_42 (dk_at dksJ3_init_2_0 16 rfl rfl)
theorem dJ3_init_2_17 : decode cJ3_init_2 17 = .ok (.getstatic 20, 3) := dk_178 0 20 (dk_at dksJ3_init_2_0 17 rfl rfl)
theorem dJ3_init_2_20 : decode cJ3_init_2 20 = .ok (.putfield 24, 3) := dk_181 0 24 (dk_at dksJ3_init_2_0 20 rfl rfl)
theorem dJ3_init_2_23 : decode cJ3_init_2 23 = .ok (.iload 4, 2) := dk_21 4 (dk_at dksJ3_init_2_1 0 rfl rfl)
theorem dJ3_init_2_25 : decode cJ3_init_2 25 = .ok (.ifCond .eq 11, 3) := dk_153 0 11 (dk_at dksJ3_init_2_1 2 rfl rfl)
theorem dJ3_init_2_28 : decode cJ3_init_2 28 = .ok (.aload_n 0, 1) := dk_42 (dk_at dksJ3_init_2_1 5 rfl rfl)
theorem dJ3_init_2_29 : decode cJ3_init_2 29 = .ok (.invokevirtual 27, 3) := dk_182 0 27 (dk_at dksJ3_init_2_1 6 rfl rfl)
theorem dJ3_init_2_32 : decode cJ3_init_2 32 = .ok (.pop, 1) := dk_87 (dk_at dksJ3_init_2_1 9 rfl rfl)
theorem dJ3_init_2_33 : decode cJ3_init_2 33 = .ok (.goto 8, 3) := dk_167 0 8 (dk_at dksJ3_init_2_1 10 rfl rfl)
theorem dJ3_init_2_36 : decode cJ3_init_2 36 = .ok (.aload_n 0, 1) := dk_42 (dk_at dksJ3_init_2_1 13 rfl rfl)
theorem dJ3_init_2_37 : decode cJ3_init_2 37 = .ok (.aconst_null, 1) := dk_1 (dk_at dksJ3_init_2_1 14 rfl rfl)
theorem dJ3_init_2_38 : decode cJ3_init_2 38 = .ok (.putfield 17, 3) := dk_181 0 17 (dk_at dksJ3_init_2_1 15 rfl rfl)
theorem dJ3_init_2_41 : decode cJ3_init_2 41 = .ok (.aload_n 0, 1) := dk_42 (dk_at dksJ3_init_2_1 18 rfl rfl)
theorem dJ3_init_2_42 : decode cJ3_init_2 42 = .ok (.aload_n 1, 1) := dk_43 (dk_at dksJ3_init_2_1 19 rfl rfl)
theorem dJ3_init_2_43 : decode cJ3_init_2 43 = .ok (.putfield 31, 3) := dk_181 0 31 (dk_at dksJ3_init_2_1 20 rfl rfl)
theorem dJ3_init_2_46 : decode cJ3_init_2 46 = .ok (.aload_n 0, 1) := dk_42 (dk_at dksJ3_init_2_1 23 rfl rfl)
theorem dJ3_init_2_47 : decode cJ3_init_2 47 = .ok (.aload_n 2, 1) := dk_44 (dk_at dksJ3_init_2_2 0 rfl rfl)
theorem dJ3_init_2_48 : decode cJ3_init_2 48 = .ok (.putfield 7, 3) := dk_181 0 7 (dk_at dksJ3_init_2_2 1 rfl rfl)
theorem dJ3_init_2_51 : decode cJ3_init_2 51 = .ok (.iload_n 3, 1) := dk_29 (dk_at dksJ3_init_2_2 4 rfl rfl)
theorem dJ3_init_2_52 : decode cJ3_init_2 52 = .ok (.ifCond .ne 8, 3) := dk_154 0 8 (dk_at dksJ3_init_2_2 5 rfl rfl)
theorem dJ3_init_2_55 : decode cJ3_init_2 55 = .ok (.aload_n 0, 1) := dk_42 (dk_at dksJ3_init_2_2 8 rfl rfl)
theorem dJ3_init_2_56 : decode cJ3_init_2 56 = .ok (.aconst_null, 1) := dk_1 (dk_at dksJ3_init_2_2 9 rfl rfl)
theorem dJ3_init_2_57 : decode cJ3_init_2 57 = .ok (.putfield 24, 3) := dk_181 0 24 (dk_at dksJ3_init_2_2 10 rfl rfl)
theorem dJ3_init_2_60 : decode cJ3_init_2 60 = .ok (.return_, 1) := dk_177 (dk_at dksJ3_init_2_2 13 rfl rfl)
theorem q118 : (Jvm.Cond.initialized "java/lang/Throwable") ∈ lw_all := lw_g (lw_at lw_m1 10 rfl) rfl
theorem q443 : (Jvm.Cond.declares ({ cls := "java/lang/Throwable", name := "<init>", desc := "()V" } : Jvm.MethodName)) ∈ lw_tbl := lw_at lw_m2 95 rfl
theorem q444 : (Jvm.Cond.declares ({ cls := "java/lang/Throwable", name := "<init>", desc := "(Ljava/lang/String;)V" } : Jvm.MethodName)) ∈ lw_tbl := lw_at lw_m2 96 rfl
theorem q448 : (Jvm.Cond.lays "java/lang/Throwable" "java/lang/Throwable" "cause" "Ljava/lang/Throwable;") ∈ lw_all := lw_g (lw_at lw_m2 100 rfl) rfl
theorem q450 : (Jvm.Cond.lays "java/lang/Throwable" "java/lang/Throwable" "stackTrace" "[Ljava/lang/StackTraceElement;") ∈ lw_all := lw_g (lw_at lw_m2 102 rfl) rfl
theorem q452 : (Jvm.Cond.lays "java/lang/Throwable" "java/lang/Throwable" "suppressedExceptions" "Ljava/util/List;") ∈ lw_all := lw_g (lw_at lw_m2 104 rfl) rfl
theorem q454 : (Jvm.Cond.lays "java/lang/Throwable" "java/lang/Throwable" "detailMessage" "Ljava/lang/String;") ∈ lw_all := lw_g (lw_at lw_m2 106 rfl) rfl
theorem q456 : (Jvm.Cond.lays "java/lang/Throwable" "java/lang/Throwable" "backtrace" "Ljava/lang/Object;") ∈ lw_all := lw_g (lw_at lw_m2 108 rfl) rfl
theorem q457 : (Jvm.Cond.fieldLink "java/lang/Throwable" (198 : Nat) "java/lang/Throwable" "backtrace" "Ljava/lang/Object;") ∈ lw_all := lw_g (lw_at lw_m2 109 rfl) rfl
theorem q458 : (Jvm.Cond.superclass "java/lang/Throwable" "java/lang/Object") ∈ lw_all := lw_g (lw_at lw_m2 110 rfl) rfl
theorem q459 : (Jvm.Cond.instanceMethod ({ cls := "java/lang/Throwable", name := "<init>", desc := "()V" } : Jvm.MethodName)) ∈ lw_all := lw_g (lw_at lw_m2 111 rfl) rfl
theorem q460 : (Jvm.Cond.code ({ cls := "java/lang/Throwable", name := "<init>", desc := "()V" } : Jvm.MethodName) prog_30_method_1_code (1 : Nat) (Option.none : Option Jvm.ClassFile.FieldType)) ∈ lw_all := lw_g (lw_at lw_m2 112 rfl) rfl
theorem q461 : (Jvm.Cond.methodLink "java/lang/Throwable" (1 : Nat) ({ cls := "java/lang/Object", name := "<init>", desc := "()V" } : Jvm.MethodName)) ∈ lw_all := lw_g (lw_at lw_m2 113 rfl) rfl
theorem q462 : (Jvm.Cond.fieldLink "java/lang/Throwable" (13 : Nat) "java/lang/Throwable" "UNASSIGNED_STACK" "[Ljava/lang/StackTraceElement;") ∈ lw_all := lw_g (lw_at lw_m2 114 rfl) rfl
theorem q463 : (Jvm.Cond.laysStatic "java/lang/Throwable" "UNASSIGNED_STACK" "[Ljava/lang/StackTraceElement;") ∈ lw_tbl := lw_at lw_m2 115 rfl
theorem q464 : (Jvm.Cond.fieldLink "java/lang/Throwable" (20 : Nat) "java/lang/Throwable" "SUPPRESSED_SENTINEL" "Ljava/util/List;") ∈ lw_all := lw_g (lw_at lw_m2 116 rfl) rfl
theorem q465 : (Jvm.Cond.laysStatic "java/lang/Throwable" "SUPPRESSED_SENTINEL" "Ljava/util/List;") ∈ lw_tbl := lw_at lw_m2 117 rfl
theorem q466 : (Jvm.Cond.methodLink "java/lang/Throwable" (27 : Nat) ({ cls := "java/lang/Throwable", name := "fillInStackTrace", desc := "()Ljava/lang/Throwable;" } : Jvm.MethodName)) ∈ lw_all := lw_g (lw_at lw_m2 118 rfl) rfl
theorem q467 : (Jvm.Cond.instanceMethod ({ cls := "java/lang/Throwable", name := "fillInStackTrace", desc := "()Ljava/lang/Throwable;" } : Jvm.MethodName)) ∈ lw_all := lw_g (lw_at lw_m2 119 rfl) rfl
theorem q468 : (Jvm.Cond.sameMethod "java/lang/Throwable" "java/lang/Throwable" "fillInStackTrace" "()Ljava/lang/Throwable;") ∈ lw_all := lw_g (lw_at lw_m2 120 rfl) rfl
theorem q471 : (Jvm.Cond.codeSync ({ cls := "java/lang/Throwable", name := "fillInStackTrace", desc := "()Ljava/lang/Throwable;" } : Jvm.MethodName) prog_30_method_18_code (1 : Nat) (Option.some (Jvm.ClassFile.FieldType.object "java/lang/Throwable"))) ∈ lw_all := lw_g (lw_at lw_m2 123 rfl) rfl
theorem q472 : (Jvm.Cond.methodLink "java/lang/Throwable" (202 : Nat) ({ cls := "java/lang/Throwable", name := "fillInStackTrace", desc := "(I)Ljava/lang/Throwable;" } : Jvm.MethodName)) ∈ lw_all := lw_g (lw_at lw_m2 124 rfl) rfl
theorem q473 : (Jvm.Cond.privateMethod ({ cls := "java/lang/Throwable", name := "fillInStackTrace", desc := "(I)Ljava/lang/Throwable;" } : Jvm.MethodName)) ∈ lw_tbl := lw_at lw_m2 125 rfl
theorem q474 : (Jvm.Cond.instanceMethod ({ cls := "java/lang/Throwable", name := "fillInStackTrace", desc := "(I)Ljava/lang/Throwable;" } : Jvm.MethodName)) ∈ lw_all := lw_g (lw_at lw_m2 126 rfl) rfl
theorem q475 : (Jvm.Cond.instantiable "java/lang/Throwable" (6 : Nat)) ∈ lw_all := lw_g (lw_at lw_m2 127 rfl) rfl
theorem q476 : (Jvm.Cond.native ({ cls := "java/lang/Throwable", name := "fillInStackTrace", desc := "(I)Ljava/lang/Throwable;" } : Jvm.MethodName)) ∈ lw_all := lw_g (lw_at lw_m2 128 rfl) rfl
theorem q487 : (Jvm.Cond.fieldLink "java/lang/Throwable" (198 : Nat) "java/lang/Throwable" "backtrace" "Ljava/lang/Object;") ∈ lw_all := lw_g (lw_at lw_m2 139 rfl) rfl
theorem q488 : (Jvm.Cond.fieldLink "java/lang/Throwable" (31 : Nat) "java/lang/Throwable" "detailMessage" "Ljava/lang/String;") ∈ lw_all := lw_g (lw_at lw_m2 140 rfl) rfl
theorem q489 : (Jvm.Cond.fieldLink "java/lang/Throwable" (7 : Nat) "java/lang/Throwable" "cause" "Ljava/lang/Throwable;") ∈ lw_all := lw_g (lw_at lw_m2 141 rfl) rfl
theorem q490 : (Jvm.Cond.fieldLink "java/lang/Throwable" (17 : Nat) "java/lang/Throwable" "stackTrace" "[Ljava/lang/StackTraceElement;") ∈ lw_all := lw_g (lw_at lw_m2 142 rfl) rfl
theorem q491 : (Jvm.Cond.fieldLink "java/lang/Throwable" (24 : Nat) "java/lang/Throwable" "suppressedExceptions" "Ljava/util/List;") ∈ lw_all := lw_g (lw_at lw_m2 143 rfl) rfl
theorem q492 : (Jvm.Cond.soleField "java/lang/Throwable" "backtrace") ∈ lw_all := lw_g (lw_at lw_m2 144 rfl) rfl
theorem q493 : (Jvm.Cond.soleField "java/lang/Throwable" "detailMessage") ∈ lw_all := lw_g (lw_at lw_m2 145 rfl) rfl
theorem q494 : (Jvm.Cond.soleField "java/lang/Throwable" "cause") ∈ lw_all := lw_g (lw_at lw_m2 146 rfl) rfl
theorem q495 : (Jvm.Cond.soleField "java/lang/Throwable" "stackTrace") ∈ lw_all := lw_g (lw_at lw_m2 147 rfl) rfl
theorem q497 : (Jvm.Cond.soleField "java/lang/Throwable" "depth") ∈ lw_all := lw_g (lw_at lw_m2 149 rfl) rfl
theorem q498 : (Jvm.Cond.soleField "java/lang/Throwable" "suppressedExceptions") ∈ lw_all := lw_g (lw_at lw_m2 150 rfl) rfl
theorem q698 : (Jvm.Cond.instanceMethod ({ cls := "java/lang/Throwable", name := "<init>", desc := "(Ljava/lang/String;Ljava/lang/Throwable;ZZ)V" } : Jvm.MethodName)) ∈ lw_all := lw_g (lw_at lw_m3 110 rfl) rfl
theorem q699 : (Jvm.Cond.code ({ cls := "java/lang/Throwable", name := "<init>", desc := "(Ljava/lang/String;Ljava/lang/Throwable;ZZ)V" } : Jvm.MethodName) prog_30_method_5_code (5 : Nat) (Option.none : Option Jvm.ClassFile.FieldType)) ∈ lw_all := lw_g (lw_at lw_m3 111 rfl) rfl
theorem q2167 : (Jvm.Cond.sameMethod "java/lang/Throwable" "java/lang/Throwable" "fillInStackTrace" "(I)Ljava/lang/Throwable;") ∈ lw_all := lw_g (lw_at lw_m9 139 rfl) rfl
theorem q2186 : (Jvm.Cond.castable "java/lang/Throwable" "java/lang/Object") ∈ lw_tbl := lw_at lw_m9 158 rfl
theorem in_J3 : ∀ w ∈ wsJ30, w ∈ lw_all := lw_in wsJ30 [448, 450, 452, 454, 456] (by decide +kernel) (by decide +kernel)

/-! java/lang/Exception -/
set_option maxRecDepth 100000
def RJ4 : String := "java/lang/Exception"
abbrev cJ4_init : ByteArray := prog_18_method_1_code
def yJ4_init : MethodName := ⟨RJ4, "<init>", "()V"⟩
theorem dJ4_init_0 : decode cJ4_init 0 = .ok (.aload_n 0, 1) := by decide +kernel
theorem dJ4_init_1 : decode cJ4_init 1 = .ok (.invokespecial 1, 3) := by decide +kernel
theorem dJ4_init_4 : decode cJ4_init 4 = .ok (.return_, 1) := by decide +kernel
abbrev cJ4_init_2 : ByteArray := prog_18_method_5_code
def yJ4_init_2 : MethodName := ⟨RJ4, "<init>", "(Ljava/lang/String;Ljava/lang/Throwable;ZZ)V"⟩
def dkwJ4_init_2_0 : List UInt8 := [42, 43, 44, 29, 21, 4, 183, 0, 16, 177]
abbrev dktJ4_init_2_0 : List UInt8 := dkwJ4_init_2_0 ++ []
theorem dksJ4_init_2_0 : cJ4_init_2.data.toList.drop 0 = dktJ4_init_2_0 := by decide +kernel
theorem dJ4_init_2_0 : decode cJ4_init_2 0 = .ok (.aload_n 0, 1) := dk_42 (dk_at dksJ4_init_2_0 0 rfl rfl)
theorem dJ4_init_2_1 : decode cJ4_init_2 1 = .ok (.aload_n 1, 1) := dk_43 (dk_at dksJ4_init_2_0 1 rfl rfl)
theorem dJ4_init_2_2 : decode cJ4_init_2 2 = .ok (.aload_n 2, 1) := dk_44 (dk_at dksJ4_init_2_0 2 rfl rfl)
theorem dJ4_init_2_3 : decode cJ4_init_2 3 = .ok (.iload_n 3, 1) := dk_29 (dk_at dksJ4_init_2_0 3 rfl rfl)
theorem dJ4_init_2_4 : decode cJ4_init_2 4 = .ok (.iload 4, 2) := dk_21 4 (dk_at dksJ4_init_2_0 4 rfl rfl)
theorem dJ4_init_2_6 : decode cJ4_init_2 6 = .ok (.invokespecial 16, 3) := dk_183 0 16 (dk_at dksJ4_init_2_0 6 rfl rfl)
theorem dJ4_init_2_9 : decode cJ4_init_2 9 = .ok (.return_, 1) := dk_177 (dk_at dksJ4_init_2_0 9 rfl rfl)
theorem q119 : (Jvm.Cond.initialized "java/lang/Exception") ∈ lw_all := lw_g (lw_at lw_m1 11 rfl) rfl
theorem q441 : (Jvm.Cond.declares ({ cls := "java/lang/Exception", name := "<init>", desc := "()V" } : Jvm.MethodName)) ∈ lw_tbl := lw_at lw_m2 93 rfl
theorem q442 : (Jvm.Cond.declares ({ cls := "java/lang/Exception", name := "<init>", desc := "(Ljava/lang/String;)V" } : Jvm.MethodName)) ∈ lw_tbl := lw_at lw_m2 94 rfl
theorem q484 : (Jvm.Cond.instanceMethod ({ cls := "java/lang/Exception", name := "<init>", desc := "()V" } : Jvm.MethodName)) ∈ lw_all := lw_g (lw_at lw_m2 136 rfl) rfl
theorem q485 : (Jvm.Cond.code ({ cls := "java/lang/Exception", name := "<init>", desc := "()V" } : Jvm.MethodName) prog_18_method_1_code (1 : Nat) (Option.none : Option Jvm.ClassFile.FieldType)) ∈ lw_all := lw_g (lw_at lw_m2 137 rfl) rfl
theorem q486 : (Jvm.Cond.methodLink "java/lang/Exception" (1 : Nat) ({ cls := "java/lang/Throwable", name := "<init>", desc := "()V" } : Jvm.MethodName)) ∈ lw_all := lw_g (lw_at lw_m2 138 rfl) rfl
theorem q695 : (Jvm.Cond.instanceMethod ({ cls := "java/lang/Exception", name := "<init>", desc := "(Ljava/lang/String;Ljava/lang/Throwable;ZZ)V" } : Jvm.MethodName)) ∈ lw_all := lw_g (lw_at lw_m3 107 rfl) rfl
theorem q696 : (Jvm.Cond.code ({ cls := "java/lang/Exception", name := "<init>", desc := "(Ljava/lang/String;Ljava/lang/Throwable;ZZ)V" } : Jvm.MethodName) prog_18_method_5_code (5 : Nat) (Option.none : Option Jvm.ClassFile.FieldType)) ∈ lw_all := lw_g (lw_at lw_m3 108 rfl) rfl
theorem q697 : (Jvm.Cond.methodLink "java/lang/Exception" (16 : Nat) ({ cls := "java/lang/Throwable", name := "<init>", desc := "(Ljava/lang/String;Ljava/lang/Throwable;ZZ)V" } : Jvm.MethodName)) ∈ lw_all := lw_g (lw_at lw_m3 109 rfl) rfl

/-! java/lang/RuntimeException -/
set_option maxRecDepth 100000
def RJ5 : String := "java/lang/RuntimeException"
abbrev cJ5_init : ByteArray := prog_25_method_1_code
def yJ5_init : MethodName := ⟨RJ5, "<init>", "()V"⟩
theorem dJ5_init_0 : decode cJ5_init 0 = .ok (.aload_n 0, 1) := by decide +kernel
theorem dJ5_init_1 : decode cJ5_init 1 = .ok (.invokespecial 1, 3) := by decide +kernel
theorem dJ5_init_4 : decode cJ5_init 4 = .ok (.return_, 1) := by decide +kernel
theorem q120 : (Jvm.Cond.initialized "java/lang/RuntimeException") ∈ lw_all := lw_g (lw_at lw_m1 12 rfl) rfl
theorem q439 : (Jvm.Cond.declares ({ cls := "java/lang/RuntimeException", name := "<init>", desc := "()V" } : Jvm.MethodName)) ∈ lw_tbl := lw_at lw_m2 91 rfl
theorem q440 : (Jvm.Cond.declares ({ cls := "java/lang/RuntimeException", name := "<init>", desc := "(Ljava/lang/String;)V" } : Jvm.MethodName)) ∈ lw_tbl := lw_at lw_m2 92 rfl
theorem q481 : (Jvm.Cond.instanceMethod ({ cls := "java/lang/RuntimeException", name := "<init>", desc := "()V" } : Jvm.MethodName)) ∈ lw_all := lw_g (lw_at lw_m2 133 rfl) rfl
theorem q482 : (Jvm.Cond.code ({ cls := "java/lang/RuntimeException", name := "<init>", desc := "()V" } : Jvm.MethodName) prog_25_method_1_code (1 : Nat) (Option.none : Option Jvm.ClassFile.FieldType)) ∈ lw_all := lw_g (lw_at lw_m2 134 rfl) rfl
theorem q483 : (Jvm.Cond.methodLink "java/lang/RuntimeException" (1 : Nat) ({ cls := "java/lang/Exception", name := "<init>", desc := "()V" } : Jvm.MethodName)) ∈ lw_all := lw_g (lw_at lw_m2 135 rfl) rfl

/-! java/util/NoSuchElementException -/
set_option maxRecDepth 100000
def RJ6 : String := "java/util/NoSuchElementException"
def TJ6 : u_T := fun k => match k with
  | 0 => ("java/lang/Throwable", "cause", "Ljava/lang/Throwable;", false)
  | 1 => ("java/lang/Throwable", "stackTrace", "[Ljava/lang/StackTraceElement;", false)
  | 2 => ("java/lang/Throwable", "suppressedExceptions", "Ljava/util/List;", false)
  | 3 => ("java/lang/Throwable", "detailMessage", "Ljava/lang/String;", false)
  | 4 => ("java/lang/Throwable", "backtrace", "Ljava/lang/Object;", false)
  | _ => ("java/lang/Throwable", "depth", "I", false)
def tyJ6 : Nat → FieldType := fun k => match k with
  | 0 => .object "java/lang/Throwable"
  | 1 => .array (.object "java/lang/StackTraceElement")
  | 2 => .object "java/util/List"
  | 3 => .object "java/lang/String"
  | 4 => .object "java/lang/Object"
  | _ => .int
abbrev wsJ60 : List Cond := u_ws RJ6 TJ6 6
theorem nmJ6 : ∀ a, a < 6 → ∀ b, b < 6 → a ≠ b → (TJ6 a).2.1 ≠ (TJ6 b).2.1 := by decide +kernel
theorem tyJ6_ok : ∀ k, k < 6 → parseFieldDescriptor (TJ6 k).2.2.1 = some (tyJ6 k) := by decide +kernel
abbrev cJ6_init : ByteArray := prog_37_method_1_code
def yJ6_init : MethodName := ⟨RJ6, "<init>", "()V"⟩
theorem dJ6_init_0 : decode cJ6_init 0 = .ok (.aload_n 0, 1) := by decide +kernel
theorem dJ6_init_1 : decode cJ6_init 1 = .ok (.invokespecial 1, 3) := by decide +kernel
theorem dJ6_init_4 : decode cJ6_init 4 = .ok (.return_, 1) := by decide +kernel
theorem q121 : (Jvm.Cond.initialized "java/util/NoSuchElementException") ∈ lw_all := lw_g (lw_at lw_m1 13 rfl) rfl
theorem q437 : (Jvm.Cond.instantiable "java/util/NoSuchElementException" (6 : Nat)) ∈ lw_all := lw_g (lw_at lw_m2 89 rfl) rfl
theorem q438 : (Jvm.Cond.castable "java/util/NoSuchElementException" "java/util/NoSuchElementException") ∈ lw_tbl := lw_at lw_m2 90 rfl
theorem q445 : (Jvm.Cond.selects "java/util/NoSuchElementException" ({ cls := "java/lang/Throwable", name := "fillInStackTrace", desc := "(I)Ljava/lang/Throwable;" } : Jvm.MethodName) ({ cls := "java/lang/Throwable", name := "fillInStackTrace", desc := "(I)Ljava/lang/Throwable;" } : Jvm.MethodName)) ∈ lw_all := lw_g (lw_at lw_m2 97 rfl) rfl
theorem q446 : (Jvm.Cond.selects "java/util/NoSuchElementException" ({ cls := "java/lang/Throwable", name := "fillInStackTrace", desc := "()Ljava/lang/Throwable;" } : Jvm.MethodName) ({ cls := "java/lang/Throwable", name := "fillInStackTrace", desc := "()Ljava/lang/Throwable;" } : Jvm.MethodName)) ∈ lw_all := lw_g (lw_at lw_m2 98 rfl) rfl
theorem q447 : (Jvm.Cond.lays "java/util/NoSuchElementException" "java/lang/Throwable" "cause" "Ljava/lang/Throwable;") ∈ lw_all := lw_g (lw_at lw_m2 99 rfl) rfl
theorem q449 : (Jvm.Cond.lays "java/util/NoSuchElementException" "java/lang/Throwable" "stackTrace" "[Ljava/lang/StackTraceElement;") ∈ lw_all := lw_g (lw_at lw_m2 101 rfl) rfl
theorem q451 : (Jvm.Cond.lays "java/util/NoSuchElementException" "java/lang/Throwable" "suppressedExceptions" "Ljava/util/List;") ∈ lw_all := lw_g (lw_at lw_m2 103 rfl) rfl
theorem q453 : (Jvm.Cond.lays "java/util/NoSuchElementException" "java/lang/Throwable" "detailMessage" "Ljava/lang/String;") ∈ lw_all := lw_g (lw_at lw_m2 105 rfl) rfl
theorem q455 : (Jvm.Cond.lays "java/util/NoSuchElementException" "java/lang/Throwable" "backtrace" "Ljava/lang/Object;") ∈ lw_all := lw_g (lw_at lw_m2 107 rfl) rfl
theorem q478 : (Jvm.Cond.instanceMethod ({ cls := "java/util/NoSuchElementException", name := "<init>", desc := "()V" } : Jvm.MethodName)) ∈ lw_all := lw_g (lw_at lw_m2 130 rfl) rfl
theorem q479 : (Jvm.Cond.code ({ cls := "java/util/NoSuchElementException", name := "<init>", desc := "()V" } : Jvm.MethodName) prog_37_method_1_code (1 : Nat) (Option.none : Option Jvm.ClassFile.FieldType)) ∈ lw_all := lw_g (lw_at lw_m2 131 rfl) rfl
theorem q480 : (Jvm.Cond.methodLink "java/util/NoSuchElementException" (1 : Nat) ({ cls := "java/lang/RuntimeException", name := "<init>", desc := "()V" } : Jvm.MethodName)) ∈ lw_all := lw_g (lw_at lw_m2 132 rfl) rfl
theorem q496 : (Jvm.Cond.lays "java/util/NoSuchElementException" "java/lang/Throwable" "depth" "I") ∈ lw_all := lw_g (lw_at lw_m2 148 rfl) rfl
theorem q499 : (Jvm.Cond.superclass "java/util/NoSuchElementException" "java/lang/RuntimeException") ∈ lw_all := lw_g (lw_at lw_m2 151 rfl) rfl
theorem q1159 : (Jvm.Cond.selects "java/util/NoSuchElementException" ({ cls := "java/lang/Object", name := "getClass", desc := "()Ljava/lang/Class;" } : Jvm.MethodName) ({ cls := "java/lang/Object", name := "getClass", desc := "()Ljava/lang/Class;" } : Jvm.MethodName)) ∈ lw_all := lw_g (lw_at lw_m5 91 rfl) rfl
theorem q2176 : (Jvm.Cond.castable "java/util/NoSuchElementException" "java/lang/Object") ∈ lw_tbl := lw_at lw_m9 148 rfl
theorem in_J6 : ∀ w ∈ wsJ60, w ∈ lw_all := lw_in wsJ60 [447, 449, 451, 453, 455, 496] (by decide +kernel) (by decide +kernel)

/-! java/lang/Number -/
set_option maxRecDepth 100000
def RJ7 : String := "java/lang/Number"
abbrev cJ7_init : ByteArray := prog_24_method_1_code
def yJ7_init : MethodName := ⟨RJ7, "<init>", "()V"⟩
theorem dJ7_init_0 : decode cJ7_init 0 = .ok (.aload_n 0, 1) := by decide +kernel
theorem dJ7_init_1 : decode cJ7_init 1 = .ok (.invokespecial 1, 3) := by decide +kernel
theorem dJ7_init_4 : decode cJ7_init 4 = .ok (.return_, 1) := by decide +kernel
theorem q122 : (Jvm.Cond.initialized "java/lang/Number") ∈ lw_all := lw_g (lw_at lw_m1 14 rfl) rfl
theorem q1101 : (Jvm.Cond.instanceMethod ({ cls := "java/lang/Number", name := "<init>", desc := "()V" } : Jvm.MethodName)) ∈ lw_all := lw_g (lw_at lw_m5 33 rfl) rfl
theorem q1102 : (Jvm.Cond.code ({ cls := "java/lang/Number", name := "<init>", desc := "()V" } : Jvm.MethodName) prog_24_method_1_code (1 : Nat) (Option.none : Option Jvm.ClassFile.FieldType)) ∈ lw_all := lw_g (lw_at lw_m5 34 rfl) rfl
theorem q1103 : (Jvm.Cond.methodLink "java/lang/Number" (1 : Nat) ({ cls := "java/lang/Object", name := "<init>", desc := "()V" } : Jvm.MethodName)) ∈ lw_all := lw_g (lw_at lw_m5 35 rfl) rfl

/-! java/lang/Integer -/
set_option maxRecDepth 100000
def RJ8 : String := "java/lang/Integer"
def TJ8 : u_T := fun k => match k with
  | _ => ("java/lang/Integer", "value", "I", true)
def tyJ8 : Nat → FieldType := fun k => match k with
  | _ => .int
abbrev wsJ80 : List Cond := u_ws RJ8 TJ8 1
theorem nmJ8 : ∀ a, a < 1 → ∀ b, b < 1 → a ≠ b → (TJ8 a).2.1 ≠ (TJ8 b).2.1 := by decide +kernel
theorem tyJ8_ok : ∀ k, k < 1 → parseFieldDescriptor (TJ8 k).2.2.1 = some (tyJ8 k) := by decide +kernel
abbrev cJ8_bitCount : ByteArray := prog_20_method_49_code
def yJ8_bitCount : MethodName := ⟨RJ8, "bitCount", "(I)I"⟩
def dkwJ8_bitCount_2 : List UInt8 := [26, 16, 63, 126, 172]
abbrev dktJ8_bitCount_2 : List UInt8 := dkwJ8_bitCount_2 ++ []
def dkwJ8_bitCount_1 : List UInt8 := [26, 26, 7, 124, 96, 19, 1, 11, 126, 59, 26, 26, 16, 8, 124, 96, 59, 26, 26, 16, 16, 124, 96, 59]
abbrev dktJ8_bitCount_1 : List UInt8 := dkwJ8_bitCount_1 ++ dktJ8_bitCount_2
def dkwJ8_bitCount_0 : List UInt8 := [26, 26, 4, 124, 19, 1, 9, 126, 100, 59, 26, 19, 1, 10, 126, 26, 5, 124, 19, 1, 10, 126, 96, 59]
abbrev dktJ8_bitCount_0 : List UInt8 := dkwJ8_bitCount_0 ++ dktJ8_bitCount_1
theorem dksJ8_bitCount_0 : cJ8_bitCount.data.toList.drop 0 = dktJ8_bitCount_0 := by decide +kernel
theorem dksJ8_bitCount_1 : cJ8_bitCount.data.toList.drop 24 = dktJ8_bitCount_1 := dk_seg dksJ8_bitCount_0 24 rfl rfl
theorem dksJ8_bitCount_2 : cJ8_bitCount.data.toList.drop 48 = dktJ8_bitCount_2 := dk_seg dksJ8_bitCount_1 24 rfl rfl
theorem dJ8_bitCount_0 : decode cJ8_bitCount 0 = .ok (.iload_n 0, 1) := dk_26 (dk_at dksJ8_bitCount_0 0 rfl rfl)
theorem dJ8_bitCount_1 : decode cJ8_bitCount 1 = .ok (.iload_n 0, 1) := dk_26 (dk_at dksJ8_bitCount_0 1 rfl rfl)
theorem dJ8_bitCount_2 : decode cJ8_bitCount 2 = .ok (.iconst 1, 1) := dk_4 (dk_at dksJ8_bitCount_0 2 rfl rfl)
theorem dJ8_bitCount_3 : decode cJ8_bitCount 3 = .ok (.iushr, 1) := dk_124 (dk_at dksJ8_bitCount_0 3 rfl rfl)
theorem dJ8_bitCount_4 : decode cJ8_bitCount 4 = .ok (.ldc_w 265, 3) := dk_19 1 9 (dk_at dksJ8_bitCount_0 4 rfl rfl)
theorem dJ8_bitCount_7 : decode cJ8_bitCount 7 = .ok (.iand, 1) := dk_126 (dk_at dksJ8_bitCount_0 7 rfl rfl)
theorem dJ8_bitCount_8 : decode cJ8_bitCount 8 = .ok (.isub, 1) := dk_100 (dk_at dksJ8_bitCount_0 8 rfl rfl)
theorem dJ8_bitCount_9 : decode cJ8_bitCount 9 = .ok (.istore_n 0, 1) := dk_59 (dk_at dksJ8_bitCount_0 9 rfl rfl)
theorem dJ8_bitCount_10 : decode cJ8_bitCount 10 = .ok (.iload_n 0, 1) := dk_26 (dk_at dksJ8_bitCount_0 10 rfl rfl)
theorem dJ8_bitCount_11 : decode cJ8_bitCount 11 = .ok (.ldc_w 266, 3) := dk_19 1 10 (dk_at dksJ8_bitCount_0 11 rfl rfl)
theorem dJ8_bitCount_14 : decode cJ8_bitCount 14 = .ok (.iand, 1) := dk_126 (dk_at dksJ8_bitCount_0 14 rfl rfl)
theorem dJ8_bitCount_15 : decode cJ8_bitCount 15 = .ok (.iload_n 0, 1) := dk_26 (dk_at dksJ8_bitCount_0 15 rfl rfl)
theorem dJ8_bitCount_16 : decode cJ8_bitCount 16 = .ok (.iconst 2, 1) := dk_5 (dk_at dksJ8_bitCount_0 16 rfl rfl)
theorem dJ8_bitCount_17 : decode cJ8_bitCount 17 = .ok (.iushr, 1) := dk_124 (dk_at dksJ8_bitCount_0 17 rfl rfl)
theorem dJ8_bitCount_18 : decode cJ8_bitCount 18 = .ok (.ldc_w 266, 3) := dk_19 1 10 (dk_at dksJ8_bitCount_0 18 rfl rfl)
theorem dJ8_bitCount_21 : decode cJ8_bitCount 21 = .ok (.iand, 1) := dk_126 (dk_at dksJ8_bitCount_0 21 rfl rfl)
theorem dJ8_bitCount_22 : decode cJ8_bitCount 22 = .ok (.iadd, 1) := dk_96 (dk_at dksJ8_bitCount_0 22 rfl rfl)
theorem dJ8_bitCount_23 : decode cJ8_bitCount 23 = .ok (.istore_n 0, 1) := dk_59 (dk_at dksJ8_bitCount_0 23 rfl rfl)
theorem dJ8_bitCount_24 : decode cJ8_bitCount 24 = .ok (.iload_n 0, 1) := dk_26 (dk_at dksJ8_bitCount_1 0 rfl rfl)
theorem dJ8_bitCount_25 : decode cJ8_bitCount 25 = .ok (.iload_n 0, 1) := dk_26 (dk_at dksJ8_bitCount_1 1 rfl rfl)
theorem dJ8_bitCount_26 : decode cJ8_bitCount 26 = .ok (.iconst 4, 1) := dk_7 (dk_at dksJ8_bitCount_1 2 rfl rfl)
theorem dJ8_bitCount_27 : decode cJ8_bitCount 27 = .ok (.iushr, 1) := dk_124 (dk_at dksJ8_bitCount_1 3 rfl rfl)
theorem dJ8_bitCount_28 : decode cJ8_bitCount 28 = .ok (.iadd, 1) := dk_96 (dk_at dksJ8_bitCount_1 4 rfl rfl)
theorem dJ8_bitCount_29 : decode cJ8_bitCount 29 = .ok (.ldc_w 267, 3) := dk_19 1 11 (dk_at dksJ8_bitCount_1 5 rfl rfl)
theorem dJ8_bitCount_32 : decode cJ8_bitCount 32 = .ok (.iand, 1) := dk_126 (dk_at dksJ8_bitCount_1 8 rfl rfl)
theorem dJ8_bitCount_33 : decode cJ8_bitCount 33 = .ok (.istore_n 0, 1) := dk_59 (dk_at dksJ8_bitCount_1 9 rfl rfl)
theorem dJ8_bitCount_34 : decode cJ8_bitCount 34 = .ok (.iload_n 0, 1) := dk_26 (dk_at dksJ8_bitCount_1 10 rfl rfl)
theorem dJ8_bitCount_35 : decode cJ8_bitCount 35 = .ok (.iload_n 0, 1) := dk_26 (dk_at dksJ8_bitCount_1 11 rfl rfl)
theorem dJ8_bitCount_36 : decode cJ8_bitCount 36 = .ok (.bipush 8, 2) := dk_16 8 (dk_at dksJ8_bitCount_1 12 rfl rfl)
theorem dJ8_bitCount_38 : decode cJ8_bitCount 38 = .ok (.iushr, 1) := dk_124 (dk_at dksJ8_bitCount_1 14 rfl rfl)
theorem dJ8_bitCount_39 : decode cJ8_bitCount 39 = .ok (.iadd, 1) := dk_96 (dk_at dksJ8_bitCount_1 15 rfl rfl)
theorem dJ8_bitCount_40 : decode cJ8_bitCount 40 = .ok (.istore_n 0, 1) := dk_59 (dk_at dksJ8_bitCount_1 16 rfl rfl)
theorem dJ8_bitCount_41 : decode cJ8_bitCount 41 = .ok (.iload_n 0, 1) := dk_26 (dk_at dksJ8_bitCount_1 17 rfl rfl)
theorem dJ8_bitCount_42 : decode cJ8_bitCount 42 = .ok (.iload_n 0, 1) := dk_26 (dk_at dksJ8_bitCount_1 18 rfl rfl)
theorem dJ8_bitCount_43 : decode cJ8_bitCount 43 = .ok (.bipush 16, 2) := dk_16 16 (dk_at dksJ8_bitCount_1 19 rfl rfl)
theorem dJ8_bitCount_45 : decode cJ8_bitCount 45 = .ok (.iushr, 1) := dk_124 (dk_at dksJ8_bitCount_1 21 rfl rfl)
theorem dJ8_bitCount_46 : decode cJ8_bitCount 46 = .ok (.iadd, 1) := dk_96 (dk_at dksJ8_bitCount_1 22 rfl rfl)
theorem dJ8_bitCount_47 : decode cJ8_bitCount 47 = .ok (.istore_n 0, 1) := dk_59 (dk_at dksJ8_bitCount_1 23 rfl rfl)
theorem dJ8_bitCount_48 : decode cJ8_bitCount 48 = .ok (.iload_n 0, 1) := dk_26 (dk_at dksJ8_bitCount_2 0 rfl rfl)
theorem dJ8_bitCount_49 : decode cJ8_bitCount 49 = .ok (.bipush 63, 2) := dk_16 63 (dk_at dksJ8_bitCount_2 1 rfl rfl)
theorem dJ8_bitCount_51 : decode cJ8_bitCount 51 = .ok (.iand, 1) := dk_126 (dk_at dksJ8_bitCount_2 3 rfl rfl)
theorem dJ8_bitCount_52 : decode cJ8_bitCount 52 = .ok (.ireturn, 1) := dk_172 (dk_at dksJ8_bitCount_2 4 rfl rfl)
abbrev cJ8_numberOfTrailingZeros : ByteArray := prog_20_method_48_code
def yJ8_numberOfTrailingZeros : MethodName := ⟨RJ8, "numberOfTrailingZeros", "(I)I"⟩
def dkwJ8_numberOfTrailingZeros_3 : List UInt8 := [5, 124, 59, 27, 26, 4, 124, 96, 172]
abbrev dktJ8_numberOfTrailingZeros_3 : List UInt8 := dkwJ8_numberOfTrailingZeros_3 ++ []
def dkwJ8_numberOfTrailingZeros_2 : List UInt8 := [124, 59, 26, 16, 16, 164, 0, 10, 132, 1, 4, 26, 7, 124, 59, 26, 7, 164, 0, 10, 132, 1, 2, 26]
abbrev dktJ8_numberOfTrailingZeros_2 : List UInt8 := dkwJ8_numberOfTrailingZeros_2 ++ dktJ8_numberOfTrailingZeros_3
def dkwJ8_numberOfTrailingZeros_1 : List UInt8 := [164, 0, 11, 132, 1, 16, 26, 16, 16, 124, 59, 26, 17, 1, 0, 164, 0, 11, 132, 1, 8, 26, 16, 8]
abbrev dktJ8_numberOfTrailingZeros_1 : List UInt8 := dkwJ8_numberOfTrailingZeros_1 ++ dktJ8_numberOfTrailingZeros_2
def dkwJ8_numberOfTrailingZeros_0 : List UInt8 := [26, 2, 130, 26, 4, 100, 126, 59, 26, 157, 0, 8, 26, 16, 32, 126, 172, 4, 60, 26, 19, 1, 8]
abbrev dktJ8_numberOfTrailingZeros_0 : List UInt8 := dkwJ8_numberOfTrailingZeros_0 ++ dktJ8_numberOfTrailingZeros_1
theorem dksJ8_numberOfTrailingZeros_0 : cJ8_numberOfTrailingZeros.data.toList.drop 0 = dktJ8_numberOfTrailingZeros_0 := by decide +kernel
theorem dksJ8_numberOfTrailingZeros_1 : cJ8_numberOfTrailingZeros.data.toList.drop 23 = dktJ8_numberOfTrailingZeros_1 := dk_seg dksJ8_numberOfTrailingZeros_0 23 rfl rfl
theorem dksJ8_numberOfTrailingZeros_2 : cJ8_numberOfTrailingZeros.data.toList.drop 47 = dktJ8_numberOfTrailingZeros_2 := dk_seg dksJ8_numberOfTrailingZeros_1 24 rfl rfl
theorem dksJ8_numberOfTrailingZeros_3 : cJ8_numberOfTrailingZeros.data.toList.drop 71 = dktJ8_numberOfTrailingZeros_3 := dk_seg dksJ8_numberOfTrailingZeros_2 24 rfl rfl
theorem dJ8_numberOfTrailingZeros_0 : decode cJ8_numberOfTrailingZeros 0 = .ok (.iload_n 0, 1) := dk_26 (dk_at dksJ8_numberOfTrailingZeros_0 0 rfl rfl)
theorem dJ8_numberOfTrailingZeros_1 : decode cJ8_numberOfTrailingZeros 1 = .ok (.iconst (-1), 1) := dk_2 (dk_at dksJ8_numberOfTrailingZeros_0 1 rfl rfl)
theorem dJ8_numberOfTrailingZeros_2 : decode cJ8_numberOfTrailingZeros 2 = .ok (.ixor, 1) := dk_130 (dk_at dksJ8_numberOfTrailingZeros_0 2 rfl rfl)
theorem dJ8_numberOfTrailingZeros_3 : decode cJ8_numberOfTrailingZeros 3 = .ok (.iload_n 0, 1) := dk_26 (dk_at dksJ8_numberOfTrailingZeros_0 3 rfl rfl)
theorem dJ8_numberOfTrailingZeros_4 : decode cJ8_numberOfTrailingZeros 4 = .ok (.iconst 1, 1) := dk_4 (dk_at dksJ8_numberOfTrailingZeros_0 4 rfl rfl)
theorem dJ8_numberOfTrailingZeros_5 : decode cJ8_numberOfTrailingZeros 5 = .ok (.isub, 1) := dk_100 (dk_at dksJ8_numberOfTrailingZeros_0 5 rfl rfl)
theorem dJ8_numberOfTrailingZeros_6 : decode cJ8_numberOfTrailingZeros 6 = .ok (.iand, 1) := dk_126 (dk_at dksJ8_numberOfTrailingZeros_0 6 rfl rfl)
theorem dJ8_numberOfTrailingZeros_7 : decode cJ8_numberOfTrailingZeros 7 = .ok (.istore_n 0, 1) := dk_59 (dk_at dksJ8_numberOfTrailingZeros_0 7 rfl rfl)
theorem dJ8_numberOfTrailingZeros_8 : decode cJ8_numberOfTrailingZeros 8 = .ok (.iload_n 0, 1) := dk_26 (dk_at dksJ8_numberOfTrailingZeros_0 8 rfl rfl)
theorem dJ8_numberOfTrailingZeros_9 : decode cJ8_numberOfTrailingZeros 9 = .ok (.ifCond .gt 8, 3) := dk_157 0 8 (dk_at dksJ8_numberOfTrailingZeros_0 9 rfl rfl)
theorem dJ8_numberOfTrailingZeros_12 : decode cJ8_numberOfTrailingZeros 12 = .ok (.iload_n 0, 1) := dk_26 (dk_at dksJ8_numberOfTrailingZeros_0 12 rfl rfl)
theorem dJ8_numberOfTrailingZeros_13 : decode cJ8_numberOfTrailingZeros 13 = .ok (.bipush 32, 2) := dk_16 32 (dk_at dksJ8_numberOfTrailingZeros_0 13 rfl rfl)
theorem dJ8_numberOfTrailingZeros_15 : decode cJ8_numberOfTrailingZeros 15 = .ok (.iand, 1) := dk_126 (dk_at dksJ8_numberOfTrailingZeros_0 15 rfl rfl)
theorem dJ8_numberOfTrailingZeros_16 : decode cJ8_numberOfTrailingZeros 16 = .ok (.ireturn, 1) := dk_172 (dk_at dksJ8_numberOfTrailingZeros_0 16 rfl rfl)
theorem dJ8_numberOfTrailingZeros_17 : decode cJ8_numberOfTrailingZeros 17 = .ok (.iconst 1, 1) := dk_4 (dk_at dksJ8_numberOfTrailingZeros_0 17 rfl rfl)
theorem dJ8_numberOfTrailingZeros_18 : decode cJ8_numberOfTrailingZeros 18 = .ok (.istore_n 1, 1) := dk_60 (dk_at dksJ8_numberOfTrailingZeros_0 18 rfl rfl)
theorem dJ8_numberOfTrailingZeros_19 : decode cJ8_numberOfTrailingZeros 19 = .ok (.iload_n 0, 1) := dk_26 (dk_at dksJ8_numberOfTrailingZeros_0 19 rfl rfl)
theorem dJ8_numberOfTrailingZeros_20 : decode cJ8_numberOfTrailingZeros 20 = .ok (.ldc_w 264, 3) := dk_19 1 8 (dk_at dksJ8_numberOfTrailingZeros_0 20 rfl rfl)
theorem dJ8_numberOfTrailingZeros_23 : decode cJ8_numberOfTrailingZeros 23 = .ok (.if_icmp .le 11, 3) := dk_164 0 11 (dk_at dksJ8_numberOfTrailingZeros_1 0 rfl rfl)
theorem dJ8_numberOfTrailingZeros_26 : decode cJ8_numberOfTrailingZeros 26 = .ok (.iinc 1 16, 3) := dk_132 1 16 (dk_at dksJ8_numberOfTrailingZeros_1 3 rfl rfl)
theorem dJ8_numberOfTrailingZeros_29 : decode cJ8_numberOfTrailingZeros 29 = .ok (.iload_n 0, 1) := dk_26 (dk_at dksJ8_numberOfTrailingZeros_1 6 rfl rfl)
theorem dJ8_numberOfTrailingZeros_30 : decode cJ8_numberOfTrailingZeros 30 = .ok (.bipush 16, 2) := dk_16 16 (dk_at dksJ8_numberOfTrailingZeros_1 7 rfl rfl)
theorem dJ8_numberOfTrailingZeros_32 : decode cJ8_numberOfTrailingZeros 32 = .ok (.iushr, 1) := dk_124 (dk_at dksJ8_numberOfTrailingZeros_1 9 rfl rfl)
theorem dJ8_numberOfTrailingZeros_33 : decode cJ8_numberOfTrailingZeros 33 = .ok (.istore_n 0, 1) := dk_59 (dk_at dksJ8_numberOfTrailingZeros_1 10 rfl rfl)
theorem dJ8_numberOfTrailingZeros_34 : decode cJ8_numberOfTrailingZeros 34 = .ok (.iload_n 0, 1) := dk_26 (dk_at dksJ8_numberOfTrailingZeros_1 11 rfl rfl)
theorem dJ8_numberOfTrailingZeros_35 : decode cJ8_numberOfTrailingZeros 35 = .ok (.sipush 256, 3) := dk_17 1 0 (dk_at dksJ8_numberOfTrailingZeros_1 12 rfl rfl)
theorem dJ8_numberOfTrailingZeros_38 : decode cJ8_numberOfTrailingZeros 38 = .ok (.if_icmp .le 11, 3) := dk_164 0 11 (dk_at dksJ8_numberOfTrailingZeros_1 15 rfl rfl)
theorem dJ8_numberOfTrailingZeros_41 : decode cJ8_numberOfTrailingZeros 41 = .ok (.iinc 1 8, 3) := dk_132 1 8 (dk_at dksJ8_numberOfTrailingZeros_1 18 rfl rfl)
theorem dJ8_numberOfTrailingZeros_44 : decode cJ8_numberOfTrailingZeros 44 = .ok (.iload_n 0, 1) := dk_26 (dk_at dksJ8_numberOfTrailingZeros_1 21 rfl rfl)
theorem dJ8_numberOfTrailingZeros_45 : decode cJ8_numberOfTrailingZeros 45 = .ok (.bipush 8, 2) := dk_16 8 (dk_at dksJ8_numberOfTrailingZeros_1 22 rfl rfl)
theorem dJ8_numberOfTrailingZeros_47 : decode cJ8_numberOfTrailingZeros 47 = .ok (.iushr, 1) := dk_124 (dk_at dksJ8_numberOfTrailingZeros_2 0 rfl rfl)
theorem dJ8_numberOfTrailingZeros_48 : decode cJ8_numberOfTrailingZeros 48 = .ok (.istore_n 0, 1) := dk_59 (dk_at dksJ8_numberOfTrailingZeros_2 1 rfl rfl)
theorem dJ8_numberOfTrailingZeros_49 : decode cJ8_numberOfTrailingZeros 49 = .ok (.iload_n 0, 1) := dk_26 (dk_at dksJ8_numberOfTrailingZeros_2 2 rfl rfl)
theorem dJ8_numberOfTrailingZeros_50 : decode cJ8_numberOfTrailingZeros 50 = .ok (.bipush 16, 2) := dk_16 16 (dk_at dksJ8_numberOfTrailingZeros_2 3 rfl rfl)
theorem dJ8_numberOfTrailingZeros_52 : decode cJ8_numberOfTrailingZeros 52 = .ok (.if_icmp .le 10, 3) := dk_164 0 10 (dk_at dksJ8_numberOfTrailingZeros_2 5 rfl rfl)
theorem dJ8_numberOfTrailingZeros_55 : decode cJ8_numberOfTrailingZeros 55 = .ok (.iinc 1 4, 3) := dk_132 1 4 (dk_at dksJ8_numberOfTrailingZeros_2 8 rfl rfl)
theorem dJ8_numberOfTrailingZeros_58 : decode cJ8_numberOfTrailingZeros 58 = .ok (.iload_n 0, 1) := dk_26 (dk_at dksJ8_numberOfTrailingZeros_2 11 rfl rfl)
theorem dJ8_numberOfTrailingZeros_59 : decode cJ8_numberOfTrailingZeros 59 = .ok (.iconst 4, 1) := dk_7 (dk_at dksJ8_numberOfTrailingZeros_2 12 rfl rfl)
theorem dJ8_numberOfTrailingZeros_60 : decode cJ8_numberOfTrailingZeros 60 = .ok (.iushr, 1) := dk_124 (dk_at dksJ8_numberOfTrailingZeros_2 13 rfl rfl)
theorem dJ8_numberOfTrailingZeros_61 : decode cJ8_numberOfTrailingZeros 61 = .ok (.istore_n 0, 1) := dk_59 (dk_at dksJ8_numberOfTrailingZeros_2 14 rfl rfl)
theorem dJ8_numberOfTrailingZeros_62 : decode cJ8_numberOfTrailingZeros 62 = .ok (.iload_n 0, 1) := dk_26 (dk_at dksJ8_numberOfTrailingZeros_2 15 rfl rfl)
theorem dJ8_numberOfTrailingZeros_63 : decode cJ8_numberOfTrailingZeros 63 = .ok (.iconst 4, 1) := dk_7 (dk_at dksJ8_numberOfTrailingZeros_2 16 rfl rfl)
theorem dJ8_numberOfTrailingZeros_64 : decode cJ8_numberOfTrailingZeros 64 = .ok (.if_icmp .le 10, 3) := dk_164 0 10 (dk_at dksJ8_numberOfTrailingZeros_2 17 rfl rfl)
theorem dJ8_numberOfTrailingZeros_67 : decode cJ8_numberOfTrailingZeros 67 = .ok (.iinc 1 2, 3) := dk_132 1 2 (dk_at dksJ8_numberOfTrailingZeros_2 20 rfl rfl)
theorem dJ8_numberOfTrailingZeros_70 : decode cJ8_numberOfTrailingZeros 70 = .ok (.iload_n 0, 1) := dk_26 (dk_at dksJ8_numberOfTrailingZeros_2 23 rfl rfl)
theorem dJ8_numberOfTrailingZeros_71 : decode cJ8_numberOfTrailingZeros 71 = .ok (.iconst 2, 1) := dk_5 (dk_at dksJ8_numberOfTrailingZeros_3 0 rfl rfl)
theorem dJ8_numberOfTrailingZeros_72 : decode cJ8_numberOfTrailingZeros 72 = .ok (.iushr, 1) := dk_124 (dk_at dksJ8_numberOfTrailingZeros_3 1 rfl rfl)
theorem dJ8_numberOfTrailingZeros_73 : decode cJ8_numberOfTrailingZeros 73 = .ok (.istore_n 0, 1) := dk_59 (dk_at dksJ8_numberOfTrailingZeros_3 2 rfl rfl)
theorem dJ8_numberOfTrailingZeros_74 : decode cJ8_numberOfTrailingZeros 74 = .ok (.iload_n 1, 1) := dk_27 (dk_at dksJ8_numberOfTrailingZeros_3 3 rfl rfl)
theorem dJ8_numberOfTrailingZeros_75 : decode cJ8_numberOfTrailingZeros 75 = .ok (.iload_n 0, 1) := dk_26 (dk_at dksJ8_numberOfTrailingZeros_3 4 rfl rfl)
theorem dJ8_numberOfTrailingZeros_76 : decode cJ8_numberOfTrailingZeros 76 = .ok (.iconst 1, 1) := dk_4 (dk_at dksJ8_numberOfTrailingZeros_3 5 rfl rfl)
theorem dJ8_numberOfTrailingZeros_77 : decode cJ8_numberOfTrailingZeros 77 = .ok (.iushr, 1) := dk_124 (dk_at dksJ8_numberOfTrailingZeros_3 6 rfl rfl)
theorem dJ8_numberOfTrailingZeros_78 : decode cJ8_numberOfTrailingZeros 78 = .ok (.iadd, 1) := dk_96 (dk_at dksJ8_numberOfTrailingZeros_3 7 rfl rfl)
theorem dJ8_numberOfTrailingZeros_79 : decode cJ8_numberOfTrailingZeros 79 = .ok (.ireturn, 1) := dk_172 (dk_at dksJ8_numberOfTrailingZeros_3 8 rfl rfl)
abbrev cJ8_valueOf : ByteArray := prog_20_method_22_code
def yJ8_valueOf : MethodName := ⟨RJ8, "valueOf", "(I)Ljava/lang/Integer;"⟩
def dkwJ8_valueOf_1 : List UInt8 := [187, 0, 1, 89, 26, 183, 0, 199, 176]
abbrev dktJ8_valueOf_1 : List UInt8 := dkwJ8_valueOf_1 ++ []
def dkwJ8_valueOf_0 : List UInt8 := [26, 16, 128, 161, 0, 20, 26, 178, 0, 191, 163, 0, 13, 178, 0, 195, 26, 17, 0, 128, 96, 50, 176]
abbrev dktJ8_valueOf_0 : List UInt8 := dkwJ8_valueOf_0 ++ dktJ8_valueOf_1
theorem dksJ8_valueOf_0 : cJ8_valueOf.data.toList.drop 0 = dktJ8_valueOf_0 := by decide +kernel
theorem dksJ8_valueOf_1 : cJ8_valueOf.data.toList.drop 23 = dktJ8_valueOf_1 := dk_seg dksJ8_valueOf_0 23 rfl rfl
theorem dJ8_valueOf_0 : decode cJ8_valueOf 0 = .ok (.iload_n 0, 1) := dk_26 (dk_at dksJ8_valueOf_0 0 rfl rfl)
theorem dJ8_valueOf_1 : decode cJ8_valueOf 1 = .ok (.bipush (-128), 2) := dk_16 128 (dk_at dksJ8_valueOf_0 1 rfl rfl)
theorem dJ8_valueOf_3 : decode cJ8_valueOf 3 = .ok (.if_icmp .lt 20, 3) := dk_161 0 20 (dk_at dksJ8_valueOf_0 3 rfl rfl)
theorem dJ8_valueOf_6 : decode cJ8_valueOf 6 = .ok (.iload_n 0, 1) := dk_26 (dk_at dksJ8_valueOf_0 6 rfl rfl)
theorem dJ8_valueOf_7 : decode cJ8_valueOf 7 = .ok (.getstatic 191, 3) := dk_178 0 191 (dk_at dksJ8_valueOf_0 7 rfl rfl)
theorem dJ8_valueOf_10 : decode cJ8_valueOf 10 = .ok (.if_icmp .gt 13, 3) := dk_163 0 13 (dk_at dksJ8_valueOf_0 10 rfl rfl)
theorem dJ8_valueOf_13 : decode cJ8_valueOf 13 = .ok (.getstatic 195, 3) := dk_178 0 195 (dk_at dksJ8_valueOf_0 13 rfl rfl)
theorem dJ8_valueOf_16 : decode cJ8_valueOf 16 = .ok (.iload_n 0, 1) := dk_26 (dk_at dksJ8_valueOf_0 16 rfl rfl)
theorem dJ8_valueOf_17 : decode cJ8_valueOf 17 = .ok (.sipush 128, 3) := dk_17 0 128 (dk_at dksJ8_valueOf_0 17 rfl rfl)
theorem dJ8_valueOf_20 : decode cJ8_valueOf 20 = .ok (.iadd, 1) := dk_96 (dk_at dksJ8_valueOf_0 20 rfl rfl)
theorem dJ8_valueOf_21 : decode cJ8_valueOf 21 = .ok (.aaload, 1) := dk_50 (dk_at dksJ8_valueOf_0 21 rfl rfl)
theorem dJ8_valueOf_22 : decode cJ8_valueOf 22 = .ok (.areturn, 1) := dk_176 (dk_at dksJ8_valueOf_0 22 rfl rfl)
theorem dJ8_valueOf_23 : decode cJ8_valueOf 23 = .ok (.new 1, 3) := dk_187 0 1 (dk_at dksJ8_valueOf_1 0 rfl rfl)
theorem dJ8_valueOf_26 : decode cJ8_valueOf 26 = .ok (.dup, 1) := dk_89 (dk_at dksJ8_valueOf_1 3 rfl rfl)
theorem dJ8_valueOf_27 : decode cJ8_valueOf 27 = .ok (.iload_n 0, 1) := dk_26 (dk_at dksJ8_valueOf_1 4 rfl rfl)
theorem dJ8_valueOf_28 : decode cJ8_valueOf 28 = .ok (.invokespecial 199, 3) := dk_183 0 199 (dk_at dksJ8_valueOf_1 5 rfl rfl)
theorem dJ8_valueOf_31 : decode cJ8_valueOf 31 = .ok (.areturn, 1) := dk_176 (dk_at dksJ8_valueOf_1 8 rfl rfl)
abbrev cJ8_init : ByteArray := prog_20_method_23_code
def yJ8_init : MethodName := ⟨RJ8, "<init>", "(I)V"⟩
def dkwJ8_init_0 : List UInt8 := [42, 183, 0, 202, 42, 27, 181, 0, 205, 177]
abbrev dktJ8_init_0 : List UInt8 := dkwJ8_init_0 ++ []
theorem dksJ8_init_0 : cJ8_init.data.toList.drop 0 = dktJ8_init_0 := by decide +kernel
theorem dJ8_init_0 : decode cJ8_init 0 = .ok (.aload_n 0, 1) := dk_42 (dk_at dksJ8_init_0 0 rfl rfl)
theorem dJ8_init_1 : decode cJ8_init 1 = .ok (.invokespecial 202, 3) := dk_183 0 202 (dk_at dksJ8_init_0 1 rfl rfl)
theorem dJ8_init_4 : decode cJ8_init 4 = .ok (.aload_n 0, 1) := dk_42 (dk_at dksJ8_init_0 4 rfl rfl)
theorem dJ8_init_5 : decode cJ8_init 5 = .ok (.iload_n 1, 1) := dk_27 (dk_at dksJ8_init_0 5 rfl rfl)
theorem dJ8_init_6 : decode cJ8_init 6 = .ok (.putfield 205, 3) := dk_181 0 205 (dk_at dksJ8_init_0 6 rfl rfl)
theorem dJ8_init_9 : decode cJ8_init 9 = .ok (.return_, 1) := dk_177 (dk_at dksJ8_init_0 9 rfl rfl)
abbrev cJ8_intValue : ByteArray := prog_20_method_27_code
def yJ8_intValue : MethodName := ⟨RJ8, "intValue", "()I"⟩
theorem dJ8_intValue_0 : decode cJ8_intValue 0 = .ok (.aload_n 0, 1) := by decide +kernel
theorem dJ8_intValue_1 : decode cJ8_intValue 1 = .ok (.getfield 205, 3) := by decide +kernel
theorem dJ8_intValue_4 : decode cJ8_intValue 4 = .ok (.ireturn, 1) := by decide +kernel
theorem q123 : (Jvm.Cond.initialized "java/lang/Integer") ∈ lw_all := lw_g (lw_at lw_m1 15 rfl) rfl
theorem q395 : (Jvm.Cond.static ({ cls := "java/lang/Integer", name := "bitCount", desc := "(I)I" } : Jvm.MethodName)) ∈ lw_all := lw_g (lw_at lw_m2 47 rfl) rfl
theorem q396 : (Jvm.Cond.code ({ cls := "java/lang/Integer", name := "bitCount", desc := "(I)I" } : Jvm.MethodName) prog_20_method_49_code (1 : Nat) (Option.some Jvm.ClassFile.FieldType.int)) ∈ lw_all := lw_g (lw_at lw_m2 48 rfl) rfl
theorem q397 : (Jvm.Cond.constant "java/lang/Integer" (265 : Nat) (1431655765 : Int32)) ∈ lw_all := lw_g (lw_at lw_m2 49 rfl) rfl
theorem q398 : (Jvm.Cond.constant "java/lang/Integer" (266 : Nat) (858993459 : Int32)) ∈ lw_all := lw_g (lw_at lw_m2 50 rfl) rfl
theorem q399 : (Jvm.Cond.constant "java/lang/Integer" (267 : Nat) (252645135 : Int32)) ∈ lw_all := lw_g (lw_at lw_m2 51 rfl) rfl
theorem q808 : (Jvm.Cond.static ({ cls := "java/lang/Integer", name := "numberOfTrailingZeros", desc := "(I)I" } : Jvm.MethodName)) ∈ lw_all := lw_g (lw_at lw_m3 220 rfl) rfl
theorem q809 : (Jvm.Cond.code ({ cls := "java/lang/Integer", name := "numberOfTrailingZeros", desc := "(I)I" } : Jvm.MethodName) prog_20_method_48_code (2 : Nat) (Option.some Jvm.ClassFile.FieldType.int)) ∈ lw_all := lw_g (lw_at lw_m3 221 rfl) rfl
theorem q810 : (Jvm.Cond.constant "java/lang/Integer" (264 : Nat) (65536 : Int32)) ∈ lw_all := lw_g (lw_at lw_m3 222 rfl) rfl
theorem q1089 : (Jvm.Cond.static ({ cls := "java/lang/Integer", name := "valueOf", desc := "(I)Ljava/lang/Integer;" } : Jvm.MethodName)) ∈ lw_all := lw_g (lw_at lw_m5 21 rfl) rfl
theorem q1090 : (Jvm.Cond.code ({ cls := "java/lang/Integer", name := "valueOf", desc := "(I)Ljava/lang/Integer;" } : Jvm.MethodName) prog_20_method_22_code (1 : Nat) (Option.some (Jvm.ClassFile.FieldType.object "java/lang/Integer"))) ∈ lw_all := lw_g (lw_at lw_m5 22 rfl) rfl
theorem q1091 : (Jvm.Cond.fieldLink "java/lang/Integer" (191 : Nat) "java/lang/Integer$IntegerCache" "high" "I") ∈ lw_all := lw_g (lw_at lw_m5 23 rfl) rfl
theorem q1093 : (Jvm.Cond.fieldLink "java/lang/Integer" (195 : Nat) "java/lang/Integer$IntegerCache" "cache" "[Ljava/lang/Integer;") ∈ lw_all := lw_g (lw_at lw_m5 25 rfl) rfl
theorem q1095 : (Jvm.Cond.classLink "java/lang/Integer" (1 : Nat) "java/lang/Integer") ∈ lw_all := lw_g (lw_at lw_m5 27 rfl) rfl
theorem q1096 : (Jvm.Cond.instantiable "java/lang/Integer" (1 : Nat)) ∈ lw_all := lw_g (lw_at lw_m5 28 rfl) rfl
theorem q1097 : (Jvm.Cond.methodLink "java/lang/Integer" (199 : Nat) ({ cls := "java/lang/Integer", name := "<init>", desc := "(I)V" } : Jvm.MethodName)) ∈ lw_all := lw_g (lw_at lw_m5 29 rfl) rfl
theorem q1098 : (Jvm.Cond.instanceMethod ({ cls := "java/lang/Integer", name := "<init>", desc := "(I)V" } : Jvm.MethodName)) ∈ lw_all := lw_g (lw_at lw_m5 30 rfl) rfl
theorem q1099 : (Jvm.Cond.code ({ cls := "java/lang/Integer", name := "<init>", desc := "(I)V" } : Jvm.MethodName) prog_20_method_23_code (2 : Nat) (Option.none : Option Jvm.ClassFile.FieldType)) ∈ lw_all := lw_g (lw_at lw_m5 31 rfl) rfl
theorem q1100 : (Jvm.Cond.methodLink "java/lang/Integer" (202 : Nat) ({ cls := "java/lang/Number", name := "<init>", desc := "()V" } : Jvm.MethodName)) ∈ lw_all := lw_g (lw_at lw_m5 32 rfl) rfl
theorem q1104 : (Jvm.Cond.fieldLink "java/lang/Integer" (205 : Nat) "java/lang/Integer" "value" "I") ∈ lw_all := lw_g (lw_at lw_m5 36 rfl) rfl
theorem q1105 : (Jvm.Cond.laysFinal "java/lang/Integer" "java/lang/Integer" "value" "I") ∈ lw_all := lw_g (lw_at lw_m5 37 rfl) rfl
theorem q1106 : (Jvm.Cond.soleField "java/lang/Integer" "value") ∈ lw_all := lw_g (lw_at lw_m5 38 rfl) rfl
theorem q1107 : (Jvm.Cond.superclass "java/lang/Integer" "java/lang/Number") ∈ lw_all := lw_g (lw_at lw_m5 39 rfl) rfl
theorem q1157 : (Jvm.Cond.selects "java/lang/Integer" ({ cls := "java/lang/Object", name := "getClass", desc := "()Ljava/lang/Class;" } : Jvm.MethodName) ({ cls := "java/lang/Object", name := "getClass", desc := "()Ljava/lang/Class;" } : Jvm.MethodName)) ∈ lw_all := lw_g (lw_at lw_m5 89 rfl) rfl
theorem q1208 : (Jvm.Cond.instanceMethod ({ cls := "java/lang/Integer", name := "intValue", desc := "()I" } : Jvm.MethodName)) ∈ lw_all := lw_g (lw_at lw_m5 140 rfl) rfl
theorem q1209 : (Jvm.Cond.selects "java/lang/Integer" ({ cls := "java/lang/Integer", name := "intValue", desc := "()I" } : Jvm.MethodName) ({ cls := "java/lang/Integer", name := "intValue", desc := "()I" } : Jvm.MethodName)) ∈ lw_all := lw_g (lw_at lw_m5 141 rfl) rfl
theorem q1210 : (Jvm.Cond.code ({ cls := "java/lang/Integer", name := "intValue", desc := "()I" } : Jvm.MethodName) prog_20_method_27_code (1 : Nat) (Option.some Jvm.ClassFile.FieldType.int)) ∈ lw_all := lw_g (lw_at lw_m5 142 rfl) rfl
theorem q2182 : (Jvm.Cond.castable "java/lang/Integer" "java/lang/Object") ∈ lw_tbl := lw_at lw_m9 154 rfl
theorem in_J8 : ∀ w ∈ wsJ80, w ∈ lw_all := lw_in wsJ80 [1105] (by decide +kernel) (by decide +kernel)

/-! java/lang/IllegalArgumentException -/
set_option maxRecDepth 100000
def RJ9 : String := "java/lang/IllegalArgumentException"
def TJ9 : u_T := fun k => match k with
  | 0 => ("java/lang/Throwable", "cause", "Ljava/lang/Throwable;", false)
  | 1 => ("java/lang/Throwable", "stackTrace", "[Ljava/lang/StackTraceElement;", false)
  | 2 => ("java/lang/Throwable", "suppressedExceptions", "Ljava/util/List;", false)
  | 3 => ("java/lang/Throwable", "detailMessage", "Ljava/lang/String;", false)
  | 4 => ("java/lang/Throwable", "backtrace", "Ljava/lang/Object;", false)
  | _ => ("java/lang/Throwable", "depth", "I", false)
def tyJ9 : Nat → FieldType := fun k => match k with
  | 0 => .object "java/lang/Throwable"
  | 1 => .array (.object "java/lang/StackTraceElement")
  | 2 => .object "java/util/List"
  | 3 => .object "java/lang/String"
  | 4 => .object "java/lang/Object"
  | _ => .int
abbrev wsJ90 : List Cond := u_ws RJ9 TJ9 6
theorem nmJ9 : ∀ a, a < 6 → ∀ b, b < 6 → a ≠ b → (TJ9 a).2.1 ≠ (TJ9 b).2.1 := by decide +kernel
theorem tyJ9_ok : ∀ k, k < 6 → parseFieldDescriptor (TJ9 k).2.2.1 = some (tyJ9 k) := by decide +kernel
abbrev cJ9_init : ByteArray := prog_19_method_1_code
def yJ9_init : MethodName := ⟨RJ9, "<init>", "()V"⟩
theorem dJ9_init_0 : decode cJ9_init 0 = .ok (.aload_n 0, 1) := by decide +kernel
theorem dJ9_init_1 : decode cJ9_init 1 = .ok (.invokespecial 1, 3) := by decide +kernel
theorem dJ9_init_4 : decode cJ9_init 4 = .ok (.return_, 1) := by decide +kernel
theorem q124 : (Jvm.Cond.initialized "java/lang/IllegalArgumentException") ∈ lw_all := lw_g (lw_at lw_m1 16 rfl) rfl
theorem q470 : (Jvm.Cond.selects "java/lang/IllegalArgumentException" ({ cls := "java/lang/Throwable", name := "fillInStackTrace", desc := "()Ljava/lang/Throwable;" } : Jvm.MethodName) ({ cls := "java/lang/Throwable", name := "fillInStackTrace", desc := "()Ljava/lang/Throwable;" } : Jvm.MethodName)) ∈ lw_all := lw_g (lw_at lw_m2 122 rfl) rfl
theorem q542 : (Jvm.Cond.instantiable "java/lang/IllegalArgumentException" (6 : Nat)) ∈ lw_all := lw_g (lw_at lw_m2 194 rfl) rfl
theorem q543 : (Jvm.Cond.castable "java/lang/IllegalArgumentException" "java/lang/IllegalArgumentException") ∈ lw_tbl := lw_at lw_m2 195 rfl
theorem q544 : (Jvm.Cond.selects "java/lang/IllegalArgumentException" ({ cls := "java/lang/Throwable", name := "fillInStackTrace", desc := "(I)Ljava/lang/Throwable;" } : Jvm.MethodName) ({ cls := "java/lang/Throwable", name := "fillInStackTrace", desc := "(I)Ljava/lang/Throwable;" } : Jvm.MethodName)) ∈ lw_all := lw_g (lw_at lw_m2 196 rfl) rfl
theorem q545 : (Jvm.Cond.lays "java/lang/IllegalArgumentException" "java/lang/Throwable" "cause" "Ljava/lang/Throwable;") ∈ lw_all := lw_g (lw_at lw_m2 197 rfl) rfl
theorem q546 : (Jvm.Cond.lays "java/lang/IllegalArgumentException" "java/lang/Throwable" "stackTrace" "[Ljava/lang/StackTraceElement;") ∈ lw_all := lw_g (lw_at lw_m2 198 rfl) rfl
theorem q547 : (Jvm.Cond.lays "java/lang/IllegalArgumentException" "java/lang/Throwable" "suppressedExceptions" "Ljava/util/List;") ∈ lw_all := lw_g (lw_at lw_m2 199 rfl) rfl
theorem q548 : (Jvm.Cond.lays "java/lang/IllegalArgumentException" "java/lang/Throwable" "detailMessage" "Ljava/lang/String;") ∈ lw_all := lw_g (lw_at lw_m2 200 rfl) rfl
theorem q549 : (Jvm.Cond.lays "java/lang/IllegalArgumentException" "java/lang/Throwable" "backtrace" "Ljava/lang/Object;") ∈ lw_all := lw_g (lw_at lw_m2 201 rfl) rfl
theorem q551 : (Jvm.Cond.instanceMethod ({ cls := "java/lang/IllegalArgumentException", name := "<init>", desc := "()V" } : Jvm.MethodName)) ∈ lw_all := lw_g (lw_at lw_m2 203 rfl) rfl
theorem q552 : (Jvm.Cond.code ({ cls := "java/lang/IllegalArgumentException", name := "<init>", desc := "()V" } : Jvm.MethodName) prog_19_method_1_code (1 : Nat) (Option.none : Option Jvm.ClassFile.FieldType)) ∈ lw_all := lw_g (lw_at lw_m2 204 rfl) rfl
theorem q553 : (Jvm.Cond.methodLink "java/lang/IllegalArgumentException" (1 : Nat) ({ cls := "java/lang/RuntimeException", name := "<init>", desc := "()V" } : Jvm.MethodName)) ∈ lw_all := lw_g (lw_at lw_m2 205 rfl) rfl
theorem q554 : (Jvm.Cond.lays "java/lang/IllegalArgumentException" "java/lang/Throwable" "depth" "I") ∈ lw_all := lw_g (lw_at lw_m2 206 rfl) rfl
theorem q555 : (Jvm.Cond.superclass "java/lang/IllegalArgumentException" "java/lang/RuntimeException") ∈ lw_all := lw_g (lw_at lw_m2 207 rfl) rfl
theorem q1156 : (Jvm.Cond.selects "java/lang/IllegalArgumentException" ({ cls := "java/lang/Object", name := "getClass", desc := "()Ljava/lang/Class;" } : Jvm.MethodName) ({ cls := "java/lang/Object", name := "getClass", desc := "()Ljava/lang/Class;" } : Jvm.MethodName)) ∈ lw_all := lw_g (lw_at lw_m5 88 rfl) rfl
theorem q2177 : (Jvm.Cond.castable "java/lang/IllegalArgumentException" "java/lang/Object") ∈ lw_tbl := lw_at lw_m9 149 rfl
theorem in_J9 : ∀ w ∈ wsJ90, w ∈ lw_all := lw_in wsJ90 [545, 546, 547, 548, 549, 554] (by decide +kernel) (by decide +kernel)

/-! java/lang/Math -/
set_option maxRecDepth 100000
def RJ10 : String := "java/lang/Math"
abbrev cJ10_max : ByteArray := prog_23_method_65_code
def yJ10_max : MethodName := ⟨RJ10, "max", "(II)I"⟩
def dkwJ10_max_0 : List UInt8 := [26, 27, 161, 0, 7, 26, 167, 0, 4, 27, 172]
abbrev dktJ10_max_0 : List UInt8 := dkwJ10_max_0 ++ []
theorem dksJ10_max_0 : cJ10_max.data.toList.drop 0 = dktJ10_max_0 := by decide +kernel
theorem dJ10_max_0 : decode cJ10_max 0 = .ok (.iload_n 0, 1) := dk_26 (dk_at dksJ10_max_0 0 rfl rfl)
theorem dJ10_max_1 : decode cJ10_max 1 = .ok (.iload_n 1, 1) := dk_27 (dk_at dksJ10_max_0 1 rfl rfl)
theorem dJ10_max_2 : decode cJ10_max 2 = .ok (.if_icmp .lt 7, 3) := dk_161 0 7 (dk_at dksJ10_max_0 2 rfl rfl)
theorem dJ10_max_5 : decode cJ10_max 5 = .ok (.iload_n 0, 1) := dk_26 (dk_at dksJ10_max_0 5 rfl rfl)
theorem dJ10_max_6 : decode cJ10_max 6 = .ok (.goto 4, 3) := dk_167 0 4 (dk_at dksJ10_max_0 6 rfl rfl)
theorem dJ10_max_9 : decode cJ10_max 9 = .ok (.iload_n 1, 1) := dk_27 (dk_at dksJ10_max_0 9 rfl rfl)
theorem dJ10_max_10 : decode cJ10_max 10 = .ok (.ireturn, 1) := dk_172 (dk_at dksJ10_max_0 10 rfl rfl)
abbrev cJ10_min : ByteArray := prog_23_method_69_code
def yJ10_min : MethodName := ⟨RJ10, "min", "(II)I"⟩
def dkwJ10_min_0 : List UInt8 := [26, 27, 163, 0, 7, 26, 167, 0, 4, 27, 172]
abbrev dktJ10_min_0 : List UInt8 := dkwJ10_min_0 ++ []
theorem dksJ10_min_0 : cJ10_min.data.toList.drop 0 = dktJ10_min_0 := by decide +kernel
theorem dJ10_min_0 : decode cJ10_min 0 = .ok (.iload_n 0, 1) := dk_26 (dk_at dksJ10_min_0 0 rfl rfl)
theorem dJ10_min_1 : decode cJ10_min 1 = .ok (.iload_n 1, 1) := dk_27 (dk_at dksJ10_min_0 1 rfl rfl)
theorem dJ10_min_2 : decode cJ10_min 2 = .ok (.if_icmp .gt 7, 3) := dk_163 0 7 (dk_at dksJ10_min_0 2 rfl rfl)
theorem dJ10_min_5 : decode cJ10_min 5 = .ok (.iload_n 0, 1) := dk_26 (dk_at dksJ10_min_0 5 rfl rfl)
theorem dJ10_min_6 : decode cJ10_min 6 = .ok (.goto 4, 3) := dk_167 0 4 (dk_at dksJ10_min_0 6 rfl rfl)
theorem dJ10_min_9 : decode cJ10_min 9 = .ok (.iload_n 1, 1) := dk_27 (dk_at dksJ10_min_0 9 rfl rfl)
theorem dJ10_min_10 : decode cJ10_min 10 = .ok (.ireturn, 1) := dk_172 (dk_at dksJ10_min_0 10 rfl rfl)
abbrev cJ10_min_2 : ByteArray := prog_23_method_70_code
def yJ10_min_2 : MethodName := ⟨RJ10, "min", "(JJ)J"⟩
def dkwJ10_min_2_0 : List UInt8 := [30, 32, 148, 157, 0, 7, 30, 167, 0, 4, 32, 173]
abbrev dktJ10_min_2_0 : List UInt8 := dkwJ10_min_2_0 ++ []
theorem dksJ10_min_2_0 : cJ10_min_2.data.toList.drop 0 = dktJ10_min_2_0 := by decide +kernel
theorem dJ10_min_2_0 : decode cJ10_min_2 0 = .ok (.lload_n 0, 1) := dk_30 (dk_at dksJ10_min_2_0 0 rfl rfl)
theorem dJ10_min_2_1 : decode cJ10_min_2 1 = .ok (.lload_n 2, 1) := dk_32 (dk_at dksJ10_min_2_0 1 rfl rfl)
theorem dJ10_min_2_2 : decode cJ10_min_2 2 = .ok (.lcmp, 1) := dk_148 (dk_at dksJ10_min_2_0 2 rfl rfl)
theorem dJ10_min_2_3 : decode cJ10_min_2 3 = .ok (.ifCond .gt 7, 3) := dk_157 0 7 (dk_at dksJ10_min_2_0 3 rfl rfl)
theorem dJ10_min_2_6 : decode cJ10_min_2 6 = .ok (.lload_n 0, 1) := dk_30 (dk_at dksJ10_min_2_0 6 rfl rfl)
theorem dJ10_min_2_7 : decode cJ10_min_2 7 = .ok (.goto 4, 3) := dk_167 0 4 (dk_at dksJ10_min_2_0 7 rfl rfl)
theorem dJ10_min_2_10 : decode cJ10_min_2 10 = .ok (.lload_n 2, 1) := dk_32 (dk_at dksJ10_min_2_0 10 rfl rfl)
theorem dJ10_min_2_11 : decode cJ10_min_2 11 = .ok (.lreturn, 1) := dk_173 (dk_at dksJ10_min_2_0 11 rfl rfl)
abbrev cJ10_abs : ByteArray := prog_23_method_59_code
def yJ10_abs : MethodName := ⟨RJ10, "abs", "(I)I"⟩
def dkwJ10_abs_0 : List UInt8 := [26, 156, 0, 8, 26, 116, 167, 0, 4, 26, 172]
abbrev dktJ10_abs_0 : List UInt8 := dkwJ10_abs_0 ++ []
theorem dksJ10_abs_0 : cJ10_abs.data.toList.drop 0 = dktJ10_abs_0 := by decide +kernel
theorem dJ10_abs_0 : decode cJ10_abs 0 = .ok (.iload_n 0, 1) := dk_26 (dk_at dksJ10_abs_0 0 rfl rfl)
theorem dJ10_abs_1 : decode cJ10_abs 1 = .ok (.ifCond .ge 8, 3) := dk_156 0 8 (dk_at dksJ10_abs_0 1 rfl rfl)
theorem dJ10_abs_4 : decode cJ10_abs 4 = .ok (.iload_n 0, 1) := dk_26 (dk_at dksJ10_abs_0 4 rfl rfl)
theorem dJ10_abs_5 : decode cJ10_abs 5 = .ok (.ineg, 1) := dk_116 (dk_at dksJ10_abs_0 5 rfl rfl)
theorem dJ10_abs_6 : decode cJ10_abs 6 = .ok (.goto 4, 3) := dk_167 0 4 (dk_at dksJ10_abs_0 6 rfl rfl)
theorem dJ10_abs_9 : decode cJ10_abs 9 = .ok (.iload_n 0, 1) := dk_26 (dk_at dksJ10_abs_0 9 rfl rfl)
theorem dJ10_abs_10 : decode cJ10_abs 10 = .ok (.ireturn, 1) := dk_172 (dk_at dksJ10_abs_0 10 rfl rfl)
theorem q126 : (Jvm.Cond.initialized "java/lang/Math") ∈ lw_all := lw_g (lw_at lw_m1 18 rfl) rfl
theorem q414 : (Jvm.Cond.static ({ cls := "java/lang/Math", name := "max", desc := "(II)I" } : Jvm.MethodName)) ∈ lw_all := lw_g (lw_at lw_m2 66 rfl) rfl
theorem q415 : (Jvm.Cond.code ({ cls := "java/lang/Math", name := "max", desc := "(II)I" } : Jvm.MethodName) prog_23_method_65_code (2 : Nat) (Option.some Jvm.ClassFile.FieldType.int)) ∈ lw_all := lw_g (lw_at lw_m2 67 rfl) rfl
theorem q619 : (Jvm.Cond.static ({ cls := "java/lang/Math", name := "min", desc := "(II)I" } : Jvm.MethodName)) ∈ lw_all := lw_g (lw_at lw_m3 31 rfl) rfl
theorem q620 : (Jvm.Cond.code ({ cls := "java/lang/Math", name := "min", desc := "(II)I" } : Jvm.MethodName) prog_23_method_69_code (2 : Nat) (Option.some Jvm.ClassFile.FieldType.int)) ∈ lw_all := lw_g (lw_at lw_m3 32 rfl) rfl
theorem q1062 : (Jvm.Cond.static ({ cls := "java/lang/Math", name := "min", desc := "(JJ)J" } : Jvm.MethodName)) ∈ lw_all := lw_g (lw_at lw_m4 234 rfl) rfl
theorem q1063 : (Jvm.Cond.code ({ cls := "java/lang/Math", name := "min", desc := "(JJ)J" } : Jvm.MethodName) prog_23_method_70_code (4 : Nat) (Option.some Jvm.ClassFile.FieldType.long)) ∈ lw_all := lw_g (lw_at lw_m4 235 rfl) rfl
theorem q1268 : (Jvm.Cond.static ({ cls := "java/lang/Math", name := "abs", desc := "(I)I" } : Jvm.MethodName)) ∈ lw_all := lw_g (lw_at lw_m5 200 rfl) rfl
theorem q1269 : (Jvm.Cond.code ({ cls := "java/lang/Math", name := "abs", desc := "(I)I" } : Jvm.MethodName) prog_23_method_59_code (1 : Nat) (Option.some Jvm.ClassFile.FieldType.int)) ∈ lw_all := lw_g (lw_at lw_m5 201 rfl) rfl

/-! java/lang/String -/
set_option maxRecDepth 100000
def RJ11 : String := "java/lang/String"
abbrev cJ11_length : ByteArray := prog_26_method_54_code
def yJ11_length : MethodName := ⟨RJ11, "length", "()I"⟩
def dkwJ11_length_0 : List UInt8 := [42, 180, 0, 9, 190, 42, 182, 1, 79, 122, 172]
abbrev dktJ11_length_0 : List UInt8 := dkwJ11_length_0 ++ []
theorem dksJ11_length_0 : cJ11_length.data.toList.drop 0 = dktJ11_length_0 := by decide +kernel
theorem dJ11_length_0 : decode cJ11_length 0 = .ok (.aload_n 0, 1) := dk_42 (dk_at dksJ11_length_0 0 rfl rfl)
theorem dJ11_length_1 : decode cJ11_length 1 = .ok (.getfield 9, 3) := dk_180 0 9 (dk_at dksJ11_length_0 1 rfl rfl)
theorem dJ11_length_4 : decode cJ11_length 4 = .ok (.arraylength, 1) := dk_190 (dk_at dksJ11_length_0 4 rfl rfl)
theorem dJ11_length_5 : decode cJ11_length 5 = .ok (.aload_n 0, 1) := dk_42 (dk_at dksJ11_length_0 5 rfl rfl)
theorem dJ11_length_6 : decode cJ11_length 6 = .ok (.invokevirtual 335, 3) := dk_182 1 79 (dk_at dksJ11_length_0 6 rfl rfl)
theorem dJ11_length_9 : decode cJ11_length 9 = .ok (.ishr, 1) := dk_122 (dk_at dksJ11_length_0 9 rfl rfl)
theorem dJ11_length_10 : decode cJ11_length 10 = .ok (.ireturn, 1) := dk_172 (dk_at dksJ11_length_0 10 rfl rfl)
abbrev cJ11_coder : ByteArray := prog_26_method_152_code
def yJ11_coder : MethodName := ⟨RJ11, "coder", "()B"⟩
def dkwJ11_coder_0 : List UInt8 := [178, 0, 38, 153, 0, 10, 42, 180, 0, 15, 167, 0, 4, 4, 172]
abbrev dktJ11_coder_0 : List UInt8 := dkwJ11_coder_0 ++ []
theorem dksJ11_coder_0 : cJ11_coder.data.toList.drop 0 = dktJ11_coder_0 := by decide +kernel
theorem dJ11_coder_0 : decode cJ11_coder 0 = .ok (.getstatic 38, 3) := dk_178 0 38 (dk_at dksJ11_coder_0 0 rfl rfl)
theorem dJ11_coder_3 : decode cJ11_coder 3 = .ok (.ifCond .eq 10, 3) := dk_153 0 10 (dk_at dksJ11_coder_0 3 rfl rfl)
theorem dJ11_coder_6 : decode cJ11_coder 6 = .ok (.aload_n 0, 1) := dk_42 (dk_at dksJ11_coder_0 6 rfl rfl)
theorem dJ11_coder_7 : decode cJ11_coder 7 = .ok (.getfield 15, 3) := dk_180 0 15 (dk_at dksJ11_coder_0 7 rfl rfl)
theorem dJ11_coder_10 : decode cJ11_coder 10 = .ok (.goto 4, 3) := dk_167 0 4 (dk_at dksJ11_coder_0 10 rfl rfl)
theorem dJ11_coder_13 : decode cJ11_coder 13 = .ok (.iconst 1, 1) := dk_4 (dk_at dksJ11_coder_0 13 rfl rfl)
theorem dJ11_coder_14 : decode cJ11_coder 14 = .ok (.ireturn, 1) := dk_172 (dk_at dksJ11_coder_0 14 rfl rfl)
abbrev cJ11_charAt : ByteArray := prog_26_method_56_code
def yJ11_charAt : MethodName := ⟨RJ11, "charAt", "(I)C"⟩
def dkwJ11_charAt_1 : List UInt8 := [172]
abbrev dktJ11_charAt_1 : List UInt8 := dkwJ11_charAt_1 ++ []
def dkwJ11_charAt_0 : List UInt8 := [42, 182, 1, 236, 153, 0, 12, 42, 180, 0, 9, 27, 184, 1, 239, 172, 42, 180, 0, 9, 27, 184, 1, 242]
abbrev dktJ11_charAt_0 : List UInt8 := dkwJ11_charAt_0 ++ dktJ11_charAt_1
theorem dksJ11_charAt_0 : cJ11_charAt.data.toList.drop 0 = dktJ11_charAt_0 := by decide +kernel
theorem dksJ11_charAt_1 : cJ11_charAt.data.toList.drop 24 = dktJ11_charAt_1 := dk_seg dksJ11_charAt_0 24 rfl rfl
theorem dJ11_charAt_0 : decode cJ11_charAt 0 = .ok (.aload_n 0, 1) := dk_42 (dk_at dksJ11_charAt_0 0 rfl rfl)
theorem dJ11_charAt_1 : decode cJ11_charAt 1 = .ok (.invokevirtual 492, 3) := dk_182 1 236 (dk_at dksJ11_charAt_0 1 rfl rfl)
theorem dJ11_charAt_4 : decode cJ11_charAt 4 = .ok (.ifCond .eq 12, 3) := dk_153 0 12 (dk_at dksJ11_charAt_0 4 rfl rfl)
theorem dJ11_charAt_7 : decode cJ11_charAt 7 = .ok (.aload_n 0, 1) := dk_42 (dk_at dksJ11_charAt_0 7 rfl rfl)
theorem dJ11_charAt_8 : decode cJ11_charAt 8 = .ok (.getfield 9, 3) := dk_180 0 9 (dk_at dksJ11_charAt_0 8 rfl rfl)
theorem dJ11_charAt_11 : decode cJ11_charAt 11 = .ok (.iload_n 1, 1) := dk_27 (dk_at dksJ11_charAt_0 11 rfl rfl)
theorem dJ11_charAt_12 : decode cJ11_charAt 12 = .ok (.invokestatic 495, 3) := dk_184 1 239 (dk_at dksJ11_charAt_0 12 rfl rfl)
theorem dJ11_charAt_15 : decode cJ11_charAt 15 = .ok (.ireturn, 1) := dk_172 (dk_at dksJ11_charAt_0 15 rfl rfl)
theorem dJ11_charAt_16 : decode cJ11_charAt 16 = .ok (.aload_n 0, 1) := dk_42 (dk_at dksJ11_charAt_0 16 rfl rfl)
theorem dJ11_charAt_17 : decode cJ11_charAt 17 = .ok (.getfield 9, 3) := dk_180 0 9 (dk_at dksJ11_charAt_0 17 rfl rfl)
theorem dJ11_charAt_20 : decode cJ11_charAt 20 = .ok (.iload_n 1, 1) := dk_27 (dk_at dksJ11_charAt_0 20 rfl rfl)
theorem dJ11_charAt_21 : decode cJ11_charAt 21 = .ok (.invokestatic 498, 3) := dk_184 1 242 (dk_at dksJ11_charAt_0 21 rfl rfl)
theorem dJ11_charAt_24 : decode cJ11_charAt 24 = .ok (.ireturn, 1) := dk_172 (dk_at dksJ11_charAt_1 0 rfl rfl)
abbrev cJ11_isLatin1 : ByteArray := prog_26_method_154_code
def yJ11_isLatin1 : MethodName := ⟨RJ11, "isLatin1", "()Z"⟩
def dkwJ11_isLatin1_0 : List UInt8 := [178, 0, 38, 153, 0, 14, 42, 180, 0, 15, 154, 0, 7, 4, 167, 0, 4, 3, 172]
abbrev dktJ11_isLatin1_0 : List UInt8 := dkwJ11_isLatin1_0 ++ []
theorem dksJ11_isLatin1_0 : cJ11_isLatin1.data.toList.drop 0 = dktJ11_isLatin1_0 := by decide +kernel
theorem dJ11_isLatin1_0 : decode cJ11_isLatin1 0 = .ok (.getstatic 38, 3) := dk_178 0 38 (dk_at dksJ11_isLatin1_0 0 rfl rfl)
theorem dJ11_isLatin1_3 : decode cJ11_isLatin1 3 = .ok (.ifCond .eq 14, 3) := dk_153 0 14 (dk_at dksJ11_isLatin1_0 3 rfl rfl)
theorem dJ11_isLatin1_6 : decode cJ11_isLatin1 6 = .ok (.aload_n 0, 1) := dk_42 (dk_at dksJ11_isLatin1_0 6 rfl rfl)
theorem dJ11_isLatin1_7 : decode cJ11_isLatin1 7 = .ok (.getfield 15, 3) := dk_180 0 15 (dk_at dksJ11_isLatin1_0 7 rfl rfl)
theorem dJ11_isLatin1_10 : decode cJ11_isLatin1 10 = .ok (.ifCond .ne 7, 3) := dk_154 0 7 (dk_at dksJ11_isLatin1_0 10 rfl rfl)
theorem dJ11_isLatin1_13 : decode cJ11_isLatin1 13 = .ok (.iconst 1, 1) := dk_4 (dk_at dksJ11_isLatin1_0 13 rfl rfl)
theorem dJ11_isLatin1_14 : decode cJ11_isLatin1 14 = .ok (.goto 4, 3) := dk_167 0 4 (dk_at dksJ11_isLatin1_0 14 rfl rfl)
theorem dJ11_isLatin1_17 : decode cJ11_isLatin1 17 = .ok (.iconst 0, 1) := dk_3 (dk_at dksJ11_isLatin1_0 17 rfl rfl)
theorem dJ11_isLatin1_18 : decode cJ11_isLatin1 18 = .ok (.ireturn, 1) := dk_172 (dk_at dksJ11_isLatin1_0 18 rfl rfl)
abbrev cJ11_checkIndex : ByteArray := prog_26_method_155_code
def yJ11_checkIndex : MethodName := ⟨RJ11, "checkIndex", "(II)V"⟩
def dkwJ11_checkIndex_0 : List UInt8 := [26, 27, 178, 4, 29, 184, 4, 35, 87, 177]
abbrev dktJ11_checkIndex_0 : List UInt8 := dkwJ11_checkIndex_0 ++ []
theorem dksJ11_checkIndex_0 : cJ11_checkIndex.data.toList.drop 0 = dktJ11_checkIndex_0 := by decide +kernel
theorem dJ11_checkIndex_0 : decode cJ11_checkIndex 0 = .ok (.iload_n 0, 1) := dk_26 (dk_at dksJ11_checkIndex_0 0 rfl rfl)
theorem dJ11_checkIndex_1 : decode cJ11_checkIndex 1 = .ok (.iload_n 1, 1) := dk_27 (dk_at dksJ11_checkIndex_0 1 rfl rfl)
theorem dJ11_checkIndex_2 : decode cJ11_checkIndex 2 = .ok (.getstatic 1053, 3) := dk_178 4 29 (dk_at dksJ11_checkIndex_0 2 rfl rfl)
theorem dJ11_checkIndex_5 : decode cJ11_checkIndex 5 = .ok (.invokestatic 1059, 3) := dk_184 4 35 (dk_at dksJ11_checkIndex_0 5 rfl rfl)
theorem dJ11_checkIndex_8 : decode cJ11_checkIndex 8 = .ok (.pop, 1) := dk_87 (dk_at dksJ11_checkIndex_0 8 rfl rfl)
theorem dJ11_checkIndex_9 : decode cJ11_checkIndex 9 = .ok (.return_, 1) := dk_177 (dk_at dksJ11_checkIndex_0 9 rfl rfl)
theorem q127 : (Jvm.Cond.initialized "java/lang/String") ∈ lw_all := lw_g (lw_at lw_m1 19 rfl) rfl
theorem q631 : (Jvm.Cond.instanceMethod ({ cls := "java/lang/String", name := "length", desc := "()I" } : Jvm.MethodName)) ∈ lw_all := lw_g (lw_at lw_m3 43 rfl) rfl
theorem q632 : (Jvm.Cond.selects "java/lang/String" ({ cls := "java/lang/String", name := "length", desc := "()I" } : Jvm.MethodName) ({ cls := "java/lang/String", name := "length", desc := "()I" } : Jvm.MethodName)) ∈ lw_all := lw_g (lw_at lw_m3 44 rfl) rfl
theorem q633 : (Jvm.Cond.code ({ cls := "java/lang/String", name := "length", desc := "()I" } : Jvm.MethodName) prog_26_method_54_code (1 : Nat) (Option.some Jvm.ClassFile.FieldType.int)) ∈ lw_all := lw_g (lw_at lw_m3 45 rfl) rfl
theorem q634 : (Jvm.Cond.methodLink "java/lang/String" (335 : Nat) ({ cls := "java/lang/String", name := "coder", desc := "()B" } : Jvm.MethodName)) ∈ lw_all := lw_g (lw_at lw_m3 46 rfl) rfl
theorem q635 : (Jvm.Cond.instanceMethod ({ cls := "java/lang/String", name := "coder", desc := "()B" } : Jvm.MethodName)) ∈ lw_all := lw_g (lw_at lw_m3 47 rfl) rfl
theorem q636 : (Jvm.Cond.selects "java/lang/String" ({ cls := "java/lang/String", name := "coder", desc := "()B" } : Jvm.MethodName) ({ cls := "java/lang/String", name := "coder", desc := "()B" } : Jvm.MethodName)) ∈ lw_all := lw_g (lw_at lw_m3 48 rfl) rfl
theorem q637 : (Jvm.Cond.code ({ cls := "java/lang/String", name := "coder", desc := "()B" } : Jvm.MethodName) prog_26_method_152_code (1 : Nat) (Option.some Jvm.ClassFile.FieldType.byte)) ∈ lw_all := lw_g (lw_at lw_m3 49 rfl) rfl
theorem q638 : (Jvm.Cond.fieldLink "java/lang/String" (38 : Nat) "java/lang/String" "COMPACT_STRINGS" "Z") ∈ lw_all := lw_g (lw_at lw_m3 50 rfl) rfl
theorem q639 : (Jvm.Cond.laysStatic "java/lang/String" "COMPACT_STRINGS" "Z") ∈ lw_tbl := lw_at lw_m3 51 rfl
theorem q641 : (Jvm.Cond.instanceMethod ({ cls := "java/lang/String", name := "charAt", desc := "(I)C" } : Jvm.MethodName)) ∈ lw_all := lw_g (lw_at lw_m3 53 rfl) rfl
theorem q642 : (Jvm.Cond.selects "java/lang/String" ({ cls := "java/lang/String", name := "charAt", desc := "(I)C" } : Jvm.MethodName) ({ cls := "java/lang/String", name := "charAt", desc := "(I)C" } : Jvm.MethodName)) ∈ lw_all := lw_g (lw_at lw_m3 54 rfl) rfl
theorem q643 : (Jvm.Cond.code ({ cls := "java/lang/String", name := "charAt", desc := "(I)C" } : Jvm.MethodName) prog_26_method_56_code (2 : Nat) (Option.some Jvm.ClassFile.FieldType.char)) ∈ lw_all := lw_g (lw_at lw_m3 55 rfl) rfl
theorem q644 : (Jvm.Cond.methodLink "java/lang/String" (492 : Nat) ({ cls := "java/lang/String", name := "isLatin1", desc := "()Z" } : Jvm.MethodName)) ∈ lw_all := lw_g (lw_at lw_m3 56 rfl) rfl
theorem q645 : (Jvm.Cond.instanceMethod ({ cls := "java/lang/String", name := "isLatin1", desc := "()Z" } : Jvm.MethodName)) ∈ lw_all := lw_g (lw_at lw_m3 57 rfl) rfl
theorem q646 : (Jvm.Cond.selects "java/lang/String" ({ cls := "java/lang/String", name := "isLatin1", desc := "()Z" } : Jvm.MethodName) ({ cls := "java/lang/String", name := "isLatin1", desc := "()Z" } : Jvm.MethodName)) ∈ lw_all := lw_g (lw_at lw_m3 58 rfl) rfl
theorem q647 : (Jvm.Cond.code ({ cls := "java/lang/String", name := "isLatin1", desc := "()Z" } : Jvm.MethodName) prog_26_method_154_code (1 : Nat) (Option.some Jvm.ClassFile.FieldType.boolean)) ∈ lw_all := lw_g (lw_at lw_m3 59 rfl) rfl
theorem q648 : (Jvm.Cond.methodLink "java/lang/String" (495 : Nat) ({ cls := "java/lang/StringLatin1", name := "charAt", desc := "([BI)C" } : Jvm.MethodName)) ∈ lw_all := lw_g (lw_at lw_m3 60 rfl) rfl
theorem q652 : (Jvm.Cond.static ({ cls := "java/lang/String", name := "checkIndex", desc := "(II)V" } : Jvm.MethodName)) ∈ lw_all := lw_g (lw_at lw_m3 64 rfl) rfl
theorem q653 : (Jvm.Cond.code ({ cls := "java/lang/String", name := "checkIndex", desc := "(II)V" } : Jvm.MethodName) prog_26_method_155_code (2 : Nat) (Option.none : Option Jvm.ClassFile.FieldType)) ∈ lw_all := lw_g (lw_at lw_m3 65 rfl) rfl
theorem q654 : (Jvm.Cond.fieldLink "java/lang/String" (1053 : Nat) "jdk/internal/util/Preconditions" "SIOOBE_FORMATTER" "Ljava/util/function/BiFunction;") ∈ lw_all := lw_g (lw_at lw_m3 66 rfl) rfl
theorem q656 : (Jvm.Cond.methodLink "java/lang/String" (1059 : Nat) ({ cls := "jdk/internal/util/Preconditions", name := "checkIndex", desc := "(IILjava/util/function/BiFunction;)I" } : Jvm.MethodName)) ∈ lw_all := lw_g (lw_at lw_m3 68 rfl) rfl
theorem q659 : (Jvm.Cond.methodLink "java/lang/String" (498 : Nat) ({ cls := "java/lang/StringUTF16", name := "charAt", desc := "([BI)C" } : Jvm.MethodName)) ∈ lw_all := lw_g (lw_at lw_m3 71 rfl) rfl
theorem q2187 : (Jvm.Cond.castable "java/lang/String" "java/lang/Object") ∈ lw_tbl := lw_at lw_m9 159 rfl
theorem q2200 : (Jvm.Cond.fieldLink "java/lang/String" (9 : Nat) "java/lang/String" "value" "[B") ∈ lw_all := lw_g (lw_at lw_m9 172 rfl) rfl
theorem q2201 : (Jvm.Cond.fieldLink "java/lang/String" (15 : Nat) "java/lang/String" "coder" "B") ∈ lw_all := lw_g (lw_at lw_m9 173 rfl) rfl

/-! java/lang/StringLatin1 -/
set_option maxRecDepth 100000
def RJ12 : String := "java/lang/StringLatin1"
abbrev cJ12_charAt : ByteArray := prog_27_method_2_code
def yJ12_charAt : MethodName := ⟨RJ12, "charAt", "([BI)C"⟩
def dkwJ12_charAt_0 : List UInt8 := [27, 42, 190, 184, 0, 9, 42, 27, 51, 17, 0, 255, 126, 146, 172]
abbrev dktJ12_charAt_0 : List UInt8 := dkwJ12_charAt_0 ++ []
theorem dksJ12_charAt_0 : cJ12_charAt.data.toList.drop 0 = dktJ12_charAt_0 := by decide +kernel
theorem dJ12_charAt_0 : decode cJ12_charAt 0 = .ok (.iload_n 1, 1) := dk_27 (dk_at dksJ12_charAt_0 0 rfl rfl)
theorem dJ12_charAt_1 : decode cJ12_charAt 1 = .ok (.aload_n 0, 1) := dk_42 (dk_at dksJ12_charAt_0 1 rfl rfl)
theorem dJ12_charAt_2 : decode cJ12_charAt 2 = .ok (.arraylength, 1) := dk_190 (dk_at dksJ12_charAt_0 2 rfl rfl)
theorem dJ12_charAt_3 : decode cJ12_charAt 3 = .ok (.invokestatic 9, 3) := dk_184 0 9 (dk_at dksJ12_charAt_0 3 rfl rfl)
theorem dJ12_charAt_6 : decode cJ12_charAt 6 = .ok (.aload_n 0, 1) := dk_42 (dk_at dksJ12_charAt_0 6 rfl rfl)
theorem dJ12_charAt_7 : decode cJ12_charAt 7 = .ok (.iload_n 1, 1) := dk_27 (dk_at dksJ12_charAt_0 7 rfl rfl)
theorem dJ12_charAt_8 : decode cJ12_charAt 8 = .ok (.baload, 1) := dk_51 (dk_at dksJ12_charAt_0 8 rfl rfl)
theorem dJ12_charAt_9 : decode cJ12_charAt 9 = .ok (.sipush 255, 3) := dk_17 0 255 (dk_at dksJ12_charAt_0 9 rfl rfl)
theorem dJ12_charAt_12 : decode cJ12_charAt 12 = .ok (.iand, 1) := dk_126 (dk_at dksJ12_charAt_0 12 rfl rfl)
theorem dJ12_charAt_13 : decode cJ12_charAt 13 = .ok (.i2c, 1) := dk_146 (dk_at dksJ12_charAt_0 13 rfl rfl)
theorem dJ12_charAt_14 : decode cJ12_charAt 14 = .ok (.ireturn, 1) := dk_172 (dk_at dksJ12_charAt_0 14 rfl rfl)
theorem q128 : (Jvm.Cond.initialized "java/lang/StringLatin1") ∈ lw_all := lw_g (lw_at lw_m1 20 rfl) rfl
theorem q649 : (Jvm.Cond.static ({ cls := "java/lang/StringLatin1", name := "charAt", desc := "([BI)C" } : Jvm.MethodName)) ∈ lw_all := lw_g (lw_at lw_m3 61 rfl) rfl
theorem q650 : (Jvm.Cond.code ({ cls := "java/lang/StringLatin1", name := "charAt", desc := "([BI)C" } : Jvm.MethodName) prog_27_method_2_code (2 : Nat) (Option.some Jvm.ClassFile.FieldType.char)) ∈ lw_all := lw_g (lw_at lw_m3 62 rfl) rfl
theorem q651 : (Jvm.Cond.methodLink "java/lang/StringLatin1" (9 : Nat) ({ cls := "java/lang/String", name := "checkIndex", desc := "(II)V" } : Jvm.MethodName)) ∈ lw_all := lw_g (lw_at lw_m3 63 rfl) rfl

/-! jdk/internal/util/Preconditions -/
set_option maxRecDepth 100000
def RJ13 : String := "jdk/internal/util/Preconditions"
abbrev cJ13_checkIndex : ByteArray := prog_42_method_11_code
def yJ13_checkIndex : MethodName := ⟨RJ13, "checkIndex", "(IILjava/util/function/BiFunction;)I"⟩
def dkwJ13_checkIndex_0 : List UInt8 := [26, 155, 0, 8, 26, 27, 161, 0, 10, 44, 26, 27, 184, 0, 95, 191, 26, 172]
abbrev dktJ13_checkIndex_0 : List UInt8 := dkwJ13_checkIndex_0 ++ []
theorem dksJ13_checkIndex_0 : cJ13_checkIndex.data.toList.drop 0 = dktJ13_checkIndex_0 := by decide +kernel
theorem dJ13_checkIndex_0 : decode cJ13_checkIndex 0 = .ok (.iload_n 0, 1) := dk_26 (dk_at dksJ13_checkIndex_0 0 rfl rfl)
theorem dJ13_checkIndex_1 : decode cJ13_checkIndex 1 = .ok (.ifCond .lt 8, 3) := dk_155 0 8 (dk_at dksJ13_checkIndex_0 1 rfl rfl)
theorem dJ13_checkIndex_4 : decode cJ13_checkIndex 4 = .ok (.iload_n 0, 1) := dk_26 (dk_at dksJ13_checkIndex_0 4 rfl rfl)
theorem dJ13_checkIndex_5 : decode cJ13_checkIndex 5 = .ok (.iload_n 1, 1) := dk_27 (dk_at dksJ13_checkIndex_0 5 rfl rfl)
theorem dJ13_checkIndex_6 : decode cJ13_checkIndex 6 = .ok (.if_icmp .lt 10, 3) := dk_161 0 10 (dk_at dksJ13_checkIndex_0 6 rfl rfl)
theorem dJ13_checkIndex_9 : decode cJ13_checkIndex 9 = .ok (.aload_n 2, 1) := dk_44 (dk_at dksJ13_checkIndex_0 9 rfl rfl)
theorem dJ13_checkIndex_10 : decode cJ13_checkIndex 10 = .ok (.iload_n 0, 1) := dk_26 (dk_at dksJ13_checkIndex_0 10 rfl rfl)
theorem dJ13_checkIndex_11 : decode cJ13_checkIndex 11 = .ok (.iload_n 1, 1) := dk_27 (dk_at dksJ13_checkIndex_0 11 rfl rfl)
theorem dJ13_checkIndex_12 : decode cJ13_checkIndex 12 = .ok (.invokestatic 95, 3) := dk_184 0 95 (dk_at dksJ13_checkIndex_0 12 rfl rfl)
theorem dJ13_checkIndex_15 : decode cJ13_checkIndex 15 = .ok (.athrow, 1) := dk_191 (dk_at dksJ13_checkIndex_0 15 rfl rfl)
theorem dJ13_checkIndex_16 : decode cJ13_checkIndex 16 = .ok (.iload_n 0, 1) := dk_26 (dk_at dksJ13_checkIndex_0 16 rfl rfl)
theorem dJ13_checkIndex_17 : decode cJ13_checkIndex 17 = .ok (.ireturn, 1) := dk_172 (dk_at dksJ13_checkIndex_0 17 rfl rfl)
theorem q129 : (Jvm.Cond.initialized "jdk/internal/util/Preconditions") ∈ lw_all := lw_g (lw_at lw_m1 21 rfl) rfl
theorem q655 : (Jvm.Cond.laysStatic "jdk/internal/util/Preconditions" "SIOOBE_FORMATTER" "Ljava/util/function/BiFunction;") ∈ lw_tbl := lw_at lw_m3 67 rfl
theorem q657 : (Jvm.Cond.static ({ cls := "jdk/internal/util/Preconditions", name := "checkIndex", desc := "(IILjava/util/function/BiFunction;)I" } : Jvm.MethodName)) ∈ lw_all := lw_g (lw_at lw_m3 69 rfl) rfl
theorem q658 : (Jvm.Cond.code ({ cls := "jdk/internal/util/Preconditions", name := "checkIndex", desc := "(IILjava/util/function/BiFunction;)I" } : Jvm.MethodName) prog_42_method_11_code (3 : Nat) (Option.some Jvm.ClassFile.FieldType.int)) ∈ lw_all := lw_g (lw_at lw_m3 70 rfl) rfl

/-! java/lang/StringUTF16 -/
set_option maxRecDepth 100000
def RJ14 : String := "java/lang/StringUTF16"
abbrev cJ14_charAt : ByteArray := prog_28_method_83_code
def yJ14_charAt : MethodName := ⟨RJ14, "charAt", "([BI)C"⟩
def dkwJ14_charAt_0 : List UInt8 := [27, 42, 184, 0, 67, 42, 27, 184, 0, 71, 172]
abbrev dktJ14_charAt_0 : List UInt8 := dkwJ14_charAt_0 ++ []
theorem dksJ14_charAt_0 : cJ14_charAt.data.toList.drop 0 = dktJ14_charAt_0 := by decide +kernel
theorem dJ14_charAt_0 : decode cJ14_charAt 0 = .ok (.iload_n 1, 1) := dk_27 (dk_at dksJ14_charAt_0 0 rfl rfl)
theorem dJ14_charAt_1 : decode cJ14_charAt 1 = .ok (.aload_n 0, 1) := dk_42 (dk_at dksJ14_charAt_0 1 rfl rfl)
theorem dJ14_charAt_2 : decode cJ14_charAt 2 = .ok (.invokestatic 67, 3) := dk_184 0 67 (dk_at dksJ14_charAt_0 2 rfl rfl)
theorem dJ14_charAt_5 : decode cJ14_charAt 5 = .ok (.aload_n 0, 1) := dk_42 (dk_at dksJ14_charAt_0 5 rfl rfl)
theorem dJ14_charAt_6 : decode cJ14_charAt 6 = .ok (.iload_n 1, 1) := dk_27 (dk_at dksJ14_charAt_0 6 rfl rfl)
theorem dJ14_charAt_7 : decode cJ14_charAt 7 = .ok (.invokestatic 71, 3) := dk_184 0 71 (dk_at dksJ14_charAt_0 7 rfl rfl)
theorem dJ14_charAt_10 : decode cJ14_charAt 10 = .ok (.ireturn, 1) := dk_172 (dk_at dksJ14_charAt_0 10 rfl rfl)
abbrev cJ14_checkIndex : ByteArray := prog_28_method_91_code
def yJ14_checkIndex : MethodName := ⟨RJ14, "checkIndex", "(I[B)V"⟩
def dkwJ14_checkIndex_0 : List UInt8 := [26, 43, 184, 0, 48, 184, 1, 158, 177]
abbrev dktJ14_checkIndex_0 : List UInt8 := dkwJ14_checkIndex_0 ++ []
theorem dksJ14_checkIndex_0 : cJ14_checkIndex.data.toList.drop 0 = dktJ14_checkIndex_0 := by decide +kernel
theorem dJ14_checkIndex_0 : decode cJ14_checkIndex 0 = .ok (.iload_n 0, 1) := dk_26 (dk_at dksJ14_checkIndex_0 0 rfl rfl)
theorem dJ14_checkIndex_1 : decode cJ14_checkIndex 1 = .ok (.aload_n 1, 1) := dk_43 (dk_at dksJ14_checkIndex_0 1 rfl rfl)
theorem dJ14_checkIndex_2 : decode cJ14_checkIndex 2 = .ok (.invokestatic 48, 3) := dk_184 0 48 (dk_at dksJ14_checkIndex_0 2 rfl rfl)
theorem dJ14_checkIndex_5 : decode cJ14_checkIndex 5 = .ok (.invokestatic 414, 3) := dk_184 1 158 (dk_at dksJ14_checkIndex_0 5 rfl rfl)
theorem dJ14_checkIndex_8 : decode cJ14_checkIndex 8 = .ok (.return_, 1) := dk_177 (dk_at dksJ14_checkIndex_0 8 rfl rfl)
abbrev cJ14_length : ByteArray := prog_28_method_6_code
def yJ14_length : MethodName := ⟨RJ14, "length", "([B)I"⟩
def dkwJ14_length_0 : List UInt8 := [42, 190, 4, 122, 172]
abbrev dktJ14_length_0 : List UInt8 := dkwJ14_length_0 ++ []
theorem dksJ14_length_0 : cJ14_length.data.toList.drop 0 = dktJ14_length_0 := by decide +kernel
theorem dJ14_length_0 : decode cJ14_length 0 = .ok (.aload_n 0, 1) := dk_42 (dk_at dksJ14_length_0 0 rfl rfl)
theorem dJ14_length_1 : decode cJ14_length 1 = .ok (.arraylength, 1) := dk_190 (dk_at dksJ14_length_0 1 rfl rfl)
theorem dJ14_length_2 : decode cJ14_length 2 = .ok (.iconst 1, 1) := dk_4 (dk_at dksJ14_length_0 2 rfl rfl)
theorem dJ14_length_3 : decode cJ14_length 3 = .ok (.ishr, 1) := dk_122 (dk_at dksJ14_length_0 3 rfl rfl)
theorem dJ14_length_4 : decode cJ14_length 4 = .ok (.ireturn, 1) := dk_172 (dk_at dksJ14_length_0 4 rfl rfl)
abbrev cJ14_getChar : ByteArray := prog_28_method_5_code
def yJ14_getChar : MethodName := ⟨RJ14, "getChar", "([BI)C"⟩
def dkwJ14_getChar_2 : List UInt8 := [51, 17, 0, 255, 126, 178, 0, 63, 120, 128, 146, 172]
abbrev dktJ14_getChar_2 : List UInt8 := dkwJ14_getChar_2 ++ []
def dkwJ14_getChar_1 : List UInt8 := [183, 0, 56, 191, 27, 4, 120, 60, 42, 27, 132, 1, 1, 51, 17, 0, 255, 126, 178, 0, 59, 120, 42, 27]
abbrev dktJ14_getChar_1 : List UInt8 := dkwJ14_getChar_1 ++ dktJ14_getChar_2
def dkwJ14_getChar_0 : List UInt8 := [178, 0, 44, 154, 0, 25, 27, 155, 0, 11, 27, 42, 184, 0, 48, 161, 0, 13, 187, 0, 52, 89, 18, 54]
abbrev dktJ14_getChar_0 : List UInt8 := dkwJ14_getChar_0 ++ dktJ14_getChar_1
theorem dksJ14_getChar_0 : cJ14_getChar.data.toList.drop 0 = dktJ14_getChar_0 := by decide +kernel
theorem dksJ14_getChar_1 : cJ14_getChar.data.toList.drop 24 = dktJ14_getChar_1 := dk_seg dksJ14_getChar_0 24 rfl rfl
theorem dksJ14_getChar_2 : cJ14_getChar.data.toList.drop 48 = dktJ14_getChar_2 := dk_seg dksJ14_getChar_1 24 rfl rfl
theorem dJ14_getChar_0 : decode cJ14_getChar 0 = .ok (.getstatic 44, 3) := dk_178 0 44 (dk_at dksJ14_getChar_0 0 rfl rfl)
theorem dJ14_getChar_3 : decode cJ14_getChar 3 = .ok (.ifCond .ne 25, 3) := dk_154 0 25 (dk_at dksJ14_getChar_0 3 rfl rfl)
theorem dJ14_getChar_6 : decode cJ14_getChar 6 = .ok (.iload_n 1, 1) := dk_27 (dk_at dksJ14_getChar_0 6 rfl rfl)
theorem dJ14_getChar_7 : decode cJ14_getChar 7 = .ok (.ifCond .lt 11, 3) := dk_155 0 11 (dk_at dksJ14_getChar_0 7 rfl rfl)
theorem dJ14_getChar_10 : decode cJ14_getChar 10 = .ok (.iload_n 1, 1) := dk_27 (dk_at dksJ14_getChar_0 10 rfl rfl)
theorem dJ14_getChar_11 : decode cJ14_getChar 11 = .ok (.aload_n 0, 1) := dk_42 (dk_at dksJ14_getChar_0 11 rfl rfl)
theorem dJ14_getChar_12 : decode cJ14_getChar 12 = .ok (.invokestatic 48, 3) := dk_184 0 48 (dk_at dksJ14_getChar_0 12 rfl rfl)
theorem dJ14_getChar_15 : decode cJ14_getChar 15 = .ok (.if_icmp .lt 13, 3) := dk_161 0 13 (dk_at dksJ14_getChar_0 15 rfl rfl)
theorem dJ14_getChar_18 : decode cJ14_getChar 18 = .ok (.new 52, 3) := dk_187 0 52 (dk_at dksJ14_getChar_0 18 rfl rfl)
theorem dJ14_getChar_21 : decode cJ14_getChar 21 = .ok (.dup, 1) := dk_89 (dk_at dksJ14_getChar_0 21 rfl rfl)
theorem dJ14_getChar_22 : decode cJ14_getChar 22 = .ok (.ldc 54, 2) := dk_18 54 (dk_at dksJ14_getChar_0 22 rfl rfl)
theorem dJ14_getChar_24 : decode cJ14_getChar 24 = .ok (.invokespecial 56, 3) := dk_183 0 56 (dk_at dksJ14_getChar_1 0 rfl rfl)
theorem dJ14_getChar_27 : decode cJ14_getChar 27 = .ok (.athrow, 1) := dk_191 (dk_at dksJ14_getChar_1 3 rfl rfl)
theorem dJ14_getChar_28 : decode cJ14_getChar 28 = .ok (.iload_n 1, 1) := dk_27 (dk_at dksJ14_getChar_1 4 rfl rfl)
theorem dJ14_getChar_29 : decode cJ14_getChar 29 = .ok (.iconst 1, 1) := dk_4 (dk_at dksJ14_getChar_1 5 rfl rfl)
theorem dJ14_getChar_30 : decode cJ14_getChar 30 = .ok (.ishl, 1) := dk_120 (dk_at dksJ14_getChar_1 6 rfl rfl)
theorem dJ14_getChar_31 : decode cJ14_getChar 31 = .ok (.istore_n 1, 1) := dk_60 (dk_at dksJ14_getChar_1 7 rfl rfl)
theorem dJ14_getChar_32 : decode cJ14_getChar 32 = .ok (.aload_n 0, 1) := dk_42 (dk_at dksJ14_getChar_1 8 rfl rfl)
theorem dJ14_getChar_33 : decode cJ14_getChar 33 = .ok (.iload_n 1, 1) := dk_27 (dk_at dksJ14_getChar_1 9 rfl rfl)
theorem dJ14_getChar_34 : decode cJ14_getChar 34 = .ok (.iinc 1 1, 3) := dk_132 1 1 (dk_at dksJ14_getChar_1 10 rfl rfl)
theorem dJ14_getChar_37 : decode cJ14_getChar 37 = .ok (.baload, 1) := dk_51 (dk_at dksJ14_getChar_1 13 rfl rfl)
theorem dJ14_getChar_38 : decode cJ14_getChar 38 = .ok (.sipush 255, 3) := dk_17 0 255 (dk_at dksJ14_getChar_1 14 rfl rfl)
theorem dJ14_getChar_41 : decode cJ14_getChar 41 = .ok (.iand, 1) := dk_126 (dk_at dksJ14_getChar_1 17 rfl rfl)
theorem dJ14_getChar_42 : decode cJ14_getChar 42 = .ok (.getstatic 59, 3) := dk_178 0 59 (dk_at dksJ14_getChar_1 18 rfl rfl)
theorem dJ14_getChar_45 : decode cJ14_getChar 45 = .ok (.ishl, 1) := dk_120 (dk_at dksJ14_getChar_1 21 rfl rfl)
theorem dJ14_getChar_46 : decode cJ14_getChar 46 = .ok (.aload_n 0, 1) := dk_42 (dk_at dksJ14_getChar_1 22 rfl rfl)
theorem dJ14_getChar_47 : decode cJ14_getChar 47 = .ok (.iload_n 1, 1) := dk_27 (dk_at dksJ14_getChar_1 23 rfl rfl)
theorem dJ14_getChar_48 : decode cJ14_getChar 48 = .ok (.baload, 1) := dk_51 (dk_at dksJ14_getChar_2 0 rfl rfl)
theorem dJ14_getChar_49 : decode cJ14_getChar 49 = .ok (.sipush 255, 3) := dk_17 0 255 (dk_at dksJ14_getChar_2 1 rfl rfl)
theorem dJ14_getChar_52 : decode cJ14_getChar 52 = .ok (.iand, 1) := dk_126 (dk_at dksJ14_getChar_2 4 rfl rfl)
theorem dJ14_getChar_53 : decode cJ14_getChar 53 = .ok (.getstatic 63, 3) := dk_178 0 63 (dk_at dksJ14_getChar_2 5 rfl rfl)
theorem dJ14_getChar_56 : decode cJ14_getChar 56 = .ok (.ishl, 1) := dk_120 (dk_at dksJ14_getChar_2 8 rfl rfl)
theorem dJ14_getChar_57 : decode cJ14_getChar 57 = .ok (.ior, 1) := dk_128 (dk_at dksJ14_getChar_2 9 rfl rfl)
theorem dJ14_getChar_58 : decode cJ14_getChar 58 = .ok (.i2c, 1) := dk_146 (dk_at dksJ14_getChar_2 10 rfl rfl)
theorem dJ14_getChar_59 : decode cJ14_getChar 59 = .ok (.ireturn, 1) := dk_172 (dk_at dksJ14_getChar_2 11 rfl rfl)
theorem q130 : (Jvm.Cond.initialized "java/lang/StringUTF16") ∈ lw_all := lw_g (lw_at lw_m1 22 rfl) rfl
theorem q660 : (Jvm.Cond.static ({ cls := "java/lang/StringUTF16", name := "charAt", desc := "([BI)C" } : Jvm.MethodName)) ∈ lw_all := lw_g (lw_at lw_m3 72 rfl) rfl
theorem q661 : (Jvm.Cond.code ({ cls := "java/lang/StringUTF16", name := "charAt", desc := "([BI)C" } : Jvm.MethodName) prog_28_method_83_code (2 : Nat) (Option.some Jvm.ClassFile.FieldType.char)) ∈ lw_all := lw_g (lw_at lw_m3 73 rfl) rfl
theorem q662 : (Jvm.Cond.methodLink "java/lang/StringUTF16" (67 : Nat) ({ cls := "java/lang/StringUTF16", name := "checkIndex", desc := "(I[B)V" } : Jvm.MethodName)) ∈ lw_all := lw_g (lw_at lw_m3 74 rfl) rfl
theorem q663 : (Jvm.Cond.static ({ cls := "java/lang/StringUTF16", name := "checkIndex", desc := "(I[B)V" } : Jvm.MethodName)) ∈ lw_all := lw_g (lw_at lw_m3 75 rfl) rfl
theorem q664 : (Jvm.Cond.code ({ cls := "java/lang/StringUTF16", name := "checkIndex", desc := "(I[B)V" } : Jvm.MethodName) prog_28_method_91_code (2 : Nat) (Option.none : Option Jvm.ClassFile.FieldType)) ∈ lw_all := lw_g (lw_at lw_m3 76 rfl) rfl
theorem q665 : (Jvm.Cond.methodLink "java/lang/StringUTF16" (48 : Nat) ({ cls := "java/lang/StringUTF16", name := "length", desc := "([B)I" } : Jvm.MethodName)) ∈ lw_all := lw_g (lw_at lw_m3 77 rfl) rfl
theorem q666 : (Jvm.Cond.static ({ cls := "java/lang/StringUTF16", name := "length", desc := "([B)I" } : Jvm.MethodName)) ∈ lw_all := lw_g (lw_at lw_m3 78 rfl) rfl
theorem q667 : (Jvm.Cond.code ({ cls := "java/lang/StringUTF16", name := "length", desc := "([B)I" } : Jvm.MethodName) prog_28_method_6_code (1 : Nat) (Option.some Jvm.ClassFile.FieldType.int)) ∈ lw_all := lw_g (lw_at lw_m3 79 rfl) rfl
theorem q668 : (Jvm.Cond.methodLink "java/lang/StringUTF16" (414 : Nat) ({ cls := "java/lang/String", name := "checkIndex", desc := "(II)V" } : Jvm.MethodName)) ∈ lw_all := lw_g (lw_at lw_m3 80 rfl) rfl
theorem q669 : (Jvm.Cond.methodLink "java/lang/StringUTF16" (71 : Nat) ({ cls := "java/lang/StringUTF16", name := "getChar", desc := "([BI)C" } : Jvm.MethodName)) ∈ lw_all := lw_g (lw_at lw_m3 81 rfl) rfl
theorem q670 : (Jvm.Cond.static ({ cls := "java/lang/StringUTF16", name := "getChar", desc := "([BI)C" } : Jvm.MethodName)) ∈ lw_all := lw_g (lw_at lw_m3 82 rfl) rfl
theorem q671 : (Jvm.Cond.code ({ cls := "java/lang/StringUTF16", name := "getChar", desc := "([BI)C" } : Jvm.MethodName) prog_28_method_5_code (2 : Nat) (Option.some Jvm.ClassFile.FieldType.char)) ∈ lw_all := lw_g (lw_at lw_m3 83 rfl) rfl
theorem q672 : (Jvm.Cond.fieldLink "java/lang/StringUTF16" (44 : Nat) "java/lang/StringUTF16" "$assertionsDisabled" "Z") ∈ lw_all := lw_g (lw_at lw_m3 84 rfl) rfl
theorem q673 : (Jvm.Cond.laysStatic "java/lang/StringUTF16" "$assertionsDisabled" "Z") ∈ lw_tbl := lw_at lw_m3 85 rfl
theorem q674 : (Jvm.Cond.fieldLink "java/lang/StringUTF16" (59 : Nat) "java/lang/StringUTF16" "HI_BYTE_SHIFT" "I") ∈ lw_all := lw_g (lw_at lw_m3 86 rfl) rfl
theorem q675 : (Jvm.Cond.laysStatic "java/lang/StringUTF16" "HI_BYTE_SHIFT" "I") ∈ lw_tbl := lw_at lw_m3 87 rfl
theorem q676 : (Jvm.Cond.fieldLink "java/lang/StringUTF16" (63 : Nat) "java/lang/StringUTF16" "LO_BYTE_SHIFT" "I") ∈ lw_all := lw_g (lw_at lw_m3 88 rfl) rfl
theorem q677 : (Jvm.Cond.laysStatic "java/lang/StringUTF16" "LO_BYTE_SHIFT" "I") ∈ lw_tbl := lw_at lw_m3 89 rfl

/-! jdk/internal/util/ArraysSupport -/
set_option maxRecDepth 100000
def RJ15 : String := "jdk/internal/util/ArraysSupport"
abbrev cJ15_newLength : ByteArray := prog_41_method_27_code
def yJ15_newLength : MethodName := ⟨RJ15, "newLength", "(III)I"⟩
def dkwJ15_newLength_1 : List UInt8 := [184, 0, 201, 172]
abbrev dktJ15_newLength_1 : List UInt8 := dkwJ15_newLength_1 ++ []
def dkwJ15_newLength_0 : List UInt8 := [26, 27, 28, 184, 0, 194, 96, 62, 3, 29, 162, 0, 11, 29, 18, 200, 163, 0, 5, 29, 172, 26, 27]
abbrev dktJ15_newLength_0 : List UInt8 := dkwJ15_newLength_0 ++ dktJ15_newLength_1
theorem dksJ15_newLength_0 : cJ15_newLength.data.toList.drop 0 = dktJ15_newLength_0 := by decide +kernel
theorem dksJ15_newLength_1 : cJ15_newLength.data.toList.drop 23 = dktJ15_newLength_1 := dk_seg dksJ15_newLength_0 23 rfl rfl
theorem dJ15_newLength_0 : decode cJ15_newLength 0 = .ok (.iload_n 0, 1) := dk_26 (dk_at dksJ15_newLength_0 0 rfl rfl)
theorem dJ15_newLength_1 : decode cJ15_newLength 1 = .ok (.iload_n 1, 1) := dk_27 (dk_at dksJ15_newLength_0 1 rfl rfl)
theorem dJ15_newLength_2 : decode cJ15_newLength 2 = .ok (.iload_n 2, 1) := dk_28 (dk_at dksJ15_newLength_0 2 rfl rfl)
theorem dJ15_newLength_3 : decode cJ15_newLength 3 = .ok (.invokestatic 194, 3) := dk_184 0 194 (dk_at dksJ15_newLength_0 3 rfl rfl)
theorem dJ15_newLength_6 : decode cJ15_newLength 6 = .ok (.iadd, 1) := dk_96 (dk_at dksJ15_newLength_0 6 rfl rfl)
theorem dJ15_newLength_7 : decode cJ15_newLength 7 = .ok (.istore_n 3, 1) := dk_62 (dk_at dksJ15_newLength_0 7 rfl rfl)
theorem dJ15_newLength_8 : decode cJ15_newLength 8 = .ok (.iconst 0, 1) := dk_3 (dk_at dksJ15_newLength_0 8 rfl rfl)
theorem dJ15_newLength_9 : decode cJ15_newLength 9 = .ok (.iload_n 3, 1) := dk_29 (dk_at dksJ15_newLength_0 9 rfl rfl)
theorem dJ15_newLength_10 : decode cJ15_newLength 10 = .ok (.if_icmp .ge 11, 3) := dk_162 0 11 (dk_at dksJ15_newLength_0 10 rfl rfl)
theorem dJ15_newLength_13 : decode cJ15_newLength 13 = .ok (.iload_n 3, 1) := dk_29 (dk_at dksJ15_newLength_0 13 rfl rfl)
theorem dJ15_newLength_14 : decode cJ15_newLength 14 = .ok (.ldc 200, 2) := dk_18 200 (dk_at dksJ15_newLength_0 14 rfl rfl)
theorem dJ15_newLength_16 : decode cJ15_newLength 16 = .ok (.if_icmp .gt 5, 3) := dk_163 0 5 (dk_at dksJ15_newLength_0 16 rfl rfl)
theorem dJ15_newLength_19 : decode cJ15_newLength 19 = .ok (.iload_n 3, 1) := dk_29 (dk_at dksJ15_newLength_0 19 rfl rfl)
theorem dJ15_newLength_20 : decode cJ15_newLength 20 = .ok (.ireturn, 1) := dk_172 (dk_at dksJ15_newLength_0 20 rfl rfl)
theorem dJ15_newLength_21 : decode cJ15_newLength 21 = .ok (.iload_n 0, 1) := dk_26 (dk_at dksJ15_newLength_0 21 rfl rfl)
theorem dJ15_newLength_22 : decode cJ15_newLength 22 = .ok (.iload_n 1, 1) := dk_27 (dk_at dksJ15_newLength_0 22 rfl rfl)
theorem dJ15_newLength_23 : decode cJ15_newLength 23 = .ok (.invokestatic 201, 3) := dk_184 0 201 (dk_at dksJ15_newLength_1 0 rfl rfl)
theorem dJ15_newLength_26 : decode cJ15_newLength 26 = .ok (.ireturn, 1) := dk_172 (dk_at dksJ15_newLength_1 3 rfl rfl)
abbrev cJ15_hugeLength : ByteArray := prog_41_method_28_code
def yJ15_hugeLength : MethodName := ⟨RJ15, "hugeLength", "(II)I"⟩
def dkwJ15_hugeLength_2 : List UInt8 := [191, 28, 18, 200, 163, 0, 6, 18, 200, 172, 28, 172]
abbrev dktJ15_hugeLength_2 : List UInt8 := dkwJ15_hugeLength_2 ++ []
def dkwJ15_hugeLength_1 : List UInt8 := [26, 182, 0, 98, 18, 208, 182, 0, 94, 27, 182, 0, 98, 18, 210, 182, 0, 94, 182, 0, 101, 183, 0, 212]
abbrev dktJ15_hugeLength_1 : List UInt8 := dkwJ15_hugeLength_1 ++ dktJ15_hugeLength_2
def dkwJ15_hugeLength_0 : List UInt8 := [26, 27, 96, 61, 28, 156, 0, 44, 187, 0, 204, 89, 187, 0, 89, 89, 183, 0, 91, 18, 206, 182, 0, 94]
abbrev dktJ15_hugeLength_0 : List UInt8 := dkwJ15_hugeLength_0 ++ dktJ15_hugeLength_1
theorem dksJ15_hugeLength_0 : cJ15_hugeLength.data.toList.drop 0 = dktJ15_hugeLength_0 := by decide +kernel
theorem dksJ15_hugeLength_1 : cJ15_hugeLength.data.toList.drop 24 = dktJ15_hugeLength_1 := dk_seg dksJ15_hugeLength_0 24 rfl rfl
theorem dksJ15_hugeLength_2 : cJ15_hugeLength.data.toList.drop 48 = dktJ15_hugeLength_2 := dk_seg dksJ15_hugeLength_1 24 rfl rfl
theorem dJ15_hugeLength_0 : decode cJ15_hugeLength 0 = .ok (.iload_n 0, 1) := dk_26 (dk_at dksJ15_hugeLength_0 0 rfl rfl)
theorem dJ15_hugeLength_1 : decode cJ15_hugeLength 1 = .ok (.iload_n 1, 1) := dk_27 (dk_at dksJ15_hugeLength_0 1 rfl rfl)
theorem dJ15_hugeLength_2 : decode cJ15_hugeLength 2 = .ok (.iadd, 1) := dk_96 (dk_at dksJ15_hugeLength_0 2 rfl rfl)
theorem dJ15_hugeLength_3 : decode cJ15_hugeLength 3 = .ok (.istore_n 2, 1) := dk_61 (dk_at dksJ15_hugeLength_0 3 rfl rfl)
theorem dJ15_hugeLength_4 : decode cJ15_hugeLength 4 = .ok (.iload_n 2, 1) := dk_28 (dk_at dksJ15_hugeLength_0 4 rfl rfl)
theorem dJ15_hugeLength_5 : decode cJ15_hugeLength 5 = .ok (.ifCond .ge 44, 3) := dk_156 0 44 (dk_at dksJ15_hugeLength_0 5 rfl rfl)
theorem dJ15_hugeLength_8 : decode cJ15_hugeLength 8 = .ok (.new 204, 3) := dk_187 0 204 (dk_at dksJ15_hugeLength_0 8 rfl rfl)
theorem dJ15_hugeLength_11 : decode cJ15_hugeLength 11 = .ok (.dup, 1) := dk_89 (dk_at dksJ15_hugeLength_0 11 rfl rfl)
theorem dJ15_hugeLength_12 : decode cJ15_hugeLength 12 = .ok (.new 89, 3) := dk_187 0 89 (dk_at dksJ15_hugeLength_0 12 rfl rfl)
theorem dJ15_hugeLength_15 : decode cJ15_hugeLength 15 = .ok (.dup, 1) := dk_89 (dk_at dksJ15_hugeLength_0 15 rfl rfl)
theorem dJ15_hugeLength_16 : decode cJ15_hugeLength 16 = .ok (.invokespecial 91, 3) := dk_183 0 91 (dk_at dksJ15_hugeLength_0 16 rfl rfl)
theorem dJ15_hugeLength_19 : decode cJ15_hugeLength 19 = .ok (.ldc 206, 2) := dk_18 206 (dk_at dksJ15_hugeLength_0 19 rfl rfl)
theorem dJ15_hugeLength_21 : decode cJ15_hugeLength 21 = .ok (.invokevirtual 94, 3) := dk_182 0 94 (dk_at dksJ15_hugeLength_0 21 rfl rfl)
theorem dJ15_hugeLength_24 : decode cJ15_hugeLength 24 = .ok (.iload_n 0, 1) := dk_26 (dk_at dksJ15_hugeLength_1 0 rfl rfl)
theorem dJ15_hugeLength_25 : decode cJ15_hugeLength 25 = .ok (.invokevirtual 98, 3) := dk_182 0 98 (dk_at dksJ15_hugeLength_1 1 rfl rfl)
theorem dJ15_hugeLength_28 : decode cJ15_hugeLength 28 = .ok (.ldc 208, 2) := dk_18 208 (dk_at dksJ15_hugeLength_1 4 rfl rfl)
theorem dJ15_hugeLength_30 : decode cJ15_hugeLength 30 = .ok (.invokevirtual 94, 3) := dk_182 0 94 (dk_at dksJ15_hugeLength_1 6 rfl rfl)
theorem dJ15_hugeLength_33 : decode cJ15_hugeLength 33 = .ok (.iload_n 1, 1) := dk_27 (dk_at dksJ15_hugeLength_1 9 rfl rfl)
theorem dJ15_hugeLength_34 : decode cJ15_hugeLength 34 = .ok (.invokevirtual 98, 3) := dk_182 0 98 (dk_at dksJ15_hugeLength_1 10 rfl rfl)
theorem dJ15_hugeLength_37 : decode cJ15_hugeLength 37 = .ok (.ldc 210, 2) := dk_18 210 (dk_at dksJ15_hugeLength_1 13 rfl rfl)
theorem dJ15_hugeLength_39 : decode cJ15_hugeLength 39 = .ok (.invokevirtual 94, 3) := dk_182 0 94 (dk_at dksJ15_hugeLength_1 15 rfl rfl)
theorem dJ15_hugeLength_42 : decode cJ15_hugeLength 42 = .ok (.invokevirtual 101, 3) := dk_182 0 101 (dk_at dksJ15_hugeLength_1 18 rfl rfl)
theorem dJ15_hugeLength_45 : decode cJ15_hugeLength 45 = .ok (.invokespecial 212, 3) := dk_183 0 212 (dk_at dksJ15_hugeLength_1 21 rfl rfl)
theorem dJ15_hugeLength_48 : decode cJ15_hugeLength 48 = .ok (.athrow, 1) := dk_191 (dk_at dksJ15_hugeLength_2 0 rfl rfl)
theorem dJ15_hugeLength_49 : decode cJ15_hugeLength 49 = .ok (.iload_n 2, 1) := dk_28 (dk_at dksJ15_hugeLength_2 1 rfl rfl)
theorem dJ15_hugeLength_50 : decode cJ15_hugeLength 50 = .ok (.ldc 200, 2) := dk_18 200 (dk_at dksJ15_hugeLength_2 2 rfl rfl)
theorem dJ15_hugeLength_52 : decode cJ15_hugeLength 52 = .ok (.if_icmp .gt 6, 3) := dk_163 0 6 (dk_at dksJ15_hugeLength_2 4 rfl rfl)
theorem dJ15_hugeLength_55 : decode cJ15_hugeLength 55 = .ok (.ldc 200, 2) := dk_18 200 (dk_at dksJ15_hugeLength_2 7 rfl rfl)
theorem dJ15_hugeLength_57 : decode cJ15_hugeLength 57 = .ok (.ireturn, 1) := dk_172 (dk_at dksJ15_hugeLength_2 9 rfl rfl)
theorem dJ15_hugeLength_58 : decode cJ15_hugeLength 58 = .ok (.iload_n 2, 1) := dk_28 (dk_at dksJ15_hugeLength_2 10 rfl rfl)
theorem dJ15_hugeLength_59 : decode cJ15_hugeLength 59 = .ok (.ireturn, 1) := dk_172 (dk_at dksJ15_hugeLength_2 11 rfl rfl)
theorem q136 : (Jvm.Cond.initialized "jdk/internal/util/ArraysSupport") ∈ lw_all := lw_g (lw_at lw_m1 28 rfl) rfl
theorem q1130 : (Jvm.Cond.static ({ cls := "jdk/internal/util/ArraysSupport", name := "newLength", desc := "(III)I" } : Jvm.MethodName)) ∈ lw_all := lw_g (lw_at lw_m5 62 rfl) rfl
theorem q1131 : (Jvm.Cond.code ({ cls := "jdk/internal/util/ArraysSupport", name := "newLength", desc := "(III)I" } : Jvm.MethodName) prog_41_method_27_code (4 : Nat) (Option.some Jvm.ClassFile.FieldType.int)) ∈ lw_all := lw_g (lw_at lw_m5 63 rfl) rfl
theorem q1132 : (Jvm.Cond.methodLink "jdk/internal/util/ArraysSupport" (194 : Nat) ({ cls := "java/lang/Math", name := "max", desc := "(II)I" } : Jvm.MethodName)) ∈ lw_all := lw_g (lw_at lw_m5 64 rfl) rfl
theorem q1133 : (Jvm.Cond.constant "jdk/internal/util/ArraysSupport" (200 : Nat) (2147483639 : Int32)) ∈ lw_all := lw_g (lw_at lw_m5 65 rfl) rfl
theorem q1134 : (Jvm.Cond.methodLink "jdk/internal/util/ArraysSupport" (201 : Nat) ({ cls := "jdk/internal/util/ArraysSupport", name := "hugeLength", desc := "(II)I" } : Jvm.MethodName)) ∈ lw_all := lw_g (lw_at lw_m5 66 rfl) rfl
theorem q1135 : (Jvm.Cond.static ({ cls := "jdk/internal/util/ArraysSupport", name := "hugeLength", desc := "(II)I" } : Jvm.MethodName)) ∈ lw_all := lw_g (lw_at lw_m5 67 rfl) rfl
theorem q1136 : (Jvm.Cond.code ({ cls := "jdk/internal/util/ArraysSupport", name := "hugeLength", desc := "(II)I" } : Jvm.MethodName) prog_41_method_28_code (3 : Nat) (Option.some Jvm.ClassFile.FieldType.int)) ∈ lw_all := lw_g (lw_at lw_m5 68 rfl) rfl

/-! java/util/Arrays -/
set_option maxRecDepth 100000
def RJ16 : String := "java/util/Arrays"
abbrev cJ16_copyOf : ByteArray := prog_34_method_119_code
def yJ16_copyOf : MethodName := ⟨RJ16, "copyOf", "([Ljava/lang/Object;I)[Ljava/lang/Object;"⟩
def dkwJ16_copyOf_0 : List UInt8 := [42, 27, 42, 182, 0, 86, 184, 1, 44, 176]
abbrev dktJ16_copyOf_0 : List UInt8 := dkwJ16_copyOf_0 ++ []
theorem dksJ16_copyOf_0 : cJ16_copyOf.data.toList.drop 0 = dktJ16_copyOf_0 := by decide +kernel
theorem dJ16_copyOf_0 : decode cJ16_copyOf 0 = .ok (.aload_n 0, 1) := dk_42 (dk_at dksJ16_copyOf_0 0 rfl rfl)
theorem dJ16_copyOf_1 : decode cJ16_copyOf 1 = .ok (.iload_n 1, 1) := dk_27 (dk_at dksJ16_copyOf_0 1 rfl rfl)
theorem dJ16_copyOf_2 : decode cJ16_copyOf 2 = .ok (.aload_n 0, 1) := dk_42 (dk_at dksJ16_copyOf_0 2 rfl rfl)
theorem dJ16_copyOf_3 : decode cJ16_copyOf 3 = .ok (.invokevirtual 86, 3) := dk_182 0 86 (dk_at dksJ16_copyOf_0 3 rfl rfl)
theorem dJ16_copyOf_6 : decode cJ16_copyOf 6 = .ok (.invokestatic 300, 3) := dk_184 1 44 (dk_at dksJ16_copyOf_0 6 rfl rfl)
theorem dJ16_copyOf_9 : decode cJ16_copyOf 9 = .ok (.areturn, 1) := dk_176 (dk_at dksJ16_copyOf_0 9 rfl rfl)
abbrev cJ16_copyOf_2 : ByteArray := prog_34_method_120_code
def yJ16_copyOf_2 : MethodName := ⟨RJ16, "copyOf", "([Ljava/lang/Object;ILjava/lang/Class;)[Ljava/lang/Object;"⟩
def dkwJ16_copyOf_2_1 : List UInt8 := [78, 42, 3, 45, 3, 42, 190, 27, 184, 1, 48, 184, 0, 150, 45, 176]
abbrev dktJ16_copyOf_2_1 : List UInt8 := dkwJ16_copyOf_2_1 ++ []
def dkwJ16_copyOf_2_0 : List UInt8 := [44, 18, 110, 166, 0, 10, 27, 189, 0, 2, 167, 0, 14, 44, 182, 0, 90, 27, 184, 0, 95, 192, 0, 110]
abbrev dktJ16_copyOf_2_0 : List UInt8 := dkwJ16_copyOf_2_0 ++ dktJ16_copyOf_2_1
theorem dksJ16_copyOf_2_0 : cJ16_copyOf_2.data.toList.drop 0 = dktJ16_copyOf_2_0 := by decide +kernel
theorem dksJ16_copyOf_2_1 : cJ16_copyOf_2.data.toList.drop 24 = dktJ16_copyOf_2_1 := dk_seg dksJ16_copyOf_2_0 24 rfl rfl
theorem dJ16_copyOf_2_0 : decode cJ16_copyOf_2 0 = .ok (.aload_n 2, 1) := dk_44 (dk_at dksJ16_copyOf_2_0 0 rfl rfl)
theorem dJ16_copyOf_2_1 : decode cJ16_copyOf_2 1 = .ok (.ldc 110, 2) := dk_18 110 (dk_at dksJ16_copyOf_2_0 1 rfl rfl)
theorem dJ16_copyOf_2_3 : decode cJ16_copyOf_2 3 = .ok (.if_acmp .ne 10, 3) := dk_166 0 10 (dk_at dksJ16_copyOf_2_0 3 rfl rfl)
theorem dJ16_copyOf_2_6 : decode cJ16_copyOf_2 6 = .ok (.iload_n 1, 1) := dk_27 (dk_at dksJ16_copyOf_2_0 6 rfl rfl)
theorem dJ16_copyOf_2_7 : decode cJ16_copyOf_2 7 = .ok (.anewarray 2, 3) := dk_189 0 2 (dk_at dksJ16_copyOf_2_0 7 rfl rfl)
theorem dJ16_copyOf_2_10 : decode cJ16_copyOf_2 10 = .ok (.goto 14, 3) := dk_167 0 14 (dk_at dksJ16_copyOf_2_0 10 rfl rfl)
theorem dJ16_copyOf_2_13 : decode cJ16_copyOf_2 13 = .ok (.aload_n 2, 1) := dk_44 (dk_at dksJ16_copyOf_2_0 13 rfl rfl)
theorem dJ16_copyOf_2_14 : decode cJ16_copyOf_2 14 = .ok (.invokevirtual 90, 3) := dk_182 0 90 (dk_at dksJ16_copyOf_2_0 14 rfl rfl)
theorem dJ16_copyOf_2_17 : decode cJ16_copyOf_2 17 = .ok (.iload_n 1, 1) := dk_27 (dk_at dksJ16_copyOf_2_0 17 rfl rfl)
theorem dJ16_copyOf_2_18 : decode cJ16_copyOf_2 18 = .ok (.invokestatic 95, 3) := dk_184 0 95 (dk_at dksJ16_copyOf_2_0 18 rfl rfl)
theorem dJ16_copyOf_2_21 : decode cJ16_copyOf_2 21 = .ok (.checkcast 110, 3) := dk_192 0 110 (dk_at dksJ16_copyOf_2_0 21 rfl rfl)
theorem dJ16_copyOf_2_24 : decode cJ16_copyOf_2 24 = .ok (.astore_n 3, 1) := dk_78 (dk_at dksJ16_copyOf_2_1 0 rfl rfl)
theorem dJ16_copyOf_2_25 : decode cJ16_copyOf_2 25 = .ok (.aload_n 0, 1) := dk_42 (dk_at dksJ16_copyOf_2_1 1 rfl rfl)
theorem dJ16_copyOf_2_26 : decode cJ16_copyOf_2 26 = .ok (.iconst 0, 1) := dk_3 (dk_at dksJ16_copyOf_2_1 2 rfl rfl)
theorem dJ16_copyOf_2_27 : decode cJ16_copyOf_2 27 = .ok (.aload_n 3, 1) := dk_45 (dk_at dksJ16_copyOf_2_1 3 rfl rfl)
theorem dJ16_copyOf_2_28 : decode cJ16_copyOf_2 28 = .ok (.iconst 0, 1) := dk_3 (dk_at dksJ16_copyOf_2_1 4 rfl rfl)
theorem dJ16_copyOf_2_29 : decode cJ16_copyOf_2 29 = .ok (.aload_n 0, 1) := dk_42 (dk_at dksJ16_copyOf_2_1 5 rfl rfl)
theorem dJ16_copyOf_2_30 : decode cJ16_copyOf_2 30 = .ok (.arraylength, 1) := dk_190 (dk_at dksJ16_copyOf_2_1 6 rfl rfl)
theorem dJ16_copyOf_2_31 : decode cJ16_copyOf_2 31 = .ok (.iload_n 1, 1) := dk_27 (dk_at dksJ16_copyOf_2_1 7 rfl rfl)
theorem dJ16_copyOf_2_32 : decode cJ16_copyOf_2 32 = .ok (.invokestatic 304, 3) := dk_184 1 48 (dk_at dksJ16_copyOf_2_1 8 rfl rfl)
theorem dJ16_copyOf_2_35 : decode cJ16_copyOf_2 35 = .ok (.invokestatic 150, 3) := dk_184 0 150 (dk_at dksJ16_copyOf_2_1 11 rfl rfl)
theorem dJ16_copyOf_2_38 : decode cJ16_copyOf_2 38 = .ok (.aload_n 3, 1) := dk_45 (dk_at dksJ16_copyOf_2_1 14 rfl rfl)
theorem dJ16_copyOf_2_39 : decode cJ16_copyOf_2 39 = .ok (.areturn, 1) := dk_176 (dk_at dksJ16_copyOf_2_1 15 rfl rfl)
theorem q137 : (Jvm.Cond.initialized "java/util/Arrays") ∈ lw_all := lw_g (lw_at lw_m1 29 rfl) rfl
theorem q1138 : (Jvm.Cond.static ({ cls := "java/util/Arrays", name := "copyOf", desc := "([Ljava/lang/Object;I)[Ljava/lang/Object;" } : Jvm.MethodName)) ∈ lw_all := lw_g (lw_at lw_m5 70 rfl) rfl
theorem q1139 : (Jvm.Cond.code ({ cls := "java/util/Arrays", name := "copyOf", desc := "([Ljava/lang/Object;I)[Ljava/lang/Object;" } : Jvm.MethodName) prog_34_method_119_code (2 : Nat) (Option.some (Jvm.ClassFile.FieldType.array (Jvm.ClassFile.FieldType.object "java/lang/Object")))) ∈ lw_all := lw_g (lw_at lw_m5 71 rfl) rfl
theorem q1140 : (Jvm.Cond.methodLink "java/util/Arrays" (86 : Nat) ({ cls := "java/lang/Object", name := "getClass", desc := "()Ljava/lang/Class;" } : Jvm.MethodName)) ∈ lw_all := lw_g (lw_at lw_m5 72 rfl) rfl
theorem q1161 : (Jvm.Cond.methodLink "java/util/Arrays" (300 : Nat) ({ cls := "java/util/Arrays", name := "copyOf", desc := "([Ljava/lang/Object;ILjava/lang/Class;)[Ljava/lang/Object;" } : Jvm.MethodName)) ∈ lw_all := lw_g (lw_at lw_m5 93 rfl) rfl
theorem q1162 : (Jvm.Cond.static ({ cls := "java/util/Arrays", name := "copyOf", desc := "([Ljava/lang/Object;ILjava/lang/Class;)[Ljava/lang/Object;" } : Jvm.MethodName)) ∈ lw_all := lw_g (lw_at lw_m5 94 rfl) rfl
theorem q1163 : (Jvm.Cond.code ({ cls := "java/util/Arrays", name := "copyOf", desc := "([Ljava/lang/Object;ILjava/lang/Class;)[Ljava/lang/Object;" } : Jvm.MethodName) prog_34_method_120_code (4 : Nat) (Option.some (Jvm.ClassFile.FieldType.array (Jvm.ClassFile.FieldType.object "java/lang/Object")))) ∈ lw_all := lw_g (lw_at lw_m5 95 rfl) rfl
theorem q1164 : (Jvm.Cond.classLink "java/util/Arrays" (110 : Nat) "[Ljava/lang/Object;") ∈ lw_all := lw_g (lw_at lw_m5 96 rfl) rfl
theorem q1166 : (Jvm.Cond.classLink "java/util/Arrays" (2 : Nat) "java/lang/Object") ∈ lw_all := lw_g (lw_at lw_m5 98 rfl) rfl
theorem q1167 : (Jvm.Cond.methodLink "java/util/Arrays" (304 : Nat) ({ cls := "java/lang/Math", name := "min", desc := "(II)I" } : Jvm.MethodName)) ∈ lw_all := lw_g (lw_at lw_m5 99 rfl) rfl
theorem q1168 : (Jvm.Cond.methodLink "java/util/Arrays" (150 : Nat) ({ cls := "java/lang/System", name := "arraycopy", desc := "(Ljava/lang/Object;ILjava/lang/Object;II)V" } : Jvm.MethodName)) ∈ lw_all := lw_g (lw_at lw_m5 100 rfl) rfl

/-! java/util/Objects -/
set_option maxRecDepth 100000
def RJ17 : String := "java/util/Objects"
abbrev cJ17_checkIndex : ByteArray := prog_38_method_17_code
def yJ17_checkIndex : MethodName := ⟨RJ17, "checkIndex", "(II)I"⟩
def dkwJ17_checkIndex_0 : List UInt8 := [26, 27, 1, 184, 0, 105, 172]
abbrev dktJ17_checkIndex_0 : List UInt8 := dkwJ17_checkIndex_0 ++ []
theorem dksJ17_checkIndex_0 : cJ17_checkIndex.data.toList.drop 0 = dktJ17_checkIndex_0 := by decide +kernel
theorem dJ17_checkIndex_0 : decode cJ17_checkIndex 0 = .ok (.iload_n 0, 1) := dk_26 (dk_at dksJ17_checkIndex_0 0 rfl rfl)
theorem dJ17_checkIndex_1 : decode cJ17_checkIndex 1 = .ok (.iload_n 1, 1) := dk_27 (dk_at dksJ17_checkIndex_0 1 rfl rfl)
theorem dJ17_checkIndex_2 : decode cJ17_checkIndex 2 = .ok (.aconst_null, 1) := dk_1 (dk_at dksJ17_checkIndex_0 2 rfl rfl)
theorem dJ17_checkIndex_3 : decode cJ17_checkIndex 3 = .ok (.invokestatic 105, 3) := dk_184 0 105 (dk_at dksJ17_checkIndex_0 3 rfl rfl)
theorem dJ17_checkIndex_6 : decode cJ17_checkIndex 6 = .ok (.ireturn, 1) := dk_172 (dk_at dksJ17_checkIndex_0 6 rfl rfl)
theorem q139 : (Jvm.Cond.initialized "java/util/Objects") ∈ lw_all := lw_g (lw_at lw_m1 31 rfl) rfl
theorem q1199 : (Jvm.Cond.static ({ cls := "java/util/Objects", name := "checkIndex", desc := "(II)I" } : Jvm.MethodName)) ∈ lw_all := lw_g (lw_at lw_m5 131 rfl) rfl
theorem q1200 : (Jvm.Cond.code ({ cls := "java/util/Objects", name := "checkIndex", desc := "(II)I" } : Jvm.MethodName) prog_38_method_17_code (2 : Nat) (Option.some Jvm.ClassFile.FieldType.int)) ∈ lw_all := lw_g (lw_at lw_m5 132 rfl) rfl
theorem q1201 : (Jvm.Cond.methodLink "java/util/Objects" (105 : Nat) ({ cls := "jdk/internal/util/Preconditions", name := "checkIndex", desc := "(IILjava/util/function/BiFunction;)I" } : Jvm.MethodName)) ∈ lw_all := lw_g (lw_at lw_m5 133 rfl) rfl

/-! java/lang/Object -/
set_option maxRecDepth 100000
def RJ18 : String := "java/lang/Object"
abbrev cJ18_init : ByteArray := object_method_1_code
def yJ18_init : MethodName := ⟨RJ18, "<init>", "()V"⟩
theorem dJ18_init_0 : decode cJ18_init 0 = .ok (.return_, 1) := by decide +kernel
theorem q149 : (Jvm.Cond.instanceMethod ({ cls := "java/lang/Object", name := "<init>", desc := "()V" } : Jvm.MethodName)) ∈ lw_all := lw_g (lw_at lw_m1 41 rfl) rfl
theorem q150 : (Jvm.Cond.code ({ cls := "java/lang/Object", name := "<init>", desc := "()V" } : Jvm.MethodName) object_method_1_code (1 : Nat) (Option.none : Option Jvm.ClassFile.FieldType)) ∈ lw_all := lw_g (lw_at lw_m1 42 rfl) rfl
theorem q1141 : (Jvm.Cond.instanceMethod ({ cls := "java/lang/Object", name := "getClass", desc := "()Ljava/lang/Class;" } : Jvm.MethodName)) ∈ lw_all := lw_g (lw_at lw_m5 73 rfl) rfl
theorem q1142 : (Jvm.Cond.sameMethod "java/lang/Object" "java/lang/Object" "getClass" "()Ljava/lang/Class;") ∈ lw_all := lw_g (lw_at lw_m5 74 rfl) rfl
theorem q1160 : (Jvm.Cond.native ({ cls := "java/lang/Object", name := "getClass", desc := "()Ljava/lang/Class;" } : Jvm.MethodName)) ∈ lw_all := lw_g (lw_at lw_m5 92 rfl) rfl
theorem q2168 : (Jvm.Cond.initialized "java/lang/Object") ∈ lw_all := lw_g (lw_at lw_m9 140 rfl) rfl
theorem q2190 : (Jvm.Cond.declares ({ cls := "java/lang/Object", name := "getClass", desc := "()Ljava/lang/Class;" } : Jvm.MethodName)) ∈ lw_tbl := lw_at lw_m9 162 rfl

theorem q152 : (Jvm.Cond.arrayOver (Jvm.ClassFile.FieldType.object "WiredNets$Net")) ∈ lw_tbl := lw_at lw_m1 44 rfl
set_option maxRecDepth 100000
theorem q173 : (Jvm.Cond.arrayClass Jvm.ClassFile.FieldType.byte) ∈ lw_all := lw_g (lw_at lw_m1 65 rfl) rfl
theorem q174 : (Jvm.Cond.arrayClass Jvm.ClassFile.FieldType.int) ∈ lw_all := lw_g (lw_at lw_m1 66 rfl) rfl
theorem q182 : (Jvm.Cond.arrayOver (Jvm.ClassFile.FieldType.array Jvm.ClassFile.FieldType.int)) ∈ lw_tbl := lw_at lw_m1 74 rfl
theorem q264 : (Jvm.Cond.arrayClass Jvm.ClassFile.FieldType.boolean) ∈ lw_all := lw_g (lw_at lw_m1 156 rfl) rfl
theorem q888 : (Jvm.Cond.arrayOver (Jvm.ClassFile.FieldType.array Jvm.ClassFile.FieldType.long)) ∈ lw_tbl := lw_at lw_m4 60 rfl
theorem q893 : (Jvm.Cond.arrayClass Jvm.ClassFile.FieldType.long) ∈ lw_all := lw_g (lw_at lw_m4 65 rfl) rfl
theorem q1165 : (Jvm.Cond.arrayOver (Jvm.ClassFile.FieldType.object "java/lang/Object")) ∈ lw_tbl := lw_at lw_m5 97 rfl
theorem q1360 : (Jvm.Cond.arrayOver (Jvm.ClassFile.FieldType.array Jvm.ClassFile.FieldType.boolean)) ∈ lw_tbl := lw_at lw_m6 52 rfl

theorem q135 : (Jvm.Cond.initialized "java/lang/Integer$IntegerCache") ∈ lw_all := lw_g (lw_at lw_m1 27 rfl) rfl
set_option maxRecDepth 100000
theorem q1092 : (Jvm.Cond.laysStatic "java/lang/Integer$IntegerCache" "high" "I") ∈ lw_tbl := lw_at lw_m5 24 rfl
theorem q1094 : (Jvm.Cond.laysStatic "java/lang/Integer$IntegerCache" "cache" "[Ljava/lang/Integer;") ∈ lw_tbl := lw_at lw_m5 26 rfl

theorem q138 : (Jvm.Cond.initialized "java/lang/System") ∈ lw_all := lw_g (lw_at lw_m1 30 rfl) rfl
set_option maxRecDepth 100000
theorem q1169 : (Jvm.Cond.static ({ cls := "java/lang/System", name := "arraycopy", desc := "(Ljava/lang/Object;ILjava/lang/Object;II)V" } : Jvm.MethodName)) ∈ lw_all := lw_g (lw_at lw_m5 101 rfl) rfl
theorem q1170 : (Jvm.Cond.native ({ cls := "java/lang/System", name := "arraycopy", desc := "(Ljava/lang/Object;ILjava/lang/Object;II)V" } : Jvm.MethodName)) ∈ lw_all := lw_g (lw_at lw_m5 102 rfl) rfl

theorem q1080 : (Jvm.Cond.interfaceMethod "java/util/List" "java/util/List" "clear" "()V") ∈ lw_tbl := lw_at lw_m5 12 rfl
set_option maxRecDepth 100000
theorem q1081 : (Jvm.Cond.declares ({ cls := "java/util/List", name := "clear", desc := "()V" } : Jvm.MethodName)) ∈ lw_tbl := lw_at lw_m5 13 rfl
theorem q1110 : (Jvm.Cond.interfaceMethod "java/util/List" "java/util/List" "add" "(Ljava/lang/Object;)Z") ∈ lw_tbl := lw_at lw_m5 42 rfl
theorem q1111 : (Jvm.Cond.declares ({ cls := "java/util/List", name := "add", desc := "(Ljava/lang/Object;)Z" } : Jvm.MethodName)) ∈ lw_tbl := lw_at lw_m5 43 rfl
theorem q1182 : (Jvm.Cond.interfaceMethod "java/util/List" "java/util/List" "size" "()I") ∈ lw_tbl := lw_at lw_m5 114 rfl
theorem q1183 : (Jvm.Cond.declares ({ cls := "java/util/List", name := "size", desc := "()I" } : Jvm.MethodName)) ∈ lw_tbl := lw_at lw_m5 115 rfl
theorem q1191 : (Jvm.Cond.interfaceMethod "java/util/List" "java/util/List" "get" "(I)Ljava/lang/Object;") ∈ lw_tbl := lw_at lw_m5 123 rfl
theorem q1192 : (Jvm.Cond.declares ({ cls := "java/util/List", name := "get", desc := "(I)Ljava/lang/Object;" } : Jvm.MethodName)) ∈ lw_tbl := lw_at lw_m5 124 rfl

theorem q2188 : (Jvm.Cond.sameMethod "[Ljava/lang/Object;" "java/lang/Object" "getClass" "()Ljava/lang/Class;") ∈ lw_all := lw_g (lw_at lw_m9 160 rfl) rfl
set_option maxRecDepth 100000
theorem q2189 : (Jvm.Cond.selects "[Ljava/lang/Object;" ({ cls := "java/lang/Object", name := "getClass", desc := "()Ljava/lang/Class;" } : Jvm.MethodName) ({ cls := "java/lang/Object", name := "getClass", desc := "()Ljava/lang/Class;" } : Jvm.MethodName)) ∈ lw_all := lw_g (lw_at lw_m9 161 rfl) rfl
theorem q2198 : (Jvm.Cond.castable "[Ljava/lang/Object;" "java/lang/Object") ∈ lw_tbl := lw_at lw_m9 170 rfl

theorem q2191 : (Jvm.Cond.castable "[LWiredNets$Net;" "java/lang/Object") ∈ lw_tbl := lw_at lw_m9 163 rfl
set_option maxRecDepth 100000

theorem q2192 : (Jvm.Cond.castable "[B" "java/lang/Object") ∈ lw_tbl := lw_at lw_m9 164 rfl
set_option maxRecDepth 100000

theorem q2193 : (Jvm.Cond.castable "[I" "java/lang/Object") ∈ lw_tbl := lw_at lw_m9 165 rfl
set_option maxRecDepth 100000

theorem q2194 : (Jvm.Cond.castable "[[I" "java/lang/Object") ∈ lw_tbl := lw_at lw_m9 166 rfl
set_option maxRecDepth 100000

theorem q2195 : (Jvm.Cond.castable "[Z" "java/lang/Object") ∈ lw_tbl := lw_at lw_m9 167 rfl
set_option maxRecDepth 100000

theorem q2196 : (Jvm.Cond.castable "[[J" "java/lang/Object") ∈ lw_tbl := lw_at lw_m9 168 rfl
set_option maxRecDepth 100000

theorem q2197 : (Jvm.Cond.castable "[J" "java/lang/Object") ∈ lw_tbl := lw_at lw_m9 169 rfl
set_option maxRecDepth 100000

theorem q2199 : (Jvm.Cond.castable "[[Z" "java/lang/Object") ∈ lw_tbl := lw_at lw_m9 171 rfl
set_option maxRecDepth 100000
