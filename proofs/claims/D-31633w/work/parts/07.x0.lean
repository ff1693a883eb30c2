/-! ScaffolderLaw -/
set_option maxRecDepth 100000
def RX0 : String := "ScaffolderLaw"
abbrev cX0_pass : ByteArray := method_3_code
def yX0_pass : MethodName := ⟨RX0, "pass", "(LScaffolder;I[J)I"⟩
def dkwX0_pass_0 : List UInt8 := [44, 3, 42, 27, 182, 0, 7, 133, 80, 167, 0, 9, 78, 4, 172, 78, 5, 172, 3, 172]
abbrev dktX0_pass_0 : List UInt8 := dkwX0_pass_0 ++ []
theorem dksX0_pass_0 : cX0_pass.data.toList.drop 0 = dktX0_pass_0 := by decide +kernel
theorem dX0_pass_0 : decode cX0_pass 0 = .ok (.aload_n 2, 1) := dk_44 (dk_at dksX0_pass_0 0 rfl rfl)
theorem dX0_pass_1 : decode cX0_pass 1 = .ok (.iconst 0, 1) := dk_3 (dk_at dksX0_pass_0 1 rfl rfl)
theorem dX0_pass_2 : decode cX0_pass 2 = .ok (.aload_n 0, 1) := dk_42 (dk_at dksX0_pass_0 2 rfl rfl)
theorem dX0_pass_3 : decode cX0_pass 3 = .ok (.iload_n 1, 1) := dk_27 (dk_at dksX0_pass_0 3 rfl rfl)
theorem dX0_pass_4 : decode cX0_pass 4 = .ok (.invokevirtual 7, 3) := dk_182 0 7 (dk_at dksX0_pass_0 4 rfl rfl)
theorem dX0_pass_7 : decode cX0_pass 7 = .ok (.i2l, 1) := dk_133 (dk_at dksX0_pass_0 7 rfl rfl)
theorem dX0_pass_8 : decode cX0_pass 8 = .ok (.lastore, 1) := dk_80 (dk_at dksX0_pass_0 8 rfl rfl)
theorem dX0_pass_9 : decode cX0_pass 9 = .ok (.goto 9, 3) := dk_167 0 9 (dk_at dksX0_pass_0 9 rfl rfl)
theorem dX0_pass_12 : decode cX0_pass 12 = .ok (.astore_n 3, 1) := dk_78 (dk_at dksX0_pass_0 12 rfl rfl)
theorem dX0_pass_13 : decode cX0_pass 13 = .ok (.iconst 1, 1) := dk_4 (dk_at dksX0_pass_0 13 rfl rfl)
theorem dX0_pass_14 : decode cX0_pass 14 = .ok (.ireturn, 1) := dk_172 (dk_at dksX0_pass_0 14 rfl rfl)
theorem dX0_pass_15 : decode cX0_pass 15 = .ok (.astore_n 3, 1) := dk_78 (dk_at dksX0_pass_0 15 rfl rfl)
theorem dX0_pass_16 : decode cX0_pass 16 = .ok (.iconst 2, 1) := dk_5 (dk_at dksX0_pass_0 16 rfl rfl)
theorem dX0_pass_17 : decode cX0_pass 17 = .ok (.ireturn, 1) := dk_172 (dk_at dksX0_pass_0 17 rfl rfl)
theorem dX0_pass_18 : decode cX0_pass 18 = .ok (.iconst 0, 1) := dk_3 (dk_at dksX0_pass_0 18 rfl rfl)
theorem dX0_pass_19 : decode cX0_pass 19 = .ok (.ireturn, 1) := dk_172 (dk_at dksX0_pass_0 19 rfl rfl)
abbrev cX0_addFace : ByteArray := method_4_code
def yX0_addFace : MethodName := ⟨RX0, "addFace", "(LScaffolder;I[J)I"⟩
def dkwX0_addFace_0 : List UInt8 := [44, 3, 42, 27, 182, 0, 17, 133, 80, 167, 0, 9, 78, 4, 172, 78, 5, 172, 3, 172]
abbrev dktX0_addFace_0 : List UInt8 := dkwX0_addFace_0 ++ []
theorem dksX0_addFace_0 : cX0_addFace.data.toList.drop 0 = dktX0_addFace_0 := by decide +kernel
theorem dX0_addFace_0 : decode cX0_addFace 0 = .ok (.aload_n 2, 1) := dk_44 (dk_at dksX0_addFace_0 0 rfl rfl)
theorem dX0_addFace_1 : decode cX0_addFace 1 = .ok (.iconst 0, 1) := dk_3 (dk_at dksX0_addFace_0 1 rfl rfl)
theorem dX0_addFace_2 : decode cX0_addFace 2 = .ok (.aload_n 0, 1) := dk_42 (dk_at dksX0_addFace_0 2 rfl rfl)
theorem dX0_addFace_3 : decode cX0_addFace 3 = .ok (.iload_n 1, 1) := dk_27 (dk_at dksX0_addFace_0 3 rfl rfl)
theorem dX0_addFace_4 : decode cX0_addFace 4 = .ok (.invokevirtual 17, 3) := dk_182 0 17 (dk_at dksX0_addFace_0 4 rfl rfl)
theorem dX0_addFace_7 : decode cX0_addFace 7 = .ok (.i2l, 1) := dk_133 (dk_at dksX0_addFace_0 7 rfl rfl)
theorem dX0_addFace_8 : decode cX0_addFace 8 = .ok (.lastore, 1) := dk_80 (dk_at dksX0_addFace_0 8 rfl rfl)
theorem dX0_addFace_9 : decode cX0_addFace 9 = .ok (.goto 9, 3) := dk_167 0 9 (dk_at dksX0_addFace_0 9 rfl rfl)
theorem dX0_addFace_12 : decode cX0_addFace 12 = .ok (.astore_n 3, 1) := dk_78 (dk_at dksX0_addFace_0 12 rfl rfl)
theorem dX0_addFace_13 : decode cX0_addFace 13 = .ok (.iconst 1, 1) := dk_4 (dk_at dksX0_addFace_0 13 rfl rfl)
theorem dX0_addFace_14 : decode cX0_addFace 14 = .ok (.ireturn, 1) := dk_172 (dk_at dksX0_addFace_0 14 rfl rfl)
theorem dX0_addFace_15 : decode cX0_addFace 15 = .ok (.astore_n 3, 1) := dk_78 (dk_at dksX0_addFace_0 15 rfl rfl)
theorem dX0_addFace_16 : decode cX0_addFace 16 = .ok (.iconst 2, 1) := dk_5 (dk_at dksX0_addFace_0 16 rfl rfl)
theorem dX0_addFace_17 : decode cX0_addFace 17 = .ok (.ireturn, 1) := dk_172 (dk_at dksX0_addFace_0 17 rfl rfl)
theorem dX0_addFace_18 : decode cX0_addFace 18 = .ok (.iconst 0, 1) := dk_3 (dk_at dksX0_addFace_0 18 rfl rfl)
theorem dX0_addFace_19 : decode cX0_addFace 19 = .ok (.ireturn, 1) := dk_172 (dk_at dksX0_addFace_0 19 rfl rfl)
abbrev cX0_faceOf : ByteArray := method_5_code
def yX0_faceOf : MethodName := ⟨RX0, "faceOf", "(LScaffolder;I[J)I"⟩
def dkwX0_faceOf_0 : List UInt8 := [44, 3, 42, 27, 182, 0, 20, 133, 80, 167, 0, 6, 78, 4, 172, 3, 172]
abbrev dktX0_faceOf_0 : List UInt8 := dkwX0_faceOf_0 ++ []
theorem dksX0_faceOf_0 : cX0_faceOf.data.toList.drop 0 = dktX0_faceOf_0 := by decide +kernel
theorem dX0_faceOf_0 : decode cX0_faceOf 0 = .ok (.aload_n 2, 1) := dk_44 (dk_at dksX0_faceOf_0 0 rfl rfl)
theorem dX0_faceOf_1 : decode cX0_faceOf 1 = .ok (.iconst 0, 1) := dk_3 (dk_at dksX0_faceOf_0 1 rfl rfl)
theorem dX0_faceOf_2 : decode cX0_faceOf 2 = .ok (.aload_n 0, 1) := dk_42 (dk_at dksX0_faceOf_0 2 rfl rfl)
theorem dX0_faceOf_3 : decode cX0_faceOf 3 = .ok (.iload_n 1, 1) := dk_27 (dk_at dksX0_faceOf_0 3 rfl rfl)
theorem dX0_faceOf_4 : decode cX0_faceOf 4 = .ok (.invokevirtual 20, 3) := dk_182 0 20 (dk_at dksX0_faceOf_0 4 rfl rfl)
theorem dX0_faceOf_7 : decode cX0_faceOf 7 = .ok (.i2l, 1) := dk_133 (dk_at dksX0_faceOf_0 7 rfl rfl)
theorem dX0_faceOf_8 : decode cX0_faceOf 8 = .ok (.lastore, 1) := dk_80 (dk_at dksX0_faceOf_0 8 rfl rfl)
theorem dX0_faceOf_9 : decode cX0_faceOf 9 = .ok (.goto 6, 3) := dk_167 0 6 (dk_at dksX0_faceOf_0 9 rfl rfl)
theorem dX0_faceOf_12 : decode cX0_faceOf 12 = .ok (.astore_n 3, 1) := dk_78 (dk_at dksX0_faceOf_0 12 rfl rfl)
theorem dX0_faceOf_13 : decode cX0_faceOf 13 = .ok (.iconst 1, 1) := dk_4 (dk_at dksX0_faceOf_0 13 rfl rfl)
theorem dX0_faceOf_14 : decode cX0_faceOf 14 = .ok (.ireturn, 1) := dk_172 (dk_at dksX0_faceOf_0 14 rfl rfl)
theorem dX0_faceOf_15 : decode cX0_faceOf 15 = .ok (.iconst 0, 1) := dk_3 (dk_at dksX0_faceOf_0 15 rfl rfl)
theorem dX0_faceOf_16 : decode cX0_faceOf 16 = .ok (.ireturn, 1) := dk_172 (dk_at dksX0_faceOf_0 16 rfl rfl)
abbrev cX0_isCorner : ByteArray := method_6_code
def yX0_isCorner : MethodName := ⟨RX0, "isCorner", "(LScaffolder;I[J)I"⟩
def dkwX0_isCorner_0 : List UInt8 := [44, 3, 42, 27, 182, 0, 25, 153, 0, 7, 10, 167, 0, 4, 9, 80, 167, 0, 6, 78, 4, 172, 3, 172]
abbrev dktX0_isCorner_0 : List UInt8 := dkwX0_isCorner_0 ++ []
theorem dksX0_isCorner_0 : cX0_isCorner.data.toList.drop 0 = dktX0_isCorner_0 := by decide +kernel
theorem dX0_isCorner_0 : decode cX0_isCorner 0 = .ok (.aload_n 2, 1) := dk_44 (dk_at dksX0_isCorner_0 0 rfl rfl)
theorem dX0_isCorner_1 : decode cX0_isCorner 1 = .ok (.iconst 0, 1) := dk_3 (dk_at dksX0_isCorner_0 1 rfl rfl)
theorem dX0_isCorner_2 : decode cX0_isCorner 2 = .ok (.aload_n 0, 1) := dk_42 (dk_at dksX0_isCorner_0 2 rfl rfl)
theorem dX0_isCorner_3 : decode cX0_isCorner 3 = .ok (.iload_n 1, 1) := dk_27 (dk_at dksX0_isCorner_0 3 rfl rfl)
theorem dX0_isCorner_4 : decode cX0_isCorner 4 = .ok (.invokevirtual 25, 3) := dk_182 0 25 (dk_at dksX0_isCorner_0 4 rfl rfl)
theorem dX0_isCorner_7 : decode cX0_isCorner 7 = .ok (.ifCond .eq 7, 3) := dk_153 0 7 (dk_at dksX0_isCorner_0 7 rfl rfl)
theorem dX0_isCorner_10 : decode cX0_isCorner 10 = .ok (.lconst 1, 1) := dk_10 (dk_at dksX0_isCorner_0 10 rfl rfl)
theorem dX0_isCorner_11 : decode cX0_isCorner 11 = .ok (.goto 4, 3) := dk_167 0 4 (dk_at dksX0_isCorner_0 11 rfl rfl)
theorem dX0_isCorner_14 : decode cX0_isCorner 14 = .ok (.lconst 0, 1) := dk_9 (dk_at dksX0_isCorner_0 14 rfl rfl)
theorem dX0_isCorner_15 : decode cX0_isCorner 15 = .ok (.lastore, 1) := dk_80 (dk_at dksX0_isCorner_0 15 rfl rfl)
theorem dX0_isCorner_16 : decode cX0_isCorner 16 = .ok (.goto 6, 3) := dk_167 0 6 (dk_at dksX0_isCorner_0 16 rfl rfl)
theorem dX0_isCorner_19 : decode cX0_isCorner 19 = .ok (.astore_n 3, 1) := dk_78 (dk_at dksX0_isCorner_0 19 rfl rfl)
theorem dX0_isCorner_20 : decode cX0_isCorner 20 = .ok (.iconst 1, 1) := dk_4 (dk_at dksX0_isCorner_0 20 rfl rfl)
theorem dX0_isCorner_21 : decode cX0_isCorner 21 = .ok (.ireturn, 1) := dk_172 (dk_at dksX0_isCorner_0 21 rfl rfl)
theorem dX0_isCorner_22 : decode cX0_isCorner 22 = .ok (.iconst 0, 1) := dk_3 (dk_at dksX0_isCorner_0 22 rfl rfl)
theorem dX0_isCorner_23 : decode cX0_isCorner 23 = .ok (.ireturn, 1) := dk_172 (dk_at dksX0_isCorner_0 23 rfl rfl)
abbrev cX0_setLifts : ByteArray := method_7_code
def yX0_setLifts : MethodName := ⟨RX0, "setLifts", "(LScaffolder;II[J)I"⟩
def dkwX0_setLifts_0 : List UInt8 := [45, 3, 42, 27, 28, 182, 0, 29, 133, 80, 167, 0, 11, 58, 4, 4, 172, 58, 4, 5, 172, 3, 172]
abbrev dktX0_setLifts_0 : List UInt8 := dkwX0_setLifts_0 ++ []
theorem dksX0_setLifts_0 : cX0_setLifts.data.toList.drop 0 = dktX0_setLifts_0 := by decide +kernel
theorem dX0_setLifts_0 : decode cX0_setLifts 0 = .ok (.aload_n 3, 1) := dk_45 (dk_at dksX0_setLifts_0 0 rfl rfl)
theorem dX0_setLifts_1 : decode cX0_setLifts 1 = .ok (.iconst 0, 1) := dk_3 (dk_at dksX0_setLifts_0 1 rfl rfl)
theorem dX0_setLifts_2 : decode cX0_setLifts 2 = .ok (.aload_n 0, 1) := dk_42 (dk_at dksX0_setLifts_0 2 rfl rfl)
theorem dX0_setLifts_3 : decode cX0_setLifts 3 = .ok (.iload_n 1, 1) := dk_27 (dk_at dksX0_setLifts_0 3 rfl rfl)
theorem dX0_setLifts_4 : decode cX0_setLifts 4 = .ok (.iload_n 2, 1) := dk_28 (dk_at dksX0_setLifts_0 4 rfl rfl)
theorem dX0_setLifts_5 : decode cX0_setLifts 5 = .ok (.invokevirtual 29, 3) := dk_182 0 29 (dk_at dksX0_setLifts_0 5 rfl rfl)
theorem dX0_setLifts_8 : decode cX0_setLifts 8 = .ok (.i2l, 1) := dk_133 (dk_at dksX0_setLifts_0 8 rfl rfl)
theorem dX0_setLifts_9 : decode cX0_setLifts 9 = .ok (.lastore, 1) := dk_80 (dk_at dksX0_setLifts_0 9 rfl rfl)
theorem dX0_setLifts_10 : decode cX0_setLifts 10 = .ok (.goto 11, 3) := dk_167 0 11 (dk_at dksX0_setLifts_0 10 rfl rfl)
theorem dX0_setLifts_13 : decode cX0_setLifts 13 = .ok (.astore 4, 2) := dk_58 4 (dk_at dksX0_setLifts_0 13 rfl rfl)
theorem dX0_setLifts_15 : decode cX0_setLifts 15 = .ok (.iconst 1, 1) := dk_4 (dk_at dksX0_setLifts_0 15 rfl rfl)
theorem dX0_setLifts_16 : decode cX0_setLifts 16 = .ok (.ireturn, 1) := dk_172 (dk_at dksX0_setLifts_0 16 rfl rfl)
theorem dX0_setLifts_17 : decode cX0_setLifts 17 = .ok (.astore 4, 2) := dk_58 4 (dk_at dksX0_setLifts_0 17 rfl rfl)
theorem dX0_setLifts_19 : decode cX0_setLifts 19 = .ok (.iconst 2, 1) := dk_5 (dk_at dksX0_setLifts_0 19 rfl rfl)
theorem dX0_setLifts_20 : decode cX0_setLifts 20 = .ok (.ireturn, 1) := dk_172 (dk_at dksX0_setLifts_0 20 rfl rfl)
theorem dX0_setLifts_21 : decode cX0_setLifts 21 = .ok (.iconst 0, 1) := dk_3 (dk_at dksX0_setLifts_0 21 rfl rfl)
theorem dX0_setLifts_22 : decode cX0_setLifts 22 = .ok (.ireturn, 1) := dk_172 (dk_at dksX0_setLifts_0 22 rfl rfl)
abbrev cX0_lifts : ByteArray := method_8_code
def yX0_lifts : MethodName := ⟨RX0, "lifts", "(LScaffolder;I[J)I"⟩
def dkwX0_lifts_0 : List UInt8 := [44, 3, 42, 27, 182, 0, 33, 133, 80, 167, 0, 6, 78, 4, 172, 3, 172]
abbrev dktX0_lifts_0 : List UInt8 := dkwX0_lifts_0 ++ []
theorem dksX0_lifts_0 : cX0_lifts.data.toList.drop 0 = dktX0_lifts_0 := by decide +kernel
theorem dX0_lifts_0 : decode cX0_lifts 0 = .ok (.aload_n 2, 1) := dk_44 (dk_at dksX0_lifts_0 0 rfl rfl)
theorem dX0_lifts_1 : decode cX0_lifts 1 = .ok (.iconst 0, 1) := dk_3 (dk_at dksX0_lifts_0 1 rfl rfl)
theorem dX0_lifts_2 : decode cX0_lifts 2 = .ok (.aload_n 0, 1) := dk_42 (dk_at dksX0_lifts_0 2 rfl rfl)
theorem dX0_lifts_3 : decode cX0_lifts 3 = .ok (.iload_n 1, 1) := dk_27 (dk_at dksX0_lifts_0 3 rfl rfl)
theorem dX0_lifts_4 : decode cX0_lifts 4 = .ok (.invokevirtual 33, 3) := dk_182 0 33 (dk_at dksX0_lifts_0 4 rfl rfl)
theorem dX0_lifts_7 : decode cX0_lifts 7 = .ok (.i2l, 1) := dk_133 (dk_at dksX0_lifts_0 7 rfl rfl)
theorem dX0_lifts_8 : decode cX0_lifts 8 = .ok (.lastore, 1) := dk_80 (dk_at dksX0_lifts_0 8 rfl rfl)
theorem dX0_lifts_9 : decode cX0_lifts 9 = .ok (.goto 6, 3) := dk_167 0 6 (dk_at dksX0_lifts_0 9 rfl rfl)
theorem dX0_lifts_12 : decode cX0_lifts 12 = .ok (.astore_n 3, 1) := dk_78 (dk_at dksX0_lifts_0 12 rfl rfl)
theorem dX0_lifts_13 : decode cX0_lifts 13 = .ok (.iconst 1, 1) := dk_4 (dk_at dksX0_lifts_0 13 rfl rfl)
theorem dX0_lifts_14 : decode cX0_lifts 14 = .ok (.ireturn, 1) := dk_172 (dk_at dksX0_lifts_0 14 rfl rfl)
theorem dX0_lifts_15 : decode cX0_lifts 15 = .ok (.iconst 0, 1) := dk_3 (dk_at dksX0_lifts_0 15 rfl rfl)
theorem dX0_lifts_16 : decode cX0_lifts 16 = .ok (.ireturn, 1) := dk_172 (dk_at dksX0_lifts_0 16 rfl rfl)
abbrev cX0_levels : ByteArray := method_9_code
def yX0_levels : MethodName := ⟨RX0, "levels", "(LScaffolder;I[J)I"⟩
def dkwX0_levels_0 : List UInt8 := [44, 3, 42, 27, 182, 0, 36, 133, 80, 167, 0, 6, 78, 4, 172, 3, 172]
abbrev dktX0_levels_0 : List UInt8 := dkwX0_levels_0 ++ []
theorem dksX0_levels_0 : cX0_levels.data.toList.drop 0 = dktX0_levels_0 := by decide +kernel
theorem dX0_levels_0 : decode cX0_levels 0 = .ok (.aload_n 2, 1) := dk_44 (dk_at dksX0_levels_0 0 rfl rfl)
theorem dX0_levels_1 : decode cX0_levels 1 = .ok (.iconst 0, 1) := dk_3 (dk_at dksX0_levels_0 1 rfl rfl)
theorem dX0_levels_2 : decode cX0_levels 2 = .ok (.aload_n 0, 1) := dk_42 (dk_at dksX0_levels_0 2 rfl rfl)
theorem dX0_levels_3 : decode cX0_levels 3 = .ok (.iload_n 1, 1) := dk_27 (dk_at dksX0_levels_0 3 rfl rfl)
theorem dX0_levels_4 : decode cX0_levels 4 = .ok (.invokevirtual 36, 3) := dk_182 0 36 (dk_at dksX0_levels_0 4 rfl rfl)
theorem dX0_levels_7 : decode cX0_levels 7 = .ok (.i2l, 1) := dk_133 (dk_at dksX0_levels_0 7 rfl rfl)
theorem dX0_levels_8 : decode cX0_levels 8 = .ok (.lastore, 1) := dk_80 (dk_at dksX0_levels_0 8 rfl rfl)
theorem dX0_levels_9 : decode cX0_levels 9 = .ok (.goto 6, 3) := dk_167 0 6 (dk_at dksX0_levels_0 9 rfl rfl)
theorem dX0_levels_12 : decode cX0_levels 12 = .ok (.astore_n 3, 1) := dk_78 (dk_at dksX0_levels_0 12 rfl rfl)
theorem dX0_levels_13 : decode cX0_levels 13 = .ok (.iconst 1, 1) := dk_4 (dk_at dksX0_levels_0 13 rfl rfl)
theorem dX0_levels_14 : decode cX0_levels 14 = .ok (.ireturn, 1) := dk_172 (dk_at dksX0_levels_0 14 rfl rfl)
theorem dX0_levels_15 : decode cX0_levels 15 = .ok (.iconst 0, 1) := dk_3 (dk_at dksX0_levels_0 15 rfl rfl)
theorem dX0_levels_16 : decode cX0_levels 16 = .ok (.ireturn, 1) := dk_172 (dk_at dksX0_levels_0 16 rfl rfl)
abbrev cX0_board : ByteArray := method_10_code
def yX0_board : MethodName := ⟨RX0, "board", "(LScaffolder;IIZ[J)I"⟩
def dkwX0_board_1 : List UInt8 := [4, 172, 58, 5, 5, 172, 3, 172]
abbrev dktX0_board_1 : List UInt8 := dkwX0_board_1 ++ []
def dkwX0_board_0 : List UInt8 := [25, 4, 3, 42, 27, 28, 29, 182, 0, 39, 153, 0, 7, 10, 167, 0, 4, 9, 80, 167, 0, 11, 58, 5]
abbrev dktX0_board_0 : List UInt8 := dkwX0_board_0 ++ dktX0_board_1
theorem dksX0_board_0 : cX0_board.data.toList.drop 0 = dktX0_board_0 := by decide +kernel
theorem dksX0_board_1 : cX0_board.data.toList.drop 24 = dktX0_board_1 := dk_seg dksX0_board_0 24 rfl rfl
theorem dX0_board_0 : decode cX0_board 0 = .ok (.aload 4, 2) := dk_25 4 (dk_at dksX0_board_0 0 rfl rfl)
theorem dX0_board_2 : decode cX0_board 2 = .ok (.iconst 0, 1) := dk_3 (dk_at dksX0_board_0 2 rfl rfl)
theorem dX0_board_3 : decode cX0_board 3 = .ok (.aload_n 0, 1) := dk_42 (dk_at dksX0_board_0 3 rfl rfl)
theorem dX0_board_4 : decode cX0_board 4 = .ok (.iload_n 1, 1) := dk_27 (dk_at dksX0_board_0 4 rfl rfl)
theorem dX0_board_5 : decode cX0_board 5 = .ok (.iload_n 2, 1) := dk_28 (dk_at dksX0_board_0 5 rfl rfl)
theorem dX0_board_6 : decode cX0_board 6 = .ok (.iload_n 3, 1) := dk_29 (dk_at dksX0_board_0 6 rfl rfl)
theorem dX0_board_7 : decode cX0_board 7 = .ok (.invokevirtual 39, 3) := dk_182 0 39 (dk_at dksX0_board_0 7 rfl rfl)
theorem dX0_board_10 : decode cX0_board 10 = .ok (.ifCond .eq 7, 3) := dk_153 0 7 (dk_at dksX0_board_0 10 rfl rfl)
theorem dX0_board_13 : decode cX0_board 13 = .ok (.lconst 1, 1) := dk_10 (dk_at dksX0_board_0 13 rfl rfl)
theorem dX0_board_14 : decode cX0_board 14 = .ok (.goto 4, 3) := dk_167 0 4 (dk_at dksX0_board_0 14 rfl rfl)
theorem dX0_board_17 : decode cX0_board 17 = .ok (.lconst 0, 1) := dk_9 (dk_at dksX0_board_0 17 rfl rfl)
theorem dX0_board_18 : decode cX0_board 18 = .ok (.lastore, 1) := dk_80 (dk_at dksX0_board_0 18 rfl rfl)
theorem dX0_board_19 : decode cX0_board 19 = .ok (.goto 11, 3) := dk_167 0 11 (dk_at dksX0_board_0 19 rfl rfl)
theorem dX0_board_22 : decode cX0_board 22 = .ok (.astore 5, 2) := dk_58 5 (dk_at dksX0_board_0 22 rfl rfl)
theorem dX0_board_24 : decode cX0_board 24 = .ok (.iconst 1, 1) := dk_4 (dk_at dksX0_board_1 0 rfl rfl)
theorem dX0_board_25 : decode cX0_board 25 = .ok (.ireturn, 1) := dk_172 (dk_at dksX0_board_1 1 rfl rfl)
theorem dX0_board_26 : decode cX0_board 26 = .ok (.astore 5, 2) := dk_58 5 (dk_at dksX0_board_1 2 rfl rfl)
theorem dX0_board_28 : decode cX0_board 28 = .ok (.iconst 2, 1) := dk_5 (dk_at dksX0_board_1 4 rfl rfl)
theorem dX0_board_29 : decode cX0_board 29 = .ok (.ireturn, 1) := dk_172 (dk_at dksX0_board_1 5 rfl rfl)
theorem dX0_board_30 : decode cX0_board 30 = .ok (.iconst 0, 1) := dk_3 (dk_at dksX0_board_1 6 rfl rfl)
theorem dX0_board_31 : decode cX0_board 31 = .ok (.ireturn, 1) := dk_172 (dk_at dksX0_board_1 7 rfl rfl)
abbrev cX0_setClass : ByteArray := method_11_code
def yX0_setClass : MethodName := ⟨RX0, "setClass", "(LScaffolder;III[J)I"⟩
def dkwX0_setClass_1 : List UInt8 := [58, 5, 6, 172, 3, 172]
abbrev dktX0_setClass_1 : List UInt8 := dkwX0_setClass_1 ++ []
def dkwX0_setClass_0 : List UInt8 := [25, 4, 3, 42, 27, 28, 29, 182, 0, 43, 133, 80, 167, 0, 15, 58, 5, 4, 172, 58, 5, 5, 172]
abbrev dktX0_setClass_0 : List UInt8 := dkwX0_setClass_0 ++ dktX0_setClass_1
theorem dksX0_setClass_0 : cX0_setClass.data.toList.drop 0 = dktX0_setClass_0 := by decide +kernel
theorem dksX0_setClass_1 : cX0_setClass.data.toList.drop 23 = dktX0_setClass_1 := dk_seg dksX0_setClass_0 23 rfl rfl
theorem dX0_setClass_0 : decode cX0_setClass 0 = .ok (.aload 4, 2) := dk_25 4 (dk_at dksX0_setClass_0 0 rfl rfl)
theorem dX0_setClass_2 : decode cX0_setClass 2 = .ok (.iconst 0, 1) := dk_3 (dk_at dksX0_setClass_0 2 rfl rfl)
theorem dX0_setClass_3 : decode cX0_setClass 3 = .ok (.aload_n 0, 1) := dk_42 (dk_at dksX0_setClass_0 3 rfl rfl)
theorem dX0_setClass_4 : decode cX0_setClass 4 = .ok (.iload_n 1, 1) := dk_27 (dk_at dksX0_setClass_0 4 rfl rfl)
theorem dX0_setClass_5 : decode cX0_setClass 5 = .ok (.iload_n 2, 1) := dk_28 (dk_at dksX0_setClass_0 5 rfl rfl)
theorem dX0_setClass_6 : decode cX0_setClass 6 = .ok (.iload_n 3, 1) := dk_29 (dk_at dksX0_setClass_0 6 rfl rfl)
theorem dX0_setClass_7 : decode cX0_setClass 7 = .ok (.invokevirtual 43, 3) := dk_182 0 43 (dk_at dksX0_setClass_0 7 rfl rfl)
theorem dX0_setClass_10 : decode cX0_setClass 10 = .ok (.i2l, 1) := dk_133 (dk_at dksX0_setClass_0 10 rfl rfl)
theorem dX0_setClass_11 : decode cX0_setClass 11 = .ok (.lastore, 1) := dk_80 (dk_at dksX0_setClass_0 11 rfl rfl)
theorem dX0_setClass_12 : decode cX0_setClass 12 = .ok (.goto 15, 3) := dk_167 0 15 (dk_at dksX0_setClass_0 12 rfl rfl)
theorem dX0_setClass_15 : decode cX0_setClass 15 = .ok (.astore 5, 2) := dk_58 5 (dk_at dksX0_setClass_0 15 rfl rfl)
theorem dX0_setClass_17 : decode cX0_setClass 17 = .ok (.iconst 1, 1) := dk_4 (dk_at dksX0_setClass_0 17 rfl rfl)
theorem dX0_setClass_18 : decode cX0_setClass 18 = .ok (.ireturn, 1) := dk_172 (dk_at dksX0_setClass_0 18 rfl rfl)
theorem dX0_setClass_19 : decode cX0_setClass 19 = .ok (.astore 5, 2) := dk_58 5 (dk_at dksX0_setClass_0 19 rfl rfl)
theorem dX0_setClass_21 : decode cX0_setClass 21 = .ok (.iconst 2, 1) := dk_5 (dk_at dksX0_setClass_0 21 rfl rfl)
theorem dX0_setClass_22 : decode cX0_setClass 22 = .ok (.ireturn, 1) := dk_172 (dk_at dksX0_setClass_0 22 rfl rfl)
theorem dX0_setClass_23 : decode cX0_setClass 23 = .ok (.astore 5, 2) := dk_58 5 (dk_at dksX0_setClass_1 0 rfl rfl)
theorem dX0_setClass_25 : decode cX0_setClass 25 = .ok (.iconst 3, 1) := dk_6 (dk_at dksX0_setClass_1 2 rfl rfl)
theorem dX0_setClass_26 : decode cX0_setClass 26 = .ok (.ireturn, 1) := dk_172 (dk_at dksX0_setClass_1 3 rfl rfl)
theorem dX0_setClass_27 : decode cX0_setClass 27 = .ok (.iconst 0, 1) := dk_3 (dk_at dksX0_setClass_1 4 rfl rfl)
theorem dX0_setClass_28 : decode cX0_setClass 28 = .ok (.ireturn, 1) := dk_172 (dk_at dksX0_setClass_1 5 rfl rfl)
abbrev cX0_lay : ByteArray := method_12_code
def yX0_lay : MethodName := ⟨RX0, "lay", "(LScaffolder;III[J)I"⟩
def dkwX0_lay_1 : List UInt8 := [58, 5, 6, 172, 3, 172]
abbrev dktX0_lay_1 : List UInt8 := dkwX0_lay_1 ++ []
def dkwX0_lay_0 : List UInt8 := [25, 4, 3, 42, 27, 28, 29, 182, 0, 47, 133, 80, 167, 0, 15, 58, 5, 4, 172, 58, 5, 5, 172]
abbrev dktX0_lay_0 : List UInt8 := dkwX0_lay_0 ++ dktX0_lay_1
theorem dksX0_lay_0 : cX0_lay.data.toList.drop 0 = dktX0_lay_0 := by decide +kernel
theorem dksX0_lay_1 : cX0_lay.data.toList.drop 23 = dktX0_lay_1 := dk_seg dksX0_lay_0 23 rfl rfl
theorem dX0_lay_0 : decode cX0_lay 0 = .ok (.aload 4, 2) := dk_25 4 (dk_at dksX0_lay_0 0 rfl rfl)
theorem dX0_lay_2 : decode cX0_lay 2 = .ok (.iconst 0, 1) := dk_3 (dk_at dksX0_lay_0 2 rfl rfl)
theorem dX0_lay_3 : decode cX0_lay 3 = .ok (.aload_n 0, 1) := dk_42 (dk_at dksX0_lay_0 3 rfl rfl)
theorem dX0_lay_4 : decode cX0_lay 4 = .ok (.iload_n 1, 1) := dk_27 (dk_at dksX0_lay_0 4 rfl rfl)
theorem dX0_lay_5 : decode cX0_lay 5 = .ok (.iload_n 2, 1) := dk_28 (dk_at dksX0_lay_0 5 rfl rfl)
theorem dX0_lay_6 : decode cX0_lay 6 = .ok (.iload_n 3, 1) := dk_29 (dk_at dksX0_lay_0 6 rfl rfl)
theorem dX0_lay_7 : decode cX0_lay 7 = .ok (.invokevirtual 47, 3) := dk_182 0 47 (dk_at dksX0_lay_0 7 rfl rfl)
theorem dX0_lay_10 : decode cX0_lay 10 = .ok (.i2l, 1) := dk_133 (dk_at dksX0_lay_0 10 rfl rfl)
theorem dX0_lay_11 : decode cX0_lay 11 = .ok (.lastore, 1) := dk_80 (dk_at dksX0_lay_0 11 rfl rfl)
theorem dX0_lay_12 : decode cX0_lay 12 = .ok (.goto 15, 3) := dk_167 0 15 (dk_at dksX0_lay_0 12 rfl rfl)
theorem dX0_lay_15 : decode cX0_lay 15 = .ok (.astore 5, 2) := dk_58 5 (dk_at dksX0_lay_0 15 rfl rfl)
theorem dX0_lay_17 : decode cX0_lay 17 = .ok (.iconst 1, 1) := dk_4 (dk_at dksX0_lay_0 17 rfl rfl)
theorem dX0_lay_18 : decode cX0_lay 18 = .ok (.ireturn, 1) := dk_172 (dk_at dksX0_lay_0 18 rfl rfl)
theorem dX0_lay_19 : decode cX0_lay 19 = .ok (.astore 5, 2) := dk_58 5 (dk_at dksX0_lay_0 19 rfl rfl)
theorem dX0_lay_21 : decode cX0_lay 21 = .ok (.iconst 2, 1) := dk_5 (dk_at dksX0_lay_0 21 rfl rfl)
theorem dX0_lay_22 : decode cX0_lay 22 = .ok (.ireturn, 1) := dk_172 (dk_at dksX0_lay_0 22 rfl rfl)
theorem dX0_lay_23 : decode cX0_lay 23 = .ok (.astore 5, 2) := dk_58 5 (dk_at dksX0_lay_1 0 rfl rfl)
theorem dX0_lay_25 : decode cX0_lay 25 = .ok (.iconst 3, 1) := dk_6 (dk_at dksX0_lay_1 2 rfl rfl)
theorem dX0_lay_26 : decode cX0_lay 26 = .ok (.ireturn, 1) := dk_172 (dk_at dksX0_lay_1 3 rfl rfl)
theorem dX0_lay_27 : decode cX0_lay 27 = .ok (.iconst 0, 1) := dk_3 (dk_at dksX0_lay_1 4 rfl rfl)
theorem dX0_lay_28 : decode cX0_lay 28 = .ok (.ireturn, 1) := dk_172 (dk_at dksX0_lay_1 5 rfl rfl)
abbrev cX0_bayAt : ByteArray := method_13_code
def yX0_bayAt : MethodName := ⟨RX0, "bayAt", "(LScaffolder;III[J)I"⟩
def dkwX0_bayAt_1 : List UInt8 := [172]
abbrev dktX0_bayAt_1 : List UInt8 := dkwX0_bayAt_1 ++ []
def dkwX0_bayAt_0 : List UInt8 := [25, 4, 3, 42, 27, 28, 29, 182, 0, 50, 133, 80, 167, 0, 11, 58, 5, 4, 172, 58, 5, 5, 172, 3]
abbrev dktX0_bayAt_0 : List UInt8 := dkwX0_bayAt_0 ++ dktX0_bayAt_1
theorem dksX0_bayAt_0 : cX0_bayAt.data.toList.drop 0 = dktX0_bayAt_0 := by decide +kernel
theorem dksX0_bayAt_1 : cX0_bayAt.data.toList.drop 24 = dktX0_bayAt_1 := dk_seg dksX0_bayAt_0 24 rfl rfl
theorem dX0_bayAt_0 : decode cX0_bayAt 0 = .ok (.aload 4, 2) := dk_25 4 (dk_at dksX0_bayAt_0 0 rfl rfl)
theorem dX0_bayAt_2 : decode cX0_bayAt 2 = .ok (.iconst 0, 1) := dk_3 (dk_at dksX0_bayAt_0 2 rfl rfl)
theorem dX0_bayAt_3 : decode cX0_bayAt 3 = .ok (.aload_n 0, 1) := dk_42 (dk_at dksX0_bayAt_0 3 rfl rfl)
theorem dX0_bayAt_4 : decode cX0_bayAt 4 = .ok (.iload_n 1, 1) := dk_27 (dk_at dksX0_bayAt_0 4 rfl rfl)
theorem dX0_bayAt_5 : decode cX0_bayAt 5 = .ok (.iload_n 2, 1) := dk_28 (dk_at dksX0_bayAt_0 5 rfl rfl)
theorem dX0_bayAt_6 : decode cX0_bayAt 6 = .ok (.iload_n 3, 1) := dk_29 (dk_at dksX0_bayAt_0 6 rfl rfl)
theorem dX0_bayAt_7 : decode cX0_bayAt 7 = .ok (.invokevirtual 50, 3) := dk_182 0 50 (dk_at dksX0_bayAt_0 7 rfl rfl)
theorem dX0_bayAt_10 : decode cX0_bayAt 10 = .ok (.i2l, 1) := dk_133 (dk_at dksX0_bayAt_0 10 rfl rfl)
theorem dX0_bayAt_11 : decode cX0_bayAt 11 = .ok (.lastore, 1) := dk_80 (dk_at dksX0_bayAt_0 11 rfl rfl)
theorem dX0_bayAt_12 : decode cX0_bayAt 12 = .ok (.goto 11, 3) := dk_167 0 11 (dk_at dksX0_bayAt_0 12 rfl rfl)
theorem dX0_bayAt_15 : decode cX0_bayAt 15 = .ok (.astore 5, 2) := dk_58 5 (dk_at dksX0_bayAt_0 15 rfl rfl)
theorem dX0_bayAt_17 : decode cX0_bayAt 17 = .ok (.iconst 1, 1) := dk_4 (dk_at dksX0_bayAt_0 17 rfl rfl)
theorem dX0_bayAt_18 : decode cX0_bayAt 18 = .ok (.ireturn, 1) := dk_172 (dk_at dksX0_bayAt_0 18 rfl rfl)
theorem dX0_bayAt_19 : decode cX0_bayAt 19 = .ok (.astore 5, 2) := dk_58 5 (dk_at dksX0_bayAt_0 19 rfl rfl)
theorem dX0_bayAt_21 : decode cX0_bayAt 21 = .ok (.iconst 2, 1) := dk_5 (dk_at dksX0_bayAt_0 21 rfl rfl)
theorem dX0_bayAt_22 : decode cX0_bayAt 22 = .ok (.ireturn, 1) := dk_172 (dk_at dksX0_bayAt_0 22 rfl rfl)
theorem dX0_bayAt_23 : decode cX0_bayAt 23 = .ok (.iconst 0, 1) := dk_3 (dk_at dksX0_bayAt_0 23 rfl rfl)
theorem dX0_bayAt_24 : decode cX0_bayAt 24 = .ok (.ireturn, 1) := dk_172 (dk_at dksX0_bayAt_1 0 rfl rfl)
abbrev cX0_cut : ByteArray := method_14_code
def yX0_cut : MethodName := ⟨RX0, "cut", "(LScaffolder;IIZ[J)I"⟩
def dkwX0_cut_1 : List UInt8 := [4, 172, 3, 172]
abbrev dktX0_cut_1 : List UInt8 := dkwX0_cut_1 ++ []
def dkwX0_cut_0 : List UInt8 := [25, 4, 3, 42, 27, 28, 29, 182, 0, 53, 153, 0, 7, 10, 167, 0, 4, 9, 80, 167, 0, 7, 58, 5]
abbrev dktX0_cut_0 : List UInt8 := dkwX0_cut_0 ++ dktX0_cut_1
theorem dksX0_cut_0 : cX0_cut.data.toList.drop 0 = dktX0_cut_0 := by decide +kernel
theorem dksX0_cut_1 : cX0_cut.data.toList.drop 24 = dktX0_cut_1 := dk_seg dksX0_cut_0 24 rfl rfl
theorem dX0_cut_0 : decode cX0_cut 0 = .ok (.aload 4, 2) := dk_25 4 (dk_at dksX0_cut_0 0 rfl rfl)
theorem dX0_cut_2 : decode cX0_cut 2 = .ok (.iconst 0, 1) := dk_3 (dk_at dksX0_cut_0 2 rfl rfl)
theorem dX0_cut_3 : decode cX0_cut 3 = .ok (.aload_n 0, 1) := dk_42 (dk_at dksX0_cut_0 3 rfl rfl)
theorem dX0_cut_4 : decode cX0_cut 4 = .ok (.iload_n 1, 1) := dk_27 (dk_at dksX0_cut_0 4 rfl rfl)
theorem dX0_cut_5 : decode cX0_cut 5 = .ok (.iload_n 2, 1) := dk_28 (dk_at dksX0_cut_0 5 rfl rfl)
theorem dX0_cut_6 : decode cX0_cut 6 = .ok (.iload_n 3, 1) := dk_29 (dk_at dksX0_cut_0 6 rfl rfl)
theorem dX0_cut_7 : decode cX0_cut 7 = .ok (.invokevirtual 53, 3) := dk_182 0 53 (dk_at dksX0_cut_0 7 rfl rfl)
theorem dX0_cut_10 : decode cX0_cut 10 = .ok (.ifCond .eq 7, 3) := dk_153 0 7 (dk_at dksX0_cut_0 10 rfl rfl)
theorem dX0_cut_13 : decode cX0_cut 13 = .ok (.lconst 1, 1) := dk_10 (dk_at dksX0_cut_0 13 rfl rfl)
theorem dX0_cut_14 : decode cX0_cut 14 = .ok (.goto 4, 3) := dk_167 0 4 (dk_at dksX0_cut_0 14 rfl rfl)
theorem dX0_cut_17 : decode cX0_cut 17 = .ok (.lconst 0, 1) := dk_9 (dk_at dksX0_cut_0 17 rfl rfl)
theorem dX0_cut_18 : decode cX0_cut 18 = .ok (.lastore, 1) := dk_80 (dk_at dksX0_cut_0 18 rfl rfl)
theorem dX0_cut_19 : decode cX0_cut 19 = .ok (.goto 7, 3) := dk_167 0 7 (dk_at dksX0_cut_0 19 rfl rfl)
theorem dX0_cut_22 : decode cX0_cut 22 = .ok (.astore 5, 2) := dk_58 5 (dk_at dksX0_cut_0 22 rfl rfl)
theorem dX0_cut_24 : decode cX0_cut 24 = .ok (.iconst 1, 1) := dk_4 (dk_at dksX0_cut_1 0 rfl rfl)
theorem dX0_cut_25 : decode cX0_cut 25 = .ok (.ireturn, 1) := dk_172 (dk_at dksX0_cut_1 1 rfl rfl)
theorem dX0_cut_26 : decode cX0_cut 26 = .ok (.iconst 0, 1) := dk_3 (dk_at dksX0_cut_1 2 rfl rfl)
theorem dX0_cut_27 : decode cX0_cut 27 = .ok (.ireturn, 1) := dk_172 (dk_at dksX0_cut_1 3 rfl rfl)
abbrev cX0_setLimit : ByteArray := method_15_code
def yX0_setLimit : MethodName := ⟨RX0, "setLimit", "(LScaffolder;I[J)I"⟩
def dkwX0_setLimit_0 : List UInt8 := [44, 3, 42, 27, 182, 0, 56, 133, 80, 167, 0, 6, 78, 4, 172, 3, 172]
abbrev dktX0_setLimit_0 : List UInt8 := dkwX0_setLimit_0 ++ []
theorem dksX0_setLimit_0 : cX0_setLimit.data.toList.drop 0 = dktX0_setLimit_0 := by decide +kernel
theorem dX0_setLimit_0 : decode cX0_setLimit 0 = .ok (.aload_n 2, 1) := dk_44 (dk_at dksX0_setLimit_0 0 rfl rfl)
theorem dX0_setLimit_1 : decode cX0_setLimit 1 = .ok (.iconst 0, 1) := dk_3 (dk_at dksX0_setLimit_0 1 rfl rfl)
theorem dX0_setLimit_2 : decode cX0_setLimit 2 = .ok (.aload_n 0, 1) := dk_42 (dk_at dksX0_setLimit_0 2 rfl rfl)
theorem dX0_setLimit_3 : decode cX0_setLimit 3 = .ok (.iload_n 1, 1) := dk_27 (dk_at dksX0_setLimit_0 3 rfl rfl)
theorem dX0_setLimit_4 : decode cX0_setLimit 4 = .ok (.invokevirtual 56, 3) := dk_182 0 56 (dk_at dksX0_setLimit_0 4 rfl rfl)
theorem dX0_setLimit_7 : decode cX0_setLimit 7 = .ok (.i2l, 1) := dk_133 (dk_at dksX0_setLimit_0 7 rfl rfl)
theorem dX0_setLimit_8 : decode cX0_setLimit 8 = .ok (.lastore, 1) := dk_80 (dk_at dksX0_setLimit_0 8 rfl rfl)
theorem dX0_setLimit_9 : decode cX0_setLimit 9 = .ok (.goto 6, 3) := dk_167 0 6 (dk_at dksX0_setLimit_0 9 rfl rfl)
theorem dX0_setLimit_12 : decode cX0_setLimit 12 = .ok (.astore_n 3, 1) := dk_78 (dk_at dksX0_setLimit_0 12 rfl rfl)
theorem dX0_setLimit_13 : decode cX0_setLimit 13 = .ok (.iconst 1, 1) := dk_4 (dk_at dksX0_setLimit_0 13 rfl rfl)
theorem dX0_setLimit_14 : decode cX0_setLimit 14 = .ok (.ireturn, 1) := dk_172 (dk_at dksX0_setLimit_0 14 rfl rfl)
theorem dX0_setLimit_15 : decode cX0_setLimit 15 = .ok (.iconst 0, 1) := dk_3 (dk_at dksX0_setLimit_0 15 rfl rfl)
theorem dX0_setLimit_16 : decode cX0_setLimit 16 = .ok (.ireturn, 1) := dk_172 (dk_at dksX0_setLimit_0 16 rfl rfl)
abbrev cX0_tieOf : ByteArray := method_16_code
def yX0_tieOf : MethodName := ⟨RX0, "tieOf", "(LScaffolder;II[J)I"⟩
def dkwX0_tieOf_0 : List UInt8 := [45, 3, 42, 27, 28, 182, 0, 59, 133, 80, 167, 0, 7, 58, 4, 4, 172, 3, 172]
abbrev dktX0_tieOf_0 : List UInt8 := dkwX0_tieOf_0 ++ []
theorem dksX0_tieOf_0 : cX0_tieOf.data.toList.drop 0 = dktX0_tieOf_0 := by decide +kernel
theorem dX0_tieOf_0 : decode cX0_tieOf 0 = .ok (.aload_n 3, 1) := dk_45 (dk_at dksX0_tieOf_0 0 rfl rfl)
theorem dX0_tieOf_1 : decode cX0_tieOf 1 = .ok (.iconst 0, 1) := dk_3 (dk_at dksX0_tieOf_0 1 rfl rfl)
theorem dX0_tieOf_2 : decode cX0_tieOf 2 = .ok (.aload_n 0, 1) := dk_42 (dk_at dksX0_tieOf_0 2 rfl rfl)
theorem dX0_tieOf_3 : decode cX0_tieOf 3 = .ok (.iload_n 1, 1) := dk_27 (dk_at dksX0_tieOf_0 3 rfl rfl)
theorem dX0_tieOf_4 : decode cX0_tieOf 4 = .ok (.iload_n 2, 1) := dk_28 (dk_at dksX0_tieOf_0 4 rfl rfl)
theorem dX0_tieOf_5 : decode cX0_tieOf 5 = .ok (.invokevirtual 59, 3) := dk_182 0 59 (dk_at dksX0_tieOf_0 5 rfl rfl)
theorem dX0_tieOf_8 : decode cX0_tieOf 8 = .ok (.i2l, 1) := dk_133 (dk_at dksX0_tieOf_0 8 rfl rfl)
theorem dX0_tieOf_9 : decode cX0_tieOf 9 = .ok (.lastore, 1) := dk_80 (dk_at dksX0_tieOf_0 9 rfl rfl)
theorem dX0_tieOf_10 : decode cX0_tieOf 10 = .ok (.goto 7, 3) := dk_167 0 7 (dk_at dksX0_tieOf_0 10 rfl rfl)
theorem dX0_tieOf_13 : decode cX0_tieOf 13 = .ok (.astore 4, 2) := dk_58 4 (dk_at dksX0_tieOf_0 13 rfl rfl)
theorem dX0_tieOf_15 : decode cX0_tieOf 15 = .ok (.iconst 1, 1) := dk_4 (dk_at dksX0_tieOf_0 15 rfl rfl)
theorem dX0_tieOf_16 : decode cX0_tieOf 16 = .ok (.ireturn, 1) := dk_172 (dk_at dksX0_tieOf_0 16 rfl rfl)
theorem dX0_tieOf_17 : decode cX0_tieOf 17 = .ok (.iconst 0, 1) := dk_3 (dk_at dksX0_tieOf_0 17 rfl rfl)
theorem dX0_tieOf_18 : decode cX0_tieOf 18 = .ok (.ireturn, 1) := dk_172 (dk_at dksX0_tieOf_0 18 rfl rfl)
abbrev cX0_hasTie : ByteArray := method_17_code
def yX0_hasTie : MethodName := ⟨RX0, "hasTie", "(LScaffolder;II[J)I"⟩
def dkwX0_hasTie_1 : List UInt8 := [3, 172]
abbrev dktX0_hasTie_1 : List UInt8 := dkwX0_hasTie_1 ++ []
def dkwX0_hasTie_0 : List UInt8 := [45, 3, 42, 27, 28, 182, 0, 62, 153, 0, 7, 10, 167, 0, 4, 9, 80, 167, 0, 7, 58, 4, 4, 172]
abbrev dktX0_hasTie_0 : List UInt8 := dkwX0_hasTie_0 ++ dktX0_hasTie_1
theorem dksX0_hasTie_0 : cX0_hasTie.data.toList.drop 0 = dktX0_hasTie_0 := by decide +kernel
theorem dksX0_hasTie_1 : cX0_hasTie.data.toList.drop 24 = dktX0_hasTie_1 := dk_seg dksX0_hasTie_0 24 rfl rfl
theorem dX0_hasTie_0 : decode cX0_hasTie 0 = .ok (.aload_n 3, 1) := dk_45 (dk_at dksX0_hasTie_0 0 rfl rfl)
theorem dX0_hasTie_1 : decode cX0_hasTie 1 = .ok (.iconst 0, 1) := dk_3 (dk_at dksX0_hasTie_0 1 rfl rfl)
theorem dX0_hasTie_2 : decode cX0_hasTie 2 = .ok (.aload_n 0, 1) := dk_42 (dk_at dksX0_hasTie_0 2 rfl rfl)
theorem dX0_hasTie_3 : decode cX0_hasTie 3 = .ok (.iload_n 1, 1) := dk_27 (dk_at dksX0_hasTie_0 3 rfl rfl)
theorem dX0_hasTie_4 : decode cX0_hasTie 4 = .ok (.iload_n 2, 1) := dk_28 (dk_at dksX0_hasTie_0 4 rfl rfl)
theorem dX0_hasTie_5 : decode cX0_hasTie 5 = .ok (.invokevirtual 62, 3) := dk_182 0 62 (dk_at dksX0_hasTie_0 5 rfl rfl)
theorem dX0_hasTie_8 : decode cX0_hasTie 8 = .ok (.ifCond .eq 7, 3) := dk_153 0 7 (dk_at dksX0_hasTie_0 8 rfl rfl)
theorem dX0_hasTie_11 : decode cX0_hasTie 11 = .ok (.lconst 1, 1) := dk_10 (dk_at dksX0_hasTie_0 11 rfl rfl)
theorem dX0_hasTie_12 : decode cX0_hasTie 12 = .ok (.goto 4, 3) := dk_167 0 4 (dk_at dksX0_hasTie_0 12 rfl rfl)
theorem dX0_hasTie_15 : decode cX0_hasTie 15 = .ok (.lconst 0, 1) := dk_9 (dk_at dksX0_hasTie_0 15 rfl rfl)
theorem dX0_hasTie_16 : decode cX0_hasTie 16 = .ok (.lastore, 1) := dk_80 (dk_at dksX0_hasTie_0 16 rfl rfl)
theorem dX0_hasTie_17 : decode cX0_hasTie 17 = .ok (.goto 7, 3) := dk_167 0 7 (dk_at dksX0_hasTie_0 17 rfl rfl)
theorem dX0_hasTie_20 : decode cX0_hasTie 20 = .ok (.astore 4, 2) := dk_58 4 (dk_at dksX0_hasTie_0 20 rfl rfl)
theorem dX0_hasTie_22 : decode cX0_hasTie 22 = .ok (.iconst 1, 1) := dk_4 (dk_at dksX0_hasTie_0 22 rfl rfl)
theorem dX0_hasTie_23 : decode cX0_hasTie 23 = .ok (.ireturn, 1) := dk_172 (dk_at dksX0_hasTie_0 23 rfl rfl)
theorem dX0_hasTie_24 : decode cX0_hasTie 24 = .ok (.iconst 0, 1) := dk_3 (dk_at dksX0_hasTie_1 0 rfl rfl)
theorem dX0_hasTie_25 : decode cX0_hasTie 25 = .ok (.ireturn, 1) := dk_172 (dk_at dksX0_hasTie_1 1 rfl rfl)
abbrev cX0_missing : ByteArray := method_18_code
def yX0_missing : MethodName := ⟨RX0, "missing", "(LScaffolder;I[J)I"⟩
def dkwX0_missing_0 : List UInt8 := [44, 3, 42, 27, 182, 0, 66, 133, 80, 167, 0, 6, 78, 4, 172, 3, 172]
abbrev dktX0_missing_0 : List UInt8 := dkwX0_missing_0 ++ []
theorem dksX0_missing_0 : cX0_missing.data.toList.drop 0 = dktX0_missing_0 := by decide +kernel
theorem dX0_missing_0 : decode cX0_missing 0 = .ok (.aload_n 2, 1) := dk_44 (dk_at dksX0_missing_0 0 rfl rfl)
theorem dX0_missing_1 : decode cX0_missing 1 = .ok (.iconst 0, 1) := dk_3 (dk_at dksX0_missing_0 1 rfl rfl)
theorem dX0_missing_2 : decode cX0_missing 2 = .ok (.aload_n 0, 1) := dk_42 (dk_at dksX0_missing_0 2 rfl rfl)
theorem dX0_missing_3 : decode cX0_missing 3 = .ok (.iload_n 1, 1) := dk_27 (dk_at dksX0_missing_0 3 rfl rfl)
theorem dX0_missing_4 : decode cX0_missing 4 = .ok (.invokevirtual 66, 3) := dk_182 0 66 (dk_at dksX0_missing_0 4 rfl rfl)
theorem dX0_missing_7 : decode cX0_missing 7 = .ok (.i2l, 1) := dk_133 (dk_at dksX0_missing_0 7 rfl rfl)
theorem dX0_missing_8 : decode cX0_missing 8 = .ok (.lastore, 1) := dk_80 (dk_at dksX0_missing_0 8 rfl rfl)
theorem dX0_missing_9 : decode cX0_missing 9 = .ok (.goto 6, 3) := dk_167 0 6 (dk_at dksX0_missing_0 9 rfl rfl)
theorem dX0_missing_12 : decode cX0_missing 12 = .ok (.astore_n 3, 1) := dk_78 (dk_at dksX0_missing_0 12 rfl rfl)
theorem dX0_missing_13 : decode cX0_missing 13 = .ok (.iconst 1, 1) := dk_4 (dk_at dksX0_missing_0 13 rfl rfl)
theorem dX0_missing_14 : decode cX0_missing 14 = .ok (.ireturn, 1) := dk_172 (dk_at dksX0_missing_0 14 rfl rfl)
theorem dX0_missing_15 : decode cX0_missing 15 = .ok (.iconst 0, 1) := dk_3 (dk_at dksX0_missing_0 15 rfl rfl)
theorem dX0_missing_16 : decode cX0_missing 16 = .ok (.ireturn, 1) := dk_172 (dk_at dksX0_missing_0 16 rfl rfl)
abbrev cX0_load : ByteArray := method_19_code
def yX0_load : MethodName := ⟨RX0, "load", "(LScaffolder;IIZ[J)I"⟩
def dkwX0_load_0 : List UInt8 := [25, 4, 3, 42, 27, 28, 29, 182, 0, 69, 133, 80, 167, 0, 7, 58, 5, 4, 172, 3, 172]
abbrev dktX0_load_0 : List UInt8 := dkwX0_load_0 ++ []
theorem dksX0_load_0 : cX0_load.data.toList.drop 0 = dktX0_load_0 := by decide +kernel
theorem dX0_load_0 : decode cX0_load 0 = .ok (.aload 4, 2) := dk_25 4 (dk_at dksX0_load_0 0 rfl rfl)
theorem dX0_load_2 : decode cX0_load 2 = .ok (.iconst 0, 1) := dk_3 (dk_at dksX0_load_0 2 rfl rfl)
theorem dX0_load_3 : decode cX0_load 3 = .ok (.aload_n 0, 1) := dk_42 (dk_at dksX0_load_0 3 rfl rfl)
theorem dX0_load_4 : decode cX0_load 4 = .ok (.iload_n 1, 1) := dk_27 (dk_at dksX0_load_0 4 rfl rfl)
theorem dX0_load_5 : decode cX0_load 5 = .ok (.iload_n 2, 1) := dk_28 (dk_at dksX0_load_0 5 rfl rfl)
theorem dX0_load_6 : decode cX0_load 6 = .ok (.iload_n 3, 1) := dk_29 (dk_at dksX0_load_0 6 rfl rfl)
theorem dX0_load_7 : decode cX0_load 7 = .ok (.invokevirtual 69, 3) := dk_182 0 69 (dk_at dksX0_load_0 7 rfl rfl)
theorem dX0_load_10 : decode cX0_load 10 = .ok (.i2l, 1) := dk_133 (dk_at dksX0_load_0 10 rfl rfl)
theorem dX0_load_11 : decode cX0_load 11 = .ok (.lastore, 1) := dk_80 (dk_at dksX0_load_0 11 rfl rfl)
theorem dX0_load_12 : decode cX0_load 12 = .ok (.goto 7, 3) := dk_167 0 7 (dk_at dksX0_load_0 12 rfl rfl)
theorem dX0_load_15 : decode cX0_load 15 = .ok (.astore 5, 2) := dk_58 5 (dk_at dksX0_load_0 15 rfl rfl)
theorem dX0_load_17 : decode cX0_load 17 = .ok (.iconst 1, 1) := dk_4 (dk_at dksX0_load_0 17 rfl rfl)
theorem dX0_load_18 : decode cX0_load 18 = .ok (.ireturn, 1) := dk_172 (dk_at dksX0_load_0 18 rfl rfl)
theorem dX0_load_19 : decode cX0_load 19 = .ok (.iconst 0, 1) := dk_3 (dk_at dksX0_load_0 19 rfl rfl)
theorem dX0_load_20 : decode cX0_load 20 = .ok (.ireturn, 1) := dk_172 (dk_at dksX0_load_0 20 rfl rfl)
abbrev cX0_bears : ByteArray := method_20_code
def yX0_bears : MethodName := ⟨RX0, "bears", "(LScaffolder;I[J)I"⟩
def dkwX0_bears_0 : List UInt8 := [44, 3, 42, 27, 182, 0, 73, 133, 80, 167, 0, 6, 78, 4, 172, 3, 172]
abbrev dktX0_bears_0 : List UInt8 := dkwX0_bears_0 ++ []
theorem dksX0_bears_0 : cX0_bears.data.toList.drop 0 = dktX0_bears_0 := by decide +kernel
theorem dX0_bears_0 : decode cX0_bears 0 = .ok (.aload_n 2, 1) := dk_44 (dk_at dksX0_bears_0 0 rfl rfl)
theorem dX0_bears_1 : decode cX0_bears 1 = .ok (.iconst 0, 1) := dk_3 (dk_at dksX0_bears_0 1 rfl rfl)
theorem dX0_bears_2 : decode cX0_bears 2 = .ok (.aload_n 0, 1) := dk_42 (dk_at dksX0_bears_0 2 rfl rfl)
theorem dX0_bears_3 : decode cX0_bears 3 = .ok (.iload_n 1, 1) := dk_27 (dk_at dksX0_bears_0 3 rfl rfl)
theorem dX0_bears_4 : decode cX0_bears 4 = .ok (.invokevirtual 73, 3) := dk_182 0 73 (dk_at dksX0_bears_0 4 rfl rfl)
theorem dX0_bears_7 : decode cX0_bears 7 = .ok (.i2l, 1) := dk_133 (dk_at dksX0_bears_0 7 rfl rfl)
theorem dX0_bears_8 : decode cX0_bears 8 = .ok (.lastore, 1) := dk_80 (dk_at dksX0_bears_0 8 rfl rfl)
theorem dX0_bears_9 : decode cX0_bears 9 = .ok (.goto 6, 3) := dk_167 0 6 (dk_at dksX0_bears_0 9 rfl rfl)
theorem dX0_bears_12 : decode cX0_bears 12 = .ok (.astore_n 3, 1) := dk_78 (dk_at dksX0_bears_0 12 rfl rfl)
theorem dX0_bears_13 : decode cX0_bears 13 = .ok (.iconst 1, 1) := dk_4 (dk_at dksX0_bears_0 13 rfl rfl)
theorem dX0_bears_14 : decode cX0_bears 14 = .ok (.ireturn, 1) := dk_172 (dk_at dksX0_bears_0 14 rfl rfl)
theorem dX0_bears_15 : decode cX0_bears 15 = .ok (.iconst 0, 1) := dk_3 (dk_at dksX0_bears_0 15 rfl rfl)
theorem dX0_bears_16 : decode cX0_bears 16 = .ok (.ireturn, 1) := dk_172 (dk_at dksX0_bears_0 16 rfl rfl)
abbrev cX0_inspect : ByteArray := method_21_code
def yX0_inspect : MethodName := ⟨RX0, "inspect", "(LScaffolder;I[J)I"⟩
def dkwX0_inspect_0 : List UInt8 := [44, 3, 42, 27, 182, 0, 76, 133, 80, 167, 0, 6, 78, 4, 172, 3, 172]
abbrev dktX0_inspect_0 : List UInt8 := dkwX0_inspect_0 ++ []
theorem dksX0_inspect_0 : cX0_inspect.data.toList.drop 0 = dktX0_inspect_0 := by decide +kernel
theorem dX0_inspect_0 : decode cX0_inspect 0 = .ok (.aload_n 2, 1) := dk_44 (dk_at dksX0_inspect_0 0 rfl rfl)
theorem dX0_inspect_1 : decode cX0_inspect 1 = .ok (.iconst 0, 1) := dk_3 (dk_at dksX0_inspect_0 1 rfl rfl)
theorem dX0_inspect_2 : decode cX0_inspect 2 = .ok (.aload_n 0, 1) := dk_42 (dk_at dksX0_inspect_0 2 rfl rfl)
theorem dX0_inspect_3 : decode cX0_inspect 3 = .ok (.iload_n 1, 1) := dk_27 (dk_at dksX0_inspect_0 3 rfl rfl)
theorem dX0_inspect_4 : decode cX0_inspect 4 = .ok (.invokevirtual 76, 3) := dk_182 0 76 (dk_at dksX0_inspect_0 4 rfl rfl)
theorem dX0_inspect_7 : decode cX0_inspect 7 = .ok (.i2l, 1) := dk_133 (dk_at dksX0_inspect_0 7 rfl rfl)
theorem dX0_inspect_8 : decode cX0_inspect 8 = .ok (.lastore, 1) := dk_80 (dk_at dksX0_inspect_0 8 rfl rfl)
theorem dX0_inspect_9 : decode cX0_inspect 9 = .ok (.goto 6, 3) := dk_167 0 6 (dk_at dksX0_inspect_0 9 rfl rfl)
theorem dX0_inspect_12 : decode cX0_inspect 12 = .ok (.astore_n 3, 1) := dk_78 (dk_at dksX0_inspect_0 12 rfl rfl)
theorem dX0_inspect_13 : decode cX0_inspect 13 = .ok (.iconst 1, 1) := dk_4 (dk_at dksX0_inspect_0 13 rfl rfl)
theorem dX0_inspect_14 : decode cX0_inspect 14 = .ok (.ireturn, 1) := dk_172 (dk_at dksX0_inspect_0 14 rfl rfl)
theorem dX0_inspect_15 : decode cX0_inspect 15 = .ok (.iconst 0, 1) := dk_3 (dk_at dksX0_inspect_0 15 rfl rfl)
theorem dX0_inspect_16 : decode cX0_inspect 16 = .ok (.ireturn, 1) := dk_172 (dk_at dksX0_inspect_0 16 rfl rfl)
abbrev cX0_tag : ByteArray := method_22_code
def yX0_tag : MethodName := ⟨RX0, "tag", "(LScaffolder;I[J)I"⟩
def dkwX0_tag_0 : List UInt8 := [44, 3, 42, 27, 182, 0, 79, 133, 80, 167, 0, 6, 78, 4, 172, 3, 172]
abbrev dktX0_tag_0 : List UInt8 := dkwX0_tag_0 ++ []
theorem dksX0_tag_0 : cX0_tag.data.toList.drop 0 = dktX0_tag_0 := by decide +kernel
theorem dX0_tag_0 : decode cX0_tag 0 = .ok (.aload_n 2, 1) := dk_44 (dk_at dksX0_tag_0 0 rfl rfl)
theorem dX0_tag_1 : decode cX0_tag 1 = .ok (.iconst 0, 1) := dk_3 (dk_at dksX0_tag_0 1 rfl rfl)
theorem dX0_tag_2 : decode cX0_tag 2 = .ok (.aload_n 0, 1) := dk_42 (dk_at dksX0_tag_0 2 rfl rfl)
theorem dX0_tag_3 : decode cX0_tag 3 = .ok (.iload_n 1, 1) := dk_27 (dk_at dksX0_tag_0 3 rfl rfl)
theorem dX0_tag_4 : decode cX0_tag 4 = .ok (.invokevirtual 79, 3) := dk_182 0 79 (dk_at dksX0_tag_0 4 rfl rfl)
theorem dX0_tag_7 : decode cX0_tag 7 = .ok (.i2l, 1) := dk_133 (dk_at dksX0_tag_0 7 rfl rfl)
theorem dX0_tag_8 : decode cX0_tag 8 = .ok (.lastore, 1) := dk_80 (dk_at dksX0_tag_0 8 rfl rfl)
theorem dX0_tag_9 : decode cX0_tag 9 = .ok (.goto 6, 3) := dk_167 0 6 (dk_at dksX0_tag_0 9 rfl rfl)
theorem dX0_tag_12 : decode cX0_tag 12 = .ok (.astore_n 3, 1) := dk_78 (dk_at dksX0_tag_0 12 rfl rfl)
theorem dX0_tag_13 : decode cX0_tag 13 = .ok (.iconst 1, 1) := dk_4 (dk_at dksX0_tag_0 13 rfl rfl)
theorem dX0_tag_14 : decode cX0_tag 14 = .ok (.ireturn, 1) := dk_172 (dk_at dksX0_tag_0 14 rfl rfl)
theorem dX0_tag_15 : decode cX0_tag 15 = .ok (.iconst 0, 1) := dk_3 (dk_at dksX0_tag_0 15 rfl rfl)
theorem dX0_tag_16 : decode cX0_tag 16 = .ok (.ireturn, 1) := dk_172 (dk_at dksX0_tag_0 16 rfl rfl)
abbrev cX0_parts : ByteArray := method_23_code
def yX0_parts : MethodName := ⟨RX0, "parts", "(LScaffolder;II[J)I"⟩
def dkwX0_parts_0 : List UInt8 := [45, 3, 42, 27, 28, 182, 0, 82, 133, 80, 167, 0, 11, 58, 4, 4, 172, 58, 4, 5, 172, 3, 172]
abbrev dktX0_parts_0 : List UInt8 := dkwX0_parts_0 ++ []
theorem dksX0_parts_0 : cX0_parts.data.toList.drop 0 = dktX0_parts_0 := by decide +kernel
theorem dX0_parts_0 : decode cX0_parts 0 = .ok (.aload_n 3, 1) := dk_45 (dk_at dksX0_parts_0 0 rfl rfl)
theorem dX0_parts_1 : decode cX0_parts 1 = .ok (.iconst 0, 1) := dk_3 (dk_at dksX0_parts_0 1 rfl rfl)
theorem dX0_parts_2 : decode cX0_parts 2 = .ok (.aload_n 0, 1) := dk_42 (dk_at dksX0_parts_0 2 rfl rfl)
theorem dX0_parts_3 : decode cX0_parts 3 = .ok (.iload_n 1, 1) := dk_27 (dk_at dksX0_parts_0 3 rfl rfl)
theorem dX0_parts_4 : decode cX0_parts 4 = .ok (.iload_n 2, 1) := dk_28 (dk_at dksX0_parts_0 4 rfl rfl)
theorem dX0_parts_5 : decode cX0_parts 5 = .ok (.invokevirtual 82, 3) := dk_182 0 82 (dk_at dksX0_parts_0 5 rfl rfl)
theorem dX0_parts_8 : decode cX0_parts 8 = .ok (.i2l, 1) := dk_133 (dk_at dksX0_parts_0 8 rfl rfl)
theorem dX0_parts_9 : decode cX0_parts 9 = .ok (.lastore, 1) := dk_80 (dk_at dksX0_parts_0 9 rfl rfl)
theorem dX0_parts_10 : decode cX0_parts 10 = .ok (.goto 11, 3) := dk_167 0 11 (dk_at dksX0_parts_0 10 rfl rfl)
theorem dX0_parts_13 : decode cX0_parts 13 = .ok (.astore 4, 2) := dk_58 4 (dk_at dksX0_parts_0 13 rfl rfl)
theorem dX0_parts_15 : decode cX0_parts 15 = .ok (.iconst 1, 1) := dk_4 (dk_at dksX0_parts_0 15 rfl rfl)
theorem dX0_parts_16 : decode cX0_parts 16 = .ok (.ireturn, 1) := dk_172 (dk_at dksX0_parts_0 16 rfl rfl)
theorem dX0_parts_17 : decode cX0_parts 17 = .ok (.astore 4, 2) := dk_58 4 (dk_at dksX0_parts_0 17 rfl rfl)
theorem dX0_parts_19 : decode cX0_parts 19 = .ok (.iconst 2, 1) := dk_5 (dk_at dksX0_parts_0 19 rfl rfl)
theorem dX0_parts_20 : decode cX0_parts 20 = .ok (.ireturn, 1) := dk_172 (dk_at dksX0_parts_0 20 rfl rfl)
theorem dX0_parts_21 : decode cX0_parts 21 = .ok (.iconst 0, 1) := dk_3 (dk_at dksX0_parts_0 21 rfl rfl)
theorem dX0_parts_22 : decode cX0_parts 22 = .ok (.ireturn, 1) := dk_172 (dk_at dksX0_parts_0 22 rfl rfl)
abbrev cX0_weakest : ByteArray := method_24_code
def yX0_weakest : MethodName := ⟨RX0, "weakest", "(LScaffolder;I[J)I"⟩
def dkwX0_weakest_0 : List UInt8 := [44, 3, 42, 27, 182, 0, 85, 133, 80, 167, 0, 6, 78, 4, 172, 3, 172]
abbrev dktX0_weakest_0 : List UInt8 := dkwX0_weakest_0 ++ []
theorem dksX0_weakest_0 : cX0_weakest.data.toList.drop 0 = dktX0_weakest_0 := by decide +kernel
theorem dX0_weakest_0 : decode cX0_weakest 0 = .ok (.aload_n 2, 1) := dk_44 (dk_at dksX0_weakest_0 0 rfl rfl)
theorem dX0_weakest_1 : decode cX0_weakest 1 = .ok (.iconst 0, 1) := dk_3 (dk_at dksX0_weakest_0 1 rfl rfl)
theorem dX0_weakest_2 : decode cX0_weakest 2 = .ok (.aload_n 0, 1) := dk_42 (dk_at dksX0_weakest_0 2 rfl rfl)
theorem dX0_weakest_3 : decode cX0_weakest 3 = .ok (.iload_n 1, 1) := dk_27 (dk_at dksX0_weakest_0 3 rfl rfl)
theorem dX0_weakest_4 : decode cX0_weakest 4 = .ok (.invokevirtual 85, 3) := dk_182 0 85 (dk_at dksX0_weakest_0 4 rfl rfl)
theorem dX0_weakest_7 : decode cX0_weakest 7 = .ok (.i2l, 1) := dk_133 (dk_at dksX0_weakest_0 7 rfl rfl)
theorem dX0_weakest_8 : decode cX0_weakest 8 = .ok (.lastore, 1) := dk_80 (dk_at dksX0_weakest_0 8 rfl rfl)
theorem dX0_weakest_9 : decode cX0_weakest 9 = .ok (.goto 6, 3) := dk_167 0 6 (dk_at dksX0_weakest_0 9 rfl rfl)
theorem dX0_weakest_12 : decode cX0_weakest 12 = .ok (.astore_n 3, 1) := dk_78 (dk_at dksX0_weakest_0 12 rfl rfl)
theorem dX0_weakest_13 : decode cX0_weakest 13 = .ok (.iconst 1, 1) := dk_4 (dk_at dksX0_weakest_0 13 rfl rfl)
theorem dX0_weakest_14 : decode cX0_weakest 14 = .ok (.ireturn, 1) := dk_172 (dk_at dksX0_weakest_0 14 rfl rfl)
theorem dX0_weakest_15 : decode cX0_weakest 15 = .ok (.iconst 0, 1) := dk_3 (dk_at dksX0_weakest_0 15 rfl rfl)
theorem dX0_weakest_16 : decode cX0_weakest 16 = .ok (.ireturn, 1) := dk_172 (dk_at dksX0_weakest_0 16 rfl rfl)
abbrev cX0_mostClass : ByteArray := method_25_code
def yX0_mostClass : MethodName := ⟨RX0, "mostClass", "(LScaffolder;II[J)I"⟩
def dkwX0_mostClass_0 : List UInt8 := [45, 3, 42, 27, 28, 182, 0, 88, 133, 80, 167, 0, 11, 58, 4, 4, 172, 58, 4, 5, 172, 3, 172]
abbrev dktX0_mostClass_0 : List UInt8 := dkwX0_mostClass_0 ++ []
theorem dksX0_mostClass_0 : cX0_mostClass.data.toList.drop 0 = dktX0_mostClass_0 := by decide +kernel
theorem dX0_mostClass_0 : decode cX0_mostClass 0 = .ok (.aload_n 3, 1) := dk_45 (dk_at dksX0_mostClass_0 0 rfl rfl)
theorem dX0_mostClass_1 : decode cX0_mostClass 1 = .ok (.iconst 0, 1) := dk_3 (dk_at dksX0_mostClass_0 1 rfl rfl)
theorem dX0_mostClass_2 : decode cX0_mostClass 2 = .ok (.aload_n 0, 1) := dk_42 (dk_at dksX0_mostClass_0 2 rfl rfl)
theorem dX0_mostClass_3 : decode cX0_mostClass 3 = .ok (.iload_n 1, 1) := dk_27 (dk_at dksX0_mostClass_0 3 rfl rfl)
theorem dX0_mostClass_4 : decode cX0_mostClass 4 = .ok (.iload_n 2, 1) := dk_28 (dk_at dksX0_mostClass_0 4 rfl rfl)
theorem dX0_mostClass_5 : decode cX0_mostClass 5 = .ok (.invokevirtual 88, 3) := dk_182 0 88 (dk_at dksX0_mostClass_0 5 rfl rfl)
theorem dX0_mostClass_8 : decode cX0_mostClass 8 = .ok (.i2l, 1) := dk_133 (dk_at dksX0_mostClass_0 8 rfl rfl)
theorem dX0_mostClass_9 : decode cX0_mostClass 9 = .ok (.lastore, 1) := dk_80 (dk_at dksX0_mostClass_0 9 rfl rfl)
theorem dX0_mostClass_10 : decode cX0_mostClass 10 = .ok (.goto 11, 3) := dk_167 0 11 (dk_at dksX0_mostClass_0 10 rfl rfl)
theorem dX0_mostClass_13 : decode cX0_mostClass 13 = .ok (.astore 4, 2) := dk_58 4 (dk_at dksX0_mostClass_0 13 rfl rfl)
theorem dX0_mostClass_15 : decode cX0_mostClass 15 = .ok (.iconst 1, 1) := dk_4 (dk_at dksX0_mostClass_0 15 rfl rfl)
theorem dX0_mostClass_16 : decode cX0_mostClass 16 = .ok (.ireturn, 1) := dk_172 (dk_at dksX0_mostClass_0 16 rfl rfl)
theorem dX0_mostClass_17 : decode cX0_mostClass 17 = .ok (.astore 4, 2) := dk_58 4 (dk_at dksX0_mostClass_0 17 rfl rfl)
theorem dX0_mostClass_19 : decode cX0_mostClass 19 = .ok (.iconst 2, 1) := dk_5 (dk_at dksX0_mostClass_0 19 rfl rfl)
theorem dX0_mostClass_20 : decode cX0_mostClass 20 = .ok (.ireturn, 1) := dk_172 (dk_at dksX0_mostClass_0 20 rfl rfl)
theorem dX0_mostClass_21 : decode cX0_mostClass 21 = .ok (.iconst 0, 1) := dk_3 (dk_at dksX0_mostClass_0 21 rfl rfl)
theorem dX0_mostClass_22 : decode cX0_mostClass 22 = .ok (.ireturn, 1) := dk_172 (dk_at dksX0_mostClass_0 22 rfl rfl)
abbrev cX0_counts : ByteArray := method_26_code
def yX0_counts : MethodName := ⟨RX0, "counts", "(LScaffolder;I[J)I"⟩
def dkwX0_counts_0 : List UInt8 := [44, 3, 42, 27, 182, 0, 91, 133, 80, 167, 0, 6, 78, 4, 172, 3, 172]
abbrev dktX0_counts_0 : List UInt8 := dkwX0_counts_0 ++ []
theorem dksX0_counts_0 : cX0_counts.data.toList.drop 0 = dktX0_counts_0 := by decide +kernel
theorem dX0_counts_0 : decode cX0_counts 0 = .ok (.aload_n 2, 1) := dk_44 (dk_at dksX0_counts_0 0 rfl rfl)
theorem dX0_counts_1 : decode cX0_counts 1 = .ok (.iconst 0, 1) := dk_3 (dk_at dksX0_counts_0 1 rfl rfl)
theorem dX0_counts_2 : decode cX0_counts 2 = .ok (.aload_n 0, 1) := dk_42 (dk_at dksX0_counts_0 2 rfl rfl)
theorem dX0_counts_3 : decode cX0_counts 3 = .ok (.iload_n 1, 1) := dk_27 (dk_at dksX0_counts_0 3 rfl rfl)
theorem dX0_counts_4 : decode cX0_counts 4 = .ok (.invokevirtual 91, 3) := dk_182 0 91 (dk_at dksX0_counts_0 4 rfl rfl)
theorem dX0_counts_7 : decode cX0_counts 7 = .ok (.i2l, 1) := dk_133 (dk_at dksX0_counts_0 7 rfl rfl)
theorem dX0_counts_8 : decode cX0_counts 8 = .ok (.lastore, 1) := dk_80 (dk_at dksX0_counts_0 8 rfl rfl)
theorem dX0_counts_9 : decode cX0_counts 9 = .ok (.goto 6, 3) := dk_167 0 6 (dk_at dksX0_counts_0 9 rfl rfl)
theorem dX0_counts_12 : decode cX0_counts 12 = .ok (.astore_n 3, 1) := dk_78 (dk_at dksX0_counts_0 12 rfl rfl)
theorem dX0_counts_13 : decode cX0_counts 13 = .ok (.iconst 1, 1) := dk_4 (dk_at dksX0_counts_0 13 rfl rfl)
theorem dX0_counts_14 : decode cX0_counts 14 = .ok (.ireturn, 1) := dk_172 (dk_at dksX0_counts_0 14 rfl rfl)
theorem dX0_counts_15 : decode cX0_counts 15 = .ok (.iconst 0, 1) := dk_3 (dk_at dksX0_counts_0 15 rfl rfl)
theorem dX0_counts_16 : decode cX0_counts 16 = .ok (.ireturn, 1) := dk_172 (dk_at dksX0_counts_0 16 rfl rfl)
theorem q66 : (Jvm.Cond.initialized "ScaffolderLaw") ∈ lw_all := lw_g (lw_at lw_m1 0 rfl) rfl
theorem q97 : (Jvm.Cond.classLink "ScaffolderLaw" (8 : Nat) "Scaffolder") ∈ lw_all := lw_g (lw_at lw_m1 31 rfl) rfl
theorem q99 : (Jvm.Cond.methodLink "ScaffolderLaw" (94 : Nat) ({ cls := "Scaffolder", name := "<init>", desc := "()V" } : Jvm.MethodName)) ∈ lw_all := lw_g (lw_at lw_m1 33 rfl) rfl
theorem q552 : (Jvm.Cond.methodLink "ScaffolderLaw" (98 : Nat) ({ cls := "Scaffolder", name := "today", desc := "()I" } : Jvm.MethodName)) ∈ lw_all := lw_g (lw_at lw_m3 6 rfl) rfl
theorem q556 : (Jvm.Cond.methodLink "ScaffolderLaw" (184 : Nat) ({ cls := "Scaffolder", name := "errors", desc := "()I" } : Jvm.MethodName)) ∈ lw_all := lw_g (lw_at lw_m3 10 rfl) rfl
theorem q674 : (Jvm.Cond.methodLink "ScaffolderLaw" (188 : Nat) ({ cls := "Scaffolder", name := "meanLoad", desc := "()D" } : Jvm.MethodName)) ∈ lw_all := lw_g (lw_at lw_m3 128 rfl) rfl
theorem q678 : (Jvm.Cond.methodLink "ScaffolderLaw" (193 : Nat) ({ cls := "Scaffolder", name := "boardedShare", desc := "()F" } : Jvm.MethodName)) ∈ lw_all := lw_g (lw_at lw_m3 132 rfl) rfl
theorem q686 : (Jvm.Cond.methodLink "ScaffolderLaw" (103 : Nat) ({ cls := "ScaffolderLaw", name := "pass", desc := "(LScaffolder;I[J)I" } : Jvm.MethodName)) ∈ lw_all := lw_g (lw_at lw_m3 140 rfl) rfl
theorem q687 : (Jvm.Cond.static ({ cls := "ScaffolderLaw", name := "pass", desc := "(LScaffolder;I[J)I" } : Jvm.MethodName)) ∈ lw_all := lw_g (lw_at lw_m3 141 rfl) rfl
theorem q688 : (Jvm.Cond.codeWith ({ cls := "ScaffolderLaw", name := "pass", desc := "(LScaffolder;I[J)I" } : Jvm.MethodName) method_3_code (4 : Nat) (Option.some Jvm.ClassFile.FieldType.int) [((0 : Nat), (9 : Nat), (12 : Nat), (13 : Nat)), ((0 : Nat), (9 : Nat), (15 : Nat), (15 : Nat))]) ∈ lw_all := lw_g (lw_at lw_m3 142 rfl) rfl
theorem q689 : (Jvm.Cond.classLink "ScaffolderLaw" (13 : Nat) "java/lang/IllegalArgumentException") ∈ lw_all := lw_g (lw_at lw_m3 143 rfl) rfl
theorem q690 : (Jvm.Cond.classLink "ScaffolderLaw" (15 : Nat) "java/lang/IllegalStateException") ∈ lw_all := lw_g (lw_at lw_m3 144 rfl) rfl
theorem q691 : (Jvm.Cond.methodLink "ScaffolderLaw" (7 : Nat) ({ cls := "Scaffolder", name := "pass", desc := "(I)I" } : Jvm.MethodName)) ∈ lw_all := lw_g (lw_at lw_m3 145 rfl) rfl
theorem q727 : (Jvm.Cond.methodLink "ScaffolderLaw" (112 : Nat) ({ cls := "ScaffolderLaw", name := "addFace", desc := "(LScaffolder;I[J)I" } : Jvm.MethodName)) ∈ lw_all := lw_g (lw_at lw_m3 181 rfl) rfl
theorem q728 : (Jvm.Cond.static ({ cls := "ScaffolderLaw", name := "addFace", desc := "(LScaffolder;I[J)I" } : Jvm.MethodName)) ∈ lw_all := lw_g (lw_at lw_m3 182 rfl) rfl
theorem q729 : (Jvm.Cond.codeWith ({ cls := "ScaffolderLaw", name := "addFace", desc := "(LScaffolder;I[J)I" } : Jvm.MethodName) method_4_code (4 : Nat) (Option.some Jvm.ClassFile.FieldType.int) [((0 : Nat), (9 : Nat), (12 : Nat), (13 : Nat)), ((0 : Nat), (9 : Nat), (15 : Nat), (15 : Nat))]) ∈ lw_all := lw_g (lw_at lw_m3 183 rfl) rfl
theorem q730 : (Jvm.Cond.methodLink "ScaffolderLaw" (17 : Nat) ({ cls := "Scaffolder", name := "addFace", desc := "(I)I" } : Jvm.MethodName)) ∈ lw_all := lw_g (lw_at lw_m3 184 rfl) rfl
theorem q850 : (Jvm.Cond.methodLink "ScaffolderLaw" (115 : Nat) ({ cls := "ScaffolderLaw", name := "faceOf", desc := "(LScaffolder;I[J)I" } : Jvm.MethodName)) ∈ lw_all := lw_g (lw_at lw_m4 64 rfl) rfl
theorem q851 : (Jvm.Cond.static ({ cls := "ScaffolderLaw", name := "faceOf", desc := "(LScaffolder;I[J)I" } : Jvm.MethodName)) ∈ lw_all := lw_g (lw_at lw_m4 65 rfl) rfl
theorem q852 : (Jvm.Cond.codeWith ({ cls := "ScaffolderLaw", name := "faceOf", desc := "(LScaffolder;I[J)I" } : Jvm.MethodName) method_5_code (4 : Nat) (Option.some Jvm.ClassFile.FieldType.int) [((0 : Nat), (9 : Nat), (12 : Nat), (23 : Nat))]) ∈ lw_all := lw_g (lw_at lw_m4 66 rfl) rfl
theorem q853 : (Jvm.Cond.classLink "ScaffolderLaw" (23 : Nat) "java/lang/IndexOutOfBoundsException") ∈ lw_all := lw_g (lw_at lw_m4 67 rfl) rfl
theorem q872 : (Jvm.Cond.methodLink "ScaffolderLaw" (20 : Nat) ({ cls := "Scaffolder", name := "faceOf", desc := "(I)I" } : Jvm.MethodName)) ∈ lw_all := lw_g (lw_at lw_m4 86 rfl) rfl
theorem q897 : (Jvm.Cond.methodLink "ScaffolderLaw" (118 : Nat) ({ cls := "ScaffolderLaw", name := "isCorner", desc := "(LScaffolder;I[J)I" } : Jvm.MethodName)) ∈ lw_all := lw_g (lw_at lw_m4 111 rfl) rfl
theorem q898 : (Jvm.Cond.static ({ cls := "ScaffolderLaw", name := "isCorner", desc := "(LScaffolder;I[J)I" } : Jvm.MethodName)) ∈ lw_all := lw_g (lw_at lw_m4 112 rfl) rfl
theorem q899 : (Jvm.Cond.codeWith ({ cls := "ScaffolderLaw", name := "isCorner", desc := "(LScaffolder;I[J)I" } : Jvm.MethodName) method_6_code (4 : Nat) (Option.some Jvm.ClassFile.FieldType.int) [((0 : Nat), (16 : Nat), (19 : Nat), (23 : Nat))]) ∈ lw_all := lw_g (lw_at lw_m4 113 rfl) rfl
theorem q900 : (Jvm.Cond.methodLink "ScaffolderLaw" (25 : Nat) ({ cls := "Scaffolder", name := "isCorner", desc := "(I)Z" } : Jvm.MethodName)) ∈ lw_all := lw_g (lw_at lw_m4 114 rfl) rfl
theorem q908 : (Jvm.Cond.methodLink "ScaffolderLaw" (121 : Nat) ({ cls := "ScaffolderLaw", name := "setLifts", desc := "(LScaffolder;II[J)I" } : Jvm.MethodName)) ∈ lw_all := lw_g (lw_at lw_m4 122 rfl) rfl
theorem q909 : (Jvm.Cond.static ({ cls := "ScaffolderLaw", name := "setLifts", desc := "(LScaffolder;II[J)I" } : Jvm.MethodName)) ∈ lw_all := lw_g (lw_at lw_m4 123 rfl) rfl
theorem q910 : (Jvm.Cond.codeWith ({ cls := "ScaffolderLaw", name := "setLifts", desc := "(LScaffolder;II[J)I" } : Jvm.MethodName) method_7_code (5 : Nat) (Option.some Jvm.ClassFile.FieldType.int) [((0 : Nat), (10 : Nat), (13 : Nat), (23 : Nat)), ((0 : Nat), (10 : Nat), (17 : Nat), (13 : Nat))]) ∈ lw_all := lw_g (lw_at lw_m4 124 rfl) rfl
theorem q911 : (Jvm.Cond.methodLink "ScaffolderLaw" (29 : Nat) ({ cls := "Scaffolder", name := "setLifts", desc := "(II)I" } : Jvm.MethodName)) ∈ lw_all := lw_g (lw_at lw_m4 125 rfl) rfl
theorem q919 : (Jvm.Cond.methodLink "ScaffolderLaw" (125 : Nat) ({ cls := "ScaffolderLaw", name := "lifts", desc := "(LScaffolder;I[J)I" } : Jvm.MethodName)) ∈ lw_all := lw_g (lw_at lw_m4 133 rfl) rfl
theorem q920 : (Jvm.Cond.static ({ cls := "ScaffolderLaw", name := "lifts", desc := "(LScaffolder;I[J)I" } : Jvm.MethodName)) ∈ lw_all := lw_g (lw_at lw_m4 134 rfl) rfl
theorem q921 : (Jvm.Cond.codeWith ({ cls := "ScaffolderLaw", name := "lifts", desc := "(LScaffolder;I[J)I" } : Jvm.MethodName) method_8_code (4 : Nat) (Option.some Jvm.ClassFile.FieldType.int) [((0 : Nat), (9 : Nat), (12 : Nat), (23 : Nat))]) ∈ lw_all := lw_g (lw_at lw_m4 135 rfl) rfl
theorem q922 : (Jvm.Cond.methodLink "ScaffolderLaw" (33 : Nat) ({ cls := "Scaffolder", name := "lifts", desc := "(I)I" } : Jvm.MethodName)) ∈ lw_all := lw_g (lw_at lw_m4 136 rfl) rfl
theorem q926 : (Jvm.Cond.methodLink "ScaffolderLaw" (128 : Nat) ({ cls := "ScaffolderLaw", name := "levels", desc := "(LScaffolder;I[J)I" } : Jvm.MethodName)) ∈ lw_all := lw_g (lw_at lw_m4 140 rfl) rfl
theorem q927 : (Jvm.Cond.static ({ cls := "ScaffolderLaw", name := "levels", desc := "(LScaffolder;I[J)I" } : Jvm.MethodName)) ∈ lw_all := lw_g (lw_at lw_m4 141 rfl) rfl
theorem q928 : (Jvm.Cond.codeWith ({ cls := "ScaffolderLaw", name := "levels", desc := "(LScaffolder;I[J)I" } : Jvm.MethodName) method_9_code (4 : Nat) (Option.some Jvm.ClassFile.FieldType.int) [((0 : Nat), (9 : Nat), (12 : Nat), (23 : Nat))]) ∈ lw_all := lw_g (lw_at lw_m4 142 rfl) rfl
theorem q929 : (Jvm.Cond.methodLink "ScaffolderLaw" (36 : Nat) ({ cls := "Scaffolder", name := "levels", desc := "(I)I" } : Jvm.MethodName)) ∈ lw_all := lw_g (lw_at lw_m4 143 rfl) rfl
theorem q933 : (Jvm.Cond.methodLink "ScaffolderLaw" (131 : Nat) ({ cls := "ScaffolderLaw", name := "board", desc := "(LScaffolder;IIZ[J)I" } : Jvm.MethodName)) ∈ lw_all := lw_g (lw_at lw_m4 147 rfl) rfl
theorem q934 : (Jvm.Cond.static ({ cls := "ScaffolderLaw", name := "board", desc := "(LScaffolder;IIZ[J)I" } : Jvm.MethodName)) ∈ lw_all := lw_g (lw_at lw_m4 148 rfl) rfl
theorem q935 : (Jvm.Cond.codeWith ({ cls := "ScaffolderLaw", name := "board", desc := "(LScaffolder;IIZ[J)I" } : Jvm.MethodName) method_10_code (6 : Nat) (Option.some Jvm.ClassFile.FieldType.int) [((0 : Nat), (19 : Nat), (22 : Nat), (23 : Nat)), ((0 : Nat), (19 : Nat), (26 : Nat), (15 : Nat))]) ∈ lw_all := lw_g (lw_at lw_m4 149 rfl) rfl
theorem q936 : (Jvm.Cond.methodLink "ScaffolderLaw" (39 : Nat) ({ cls := "Scaffolder", name := "board", desc := "(IIZ)Z" } : Jvm.MethodName)) ∈ lw_all := lw_g (lw_at lw_m4 150 rfl) rfl
theorem q956 : (Jvm.Cond.methodLink "ScaffolderLaw" (135 : Nat) ({ cls := "ScaffolderLaw", name := "setClass", desc := "(LScaffolder;III[J)I" } : Jvm.MethodName)) ∈ lw_all := lw_g (lw_at lw_m4 170 rfl) rfl
theorem q957 : (Jvm.Cond.static ({ cls := "ScaffolderLaw", name := "setClass", desc := "(LScaffolder;III[J)I" } : Jvm.MethodName)) ∈ lw_all := lw_g (lw_at lw_m4 171 rfl) rfl
theorem q958 : (Jvm.Cond.codeWith ({ cls := "ScaffolderLaw", name := "setClass", desc := "(LScaffolder;III[J)I" } : Jvm.MethodName) method_11_code (6 : Nat) (Option.some Jvm.ClassFile.FieldType.int) [((0 : Nat), (12 : Nat), (15 : Nat), (23 : Nat)), ((0 : Nat), (12 : Nat), (19 : Nat), (13 : Nat)), ((0 : Nat), (12 : Nat), (23 : Nat), (15 : Nat))]) ∈ lw_all := lw_g (lw_at lw_m4 172 rfl) rfl
theorem q959 : (Jvm.Cond.methodLink "ScaffolderLaw" (43 : Nat) ({ cls := "Scaffolder", name := "setClass", desc := "(III)I" } : Jvm.MethodName)) ∈ lw_all := lw_g (lw_at lw_m4 173 rfl) rfl
theorem q963 : (Jvm.Cond.methodLink "ScaffolderLaw" (139 : Nat) ({ cls := "ScaffolderLaw", name := "lay", desc := "(LScaffolder;III[J)I" } : Jvm.MethodName)) ∈ lw_all := lw_g (lw_at lw_m4 177 rfl) rfl
theorem q964 : (Jvm.Cond.static ({ cls := "ScaffolderLaw", name := "lay", desc := "(LScaffolder;III[J)I" } : Jvm.MethodName)) ∈ lw_all := lw_g (lw_at lw_m4 178 rfl) rfl
theorem q965 : (Jvm.Cond.codeWith ({ cls := "ScaffolderLaw", name := "lay", desc := "(LScaffolder;III[J)I" } : Jvm.MethodName) method_12_code (6 : Nat) (Option.some Jvm.ClassFile.FieldType.int) [((0 : Nat), (12 : Nat), (15 : Nat), (23 : Nat)), ((0 : Nat), (12 : Nat), (19 : Nat), (13 : Nat)), ((0 : Nat), (12 : Nat), (23 : Nat), (15 : Nat))]) ∈ lw_all := lw_g (lw_at lw_m4 179 rfl) rfl
theorem q966 : (Jvm.Cond.methodLink "ScaffolderLaw" (47 : Nat) ({ cls := "Scaffolder", name := "lay", desc := "(III)I" } : Jvm.MethodName)) ∈ lw_all := lw_g (lw_at lw_m4 180 rfl) rfl
theorem q975 : (Jvm.Cond.methodLink "ScaffolderLaw" (142 : Nat) ({ cls := "ScaffolderLaw", name := "bayAt", desc := "(LScaffolder;III[J)I" } : Jvm.MethodName)) ∈ lw_all := lw_g (lw_at lw_m4 189 rfl) rfl
theorem q976 : (Jvm.Cond.static ({ cls := "ScaffolderLaw", name := "bayAt", desc := "(LScaffolder;III[J)I" } : Jvm.MethodName)) ∈ lw_all := lw_g (lw_at lw_m4 190 rfl) rfl
theorem q977 : (Jvm.Cond.codeWith ({ cls := "ScaffolderLaw", name := "bayAt", desc := "(LScaffolder;III[J)I" } : Jvm.MethodName) method_13_code (6 : Nat) (Option.some Jvm.ClassFile.FieldType.int) [((0 : Nat), (12 : Nat), (15 : Nat), (23 : Nat)), ((0 : Nat), (12 : Nat), (19 : Nat), (13 : Nat))]) ∈ lw_all := lw_g (lw_at lw_m4 191 rfl) rfl
theorem q978 : (Jvm.Cond.methodLink "ScaffolderLaw" (50 : Nat) ({ cls := "Scaffolder", name := "bayAt", desc := "(III)I" } : Jvm.MethodName)) ∈ lw_all := lw_g (lw_at lw_m4 192 rfl) rfl
theorem q982 : (Jvm.Cond.methodLink "ScaffolderLaw" (145 : Nat) ({ cls := "ScaffolderLaw", name := "cut", desc := "(LScaffolder;IIZ[J)I" } : Jvm.MethodName)) ∈ lw_all := lw_g (lw_at lw_m4 196 rfl) rfl
theorem q983 : (Jvm.Cond.static ({ cls := "ScaffolderLaw", name := "cut", desc := "(LScaffolder;IIZ[J)I" } : Jvm.MethodName)) ∈ lw_all := lw_g (lw_at lw_m4 197 rfl) rfl
theorem q984 : (Jvm.Cond.codeWith ({ cls := "ScaffolderLaw", name := "cut", desc := "(LScaffolder;IIZ[J)I" } : Jvm.MethodName) method_14_code (6 : Nat) (Option.some Jvm.ClassFile.FieldType.int) [((0 : Nat), (19 : Nat), (22 : Nat), (23 : Nat))]) ∈ lw_all := lw_g (lw_at lw_m4 198 rfl) rfl
theorem q985 : (Jvm.Cond.methodLink "ScaffolderLaw" (53 : Nat) ({ cls := "Scaffolder", name := "cut", desc := "(IIZ)Z" } : Jvm.MethodName)) ∈ lw_all := lw_g (lw_at lw_m4 199 rfl) rfl
theorem q989 : (Jvm.Cond.methodLink "ScaffolderLaw" (148 : Nat) ({ cls := "ScaffolderLaw", name := "setLimit", desc := "(LScaffolder;I[J)I" } : Jvm.MethodName)) ∈ lw_all := lw_g (lw_at lw_m4 203 rfl) rfl
theorem q990 : (Jvm.Cond.static ({ cls := "ScaffolderLaw", name := "setLimit", desc := "(LScaffolder;I[J)I" } : Jvm.MethodName)) ∈ lw_all := lw_g (lw_at lw_m4 204 rfl) rfl
theorem q991 : (Jvm.Cond.codeWith ({ cls := "ScaffolderLaw", name := "setLimit", desc := "(LScaffolder;I[J)I" } : Jvm.MethodName) method_15_code (4 : Nat) (Option.some Jvm.ClassFile.FieldType.int) [((0 : Nat), (9 : Nat), (12 : Nat), (13 : Nat))]) ∈ lw_all := lw_g (lw_at lw_m4 205 rfl) rfl
theorem q992 : (Jvm.Cond.methodLink "ScaffolderLaw" (56 : Nat) ({ cls := "Scaffolder", name := "setLimit", desc := "(I)I" } : Jvm.MethodName)) ∈ lw_all := lw_g (lw_at lw_m4 206 rfl) rfl
theorem q996 : (Jvm.Cond.methodLink "ScaffolderLaw" (151 : Nat) ({ cls := "ScaffolderLaw", name := "tieOf", desc := "(LScaffolder;II[J)I" } : Jvm.MethodName)) ∈ lw_all := lw_g (lw_at lw_m4 210 rfl) rfl
theorem q997 : (Jvm.Cond.static ({ cls := "ScaffolderLaw", name := "tieOf", desc := "(LScaffolder;II[J)I" } : Jvm.MethodName)) ∈ lw_all := lw_g (lw_at lw_m4 211 rfl) rfl
theorem q998 : (Jvm.Cond.codeWith ({ cls := "ScaffolderLaw", name := "tieOf", desc := "(LScaffolder;II[J)I" } : Jvm.MethodName) method_16_code (5 : Nat) (Option.some Jvm.ClassFile.FieldType.int) [((0 : Nat), (10 : Nat), (13 : Nat), (23 : Nat))]) ∈ lw_all := lw_g (lw_at lw_m4 212 rfl) rfl
theorem q999 : (Jvm.Cond.methodLink "ScaffolderLaw" (59 : Nat) ({ cls := "Scaffolder", name := "tieOf", desc := "(II)I" } : Jvm.MethodName)) ∈ lw_all := lw_g (lw_at lw_m4 213 rfl) rfl
theorem q1003 : (Jvm.Cond.methodLink "ScaffolderLaw" (154 : Nat) ({ cls := "ScaffolderLaw", name := "hasTie", desc := "(LScaffolder;II[J)I" } : Jvm.MethodName)) ∈ lw_all := lw_g (lw_at lw_m4 217 rfl) rfl
theorem q1004 : (Jvm.Cond.static ({ cls := "ScaffolderLaw", name := "hasTie", desc := "(LScaffolder;II[J)I" } : Jvm.MethodName)) ∈ lw_all := lw_g (lw_at lw_m4 218 rfl) rfl
theorem q1005 : (Jvm.Cond.codeWith ({ cls := "ScaffolderLaw", name := "hasTie", desc := "(LScaffolder;II[J)I" } : Jvm.MethodName) method_17_code (5 : Nat) (Option.some Jvm.ClassFile.FieldType.int) [((0 : Nat), (17 : Nat), (20 : Nat), (23 : Nat))]) ∈ lw_all := lw_g (lw_at lw_m4 219 rfl) rfl
theorem q1006 : (Jvm.Cond.methodLink "ScaffolderLaw" (62 : Nat) ({ cls := "Scaffolder", name := "hasTie", desc := "(II)Z" } : Jvm.MethodName)) ∈ lw_all := lw_g (lw_at lw_m4 220 rfl) rfl
theorem q1010 : (Jvm.Cond.methodLink "ScaffolderLaw" (157 : Nat) ({ cls := "ScaffolderLaw", name := "missing", desc := "(LScaffolder;I[J)I" } : Jvm.MethodName)) ∈ lw_all := lw_g (lw_at lw_m4 224 rfl) rfl
theorem q1011 : (Jvm.Cond.static ({ cls := "ScaffolderLaw", name := "missing", desc := "(LScaffolder;I[J)I" } : Jvm.MethodName)) ∈ lw_all := lw_g (lw_at lw_m4 225 rfl) rfl
theorem q1012 : (Jvm.Cond.codeWith ({ cls := "ScaffolderLaw", name := "missing", desc := "(LScaffolder;I[J)I" } : Jvm.MethodName) method_18_code (4 : Nat) (Option.some Jvm.ClassFile.FieldType.int) [((0 : Nat), (9 : Nat), (12 : Nat), (23 : Nat))]) ∈ lw_all := lw_g (lw_at lw_m4 226 rfl) rfl
theorem q1013 : (Jvm.Cond.methodLink "ScaffolderLaw" (66 : Nat) ({ cls := "Scaffolder", name := "missing", desc := "(I)I" } : Jvm.MethodName)) ∈ lw_all := lw_g (lw_at lw_m4 227 rfl) rfl
theorem q1017 : (Jvm.Cond.methodLink "ScaffolderLaw" (160 : Nat) ({ cls := "ScaffolderLaw", name := "load", desc := "(LScaffolder;IIZ[J)I" } : Jvm.MethodName)) ∈ lw_all := lw_g (lw_at lw_m4 231 rfl) rfl
theorem q1018 : (Jvm.Cond.static ({ cls := "ScaffolderLaw", name := "load", desc := "(LScaffolder;IIZ[J)I" } : Jvm.MethodName)) ∈ lw_all := lw_g (lw_at lw_m4 232 rfl) rfl
theorem q1019 : (Jvm.Cond.codeWith ({ cls := "ScaffolderLaw", name := "load", desc := "(LScaffolder;IIZ[J)I" } : Jvm.MethodName) method_19_code (6 : Nat) (Option.some Jvm.ClassFile.FieldType.int) [((0 : Nat), (12 : Nat), (15 : Nat), (23 : Nat))]) ∈ lw_all := lw_g (lw_at lw_m4 233 rfl) rfl
theorem q1020 : (Jvm.Cond.methodLink "ScaffolderLaw" (69 : Nat) ({ cls := "Scaffolder", name := "load", desc := "(IIZ)I" } : Jvm.MethodName)) ∈ lw_all := lw_g (lw_at lw_m4 234 rfl) rfl
theorem q1024 : (Jvm.Cond.methodLink "ScaffolderLaw" (163 : Nat) ({ cls := "ScaffolderLaw", name := "bears", desc := "(LScaffolder;I[J)I" } : Jvm.MethodName)) ∈ lw_all := lw_g (lw_at lw_m4 238 rfl) rfl
theorem q1025 : (Jvm.Cond.static ({ cls := "ScaffolderLaw", name := "bears", desc := "(LScaffolder;I[J)I" } : Jvm.MethodName)) ∈ lw_all := lw_g (lw_at lw_m4 239 rfl) rfl
theorem q1026 : (Jvm.Cond.codeWith ({ cls := "ScaffolderLaw", name := "bears", desc := "(LScaffolder;I[J)I" } : Jvm.MethodName) method_20_code (4 : Nat) (Option.some Jvm.ClassFile.FieldType.int) [((0 : Nat), (9 : Nat), (12 : Nat), (23 : Nat))]) ∈ lw_all := lw_g (lw_at lw_m5 0 rfl) rfl
theorem q1027 : (Jvm.Cond.methodLink "ScaffolderLaw" (73 : Nat) ({ cls := "Scaffolder", name := "bears", desc := "(I)I" } : Jvm.MethodName)) ∈ lw_all := lw_g (lw_at lw_m5 1 rfl) rfl
theorem q1031 : (Jvm.Cond.methodLink "ScaffolderLaw" (166 : Nat) ({ cls := "ScaffolderLaw", name := "inspect", desc := "(LScaffolder;I[J)I" } : Jvm.MethodName)) ∈ lw_all := lw_g (lw_at lw_m5 5 rfl) rfl
theorem q1032 : (Jvm.Cond.static ({ cls := "ScaffolderLaw", name := "inspect", desc := "(LScaffolder;I[J)I" } : Jvm.MethodName)) ∈ lw_all := lw_g (lw_at lw_m5 6 rfl) rfl
theorem q1033 : (Jvm.Cond.codeWith ({ cls := "ScaffolderLaw", name := "inspect", desc := "(LScaffolder;I[J)I" } : Jvm.MethodName) method_21_code (4 : Nat) (Option.some Jvm.ClassFile.FieldType.int) [((0 : Nat), (9 : Nat), (12 : Nat), (23 : Nat))]) ∈ lw_all := lw_g (lw_at lw_m5 7 rfl) rfl
theorem q1034 : (Jvm.Cond.methodLink "ScaffolderLaw" (76 : Nat) ({ cls := "Scaffolder", name := "inspect", desc := "(I)I" } : Jvm.MethodName)) ∈ lw_all := lw_g (lw_at lw_m5 8 rfl) rfl
theorem q1047 : (Jvm.Cond.methodLink "ScaffolderLaw" (169 : Nat) ({ cls := "ScaffolderLaw", name := "tag", desc := "(LScaffolder;I[J)I" } : Jvm.MethodName)) ∈ lw_all := lw_g (lw_at lw_m5 21 rfl) rfl
theorem q1048 : (Jvm.Cond.static ({ cls := "ScaffolderLaw", name := "tag", desc := "(LScaffolder;I[J)I" } : Jvm.MethodName)) ∈ lw_all := lw_g (lw_at lw_m5 22 rfl) rfl
theorem q1049 : (Jvm.Cond.codeWith ({ cls := "ScaffolderLaw", name := "tag", desc := "(LScaffolder;I[J)I" } : Jvm.MethodName) method_22_code (4 : Nat) (Option.some Jvm.ClassFile.FieldType.int) [((0 : Nat), (9 : Nat), (12 : Nat), (23 : Nat))]) ∈ lw_all := lw_g (lw_at lw_m5 23 rfl) rfl
theorem q1050 : (Jvm.Cond.methodLink "ScaffolderLaw" (79 : Nat) ({ cls := "Scaffolder", name := "tag", desc := "(I)I" } : Jvm.MethodName)) ∈ lw_all := lw_g (lw_at lw_m5 24 rfl) rfl
theorem q1054 : (Jvm.Cond.methodLink "ScaffolderLaw" (172 : Nat) ({ cls := "ScaffolderLaw", name := "parts", desc := "(LScaffolder;II[J)I" } : Jvm.MethodName)) ∈ lw_all := lw_g (lw_at lw_m5 28 rfl) rfl
theorem q1055 : (Jvm.Cond.static ({ cls := "ScaffolderLaw", name := "parts", desc := "(LScaffolder;II[J)I" } : Jvm.MethodName)) ∈ lw_all := lw_g (lw_at lw_m5 29 rfl) rfl
theorem q1056 : (Jvm.Cond.codeWith ({ cls := "ScaffolderLaw", name := "parts", desc := "(LScaffolder;II[J)I" } : Jvm.MethodName) method_23_code (5 : Nat) (Option.some Jvm.ClassFile.FieldType.int) [((0 : Nat), (10 : Nat), (13 : Nat), (23 : Nat)), ((0 : Nat), (10 : Nat), (17 : Nat), (13 : Nat))]) ∈ lw_all := lw_g (lw_at lw_m5 30 rfl) rfl
theorem q1057 : (Jvm.Cond.methodLink "ScaffolderLaw" (82 : Nat) ({ cls := "Scaffolder", name := "parts", desc := "(II)I" } : Jvm.MethodName)) ∈ lw_all := lw_g (lw_at lw_m5 31 rfl) rfl
theorem q1061 : (Jvm.Cond.methodLink "ScaffolderLaw" (175 : Nat) ({ cls := "ScaffolderLaw", name := "weakest", desc := "(LScaffolder;I[J)I" } : Jvm.MethodName)) ∈ lw_all := lw_g (lw_at lw_m5 35 rfl) rfl
theorem q1062 : (Jvm.Cond.static ({ cls := "ScaffolderLaw", name := "weakest", desc := "(LScaffolder;I[J)I" } : Jvm.MethodName)) ∈ lw_all := lw_g (lw_at lw_m5 36 rfl) rfl
theorem q1063 : (Jvm.Cond.codeWith ({ cls := "ScaffolderLaw", name := "weakest", desc := "(LScaffolder;I[J)I" } : Jvm.MethodName) method_24_code (4 : Nat) (Option.some Jvm.ClassFile.FieldType.int) [((0 : Nat), (9 : Nat), (12 : Nat), (23 : Nat))]) ∈ lw_all := lw_g (lw_at lw_m5 37 rfl) rfl
theorem q1064 : (Jvm.Cond.methodLink "ScaffolderLaw" (85 : Nat) ({ cls := "Scaffolder", name := "weakest", desc := "(I)I" } : Jvm.MethodName)) ∈ lw_all := lw_g (lw_at lw_m5 38 rfl) rfl
theorem q1068 : (Jvm.Cond.methodLink "ScaffolderLaw" (178 : Nat) ({ cls := "ScaffolderLaw", name := "mostClass", desc := "(LScaffolder;II[J)I" } : Jvm.MethodName)) ∈ lw_all := lw_g (lw_at lw_m5 42 rfl) rfl
theorem q1069 : (Jvm.Cond.static ({ cls := "ScaffolderLaw", name := "mostClass", desc := "(LScaffolder;II[J)I" } : Jvm.MethodName)) ∈ lw_all := lw_g (lw_at lw_m5 43 rfl) rfl
theorem q1070 : (Jvm.Cond.codeWith ({ cls := "ScaffolderLaw", name := "mostClass", desc := "(LScaffolder;II[J)I" } : Jvm.MethodName) method_25_code (5 : Nat) (Option.some Jvm.ClassFile.FieldType.int) [((0 : Nat), (10 : Nat), (13 : Nat), (23 : Nat)), ((0 : Nat), (10 : Nat), (17 : Nat), (15 : Nat))]) ∈ lw_all := lw_g (lw_at lw_m5 44 rfl) rfl
theorem q1071 : (Jvm.Cond.methodLink "ScaffolderLaw" (88 : Nat) ({ cls := "Scaffolder", name := "mostClass", desc := "(II)I" } : Jvm.MethodName)) ∈ lw_all := lw_g (lw_at lw_m5 45 rfl) rfl
theorem q1075 : (Jvm.Cond.methodLink "ScaffolderLaw" (181 : Nat) ({ cls := "ScaffolderLaw", name := "counts", desc := "(LScaffolder;I[J)I" } : Jvm.MethodName)) ∈ lw_all := lw_g (lw_at lw_m5 49 rfl) rfl
theorem q1076 : (Jvm.Cond.static ({ cls := "ScaffolderLaw", name := "counts", desc := "(LScaffolder;I[J)I" } : Jvm.MethodName)) ∈ lw_all := lw_g (lw_at lw_m5 50 rfl) rfl
theorem q1077 : (Jvm.Cond.codeWith ({ cls := "ScaffolderLaw", name := "counts", desc := "(LScaffolder;I[J)I" } : Jvm.MethodName) method_26_code (4 : Nat) (Option.some Jvm.ClassFile.FieldType.int) [((0 : Nat), (9 : Nat), (12 : Nat), (13 : Nat))]) ∈ lw_all := lw_g (lw_at lw_m5 51 rfl) rfl
theorem q1078 : (Jvm.Cond.methodLink "ScaffolderLaw" (91 : Nat) ({ cls := "Scaffolder", name := "counts", desc := "(I)I" } : Jvm.MethodName)) ∈ lw_all := lw_g (lw_at lw_m5 52 rfl) rfl
theorem q1090 : (Jvm.Cond.methodLink "ScaffolderLaw" (109 : Nat) ({ cls := "ScaffolderModel", name := "thrown", desc := "()I" } : Jvm.MethodName)) ∈ lw_all := lw_g (lw_at lw_m5 64 rfl) rfl
theorem q1094 : (Jvm.Cond.classLink "ScaffolderLaw" (95 : Nat) "ScaffolderModel") ∈ lw_all := lw_g (lw_at lw_m5 68 rfl) rfl
theorem q1096 : (Jvm.Cond.methodLink "ScaffolderLaw" (97 : Nat) ({ cls := "ScaffolderModel", name := "<init>", desc := "()V" } : Jvm.MethodName)) ∈ lw_all := lw_g (lw_at lw_m5 70 rfl) rfl
theorem q1137 : (Jvm.Cond.methodLink "ScaffolderLaw" (102 : Nat) ({ cls := "ScaffolderModel", name := "today", desc := "()I" } : Jvm.MethodName)) ∈ lw_all := lw_g (lw_at lw_m5 111 rfl) rfl
theorem q1145 : (Jvm.Cond.methodLink "ScaffolderLaw" (108 : Nat) ({ cls := "ScaffolderModel", name := "pass", desc := "(I)I" } : Jvm.MethodName)) ∈ lw_all := lw_g (lw_at lw_m5 119 rfl) rfl
theorem q1156 : (Jvm.Cond.methodLink "ScaffolderLaw" (114 : Nat) ({ cls := "ScaffolderModel", name := "addFace", desc := "(I)I" } : Jvm.MethodName)) ∈ lw_all := lw_g (lw_at lw_m5 130 rfl) rfl
theorem q1215 : (Jvm.Cond.methodLink "ScaffolderLaw" (117 : Nat) ({ cls := "ScaffolderModel", name := "faceOf", desc := "(I)I" } : Jvm.MethodName)) ∈ lw_all := lw_g (lw_at lw_m5 189 rfl) rfl
theorem q1225 : (Jvm.Cond.methodLink "ScaffolderLaw" (120 : Nat) ({ cls := "ScaffolderModel", name := "isCorner", desc := "(I)Z" } : Jvm.MethodName)) ∈ lw_all := lw_g (lw_at lw_m5 199 rfl) rfl
theorem q1239 : (Jvm.Cond.methodLink "ScaffolderLaw" (130 : Nat) ({ cls := "ScaffolderModel", name := "levels", desc := "(I)I" } : Jvm.MethodName)) ∈ lw_all := lw_g (lw_at lw_m5 213 rfl) rfl
theorem q1248 : (Jvm.Cond.methodLink "ScaffolderLaw" (127 : Nat) ({ cls := "ScaffolderModel", name := "lifts", desc := "(I)I" } : Jvm.MethodName)) ∈ lw_all := lw_g (lw_at lw_m5 222 rfl) rfl
theorem q1252 : (Jvm.Cond.methodLink "ScaffolderLaw" (124 : Nat) ({ cls := "ScaffolderModel", name := "setLifts", desc := "(II)I" } : Jvm.MethodName)) ∈ lw_all := lw_g (lw_at lw_m5 226 rfl) rfl
theorem q1260 : (Jvm.Cond.methodLink "ScaffolderLaw" (134 : Nat) ({ cls := "ScaffolderModel", name := "board", desc := "(IIZ)Z" } : Jvm.MethodName)) ∈ lw_all := lw_g (lw_at lw_m5 234 rfl) rfl
theorem q1293 : (Jvm.Cond.methodLink "ScaffolderLaw" (138 : Nat) ({ cls := "ScaffolderModel", name := "setClass", desc := "(III)I" } : Jvm.MethodName)) ∈ lw_all := lw_g (lw_at lw_m6 27 rfl) rfl
theorem q1297 : (Jvm.Cond.methodLink "ScaffolderLaw" (141 : Nat) ({ cls := "ScaffolderModel", name := "lay", desc := "(III)I" } : Jvm.MethodName)) ∈ lw_all := lw_g (lw_at lw_m6 31 rfl) rfl
theorem q1315 : (Jvm.Cond.methodLink "ScaffolderLaw" (144 : Nat) ({ cls := "ScaffolderModel", name := "bayAt", desc := "(III)I" } : Jvm.MethodName)) ∈ lw_all := lw_g (lw_at lw_m6 49 rfl) rfl
theorem q1319 : (Jvm.Cond.methodLink "ScaffolderLaw" (147 : Nat) ({ cls := "ScaffolderModel", name := "cut", desc := "(IIZ)Z" } : Jvm.MethodName)) ∈ lw_all := lw_g (lw_at lw_m6 53 rfl) rfl
theorem q1323 : (Jvm.Cond.methodLink "ScaffolderLaw" (150 : Nat) ({ cls := "ScaffolderModel", name := "setLimit", desc := "(I)I" } : Jvm.MethodName)) ∈ lw_all := lw_g (lw_at lw_m6 57 rfl) rfl
theorem q1327 : (Jvm.Cond.methodLink "ScaffolderLaw" (153 : Nat) ({ cls := "ScaffolderModel", name := "tieOf", desc := "(II)I" } : Jvm.MethodName)) ∈ lw_all := lw_g (lw_at lw_m6 61 rfl) rfl
theorem q1343 : (Jvm.Cond.methodLink "ScaffolderLaw" (156 : Nat) ({ cls := "ScaffolderModel", name := "hasTie", desc := "(II)Z" } : Jvm.MethodName)) ∈ lw_all := lw_g (lw_at lw_m6 77 rfl) rfl
theorem q1347 : (Jvm.Cond.methodLink "ScaffolderLaw" (159 : Nat) ({ cls := "ScaffolderModel", name := "missing", desc := "(I)I" } : Jvm.MethodName)) ∈ lw_all := lw_g (lw_at lw_m6 81 rfl) rfl
theorem q1355 : (Jvm.Cond.methodLink "ScaffolderLaw" (162 : Nat) ({ cls := "ScaffolderModel", name := "load", desc := "(IIZ)I" } : Jvm.MethodName)) ∈ lw_all := lw_g (lw_at lw_m6 89 rfl) rfl
theorem q1377 : (Jvm.Cond.methodLink "ScaffolderLaw" (165 : Nat) ({ cls := "ScaffolderModel", name := "bears", desc := "(I)I" } : Jvm.MethodName)) ∈ lw_all := lw_g (lw_at lw_m6 111 rfl) rfl
theorem q1385 : (Jvm.Cond.methodLink "ScaffolderLaw" (168 : Nat) ({ cls := "ScaffolderModel", name := "inspect", desc := "(I)I" } : Jvm.MethodName)) ∈ lw_all := lw_g (lw_at lw_m6 119 rfl) rfl
theorem q1397 : (Jvm.Cond.methodLink "ScaffolderLaw" (171 : Nat) ({ cls := "ScaffolderModel", name := "tag", desc := "(I)I" } : Jvm.MethodName)) ∈ lw_all := lw_g (lw_at lw_m6 131 rfl) rfl
theorem q1401 : (Jvm.Cond.methodLink "ScaffolderLaw" (174 : Nat) ({ cls := "ScaffolderModel", name := "parts", desc := "(II)I" } : Jvm.MethodName)) ∈ lw_all := lw_g (lw_at lw_m6 135 rfl) rfl
theorem q1417 : (Jvm.Cond.methodLink "ScaffolderLaw" (177 : Nat) ({ cls := "ScaffolderModel", name := "weakest", desc := "(I)I" } : Jvm.MethodName)) ∈ lw_all := lw_g (lw_at lw_m6 151 rfl) rfl
theorem q1425 : (Jvm.Cond.methodLink "ScaffolderLaw" (180 : Nat) ({ cls := "ScaffolderModel", name := "mostClass", desc := "(II)I" } : Jvm.MethodName)) ∈ lw_all := lw_g (lw_at lw_m6 159 rfl) rfl
theorem q1429 : (Jvm.Cond.methodLink "ScaffolderLaw" (183 : Nat) ({ cls := "ScaffolderModel", name := "counts", desc := "(I)I" } : Jvm.MethodName)) ∈ lw_all := lw_g (lw_at lw_m6 163 rfl) rfl
theorem q1449 : (Jvm.Cond.methodLink "ScaffolderLaw" (187 : Nat) ({ cls := "ScaffolderModel", name := "errors", desc := "()I" } : Jvm.MethodName)) ∈ lw_all := lw_g (lw_at lw_m6 183 rfl) rfl
theorem q1453 : (Jvm.Cond.methodLink "ScaffolderLaw" (192 : Nat) ({ cls := "ScaffolderModel", name := "meanLoad", desc := "()D" } : Jvm.MethodName)) ∈ lw_all := lw_g (lw_at lw_m6 187 rfl) rfl
theorem q1457 : (Jvm.Cond.methodLink "ScaffolderLaw" (197 : Nat) ({ cls := "ScaffolderModel", name := "boardedShare", desc := "()F" } : Jvm.MethodName)) ∈ lw_all := lw_g (lw_at lw_m6 191 rfl) rfl
