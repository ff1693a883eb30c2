/-! ScaffolderModel -/
set_option maxRecDepth 100000
def RX2 : String := "ScaffolderModel"
def TX2 : u_T := fun k => match k with
  | 0 => ("ScaffolderModel", "thrown", "I", false)
  | 1 => ("ScaffolderModel", "bays", "Ljava/util/List;", true)
  | 2 => ("ScaffolderModel", "firsts", "Ljava/util/List;", true)
  | 3 => ("ScaffolderModel", "greenTo", "[I", true)
  | 4 => ("ScaffolderModel", "isOpening", "[[Z", true)
  | 5 => ("ScaffolderModel", "today", "I", false)
  | 6 => ("ScaffolderModel", "limit", "I", false)
  | 7 => ("ScaffolderModel", "ties", "[I", true)
  | _ => ("ScaffolderModel", "stands", "[Z", true)
def tyX2 : Nat → FieldType := fun k => match k with
  | 0 => .int
  | 1 => .object "java/util/List"
  | 2 => .object "java/util/List"
  | 3 => .array .int
  | 4 => .array (.array .boolean)
  | 5 => .int
  | 6 => .int
  | 7 => .array .int
  | _ => .array .boolean
abbrev wsX20 : List Cond := u_ws RX2 TX2 9
theorem nmX2 : ∀ a, a < 9 → ∀ b, b < 9 → a ≠ b → (TX2 a).2.1 ≠ (TX2 b).2.1 := by decide +kernel
theorem tyX2_ok : ∀ k, k < 9 → parseFieldDescriptor (TX2 k).2.2.1 = some (tyX2 k) := by decide +kernel
abbrev cX2_thrown : ByteArray := prog_6_method_1_code
def yX2_thrown : MethodName := ⟨RX2, "thrown", "()I"⟩
theorem dX2_thrown_0 : decode cX2_thrown 0 = .ok (.aload_n 0, 1) := by decide +kernel
theorem dX2_thrown_1 : decode cX2_thrown 1 = .ok (.getfield 1, 3) := by decide +kernel
theorem dX2_thrown_4 : decode cX2_thrown 4 = .ok (.ireturn, 1) := by decide +kernel
abbrev cX2_init : ByteArray := prog_6_method_5_code
def yX2_init : MethodName := ⟨RX2, "<init>", "()V"⟩
def dkwX2_init_3 : List UInt8 := [182, 0, 42, 177]
abbrev dktX2_init_3 : List UInt8 := dkwX2_init_3 ++ []
def dkwX2_init_2 : List UInt8 := [17, 3, 232, 181, 0, 32, 42, 16, 25, 188, 10, 181, 0, 35, 42, 16, 25, 188, 4, 181, 0, 38, 42]
abbrev dktX2_init_2 : List UInt8 := dkwX2_init_2 ++ dktX2_init_3
def dkwX2_init_1 : List UInt8 := [181, 0, 20, 42, 8, 188, 10, 181, 0, 23, 42, 16, 25, 16, 8, 197, 0, 27, 2, 181, 0, 29, 42]
abbrev dktX2_init_1 : List UInt8 := dkwX2_init_1 ++ dktX2_init_2
def dkwX2_init_0 : List UInt8 := [42, 183, 0, 7, 42, 187, 0, 13, 89, 183, 0, 15, 181, 0, 16, 42, 187, 0, 13, 89, 183, 0, 15]
abbrev dktX2_init_0 : List UInt8 := dkwX2_init_0 ++ dktX2_init_1
theorem dksX2_init_0 : cX2_init.data.toList.drop 0 = dktX2_init_0 := by decide +kernel
theorem dksX2_init_1 : cX2_init.data.toList.drop 23 = dktX2_init_1 := dk_seg dksX2_init_0 23 rfl rfl
theorem dksX2_init_2 : cX2_init.data.toList.drop 46 = dktX2_init_2 := dk_seg dksX2_init_1 23 rfl rfl
theorem dksX2_init_3 : cX2_init.data.toList.drop 69 = dktX2_init_3 := dk_seg dksX2_init_2 23 rfl rfl
theorem dX2_init_0 : decode cX2_init 0 = .ok (.aload_n 0, 1) := dk_42 (dk_at dksX2_init_0 0 rfl rfl)
theorem dX2_init_1 : decode cX2_init 1 = .ok (.invokespecial 7, 3) := dk_183 0 7 (dk_at dksX2_init_0 1 rfl rfl)
theorem dX2_init_4 : decode cX2_init 4 = .ok (.aload_n 0, 1) := dk_42 (dk_at dksX2_init_0 4 rfl rfl)
theorem dX2_init_5 : decode cX2_init 5 = .ok (.new 13, 3) := dk_187 0 13 (dk_at dksX2_init_0 5 rfl rfl)
theorem dX2_init_8 : decode cX2_init 8 = .ok (.dup, 1) := dk_89 (dk_at dksX2_init_0 8 rfl rfl)
theorem dX2_init_9 : decode cX2_init 9 = .ok (.invokespecial 15, 3) := dk_183 0 15 (dk_at dksX2_init_0 9 rfl rfl)
theorem dX2_init_12 : decode cX2_init 12 = .ok (.putfield 16, 3) := dk_181 0 16 (dk_at dksX2_init_0 12 rfl rfl)
theorem dX2_init_15 : decode cX2_init 15 = .ok (.aload_n 0, 1) := dk_42 (dk_at dksX2_init_0 15 rfl rfl)
theorem dX2_init_16 : decode cX2_init 16 = .ok (.new 13, 3) := dk_187 0 13 (dk_at dksX2_init_0 16 rfl rfl)
theorem dX2_init_19 : decode cX2_init 19 = .ok (.dup, 1) := dk_89 (dk_at dksX2_init_0 19 rfl rfl)
theorem dX2_init_20 : decode cX2_init 20 = .ok (.invokespecial 15, 3) := dk_183 0 15 (dk_at dksX2_init_0 20 rfl rfl)
theorem dX2_init_23 : decode cX2_init 23 = .ok (.putfield 20, 3) := dk_181 0 20 (dk_at dksX2_init_1 0 rfl rfl)
theorem dX2_init_26 : decode cX2_init 26 = .ok (.aload_n 0, 1) := dk_42 (dk_at dksX2_init_1 3 rfl rfl)
theorem dX2_init_27 : decode cX2_init 27 = .ok (.iconst 5, 1) := dk_8 (dk_at dksX2_init_1 4 rfl rfl)
theorem dX2_init_28 : decode cX2_init 28 = .ok (.newarray .int, 2) := dk_188_10 (dk_at dksX2_init_1 5 rfl rfl)
theorem dX2_init_30 : decode cX2_init 30 = .ok (.putfield 23, 3) := dk_181 0 23 (dk_at dksX2_init_1 7 rfl rfl)
theorem dX2_init_33 : decode cX2_init 33 = .ok (.aload_n 0, 1) := dk_42 (dk_at dksX2_init_1 10 rfl rfl)
theorem dX2_init_34 : decode cX2_init 34 = .ok (.bipush 25, 2) := dk_16 25 (dk_at dksX2_init_1 11 rfl rfl)
theorem dX2_init_36 : decode cX2_init 36 = .ok (.bipush 8, 2) := dk_16 8 (dk_at dksX2_init_1 13 rfl rfl)
theorem dX2_init_38 : decode cX2_init 38 = .ok (.multianewarray 27 2, 4) := by decide +kernel
theorem dX2_init_42 : decode cX2_init 42 = .ok (.putfield 29, 3) := dk_181 0 29 (dk_at dksX2_init_1 19 rfl rfl)
theorem dX2_init_45 : decode cX2_init 45 = .ok (.aload_n 0, 1) := dk_42 (dk_at dksX2_init_1 22 rfl rfl)
theorem dX2_init_46 : decode cX2_init 46 = .ok (.sipush 1000, 3) := dk_17 3 232 (dk_at dksX2_init_2 0 rfl rfl)
theorem dX2_init_49 : decode cX2_init 49 = .ok (.putfield 32, 3) := dk_181 0 32 (dk_at dksX2_init_2 3 rfl rfl)
theorem dX2_init_52 : decode cX2_init 52 = .ok (.aload_n 0, 1) := dk_42 (dk_at dksX2_init_2 6 rfl rfl)
theorem dX2_init_53 : decode cX2_init 53 = .ok (.bipush 25, 2) := dk_16 25 (dk_at dksX2_init_2 7 rfl rfl)
theorem dX2_init_55 : decode cX2_init 55 = .ok (.newarray .int, 2) := dk_188_10 (dk_at dksX2_init_2 9 rfl rfl)
theorem dX2_init_57 : decode cX2_init 57 = .ok (.putfield 35, 3) := dk_181 0 35 (dk_at dksX2_init_2 11 rfl rfl)
theorem dX2_init_60 : decode cX2_init 60 = .ok (.aload_n 0, 1) := dk_42 (dk_at dksX2_init_2 14 rfl rfl)
theorem dX2_init_61 : decode cX2_init 61 = .ok (.bipush 25, 2) := dk_16 25 (dk_at dksX2_init_2 15 rfl rfl)
theorem dX2_init_63 : decode cX2_init 63 = .ok (.newarray .boolean, 2) := dk_188_4 (dk_at dksX2_init_2 17 rfl rfl)
theorem dX2_init_65 : decode cX2_init 65 = .ok (.putfield 38, 3) := dk_181 0 38 (dk_at dksX2_init_2 19 rfl rfl)
theorem dX2_init_68 : decode cX2_init 68 = .ok (.aload_n 0, 1) := dk_42 (dk_at dksX2_init_2 22 rfl rfl)
theorem dX2_init_69 : decode cX2_init 69 = .ok (.invokevirtual 42, 3) := dk_182 0 42 (dk_at dksX2_init_3 0 rfl rfl)
theorem dX2_init_72 : decode cX2_init 72 = .ok (.return_, 1) := dk_177 (dk_at dksX2_init_3 3 rfl rfl)
abbrev cX2_withdrawAll : ByteArray := prog_6_method_21_code
def yX2_withdrawAll : MethodName := ⟨RX2, "withdrawAll", "()V"⟩
def dkwX2_withdrawAll_0 : List UInt8 := [3, 60, 27, 8, 162, 0, 16, 42, 180, 0, 23, 27, 2, 79, 132, 1, 1, 167, 255, 241, 177]
abbrev dktX2_withdrawAll_0 : List UInt8 := dkwX2_withdrawAll_0 ++ []
theorem dksX2_withdrawAll_0 : cX2_withdrawAll.data.toList.drop 0 = dktX2_withdrawAll_0 := by decide +kernel
theorem dX2_withdrawAll_0 : decode cX2_withdrawAll 0 = .ok (.iconst 0, 1) := dk_3 (dk_at dksX2_withdrawAll_0 0 rfl rfl)
theorem dX2_withdrawAll_1 : decode cX2_withdrawAll 1 = .ok (.istore_n 1, 1) := dk_60 (dk_at dksX2_withdrawAll_0 1 rfl rfl)
theorem dX2_withdrawAll_2 : decode cX2_withdrawAll 2 = .ok (.iload_n 1, 1) := dk_27 (dk_at dksX2_withdrawAll_0 2 rfl rfl)
theorem dX2_withdrawAll_3 : decode cX2_withdrawAll 3 = .ok (.iconst 5, 1) := dk_8 (dk_at dksX2_withdrawAll_0 3 rfl rfl)
theorem dX2_withdrawAll_4 : decode cX2_withdrawAll 4 = .ok (.if_icmp .ge 16, 3) := dk_162 0 16 (dk_at dksX2_withdrawAll_0 4 rfl rfl)
theorem dX2_withdrawAll_7 : decode cX2_withdrawAll 7 = .ok (.aload_n 0, 1) := dk_42 (dk_at dksX2_withdrawAll_0 7 rfl rfl)
theorem dX2_withdrawAll_8 : decode cX2_withdrawAll 8 = .ok (.getfield 23, 3) := dk_180 0 23 (dk_at dksX2_withdrawAll_0 8 rfl rfl)
theorem dX2_withdrawAll_11 : decode cX2_withdrawAll 11 = .ok (.iload_n 1, 1) := dk_27 (dk_at dksX2_withdrawAll_0 11 rfl rfl)
theorem dX2_withdrawAll_12 : decode cX2_withdrawAll 12 = .ok (.iconst (-1), 1) := dk_2 (dk_at dksX2_withdrawAll_0 12 rfl rfl)
theorem dX2_withdrawAll_13 : decode cX2_withdrawAll 13 = .ok (.iastore, 1) := dk_79 (dk_at dksX2_withdrawAll_0 13 rfl rfl)
theorem dX2_withdrawAll_14 : decode cX2_withdrawAll 14 = .ok (.iinc 1 1, 3) := dk_132 1 1 (dk_at dksX2_withdrawAll_0 14 rfl rfl)
theorem dX2_withdrawAll_17 : decode cX2_withdrawAll 17 = .ok (.goto (-15), 3) := dk_167 255 241 (dk_at dksX2_withdrawAll_0 17 rfl rfl)
theorem dX2_withdrawAll_20 : decode cX2_withdrawAll 20 = .ok (.return_, 1) := dk_177 (dk_at dksX2_withdrawAll_0 20 rfl rfl)
abbrev cX2_today : ByteArray := prog_6_method_11_code
def yX2_today : MethodName := ⟨RX2, "today", "()I"⟩
def dkwX2_today_0 : List UInt8 := [42, 42, 180, 0, 68, 182, 0, 71, 172]
abbrev dktX2_today_0 : List UInt8 := dkwX2_today_0 ++ []
theorem dksX2_today_0 : cX2_today.data.toList.drop 0 = dktX2_today_0 := by decide +kernel
theorem dX2_today_0 : decode cX2_today 0 = .ok (.aload_n 0, 1) := dk_42 (dk_at dksX2_today_0 0 rfl rfl)
theorem dX2_today_1 : decode cX2_today 1 = .ok (.aload_n 0, 1) := dk_42 (dk_at dksX2_today_0 1 rfl rfl)
theorem dX2_today_2 : decode cX2_today 2 = .ok (.getfield 68, 3) := dk_180 0 68 (dk_at dksX2_today_0 2 rfl rfl)
theorem dX2_today_5 : decode cX2_today 5 = .ok (.invokevirtual 71, 3) := dk_182 0 71 (dk_at dksX2_today_0 5 rfl rfl)
theorem dX2_today_8 : decode cX2_today 8 = .ok (.ireturn, 1) := dk_172 (dk_at dksX2_today_0 8 rfl rfl)
abbrev cX2_returned : ByteArray := prog_6_method_4_code
def yX2_returned : MethodName := ⟨RX2, "returned", "(I)I"⟩
def dkwX2_returned_0 : List UInt8 := [42, 3, 181, 0, 1, 27, 172]
abbrev dktX2_returned_0 : List UInt8 := dkwX2_returned_0 ++ []
theorem dksX2_returned_0 : cX2_returned.data.toList.drop 0 = dktX2_returned_0 := by decide +kernel
theorem dX2_returned_0 : decode cX2_returned 0 = .ok (.aload_n 0, 1) := dk_42 (dk_at dksX2_returned_0 0 rfl rfl)
theorem dX2_returned_1 : decode cX2_returned 1 = .ok (.iconst 0, 1) := dk_3 (dk_at dksX2_returned_0 1 rfl rfl)
theorem dX2_returned_2 : decode cX2_returned 2 = .ok (.putfield 1, 3) := dk_181 0 1 (dk_at dksX2_returned_0 2 rfl rfl)
theorem dX2_returned_5 : decode cX2_returned 5 = .ok (.iload_n 1, 1) := dk_27 (dk_at dksX2_returned_0 5 rfl rfl)
theorem dX2_returned_6 : decode cX2_returned 6 = .ok (.ireturn, 1) := dk_172 (dk_at dksX2_returned_0 6 rfl rfl)
abbrev cX2_pass : ByteArray := prog_6_method_12_code
def yX2_pass : MethodName := ⟨RX2, "pass", "(I)I"⟩
def dkwX2_pass_2 : List UInt8 := [172]
abbrev dktX2_pass_2 : List UInt8 := dkwX2_pass_2 ++ []
def dkwX2_pass_1 : List UInt8 := [3, 4, 182, 0, 75, 154, 0, 5, 3, 172, 42, 89, 180, 0, 68, 27, 96, 181, 0, 68, 42, 180, 0, 68]
abbrev dktX2_pass_1 : List UInt8 := dkwX2_pass_1 ++ dktX2_pass_2
def dkwX2_pass_0 : List UInt8 := [42, 27, 4, 16, 100, 184, 0, 51, 42, 180, 0, 68, 27, 96, 17, 1, 244, 163, 0, 7, 4, 167, 0, 4]
abbrev dktX2_pass_0 : List UInt8 := dkwX2_pass_0 ++ dktX2_pass_1
theorem dksX2_pass_0 : cX2_pass.data.toList.drop 0 = dktX2_pass_0 := by decide +kernel
theorem dksX2_pass_1 : cX2_pass.data.toList.drop 24 = dktX2_pass_1 := dk_seg dksX2_pass_0 24 rfl rfl
theorem dksX2_pass_2 : cX2_pass.data.toList.drop 48 = dktX2_pass_2 := dk_seg dksX2_pass_1 24 rfl rfl
theorem dX2_pass_0 : decode cX2_pass 0 = .ok (.aload_n 0, 1) := dk_42 (dk_at dksX2_pass_0 0 rfl rfl)
theorem dX2_pass_1 : decode cX2_pass 1 = .ok (.iload_n 1, 1) := dk_27 (dk_at dksX2_pass_0 1 rfl rfl)
theorem dX2_pass_2 : decode cX2_pass 2 = .ok (.iconst 1, 1) := dk_4 (dk_at dksX2_pass_0 2 rfl rfl)
theorem dX2_pass_3 : decode cX2_pass 3 = .ok (.bipush 100, 2) := dk_16 100 (dk_at dksX2_pass_0 3 rfl rfl)
theorem dX2_pass_5 : decode cX2_pass 5 = .ok (.invokestatic 51, 3) := dk_184 0 51 (dk_at dksX2_pass_0 5 rfl rfl)
theorem dX2_pass_8 : decode cX2_pass 8 = .ok (.aload_n 0, 1) := dk_42 (dk_at dksX2_pass_0 8 rfl rfl)
theorem dX2_pass_9 : decode cX2_pass 9 = .ok (.getfield 68, 3) := dk_180 0 68 (dk_at dksX2_pass_0 9 rfl rfl)
theorem dX2_pass_12 : decode cX2_pass 12 = .ok (.iload_n 1, 1) := dk_27 (dk_at dksX2_pass_0 12 rfl rfl)
theorem dX2_pass_13 : decode cX2_pass 13 = .ok (.iadd, 1) := dk_96 (dk_at dksX2_pass_0 13 rfl rfl)
theorem dX2_pass_14 : decode cX2_pass 14 = .ok (.sipush 500, 3) := dk_17 1 244 (dk_at dksX2_pass_0 14 rfl rfl)
theorem dX2_pass_17 : decode cX2_pass 17 = .ok (.if_icmp .gt 7, 3) := dk_163 0 7 (dk_at dksX2_pass_0 17 rfl rfl)
theorem dX2_pass_20 : decode cX2_pass 20 = .ok (.iconst 1, 1) := dk_4 (dk_at dksX2_pass_0 20 rfl rfl)
theorem dX2_pass_21 : decode cX2_pass 21 = .ok (.goto 4, 3) := dk_167 0 4 (dk_at dksX2_pass_0 21 rfl rfl)
theorem dX2_pass_24 : decode cX2_pass 24 = .ok (.iconst 0, 1) := dk_3 (dk_at dksX2_pass_1 0 rfl rfl)
theorem dX2_pass_25 : decode cX2_pass 25 = .ok (.iconst 1, 1) := dk_4 (dk_at dksX2_pass_1 1 rfl rfl)
theorem dX2_pass_26 : decode cX2_pass 26 = .ok (.invokevirtual 75, 3) := dk_182 0 75 (dk_at dksX2_pass_1 2 rfl rfl)
theorem dX2_pass_29 : decode cX2_pass 29 = .ok (.ifCond .ne 5, 3) := dk_154 0 5 (dk_at dksX2_pass_1 5 rfl rfl)
theorem dX2_pass_32 : decode cX2_pass 32 = .ok (.iconst 0, 1) := dk_3 (dk_at dksX2_pass_1 8 rfl rfl)
theorem dX2_pass_33 : decode cX2_pass 33 = .ok (.ireturn, 1) := dk_172 (dk_at dksX2_pass_1 9 rfl rfl)
theorem dX2_pass_34 : decode cX2_pass 34 = .ok (.aload_n 0, 1) := dk_42 (dk_at dksX2_pass_1 10 rfl rfl)
theorem dX2_pass_35 : decode cX2_pass 35 = .ok (.dup, 1) := dk_89 (dk_at dksX2_pass_1 11 rfl rfl)
theorem dX2_pass_36 : decode cX2_pass 36 = .ok (.getfield 68, 3) := dk_180 0 68 (dk_at dksX2_pass_1 12 rfl rfl)
theorem dX2_pass_39 : decode cX2_pass 39 = .ok (.iload_n 1, 1) := dk_27 (dk_at dksX2_pass_1 15 rfl rfl)
theorem dX2_pass_40 : decode cX2_pass 40 = .ok (.iadd, 1) := dk_96 (dk_at dksX2_pass_1 16 rfl rfl)
theorem dX2_pass_41 : decode cX2_pass 41 = .ok (.putfield 68, 3) := dk_181 0 68 (dk_at dksX2_pass_1 17 rfl rfl)
theorem dX2_pass_44 : decode cX2_pass 44 = .ok (.aload_n 0, 1) := dk_42 (dk_at dksX2_pass_1 20 rfl rfl)
theorem dX2_pass_45 : decode cX2_pass 45 = .ok (.getfield 68, 3) := dk_180 0 68 (dk_at dksX2_pass_1 21 rfl rfl)
theorem dX2_pass_48 : decode cX2_pass 48 = .ok (.ireturn, 1) := dk_172 (dk_at dksX2_pass_2 0 rfl rfl)
abbrev cX2_in : ByteArray := prog_6_method_2_code
def yX2_in : MethodName := ⟨RX2, "in", "(III)Z"⟩
def dkwX2_in_0 : List UInt8 := [26, 27, 161, 0, 12, 26, 28, 163, 0, 7, 4, 167, 0, 4, 3, 172]
abbrev dktX2_in_0 : List UInt8 := dkwX2_in_0 ++ []
theorem dksX2_in_0 : cX2_in.data.toList.drop 0 = dktX2_in_0 := by decide +kernel
theorem dX2_in_0 : decode cX2_in 0 = .ok (.iload_n 0, 1) := dk_26 (dk_at dksX2_in_0 0 rfl rfl)
theorem dX2_in_1 : decode cX2_in 1 = .ok (.iload_n 1, 1) := dk_27 (dk_at dksX2_in_0 1 rfl rfl)
theorem dX2_in_2 : decode cX2_in 2 = .ok (.if_icmp .lt 12, 3) := dk_161 0 12 (dk_at dksX2_in_0 2 rfl rfl)
theorem dX2_in_5 : decode cX2_in 5 = .ok (.iload_n 0, 1) := dk_26 (dk_at dksX2_in_0 5 rfl rfl)
theorem dX2_in_6 : decode cX2_in 6 = .ok (.iload_n 2, 1) := dk_28 (dk_at dksX2_in_0 6 rfl rfl)
theorem dX2_in_7 : decode cX2_in 7 = .ok (.if_icmp .gt 7, 3) := dk_163 0 7 (dk_at dksX2_in_0 7 rfl rfl)
theorem dX2_in_10 : decode cX2_in 10 = .ok (.iconst 1, 1) := dk_4 (dk_at dksX2_in_0 10 rfl rfl)
theorem dX2_in_11 : decode cX2_in 11 = .ok (.goto 4, 3) := dk_167 0 4 (dk_at dksX2_in_0 11 rfl rfl)
theorem dX2_in_14 : decode cX2_in 14 = .ok (.iconst 0, 1) := dk_3 (dk_at dksX2_in_0 14 rfl rfl)
theorem dX2_in_15 : decode cX2_in 15 = .ok (.ireturn, 1) := dk_172 (dk_at dksX2_in_0 15 rfl rfl)
abbrev cX2_passes : ByteArray := prog_6_method_3_code
def yX2_passes : MethodName := ⟨RX2, "passes", "(ZZZ)Z"⟩
def dkwX2_passes_1 : List UInt8 := [167, 0, 4, 3, 181, 0, 1, 42, 180, 0, 1, 154, 0, 7, 4, 167, 0, 4, 3, 172]
abbrev dktX2_passes_1 : List UInt8 := dkwX2_passes_1 ++ []
def dkwX2_passes_0 : List UInt8 := [42, 27, 154, 0, 7, 4, 167, 0, 20, 28, 154, 0, 7, 5, 167, 0, 12, 29, 154, 0, 7, 6]
abbrev dktX2_passes_0 : List UInt8 := dkwX2_passes_0 ++ dktX2_passes_1
theorem dksX2_passes_0 : cX2_passes.data.toList.drop 0 = dktX2_passes_0 := by decide +kernel
theorem dksX2_passes_1 : cX2_passes.data.toList.drop 22 = dktX2_passes_1 := dk_seg dksX2_passes_0 22 rfl rfl
theorem dX2_passes_0 : decode cX2_passes 0 = .ok (.aload_n 0, 1) := dk_42 (dk_at dksX2_passes_0 0 rfl rfl)
theorem dX2_passes_1 : decode cX2_passes 1 = .ok (.iload_n 1, 1) := dk_27 (dk_at dksX2_passes_0 1 rfl rfl)
theorem dX2_passes_2 : decode cX2_passes 2 = .ok (.ifCond .ne 7, 3) := dk_154 0 7 (dk_at dksX2_passes_0 2 rfl rfl)
theorem dX2_passes_5 : decode cX2_passes 5 = .ok (.iconst 1, 1) := dk_4 (dk_at dksX2_passes_0 5 rfl rfl)
theorem dX2_passes_6 : decode cX2_passes 6 = .ok (.goto 20, 3) := dk_167 0 20 (dk_at dksX2_passes_0 6 rfl rfl)
theorem dX2_passes_9 : decode cX2_passes 9 = .ok (.iload_n 2, 1) := dk_28 (dk_at dksX2_passes_0 9 rfl rfl)
theorem dX2_passes_10 : decode cX2_passes 10 = .ok (.ifCond .ne 7, 3) := dk_154 0 7 (dk_at dksX2_passes_0 10 rfl rfl)
theorem dX2_passes_13 : decode cX2_passes 13 = .ok (.iconst 2, 1) := dk_5 (dk_at dksX2_passes_0 13 rfl rfl)
theorem dX2_passes_14 : decode cX2_passes 14 = .ok (.goto 12, 3) := dk_167 0 12 (dk_at dksX2_passes_0 14 rfl rfl)
theorem dX2_passes_17 : decode cX2_passes 17 = .ok (.iload_n 3, 1) := dk_29 (dk_at dksX2_passes_0 17 rfl rfl)
theorem dX2_passes_18 : decode cX2_passes 18 = .ok (.ifCond .ne 7, 3) := dk_154 0 7 (dk_at dksX2_passes_0 18 rfl rfl)
theorem dX2_passes_21 : decode cX2_passes 21 = .ok (.iconst 3, 1) := dk_6 (dk_at dksX2_passes_0 21 rfl rfl)
theorem dX2_passes_22 : decode cX2_passes 22 = .ok (.goto 4, 3) := dk_167 0 4 (dk_at dksX2_passes_1 0 rfl rfl)
theorem dX2_passes_25 : decode cX2_passes 25 = .ok (.iconst 0, 1) := dk_3 (dk_at dksX2_passes_1 3 rfl rfl)
theorem dX2_passes_26 : decode cX2_passes 26 = .ok (.putfield 1, 3) := dk_181 0 1 (dk_at dksX2_passes_1 4 rfl rfl)
theorem dX2_passes_29 : decode cX2_passes 29 = .ok (.aload_n 0, 1) := dk_42 (dk_at dksX2_passes_1 7 rfl rfl)
theorem dX2_passes_30 : decode cX2_passes 30 = .ok (.getfield 1, 3) := dk_180 0 1 (dk_at dksX2_passes_1 8 rfl rfl)
theorem dX2_passes_33 : decode cX2_passes 33 = .ok (.ifCond .ne 7, 3) := dk_154 0 7 (dk_at dksX2_passes_1 11 rfl rfl)
theorem dX2_passes_36 : decode cX2_passes 36 = .ok (.iconst 1, 1) := dk_4 (dk_at dksX2_passes_1 14 rfl rfl)
theorem dX2_passes_37 : decode cX2_passes 37 = .ok (.goto 4, 3) := dk_167 0 4 (dk_at dksX2_passes_1 15 rfl rfl)
theorem dX2_passes_40 : decode cX2_passes 40 = .ok (.iconst 0, 1) := dk_3 (dk_at dksX2_passes_1 18 rfl rfl)
theorem dX2_passes_41 : decode cX2_passes 41 = .ok (.ireturn, 1) := dk_172 (dk_at dksX2_passes_1 19 rfl rfl)
abbrev cX2_addFace : ByteArray := prog_6_method_13_code
def yX2_addFace : MethodName := ⟨RX2, "addFace", "(I)I"⟩
def dkwX2_addFace_5 : List UInt8 := [167, 255, 219, 42, 182, 0, 42, 42, 180, 0, 20, 185, 0, 45, 1, 0, 4, 100, 172]
abbrev dktX2_addFace_5 : List UInt8 := dkwX2_addFace_5 ++ []
def dkwX2_addFace_4 : List UInt8 := [180, 0, 20, 185, 0, 45, 1, 0, 4, 100, 29, 183, 0, 89, 185, 0, 83, 2, 0, 87, 132, 3, 1]
abbrev dktX2_addFace_4 : List UInt8 := dkwX2_addFace_4 ++ dktX2_addFace_5
def dkwX2_addFace_3 : List UInt8 := [185, 0, 83, 2, 0, 87, 3, 62, 29, 27, 162, 0, 38, 42, 180, 0, 16, 187, 0, 87, 89, 42]
abbrev dktX2_addFace_3 : List UInt8 := dkwX2_addFace_3 ++ dktX2_addFace_4
def dkwX2_addFace_2 : List UInt8 := [154, 0, 5, 3, 172, 42, 180, 0, 20, 42, 180, 0, 16, 185, 0, 45, 1, 0, 184, 0, 79]
abbrev dktX2_addFace_2 : List UInt8 := dkwX2_addFace_2 ++ dktX2_addFace_3
def dkwX2_addFace_1 : List UInt8 := [16, 24, 163, 0, 7, 4, 167, 0, 4, 3, 61, 42, 27, 4, 16, 8, 184, 0, 51, 28, 4, 182, 0, 75]
abbrev dktX2_addFace_1 : List UInt8 := dkwX2_addFace_1 ++ dktX2_addFace_2
def dkwX2_addFace_0 : List UInt8 := [42, 180, 0, 20, 185, 0, 45, 1, 0, 8, 162, 0, 23, 42, 180, 0, 16, 185, 0, 45, 1, 0, 27, 96]
abbrev dktX2_addFace_0 : List UInt8 := dkwX2_addFace_0 ++ dktX2_addFace_1
theorem dksX2_addFace_0 : cX2_addFace.data.toList.drop 0 = dktX2_addFace_0 := by decide +kernel
theorem dksX2_addFace_1 : cX2_addFace.data.toList.drop 24 = dktX2_addFace_1 := dk_seg dksX2_addFace_0 24 rfl rfl
theorem dksX2_addFace_2 : cX2_addFace.data.toList.drop 48 = dktX2_addFace_2 := dk_seg dksX2_addFace_1 24 rfl rfl
theorem dksX2_addFace_3 : cX2_addFace.data.toList.drop 69 = dktX2_addFace_3 := dk_seg dksX2_addFace_2 21 rfl rfl
theorem dksX2_addFace_4 : cX2_addFace.data.toList.drop 91 = dktX2_addFace_4 := dk_seg dksX2_addFace_3 22 rfl rfl
theorem dksX2_addFace_5 : cX2_addFace.data.toList.drop 114 = dktX2_addFace_5 := dk_seg dksX2_addFace_4 23 rfl rfl
theorem dX2_addFace_0 : decode cX2_addFace 0 = .ok (.aload_n 0, 1) := dk_42 (dk_at dksX2_addFace_0 0 rfl rfl)
theorem dX2_addFace_1 : decode cX2_addFace 1 = .ok (.getfield 20, 3) := dk_180 0 20 (dk_at dksX2_addFace_0 1 rfl rfl)
theorem dX2_addFace_4 : decode cX2_addFace 4 = .ok (.invokeinterface 45 1, 5) := by decide +kernel
theorem dX2_addFace_9 : decode cX2_addFace 9 = .ok (.iconst 5, 1) := dk_8 (dk_at dksX2_addFace_0 9 rfl rfl)
theorem dX2_addFace_10 : decode cX2_addFace 10 = .ok (.if_icmp .ge 23, 3) := dk_162 0 23 (dk_at dksX2_addFace_0 10 rfl rfl)
theorem dX2_addFace_13 : decode cX2_addFace 13 = .ok (.aload_n 0, 1) := dk_42 (dk_at dksX2_addFace_0 13 rfl rfl)
theorem dX2_addFace_14 : decode cX2_addFace 14 = .ok (.getfield 16, 3) := dk_180 0 16 (dk_at dksX2_addFace_0 14 rfl rfl)
theorem dX2_addFace_17 : decode cX2_addFace 17 = .ok (.invokeinterface 45 1, 5) := by decide +kernel
theorem dX2_addFace_22 : decode cX2_addFace 22 = .ok (.iload_n 1, 1) := dk_27 (dk_at dksX2_addFace_0 22 rfl rfl)
theorem dX2_addFace_23 : decode cX2_addFace 23 = .ok (.iadd, 1) := dk_96 (dk_at dksX2_addFace_0 23 rfl rfl)
theorem dX2_addFace_24 : decode cX2_addFace 24 = .ok (.bipush 24, 2) := dk_16 24 (dk_at dksX2_addFace_1 0 rfl rfl)
theorem dX2_addFace_26 : decode cX2_addFace 26 = .ok (.if_icmp .gt 7, 3) := dk_163 0 7 (dk_at dksX2_addFace_1 2 rfl rfl)
theorem dX2_addFace_29 : decode cX2_addFace 29 = .ok (.iconst 1, 1) := dk_4 (dk_at dksX2_addFace_1 5 rfl rfl)
theorem dX2_addFace_30 : decode cX2_addFace 30 = .ok (.goto 4, 3) := dk_167 0 4 (dk_at dksX2_addFace_1 6 rfl rfl)
theorem dX2_addFace_33 : decode cX2_addFace 33 = .ok (.iconst 0, 1) := dk_3 (dk_at dksX2_addFace_1 9 rfl rfl)
theorem dX2_addFace_34 : decode cX2_addFace 34 = .ok (.istore_n 2, 1) := dk_61 (dk_at dksX2_addFace_1 10 rfl rfl)
theorem dX2_addFace_35 : decode cX2_addFace 35 = .ok (.aload_n 0, 1) := dk_42 (dk_at dksX2_addFace_1 11 rfl rfl)
theorem dX2_addFace_36 : decode cX2_addFace 36 = .ok (.iload_n 1, 1) := dk_27 (dk_at dksX2_addFace_1 12 rfl rfl)
theorem dX2_addFace_37 : decode cX2_addFace 37 = .ok (.iconst 1, 1) := dk_4 (dk_at dksX2_addFace_1 13 rfl rfl)
theorem dX2_addFace_38 : decode cX2_addFace 38 = .ok (.bipush 8, 2) := dk_16 8 (dk_at dksX2_addFace_1 14 rfl rfl)
theorem dX2_addFace_40 : decode cX2_addFace 40 = .ok (.invokestatic 51, 3) := dk_184 0 51 (dk_at dksX2_addFace_1 16 rfl rfl)
theorem dX2_addFace_43 : decode cX2_addFace 43 = .ok (.iload_n 2, 1) := dk_28 (dk_at dksX2_addFace_1 19 rfl rfl)
theorem dX2_addFace_44 : decode cX2_addFace 44 = .ok (.iconst 1, 1) := dk_4 (dk_at dksX2_addFace_1 20 rfl rfl)
theorem dX2_addFace_45 : decode cX2_addFace 45 = .ok (.invokevirtual 75, 3) := dk_182 0 75 (dk_at dksX2_addFace_1 21 rfl rfl)
theorem dX2_addFace_48 : decode cX2_addFace 48 = .ok (.ifCond .ne 5, 3) := dk_154 0 5 (dk_at dksX2_addFace_2 0 rfl rfl)
theorem dX2_addFace_51 : decode cX2_addFace 51 = .ok (.iconst 0, 1) := dk_3 (dk_at dksX2_addFace_2 3 rfl rfl)
theorem dX2_addFace_52 : decode cX2_addFace 52 = .ok (.ireturn, 1) := dk_172 (dk_at dksX2_addFace_2 4 rfl rfl)
theorem dX2_addFace_53 : decode cX2_addFace 53 = .ok (.aload_n 0, 1) := dk_42 (dk_at dksX2_addFace_2 5 rfl rfl)
theorem dX2_addFace_54 : decode cX2_addFace 54 = .ok (.getfield 20, 3) := dk_180 0 20 (dk_at dksX2_addFace_2 6 rfl rfl)
theorem dX2_addFace_57 : decode cX2_addFace 57 = .ok (.aload_n 0, 1) := dk_42 (dk_at dksX2_addFace_2 9 rfl rfl)
theorem dX2_addFace_58 : decode cX2_addFace 58 = .ok (.getfield 16, 3) := dk_180 0 16 (dk_at dksX2_addFace_2 10 rfl rfl)
theorem dX2_addFace_61 : decode cX2_addFace 61 = .ok (.invokeinterface 45 1, 5) := by decide +kernel
theorem dX2_addFace_66 : decode cX2_addFace 66 = .ok (.invokestatic 79, 3) := dk_184 0 79 (dk_at dksX2_addFace_2 18 rfl rfl)
theorem dX2_addFace_69 : decode cX2_addFace 69 = .ok (.invokeinterface 83 2, 5) := by decide +kernel
theorem dX2_addFace_74 : decode cX2_addFace 74 = .ok (.pop, 1) := dk_87 (dk_at dksX2_addFace_3 5 rfl rfl)
theorem dX2_addFace_75 : decode cX2_addFace 75 = .ok (.iconst 0, 1) := dk_3 (dk_at dksX2_addFace_3 6 rfl rfl)
theorem dX2_addFace_76 : decode cX2_addFace 76 = .ok (.istore_n 3, 1) := dk_62 (dk_at dksX2_addFace_3 7 rfl rfl)
theorem dX2_addFace_77 : decode cX2_addFace 77 = .ok (.iload_n 3, 1) := dk_29 (dk_at dksX2_addFace_3 8 rfl rfl)
theorem dX2_addFace_78 : decode cX2_addFace 78 = .ok (.iload_n 1, 1) := dk_27 (dk_at dksX2_addFace_3 9 rfl rfl)
theorem dX2_addFace_79 : decode cX2_addFace 79 = .ok (.if_icmp .ge 38, 3) := dk_162 0 38 (dk_at dksX2_addFace_3 10 rfl rfl)
theorem dX2_addFace_82 : decode cX2_addFace 82 = .ok (.aload_n 0, 1) := dk_42 (dk_at dksX2_addFace_3 13 rfl rfl)
theorem dX2_addFace_83 : decode cX2_addFace 83 = .ok (.getfield 16, 3) := dk_180 0 16 (dk_at dksX2_addFace_3 14 rfl rfl)
theorem dX2_addFace_86 : decode cX2_addFace 86 = .ok (.new 87, 3) := dk_187 0 87 (dk_at dksX2_addFace_3 17 rfl rfl)
theorem dX2_addFace_89 : decode cX2_addFace 89 = .ok (.dup, 1) := dk_89 (dk_at dksX2_addFace_3 20 rfl rfl)
theorem dX2_addFace_90 : decode cX2_addFace 90 = .ok (.aload_n 0, 1) := dk_42 (dk_at dksX2_addFace_3 21 rfl rfl)
theorem dX2_addFace_91 : decode cX2_addFace 91 = .ok (.getfield 20, 3) := dk_180 0 20 (dk_at dksX2_addFace_4 0 rfl rfl)
theorem dX2_addFace_94 : decode cX2_addFace 94 = .ok (.invokeinterface 45 1, 5) := by decide +kernel
theorem dX2_addFace_99 : decode cX2_addFace 99 = .ok (.iconst 1, 1) := dk_4 (dk_at dksX2_addFace_4 8 rfl rfl)
theorem dX2_addFace_100 : decode cX2_addFace 100 = .ok (.isub, 1) := dk_100 (dk_at dksX2_addFace_4 9 rfl rfl)
theorem dX2_addFace_101 : decode cX2_addFace 101 = .ok (.iload_n 3, 1) := dk_29 (dk_at dksX2_addFace_4 10 rfl rfl)
theorem dX2_addFace_102 : decode cX2_addFace 102 = .ok (.invokespecial 89, 3) := dk_183 0 89 (dk_at dksX2_addFace_4 11 rfl rfl)
theorem dX2_addFace_105 : decode cX2_addFace 105 = .ok (.invokeinterface 83 2, 5) := by decide +kernel
theorem dX2_addFace_110 : decode cX2_addFace 110 = .ok (.pop, 1) := dk_87 (dk_at dksX2_addFace_4 19 rfl rfl)
theorem dX2_addFace_111 : decode cX2_addFace 111 = .ok (.iinc 3 1, 3) := dk_132 3 1 (dk_at dksX2_addFace_4 20 rfl rfl)
theorem dX2_addFace_114 : decode cX2_addFace 114 = .ok (.goto (-37), 3) := dk_167 255 219 (dk_at dksX2_addFace_5 0 rfl rfl)
theorem dX2_addFace_117 : decode cX2_addFace 117 = .ok (.aload_n 0, 1) := dk_42 (dk_at dksX2_addFace_5 3 rfl rfl)
theorem dX2_addFace_118 : decode cX2_addFace 118 = .ok (.invokevirtual 42, 3) := dk_182 0 42 (dk_at dksX2_addFace_5 4 rfl rfl)
theorem dX2_addFace_121 : decode cX2_addFace 121 = .ok (.aload_n 0, 1) := dk_42 (dk_at dksX2_addFace_5 7 rfl rfl)
theorem dX2_addFace_122 : decode cX2_addFace 122 = .ok (.getfield 20, 3) := dk_180 0 20 (dk_at dksX2_addFace_5 8 rfl rfl)
theorem dX2_addFace_125 : decode cX2_addFace 125 = .ok (.invokeinterface 45 1, 5) := by decide +kernel
theorem dX2_addFace_130 : decode cX2_addFace 130 = .ok (.iconst 1, 1) := dk_4 (dk_at dksX2_addFace_5 16 rfl rfl)
theorem dX2_addFace_131 : decode cX2_addFace 131 = .ok (.isub, 1) := dk_100 (dk_at dksX2_addFace_5 17 rfl rfl)
theorem dX2_addFace_132 : decode cX2_addFace 132 = .ok (.ireturn, 1) := dk_172 (dk_at dksX2_addFace_5 18 rfl rfl)
abbrev cX2_faceOf : ByteArray := prog_6_method_14_code
def yX2_faceOf : MethodName := ⟨RX2, "faceOf", "(I)I"⟩
def dkwX2_faceOf_1 : List UInt8 := [192, 0, 87, 180, 0, 96, 167, 0, 4, 3, 172]
abbrev dktX2_faceOf_1 : List UInt8 := dkwX2_faceOf_1 ++ []
def dkwX2_faceOf_0 : List UInt8 := [42, 42, 27, 182, 0, 92, 4, 4, 182, 0, 75, 153, 0, 22, 42, 180, 0, 16, 27, 185, 0, 59, 2, 0]
abbrev dktX2_faceOf_0 : List UInt8 := dkwX2_faceOf_0 ++ dktX2_faceOf_1
theorem dksX2_faceOf_0 : cX2_faceOf.data.toList.drop 0 = dktX2_faceOf_0 := by decide +kernel
theorem dksX2_faceOf_1 : cX2_faceOf.data.toList.drop 24 = dktX2_faceOf_1 := dk_seg dksX2_faceOf_0 24 rfl rfl
theorem dX2_faceOf_0 : decode cX2_faceOf 0 = .ok (.aload_n 0, 1) := dk_42 (dk_at dksX2_faceOf_0 0 rfl rfl)
theorem dX2_faceOf_1 : decode cX2_faceOf 1 = .ok (.aload_n 0, 1) := dk_42 (dk_at dksX2_faceOf_0 1 rfl rfl)
theorem dX2_faceOf_2 : decode cX2_faceOf 2 = .ok (.iload_n 1, 1) := dk_27 (dk_at dksX2_faceOf_0 2 rfl rfl)
theorem dX2_faceOf_3 : decode cX2_faceOf 3 = .ok (.invokevirtual 92, 3) := dk_182 0 92 (dk_at dksX2_faceOf_0 3 rfl rfl)
theorem dX2_faceOf_6 : decode cX2_faceOf 6 = .ok (.iconst 1, 1) := dk_4 (dk_at dksX2_faceOf_0 6 rfl rfl)
theorem dX2_faceOf_7 : decode cX2_faceOf 7 = .ok (.iconst 1, 1) := dk_4 (dk_at dksX2_faceOf_0 7 rfl rfl)
theorem dX2_faceOf_8 : decode cX2_faceOf 8 = .ok (.invokevirtual 75, 3) := dk_182 0 75 (dk_at dksX2_faceOf_0 8 rfl rfl)
theorem dX2_faceOf_11 : decode cX2_faceOf 11 = .ok (.ifCond .eq 22, 3) := dk_153 0 22 (dk_at dksX2_faceOf_0 11 rfl rfl)
theorem dX2_faceOf_14 : decode cX2_faceOf 14 = .ok (.aload_n 0, 1) := dk_42 (dk_at dksX2_faceOf_0 14 rfl rfl)
theorem dX2_faceOf_15 : decode cX2_faceOf 15 = .ok (.getfield 16, 3) := dk_180 0 16 (dk_at dksX2_faceOf_0 15 rfl rfl)
theorem dX2_faceOf_18 : decode cX2_faceOf 18 = .ok (.iload_n 1, 1) := dk_27 (dk_at dksX2_faceOf_0 18 rfl rfl)
theorem dX2_faceOf_19 : decode cX2_faceOf 19 = .ok (.invokeinterface 59 2, 5) := by decide +kernel
theorem dX2_faceOf_24 : decode cX2_faceOf 24 = .ok (.checkcast 87, 3) := dk_192 0 87 (dk_at dksX2_faceOf_1 0 rfl rfl)
theorem dX2_faceOf_27 : decode cX2_faceOf 27 = .ok (.getfield 96, 3) := dk_180 0 96 (dk_at dksX2_faceOf_1 3 rfl rfl)
theorem dX2_faceOf_30 : decode cX2_faceOf 30 = .ok (.goto 4, 3) := dk_167 0 4 (dk_at dksX2_faceOf_1 6 rfl rfl)
theorem dX2_faceOf_33 : decode cX2_faceOf 33 = .ok (.iconst 0, 1) := dk_3 (dk_at dksX2_faceOf_1 9 rfl rfl)
theorem dX2_faceOf_34 : decode cX2_faceOf 34 = .ok (.ireturn, 1) := dk_172 (dk_at dksX2_faceOf_1 10 rfl rfl)
abbrev cX2_isBay : ByteArray := prog_6_method_7_code
def yX2_isBay : MethodName := ⟨RX2, "isBay", "(I)Z"⟩
def dkwX2_isBay_0 : List UInt8 := [27, 3, 42, 180, 0, 16, 185, 0, 45, 1, 0, 4, 100, 184, 0, 51, 172]
abbrev dktX2_isBay_0 : List UInt8 := dkwX2_isBay_0 ++ []
theorem dksX2_isBay_0 : cX2_isBay.data.toList.drop 0 = dktX2_isBay_0 := by decide +kernel
theorem dX2_isBay_0 : decode cX2_isBay 0 = .ok (.iload_n 1, 1) := dk_27 (dk_at dksX2_isBay_0 0 rfl rfl)
theorem dX2_isBay_1 : decode cX2_isBay 1 = .ok (.iconst 0, 1) := dk_3 (dk_at dksX2_isBay_0 1 rfl rfl)
theorem dX2_isBay_2 : decode cX2_isBay 2 = .ok (.aload_n 0, 1) := dk_42 (dk_at dksX2_isBay_0 2 rfl rfl)
theorem dX2_isBay_3 : decode cX2_isBay 3 = .ok (.getfield 16, 3) := dk_180 0 16 (dk_at dksX2_isBay_0 3 rfl rfl)
theorem dX2_isBay_6 : decode cX2_isBay 6 = .ok (.invokeinterface 45 1, 5) := by decide +kernel
theorem dX2_isBay_11 : decode cX2_isBay 11 = .ok (.iconst 1, 1) := dk_4 (dk_at dksX2_isBay_0 11 rfl rfl)
theorem dX2_isBay_12 : decode cX2_isBay 12 = .ok (.isub, 1) := dk_100 (dk_at dksX2_isBay_0 12 rfl rfl)
theorem dX2_isBay_13 : decode cX2_isBay 13 = .ok (.invokestatic 51, 3) := dk_184 0 51 (dk_at dksX2_isBay_0 13 rfl rfl)
theorem dX2_isBay_16 : decode cX2_isBay 16 = .ok (.ireturn, 1) := dk_172 (dk_at dksX2_isBay_0 16 rfl rfl)
abbrev cX2_isCorner : ByteArray := prog_6_method_16_code
def yX2_isCorner : MethodName := ⟨RX2, "isCorner", "(I)Z"⟩
def dkwX2_isCorner_1 : List UInt8 := [167, 0, 4, 3, 172]
abbrev dktX2_isCorner_1 : List UInt8 := dkwX2_isCorner_1 ++ []
def dkwX2_isCorner_0 : List UInt8 := [42, 42, 27, 182, 0, 99, 4, 4, 182, 0, 75, 153, 0, 15, 42, 27, 182, 0, 102, 153, 0, 7, 4]
abbrev dktX2_isCorner_0 : List UInt8 := dkwX2_isCorner_0 ++ dktX2_isCorner_1
theorem dksX2_isCorner_0 : cX2_isCorner.data.toList.drop 0 = dktX2_isCorner_0 := by decide +kernel
theorem dksX2_isCorner_1 : cX2_isCorner.data.toList.drop 23 = dktX2_isCorner_1 := dk_seg dksX2_isCorner_0 23 rfl rfl
theorem dX2_isCorner_0 : decode cX2_isCorner 0 = .ok (.aload_n 0, 1) := dk_42 (dk_at dksX2_isCorner_0 0 rfl rfl)
theorem dX2_isCorner_1 : decode cX2_isCorner 1 = .ok (.aload_n 0, 1) := dk_42 (dk_at dksX2_isCorner_0 1 rfl rfl)
theorem dX2_isCorner_2 : decode cX2_isCorner 2 = .ok (.iload_n 1, 1) := dk_27 (dk_at dksX2_isCorner_0 2 rfl rfl)
theorem dX2_isCorner_3 : decode cX2_isCorner 3 = .ok (.invokevirtual 99, 3) := dk_182 0 99 (dk_at dksX2_isCorner_0 3 rfl rfl)
theorem dX2_isCorner_6 : decode cX2_isCorner 6 = .ok (.iconst 1, 1) := dk_4 (dk_at dksX2_isCorner_0 6 rfl rfl)
theorem dX2_isCorner_7 : decode cX2_isCorner 7 = .ok (.iconst 1, 1) := dk_4 (dk_at dksX2_isCorner_0 7 rfl rfl)
theorem dX2_isCorner_8 : decode cX2_isCorner 8 = .ok (.invokevirtual 75, 3) := dk_182 0 75 (dk_at dksX2_isCorner_0 8 rfl rfl)
theorem dX2_isCorner_11 : decode cX2_isCorner 11 = .ok (.ifCond .eq 15, 3) := dk_153 0 15 (dk_at dksX2_isCorner_0 11 rfl rfl)
theorem dX2_isCorner_14 : decode cX2_isCorner 14 = .ok (.aload_n 0, 1) := dk_42 (dk_at dksX2_isCorner_0 14 rfl rfl)
theorem dX2_isCorner_15 : decode cX2_isCorner 15 = .ok (.iload_n 1, 1) := dk_27 (dk_at dksX2_isCorner_0 15 rfl rfl)
theorem dX2_isCorner_16 : decode cX2_isCorner 16 = .ok (.invokevirtual 102, 3) := dk_182 0 102 (dk_at dksX2_isCorner_0 16 rfl rfl)
theorem dX2_isCorner_19 : decode cX2_isCorner 19 = .ok (.ifCond .eq 7, 3) := dk_153 0 7 (dk_at dksX2_isCorner_0 19 rfl rfl)
theorem dX2_isCorner_22 : decode cX2_isCorner 22 = .ok (.iconst 1, 1) := dk_4 (dk_at dksX2_isCorner_0 22 rfl rfl)
theorem dX2_isCorner_23 : decode cX2_isCorner 23 = .ok (.goto 4, 3) := dk_167 0 4 (dk_at dksX2_isCorner_1 0 rfl rfl)
theorem dX2_isCorner_26 : decode cX2_isCorner 26 = .ok (.iconst 0, 1) := dk_3 (dk_at dksX2_isCorner_1 3 rfl rfl)
theorem dX2_isCorner_27 : decode cX2_isCorner 27 = .ok (.ireturn, 1) := dk_172 (dk_at dksX2_isCorner_1 4 rfl rfl)
abbrev cX2_isPosition : ByteArray := prog_6_method_8_code
def yX2_isPosition : MethodName := ⟨RX2, "isPosition", "(I)Z"⟩
def dkwX2_isPosition_1 : List UInt8 := [184, 0, 51, 153, 0, 7, 4, 167, 0, 4, 3, 172]
abbrev dktX2_isPosition_1 : List UInt8 := dkwX2_isPosition_1 ++ []
def dkwX2_isPosition_0 : List UInt8 := [42, 180, 0, 16, 185, 0, 55, 1, 0, 154, 0, 24, 27, 3, 42, 180, 0, 16, 185, 0, 45, 1, 0]
abbrev dktX2_isPosition_0 : List UInt8 := dkwX2_isPosition_0 ++ dktX2_isPosition_1
theorem dksX2_isPosition_0 : cX2_isPosition.data.toList.drop 0 = dktX2_isPosition_0 := by decide +kernel
theorem dksX2_isPosition_1 : cX2_isPosition.data.toList.drop 23 = dktX2_isPosition_1 := dk_seg dksX2_isPosition_0 23 rfl rfl
theorem dX2_isPosition_0 : decode cX2_isPosition 0 = .ok (.aload_n 0, 1) := dk_42 (dk_at dksX2_isPosition_0 0 rfl rfl)
theorem dX2_isPosition_1 : decode cX2_isPosition 1 = .ok (.getfield 16, 3) := dk_180 0 16 (dk_at dksX2_isPosition_0 1 rfl rfl)
theorem dX2_isPosition_4 : decode cX2_isPosition 4 = .ok (.invokeinterface 55 1, 5) := by decide +kernel
theorem dX2_isPosition_9 : decode cX2_isPosition 9 = .ok (.ifCond .ne 24, 3) := dk_154 0 24 (dk_at dksX2_isPosition_0 9 rfl rfl)
theorem dX2_isPosition_12 : decode cX2_isPosition 12 = .ok (.iload_n 1, 1) := dk_27 (dk_at dksX2_isPosition_0 12 rfl rfl)
theorem dX2_isPosition_13 : decode cX2_isPosition 13 = .ok (.iconst 0, 1) := dk_3 (dk_at dksX2_isPosition_0 13 rfl rfl)
theorem dX2_isPosition_14 : decode cX2_isPosition 14 = .ok (.aload_n 0, 1) := dk_42 (dk_at dksX2_isPosition_0 14 rfl rfl)
theorem dX2_isPosition_15 : decode cX2_isPosition 15 = .ok (.getfield 16, 3) := dk_180 0 16 (dk_at dksX2_isPosition_0 15 rfl rfl)
theorem dX2_isPosition_18 : decode cX2_isPosition 18 = .ok (.invokeinterface 45 1, 5) := by decide +kernel
theorem dX2_isPosition_23 : decode cX2_isPosition 23 = .ok (.invokestatic 51, 3) := dk_184 0 51 (dk_at dksX2_isPosition_1 0 rfl rfl)
theorem dX2_isPosition_26 : decode cX2_isPosition 26 = .ok (.ifCond .eq 7, 3) := dk_153 0 7 (dk_at dksX2_isPosition_1 3 rfl rfl)
theorem dX2_isPosition_29 : decode cX2_isPosition 29 = .ok (.iconst 1, 1) := dk_4 (dk_at dksX2_isPosition_1 6 rfl rfl)
theorem dX2_isPosition_30 : decode cX2_isPosition 30 = .ok (.goto 4, 3) := dk_167 0 4 (dk_at dksX2_isPosition_1 7 rfl rfl)
theorem dX2_isPosition_33 : decode cX2_isPosition 33 = .ok (.iconst 0, 1) := dk_3 (dk_at dksX2_isPosition_1 10 rfl rfl)
theorem dX2_isPosition_34 : decode cX2_isPosition 34 = .ok (.ireturn, 1) := dk_172 (dk_at dksX2_isPosition_1 11 rfl rfl)
abbrev cX2_isBetween : ByteArray := prog_6_method_15_code
def yX2_isBetween : MethodName := ⟨RX2, "isBetween", "(I)Z"⟩
def dkwX2_isBetween_2 : List UInt8 := [192, 0, 87, 180, 0, 96, 159, 0, 7, 4, 167, 0, 4, 3, 172]
abbrev dktX2_isBetween_2 : List UInt8 := dkwX2_isBetween_2 ++ []
def dkwX2_isBetween_1 : List UInt8 := [4, 100, 185, 0, 59, 2, 0, 192, 0, 87, 180, 0, 96, 42, 180, 0, 16, 27, 185, 0, 59, 2, 0]
abbrev dktX2_isBetween_1 : List UInt8 := dkwX2_isBetween_1 ++ dktX2_isBetween_2
def dkwX2_isBetween_0 : List UInt8 := [27, 4, 42, 180, 0, 16, 185, 0, 45, 1, 0, 4, 100, 184, 0, 51, 153, 0, 44, 42, 180, 0, 16, 27]
abbrev dktX2_isBetween_0 : List UInt8 := dkwX2_isBetween_0 ++ dktX2_isBetween_1
theorem dksX2_isBetween_0 : cX2_isBetween.data.toList.drop 0 = dktX2_isBetween_0 := by decide +kernel
theorem dksX2_isBetween_1 : cX2_isBetween.data.toList.drop 24 = dktX2_isBetween_1 := dk_seg dksX2_isBetween_0 24 rfl rfl
theorem dksX2_isBetween_2 : cX2_isBetween.data.toList.drop 47 = dktX2_isBetween_2 := dk_seg dksX2_isBetween_1 23 rfl rfl
theorem dX2_isBetween_0 : decode cX2_isBetween 0 = .ok (.iload_n 1, 1) := dk_27 (dk_at dksX2_isBetween_0 0 rfl rfl)
theorem dX2_isBetween_1 : decode cX2_isBetween 1 = .ok (.iconst 1, 1) := dk_4 (dk_at dksX2_isBetween_0 1 rfl rfl)
theorem dX2_isBetween_2 : decode cX2_isBetween 2 = .ok (.aload_n 0, 1) := dk_42 (dk_at dksX2_isBetween_0 2 rfl rfl)
theorem dX2_isBetween_3 : decode cX2_isBetween 3 = .ok (.getfield 16, 3) := dk_180 0 16 (dk_at dksX2_isBetween_0 3 rfl rfl)
theorem dX2_isBetween_6 : decode cX2_isBetween 6 = .ok (.invokeinterface 45 1, 5) := by decide +kernel
theorem dX2_isBetween_11 : decode cX2_isBetween 11 = .ok (.iconst 1, 1) := dk_4 (dk_at dksX2_isBetween_0 11 rfl rfl)
theorem dX2_isBetween_12 : decode cX2_isBetween 12 = .ok (.isub, 1) := dk_100 (dk_at dksX2_isBetween_0 12 rfl rfl)
theorem dX2_isBetween_13 : decode cX2_isBetween 13 = .ok (.invokestatic 51, 3) := dk_184 0 51 (dk_at dksX2_isBetween_0 13 rfl rfl)
theorem dX2_isBetween_16 : decode cX2_isBetween 16 = .ok (.ifCond .eq 44, 3) := dk_153 0 44 (dk_at dksX2_isBetween_0 16 rfl rfl)
theorem dX2_isBetween_19 : decode cX2_isBetween 19 = .ok (.aload_n 0, 1) := dk_42 (dk_at dksX2_isBetween_0 19 rfl rfl)
theorem dX2_isBetween_20 : decode cX2_isBetween 20 = .ok (.getfield 16, 3) := dk_180 0 16 (dk_at dksX2_isBetween_0 20 rfl rfl)
theorem dX2_isBetween_23 : decode cX2_isBetween 23 = .ok (.iload_n 1, 1) := dk_27 (dk_at dksX2_isBetween_0 23 rfl rfl)
theorem dX2_isBetween_24 : decode cX2_isBetween 24 = .ok (.iconst 1, 1) := dk_4 (dk_at dksX2_isBetween_1 0 rfl rfl)
theorem dX2_isBetween_25 : decode cX2_isBetween 25 = .ok (.isub, 1) := dk_100 (dk_at dksX2_isBetween_1 1 rfl rfl)
theorem dX2_isBetween_26 : decode cX2_isBetween 26 = .ok (.invokeinterface 59 2, 5) := by decide +kernel
theorem dX2_isBetween_31 : decode cX2_isBetween 31 = .ok (.checkcast 87, 3) := dk_192 0 87 (dk_at dksX2_isBetween_1 7 rfl rfl)
theorem dX2_isBetween_34 : decode cX2_isBetween 34 = .ok (.getfield 96, 3) := dk_180 0 96 (dk_at dksX2_isBetween_1 10 rfl rfl)
theorem dX2_isBetween_37 : decode cX2_isBetween 37 = .ok (.aload_n 0, 1) := dk_42 (dk_at dksX2_isBetween_1 13 rfl rfl)
theorem dX2_isBetween_38 : decode cX2_isBetween 38 = .ok (.getfield 16, 3) := dk_180 0 16 (dk_at dksX2_isBetween_1 14 rfl rfl)
theorem dX2_isBetween_41 : decode cX2_isBetween 41 = .ok (.iload_n 1, 1) := dk_27 (dk_at dksX2_isBetween_1 17 rfl rfl)
theorem dX2_isBetween_42 : decode cX2_isBetween 42 = .ok (.invokeinterface 59 2, 5) := by decide +kernel
theorem dX2_isBetween_47 : decode cX2_isBetween 47 = .ok (.checkcast 87, 3) := dk_192 0 87 (dk_at dksX2_isBetween_2 0 rfl rfl)
theorem dX2_isBetween_50 : decode cX2_isBetween 50 = .ok (.getfield 96, 3) := dk_180 0 96 (dk_at dksX2_isBetween_2 3 rfl rfl)
theorem dX2_isBetween_53 : decode cX2_isBetween 53 = .ok (.if_icmp .eq 7, 3) := dk_159 0 7 (dk_at dksX2_isBetween_2 6 rfl rfl)
theorem dX2_isBetween_56 : decode cX2_isBetween 56 = .ok (.iconst 1, 1) := dk_4 (dk_at dksX2_isBetween_2 9 rfl rfl)
theorem dX2_isBetween_57 : decode cX2_isBetween 57 = .ok (.goto 4, 3) := dk_167 0 4 (dk_at dksX2_isBetween_2 10 rfl rfl)
theorem dX2_isBetween_60 : decode cX2_isBetween 60 = .ok (.iconst 0, 1) := dk_3 (dk_at dksX2_isBetween_2 13 rfl rfl)
theorem dX2_isBetween_61 : decode cX2_isBetween 61 = .ok (.ireturn, 1) := dk_172 (dk_at dksX2_isBetween_2 14 rfl rfl)
abbrev cX2_levels : ByteArray := prog_6_method_19_code
def yX2_levels : MethodName := ⟨RX2, "levels", "(I)I"⟩
def dkwX2_levels_0 : List UInt8 := [42, 42, 27, 182, 0, 99, 4, 4, 182, 0, 75, 153, 0, 11, 42, 27, 182, 0, 114, 167, 0, 4, 3, 172]
abbrev dktX2_levels_0 : List UInt8 := dkwX2_levels_0 ++ []
theorem dksX2_levels_0 : cX2_levels.data.toList.drop 0 = dktX2_levels_0 := by decide +kernel
theorem dX2_levels_0 : decode cX2_levels 0 = .ok (.aload_n 0, 1) := dk_42 (dk_at dksX2_levels_0 0 rfl rfl)
theorem dX2_levels_1 : decode cX2_levels 1 = .ok (.aload_n 0, 1) := dk_42 (dk_at dksX2_levels_0 1 rfl rfl)
theorem dX2_levels_2 : decode cX2_levels 2 = .ok (.iload_n 1, 1) := dk_27 (dk_at dksX2_levels_0 2 rfl rfl)
theorem dX2_levels_3 : decode cX2_levels 3 = .ok (.invokevirtual 99, 3) := dk_182 0 99 (dk_at dksX2_levels_0 3 rfl rfl)
theorem dX2_levels_6 : decode cX2_levels 6 = .ok (.iconst 1, 1) := dk_4 (dk_at dksX2_levels_0 6 rfl rfl)
theorem dX2_levels_7 : decode cX2_levels 7 = .ok (.iconst 1, 1) := dk_4 (dk_at dksX2_levels_0 7 rfl rfl)
theorem dX2_levels_8 : decode cX2_levels 8 = .ok (.invokevirtual 75, 3) := dk_182 0 75 (dk_at dksX2_levels_0 8 rfl rfl)
theorem dX2_levels_11 : decode cX2_levels 11 = .ok (.ifCond .eq 11, 3) := dk_153 0 11 (dk_at dksX2_levels_0 11 rfl rfl)
theorem dX2_levels_14 : decode cX2_levels 14 = .ok (.aload_n 0, 1) := dk_42 (dk_at dksX2_levels_0 14 rfl rfl)
theorem dX2_levels_15 : decode cX2_levels 15 = .ok (.iload_n 1, 1) := dk_27 (dk_at dksX2_levels_0 15 rfl rfl)
theorem dX2_levels_16 : decode cX2_levels 16 = .ok (.invokevirtual 114, 3) := dk_182 0 114 (dk_at dksX2_levels_0 16 rfl rfl)
theorem dX2_levels_19 : decode cX2_levels 19 = .ok (.goto 4, 3) := dk_167 0 4 (dk_at dksX2_levels_0 19 rfl rfl)
theorem dX2_levels_22 : decode cX2_levels 22 = .ok (.iconst 0, 1) := dk_3 (dk_at dksX2_levels_0 22 rfl rfl)
theorem dX2_levels_23 : decode cX2_levels 23 = .ok (.ireturn, 1) := dk_172 (dk_at dksX2_levels_0 23 rfl rfl)
abbrev cX2_levelsOf : ByteArray := prog_6_method_18_code
def yX2_levelsOf : MethodName := ⟨RX2, "levelsOf", "(I)I"⟩
def dkwX2_levelsOf_2 : List UInt8 := [185, 0, 59, 2, 0, 192, 0, 87, 180, 0, 105, 167, 0, 4, 3, 62, 28, 29, 184, 0, 108, 172]
abbrev dktX2_levelsOf_2 : List UInt8 := dkwX2_levelsOf_2 ++ []
def dkwX2_levelsOf_1 : List UInt8 := [167, 0, 4, 3, 61, 27, 42, 180, 0, 16, 185, 0, 45, 1, 0, 162, 0, 22, 42, 180, 0, 16, 27]
abbrev dktX2_levelsOf_1 : List UInt8 := dkwX2_levelsOf_1 ++ dktX2_levelsOf_2
def dkwX2_levelsOf_0 : List UInt8 := [27, 158, 0, 24, 42, 180, 0, 16, 27, 4, 100, 185, 0, 59, 2, 0, 192, 0, 87, 180, 0, 105]
abbrev dktX2_levelsOf_0 : List UInt8 := dkwX2_levelsOf_0 ++ dktX2_levelsOf_1
theorem dksX2_levelsOf_0 : cX2_levelsOf.data.toList.drop 0 = dktX2_levelsOf_0 := by decide +kernel
theorem dksX2_levelsOf_1 : cX2_levelsOf.data.toList.drop 22 = dktX2_levelsOf_1 := dk_seg dksX2_levelsOf_0 22 rfl rfl
theorem dksX2_levelsOf_2 : cX2_levelsOf.data.toList.drop 45 = dktX2_levelsOf_2 := dk_seg dksX2_levelsOf_1 23 rfl rfl
theorem dX2_levelsOf_0 : decode cX2_levelsOf 0 = .ok (.iload_n 1, 1) := dk_27 (dk_at dksX2_levelsOf_0 0 rfl rfl)
theorem dX2_levelsOf_1 : decode cX2_levelsOf 1 = .ok (.ifCond .le 24, 3) := dk_158 0 24 (dk_at dksX2_levelsOf_0 1 rfl rfl)
theorem dX2_levelsOf_4 : decode cX2_levelsOf 4 = .ok (.aload_n 0, 1) := dk_42 (dk_at dksX2_levelsOf_0 4 rfl rfl)
theorem dX2_levelsOf_5 : decode cX2_levelsOf 5 = .ok (.getfield 16, 3) := dk_180 0 16 (dk_at dksX2_levelsOf_0 5 rfl rfl)
theorem dX2_levelsOf_8 : decode cX2_levelsOf 8 = .ok (.iload_n 1, 1) := dk_27 (dk_at dksX2_levelsOf_0 8 rfl rfl)
theorem dX2_levelsOf_9 : decode cX2_levelsOf 9 = .ok (.iconst 1, 1) := dk_4 (dk_at dksX2_levelsOf_0 9 rfl rfl)
theorem dX2_levelsOf_10 : decode cX2_levelsOf 10 = .ok (.isub, 1) := dk_100 (dk_at dksX2_levelsOf_0 10 rfl rfl)
theorem dX2_levelsOf_11 : decode cX2_levelsOf 11 = .ok (.invokeinterface 59 2, 5) := by decide +kernel
theorem dX2_levelsOf_16 : decode cX2_levelsOf 16 = .ok (.checkcast 87, 3) := dk_192 0 87 (dk_at dksX2_levelsOf_0 16 rfl rfl)
theorem dX2_levelsOf_19 : decode cX2_levelsOf 19 = .ok (.getfield 105, 3) := dk_180 0 105 (dk_at dksX2_levelsOf_0 19 rfl rfl)
theorem dX2_levelsOf_22 : decode cX2_levelsOf 22 = .ok (.goto 4, 3) := dk_167 0 4 (dk_at dksX2_levelsOf_1 0 rfl rfl)
theorem dX2_levelsOf_25 : decode cX2_levelsOf 25 = .ok (.iconst 0, 1) := dk_3 (dk_at dksX2_levelsOf_1 3 rfl rfl)
theorem dX2_levelsOf_26 : decode cX2_levelsOf 26 = .ok (.istore_n 2, 1) := dk_61 (dk_at dksX2_levelsOf_1 4 rfl rfl)
theorem dX2_levelsOf_27 : decode cX2_levelsOf 27 = .ok (.iload_n 1, 1) := dk_27 (dk_at dksX2_levelsOf_1 5 rfl rfl)
theorem dX2_levelsOf_28 : decode cX2_levelsOf 28 = .ok (.aload_n 0, 1) := dk_42 (dk_at dksX2_levelsOf_1 6 rfl rfl)
theorem dX2_levelsOf_29 : decode cX2_levelsOf 29 = .ok (.getfield 16, 3) := dk_180 0 16 (dk_at dksX2_levelsOf_1 7 rfl rfl)
theorem dX2_levelsOf_32 : decode cX2_levelsOf 32 = .ok (.invokeinterface 45 1, 5) := by decide +kernel
theorem dX2_levelsOf_37 : decode cX2_levelsOf 37 = .ok (.if_icmp .ge 22, 3) := dk_162 0 22 (dk_at dksX2_levelsOf_1 15 rfl rfl)
theorem dX2_levelsOf_40 : decode cX2_levelsOf 40 = .ok (.aload_n 0, 1) := dk_42 (dk_at dksX2_levelsOf_1 18 rfl rfl)
theorem dX2_levelsOf_41 : decode cX2_levelsOf 41 = .ok (.getfield 16, 3) := dk_180 0 16 (dk_at dksX2_levelsOf_1 19 rfl rfl)
theorem dX2_levelsOf_44 : decode cX2_levelsOf 44 = .ok (.iload_n 1, 1) := dk_27 (dk_at dksX2_levelsOf_1 22 rfl rfl)
theorem dX2_levelsOf_45 : decode cX2_levelsOf 45 = .ok (.invokeinterface 59 2, 5) := by decide +kernel
theorem dX2_levelsOf_50 : decode cX2_levelsOf 50 = .ok (.checkcast 87, 3) := dk_192 0 87 (dk_at dksX2_levelsOf_2 5 rfl rfl)
theorem dX2_levelsOf_53 : decode cX2_levelsOf 53 = .ok (.getfield 105, 3) := dk_180 0 105 (dk_at dksX2_levelsOf_2 8 rfl rfl)
theorem dX2_levelsOf_56 : decode cX2_levelsOf 56 = .ok (.goto 4, 3) := dk_167 0 4 (dk_at dksX2_levelsOf_2 11 rfl rfl)
theorem dX2_levelsOf_59 : decode cX2_levelsOf 59 = .ok (.iconst 0, 1) := dk_3 (dk_at dksX2_levelsOf_2 14 rfl rfl)
theorem dX2_levelsOf_60 : decode cX2_levelsOf 60 = .ok (.istore_n 3, 1) := dk_62 (dk_at dksX2_levelsOf_2 15 rfl rfl)
theorem dX2_levelsOf_61 : decode cX2_levelsOf 61 = .ok (.iload_n 2, 1) := dk_28 (dk_at dksX2_levelsOf_2 16 rfl rfl)
theorem dX2_levelsOf_62 : decode cX2_levelsOf 62 = .ok (.iload_n 3, 1) := dk_29 (dk_at dksX2_levelsOf_2 17 rfl rfl)
theorem dX2_levelsOf_63 : decode cX2_levelsOf 63 = .ok (.invokestatic 108, 3) := dk_184 0 108 (dk_at dksX2_levelsOf_2 18 rfl rfl)
theorem dX2_levelsOf_66 : decode cX2_levelsOf 66 = .ok (.ireturn, 1) := dk_172 (dk_at dksX2_levelsOf_2 21 rfl rfl)
abbrev cX2_lifts : ByteArray := prog_6_method_20_code
def yX2_lifts : MethodName := ⟨RX2, "lifts", "(I)I"⟩
def dkwX2_lifts_1 : List UInt8 := [192, 0, 87, 180, 0, 105, 167, 0, 4, 3, 172]
abbrev dktX2_lifts_1 : List UInt8 := dkwX2_lifts_1 ++ []
def dkwX2_lifts_0 : List UInt8 := [42, 42, 27, 182, 0, 92, 4, 4, 182, 0, 75, 153, 0, 22, 42, 180, 0, 16, 27, 185, 0, 59, 2, 0]
abbrev dktX2_lifts_0 : List UInt8 := dkwX2_lifts_0 ++ dktX2_lifts_1
theorem dksX2_lifts_0 : cX2_lifts.data.toList.drop 0 = dktX2_lifts_0 := by decide +kernel
theorem dksX2_lifts_1 : cX2_lifts.data.toList.drop 24 = dktX2_lifts_1 := dk_seg dksX2_lifts_0 24 rfl rfl
theorem dX2_lifts_0 : decode cX2_lifts 0 = .ok (.aload_n 0, 1) := dk_42 (dk_at dksX2_lifts_0 0 rfl rfl)
theorem dX2_lifts_1 : decode cX2_lifts 1 = .ok (.aload_n 0, 1) := dk_42 (dk_at dksX2_lifts_0 1 rfl rfl)
theorem dX2_lifts_2 : decode cX2_lifts 2 = .ok (.iload_n 1, 1) := dk_27 (dk_at dksX2_lifts_0 2 rfl rfl)
theorem dX2_lifts_3 : decode cX2_lifts 3 = .ok (.invokevirtual 92, 3) := dk_182 0 92 (dk_at dksX2_lifts_0 3 rfl rfl)
theorem dX2_lifts_6 : decode cX2_lifts 6 = .ok (.iconst 1, 1) := dk_4 (dk_at dksX2_lifts_0 6 rfl rfl)
theorem dX2_lifts_7 : decode cX2_lifts 7 = .ok (.iconst 1, 1) := dk_4 (dk_at dksX2_lifts_0 7 rfl rfl)
theorem dX2_lifts_8 : decode cX2_lifts 8 = .ok (.invokevirtual 75, 3) := dk_182 0 75 (dk_at dksX2_lifts_0 8 rfl rfl)
theorem dX2_lifts_11 : decode cX2_lifts 11 = .ok (.ifCond .eq 22, 3) := dk_153 0 22 (dk_at dksX2_lifts_0 11 rfl rfl)
theorem dX2_lifts_14 : decode cX2_lifts 14 = .ok (.aload_n 0, 1) := dk_42 (dk_at dksX2_lifts_0 14 rfl rfl)
theorem dX2_lifts_15 : decode cX2_lifts 15 = .ok (.getfield 16, 3) := dk_180 0 16 (dk_at dksX2_lifts_0 15 rfl rfl)
theorem dX2_lifts_18 : decode cX2_lifts 18 = .ok (.iload_n 1, 1) := dk_27 (dk_at dksX2_lifts_0 18 rfl rfl)
theorem dX2_lifts_19 : decode cX2_lifts 19 = .ok (.invokeinterface 59 2, 5) := by decide +kernel
theorem dX2_lifts_24 : decode cX2_lifts 24 = .ok (.checkcast 87, 3) := dk_192 0 87 (dk_at dksX2_lifts_1 0 rfl rfl)
theorem dX2_lifts_27 : decode cX2_lifts 27 = .ok (.getfield 105, 3) := dk_180 0 105 (dk_at dksX2_lifts_1 3 rfl rfl)
theorem dX2_lifts_30 : decode cX2_lifts 30 = .ok (.goto 4, 3) := dk_167 0 4 (dk_at dksX2_lifts_1 6 rfl rfl)
theorem dX2_lifts_33 : decode cX2_lifts 33 = .ok (.iconst 0, 1) := dk_3 (dk_at dksX2_lifts_1 9 rfl rfl)
theorem dX2_lifts_34 : decode cX2_lifts 34 = .ok (.ireturn, 1) := dk_172 (dk_at dksX2_lifts_1 10 rfl rfl)
abbrev cX2_setLifts : ByteArray := prog_6_method_26_code
def yX2_setLifts : MethodName := ⟨RX2, "setLifts", "(II)I"⟩
def dkwX2_setLifts_2 : List UInt8 := [180, 0, 16, 27, 185, 0, 59, 2, 0, 192, 0, 87, 28, 182, 0, 127, 42, 182, 0, 42, 29, 172]
abbrev dktX2_setLifts_2 : List UInt8 := dkwX2_setLifts_2 ++ []
def dkwX2_setLifts_1 : List UInt8 := [180, 0, 16, 27, 185, 0, 59, 2, 0, 192, 0, 87, 180, 0, 105, 62, 28, 29, 159, 0, 24, 42]
abbrev dktX2_setLifts_1 : List UInt8 := dkwX2_setLifts_1 ++ dktX2_setLifts_2
def dkwX2_setLifts_0 : List UInt8 := [42, 42, 27, 182, 0, 92, 28, 3, 16, 8, 184, 0, 51, 4, 182, 0, 75, 154, 0, 5, 3, 172, 42]
abbrev dktX2_setLifts_0 : List UInt8 := dkwX2_setLifts_0 ++ dktX2_setLifts_1
theorem dksX2_setLifts_0 : cX2_setLifts.data.toList.drop 0 = dktX2_setLifts_0 := by decide +kernel
theorem dksX2_setLifts_1 : cX2_setLifts.data.toList.drop 23 = dktX2_setLifts_1 := dk_seg dksX2_setLifts_0 23 rfl rfl
theorem dksX2_setLifts_2 : cX2_setLifts.data.toList.drop 45 = dktX2_setLifts_2 := dk_seg dksX2_setLifts_1 22 rfl rfl
theorem dX2_setLifts_0 : decode cX2_setLifts 0 = .ok (.aload_n 0, 1) := dk_42 (dk_at dksX2_setLifts_0 0 rfl rfl)
theorem dX2_setLifts_1 : decode cX2_setLifts 1 = .ok (.aload_n 0, 1) := dk_42 (dk_at dksX2_setLifts_0 1 rfl rfl)
theorem dX2_setLifts_2 : decode cX2_setLifts 2 = .ok (.iload_n 1, 1) := dk_27 (dk_at dksX2_setLifts_0 2 rfl rfl)
theorem dX2_setLifts_3 : decode cX2_setLifts 3 = .ok (.invokevirtual 92, 3) := dk_182 0 92 (dk_at dksX2_setLifts_0 3 rfl rfl)
theorem dX2_setLifts_6 : decode cX2_setLifts 6 = .ok (.iload_n 2, 1) := dk_28 (dk_at dksX2_setLifts_0 6 rfl rfl)
theorem dX2_setLifts_7 : decode cX2_setLifts 7 = .ok (.iconst 0, 1) := dk_3 (dk_at dksX2_setLifts_0 7 rfl rfl)
theorem dX2_setLifts_8 : decode cX2_setLifts 8 = .ok (.bipush 8, 2) := dk_16 8 (dk_at dksX2_setLifts_0 8 rfl rfl)
theorem dX2_setLifts_10 : decode cX2_setLifts 10 = .ok (.invokestatic 51, 3) := dk_184 0 51 (dk_at dksX2_setLifts_0 10 rfl rfl)
theorem dX2_setLifts_13 : decode cX2_setLifts 13 = .ok (.iconst 1, 1) := dk_4 (dk_at dksX2_setLifts_0 13 rfl rfl)
theorem dX2_setLifts_14 : decode cX2_setLifts 14 = .ok (.invokevirtual 75, 3) := dk_182 0 75 (dk_at dksX2_setLifts_0 14 rfl rfl)
theorem dX2_setLifts_17 : decode cX2_setLifts 17 = .ok (.ifCond .ne 5, 3) := dk_154 0 5 (dk_at dksX2_setLifts_0 17 rfl rfl)
theorem dX2_setLifts_20 : decode cX2_setLifts 20 = .ok (.iconst 0, 1) := dk_3 (dk_at dksX2_setLifts_0 20 rfl rfl)
theorem dX2_setLifts_21 : decode cX2_setLifts 21 = .ok (.ireturn, 1) := dk_172 (dk_at dksX2_setLifts_0 21 rfl rfl)
theorem dX2_setLifts_22 : decode cX2_setLifts 22 = .ok (.aload_n 0, 1) := dk_42 (dk_at dksX2_setLifts_0 22 rfl rfl)
theorem dX2_setLifts_23 : decode cX2_setLifts 23 = .ok (.getfield 16, 3) := dk_180 0 16 (dk_at dksX2_setLifts_1 0 rfl rfl)
theorem dX2_setLifts_26 : decode cX2_setLifts 26 = .ok (.iload_n 1, 1) := dk_27 (dk_at dksX2_setLifts_1 3 rfl rfl)
theorem dX2_setLifts_27 : decode cX2_setLifts 27 = .ok (.invokeinterface 59 2, 5) := by decide +kernel
theorem dX2_setLifts_32 : decode cX2_setLifts 32 = .ok (.checkcast 87, 3) := dk_192 0 87 (dk_at dksX2_setLifts_1 9 rfl rfl)
theorem dX2_setLifts_35 : decode cX2_setLifts 35 = .ok (.getfield 105, 3) := dk_180 0 105 (dk_at dksX2_setLifts_1 12 rfl rfl)
theorem dX2_setLifts_38 : decode cX2_setLifts 38 = .ok (.istore_n 3, 1) := dk_62 (dk_at dksX2_setLifts_1 15 rfl rfl)
theorem dX2_setLifts_39 : decode cX2_setLifts 39 = .ok (.iload_n 2, 1) := dk_28 (dk_at dksX2_setLifts_1 16 rfl rfl)
theorem dX2_setLifts_40 : decode cX2_setLifts 40 = .ok (.iload_n 3, 1) := dk_29 (dk_at dksX2_setLifts_1 17 rfl rfl)
theorem dX2_setLifts_41 : decode cX2_setLifts 41 = .ok (.if_icmp .eq 24, 3) := dk_159 0 24 (dk_at dksX2_setLifts_1 18 rfl rfl)
theorem dX2_setLifts_44 : decode cX2_setLifts 44 = .ok (.aload_n 0, 1) := dk_42 (dk_at dksX2_setLifts_1 21 rfl rfl)
theorem dX2_setLifts_45 : decode cX2_setLifts 45 = .ok (.getfield 16, 3) := dk_180 0 16 (dk_at dksX2_setLifts_2 0 rfl rfl)
theorem dX2_setLifts_48 : decode cX2_setLifts 48 = .ok (.iload_n 1, 1) := dk_27 (dk_at dksX2_setLifts_2 3 rfl rfl)
theorem dX2_setLifts_49 : decode cX2_setLifts 49 = .ok (.invokeinterface 59 2, 5) := by decide +kernel
theorem dX2_setLifts_54 : decode cX2_setLifts 54 = .ok (.checkcast 87, 3) := dk_192 0 87 (dk_at dksX2_setLifts_2 9 rfl rfl)
theorem dX2_setLifts_57 : decode cX2_setLifts 57 = .ok (.iload_n 2, 1) := dk_28 (dk_at dksX2_setLifts_2 12 rfl rfl)
theorem dX2_setLifts_58 : decode cX2_setLifts 58 = .ok (.invokevirtual 127, 3) := dk_182 0 127 (dk_at dksX2_setLifts_2 13 rfl rfl)
theorem dX2_setLifts_61 : decode cX2_setLifts 61 = .ok (.aload_n 0, 1) := dk_42 (dk_at dksX2_setLifts_2 16 rfl rfl)
theorem dX2_setLifts_62 : decode cX2_setLifts 62 = .ok (.invokevirtual 42, 3) := dk_182 0 42 (dk_at dksX2_setLifts_2 17 rfl rfl)
theorem dX2_setLifts_65 : decode cX2_setLifts 65 = .ok (.iload_n 3, 1) := dk_29 (dk_at dksX2_setLifts_2 20 rfl rfl)
theorem dX2_setLifts_66 : decode cX2_setLifts 66 = .ok (.ireturn, 1) := dk_172 (dk_at dksX2_setLifts_2 21 rfl rfl)
abbrev cX2_board : ByteArray := prog_6_method_28_code
def yX2_board : MethodName := ⟨RX2, "board", "(IIZ)Z"⟩
def dkwX2_board_3 : List UInt8 := [185, 0, 59, 2, 0, 192, 0, 87, 180, 0, 139, 28, 29, 84, 42, 27, 182, 0, 142, 21, 4, 172]
abbrev dktX2_board_3 : List UInt8 := dkwX2_board_3 ++ []
def dkwX2_board_2 : List UInt8 := [192, 0, 87, 180, 0, 139, 28, 51, 54, 4, 21, 4, 29, 159, 0, 27, 42, 180, 0, 16, 27]
abbrev dktX2_board_2 : List UInt8 := dkwX2_board_2 ++ dktX2_board_3
def dkwX2_board_1 : List UInt8 := [182, 0, 137, 4, 182, 0, 75, 154, 0, 5, 3, 172, 42, 180, 0, 16, 27, 185, 0, 59, 2, 0]
abbrev dktX2_board_1 : List UInt8 := dkwX2_board_1 ++ dktX2_board_2
def dkwX2_board_0 : List UInt8 := [42, 42, 27, 182, 0, 92, 153, 0, 14, 28, 184, 0, 134, 153, 0, 7, 4, 167, 0, 4, 3, 42, 27, 28]
abbrev dktX2_board_0 : List UInt8 := dkwX2_board_0 ++ dktX2_board_1
theorem dksX2_board_0 : cX2_board.data.toList.drop 0 = dktX2_board_0 := by decide +kernel
theorem dksX2_board_1 : cX2_board.data.toList.drop 24 = dktX2_board_1 := dk_seg dksX2_board_0 24 rfl rfl
theorem dksX2_board_2 : cX2_board.data.toList.drop 46 = dktX2_board_2 := dk_seg dksX2_board_1 22 rfl rfl
theorem dksX2_board_3 : cX2_board.data.toList.drop 67 = dktX2_board_3 := dk_seg dksX2_board_2 21 rfl rfl
theorem dX2_board_0 : decode cX2_board 0 = .ok (.aload_n 0, 1) := dk_42 (dk_at dksX2_board_0 0 rfl rfl)
theorem dX2_board_1 : decode cX2_board 1 = .ok (.aload_n 0, 1) := dk_42 (dk_at dksX2_board_0 1 rfl rfl)
theorem dX2_board_2 : decode cX2_board 2 = .ok (.iload_n 1, 1) := dk_27 (dk_at dksX2_board_0 2 rfl rfl)
theorem dX2_board_3 : decode cX2_board 3 = .ok (.invokevirtual 92, 3) := dk_182 0 92 (dk_at dksX2_board_0 3 rfl rfl)
theorem dX2_board_6 : decode cX2_board 6 = .ok (.ifCond .eq 14, 3) := dk_153 0 14 (dk_at dksX2_board_0 6 rfl rfl)
theorem dX2_board_9 : decode cX2_board 9 = .ok (.iload_n 2, 1) := dk_28 (dk_at dksX2_board_0 9 rfl rfl)
theorem dX2_board_10 : decode cX2_board 10 = .ok (.invokestatic 134, 3) := dk_184 0 134 (dk_at dksX2_board_0 10 rfl rfl)
theorem dX2_board_13 : decode cX2_board 13 = .ok (.ifCond .eq 7, 3) := dk_153 0 7 (dk_at dksX2_board_0 13 rfl rfl)
theorem dX2_board_16 : decode cX2_board 16 = .ok (.iconst 1, 1) := dk_4 (dk_at dksX2_board_0 16 rfl rfl)
theorem dX2_board_17 : decode cX2_board 17 = .ok (.goto 4, 3) := dk_167 0 4 (dk_at dksX2_board_0 17 rfl rfl)
theorem dX2_board_20 : decode cX2_board 20 = .ok (.iconst 0, 1) := dk_3 (dk_at dksX2_board_0 20 rfl rfl)
theorem dX2_board_21 : decode cX2_board 21 = .ok (.aload_n 0, 1) := dk_42 (dk_at dksX2_board_0 21 rfl rfl)
theorem dX2_board_22 : decode cX2_board 22 = .ok (.iload_n 1, 1) := dk_27 (dk_at dksX2_board_0 22 rfl rfl)
theorem dX2_board_23 : decode cX2_board 23 = .ok (.iload_n 2, 1) := dk_28 (dk_at dksX2_board_0 23 rfl rfl)
theorem dX2_board_24 : decode cX2_board 24 = .ok (.invokevirtual 137, 3) := dk_182 0 137 (dk_at dksX2_board_1 0 rfl rfl)
theorem dX2_board_27 : decode cX2_board 27 = .ok (.iconst 1, 1) := dk_4 (dk_at dksX2_board_1 3 rfl rfl)
theorem dX2_board_28 : decode cX2_board 28 = .ok (.invokevirtual 75, 3) := dk_182 0 75 (dk_at dksX2_board_1 4 rfl rfl)
theorem dX2_board_31 : decode cX2_board 31 = .ok (.ifCond .ne 5, 3) := dk_154 0 5 (dk_at dksX2_board_1 7 rfl rfl)
theorem dX2_board_34 : decode cX2_board 34 = .ok (.iconst 0, 1) := dk_3 (dk_at dksX2_board_1 10 rfl rfl)
theorem dX2_board_35 : decode cX2_board 35 = .ok (.ireturn, 1) := dk_172 (dk_at dksX2_board_1 11 rfl rfl)
theorem dX2_board_36 : decode cX2_board 36 = .ok (.aload_n 0, 1) := dk_42 (dk_at dksX2_board_1 12 rfl rfl)
theorem dX2_board_37 : decode cX2_board 37 = .ok (.getfield 16, 3) := dk_180 0 16 (dk_at dksX2_board_1 13 rfl rfl)
theorem dX2_board_40 : decode cX2_board 40 = .ok (.iload_n 1, 1) := dk_27 (dk_at dksX2_board_1 16 rfl rfl)
theorem dX2_board_41 : decode cX2_board 41 = .ok (.invokeinterface 59 2, 5) := by decide +kernel
theorem dX2_board_46 : decode cX2_board 46 = .ok (.checkcast 87, 3) := dk_192 0 87 (dk_at dksX2_board_2 0 rfl rfl)
theorem dX2_board_49 : decode cX2_board 49 = .ok (.getfield 139, 3) := dk_180 0 139 (dk_at dksX2_board_2 3 rfl rfl)
theorem dX2_board_52 : decode cX2_board 52 = .ok (.iload_n 2, 1) := dk_28 (dk_at dksX2_board_2 6 rfl rfl)
theorem dX2_board_53 : decode cX2_board 53 = .ok (.baload, 1) := dk_51 (dk_at dksX2_board_2 7 rfl rfl)
theorem dX2_board_54 : decode cX2_board 54 = .ok (.istore 4, 2) := dk_54 4 (dk_at dksX2_board_2 8 rfl rfl)
theorem dX2_board_56 : decode cX2_board 56 = .ok (.iload 4, 2) := dk_21 4 (dk_at dksX2_board_2 10 rfl rfl)
theorem dX2_board_58 : decode cX2_board 58 = .ok (.iload_n 3, 1) := dk_29 (dk_at dksX2_board_2 12 rfl rfl)
theorem dX2_board_59 : decode cX2_board 59 = .ok (.if_icmp .eq 27, 3) := dk_159 0 27 (dk_at dksX2_board_2 13 rfl rfl)
theorem dX2_board_62 : decode cX2_board 62 = .ok (.aload_n 0, 1) := dk_42 (dk_at dksX2_board_2 16 rfl rfl)
theorem dX2_board_63 : decode cX2_board 63 = .ok (.getfield 16, 3) := dk_180 0 16 (dk_at dksX2_board_2 17 rfl rfl)
theorem dX2_board_66 : decode cX2_board 66 = .ok (.iload_n 1, 1) := dk_27 (dk_at dksX2_board_2 20 rfl rfl)
theorem dX2_board_67 : decode cX2_board 67 = .ok (.invokeinterface 59 2, 5) := by decide +kernel
theorem dX2_board_72 : decode cX2_board 72 = .ok (.checkcast 87, 3) := dk_192 0 87 (dk_at dksX2_board_3 5 rfl rfl)
theorem dX2_board_75 : decode cX2_board 75 = .ok (.getfield 139, 3) := dk_180 0 139 (dk_at dksX2_board_3 8 rfl rfl)
theorem dX2_board_78 : decode cX2_board 78 = .ok (.iload_n 2, 1) := dk_28 (dk_at dksX2_board_3 11 rfl rfl)
theorem dX2_board_79 : decode cX2_board 79 = .ok (.iload_n 3, 1) := dk_29 (dk_at dksX2_board_3 12 rfl rfl)
theorem dX2_board_80 : decode cX2_board 80 = .ok (.bastore, 1) := dk_84 (dk_at dksX2_board_3 13 rfl rfl)
theorem dX2_board_81 : decode cX2_board 81 = .ok (.aload_n 0, 1) := dk_42 (dk_at dksX2_board_3 14 rfl rfl)
theorem dX2_board_82 : decode cX2_board 82 = .ok (.iload_n 1, 1) := dk_27 (dk_at dksX2_board_3 15 rfl rfl)
theorem dX2_board_83 : decode cX2_board 83 = .ok (.invokevirtual 142, 3) := dk_182 0 142 (dk_at dksX2_board_3 16 rfl rfl)
theorem dX2_board_86 : decode cX2_board 86 = .ok (.iload 4, 2) := dk_21 4 (dk_at dksX2_board_3 19 rfl rfl)
theorem dX2_board_88 : decode cX2_board 88 = .ok (.ireturn, 1) := dk_172 (dk_at dksX2_board_3 21 rfl rfl)
abbrev cX2_isLevel : ByteArray := prog_6_method_9_code
def yX2_isLevel : MethodName := ⟨RX2, "isLevel", "(I)Z"⟩
def dkwX2_isLevel_0 : List UInt8 := [26, 3, 16, 7, 184, 0, 51, 172]
abbrev dktX2_isLevel_0 : List UInt8 := dkwX2_isLevel_0 ++ []
theorem dksX2_isLevel_0 : cX2_isLevel.data.toList.drop 0 = dktX2_isLevel_0 := by decide +kernel
theorem dX2_isLevel_0 : decode cX2_isLevel 0 = .ok (.iload_n 0, 1) := dk_26 (dk_at dksX2_isLevel_0 0 rfl rfl)
theorem dX2_isLevel_1 : decode cX2_isLevel 1 = .ok (.iconst 0, 1) := dk_3 (dk_at dksX2_isLevel_0 1 rfl rfl)
theorem dX2_isLevel_2 : decode cX2_isLevel 2 = .ok (.bipush 7, 2) := dk_16 7 (dk_at dksX2_isLevel_0 2 rfl rfl)
theorem dX2_isLevel_4 : decode cX2_isLevel 4 = .ok (.invokestatic 51, 3) := dk_184 0 51 (dk_at dksX2_isLevel_0 4 rfl rfl)
theorem dX2_isLevel_7 : decode cX2_isLevel 7 = .ok (.ireturn, 1) := dk_172 (dk_at dksX2_isLevel_0 7 rfl rfl)
abbrev cX2_has : ByteArray := prog_6_method_27_code
def yX2_has : MethodName := ⟨RX2, "has", "(II)Z"⟩
def dkwX2_has_1 : List UInt8 := [182, 0, 131, 153, 0, 7, 4, 167, 0, 4, 3, 172]
abbrev dktX2_has_1 : List UInt8 := dkwX2_has_1 ++ []
def dkwX2_has_0 : List UInt8 := [42, 27, 182, 0, 92, 153, 0, 27, 42, 180, 0, 16, 27, 185, 0, 59, 2, 0, 192, 0, 87, 28]
abbrev dktX2_has_0 : List UInt8 := dkwX2_has_0 ++ dktX2_has_1
theorem dksX2_has_0 : cX2_has.data.toList.drop 0 = dktX2_has_0 := by decide +kernel
theorem dksX2_has_1 : cX2_has.data.toList.drop 22 = dktX2_has_1 := dk_seg dksX2_has_0 22 rfl rfl
theorem dX2_has_0 : decode cX2_has 0 = .ok (.aload_n 0, 1) := dk_42 (dk_at dksX2_has_0 0 rfl rfl)
theorem dX2_has_1 : decode cX2_has 1 = .ok (.iload_n 1, 1) := dk_27 (dk_at dksX2_has_0 1 rfl rfl)
theorem dX2_has_2 : decode cX2_has 2 = .ok (.invokevirtual 92, 3) := dk_182 0 92 (dk_at dksX2_has_0 2 rfl rfl)
theorem dX2_has_5 : decode cX2_has 5 = .ok (.ifCond .eq 27, 3) := dk_153 0 27 (dk_at dksX2_has_0 5 rfl rfl)
theorem dX2_has_8 : decode cX2_has 8 = .ok (.aload_n 0, 1) := dk_42 (dk_at dksX2_has_0 8 rfl rfl)
theorem dX2_has_9 : decode cX2_has 9 = .ok (.getfield 16, 3) := dk_180 0 16 (dk_at dksX2_has_0 9 rfl rfl)
theorem dX2_has_12 : decode cX2_has 12 = .ok (.iload_n 1, 1) := dk_27 (dk_at dksX2_has_0 12 rfl rfl)
theorem dX2_has_13 : decode cX2_has 13 = .ok (.invokeinterface 59 2, 5) := by decide +kernel
theorem dX2_has_18 : decode cX2_has 18 = .ok (.checkcast 87, 3) := dk_192 0 87 (dk_at dksX2_has_0 18 rfl rfl)
theorem dX2_has_21 : decode cX2_has 21 = .ok (.iload_n 2, 1) := dk_28 (dk_at dksX2_has_0 21 rfl rfl)
theorem dX2_has_22 : decode cX2_has 22 = .ok (.invokevirtual 131, 3) := dk_182 0 131 (dk_at dksX2_has_1 0 rfl rfl)
theorem dX2_has_25 : decode cX2_has 25 = .ok (.ifCond .eq 7, 3) := dk_153 0 7 (dk_at dksX2_has_1 3 rfl rfl)
theorem dX2_has_28 : decode cX2_has 28 = .ok (.iconst 1, 1) := dk_4 (dk_at dksX2_has_1 6 rfl rfl)
theorem dX2_has_29 : decode cX2_has 29 = .ok (.goto 4, 3) := dk_167 0 4 (dk_at dksX2_has_1 7 rfl rfl)
theorem dX2_has_32 : decode cX2_has 32 = .ok (.iconst 0, 1) := dk_3 (dk_at dksX2_has_1 10 rfl rfl)
theorem dX2_has_33 : decode cX2_has 33 = .ok (.ireturn, 1) := dk_172 (dk_at dksX2_has_1 11 rfl rfl)
abbrev cX2_withdrawAround : ByteArray := prog_6_method_24_code
def yX2_withdrawAround : MethodName := ⟨RX2, "withdrawAround", "(I)V"⟩
def dkwX2_withdrawAround_1 : List UInt8 := [182, 0, 120, 153, 0, 7, 2, 167, 0, 9, 42, 180, 0, 23, 28, 46, 79, 132, 2, 1, 167, 255, 215, 177]
abbrev dktX2_withdrawAround_1 : List UInt8 := dkwX2_withdrawAround_1 ++ []
def dkwX2_withdrawAround_0 : List UInt8 := [3, 61, 28, 42, 180, 0, 20, 185, 0, 45, 1, 0, 162, 0, 34, 42, 180, 0, 23, 28, 42, 28, 27]
abbrev dktX2_withdrawAround_0 : List UInt8 := dkwX2_withdrawAround_0 ++ dktX2_withdrawAround_1
theorem dksX2_withdrawAround_0 : cX2_withdrawAround.data.toList.drop 0 = dktX2_withdrawAround_0 := by decide +kernel
theorem dksX2_withdrawAround_1 : cX2_withdrawAround.data.toList.drop 23 = dktX2_withdrawAround_1 := dk_seg dksX2_withdrawAround_0 23 rfl rfl
theorem dX2_withdrawAround_0 : decode cX2_withdrawAround 0 = .ok (.iconst 0, 1) := dk_3 (dk_at dksX2_withdrawAround_0 0 rfl rfl)
theorem dX2_withdrawAround_1 : decode cX2_withdrawAround 1 = .ok (.istore_n 2, 1) := dk_61 (dk_at dksX2_withdrawAround_0 1 rfl rfl)
theorem dX2_withdrawAround_2 : decode cX2_withdrawAround 2 = .ok (.iload_n 2, 1) := dk_28 (dk_at dksX2_withdrawAround_0 2 rfl rfl)
theorem dX2_withdrawAround_3 : decode cX2_withdrawAround 3 = .ok (.aload_n 0, 1) := dk_42 (dk_at dksX2_withdrawAround_0 3 rfl rfl)
theorem dX2_withdrawAround_4 : decode cX2_withdrawAround 4 = .ok (.getfield 20, 3) := dk_180 0 20 (dk_at dksX2_withdrawAround_0 4 rfl rfl)
theorem dX2_withdrawAround_7 : decode cX2_withdrawAround 7 = .ok (.invokeinterface 45 1, 5) := by decide +kernel
theorem dX2_withdrawAround_12 : decode cX2_withdrawAround 12 = .ok (.if_icmp .ge 34, 3) := dk_162 0 34 (dk_at dksX2_withdrawAround_0 12 rfl rfl)
theorem dX2_withdrawAround_15 : decode cX2_withdrawAround 15 = .ok (.aload_n 0, 1) := dk_42 (dk_at dksX2_withdrawAround_0 15 rfl rfl)
theorem dX2_withdrawAround_16 : decode cX2_withdrawAround 16 = .ok (.getfield 23, 3) := dk_180 0 23 (dk_at dksX2_withdrawAround_0 16 rfl rfl)
theorem dX2_withdrawAround_19 : decode cX2_withdrawAround 19 = .ok (.iload_n 2, 1) := dk_28 (dk_at dksX2_withdrawAround_0 19 rfl rfl)
theorem dX2_withdrawAround_20 : decode cX2_withdrawAround 20 = .ok (.aload_n 0, 1) := dk_42 (dk_at dksX2_withdrawAround_0 20 rfl rfl)
theorem dX2_withdrawAround_21 : decode cX2_withdrawAround 21 = .ok (.iload_n 2, 1) := dk_28 (dk_at dksX2_withdrawAround_0 21 rfl rfl)
theorem dX2_withdrawAround_22 : decode cX2_withdrawAround 22 = .ok (.iload_n 1, 1) := dk_27 (dk_at dksX2_withdrawAround_0 22 rfl rfl)
theorem dX2_withdrawAround_23 : decode cX2_withdrawAround 23 = .ok (.invokevirtual 120, 3) := dk_182 0 120 (dk_at dksX2_withdrawAround_1 0 rfl rfl)
theorem dX2_withdrawAround_26 : decode cX2_withdrawAround 26 = .ok (.ifCond .eq 7, 3) := dk_153 0 7 (dk_at dksX2_withdrawAround_1 3 rfl rfl)
theorem dX2_withdrawAround_29 : decode cX2_withdrawAround 29 = .ok (.iconst (-1), 1) := dk_2 (dk_at dksX2_withdrawAround_1 6 rfl rfl)
theorem dX2_withdrawAround_30 : decode cX2_withdrawAround 30 = .ok (.goto 9, 3) := dk_167 0 9 (dk_at dksX2_withdrawAround_1 7 rfl rfl)
theorem dX2_withdrawAround_33 : decode cX2_withdrawAround 33 = .ok (.aload_n 0, 1) := dk_42 (dk_at dksX2_withdrawAround_1 10 rfl rfl)
theorem dX2_withdrawAround_34 : decode cX2_withdrawAround 34 = .ok (.getfield 23, 3) := dk_180 0 23 (dk_at dksX2_withdrawAround_1 11 rfl rfl)
theorem dX2_withdrawAround_37 : decode cX2_withdrawAround 37 = .ok (.iload_n 2, 1) := dk_28 (dk_at dksX2_withdrawAround_1 14 rfl rfl)
theorem dX2_withdrawAround_38 : decode cX2_withdrawAround 38 = .ok (.iaload, 1) := dk_46 (dk_at dksX2_withdrawAround_1 15 rfl rfl)
theorem dX2_withdrawAround_39 : decode cX2_withdrawAround 39 = .ok (.iastore, 1) := dk_79 (dk_at dksX2_withdrawAround_1 16 rfl rfl)
theorem dX2_withdrawAround_40 : decode cX2_withdrawAround 40 = .ok (.iinc 2 1, 3) := dk_132 2 1 (dk_at dksX2_withdrawAround_1 17 rfl rfl)
theorem dX2_withdrawAround_43 : decode cX2_withdrawAround 43 = .ok (.goto (-41), 3) := dk_167 255 215 (dk_at dksX2_withdrawAround_1 20 rfl rfl)
theorem dX2_withdrawAround_46 : decode cX2_withdrawAround 46 = .ok (.return_, 1) := dk_177 (dk_at dksX2_withdrawAround_1 23 rfl rfl)
abbrev cX2_touches : ByteArray := prog_6_method_23_code
def yX2_touches : MethodName := ⟨RX2, "touches", "(II)Z"⟩
def dkwX2_touches_2 : List UInt8 := [27, 182, 0, 117, 184, 0, 51, 153, 0, 7, 4, 167, 0, 4, 3, 172]
abbrev dktX2_touches_2 : List UInt8 := dkwX2_touches_2 ++ []
def dkwX2_touches_1 : List UInt8 := [184, 0, 51, 154, 0, 31, 28, 42, 180, 0, 20, 27, 185, 0, 59, 2, 0, 192, 0, 63, 182, 0, 65, 42]
abbrev dktX2_touches_1 : List UInt8 := dkwX2_touches_1 ++ dktX2_touches_2
def dkwX2_touches_0 : List UInt8 := [28, 4, 96, 42, 180, 0, 20, 27, 185, 0, 59, 2, 0, 192, 0, 63, 182, 0, 65, 42, 27, 182, 0, 117]
abbrev dktX2_touches_0 : List UInt8 := dkwX2_touches_0 ++ dktX2_touches_1
theorem dksX2_touches_0 : cX2_touches.data.toList.drop 0 = dktX2_touches_0 := by decide +kernel
theorem dksX2_touches_1 : cX2_touches.data.toList.drop 24 = dktX2_touches_1 := dk_seg dksX2_touches_0 24 rfl rfl
theorem dksX2_touches_2 : cX2_touches.data.toList.drop 48 = dktX2_touches_2 := dk_seg dksX2_touches_1 24 rfl rfl
theorem dX2_touches_0 : decode cX2_touches 0 = .ok (.iload_n 2, 1) := dk_28 (dk_at dksX2_touches_0 0 rfl rfl)
theorem dX2_touches_1 : decode cX2_touches 1 = .ok (.iconst 1, 1) := dk_4 (dk_at dksX2_touches_0 1 rfl rfl)
theorem dX2_touches_2 : decode cX2_touches 2 = .ok (.iadd, 1) := dk_96 (dk_at dksX2_touches_0 2 rfl rfl)
theorem dX2_touches_3 : decode cX2_touches 3 = .ok (.aload_n 0, 1) := dk_42 (dk_at dksX2_touches_0 3 rfl rfl)
theorem dX2_touches_4 : decode cX2_touches 4 = .ok (.getfield 20, 3) := dk_180 0 20 (dk_at dksX2_touches_0 4 rfl rfl)
theorem dX2_touches_7 : decode cX2_touches 7 = .ok (.iload_n 1, 1) := dk_27 (dk_at dksX2_touches_0 7 rfl rfl)
theorem dX2_touches_8 : decode cX2_touches 8 = .ok (.invokeinterface 59 2, 5) := by decide +kernel
theorem dX2_touches_13 : decode cX2_touches 13 = .ok (.checkcast 63, 3) := dk_192 0 63 (dk_at dksX2_touches_0 13 rfl rfl)
theorem dX2_touches_16 : decode cX2_touches 16 = .ok (.invokevirtual 65, 3) := dk_182 0 65 (dk_at dksX2_touches_0 16 rfl rfl)
theorem dX2_touches_19 : decode cX2_touches 19 = .ok (.aload_n 0, 1) := dk_42 (dk_at dksX2_touches_0 19 rfl rfl)
theorem dX2_touches_20 : decode cX2_touches 20 = .ok (.iload_n 1, 1) := dk_27 (dk_at dksX2_touches_0 20 rfl rfl)
theorem dX2_touches_21 : decode cX2_touches 21 = .ok (.invokevirtual 117, 3) := dk_182 0 117 (dk_at dksX2_touches_0 21 rfl rfl)
theorem dX2_touches_24 : decode cX2_touches 24 = .ok (.invokestatic 51, 3) := dk_184 0 51 (dk_at dksX2_touches_1 0 rfl rfl)
theorem dX2_touches_27 : decode cX2_touches 27 = .ok (.ifCond .ne 31, 3) := dk_154 0 31 (dk_at dksX2_touches_1 3 rfl rfl)
theorem dX2_touches_30 : decode cX2_touches 30 = .ok (.iload_n 2, 1) := dk_28 (dk_at dksX2_touches_1 6 rfl rfl)
theorem dX2_touches_31 : decode cX2_touches 31 = .ok (.aload_n 0, 1) := dk_42 (dk_at dksX2_touches_1 7 rfl rfl)
theorem dX2_touches_32 : decode cX2_touches 32 = .ok (.getfield 20, 3) := dk_180 0 20 (dk_at dksX2_touches_1 8 rfl rfl)
theorem dX2_touches_35 : decode cX2_touches 35 = .ok (.iload_n 1, 1) := dk_27 (dk_at dksX2_touches_1 11 rfl rfl)
theorem dX2_touches_36 : decode cX2_touches 36 = .ok (.invokeinterface 59 2, 5) := by decide +kernel
theorem dX2_touches_41 : decode cX2_touches 41 = .ok (.checkcast 63, 3) := dk_192 0 63 (dk_at dksX2_touches_1 17 rfl rfl)
theorem dX2_touches_44 : decode cX2_touches 44 = .ok (.invokevirtual 65, 3) := dk_182 0 65 (dk_at dksX2_touches_1 20 rfl rfl)
theorem dX2_touches_47 : decode cX2_touches 47 = .ok (.aload_n 0, 1) := dk_42 (dk_at dksX2_touches_1 23 rfl rfl)
theorem dX2_touches_48 : decode cX2_touches 48 = .ok (.iload_n 1, 1) := dk_27 (dk_at dksX2_touches_2 0 rfl rfl)
theorem dX2_touches_49 : decode cX2_touches 49 = .ok (.invokevirtual 117, 3) := dk_182 0 117 (dk_at dksX2_touches_2 1 rfl rfl)
theorem dX2_touches_52 : decode cX2_touches 52 = .ok (.invokestatic 51, 3) := dk_184 0 51 (dk_at dksX2_touches_2 4 rfl rfl)
theorem dX2_touches_55 : decode cX2_touches 55 = .ok (.ifCond .eq 7, 3) := dk_153 0 7 (dk_at dksX2_touches_2 7 rfl rfl)
theorem dX2_touches_58 : decode cX2_touches 58 = .ok (.iconst 1, 1) := dk_4 (dk_at dksX2_touches_2 10 rfl rfl)
theorem dX2_touches_59 : decode cX2_touches 59 = .ok (.goto 4, 3) := dk_167 0 4 (dk_at dksX2_touches_2 11 rfl rfl)
theorem dX2_touches_62 : decode cX2_touches 62 = .ok (.iconst 0, 1) := dk_3 (dk_at dksX2_touches_2 14 rfl rfl)
theorem dX2_touches_63 : decode cX2_touches 63 = .ok (.ireturn, 1) := dk_172 (dk_at dksX2_touches_2 15 rfl rfl)
abbrev cX2_endOf : ByteArray := prog_6_method_10_code
def yX2_endOf : MethodName := ⟨RX2, "endOf", "(I)I"⟩
def dkwX2_endOf_1 : List UInt8 := [185, 0, 59, 2, 0, 192, 0, 63, 182, 0, 65, 167, 0, 12, 42, 180, 0, 16, 185, 0, 45, 1, 0, 172]
abbrev dktX2_endOf_1 : List UInt8 := dkwX2_endOf_1 ++ []
def dkwX2_endOf_0 : List UInt8 := [27, 4, 96, 42, 180, 0, 20, 185, 0, 45, 1, 0, 162, 0, 24, 42, 180, 0, 20, 27, 4, 96]
abbrev dktX2_endOf_0 : List UInt8 := dkwX2_endOf_0 ++ dktX2_endOf_1
theorem dksX2_endOf_0 : cX2_endOf.data.toList.drop 0 = dktX2_endOf_0 := by decide +kernel
theorem dksX2_endOf_1 : cX2_endOf.data.toList.drop 22 = dktX2_endOf_1 := dk_seg dksX2_endOf_0 22 rfl rfl
theorem dX2_endOf_0 : decode cX2_endOf 0 = .ok (.iload_n 1, 1) := dk_27 (dk_at dksX2_endOf_0 0 rfl rfl)
theorem dX2_endOf_1 : decode cX2_endOf 1 = .ok (.iconst 1, 1) := dk_4 (dk_at dksX2_endOf_0 1 rfl rfl)
theorem dX2_endOf_2 : decode cX2_endOf 2 = .ok (.iadd, 1) := dk_96 (dk_at dksX2_endOf_0 2 rfl rfl)
theorem dX2_endOf_3 : decode cX2_endOf 3 = .ok (.aload_n 0, 1) := dk_42 (dk_at dksX2_endOf_0 3 rfl rfl)
theorem dX2_endOf_4 : decode cX2_endOf 4 = .ok (.getfield 20, 3) := dk_180 0 20 (dk_at dksX2_endOf_0 4 rfl rfl)
theorem dX2_endOf_7 : decode cX2_endOf 7 = .ok (.invokeinterface 45 1, 5) := by decide +kernel
theorem dX2_endOf_12 : decode cX2_endOf 12 = .ok (.if_icmp .ge 24, 3) := dk_162 0 24 (dk_at dksX2_endOf_0 12 rfl rfl)
theorem dX2_endOf_15 : decode cX2_endOf 15 = .ok (.aload_n 0, 1) := dk_42 (dk_at dksX2_endOf_0 15 rfl rfl)
theorem dX2_endOf_16 : decode cX2_endOf 16 = .ok (.getfield 20, 3) := dk_180 0 20 (dk_at dksX2_endOf_0 16 rfl rfl)
theorem dX2_endOf_19 : decode cX2_endOf 19 = .ok (.iload_n 1, 1) := dk_27 (dk_at dksX2_endOf_0 19 rfl rfl)
theorem dX2_endOf_20 : decode cX2_endOf 20 = .ok (.iconst 1, 1) := dk_4 (dk_at dksX2_endOf_0 20 rfl rfl)
theorem dX2_endOf_21 : decode cX2_endOf 21 = .ok (.iadd, 1) := dk_96 (dk_at dksX2_endOf_0 21 rfl rfl)
theorem dX2_endOf_22 : decode cX2_endOf 22 = .ok (.invokeinterface 59 2, 5) := by decide +kernel
theorem dX2_endOf_27 : decode cX2_endOf 27 = .ok (.checkcast 63, 3) := dk_192 0 63 (dk_at dksX2_endOf_1 5 rfl rfl)
theorem dX2_endOf_30 : decode cX2_endOf 30 = .ok (.invokevirtual 65, 3) := dk_182 0 65 (dk_at dksX2_endOf_1 8 rfl rfl)
theorem dX2_endOf_33 : decode cX2_endOf 33 = .ok (.goto 12, 3) := dk_167 0 12 (dk_at dksX2_endOf_1 11 rfl rfl)
theorem dX2_endOf_36 : decode cX2_endOf 36 = .ok (.aload_n 0, 1) := dk_42 (dk_at dksX2_endOf_1 14 rfl rfl)
theorem dX2_endOf_37 : decode cX2_endOf 37 = .ok (.getfield 16, 3) := dk_180 0 16 (dk_at dksX2_endOf_1 15 rfl rfl)
theorem dX2_endOf_40 : decode cX2_endOf 40 = .ok (.invokeinterface 45 1, 5) := by decide +kernel
theorem dX2_endOf_45 : decode cX2_endOf 45 = .ok (.ireturn, 1) := dk_172 (dk_at dksX2_endOf_1 23 rfl rfl)
abbrev cX2_setClass : ByteArray := prog_6_method_29_code
def yX2_setClass : MethodName := ⟨RX2, "setClass", "(III)I"⟩
def dkwX2_setClass_4 : List UInt8 := [21, 4, 172]
abbrev dktX2_setClass_4 : List UInt8 := dkwX2_setClass_4 ++ []
def dkwX2_setClass_3 : List UInt8 := [180, 0, 16, 27, 185, 0, 59, 2, 0, 192, 0, 87, 180, 0, 145, 28, 29, 79, 42, 27, 182, 0, 142]
abbrev dktX2_setClass_3 : List UInt8 := dkwX2_setClass_3 ++ dktX2_setClass_4
def dkwX2_setClass_2 : List UInt8 := [185, 0, 59, 2, 0, 192, 0, 87, 180, 0, 145, 28, 46, 54, 4, 21, 4, 29, 159, 0, 27, 42]
abbrev dktX2_setClass_2 : List UInt8 := dkwX2_setClass_2 ++ dktX2_setClass_3
def dkwX2_setClass_1 : List UInt8 := [16, 6, 184, 0, 51, 42, 27, 28, 182, 0, 137, 182, 0, 75, 154, 0, 5, 3, 172, 42, 180, 0, 16, 27]
abbrev dktX2_setClass_1 : List UInt8 := dkwX2_setClass_1 ++ dktX2_setClass_2
def dkwX2_setClass_0 : List UInt8 := [42, 42, 27, 182, 0, 92, 153, 0, 14, 28, 184, 0, 134, 153, 0, 7, 4, 167, 0, 4, 3, 29, 3]
abbrev dktX2_setClass_0 : List UInt8 := dkwX2_setClass_0 ++ dktX2_setClass_1
theorem dksX2_setClass_0 : cX2_setClass.data.toList.drop 0 = dktX2_setClass_0 := by decide +kernel
theorem dksX2_setClass_1 : cX2_setClass.data.toList.drop 23 = dktX2_setClass_1 := dk_seg dksX2_setClass_0 23 rfl rfl
theorem dksX2_setClass_2 : cX2_setClass.data.toList.drop 47 = dktX2_setClass_2 := dk_seg dksX2_setClass_1 24 rfl rfl
theorem dksX2_setClass_3 : cX2_setClass.data.toList.drop 69 = dktX2_setClass_3 := dk_seg dksX2_setClass_2 22 rfl rfl
theorem dksX2_setClass_4 : cX2_setClass.data.toList.drop 92 = dktX2_setClass_4 := dk_seg dksX2_setClass_3 23 rfl rfl
theorem dX2_setClass_0 : decode cX2_setClass 0 = .ok (.aload_n 0, 1) := dk_42 (dk_at dksX2_setClass_0 0 rfl rfl)
theorem dX2_setClass_1 : decode cX2_setClass 1 = .ok (.aload_n 0, 1) := dk_42 (dk_at dksX2_setClass_0 1 rfl rfl)
theorem dX2_setClass_2 : decode cX2_setClass 2 = .ok (.iload_n 1, 1) := dk_27 (dk_at dksX2_setClass_0 2 rfl rfl)
theorem dX2_setClass_3 : decode cX2_setClass 3 = .ok (.invokevirtual 92, 3) := dk_182 0 92 (dk_at dksX2_setClass_0 3 rfl rfl)
theorem dX2_setClass_6 : decode cX2_setClass 6 = .ok (.ifCond .eq 14, 3) := dk_153 0 14 (dk_at dksX2_setClass_0 6 rfl rfl)
theorem dX2_setClass_9 : decode cX2_setClass 9 = .ok (.iload_n 2, 1) := dk_28 (dk_at dksX2_setClass_0 9 rfl rfl)
theorem dX2_setClass_10 : decode cX2_setClass 10 = .ok (.invokestatic 134, 3) := dk_184 0 134 (dk_at dksX2_setClass_0 10 rfl rfl)
theorem dX2_setClass_13 : decode cX2_setClass 13 = .ok (.ifCond .eq 7, 3) := dk_153 0 7 (dk_at dksX2_setClass_0 13 rfl rfl)
theorem dX2_setClass_16 : decode cX2_setClass 16 = .ok (.iconst 1, 1) := dk_4 (dk_at dksX2_setClass_0 16 rfl rfl)
theorem dX2_setClass_17 : decode cX2_setClass 17 = .ok (.goto 4, 3) := dk_167 0 4 (dk_at dksX2_setClass_0 17 rfl rfl)
theorem dX2_setClass_20 : decode cX2_setClass 20 = .ok (.iconst 0, 1) := dk_3 (dk_at dksX2_setClass_0 20 rfl rfl)
theorem dX2_setClass_21 : decode cX2_setClass 21 = .ok (.iload_n 3, 1) := dk_29 (dk_at dksX2_setClass_0 21 rfl rfl)
theorem dX2_setClass_22 : decode cX2_setClass 22 = .ok (.iconst 0, 1) := dk_3 (dk_at dksX2_setClass_0 22 rfl rfl)
theorem dX2_setClass_23 : decode cX2_setClass 23 = .ok (.bipush 6, 2) := dk_16 6 (dk_at dksX2_setClass_1 0 rfl rfl)
theorem dX2_setClass_25 : decode cX2_setClass 25 = .ok (.invokestatic 51, 3) := dk_184 0 51 (dk_at dksX2_setClass_1 2 rfl rfl)
theorem dX2_setClass_28 : decode cX2_setClass 28 = .ok (.aload_n 0, 1) := dk_42 (dk_at dksX2_setClass_1 5 rfl rfl)
theorem dX2_setClass_29 : decode cX2_setClass 29 = .ok (.iload_n 1, 1) := dk_27 (dk_at dksX2_setClass_1 6 rfl rfl)
theorem dX2_setClass_30 : decode cX2_setClass 30 = .ok (.iload_n 2, 1) := dk_28 (dk_at dksX2_setClass_1 7 rfl rfl)
theorem dX2_setClass_31 : decode cX2_setClass 31 = .ok (.invokevirtual 137, 3) := dk_182 0 137 (dk_at dksX2_setClass_1 8 rfl rfl)
theorem dX2_setClass_34 : decode cX2_setClass 34 = .ok (.invokevirtual 75, 3) := dk_182 0 75 (dk_at dksX2_setClass_1 11 rfl rfl)
theorem dX2_setClass_37 : decode cX2_setClass 37 = .ok (.ifCond .ne 5, 3) := dk_154 0 5 (dk_at dksX2_setClass_1 14 rfl rfl)
theorem dX2_setClass_40 : decode cX2_setClass 40 = .ok (.iconst 0, 1) := dk_3 (dk_at dksX2_setClass_1 17 rfl rfl)
theorem dX2_setClass_41 : decode cX2_setClass 41 = .ok (.ireturn, 1) := dk_172 (dk_at dksX2_setClass_1 18 rfl rfl)
theorem dX2_setClass_42 : decode cX2_setClass 42 = .ok (.aload_n 0, 1) := dk_42 (dk_at dksX2_setClass_1 19 rfl rfl)
theorem dX2_setClass_43 : decode cX2_setClass 43 = .ok (.getfield 16, 3) := dk_180 0 16 (dk_at dksX2_setClass_1 20 rfl rfl)
theorem dX2_setClass_46 : decode cX2_setClass 46 = .ok (.iload_n 1, 1) := dk_27 (dk_at dksX2_setClass_1 23 rfl rfl)
theorem dX2_setClass_47 : decode cX2_setClass 47 = .ok (.invokeinterface 59 2, 5) := by decide +kernel
theorem dX2_setClass_52 : decode cX2_setClass 52 = .ok (.checkcast 87, 3) := dk_192 0 87 (dk_at dksX2_setClass_2 5 rfl rfl)
theorem dX2_setClass_55 : decode cX2_setClass 55 = .ok (.getfield 145, 3) := dk_180 0 145 (dk_at dksX2_setClass_2 8 rfl rfl)
theorem dX2_setClass_58 : decode cX2_setClass 58 = .ok (.iload_n 2, 1) := dk_28 (dk_at dksX2_setClass_2 11 rfl rfl)
theorem dX2_setClass_59 : decode cX2_setClass 59 = .ok (.iaload, 1) := dk_46 (dk_at dksX2_setClass_2 12 rfl rfl)
theorem dX2_setClass_60 : decode cX2_setClass 60 = .ok (.istore 4, 2) := dk_54 4 (dk_at dksX2_setClass_2 13 rfl rfl)
theorem dX2_setClass_62 : decode cX2_setClass 62 = .ok (.iload 4, 2) := dk_21 4 (dk_at dksX2_setClass_2 15 rfl rfl)
theorem dX2_setClass_64 : decode cX2_setClass 64 = .ok (.iload_n 3, 1) := dk_29 (dk_at dksX2_setClass_2 17 rfl rfl)
theorem dX2_setClass_65 : decode cX2_setClass 65 = .ok (.if_icmp .eq 27, 3) := dk_159 0 27 (dk_at dksX2_setClass_2 18 rfl rfl)
theorem dX2_setClass_68 : decode cX2_setClass 68 = .ok (.aload_n 0, 1) := dk_42 (dk_at dksX2_setClass_2 21 rfl rfl)
theorem dX2_setClass_69 : decode cX2_setClass 69 = .ok (.getfield 16, 3) := dk_180 0 16 (dk_at dksX2_setClass_3 0 rfl rfl)
theorem dX2_setClass_72 : decode cX2_setClass 72 = .ok (.iload_n 1, 1) := dk_27 (dk_at dksX2_setClass_3 3 rfl rfl)
theorem dX2_setClass_73 : decode cX2_setClass 73 = .ok (.invokeinterface 59 2, 5) := by decide +kernel
theorem dX2_setClass_78 : decode cX2_setClass 78 = .ok (.checkcast 87, 3) := dk_192 0 87 (dk_at dksX2_setClass_3 9 rfl rfl)
theorem dX2_setClass_81 : decode cX2_setClass 81 = .ok (.getfield 145, 3) := dk_180 0 145 (dk_at dksX2_setClass_3 12 rfl rfl)
theorem dX2_setClass_84 : decode cX2_setClass 84 = .ok (.iload_n 2, 1) := dk_28 (dk_at dksX2_setClass_3 15 rfl rfl)
theorem dX2_setClass_85 : decode cX2_setClass 85 = .ok (.iload_n 3, 1) := dk_29 (dk_at dksX2_setClass_3 16 rfl rfl)
theorem dX2_setClass_86 : decode cX2_setClass 86 = .ok (.iastore, 1) := dk_79 (dk_at dksX2_setClass_3 17 rfl rfl)
theorem dX2_setClass_87 : decode cX2_setClass 87 = .ok (.aload_n 0, 1) := dk_42 (dk_at dksX2_setClass_3 18 rfl rfl)
theorem dX2_setClass_88 : decode cX2_setClass 88 = .ok (.iload_n 1, 1) := dk_27 (dk_at dksX2_setClass_3 19 rfl rfl)
theorem dX2_setClass_89 : decode cX2_setClass 89 = .ok (.invokevirtual 142, 3) := dk_182 0 142 (dk_at dksX2_setClass_3 20 rfl rfl)
theorem dX2_setClass_92 : decode cX2_setClass 92 = .ok (.iload 4, 2) := dk_21 4 (dk_at dksX2_setClass_4 0 rfl rfl)
theorem dX2_setClass_94 : decode cX2_setClass 94 = .ok (.ireturn, 1) := dk_172 (dk_at dksX2_setClass_4 2 rfl rfl)
abbrev cX2_lay : ByteArray := prog_6_method_31_code
def yX2_lay : MethodName := ⟨RX2, "lay", "(III)I"⟩
def dkwX2_lay_4 : List UInt8 := [185, 0, 59, 2, 0, 192, 0, 87, 180, 0, 154, 28, 29, 79, 21, 5, 172]
abbrev dktX2_lay_4 : List UInt8 := dkwX2_lay_4 ++ []
def dkwX2_lay_3 : List UInt8 := [185, 0, 59, 2, 0, 192, 0, 87, 180, 0, 154, 28, 46, 54, 5, 42, 180, 0, 16, 27]
abbrev dktX2_lay_3 : List UInt8 := dkwX2_lay_3 ++ dktX2_lay_4
def dkwX2_lay_2 : List UInt8 := [182, 0, 157, 153, 0, 7, 4, 167, 0, 4, 3, 182, 0, 75, 154, 0, 5, 3, 172, 42, 180, 0, 16, 27]
abbrev dktX2_lay_2 : List UInt8 := dkwX2_lay_2 ++ dktX2_lay_3
def dkwX2_lay_1 : List UInt8 := [153, 0, 7, 4, 167, 0, 4, 3, 21, 4, 42, 27, 28, 182, 0, 137, 153, 0, 17, 42, 27, 28, 29]
abbrev dktX2_lay_1 : List UInt8 := dkwX2_lay_1 ++ dktX2_lay_2
def dkwX2_lay_0 : List UInt8 := [29, 3, 17, 2, 88, 184, 0, 51, 54, 4, 42, 42, 27, 182, 0, 92, 153, 0, 14, 28, 184, 0, 134]
abbrev dktX2_lay_0 : List UInt8 := dkwX2_lay_0 ++ dktX2_lay_1
theorem dksX2_lay_0 : cX2_lay.data.toList.drop 0 = dktX2_lay_0 := by decide +kernel
theorem dksX2_lay_1 : cX2_lay.data.toList.drop 23 = dktX2_lay_1 := dk_seg dksX2_lay_0 23 rfl rfl
theorem dksX2_lay_2 : cX2_lay.data.toList.drop 46 = dktX2_lay_2 := dk_seg dksX2_lay_1 23 rfl rfl
theorem dksX2_lay_3 : cX2_lay.data.toList.drop 70 = dktX2_lay_3 := dk_seg dksX2_lay_2 24 rfl rfl
theorem dksX2_lay_4 : cX2_lay.data.toList.drop 90 = dktX2_lay_4 := dk_seg dksX2_lay_3 20 rfl rfl
theorem dX2_lay_0 : decode cX2_lay 0 = .ok (.iload_n 3, 1) := dk_29 (dk_at dksX2_lay_0 0 rfl rfl)
theorem dX2_lay_1 : decode cX2_lay 1 = .ok (.iconst 0, 1) := dk_3 (dk_at dksX2_lay_0 1 rfl rfl)
theorem dX2_lay_2 : decode cX2_lay 2 = .ok (.sipush 600, 3) := dk_17 2 88 (dk_at dksX2_lay_0 2 rfl rfl)
theorem dX2_lay_5 : decode cX2_lay 5 = .ok (.invokestatic 51, 3) := dk_184 0 51 (dk_at dksX2_lay_0 5 rfl rfl)
theorem dX2_lay_8 : decode cX2_lay 8 = .ok (.istore 4, 2) := dk_54 4 (dk_at dksX2_lay_0 8 rfl rfl)
theorem dX2_lay_10 : decode cX2_lay 10 = .ok (.aload_n 0, 1) := dk_42 (dk_at dksX2_lay_0 10 rfl rfl)
theorem dX2_lay_11 : decode cX2_lay 11 = .ok (.aload_n 0, 1) := dk_42 (dk_at dksX2_lay_0 11 rfl rfl)
theorem dX2_lay_12 : decode cX2_lay 12 = .ok (.iload_n 1, 1) := dk_27 (dk_at dksX2_lay_0 12 rfl rfl)
theorem dX2_lay_13 : decode cX2_lay 13 = .ok (.invokevirtual 92, 3) := dk_182 0 92 (dk_at dksX2_lay_0 13 rfl rfl)
theorem dX2_lay_16 : decode cX2_lay 16 = .ok (.ifCond .eq 14, 3) := dk_153 0 14 (dk_at dksX2_lay_0 16 rfl rfl)
theorem dX2_lay_19 : decode cX2_lay 19 = .ok (.iload_n 2, 1) := dk_28 (dk_at dksX2_lay_0 19 rfl rfl)
theorem dX2_lay_20 : decode cX2_lay 20 = .ok (.invokestatic 134, 3) := dk_184 0 134 (dk_at dksX2_lay_0 20 rfl rfl)
theorem dX2_lay_23 : decode cX2_lay 23 = .ok (.ifCond .eq 7, 3) := dk_153 0 7 (dk_at dksX2_lay_1 0 rfl rfl)
theorem dX2_lay_26 : decode cX2_lay 26 = .ok (.iconst 1, 1) := dk_4 (dk_at dksX2_lay_1 3 rfl rfl)
theorem dX2_lay_27 : decode cX2_lay 27 = .ok (.goto 4, 3) := dk_167 0 4 (dk_at dksX2_lay_1 4 rfl rfl)
theorem dX2_lay_30 : decode cX2_lay 30 = .ok (.iconst 0, 1) := dk_3 (dk_at dksX2_lay_1 7 rfl rfl)
theorem dX2_lay_31 : decode cX2_lay 31 = .ok (.iload 4, 2) := dk_21 4 (dk_at dksX2_lay_1 8 rfl rfl)
theorem dX2_lay_33 : decode cX2_lay 33 = .ok (.aload_n 0, 1) := dk_42 (dk_at dksX2_lay_1 10 rfl rfl)
theorem dX2_lay_34 : decode cX2_lay 34 = .ok (.iload_n 1, 1) := dk_27 (dk_at dksX2_lay_1 11 rfl rfl)
theorem dX2_lay_35 : decode cX2_lay 35 = .ok (.iload_n 2, 1) := dk_28 (dk_at dksX2_lay_1 12 rfl rfl)
theorem dX2_lay_36 : decode cX2_lay 36 = .ok (.invokevirtual 137, 3) := dk_182 0 137 (dk_at dksX2_lay_1 13 rfl rfl)
theorem dX2_lay_39 : decode cX2_lay 39 = .ok (.ifCond .eq 17, 3) := dk_153 0 17 (dk_at dksX2_lay_1 16 rfl rfl)
theorem dX2_lay_42 : decode cX2_lay 42 = .ok (.aload_n 0, 1) := dk_42 (dk_at dksX2_lay_1 19 rfl rfl)
theorem dX2_lay_43 : decode cX2_lay 43 = .ok (.iload_n 1, 1) := dk_27 (dk_at dksX2_lay_1 20 rfl rfl)
theorem dX2_lay_44 : decode cX2_lay 44 = .ok (.iload_n 2, 1) := dk_28 (dk_at dksX2_lay_1 21 rfl rfl)
theorem dX2_lay_45 : decode cX2_lay 45 = .ok (.iload_n 3, 1) := dk_29 (dk_at dksX2_lay_1 22 rfl rfl)
theorem dX2_lay_46 : decode cX2_lay 46 = .ok (.invokevirtual 157, 3) := dk_182 0 157 (dk_at dksX2_lay_2 0 rfl rfl)
theorem dX2_lay_49 : decode cX2_lay 49 = .ok (.ifCond .eq 7, 3) := dk_153 0 7 (dk_at dksX2_lay_2 3 rfl rfl)
theorem dX2_lay_52 : decode cX2_lay 52 = .ok (.iconst 1, 1) := dk_4 (dk_at dksX2_lay_2 6 rfl rfl)
theorem dX2_lay_53 : decode cX2_lay 53 = .ok (.goto 4, 3) := dk_167 0 4 (dk_at dksX2_lay_2 7 rfl rfl)
theorem dX2_lay_56 : decode cX2_lay 56 = .ok (.iconst 0, 1) := dk_3 (dk_at dksX2_lay_2 10 rfl rfl)
theorem dX2_lay_57 : decode cX2_lay 57 = .ok (.invokevirtual 75, 3) := dk_182 0 75 (dk_at dksX2_lay_2 11 rfl rfl)
theorem dX2_lay_60 : decode cX2_lay 60 = .ok (.ifCond .ne 5, 3) := dk_154 0 5 (dk_at dksX2_lay_2 14 rfl rfl)
theorem dX2_lay_63 : decode cX2_lay 63 = .ok (.iconst 0, 1) := dk_3 (dk_at dksX2_lay_2 17 rfl rfl)
theorem dX2_lay_64 : decode cX2_lay 64 = .ok (.ireturn, 1) := dk_172 (dk_at dksX2_lay_2 18 rfl rfl)
theorem dX2_lay_65 : decode cX2_lay 65 = .ok (.aload_n 0, 1) := dk_42 (dk_at dksX2_lay_2 19 rfl rfl)
theorem dX2_lay_66 : decode cX2_lay 66 = .ok (.getfield 16, 3) := dk_180 0 16 (dk_at dksX2_lay_2 20 rfl rfl)
theorem dX2_lay_69 : decode cX2_lay 69 = .ok (.iload_n 1, 1) := dk_27 (dk_at dksX2_lay_2 23 rfl rfl)
theorem dX2_lay_70 : decode cX2_lay 70 = .ok (.invokeinterface 59 2, 5) := by decide +kernel
theorem dX2_lay_75 : decode cX2_lay 75 = .ok (.checkcast 87, 3) := dk_192 0 87 (dk_at dksX2_lay_3 5 rfl rfl)
theorem dX2_lay_78 : decode cX2_lay 78 = .ok (.getfield 154, 3) := dk_180 0 154 (dk_at dksX2_lay_3 8 rfl rfl)
theorem dX2_lay_81 : decode cX2_lay 81 = .ok (.iload_n 2, 1) := dk_28 (dk_at dksX2_lay_3 11 rfl rfl)
theorem dX2_lay_82 : decode cX2_lay 82 = .ok (.iaload, 1) := dk_46 (dk_at dksX2_lay_3 12 rfl rfl)
theorem dX2_lay_83 : decode cX2_lay 83 = .ok (.istore 5, 2) := dk_54 5 (dk_at dksX2_lay_3 13 rfl rfl)
theorem dX2_lay_85 : decode cX2_lay 85 = .ok (.aload_n 0, 1) := dk_42 (dk_at dksX2_lay_3 15 rfl rfl)
theorem dX2_lay_86 : decode cX2_lay 86 = .ok (.getfield 16, 3) := dk_180 0 16 (dk_at dksX2_lay_3 16 rfl rfl)
theorem dX2_lay_89 : decode cX2_lay 89 = .ok (.iload_n 1, 1) := dk_27 (dk_at dksX2_lay_3 19 rfl rfl)
theorem dX2_lay_90 : decode cX2_lay 90 = .ok (.invokeinterface 59 2, 5) := by decide +kernel
theorem dX2_lay_95 : decode cX2_lay 95 = .ok (.checkcast 87, 3) := dk_192 0 87 (dk_at dksX2_lay_4 5 rfl rfl)
theorem dX2_lay_98 : decode cX2_lay 98 = .ok (.getfield 154, 3) := dk_180 0 154 (dk_at dksX2_lay_4 8 rfl rfl)
theorem dX2_lay_101 : decode cX2_lay 101 = .ok (.iload_n 2, 1) := dk_28 (dk_at dksX2_lay_4 11 rfl rfl)
theorem dX2_lay_102 : decode cX2_lay 102 = .ok (.iload_n 3, 1) := dk_29 (dk_at dksX2_lay_4 12 rfl rfl)
theorem dX2_lay_103 : decode cX2_lay 103 = .ok (.iastore, 1) := dk_79 (dk_at dksX2_lay_4 13 rfl rfl)
theorem dX2_lay_104 : decode cX2_lay 104 = .ok (.iload 5, 2) := dk_21 5 (dk_at dksX2_lay_4 14 rfl rfl)
theorem dX2_lay_106 : decode cX2_lay 106 = .ok (.ireturn, 1) := dk_172 (dk_at dksX2_lay_4 16 rfl rfl)
abbrev cX2_canLay : ByteArray := prog_6_method_30_code
def yX2_canLay : MethodName := ⟨RX2, "canLay", "(III)Z"⟩
def dkwX2_canLay_3 : List UInt8 := [153, 0, 7, 4, 167, 0, 4, 3, 172]
abbrev dktX2_canLay_3 : List UInt8 := dkwX2_canLay_3 ++ []
def dkwX2_canLay_2 : List UInt8 := [153, 0, 7, 4, 167, 0, 4, 3, 54, 5, 29, 25, 4, 180, 0, 154, 28, 46, 164, 0, 8, 21, 5]
abbrev dktX2_canLay_2 : List UInt8 := dkwX2_canLay_2 ++ dktX2_canLay_3
def dkwX2_canLay_1 : List UInt8 := [153, 0, 30, 29, 178, 0, 148, 25, 4, 180, 0, 145, 28, 46, 46, 163, 0, 15, 42, 27, 182, 0, 151]
abbrev dktX2_canLay_1 : List UInt8 := dkwX2_canLay_1 ++ dktX2_canLay_2
def dkwX2_canLay_0 : List UInt8 := [42, 180, 0, 16, 27, 185, 0, 59, 2, 0, 192, 0, 87, 58, 4, 25, 4, 180, 0, 139, 28, 51]
abbrev dktX2_canLay_0 : List UInt8 := dkwX2_canLay_0 ++ dktX2_canLay_1
theorem dksX2_canLay_0 : cX2_canLay.data.toList.drop 0 = dktX2_canLay_0 := by decide +kernel
theorem dksX2_canLay_1 : cX2_canLay.data.toList.drop 22 = dktX2_canLay_1 := dk_seg dksX2_canLay_0 22 rfl rfl
theorem dksX2_canLay_2 : cX2_canLay.data.toList.drop 45 = dktX2_canLay_2 := dk_seg dksX2_canLay_1 23 rfl rfl
theorem dksX2_canLay_3 : cX2_canLay.data.toList.drop 68 = dktX2_canLay_3 := dk_seg dksX2_canLay_2 23 rfl rfl
theorem dX2_canLay_0 : decode cX2_canLay 0 = .ok (.aload_n 0, 1) := dk_42 (dk_at dksX2_canLay_0 0 rfl rfl)
theorem dX2_canLay_1 : decode cX2_canLay 1 = .ok (.getfield 16, 3) := dk_180 0 16 (dk_at dksX2_canLay_0 1 rfl rfl)
theorem dX2_canLay_4 : decode cX2_canLay 4 = .ok (.iload_n 1, 1) := dk_27 (dk_at dksX2_canLay_0 4 rfl rfl)
theorem dX2_canLay_5 : decode cX2_canLay 5 = .ok (.invokeinterface 59 2, 5) := by decide +kernel
theorem dX2_canLay_10 : decode cX2_canLay 10 = .ok (.checkcast 87, 3) := dk_192 0 87 (dk_at dksX2_canLay_0 10 rfl rfl)
theorem dX2_canLay_13 : decode cX2_canLay 13 = .ok (.astore 4, 2) := dk_58 4 (dk_at dksX2_canLay_0 13 rfl rfl)
theorem dX2_canLay_15 : decode cX2_canLay 15 = .ok (.aload 4, 2) := dk_25 4 (dk_at dksX2_canLay_0 15 rfl rfl)
theorem dX2_canLay_17 : decode cX2_canLay 17 = .ok (.getfield 139, 3) := dk_180 0 139 (dk_at dksX2_canLay_0 17 rfl rfl)
theorem dX2_canLay_20 : decode cX2_canLay 20 = .ok (.iload_n 2, 1) := dk_28 (dk_at dksX2_canLay_0 20 rfl rfl)
theorem dX2_canLay_21 : decode cX2_canLay 21 = .ok (.baload, 1) := dk_51 (dk_at dksX2_canLay_0 21 rfl rfl)
theorem dX2_canLay_22 : decode cX2_canLay 22 = .ok (.ifCond .eq 30, 3) := dk_153 0 30 (dk_at dksX2_canLay_1 0 rfl rfl)
theorem dX2_canLay_25 : decode cX2_canLay 25 = .ok (.iload_n 3, 1) := dk_29 (dk_at dksX2_canLay_1 3 rfl rfl)
theorem dX2_canLay_26 : decode cX2_canLay 26 = .ok (.getstatic 148, 3) := dk_178 0 148 (dk_at dksX2_canLay_1 4 rfl rfl)
theorem dX2_canLay_29 : decode cX2_canLay 29 = .ok (.aload 4, 2) := dk_25 4 (dk_at dksX2_canLay_1 7 rfl rfl)
theorem dX2_canLay_31 : decode cX2_canLay 31 = .ok (.getfield 145, 3) := dk_180 0 145 (dk_at dksX2_canLay_1 9 rfl rfl)
theorem dX2_canLay_34 : decode cX2_canLay 34 = .ok (.iload_n 2, 1) := dk_28 (dk_at dksX2_canLay_1 12 rfl rfl)
theorem dX2_canLay_35 : decode cX2_canLay 35 = .ok (.iaload, 1) := dk_46 (dk_at dksX2_canLay_1 13 rfl rfl)
theorem dX2_canLay_36 : decode cX2_canLay 36 = .ok (.iaload, 1) := dk_46 (dk_at dksX2_canLay_1 14 rfl rfl)
theorem dX2_canLay_37 : decode cX2_canLay 37 = .ok (.if_icmp .gt 15, 3) := dk_163 0 15 (dk_at dksX2_canLay_1 15 rfl rfl)
theorem dX2_canLay_40 : decode cX2_canLay 40 = .ok (.aload_n 0, 1) := dk_42 (dk_at dksX2_canLay_1 18 rfl rfl)
theorem dX2_canLay_41 : decode cX2_canLay 41 = .ok (.iload_n 1, 1) := dk_27 (dk_at dksX2_canLay_1 19 rfl rfl)
theorem dX2_canLay_42 : decode cX2_canLay 42 = .ok (.invokevirtual 151, 3) := dk_182 0 151 (dk_at dksX2_canLay_1 20 rfl rfl)
theorem dX2_canLay_45 : decode cX2_canLay 45 = .ok (.ifCond .eq 7, 3) := dk_153 0 7 (dk_at dksX2_canLay_2 0 rfl rfl)
theorem dX2_canLay_48 : decode cX2_canLay 48 = .ok (.iconst 1, 1) := dk_4 (dk_at dksX2_canLay_2 3 rfl rfl)
theorem dX2_canLay_49 : decode cX2_canLay 49 = .ok (.goto 4, 3) := dk_167 0 4 (dk_at dksX2_canLay_2 4 rfl rfl)
theorem dX2_canLay_52 : decode cX2_canLay 52 = .ok (.iconst 0, 1) := dk_3 (dk_at dksX2_canLay_2 7 rfl rfl)
theorem dX2_canLay_53 : decode cX2_canLay 53 = .ok (.istore 5, 2) := dk_54 5 (dk_at dksX2_canLay_2 8 rfl rfl)
theorem dX2_canLay_55 : decode cX2_canLay 55 = .ok (.iload_n 3, 1) := dk_29 (dk_at dksX2_canLay_2 10 rfl rfl)
theorem dX2_canLay_56 : decode cX2_canLay 56 = .ok (.aload 4, 2) := dk_25 4 (dk_at dksX2_canLay_2 11 rfl rfl)
theorem dX2_canLay_58 : decode cX2_canLay 58 = .ok (.getfield 154, 3) := dk_180 0 154 (dk_at dksX2_canLay_2 13 rfl rfl)
theorem dX2_canLay_61 : decode cX2_canLay 61 = .ok (.iload_n 2, 1) := dk_28 (dk_at dksX2_canLay_2 16 rfl rfl)
theorem dX2_canLay_62 : decode cX2_canLay 62 = .ok (.iaload, 1) := dk_46 (dk_at dksX2_canLay_2 17 rfl rfl)
theorem dX2_canLay_63 : decode cX2_canLay 63 = .ok (.if_icmp .le 8, 3) := dk_164 0 8 (dk_at dksX2_canLay_2 18 rfl rfl)
theorem dX2_canLay_66 : decode cX2_canLay 66 = .ok (.iload 5, 2) := dk_21 5 (dk_at dksX2_canLay_2 21 rfl rfl)
theorem dX2_canLay_68 : decode cX2_canLay 68 = .ok (.ifCond .eq 7, 3) := dk_153 0 7 (dk_at dksX2_canLay_3 0 rfl rfl)
theorem dX2_canLay_71 : decode cX2_canLay 71 = .ok (.iconst 1, 1) := dk_4 (dk_at dksX2_canLay_3 3 rfl rfl)
theorem dX2_canLay_72 : decode cX2_canLay 72 = .ok (.goto 4, 3) := dk_167 0 4 (dk_at dksX2_canLay_3 4 rfl rfl)
theorem dX2_canLay_75 : decode cX2_canLay 75 = .ok (.iconst 0, 1) := dk_3 (dk_at dksX2_canLay_3 7 rfl rfl)
theorem dX2_canLay_76 : decode cX2_canLay 76 = .ok (.ireturn, 1) := dk_172 (dk_at dksX2_canLay_3 8 rfl rfl)
abbrev cX2_areGreenAround : ByteArray := prog_6_method_25_code
def yX2_areGreenAround : MethodName := ⟨RX2, "areGreenAround", "(I)Z"⟩
def dkwX2_areGreenAround_2 : List UInt8 := [167, 255, 213, 28, 172]
abbrev dktX2_areGreenAround_2 : List UInt8 := dkwX2_areGreenAround_2 ++ []
def dkwX2_areGreenAround_1 : List UInt8 := [182, 0, 120, 153, 0, 11, 42, 29, 182, 0, 124, 153, 0, 7, 4, 167, 0, 4, 3, 61, 132, 3, 1]
abbrev dktX2_areGreenAround_1 : List UInt8 := dkwX2_areGreenAround_1 ++ dktX2_areGreenAround_2
def dkwX2_areGreenAround_0 : List UInt8 := [4, 61, 3, 62, 29, 42, 180, 0, 20, 185, 0, 45, 1, 0, 162, 0, 36, 28, 153, 0, 24, 42, 29, 27]
abbrev dktX2_areGreenAround_0 : List UInt8 := dkwX2_areGreenAround_0 ++ dktX2_areGreenAround_1
theorem dksX2_areGreenAround_0 : cX2_areGreenAround.data.toList.drop 0 = dktX2_areGreenAround_0 := by decide +kernel
theorem dksX2_areGreenAround_1 : cX2_areGreenAround.data.toList.drop 24 = dktX2_areGreenAround_1 := dk_seg dksX2_areGreenAround_0 24 rfl rfl
theorem dksX2_areGreenAround_2 : cX2_areGreenAround.data.toList.drop 47 = dktX2_areGreenAround_2 := dk_seg dksX2_areGreenAround_1 23 rfl rfl
theorem dX2_areGreenAround_0 : decode cX2_areGreenAround 0 = .ok (.iconst 1, 1) := dk_4 (dk_at dksX2_areGreenAround_0 0 rfl rfl)
theorem dX2_areGreenAround_1 : decode cX2_areGreenAround 1 = .ok (.istore_n 2, 1) := dk_61 (dk_at dksX2_areGreenAround_0 1 rfl rfl)
theorem dX2_areGreenAround_2 : decode cX2_areGreenAround 2 = .ok (.iconst 0, 1) := dk_3 (dk_at dksX2_areGreenAround_0 2 rfl rfl)
theorem dX2_areGreenAround_3 : decode cX2_areGreenAround 3 = .ok (.istore_n 3, 1) := dk_62 (dk_at dksX2_areGreenAround_0 3 rfl rfl)
theorem dX2_areGreenAround_4 : decode cX2_areGreenAround 4 = .ok (.iload_n 3, 1) := dk_29 (dk_at dksX2_areGreenAround_0 4 rfl rfl)
theorem dX2_areGreenAround_5 : decode cX2_areGreenAround 5 = .ok (.aload_n 0, 1) := dk_42 (dk_at dksX2_areGreenAround_0 5 rfl rfl)
theorem dX2_areGreenAround_6 : decode cX2_areGreenAround 6 = .ok (.getfield 20, 3) := dk_180 0 20 (dk_at dksX2_areGreenAround_0 6 rfl rfl)
theorem dX2_areGreenAround_9 : decode cX2_areGreenAround 9 = .ok (.invokeinterface 45 1, 5) := by decide +kernel
theorem dX2_areGreenAround_14 : decode cX2_areGreenAround 14 = .ok (.if_icmp .ge 36, 3) := dk_162 0 36 (dk_at dksX2_areGreenAround_0 14 rfl rfl)
theorem dX2_areGreenAround_17 : decode cX2_areGreenAround 17 = .ok (.iload_n 2, 1) := dk_28 (dk_at dksX2_areGreenAround_0 17 rfl rfl)
theorem dX2_areGreenAround_18 : decode cX2_areGreenAround 18 = .ok (.ifCond .eq 24, 3) := dk_153 0 24 (dk_at dksX2_areGreenAround_0 18 rfl rfl)
theorem dX2_areGreenAround_21 : decode cX2_areGreenAround 21 = .ok (.aload_n 0, 1) := dk_42 (dk_at dksX2_areGreenAround_0 21 rfl rfl)
theorem dX2_areGreenAround_22 : decode cX2_areGreenAround 22 = .ok (.iload_n 3, 1) := dk_29 (dk_at dksX2_areGreenAround_0 22 rfl rfl)
theorem dX2_areGreenAround_23 : decode cX2_areGreenAround 23 = .ok (.iload_n 1, 1) := dk_27 (dk_at dksX2_areGreenAround_0 23 rfl rfl)
theorem dX2_areGreenAround_24 : decode cX2_areGreenAround 24 = .ok (.invokevirtual 120, 3) := dk_182 0 120 (dk_at dksX2_areGreenAround_1 0 rfl rfl)
theorem dX2_areGreenAround_27 : decode cX2_areGreenAround 27 = .ok (.ifCond .eq 11, 3) := dk_153 0 11 (dk_at dksX2_areGreenAround_1 3 rfl rfl)
theorem dX2_areGreenAround_30 : decode cX2_areGreenAround 30 = .ok (.aload_n 0, 1) := dk_42 (dk_at dksX2_areGreenAround_1 6 rfl rfl)
theorem dX2_areGreenAround_31 : decode cX2_areGreenAround 31 = .ok (.iload_n 3, 1) := dk_29 (dk_at dksX2_areGreenAround_1 7 rfl rfl)
theorem dX2_areGreenAround_32 : decode cX2_areGreenAround 32 = .ok (.invokevirtual 124, 3) := dk_182 0 124 (dk_at dksX2_areGreenAround_1 8 rfl rfl)
theorem dX2_areGreenAround_35 : decode cX2_areGreenAround 35 = .ok (.ifCond .eq 7, 3) := dk_153 0 7 (dk_at dksX2_areGreenAround_1 11 rfl rfl)
theorem dX2_areGreenAround_38 : decode cX2_areGreenAround 38 = .ok (.iconst 1, 1) := dk_4 (dk_at dksX2_areGreenAround_1 14 rfl rfl)
theorem dX2_areGreenAround_39 : decode cX2_areGreenAround 39 = .ok (.goto 4, 3) := dk_167 0 4 (dk_at dksX2_areGreenAround_1 15 rfl rfl)
theorem dX2_areGreenAround_42 : decode cX2_areGreenAround 42 = .ok (.iconst 0, 1) := dk_3 (dk_at dksX2_areGreenAround_1 18 rfl rfl)
theorem dX2_areGreenAround_43 : decode cX2_areGreenAround 43 = .ok (.istore_n 2, 1) := dk_61 (dk_at dksX2_areGreenAround_1 19 rfl rfl)
theorem dX2_areGreenAround_44 : decode cX2_areGreenAround 44 = .ok (.iinc 3 1, 3) := dk_132 3 1 (dk_at dksX2_areGreenAround_1 20 rfl rfl)
theorem dX2_areGreenAround_47 : decode cX2_areGreenAround 47 = .ok (.goto (-43), 3) := dk_167 255 213 (dk_at dksX2_areGreenAround_2 0 rfl rfl)
theorem dX2_areGreenAround_50 : decode cX2_areGreenAround 50 = .ok (.iload_n 2, 1) := dk_28 (dk_at dksX2_areGreenAround_2 3 rfl rfl)
theorem dX2_areGreenAround_51 : decode cX2_areGreenAround 51 = .ok (.ireturn, 1) := dk_172 (dk_at dksX2_areGreenAround_2 4 rfl rfl)
abbrev cX2_isGreen : ByteArray := prog_6_method_22_code
def yX2_isGreen : MethodName := ⟨RX2, "isGreen", "(I)Z"⟩
def dkwX2_isGreen_0 : List UInt8 := [42, 180, 0, 23, 27, 46, 42, 180, 0, 68, 161, 0, 7, 4, 167, 0, 4, 3, 172]
abbrev dktX2_isGreen_0 : List UInt8 := dkwX2_isGreen_0 ++ []
theorem dksX2_isGreen_0 : cX2_isGreen.data.toList.drop 0 = dktX2_isGreen_0 := by decide +kernel
theorem dX2_isGreen_0 : decode cX2_isGreen 0 = .ok (.aload_n 0, 1) := dk_42 (dk_at dksX2_isGreen_0 0 rfl rfl)
theorem dX2_isGreen_1 : decode cX2_isGreen 1 = .ok (.getfield 23, 3) := dk_180 0 23 (dk_at dksX2_isGreen_0 1 rfl rfl)
theorem dX2_isGreen_4 : decode cX2_isGreen 4 = .ok (.iload_n 1, 1) := dk_27 (dk_at dksX2_isGreen_0 4 rfl rfl)
theorem dX2_isGreen_5 : decode cX2_isGreen 5 = .ok (.iaload, 1) := dk_46 (dk_at dksX2_isGreen_0 5 rfl rfl)
theorem dX2_isGreen_6 : decode cX2_isGreen 6 = .ok (.aload_n 0, 1) := dk_42 (dk_at dksX2_isGreen_0 6 rfl rfl)
theorem dX2_isGreen_7 : decode cX2_isGreen 7 = .ok (.getfield 68, 3) := dk_180 0 68 (dk_at dksX2_isGreen_0 7 rfl rfl)
theorem dX2_isGreen_10 : decode cX2_isGreen 10 = .ok (.if_icmp .lt 7, 3) := dk_161 0 7 (dk_at dksX2_isGreen_0 10 rfl rfl)
theorem dX2_isGreen_13 : decode cX2_isGreen 13 = .ok (.iconst 1, 1) := dk_4 (dk_at dksX2_isGreen_0 13 rfl rfl)
theorem dX2_isGreen_14 : decode cX2_isGreen 14 = .ok (.goto 4, 3) := dk_167 0 4 (dk_at dksX2_isGreen_0 14 rfl rfl)
theorem dX2_isGreen_17 : decode cX2_isGreen 17 = .ok (.iconst 0, 1) := dk_3 (dk_at dksX2_isGreen_0 17 rfl rfl)
theorem dX2_isGreen_18 : decode cX2_isGreen 18 = .ok (.ireturn, 1) := dk_172 (dk_at dksX2_isGreen_0 18 rfl rfl)
abbrev cX2_bayAt : ByteArray := prog_6_method_32_code
def yX2_bayAt : MethodName := ⟨RX2, "bayAt", "(III)I"⟩
def dkwX2_bayAt_4 : List UInt8 := [46, 172]
abbrev dktX2_bayAt_4 : List UInt8 := dkwX2_bayAt_4 ++ []
def dkwX2_bayAt_3 : List UInt8 := [167, 0, 25, 29, 4, 160, 0, 13, 25, 4, 180, 0, 145, 28, 46, 167, 0, 10, 25, 4, 180, 0, 154, 28]
abbrev dktX2_bayAt_3 : List UInt8 := dkwX2_bayAt_3 ++ dktX2_bayAt_4
def dkwX2_bayAt_2 : List UInt8 := [192, 0, 87, 58, 4, 29, 154, 0, 21, 25, 4, 180, 0, 139, 28, 51, 153, 0, 7, 4, 167, 0, 29, 3]
abbrev dktX2_bayAt_2 : List UInt8 := dkwX2_bayAt_2 ++ dktX2_bayAt_3
def dkwX2_bayAt_1 : List UInt8 := [184, 0, 51, 4, 182, 0, 75, 154, 0, 5, 3, 172, 42, 180, 0, 16, 27, 185, 0, 59, 2, 0]
abbrev dktX2_bayAt_1 : List UInt8 := dkwX2_bayAt_1 ++ dktX2_bayAt_2
def dkwX2_bayAt_0 : List UInt8 := [42, 42, 27, 182, 0, 92, 153, 0, 14, 28, 184, 0, 134, 153, 0, 7, 4, 167, 0, 4, 3, 29, 3, 5]
abbrev dktX2_bayAt_0 : List UInt8 := dkwX2_bayAt_0 ++ dktX2_bayAt_1
theorem dksX2_bayAt_0 : cX2_bayAt.data.toList.drop 0 = dktX2_bayAt_0 := by decide +kernel
theorem dksX2_bayAt_1 : cX2_bayAt.data.toList.drop 24 = dktX2_bayAt_1 := dk_seg dksX2_bayAt_0 24 rfl rfl
theorem dksX2_bayAt_2 : cX2_bayAt.data.toList.drop 46 = dktX2_bayAt_2 := dk_seg dksX2_bayAt_1 22 rfl rfl
theorem dksX2_bayAt_3 : cX2_bayAt.data.toList.drop 70 = dktX2_bayAt_3 := dk_seg dksX2_bayAt_2 24 rfl rfl
theorem dksX2_bayAt_4 : cX2_bayAt.data.toList.drop 94 = dktX2_bayAt_4 := dk_seg dksX2_bayAt_3 24 rfl rfl
theorem dX2_bayAt_0 : decode cX2_bayAt 0 = .ok (.aload_n 0, 1) := dk_42 (dk_at dksX2_bayAt_0 0 rfl rfl)
theorem dX2_bayAt_1 : decode cX2_bayAt 1 = .ok (.aload_n 0, 1) := dk_42 (dk_at dksX2_bayAt_0 1 rfl rfl)
theorem dX2_bayAt_2 : decode cX2_bayAt 2 = .ok (.iload_n 1, 1) := dk_27 (dk_at dksX2_bayAt_0 2 rfl rfl)
theorem dX2_bayAt_3 : decode cX2_bayAt 3 = .ok (.invokevirtual 92, 3) := dk_182 0 92 (dk_at dksX2_bayAt_0 3 rfl rfl)
theorem dX2_bayAt_6 : decode cX2_bayAt 6 = .ok (.ifCond .eq 14, 3) := dk_153 0 14 (dk_at dksX2_bayAt_0 6 rfl rfl)
theorem dX2_bayAt_9 : decode cX2_bayAt 9 = .ok (.iload_n 2, 1) := dk_28 (dk_at dksX2_bayAt_0 9 rfl rfl)
theorem dX2_bayAt_10 : decode cX2_bayAt 10 = .ok (.invokestatic 134, 3) := dk_184 0 134 (dk_at dksX2_bayAt_0 10 rfl rfl)
theorem dX2_bayAt_13 : decode cX2_bayAt 13 = .ok (.ifCond .eq 7, 3) := dk_153 0 7 (dk_at dksX2_bayAt_0 13 rfl rfl)
theorem dX2_bayAt_16 : decode cX2_bayAt 16 = .ok (.iconst 1, 1) := dk_4 (dk_at dksX2_bayAt_0 16 rfl rfl)
theorem dX2_bayAt_17 : decode cX2_bayAt 17 = .ok (.goto 4, 3) := dk_167 0 4 (dk_at dksX2_bayAt_0 17 rfl rfl)
theorem dX2_bayAt_20 : decode cX2_bayAt 20 = .ok (.iconst 0, 1) := dk_3 (dk_at dksX2_bayAt_0 20 rfl rfl)
theorem dX2_bayAt_21 : decode cX2_bayAt 21 = .ok (.iload_n 3, 1) := dk_29 (dk_at dksX2_bayAt_0 21 rfl rfl)
theorem dX2_bayAt_22 : decode cX2_bayAt 22 = .ok (.iconst 0, 1) := dk_3 (dk_at dksX2_bayAt_0 22 rfl rfl)
theorem dX2_bayAt_23 : decode cX2_bayAt 23 = .ok (.iconst 2, 1) := dk_5 (dk_at dksX2_bayAt_0 23 rfl rfl)
theorem dX2_bayAt_24 : decode cX2_bayAt 24 = .ok (.invokestatic 51, 3) := dk_184 0 51 (dk_at dksX2_bayAt_1 0 rfl rfl)
theorem dX2_bayAt_27 : decode cX2_bayAt 27 = .ok (.iconst 1, 1) := dk_4 (dk_at dksX2_bayAt_1 3 rfl rfl)
theorem dX2_bayAt_28 : decode cX2_bayAt 28 = .ok (.invokevirtual 75, 3) := dk_182 0 75 (dk_at dksX2_bayAt_1 4 rfl rfl)
theorem dX2_bayAt_31 : decode cX2_bayAt 31 = .ok (.ifCond .ne 5, 3) := dk_154 0 5 (dk_at dksX2_bayAt_1 7 rfl rfl)
theorem dX2_bayAt_34 : decode cX2_bayAt 34 = .ok (.iconst 0, 1) := dk_3 (dk_at dksX2_bayAt_1 10 rfl rfl)
theorem dX2_bayAt_35 : decode cX2_bayAt 35 = .ok (.ireturn, 1) := dk_172 (dk_at dksX2_bayAt_1 11 rfl rfl)
theorem dX2_bayAt_36 : decode cX2_bayAt 36 = .ok (.aload_n 0, 1) := dk_42 (dk_at dksX2_bayAt_1 12 rfl rfl)
theorem dX2_bayAt_37 : decode cX2_bayAt 37 = .ok (.getfield 16, 3) := dk_180 0 16 (dk_at dksX2_bayAt_1 13 rfl rfl)
theorem dX2_bayAt_40 : decode cX2_bayAt 40 = .ok (.iload_n 1, 1) := dk_27 (dk_at dksX2_bayAt_1 16 rfl rfl)
theorem dX2_bayAt_41 : decode cX2_bayAt 41 = .ok (.invokeinterface 59 2, 5) := by decide +kernel
theorem dX2_bayAt_46 : decode cX2_bayAt 46 = .ok (.checkcast 87, 3) := dk_192 0 87 (dk_at dksX2_bayAt_2 0 rfl rfl)
theorem dX2_bayAt_49 : decode cX2_bayAt 49 = .ok (.astore 4, 2) := dk_58 4 (dk_at dksX2_bayAt_2 3 rfl rfl)
theorem dX2_bayAt_51 : decode cX2_bayAt 51 = .ok (.iload_n 3, 1) := dk_29 (dk_at dksX2_bayAt_2 5 rfl rfl)
theorem dX2_bayAt_52 : decode cX2_bayAt 52 = .ok (.ifCond .ne 21, 3) := dk_154 0 21 (dk_at dksX2_bayAt_2 6 rfl rfl)
theorem dX2_bayAt_55 : decode cX2_bayAt 55 = .ok (.aload 4, 2) := dk_25 4 (dk_at dksX2_bayAt_2 9 rfl rfl)
theorem dX2_bayAt_57 : decode cX2_bayAt 57 = .ok (.getfield 139, 3) := dk_180 0 139 (dk_at dksX2_bayAt_2 11 rfl rfl)
theorem dX2_bayAt_60 : decode cX2_bayAt 60 = .ok (.iload_n 2, 1) := dk_28 (dk_at dksX2_bayAt_2 14 rfl rfl)
theorem dX2_bayAt_61 : decode cX2_bayAt 61 = .ok (.baload, 1) := dk_51 (dk_at dksX2_bayAt_2 15 rfl rfl)
theorem dX2_bayAt_62 : decode cX2_bayAt 62 = .ok (.ifCond .eq 7, 3) := dk_153 0 7 (dk_at dksX2_bayAt_2 16 rfl rfl)
theorem dX2_bayAt_65 : decode cX2_bayAt 65 = .ok (.iconst 1, 1) := dk_4 (dk_at dksX2_bayAt_2 19 rfl rfl)
theorem dX2_bayAt_66 : decode cX2_bayAt 66 = .ok (.goto 29, 3) := dk_167 0 29 (dk_at dksX2_bayAt_2 20 rfl rfl)
theorem dX2_bayAt_69 : decode cX2_bayAt 69 = .ok (.iconst 0, 1) := dk_3 (dk_at dksX2_bayAt_2 23 rfl rfl)
theorem dX2_bayAt_70 : decode cX2_bayAt 70 = .ok (.goto 25, 3) := dk_167 0 25 (dk_at dksX2_bayAt_3 0 rfl rfl)
theorem dX2_bayAt_73 : decode cX2_bayAt 73 = .ok (.iload_n 3, 1) := dk_29 (dk_at dksX2_bayAt_3 3 rfl rfl)
theorem dX2_bayAt_74 : decode cX2_bayAt 74 = .ok (.iconst 1, 1) := dk_4 (dk_at dksX2_bayAt_3 4 rfl rfl)
theorem dX2_bayAt_75 : decode cX2_bayAt 75 = .ok (.if_icmp .ne 13, 3) := dk_160 0 13 (dk_at dksX2_bayAt_3 5 rfl rfl)
theorem dX2_bayAt_78 : decode cX2_bayAt 78 = .ok (.aload 4, 2) := dk_25 4 (dk_at dksX2_bayAt_3 8 rfl rfl)
theorem dX2_bayAt_80 : decode cX2_bayAt 80 = .ok (.getfield 145, 3) := dk_180 0 145 (dk_at dksX2_bayAt_3 10 rfl rfl)
theorem dX2_bayAt_83 : decode cX2_bayAt 83 = .ok (.iload_n 2, 1) := dk_28 (dk_at dksX2_bayAt_3 13 rfl rfl)
theorem dX2_bayAt_84 : decode cX2_bayAt 84 = .ok (.iaload, 1) := dk_46 (dk_at dksX2_bayAt_3 14 rfl rfl)
theorem dX2_bayAt_85 : decode cX2_bayAt 85 = .ok (.goto 10, 3) := dk_167 0 10 (dk_at dksX2_bayAt_3 15 rfl rfl)
theorem dX2_bayAt_88 : decode cX2_bayAt 88 = .ok (.aload 4, 2) := dk_25 4 (dk_at dksX2_bayAt_3 18 rfl rfl)
theorem dX2_bayAt_90 : decode cX2_bayAt 90 = .ok (.getfield 154, 3) := dk_180 0 154 (dk_at dksX2_bayAt_3 20 rfl rfl)
theorem dX2_bayAt_93 : decode cX2_bayAt 93 = .ok (.iload_n 2, 1) := dk_28 (dk_at dksX2_bayAt_3 23 rfl rfl)
theorem dX2_bayAt_94 : decode cX2_bayAt 94 = .ok (.iaload, 1) := dk_46 (dk_at dksX2_bayAt_4 0 rfl rfl)
theorem dX2_bayAt_95 : decode cX2_bayAt 95 = .ok (.ireturn, 1) := dk_172 (dk_at dksX2_bayAt_4 1 rfl rfl)
abbrev cX2_cut : ByteArray := prog_6_method_33_code
def yX2_cut : MethodName := ⟨RX2, "cut", "(IIZ)Z"⟩
def dkwX2_cut_2 : List UInt8 := [42, 180, 0, 29, 27, 50, 28, 29, 84, 42, 182, 0, 42, 21, 4, 172]
abbrev dktX2_cut_2 : List UInt8 := dkwX2_cut_2 ++ []
def dkwX2_cut_1 : List UInt8 := [182, 0, 75, 154, 0, 5, 3, 172, 42, 180, 0, 29, 27, 50, 28, 51, 54, 4, 21, 4, 29, 159, 0, 16]
abbrev dktX2_cut_1 : List UInt8 := dkwX2_cut_1 ++ dktX2_cut_2
def dkwX2_cut_0 : List UInt8 := [42, 42, 27, 182, 0, 99, 153, 0, 14, 28, 184, 0, 134, 153, 0, 7, 4, 167, 0, 4, 3, 4, 4]
abbrev dktX2_cut_0 : List UInt8 := dkwX2_cut_0 ++ dktX2_cut_1
theorem dksX2_cut_0 : cX2_cut.data.toList.drop 0 = dktX2_cut_0 := by decide +kernel
theorem dksX2_cut_1 : cX2_cut.data.toList.drop 23 = dktX2_cut_1 := dk_seg dksX2_cut_0 23 rfl rfl
theorem dksX2_cut_2 : cX2_cut.data.toList.drop 47 = dktX2_cut_2 := dk_seg dksX2_cut_1 24 rfl rfl
theorem dX2_cut_0 : decode cX2_cut 0 = .ok (.aload_n 0, 1) := dk_42 (dk_at dksX2_cut_0 0 rfl rfl)
theorem dX2_cut_1 : decode cX2_cut 1 = .ok (.aload_n 0, 1) := dk_42 (dk_at dksX2_cut_0 1 rfl rfl)
theorem dX2_cut_2 : decode cX2_cut 2 = .ok (.iload_n 1, 1) := dk_27 (dk_at dksX2_cut_0 2 rfl rfl)
theorem dX2_cut_3 : decode cX2_cut 3 = .ok (.invokevirtual 99, 3) := dk_182 0 99 (dk_at dksX2_cut_0 3 rfl rfl)
theorem dX2_cut_6 : decode cX2_cut 6 = .ok (.ifCond .eq 14, 3) := dk_153 0 14 (dk_at dksX2_cut_0 6 rfl rfl)
theorem dX2_cut_9 : decode cX2_cut 9 = .ok (.iload_n 2, 1) := dk_28 (dk_at dksX2_cut_0 9 rfl rfl)
theorem dX2_cut_10 : decode cX2_cut 10 = .ok (.invokestatic 134, 3) := dk_184 0 134 (dk_at dksX2_cut_0 10 rfl rfl)
theorem dX2_cut_13 : decode cX2_cut 13 = .ok (.ifCond .eq 7, 3) := dk_153 0 7 (dk_at dksX2_cut_0 13 rfl rfl)
theorem dX2_cut_16 : decode cX2_cut 16 = .ok (.iconst 1, 1) := dk_4 (dk_at dksX2_cut_0 16 rfl rfl)
theorem dX2_cut_17 : decode cX2_cut 17 = .ok (.goto 4, 3) := dk_167 0 4 (dk_at dksX2_cut_0 17 rfl rfl)
theorem dX2_cut_20 : decode cX2_cut 20 = .ok (.iconst 0, 1) := dk_3 (dk_at dksX2_cut_0 20 rfl rfl)
theorem dX2_cut_21 : decode cX2_cut 21 = .ok (.iconst 1, 1) := dk_4 (dk_at dksX2_cut_0 21 rfl rfl)
theorem dX2_cut_22 : decode cX2_cut 22 = .ok (.iconst 1, 1) := dk_4 (dk_at dksX2_cut_0 22 rfl rfl)
theorem dX2_cut_23 : decode cX2_cut 23 = .ok (.invokevirtual 75, 3) := dk_182 0 75 (dk_at dksX2_cut_1 0 rfl rfl)
theorem dX2_cut_26 : decode cX2_cut 26 = .ok (.ifCond .ne 5, 3) := dk_154 0 5 (dk_at dksX2_cut_1 3 rfl rfl)
theorem dX2_cut_29 : decode cX2_cut 29 = .ok (.iconst 0, 1) := dk_3 (dk_at dksX2_cut_1 6 rfl rfl)
theorem dX2_cut_30 : decode cX2_cut 30 = .ok (.ireturn, 1) := dk_172 (dk_at dksX2_cut_1 7 rfl rfl)
theorem dX2_cut_31 : decode cX2_cut 31 = .ok (.aload_n 0, 1) := dk_42 (dk_at dksX2_cut_1 8 rfl rfl)
theorem dX2_cut_32 : decode cX2_cut 32 = .ok (.getfield 29, 3) := dk_180 0 29 (dk_at dksX2_cut_1 9 rfl rfl)
theorem dX2_cut_35 : decode cX2_cut 35 = .ok (.iload_n 1, 1) := dk_27 (dk_at dksX2_cut_1 12 rfl rfl)
theorem dX2_cut_36 : decode cX2_cut 36 = .ok (.aaload, 1) := dk_50 (dk_at dksX2_cut_1 13 rfl rfl)
theorem dX2_cut_37 : decode cX2_cut 37 = .ok (.iload_n 2, 1) := dk_28 (dk_at dksX2_cut_1 14 rfl rfl)
theorem dX2_cut_38 : decode cX2_cut 38 = .ok (.baload, 1) := dk_51 (dk_at dksX2_cut_1 15 rfl rfl)
theorem dX2_cut_39 : decode cX2_cut 39 = .ok (.istore 4, 2) := dk_54 4 (dk_at dksX2_cut_1 16 rfl rfl)
theorem dX2_cut_41 : decode cX2_cut 41 = .ok (.iload 4, 2) := dk_21 4 (dk_at dksX2_cut_1 18 rfl rfl)
theorem dX2_cut_43 : decode cX2_cut 43 = .ok (.iload_n 3, 1) := dk_29 (dk_at dksX2_cut_1 20 rfl rfl)
theorem dX2_cut_44 : decode cX2_cut 44 = .ok (.if_icmp .eq 16, 3) := dk_159 0 16 (dk_at dksX2_cut_1 21 rfl rfl)
theorem dX2_cut_47 : decode cX2_cut 47 = .ok (.aload_n 0, 1) := dk_42 (dk_at dksX2_cut_2 0 rfl rfl)
theorem dX2_cut_48 : decode cX2_cut 48 = .ok (.getfield 29, 3) := dk_180 0 29 (dk_at dksX2_cut_2 1 rfl rfl)
theorem dX2_cut_51 : decode cX2_cut 51 = .ok (.iload_n 1, 1) := dk_27 (dk_at dksX2_cut_2 4 rfl rfl)
theorem dX2_cut_52 : decode cX2_cut 52 = .ok (.aaload, 1) := dk_50 (dk_at dksX2_cut_2 5 rfl rfl)
theorem dX2_cut_53 : decode cX2_cut 53 = .ok (.iload_n 2, 1) := dk_28 (dk_at dksX2_cut_2 6 rfl rfl)
theorem dX2_cut_54 : decode cX2_cut 54 = .ok (.iload_n 3, 1) := dk_29 (dk_at dksX2_cut_2 7 rfl rfl)
theorem dX2_cut_55 : decode cX2_cut 55 = .ok (.bastore, 1) := dk_84 (dk_at dksX2_cut_2 8 rfl rfl)
theorem dX2_cut_56 : decode cX2_cut 56 = .ok (.aload_n 0, 1) := dk_42 (dk_at dksX2_cut_2 9 rfl rfl)
theorem dX2_cut_57 : decode cX2_cut 57 = .ok (.invokevirtual 42, 3) := dk_182 0 42 (dk_at dksX2_cut_2 10 rfl rfl)
theorem dX2_cut_60 : decode cX2_cut 60 = .ok (.iload 4, 2) := dk_21 4 (dk_at dksX2_cut_2 13 rfl rfl)
theorem dX2_cut_62 : decode cX2_cut 62 = .ok (.ireturn, 1) := dk_172 (dk_at dksX2_cut_2 15 rfl rfl)
abbrev cX2_setLimit : ByteArray := prog_6_method_34_code
def yX2_setLimit : MethodName := ⟨RX2, "setLimit", "(I)I"⟩
def dkwX2_setLimit_1 : List UInt8 := [42, 27, 181, 0, 32, 28, 27, 159, 0, 7, 42, 182, 0, 42, 28, 172]
abbrev dktX2_setLimit_1 : List UInt8 := dkwX2_setLimit_1 ++ []
def dkwX2_setLimit_0 : List UInt8 := [42, 27, 4, 17, 39, 15, 184, 0, 51, 4, 4, 182, 0, 75, 154, 0, 5, 3, 172, 42, 180, 0, 32, 61]
abbrev dktX2_setLimit_0 : List UInt8 := dkwX2_setLimit_0 ++ dktX2_setLimit_1
theorem dksX2_setLimit_0 : cX2_setLimit.data.toList.drop 0 = dktX2_setLimit_0 := by decide +kernel
theorem dksX2_setLimit_1 : cX2_setLimit.data.toList.drop 24 = dktX2_setLimit_1 := dk_seg dksX2_setLimit_0 24 rfl rfl
theorem dX2_setLimit_0 : decode cX2_setLimit 0 = .ok (.aload_n 0, 1) := dk_42 (dk_at dksX2_setLimit_0 0 rfl rfl)
theorem dX2_setLimit_1 : decode cX2_setLimit 1 = .ok (.iload_n 1, 1) := dk_27 (dk_at dksX2_setLimit_0 1 rfl rfl)
theorem dX2_setLimit_2 : decode cX2_setLimit 2 = .ok (.iconst 1, 1) := dk_4 (dk_at dksX2_setLimit_0 2 rfl rfl)
theorem dX2_setLimit_3 : decode cX2_setLimit 3 = .ok (.sipush 9999, 3) := dk_17 39 15 (dk_at dksX2_setLimit_0 3 rfl rfl)
theorem dX2_setLimit_6 : decode cX2_setLimit 6 = .ok (.invokestatic 51, 3) := dk_184 0 51 (dk_at dksX2_setLimit_0 6 rfl rfl)
theorem dX2_setLimit_9 : decode cX2_setLimit 9 = .ok (.iconst 1, 1) := dk_4 (dk_at dksX2_setLimit_0 9 rfl rfl)
theorem dX2_setLimit_10 : decode cX2_setLimit 10 = .ok (.iconst 1, 1) := dk_4 (dk_at dksX2_setLimit_0 10 rfl rfl)
theorem dX2_setLimit_11 : decode cX2_setLimit 11 = .ok (.invokevirtual 75, 3) := dk_182 0 75 (dk_at dksX2_setLimit_0 11 rfl rfl)
theorem dX2_setLimit_14 : decode cX2_setLimit 14 = .ok (.ifCond .ne 5, 3) := dk_154 0 5 (dk_at dksX2_setLimit_0 14 rfl rfl)
theorem dX2_setLimit_17 : decode cX2_setLimit 17 = .ok (.iconst 0, 1) := dk_3 (dk_at dksX2_setLimit_0 17 rfl rfl)
theorem dX2_setLimit_18 : decode cX2_setLimit 18 = .ok (.ireturn, 1) := dk_172 (dk_at dksX2_setLimit_0 18 rfl rfl)
theorem dX2_setLimit_19 : decode cX2_setLimit 19 = .ok (.aload_n 0, 1) := dk_42 (dk_at dksX2_setLimit_0 19 rfl rfl)
theorem dX2_setLimit_20 : decode cX2_setLimit 20 = .ok (.getfield 32, 3) := dk_180 0 32 (dk_at dksX2_setLimit_0 20 rfl rfl)
theorem dX2_setLimit_23 : decode cX2_setLimit 23 = .ok (.istore_n 2, 1) := dk_61 (dk_at dksX2_setLimit_0 23 rfl rfl)
theorem dX2_setLimit_24 : decode cX2_setLimit 24 = .ok (.aload_n 0, 1) := dk_42 (dk_at dksX2_setLimit_1 0 rfl rfl)
theorem dX2_setLimit_25 : decode cX2_setLimit 25 = .ok (.iload_n 1, 1) := dk_27 (dk_at dksX2_setLimit_1 1 rfl rfl)
theorem dX2_setLimit_26 : decode cX2_setLimit 26 = .ok (.putfield 32, 3) := dk_181 0 32 (dk_at dksX2_setLimit_1 2 rfl rfl)
theorem dX2_setLimit_29 : decode cX2_setLimit 29 = .ok (.iload_n 2, 1) := dk_28 (dk_at dksX2_setLimit_1 5 rfl rfl)
theorem dX2_setLimit_30 : decode cX2_setLimit 30 = .ok (.iload_n 1, 1) := dk_27 (dk_at dksX2_setLimit_1 6 rfl rfl)
theorem dX2_setLimit_31 : decode cX2_setLimit 31 = .ok (.if_icmp .eq 7, 3) := dk_159 0 7 (dk_at dksX2_setLimit_1 7 rfl rfl)
theorem dX2_setLimit_34 : decode cX2_setLimit 34 = .ok (.aload_n 0, 1) := dk_42 (dk_at dksX2_setLimit_1 10 rfl rfl)
theorem dX2_setLimit_35 : decode cX2_setLimit 35 = .ok (.invokevirtual 42, 3) := dk_182 0 42 (dk_at dksX2_setLimit_1 11 rfl rfl)
theorem dX2_setLimit_38 : decode cX2_setLimit 38 = .ok (.iload_n 2, 1) := dk_28 (dk_at dksX2_setLimit_1 14 rfl rfl)
theorem dX2_setLimit_39 : decode cX2_setLimit 39 = .ok (.ireturn, 1) := dk_172 (dk_at dksX2_setLimit_1 15 rfl rfl)
abbrev cX2_tieOf : ByteArray := prog_6_method_38_code
def yX2_tieOf : MethodName := ⟨RX2, "tieOf", "(II)I"⟩
def dkwX2_tieOf_1 : List UInt8 := [182, 0, 75, 154, 0, 5, 3, 172, 42, 28, 182, 0, 166, 42, 180, 0, 35, 27, 46, 172]
abbrev dktX2_tieOf_1 : List UInt8 := dkwX2_tieOf_1 ++ []
def dkwX2_tieOf_0 : List UInt8 := [42, 42, 27, 182, 0, 99, 153, 0, 14, 28, 184, 0, 134, 153, 0, 7, 4, 167, 0, 4, 3, 4, 4]
abbrev dktX2_tieOf_0 : List UInt8 := dkwX2_tieOf_0 ++ dktX2_tieOf_1
theorem dksX2_tieOf_0 : cX2_tieOf.data.toList.drop 0 = dktX2_tieOf_0 := by decide +kernel
theorem dksX2_tieOf_1 : cX2_tieOf.data.toList.drop 23 = dktX2_tieOf_1 := dk_seg dksX2_tieOf_0 23 rfl rfl
theorem dX2_tieOf_0 : decode cX2_tieOf 0 = .ok (.aload_n 0, 1) := dk_42 (dk_at dksX2_tieOf_0 0 rfl rfl)
theorem dX2_tieOf_1 : decode cX2_tieOf 1 = .ok (.aload_n 0, 1) := dk_42 (dk_at dksX2_tieOf_0 1 rfl rfl)
theorem dX2_tieOf_2 : decode cX2_tieOf 2 = .ok (.iload_n 1, 1) := dk_27 (dk_at dksX2_tieOf_0 2 rfl rfl)
theorem dX2_tieOf_3 : decode cX2_tieOf 3 = .ok (.invokevirtual 99, 3) := dk_182 0 99 (dk_at dksX2_tieOf_0 3 rfl rfl)
theorem dX2_tieOf_6 : decode cX2_tieOf 6 = .ok (.ifCond .eq 14, 3) := dk_153 0 14 (dk_at dksX2_tieOf_0 6 rfl rfl)
theorem dX2_tieOf_9 : decode cX2_tieOf 9 = .ok (.iload_n 2, 1) := dk_28 (dk_at dksX2_tieOf_0 9 rfl rfl)
theorem dX2_tieOf_10 : decode cX2_tieOf 10 = .ok (.invokestatic 134, 3) := dk_184 0 134 (dk_at dksX2_tieOf_0 10 rfl rfl)
theorem dX2_tieOf_13 : decode cX2_tieOf 13 = .ok (.ifCond .eq 7, 3) := dk_153 0 7 (dk_at dksX2_tieOf_0 13 rfl rfl)
theorem dX2_tieOf_16 : decode cX2_tieOf 16 = .ok (.iconst 1, 1) := dk_4 (dk_at dksX2_tieOf_0 16 rfl rfl)
theorem dX2_tieOf_17 : decode cX2_tieOf 17 = .ok (.goto 4, 3) := dk_167 0 4 (dk_at dksX2_tieOf_0 17 rfl rfl)
theorem dX2_tieOf_20 : decode cX2_tieOf 20 = .ok (.iconst 0, 1) := dk_3 (dk_at dksX2_tieOf_0 20 rfl rfl)
theorem dX2_tieOf_21 : decode cX2_tieOf 21 = .ok (.iconst 1, 1) := dk_4 (dk_at dksX2_tieOf_0 21 rfl rfl)
theorem dX2_tieOf_22 : decode cX2_tieOf 22 = .ok (.iconst 1, 1) := dk_4 (dk_at dksX2_tieOf_0 22 rfl rfl)
theorem dX2_tieOf_23 : decode cX2_tieOf 23 = .ok (.invokevirtual 75, 3) := dk_182 0 75 (dk_at dksX2_tieOf_1 0 rfl rfl)
theorem dX2_tieOf_26 : decode cX2_tieOf 26 = .ok (.ifCond .ne 5, 3) := dk_154 0 5 (dk_at dksX2_tieOf_1 3 rfl rfl)
theorem dX2_tieOf_29 : decode cX2_tieOf 29 = .ok (.iconst 0, 1) := dk_3 (dk_at dksX2_tieOf_1 6 rfl rfl)
theorem dX2_tieOf_30 : decode cX2_tieOf 30 = .ok (.ireturn, 1) := dk_172 (dk_at dksX2_tieOf_1 7 rfl rfl)
theorem dX2_tieOf_31 : decode cX2_tieOf 31 = .ok (.aload_n 0, 1) := dk_42 (dk_at dksX2_tieOf_1 8 rfl rfl)
theorem dX2_tieOf_32 : decode cX2_tieOf 32 = .ok (.iload_n 2, 1) := dk_28 (dk_at dksX2_tieOf_1 9 rfl rfl)
theorem dX2_tieOf_33 : decode cX2_tieOf 33 = .ok (.invokevirtual 166, 3) := dk_182 0 166 (dk_at dksX2_tieOf_1 10 rfl rfl)
theorem dX2_tieOf_36 : decode cX2_tieOf 36 = .ok (.aload_n 0, 1) := dk_42 (dk_at dksX2_tieOf_1 13 rfl rfl)
theorem dX2_tieOf_37 : decode cX2_tieOf 37 = .ok (.getfield 35, 3) := dk_180 0 35 (dk_at dksX2_tieOf_1 14 rfl rfl)
theorem dX2_tieOf_40 : decode cX2_tieOf 40 = .ok (.iload_n 1, 1) := dk_27 (dk_at dksX2_tieOf_1 17 rfl rfl)
theorem dX2_tieOf_41 : decode cX2_tieOf 41 = .ok (.iaload, 1) := dk_46 (dk_at dksX2_tieOf_1 18 rfl rfl)
theorem dX2_tieOf_42 : decode cX2_tieOf 42 = .ok (.ireturn, 1) := dk_172 (dk_at dksX2_tieOf_1 19 rfl rfl)
abbrev cX2_findTies : ByteArray := prog_6_method_37_code
def yX2_findTies : MethodName := ⟨RX2, "findTies", "(I)V"⟩
def dkwX2_findTies_7 : List UInt8 := [180, 0, 35, 28, 46, 4, 84, 132, 2, 1, 167, 255, 157, 177]
abbrev dktX2_findTies_7 : List UInt8 := dkwX2_findTies_7 ++ []
def dkwX2_findTies_6 : List UInt8 := [4, 100, 167, 0, 4, 2, 79, 42, 180, 0, 35, 28, 46, 2, 159, 0, 15, 42, 180, 0, 38, 42]
abbrev dktX2_findTies_6 : List UInt8 := dkwX2_findTies_6 ++ dktX2_findTies_7
def dkwX2_findTies_5 : List UInt8 := [182, 0, 163, 153, 0, 9, 28, 4, 96, 167, 0, 21, 42, 28, 4, 100, 27, 182, 0, 163, 153, 0, 9, 28]
abbrev dktX2_findTies_5 : List UInt8 := dkwX2_findTies_5 ++ dktX2_findTies_6
def dkwX2_findTies_4 : List UInt8 := [153, 0, 77, 42, 180, 0, 29, 28, 50, 27, 51, 153, 0, 66, 42, 180, 0, 35, 28, 42, 28, 4, 96, 27]
abbrev dktX2_findTies_4 : List UInt8 := dkwX2_findTies_4 ++ dktX2_findTies_5
def dkwX2_findTies_3 : List UInt8 := [167, 255, 189, 3, 61, 28, 42, 180, 0, 16, 185, 0, 45, 1, 0, 163, 0, 92, 42, 28, 27, 182, 0, 160]
abbrev dktX2_findTies_3 : List UInt8 := dkwX2_findTies_3 ++ dktX2_findTies_4
def dkwX2_findTies_2 : List UInt8 := [180, 0, 35, 28, 42, 180, 0, 38, 28, 51, 153, 0, 7, 28, 167, 0, 4, 2, 79, 132, 2, 1]
abbrev dktX2_findTies_2 : List UInt8 := dkwX2_findTies_2 ++ dktX2_findTies_3
def dkwX2_findTies_1 : List UInt8 := [182, 0, 160, 153, 0, 18, 42, 180, 0, 29, 28, 50, 27, 51, 154, 0, 7, 4, 167, 0, 4, 3, 84, 42]
abbrev dktX2_findTies_1 : List UInt8 := dkwX2_findTies_1 ++ dktX2_findTies_2
def dkwX2_findTies_0 : List UInt8 := [3, 61, 28, 42, 180, 0, 16, 185, 0, 45, 1, 0, 163, 0, 60, 42, 180, 0, 38, 28, 42, 28, 27]
abbrev dktX2_findTies_0 : List UInt8 := dkwX2_findTies_0 ++ dktX2_findTies_1
theorem dksX2_findTies_0 : cX2_findTies.data.toList.drop 0 = dktX2_findTies_0 := by decide +kernel
theorem dksX2_findTies_1 : cX2_findTies.data.toList.drop 23 = dktX2_findTies_1 := dk_seg dksX2_findTies_0 23 rfl rfl
theorem dksX2_findTies_2 : cX2_findTies.data.toList.drop 47 = dktX2_findTies_2 := dk_seg dksX2_findTies_1 24 rfl rfl
theorem dksX2_findTies_3 : cX2_findTies.data.toList.drop 69 = dktX2_findTies_3 := dk_seg dksX2_findTies_2 22 rfl rfl
theorem dksX2_findTies_4 : cX2_findTies.data.toList.drop 93 = dktX2_findTies_4 := dk_seg dksX2_findTies_3 24 rfl rfl
theorem dksX2_findTies_5 : cX2_findTies.data.toList.drop 117 = dktX2_findTies_5 := dk_seg dksX2_findTies_4 24 rfl rfl
theorem dksX2_findTies_6 : cX2_findTies.data.toList.drop 141 = dktX2_findTies_6 := dk_seg dksX2_findTies_5 24 rfl rfl
theorem dksX2_findTies_7 : cX2_findTies.data.toList.drop 163 = dktX2_findTies_7 := dk_seg dksX2_findTies_6 22 rfl rfl
theorem dX2_findTies_0 : decode cX2_findTies 0 = .ok (.iconst 0, 1) := dk_3 (dk_at dksX2_findTies_0 0 rfl rfl)
theorem dX2_findTies_1 : decode cX2_findTies 1 = .ok (.istore_n 2, 1) := dk_61 (dk_at dksX2_findTies_0 1 rfl rfl)
theorem dX2_findTies_2 : decode cX2_findTies 2 = .ok (.iload_n 2, 1) := dk_28 (dk_at dksX2_findTies_0 2 rfl rfl)
theorem dX2_findTies_3 : decode cX2_findTies 3 = .ok (.aload_n 0, 1) := dk_42 (dk_at dksX2_findTies_0 3 rfl rfl)
theorem dX2_findTies_4 : decode cX2_findTies 4 = .ok (.getfield 16, 3) := dk_180 0 16 (dk_at dksX2_findTies_0 4 rfl rfl)
theorem dX2_findTies_7 : decode cX2_findTies 7 = .ok (.invokeinterface 45 1, 5) := by decide +kernel
theorem dX2_findTies_12 : decode cX2_findTies 12 = .ok (.if_icmp .gt 60, 3) := dk_163 0 60 (dk_at dksX2_findTies_0 12 rfl rfl)
theorem dX2_findTies_15 : decode cX2_findTies 15 = .ok (.aload_n 0, 1) := dk_42 (dk_at dksX2_findTies_0 15 rfl rfl)
theorem dX2_findTies_16 : decode cX2_findTies 16 = .ok (.getfield 38, 3) := dk_180 0 38 (dk_at dksX2_findTies_0 16 rfl rfl)
theorem dX2_findTies_19 : decode cX2_findTies 19 = .ok (.iload_n 2, 1) := dk_28 (dk_at dksX2_findTies_0 19 rfl rfl)
theorem dX2_findTies_20 : decode cX2_findTies 20 = .ok (.aload_n 0, 1) := dk_42 (dk_at dksX2_findTies_0 20 rfl rfl)
theorem dX2_findTies_21 : decode cX2_findTies 21 = .ok (.iload_n 2, 1) := dk_28 (dk_at dksX2_findTies_0 21 rfl rfl)
theorem dX2_findTies_22 : decode cX2_findTies 22 = .ok (.iload_n 1, 1) := dk_27 (dk_at dksX2_findTies_0 22 rfl rfl)
theorem dX2_findTies_23 : decode cX2_findTies 23 = .ok (.invokevirtual 160, 3) := dk_182 0 160 (dk_at dksX2_findTies_1 0 rfl rfl)
theorem dX2_findTies_26 : decode cX2_findTies 26 = .ok (.ifCond .eq 18, 3) := dk_153 0 18 (dk_at dksX2_findTies_1 3 rfl rfl)
theorem dX2_findTies_29 : decode cX2_findTies 29 = .ok (.aload_n 0, 1) := dk_42 (dk_at dksX2_findTies_1 6 rfl rfl)
theorem dX2_findTies_30 : decode cX2_findTies 30 = .ok (.getfield 29, 3) := dk_180 0 29 (dk_at dksX2_findTies_1 7 rfl rfl)
theorem dX2_findTies_33 : decode cX2_findTies 33 = .ok (.iload_n 2, 1) := dk_28 (dk_at dksX2_findTies_1 10 rfl rfl)
theorem dX2_findTies_34 : decode cX2_findTies 34 = .ok (.aaload, 1) := dk_50 (dk_at dksX2_findTies_1 11 rfl rfl)
theorem dX2_findTies_35 : decode cX2_findTies 35 = .ok (.iload_n 1, 1) := dk_27 (dk_at dksX2_findTies_1 12 rfl rfl)
theorem dX2_findTies_36 : decode cX2_findTies 36 = .ok (.baload, 1) := dk_51 (dk_at dksX2_findTies_1 13 rfl rfl)
theorem dX2_findTies_37 : decode cX2_findTies 37 = .ok (.ifCond .ne 7, 3) := dk_154 0 7 (dk_at dksX2_findTies_1 14 rfl rfl)
theorem dX2_findTies_40 : decode cX2_findTies 40 = .ok (.iconst 1, 1) := dk_4 (dk_at dksX2_findTies_1 17 rfl rfl)
theorem dX2_findTies_41 : decode cX2_findTies 41 = .ok (.goto 4, 3) := dk_167 0 4 (dk_at dksX2_findTies_1 18 rfl rfl)
theorem dX2_findTies_44 : decode cX2_findTies 44 = .ok (.iconst 0, 1) := dk_3 (dk_at dksX2_findTies_1 21 rfl rfl)
theorem dX2_findTies_45 : decode cX2_findTies 45 = .ok (.bastore, 1) := dk_84 (dk_at dksX2_findTies_1 22 rfl rfl)
theorem dX2_findTies_46 : decode cX2_findTies 46 = .ok (.aload_n 0, 1) := dk_42 (dk_at dksX2_findTies_1 23 rfl rfl)
theorem dX2_findTies_47 : decode cX2_findTies 47 = .ok (.getfield 35, 3) := dk_180 0 35 (dk_at dksX2_findTies_2 0 rfl rfl)
theorem dX2_findTies_50 : decode cX2_findTies 50 = .ok (.iload_n 2, 1) := dk_28 (dk_at dksX2_findTies_2 3 rfl rfl)
theorem dX2_findTies_51 : decode cX2_findTies 51 = .ok (.aload_n 0, 1) := dk_42 (dk_at dksX2_findTies_2 4 rfl rfl)
theorem dX2_findTies_52 : decode cX2_findTies 52 = .ok (.getfield 38, 3) := dk_180 0 38 (dk_at dksX2_findTies_2 5 rfl rfl)
theorem dX2_findTies_55 : decode cX2_findTies 55 = .ok (.iload_n 2, 1) := dk_28 (dk_at dksX2_findTies_2 8 rfl rfl)
theorem dX2_findTies_56 : decode cX2_findTies 56 = .ok (.baload, 1) := dk_51 (dk_at dksX2_findTies_2 9 rfl rfl)
theorem dX2_findTies_57 : decode cX2_findTies 57 = .ok (.ifCond .eq 7, 3) := dk_153 0 7 (dk_at dksX2_findTies_2 10 rfl rfl)
theorem dX2_findTies_60 : decode cX2_findTies 60 = .ok (.iload_n 2, 1) := dk_28 (dk_at dksX2_findTies_2 13 rfl rfl)
theorem dX2_findTies_61 : decode cX2_findTies 61 = .ok (.goto 4, 3) := dk_167 0 4 (dk_at dksX2_findTies_2 14 rfl rfl)
theorem dX2_findTies_64 : decode cX2_findTies 64 = .ok (.iconst (-1), 1) := dk_2 (dk_at dksX2_findTies_2 17 rfl rfl)
theorem dX2_findTies_65 : decode cX2_findTies 65 = .ok (.iastore, 1) := dk_79 (dk_at dksX2_findTies_2 18 rfl rfl)
theorem dX2_findTies_66 : decode cX2_findTies 66 = .ok (.iinc 2 1, 3) := dk_132 2 1 (dk_at dksX2_findTies_2 19 rfl rfl)
theorem dX2_findTies_69 : decode cX2_findTies 69 = .ok (.goto (-67), 3) := dk_167 255 189 (dk_at dksX2_findTies_3 0 rfl rfl)
theorem dX2_findTies_72 : decode cX2_findTies 72 = .ok (.iconst 0, 1) := dk_3 (dk_at dksX2_findTies_3 3 rfl rfl)
theorem dX2_findTies_73 : decode cX2_findTies 73 = .ok (.istore_n 2, 1) := dk_61 (dk_at dksX2_findTies_3 4 rfl rfl)
theorem dX2_findTies_74 : decode cX2_findTies 74 = .ok (.iload_n 2, 1) := dk_28 (dk_at dksX2_findTies_3 5 rfl rfl)
theorem dX2_findTies_75 : decode cX2_findTies 75 = .ok (.aload_n 0, 1) := dk_42 (dk_at dksX2_findTies_3 6 rfl rfl)
theorem dX2_findTies_76 : decode cX2_findTies 76 = .ok (.getfield 16, 3) := dk_180 0 16 (dk_at dksX2_findTies_3 7 rfl rfl)
theorem dX2_findTies_79 : decode cX2_findTies 79 = .ok (.invokeinterface 45 1, 5) := by decide +kernel
theorem dX2_findTies_84 : decode cX2_findTies 84 = .ok (.if_icmp .gt 92, 3) := dk_163 0 92 (dk_at dksX2_findTies_3 15 rfl rfl)
theorem dX2_findTies_87 : decode cX2_findTies 87 = .ok (.aload_n 0, 1) := dk_42 (dk_at dksX2_findTies_3 18 rfl rfl)
theorem dX2_findTies_88 : decode cX2_findTies 88 = .ok (.iload_n 2, 1) := dk_28 (dk_at dksX2_findTies_3 19 rfl rfl)
theorem dX2_findTies_89 : decode cX2_findTies 89 = .ok (.iload_n 1, 1) := dk_27 (dk_at dksX2_findTies_3 20 rfl rfl)
theorem dX2_findTies_90 : decode cX2_findTies 90 = .ok (.invokevirtual 160, 3) := dk_182 0 160 (dk_at dksX2_findTies_3 21 rfl rfl)
theorem dX2_findTies_93 : decode cX2_findTies 93 = .ok (.ifCond .eq 77, 3) := dk_153 0 77 (dk_at dksX2_findTies_4 0 rfl rfl)
theorem dX2_findTies_96 : decode cX2_findTies 96 = .ok (.aload_n 0, 1) := dk_42 (dk_at dksX2_findTies_4 3 rfl rfl)
theorem dX2_findTies_97 : decode cX2_findTies 97 = .ok (.getfield 29, 3) := dk_180 0 29 (dk_at dksX2_findTies_4 4 rfl rfl)
theorem dX2_findTies_100 : decode cX2_findTies 100 = .ok (.iload_n 2, 1) := dk_28 (dk_at dksX2_findTies_4 7 rfl rfl)
theorem dX2_findTies_101 : decode cX2_findTies 101 = .ok (.aaload, 1) := dk_50 (dk_at dksX2_findTies_4 8 rfl rfl)
theorem dX2_findTies_102 : decode cX2_findTies 102 = .ok (.iload_n 1, 1) := dk_27 (dk_at dksX2_findTies_4 9 rfl rfl)
theorem dX2_findTies_103 : decode cX2_findTies 103 = .ok (.baload, 1) := dk_51 (dk_at dksX2_findTies_4 10 rfl rfl)
theorem dX2_findTies_104 : decode cX2_findTies 104 = .ok (.ifCond .eq 66, 3) := dk_153 0 66 (dk_at dksX2_findTies_4 11 rfl rfl)
theorem dX2_findTies_107 : decode cX2_findTies 107 = .ok (.aload_n 0, 1) := dk_42 (dk_at dksX2_findTies_4 14 rfl rfl)
theorem dX2_findTies_108 : decode cX2_findTies 108 = .ok (.getfield 35, 3) := dk_180 0 35 (dk_at dksX2_findTies_4 15 rfl rfl)
theorem dX2_findTies_111 : decode cX2_findTies 111 = .ok (.iload_n 2, 1) := dk_28 (dk_at dksX2_findTies_4 18 rfl rfl)
theorem dX2_findTies_112 : decode cX2_findTies 112 = .ok (.aload_n 0, 1) := dk_42 (dk_at dksX2_findTies_4 19 rfl rfl)
theorem dX2_findTies_113 : decode cX2_findTies 113 = .ok (.iload_n 2, 1) := dk_28 (dk_at dksX2_findTies_4 20 rfl rfl)
theorem dX2_findTies_114 : decode cX2_findTies 114 = .ok (.iconst 1, 1) := dk_4 (dk_at dksX2_findTies_4 21 rfl rfl)
theorem dX2_findTies_115 : decode cX2_findTies 115 = .ok (.iadd, 1) := dk_96 (dk_at dksX2_findTies_4 22 rfl rfl)
theorem dX2_findTies_116 : decode cX2_findTies 116 = .ok (.iload_n 1, 1) := dk_27 (dk_at dksX2_findTies_4 23 rfl rfl)
theorem dX2_findTies_117 : decode cX2_findTies 117 = .ok (.invokevirtual 163, 3) := dk_182 0 163 (dk_at dksX2_findTies_5 0 rfl rfl)
theorem dX2_findTies_120 : decode cX2_findTies 120 = .ok (.ifCond .eq 9, 3) := dk_153 0 9 (dk_at dksX2_findTies_5 3 rfl rfl)
theorem dX2_findTies_123 : decode cX2_findTies 123 = .ok (.iload_n 2, 1) := dk_28 (dk_at dksX2_findTies_5 6 rfl rfl)
theorem dX2_findTies_124 : decode cX2_findTies 124 = .ok (.iconst 1, 1) := dk_4 (dk_at dksX2_findTies_5 7 rfl rfl)
theorem dX2_findTies_125 : decode cX2_findTies 125 = .ok (.iadd, 1) := dk_96 (dk_at dksX2_findTies_5 8 rfl rfl)
theorem dX2_findTies_126 : decode cX2_findTies 126 = .ok (.goto 21, 3) := dk_167 0 21 (dk_at dksX2_findTies_5 9 rfl rfl)
theorem dX2_findTies_129 : decode cX2_findTies 129 = .ok (.aload_n 0, 1) := dk_42 (dk_at dksX2_findTies_5 12 rfl rfl)
theorem dX2_findTies_130 : decode cX2_findTies 130 = .ok (.iload_n 2, 1) := dk_28 (dk_at dksX2_findTies_5 13 rfl rfl)
theorem dX2_findTies_131 : decode cX2_findTies 131 = .ok (.iconst 1, 1) := dk_4 (dk_at dksX2_findTies_5 14 rfl rfl)
theorem dX2_findTies_132 : decode cX2_findTies 132 = .ok (.isub, 1) := dk_100 (dk_at dksX2_findTies_5 15 rfl rfl)
theorem dX2_findTies_133 : decode cX2_findTies 133 = .ok (.iload_n 1, 1) := dk_27 (dk_at dksX2_findTies_5 16 rfl rfl)
theorem dX2_findTies_134 : decode cX2_findTies 134 = .ok (.invokevirtual 163, 3) := dk_182 0 163 (dk_at dksX2_findTies_5 17 rfl rfl)
theorem dX2_findTies_137 : decode cX2_findTies 137 = .ok (.ifCond .eq 9, 3) := dk_153 0 9 (dk_at dksX2_findTies_5 20 rfl rfl)
theorem dX2_findTies_140 : decode cX2_findTies 140 = .ok (.iload_n 2, 1) := dk_28 (dk_at dksX2_findTies_5 23 rfl rfl)
theorem dX2_findTies_141 : decode cX2_findTies 141 = .ok (.iconst 1, 1) := dk_4 (dk_at dksX2_findTies_6 0 rfl rfl)
theorem dX2_findTies_142 : decode cX2_findTies 142 = .ok (.isub, 1) := dk_100 (dk_at dksX2_findTies_6 1 rfl rfl)
theorem dX2_findTies_143 : decode cX2_findTies 143 = .ok (.goto 4, 3) := dk_167 0 4 (dk_at dksX2_findTies_6 2 rfl rfl)
theorem dX2_findTies_146 : decode cX2_findTies 146 = .ok (.iconst (-1), 1) := dk_2 (dk_at dksX2_findTies_6 5 rfl rfl)
theorem dX2_findTies_147 : decode cX2_findTies 147 = .ok (.iastore, 1) := dk_79 (dk_at dksX2_findTies_6 6 rfl rfl)
theorem dX2_findTies_148 : decode cX2_findTies 148 = .ok (.aload_n 0, 1) := dk_42 (dk_at dksX2_findTies_6 7 rfl rfl)
theorem dX2_findTies_149 : decode cX2_findTies 149 = .ok (.getfield 35, 3) := dk_180 0 35 (dk_at dksX2_findTies_6 8 rfl rfl)
theorem dX2_findTies_152 : decode cX2_findTies 152 = .ok (.iload_n 2, 1) := dk_28 (dk_at dksX2_findTies_6 11 rfl rfl)
theorem dX2_findTies_153 : decode cX2_findTies 153 = .ok (.iaload, 1) := dk_46 (dk_at dksX2_findTies_6 12 rfl rfl)
theorem dX2_findTies_154 : decode cX2_findTies 154 = .ok (.iconst (-1), 1) := dk_2 (dk_at dksX2_findTies_6 13 rfl rfl)
theorem dX2_findTies_155 : decode cX2_findTies 155 = .ok (.if_icmp .eq 15, 3) := dk_159 0 15 (dk_at dksX2_findTies_6 14 rfl rfl)
theorem dX2_findTies_158 : decode cX2_findTies 158 = .ok (.aload_n 0, 1) := dk_42 (dk_at dksX2_findTies_6 17 rfl rfl)
theorem dX2_findTies_159 : decode cX2_findTies 159 = .ok (.getfield 38, 3) := dk_180 0 38 (dk_at dksX2_findTies_6 18 rfl rfl)
theorem dX2_findTies_162 : decode cX2_findTies 162 = .ok (.aload_n 0, 1) := dk_42 (dk_at dksX2_findTies_6 21 rfl rfl)
theorem dX2_findTies_163 : decode cX2_findTies 163 = .ok (.getfield 35, 3) := dk_180 0 35 (dk_at dksX2_findTies_7 0 rfl rfl)
theorem dX2_findTies_166 : decode cX2_findTies 166 = .ok (.iload_n 2, 1) := dk_28 (dk_at dksX2_findTies_7 3 rfl rfl)
theorem dX2_findTies_167 : decode cX2_findTies 167 = .ok (.iaload, 1) := dk_46 (dk_at dksX2_findTies_7 4 rfl rfl)
theorem dX2_findTies_168 : decode cX2_findTies 168 = .ok (.iconst 1, 1) := dk_4 (dk_at dksX2_findTies_7 5 rfl rfl)
theorem dX2_findTies_169 : decode cX2_findTies 169 = .ok (.bastore, 1) := dk_84 (dk_at dksX2_findTies_7 6 rfl rfl)
theorem dX2_findTies_170 : decode cX2_findTies 170 = .ok (.iinc 2 1, 3) := dk_132 2 1 (dk_at dksX2_findTies_7 7 rfl rfl)
theorem dX2_findTies_173 : decode cX2_findTies 173 = .ok (.goto (-99), 3) := dk_167 255 157 (dk_at dksX2_findTies_7 10 rfl rfl)
theorem dX2_findTies_176 : decode cX2_findTies 176 = .ok (.return_, 1) := dk_177 (dk_at dksX2_findTies_7 13 rfl rfl)
abbrev cX2_asksFor : ByteArray := prog_6_method_35_code
def yX2_asksFor : MethodName := ⟨RX2, "asksFor", "(II)Z"⟩
def dkwX2_asksFor_1 : List UInt8 := [154, 0, 7, 4, 167, 0, 4, 3, 172]
abbrev dktX2_asksFor_1 : List UInt8 := dkwX2_asksFor_1 ++ []
def dkwX2_asksFor_0 : List UInt8 := [28, 5, 112, 4, 160, 0, 26, 28, 42, 27, 182, 0, 114, 162, 0, 17, 27, 28, 5, 108, 96, 5, 112]
abbrev dktX2_asksFor_0 : List UInt8 := dkwX2_asksFor_0 ++ dktX2_asksFor_1
theorem dksX2_asksFor_0 : cX2_asksFor.data.toList.drop 0 = dktX2_asksFor_0 := by decide +kernel
theorem dksX2_asksFor_1 : cX2_asksFor.data.toList.drop 23 = dktX2_asksFor_1 := dk_seg dksX2_asksFor_0 23 rfl rfl
theorem dX2_asksFor_0 : decode cX2_asksFor 0 = .ok (.iload_n 2, 1) := dk_28 (dk_at dksX2_asksFor_0 0 rfl rfl)
theorem dX2_asksFor_1 : decode cX2_asksFor 1 = .ok (.iconst 2, 1) := dk_5 (dk_at dksX2_asksFor_0 1 rfl rfl)
theorem dX2_asksFor_2 : decode cX2_asksFor 2 = .ok (.irem, 1) := dk_112 (dk_at dksX2_asksFor_0 2 rfl rfl)
theorem dX2_asksFor_3 : decode cX2_asksFor 3 = .ok (.iconst 1, 1) := dk_4 (dk_at dksX2_asksFor_0 3 rfl rfl)
theorem dX2_asksFor_4 : decode cX2_asksFor 4 = .ok (.if_icmp .ne 26, 3) := dk_160 0 26 (dk_at dksX2_asksFor_0 4 rfl rfl)
theorem dX2_asksFor_7 : decode cX2_asksFor 7 = .ok (.iload_n 2, 1) := dk_28 (dk_at dksX2_asksFor_0 7 rfl rfl)
theorem dX2_asksFor_8 : decode cX2_asksFor 8 = .ok (.aload_n 0, 1) := dk_42 (dk_at dksX2_asksFor_0 8 rfl rfl)
theorem dX2_asksFor_9 : decode cX2_asksFor 9 = .ok (.iload_n 1, 1) := dk_27 (dk_at dksX2_asksFor_0 9 rfl rfl)
theorem dX2_asksFor_10 : decode cX2_asksFor 10 = .ok (.invokevirtual 114, 3) := dk_182 0 114 (dk_at dksX2_asksFor_0 10 rfl rfl)
theorem dX2_asksFor_13 : decode cX2_asksFor 13 = .ok (.if_icmp .ge 17, 3) := dk_162 0 17 (dk_at dksX2_asksFor_0 13 rfl rfl)
theorem dX2_asksFor_16 : decode cX2_asksFor 16 = .ok (.iload_n 1, 1) := dk_27 (dk_at dksX2_asksFor_0 16 rfl rfl)
theorem dX2_asksFor_17 : decode cX2_asksFor 17 = .ok (.iload_n 2, 1) := dk_28 (dk_at dksX2_asksFor_0 17 rfl rfl)
theorem dX2_asksFor_18 : decode cX2_asksFor 18 = .ok (.iconst 2, 1) := dk_5 (dk_at dksX2_asksFor_0 18 rfl rfl)
theorem dX2_asksFor_19 : decode cX2_asksFor 19 = .ok (.idiv, 1) := dk_108 (dk_at dksX2_asksFor_0 19 rfl rfl)
theorem dX2_asksFor_20 : decode cX2_asksFor 20 = .ok (.iadd, 1) := dk_96 (dk_at dksX2_asksFor_0 20 rfl rfl)
theorem dX2_asksFor_21 : decode cX2_asksFor 21 = .ok (.iconst 2, 1) := dk_5 (dk_at dksX2_asksFor_0 21 rfl rfl)
theorem dX2_asksFor_22 : decode cX2_asksFor 22 = .ok (.irem, 1) := dk_112 (dk_at dksX2_asksFor_0 22 rfl rfl)
theorem dX2_asksFor_23 : decode cX2_asksFor 23 = .ok (.ifCond .ne 7, 3) := dk_154 0 7 (dk_at dksX2_asksFor_1 0 rfl rfl)
theorem dX2_asksFor_26 : decode cX2_asksFor 26 = .ok (.iconst 1, 1) := dk_4 (dk_at dksX2_asksFor_1 3 rfl rfl)
theorem dX2_asksFor_27 : decode cX2_asksFor 27 = .ok (.goto 4, 3) := dk_167 0 4 (dk_at dksX2_asksFor_1 4 rfl rfl)
theorem dX2_asksFor_30 : decode cX2_asksFor 30 = .ok (.iconst 0, 1) := dk_3 (dk_at dksX2_asksFor_1 7 rfl rfl)
theorem dX2_asksFor_31 : decode cX2_asksFor 31 = .ok (.ireturn, 1) := dk_172 (dk_at dksX2_asksFor_1 8 rfl rfl)
abbrev cX2_isFree : ByteArray := prog_6_method_36_code
def yX2_isFree : MethodName := ⟨RX2, "isFree", "(II)Z"⟩
def dkwX2_isFree_1 : List UInt8 := [51, 154, 0, 16, 42, 180, 0, 38, 27, 51, 154, 0, 7, 4, 167, 0, 4, 3, 172]
abbrev dktX2_isFree_1 : List UInt8 := dkwX2_isFree_1 ++ []
def dkwX2_isFree_0 : List UInt8 := [42, 27, 182, 0, 99, 153, 0, 36, 28, 42, 27, 182, 0, 114, 162, 0, 27, 42, 180, 0, 29, 27, 50, 28]
abbrev dktX2_isFree_0 : List UInt8 := dkwX2_isFree_0 ++ dktX2_isFree_1
theorem dksX2_isFree_0 : cX2_isFree.data.toList.drop 0 = dktX2_isFree_0 := by decide +kernel
theorem dksX2_isFree_1 : cX2_isFree.data.toList.drop 24 = dktX2_isFree_1 := dk_seg dksX2_isFree_0 24 rfl rfl
theorem dX2_isFree_0 : decode cX2_isFree 0 = .ok (.aload_n 0, 1) := dk_42 (dk_at dksX2_isFree_0 0 rfl rfl)
theorem dX2_isFree_1 : decode cX2_isFree 1 = .ok (.iload_n 1, 1) := dk_27 (dk_at dksX2_isFree_0 1 rfl rfl)
theorem dX2_isFree_2 : decode cX2_isFree 2 = .ok (.invokevirtual 99, 3) := dk_182 0 99 (dk_at dksX2_isFree_0 2 rfl rfl)
theorem dX2_isFree_5 : decode cX2_isFree 5 = .ok (.ifCond .eq 36, 3) := dk_153 0 36 (dk_at dksX2_isFree_0 5 rfl rfl)
theorem dX2_isFree_8 : decode cX2_isFree 8 = .ok (.iload_n 2, 1) := dk_28 (dk_at dksX2_isFree_0 8 rfl rfl)
theorem dX2_isFree_9 : decode cX2_isFree 9 = .ok (.aload_n 0, 1) := dk_42 (dk_at dksX2_isFree_0 9 rfl rfl)
theorem dX2_isFree_10 : decode cX2_isFree 10 = .ok (.iload_n 1, 1) := dk_27 (dk_at dksX2_isFree_0 10 rfl rfl)
theorem dX2_isFree_11 : decode cX2_isFree 11 = .ok (.invokevirtual 114, 3) := dk_182 0 114 (dk_at dksX2_isFree_0 11 rfl rfl)
theorem dX2_isFree_14 : decode cX2_isFree 14 = .ok (.if_icmp .ge 27, 3) := dk_162 0 27 (dk_at dksX2_isFree_0 14 rfl rfl)
theorem dX2_isFree_17 : decode cX2_isFree 17 = .ok (.aload_n 0, 1) := dk_42 (dk_at dksX2_isFree_0 17 rfl rfl)
theorem dX2_isFree_18 : decode cX2_isFree 18 = .ok (.getfield 29, 3) := dk_180 0 29 (dk_at dksX2_isFree_0 18 rfl rfl)
theorem dX2_isFree_21 : decode cX2_isFree 21 = .ok (.iload_n 1, 1) := dk_27 (dk_at dksX2_isFree_0 21 rfl rfl)
theorem dX2_isFree_22 : decode cX2_isFree 22 = .ok (.aaload, 1) := dk_50 (dk_at dksX2_isFree_0 22 rfl rfl)
theorem dX2_isFree_23 : decode cX2_isFree 23 = .ok (.iload_n 2, 1) := dk_28 (dk_at dksX2_isFree_0 23 rfl rfl)
theorem dX2_isFree_24 : decode cX2_isFree 24 = .ok (.baload, 1) := dk_51 (dk_at dksX2_isFree_1 0 rfl rfl)
theorem dX2_isFree_25 : decode cX2_isFree 25 = .ok (.ifCond .ne 16, 3) := dk_154 0 16 (dk_at dksX2_isFree_1 1 rfl rfl)
theorem dX2_isFree_28 : decode cX2_isFree 28 = .ok (.aload_n 0, 1) := dk_42 (dk_at dksX2_isFree_1 4 rfl rfl)
theorem dX2_isFree_29 : decode cX2_isFree 29 = .ok (.getfield 38, 3) := dk_180 0 38 (dk_at dksX2_isFree_1 5 rfl rfl)
theorem dX2_isFree_32 : decode cX2_isFree 32 = .ok (.iload_n 1, 1) := dk_27 (dk_at dksX2_isFree_1 8 rfl rfl)
theorem dX2_isFree_33 : decode cX2_isFree 33 = .ok (.baload, 1) := dk_51 (dk_at dksX2_isFree_1 9 rfl rfl)
theorem dX2_isFree_34 : decode cX2_isFree 34 = .ok (.ifCond .ne 7, 3) := dk_154 0 7 (dk_at dksX2_isFree_1 10 rfl rfl)
theorem dX2_isFree_37 : decode cX2_isFree 37 = .ok (.iconst 1, 1) := dk_4 (dk_at dksX2_isFree_1 13 rfl rfl)
theorem dX2_isFree_38 : decode cX2_isFree 38 = .ok (.goto 4, 3) := dk_167 0 4 (dk_at dksX2_isFree_1 14 rfl rfl)
theorem dX2_isFree_41 : decode cX2_isFree 41 = .ok (.iconst 0, 1) := dk_3 (dk_at dksX2_isFree_1 17 rfl rfl)
theorem dX2_isFree_42 : decode cX2_isFree 42 = .ok (.ireturn, 1) := dk_172 (dk_at dksX2_isFree_1 18 rfl rfl)
abbrev cX2_hasTie : ByteArray := prog_6_method_39_code
def yX2_hasTie : MethodName := ⟨RX2, "hasTie", "(II)Z"⟩
def dkwX2_hasTie_1 : List UInt8 := [182, 0, 75, 154, 0, 5, 3, 172, 42, 28, 182, 0, 166, 42, 180, 0, 38, 27, 51, 172]
abbrev dktX2_hasTie_1 : List UInt8 := dkwX2_hasTie_1 ++ []
def dkwX2_hasTie_0 : List UInt8 := [42, 42, 27, 182, 0, 99, 153, 0, 14, 28, 184, 0, 134, 153, 0, 7, 4, 167, 0, 4, 3, 4, 4]
abbrev dktX2_hasTie_0 : List UInt8 := dkwX2_hasTie_0 ++ dktX2_hasTie_1
theorem dksX2_hasTie_0 : cX2_hasTie.data.toList.drop 0 = dktX2_hasTie_0 := by decide +kernel
theorem dksX2_hasTie_1 : cX2_hasTie.data.toList.drop 23 = dktX2_hasTie_1 := dk_seg dksX2_hasTie_0 23 rfl rfl
theorem dX2_hasTie_0 : decode cX2_hasTie 0 = .ok (.aload_n 0, 1) := dk_42 (dk_at dksX2_hasTie_0 0 rfl rfl)
theorem dX2_hasTie_1 : decode cX2_hasTie 1 = .ok (.aload_n 0, 1) := dk_42 (dk_at dksX2_hasTie_0 1 rfl rfl)
theorem dX2_hasTie_2 : decode cX2_hasTie 2 = .ok (.iload_n 1, 1) := dk_27 (dk_at dksX2_hasTie_0 2 rfl rfl)
theorem dX2_hasTie_3 : decode cX2_hasTie 3 = .ok (.invokevirtual 99, 3) := dk_182 0 99 (dk_at dksX2_hasTie_0 3 rfl rfl)
theorem dX2_hasTie_6 : decode cX2_hasTie 6 = .ok (.ifCond .eq 14, 3) := dk_153 0 14 (dk_at dksX2_hasTie_0 6 rfl rfl)
theorem dX2_hasTie_9 : decode cX2_hasTie 9 = .ok (.iload_n 2, 1) := dk_28 (dk_at dksX2_hasTie_0 9 rfl rfl)
theorem dX2_hasTie_10 : decode cX2_hasTie 10 = .ok (.invokestatic 134, 3) := dk_184 0 134 (dk_at dksX2_hasTie_0 10 rfl rfl)
theorem dX2_hasTie_13 : decode cX2_hasTie 13 = .ok (.ifCond .eq 7, 3) := dk_153 0 7 (dk_at dksX2_hasTie_0 13 rfl rfl)
theorem dX2_hasTie_16 : decode cX2_hasTie 16 = .ok (.iconst 1, 1) := dk_4 (dk_at dksX2_hasTie_0 16 rfl rfl)
theorem dX2_hasTie_17 : decode cX2_hasTie 17 = .ok (.goto 4, 3) := dk_167 0 4 (dk_at dksX2_hasTie_0 17 rfl rfl)
theorem dX2_hasTie_20 : decode cX2_hasTie 20 = .ok (.iconst 0, 1) := dk_3 (dk_at dksX2_hasTie_0 20 rfl rfl)
theorem dX2_hasTie_21 : decode cX2_hasTie 21 = .ok (.iconst 1, 1) := dk_4 (dk_at dksX2_hasTie_0 21 rfl rfl)
theorem dX2_hasTie_22 : decode cX2_hasTie 22 = .ok (.iconst 1, 1) := dk_4 (dk_at dksX2_hasTie_0 22 rfl rfl)
theorem dX2_hasTie_23 : decode cX2_hasTie 23 = .ok (.invokevirtual 75, 3) := dk_182 0 75 (dk_at dksX2_hasTie_1 0 rfl rfl)
theorem dX2_hasTie_26 : decode cX2_hasTie 26 = .ok (.ifCond .ne 5, 3) := dk_154 0 5 (dk_at dksX2_hasTie_1 3 rfl rfl)
theorem dX2_hasTie_29 : decode cX2_hasTie 29 = .ok (.iconst 0, 1) := dk_3 (dk_at dksX2_hasTie_1 6 rfl rfl)
theorem dX2_hasTie_30 : decode cX2_hasTie 30 = .ok (.ireturn, 1) := dk_172 (dk_at dksX2_hasTie_1 7 rfl rfl)
theorem dX2_hasTie_31 : decode cX2_hasTie 31 = .ok (.aload_n 0, 1) := dk_42 (dk_at dksX2_hasTie_1 8 rfl rfl)
theorem dX2_hasTie_32 : decode cX2_hasTie 32 = .ok (.iload_n 2, 1) := dk_28 (dk_at dksX2_hasTie_1 9 rfl rfl)
theorem dX2_hasTie_33 : decode cX2_hasTie 33 = .ok (.invokevirtual 166, 3) := dk_182 0 166 (dk_at dksX2_hasTie_1 10 rfl rfl)
theorem dX2_hasTie_36 : decode cX2_hasTie 36 = .ok (.aload_n 0, 1) := dk_42 (dk_at dksX2_hasTie_1 13 rfl rfl)
theorem dX2_hasTie_37 : decode cX2_hasTie 37 = .ok (.getfield 38, 3) := dk_180 0 38 (dk_at dksX2_hasTie_1 14 rfl rfl)
theorem dX2_hasTie_40 : decode cX2_hasTie 40 = .ok (.iload_n 1, 1) := dk_27 (dk_at dksX2_hasTie_1 17 rfl rfl)
theorem dX2_hasTie_41 : decode cX2_hasTie 41 = .ok (.baload, 1) := dk_51 (dk_at dksX2_hasTie_1 18 rfl rfl)
theorem dX2_hasTie_42 : decode cX2_hasTie 42 = .ok (.ireturn, 1) := dk_172 (dk_at dksX2_hasTie_1 19 rfl rfl)
abbrev cX2_missing : ByteArray := prog_6_method_41_code
def yX2_missing : MethodName := ⟨RX2, "missing", "(I)I"⟩
def dkwX2_missing_0 : List UInt8 := [42, 42, 27, 182, 0, 99, 4, 4, 182, 0, 75, 153, 0, 11, 42, 27, 182, 0, 169, 167, 0, 4, 3, 172]
abbrev dktX2_missing_0 : List UInt8 := dkwX2_missing_0 ++ []
theorem dksX2_missing_0 : cX2_missing.data.toList.drop 0 = dktX2_missing_0 := by decide +kernel
theorem dX2_missing_0 : decode cX2_missing 0 = .ok (.aload_n 0, 1) := dk_42 (dk_at dksX2_missing_0 0 rfl rfl)
theorem dX2_missing_1 : decode cX2_missing 1 = .ok (.aload_n 0, 1) := dk_42 (dk_at dksX2_missing_0 1 rfl rfl)
theorem dX2_missing_2 : decode cX2_missing 2 = .ok (.iload_n 1, 1) := dk_27 (dk_at dksX2_missing_0 2 rfl rfl)
theorem dX2_missing_3 : decode cX2_missing 3 = .ok (.invokevirtual 99, 3) := dk_182 0 99 (dk_at dksX2_missing_0 3 rfl rfl)
theorem dX2_missing_6 : decode cX2_missing 6 = .ok (.iconst 1, 1) := dk_4 (dk_at dksX2_missing_0 6 rfl rfl)
theorem dX2_missing_7 : decode cX2_missing 7 = .ok (.iconst 1, 1) := dk_4 (dk_at dksX2_missing_0 7 rfl rfl)
theorem dX2_missing_8 : decode cX2_missing 8 = .ok (.invokevirtual 75, 3) := dk_182 0 75 (dk_at dksX2_missing_0 8 rfl rfl)
theorem dX2_missing_11 : decode cX2_missing 11 = .ok (.ifCond .eq 11, 3) := dk_153 0 11 (dk_at dksX2_missing_0 11 rfl rfl)
theorem dX2_missing_14 : decode cX2_missing 14 = .ok (.aload_n 0, 1) := dk_42 (dk_at dksX2_missing_0 14 rfl rfl)
theorem dX2_missing_15 : decode cX2_missing 15 = .ok (.iload_n 1, 1) := dk_27 (dk_at dksX2_missing_0 15 rfl rfl)
theorem dX2_missing_16 : decode cX2_missing 16 = .ok (.invokevirtual 169, 3) := dk_182 0 169 (dk_at dksX2_missing_0 16 rfl rfl)
theorem dX2_missing_19 : decode cX2_missing 19 = .ok (.goto 4, 3) := dk_167 0 4 (dk_at dksX2_missing_0 19 rfl rfl)
theorem dX2_missing_22 : decode cX2_missing 22 = .ok (.iconst 0, 1) := dk_3 (dk_at dksX2_missing_0 22 rfl rfl)
theorem dX2_missing_23 : decode cX2_missing 23 = .ok (.ireturn, 1) := dk_172 (dk_at dksX2_missing_0 23 rfl rfl)
abbrev cX2_missingOf : ByteArray := prog_6_method_40_code
def yX2_missingOf : MethodName := ⟨RX2, "missingOf", "(I)I"⟩
def dkwX2_missingOf_2 : List UInt8 := [167, 255, 215, 28, 172]
abbrev dktX2_missingOf_2 : List UInt8 := dkwX2_missingOf_2 ++ []
def dkwX2_missingOf_1 : List UInt8 := [153, 0, 17, 42, 180, 0, 35, 27, 46, 2, 160, 0, 7, 4, 167, 0, 4, 3, 96, 61, 132, 3, 1]
abbrev dktX2_missingOf_1 : List UInt8 := dkwX2_missingOf_1 ++ dktX2_missingOf_2
def dkwX2_missingOf_0 : List UInt8 := [3, 61, 3, 62, 29, 16, 8, 162, 0, 41, 42, 29, 182, 0, 166, 28, 42, 27, 29, 182, 0, 160]
abbrev dktX2_missingOf_0 : List UInt8 := dkwX2_missingOf_0 ++ dktX2_missingOf_1
theorem dksX2_missingOf_0 : cX2_missingOf.data.toList.drop 0 = dktX2_missingOf_0 := by decide +kernel
theorem dksX2_missingOf_1 : cX2_missingOf.data.toList.drop 22 = dktX2_missingOf_1 := dk_seg dksX2_missingOf_0 22 rfl rfl
theorem dksX2_missingOf_2 : cX2_missingOf.data.toList.drop 45 = dktX2_missingOf_2 := dk_seg dksX2_missingOf_1 23 rfl rfl
theorem dX2_missingOf_0 : decode cX2_missingOf 0 = .ok (.iconst 0, 1) := dk_3 (dk_at dksX2_missingOf_0 0 rfl rfl)
theorem dX2_missingOf_1 : decode cX2_missingOf 1 = .ok (.istore_n 2, 1) := dk_61 (dk_at dksX2_missingOf_0 1 rfl rfl)
theorem dX2_missingOf_2 : decode cX2_missingOf 2 = .ok (.iconst 0, 1) := dk_3 (dk_at dksX2_missingOf_0 2 rfl rfl)
theorem dX2_missingOf_3 : decode cX2_missingOf 3 = .ok (.istore_n 3, 1) := dk_62 (dk_at dksX2_missingOf_0 3 rfl rfl)
theorem dX2_missingOf_4 : decode cX2_missingOf 4 = .ok (.iload_n 3, 1) := dk_29 (dk_at dksX2_missingOf_0 4 rfl rfl)
theorem dX2_missingOf_5 : decode cX2_missingOf 5 = .ok (.bipush 8, 2) := dk_16 8 (dk_at dksX2_missingOf_0 5 rfl rfl)
theorem dX2_missingOf_7 : decode cX2_missingOf 7 = .ok (.if_icmp .ge 41, 3) := dk_162 0 41 (dk_at dksX2_missingOf_0 7 rfl rfl)
theorem dX2_missingOf_10 : decode cX2_missingOf 10 = .ok (.aload_n 0, 1) := dk_42 (dk_at dksX2_missingOf_0 10 rfl rfl)
theorem dX2_missingOf_11 : decode cX2_missingOf 11 = .ok (.iload_n 3, 1) := dk_29 (dk_at dksX2_missingOf_0 11 rfl rfl)
theorem dX2_missingOf_12 : decode cX2_missingOf 12 = .ok (.invokevirtual 166, 3) := dk_182 0 166 (dk_at dksX2_missingOf_0 12 rfl rfl)
theorem dX2_missingOf_15 : decode cX2_missingOf 15 = .ok (.iload_n 2, 1) := dk_28 (dk_at dksX2_missingOf_0 15 rfl rfl)
theorem dX2_missingOf_16 : decode cX2_missingOf 16 = .ok (.aload_n 0, 1) := dk_42 (dk_at dksX2_missingOf_0 16 rfl rfl)
theorem dX2_missingOf_17 : decode cX2_missingOf 17 = .ok (.iload_n 1, 1) := dk_27 (dk_at dksX2_missingOf_0 17 rfl rfl)
theorem dX2_missingOf_18 : decode cX2_missingOf 18 = .ok (.iload_n 3, 1) := dk_29 (dk_at dksX2_missingOf_0 18 rfl rfl)
theorem dX2_missingOf_19 : decode cX2_missingOf 19 = .ok (.invokevirtual 160, 3) := dk_182 0 160 (dk_at dksX2_missingOf_0 19 rfl rfl)
theorem dX2_missingOf_22 : decode cX2_missingOf 22 = .ok (.ifCond .eq 17, 3) := dk_153 0 17 (dk_at dksX2_missingOf_1 0 rfl rfl)
theorem dX2_missingOf_25 : decode cX2_missingOf 25 = .ok (.aload_n 0, 1) := dk_42 (dk_at dksX2_missingOf_1 3 rfl rfl)
theorem dX2_missingOf_26 : decode cX2_missingOf 26 = .ok (.getfield 35, 3) := dk_180 0 35 (dk_at dksX2_missingOf_1 4 rfl rfl)
theorem dX2_missingOf_29 : decode cX2_missingOf 29 = .ok (.iload_n 1, 1) := dk_27 (dk_at dksX2_missingOf_1 7 rfl rfl)
theorem dX2_missingOf_30 : decode cX2_missingOf 30 = .ok (.iaload, 1) := dk_46 (dk_at dksX2_missingOf_1 8 rfl rfl)
theorem dX2_missingOf_31 : decode cX2_missingOf 31 = .ok (.iconst (-1), 1) := dk_2 (dk_at dksX2_missingOf_1 9 rfl rfl)
theorem dX2_missingOf_32 : decode cX2_missingOf 32 = .ok (.if_icmp .ne 7, 3) := dk_160 0 7 (dk_at dksX2_missingOf_1 10 rfl rfl)
theorem dX2_missingOf_35 : decode cX2_missingOf 35 = .ok (.iconst 1, 1) := dk_4 (dk_at dksX2_missingOf_1 13 rfl rfl)
theorem dX2_missingOf_36 : decode cX2_missingOf 36 = .ok (.goto 4, 3) := dk_167 0 4 (dk_at dksX2_missingOf_1 14 rfl rfl)
theorem dX2_missingOf_39 : decode cX2_missingOf 39 = .ok (.iconst 0, 1) := dk_3 (dk_at dksX2_missingOf_1 17 rfl rfl)
theorem dX2_missingOf_40 : decode cX2_missingOf 40 = .ok (.iadd, 1) := dk_96 (dk_at dksX2_missingOf_1 18 rfl rfl)
theorem dX2_missingOf_41 : decode cX2_missingOf 41 = .ok (.istore_n 2, 1) := dk_61 (dk_at dksX2_missingOf_1 19 rfl rfl)
theorem dX2_missingOf_42 : decode cX2_missingOf 42 = .ok (.iinc 3 1, 3) := dk_132 3 1 (dk_at dksX2_missingOf_1 20 rfl rfl)
theorem dX2_missingOf_45 : decode cX2_missingOf 45 = .ok (.goto (-41), 3) := dk_167 255 215 (dk_at dksX2_missingOf_2 0 rfl rfl)
theorem dX2_missingOf_48 : decode cX2_missingOf 48 = .ok (.iload_n 2, 1) := dk_28 (dk_at dksX2_missingOf_2 3 rfl rfl)
theorem dX2_missingOf_49 : decode cX2_missingOf 49 = .ok (.ireturn, 1) := dk_172 (dk_at dksX2_missingOf_2 4 rfl rfl)
abbrev cX2_load : ByteArray := prog_6_method_45_code
def yX2_load : MethodName := ⟨RX2, "load", "(IIZ)I"⟩
def dkwX2_load_1 : List UInt8 := [182, 0, 75, 153, 0, 13, 42, 27, 28, 29, 182, 0, 183, 167, 0, 4, 3, 172]
abbrev dktX2_load_1 : List UInt8 := dkwX2_load_1 ++ []
def dkwX2_load_0 : List UInt8 := [42, 42, 27, 182, 0, 99, 153, 0, 14, 28, 184, 0, 134, 153, 0, 7, 4, 167, 0, 4, 3, 4, 4]
abbrev dktX2_load_0 : List UInt8 := dkwX2_load_0 ++ dktX2_load_1
theorem dksX2_load_0 : cX2_load.data.toList.drop 0 = dktX2_load_0 := by decide +kernel
theorem dksX2_load_1 : cX2_load.data.toList.drop 23 = dktX2_load_1 := dk_seg dksX2_load_0 23 rfl rfl
theorem dX2_load_0 : decode cX2_load 0 = .ok (.aload_n 0, 1) := dk_42 (dk_at dksX2_load_0 0 rfl rfl)
theorem dX2_load_1 : decode cX2_load 1 = .ok (.aload_n 0, 1) := dk_42 (dk_at dksX2_load_0 1 rfl rfl)
theorem dX2_load_2 : decode cX2_load 2 = .ok (.iload_n 1, 1) := dk_27 (dk_at dksX2_load_0 2 rfl rfl)
theorem dX2_load_3 : decode cX2_load 3 = .ok (.invokevirtual 99, 3) := dk_182 0 99 (dk_at dksX2_load_0 3 rfl rfl)
theorem dX2_load_6 : decode cX2_load 6 = .ok (.ifCond .eq 14, 3) := dk_153 0 14 (dk_at dksX2_load_0 6 rfl rfl)
theorem dX2_load_9 : decode cX2_load 9 = .ok (.iload_n 2, 1) := dk_28 (dk_at dksX2_load_0 9 rfl rfl)
theorem dX2_load_10 : decode cX2_load 10 = .ok (.invokestatic 134, 3) := dk_184 0 134 (dk_at dksX2_load_0 10 rfl rfl)
theorem dX2_load_13 : decode cX2_load 13 = .ok (.ifCond .eq 7, 3) := dk_153 0 7 (dk_at dksX2_load_0 13 rfl rfl)
theorem dX2_load_16 : decode cX2_load 16 = .ok (.iconst 1, 1) := dk_4 (dk_at dksX2_load_0 16 rfl rfl)
theorem dX2_load_17 : decode cX2_load 17 = .ok (.goto 4, 3) := dk_167 0 4 (dk_at dksX2_load_0 17 rfl rfl)
theorem dX2_load_20 : decode cX2_load 20 = .ok (.iconst 0, 1) := dk_3 (dk_at dksX2_load_0 20 rfl rfl)
theorem dX2_load_21 : decode cX2_load 21 = .ok (.iconst 1, 1) := dk_4 (dk_at dksX2_load_0 21 rfl rfl)
theorem dX2_load_22 : decode cX2_load 22 = .ok (.iconst 1, 1) := dk_4 (dk_at dksX2_load_0 22 rfl rfl)
theorem dX2_load_23 : decode cX2_load 23 = .ok (.invokevirtual 75, 3) := dk_182 0 75 (dk_at dksX2_load_1 0 rfl rfl)
theorem dX2_load_26 : decode cX2_load 26 = .ok (.ifCond .eq 13, 3) := dk_153 0 13 (dk_at dksX2_load_1 3 rfl rfl)
theorem dX2_load_29 : decode cX2_load 29 = .ok (.aload_n 0, 1) := dk_42 (dk_at dksX2_load_1 6 rfl rfl)
theorem dX2_load_30 : decode cX2_load 30 = .ok (.iload_n 1, 1) := dk_27 (dk_at dksX2_load_1 7 rfl rfl)
theorem dX2_load_31 : decode cX2_load 31 = .ok (.iload_n 2, 1) := dk_28 (dk_at dksX2_load_1 8 rfl rfl)
theorem dX2_load_32 : decode cX2_load 32 = .ok (.iload_n 3, 1) := dk_29 (dk_at dksX2_load_1 9 rfl rfl)
theorem dX2_load_33 : decode cX2_load 33 = .ok (.invokevirtual 183, 3) := dk_182 0 183 (dk_at dksX2_load_1 10 rfl rfl)
theorem dX2_load_36 : decode cX2_load 36 = .ok (.goto 4, 3) := dk_167 0 4 (dk_at dksX2_load_1 13 rfl rfl)
theorem dX2_load_39 : decode cX2_load 39 = .ok (.iconst 0, 1) := dk_3 (dk_at dksX2_load_1 16 rfl rfl)
theorem dX2_load_40 : decode cX2_load 40 = .ok (.ireturn, 1) := dk_172 (dk_at dksX2_load_1 17 rfl rfl)
abbrev cX2_loadOf : ByteArray := prog_6_method_43_code
def yX2_loadOf : MethodName := ⟨RX2, "loadOf", "(IIZ)I"⟩
def dkwX2_loadOf_2 : List UInt8 := [96, 54, 4, 132, 5, 1, 167, 255, 210, 21, 4, 172]
abbrev dktX2_loadOf_2 : List UInt8 := dkwX2_loadOf_2 ++ []
def dkwX2_loadOf_1 : List UInt8 := [182, 0, 176, 104, 42, 27, 4, 100, 21, 5, 29, 182, 0, 179, 96, 42, 27, 21, 5, 29, 182, 0, 179, 96]
abbrev dktX2_loadOf_1 : List UInt8 := dkwX2_loadOf_1 ++ dktX2_loadOf_2
def dkwX2_loadOf_0 : List UInt8 := [3, 54, 4, 28, 54, 5, 21, 5, 42, 27, 182, 0, 114, 162, 0, 42, 21, 4, 16, 20, 42, 27]
abbrev dktX2_loadOf_0 : List UInt8 := dkwX2_loadOf_0 ++ dktX2_loadOf_1
theorem dksX2_loadOf_0 : cX2_loadOf.data.toList.drop 0 = dktX2_loadOf_0 := by decide +kernel
theorem dksX2_loadOf_1 : cX2_loadOf.data.toList.drop 22 = dktX2_loadOf_1 := dk_seg dksX2_loadOf_0 22 rfl rfl
theorem dksX2_loadOf_2 : cX2_loadOf.data.toList.drop 46 = dktX2_loadOf_2 := dk_seg dksX2_loadOf_1 24 rfl rfl
theorem dX2_loadOf_0 : decode cX2_loadOf 0 = .ok (.iconst 0, 1) := dk_3 (dk_at dksX2_loadOf_0 0 rfl rfl)
theorem dX2_loadOf_1 : decode cX2_loadOf 1 = .ok (.istore 4, 2) := dk_54 4 (dk_at dksX2_loadOf_0 1 rfl rfl)
theorem dX2_loadOf_3 : decode cX2_loadOf 3 = .ok (.iload_n 2, 1) := dk_28 (dk_at dksX2_loadOf_0 3 rfl rfl)
theorem dX2_loadOf_4 : decode cX2_loadOf 4 = .ok (.istore 5, 2) := dk_54 5 (dk_at dksX2_loadOf_0 4 rfl rfl)
theorem dX2_loadOf_6 : decode cX2_loadOf 6 = .ok (.iload 5, 2) := dk_21 5 (dk_at dksX2_loadOf_0 6 rfl rfl)
theorem dX2_loadOf_8 : decode cX2_loadOf 8 = .ok (.aload_n 0, 1) := dk_42 (dk_at dksX2_loadOf_0 8 rfl rfl)
theorem dX2_loadOf_9 : decode cX2_loadOf 9 = .ok (.iload_n 1, 1) := dk_27 (dk_at dksX2_loadOf_0 9 rfl rfl)
theorem dX2_loadOf_10 : decode cX2_loadOf 10 = .ok (.invokevirtual 114, 3) := dk_182 0 114 (dk_at dksX2_loadOf_0 10 rfl rfl)
theorem dX2_loadOf_13 : decode cX2_loadOf 13 = .ok (.if_icmp .ge 42, 3) := dk_162 0 42 (dk_at dksX2_loadOf_0 13 rfl rfl)
theorem dX2_loadOf_16 : decode cX2_loadOf 16 = .ok (.iload 4, 2) := dk_21 4 (dk_at dksX2_loadOf_0 16 rfl rfl)
theorem dX2_loadOf_18 : decode cX2_loadOf 18 = .ok (.bipush 20, 2) := dk_16 20 (dk_at dksX2_loadOf_0 18 rfl rfl)
theorem dX2_loadOf_20 : decode cX2_loadOf 20 = .ok (.aload_n 0, 1) := dk_42 (dk_at dksX2_loadOf_0 20 rfl rfl)
theorem dX2_loadOf_21 : decode cX2_loadOf 21 = .ok (.iload_n 1, 1) := dk_27 (dk_at dksX2_loadOf_0 21 rfl rfl)
theorem dX2_loadOf_22 : decode cX2_loadOf 22 = .ok (.invokevirtual 176, 3) := dk_182 0 176 (dk_at dksX2_loadOf_1 0 rfl rfl)
theorem dX2_loadOf_25 : decode cX2_loadOf 25 = .ok (.imul, 1) := dk_104 (dk_at dksX2_loadOf_1 3 rfl rfl)
theorem dX2_loadOf_26 : decode cX2_loadOf 26 = .ok (.aload_n 0, 1) := dk_42 (dk_at dksX2_loadOf_1 4 rfl rfl)
theorem dX2_loadOf_27 : decode cX2_loadOf 27 = .ok (.iload_n 1, 1) := dk_27 (dk_at dksX2_loadOf_1 5 rfl rfl)
theorem dX2_loadOf_28 : decode cX2_loadOf 28 = .ok (.iconst 1, 1) := dk_4 (dk_at dksX2_loadOf_1 6 rfl rfl)
theorem dX2_loadOf_29 : decode cX2_loadOf 29 = .ok (.isub, 1) := dk_100 (dk_at dksX2_loadOf_1 7 rfl rfl)
theorem dX2_loadOf_30 : decode cX2_loadOf 30 = .ok (.iload 5, 2) := dk_21 5 (dk_at dksX2_loadOf_1 8 rfl rfl)
theorem dX2_loadOf_32 : decode cX2_loadOf 32 = .ok (.iload_n 3, 1) := dk_29 (dk_at dksX2_loadOf_1 10 rfl rfl)
theorem dX2_loadOf_33 : decode cX2_loadOf 33 = .ok (.invokevirtual 179, 3) := dk_182 0 179 (dk_at dksX2_loadOf_1 11 rfl rfl)
theorem dX2_loadOf_36 : decode cX2_loadOf 36 = .ok (.iadd, 1) := dk_96 (dk_at dksX2_loadOf_1 14 rfl rfl)
theorem dX2_loadOf_37 : decode cX2_loadOf 37 = .ok (.aload_n 0, 1) := dk_42 (dk_at dksX2_loadOf_1 15 rfl rfl)
theorem dX2_loadOf_38 : decode cX2_loadOf 38 = .ok (.iload_n 1, 1) := dk_27 (dk_at dksX2_loadOf_1 16 rfl rfl)
theorem dX2_loadOf_39 : decode cX2_loadOf 39 = .ok (.iload 5, 2) := dk_21 5 (dk_at dksX2_loadOf_1 17 rfl rfl)
theorem dX2_loadOf_41 : decode cX2_loadOf 41 = .ok (.iload_n 3, 1) := dk_29 (dk_at dksX2_loadOf_1 19 rfl rfl)
theorem dX2_loadOf_42 : decode cX2_loadOf 42 = .ok (.invokevirtual 179, 3) := dk_182 0 179 (dk_at dksX2_loadOf_1 20 rfl rfl)
theorem dX2_loadOf_45 : decode cX2_loadOf 45 = .ok (.iadd, 1) := dk_96 (dk_at dksX2_loadOf_1 23 rfl rfl)
theorem dX2_loadOf_46 : decode cX2_loadOf 46 = .ok (.iadd, 1) := dk_96 (dk_at dksX2_loadOf_2 0 rfl rfl)
theorem dX2_loadOf_47 : decode cX2_loadOf 47 = .ok (.istore 4, 2) := dk_54 4 (dk_at dksX2_loadOf_2 1 rfl rfl)
theorem dX2_loadOf_49 : decode cX2_loadOf 49 = .ok (.iinc 5 1, 3) := dk_132 5 1 (dk_at dksX2_loadOf_2 3 rfl rfl)
theorem dX2_loadOf_52 : decode cX2_loadOf 52 = .ok (.goto (-46), 3) := dk_167 255 210 (dk_at dksX2_loadOf_2 6 rfl rfl)
theorem dX2_loadOf_55 : decode cX2_loadOf 55 = .ok (.iload 4, 2) := dk_21 4 (dk_at dksX2_loadOf_2 9 rfl rfl)
theorem dX2_loadOf_57 : decode cX2_loadOf 57 = .ok (.ireturn, 1) := dk_172 (dk_at dksX2_loadOf_2 11 rfl rfl)
abbrev cX2_standards : ByteArray := prog_6_method_17_code
def yX2_standards : MethodName := ⟨RX2, "standards", "(I)I"⟩
def dkwX2_standards_0 : List UInt8 := [42, 27, 182, 0, 102, 153, 0, 7, 6, 167, 0, 4, 5, 172]
abbrev dktX2_standards_0 : List UInt8 := dkwX2_standards_0 ++ []
theorem dksX2_standards_0 : cX2_standards.data.toList.drop 0 = dktX2_standards_0 := by decide +kernel
theorem dX2_standards_0 : decode cX2_standards 0 = .ok (.aload_n 0, 1) := dk_42 (dk_at dksX2_standards_0 0 rfl rfl)
theorem dX2_standards_1 : decode cX2_standards 1 = .ok (.iload_n 1, 1) := dk_27 (dk_at dksX2_standards_0 1 rfl rfl)
theorem dX2_standards_2 : decode cX2_standards 2 = .ok (.invokevirtual 102, 3) := dk_182 0 102 (dk_at dksX2_standards_0 2 rfl rfl)
theorem dX2_standards_5 : decode cX2_standards 5 = .ok (.ifCond .eq 7, 3) := dk_153 0 7 (dk_at dksX2_standards_0 5 rfl rfl)
theorem dX2_standards_8 : decode cX2_standards 8 = .ok (.iconst 3, 1) := dk_6 (dk_at dksX2_standards_0 8 rfl rfl)
theorem dX2_standards_9 : decode cX2_standards 9 = .ok (.goto 4, 3) := dk_167 0 4 (dk_at dksX2_standards_0 9 rfl rfl)
theorem dX2_standards_12 : decode cX2_standards 12 = .ok (.iconst 2, 1) := dk_5 (dk_at dksX2_standards_0 12 rfl rfl)
theorem dX2_standards_13 : decode cX2_standards 13 = .ok (.ireturn, 1) := dk_172 (dk_at dksX2_standards_0 13 rfl rfl)
abbrev cX2_halfOf : ByteArray := prog_6_method_42_code
def yX2_halfOf : MethodName := ⟨RX2, "halfOf", "(IIZ)I"⟩
def dkwX2_halfOf_1 : List UInt8 := [182, 0, 172, 5, 108, 167, 0, 4, 3, 172]
abbrev dktX2_halfOf_1 : List UInt8 := dkwX2_halfOf_1 ++ []
def dkwX2_halfOf_0 : List UInt8 := [42, 27, 28, 182, 0, 137, 153, 0, 26, 42, 180, 0, 16, 27, 185, 0, 59, 2, 0, 192, 0, 87, 28, 29]
abbrev dktX2_halfOf_0 : List UInt8 := dkwX2_halfOf_0 ++ dktX2_halfOf_1
theorem dksX2_halfOf_0 : cX2_halfOf.data.toList.drop 0 = dktX2_halfOf_0 := by decide +kernel
theorem dksX2_halfOf_1 : cX2_halfOf.data.toList.drop 24 = dktX2_halfOf_1 := dk_seg dksX2_halfOf_0 24 rfl rfl
theorem dX2_halfOf_0 : decode cX2_halfOf 0 = .ok (.aload_n 0, 1) := dk_42 (dk_at dksX2_halfOf_0 0 rfl rfl)
theorem dX2_halfOf_1 : decode cX2_halfOf 1 = .ok (.iload_n 1, 1) := dk_27 (dk_at dksX2_halfOf_0 1 rfl rfl)
theorem dX2_halfOf_2 : decode cX2_halfOf 2 = .ok (.iload_n 2, 1) := dk_28 (dk_at dksX2_halfOf_0 2 rfl rfl)
theorem dX2_halfOf_3 : decode cX2_halfOf 3 = .ok (.invokevirtual 137, 3) := dk_182 0 137 (dk_at dksX2_halfOf_0 3 rfl rfl)
theorem dX2_halfOf_6 : decode cX2_halfOf 6 = .ok (.ifCond .eq 26, 3) := dk_153 0 26 (dk_at dksX2_halfOf_0 6 rfl rfl)
theorem dX2_halfOf_9 : decode cX2_halfOf 9 = .ok (.aload_n 0, 1) := dk_42 (dk_at dksX2_halfOf_0 9 rfl rfl)
theorem dX2_halfOf_10 : decode cX2_halfOf 10 = .ok (.getfield 16, 3) := dk_180 0 16 (dk_at dksX2_halfOf_0 10 rfl rfl)
theorem dX2_halfOf_13 : decode cX2_halfOf 13 = .ok (.iload_n 1, 1) := dk_27 (dk_at dksX2_halfOf_0 13 rfl rfl)
theorem dX2_halfOf_14 : decode cX2_halfOf 14 = .ok (.invokeinterface 59 2, 5) := by decide +kernel
theorem dX2_halfOf_19 : decode cX2_halfOf 19 = .ok (.checkcast 87, 3) := dk_192 0 87 (dk_at dksX2_halfOf_0 19 rfl rfl)
theorem dX2_halfOf_22 : decode cX2_halfOf 22 = .ok (.iload_n 2, 1) := dk_28 (dk_at dksX2_halfOf_0 22 rfl rfl)
theorem dX2_halfOf_23 : decode cX2_halfOf 23 = .ok (.iload_n 3, 1) := dk_29 (dk_at dksX2_halfOf_0 23 rfl rfl)
theorem dX2_halfOf_24 : decode cX2_halfOf 24 = .ok (.invokevirtual 172, 3) := dk_182 0 172 (dk_at dksX2_halfOf_1 0 rfl rfl)
theorem dX2_halfOf_27 : decode cX2_halfOf 27 = .ok (.iconst 2, 1) := dk_5 (dk_at dksX2_halfOf_1 3 rfl rfl)
theorem dX2_halfOf_28 : decode cX2_halfOf 28 = .ok (.idiv, 1) := dk_108 (dk_at dksX2_halfOf_1 4 rfl rfl)
theorem dX2_halfOf_29 : decode cX2_halfOf 29 = .ok (.goto 4, 3) := dk_167 0 4 (dk_at dksX2_halfOf_1 5 rfl rfl)
theorem dX2_halfOf_32 : decode cX2_halfOf 32 = .ok (.iconst 0, 1) := dk_3 (dk_at dksX2_halfOf_1 8 rfl rfl)
theorem dX2_halfOf_33 : decode cX2_halfOf 33 = .ok (.ireturn, 1) := dk_172 (dk_at dksX2_halfOf_1 9 rfl rfl)
abbrev cX2_bears : ByteArray := prog_6_method_46_code
def yX2_bears : MethodName := ⟨RX2, "bears", "(I)I"⟩
def dkwX2_bears_0 : List UInt8 := [42, 42, 27, 182, 0, 99, 4, 4, 182, 0, 75, 153, 0, 11, 42, 27, 182, 0, 186, 167, 0, 4, 3, 172]
abbrev dktX2_bears_0 : List UInt8 := dkwX2_bears_0 ++ []
theorem dksX2_bears_0 : cX2_bears.data.toList.drop 0 = dktX2_bears_0 := by decide +kernel
theorem dX2_bears_0 : decode cX2_bears 0 = .ok (.aload_n 0, 1) := dk_42 (dk_at dksX2_bears_0 0 rfl rfl)
theorem dX2_bears_1 : decode cX2_bears 1 = .ok (.aload_n 0, 1) := dk_42 (dk_at dksX2_bears_0 1 rfl rfl)
theorem dX2_bears_2 : decode cX2_bears 2 = .ok (.iload_n 1, 1) := dk_27 (dk_at dksX2_bears_0 2 rfl rfl)
theorem dX2_bears_3 : decode cX2_bears 3 = .ok (.invokevirtual 99, 3) := dk_182 0 99 (dk_at dksX2_bears_0 3 rfl rfl)
theorem dX2_bears_6 : decode cX2_bears 6 = .ok (.iconst 1, 1) := dk_4 (dk_at dksX2_bears_0 6 rfl rfl)
theorem dX2_bears_7 : decode cX2_bears 7 = .ok (.iconst 1, 1) := dk_4 (dk_at dksX2_bears_0 7 rfl rfl)
theorem dX2_bears_8 : decode cX2_bears 8 = .ok (.invokevirtual 75, 3) := dk_182 0 75 (dk_at dksX2_bears_0 8 rfl rfl)
theorem dX2_bears_11 : decode cX2_bears 11 = .ok (.ifCond .eq 11, 3) := dk_153 0 11 (dk_at dksX2_bears_0 11 rfl rfl)
theorem dX2_bears_14 : decode cX2_bears 14 = .ok (.aload_n 0, 1) := dk_42 (dk_at dksX2_bears_0 14 rfl rfl)
theorem dX2_bears_15 : decode cX2_bears 15 = .ok (.iload_n 1, 1) := dk_27 (dk_at dksX2_bears_0 15 rfl rfl)
theorem dX2_bears_16 : decode cX2_bears 16 = .ok (.invokevirtual 186, 3) := dk_182 0 186 (dk_at dksX2_bears_0 16 rfl rfl)
theorem dX2_bears_19 : decode cX2_bears 19 = .ok (.goto 4, 3) := dk_167 0 4 (dk_at dksX2_bears_0 19 rfl rfl)
theorem dX2_bears_22 : decode cX2_bears 22 = .ok (.iconst 0, 1) := dk_3 (dk_at dksX2_bears_0 22 rfl rfl)
theorem dX2_bears_23 : decode cX2_bears 23 = .ok (.ireturn, 1) := dk_172 (dk_at dksX2_bears_0 23 rfl rfl)
abbrev cX2_bearsOf : ByteArray := prog_6_method_44_code
def yX2_bearsOf : MethodName := ⟨RX2, "bearsOf", "(I)I"⟩
def dkwX2_bearsOf_1 : List UInt8 := [184, 0, 108, 172]
abbrev dktX2_bearsOf_1 : List UInt8 := dkwX2_bearsOf_1 ++ []
def dkwX2_bearsOf_0 : List UInt8 := [42, 180, 0, 32, 42, 27, 182, 0, 176, 104, 61, 3, 28, 42, 27, 182, 0, 169, 28, 7, 108, 104, 100]
abbrev dktX2_bearsOf_0 : List UInt8 := dkwX2_bearsOf_0 ++ dktX2_bearsOf_1
theorem dksX2_bearsOf_0 : cX2_bearsOf.data.toList.drop 0 = dktX2_bearsOf_0 := by decide +kernel
theorem dksX2_bearsOf_1 : cX2_bearsOf.data.toList.drop 23 = dktX2_bearsOf_1 := dk_seg dksX2_bearsOf_0 23 rfl rfl
theorem dX2_bearsOf_0 : decode cX2_bearsOf 0 = .ok (.aload_n 0, 1) := dk_42 (dk_at dksX2_bearsOf_0 0 rfl rfl)
theorem dX2_bearsOf_1 : decode cX2_bearsOf 1 = .ok (.getfield 32, 3) := dk_180 0 32 (dk_at dksX2_bearsOf_0 1 rfl rfl)
theorem dX2_bearsOf_4 : decode cX2_bearsOf 4 = .ok (.aload_n 0, 1) := dk_42 (dk_at dksX2_bearsOf_0 4 rfl rfl)
theorem dX2_bearsOf_5 : decode cX2_bearsOf 5 = .ok (.iload_n 1, 1) := dk_27 (dk_at dksX2_bearsOf_0 5 rfl rfl)
theorem dX2_bearsOf_6 : decode cX2_bearsOf 6 = .ok (.invokevirtual 176, 3) := dk_182 0 176 (dk_at dksX2_bearsOf_0 6 rfl rfl)
theorem dX2_bearsOf_9 : decode cX2_bearsOf 9 = .ok (.imul, 1) := dk_104 (dk_at dksX2_bearsOf_0 9 rfl rfl)
theorem dX2_bearsOf_10 : decode cX2_bearsOf 10 = .ok (.istore_n 2, 1) := dk_61 (dk_at dksX2_bearsOf_0 10 rfl rfl)
theorem dX2_bearsOf_11 : decode cX2_bearsOf 11 = .ok (.iconst 0, 1) := dk_3 (dk_at dksX2_bearsOf_0 11 rfl rfl)
theorem dX2_bearsOf_12 : decode cX2_bearsOf 12 = .ok (.iload_n 2, 1) := dk_28 (dk_at dksX2_bearsOf_0 12 rfl rfl)
theorem dX2_bearsOf_13 : decode cX2_bearsOf 13 = .ok (.aload_n 0, 1) := dk_42 (dk_at dksX2_bearsOf_0 13 rfl rfl)
theorem dX2_bearsOf_14 : decode cX2_bearsOf 14 = .ok (.iload_n 1, 1) := dk_27 (dk_at dksX2_bearsOf_0 14 rfl rfl)
theorem dX2_bearsOf_15 : decode cX2_bearsOf 15 = .ok (.invokevirtual 169, 3) := dk_182 0 169 (dk_at dksX2_bearsOf_0 15 rfl rfl)
theorem dX2_bearsOf_18 : decode cX2_bearsOf 18 = .ok (.iload_n 2, 1) := dk_28 (dk_at dksX2_bearsOf_0 18 rfl rfl)
theorem dX2_bearsOf_19 : decode cX2_bearsOf 19 = .ok (.iconst 4, 1) := dk_7 (dk_at dksX2_bearsOf_0 19 rfl rfl)
theorem dX2_bearsOf_20 : decode cX2_bearsOf 20 = .ok (.idiv, 1) := dk_108 (dk_at dksX2_bearsOf_0 20 rfl rfl)
theorem dX2_bearsOf_21 : decode cX2_bearsOf 21 = .ok (.imul, 1) := dk_104 (dk_at dksX2_bearsOf_0 21 rfl rfl)
theorem dX2_bearsOf_22 : decode cX2_bearsOf 22 = .ok (.isub, 1) := dk_100 (dk_at dksX2_bearsOf_0 22 rfl rfl)
theorem dX2_bearsOf_23 : decode cX2_bearsOf 23 = .ok (.invokestatic 108, 3) := dk_184 0 108 (dk_at dksX2_bearsOf_1 0 rfl rfl)
theorem dX2_bearsOf_26 : decode cX2_bearsOf 26 = .ok (.ireturn, 1) := dk_172 (dk_at dksX2_bearsOf_1 3 rfl rfl)
abbrev cX2_inspect : ByteArray := prog_6_method_48_code
def yX2_inspect : MethodName := ⟨RX2, "inspect", "(I)I"⟩
def dkwX2_inspect_1 : List UInt8 := [180, 0, 23, 27, 28, 154, 0, 15, 42, 180, 0, 68, 16, 7, 96, 4, 100, 167, 0, 4, 2, 79, 28, 172]
abbrev dktX2_inspect_1 : List UInt8 := dkwX2_inspect_1 ++ []
def dkwX2_inspect_0 : List UInt8 := [42, 42, 27, 182, 0, 189, 4, 4, 182, 0, 75, 154, 0, 5, 3, 172, 42, 27, 182, 0, 192, 61, 42]
abbrev dktX2_inspect_0 : List UInt8 := dkwX2_inspect_0 ++ dktX2_inspect_1
theorem dksX2_inspect_0 : cX2_inspect.data.toList.drop 0 = dktX2_inspect_0 := by decide +kernel
theorem dksX2_inspect_1 : cX2_inspect.data.toList.drop 23 = dktX2_inspect_1 := dk_seg dksX2_inspect_0 23 rfl rfl
theorem dX2_inspect_0 : decode cX2_inspect 0 = .ok (.aload_n 0, 1) := dk_42 (dk_at dksX2_inspect_0 0 rfl rfl)
theorem dX2_inspect_1 : decode cX2_inspect 1 = .ok (.aload_n 0, 1) := dk_42 (dk_at dksX2_inspect_0 1 rfl rfl)
theorem dX2_inspect_2 : decode cX2_inspect 2 = .ok (.iload_n 1, 1) := dk_27 (dk_at dksX2_inspect_0 2 rfl rfl)
theorem dX2_inspect_3 : decode cX2_inspect 3 = .ok (.invokevirtual 189, 3) := dk_182 0 189 (dk_at dksX2_inspect_0 3 rfl rfl)
theorem dX2_inspect_6 : decode cX2_inspect 6 = .ok (.iconst 1, 1) := dk_4 (dk_at dksX2_inspect_0 6 rfl rfl)
theorem dX2_inspect_7 : decode cX2_inspect 7 = .ok (.iconst 1, 1) := dk_4 (dk_at dksX2_inspect_0 7 rfl rfl)
theorem dX2_inspect_8 : decode cX2_inspect 8 = .ok (.invokevirtual 75, 3) := dk_182 0 75 (dk_at dksX2_inspect_0 8 rfl rfl)
theorem dX2_inspect_11 : decode cX2_inspect 11 = .ok (.ifCond .ne 5, 3) := dk_154 0 5 (dk_at dksX2_inspect_0 11 rfl rfl)
theorem dX2_inspect_14 : decode cX2_inspect 14 = .ok (.iconst 0, 1) := dk_3 (dk_at dksX2_inspect_0 14 rfl rfl)
theorem dX2_inspect_15 : decode cX2_inspect 15 = .ok (.ireturn, 1) := dk_172 (dk_at dksX2_inspect_0 15 rfl rfl)
theorem dX2_inspect_16 : decode cX2_inspect 16 = .ok (.aload_n 0, 1) := dk_42 (dk_at dksX2_inspect_0 16 rfl rfl)
theorem dX2_inspect_17 : decode cX2_inspect 17 = .ok (.iload_n 1, 1) := dk_27 (dk_at dksX2_inspect_0 17 rfl rfl)
theorem dX2_inspect_18 : decode cX2_inspect 18 = .ok (.invokevirtual 192, 3) := dk_182 0 192 (dk_at dksX2_inspect_0 18 rfl rfl)
theorem dX2_inspect_21 : decode cX2_inspect 21 = .ok (.istore_n 2, 1) := dk_61 (dk_at dksX2_inspect_0 21 rfl rfl)
theorem dX2_inspect_22 : decode cX2_inspect 22 = .ok (.aload_n 0, 1) := dk_42 (dk_at dksX2_inspect_0 22 rfl rfl)
theorem dX2_inspect_23 : decode cX2_inspect 23 = .ok (.getfield 23, 3) := dk_180 0 23 (dk_at dksX2_inspect_1 0 rfl rfl)
theorem dX2_inspect_26 : decode cX2_inspect 26 = .ok (.iload_n 1, 1) := dk_27 (dk_at dksX2_inspect_1 3 rfl rfl)
theorem dX2_inspect_27 : decode cX2_inspect 27 = .ok (.iload_n 2, 1) := dk_28 (dk_at dksX2_inspect_1 4 rfl rfl)
theorem dX2_inspect_28 : decode cX2_inspect 28 = .ok (.ifCond .ne 15, 3) := dk_154 0 15 (dk_at dksX2_inspect_1 5 rfl rfl)
theorem dX2_inspect_31 : decode cX2_inspect 31 = .ok (.aload_n 0, 1) := dk_42 (dk_at dksX2_inspect_1 8 rfl rfl)
theorem dX2_inspect_32 : decode cX2_inspect 32 = .ok (.getfield 68, 3) := dk_180 0 68 (dk_at dksX2_inspect_1 9 rfl rfl)
theorem dX2_inspect_35 : decode cX2_inspect 35 = .ok (.bipush 7, 2) := dk_16 7 (dk_at dksX2_inspect_1 12 rfl rfl)
theorem dX2_inspect_37 : decode cX2_inspect 37 = .ok (.iadd, 1) := dk_96 (dk_at dksX2_inspect_1 14 rfl rfl)
theorem dX2_inspect_38 : decode cX2_inspect 38 = .ok (.iconst 1, 1) := dk_4 (dk_at dksX2_inspect_1 15 rfl rfl)
theorem dX2_inspect_39 : decode cX2_inspect 39 = .ok (.isub, 1) := dk_100 (dk_at dksX2_inspect_1 16 rfl rfl)
theorem dX2_inspect_40 : decode cX2_inspect 40 = .ok (.goto 4, 3) := dk_167 0 4 (dk_at dksX2_inspect_1 17 rfl rfl)
theorem dX2_inspect_43 : decode cX2_inspect 43 = .ok (.iconst (-1), 1) := dk_2 (dk_at dksX2_inspect_1 20 rfl rfl)
theorem dX2_inspect_44 : decode cX2_inspect 44 = .ok (.iastore, 1) := dk_79 (dk_at dksX2_inspect_1 21 rfl rfl)
theorem dX2_inspect_45 : decode cX2_inspect 45 = .ok (.iload_n 2, 1) := dk_28 (dk_at dksX2_inspect_1 22 rfl rfl)
theorem dX2_inspect_46 : decode cX2_inspect 46 = .ok (.ireturn, 1) := dk_172 (dk_at dksX2_inspect_1 23 rfl rfl)
abbrev cX2_isFace : ByteArray := prog_6_method_6_code
def yX2_isFace : MethodName := ⟨RX2, "isFace", "(I)Z"⟩
def dkwX2_isFace_0 : List UInt8 := [27, 3, 42, 180, 0, 20, 185, 0, 45, 1, 0, 4, 100, 184, 0, 51, 172]
abbrev dktX2_isFace_0 : List UInt8 := dkwX2_isFace_0 ++ []
theorem dksX2_isFace_0 : cX2_isFace.data.toList.drop 0 = dktX2_isFace_0 := by decide +kernel
theorem dX2_isFace_0 : decode cX2_isFace 0 = .ok (.iload_n 1, 1) := dk_27 (dk_at dksX2_isFace_0 0 rfl rfl)
theorem dX2_isFace_1 : decode cX2_isFace 1 = .ok (.iconst 0, 1) := dk_3 (dk_at dksX2_isFace_0 1 rfl rfl)
theorem dX2_isFace_2 : decode cX2_isFace 2 = .ok (.aload_n 0, 1) := dk_42 (dk_at dksX2_isFace_0 2 rfl rfl)
theorem dX2_isFace_3 : decode cX2_isFace 3 = .ok (.getfield 20, 3) := dk_180 0 20 (dk_at dksX2_isFace_0 3 rfl rfl)
theorem dX2_isFace_6 : decode cX2_isFace 6 = .ok (.invokeinterface 45 1, 5) := by decide +kernel
theorem dX2_isFace_11 : decode cX2_isFace 11 = .ok (.iconst 1, 1) := dk_4 (dk_at dksX2_isFace_0 11 rfl rfl)
theorem dX2_isFace_12 : decode cX2_isFace 12 = .ok (.isub, 1) := dk_100 (dk_at dksX2_isFace_0 12 rfl rfl)
theorem dX2_isFace_13 : decode cX2_isFace 13 = .ok (.invokestatic 51, 3) := dk_184 0 51 (dk_at dksX2_isFace_0 13 rfl rfl)
theorem dX2_isFace_16 : decode cX2_isFace 16 = .ok (.ireturn, 1) := dk_172 (dk_at dksX2_isFace_0 16 rfl rfl)
abbrev cX2_reason : ByteArray := prog_6_method_47_code
def yX2_reason : MethodName := ⟨RX2, "reason", "(I)I"⟩
def dkwX2_reason_7 : List UInt8 := [5, 167, 0, 13, 21, 4, 153, 0, 7, 6, 167, 0, 4, 3, 172]
abbrev dktX2_reason_7 : List UInt8 := dkwX2_reason_7 ++ []
def dkwX2_reason_6 : List UInt8 := [167, 0, 4, 3, 54, 4, 132, 5, 1, 167, 255, 194, 28, 154, 0, 7, 4, 167, 0, 21, 29, 153, 0, 7]
abbrev dktX2_reason_6 : List UInt8 := dkwX2_reason_6 ++ dktX2_reason_7
def dkwX2_reason_5 : List UInt8 := [4, 167, 0, 4, 3, 62, 21, 4, 154, 0, 13, 42, 21, 5, 182, 0, 169, 4, 164, 0, 7, 4]
abbrev dktX2_reason_5 : List UInt8 := dkwX2_reason_5 ++ dktX2_reason_6
def dkwX2_reason_4 : List UInt8 := [163, 0, 58, 29, 154, 0, 20, 42, 21, 5, 3, 4, 182, 0, 183, 42, 21, 5, 182, 0, 186, 164, 0, 7]
abbrev dktX2_reason_4 : List UInt8 := dkwX2_reason_4 ++ dktX2_reason_5
def dkwX2_reason_3 : List UInt8 := [180, 0, 20, 27, 185, 0, 59, 2, 0, 192, 0, 63, 182, 0, 65, 54, 5, 21, 5, 42, 27, 182, 0, 117]
abbrev dktX2_reason_3 : List UInt8 := dkwX2_reason_3 ++ dktX2_reason_4
def dkwX2_reason_2 : List UInt8 := [180, 0, 105, 158, 0, 7, 4, 167, 0, 4, 3, 61, 132, 3, 1, 167, 255, 215, 3, 62, 3, 54, 4, 42]
abbrev dktX2_reason_2 : List UInt8 := dkwX2_reason_2 ++ dktX2_reason_3
def dkwX2_reason_1 : List UInt8 := [182, 0, 117, 162, 0, 38, 28, 154, 0, 22, 42, 180, 0, 16, 29, 185, 0, 59, 2, 0, 192, 0, 87]
abbrev dktX2_reason_1 : List UInt8 := dkwX2_reason_1 ++ dktX2_reason_2
def dkwX2_reason_0 : List UInt8 := [3, 61, 42, 180, 0, 20, 27, 185, 0, 59, 2, 0, 192, 0, 63, 182, 0, 65, 62, 29, 42, 27]
abbrev dktX2_reason_0 : List UInt8 := dkwX2_reason_0 ++ dktX2_reason_1
theorem dksX2_reason_0 : cX2_reason.data.toList.drop 0 = dktX2_reason_0 := by decide +kernel
theorem dksX2_reason_1 : cX2_reason.data.toList.drop 22 = dktX2_reason_1 := dk_seg dksX2_reason_0 22 rfl rfl
theorem dksX2_reason_2 : cX2_reason.data.toList.drop 45 = dktX2_reason_2 := dk_seg dksX2_reason_1 23 rfl rfl
theorem dksX2_reason_3 : cX2_reason.data.toList.drop 69 = dktX2_reason_3 := dk_seg dksX2_reason_2 24 rfl rfl
theorem dksX2_reason_4 : cX2_reason.data.toList.drop 93 = dktX2_reason_4 := dk_seg dksX2_reason_3 24 rfl rfl
theorem dksX2_reason_5 : cX2_reason.data.toList.drop 117 = dktX2_reason_5 := dk_seg dksX2_reason_4 24 rfl rfl
theorem dksX2_reason_6 : cX2_reason.data.toList.drop 139 = dktX2_reason_6 := dk_seg dksX2_reason_5 22 rfl rfl
theorem dksX2_reason_7 : cX2_reason.data.toList.drop 163 = dktX2_reason_7 := dk_seg dksX2_reason_6 24 rfl rfl
theorem dX2_reason_0 : decode cX2_reason 0 = .ok (.iconst 0, 1) := dk_3 (dk_at dksX2_reason_0 0 rfl rfl)
theorem dX2_reason_1 : decode cX2_reason 1 = .ok (.istore_n 2, 1) := dk_61 (dk_at dksX2_reason_0 1 rfl rfl)
theorem dX2_reason_2 : decode cX2_reason 2 = .ok (.aload_n 0, 1) := dk_42 (dk_at dksX2_reason_0 2 rfl rfl)
theorem dX2_reason_3 : decode cX2_reason 3 = .ok (.getfield 20, 3) := dk_180 0 20 (dk_at dksX2_reason_0 3 rfl rfl)
theorem dX2_reason_6 : decode cX2_reason 6 = .ok (.iload_n 1, 1) := dk_27 (dk_at dksX2_reason_0 6 rfl rfl)
theorem dX2_reason_7 : decode cX2_reason 7 = .ok (.invokeinterface 59 2, 5) := by decide +kernel
theorem dX2_reason_12 : decode cX2_reason 12 = .ok (.checkcast 63, 3) := dk_192 0 63 (dk_at dksX2_reason_0 12 rfl rfl)
theorem dX2_reason_15 : decode cX2_reason 15 = .ok (.invokevirtual 65, 3) := dk_182 0 65 (dk_at dksX2_reason_0 15 rfl rfl)
theorem dX2_reason_18 : decode cX2_reason 18 = .ok (.istore_n 3, 1) := dk_62 (dk_at dksX2_reason_0 18 rfl rfl)
theorem dX2_reason_19 : decode cX2_reason 19 = .ok (.iload_n 3, 1) := dk_29 (dk_at dksX2_reason_0 19 rfl rfl)
theorem dX2_reason_20 : decode cX2_reason 20 = .ok (.aload_n 0, 1) := dk_42 (dk_at dksX2_reason_0 20 rfl rfl)
theorem dX2_reason_21 : decode cX2_reason 21 = .ok (.iload_n 1, 1) := dk_27 (dk_at dksX2_reason_0 21 rfl rfl)
theorem dX2_reason_22 : decode cX2_reason 22 = .ok (.invokevirtual 117, 3) := dk_182 0 117 (dk_at dksX2_reason_1 0 rfl rfl)
theorem dX2_reason_25 : decode cX2_reason 25 = .ok (.if_icmp .ge 38, 3) := dk_162 0 38 (dk_at dksX2_reason_1 3 rfl rfl)
theorem dX2_reason_28 : decode cX2_reason 28 = .ok (.iload_n 2, 1) := dk_28 (dk_at dksX2_reason_1 6 rfl rfl)
theorem dX2_reason_29 : decode cX2_reason 29 = .ok (.ifCond .ne 22, 3) := dk_154 0 22 (dk_at dksX2_reason_1 7 rfl rfl)
theorem dX2_reason_32 : decode cX2_reason 32 = .ok (.aload_n 0, 1) := dk_42 (dk_at dksX2_reason_1 10 rfl rfl)
theorem dX2_reason_33 : decode cX2_reason 33 = .ok (.getfield 16, 3) := dk_180 0 16 (dk_at dksX2_reason_1 11 rfl rfl)
theorem dX2_reason_36 : decode cX2_reason 36 = .ok (.iload_n 3, 1) := dk_29 (dk_at dksX2_reason_1 14 rfl rfl)
theorem dX2_reason_37 : decode cX2_reason 37 = .ok (.invokeinterface 59 2, 5) := by decide +kernel
theorem dX2_reason_42 : decode cX2_reason 42 = .ok (.checkcast 87, 3) := dk_192 0 87 (dk_at dksX2_reason_1 20 rfl rfl)
theorem dX2_reason_45 : decode cX2_reason 45 = .ok (.getfield 105, 3) := dk_180 0 105 (dk_at dksX2_reason_2 0 rfl rfl)
theorem dX2_reason_48 : decode cX2_reason 48 = .ok (.ifCond .le 7, 3) := dk_158 0 7 (dk_at dksX2_reason_2 3 rfl rfl)
theorem dX2_reason_51 : decode cX2_reason 51 = .ok (.iconst 1, 1) := dk_4 (dk_at dksX2_reason_2 6 rfl rfl)
theorem dX2_reason_52 : decode cX2_reason 52 = .ok (.goto 4, 3) := dk_167 0 4 (dk_at dksX2_reason_2 7 rfl rfl)
theorem dX2_reason_55 : decode cX2_reason 55 = .ok (.iconst 0, 1) := dk_3 (dk_at dksX2_reason_2 10 rfl rfl)
theorem dX2_reason_56 : decode cX2_reason 56 = .ok (.istore_n 2, 1) := dk_61 (dk_at dksX2_reason_2 11 rfl rfl)
theorem dX2_reason_57 : decode cX2_reason 57 = .ok (.iinc 3 1, 3) := dk_132 3 1 (dk_at dksX2_reason_2 12 rfl rfl)
theorem dX2_reason_60 : decode cX2_reason 60 = .ok (.goto (-41), 3) := dk_167 255 215 (dk_at dksX2_reason_2 15 rfl rfl)
theorem dX2_reason_63 : decode cX2_reason 63 = .ok (.iconst 0, 1) := dk_3 (dk_at dksX2_reason_2 18 rfl rfl)
theorem dX2_reason_64 : decode cX2_reason 64 = .ok (.istore_n 3, 1) := dk_62 (dk_at dksX2_reason_2 19 rfl rfl)
theorem dX2_reason_65 : decode cX2_reason 65 = .ok (.iconst 0, 1) := dk_3 (dk_at dksX2_reason_2 20 rfl rfl)
theorem dX2_reason_66 : decode cX2_reason 66 = .ok (.istore 4, 2) := dk_54 4 (dk_at dksX2_reason_2 21 rfl rfl)
theorem dX2_reason_68 : decode cX2_reason 68 = .ok (.aload_n 0, 1) := dk_42 (dk_at dksX2_reason_2 23 rfl rfl)
theorem dX2_reason_69 : decode cX2_reason 69 = .ok (.getfield 20, 3) := dk_180 0 20 (dk_at dksX2_reason_3 0 rfl rfl)
theorem dX2_reason_72 : decode cX2_reason 72 = .ok (.iload_n 1, 1) := dk_27 (dk_at dksX2_reason_3 3 rfl rfl)
theorem dX2_reason_73 : decode cX2_reason 73 = .ok (.invokeinterface 59 2, 5) := by decide +kernel
theorem dX2_reason_78 : decode cX2_reason 78 = .ok (.checkcast 63, 3) := dk_192 0 63 (dk_at dksX2_reason_3 9 rfl rfl)
theorem dX2_reason_81 : decode cX2_reason 81 = .ok (.invokevirtual 65, 3) := dk_182 0 65 (dk_at dksX2_reason_3 12 rfl rfl)
theorem dX2_reason_84 : decode cX2_reason 84 = .ok (.istore 5, 2) := dk_54 5 (dk_at dksX2_reason_3 15 rfl rfl)
theorem dX2_reason_86 : decode cX2_reason 86 = .ok (.iload 5, 2) := dk_21 5 (dk_at dksX2_reason_3 17 rfl rfl)
theorem dX2_reason_88 : decode cX2_reason 88 = .ok (.aload_n 0, 1) := dk_42 (dk_at dksX2_reason_3 19 rfl rfl)
theorem dX2_reason_89 : decode cX2_reason 89 = .ok (.iload_n 1, 1) := dk_27 (dk_at dksX2_reason_3 20 rfl rfl)
theorem dX2_reason_90 : decode cX2_reason 90 = .ok (.invokevirtual 117, 3) := dk_182 0 117 (dk_at dksX2_reason_3 21 rfl rfl)
theorem dX2_reason_93 : decode cX2_reason 93 = .ok (.if_icmp .gt 58, 3) := dk_163 0 58 (dk_at dksX2_reason_4 0 rfl rfl)
theorem dX2_reason_96 : decode cX2_reason 96 = .ok (.iload_n 3, 1) := dk_29 (dk_at dksX2_reason_4 3 rfl rfl)
theorem dX2_reason_97 : decode cX2_reason 97 = .ok (.ifCond .ne 20, 3) := dk_154 0 20 (dk_at dksX2_reason_4 4 rfl rfl)
theorem dX2_reason_100 : decode cX2_reason 100 = .ok (.aload_n 0, 1) := dk_42 (dk_at dksX2_reason_4 7 rfl rfl)
theorem dX2_reason_101 : decode cX2_reason 101 = .ok (.iload 5, 2) := dk_21 5 (dk_at dksX2_reason_4 8 rfl rfl)
theorem dX2_reason_103 : decode cX2_reason 103 = .ok (.iconst 0, 1) := dk_3 (dk_at dksX2_reason_4 10 rfl rfl)
theorem dX2_reason_104 : decode cX2_reason 104 = .ok (.iconst 1, 1) := dk_4 (dk_at dksX2_reason_4 11 rfl rfl)
theorem dX2_reason_105 : decode cX2_reason 105 = .ok (.invokevirtual 183, 3) := dk_182 0 183 (dk_at dksX2_reason_4 12 rfl rfl)
theorem dX2_reason_108 : decode cX2_reason 108 = .ok (.aload_n 0, 1) := dk_42 (dk_at dksX2_reason_4 15 rfl rfl)
theorem dX2_reason_109 : decode cX2_reason 109 = .ok (.iload 5, 2) := dk_21 5 (dk_at dksX2_reason_4 16 rfl rfl)
theorem dX2_reason_111 : decode cX2_reason 111 = .ok (.invokevirtual 186, 3) := dk_182 0 186 (dk_at dksX2_reason_4 18 rfl rfl)
theorem dX2_reason_114 : decode cX2_reason 114 = .ok (.if_icmp .le 7, 3) := dk_164 0 7 (dk_at dksX2_reason_4 21 rfl rfl)
theorem dX2_reason_117 : decode cX2_reason 117 = .ok (.iconst 1, 1) := dk_4 (dk_at dksX2_reason_5 0 rfl rfl)
theorem dX2_reason_118 : decode cX2_reason 118 = .ok (.goto 4, 3) := dk_167 0 4 (dk_at dksX2_reason_5 1 rfl rfl)
theorem dX2_reason_121 : decode cX2_reason 121 = .ok (.iconst 0, 1) := dk_3 (dk_at dksX2_reason_5 4 rfl rfl)
theorem dX2_reason_122 : decode cX2_reason 122 = .ok (.istore_n 3, 1) := dk_62 (dk_at dksX2_reason_5 5 rfl rfl)
theorem dX2_reason_123 : decode cX2_reason 123 = .ok (.iload 4, 2) := dk_21 4 (dk_at dksX2_reason_5 6 rfl rfl)
theorem dX2_reason_125 : decode cX2_reason 125 = .ok (.ifCond .ne 13, 3) := dk_154 0 13 (dk_at dksX2_reason_5 8 rfl rfl)
theorem dX2_reason_128 : decode cX2_reason 128 = .ok (.aload_n 0, 1) := dk_42 (dk_at dksX2_reason_5 11 rfl rfl)
theorem dX2_reason_129 : decode cX2_reason 129 = .ok (.iload 5, 2) := dk_21 5 (dk_at dksX2_reason_5 12 rfl rfl)
theorem dX2_reason_131 : decode cX2_reason 131 = .ok (.invokevirtual 169, 3) := dk_182 0 169 (dk_at dksX2_reason_5 14 rfl rfl)
theorem dX2_reason_134 : decode cX2_reason 134 = .ok (.iconst 1, 1) := dk_4 (dk_at dksX2_reason_5 17 rfl rfl)
theorem dX2_reason_135 : decode cX2_reason 135 = .ok (.if_icmp .le 7, 3) := dk_164 0 7 (dk_at dksX2_reason_5 18 rfl rfl)
theorem dX2_reason_138 : decode cX2_reason 138 = .ok (.iconst 1, 1) := dk_4 (dk_at dksX2_reason_5 21 rfl rfl)
theorem dX2_reason_139 : decode cX2_reason 139 = .ok (.goto 4, 3) := dk_167 0 4 (dk_at dksX2_reason_6 0 rfl rfl)
theorem dX2_reason_142 : decode cX2_reason 142 = .ok (.iconst 0, 1) := dk_3 (dk_at dksX2_reason_6 3 rfl rfl)
theorem dX2_reason_143 : decode cX2_reason 143 = .ok (.istore 4, 2) := dk_54 4 (dk_at dksX2_reason_6 4 rfl rfl)
theorem dX2_reason_145 : decode cX2_reason 145 = .ok (.iinc 5 1, 3) := dk_132 5 1 (dk_at dksX2_reason_6 6 rfl rfl)
theorem dX2_reason_148 : decode cX2_reason 148 = .ok (.goto (-62), 3) := dk_167 255 194 (dk_at dksX2_reason_6 9 rfl rfl)
theorem dX2_reason_151 : decode cX2_reason 151 = .ok (.iload_n 2, 1) := dk_28 (dk_at dksX2_reason_6 12 rfl rfl)
theorem dX2_reason_152 : decode cX2_reason 152 = .ok (.ifCond .ne 7, 3) := dk_154 0 7 (dk_at dksX2_reason_6 13 rfl rfl)
theorem dX2_reason_155 : decode cX2_reason 155 = .ok (.iconst 1, 1) := dk_4 (dk_at dksX2_reason_6 16 rfl rfl)
theorem dX2_reason_156 : decode cX2_reason 156 = .ok (.goto 21, 3) := dk_167 0 21 (dk_at dksX2_reason_6 17 rfl rfl)
theorem dX2_reason_159 : decode cX2_reason 159 = .ok (.iload_n 3, 1) := dk_29 (dk_at dksX2_reason_6 20 rfl rfl)
theorem dX2_reason_160 : decode cX2_reason 160 = .ok (.ifCond .eq 7, 3) := dk_153 0 7 (dk_at dksX2_reason_6 21 rfl rfl)
theorem dX2_reason_163 : decode cX2_reason 163 = .ok (.iconst 2, 1) := dk_5 (dk_at dksX2_reason_7 0 rfl rfl)
theorem dX2_reason_164 : decode cX2_reason 164 = .ok (.goto 13, 3) := dk_167 0 13 (dk_at dksX2_reason_7 1 rfl rfl)
theorem dX2_reason_167 : decode cX2_reason 167 = .ok (.iload 4, 2) := dk_21 4 (dk_at dksX2_reason_7 4 rfl rfl)
theorem dX2_reason_169 : decode cX2_reason 169 = .ok (.ifCond .eq 7, 3) := dk_153 0 7 (dk_at dksX2_reason_7 6 rfl rfl)
theorem dX2_reason_172 : decode cX2_reason 172 = .ok (.iconst 3, 1) := dk_6 (dk_at dksX2_reason_7 9 rfl rfl)
theorem dX2_reason_173 : decode cX2_reason 173 = .ok (.goto 4, 3) := dk_167 0 4 (dk_at dksX2_reason_7 10 rfl rfl)
theorem dX2_reason_176 : decode cX2_reason 176 = .ok (.iconst 0, 1) := dk_3 (dk_at dksX2_reason_7 13 rfl rfl)
theorem dX2_reason_177 : decode cX2_reason 177 = .ok (.ireturn, 1) := dk_172 (dk_at dksX2_reason_7 14 rfl rfl)
abbrev cX2_tag : ByteArray := prog_6_method_49_code
def yX2_tag : MethodName := ⟨RX2, "tag", "(I)I"⟩
def dkwX2_tag_1 : List UInt8 := [180, 0, 68, 100, 4, 96, 184, 0, 108, 167, 0, 4, 3, 172]
abbrev dktX2_tag_1 : List UInt8 := dkwX2_tag_1 ++ []
def dkwX2_tag_0 : List UInt8 := [42, 42, 27, 182, 0, 189, 4, 4, 182, 0, 75, 153, 0, 23, 3, 42, 180, 0, 23, 27, 46, 42]
abbrev dktX2_tag_0 : List UInt8 := dkwX2_tag_0 ++ dktX2_tag_1
theorem dksX2_tag_0 : cX2_tag.data.toList.drop 0 = dktX2_tag_0 := by decide +kernel
theorem dksX2_tag_1 : cX2_tag.data.toList.drop 22 = dktX2_tag_1 := dk_seg dksX2_tag_0 22 rfl rfl
theorem dX2_tag_0 : decode cX2_tag 0 = .ok (.aload_n 0, 1) := dk_42 (dk_at dksX2_tag_0 0 rfl rfl)
theorem dX2_tag_1 : decode cX2_tag 1 = .ok (.aload_n 0, 1) := dk_42 (dk_at dksX2_tag_0 1 rfl rfl)
theorem dX2_tag_2 : decode cX2_tag 2 = .ok (.iload_n 1, 1) := dk_27 (dk_at dksX2_tag_0 2 rfl rfl)
theorem dX2_tag_3 : decode cX2_tag 3 = .ok (.invokevirtual 189, 3) := dk_182 0 189 (dk_at dksX2_tag_0 3 rfl rfl)
theorem dX2_tag_6 : decode cX2_tag 6 = .ok (.iconst 1, 1) := dk_4 (dk_at dksX2_tag_0 6 rfl rfl)
theorem dX2_tag_7 : decode cX2_tag 7 = .ok (.iconst 1, 1) := dk_4 (dk_at dksX2_tag_0 7 rfl rfl)
theorem dX2_tag_8 : decode cX2_tag 8 = .ok (.invokevirtual 75, 3) := dk_182 0 75 (dk_at dksX2_tag_0 8 rfl rfl)
theorem dX2_tag_11 : decode cX2_tag 11 = .ok (.ifCond .eq 23, 3) := dk_153 0 23 (dk_at dksX2_tag_0 11 rfl rfl)
theorem dX2_tag_14 : decode cX2_tag 14 = .ok (.iconst 0, 1) := dk_3 (dk_at dksX2_tag_0 14 rfl rfl)
theorem dX2_tag_15 : decode cX2_tag 15 = .ok (.aload_n 0, 1) := dk_42 (dk_at dksX2_tag_0 15 rfl rfl)
theorem dX2_tag_16 : decode cX2_tag 16 = .ok (.getfield 23, 3) := dk_180 0 23 (dk_at dksX2_tag_0 16 rfl rfl)
theorem dX2_tag_19 : decode cX2_tag 19 = .ok (.iload_n 1, 1) := dk_27 (dk_at dksX2_tag_0 19 rfl rfl)
theorem dX2_tag_20 : decode cX2_tag 20 = .ok (.iaload, 1) := dk_46 (dk_at dksX2_tag_0 20 rfl rfl)
theorem dX2_tag_21 : decode cX2_tag 21 = .ok (.aload_n 0, 1) := dk_42 (dk_at dksX2_tag_0 21 rfl rfl)
theorem dX2_tag_22 : decode cX2_tag 22 = .ok (.getfield 68, 3) := dk_180 0 68 (dk_at dksX2_tag_1 0 rfl rfl)
theorem dX2_tag_25 : decode cX2_tag 25 = .ok (.isub, 1) := dk_100 (dk_at dksX2_tag_1 3 rfl rfl)
theorem dX2_tag_26 : decode cX2_tag 26 = .ok (.iconst 1, 1) := dk_4 (dk_at dksX2_tag_1 4 rfl rfl)
theorem dX2_tag_27 : decode cX2_tag 27 = .ok (.iadd, 1) := dk_96 (dk_at dksX2_tag_1 5 rfl rfl)
theorem dX2_tag_28 : decode cX2_tag 28 = .ok (.invokestatic 108, 3) := dk_184 0 108 (dk_at dksX2_tag_1 6 rfl rfl)
theorem dX2_tag_31 : decode cX2_tag 31 = .ok (.goto 4, 3) := dk_167 0 4 (dk_at dksX2_tag_1 9 rfl rfl)
theorem dX2_tag_34 : decode cX2_tag 34 = .ok (.iconst 0, 1) := dk_3 (dk_at dksX2_tag_1 12 rfl rfl)
theorem dX2_tag_35 : decode cX2_tag 35 = .ok (.ireturn, 1) := dk_172 (dk_at dksX2_tag_1 13 rfl rfl)
abbrev cX2_parts : ByteArray := prog_6_method_53_code
def yX2_parts : MethodName := ⟨RX2, "parts", "(II)I"⟩
def dkwX2_parts_3 : List UInt8 := [182, 0, 204, 167, 0, 4, 3, 96, 62, 132, 4, 1, 167, 255, 214, 29, 172]
abbrev dktX2_parts_3 : List UInt8 := dkwX2_parts_3 ++ []
def dkwX2_parts_2 : List UInt8 := [185, 0, 45, 1, 0, 162, 0, 34, 29, 27, 2, 159, 0, 9, 27, 21, 4, 160, 0, 13, 42, 21, 4, 28]
abbrev dktX2_parts_2 : List UInt8 := dkwX2_parts_2 ++ dktX2_parts_3
def dkwX2_parts_1 : List UInt8 := [184, 0, 51, 4, 182, 0, 75, 154, 0, 5, 3, 172, 3, 62, 3, 54, 4, 21, 4, 42, 180, 0, 20]
abbrev dktX2_parts_1 : List UInt8 := dkwX2_parts_1 ++ dktX2_parts_2
def dkwX2_parts_0 : List UInt8 := [42, 27, 2, 159, 0, 11, 42, 27, 182, 0, 189, 153, 0, 7, 4, 167, 0, 4, 3, 28, 3, 8]
abbrev dktX2_parts_0 : List UInt8 := dkwX2_parts_0 ++ dktX2_parts_1
theorem dksX2_parts_0 : cX2_parts.data.toList.drop 0 = dktX2_parts_0 := by decide +kernel
theorem dksX2_parts_1 : cX2_parts.data.toList.drop 22 = dktX2_parts_1 := dk_seg dksX2_parts_0 22 rfl rfl
theorem dksX2_parts_2 : cX2_parts.data.toList.drop 45 = dktX2_parts_2 := dk_seg dksX2_parts_1 23 rfl rfl
theorem dksX2_parts_3 : cX2_parts.data.toList.drop 69 = dktX2_parts_3 := dk_seg dksX2_parts_2 24 rfl rfl
theorem dX2_parts_0 : decode cX2_parts 0 = .ok (.aload_n 0, 1) := dk_42 (dk_at dksX2_parts_0 0 rfl rfl)
theorem dX2_parts_1 : decode cX2_parts 1 = .ok (.iload_n 1, 1) := dk_27 (dk_at dksX2_parts_0 1 rfl rfl)
theorem dX2_parts_2 : decode cX2_parts 2 = .ok (.iconst (-1), 1) := dk_2 (dk_at dksX2_parts_0 2 rfl rfl)
theorem dX2_parts_3 : decode cX2_parts 3 = .ok (.if_icmp .eq 11, 3) := dk_159 0 11 (dk_at dksX2_parts_0 3 rfl rfl)
theorem dX2_parts_6 : decode cX2_parts 6 = .ok (.aload_n 0, 1) := dk_42 (dk_at dksX2_parts_0 6 rfl rfl)
theorem dX2_parts_7 : decode cX2_parts 7 = .ok (.iload_n 1, 1) := dk_27 (dk_at dksX2_parts_0 7 rfl rfl)
theorem dX2_parts_8 : decode cX2_parts 8 = .ok (.invokevirtual 189, 3) := dk_182 0 189 (dk_at dksX2_parts_0 8 rfl rfl)
theorem dX2_parts_11 : decode cX2_parts 11 = .ok (.ifCond .eq 7, 3) := dk_153 0 7 (dk_at dksX2_parts_0 11 rfl rfl)
theorem dX2_parts_14 : decode cX2_parts 14 = .ok (.iconst 1, 1) := dk_4 (dk_at dksX2_parts_0 14 rfl rfl)
theorem dX2_parts_15 : decode cX2_parts 15 = .ok (.goto 4, 3) := dk_167 0 4 (dk_at dksX2_parts_0 15 rfl rfl)
theorem dX2_parts_18 : decode cX2_parts 18 = .ok (.iconst 0, 1) := dk_3 (dk_at dksX2_parts_0 18 rfl rfl)
theorem dX2_parts_19 : decode cX2_parts 19 = .ok (.iload_n 2, 1) := dk_28 (dk_at dksX2_parts_0 19 rfl rfl)
theorem dX2_parts_20 : decode cX2_parts 20 = .ok (.iconst 0, 1) := dk_3 (dk_at dksX2_parts_0 20 rfl rfl)
theorem dX2_parts_21 : decode cX2_parts 21 = .ok (.iconst 5, 1) := dk_8 (dk_at dksX2_parts_0 21 rfl rfl)
theorem dX2_parts_22 : decode cX2_parts 22 = .ok (.invokestatic 51, 3) := dk_184 0 51 (dk_at dksX2_parts_1 0 rfl rfl)
theorem dX2_parts_25 : decode cX2_parts 25 = .ok (.iconst 1, 1) := dk_4 (dk_at dksX2_parts_1 3 rfl rfl)
theorem dX2_parts_26 : decode cX2_parts 26 = .ok (.invokevirtual 75, 3) := dk_182 0 75 (dk_at dksX2_parts_1 4 rfl rfl)
theorem dX2_parts_29 : decode cX2_parts 29 = .ok (.ifCond .ne 5, 3) := dk_154 0 5 (dk_at dksX2_parts_1 7 rfl rfl)
theorem dX2_parts_32 : decode cX2_parts 32 = .ok (.iconst 0, 1) := dk_3 (dk_at dksX2_parts_1 10 rfl rfl)
theorem dX2_parts_33 : decode cX2_parts 33 = .ok (.ireturn, 1) := dk_172 (dk_at dksX2_parts_1 11 rfl rfl)
theorem dX2_parts_34 : decode cX2_parts 34 = .ok (.iconst 0, 1) := dk_3 (dk_at dksX2_parts_1 12 rfl rfl)
theorem dX2_parts_35 : decode cX2_parts 35 = .ok (.istore_n 3, 1) := dk_62 (dk_at dksX2_parts_1 13 rfl rfl)
theorem dX2_parts_36 : decode cX2_parts 36 = .ok (.iconst 0, 1) := dk_3 (dk_at dksX2_parts_1 14 rfl rfl)
theorem dX2_parts_37 : decode cX2_parts 37 = .ok (.istore 4, 2) := dk_54 4 (dk_at dksX2_parts_1 15 rfl rfl)
theorem dX2_parts_39 : decode cX2_parts 39 = .ok (.iload 4, 2) := dk_21 4 (dk_at dksX2_parts_1 17 rfl rfl)
theorem dX2_parts_41 : decode cX2_parts 41 = .ok (.aload_n 0, 1) := dk_42 (dk_at dksX2_parts_1 19 rfl rfl)
theorem dX2_parts_42 : decode cX2_parts 42 = .ok (.getfield 20, 3) := dk_180 0 20 (dk_at dksX2_parts_1 20 rfl rfl)
theorem dX2_parts_45 : decode cX2_parts 45 = .ok (.invokeinterface 45 1, 5) := by decide +kernel
theorem dX2_parts_50 : decode cX2_parts 50 = .ok (.if_icmp .ge 34, 3) := dk_162 0 34 (dk_at dksX2_parts_2 5 rfl rfl)
theorem dX2_parts_53 : decode cX2_parts 53 = .ok (.iload_n 3, 1) := dk_29 (dk_at dksX2_parts_2 8 rfl rfl)
theorem dX2_parts_54 : decode cX2_parts 54 = .ok (.iload_n 1, 1) := dk_27 (dk_at dksX2_parts_2 9 rfl rfl)
theorem dX2_parts_55 : decode cX2_parts 55 = .ok (.iconst (-1), 1) := dk_2 (dk_at dksX2_parts_2 10 rfl rfl)
theorem dX2_parts_56 : decode cX2_parts 56 = .ok (.if_icmp .eq 9, 3) := dk_159 0 9 (dk_at dksX2_parts_2 11 rfl rfl)
theorem dX2_parts_59 : decode cX2_parts 59 = .ok (.iload_n 1, 1) := dk_27 (dk_at dksX2_parts_2 14 rfl rfl)
theorem dX2_parts_60 : decode cX2_parts 60 = .ok (.iload 4, 2) := dk_21 4 (dk_at dksX2_parts_2 15 rfl rfl)
theorem dX2_parts_62 : decode cX2_parts 62 = .ok (.if_icmp .ne 13, 3) := dk_160 0 13 (dk_at dksX2_parts_2 17 rfl rfl)
theorem dX2_parts_65 : decode cX2_parts 65 = .ok (.aload_n 0, 1) := dk_42 (dk_at dksX2_parts_2 20 rfl rfl)
theorem dX2_parts_66 : decode cX2_parts 66 = .ok (.iload 4, 2) := dk_21 4 (dk_at dksX2_parts_2 21 rfl rfl)
theorem dX2_parts_68 : decode cX2_parts 68 = .ok (.iload_n 2, 1) := dk_28 (dk_at dksX2_parts_2 23 rfl rfl)
theorem dX2_parts_69 : decode cX2_parts 69 = .ok (.invokevirtual 204, 3) := dk_182 0 204 (dk_at dksX2_parts_3 0 rfl rfl)
theorem dX2_parts_72 : decode cX2_parts 72 = .ok (.goto 4, 3) := dk_167 0 4 (dk_at dksX2_parts_3 3 rfl rfl)
theorem dX2_parts_75 : decode cX2_parts 75 = .ok (.iconst 0, 1) := dk_3 (dk_at dksX2_parts_3 6 rfl rfl)
theorem dX2_parts_76 : decode cX2_parts 76 = .ok (.iadd, 1) := dk_96 (dk_at dksX2_parts_3 7 rfl rfl)
theorem dX2_parts_77 : decode cX2_parts 77 = .ok (.istore_n 3, 1) := dk_62 (dk_at dksX2_parts_3 8 rfl rfl)
theorem dX2_parts_78 : decode cX2_parts 78 = .ok (.iinc 4 1, 3) := dk_132 4 1 (dk_at dksX2_parts_3 9 rfl rfl)
theorem dX2_parts_81 : decode cX2_parts 81 = .ok (.goto (-42), 3) := dk_167 255 214 (dk_at dksX2_parts_3 12 rfl rfl)
theorem dX2_parts_84 : decode cX2_parts 84 = .ok (.iload_n 3, 1) := dk_29 (dk_at dksX2_parts_3 15 rfl rfl)
theorem dX2_parts_85 : decode cX2_parts 85 = .ok (.ireturn, 1) := dk_172 (dk_at dksX2_parts_3 16 rfl rfl)
abbrev cX2_partsOf : ByteArray := prog_6_method_52_code
def yX2_partsOf : MethodName := ⟨RX2, "partsOf", "(II)I"⟩
def dkwX2_partsOf_3 : List UInt8 := [182, 0, 117, 163, 0, 19, 29, 42, 21, 5, 28, 182, 0, 201, 96, 62, 132, 5, 1, 167, 255, 233, 29, 172]
abbrev dktX2_partsOf_3 : List UInt8 := dkwX2_partsOf_3 ++ []
def dkwX2_partsOf_2 : List UInt8 := [167, 255, 233, 21, 4, 158, 0, 10, 21, 4, 4, 96, 167, 0, 4, 3, 54, 5, 21, 5, 42, 27]
abbrev dktX2_partsOf_2 : List UInt8 := dkwX2_partsOf_2 ++ dktX2_partsOf_3
def dkwX2_partsOf_1 : List UInt8 := [21, 5, 42, 27, 182, 0, 117, 162, 0, 19, 29, 42, 21, 5, 28, 182, 0, 198, 96, 62, 132, 5, 1]
abbrev dktX2_partsOf_1 : List UInt8 := dkwX2_partsOf_1 ++ dktX2_partsOf_2
def dkwX2_partsOf_0 : List UInt8 := [3, 62, 42, 180, 0, 20, 27, 185, 0, 59, 2, 0, 192, 0, 63, 182, 0, 65, 54, 4, 21, 4, 54, 5]
abbrev dktX2_partsOf_0 : List UInt8 := dkwX2_partsOf_0 ++ dktX2_partsOf_1
theorem dksX2_partsOf_0 : cX2_partsOf.data.toList.drop 0 = dktX2_partsOf_0 := by decide +kernel
theorem dksX2_partsOf_1 : cX2_partsOf.data.toList.drop 24 = dktX2_partsOf_1 := dk_seg dksX2_partsOf_0 24 rfl rfl
theorem dksX2_partsOf_2 : cX2_partsOf.data.toList.drop 47 = dktX2_partsOf_2 := dk_seg dksX2_partsOf_1 23 rfl rfl
theorem dksX2_partsOf_3 : cX2_partsOf.data.toList.drop 69 = dktX2_partsOf_3 := dk_seg dksX2_partsOf_2 22 rfl rfl
theorem dX2_partsOf_0 : decode cX2_partsOf 0 = .ok (.iconst 0, 1) := dk_3 (dk_at dksX2_partsOf_0 0 rfl rfl)
theorem dX2_partsOf_1 : decode cX2_partsOf 1 = .ok (.istore_n 3, 1) := dk_62 (dk_at dksX2_partsOf_0 1 rfl rfl)
theorem dX2_partsOf_2 : decode cX2_partsOf 2 = .ok (.aload_n 0, 1) := dk_42 (dk_at dksX2_partsOf_0 2 rfl rfl)
theorem dX2_partsOf_3 : decode cX2_partsOf 3 = .ok (.getfield 20, 3) := dk_180 0 20 (dk_at dksX2_partsOf_0 3 rfl rfl)
theorem dX2_partsOf_6 : decode cX2_partsOf 6 = .ok (.iload_n 1, 1) := dk_27 (dk_at dksX2_partsOf_0 6 rfl rfl)
theorem dX2_partsOf_7 : decode cX2_partsOf 7 = .ok (.invokeinterface 59 2, 5) := by decide +kernel
theorem dX2_partsOf_12 : decode cX2_partsOf 12 = .ok (.checkcast 63, 3) := dk_192 0 63 (dk_at dksX2_partsOf_0 12 rfl rfl)
theorem dX2_partsOf_15 : decode cX2_partsOf 15 = .ok (.invokevirtual 65, 3) := dk_182 0 65 (dk_at dksX2_partsOf_0 15 rfl rfl)
theorem dX2_partsOf_18 : decode cX2_partsOf 18 = .ok (.istore 4, 2) := dk_54 4 (dk_at dksX2_partsOf_0 18 rfl rfl)
theorem dX2_partsOf_20 : decode cX2_partsOf 20 = .ok (.iload 4, 2) := dk_21 4 (dk_at dksX2_partsOf_0 20 rfl rfl)
theorem dX2_partsOf_22 : decode cX2_partsOf 22 = .ok (.istore 5, 2) := dk_54 5 (dk_at dksX2_partsOf_0 22 rfl rfl)
theorem dX2_partsOf_24 : decode cX2_partsOf 24 = .ok (.iload 5, 2) := dk_21 5 (dk_at dksX2_partsOf_1 0 rfl rfl)
theorem dX2_partsOf_26 : decode cX2_partsOf 26 = .ok (.aload_n 0, 1) := dk_42 (dk_at dksX2_partsOf_1 2 rfl rfl)
theorem dX2_partsOf_27 : decode cX2_partsOf 27 = .ok (.iload_n 1, 1) := dk_27 (dk_at dksX2_partsOf_1 3 rfl rfl)
theorem dX2_partsOf_28 : decode cX2_partsOf 28 = .ok (.invokevirtual 117, 3) := dk_182 0 117 (dk_at dksX2_partsOf_1 4 rfl rfl)
theorem dX2_partsOf_31 : decode cX2_partsOf 31 = .ok (.if_icmp .ge 19, 3) := dk_162 0 19 (dk_at dksX2_partsOf_1 7 rfl rfl)
theorem dX2_partsOf_34 : decode cX2_partsOf 34 = .ok (.iload_n 3, 1) := dk_29 (dk_at dksX2_partsOf_1 10 rfl rfl)
theorem dX2_partsOf_35 : decode cX2_partsOf 35 = .ok (.aload_n 0, 1) := dk_42 (dk_at dksX2_partsOf_1 11 rfl rfl)
theorem dX2_partsOf_36 : decode cX2_partsOf 36 = .ok (.iload 5, 2) := dk_21 5 (dk_at dksX2_partsOf_1 12 rfl rfl)
theorem dX2_partsOf_38 : decode cX2_partsOf 38 = .ok (.iload_n 2, 1) := dk_28 (dk_at dksX2_partsOf_1 14 rfl rfl)
theorem dX2_partsOf_39 : decode cX2_partsOf 39 = .ok (.invokevirtual 198, 3) := dk_182 0 198 (dk_at dksX2_partsOf_1 15 rfl rfl)
theorem dX2_partsOf_42 : decode cX2_partsOf 42 = .ok (.iadd, 1) := dk_96 (dk_at dksX2_partsOf_1 18 rfl rfl)
theorem dX2_partsOf_43 : decode cX2_partsOf 43 = .ok (.istore_n 3, 1) := dk_62 (dk_at dksX2_partsOf_1 19 rfl rfl)
theorem dX2_partsOf_44 : decode cX2_partsOf 44 = .ok (.iinc 5 1, 3) := dk_132 5 1 (dk_at dksX2_partsOf_1 20 rfl rfl)
theorem dX2_partsOf_47 : decode cX2_partsOf 47 = .ok (.goto (-23), 3) := dk_167 255 233 (dk_at dksX2_partsOf_2 0 rfl rfl)
theorem dX2_partsOf_50 : decode cX2_partsOf 50 = .ok (.iload 4, 2) := dk_21 4 (dk_at dksX2_partsOf_2 3 rfl rfl)
theorem dX2_partsOf_52 : decode cX2_partsOf 52 = .ok (.ifCond .le 10, 3) := dk_158 0 10 (dk_at dksX2_partsOf_2 5 rfl rfl)
theorem dX2_partsOf_55 : decode cX2_partsOf 55 = .ok (.iload 4, 2) := dk_21 4 (dk_at dksX2_partsOf_2 8 rfl rfl)
theorem dX2_partsOf_57 : decode cX2_partsOf 57 = .ok (.iconst 1, 1) := dk_4 (dk_at dksX2_partsOf_2 10 rfl rfl)
theorem dX2_partsOf_58 : decode cX2_partsOf 58 = .ok (.iadd, 1) := dk_96 (dk_at dksX2_partsOf_2 11 rfl rfl)
theorem dX2_partsOf_59 : decode cX2_partsOf 59 = .ok (.goto 4, 3) := dk_167 0 4 (dk_at dksX2_partsOf_2 12 rfl rfl)
theorem dX2_partsOf_62 : decode cX2_partsOf 62 = .ok (.iconst 0, 1) := dk_3 (dk_at dksX2_partsOf_2 15 rfl rfl)
theorem dX2_partsOf_63 : decode cX2_partsOf 63 = .ok (.istore 5, 2) := dk_54 5 (dk_at dksX2_partsOf_2 16 rfl rfl)
theorem dX2_partsOf_65 : decode cX2_partsOf 65 = .ok (.iload 5, 2) := dk_21 5 (dk_at dksX2_partsOf_2 18 rfl rfl)
theorem dX2_partsOf_67 : decode cX2_partsOf 67 = .ok (.aload_n 0, 1) := dk_42 (dk_at dksX2_partsOf_2 20 rfl rfl)
theorem dX2_partsOf_68 : decode cX2_partsOf 68 = .ok (.iload_n 1, 1) := dk_27 (dk_at dksX2_partsOf_2 21 rfl rfl)
theorem dX2_partsOf_69 : decode cX2_partsOf 69 = .ok (.invokevirtual 117, 3) := dk_182 0 117 (dk_at dksX2_partsOf_3 0 rfl rfl)
theorem dX2_partsOf_72 : decode cX2_partsOf 72 = .ok (.if_icmp .gt 19, 3) := dk_163 0 19 (dk_at dksX2_partsOf_3 3 rfl rfl)
theorem dX2_partsOf_75 : decode cX2_partsOf 75 = .ok (.iload_n 3, 1) := dk_29 (dk_at dksX2_partsOf_3 6 rfl rfl)
theorem dX2_partsOf_76 : decode cX2_partsOf 76 = .ok (.aload_n 0, 1) := dk_42 (dk_at dksX2_partsOf_3 7 rfl rfl)
theorem dX2_partsOf_77 : decode cX2_partsOf 77 = .ok (.iload 5, 2) := dk_21 5 (dk_at dksX2_partsOf_3 8 rfl rfl)
theorem dX2_partsOf_79 : decode cX2_partsOf 79 = .ok (.iload_n 2, 1) := dk_28 (dk_at dksX2_partsOf_3 10 rfl rfl)
theorem dX2_partsOf_80 : decode cX2_partsOf 80 = .ok (.invokevirtual 201, 3) := dk_182 0 201 (dk_at dksX2_partsOf_3 11 rfl rfl)
theorem dX2_partsOf_83 : decode cX2_partsOf 83 = .ok (.iadd, 1) := dk_96 (dk_at dksX2_partsOf_3 14 rfl rfl)
theorem dX2_partsOf_84 : decode cX2_partsOf 84 = .ok (.istore_n 3, 1) := dk_62 (dk_at dksX2_partsOf_3 15 rfl rfl)
theorem dX2_partsOf_85 : decode cX2_partsOf 85 = .ok (.iinc 5 1, 3) := dk_132 5 1 (dk_at dksX2_partsOf_3 16 rfl rfl)
theorem dX2_partsOf_88 : decode cX2_partsOf 88 = .ok (.goto (-23), 3) := dk_167 255 233 (dk_at dksX2_partsOf_3 19 rfl rfl)
theorem dX2_partsOf_91 : decode cX2_partsOf 91 = .ok (.iload_n 3, 1) := dk_29 (dk_at dksX2_partsOf_3 22 rfl rfl)
theorem dX2_partsOf_92 : decode cX2_partsOf 92 = .ok (.ireturn, 1) := dk_172 (dk_at dksX2_partsOf_3 23 rfl rfl)
abbrev cX2_partsOfBay : ByteArray := prog_6_method_50_code
def yX2_partsOfBay : MethodName := ⟨RX2, "partsOfBay", "(II)I"⟩
def dkwX2_partsOfBay_5 : List UInt8 := [132, 6, 1, 167, 255, 219, 21, 5, 172]
abbrev dktX2_partsOfBay_5 : List UInt8 := dkwX2_partsOfBay_5 ++ []
def dkwX2_partsOfBay_4 : List UInt8 := [160, 0, 29, 21, 5, 45, 180, 0, 139, 21, 6, 51, 153, 0, 7, 8, 167, 0, 4, 3, 96, 54, 5]
abbrev dktX2_partsOfBay_4 : List UInt8 := dkwX2_partsOfBay_4 ++ dktX2_partsOfBay_5
def dkwX2_partsOfBay_3 : List UInt8 := [180, 0, 105, 167, 0, 4, 3, 54, 5, 3, 54, 6, 21, 6, 45, 180, 0, 105, 162, 0, 34, 28, 6]
abbrev dktX2_partsOfBay_3 : List UInt8 := dkwX2_partsOfBay_3 ++ dktX2_partsOfBay_4
def dkwX2_partsOfBay_2 : List UInt8 := [160, 0, 12, 5, 45, 180, 0, 105, 104, 167, 0, 21, 28, 7, 160, 0, 15, 21, 4, 153, 0, 10, 45]
abbrev dktX2_partsOfBay_2 : List UInt8 := dkwX2_partsOfBay_2 ++ dktX2_partsOfBay_3
def dkwX2_partsOfBay_1 : List UInt8 := [4, 96, 42, 45, 180, 0, 96, 182, 0, 117, 160, 0, 7, 4, 167, 0, 4, 3, 54, 4, 28, 5]
abbrev dktX2_partsOfBay_1 : List UInt8 := dkwX2_partsOfBay_1 ++ dktX2_partsOfBay_2
def dkwX2_partsOfBay_0 : List UInt8 := [42, 180, 0, 16, 27, 185, 0, 59, 2, 0, 192, 0, 87, 78, 45, 180, 0, 195, 6, 112, 153, 0, 17, 27]
abbrev dktX2_partsOfBay_0 : List UInt8 := dkwX2_partsOfBay_0 ++ dktX2_partsOfBay_1
theorem dksX2_partsOfBay_0 : cX2_partsOfBay.data.toList.drop 0 = dktX2_partsOfBay_0 := by decide +kernel
theorem dksX2_partsOfBay_1 : cX2_partsOfBay.data.toList.drop 24 = dktX2_partsOfBay_1 := dk_seg dksX2_partsOfBay_0 24 rfl rfl
theorem dksX2_partsOfBay_2 : cX2_partsOfBay.data.toList.drop 46 = dktX2_partsOfBay_2 := dk_seg dksX2_partsOfBay_1 22 rfl rfl
theorem dksX2_partsOfBay_3 : cX2_partsOfBay.data.toList.drop 69 = dktX2_partsOfBay_3 := dk_seg dksX2_partsOfBay_2 23 rfl rfl
theorem dksX2_partsOfBay_4 : cX2_partsOfBay.data.toList.drop 92 = dktX2_partsOfBay_4 := dk_seg dksX2_partsOfBay_3 23 rfl rfl
theorem dksX2_partsOfBay_5 : cX2_partsOfBay.data.toList.drop 115 = dktX2_partsOfBay_5 := dk_seg dksX2_partsOfBay_4 23 rfl rfl
theorem dX2_partsOfBay_0 : decode cX2_partsOfBay 0 = .ok (.aload_n 0, 1) := dk_42 (dk_at dksX2_partsOfBay_0 0 rfl rfl)
theorem dX2_partsOfBay_1 : decode cX2_partsOfBay 1 = .ok (.getfield 16, 3) := dk_180 0 16 (dk_at dksX2_partsOfBay_0 1 rfl rfl)
theorem dX2_partsOfBay_4 : decode cX2_partsOfBay 4 = .ok (.iload_n 1, 1) := dk_27 (dk_at dksX2_partsOfBay_0 4 rfl rfl)
theorem dX2_partsOfBay_5 : decode cX2_partsOfBay 5 = .ok (.invokeinterface 59 2, 5) := by decide +kernel
theorem dX2_partsOfBay_10 : decode cX2_partsOfBay 10 = .ok (.checkcast 87, 3) := dk_192 0 87 (dk_at dksX2_partsOfBay_0 10 rfl rfl)
theorem dX2_partsOfBay_13 : decode cX2_partsOfBay 13 = .ok (.astore_n 3, 1) := dk_78 (dk_at dksX2_partsOfBay_0 13 rfl rfl)
theorem dX2_partsOfBay_14 : decode cX2_partsOfBay 14 = .ok (.aload_n 3, 1) := dk_45 (dk_at dksX2_partsOfBay_0 14 rfl rfl)
theorem dX2_partsOfBay_15 : decode cX2_partsOfBay 15 = .ok (.getfield 195, 3) := dk_180 0 195 (dk_at dksX2_partsOfBay_0 15 rfl rfl)
theorem dX2_partsOfBay_18 : decode cX2_partsOfBay 18 = .ok (.iconst 3, 1) := dk_6 (dk_at dksX2_partsOfBay_0 18 rfl rfl)
theorem dX2_partsOfBay_19 : decode cX2_partsOfBay 19 = .ok (.irem, 1) := dk_112 (dk_at dksX2_partsOfBay_0 19 rfl rfl)
theorem dX2_partsOfBay_20 : decode cX2_partsOfBay 20 = .ok (.ifCond .eq 17, 3) := dk_153 0 17 (dk_at dksX2_partsOfBay_0 20 rfl rfl)
theorem dX2_partsOfBay_23 : decode cX2_partsOfBay 23 = .ok (.iload_n 1, 1) := dk_27 (dk_at dksX2_partsOfBay_0 23 rfl rfl)
theorem dX2_partsOfBay_24 : decode cX2_partsOfBay 24 = .ok (.iconst 1, 1) := dk_4 (dk_at dksX2_partsOfBay_1 0 rfl rfl)
theorem dX2_partsOfBay_25 : decode cX2_partsOfBay 25 = .ok (.iadd, 1) := dk_96 (dk_at dksX2_partsOfBay_1 1 rfl rfl)
theorem dX2_partsOfBay_26 : decode cX2_partsOfBay 26 = .ok (.aload_n 0, 1) := dk_42 (dk_at dksX2_partsOfBay_1 2 rfl rfl)
theorem dX2_partsOfBay_27 : decode cX2_partsOfBay 27 = .ok (.aload_n 3, 1) := dk_45 (dk_at dksX2_partsOfBay_1 3 rfl rfl)
theorem dX2_partsOfBay_28 : decode cX2_partsOfBay 28 = .ok (.getfield 96, 3) := dk_180 0 96 (dk_at dksX2_partsOfBay_1 4 rfl rfl)
theorem dX2_partsOfBay_31 : decode cX2_partsOfBay 31 = .ok (.invokevirtual 117, 3) := dk_182 0 117 (dk_at dksX2_partsOfBay_1 7 rfl rfl)
theorem dX2_partsOfBay_34 : decode cX2_partsOfBay 34 = .ok (.if_icmp .ne 7, 3) := dk_160 0 7 (dk_at dksX2_partsOfBay_1 10 rfl rfl)
theorem dX2_partsOfBay_37 : decode cX2_partsOfBay 37 = .ok (.iconst 1, 1) := dk_4 (dk_at dksX2_partsOfBay_1 13 rfl rfl)
theorem dX2_partsOfBay_38 : decode cX2_partsOfBay 38 = .ok (.goto 4, 3) := dk_167 0 4 (dk_at dksX2_partsOfBay_1 14 rfl rfl)
theorem dX2_partsOfBay_41 : decode cX2_partsOfBay 41 = .ok (.iconst 0, 1) := dk_3 (dk_at dksX2_partsOfBay_1 17 rfl rfl)
theorem dX2_partsOfBay_42 : decode cX2_partsOfBay 42 = .ok (.istore 4, 2) := dk_54 4 (dk_at dksX2_partsOfBay_1 18 rfl rfl)
theorem dX2_partsOfBay_44 : decode cX2_partsOfBay 44 = .ok (.iload_n 2, 1) := dk_28 (dk_at dksX2_partsOfBay_1 20 rfl rfl)
theorem dX2_partsOfBay_45 : decode cX2_partsOfBay 45 = .ok (.iconst 2, 1) := dk_5 (dk_at dksX2_partsOfBay_1 21 rfl rfl)
theorem dX2_partsOfBay_46 : decode cX2_partsOfBay 46 = .ok (.if_icmp .ne 12, 3) := dk_160 0 12 (dk_at dksX2_partsOfBay_2 0 rfl rfl)
theorem dX2_partsOfBay_49 : decode cX2_partsOfBay 49 = .ok (.iconst 2, 1) := dk_5 (dk_at dksX2_partsOfBay_2 3 rfl rfl)
theorem dX2_partsOfBay_50 : decode cX2_partsOfBay 50 = .ok (.aload_n 3, 1) := dk_45 (dk_at dksX2_partsOfBay_2 4 rfl rfl)
theorem dX2_partsOfBay_51 : decode cX2_partsOfBay 51 = .ok (.getfield 105, 3) := dk_180 0 105 (dk_at dksX2_partsOfBay_2 5 rfl rfl)
theorem dX2_partsOfBay_54 : decode cX2_partsOfBay 54 = .ok (.imul, 1) := dk_104 (dk_at dksX2_partsOfBay_2 8 rfl rfl)
theorem dX2_partsOfBay_55 : decode cX2_partsOfBay 55 = .ok (.goto 21, 3) := dk_167 0 21 (dk_at dksX2_partsOfBay_2 9 rfl rfl)
theorem dX2_partsOfBay_58 : decode cX2_partsOfBay 58 = .ok (.iload_n 2, 1) := dk_28 (dk_at dksX2_partsOfBay_2 12 rfl rfl)
theorem dX2_partsOfBay_59 : decode cX2_partsOfBay 59 = .ok (.iconst 4, 1) := dk_7 (dk_at dksX2_partsOfBay_2 13 rfl rfl)
theorem dX2_partsOfBay_60 : decode cX2_partsOfBay 60 = .ok (.if_icmp .ne 15, 3) := dk_160 0 15 (dk_at dksX2_partsOfBay_2 14 rfl rfl)
theorem dX2_partsOfBay_63 : decode cX2_partsOfBay 63 = .ok (.iload 4, 2) := dk_21 4 (dk_at dksX2_partsOfBay_2 17 rfl rfl)
theorem dX2_partsOfBay_65 : decode cX2_partsOfBay 65 = .ok (.ifCond .eq 10, 3) := dk_153 0 10 (dk_at dksX2_partsOfBay_2 19 rfl rfl)
theorem dX2_partsOfBay_68 : decode cX2_partsOfBay 68 = .ok (.aload_n 3, 1) := dk_45 (dk_at dksX2_partsOfBay_2 22 rfl rfl)
theorem dX2_partsOfBay_69 : decode cX2_partsOfBay 69 = .ok (.getfield 105, 3) := dk_180 0 105 (dk_at dksX2_partsOfBay_3 0 rfl rfl)
theorem dX2_partsOfBay_72 : decode cX2_partsOfBay 72 = .ok (.goto 4, 3) := dk_167 0 4 (dk_at dksX2_partsOfBay_3 3 rfl rfl)
theorem dX2_partsOfBay_75 : decode cX2_partsOfBay 75 = .ok (.iconst 0, 1) := dk_3 (dk_at dksX2_partsOfBay_3 6 rfl rfl)
theorem dX2_partsOfBay_76 : decode cX2_partsOfBay 76 = .ok (.istore 5, 2) := dk_54 5 (dk_at dksX2_partsOfBay_3 7 rfl rfl)
theorem dX2_partsOfBay_78 : decode cX2_partsOfBay 78 = .ok (.iconst 0, 1) := dk_3 (dk_at dksX2_partsOfBay_3 9 rfl rfl)
theorem dX2_partsOfBay_79 : decode cX2_partsOfBay 79 = .ok (.istore 6, 2) := dk_54 6 (dk_at dksX2_partsOfBay_3 10 rfl rfl)
theorem dX2_partsOfBay_81 : decode cX2_partsOfBay 81 = .ok (.iload 6, 2) := dk_21 6 (dk_at dksX2_partsOfBay_3 12 rfl rfl)
theorem dX2_partsOfBay_83 : decode cX2_partsOfBay 83 = .ok (.aload_n 3, 1) := dk_45 (dk_at dksX2_partsOfBay_3 14 rfl rfl)
theorem dX2_partsOfBay_84 : decode cX2_partsOfBay 84 = .ok (.getfield 105, 3) := dk_180 0 105 (dk_at dksX2_partsOfBay_3 15 rfl rfl)
theorem dX2_partsOfBay_87 : decode cX2_partsOfBay 87 = .ok (.if_icmp .ge 34, 3) := dk_162 0 34 (dk_at dksX2_partsOfBay_3 18 rfl rfl)
theorem dX2_partsOfBay_90 : decode cX2_partsOfBay 90 = .ok (.iload_n 2, 1) := dk_28 (dk_at dksX2_partsOfBay_3 21 rfl rfl)
theorem dX2_partsOfBay_91 : decode cX2_partsOfBay 91 = .ok (.iconst 3, 1) := dk_6 (dk_at dksX2_partsOfBay_3 22 rfl rfl)
theorem dX2_partsOfBay_92 : decode cX2_partsOfBay 92 = .ok (.if_icmp .ne 29, 3) := dk_160 0 29 (dk_at dksX2_partsOfBay_4 0 rfl rfl)
theorem dX2_partsOfBay_95 : decode cX2_partsOfBay 95 = .ok (.iload 5, 2) := dk_21 5 (dk_at dksX2_partsOfBay_4 3 rfl rfl)
theorem dX2_partsOfBay_97 : decode cX2_partsOfBay 97 = .ok (.aload_n 3, 1) := dk_45 (dk_at dksX2_partsOfBay_4 5 rfl rfl)
theorem dX2_partsOfBay_98 : decode cX2_partsOfBay 98 = .ok (.getfield 139, 3) := dk_180 0 139 (dk_at dksX2_partsOfBay_4 6 rfl rfl)
theorem dX2_partsOfBay_101 : decode cX2_partsOfBay 101 = .ok (.iload 6, 2) := dk_21 6 (dk_at dksX2_partsOfBay_4 9 rfl rfl)
theorem dX2_partsOfBay_103 : decode cX2_partsOfBay 103 = .ok (.baload, 1) := dk_51 (dk_at dksX2_partsOfBay_4 11 rfl rfl)
theorem dX2_partsOfBay_104 : decode cX2_partsOfBay 104 = .ok (.ifCond .eq 7, 3) := dk_153 0 7 (dk_at dksX2_partsOfBay_4 12 rfl rfl)
theorem dX2_partsOfBay_107 : decode cX2_partsOfBay 107 = .ok (.iconst 5, 1) := dk_8 (dk_at dksX2_partsOfBay_4 15 rfl rfl)
theorem dX2_partsOfBay_108 : decode cX2_partsOfBay 108 = .ok (.goto 4, 3) := dk_167 0 4 (dk_at dksX2_partsOfBay_4 16 rfl rfl)
theorem dX2_partsOfBay_111 : decode cX2_partsOfBay 111 = .ok (.iconst 0, 1) := dk_3 (dk_at dksX2_partsOfBay_4 19 rfl rfl)
theorem dX2_partsOfBay_112 : decode cX2_partsOfBay 112 = .ok (.iadd, 1) := dk_96 (dk_at dksX2_partsOfBay_4 20 rfl rfl)
theorem dX2_partsOfBay_113 : decode cX2_partsOfBay 113 = .ok (.istore 5, 2) := dk_54 5 (dk_at dksX2_partsOfBay_4 21 rfl rfl)
theorem dX2_partsOfBay_115 : decode cX2_partsOfBay 115 = .ok (.iinc 6 1, 3) := dk_132 6 1 (dk_at dksX2_partsOfBay_5 0 rfl rfl)
theorem dX2_partsOfBay_118 : decode cX2_partsOfBay 118 = .ok (.goto (-37), 3) := dk_167 255 219 (dk_at dksX2_partsOfBay_5 3 rfl rfl)
theorem dX2_partsOfBay_121 : decode cX2_partsOfBay 121 = .ok (.iload 5, 2) := dk_21 5 (dk_at dksX2_partsOfBay_5 6 rfl rfl)
theorem dX2_partsOfBay_123 : decode cX2_partsOfBay 123 = .ok (.ireturn, 1) := dk_172 (dk_at dksX2_partsOfBay_5 8 rfl rfl)
abbrev cX2_partsOfPosition : ByteArray := prog_6_method_51_code
def yX2_partsOfPosition : MethodName := ⟨RX2, "partsOfPosition", "(II)I"⟩
def dkwX2_partsOfPosition_3 : List UInt8 := [54, 4, 132, 5, 1, 167, 255, 217, 21, 4, 172]
abbrev dktX2_partsOfPosition_3 : List UInt8 := dkwX2_partsOfPosition_3 ++ []
def dkwX2_partsOfPosition_2 : List UInt8 := [42, 21, 5, 182, 0, 166, 21, 4, 42, 180, 0, 38, 27, 51, 153, 0, 7, 4, 167, 0, 4, 3, 96]
abbrev dktX2_partsOfPosition_2 : List UInt8 := dkwX2_partsOfPosition_2 ++ dktX2_partsOfPosition_3
def dkwX2_partsOfPosition_1 : List UInt8 := [160, 0, 7, 29, 167, 0, 4, 3, 54, 4, 3, 54, 5, 21, 5, 29, 162, 0, 39, 28, 8, 160, 0, 34]
abbrev dktX2_partsOfPosition_1 : List UInt8 := dkwX2_partsOfPosition_1 ++ dktX2_partsOfPosition_2
def dkwX2_partsOfPosition_0 : List UInt8 := [42, 27, 182, 0, 114, 62, 28, 154, 0, 13, 42, 27, 182, 0, 176, 29, 104, 167, 0, 13, 28, 4]
abbrev dktX2_partsOfPosition_0 : List UInt8 := dkwX2_partsOfPosition_0 ++ dktX2_partsOfPosition_1
theorem dksX2_partsOfPosition_0 : cX2_partsOfPosition.data.toList.drop 0 = dktX2_partsOfPosition_0 := by decide +kernel
theorem dksX2_partsOfPosition_1 : cX2_partsOfPosition.data.toList.drop 22 = dktX2_partsOfPosition_1 := dk_seg dksX2_partsOfPosition_0 22 rfl rfl
theorem dksX2_partsOfPosition_2 : cX2_partsOfPosition.data.toList.drop 46 = dktX2_partsOfPosition_2 := dk_seg dksX2_partsOfPosition_1 24 rfl rfl
theorem dksX2_partsOfPosition_3 : cX2_partsOfPosition.data.toList.drop 69 = dktX2_partsOfPosition_3 := dk_seg dksX2_partsOfPosition_2 23 rfl rfl
theorem dX2_partsOfPosition_0 : decode cX2_partsOfPosition 0 = .ok (.aload_n 0, 1) := dk_42 (dk_at dksX2_partsOfPosition_0 0 rfl rfl)
theorem dX2_partsOfPosition_1 : decode cX2_partsOfPosition 1 = .ok (.iload_n 1, 1) := dk_27 (dk_at dksX2_partsOfPosition_0 1 rfl rfl)
theorem dX2_partsOfPosition_2 : decode cX2_partsOfPosition 2 = .ok (.invokevirtual 114, 3) := dk_182 0 114 (dk_at dksX2_partsOfPosition_0 2 rfl rfl)
theorem dX2_partsOfPosition_5 : decode cX2_partsOfPosition 5 = .ok (.istore_n 3, 1) := dk_62 (dk_at dksX2_partsOfPosition_0 5 rfl rfl)
theorem dX2_partsOfPosition_6 : decode cX2_partsOfPosition 6 = .ok (.iload_n 2, 1) := dk_28 (dk_at dksX2_partsOfPosition_0 6 rfl rfl)
theorem dX2_partsOfPosition_7 : decode cX2_partsOfPosition 7 = .ok (.ifCond .ne 13, 3) := dk_154 0 13 (dk_at dksX2_partsOfPosition_0 7 rfl rfl)
theorem dX2_partsOfPosition_10 : decode cX2_partsOfPosition 10 = .ok (.aload_n 0, 1) := dk_42 (dk_at dksX2_partsOfPosition_0 10 rfl rfl)
theorem dX2_partsOfPosition_11 : decode cX2_partsOfPosition 11 = .ok (.iload_n 1, 1) := dk_27 (dk_at dksX2_partsOfPosition_0 11 rfl rfl)
theorem dX2_partsOfPosition_12 : decode cX2_partsOfPosition 12 = .ok (.invokevirtual 176, 3) := dk_182 0 176 (dk_at dksX2_partsOfPosition_0 12 rfl rfl)
theorem dX2_partsOfPosition_15 : decode cX2_partsOfPosition 15 = .ok (.iload_n 3, 1) := dk_29 (dk_at dksX2_partsOfPosition_0 15 rfl rfl)
theorem dX2_partsOfPosition_16 : decode cX2_partsOfPosition 16 = .ok (.imul, 1) := dk_104 (dk_at dksX2_partsOfPosition_0 16 rfl rfl)
theorem dX2_partsOfPosition_17 : decode cX2_partsOfPosition 17 = .ok (.goto 13, 3) := dk_167 0 13 (dk_at dksX2_partsOfPosition_0 17 rfl rfl)
theorem dX2_partsOfPosition_20 : decode cX2_partsOfPosition 20 = .ok (.iload_n 2, 1) := dk_28 (dk_at dksX2_partsOfPosition_0 20 rfl rfl)
theorem dX2_partsOfPosition_21 : decode cX2_partsOfPosition 21 = .ok (.iconst 1, 1) := dk_4 (dk_at dksX2_partsOfPosition_0 21 rfl rfl)
theorem dX2_partsOfPosition_22 : decode cX2_partsOfPosition 22 = .ok (.if_icmp .ne 7, 3) := dk_160 0 7 (dk_at dksX2_partsOfPosition_1 0 rfl rfl)
theorem dX2_partsOfPosition_25 : decode cX2_partsOfPosition 25 = .ok (.iload_n 3, 1) := dk_29 (dk_at dksX2_partsOfPosition_1 3 rfl rfl)
theorem dX2_partsOfPosition_26 : decode cX2_partsOfPosition 26 = .ok (.goto 4, 3) := dk_167 0 4 (dk_at dksX2_partsOfPosition_1 4 rfl rfl)
theorem dX2_partsOfPosition_29 : decode cX2_partsOfPosition 29 = .ok (.iconst 0, 1) := dk_3 (dk_at dksX2_partsOfPosition_1 7 rfl rfl)
theorem dX2_partsOfPosition_30 : decode cX2_partsOfPosition 30 = .ok (.istore 4, 2) := dk_54 4 (dk_at dksX2_partsOfPosition_1 8 rfl rfl)
theorem dX2_partsOfPosition_32 : decode cX2_partsOfPosition 32 = .ok (.iconst 0, 1) := dk_3 (dk_at dksX2_partsOfPosition_1 10 rfl rfl)
theorem dX2_partsOfPosition_33 : decode cX2_partsOfPosition 33 = .ok (.istore 5, 2) := dk_54 5 (dk_at dksX2_partsOfPosition_1 11 rfl rfl)
theorem dX2_partsOfPosition_35 : decode cX2_partsOfPosition 35 = .ok (.iload 5, 2) := dk_21 5 (dk_at dksX2_partsOfPosition_1 13 rfl rfl)
theorem dX2_partsOfPosition_37 : decode cX2_partsOfPosition 37 = .ok (.iload_n 3, 1) := dk_29 (dk_at dksX2_partsOfPosition_1 15 rfl rfl)
theorem dX2_partsOfPosition_38 : decode cX2_partsOfPosition 38 = .ok (.if_icmp .ge 39, 3) := dk_162 0 39 (dk_at dksX2_partsOfPosition_1 16 rfl rfl)
theorem dX2_partsOfPosition_41 : decode cX2_partsOfPosition 41 = .ok (.iload_n 2, 1) := dk_28 (dk_at dksX2_partsOfPosition_1 19 rfl rfl)
theorem dX2_partsOfPosition_42 : decode cX2_partsOfPosition 42 = .ok (.iconst 5, 1) := dk_8 (dk_at dksX2_partsOfPosition_1 20 rfl rfl)
theorem dX2_partsOfPosition_43 : decode cX2_partsOfPosition 43 = .ok (.if_icmp .ne 34, 3) := dk_160 0 34 (dk_at dksX2_partsOfPosition_1 21 rfl rfl)
theorem dX2_partsOfPosition_46 : decode cX2_partsOfPosition 46 = .ok (.aload_n 0, 1) := dk_42 (dk_at dksX2_partsOfPosition_2 0 rfl rfl)
theorem dX2_partsOfPosition_47 : decode cX2_partsOfPosition 47 = .ok (.iload 5, 2) := dk_21 5 (dk_at dksX2_partsOfPosition_2 1 rfl rfl)
theorem dX2_partsOfPosition_49 : decode cX2_partsOfPosition 49 = .ok (.invokevirtual 166, 3) := dk_182 0 166 (dk_at dksX2_partsOfPosition_2 3 rfl rfl)
theorem dX2_partsOfPosition_52 : decode cX2_partsOfPosition 52 = .ok (.iload 4, 2) := dk_21 4 (dk_at dksX2_partsOfPosition_2 6 rfl rfl)
theorem dX2_partsOfPosition_54 : decode cX2_partsOfPosition 54 = .ok (.aload_n 0, 1) := dk_42 (dk_at dksX2_partsOfPosition_2 8 rfl rfl)
theorem dX2_partsOfPosition_55 : decode cX2_partsOfPosition 55 = .ok (.getfield 38, 3) := dk_180 0 38 (dk_at dksX2_partsOfPosition_2 9 rfl rfl)
theorem dX2_partsOfPosition_58 : decode cX2_partsOfPosition 58 = .ok (.iload_n 1, 1) := dk_27 (dk_at dksX2_partsOfPosition_2 12 rfl rfl)
theorem dX2_partsOfPosition_59 : decode cX2_partsOfPosition 59 = .ok (.baload, 1) := dk_51 (dk_at dksX2_partsOfPosition_2 13 rfl rfl)
theorem dX2_partsOfPosition_60 : decode cX2_partsOfPosition 60 = .ok (.ifCond .eq 7, 3) := dk_153 0 7 (dk_at dksX2_partsOfPosition_2 14 rfl rfl)
theorem dX2_partsOfPosition_63 : decode cX2_partsOfPosition 63 = .ok (.iconst 1, 1) := dk_4 (dk_at dksX2_partsOfPosition_2 17 rfl rfl)
theorem dX2_partsOfPosition_64 : decode cX2_partsOfPosition 64 = .ok (.goto 4, 3) := dk_167 0 4 (dk_at dksX2_partsOfPosition_2 18 rfl rfl)
theorem dX2_partsOfPosition_67 : decode cX2_partsOfPosition 67 = .ok (.iconst 0, 1) := dk_3 (dk_at dksX2_partsOfPosition_2 21 rfl rfl)
theorem dX2_partsOfPosition_68 : decode cX2_partsOfPosition 68 = .ok (.iadd, 1) := dk_96 (dk_at dksX2_partsOfPosition_2 22 rfl rfl)
theorem dX2_partsOfPosition_69 : decode cX2_partsOfPosition 69 = .ok (.istore 4, 2) := dk_54 4 (dk_at dksX2_partsOfPosition_3 0 rfl rfl)
theorem dX2_partsOfPosition_71 : decode cX2_partsOfPosition 71 = .ok (.iinc 5 1, 3) := dk_132 5 1 (dk_at dksX2_partsOfPosition_3 2 rfl rfl)
theorem dX2_partsOfPosition_74 : decode cX2_partsOfPosition 74 = .ok (.goto (-39), 3) := dk_167 255 217 (dk_at dksX2_partsOfPosition_3 5 rfl rfl)
theorem dX2_partsOfPosition_77 : decode cX2_partsOfPosition 77 = .ok (.iload 4, 2) := dk_21 4 (dk_at dksX2_partsOfPosition_3 8 rfl rfl)
theorem dX2_partsOfPosition_79 : decode cX2_partsOfPosition 79 = .ok (.ireturn, 1) := dk_172 (dk_at dksX2_partsOfPosition_3 10 rfl rfl)
abbrev cX2_weakest : ByteArray := prog_6_method_55_code
def yX2_weakest : MethodName := ⟨RX2, "weakest", "(I)I"⟩
def dkwX2_weakest_3 : List UInt8 := [182, 0, 207, 162, 0, 7, 29, 167, 0, 4, 28, 61, 132, 3, 1, 167, 255, 225, 28, 172]
abbrev dktX2_weakest_3 : List UInt8 := dkwX2_weakest_3 ++ []
def dkwX2_weakest_2 : List UInt8 := [192, 0, 63, 182, 0, 65, 62, 29, 42, 27, 182, 0, 117, 163, 0, 28, 42, 29, 182, 0, 207, 42, 28]
abbrev dktX2_weakest_2 : List UInt8 := dkwX2_weakest_2 ++ dktX2_weakest_3
def dkwX2_weakest_1 : List UInt8 := [185, 0, 59, 2, 0, 192, 0, 63, 182, 0, 65, 61, 42, 180, 0, 20, 27, 185, 0, 59, 2, 0]
abbrev dktX2_weakest_1 : List UInt8 := dkwX2_weakest_1 ++ dktX2_weakest_2
def dkwX2_weakest_0 : List UInt8 := [42, 42, 27, 182, 0, 189, 4, 4, 182, 0, 75, 154, 0, 5, 3, 172, 42, 180, 0, 20, 27]
abbrev dktX2_weakest_0 : List UInt8 := dkwX2_weakest_0 ++ dktX2_weakest_1
theorem dksX2_weakest_0 : cX2_weakest.data.toList.drop 0 = dktX2_weakest_0 := by decide +kernel
theorem dksX2_weakest_1 : cX2_weakest.data.toList.drop 21 = dktX2_weakest_1 := dk_seg dksX2_weakest_0 21 rfl rfl
theorem dksX2_weakest_2 : cX2_weakest.data.toList.drop 43 = dktX2_weakest_2 := dk_seg dksX2_weakest_1 22 rfl rfl
theorem dksX2_weakest_3 : cX2_weakest.data.toList.drop 66 = dktX2_weakest_3 := dk_seg dksX2_weakest_2 23 rfl rfl
theorem dX2_weakest_0 : decode cX2_weakest 0 = .ok (.aload_n 0, 1) := dk_42 (dk_at dksX2_weakest_0 0 rfl rfl)
theorem dX2_weakest_1 : decode cX2_weakest 1 = .ok (.aload_n 0, 1) := dk_42 (dk_at dksX2_weakest_0 1 rfl rfl)
theorem dX2_weakest_2 : decode cX2_weakest 2 = .ok (.iload_n 1, 1) := dk_27 (dk_at dksX2_weakest_0 2 rfl rfl)
theorem dX2_weakest_3 : decode cX2_weakest 3 = .ok (.invokevirtual 189, 3) := dk_182 0 189 (dk_at dksX2_weakest_0 3 rfl rfl)
theorem dX2_weakest_6 : decode cX2_weakest 6 = .ok (.iconst 1, 1) := dk_4 (dk_at dksX2_weakest_0 6 rfl rfl)
theorem dX2_weakest_7 : decode cX2_weakest 7 = .ok (.iconst 1, 1) := dk_4 (dk_at dksX2_weakest_0 7 rfl rfl)
theorem dX2_weakest_8 : decode cX2_weakest 8 = .ok (.invokevirtual 75, 3) := dk_182 0 75 (dk_at dksX2_weakest_0 8 rfl rfl)
theorem dX2_weakest_11 : decode cX2_weakest 11 = .ok (.ifCond .ne 5, 3) := dk_154 0 5 (dk_at dksX2_weakest_0 11 rfl rfl)
theorem dX2_weakest_14 : decode cX2_weakest 14 = .ok (.iconst 0, 1) := dk_3 (dk_at dksX2_weakest_0 14 rfl rfl)
theorem dX2_weakest_15 : decode cX2_weakest 15 = .ok (.ireturn, 1) := dk_172 (dk_at dksX2_weakest_0 15 rfl rfl)
theorem dX2_weakest_16 : decode cX2_weakest 16 = .ok (.aload_n 0, 1) := dk_42 (dk_at dksX2_weakest_0 16 rfl rfl)
theorem dX2_weakest_17 : decode cX2_weakest 17 = .ok (.getfield 20, 3) := dk_180 0 20 (dk_at dksX2_weakest_0 17 rfl rfl)
theorem dX2_weakest_20 : decode cX2_weakest 20 = .ok (.iload_n 1, 1) := dk_27 (dk_at dksX2_weakest_0 20 rfl rfl)
theorem dX2_weakest_21 : decode cX2_weakest 21 = .ok (.invokeinterface 59 2, 5) := by decide +kernel
theorem dX2_weakest_26 : decode cX2_weakest 26 = .ok (.checkcast 63, 3) := dk_192 0 63 (dk_at dksX2_weakest_1 5 rfl rfl)
theorem dX2_weakest_29 : decode cX2_weakest 29 = .ok (.invokevirtual 65, 3) := dk_182 0 65 (dk_at dksX2_weakest_1 8 rfl rfl)
theorem dX2_weakest_32 : decode cX2_weakest 32 = .ok (.istore_n 2, 1) := dk_61 (dk_at dksX2_weakest_1 11 rfl rfl)
theorem dX2_weakest_33 : decode cX2_weakest 33 = .ok (.aload_n 0, 1) := dk_42 (dk_at dksX2_weakest_1 12 rfl rfl)
theorem dX2_weakest_34 : decode cX2_weakest 34 = .ok (.getfield 20, 3) := dk_180 0 20 (dk_at dksX2_weakest_1 13 rfl rfl)
theorem dX2_weakest_37 : decode cX2_weakest 37 = .ok (.iload_n 1, 1) := dk_27 (dk_at dksX2_weakest_1 16 rfl rfl)
theorem dX2_weakest_38 : decode cX2_weakest 38 = .ok (.invokeinterface 59 2, 5) := by decide +kernel
theorem dX2_weakest_43 : decode cX2_weakest 43 = .ok (.checkcast 63, 3) := dk_192 0 63 (dk_at dksX2_weakest_2 0 rfl rfl)
theorem dX2_weakest_46 : decode cX2_weakest 46 = .ok (.invokevirtual 65, 3) := dk_182 0 65 (dk_at dksX2_weakest_2 3 rfl rfl)
theorem dX2_weakest_49 : decode cX2_weakest 49 = .ok (.istore_n 3, 1) := dk_62 (dk_at dksX2_weakest_2 6 rfl rfl)
theorem dX2_weakest_50 : decode cX2_weakest 50 = .ok (.iload_n 3, 1) := dk_29 (dk_at dksX2_weakest_2 7 rfl rfl)
theorem dX2_weakest_51 : decode cX2_weakest 51 = .ok (.aload_n 0, 1) := dk_42 (dk_at dksX2_weakest_2 8 rfl rfl)
theorem dX2_weakest_52 : decode cX2_weakest 52 = .ok (.iload_n 1, 1) := dk_27 (dk_at dksX2_weakest_2 9 rfl rfl)
theorem dX2_weakest_53 : decode cX2_weakest 53 = .ok (.invokevirtual 117, 3) := dk_182 0 117 (dk_at dksX2_weakest_2 10 rfl rfl)
theorem dX2_weakest_56 : decode cX2_weakest 56 = .ok (.if_icmp .gt 28, 3) := dk_163 0 28 (dk_at dksX2_weakest_2 13 rfl rfl)
theorem dX2_weakest_59 : decode cX2_weakest 59 = .ok (.aload_n 0, 1) := dk_42 (dk_at dksX2_weakest_2 16 rfl rfl)
theorem dX2_weakest_60 : decode cX2_weakest 60 = .ok (.iload_n 3, 1) := dk_29 (dk_at dksX2_weakest_2 17 rfl rfl)
theorem dX2_weakest_61 : decode cX2_weakest 61 = .ok (.invokevirtual 207, 3) := dk_182 0 207 (dk_at dksX2_weakest_2 18 rfl rfl)
theorem dX2_weakest_64 : decode cX2_weakest 64 = .ok (.aload_n 0, 1) := dk_42 (dk_at dksX2_weakest_2 21 rfl rfl)
theorem dX2_weakest_65 : decode cX2_weakest 65 = .ok (.iload_n 2, 1) := dk_28 (dk_at dksX2_weakest_2 22 rfl rfl)
theorem dX2_weakest_66 : decode cX2_weakest 66 = .ok (.invokevirtual 207, 3) := dk_182 0 207 (dk_at dksX2_weakest_3 0 rfl rfl)
theorem dX2_weakest_69 : decode cX2_weakest 69 = .ok (.if_icmp .ge 7, 3) := dk_162 0 7 (dk_at dksX2_weakest_3 3 rfl rfl)
theorem dX2_weakest_72 : decode cX2_weakest 72 = .ok (.iload_n 3, 1) := dk_29 (dk_at dksX2_weakest_3 6 rfl rfl)
theorem dX2_weakest_73 : decode cX2_weakest 73 = .ok (.goto 4, 3) := dk_167 0 4 (dk_at dksX2_weakest_3 7 rfl rfl)
theorem dX2_weakest_76 : decode cX2_weakest 76 = .ok (.iload_n 2, 1) := dk_28 (dk_at dksX2_weakest_3 10 rfl rfl)
theorem dX2_weakest_77 : decode cX2_weakest 77 = .ok (.istore_n 2, 1) := dk_61 (dk_at dksX2_weakest_3 11 rfl rfl)
theorem dX2_weakest_78 : decode cX2_weakest 78 = .ok (.iinc 3 1, 3) := dk_132 3 1 (dk_at dksX2_weakest_3 12 rfl rfl)
theorem dX2_weakest_81 : decode cX2_weakest 81 = .ok (.goto (-31), 3) := dk_167 255 225 (dk_at dksX2_weakest_3 15 rfl rfl)
theorem dX2_weakest_84 : decode cX2_weakest 84 = .ok (.iload_n 2, 1) := dk_28 (dk_at dksX2_weakest_3 18 rfl rfl)
theorem dX2_weakest_85 : decode cX2_weakest 85 = .ok (.ireturn, 1) := dk_172 (dk_at dksX2_weakest_3 19 rfl rfl)
abbrev cX2_spare : ByteArray := prog_6_method_54_code
def yX2_spare : MethodName := ⟨RX2, "spare", "(I)I"⟩
def dkwX2_spare_0 : List UInt8 := [42, 27, 182, 0, 186, 42, 27, 3, 4, 182, 0, 183, 100, 172]
abbrev dktX2_spare_0 : List UInt8 := dkwX2_spare_0 ++ []
theorem dksX2_spare_0 : cX2_spare.data.toList.drop 0 = dktX2_spare_0 := by decide +kernel
theorem dX2_spare_0 : decode cX2_spare 0 = .ok (.aload_n 0, 1) := dk_42 (dk_at dksX2_spare_0 0 rfl rfl)
theorem dX2_spare_1 : decode cX2_spare 1 = .ok (.iload_n 1, 1) := dk_27 (dk_at dksX2_spare_0 1 rfl rfl)
theorem dX2_spare_2 : decode cX2_spare 2 = .ok (.invokevirtual 186, 3) := dk_182 0 186 (dk_at dksX2_spare_0 2 rfl rfl)
theorem dX2_spare_5 : decode cX2_spare 5 = .ok (.aload_n 0, 1) := dk_42 (dk_at dksX2_spare_0 5 rfl rfl)
theorem dX2_spare_6 : decode cX2_spare 6 = .ok (.iload_n 1, 1) := dk_27 (dk_at dksX2_spare_0 6 rfl rfl)
theorem dX2_spare_7 : decode cX2_spare 7 = .ok (.iconst 0, 1) := dk_3 (dk_at dksX2_spare_0 7 rfl rfl)
theorem dX2_spare_8 : decode cX2_spare 8 = .ok (.iconst 1, 1) := dk_4 (dk_at dksX2_spare_0 8 rfl rfl)
theorem dX2_spare_9 : decode cX2_spare 9 = .ok (.invokevirtual 183, 3) := dk_182 0 183 (dk_at dksX2_spare_0 9 rfl rfl)
theorem dX2_spare_12 : decode cX2_spare 12 = .ok (.isub, 1) := dk_100 (dk_at dksX2_spare_0 12 rfl rfl)
theorem dX2_spare_13 : decode cX2_spare 13 = .ok (.ireturn, 1) := dk_172 (dk_at dksX2_spare_0 13 rfl rfl)
abbrev cX2_mostClass : ByteArray := prog_6_method_56_code
def yX2_mostClass : MethodName := ⟨RX2, "mostClass", "(II)I"⟩
def dkwX2_mostClass_5 : List UInt8 := [21, 5, 172]
abbrev dktX2_mostClass_5 : List UInt8 := dkwX2_mostClass_5 ++ []
def dkwX2_mostClass_4 : List UInt8 := [155, 0, 8, 21, 6, 167, 0, 5, 21, 5, 54, 5, 132, 6, 1, 167, 255, 214, 45, 28, 21, 4, 79]
abbrev dktX2_mostClass_4 : List UInt8 := dkwX2_mostClass_4 ++ dktX2_mostClass_5
def dkwX2_mostClass_3 : List UInt8 := [163, 0, 41, 45, 28, 21, 6, 79, 42, 27, 182, 0, 207, 155, 0, 18, 42, 27, 4, 96, 182, 0, 207]
abbrev dktX2_mostClass_3 : List UInt8 := dkwX2_mostClass_3 ++ dktX2_mostClass_4
def dkwX2_mostClass_2 : List UInt8 := [192, 0, 87, 180, 0, 145, 78, 45, 28, 46, 54, 4, 2, 54, 5, 3, 54, 6, 21, 6, 16, 6]
abbrev dktX2_mostClass_2 : List UInt8 := dkwX2_mostClass_2 ++ dktX2_mostClass_3
def dkwX2_mostClass_1 : List UInt8 := [182, 0, 137, 4, 182, 0, 75, 154, 0, 5, 3, 172, 42, 180, 0, 16, 27, 185, 0, 59, 2, 0]
abbrev dktX2_mostClass_1 : List UInt8 := dkwX2_mostClass_1 ++ dktX2_mostClass_2
def dkwX2_mostClass_0 : List UInt8 := [42, 42, 27, 182, 0, 92, 153, 0, 14, 28, 184, 0, 134, 153, 0, 7, 4, 167, 0, 4, 3, 42, 27, 28]
abbrev dktX2_mostClass_0 : List UInt8 := dkwX2_mostClass_0 ++ dktX2_mostClass_1
theorem dksX2_mostClass_0 : cX2_mostClass.data.toList.drop 0 = dktX2_mostClass_0 := by decide +kernel
theorem dksX2_mostClass_1 : cX2_mostClass.data.toList.drop 24 = dktX2_mostClass_1 := dk_seg dksX2_mostClass_0 24 rfl rfl
theorem dksX2_mostClass_2 : cX2_mostClass.data.toList.drop 46 = dktX2_mostClass_2 := dk_seg dksX2_mostClass_1 22 rfl rfl
theorem dksX2_mostClass_3 : cX2_mostClass.data.toList.drop 68 = dktX2_mostClass_3 := dk_seg dksX2_mostClass_2 22 rfl rfl
theorem dksX2_mostClass_4 : cX2_mostClass.data.toList.drop 91 = dktX2_mostClass_4 := dk_seg dksX2_mostClass_3 23 rfl rfl
theorem dksX2_mostClass_5 : cX2_mostClass.data.toList.drop 114 = dktX2_mostClass_5 := dk_seg dksX2_mostClass_4 23 rfl rfl
theorem dX2_mostClass_0 : decode cX2_mostClass 0 = .ok (.aload_n 0, 1) := dk_42 (dk_at dksX2_mostClass_0 0 rfl rfl)
theorem dX2_mostClass_1 : decode cX2_mostClass 1 = .ok (.aload_n 0, 1) := dk_42 (dk_at dksX2_mostClass_0 1 rfl rfl)
theorem dX2_mostClass_2 : decode cX2_mostClass 2 = .ok (.iload_n 1, 1) := dk_27 (dk_at dksX2_mostClass_0 2 rfl rfl)
theorem dX2_mostClass_3 : decode cX2_mostClass 3 = .ok (.invokevirtual 92, 3) := dk_182 0 92 (dk_at dksX2_mostClass_0 3 rfl rfl)
theorem dX2_mostClass_6 : decode cX2_mostClass 6 = .ok (.ifCond .eq 14, 3) := dk_153 0 14 (dk_at dksX2_mostClass_0 6 rfl rfl)
theorem dX2_mostClass_9 : decode cX2_mostClass 9 = .ok (.iload_n 2, 1) := dk_28 (dk_at dksX2_mostClass_0 9 rfl rfl)
theorem dX2_mostClass_10 : decode cX2_mostClass 10 = .ok (.invokestatic 134, 3) := dk_184 0 134 (dk_at dksX2_mostClass_0 10 rfl rfl)
theorem dX2_mostClass_13 : decode cX2_mostClass 13 = .ok (.ifCond .eq 7, 3) := dk_153 0 7 (dk_at dksX2_mostClass_0 13 rfl rfl)
theorem dX2_mostClass_16 : decode cX2_mostClass 16 = .ok (.iconst 1, 1) := dk_4 (dk_at dksX2_mostClass_0 16 rfl rfl)
theorem dX2_mostClass_17 : decode cX2_mostClass 17 = .ok (.goto 4, 3) := dk_167 0 4 (dk_at dksX2_mostClass_0 17 rfl rfl)
theorem dX2_mostClass_20 : decode cX2_mostClass 20 = .ok (.iconst 0, 1) := dk_3 (dk_at dksX2_mostClass_0 20 rfl rfl)
theorem dX2_mostClass_21 : decode cX2_mostClass 21 = .ok (.aload_n 0, 1) := dk_42 (dk_at dksX2_mostClass_0 21 rfl rfl)
theorem dX2_mostClass_22 : decode cX2_mostClass 22 = .ok (.iload_n 1, 1) := dk_27 (dk_at dksX2_mostClass_0 22 rfl rfl)
theorem dX2_mostClass_23 : decode cX2_mostClass 23 = .ok (.iload_n 2, 1) := dk_28 (dk_at dksX2_mostClass_0 23 rfl rfl)
theorem dX2_mostClass_24 : decode cX2_mostClass 24 = .ok (.invokevirtual 137, 3) := dk_182 0 137 (dk_at dksX2_mostClass_1 0 rfl rfl)
theorem dX2_mostClass_27 : decode cX2_mostClass 27 = .ok (.iconst 1, 1) := dk_4 (dk_at dksX2_mostClass_1 3 rfl rfl)
theorem dX2_mostClass_28 : decode cX2_mostClass 28 = .ok (.invokevirtual 75, 3) := dk_182 0 75 (dk_at dksX2_mostClass_1 4 rfl rfl)
theorem dX2_mostClass_31 : decode cX2_mostClass 31 = .ok (.ifCond .ne 5, 3) := dk_154 0 5 (dk_at dksX2_mostClass_1 7 rfl rfl)
theorem dX2_mostClass_34 : decode cX2_mostClass 34 = .ok (.iconst 0, 1) := dk_3 (dk_at dksX2_mostClass_1 10 rfl rfl)
theorem dX2_mostClass_35 : decode cX2_mostClass 35 = .ok (.ireturn, 1) := dk_172 (dk_at dksX2_mostClass_1 11 rfl rfl)
theorem dX2_mostClass_36 : decode cX2_mostClass 36 = .ok (.aload_n 0, 1) := dk_42 (dk_at dksX2_mostClass_1 12 rfl rfl)
theorem dX2_mostClass_37 : decode cX2_mostClass 37 = .ok (.getfield 16, 3) := dk_180 0 16 (dk_at dksX2_mostClass_1 13 rfl rfl)
theorem dX2_mostClass_40 : decode cX2_mostClass 40 = .ok (.iload_n 1, 1) := dk_27 (dk_at dksX2_mostClass_1 16 rfl rfl)
theorem dX2_mostClass_41 : decode cX2_mostClass 41 = .ok (.invokeinterface 59 2, 5) := by decide +kernel
theorem dX2_mostClass_46 : decode cX2_mostClass 46 = .ok (.checkcast 87, 3) := dk_192 0 87 (dk_at dksX2_mostClass_2 0 rfl rfl)
theorem dX2_mostClass_49 : decode cX2_mostClass 49 = .ok (.getfield 145, 3) := dk_180 0 145 (dk_at dksX2_mostClass_2 3 rfl rfl)
theorem dX2_mostClass_52 : decode cX2_mostClass 52 = .ok (.astore_n 3, 1) := dk_78 (dk_at dksX2_mostClass_2 6 rfl rfl)
theorem dX2_mostClass_53 : decode cX2_mostClass 53 = .ok (.aload_n 3, 1) := dk_45 (dk_at dksX2_mostClass_2 7 rfl rfl)
theorem dX2_mostClass_54 : decode cX2_mostClass 54 = .ok (.iload_n 2, 1) := dk_28 (dk_at dksX2_mostClass_2 8 rfl rfl)
theorem dX2_mostClass_55 : decode cX2_mostClass 55 = .ok (.iaload, 1) := dk_46 (dk_at dksX2_mostClass_2 9 rfl rfl)
theorem dX2_mostClass_56 : decode cX2_mostClass 56 = .ok (.istore 4, 2) := dk_54 4 (dk_at dksX2_mostClass_2 10 rfl rfl)
theorem dX2_mostClass_58 : decode cX2_mostClass 58 = .ok (.iconst (-1), 1) := dk_2 (dk_at dksX2_mostClass_2 12 rfl rfl)
theorem dX2_mostClass_59 : decode cX2_mostClass 59 = .ok (.istore 5, 2) := dk_54 5 (dk_at dksX2_mostClass_2 13 rfl rfl)
theorem dX2_mostClass_61 : decode cX2_mostClass 61 = .ok (.iconst 0, 1) := dk_3 (dk_at dksX2_mostClass_2 15 rfl rfl)
theorem dX2_mostClass_62 : decode cX2_mostClass 62 = .ok (.istore 6, 2) := dk_54 6 (dk_at dksX2_mostClass_2 16 rfl rfl)
theorem dX2_mostClass_64 : decode cX2_mostClass 64 = .ok (.iload 6, 2) := dk_21 6 (dk_at dksX2_mostClass_2 18 rfl rfl)
theorem dX2_mostClass_66 : decode cX2_mostClass 66 = .ok (.bipush 6, 2) := dk_16 6 (dk_at dksX2_mostClass_2 20 rfl rfl)
theorem dX2_mostClass_68 : decode cX2_mostClass 68 = .ok (.if_icmp .gt 41, 3) := dk_163 0 41 (dk_at dksX2_mostClass_3 0 rfl rfl)
theorem dX2_mostClass_71 : decode cX2_mostClass 71 = .ok (.aload_n 3, 1) := dk_45 (dk_at dksX2_mostClass_3 3 rfl rfl)
theorem dX2_mostClass_72 : decode cX2_mostClass 72 = .ok (.iload_n 2, 1) := dk_28 (dk_at dksX2_mostClass_3 4 rfl rfl)
theorem dX2_mostClass_73 : decode cX2_mostClass 73 = .ok (.iload 6, 2) := dk_21 6 (dk_at dksX2_mostClass_3 5 rfl rfl)
theorem dX2_mostClass_75 : decode cX2_mostClass 75 = .ok (.iastore, 1) := dk_79 (dk_at dksX2_mostClass_3 7 rfl rfl)
theorem dX2_mostClass_76 : decode cX2_mostClass 76 = .ok (.aload_n 0, 1) := dk_42 (dk_at dksX2_mostClass_3 8 rfl rfl)
theorem dX2_mostClass_77 : decode cX2_mostClass 77 = .ok (.iload_n 1, 1) := dk_27 (dk_at dksX2_mostClass_3 9 rfl rfl)
theorem dX2_mostClass_78 : decode cX2_mostClass 78 = .ok (.invokevirtual 207, 3) := dk_182 0 207 (dk_at dksX2_mostClass_3 10 rfl rfl)
theorem dX2_mostClass_81 : decode cX2_mostClass 81 = .ok (.ifCond .lt 18, 3) := dk_155 0 18 (dk_at dksX2_mostClass_3 13 rfl rfl)
theorem dX2_mostClass_84 : decode cX2_mostClass 84 = .ok (.aload_n 0, 1) := dk_42 (dk_at dksX2_mostClass_3 16 rfl rfl)
theorem dX2_mostClass_85 : decode cX2_mostClass 85 = .ok (.iload_n 1, 1) := dk_27 (dk_at dksX2_mostClass_3 17 rfl rfl)
theorem dX2_mostClass_86 : decode cX2_mostClass 86 = .ok (.iconst 1, 1) := dk_4 (dk_at dksX2_mostClass_3 18 rfl rfl)
theorem dX2_mostClass_87 : decode cX2_mostClass 87 = .ok (.iadd, 1) := dk_96 (dk_at dksX2_mostClass_3 19 rfl rfl)
theorem dX2_mostClass_88 : decode cX2_mostClass 88 = .ok (.invokevirtual 207, 3) := dk_182 0 207 (dk_at dksX2_mostClass_3 20 rfl rfl)
theorem dX2_mostClass_91 : decode cX2_mostClass 91 = .ok (.ifCond .lt 8, 3) := dk_155 0 8 (dk_at dksX2_mostClass_4 0 rfl rfl)
theorem dX2_mostClass_94 : decode cX2_mostClass 94 = .ok (.iload 6, 2) := dk_21 6 (dk_at dksX2_mostClass_4 3 rfl rfl)
theorem dX2_mostClass_96 : decode cX2_mostClass 96 = .ok (.goto 5, 3) := dk_167 0 5 (dk_at dksX2_mostClass_4 5 rfl rfl)
theorem dX2_mostClass_99 : decode cX2_mostClass 99 = .ok (.iload 5, 2) := dk_21 5 (dk_at dksX2_mostClass_4 8 rfl rfl)
theorem dX2_mostClass_101 : decode cX2_mostClass 101 = .ok (.istore 5, 2) := dk_54 5 (dk_at dksX2_mostClass_4 10 rfl rfl)
theorem dX2_mostClass_103 : decode cX2_mostClass 103 = .ok (.iinc 6 1, 3) := dk_132 6 1 (dk_at dksX2_mostClass_4 12 rfl rfl)
theorem dX2_mostClass_106 : decode cX2_mostClass 106 = .ok (.goto (-42), 3) := dk_167 255 214 (dk_at dksX2_mostClass_4 15 rfl rfl)
theorem dX2_mostClass_109 : decode cX2_mostClass 109 = .ok (.aload_n 3, 1) := dk_45 (dk_at dksX2_mostClass_4 18 rfl rfl)
theorem dX2_mostClass_110 : decode cX2_mostClass 110 = .ok (.iload_n 2, 1) := dk_28 (dk_at dksX2_mostClass_4 19 rfl rfl)
theorem dX2_mostClass_111 : decode cX2_mostClass 111 = .ok (.iload 4, 2) := dk_21 4 (dk_at dksX2_mostClass_4 20 rfl rfl)
theorem dX2_mostClass_113 : decode cX2_mostClass 113 = .ok (.iastore, 1) := dk_79 (dk_at dksX2_mostClass_4 22 rfl rfl)
theorem dX2_mostClass_114 : decode cX2_mostClass 114 = .ok (.iload 5, 2) := dk_21 5 (dk_at dksX2_mostClass_5 0 rfl rfl)
theorem dX2_mostClass_116 : decode cX2_mostClass 116 = .ok (.ireturn, 1) := dk_172 (dk_at dksX2_mostClass_5 2 rfl rfl)
abbrev cX2_counts : ByteArray := prog_6_method_61_code
def yX2_counts : MethodName := ⟨RX2, "counts", "(I)I"⟩
def dkwX2_counts_5 : List UInt8 := [182, 0, 219, 172, 42, 5, 182, 0, 210, 172]
abbrev dktX2_counts_5 : List UInt8 := dkwX2_counts_5 ++ []
def dkwX2_counts_4 : List UInt8 := [42, 3, 182, 0, 210, 172, 42, 4, 182, 0, 210, 172, 42, 182, 0, 213, 172, 42, 182, 0, 216, 172, 42]
abbrev dktX2_counts_4 : List UInt8 := dkwX2_counts_4 ++ dktX2_counts_5
def dkwX2_counts_3 : List UInt8 := [185, 0, 55, 1, 0, 153, 0, 7, 3, 167, 0, 14, 42, 180, 0, 16, 185, 0, 45, 1, 0, 4, 96, 172]
abbrev dktX2_counts_3 : List UInt8 := dkwX2_counts_3 ++ dktX2_counts_4
def dkwX2_counts_2 : List UInt8 := [42, 180, 0, 20, 185, 0, 45, 1, 0, 172, 42, 180, 0, 16, 185, 0, 45, 1, 0, 172, 42, 180, 0, 16]
abbrev dktX2_counts_2 : List UInt8 := dkwX2_counts_2 ++ dktX2_counts_3
def dkwX2_counts_1 : List UInt8 := [170, 0, 0, 0, 120, 0, 0, 0, 0, 0, 0, 0, 7, 0, 0, 0, 45, 0, 0, 0, 55, 0, 0, 0, 65, 0, 0, 0, 93, 0, 0, 0, 99, 0, 0, 0, 105, 0, 0, 0, 110, 0, 0, 0, 115]
abbrev dktX2_counts_1 : List UInt8 := dkwX2_counts_1 ++ dktX2_counts_2
def dkwX2_counts_0 : List UInt8 := [42, 27, 3, 16, 8, 184, 0, 51, 4, 4, 182, 0, 75, 154, 0, 5, 3, 172, 27]
abbrev dktX2_counts_0 : List UInt8 := dkwX2_counts_0 ++ dktX2_counts_1
theorem dksX2_counts_0 : cX2_counts.data.toList.drop 0 = dktX2_counts_0 := by decide +kernel
theorem dksX2_counts_1 : cX2_counts.data.toList.drop 19 = dktX2_counts_1 := dk_seg dksX2_counts_0 19 rfl rfl
theorem dksX2_counts_2 : cX2_counts.data.toList.drop 64 = dktX2_counts_2 := dk_seg dksX2_counts_1 45 rfl rfl
theorem dksX2_counts_3 : cX2_counts.data.toList.drop 88 = dktX2_counts_3 := dk_seg dksX2_counts_2 24 rfl rfl
theorem dksX2_counts_4 : cX2_counts.data.toList.drop 112 = dktX2_counts_4 := dk_seg dksX2_counts_3 24 rfl rfl
theorem dksX2_counts_5 : cX2_counts.data.toList.drop 135 = dktX2_counts_5 := dk_seg dksX2_counts_4 23 rfl rfl
theorem dX2_counts_0 : decode cX2_counts 0 = .ok (.aload_n 0, 1) := dk_42 (dk_at dksX2_counts_0 0 rfl rfl)
theorem dX2_counts_1 : decode cX2_counts 1 = .ok (.iload_n 1, 1) := dk_27 (dk_at dksX2_counts_0 1 rfl rfl)
theorem dX2_counts_2 : decode cX2_counts 2 = .ok (.iconst 0, 1) := dk_3 (dk_at dksX2_counts_0 2 rfl rfl)
theorem dX2_counts_3 : decode cX2_counts 3 = .ok (.bipush 8, 2) := dk_16 8 (dk_at dksX2_counts_0 3 rfl rfl)
theorem dX2_counts_5 : decode cX2_counts 5 = .ok (.invokestatic 51, 3) := dk_184 0 51 (dk_at dksX2_counts_0 5 rfl rfl)
theorem dX2_counts_8 : decode cX2_counts 8 = .ok (.iconst 1, 1) := dk_4 (dk_at dksX2_counts_0 8 rfl rfl)
theorem dX2_counts_9 : decode cX2_counts 9 = .ok (.iconst 1, 1) := dk_4 (dk_at dksX2_counts_0 9 rfl rfl)
theorem dX2_counts_10 : decode cX2_counts 10 = .ok (.invokevirtual 75, 3) := dk_182 0 75 (dk_at dksX2_counts_0 10 rfl rfl)
theorem dX2_counts_13 : decode cX2_counts 13 = .ok (.ifCond .ne 5, 3) := dk_154 0 5 (dk_at dksX2_counts_0 13 rfl rfl)
theorem dX2_counts_16 : decode cX2_counts 16 = .ok (.iconst 0, 1) := dk_3 (dk_at dksX2_counts_0 16 rfl rfl)
theorem dX2_counts_17 : decode cX2_counts 17 = .ok (.ireturn, 1) := dk_172 (dk_at dksX2_counts_0 17 rfl rfl)
theorem dX2_counts_18 : decode cX2_counts 18 = .ok (.iload_n 1, 1) := dk_27 (dk_at dksX2_counts_0 18 rfl rfl)
theorem dX2_counts_19 : decode cX2_counts 19 = .ok (.tableswitch 120 0 7 #[45, 55, 65, 93, 99, 105, 110, 115], 45) := by decide +kernel
theorem dX2_counts_64 : decode cX2_counts 64 = .ok (.aload_n 0, 1) := dk_42 (dk_at dksX2_counts_2 0 rfl rfl)
theorem dX2_counts_65 : decode cX2_counts 65 = .ok (.getfield 20, 3) := dk_180 0 20 (dk_at dksX2_counts_2 1 rfl rfl)
theorem dX2_counts_68 : decode cX2_counts 68 = .ok (.invokeinterface 45 1, 5) := by decide +kernel
theorem dX2_counts_73 : decode cX2_counts 73 = .ok (.ireturn, 1) := dk_172 (dk_at dksX2_counts_2 9 rfl rfl)
theorem dX2_counts_74 : decode cX2_counts 74 = .ok (.aload_n 0, 1) := dk_42 (dk_at dksX2_counts_2 10 rfl rfl)
theorem dX2_counts_75 : decode cX2_counts 75 = .ok (.getfield 16, 3) := dk_180 0 16 (dk_at dksX2_counts_2 11 rfl rfl)
theorem dX2_counts_78 : decode cX2_counts 78 = .ok (.invokeinterface 45 1, 5) := by decide +kernel
theorem dX2_counts_83 : decode cX2_counts 83 = .ok (.ireturn, 1) := dk_172 (dk_at dksX2_counts_2 19 rfl rfl)
theorem dX2_counts_84 : decode cX2_counts 84 = .ok (.aload_n 0, 1) := dk_42 (dk_at dksX2_counts_2 20 rfl rfl)
theorem dX2_counts_85 : decode cX2_counts 85 = .ok (.getfield 16, 3) := dk_180 0 16 (dk_at dksX2_counts_2 21 rfl rfl)
theorem dX2_counts_88 : decode cX2_counts 88 = .ok (.invokeinterface 55 1, 5) := by decide +kernel
theorem dX2_counts_93 : decode cX2_counts 93 = .ok (.ifCond .eq 7, 3) := dk_153 0 7 (dk_at dksX2_counts_3 5 rfl rfl)
theorem dX2_counts_96 : decode cX2_counts 96 = .ok (.iconst 0, 1) := dk_3 (dk_at dksX2_counts_3 8 rfl rfl)
theorem dX2_counts_97 : decode cX2_counts 97 = .ok (.goto 14, 3) := dk_167 0 14 (dk_at dksX2_counts_3 9 rfl rfl)
theorem dX2_counts_100 : decode cX2_counts 100 = .ok (.aload_n 0, 1) := dk_42 (dk_at dksX2_counts_3 12 rfl rfl)
theorem dX2_counts_101 : decode cX2_counts 101 = .ok (.getfield 16, 3) := dk_180 0 16 (dk_at dksX2_counts_3 13 rfl rfl)
theorem dX2_counts_104 : decode cX2_counts 104 = .ok (.invokeinterface 45 1, 5) := by decide +kernel
theorem dX2_counts_109 : decode cX2_counts 109 = .ok (.iconst 1, 1) := dk_4 (dk_at dksX2_counts_3 21 rfl rfl)
theorem dX2_counts_110 : decode cX2_counts 110 = .ok (.iadd, 1) := dk_96 (dk_at dksX2_counts_3 22 rfl rfl)
theorem dX2_counts_111 : decode cX2_counts 111 = .ok (.ireturn, 1) := dk_172 (dk_at dksX2_counts_3 23 rfl rfl)
theorem dX2_counts_112 : decode cX2_counts 112 = .ok (.aload_n 0, 1) := dk_42 (dk_at dksX2_counts_4 0 rfl rfl)
theorem dX2_counts_113 : decode cX2_counts 113 = .ok (.iconst 0, 1) := dk_3 (dk_at dksX2_counts_4 1 rfl rfl)
theorem dX2_counts_114 : decode cX2_counts 114 = .ok (.invokevirtual 210, 3) := dk_182 0 210 (dk_at dksX2_counts_4 2 rfl rfl)
theorem dX2_counts_117 : decode cX2_counts 117 = .ok (.ireturn, 1) := dk_172 (dk_at dksX2_counts_4 5 rfl rfl)
theorem dX2_counts_118 : decode cX2_counts 118 = .ok (.aload_n 0, 1) := dk_42 (dk_at dksX2_counts_4 6 rfl rfl)
theorem dX2_counts_119 : decode cX2_counts 119 = .ok (.iconst 1, 1) := dk_4 (dk_at dksX2_counts_4 7 rfl rfl)
theorem dX2_counts_120 : decode cX2_counts 120 = .ok (.invokevirtual 210, 3) := dk_182 0 210 (dk_at dksX2_counts_4 8 rfl rfl)
theorem dX2_counts_123 : decode cX2_counts 123 = .ok (.ireturn, 1) := dk_172 (dk_at dksX2_counts_4 11 rfl rfl)
theorem dX2_counts_124 : decode cX2_counts 124 = .ok (.aload_n 0, 1) := dk_42 (dk_at dksX2_counts_4 12 rfl rfl)
theorem dX2_counts_125 : decode cX2_counts 125 = .ok (.invokevirtual 213, 3) := dk_182 0 213 (dk_at dksX2_counts_4 13 rfl rfl)
theorem dX2_counts_128 : decode cX2_counts 128 = .ok (.ireturn, 1) := dk_172 (dk_at dksX2_counts_4 16 rfl rfl)
theorem dX2_counts_129 : decode cX2_counts 129 = .ok (.aload_n 0, 1) := dk_42 (dk_at dksX2_counts_4 17 rfl rfl)
theorem dX2_counts_130 : decode cX2_counts 130 = .ok (.invokevirtual 216, 3) := dk_182 0 216 (dk_at dksX2_counts_4 18 rfl rfl)
theorem dX2_counts_133 : decode cX2_counts 133 = .ok (.ireturn, 1) := dk_172 (dk_at dksX2_counts_4 21 rfl rfl)
theorem dX2_counts_134 : decode cX2_counts 134 = .ok (.aload_n 0, 1) := dk_42 (dk_at dksX2_counts_4 22 rfl rfl)
theorem dX2_counts_135 : decode cX2_counts 135 = .ok (.invokevirtual 219, 3) := dk_182 0 219 (dk_at dksX2_counts_5 0 rfl rfl)
theorem dX2_counts_138 : decode cX2_counts 138 = .ok (.ireturn, 1) := dk_172 (dk_at dksX2_counts_5 3 rfl rfl)
theorem dX2_counts_139 : decode cX2_counts 139 = .ok (.aload_n 0, 1) := dk_42 (dk_at dksX2_counts_5 4 rfl rfl)
theorem dX2_counts_140 : decode cX2_counts 140 = .ok (.iconst 2, 1) := dk_5 (dk_at dksX2_counts_5 5 rfl rfl)
theorem dX2_counts_141 : decode cX2_counts 141 = .ok (.invokevirtual 210, 3) := dk_182 0 210 (dk_at dksX2_counts_5 6 rfl rfl)
theorem dX2_counts_144 : decode cX2_counts 144 = .ok (.ireturn, 1) := dk_172 (dk_at dksX2_counts_5 9 rfl rfl)
abbrev cX2_ofLevels : ByteArray := prog_6_method_57_code
def yX2_ofLevels : MethodName := ⟨RX2, "ofLevels", "(I)I"⟩
def dkwX2_ofLevels_4 : List UInt8 := [132, 3, 1, 167, 255, 163, 28, 172]
abbrev dktX2_ofLevels_4 : List UInt8 := dkwX2_ofLevels_4 ++ []
def dkwX2_ofLevels_3 : List UInt8 := [25, 4, 180, 0, 139, 21, 5, 51, 153, 0, 7, 4, 167, 0, 4, 3, 96, 61, 132, 5, 1, 167, 255, 200]
abbrev dktX2_ofLevels_3 : List UInt8 := dkwX2_ofLevels_3 ++ dktX2_ofLevels_4
def dkwX2_ofLevels_2 : List UInt8 := [27, 154, 0, 7, 4, 167, 0, 35, 27, 5, 160, 0, 14, 25, 4, 180, 0, 154, 21, 5, 46, 167, 0, 19]
abbrev dktX2_ofLevels_2 : List UInt8 := dkwX2_ofLevels_2 ++ dktX2_ofLevels_3
def dkwX2_ofLevels_1 : List UInt8 := [185, 0, 59, 2, 0, 192, 0, 87, 58, 4, 3, 54, 5, 21, 5, 25, 4, 180, 0, 105, 162, 0, 52, 28]
abbrev dktX2_ofLevels_1 : List UInt8 := dkwX2_ofLevels_1 ++ dktX2_ofLevels_2
def dkwX2_ofLevels_0 : List UInt8 := [3, 61, 3, 62, 29, 42, 180, 0, 16, 185, 0, 45, 1, 0, 162, 0, 86, 42, 180, 0, 16, 29]
abbrev dktX2_ofLevels_0 : List UInt8 := dkwX2_ofLevels_0 ++ dktX2_ofLevels_1
theorem dksX2_ofLevels_0 : cX2_ofLevels.data.toList.drop 0 = dktX2_ofLevels_0 := by decide +kernel
theorem dksX2_ofLevels_1 : cX2_ofLevels.data.toList.drop 22 = dktX2_ofLevels_1 := dk_seg dksX2_ofLevels_0 22 rfl rfl
theorem dksX2_ofLevels_2 : cX2_ofLevels.data.toList.drop 46 = dktX2_ofLevels_2 := dk_seg dksX2_ofLevels_1 24 rfl rfl
theorem dksX2_ofLevels_3 : cX2_ofLevels.data.toList.drop 70 = dktX2_ofLevels_3 := dk_seg dksX2_ofLevels_2 24 rfl rfl
theorem dksX2_ofLevels_4 : cX2_ofLevels.data.toList.drop 94 = dktX2_ofLevels_4 := dk_seg dksX2_ofLevels_3 24 rfl rfl
theorem dX2_ofLevels_0 : decode cX2_ofLevels 0 = .ok (.iconst 0, 1) := dk_3 (dk_at dksX2_ofLevels_0 0 rfl rfl)
theorem dX2_ofLevels_1 : decode cX2_ofLevels 1 = .ok (.istore_n 2, 1) := dk_61 (dk_at dksX2_ofLevels_0 1 rfl rfl)
theorem dX2_ofLevels_2 : decode cX2_ofLevels 2 = .ok (.iconst 0, 1) := dk_3 (dk_at dksX2_ofLevels_0 2 rfl rfl)
theorem dX2_ofLevels_3 : decode cX2_ofLevels 3 = .ok (.istore_n 3, 1) := dk_62 (dk_at dksX2_ofLevels_0 3 rfl rfl)
theorem dX2_ofLevels_4 : decode cX2_ofLevels 4 = .ok (.iload_n 3, 1) := dk_29 (dk_at dksX2_ofLevels_0 4 rfl rfl)
theorem dX2_ofLevels_5 : decode cX2_ofLevels 5 = .ok (.aload_n 0, 1) := dk_42 (dk_at dksX2_ofLevels_0 5 rfl rfl)
theorem dX2_ofLevels_6 : decode cX2_ofLevels 6 = .ok (.getfield 16, 3) := dk_180 0 16 (dk_at dksX2_ofLevels_0 6 rfl rfl)
theorem dX2_ofLevels_9 : decode cX2_ofLevels 9 = .ok (.invokeinterface 45 1, 5) := by decide +kernel
theorem dX2_ofLevels_14 : decode cX2_ofLevels 14 = .ok (.if_icmp .ge 86, 3) := dk_162 0 86 (dk_at dksX2_ofLevels_0 14 rfl rfl)
theorem dX2_ofLevels_17 : decode cX2_ofLevels 17 = .ok (.aload_n 0, 1) := dk_42 (dk_at dksX2_ofLevels_0 17 rfl rfl)
theorem dX2_ofLevels_18 : decode cX2_ofLevels 18 = .ok (.getfield 16, 3) := dk_180 0 16 (dk_at dksX2_ofLevels_0 18 rfl rfl)
theorem dX2_ofLevels_21 : decode cX2_ofLevels 21 = .ok (.iload_n 3, 1) := dk_29 (dk_at dksX2_ofLevels_0 21 rfl rfl)
theorem dX2_ofLevels_22 : decode cX2_ofLevels 22 = .ok (.invokeinterface 59 2, 5) := by decide +kernel
theorem dX2_ofLevels_27 : decode cX2_ofLevels 27 = .ok (.checkcast 87, 3) := dk_192 0 87 (dk_at dksX2_ofLevels_1 5 rfl rfl)
theorem dX2_ofLevels_30 : decode cX2_ofLevels 30 = .ok (.astore 4, 2) := dk_58 4 (dk_at dksX2_ofLevels_1 8 rfl rfl)
theorem dX2_ofLevels_32 : decode cX2_ofLevels 32 = .ok (.iconst 0, 1) := dk_3 (dk_at dksX2_ofLevels_1 10 rfl rfl)
theorem dX2_ofLevels_33 : decode cX2_ofLevels 33 = .ok (.istore 5, 2) := dk_54 5 (dk_at dksX2_ofLevels_1 11 rfl rfl)
theorem dX2_ofLevels_35 : decode cX2_ofLevels 35 = .ok (.iload 5, 2) := dk_21 5 (dk_at dksX2_ofLevels_1 13 rfl rfl)
theorem dX2_ofLevels_37 : decode cX2_ofLevels 37 = .ok (.aload 4, 2) := dk_25 4 (dk_at dksX2_ofLevels_1 15 rfl rfl)
theorem dX2_ofLevels_39 : decode cX2_ofLevels 39 = .ok (.getfield 105, 3) := dk_180 0 105 (dk_at dksX2_ofLevels_1 17 rfl rfl)
theorem dX2_ofLevels_42 : decode cX2_ofLevels 42 = .ok (.if_icmp .ge 52, 3) := dk_162 0 52 (dk_at dksX2_ofLevels_1 20 rfl rfl)
theorem dX2_ofLevels_45 : decode cX2_ofLevels 45 = .ok (.iload_n 2, 1) := dk_28 (dk_at dksX2_ofLevels_1 23 rfl rfl)
theorem dX2_ofLevels_46 : decode cX2_ofLevels 46 = .ok (.iload_n 1, 1) := dk_27 (dk_at dksX2_ofLevels_2 0 rfl rfl)
theorem dX2_ofLevels_47 : decode cX2_ofLevels 47 = .ok (.ifCond .ne 7, 3) := dk_154 0 7 (dk_at dksX2_ofLevels_2 1 rfl rfl)
theorem dX2_ofLevels_50 : decode cX2_ofLevels 50 = .ok (.iconst 1, 1) := dk_4 (dk_at dksX2_ofLevels_2 4 rfl rfl)
theorem dX2_ofLevels_51 : decode cX2_ofLevels 51 = .ok (.goto 35, 3) := dk_167 0 35 (dk_at dksX2_ofLevels_2 5 rfl rfl)
theorem dX2_ofLevels_54 : decode cX2_ofLevels 54 = .ok (.iload_n 1, 1) := dk_27 (dk_at dksX2_ofLevels_2 8 rfl rfl)
theorem dX2_ofLevels_55 : decode cX2_ofLevels 55 = .ok (.iconst 2, 1) := dk_5 (dk_at dksX2_ofLevels_2 9 rfl rfl)
theorem dX2_ofLevels_56 : decode cX2_ofLevels 56 = .ok (.if_icmp .ne 14, 3) := dk_160 0 14 (dk_at dksX2_ofLevels_2 10 rfl rfl)
theorem dX2_ofLevels_59 : decode cX2_ofLevels 59 = .ok (.aload 4, 2) := dk_25 4 (dk_at dksX2_ofLevels_2 13 rfl rfl)
theorem dX2_ofLevels_61 : decode cX2_ofLevels 61 = .ok (.getfield 154, 3) := dk_180 0 154 (dk_at dksX2_ofLevels_2 15 rfl rfl)
theorem dX2_ofLevels_64 : decode cX2_ofLevels 64 = .ok (.iload 5, 2) := dk_21 5 (dk_at dksX2_ofLevels_2 18 rfl rfl)
theorem dX2_ofLevels_66 : decode cX2_ofLevels 66 = .ok (.iaload, 1) := dk_46 (dk_at dksX2_ofLevels_2 20 rfl rfl)
theorem dX2_ofLevels_67 : decode cX2_ofLevels 67 = .ok (.goto 19, 3) := dk_167 0 19 (dk_at dksX2_ofLevels_2 21 rfl rfl)
theorem dX2_ofLevels_70 : decode cX2_ofLevels 70 = .ok (.aload 4, 2) := dk_25 4 (dk_at dksX2_ofLevels_3 0 rfl rfl)
theorem dX2_ofLevels_72 : decode cX2_ofLevels 72 = .ok (.getfield 139, 3) := dk_180 0 139 (dk_at dksX2_ofLevels_3 2 rfl rfl)
theorem dX2_ofLevels_75 : decode cX2_ofLevels 75 = .ok (.iload 5, 2) := dk_21 5 (dk_at dksX2_ofLevels_3 5 rfl rfl)
theorem dX2_ofLevels_77 : decode cX2_ofLevels 77 = .ok (.baload, 1) := dk_51 (dk_at dksX2_ofLevels_3 7 rfl rfl)
theorem dX2_ofLevels_78 : decode cX2_ofLevels 78 = .ok (.ifCond .eq 7, 3) := dk_153 0 7 (dk_at dksX2_ofLevels_3 8 rfl rfl)
theorem dX2_ofLevels_81 : decode cX2_ofLevels 81 = .ok (.iconst 1, 1) := dk_4 (dk_at dksX2_ofLevels_3 11 rfl rfl)
theorem dX2_ofLevels_82 : decode cX2_ofLevels 82 = .ok (.goto 4, 3) := dk_167 0 4 (dk_at dksX2_ofLevels_3 12 rfl rfl)
theorem dX2_ofLevels_85 : decode cX2_ofLevels 85 = .ok (.iconst 0, 1) := dk_3 (dk_at dksX2_ofLevels_3 15 rfl rfl)
theorem dX2_ofLevels_86 : decode cX2_ofLevels 86 = .ok (.iadd, 1) := dk_96 (dk_at dksX2_ofLevels_3 16 rfl rfl)
theorem dX2_ofLevels_87 : decode cX2_ofLevels 87 = .ok (.istore_n 2, 1) := dk_61 (dk_at dksX2_ofLevels_3 17 rfl rfl)
theorem dX2_ofLevels_88 : decode cX2_ofLevels 88 = .ok (.iinc 5 1, 3) := dk_132 5 1 (dk_at dksX2_ofLevels_3 18 rfl rfl)
theorem dX2_ofLevels_91 : decode cX2_ofLevels 91 = .ok (.goto (-56), 3) := dk_167 255 200 (dk_at dksX2_ofLevels_3 21 rfl rfl)
theorem dX2_ofLevels_94 : decode cX2_ofLevels 94 = .ok (.iinc 3 1, 3) := dk_132 3 1 (dk_at dksX2_ofLevels_4 0 rfl rfl)
theorem dX2_ofLevels_97 : decode cX2_ofLevels 97 = .ok (.goto (-93), 3) := dk_167 255 163 (dk_at dksX2_ofLevels_4 3 rfl rfl)
theorem dX2_ofLevels_100 : decode cX2_ofLevels 100 = .ok (.iload_n 2, 1) := dk_28 (dk_at dksX2_ofLevels_4 6 rfl rfl)
theorem dX2_ofLevels_101 : decode cX2_ofLevels 101 = .ok (.ireturn, 1) := dk_172 (dk_at dksX2_ofLevels_4 7 rfl rfl)
abbrev cX2_openings : ByteArray := prog_6_method_58_code
def yX2_openings : MethodName := ⟨RX2, "openings", "()I"⟩
def dkwX2_openings_2 : List UInt8 := [132, 3, 1, 167, 255, 228, 132, 2, 1, 167, 255, 207, 27, 172]
abbrev dktX2_openings_2 : List UInt8 := dkwX2_openings_2 ++ []
def dkwX2_openings_1 : List UInt8 := [162, 0, 28, 27, 42, 180, 0, 29, 28, 50, 29, 51, 153, 0, 7, 4, 167, 0, 4, 3, 96, 60]
abbrev dktX2_openings_1 : List UInt8 := dkwX2_openings_1 ++ dktX2_openings_2
def dkwX2_openings_0 : List UInt8 := [3, 60, 3, 61, 28, 42, 180, 0, 16, 185, 0, 45, 1, 0, 163, 0, 42, 3, 62, 29, 16, 8]
abbrev dktX2_openings_0 : List UInt8 := dkwX2_openings_0 ++ dktX2_openings_1
theorem dksX2_openings_0 : cX2_openings.data.toList.drop 0 = dktX2_openings_0 := by decide +kernel
theorem dksX2_openings_1 : cX2_openings.data.toList.drop 22 = dktX2_openings_1 := dk_seg dksX2_openings_0 22 rfl rfl
theorem dksX2_openings_2 : cX2_openings.data.toList.drop 44 = dktX2_openings_2 := dk_seg dksX2_openings_1 22 rfl rfl
theorem dX2_openings_0 : decode cX2_openings 0 = .ok (.iconst 0, 1) := dk_3 (dk_at dksX2_openings_0 0 rfl rfl)
theorem dX2_openings_1 : decode cX2_openings 1 = .ok (.istore_n 1, 1) := dk_60 (dk_at dksX2_openings_0 1 rfl rfl)
theorem dX2_openings_2 : decode cX2_openings 2 = .ok (.iconst 0, 1) := dk_3 (dk_at dksX2_openings_0 2 rfl rfl)
theorem dX2_openings_3 : decode cX2_openings 3 = .ok (.istore_n 2, 1) := dk_61 (dk_at dksX2_openings_0 3 rfl rfl)
theorem dX2_openings_4 : decode cX2_openings 4 = .ok (.iload_n 2, 1) := dk_28 (dk_at dksX2_openings_0 4 rfl rfl)
theorem dX2_openings_5 : decode cX2_openings 5 = .ok (.aload_n 0, 1) := dk_42 (dk_at dksX2_openings_0 5 rfl rfl)
theorem dX2_openings_6 : decode cX2_openings 6 = .ok (.getfield 16, 3) := dk_180 0 16 (dk_at dksX2_openings_0 6 rfl rfl)
theorem dX2_openings_9 : decode cX2_openings 9 = .ok (.invokeinterface 45 1, 5) := by decide +kernel
theorem dX2_openings_14 : decode cX2_openings 14 = .ok (.if_icmp .gt 42, 3) := dk_163 0 42 (dk_at dksX2_openings_0 14 rfl rfl)
theorem dX2_openings_17 : decode cX2_openings 17 = .ok (.iconst 0, 1) := dk_3 (dk_at dksX2_openings_0 17 rfl rfl)
theorem dX2_openings_18 : decode cX2_openings 18 = .ok (.istore_n 3, 1) := dk_62 (dk_at dksX2_openings_0 18 rfl rfl)
theorem dX2_openings_19 : decode cX2_openings 19 = .ok (.iload_n 3, 1) := dk_29 (dk_at dksX2_openings_0 19 rfl rfl)
theorem dX2_openings_20 : decode cX2_openings 20 = .ok (.bipush 8, 2) := dk_16 8 (dk_at dksX2_openings_0 20 rfl rfl)
theorem dX2_openings_22 : decode cX2_openings 22 = .ok (.if_icmp .ge 28, 3) := dk_162 0 28 (dk_at dksX2_openings_1 0 rfl rfl)
theorem dX2_openings_25 : decode cX2_openings 25 = .ok (.iload_n 1, 1) := dk_27 (dk_at dksX2_openings_1 3 rfl rfl)
theorem dX2_openings_26 : decode cX2_openings 26 = .ok (.aload_n 0, 1) := dk_42 (dk_at dksX2_openings_1 4 rfl rfl)
theorem dX2_openings_27 : decode cX2_openings 27 = .ok (.getfield 29, 3) := dk_180 0 29 (dk_at dksX2_openings_1 5 rfl rfl)
theorem dX2_openings_30 : decode cX2_openings 30 = .ok (.iload_n 2, 1) := dk_28 (dk_at dksX2_openings_1 8 rfl rfl)
theorem dX2_openings_31 : decode cX2_openings 31 = .ok (.aaload, 1) := dk_50 (dk_at dksX2_openings_1 9 rfl rfl)
theorem dX2_openings_32 : decode cX2_openings 32 = .ok (.iload_n 3, 1) := dk_29 (dk_at dksX2_openings_1 10 rfl rfl)
theorem dX2_openings_33 : decode cX2_openings 33 = .ok (.baload, 1) := dk_51 (dk_at dksX2_openings_1 11 rfl rfl)
theorem dX2_openings_34 : decode cX2_openings 34 = .ok (.ifCond .eq 7, 3) := dk_153 0 7 (dk_at dksX2_openings_1 12 rfl rfl)
theorem dX2_openings_37 : decode cX2_openings 37 = .ok (.iconst 1, 1) := dk_4 (dk_at dksX2_openings_1 15 rfl rfl)
theorem dX2_openings_38 : decode cX2_openings 38 = .ok (.goto 4, 3) := dk_167 0 4 (dk_at dksX2_openings_1 16 rfl rfl)
theorem dX2_openings_41 : decode cX2_openings 41 = .ok (.iconst 0, 1) := dk_3 (dk_at dksX2_openings_1 19 rfl rfl)
theorem dX2_openings_42 : decode cX2_openings 42 = .ok (.iadd, 1) := dk_96 (dk_at dksX2_openings_1 20 rfl rfl)
theorem dX2_openings_43 : decode cX2_openings 43 = .ok (.istore_n 1, 1) := dk_60 (dk_at dksX2_openings_1 21 rfl rfl)
theorem dX2_openings_44 : decode cX2_openings 44 = .ok (.iinc 3 1, 3) := dk_132 3 1 (dk_at dksX2_openings_2 0 rfl rfl)
theorem dX2_openings_47 : decode cX2_openings 47 = .ok (.goto (-28), 3) := dk_167 255 228 (dk_at dksX2_openings_2 3 rfl rfl)
theorem dX2_openings_50 : decode cX2_openings 50 = .ok (.iinc 2 1, 3) := dk_132 2 1 (dk_at dksX2_openings_2 6 rfl rfl)
theorem dX2_openings_53 : decode cX2_openings 53 = .ok (.goto (-49), 3) := dk_167 255 207 (dk_at dksX2_openings_2 9 rfl rfl)
theorem dX2_openings_56 : decode cX2_openings 56 = .ok (.iload_n 1, 1) := dk_27 (dk_at dksX2_openings_2 12 rfl rfl)
theorem dX2_openings_57 : decode cX2_openings 57 = .ok (.ireturn, 1) := dk_172 (dk_at dksX2_openings_2 13 rfl rfl)
abbrev cX2_missingInAll : ByteArray := prog_6_method_59_code
def yX2_missingInAll : MethodName := ⟨RX2, "missingInAll", "()I"⟩
def dkwX2_missingInAll_1 : List UInt8 := [185, 0, 55, 1, 0, 154, 0, 17, 27, 42, 28, 182, 0, 169, 96, 60, 132, 2, 1, 167, 255, 220, 27, 172]
abbrev dktX2_missingInAll_1 : List UInt8 := dkwX2_missingInAll_1 ++ []
def dkwX2_missingInAll_0 : List UInt8 := [3, 60, 3, 61, 28, 42, 180, 0, 16, 185, 0, 45, 1, 0, 163, 0, 29, 42, 180, 0, 16]
abbrev dktX2_missingInAll_0 : List UInt8 := dkwX2_missingInAll_0 ++ dktX2_missingInAll_1
theorem dksX2_missingInAll_0 : cX2_missingInAll.data.toList.drop 0 = dktX2_missingInAll_0 := by decide +kernel
theorem dksX2_missingInAll_1 : cX2_missingInAll.data.toList.drop 21 = dktX2_missingInAll_1 := dk_seg dksX2_missingInAll_0 21 rfl rfl
theorem dX2_missingInAll_0 : decode cX2_missingInAll 0 = .ok (.iconst 0, 1) := dk_3 (dk_at dksX2_missingInAll_0 0 rfl rfl)
theorem dX2_missingInAll_1 : decode cX2_missingInAll 1 = .ok (.istore_n 1, 1) := dk_60 (dk_at dksX2_missingInAll_0 1 rfl rfl)
theorem dX2_missingInAll_2 : decode cX2_missingInAll 2 = .ok (.iconst 0, 1) := dk_3 (dk_at dksX2_missingInAll_0 2 rfl rfl)
theorem dX2_missingInAll_3 : decode cX2_missingInAll 3 = .ok (.istore_n 2, 1) := dk_61 (dk_at dksX2_missingInAll_0 3 rfl rfl)
theorem dX2_missingInAll_4 : decode cX2_missingInAll 4 = .ok (.iload_n 2, 1) := dk_28 (dk_at dksX2_missingInAll_0 4 rfl rfl)
theorem dX2_missingInAll_5 : decode cX2_missingInAll 5 = .ok (.aload_n 0, 1) := dk_42 (dk_at dksX2_missingInAll_0 5 rfl rfl)
theorem dX2_missingInAll_6 : decode cX2_missingInAll 6 = .ok (.getfield 16, 3) := dk_180 0 16 (dk_at dksX2_missingInAll_0 6 rfl rfl)
theorem dX2_missingInAll_9 : decode cX2_missingInAll 9 = .ok (.invokeinterface 45 1, 5) := by decide +kernel
theorem dX2_missingInAll_14 : decode cX2_missingInAll 14 = .ok (.if_icmp .gt 29, 3) := dk_163 0 29 (dk_at dksX2_missingInAll_0 14 rfl rfl)
theorem dX2_missingInAll_17 : decode cX2_missingInAll 17 = .ok (.aload_n 0, 1) := dk_42 (dk_at dksX2_missingInAll_0 17 rfl rfl)
theorem dX2_missingInAll_18 : decode cX2_missingInAll 18 = .ok (.getfield 16, 3) := dk_180 0 16 (dk_at dksX2_missingInAll_0 18 rfl rfl)
theorem dX2_missingInAll_21 : decode cX2_missingInAll 21 = .ok (.invokeinterface 55 1, 5) := by decide +kernel
theorem dX2_missingInAll_26 : decode cX2_missingInAll 26 = .ok (.ifCond .ne 17, 3) := dk_154 0 17 (dk_at dksX2_missingInAll_1 5 rfl rfl)
theorem dX2_missingInAll_29 : decode cX2_missingInAll 29 = .ok (.iload_n 1, 1) := dk_27 (dk_at dksX2_missingInAll_1 8 rfl rfl)
theorem dX2_missingInAll_30 : decode cX2_missingInAll 30 = .ok (.aload_n 0, 1) := dk_42 (dk_at dksX2_missingInAll_1 9 rfl rfl)
theorem dX2_missingInAll_31 : decode cX2_missingInAll 31 = .ok (.iload_n 2, 1) := dk_28 (dk_at dksX2_missingInAll_1 10 rfl rfl)
theorem dX2_missingInAll_32 : decode cX2_missingInAll 32 = .ok (.invokevirtual 169, 3) := dk_182 0 169 (dk_at dksX2_missingInAll_1 11 rfl rfl)
theorem dX2_missingInAll_35 : decode cX2_missingInAll 35 = .ok (.iadd, 1) := dk_96 (dk_at dksX2_missingInAll_1 14 rfl rfl)
theorem dX2_missingInAll_36 : decode cX2_missingInAll 36 = .ok (.istore_n 1, 1) := dk_60 (dk_at dksX2_missingInAll_1 15 rfl rfl)
theorem dX2_missingInAll_37 : decode cX2_missingInAll 37 = .ok (.iinc 2 1, 3) := dk_132 2 1 (dk_at dksX2_missingInAll_1 16 rfl rfl)
theorem dX2_missingInAll_40 : decode cX2_missingInAll 40 = .ok (.goto (-36), 3) := dk_167 255 220 (dk_at dksX2_missingInAll_1 19 rfl rfl)
theorem dX2_missingInAll_43 : decode cX2_missingInAll 43 = .ok (.iload_n 1, 1) := dk_27 (dk_at dksX2_missingInAll_1 22 rfl rfl)
theorem dX2_missingInAll_44 : decode cX2_missingInAll 44 = .ok (.ireturn, 1) := dk_172 (dk_at dksX2_missingInAll_1 23 rfl rfl)
abbrev cX2_greenFaces : ByteArray := prog_6_method_60_code
def yX2_greenFaces : MethodName := ⟨RX2, "greenFaces", "()I"⟩
def dkwX2_greenFaces_1 : List UInt8 := [153, 0, 7, 4, 167, 0, 4, 3, 96, 60, 132, 2, 1, 167, 255, 224, 27, 172]
abbrev dktX2_greenFaces_1 : List UInt8 := dkwX2_greenFaces_1 ++ []
def dkwX2_greenFaces_0 : List UInt8 := [3, 60, 3, 61, 28, 42, 180, 0, 20, 185, 0, 45, 1, 0, 162, 0, 25, 27, 42, 28, 182, 0, 124]
abbrev dktX2_greenFaces_0 : List UInt8 := dkwX2_greenFaces_0 ++ dktX2_greenFaces_1
theorem dksX2_greenFaces_0 : cX2_greenFaces.data.toList.drop 0 = dktX2_greenFaces_0 := by decide +kernel
theorem dksX2_greenFaces_1 : cX2_greenFaces.data.toList.drop 23 = dktX2_greenFaces_1 := dk_seg dksX2_greenFaces_0 23 rfl rfl
theorem dX2_greenFaces_0 : decode cX2_greenFaces 0 = .ok (.iconst 0, 1) := dk_3 (dk_at dksX2_greenFaces_0 0 rfl rfl)
theorem dX2_greenFaces_1 : decode cX2_greenFaces 1 = .ok (.istore_n 1, 1) := dk_60 (dk_at dksX2_greenFaces_0 1 rfl rfl)
theorem dX2_greenFaces_2 : decode cX2_greenFaces 2 = .ok (.iconst 0, 1) := dk_3 (dk_at dksX2_greenFaces_0 2 rfl rfl)
theorem dX2_greenFaces_3 : decode cX2_greenFaces 3 = .ok (.istore_n 2, 1) := dk_61 (dk_at dksX2_greenFaces_0 3 rfl rfl)
theorem dX2_greenFaces_4 : decode cX2_greenFaces 4 = .ok (.iload_n 2, 1) := dk_28 (dk_at dksX2_greenFaces_0 4 rfl rfl)
theorem dX2_greenFaces_5 : decode cX2_greenFaces 5 = .ok (.aload_n 0, 1) := dk_42 (dk_at dksX2_greenFaces_0 5 rfl rfl)
theorem dX2_greenFaces_6 : decode cX2_greenFaces 6 = .ok (.getfield 20, 3) := dk_180 0 20 (dk_at dksX2_greenFaces_0 6 rfl rfl)
theorem dX2_greenFaces_9 : decode cX2_greenFaces 9 = .ok (.invokeinterface 45 1, 5) := by decide +kernel
theorem dX2_greenFaces_14 : decode cX2_greenFaces 14 = .ok (.if_icmp .ge 25, 3) := dk_162 0 25 (dk_at dksX2_greenFaces_0 14 rfl rfl)
theorem dX2_greenFaces_17 : decode cX2_greenFaces 17 = .ok (.iload_n 1, 1) := dk_27 (dk_at dksX2_greenFaces_0 17 rfl rfl)
theorem dX2_greenFaces_18 : decode cX2_greenFaces 18 = .ok (.aload_n 0, 1) := dk_42 (dk_at dksX2_greenFaces_0 18 rfl rfl)
theorem dX2_greenFaces_19 : decode cX2_greenFaces 19 = .ok (.iload_n 2, 1) := dk_28 (dk_at dksX2_greenFaces_0 19 rfl rfl)
theorem dX2_greenFaces_20 : decode cX2_greenFaces 20 = .ok (.invokevirtual 124, 3) := dk_182 0 124 (dk_at dksX2_greenFaces_0 20 rfl rfl)
theorem dX2_greenFaces_23 : decode cX2_greenFaces 23 = .ok (.ifCond .eq 7, 3) := dk_153 0 7 (dk_at dksX2_greenFaces_1 0 rfl rfl)
theorem dX2_greenFaces_26 : decode cX2_greenFaces 26 = .ok (.iconst 1, 1) := dk_4 (dk_at dksX2_greenFaces_1 3 rfl rfl)
theorem dX2_greenFaces_27 : decode cX2_greenFaces 27 = .ok (.goto 4, 3) := dk_167 0 4 (dk_at dksX2_greenFaces_1 4 rfl rfl)
theorem dX2_greenFaces_30 : decode cX2_greenFaces 30 = .ok (.iconst 0, 1) := dk_3 (dk_at dksX2_greenFaces_1 7 rfl rfl)
theorem dX2_greenFaces_31 : decode cX2_greenFaces 31 = .ok (.iadd, 1) := dk_96 (dk_at dksX2_greenFaces_1 8 rfl rfl)
theorem dX2_greenFaces_32 : decode cX2_greenFaces 32 = .ok (.istore_n 1, 1) := dk_60 (dk_at dksX2_greenFaces_1 9 rfl rfl)
theorem dX2_greenFaces_33 : decode cX2_greenFaces 33 = .ok (.iinc 2 1, 3) := dk_132 2 1 (dk_at dksX2_greenFaces_1 10 rfl rfl)
theorem dX2_greenFaces_36 : decode cX2_greenFaces 36 = .ok (.goto (-32), 3) := dk_167 255 224 (dk_at dksX2_greenFaces_1 13 rfl rfl)
theorem dX2_greenFaces_39 : decode cX2_greenFaces 39 = .ok (.iload_n 1, 1) := dk_27 (dk_at dksX2_greenFaces_1 16 rfl rfl)
theorem dX2_greenFaces_40 : decode cX2_greenFaces 40 = .ok (.ireturn, 1) := dk_172 (dk_at dksX2_greenFaces_1 17 rfl rfl)
abbrev cX2_errors : ByteArray := prog_6_method_62_code
def yX2_errors : MethodName := ⟨RX2, "errors", "()I"⟩
def dkwX2_errors_0 : List UInt8 := [42, 3, 182, 0, 71, 172]
abbrev dktX2_errors_0 : List UInt8 := dkwX2_errors_0 ++ []
theorem dksX2_errors_0 : cX2_errors.data.toList.drop 0 = dktX2_errors_0 := by decide +kernel
theorem dX2_errors_0 : decode cX2_errors 0 = .ok (.aload_n 0, 1) := dk_42 (dk_at dksX2_errors_0 0 rfl rfl)
theorem dX2_errors_1 : decode cX2_errors 1 = .ok (.iconst 0, 1) := dk_3 (dk_at dksX2_errors_0 1 rfl rfl)
theorem dX2_errors_2 : decode cX2_errors 2 = .ok (.invokevirtual 71, 3) := dk_182 0 71 (dk_at dksX2_errors_0 2 rfl rfl)
theorem dX2_errors_5 : decode cX2_errors 5 = .ok (.ireturn, 1) := dk_172 (dk_at dksX2_errors_0 5 rfl rfl)
abbrev cX2_meanLoad : ByteArray := prog_6_method_63_code
def yX2_meanLoad : MethodName := ⟨RX2, "meanLoad", "()D"⟩
def dkwX2_meanLoad_3 : List UInt8 := [14, 167, 0, 8, 27, 135, 28, 135, 111, 175]
abbrev dktX2_meanLoad_3 : List UInt8 := dkwX2_meanLoad_3 ++ []
def dkwX2_meanLoad_2 : List UInt8 := [29, 182, 0, 114, 158, 0, 7, 4, 167, 0, 4, 3, 96, 61, 132, 3, 1, 167, 255, 202, 28, 154, 0, 7]
abbrev dktX2_meanLoad_2 : List UInt8 := dkwX2_meanLoad_2 ++ dktX2_meanLoad_3
def dkwX2_meanLoad_1 : List UInt8 := [42, 180, 0, 16, 185, 0, 55, 1, 0, 154, 0, 35, 27, 42, 29, 3, 4, 182, 0, 183, 96, 60, 28, 42]
abbrev dktX2_meanLoad_1 : List UInt8 := dkwX2_meanLoad_1 ++ dktX2_meanLoad_2
def dkwX2_meanLoad_0 : List UInt8 := [42, 3, 181, 0, 1, 3, 60, 3, 61, 3, 62, 29, 42, 180, 0, 16, 185, 0, 45, 1, 0, 163, 0, 47]
abbrev dktX2_meanLoad_0 : List UInt8 := dkwX2_meanLoad_0 ++ dktX2_meanLoad_1
theorem dksX2_meanLoad_0 : cX2_meanLoad.data.toList.drop 0 = dktX2_meanLoad_0 := by decide +kernel
theorem dksX2_meanLoad_1 : cX2_meanLoad.data.toList.drop 24 = dktX2_meanLoad_1 := dk_seg dksX2_meanLoad_0 24 rfl rfl
theorem dksX2_meanLoad_2 : cX2_meanLoad.data.toList.drop 48 = dktX2_meanLoad_2 := dk_seg dksX2_meanLoad_1 24 rfl rfl
theorem dksX2_meanLoad_3 : cX2_meanLoad.data.toList.drop 72 = dktX2_meanLoad_3 := dk_seg dksX2_meanLoad_2 24 rfl rfl
theorem dX2_meanLoad_0 : decode cX2_meanLoad 0 = .ok (.aload_n 0, 1) := dk_42 (dk_at dksX2_meanLoad_0 0 rfl rfl)
theorem dX2_meanLoad_1 : decode cX2_meanLoad 1 = .ok (.iconst 0, 1) := dk_3 (dk_at dksX2_meanLoad_0 1 rfl rfl)
theorem dX2_meanLoad_2 : decode cX2_meanLoad 2 = .ok (.putfield 1, 3) := dk_181 0 1 (dk_at dksX2_meanLoad_0 2 rfl rfl)
theorem dX2_meanLoad_5 : decode cX2_meanLoad 5 = .ok (.iconst 0, 1) := dk_3 (dk_at dksX2_meanLoad_0 5 rfl rfl)
theorem dX2_meanLoad_6 : decode cX2_meanLoad 6 = .ok (.istore_n 1, 1) := dk_60 (dk_at dksX2_meanLoad_0 6 rfl rfl)
theorem dX2_meanLoad_7 : decode cX2_meanLoad 7 = .ok (.iconst 0, 1) := dk_3 (dk_at dksX2_meanLoad_0 7 rfl rfl)
theorem dX2_meanLoad_8 : decode cX2_meanLoad 8 = .ok (.istore_n 2, 1) := dk_61 (dk_at dksX2_meanLoad_0 8 rfl rfl)
theorem dX2_meanLoad_9 : decode cX2_meanLoad 9 = .ok (.iconst 0, 1) := dk_3 (dk_at dksX2_meanLoad_0 9 rfl rfl)
theorem dX2_meanLoad_10 : decode cX2_meanLoad 10 = .ok (.istore_n 3, 1) := dk_62 (dk_at dksX2_meanLoad_0 10 rfl rfl)
theorem dX2_meanLoad_11 : decode cX2_meanLoad 11 = .ok (.iload_n 3, 1) := dk_29 (dk_at dksX2_meanLoad_0 11 rfl rfl)
theorem dX2_meanLoad_12 : decode cX2_meanLoad 12 = .ok (.aload_n 0, 1) := dk_42 (dk_at dksX2_meanLoad_0 12 rfl rfl)
theorem dX2_meanLoad_13 : decode cX2_meanLoad 13 = .ok (.getfield 16, 3) := dk_180 0 16 (dk_at dksX2_meanLoad_0 13 rfl rfl)
theorem dX2_meanLoad_16 : decode cX2_meanLoad 16 = .ok (.invokeinterface 45 1, 5) := by decide +kernel
theorem dX2_meanLoad_21 : decode cX2_meanLoad 21 = .ok (.if_icmp .gt 47, 3) := dk_163 0 47 (dk_at dksX2_meanLoad_0 21 rfl rfl)
theorem dX2_meanLoad_24 : decode cX2_meanLoad 24 = .ok (.aload_n 0, 1) := dk_42 (dk_at dksX2_meanLoad_1 0 rfl rfl)
theorem dX2_meanLoad_25 : decode cX2_meanLoad 25 = .ok (.getfield 16, 3) := dk_180 0 16 (dk_at dksX2_meanLoad_1 1 rfl rfl)
theorem dX2_meanLoad_28 : decode cX2_meanLoad 28 = .ok (.invokeinterface 55 1, 5) := by decide +kernel
theorem dX2_meanLoad_33 : decode cX2_meanLoad 33 = .ok (.ifCond .ne 35, 3) := dk_154 0 35 (dk_at dksX2_meanLoad_1 9 rfl rfl)
theorem dX2_meanLoad_36 : decode cX2_meanLoad 36 = .ok (.iload_n 1, 1) := dk_27 (dk_at dksX2_meanLoad_1 12 rfl rfl)
theorem dX2_meanLoad_37 : decode cX2_meanLoad 37 = .ok (.aload_n 0, 1) := dk_42 (dk_at dksX2_meanLoad_1 13 rfl rfl)
theorem dX2_meanLoad_38 : decode cX2_meanLoad 38 = .ok (.iload_n 3, 1) := dk_29 (dk_at dksX2_meanLoad_1 14 rfl rfl)
theorem dX2_meanLoad_39 : decode cX2_meanLoad 39 = .ok (.iconst 0, 1) := dk_3 (dk_at dksX2_meanLoad_1 15 rfl rfl)
theorem dX2_meanLoad_40 : decode cX2_meanLoad 40 = .ok (.iconst 1, 1) := dk_4 (dk_at dksX2_meanLoad_1 16 rfl rfl)
theorem dX2_meanLoad_41 : decode cX2_meanLoad 41 = .ok (.invokevirtual 183, 3) := dk_182 0 183 (dk_at dksX2_meanLoad_1 17 rfl rfl)
theorem dX2_meanLoad_44 : decode cX2_meanLoad 44 = .ok (.iadd, 1) := dk_96 (dk_at dksX2_meanLoad_1 20 rfl rfl)
theorem dX2_meanLoad_45 : decode cX2_meanLoad 45 = .ok (.istore_n 1, 1) := dk_60 (dk_at dksX2_meanLoad_1 21 rfl rfl)
theorem dX2_meanLoad_46 : decode cX2_meanLoad 46 = .ok (.iload_n 2, 1) := dk_28 (dk_at dksX2_meanLoad_1 22 rfl rfl)
theorem dX2_meanLoad_47 : decode cX2_meanLoad 47 = .ok (.aload_n 0, 1) := dk_42 (dk_at dksX2_meanLoad_1 23 rfl rfl)
theorem dX2_meanLoad_48 : decode cX2_meanLoad 48 = .ok (.iload_n 3, 1) := dk_29 (dk_at dksX2_meanLoad_2 0 rfl rfl)
theorem dX2_meanLoad_49 : decode cX2_meanLoad 49 = .ok (.invokevirtual 114, 3) := dk_182 0 114 (dk_at dksX2_meanLoad_2 1 rfl rfl)
theorem dX2_meanLoad_52 : decode cX2_meanLoad 52 = .ok (.ifCond .le 7, 3) := dk_158 0 7 (dk_at dksX2_meanLoad_2 4 rfl rfl)
theorem dX2_meanLoad_55 : decode cX2_meanLoad 55 = .ok (.iconst 1, 1) := dk_4 (dk_at dksX2_meanLoad_2 7 rfl rfl)
theorem dX2_meanLoad_56 : decode cX2_meanLoad 56 = .ok (.goto 4, 3) := dk_167 0 4 (dk_at dksX2_meanLoad_2 8 rfl rfl)
theorem dX2_meanLoad_59 : decode cX2_meanLoad 59 = .ok (.iconst 0, 1) := dk_3 (dk_at dksX2_meanLoad_2 11 rfl rfl)
theorem dX2_meanLoad_60 : decode cX2_meanLoad 60 = .ok (.iadd, 1) := dk_96 (dk_at dksX2_meanLoad_2 12 rfl rfl)
theorem dX2_meanLoad_61 : decode cX2_meanLoad 61 = .ok (.istore_n 2, 1) := dk_61 (dk_at dksX2_meanLoad_2 13 rfl rfl)
theorem dX2_meanLoad_62 : decode cX2_meanLoad 62 = .ok (.iinc 3 1, 3) := dk_132 3 1 (dk_at dksX2_meanLoad_2 14 rfl rfl)
theorem dX2_meanLoad_65 : decode cX2_meanLoad 65 = .ok (.goto (-54), 3) := dk_167 255 202 (dk_at dksX2_meanLoad_2 17 rfl rfl)
theorem dX2_meanLoad_68 : decode cX2_meanLoad 68 = .ok (.iload_n 2, 1) := dk_28 (dk_at dksX2_meanLoad_2 20 rfl rfl)
theorem dX2_meanLoad_69 : decode cX2_meanLoad 69 = .ok (.ifCond .ne 7, 3) := dk_154 0 7 (dk_at dksX2_meanLoad_2 21 rfl rfl)
theorem dX2_meanLoad_72 : decode cX2_meanLoad 72 = .ok (.dconst 0, 1) := dk_14 (dk_at dksX2_meanLoad_3 0 rfl rfl)
theorem dX2_meanLoad_73 : decode cX2_meanLoad 73 = .ok (.goto 8, 3) := dk_167 0 8 (dk_at dksX2_meanLoad_3 1 rfl rfl)
theorem dX2_meanLoad_76 : decode cX2_meanLoad 76 = .ok (.iload_n 1, 1) := dk_27 (dk_at dksX2_meanLoad_3 4 rfl rfl)
theorem dX2_meanLoad_77 : decode cX2_meanLoad 77 = .ok (.i2d, 1) := dk_135 (dk_at dksX2_meanLoad_3 5 rfl rfl)
theorem dX2_meanLoad_78 : decode cX2_meanLoad 78 = .ok (.iload_n 2, 1) := dk_28 (dk_at dksX2_meanLoad_3 6 rfl rfl)
theorem dX2_meanLoad_79 : decode cX2_meanLoad 79 = .ok (.i2d, 1) := dk_135 (dk_at dksX2_meanLoad_3 7 rfl rfl)
theorem dX2_meanLoad_80 : decode cX2_meanLoad 80 = .ok (.ddiv, 1) := dk_111 (dk_at dksX2_meanLoad_3 8 rfl rfl)
theorem dX2_meanLoad_81 : decode cX2_meanLoad 81 = .ok (.dreturn, 1) := dk_175 (dk_at dksX2_meanLoad_3 9 rfl rfl)
abbrev cX2_boardedShare : ByteArray := prog_6_method_64_code
def yX2_boardedShare : MethodName := ⟨RX2, "boardedShare", "()F"⟩
def dkwX2_boardedShare_1 : List UInt8 := [3, 182, 0, 210, 134, 110, 174]
abbrev dktX2_boardedShare_1 : List UInt8 := dkwX2_boardedShare_1 ++ []
def dkwX2_boardedShare_0 : List UInt8 := [42, 3, 181, 0, 1, 42, 3, 182, 0, 210, 154, 0, 7, 11, 167, 0, 16, 42, 4, 182, 0, 210, 134, 42]
abbrev dktX2_boardedShare_0 : List UInt8 := dkwX2_boardedShare_0 ++ dktX2_boardedShare_1
theorem dksX2_boardedShare_0 : cX2_boardedShare.data.toList.drop 0 = dktX2_boardedShare_0 := by decide +kernel
theorem dksX2_boardedShare_1 : cX2_boardedShare.data.toList.drop 24 = dktX2_boardedShare_1 := dk_seg dksX2_boardedShare_0 24 rfl rfl
theorem dX2_boardedShare_0 : decode cX2_boardedShare 0 = .ok (.aload_n 0, 1) := dk_42 (dk_at dksX2_boardedShare_0 0 rfl rfl)
theorem dX2_boardedShare_1 : decode cX2_boardedShare 1 = .ok (.iconst 0, 1) := dk_3 (dk_at dksX2_boardedShare_0 1 rfl rfl)
theorem dX2_boardedShare_2 : decode cX2_boardedShare 2 = .ok (.putfield 1, 3) := dk_181 0 1 (dk_at dksX2_boardedShare_0 2 rfl rfl)
theorem dX2_boardedShare_5 : decode cX2_boardedShare 5 = .ok (.aload_n 0, 1) := dk_42 (dk_at dksX2_boardedShare_0 5 rfl rfl)
theorem dX2_boardedShare_6 : decode cX2_boardedShare 6 = .ok (.iconst 0, 1) := dk_3 (dk_at dksX2_boardedShare_0 6 rfl rfl)
theorem dX2_boardedShare_7 : decode cX2_boardedShare 7 = .ok (.invokevirtual 210, 3) := dk_182 0 210 (dk_at dksX2_boardedShare_0 7 rfl rfl)
theorem dX2_boardedShare_10 : decode cX2_boardedShare 10 = .ok (.ifCond .ne 7, 3) := dk_154 0 7 (dk_at dksX2_boardedShare_0 10 rfl rfl)
theorem dX2_boardedShare_13 : decode cX2_boardedShare 13 = .ok (.fconst 0, 1) := dk_11 (dk_at dksX2_boardedShare_0 13 rfl rfl)
theorem dX2_boardedShare_14 : decode cX2_boardedShare 14 = .ok (.goto 16, 3) := dk_167 0 16 (dk_at dksX2_boardedShare_0 14 rfl rfl)
theorem dX2_boardedShare_17 : decode cX2_boardedShare 17 = .ok (.aload_n 0, 1) := dk_42 (dk_at dksX2_boardedShare_0 17 rfl rfl)
theorem dX2_boardedShare_18 : decode cX2_boardedShare 18 = .ok (.iconst 1, 1) := dk_4 (dk_at dksX2_boardedShare_0 18 rfl rfl)
theorem dX2_boardedShare_19 : decode cX2_boardedShare 19 = .ok (.invokevirtual 210, 3) := dk_182 0 210 (dk_at dksX2_boardedShare_0 19 rfl rfl)
theorem dX2_boardedShare_22 : decode cX2_boardedShare 22 = .ok (.i2f, 1) := dk_134 (dk_at dksX2_boardedShare_0 22 rfl rfl)
theorem dX2_boardedShare_23 : decode cX2_boardedShare 23 = .ok (.aload_n 0, 1) := dk_42 (dk_at dksX2_boardedShare_0 23 rfl rfl)
theorem dX2_boardedShare_24 : decode cX2_boardedShare 24 = .ok (.iconst 0, 1) := dk_3 (dk_at dksX2_boardedShare_1 0 rfl rfl)
theorem dX2_boardedShare_25 : decode cX2_boardedShare 25 = .ok (.invokevirtual 210, 3) := dk_182 0 210 (dk_at dksX2_boardedShare_1 1 rfl rfl)
theorem dX2_boardedShare_28 : decode cX2_boardedShare 28 = .ok (.i2f, 1) := dk_134 (dk_at dksX2_boardedShare_1 4 rfl rfl)
theorem dX2_boardedShare_29 : decode cX2_boardedShare 29 = .ok (.fdiv, 1) := dk_110 (dk_at dksX2_boardedShare_1 5 rfl rfl)
theorem dX2_boardedShare_30 : decode cX2_boardedShare 30 = .ok (.freturn, 1) := dk_174 (dk_at dksX2_boardedShare_1 6 rfl rfl)
theorem q88 : (Jvm.Cond.initialized "ScaffolderModel") ∈ lw_all := lw_g (lw_at lw_m1 22 rfl) rfl
theorem q792 : (Jvm.Cond.selects "ScaffolderModel" ({ cls := "java/lang/Object", name := "getClass", desc := "()Ljava/lang/Class;" } : Jvm.MethodName) ({ cls := "java/lang/Object", name := "getClass", desc := "()Ljava/lang/Class;" } : Jvm.MethodName)) ∈ lw_all := lw_g (lw_at lw_m4 6 rfl) rfl
theorem q1091 : (Jvm.Cond.instanceMethod ({ cls := "ScaffolderModel", name := "thrown", desc := "()I" } : Jvm.MethodName)) ∈ lw_all := lw_g (lw_at lw_m5 65 rfl) rfl
theorem q1092 : (Jvm.Cond.selects "ScaffolderModel" ({ cls := "ScaffolderModel", name := "thrown", desc := "()I" } : Jvm.MethodName) ({ cls := "ScaffolderModel", name := "thrown", desc := "()I" } : Jvm.MethodName)) ∈ lw_all := lw_g (lw_at lw_m5 66 rfl) rfl
theorem q1093 : (Jvm.Cond.code ({ cls := "ScaffolderModel", name := "thrown", desc := "()I" } : Jvm.MethodName) prog_6_method_1_code (1 : Nat) (Option.some Jvm.ClassFile.FieldType.int)) ∈ lw_all := lw_g (lw_at lw_m5 67 rfl) rfl
theorem q1095 : (Jvm.Cond.instantiable "ScaffolderModel" (9 : Nat)) ∈ lw_all := lw_g (lw_at lw_m5 69 rfl) rfl
theorem q1097 : (Jvm.Cond.instanceMethod ({ cls := "ScaffolderModel", name := "<init>", desc := "()V" } : Jvm.MethodName)) ∈ lw_all := lw_g (lw_at lw_m5 71 rfl) rfl
theorem q1098 : (Jvm.Cond.code ({ cls := "ScaffolderModel", name := "<init>", desc := "()V" } : Jvm.MethodName) prog_6_method_5_code (1 : Nat) (Option.none : Option Jvm.ClassFile.FieldType)) ∈ lw_all := lw_g (lw_at lw_m5 72 rfl) rfl
theorem q1099 : (Jvm.Cond.methodLink "ScaffolderModel" (7 : Nat) ({ cls := "java/lang/Object", name := "<init>", desc := "()V" } : Jvm.MethodName)) ∈ lw_all := lw_g (lw_at lw_m5 73 rfl) rfl
theorem q1100 : (Jvm.Cond.classLink "ScaffolderModel" (13 : Nat) "java/util/ArrayList") ∈ lw_all := lw_g (lw_at lw_m5 74 rfl) rfl
theorem q1101 : (Jvm.Cond.methodLink "ScaffolderModel" (15 : Nat) ({ cls := "java/util/ArrayList", name := "<init>", desc := "()V" } : Jvm.MethodName)) ∈ lw_all := lw_g (lw_at lw_m5 75 rfl) rfl
theorem q1104 : (Jvm.Cond.classLink "ScaffolderModel" (27 : Nat) "[[Z") ∈ lw_all := lw_g (lw_at lw_m5 78 rfl) rfl
theorem q1105 : (Jvm.Cond.methodLink "ScaffolderModel" (42 : Nat) ({ cls := "ScaffolderModel", name := "withdrawAll", desc := "()V" } : Jvm.MethodName)) ∈ lw_all := lw_g (lw_at lw_m5 79 rfl) rfl
theorem q1106 : (Jvm.Cond.privateMethod ({ cls := "ScaffolderModel", name := "withdrawAll", desc := "()V" } : Jvm.MethodName)) ∈ lw_tbl := lw_at lw_m5 80 rfl
theorem q1107 : (Jvm.Cond.instanceMethod ({ cls := "ScaffolderModel", name := "withdrawAll", desc := "()V" } : Jvm.MethodName)) ∈ lw_all := lw_g (lw_at lw_m5 81 rfl) rfl
theorem q1108 : (Jvm.Cond.code ({ cls := "ScaffolderModel", name := "withdrawAll", desc := "()V" } : Jvm.MethodName) prog_6_method_21_code (2 : Nat) (Option.none : Option Jvm.ClassFile.FieldType)) ∈ lw_all := lw_g (lw_at lw_m5 82 rfl) rfl
theorem q1109 : (Jvm.Cond.fieldLink "ScaffolderModel" (1 : Nat) "ScaffolderModel" "thrown" "I") ∈ lw_all := lw_g (lw_at lw_m5 83 rfl) rfl
theorem q1110 : (Jvm.Cond.fieldLink "ScaffolderModel" (16 : Nat) "ScaffolderModel" "bays" "Ljava/util/List;") ∈ lw_all := lw_g (lw_at lw_m5 84 rfl) rfl
theorem q1111 : (Jvm.Cond.fieldLink "ScaffolderModel" (20 : Nat) "ScaffolderModel" "firsts" "Ljava/util/List;") ∈ lw_all := lw_g (lw_at lw_m5 85 rfl) rfl
theorem q1112 : (Jvm.Cond.fieldLink "ScaffolderModel" (23 : Nat) "ScaffolderModel" "greenTo" "[I") ∈ lw_all := lw_g (lw_at lw_m5 86 rfl) rfl
theorem q1113 : (Jvm.Cond.fieldLink "ScaffolderModel" (29 : Nat) "ScaffolderModel" "isOpening" "[[Z") ∈ lw_all := lw_g (lw_at lw_m5 87 rfl) rfl
theorem q1114 : (Jvm.Cond.fieldLink "ScaffolderModel" (68 : Nat) "ScaffolderModel" "today" "I") ∈ lw_all := lw_g (lw_at lw_m5 88 rfl) rfl
theorem q1115 : (Jvm.Cond.fieldLink "ScaffolderModel" (32 : Nat) "ScaffolderModel" "limit" "I") ∈ lw_all := lw_g (lw_at lw_m5 89 rfl) rfl
theorem q1116 : (Jvm.Cond.fieldLink "ScaffolderModel" (35 : Nat) "ScaffolderModel" "ties" "[I") ∈ lw_all := lw_g (lw_at lw_m5 90 rfl) rfl
theorem q1117 : (Jvm.Cond.fieldLink "ScaffolderModel" (38 : Nat) "ScaffolderModel" "stands" "[Z") ∈ lw_all := lw_g (lw_at lw_m5 91 rfl) rfl
theorem q1118 : (Jvm.Cond.lays "ScaffolderModel" "ScaffolderModel" "thrown" "I") ∈ lw_all := lw_g (lw_at lw_m5 92 rfl) rfl
theorem q1119 : (Jvm.Cond.soleField "ScaffolderModel" "thrown") ∈ lw_all := lw_g (lw_at lw_m5 93 rfl) rfl
theorem q1120 : (Jvm.Cond.laysFinal "ScaffolderModel" "ScaffolderModel" "bays" "Ljava/util/List;") ∈ lw_all := lw_g (lw_at lw_m5 94 rfl) rfl
theorem q1121 : (Jvm.Cond.soleField "ScaffolderModel" "bays") ∈ lw_all := lw_g (lw_at lw_m5 95 rfl) rfl
theorem q1122 : (Jvm.Cond.laysFinal "ScaffolderModel" "ScaffolderModel" "firsts" "Ljava/util/List;") ∈ lw_all := lw_g (lw_at lw_m5 96 rfl) rfl
theorem q1123 : (Jvm.Cond.soleField "ScaffolderModel" "firsts") ∈ lw_all := lw_g (lw_at lw_m5 97 rfl) rfl
theorem q1124 : (Jvm.Cond.laysFinal "ScaffolderModel" "ScaffolderModel" "greenTo" "[I") ∈ lw_all := lw_g (lw_at lw_m5 98 rfl) rfl
theorem q1125 : (Jvm.Cond.soleField "ScaffolderModel" "greenTo") ∈ lw_all := lw_g (lw_at lw_m5 99 rfl) rfl
theorem q1126 : (Jvm.Cond.laysFinal "ScaffolderModel" "ScaffolderModel" "isOpening" "[[Z") ∈ lw_all := lw_g (lw_at lw_m5 100 rfl) rfl
theorem q1127 : (Jvm.Cond.soleField "ScaffolderModel" "isOpening") ∈ lw_all := lw_g (lw_at lw_m5 101 rfl) rfl
theorem q1128 : (Jvm.Cond.lays "ScaffolderModel" "ScaffolderModel" "today" "I") ∈ lw_all := lw_g (lw_at lw_m5 102 rfl) rfl
theorem q1129 : (Jvm.Cond.soleField "ScaffolderModel" "today") ∈ lw_all := lw_g (lw_at lw_m5 103 rfl) rfl
theorem q1130 : (Jvm.Cond.lays "ScaffolderModel" "ScaffolderModel" "limit" "I") ∈ lw_all := lw_g (lw_at lw_m5 104 rfl) rfl
theorem q1131 : (Jvm.Cond.soleField "ScaffolderModel" "limit") ∈ lw_all := lw_g (lw_at lw_m5 105 rfl) rfl
theorem q1132 : (Jvm.Cond.laysFinal "ScaffolderModel" "ScaffolderModel" "ties" "[I") ∈ lw_all := lw_g (lw_at lw_m5 106 rfl) rfl
theorem q1133 : (Jvm.Cond.soleField "ScaffolderModel" "ties") ∈ lw_all := lw_g (lw_at lw_m5 107 rfl) rfl
theorem q1134 : (Jvm.Cond.laysFinal "ScaffolderModel" "ScaffolderModel" "stands" "[Z") ∈ lw_all := lw_g (lw_at lw_m5 108 rfl) rfl
theorem q1135 : (Jvm.Cond.soleField "ScaffolderModel" "stands") ∈ lw_all := lw_g (lw_at lw_m5 109 rfl) rfl
theorem q1136 : (Jvm.Cond.superclass "ScaffolderModel" "java/lang/Object") ∈ lw_all := lw_g (lw_at lw_m5 110 rfl) rfl
theorem q1138 : (Jvm.Cond.instanceMethod ({ cls := "ScaffolderModel", name := "today", desc := "()I" } : Jvm.MethodName)) ∈ lw_all := lw_g (lw_at lw_m5 112 rfl) rfl
theorem q1139 : (Jvm.Cond.selects "ScaffolderModel" ({ cls := "ScaffolderModel", name := "today", desc := "()I" } : Jvm.MethodName) ({ cls := "ScaffolderModel", name := "today", desc := "()I" } : Jvm.MethodName)) ∈ lw_all := lw_g (lw_at lw_m5 113 rfl) rfl
theorem q1140 : (Jvm.Cond.code ({ cls := "ScaffolderModel", name := "today", desc := "()I" } : Jvm.MethodName) prog_6_method_11_code (1 : Nat) (Option.some Jvm.ClassFile.FieldType.int)) ∈ lw_all := lw_g (lw_at lw_m5 114 rfl) rfl
theorem q1141 : (Jvm.Cond.methodLink "ScaffolderModel" (71 : Nat) ({ cls := "ScaffolderModel", name := "returned", desc := "(I)I" } : Jvm.MethodName)) ∈ lw_all := lw_g (lw_at lw_m5 115 rfl) rfl
theorem q1142 : (Jvm.Cond.privateMethod ({ cls := "ScaffolderModel", name := "returned", desc := "(I)I" } : Jvm.MethodName)) ∈ lw_tbl := lw_at lw_m5 116 rfl
theorem q1143 : (Jvm.Cond.instanceMethod ({ cls := "ScaffolderModel", name := "returned", desc := "(I)I" } : Jvm.MethodName)) ∈ lw_all := lw_g (lw_at lw_m5 117 rfl) rfl
theorem q1144 : (Jvm.Cond.code ({ cls := "ScaffolderModel", name := "returned", desc := "(I)I" } : Jvm.MethodName) prog_6_method_4_code (2 : Nat) (Option.some Jvm.ClassFile.FieldType.int)) ∈ lw_all := lw_g (lw_at lw_m5 118 rfl) rfl
theorem q1146 : (Jvm.Cond.instanceMethod ({ cls := "ScaffolderModel", name := "pass", desc := "(I)I" } : Jvm.MethodName)) ∈ lw_all := lw_g (lw_at lw_m5 120 rfl) rfl
theorem q1147 : (Jvm.Cond.selects "ScaffolderModel" ({ cls := "ScaffolderModel", name := "pass", desc := "(I)I" } : Jvm.MethodName) ({ cls := "ScaffolderModel", name := "pass", desc := "(I)I" } : Jvm.MethodName)) ∈ lw_all := lw_g (lw_at lw_m5 121 rfl) rfl
theorem q1148 : (Jvm.Cond.code ({ cls := "ScaffolderModel", name := "pass", desc := "(I)I" } : Jvm.MethodName) prog_6_method_12_code (2 : Nat) (Option.some Jvm.ClassFile.FieldType.int)) ∈ lw_all := lw_g (lw_at lw_m5 122 rfl) rfl
theorem q1149 : (Jvm.Cond.methodLink "ScaffolderModel" (51 : Nat) ({ cls := "ScaffolderModel", name := "in", desc := "(III)Z" } : Jvm.MethodName)) ∈ lw_all := lw_g (lw_at lw_m5 123 rfl) rfl
theorem q1150 : (Jvm.Cond.static ({ cls := "ScaffolderModel", name := "in", desc := "(III)Z" } : Jvm.MethodName)) ∈ lw_all := lw_g (lw_at lw_m5 124 rfl) rfl
theorem q1151 : (Jvm.Cond.code ({ cls := "ScaffolderModel", name := "in", desc := "(III)Z" } : Jvm.MethodName) prog_6_method_2_code (3 : Nat) (Option.some Jvm.ClassFile.FieldType.boolean)) ∈ lw_all := lw_g (lw_at lw_m5 125 rfl) rfl
theorem q1152 : (Jvm.Cond.methodLink "ScaffolderModel" (75 : Nat) ({ cls := "ScaffolderModel", name := "passes", desc := "(ZZZ)Z" } : Jvm.MethodName)) ∈ lw_all := lw_g (lw_at lw_m5 126 rfl) rfl
theorem q1153 : (Jvm.Cond.privateMethod ({ cls := "ScaffolderModel", name := "passes", desc := "(ZZZ)Z" } : Jvm.MethodName)) ∈ lw_tbl := lw_at lw_m5 127 rfl
theorem q1154 : (Jvm.Cond.instanceMethod ({ cls := "ScaffolderModel", name := "passes", desc := "(ZZZ)Z" } : Jvm.MethodName)) ∈ lw_all := lw_g (lw_at lw_m5 128 rfl) rfl
theorem q1155 : (Jvm.Cond.code ({ cls := "ScaffolderModel", name := "passes", desc := "(ZZZ)Z" } : Jvm.MethodName) prog_6_method_3_code (4 : Nat) (Option.some Jvm.ClassFile.FieldType.boolean)) ∈ lw_all := lw_g (lw_at lw_m5 129 rfl) rfl
theorem q1157 : (Jvm.Cond.instanceMethod ({ cls := "ScaffolderModel", name := "addFace", desc := "(I)I" } : Jvm.MethodName)) ∈ lw_all := lw_g (lw_at lw_m5 131 rfl) rfl
theorem q1158 : (Jvm.Cond.selects "ScaffolderModel" ({ cls := "ScaffolderModel", name := "addFace", desc := "(I)I" } : Jvm.MethodName) ({ cls := "ScaffolderModel", name := "addFace", desc := "(I)I" } : Jvm.MethodName)) ∈ lw_all := lw_g (lw_at lw_m5 132 rfl) rfl
theorem q1159 : (Jvm.Cond.code ({ cls := "ScaffolderModel", name := "addFace", desc := "(I)I" } : Jvm.MethodName) prog_6_method_13_code (4 : Nat) (Option.some Jvm.ClassFile.FieldType.int)) ∈ lw_all := lw_g (lw_at lw_m5 133 rfl) rfl
theorem q1160 : (Jvm.Cond.interfaceEntry "ScaffolderModel" (45 : Nat)) ∈ lw_tbl := lw_at lw_m5 134 rfl
theorem q1161 : (Jvm.Cond.methodLink "ScaffolderModel" (45 : Nat) ({ cls := "java/util/List", name := "size", desc := "()I" } : Jvm.MethodName)) ∈ lw_all := lw_g (lw_at lw_m5 135 rfl) rfl
theorem q1162 : (Jvm.Cond.methodLink "ScaffolderModel" (79 : Nat) ({ cls := "java/lang/Integer", name := "valueOf", desc := "(I)Ljava/lang/Integer;" } : Jvm.MethodName)) ∈ lw_all := lw_g (lw_at lw_m5 136 rfl) rfl
theorem q1182 : (Jvm.Cond.interfaceEntry "ScaffolderModel" (83 : Nat)) ∈ lw_tbl := lw_at lw_m5 156 rfl
theorem q1183 : (Jvm.Cond.methodLink "ScaffolderModel" (83 : Nat) ({ cls := "java/util/List", name := "add", desc := "(Ljava/lang/Object;)Z" } : Jvm.MethodName)) ∈ lw_all := lw_g (lw_at lw_m5 157 rfl) rfl
theorem q1184 : (Jvm.Cond.classLink "ScaffolderModel" (87 : Nat) "ScaffolderModel$Bay") ∈ lw_all := lw_g (lw_at lw_m5 158 rfl) rfl
theorem q1186 : (Jvm.Cond.methodLink "ScaffolderModel" (89 : Nat) ({ cls := "ScaffolderModel$Bay", name := "<init>", desc := "(II)V" } : Jvm.MethodName)) ∈ lw_all := lw_g (lw_at lw_m5 160 rfl) rfl
theorem q1191 : (Jvm.Cond.fieldLinkNest "ScaffolderModel" (96 : Nat) "ScaffolderModel$Bay" "face" "I" "ScaffolderModel") ∈ lw_tbl := lw_at lw_m5 165 rfl
theorem q1193 : (Jvm.Cond.fieldLinkNest "ScaffolderModel" (195 : Nat) "ScaffolderModel$Bay" "number" "I" "ScaffolderModel") ∈ lw_tbl := lw_at lw_m5 167 rfl
theorem q1195 : (Jvm.Cond.fieldLinkNest "ScaffolderModel" (139 : Nat) "ScaffolderModel$Bay" "boarded" "[Z" "ScaffolderModel") ∈ lw_tbl := lw_at lw_m5 169 rfl
theorem q1197 : (Jvm.Cond.fieldLinkNest "ScaffolderModel" (145 : Nat) "ScaffolderModel$Bay" "sort" "[I" "ScaffolderModel") ∈ lw_tbl := lw_at lw_m5 171 rfl
theorem q1199 : (Jvm.Cond.fieldLinkNest "ScaffolderModel" (154 : Nat) "ScaffolderModel$Bay" "laid" "[I" "ScaffolderModel") ∈ lw_tbl := lw_at lw_m5 173 rfl
theorem q1201 : (Jvm.Cond.fieldLinkNest "ScaffolderModel" (105 : Nat) "ScaffolderModel$Bay" "lifts" "I" "ScaffolderModel") ∈ lw_tbl := lw_at lw_m5 175 rfl
theorem q1216 : (Jvm.Cond.instanceMethod ({ cls := "ScaffolderModel", name := "faceOf", desc := "(I)I" } : Jvm.MethodName)) ∈ lw_all := lw_g (lw_at lw_m5 190 rfl) rfl
theorem q1217 : (Jvm.Cond.selects "ScaffolderModel" ({ cls := "ScaffolderModel", name := "faceOf", desc := "(I)I" } : Jvm.MethodName) ({ cls := "ScaffolderModel", name := "faceOf", desc := "(I)I" } : Jvm.MethodName)) ∈ lw_all := lw_g (lw_at lw_m5 191 rfl) rfl
theorem q1218 : (Jvm.Cond.code ({ cls := "ScaffolderModel", name := "faceOf", desc := "(I)I" } : Jvm.MethodName) prog_6_method_14_code (2 : Nat) (Option.some Jvm.ClassFile.FieldType.int)) ∈ lw_all := lw_g (lw_at lw_m5 192 rfl) rfl
theorem q1219 : (Jvm.Cond.methodLink "ScaffolderModel" (92 : Nat) ({ cls := "ScaffolderModel", name := "isBay", desc := "(I)Z" } : Jvm.MethodName)) ∈ lw_all := lw_g (lw_at lw_m5 193 rfl) rfl
theorem q1220 : (Jvm.Cond.privateMethod ({ cls := "ScaffolderModel", name := "isBay", desc := "(I)Z" } : Jvm.MethodName)) ∈ lw_tbl := lw_at lw_m5 194 rfl
theorem q1221 : (Jvm.Cond.instanceMethod ({ cls := "ScaffolderModel", name := "isBay", desc := "(I)Z" } : Jvm.MethodName)) ∈ lw_all := lw_g (lw_at lw_m5 195 rfl) rfl
theorem q1222 : (Jvm.Cond.code ({ cls := "ScaffolderModel", name := "isBay", desc := "(I)Z" } : Jvm.MethodName) prog_6_method_7_code (2 : Nat) (Option.some Jvm.ClassFile.FieldType.boolean)) ∈ lw_all := lw_g (lw_at lw_m5 196 rfl) rfl
theorem q1223 : (Jvm.Cond.interfaceEntry "ScaffolderModel" (59 : Nat)) ∈ lw_tbl := lw_at lw_m5 197 rfl
theorem q1224 : (Jvm.Cond.methodLink "ScaffolderModel" (59 : Nat) ({ cls := "java/util/List", name := "get", desc := "(I)Ljava/lang/Object;" } : Jvm.MethodName)) ∈ lw_all := lw_g (lw_at lw_m5 198 rfl) rfl
theorem q1226 : (Jvm.Cond.instanceMethod ({ cls := "ScaffolderModel", name := "isCorner", desc := "(I)Z" } : Jvm.MethodName)) ∈ lw_all := lw_g (lw_at lw_m5 200 rfl) rfl
theorem q1227 : (Jvm.Cond.selects "ScaffolderModel" ({ cls := "ScaffolderModel", name := "isCorner", desc := "(I)Z" } : Jvm.MethodName) ({ cls := "ScaffolderModel", name := "isCorner", desc := "(I)Z" } : Jvm.MethodName)) ∈ lw_all := lw_g (lw_at lw_m5 201 rfl) rfl
theorem q1228 : (Jvm.Cond.code ({ cls := "ScaffolderModel", name := "isCorner", desc := "(I)Z" } : Jvm.MethodName) prog_6_method_16_code (2 : Nat) (Option.some Jvm.ClassFile.FieldType.boolean)) ∈ lw_all := lw_g (lw_at lw_m5 202 rfl) rfl
theorem q1229 : (Jvm.Cond.methodLink "ScaffolderModel" (99 : Nat) ({ cls := "ScaffolderModel", name := "isPosition", desc := "(I)Z" } : Jvm.MethodName)) ∈ lw_all := lw_g (lw_at lw_m5 203 rfl) rfl
theorem q1230 : (Jvm.Cond.privateMethod ({ cls := "ScaffolderModel", name := "isPosition", desc := "(I)Z" } : Jvm.MethodName)) ∈ lw_tbl := lw_at lw_m5 204 rfl
theorem q1231 : (Jvm.Cond.instanceMethod ({ cls := "ScaffolderModel", name := "isPosition", desc := "(I)Z" } : Jvm.MethodName)) ∈ lw_all := lw_g (lw_at lw_m5 205 rfl) rfl
theorem q1232 : (Jvm.Cond.code ({ cls := "ScaffolderModel", name := "isPosition", desc := "(I)Z" } : Jvm.MethodName) prog_6_method_8_code (2 : Nat) (Option.some Jvm.ClassFile.FieldType.boolean)) ∈ lw_all := lw_g (lw_at lw_m5 206 rfl) rfl
theorem q1233 : (Jvm.Cond.interfaceEntry "ScaffolderModel" (55 : Nat)) ∈ lw_tbl := lw_at lw_m5 207 rfl
theorem q1234 : (Jvm.Cond.methodLink "ScaffolderModel" (55 : Nat) ({ cls := "java/util/List", name := "isEmpty", desc := "()Z" } : Jvm.MethodName)) ∈ lw_all := lw_g (lw_at lw_m5 208 rfl) rfl
theorem q1235 : (Jvm.Cond.methodLink "ScaffolderModel" (102 : Nat) ({ cls := "ScaffolderModel", name := "isBetween", desc := "(I)Z" } : Jvm.MethodName)) ∈ lw_all := lw_g (lw_at lw_m5 209 rfl) rfl
theorem q1236 : (Jvm.Cond.privateMethod ({ cls := "ScaffolderModel", name := "isBetween", desc := "(I)Z" } : Jvm.MethodName)) ∈ lw_tbl := lw_at lw_m5 210 rfl
theorem q1237 : (Jvm.Cond.instanceMethod ({ cls := "ScaffolderModel", name := "isBetween", desc := "(I)Z" } : Jvm.MethodName)) ∈ lw_all := lw_g (lw_at lw_m5 211 rfl) rfl
theorem q1238 : (Jvm.Cond.code ({ cls := "ScaffolderModel", name := "isBetween", desc := "(I)Z" } : Jvm.MethodName) prog_6_method_15_code (2 : Nat) (Option.some Jvm.ClassFile.FieldType.boolean)) ∈ lw_all := lw_g (lw_at lw_m5 212 rfl) rfl
theorem q1240 : (Jvm.Cond.instanceMethod ({ cls := "ScaffolderModel", name := "levels", desc := "(I)I" } : Jvm.MethodName)) ∈ lw_all := lw_g (lw_at lw_m5 214 rfl) rfl
theorem q1241 : (Jvm.Cond.selects "ScaffolderModel" ({ cls := "ScaffolderModel", name := "levels", desc := "(I)I" } : Jvm.MethodName) ({ cls := "ScaffolderModel", name := "levels", desc := "(I)I" } : Jvm.MethodName)) ∈ lw_all := lw_g (lw_at lw_m5 215 rfl) rfl
theorem q1242 : (Jvm.Cond.code ({ cls := "ScaffolderModel", name := "levels", desc := "(I)I" } : Jvm.MethodName) prog_6_method_19_code (2 : Nat) (Option.some Jvm.ClassFile.FieldType.int)) ∈ lw_all := lw_g (lw_at lw_m5 216 rfl) rfl
theorem q1243 : (Jvm.Cond.methodLink "ScaffolderModel" (114 : Nat) ({ cls := "ScaffolderModel", name := "levelsOf", desc := "(I)I" } : Jvm.MethodName)) ∈ lw_all := lw_g (lw_at lw_m5 217 rfl) rfl
theorem q1244 : (Jvm.Cond.privateMethod ({ cls := "ScaffolderModel", name := "levelsOf", desc := "(I)I" } : Jvm.MethodName)) ∈ lw_tbl := lw_at lw_m5 218 rfl
theorem q1245 : (Jvm.Cond.instanceMethod ({ cls := "ScaffolderModel", name := "levelsOf", desc := "(I)I" } : Jvm.MethodName)) ∈ lw_all := lw_g (lw_at lw_m5 219 rfl) rfl
theorem q1246 : (Jvm.Cond.code ({ cls := "ScaffolderModel", name := "levelsOf", desc := "(I)I" } : Jvm.MethodName) prog_6_method_18_code (4 : Nat) (Option.some Jvm.ClassFile.FieldType.int)) ∈ lw_all := lw_g (lw_at lw_m5 220 rfl) rfl
theorem q1247 : (Jvm.Cond.methodLink "ScaffolderModel" (108 : Nat) ({ cls := "java/lang/Math", name := "max", desc := "(II)I" } : Jvm.MethodName)) ∈ lw_all := lw_g (lw_at lw_m5 221 rfl) rfl
theorem q1249 : (Jvm.Cond.instanceMethod ({ cls := "ScaffolderModel", name := "lifts", desc := "(I)I" } : Jvm.MethodName)) ∈ lw_all := lw_g (lw_at lw_m5 223 rfl) rfl
theorem q1250 : (Jvm.Cond.selects "ScaffolderModel" ({ cls := "ScaffolderModel", name := "lifts", desc := "(I)I" } : Jvm.MethodName) ({ cls := "ScaffolderModel", name := "lifts", desc := "(I)I" } : Jvm.MethodName)) ∈ lw_all := lw_g (lw_at lw_m5 224 rfl) rfl
theorem q1251 : (Jvm.Cond.code ({ cls := "ScaffolderModel", name := "lifts", desc := "(I)I" } : Jvm.MethodName) prog_6_method_20_code (2 : Nat) (Option.some Jvm.ClassFile.FieldType.int)) ∈ lw_all := lw_g (lw_at lw_m5 225 rfl) rfl
theorem q1253 : (Jvm.Cond.instanceMethod ({ cls := "ScaffolderModel", name := "setLifts", desc := "(II)I" } : Jvm.MethodName)) ∈ lw_all := lw_g (lw_at lw_m5 227 rfl) rfl
theorem q1254 : (Jvm.Cond.selects "ScaffolderModel" ({ cls := "ScaffolderModel", name := "setLifts", desc := "(II)I" } : Jvm.MethodName) ({ cls := "ScaffolderModel", name := "setLifts", desc := "(II)I" } : Jvm.MethodName)) ∈ lw_all := lw_g (lw_at lw_m5 228 rfl) rfl
theorem q1255 : (Jvm.Cond.code ({ cls := "ScaffolderModel", name := "setLifts", desc := "(II)I" } : Jvm.MethodName) prog_6_method_26_code (4 : Nat) (Option.some Jvm.ClassFile.FieldType.int)) ∈ lw_all := lw_g (lw_at lw_m5 229 rfl) rfl
theorem q1256 : (Jvm.Cond.methodLink "ScaffolderModel" (127 : Nat) ({ cls := "ScaffolderModel$Bay", name := "setLifts", desc := "(I)V" } : Jvm.MethodName)) ∈ lw_all := lw_g (lw_at lw_m5 230 rfl) rfl
theorem q1261 : (Jvm.Cond.instanceMethod ({ cls := "ScaffolderModel", name := "board", desc := "(IIZ)Z" } : Jvm.MethodName)) ∈ lw_all := lw_g (lw_at lw_m5 235 rfl) rfl
theorem q1262 : (Jvm.Cond.selects "ScaffolderModel" ({ cls := "ScaffolderModel", name := "board", desc := "(IIZ)Z" } : Jvm.MethodName) ({ cls := "ScaffolderModel", name := "board", desc := "(IIZ)Z" } : Jvm.MethodName)) ∈ lw_all := lw_g (lw_at lw_m5 236 rfl) rfl
theorem q1263 : (Jvm.Cond.code ({ cls := "ScaffolderModel", name := "board", desc := "(IIZ)Z" } : Jvm.MethodName) prog_6_method_28_code (5 : Nat) (Option.some Jvm.ClassFile.FieldType.boolean)) ∈ lw_all := lw_g (lw_at lw_m5 237 rfl) rfl
theorem q1264 : (Jvm.Cond.methodLink "ScaffolderModel" (134 : Nat) ({ cls := "ScaffolderModel", name := "isLevel", desc := "(I)Z" } : Jvm.MethodName)) ∈ lw_all := lw_g (lw_at lw_m5 238 rfl) rfl
theorem q1265 : (Jvm.Cond.static ({ cls := "ScaffolderModel", name := "isLevel", desc := "(I)Z" } : Jvm.MethodName)) ∈ lw_all := lw_g (lw_at lw_m5 239 rfl) rfl
theorem q1266 : (Jvm.Cond.code ({ cls := "ScaffolderModel", name := "isLevel", desc := "(I)Z" } : Jvm.MethodName) prog_6_method_9_code (1 : Nat) (Option.some Jvm.ClassFile.FieldType.boolean)) ∈ lw_all := lw_g (lw_at lw_m6 0 rfl) rfl
theorem q1267 : (Jvm.Cond.methodLink "ScaffolderModel" (137 : Nat) ({ cls := "ScaffolderModel", name := "has", desc := "(II)Z" } : Jvm.MethodName)) ∈ lw_all := lw_g (lw_at lw_m6 1 rfl) rfl
theorem q1268 : (Jvm.Cond.privateMethod ({ cls := "ScaffolderModel", name := "has", desc := "(II)Z" } : Jvm.MethodName)) ∈ lw_tbl := lw_at lw_m6 2 rfl
theorem q1269 : (Jvm.Cond.instanceMethod ({ cls := "ScaffolderModel", name := "has", desc := "(II)Z" } : Jvm.MethodName)) ∈ lw_all := lw_g (lw_at lw_m6 3 rfl) rfl
theorem q1270 : (Jvm.Cond.code ({ cls := "ScaffolderModel", name := "has", desc := "(II)Z" } : Jvm.MethodName) prog_6_method_27_code (3 : Nat) (Option.some Jvm.ClassFile.FieldType.boolean)) ∈ lw_all := lw_g (lw_at lw_m6 4 rfl) rfl
theorem q1271 : (Jvm.Cond.methodLink "ScaffolderModel" (131 : Nat) ({ cls := "ScaffolderModel$Bay", name := "has", desc := "(I)Z" } : Jvm.MethodName)) ∈ lw_all := lw_g (lw_at lw_m6 5 rfl) rfl
theorem q1276 : (Jvm.Cond.methodLink "ScaffolderModel" (142 : Nat) ({ cls := "ScaffolderModel", name := "withdrawAround", desc := "(I)V" } : Jvm.MethodName)) ∈ lw_all := lw_g (lw_at lw_m6 10 rfl) rfl
theorem q1277 : (Jvm.Cond.privateMethod ({ cls := "ScaffolderModel", name := "withdrawAround", desc := "(I)V" } : Jvm.MethodName)) ∈ lw_tbl := lw_at lw_m6 11 rfl
theorem q1278 : (Jvm.Cond.instanceMethod ({ cls := "ScaffolderModel", name := "withdrawAround", desc := "(I)V" } : Jvm.MethodName)) ∈ lw_all := lw_g (lw_at lw_m6 12 rfl) rfl
theorem q1279 : (Jvm.Cond.code ({ cls := "ScaffolderModel", name := "withdrawAround", desc := "(I)V" } : Jvm.MethodName) prog_6_method_24_code (3 : Nat) (Option.none : Option Jvm.ClassFile.FieldType)) ∈ lw_all := lw_g (lw_at lw_m6 13 rfl) rfl
theorem q1280 : (Jvm.Cond.methodLink "ScaffolderModel" (120 : Nat) ({ cls := "ScaffolderModel", name := "touches", desc := "(II)Z" } : Jvm.MethodName)) ∈ lw_all := lw_g (lw_at lw_m6 14 rfl) rfl
theorem q1281 : (Jvm.Cond.privateMethod ({ cls := "ScaffolderModel", name := "touches", desc := "(II)Z" } : Jvm.MethodName)) ∈ lw_tbl := lw_at lw_m6 15 rfl
theorem q1282 : (Jvm.Cond.instanceMethod ({ cls := "ScaffolderModel", name := "touches", desc := "(II)Z" } : Jvm.MethodName)) ∈ lw_all := lw_g (lw_at lw_m6 16 rfl) rfl
theorem q1283 : (Jvm.Cond.code ({ cls := "ScaffolderModel", name := "touches", desc := "(II)Z" } : Jvm.MethodName) prog_6_method_23_code (3 : Nat) (Option.some Jvm.ClassFile.FieldType.boolean)) ∈ lw_all := lw_g (lw_at lw_m6 17 rfl) rfl
theorem q1284 : (Jvm.Cond.classLink "ScaffolderModel" (63 : Nat) "java/lang/Integer") ∈ lw_all := lw_g (lw_at lw_m6 18 rfl) rfl
theorem q1285 : (Jvm.Cond.methodLink "ScaffolderModel" (65 : Nat) ({ cls := "java/lang/Integer", name := "intValue", desc := "()I" } : Jvm.MethodName)) ∈ lw_all := lw_g (lw_at lw_m6 19 rfl) rfl
theorem q1289 : (Jvm.Cond.methodLink "ScaffolderModel" (117 : Nat) ({ cls := "ScaffolderModel", name := "endOf", desc := "(I)I" } : Jvm.MethodName)) ∈ lw_all := lw_g (lw_at lw_m6 23 rfl) rfl
theorem q1290 : (Jvm.Cond.privateMethod ({ cls := "ScaffolderModel", name := "endOf", desc := "(I)I" } : Jvm.MethodName)) ∈ lw_tbl := lw_at lw_m6 24 rfl
theorem q1291 : (Jvm.Cond.instanceMethod ({ cls := "ScaffolderModel", name := "endOf", desc := "(I)I" } : Jvm.MethodName)) ∈ lw_all := lw_g (lw_at lw_m6 25 rfl) rfl
theorem q1292 : (Jvm.Cond.code ({ cls := "ScaffolderModel", name := "endOf", desc := "(I)I" } : Jvm.MethodName) prog_6_method_10_code (2 : Nat) (Option.some Jvm.ClassFile.FieldType.int)) ∈ lw_all := lw_g (lw_at lw_m6 26 rfl) rfl
theorem q1294 : (Jvm.Cond.instanceMethod ({ cls := "ScaffolderModel", name := "setClass", desc := "(III)I" } : Jvm.MethodName)) ∈ lw_all := lw_g (lw_at lw_m6 28 rfl) rfl
theorem q1295 : (Jvm.Cond.selects "ScaffolderModel" ({ cls := "ScaffolderModel", name := "setClass", desc := "(III)I" } : Jvm.MethodName) ({ cls := "ScaffolderModel", name := "setClass", desc := "(III)I" } : Jvm.MethodName)) ∈ lw_all := lw_g (lw_at lw_m6 29 rfl) rfl
theorem q1296 : (Jvm.Cond.code ({ cls := "ScaffolderModel", name := "setClass", desc := "(III)I" } : Jvm.MethodName) prog_6_method_29_code (5 : Nat) (Option.some Jvm.ClassFile.FieldType.int)) ∈ lw_all := lw_g (lw_at lw_m6 30 rfl) rfl
theorem q1298 : (Jvm.Cond.instanceMethod ({ cls := "ScaffolderModel", name := "lay", desc := "(III)I" } : Jvm.MethodName)) ∈ lw_all := lw_g (lw_at lw_m6 32 rfl) rfl
theorem q1299 : (Jvm.Cond.selects "ScaffolderModel" ({ cls := "ScaffolderModel", name := "lay", desc := "(III)I" } : Jvm.MethodName) ({ cls := "ScaffolderModel", name := "lay", desc := "(III)I" } : Jvm.MethodName)) ∈ lw_all := lw_g (lw_at lw_m6 33 rfl) rfl
theorem q1300 : (Jvm.Cond.code ({ cls := "ScaffolderModel", name := "lay", desc := "(III)I" } : Jvm.MethodName) prog_6_method_31_code (6 : Nat) (Option.some Jvm.ClassFile.FieldType.int)) ∈ lw_all := lw_g (lw_at lw_m6 34 rfl) rfl
theorem q1301 : (Jvm.Cond.methodLink "ScaffolderModel" (157 : Nat) ({ cls := "ScaffolderModel", name := "canLay", desc := "(III)Z" } : Jvm.MethodName)) ∈ lw_all := lw_g (lw_at lw_m6 35 rfl) rfl
theorem q1302 : (Jvm.Cond.privateMethod ({ cls := "ScaffolderModel", name := "canLay", desc := "(III)Z" } : Jvm.MethodName)) ∈ lw_tbl := lw_at lw_m6 36 rfl
theorem q1303 : (Jvm.Cond.instanceMethod ({ cls := "ScaffolderModel", name := "canLay", desc := "(III)Z" } : Jvm.MethodName)) ∈ lw_all := lw_g (lw_at lw_m6 37 rfl) rfl
theorem q1304 : (Jvm.Cond.code ({ cls := "ScaffolderModel", name := "canLay", desc := "(III)Z" } : Jvm.MethodName) prog_6_method_30_code (6 : Nat) (Option.some Jvm.ClassFile.FieldType.boolean)) ∈ lw_all := lw_g (lw_at lw_m6 38 rfl) rfl
theorem q1305 : (Jvm.Cond.fieldLink "ScaffolderModel" (148 : Nat) "ScaffolderModel" "BEARS" "[I") ∈ lw_all := lw_g (lw_at lw_m6 39 rfl) rfl
theorem q1306 : (Jvm.Cond.laysStatic "ScaffolderModel" "BEARS" "[I") ∈ lw_tbl := lw_at lw_m6 40 rfl
theorem q1307 : (Jvm.Cond.methodLink "ScaffolderModel" (151 : Nat) ({ cls := "ScaffolderModel", name := "areGreenAround", desc := "(I)Z" } : Jvm.MethodName)) ∈ lw_all := lw_g (lw_at lw_m6 41 rfl) rfl
theorem q1308 : (Jvm.Cond.privateMethod ({ cls := "ScaffolderModel", name := "areGreenAround", desc := "(I)Z" } : Jvm.MethodName)) ∈ lw_tbl := lw_at lw_m6 42 rfl
theorem q1309 : (Jvm.Cond.instanceMethod ({ cls := "ScaffolderModel", name := "areGreenAround", desc := "(I)Z" } : Jvm.MethodName)) ∈ lw_all := lw_g (lw_at lw_m6 43 rfl) rfl
theorem q1310 : (Jvm.Cond.code ({ cls := "ScaffolderModel", name := "areGreenAround", desc := "(I)Z" } : Jvm.MethodName) prog_6_method_25_code (4 : Nat) (Option.some Jvm.ClassFile.FieldType.boolean)) ∈ lw_all := lw_g (lw_at lw_m6 44 rfl) rfl
theorem q1311 : (Jvm.Cond.methodLink "ScaffolderModel" (124 : Nat) ({ cls := "ScaffolderModel", name := "isGreen", desc := "(I)Z" } : Jvm.MethodName)) ∈ lw_all := lw_g (lw_at lw_m6 45 rfl) rfl
theorem q1312 : (Jvm.Cond.privateMethod ({ cls := "ScaffolderModel", name := "isGreen", desc := "(I)Z" } : Jvm.MethodName)) ∈ lw_tbl := lw_at lw_m6 46 rfl
theorem q1313 : (Jvm.Cond.instanceMethod ({ cls := "ScaffolderModel", name := "isGreen", desc := "(I)Z" } : Jvm.MethodName)) ∈ lw_all := lw_g (lw_at lw_m6 47 rfl) rfl
theorem q1314 : (Jvm.Cond.code ({ cls := "ScaffolderModel", name := "isGreen", desc := "(I)Z" } : Jvm.MethodName) prog_6_method_22_code (2 : Nat) (Option.some Jvm.ClassFile.FieldType.boolean)) ∈ lw_all := lw_g (lw_at lw_m6 48 rfl) rfl
theorem q1316 : (Jvm.Cond.instanceMethod ({ cls := "ScaffolderModel", name := "bayAt", desc := "(III)I" } : Jvm.MethodName)) ∈ lw_all := lw_g (lw_at lw_m6 50 rfl) rfl
theorem q1317 : (Jvm.Cond.selects "ScaffolderModel" ({ cls := "ScaffolderModel", name := "bayAt", desc := "(III)I" } : Jvm.MethodName) ({ cls := "ScaffolderModel", name := "bayAt", desc := "(III)I" } : Jvm.MethodName)) ∈ lw_all := lw_g (lw_at lw_m6 51 rfl) rfl
theorem q1318 : (Jvm.Cond.code ({ cls := "ScaffolderModel", name := "bayAt", desc := "(III)I" } : Jvm.MethodName) prog_6_method_32_code (5 : Nat) (Option.some Jvm.ClassFile.FieldType.int)) ∈ lw_all := lw_g (lw_at lw_m6 52 rfl) rfl
theorem q1320 : (Jvm.Cond.instanceMethod ({ cls := "ScaffolderModel", name := "cut", desc := "(IIZ)Z" } : Jvm.MethodName)) ∈ lw_all := lw_g (lw_at lw_m6 54 rfl) rfl
theorem q1321 : (Jvm.Cond.selects "ScaffolderModel" ({ cls := "ScaffolderModel", name := "cut", desc := "(IIZ)Z" } : Jvm.MethodName) ({ cls := "ScaffolderModel", name := "cut", desc := "(IIZ)Z" } : Jvm.MethodName)) ∈ lw_all := lw_g (lw_at lw_m6 55 rfl) rfl
theorem q1322 : (Jvm.Cond.code ({ cls := "ScaffolderModel", name := "cut", desc := "(IIZ)Z" } : Jvm.MethodName) prog_6_method_33_code (5 : Nat) (Option.some Jvm.ClassFile.FieldType.boolean)) ∈ lw_all := lw_g (lw_at lw_m6 56 rfl) rfl
theorem q1324 : (Jvm.Cond.instanceMethod ({ cls := "ScaffolderModel", name := "setLimit", desc := "(I)I" } : Jvm.MethodName)) ∈ lw_all := lw_g (lw_at lw_m6 58 rfl) rfl
theorem q1325 : (Jvm.Cond.selects "ScaffolderModel" ({ cls := "ScaffolderModel", name := "setLimit", desc := "(I)I" } : Jvm.MethodName) ({ cls := "ScaffolderModel", name := "setLimit", desc := "(I)I" } : Jvm.MethodName)) ∈ lw_all := lw_g (lw_at lw_m6 59 rfl) rfl
theorem q1326 : (Jvm.Cond.code ({ cls := "ScaffolderModel", name := "setLimit", desc := "(I)I" } : Jvm.MethodName) prog_6_method_34_code (3 : Nat) (Option.some Jvm.ClassFile.FieldType.int)) ∈ lw_all := lw_g (lw_at lw_m6 60 rfl) rfl
theorem q1328 : (Jvm.Cond.instanceMethod ({ cls := "ScaffolderModel", name := "tieOf", desc := "(II)I" } : Jvm.MethodName)) ∈ lw_all := lw_g (lw_at lw_m6 62 rfl) rfl
theorem q1329 : (Jvm.Cond.selects "ScaffolderModel" ({ cls := "ScaffolderModel", name := "tieOf", desc := "(II)I" } : Jvm.MethodName) ({ cls := "ScaffolderModel", name := "tieOf", desc := "(II)I" } : Jvm.MethodName)) ∈ lw_all := lw_g (lw_at lw_m6 63 rfl) rfl
theorem q1330 : (Jvm.Cond.code ({ cls := "ScaffolderModel", name := "tieOf", desc := "(II)I" } : Jvm.MethodName) prog_6_method_38_code (3 : Nat) (Option.some Jvm.ClassFile.FieldType.int)) ∈ lw_all := lw_g (lw_at lw_m6 64 rfl) rfl
theorem q1331 : (Jvm.Cond.methodLink "ScaffolderModel" (166 : Nat) ({ cls := "ScaffolderModel", name := "findTies", desc := "(I)V" } : Jvm.MethodName)) ∈ lw_all := lw_g (lw_at lw_m6 65 rfl) rfl
theorem q1332 : (Jvm.Cond.privateMethod ({ cls := "ScaffolderModel", name := "findTies", desc := "(I)V" } : Jvm.MethodName)) ∈ lw_tbl := lw_at lw_m6 66 rfl
theorem q1333 : (Jvm.Cond.instanceMethod ({ cls := "ScaffolderModel", name := "findTies", desc := "(I)V" } : Jvm.MethodName)) ∈ lw_all := lw_g (lw_at lw_m6 67 rfl) rfl
theorem q1334 : (Jvm.Cond.code ({ cls := "ScaffolderModel", name := "findTies", desc := "(I)V" } : Jvm.MethodName) prog_6_method_37_code (3 : Nat) (Option.none : Option Jvm.ClassFile.FieldType)) ∈ lw_all := lw_g (lw_at lw_m6 68 rfl) rfl
theorem q1335 : (Jvm.Cond.methodLink "ScaffolderModel" (160 : Nat) ({ cls := "ScaffolderModel", name := "asksFor", desc := "(II)Z" } : Jvm.MethodName)) ∈ lw_all := lw_g (lw_at lw_m6 69 rfl) rfl
theorem q1336 : (Jvm.Cond.privateMethod ({ cls := "ScaffolderModel", name := "asksFor", desc := "(II)Z" } : Jvm.MethodName)) ∈ lw_tbl := lw_at lw_m6 70 rfl
theorem q1337 : (Jvm.Cond.instanceMethod ({ cls := "ScaffolderModel", name := "asksFor", desc := "(II)Z" } : Jvm.MethodName)) ∈ lw_all := lw_g (lw_at lw_m6 71 rfl) rfl
theorem q1338 : (Jvm.Cond.code ({ cls := "ScaffolderModel", name := "asksFor", desc := "(II)Z" } : Jvm.MethodName) prog_6_method_35_code (3 : Nat) (Option.some Jvm.ClassFile.FieldType.boolean)) ∈ lw_all := lw_g (lw_at lw_m6 72 rfl) rfl
theorem q1339 : (Jvm.Cond.methodLink "ScaffolderModel" (163 : Nat) ({ cls := "ScaffolderModel", name := "isFree", desc := "(II)Z" } : Jvm.MethodName)) ∈ lw_all := lw_g (lw_at lw_m6 73 rfl) rfl
theorem q1340 : (Jvm.Cond.privateMethod ({ cls := "ScaffolderModel", name := "isFree", desc := "(II)Z" } : Jvm.MethodName)) ∈ lw_tbl := lw_at lw_m6 74 rfl
theorem q1341 : (Jvm.Cond.instanceMethod ({ cls := "ScaffolderModel", name := "isFree", desc := "(II)Z" } : Jvm.MethodName)) ∈ lw_all := lw_g (lw_at lw_m6 75 rfl) rfl
theorem q1342 : (Jvm.Cond.code ({ cls := "ScaffolderModel", name := "isFree", desc := "(II)Z" } : Jvm.MethodName) prog_6_method_36_code (3 : Nat) (Option.some Jvm.ClassFile.FieldType.boolean)) ∈ lw_all := lw_g (lw_at lw_m6 76 rfl) rfl
theorem q1344 : (Jvm.Cond.instanceMethod ({ cls := "ScaffolderModel", name := "hasTie", desc := "(II)Z" } : Jvm.MethodName)) ∈ lw_all := lw_g (lw_at lw_m6 78 rfl) rfl
theorem q1345 : (Jvm.Cond.selects "ScaffolderModel" ({ cls := "ScaffolderModel", name := "hasTie", desc := "(II)Z" } : Jvm.MethodName) ({ cls := "ScaffolderModel", name := "hasTie", desc := "(II)Z" } : Jvm.MethodName)) ∈ lw_all := lw_g (lw_at lw_m6 79 rfl) rfl
theorem q1346 : (Jvm.Cond.code ({ cls := "ScaffolderModel", name := "hasTie", desc := "(II)Z" } : Jvm.MethodName) prog_6_method_39_code (3 : Nat) (Option.some Jvm.ClassFile.FieldType.boolean)) ∈ lw_all := lw_g (lw_at lw_m6 80 rfl) rfl
theorem q1348 : (Jvm.Cond.instanceMethod ({ cls := "ScaffolderModel", name := "missing", desc := "(I)I" } : Jvm.MethodName)) ∈ lw_all := lw_g (lw_at lw_m6 82 rfl) rfl
theorem q1349 : (Jvm.Cond.selects "ScaffolderModel" ({ cls := "ScaffolderModel", name := "missing", desc := "(I)I" } : Jvm.MethodName) ({ cls := "ScaffolderModel", name := "missing", desc := "(I)I" } : Jvm.MethodName)) ∈ lw_all := lw_g (lw_at lw_m6 83 rfl) rfl
theorem q1350 : (Jvm.Cond.code ({ cls := "ScaffolderModel", name := "missing", desc := "(I)I" } : Jvm.MethodName) prog_6_method_41_code (2 : Nat) (Option.some Jvm.ClassFile.FieldType.int)) ∈ lw_all := lw_g (lw_at lw_m6 84 rfl) rfl
theorem q1351 : (Jvm.Cond.methodLink "ScaffolderModel" (169 : Nat) ({ cls := "ScaffolderModel", name := "missingOf", desc := "(I)I" } : Jvm.MethodName)) ∈ lw_all := lw_g (lw_at lw_m6 85 rfl) rfl
theorem q1352 : (Jvm.Cond.privateMethod ({ cls := "ScaffolderModel", name := "missingOf", desc := "(I)I" } : Jvm.MethodName)) ∈ lw_tbl := lw_at lw_m6 86 rfl
theorem q1353 : (Jvm.Cond.instanceMethod ({ cls := "ScaffolderModel", name := "missingOf", desc := "(I)I" } : Jvm.MethodName)) ∈ lw_all := lw_g (lw_at lw_m6 87 rfl) rfl
theorem q1354 : (Jvm.Cond.code ({ cls := "ScaffolderModel", name := "missingOf", desc := "(I)I" } : Jvm.MethodName) prog_6_method_40_code (4 : Nat) (Option.some Jvm.ClassFile.FieldType.int)) ∈ lw_all := lw_g (lw_at lw_m6 88 rfl) rfl
theorem q1356 : (Jvm.Cond.instanceMethod ({ cls := "ScaffolderModel", name := "load", desc := "(IIZ)I" } : Jvm.MethodName)) ∈ lw_all := lw_g (lw_at lw_m6 90 rfl) rfl
theorem q1357 : (Jvm.Cond.selects "ScaffolderModel" ({ cls := "ScaffolderModel", name := "load", desc := "(IIZ)I" } : Jvm.MethodName) ({ cls := "ScaffolderModel", name := "load", desc := "(IIZ)I" } : Jvm.MethodName)) ∈ lw_all := lw_g (lw_at lw_m6 91 rfl) rfl
theorem q1358 : (Jvm.Cond.code ({ cls := "ScaffolderModel", name := "load", desc := "(IIZ)I" } : Jvm.MethodName) prog_6_method_45_code (4 : Nat) (Option.some Jvm.ClassFile.FieldType.int)) ∈ lw_all := lw_g (lw_at lw_m6 92 rfl) rfl
theorem q1359 : (Jvm.Cond.methodLink "ScaffolderModel" (183 : Nat) ({ cls := "ScaffolderModel", name := "loadOf", desc := "(IIZ)I" } : Jvm.MethodName)) ∈ lw_all := lw_g (lw_at lw_m6 93 rfl) rfl
theorem q1360 : (Jvm.Cond.privateMethod ({ cls := "ScaffolderModel", name := "loadOf", desc := "(IIZ)I" } : Jvm.MethodName)) ∈ lw_tbl := lw_at lw_m6 94 rfl
theorem q1361 : (Jvm.Cond.instanceMethod ({ cls := "ScaffolderModel", name := "loadOf", desc := "(IIZ)I" } : Jvm.MethodName)) ∈ lw_all := lw_g (lw_at lw_m6 95 rfl) rfl
theorem q1362 : (Jvm.Cond.code ({ cls := "ScaffolderModel", name := "loadOf", desc := "(IIZ)I" } : Jvm.MethodName) prog_6_method_43_code (6 : Nat) (Option.some Jvm.ClassFile.FieldType.int)) ∈ lw_all := lw_g (lw_at lw_m6 96 rfl) rfl
theorem q1363 : (Jvm.Cond.methodLink "ScaffolderModel" (176 : Nat) ({ cls := "ScaffolderModel", name := "standards", desc := "(I)I" } : Jvm.MethodName)) ∈ lw_all := lw_g (lw_at lw_m6 97 rfl) rfl
theorem q1364 : (Jvm.Cond.privateMethod ({ cls := "ScaffolderModel", name := "standards", desc := "(I)I" } : Jvm.MethodName)) ∈ lw_tbl := lw_at lw_m6 98 rfl
theorem q1365 : (Jvm.Cond.instanceMethod ({ cls := "ScaffolderModel", name := "standards", desc := "(I)I" } : Jvm.MethodName)) ∈ lw_all := lw_g (lw_at lw_m6 99 rfl) rfl
theorem q1366 : (Jvm.Cond.code ({ cls := "ScaffolderModel", name := "standards", desc := "(I)I" } : Jvm.MethodName) prog_6_method_17_code (2 : Nat) (Option.some Jvm.ClassFile.FieldType.int)) ∈ lw_all := lw_g (lw_at lw_m6 100 rfl) rfl
theorem q1367 : (Jvm.Cond.methodLink "ScaffolderModel" (179 : Nat) ({ cls := "ScaffolderModel", name := "halfOf", desc := "(IIZ)I" } : Jvm.MethodName)) ∈ lw_all := lw_g (lw_at lw_m6 101 rfl) rfl
theorem q1368 : (Jvm.Cond.privateMethod ({ cls := "ScaffolderModel", name := "halfOf", desc := "(IIZ)I" } : Jvm.MethodName)) ∈ lw_tbl := lw_at lw_m6 102 rfl
theorem q1369 : (Jvm.Cond.instanceMethod ({ cls := "ScaffolderModel", name := "halfOf", desc := "(IIZ)I" } : Jvm.MethodName)) ∈ lw_all := lw_g (lw_at lw_m6 103 rfl) rfl
theorem q1370 : (Jvm.Cond.code ({ cls := "ScaffolderModel", name := "halfOf", desc := "(IIZ)I" } : Jvm.MethodName) prog_6_method_42_code (4 : Nat) (Option.some Jvm.ClassFile.FieldType.int)) ∈ lw_all := lw_g (lw_at lw_m6 104 rfl) rfl
theorem q1371 : (Jvm.Cond.methodLink "ScaffolderModel" (172 : Nat) ({ cls := "ScaffolderModel$Bay", name := "weight", desc := "(IZ)I" } : Jvm.MethodName)) ∈ lw_all := lw_g (lw_at lw_m6 105 rfl) rfl
theorem q1378 : (Jvm.Cond.instanceMethod ({ cls := "ScaffolderModel", name := "bears", desc := "(I)I" } : Jvm.MethodName)) ∈ lw_all := lw_g (lw_at lw_m6 112 rfl) rfl
theorem q1379 : (Jvm.Cond.selects "ScaffolderModel" ({ cls := "ScaffolderModel", name := "bears", desc := "(I)I" } : Jvm.MethodName) ({ cls := "ScaffolderModel", name := "bears", desc := "(I)I" } : Jvm.MethodName)) ∈ lw_all := lw_g (lw_at lw_m6 113 rfl) rfl
theorem q1380 : (Jvm.Cond.code ({ cls := "ScaffolderModel", name := "bears", desc := "(I)I" } : Jvm.MethodName) prog_6_method_46_code (2 : Nat) (Option.some Jvm.ClassFile.FieldType.int)) ∈ lw_all := lw_g (lw_at lw_m6 114 rfl) rfl
theorem q1381 : (Jvm.Cond.methodLink "ScaffolderModel" (186 : Nat) ({ cls := "ScaffolderModel", name := "bearsOf", desc := "(I)I" } : Jvm.MethodName)) ∈ lw_all := lw_g (lw_at lw_m6 115 rfl) rfl
theorem q1382 : (Jvm.Cond.privateMethod ({ cls := "ScaffolderModel", name := "bearsOf", desc := "(I)I" } : Jvm.MethodName)) ∈ lw_tbl := lw_at lw_m6 116 rfl
theorem q1383 : (Jvm.Cond.instanceMethod ({ cls := "ScaffolderModel", name := "bearsOf", desc := "(I)I" } : Jvm.MethodName)) ∈ lw_all := lw_g (lw_at lw_m6 117 rfl) rfl
theorem q1384 : (Jvm.Cond.code ({ cls := "ScaffolderModel", name := "bearsOf", desc := "(I)I" } : Jvm.MethodName) prog_6_method_44_code (3 : Nat) (Option.some Jvm.ClassFile.FieldType.int)) ∈ lw_all := lw_g (lw_at lw_m6 118 rfl) rfl
theorem q1386 : (Jvm.Cond.instanceMethod ({ cls := "ScaffolderModel", name := "inspect", desc := "(I)I" } : Jvm.MethodName)) ∈ lw_all := lw_g (lw_at lw_m6 120 rfl) rfl
theorem q1387 : (Jvm.Cond.selects "ScaffolderModel" ({ cls := "ScaffolderModel", name := "inspect", desc := "(I)I" } : Jvm.MethodName) ({ cls := "ScaffolderModel", name := "inspect", desc := "(I)I" } : Jvm.MethodName)) ∈ lw_all := lw_g (lw_at lw_m6 121 rfl) rfl
theorem q1388 : (Jvm.Cond.code ({ cls := "ScaffolderModel", name := "inspect", desc := "(I)I" } : Jvm.MethodName) prog_6_method_48_code (3 : Nat) (Option.some Jvm.ClassFile.FieldType.int)) ∈ lw_all := lw_g (lw_at lw_m6 122 rfl) rfl
theorem q1389 : (Jvm.Cond.methodLink "ScaffolderModel" (189 : Nat) ({ cls := "ScaffolderModel", name := "isFace", desc := "(I)Z" } : Jvm.MethodName)) ∈ lw_all := lw_g (lw_at lw_m6 123 rfl) rfl
theorem q1390 : (Jvm.Cond.privateMethod ({ cls := "ScaffolderModel", name := "isFace", desc := "(I)Z" } : Jvm.MethodName)) ∈ lw_tbl := lw_at lw_m6 124 rfl
theorem q1391 : (Jvm.Cond.instanceMethod ({ cls := "ScaffolderModel", name := "isFace", desc := "(I)Z" } : Jvm.MethodName)) ∈ lw_all := lw_g (lw_at lw_m6 125 rfl) rfl
theorem q1392 : (Jvm.Cond.code ({ cls := "ScaffolderModel", name := "isFace", desc := "(I)Z" } : Jvm.MethodName) prog_6_method_6_code (2 : Nat) (Option.some Jvm.ClassFile.FieldType.boolean)) ∈ lw_all := lw_g (lw_at lw_m6 126 rfl) rfl
theorem q1393 : (Jvm.Cond.methodLink "ScaffolderModel" (192 : Nat) ({ cls := "ScaffolderModel", name := "reason", desc := "(I)I" } : Jvm.MethodName)) ∈ lw_all := lw_g (lw_at lw_m6 127 rfl) rfl
theorem q1394 : (Jvm.Cond.privateMethod ({ cls := "ScaffolderModel", name := "reason", desc := "(I)I" } : Jvm.MethodName)) ∈ lw_tbl := lw_at lw_m6 128 rfl
theorem q1395 : (Jvm.Cond.instanceMethod ({ cls := "ScaffolderModel", name := "reason", desc := "(I)I" } : Jvm.MethodName)) ∈ lw_all := lw_g (lw_at lw_m6 129 rfl) rfl
theorem q1396 : (Jvm.Cond.code ({ cls := "ScaffolderModel", name := "reason", desc := "(I)I" } : Jvm.MethodName) prog_6_method_47_code (6 : Nat) (Option.some Jvm.ClassFile.FieldType.int)) ∈ lw_all := lw_g (lw_at lw_m6 130 rfl) rfl
theorem q1398 : (Jvm.Cond.instanceMethod ({ cls := "ScaffolderModel", name := "tag", desc := "(I)I" } : Jvm.MethodName)) ∈ lw_all := lw_g (lw_at lw_m6 132 rfl) rfl
theorem q1399 : (Jvm.Cond.selects "ScaffolderModel" ({ cls := "ScaffolderModel", name := "tag", desc := "(I)I" } : Jvm.MethodName) ({ cls := "ScaffolderModel", name := "tag", desc := "(I)I" } : Jvm.MethodName)) ∈ lw_all := lw_g (lw_at lw_m6 133 rfl) rfl
theorem q1400 : (Jvm.Cond.code ({ cls := "ScaffolderModel", name := "tag", desc := "(I)I" } : Jvm.MethodName) prog_6_method_49_code (2 : Nat) (Option.some Jvm.ClassFile.FieldType.int)) ∈ lw_all := lw_g (lw_at lw_m6 134 rfl) rfl
theorem q1402 : (Jvm.Cond.instanceMethod ({ cls := "ScaffolderModel", name := "parts", desc := "(II)I" } : Jvm.MethodName)) ∈ lw_all := lw_g (lw_at lw_m6 136 rfl) rfl
theorem q1403 : (Jvm.Cond.selects "ScaffolderModel" ({ cls := "ScaffolderModel", name := "parts", desc := "(II)I" } : Jvm.MethodName) ({ cls := "ScaffolderModel", name := "parts", desc := "(II)I" } : Jvm.MethodName)) ∈ lw_all := lw_g (lw_at lw_m6 137 rfl) rfl
theorem q1404 : (Jvm.Cond.code ({ cls := "ScaffolderModel", name := "parts", desc := "(II)I" } : Jvm.MethodName) prog_6_method_53_code (5 : Nat) (Option.some Jvm.ClassFile.FieldType.int)) ∈ lw_all := lw_g (lw_at lw_m6 138 rfl) rfl
theorem q1405 : (Jvm.Cond.methodLink "ScaffolderModel" (204 : Nat) ({ cls := "ScaffolderModel", name := "partsOf", desc := "(II)I" } : Jvm.MethodName)) ∈ lw_all := lw_g (lw_at lw_m6 139 rfl) rfl
theorem q1406 : (Jvm.Cond.privateMethod ({ cls := "ScaffolderModel", name := "partsOf", desc := "(II)I" } : Jvm.MethodName)) ∈ lw_tbl := lw_at lw_m6 140 rfl
theorem q1407 : (Jvm.Cond.instanceMethod ({ cls := "ScaffolderModel", name := "partsOf", desc := "(II)I" } : Jvm.MethodName)) ∈ lw_all := lw_g (lw_at lw_m6 141 rfl) rfl
theorem q1408 : (Jvm.Cond.code ({ cls := "ScaffolderModel", name := "partsOf", desc := "(II)I" } : Jvm.MethodName) prog_6_method_52_code (6 : Nat) (Option.some Jvm.ClassFile.FieldType.int)) ∈ lw_all := lw_g (lw_at lw_m6 142 rfl) rfl
theorem q1409 : (Jvm.Cond.methodLink "ScaffolderModel" (198 : Nat) ({ cls := "ScaffolderModel", name := "partsOfBay", desc := "(II)I" } : Jvm.MethodName)) ∈ lw_all := lw_g (lw_at lw_m6 143 rfl) rfl
theorem q1410 : (Jvm.Cond.privateMethod ({ cls := "ScaffolderModel", name := "partsOfBay", desc := "(II)I" } : Jvm.MethodName)) ∈ lw_tbl := lw_at lw_m6 144 rfl
theorem q1411 : (Jvm.Cond.instanceMethod ({ cls := "ScaffolderModel", name := "partsOfBay", desc := "(II)I" } : Jvm.MethodName)) ∈ lw_all := lw_g (lw_at lw_m6 145 rfl) rfl
theorem q1412 : (Jvm.Cond.code ({ cls := "ScaffolderModel", name := "partsOfBay", desc := "(II)I" } : Jvm.MethodName) prog_6_method_50_code (7 : Nat) (Option.some Jvm.ClassFile.FieldType.int)) ∈ lw_all := lw_g (lw_at lw_m6 146 rfl) rfl
theorem q1413 : (Jvm.Cond.methodLink "ScaffolderModel" (201 : Nat) ({ cls := "ScaffolderModel", name := "partsOfPosition", desc := "(II)I" } : Jvm.MethodName)) ∈ lw_all := lw_g (lw_at lw_m6 147 rfl) rfl
theorem q1414 : (Jvm.Cond.privateMethod ({ cls := "ScaffolderModel", name := "partsOfPosition", desc := "(II)I" } : Jvm.MethodName)) ∈ lw_tbl := lw_at lw_m6 148 rfl
theorem q1415 : (Jvm.Cond.instanceMethod ({ cls := "ScaffolderModel", name := "partsOfPosition", desc := "(II)I" } : Jvm.MethodName)) ∈ lw_all := lw_g (lw_at lw_m6 149 rfl) rfl
theorem q1416 : (Jvm.Cond.code ({ cls := "ScaffolderModel", name := "partsOfPosition", desc := "(II)I" } : Jvm.MethodName) prog_6_method_51_code (6 : Nat) (Option.some Jvm.ClassFile.FieldType.int)) ∈ lw_all := lw_g (lw_at lw_m6 150 rfl) rfl
theorem q1418 : (Jvm.Cond.instanceMethod ({ cls := "ScaffolderModel", name := "weakest", desc := "(I)I" } : Jvm.MethodName)) ∈ lw_all := lw_g (lw_at lw_m6 152 rfl) rfl
theorem q1419 : (Jvm.Cond.selects "ScaffolderModel" ({ cls := "ScaffolderModel", name := "weakest", desc := "(I)I" } : Jvm.MethodName) ({ cls := "ScaffolderModel", name := "weakest", desc := "(I)I" } : Jvm.MethodName)) ∈ lw_all := lw_g (lw_at lw_m6 153 rfl) rfl
theorem q1420 : (Jvm.Cond.code ({ cls := "ScaffolderModel", name := "weakest", desc := "(I)I" } : Jvm.MethodName) prog_6_method_55_code (4 : Nat) (Option.some Jvm.ClassFile.FieldType.int)) ∈ lw_all := lw_g (lw_at lw_m6 154 rfl) rfl
theorem q1421 : (Jvm.Cond.methodLink "ScaffolderModel" (207 : Nat) ({ cls := "ScaffolderModel", name := "spare", desc := "(I)I" } : Jvm.MethodName)) ∈ lw_all := lw_g (lw_at lw_m6 155 rfl) rfl
theorem q1422 : (Jvm.Cond.privateMethod ({ cls := "ScaffolderModel", name := "spare", desc := "(I)I" } : Jvm.MethodName)) ∈ lw_tbl := lw_at lw_m6 156 rfl
theorem q1423 : (Jvm.Cond.instanceMethod ({ cls := "ScaffolderModel", name := "spare", desc := "(I)I" } : Jvm.MethodName)) ∈ lw_all := lw_g (lw_at lw_m6 157 rfl) rfl
theorem q1424 : (Jvm.Cond.code ({ cls := "ScaffolderModel", name := "spare", desc := "(I)I" } : Jvm.MethodName) prog_6_method_54_code (2 : Nat) (Option.some Jvm.ClassFile.FieldType.int)) ∈ lw_all := lw_g (lw_at lw_m6 158 rfl) rfl
theorem q1426 : (Jvm.Cond.instanceMethod ({ cls := "ScaffolderModel", name := "mostClass", desc := "(II)I" } : Jvm.MethodName)) ∈ lw_all := lw_g (lw_at lw_m6 160 rfl) rfl
theorem q1427 : (Jvm.Cond.selects "ScaffolderModel" ({ cls := "ScaffolderModel", name := "mostClass", desc := "(II)I" } : Jvm.MethodName) ({ cls := "ScaffolderModel", name := "mostClass", desc := "(II)I" } : Jvm.MethodName)) ∈ lw_all := lw_g (lw_at lw_m6 161 rfl) rfl
theorem q1428 : (Jvm.Cond.code ({ cls := "ScaffolderModel", name := "mostClass", desc := "(II)I" } : Jvm.MethodName) prog_6_method_56_code (7 : Nat) (Option.some Jvm.ClassFile.FieldType.int)) ∈ lw_all := lw_g (lw_at lw_m6 162 rfl) rfl
theorem q1430 : (Jvm.Cond.instanceMethod ({ cls := "ScaffolderModel", name := "counts", desc := "(I)I" } : Jvm.MethodName)) ∈ lw_all := lw_g (lw_at lw_m6 164 rfl) rfl
theorem q1431 : (Jvm.Cond.selects "ScaffolderModel" ({ cls := "ScaffolderModel", name := "counts", desc := "(I)I" } : Jvm.MethodName) ({ cls := "ScaffolderModel", name := "counts", desc := "(I)I" } : Jvm.MethodName)) ∈ lw_all := lw_g (lw_at lw_m6 165 rfl) rfl
theorem q1432 : (Jvm.Cond.code ({ cls := "ScaffolderModel", name := "counts", desc := "(I)I" } : Jvm.MethodName) prog_6_method_61_code (2 : Nat) (Option.some Jvm.ClassFile.FieldType.int)) ∈ lw_all := lw_g (lw_at lw_m6 166 rfl) rfl
theorem q1433 : (Jvm.Cond.methodLink "ScaffolderModel" (210 : Nat) ({ cls := "ScaffolderModel", name := "ofLevels", desc := "(I)I" } : Jvm.MethodName)) ∈ lw_all := lw_g (lw_at lw_m6 167 rfl) rfl
theorem q1434 : (Jvm.Cond.privateMethod ({ cls := "ScaffolderModel", name := "ofLevels", desc := "(I)I" } : Jvm.MethodName)) ∈ lw_tbl := lw_at lw_m6 168 rfl
theorem q1435 : (Jvm.Cond.instanceMethod ({ cls := "ScaffolderModel", name := "ofLevels", desc := "(I)I" } : Jvm.MethodName)) ∈ lw_all := lw_g (lw_at lw_m6 169 rfl) rfl
theorem q1436 : (Jvm.Cond.code ({ cls := "ScaffolderModel", name := "ofLevels", desc := "(I)I" } : Jvm.MethodName) prog_6_method_57_code (6 : Nat) (Option.some Jvm.ClassFile.FieldType.int)) ∈ lw_all := lw_g (lw_at lw_m6 170 rfl) rfl
theorem q1437 : (Jvm.Cond.methodLink "ScaffolderModel" (213 : Nat) ({ cls := "ScaffolderModel", name := "openings", desc := "()I" } : Jvm.MethodName)) ∈ lw_all := lw_g (lw_at lw_m6 171 rfl) rfl
theorem q1438 : (Jvm.Cond.privateMethod ({ cls := "ScaffolderModel", name := "openings", desc := "()I" } : Jvm.MethodName)) ∈ lw_tbl := lw_at lw_m6 172 rfl
theorem q1439 : (Jvm.Cond.instanceMethod ({ cls := "ScaffolderModel", name := "openings", desc := "()I" } : Jvm.MethodName)) ∈ lw_all := lw_g (lw_at lw_m6 173 rfl) rfl
theorem q1440 : (Jvm.Cond.code ({ cls := "ScaffolderModel", name := "openings", desc := "()I" } : Jvm.MethodName) prog_6_method_58_code (4 : Nat) (Option.some Jvm.ClassFile.FieldType.int)) ∈ lw_all := lw_g (lw_at lw_m6 174 rfl) rfl
theorem q1441 : (Jvm.Cond.methodLink "ScaffolderModel" (216 : Nat) ({ cls := "ScaffolderModel", name := "missingInAll", desc := "()I" } : Jvm.MethodName)) ∈ lw_all := lw_g (lw_at lw_m6 175 rfl) rfl
theorem q1442 : (Jvm.Cond.privateMethod ({ cls := "ScaffolderModel", name := "missingInAll", desc := "()I" } : Jvm.MethodName)) ∈ lw_tbl := lw_at lw_m6 176 rfl
theorem q1443 : (Jvm.Cond.instanceMethod ({ cls := "ScaffolderModel", name := "missingInAll", desc := "()I" } : Jvm.MethodName)) ∈ lw_all := lw_g (lw_at lw_m6 177 rfl) rfl
theorem q1444 : (Jvm.Cond.code ({ cls := "ScaffolderModel", name := "missingInAll", desc := "()I" } : Jvm.MethodName) prog_6_method_59_code (3 : Nat) (Option.some Jvm.ClassFile.FieldType.int)) ∈ lw_all := lw_g (lw_at lw_m6 178 rfl) rfl
theorem q1445 : (Jvm.Cond.methodLink "ScaffolderModel" (219 : Nat) ({ cls := "ScaffolderModel", name := "greenFaces", desc := "()I" } : Jvm.MethodName)) ∈ lw_all := lw_g (lw_at lw_m6 179 rfl) rfl
theorem q1446 : (Jvm.Cond.privateMethod ({ cls := "ScaffolderModel", name := "greenFaces", desc := "()I" } : Jvm.MethodName)) ∈ lw_tbl := lw_at lw_m6 180 rfl
theorem q1447 : (Jvm.Cond.instanceMethod ({ cls := "ScaffolderModel", name := "greenFaces", desc := "()I" } : Jvm.MethodName)) ∈ lw_all := lw_g (lw_at lw_m6 181 rfl) rfl
theorem q1448 : (Jvm.Cond.code ({ cls := "ScaffolderModel", name := "greenFaces", desc := "()I" } : Jvm.MethodName) prog_6_method_60_code (3 : Nat) (Option.some Jvm.ClassFile.FieldType.int)) ∈ lw_all := lw_g (lw_at lw_m6 182 rfl) rfl
theorem q1450 : (Jvm.Cond.instanceMethod ({ cls := "ScaffolderModel", name := "errors", desc := "()I" } : Jvm.MethodName)) ∈ lw_all := lw_g (lw_at lw_m6 184 rfl) rfl
theorem q1451 : (Jvm.Cond.selects "ScaffolderModel" ({ cls := "ScaffolderModel", name := "errors", desc := "()I" } : Jvm.MethodName) ({ cls := "ScaffolderModel", name := "errors", desc := "()I" } : Jvm.MethodName)) ∈ lw_all := lw_g (lw_at lw_m6 185 rfl) rfl
theorem q1452 : (Jvm.Cond.code ({ cls := "ScaffolderModel", name := "errors", desc := "()I" } : Jvm.MethodName) prog_6_method_62_code (1 : Nat) (Option.some Jvm.ClassFile.FieldType.int)) ∈ lw_all := lw_g (lw_at lw_m6 186 rfl) rfl
theorem q1454 : (Jvm.Cond.instanceMethod ({ cls := "ScaffolderModel", name := "meanLoad", desc := "()D" } : Jvm.MethodName)) ∈ lw_all := lw_g (lw_at lw_m6 188 rfl) rfl
theorem q1455 : (Jvm.Cond.selects "ScaffolderModel" ({ cls := "ScaffolderModel", name := "meanLoad", desc := "()D" } : Jvm.MethodName) ({ cls := "ScaffolderModel", name := "meanLoad", desc := "()D" } : Jvm.MethodName)) ∈ lw_all := lw_g (lw_at lw_m6 189 rfl) rfl
theorem q1456 : (Jvm.Cond.code ({ cls := "ScaffolderModel", name := "meanLoad", desc := "()D" } : Jvm.MethodName) prog_6_method_63_code (4 : Nat) (Option.some Jvm.ClassFile.FieldType.double)) ∈ lw_all := lw_g (lw_at lw_m6 190 rfl) rfl
theorem q1458 : (Jvm.Cond.instanceMethod ({ cls := "ScaffolderModel", name := "boardedShare", desc := "()F" } : Jvm.MethodName)) ∈ lw_all := lw_g (lw_at lw_m6 192 rfl) rfl
theorem q1459 : (Jvm.Cond.selects "ScaffolderModel" ({ cls := "ScaffolderModel", name := "boardedShare", desc := "()F" } : Jvm.MethodName) ({ cls := "ScaffolderModel", name := "boardedShare", desc := "()F" } : Jvm.MethodName)) ∈ lw_all := lw_g (lw_at lw_m6 193 rfl) rfl
theorem q1460 : (Jvm.Cond.code ({ cls := "ScaffolderModel", name := "boardedShare", desc := "()F" } : Jvm.MethodName) prog_6_method_64_code (1 : Nat) (Option.some Jvm.ClassFile.FieldType.float)) ∈ lw_all := lw_g (lw_at lw_m6 194 rfl) rfl
theorem q1478 : (Jvm.Cond.castable "ScaffolderModel" "java/lang/Object") ∈ lw_tbl := lw_at lw_m6 212 rfl
theorem in_X2 : ∀ w ∈ wsX20, w ∈ lw_all := lw_in wsX20 [1118, 1120, 1122, 1124, 1126, 1128, 1130, 1132, 1134] (by decide +kernel) (by decide +kernel)
