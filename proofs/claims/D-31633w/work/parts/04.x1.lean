/-! Scaffolder -/
set_option maxRecDepth 100000
def RX1 : String := "Scaffolder"
def TX1 : u_T := fun k => match k with
  | 0 => ("Scaffolder", "faces", "Ljava/util/List;", true)
  | 1 => ("Scaffolder", "bays", "Ljava/util/List;", true)
  | 2 => ("Scaffolder", "today", "I", false)
  | 3 => ("Scaffolder", "limit", "I", false)
  | 4 => ("Scaffolder", "openings", "[[Z", true)
  | 5 => ("Scaffolder", "ties", "[[Z", true)
  | _ => ("Scaffolder", "tieOf", "[[I", true)
def tyX1 : Nat → FieldType := fun k => match k with
  | 0 => .object "java/util/List"
  | 1 => .object "java/util/List"
  | 2 => .int
  | 3 => .int
  | 4 => .array (.array .boolean)
  | 5 => .array (.array .boolean)
  | _ => .array (.array .int)
abbrev wsX10 : List Cond := u_ws RX1 TX1 7
theorem nmX1 : ∀ a, a < 7 → ∀ b, b < 7 → a ≠ b → (TX1 a).2.1 ≠ (TX1 b).2.1 := by decide +kernel
theorem tyX1_ok : ∀ k, k < 7 → parseFieldDescriptor (TX1 k).2.2.1 = some (tyX1 k) := by decide +kernel
abbrev cX1_init : ByteArray := prog_1_method_30_code
def yX1_init : MethodName := ⟨RX1, "<init>", "()V"⟩
def dkwX1_init_3 : List UInt8 := [181, 0, 112, 42, 182, 0, 173, 177]
abbrev dktX1_init_3 : List UInt8 := dkwX1_init_3 ++ []
def dkwX1_init_2 : List UInt8 := [181, 0, 102, 42, 16, 8, 16, 25, 197, 0, 171, 2, 181, 0, 106, 42, 16, 8, 16, 25, 197, 0, 172, 2]
abbrev dktX1_init_2 : List UInt8 := dkwX1_init_2 ++ dktX1_init_3
def dkwX1_init_1 : List UInt8 := [183, 0, 81, 181, 0, 33, 42, 17, 3, 232, 181, 0, 130, 42, 16, 8, 16, 25, 197, 0, 171, 2]
abbrev dktX1_init_1 : List UInt8 := dkwX1_init_1 ++ dktX1_init_2
def dkwX1_init_0 : List UInt8 := [42, 183, 0, 168, 42, 187, 0, 79, 89, 8, 183, 0, 81, 181, 0, 71, 42, 187, 0, 79, 89, 16, 24]
abbrev dktX1_init_0 : List UInt8 := dkwX1_init_0 ++ dktX1_init_1
theorem dksX1_init_0 : cX1_init.data.toList.drop 0 = dktX1_init_0 := by decide +kernel
theorem dksX1_init_1 : cX1_init.data.toList.drop 23 = dktX1_init_1 := dk_seg dksX1_init_0 23 rfl rfl
theorem dksX1_init_2 : cX1_init.data.toList.drop 45 = dktX1_init_2 := dk_seg dksX1_init_1 22 rfl rfl
theorem dksX1_init_3 : cX1_init.data.toList.drop 69 = dktX1_init_3 := dk_seg dksX1_init_2 24 rfl rfl
theorem dX1_init_0 : decode cX1_init 0 = .ok (.aload_n 0, 1) := dk_42 (dk_at dksX1_init_0 0 rfl rfl)
theorem dX1_init_1 : decode cX1_init 1 = .ok (.invokespecial 168, 3) := dk_183 0 168 (dk_at dksX1_init_0 1 rfl rfl)
theorem dX1_init_4 : decode cX1_init 4 = .ok (.aload_n 0, 1) := dk_42 (dk_at dksX1_init_0 4 rfl rfl)
theorem dX1_init_5 : decode cX1_init 5 = .ok (.new 79, 3) := dk_187 0 79 (dk_at dksX1_init_0 5 rfl rfl)
theorem dX1_init_8 : decode cX1_init 8 = .ok (.dup, 1) := dk_89 (dk_at dksX1_init_0 8 rfl rfl)
theorem dX1_init_9 : decode cX1_init 9 = .ok (.iconst 5, 1) := dk_8 (dk_at dksX1_init_0 9 rfl rfl)
theorem dX1_init_10 : decode cX1_init 10 = .ok (.invokespecial 81, 3) := dk_183 0 81 (dk_at dksX1_init_0 10 rfl rfl)
theorem dX1_init_13 : decode cX1_init 13 = .ok (.putfield 71, 3) := dk_181 0 71 (dk_at dksX1_init_0 13 rfl rfl)
theorem dX1_init_16 : decode cX1_init 16 = .ok (.aload_n 0, 1) := dk_42 (dk_at dksX1_init_0 16 rfl rfl)
theorem dX1_init_17 : decode cX1_init 17 = .ok (.new 79, 3) := dk_187 0 79 (dk_at dksX1_init_0 17 rfl rfl)
theorem dX1_init_20 : decode cX1_init 20 = .ok (.dup, 1) := dk_89 (dk_at dksX1_init_0 20 rfl rfl)
theorem dX1_init_21 : decode cX1_init 21 = .ok (.bipush 24, 2) := dk_16 24 (dk_at dksX1_init_0 21 rfl rfl)
theorem dX1_init_23 : decode cX1_init 23 = .ok (.invokespecial 81, 3) := dk_183 0 81 (dk_at dksX1_init_1 0 rfl rfl)
theorem dX1_init_26 : decode cX1_init 26 = .ok (.putfield 33, 3) := dk_181 0 33 (dk_at dksX1_init_1 3 rfl rfl)
theorem dX1_init_29 : decode cX1_init 29 = .ok (.aload_n 0, 1) := dk_42 (dk_at dksX1_init_1 6 rfl rfl)
theorem dX1_init_30 : decode cX1_init 30 = .ok (.sipush 1000, 3) := dk_17 3 232 (dk_at dksX1_init_1 7 rfl rfl)
theorem dX1_init_33 : decode cX1_init 33 = .ok (.putfield 130, 3) := dk_181 0 130 (dk_at dksX1_init_1 10 rfl rfl)
theorem dX1_init_36 : decode cX1_init 36 = .ok (.aload_n 0, 1) := dk_42 (dk_at dksX1_init_1 13 rfl rfl)
theorem dX1_init_37 : decode cX1_init 37 = .ok (.bipush 8, 2) := dk_16 8 (dk_at dksX1_init_1 14 rfl rfl)
theorem dX1_init_39 : decode cX1_init 39 = .ok (.bipush 25, 2) := dk_16 25 (dk_at dksX1_init_1 16 rfl rfl)
theorem dX1_init_41 : decode cX1_init 41 = .ok (.multianewarray 171 2, 4) := by decide +kernel
theorem dX1_init_45 : decode cX1_init 45 = .ok (.putfield 102, 3) := dk_181 0 102 (dk_at dksX1_init_2 0 rfl rfl)
theorem dX1_init_48 : decode cX1_init 48 = .ok (.aload_n 0, 1) := dk_42 (dk_at dksX1_init_2 3 rfl rfl)
theorem dX1_init_49 : decode cX1_init 49 = .ok (.bipush 8, 2) := dk_16 8 (dk_at dksX1_init_2 4 rfl rfl)
theorem dX1_init_51 : decode cX1_init 51 = .ok (.bipush 25, 2) := dk_16 25 (dk_at dksX1_init_2 6 rfl rfl)
theorem dX1_init_53 : decode cX1_init 53 = .ok (.multianewarray 171 2, 4) := by decide +kernel
theorem dX1_init_57 : decode cX1_init 57 = .ok (.putfield 106, 3) := dk_181 0 106 (dk_at dksX1_init_2 12 rfl rfl)
theorem dX1_init_60 : decode cX1_init 60 = .ok (.aload_n 0, 1) := dk_42 (dk_at dksX1_init_2 15 rfl rfl)
theorem dX1_init_61 : decode cX1_init 61 = .ok (.bipush 8, 2) := dk_16 8 (dk_at dksX1_init_2 16 rfl rfl)
theorem dX1_init_63 : decode cX1_init 63 = .ok (.bipush 25, 2) := dk_16 25 (dk_at dksX1_init_2 18 rfl rfl)
theorem dX1_init_65 : decode cX1_init 65 = .ok (.multianewarray 172 2, 4) := by decide +kernel
theorem dX1_init_69 : decode cX1_init 69 = .ok (.putfield 112, 3) := dk_181 0 112 (dk_at dksX1_init_3 0 rfl rfl)
theorem dX1_init_72 : decode cX1_init 72 = .ok (.aload_n 0, 1) := dk_42 (dk_at dksX1_init_3 3 rfl rfl)
theorem dX1_init_73 : decode cX1_init 73 = .ok (.invokevirtual 173, 3) := dk_182 0 173 (dk_at dksX1_init_3 4 rfl rfl)
theorem dX1_init_76 : decode cX1_init 76 = .ok (.return_, 1) := dk_177 (dk_at dksX1_init_3 7 rfl rfl)
abbrev cX1_findTies : ByteArray := prog_1_method_20_code
def yX1_findTies : MethodName := ⟨RX1, "findTies", "()V"⟩
def dkwX1_findTies_5 : List UInt8 := [167, 255, 219, 132, 1, 1, 167, 255, 139, 177]
abbrev dktX1_findTies_5 : List UInt8 := dkwX1_findTies_5 ++ []
def dkwX1_findTies_4 : List UInt8 := [153, 0, 20, 42, 180, 0, 102, 27, 50, 28, 51, 153, 0, 9, 42, 28, 27, 182, 0, 116, 132, 2, 1]
abbrev dktX1_findTies_4 : List UInt8 := dkwX1_findTies_4 ++ dktX1_findTies_5
def dkwX1_findTies_3 : List UInt8 := [132, 2, 1, 167, 255, 195, 3, 61, 28, 42, 182, 0, 41, 162, 0, 35, 42, 28, 27, 182, 0, 109]
abbrev dktX1_findTies_3 : List UInt8 := dkwX1_findTies_3 ++ dktX1_findTies_4
def dkwX1_findTies_2 : List UInt8 := [27, 50, 28, 29, 84, 42, 180, 0, 112, 27, 50, 28, 29, 153, 0, 7, 28, 167, 0, 4, 2, 79]
abbrev dktX1_findTies_2 : List UInt8 := dkwX1_findTies_2 ++ dktX1_findTies_3
def dkwX1_findTies_1 : List UInt8 := [153, 0, 18, 42, 180, 0, 102, 27, 50, 28, 51, 154, 0, 7, 4, 167, 0, 4, 3, 62, 42, 180, 0, 106]
abbrev dktX1_findTies_1 : List UInt8 := dkwX1_findTies_1 ++ dktX1_findTies_2
def dkwX1_findTies_0 : List UInt8 := [3, 60, 27, 16, 8, 162, 0, 117, 3, 61, 28, 16, 24, 163, 0, 61, 42, 28, 27, 182, 0, 109]
abbrev dktX1_findTies_0 : List UInt8 := dkwX1_findTies_0 ++ dktX1_findTies_1
theorem dksX1_findTies_0 : cX1_findTies.data.toList.drop 0 = dktX1_findTies_0 := by decide +kernel
theorem dksX1_findTies_1 : cX1_findTies.data.toList.drop 22 = dktX1_findTies_1 := dk_seg dksX1_findTies_0 22 rfl rfl
theorem dksX1_findTies_2 : cX1_findTies.data.toList.drop 46 = dktX1_findTies_2 := dk_seg dksX1_findTies_1 24 rfl rfl
theorem dksX1_findTies_3 : cX1_findTies.data.toList.drop 68 = dktX1_findTies_3 := dk_seg dksX1_findTies_2 22 rfl rfl
theorem dksX1_findTies_4 : cX1_findTies.data.toList.drop 90 = dktX1_findTies_4 := dk_seg dksX1_findTies_3 22 rfl rfl
theorem dksX1_findTies_5 : cX1_findTies.data.toList.drop 113 = dktX1_findTies_5 := dk_seg dksX1_findTies_4 23 rfl rfl
theorem dX1_findTies_0 : decode cX1_findTies 0 = .ok (.iconst 0, 1) := dk_3 (dk_at dksX1_findTies_0 0 rfl rfl)
theorem dX1_findTies_1 : decode cX1_findTies 1 = .ok (.istore_n 1, 1) := dk_60 (dk_at dksX1_findTies_0 1 rfl rfl)
theorem dX1_findTies_2 : decode cX1_findTies 2 = .ok (.iload_n 1, 1) := dk_27 (dk_at dksX1_findTies_0 2 rfl rfl)
theorem dX1_findTies_3 : decode cX1_findTies 3 = .ok (.bipush 8, 2) := dk_16 8 (dk_at dksX1_findTies_0 3 rfl rfl)
theorem dX1_findTies_5 : decode cX1_findTies 5 = .ok (.if_icmp .ge 117, 3) := dk_162 0 117 (dk_at dksX1_findTies_0 5 rfl rfl)
theorem dX1_findTies_8 : decode cX1_findTies 8 = .ok (.iconst 0, 1) := dk_3 (dk_at dksX1_findTies_0 8 rfl rfl)
theorem dX1_findTies_9 : decode cX1_findTies 9 = .ok (.istore_n 2, 1) := dk_61 (dk_at dksX1_findTies_0 9 rfl rfl)
theorem dX1_findTies_10 : decode cX1_findTies 10 = .ok (.iload_n 2, 1) := dk_28 (dk_at dksX1_findTies_0 10 rfl rfl)
theorem dX1_findTies_11 : decode cX1_findTies 11 = .ok (.bipush 24, 2) := dk_16 24 (dk_at dksX1_findTies_0 11 rfl rfl)
theorem dX1_findTies_13 : decode cX1_findTies 13 = .ok (.if_icmp .gt 61, 3) := dk_163 0 61 (dk_at dksX1_findTies_0 13 rfl rfl)
theorem dX1_findTies_16 : decode cX1_findTies 16 = .ok (.aload_n 0, 1) := dk_42 (dk_at dksX1_findTies_0 16 rfl rfl)
theorem dX1_findTies_17 : decode cX1_findTies 17 = .ok (.iload_n 2, 1) := dk_28 (dk_at dksX1_findTies_0 17 rfl rfl)
theorem dX1_findTies_18 : decode cX1_findTies 18 = .ok (.iload_n 1, 1) := dk_27 (dk_at dksX1_findTies_0 18 rfl rfl)
theorem dX1_findTies_19 : decode cX1_findTies 19 = .ok (.invokevirtual 109, 3) := dk_182 0 109 (dk_at dksX1_findTies_0 19 rfl rfl)
theorem dX1_findTies_22 : decode cX1_findTies 22 = .ok (.ifCond .eq 18, 3) := dk_153 0 18 (dk_at dksX1_findTies_1 0 rfl rfl)
theorem dX1_findTies_25 : decode cX1_findTies 25 = .ok (.aload_n 0, 1) := dk_42 (dk_at dksX1_findTies_1 3 rfl rfl)
theorem dX1_findTies_26 : decode cX1_findTies 26 = .ok (.getfield 102, 3) := dk_180 0 102 (dk_at dksX1_findTies_1 4 rfl rfl)
theorem dX1_findTies_29 : decode cX1_findTies 29 = .ok (.iload_n 1, 1) := dk_27 (dk_at dksX1_findTies_1 7 rfl rfl)
theorem dX1_findTies_30 : decode cX1_findTies 30 = .ok (.aaload, 1) := dk_50 (dk_at dksX1_findTies_1 8 rfl rfl)
theorem dX1_findTies_31 : decode cX1_findTies 31 = .ok (.iload_n 2, 1) := dk_28 (dk_at dksX1_findTies_1 9 rfl rfl)
theorem dX1_findTies_32 : decode cX1_findTies 32 = .ok (.baload, 1) := dk_51 (dk_at dksX1_findTies_1 10 rfl rfl)
theorem dX1_findTies_33 : decode cX1_findTies 33 = .ok (.ifCond .ne 7, 3) := dk_154 0 7 (dk_at dksX1_findTies_1 11 rfl rfl)
theorem dX1_findTies_36 : decode cX1_findTies 36 = .ok (.iconst 1, 1) := dk_4 (dk_at dksX1_findTies_1 14 rfl rfl)
theorem dX1_findTies_37 : decode cX1_findTies 37 = .ok (.goto 4, 3) := dk_167 0 4 (dk_at dksX1_findTies_1 15 rfl rfl)
theorem dX1_findTies_40 : decode cX1_findTies 40 = .ok (.iconst 0, 1) := dk_3 (dk_at dksX1_findTies_1 18 rfl rfl)
theorem dX1_findTies_41 : decode cX1_findTies 41 = .ok (.istore_n 3, 1) := dk_62 (dk_at dksX1_findTies_1 19 rfl rfl)
theorem dX1_findTies_42 : decode cX1_findTies 42 = .ok (.aload_n 0, 1) := dk_42 (dk_at dksX1_findTies_1 20 rfl rfl)
theorem dX1_findTies_43 : decode cX1_findTies 43 = .ok (.getfield 106, 3) := dk_180 0 106 (dk_at dksX1_findTies_1 21 rfl rfl)
theorem dX1_findTies_46 : decode cX1_findTies 46 = .ok (.iload_n 1, 1) := dk_27 (dk_at dksX1_findTies_2 0 rfl rfl)
theorem dX1_findTies_47 : decode cX1_findTies 47 = .ok (.aaload, 1) := dk_50 (dk_at dksX1_findTies_2 1 rfl rfl)
theorem dX1_findTies_48 : decode cX1_findTies 48 = .ok (.iload_n 2, 1) := dk_28 (dk_at dksX1_findTies_2 2 rfl rfl)
theorem dX1_findTies_49 : decode cX1_findTies 49 = .ok (.iload_n 3, 1) := dk_29 (dk_at dksX1_findTies_2 3 rfl rfl)
theorem dX1_findTies_50 : decode cX1_findTies 50 = .ok (.bastore, 1) := dk_84 (dk_at dksX1_findTies_2 4 rfl rfl)
theorem dX1_findTies_51 : decode cX1_findTies 51 = .ok (.aload_n 0, 1) := dk_42 (dk_at dksX1_findTies_2 5 rfl rfl)
theorem dX1_findTies_52 : decode cX1_findTies 52 = .ok (.getfield 112, 3) := dk_180 0 112 (dk_at dksX1_findTies_2 6 rfl rfl)
theorem dX1_findTies_55 : decode cX1_findTies 55 = .ok (.iload_n 1, 1) := dk_27 (dk_at dksX1_findTies_2 9 rfl rfl)
theorem dX1_findTies_56 : decode cX1_findTies 56 = .ok (.aaload, 1) := dk_50 (dk_at dksX1_findTies_2 10 rfl rfl)
theorem dX1_findTies_57 : decode cX1_findTies 57 = .ok (.iload_n 2, 1) := dk_28 (dk_at dksX1_findTies_2 11 rfl rfl)
theorem dX1_findTies_58 : decode cX1_findTies 58 = .ok (.iload_n 3, 1) := dk_29 (dk_at dksX1_findTies_2 12 rfl rfl)
theorem dX1_findTies_59 : decode cX1_findTies 59 = .ok (.ifCond .eq 7, 3) := dk_153 0 7 (dk_at dksX1_findTies_2 13 rfl rfl)
theorem dX1_findTies_62 : decode cX1_findTies 62 = .ok (.iload_n 2, 1) := dk_28 (dk_at dksX1_findTies_2 16 rfl rfl)
theorem dX1_findTies_63 : decode cX1_findTies 63 = .ok (.goto 4, 3) := dk_167 0 4 (dk_at dksX1_findTies_2 17 rfl rfl)
theorem dX1_findTies_66 : decode cX1_findTies 66 = .ok (.iconst (-1), 1) := dk_2 (dk_at dksX1_findTies_2 20 rfl rfl)
theorem dX1_findTies_67 : decode cX1_findTies 67 = .ok (.iastore, 1) := dk_79 (dk_at dksX1_findTies_2 21 rfl rfl)
theorem dX1_findTies_68 : decode cX1_findTies 68 = .ok (.iinc 2 1, 3) := dk_132 2 1 (dk_at dksX1_findTies_3 0 rfl rfl)
theorem dX1_findTies_71 : decode cX1_findTies 71 = .ok (.goto (-61), 3) := dk_167 255 195 (dk_at dksX1_findTies_3 3 rfl rfl)
theorem dX1_findTies_74 : decode cX1_findTies 74 = .ok (.iconst 0, 1) := dk_3 (dk_at dksX1_findTies_3 6 rfl rfl)
theorem dX1_findTies_75 : decode cX1_findTies 75 = .ok (.istore_n 2, 1) := dk_61 (dk_at dksX1_findTies_3 7 rfl rfl)
theorem dX1_findTies_76 : decode cX1_findTies 76 = .ok (.iload_n 2, 1) := dk_28 (dk_at dksX1_findTies_3 8 rfl rfl)
theorem dX1_findTies_77 : decode cX1_findTies 77 = .ok (.aload_n 0, 1) := dk_42 (dk_at dksX1_findTies_3 9 rfl rfl)
theorem dX1_findTies_78 : decode cX1_findTies 78 = .ok (.invokevirtual 41, 3) := dk_182 0 41 (dk_at dksX1_findTies_3 10 rfl rfl)
theorem dX1_findTies_81 : decode cX1_findTies 81 = .ok (.if_icmp .ge 35, 3) := dk_162 0 35 (dk_at dksX1_findTies_3 13 rfl rfl)
theorem dX1_findTies_84 : decode cX1_findTies 84 = .ok (.aload_n 0, 1) := dk_42 (dk_at dksX1_findTies_3 16 rfl rfl)
theorem dX1_findTies_85 : decode cX1_findTies 85 = .ok (.iload_n 2, 1) := dk_28 (dk_at dksX1_findTies_3 17 rfl rfl)
theorem dX1_findTies_86 : decode cX1_findTies 86 = .ok (.iload_n 1, 1) := dk_27 (dk_at dksX1_findTies_3 18 rfl rfl)
theorem dX1_findTies_87 : decode cX1_findTies 87 = .ok (.invokevirtual 109, 3) := dk_182 0 109 (dk_at dksX1_findTies_3 19 rfl rfl)
theorem dX1_findTies_90 : decode cX1_findTies 90 = .ok (.ifCond .eq 20, 3) := dk_153 0 20 (dk_at dksX1_findTies_4 0 rfl rfl)
theorem dX1_findTies_93 : decode cX1_findTies 93 = .ok (.aload_n 0, 1) := dk_42 (dk_at dksX1_findTies_4 3 rfl rfl)
theorem dX1_findTies_94 : decode cX1_findTies 94 = .ok (.getfield 102, 3) := dk_180 0 102 (dk_at dksX1_findTies_4 4 rfl rfl)
theorem dX1_findTies_97 : decode cX1_findTies 97 = .ok (.iload_n 1, 1) := dk_27 (dk_at dksX1_findTies_4 7 rfl rfl)
theorem dX1_findTies_98 : decode cX1_findTies 98 = .ok (.aaload, 1) := dk_50 (dk_at dksX1_findTies_4 8 rfl rfl)
theorem dX1_findTies_99 : decode cX1_findTies 99 = .ok (.iload_n 2, 1) := dk_28 (dk_at dksX1_findTies_4 9 rfl rfl)
theorem dX1_findTies_100 : decode cX1_findTies 100 = .ok (.baload, 1) := dk_51 (dk_at dksX1_findTies_4 10 rfl rfl)
theorem dX1_findTies_101 : decode cX1_findTies 101 = .ok (.ifCond .eq 9, 3) := dk_153 0 9 (dk_at dksX1_findTies_4 11 rfl rfl)
theorem dX1_findTies_104 : decode cX1_findTies 104 = .ok (.aload_n 0, 1) := dk_42 (dk_at dksX1_findTies_4 14 rfl rfl)
theorem dX1_findTies_105 : decode cX1_findTies 105 = .ok (.iload_n 2, 1) := dk_28 (dk_at dksX1_findTies_4 15 rfl rfl)
theorem dX1_findTies_106 : decode cX1_findTies 106 = .ok (.iload_n 1, 1) := dk_27 (dk_at dksX1_findTies_4 16 rfl rfl)
theorem dX1_findTies_107 : decode cX1_findTies 107 = .ok (.invokevirtual 116, 3) := dk_182 0 116 (dk_at dksX1_findTies_4 17 rfl rfl)
theorem dX1_findTies_110 : decode cX1_findTies 110 = .ok (.iinc 2 1, 3) := dk_132 2 1 (dk_at dksX1_findTies_4 20 rfl rfl)
theorem dX1_findTies_113 : decode cX1_findTies 113 = .ok (.goto (-37), 3) := dk_167 255 219 (dk_at dksX1_findTies_5 0 rfl rfl)
theorem dX1_findTies_116 : decode cX1_findTies 116 = .ok (.iinc 1 1, 3) := dk_132 1 1 (dk_at dksX1_findTies_5 3 rfl rfl)
theorem dX1_findTies_119 : decode cX1_findTies 119 = .ok (.goto (-117), 3) := dk_167 255 139 (dk_at dksX1_findTies_5 6 rfl rfl)
theorem dX1_findTies_122 : decode cX1_findTies 122 = .ok (.return_, 1) := dk_177 (dk_at dksX1_findTies_5 9 rfl rfl)
abbrev cX1_isAsked : ByteArray := prog_1_method_18_code
def yX1_isAsked : MethodName := ⟨RX1, "isAsked", "(II)Z"⟩
def dkwX1_isAsked_1 : List UInt8 := [153, 0, 7, 4, 167, 0, 4, 3, 172]
abbrev dktX1_isAsked_1 : List UInt8 := dkwX1_isAsked_1 ++ []
def dkwX1_isAsked_0 : List UInt8 := [28, 5, 112, 4, 160, 0, 26, 27, 28, 5, 108, 96, 5, 112, 154, 0, 16, 42, 27, 28, 182, 0, 98]
abbrev dktX1_isAsked_0 : List UInt8 := dkwX1_isAsked_0 ++ dktX1_isAsked_1
theorem dksX1_isAsked_0 : cX1_isAsked.data.toList.drop 0 = dktX1_isAsked_0 := by decide +kernel
theorem dksX1_isAsked_1 : cX1_isAsked.data.toList.drop 23 = dktX1_isAsked_1 := dk_seg dksX1_isAsked_0 23 rfl rfl
theorem dX1_isAsked_0 : decode cX1_isAsked 0 = .ok (.iload_n 2, 1) := dk_28 (dk_at dksX1_isAsked_0 0 rfl rfl)
theorem dX1_isAsked_1 : decode cX1_isAsked 1 = .ok (.iconst 2, 1) := dk_5 (dk_at dksX1_isAsked_0 1 rfl rfl)
theorem dX1_isAsked_2 : decode cX1_isAsked 2 = .ok (.irem, 1) := dk_112 (dk_at dksX1_isAsked_0 2 rfl rfl)
theorem dX1_isAsked_3 : decode cX1_isAsked 3 = .ok (.iconst 1, 1) := dk_4 (dk_at dksX1_isAsked_0 3 rfl rfl)
theorem dX1_isAsked_4 : decode cX1_isAsked 4 = .ok (.if_icmp .ne 26, 3) := dk_160 0 26 (dk_at dksX1_isAsked_0 4 rfl rfl)
theorem dX1_isAsked_7 : decode cX1_isAsked 7 = .ok (.iload_n 1, 1) := dk_27 (dk_at dksX1_isAsked_0 7 rfl rfl)
theorem dX1_isAsked_8 : decode cX1_isAsked 8 = .ok (.iload_n 2, 1) := dk_28 (dk_at dksX1_isAsked_0 8 rfl rfl)
theorem dX1_isAsked_9 : decode cX1_isAsked 9 = .ok (.iconst 2, 1) := dk_5 (dk_at dksX1_isAsked_0 9 rfl rfl)
theorem dX1_isAsked_10 : decode cX1_isAsked 10 = .ok (.idiv, 1) := dk_108 (dk_at dksX1_isAsked_0 10 rfl rfl)
theorem dX1_isAsked_11 : decode cX1_isAsked 11 = .ok (.iadd, 1) := dk_96 (dk_at dksX1_isAsked_0 11 rfl rfl)
theorem dX1_isAsked_12 : decode cX1_isAsked 12 = .ok (.iconst 2, 1) := dk_5 (dk_at dksX1_isAsked_0 12 rfl rfl)
theorem dX1_isAsked_13 : decode cX1_isAsked 13 = .ok (.irem, 1) := dk_112 (dk_at dksX1_isAsked_0 13 rfl rfl)
theorem dX1_isAsked_14 : decode cX1_isAsked 14 = .ok (.ifCond .ne 16, 3) := dk_154 0 16 (dk_at dksX1_isAsked_0 14 rfl rfl)
theorem dX1_isAsked_17 : decode cX1_isAsked 17 = .ok (.aload_n 0, 1) := dk_42 (dk_at dksX1_isAsked_0 17 rfl rfl)
theorem dX1_isAsked_18 : decode cX1_isAsked 18 = .ok (.iload_n 1, 1) := dk_27 (dk_at dksX1_isAsked_0 18 rfl rfl)
theorem dX1_isAsked_19 : decode cX1_isAsked 19 = .ok (.iload_n 2, 1) := dk_28 (dk_at dksX1_isAsked_0 19 rfl rfl)
theorem dX1_isAsked_20 : decode cX1_isAsked 20 = .ok (.invokevirtual 98, 3) := dk_182 0 98 (dk_at dksX1_isAsked_0 20 rfl rfl)
theorem dX1_isAsked_23 : decode cX1_isAsked 23 = .ok (.ifCond .eq 7, 3) := dk_153 0 7 (dk_at dksX1_isAsked_1 0 rfl rfl)
theorem dX1_isAsked_26 : decode cX1_isAsked 26 = .ok (.iconst 1, 1) := dk_4 (dk_at dksX1_isAsked_1 3 rfl rfl)
theorem dX1_isAsked_27 : decode cX1_isAsked 27 = .ok (.goto 4, 3) := dk_167 0 4 (dk_at dksX1_isAsked_1 4 rfl rfl)
theorem dX1_isAsked_30 : decode cX1_isAsked 30 = .ok (.iconst 0, 1) := dk_3 (dk_at dksX1_isAsked_1 7 rfl rfl)
theorem dX1_isAsked_31 : decode cX1_isAsked 31 = .ok (.ireturn, 1) := dk_172 (dk_at dksX1_isAsked_1 8 rfl rfl)
abbrev cX1_hasLevel : ByteArray := prog_1_method_13_code
def yX1_hasLevel : MethodName := ⟨RX1, "hasLevel", "(II)Z"⟩
def dkwX1_hasLevel_1 : List UInt8 := [167, 0, 4, 3, 172]
abbrev dktX1_hasLevel_1 : List UInt8 := dkwX1_hasLevel_1 ++ []
def dkwX1_hasLevel_0 : List UInt8 := [27, 3, 42, 182, 0, 41, 4, 100, 184, 0, 19, 153, 0, 16, 28, 42, 27, 182, 0, 64, 162, 0, 7, 4]
abbrev dktX1_hasLevel_0 : List UInt8 := dkwX1_hasLevel_0 ++ dktX1_hasLevel_1
theorem dksX1_hasLevel_0 : cX1_hasLevel.data.toList.drop 0 = dktX1_hasLevel_0 := by decide +kernel
theorem dksX1_hasLevel_1 : cX1_hasLevel.data.toList.drop 24 = dktX1_hasLevel_1 := dk_seg dksX1_hasLevel_0 24 rfl rfl
theorem dX1_hasLevel_0 : decode cX1_hasLevel 0 = .ok (.iload_n 1, 1) := dk_27 (dk_at dksX1_hasLevel_0 0 rfl rfl)
theorem dX1_hasLevel_1 : decode cX1_hasLevel 1 = .ok (.iconst 0, 1) := dk_3 (dk_at dksX1_hasLevel_0 1 rfl rfl)
theorem dX1_hasLevel_2 : decode cX1_hasLevel 2 = .ok (.aload_n 0, 1) := dk_42 (dk_at dksX1_hasLevel_0 2 rfl rfl)
theorem dX1_hasLevel_3 : decode cX1_hasLevel 3 = .ok (.invokevirtual 41, 3) := dk_182 0 41 (dk_at dksX1_hasLevel_0 3 rfl rfl)
theorem dX1_hasLevel_6 : decode cX1_hasLevel 6 = .ok (.iconst 1, 1) := dk_4 (dk_at dksX1_hasLevel_0 6 rfl rfl)
theorem dX1_hasLevel_7 : decode cX1_hasLevel 7 = .ok (.isub, 1) := dk_100 (dk_at dksX1_hasLevel_0 7 rfl rfl)
theorem dX1_hasLevel_8 : decode cX1_hasLevel 8 = .ok (.invokestatic 19, 3) := dk_184 0 19 (dk_at dksX1_hasLevel_0 8 rfl rfl)
theorem dX1_hasLevel_11 : decode cX1_hasLevel 11 = .ok (.ifCond .eq 16, 3) := dk_153 0 16 (dk_at dksX1_hasLevel_0 11 rfl rfl)
theorem dX1_hasLevel_14 : decode cX1_hasLevel 14 = .ok (.iload_n 2, 1) := dk_28 (dk_at dksX1_hasLevel_0 14 rfl rfl)
theorem dX1_hasLevel_15 : decode cX1_hasLevel 15 = .ok (.aload_n 0, 1) := dk_42 (dk_at dksX1_hasLevel_0 15 rfl rfl)
theorem dX1_hasLevel_16 : decode cX1_hasLevel 16 = .ok (.iload_n 1, 1) := dk_27 (dk_at dksX1_hasLevel_0 16 rfl rfl)
theorem dX1_hasLevel_17 : decode cX1_hasLevel 17 = .ok (.invokevirtual 64, 3) := dk_182 0 64 (dk_at dksX1_hasLevel_0 17 rfl rfl)
theorem dX1_hasLevel_20 : decode cX1_hasLevel 20 = .ok (.if_icmp .ge 7, 3) := dk_162 0 7 (dk_at dksX1_hasLevel_0 20 rfl rfl)
theorem dX1_hasLevel_23 : decode cX1_hasLevel 23 = .ok (.iconst 1, 1) := dk_4 (dk_at dksX1_hasLevel_0 23 rfl rfl)
theorem dX1_hasLevel_24 : decode cX1_hasLevel 24 = .ok (.goto 4, 3) := dk_167 0 4 (dk_at dksX1_hasLevel_1 0 rfl rfl)
theorem dX1_hasLevel_27 : decode cX1_hasLevel 27 = .ok (.iconst 0, 1) := dk_3 (dk_at dksX1_hasLevel_1 3 rfl rfl)
theorem dX1_hasLevel_28 : decode cX1_hasLevel 28 = .ok (.ireturn, 1) := dk_172 (dk_at dksX1_hasLevel_1 4 rfl rfl)
abbrev cX1_positions : ByteArray := prog_1_method_8_code
def yX1_positions : MethodName := ⟨RX1, "positions", "()I"⟩
def dkwX1_positions_1 : List UInt8 := [185, 0, 13, 1, 0, 4, 96, 172]
abbrev dktX1_positions_1 : List UInt8 := dkwX1_positions_1 ++ []
def dkwX1_positions_0 : List UInt8 := [42, 180, 0, 33, 185, 0, 37, 1, 0, 153, 0, 7, 3, 167, 0, 14, 42, 180, 0, 33]
abbrev dktX1_positions_0 : List UInt8 := dkwX1_positions_0 ++ dktX1_positions_1
theorem dksX1_positions_0 : cX1_positions.data.toList.drop 0 = dktX1_positions_0 := by decide +kernel
theorem dksX1_positions_1 : cX1_positions.data.toList.drop 20 = dktX1_positions_1 := dk_seg dksX1_positions_0 20 rfl rfl
theorem dX1_positions_0 : decode cX1_positions 0 = .ok (.aload_n 0, 1) := dk_42 (dk_at dksX1_positions_0 0 rfl rfl)
theorem dX1_positions_1 : decode cX1_positions 1 = .ok (.getfield 33, 3) := dk_180 0 33 (dk_at dksX1_positions_0 1 rfl rfl)
theorem dX1_positions_4 : decode cX1_positions 4 = .ok (.invokeinterface 37 1, 5) := by decide +kernel
theorem dX1_positions_9 : decode cX1_positions 9 = .ok (.ifCond .eq 7, 3) := dk_153 0 7 (dk_at dksX1_positions_0 9 rfl rfl)
theorem dX1_positions_12 : decode cX1_positions 12 = .ok (.iconst 0, 1) := dk_3 (dk_at dksX1_positions_0 12 rfl rfl)
theorem dX1_positions_13 : decode cX1_positions 13 = .ok (.goto 14, 3) := dk_167 0 14 (dk_at dksX1_positions_0 13 rfl rfl)
theorem dX1_positions_16 : decode cX1_positions 16 = .ok (.aload_n 0, 1) := dk_42 (dk_at dksX1_positions_0 16 rfl rfl)
theorem dX1_positions_17 : decode cX1_positions 17 = .ok (.getfield 33, 3) := dk_180 0 33 (dk_at dksX1_positions_0 17 rfl rfl)
theorem dX1_positions_20 : decode cX1_positions 20 = .ok (.invokeinterface 13 1, 5) := by decide +kernel
theorem dX1_positions_25 : decode cX1_positions 25 = .ok (.iconst 1, 1) := dk_4 (dk_at dksX1_positions_1 5 rfl rfl)
theorem dX1_positions_26 : decode cX1_positions 26 = .ok (.iadd, 1) := dk_96 (dk_at dksX1_positions_1 6 rfl rfl)
theorem dX1_positions_27 : decode cX1_positions 27 = .ok (.ireturn, 1) := dk_172 (dk_at dksX1_positions_1 7 rfl rfl)
abbrev cX1_inRange : ByteArray := prog_1_method_4_code
def yX1_inRange : MethodName := ⟨RX1, "inRange", "(III)Z"⟩
def dkwX1_inRange_0 : List UInt8 := [26, 27, 161, 0, 12, 26, 28, 163, 0, 7, 4, 167, 0, 4, 3, 172]
abbrev dktX1_inRange_0 : List UInt8 := dkwX1_inRange_0 ++ []
theorem dksX1_inRange_0 : cX1_inRange.data.toList.drop 0 = dktX1_inRange_0 := by decide +kernel
theorem dX1_inRange_0 : decode cX1_inRange 0 = .ok (.iload_n 0, 1) := dk_26 (dk_at dksX1_inRange_0 0 rfl rfl)
theorem dX1_inRange_1 : decode cX1_inRange 1 = .ok (.iload_n 1, 1) := dk_27 (dk_at dksX1_inRange_0 1 rfl rfl)
theorem dX1_inRange_2 : decode cX1_inRange 2 = .ok (.if_icmp .lt 12, 3) := dk_161 0 12 (dk_at dksX1_inRange_0 2 rfl rfl)
theorem dX1_inRange_5 : decode cX1_inRange 5 = .ok (.iload_n 0, 1) := dk_26 (dk_at dksX1_inRange_0 5 rfl rfl)
theorem dX1_inRange_6 : decode cX1_inRange 6 = .ok (.iload_n 2, 1) := dk_28 (dk_at dksX1_inRange_0 6 rfl rfl)
theorem dX1_inRange_7 : decode cX1_inRange 7 = .ok (.if_icmp .gt 7, 3) := dk_163 0 7 (dk_at dksX1_inRange_0 7 rfl rfl)
theorem dX1_inRange_10 : decode cX1_inRange 10 = .ok (.iconst 1, 1) := dk_4 (dk_at dksX1_inRange_0 10 rfl rfl)
theorem dX1_inRange_11 : decode cX1_inRange 11 = .ok (.goto 4, 3) := dk_167 0 4 (dk_at dksX1_inRange_0 11 rfl rfl)
theorem dX1_inRange_14 : decode cX1_inRange 14 = .ok (.iconst 0, 1) := dk_3 (dk_at dksX1_inRange_0 14 rfl rfl)
theorem dX1_inRange_15 : decode cX1_inRange 15 = .ok (.ireturn, 1) := dk_172 (dk_at dksX1_inRange_0 15 rfl rfl)
abbrev cX1_levelsOf : ByteArray := prog_1_method_12_code
def yX1_levelsOf : MethodName := ⟨RX1, "levelsOf", "(I)I"⟩
def dkwX1_levelsOf_0 : List UInt8 := [42, 27, 4, 100, 182, 0, 54, 42, 27, 182, 0, 54, 184, 0, 58, 172]
abbrev dktX1_levelsOf_0 : List UInt8 := dkwX1_levelsOf_0 ++ []
theorem dksX1_levelsOf_0 : cX1_levelsOf.data.toList.drop 0 = dktX1_levelsOf_0 := by decide +kernel
theorem dX1_levelsOf_0 : decode cX1_levelsOf 0 = .ok (.aload_n 0, 1) := dk_42 (dk_at dksX1_levelsOf_0 0 rfl rfl)
theorem dX1_levelsOf_1 : decode cX1_levelsOf 1 = .ok (.iload_n 1, 1) := dk_27 (dk_at dksX1_levelsOf_0 1 rfl rfl)
theorem dX1_levelsOf_2 : decode cX1_levelsOf 2 = .ok (.iconst 1, 1) := dk_4 (dk_at dksX1_levelsOf_0 2 rfl rfl)
theorem dX1_levelsOf_3 : decode cX1_levelsOf 3 = .ok (.isub, 1) := dk_100 (dk_at dksX1_levelsOf_0 3 rfl rfl)
theorem dX1_levelsOf_4 : decode cX1_levelsOf 4 = .ok (.invokevirtual 54, 3) := dk_182 0 54 (dk_at dksX1_levelsOf_0 4 rfl rfl)
theorem dX1_levelsOf_7 : decode cX1_levelsOf 7 = .ok (.aload_n 0, 1) := dk_42 (dk_at dksX1_levelsOf_0 7 rfl rfl)
theorem dX1_levelsOf_8 : decode cX1_levelsOf 8 = .ok (.iload_n 1, 1) := dk_27 (dk_at dksX1_levelsOf_0 8 rfl rfl)
theorem dX1_levelsOf_9 : decode cX1_levelsOf 9 = .ok (.invokevirtual 54, 3) := dk_182 0 54 (dk_at dksX1_levelsOf_0 9 rfl rfl)
theorem dX1_levelsOf_12 : decode cX1_levelsOf 12 = .ok (.invokestatic 58, 3) := dk_184 0 58 (dk_at dksX1_levelsOf_0 12 rfl rfl)
theorem dX1_levelsOf_15 : decode cX1_levelsOf 15 = .ok (.ireturn, 1) := dk_172 (dk_at dksX1_levelsOf_0 15 rfl rfl)
abbrev cX1_liftsOf : ByteArray := prog_1_method_11_code
def yX1_liftsOf : MethodName := ⟨RX1, "liftsOf", "(I)I"⟩
def dkwX1_liftsOf_1 : List UInt8 := [185, 0, 29, 2, 0, 192, 0, 44, 180, 0, 50, 167, 0, 4, 3, 172]
abbrev dktX1_liftsOf_1 : List UInt8 := dkwX1_liftsOf_1 ++ []
def dkwX1_liftsOf_0 : List UInt8 := [27, 3, 42, 180, 0, 33, 185, 0, 13, 1, 0, 4, 100, 184, 0, 19, 153, 0, 22, 42, 180, 0, 33, 27]
abbrev dktX1_liftsOf_0 : List UInt8 := dkwX1_liftsOf_0 ++ dktX1_liftsOf_1
theorem dksX1_liftsOf_0 : cX1_liftsOf.data.toList.drop 0 = dktX1_liftsOf_0 := by decide +kernel
theorem dksX1_liftsOf_1 : cX1_liftsOf.data.toList.drop 24 = dktX1_liftsOf_1 := dk_seg dksX1_liftsOf_0 24 rfl rfl
theorem dX1_liftsOf_0 : decode cX1_liftsOf 0 = .ok (.iload_n 1, 1) := dk_27 (dk_at dksX1_liftsOf_0 0 rfl rfl)
theorem dX1_liftsOf_1 : decode cX1_liftsOf 1 = .ok (.iconst 0, 1) := dk_3 (dk_at dksX1_liftsOf_0 1 rfl rfl)
theorem dX1_liftsOf_2 : decode cX1_liftsOf 2 = .ok (.aload_n 0, 1) := dk_42 (dk_at dksX1_liftsOf_0 2 rfl rfl)
theorem dX1_liftsOf_3 : decode cX1_liftsOf 3 = .ok (.getfield 33, 3) := dk_180 0 33 (dk_at dksX1_liftsOf_0 3 rfl rfl)
theorem dX1_liftsOf_6 : decode cX1_liftsOf 6 = .ok (.invokeinterface 13 1, 5) := by decide +kernel
theorem dX1_liftsOf_11 : decode cX1_liftsOf 11 = .ok (.iconst 1, 1) := dk_4 (dk_at dksX1_liftsOf_0 11 rfl rfl)
theorem dX1_liftsOf_12 : decode cX1_liftsOf 12 = .ok (.isub, 1) := dk_100 (dk_at dksX1_liftsOf_0 12 rfl rfl)
theorem dX1_liftsOf_13 : decode cX1_liftsOf 13 = .ok (.invokestatic 19, 3) := dk_184 0 19 (dk_at dksX1_liftsOf_0 13 rfl rfl)
theorem dX1_liftsOf_16 : decode cX1_liftsOf 16 = .ok (.ifCond .eq 22, 3) := dk_153 0 22 (dk_at dksX1_liftsOf_0 16 rfl rfl)
theorem dX1_liftsOf_19 : decode cX1_liftsOf 19 = .ok (.aload_n 0, 1) := dk_42 (dk_at dksX1_liftsOf_0 19 rfl rfl)
theorem dX1_liftsOf_20 : decode cX1_liftsOf 20 = .ok (.getfield 33, 3) := dk_180 0 33 (dk_at dksX1_liftsOf_0 20 rfl rfl)
theorem dX1_liftsOf_23 : decode cX1_liftsOf 23 = .ok (.iload_n 1, 1) := dk_27 (dk_at dksX1_liftsOf_0 23 rfl rfl)
theorem dX1_liftsOf_24 : decode cX1_liftsOf 24 = .ok (.invokeinterface 29 2, 5) := by decide +kernel
theorem dX1_liftsOf_29 : decode cX1_liftsOf 29 = .ok (.checkcast 44, 3) := dk_192 0 44 (dk_at dksX1_liftsOf_1 5 rfl rfl)
theorem dX1_liftsOf_32 : decode cX1_liftsOf 32 = .ok (.getfield 50, 3) := dk_180 0 50 (dk_at dksX1_liftsOf_1 8 rfl rfl)
theorem dX1_liftsOf_35 : decode cX1_liftsOf 35 = .ok (.goto 4, 3) := dk_167 0 4 (dk_at dksX1_liftsOf_1 11 rfl rfl)
theorem dX1_liftsOf_38 : decode cX1_liftsOf 38 = .ok (.iconst 0, 1) := dk_3 (dk_at dksX1_liftsOf_1 14 rfl rfl)
theorem dX1_liftsOf_39 : decode cX1_liftsOf 39 = .ok (.ireturn, 1) := dk_172 (dk_at dksX1_liftsOf_1 15 rfl rfl)
abbrev cX1_move : ByteArray := prog_1_method_21_code
def yX1_move : MethodName := ⟨RX1, "move", "(II)V"⟩
def dkwX1_move_2 : List UInt8 := [2, 159, 0, 12, 42, 180, 0, 106, 28, 50, 29, 4, 84, 177]
abbrev dktX1_move_2 : List UInt8 := dkwX1_move_2 ++ []
def dkwX1_move_1 : List UInt8 := [182, 0, 120, 153, 0, 9, 27, 4, 100, 167, 0, 4, 2, 62, 42, 180, 0, 112, 28, 50, 27, 29, 79, 29]
abbrev dktX1_move_1 : List UInt8 := dkwX1_move_1 ++ dktX1_move_2
def dkwX1_move_0 : List UInt8 := [42, 27, 4, 96, 28, 182, 0, 120, 153, 0, 9, 27, 4, 96, 167, 0, 21, 42, 27, 4, 100, 28]
abbrev dktX1_move_0 : List UInt8 := dkwX1_move_0 ++ dktX1_move_1
theorem dksX1_move_0 : cX1_move.data.toList.drop 0 = dktX1_move_0 := by decide +kernel
theorem dksX1_move_1 : cX1_move.data.toList.drop 22 = dktX1_move_1 := dk_seg dksX1_move_0 22 rfl rfl
theorem dksX1_move_2 : cX1_move.data.toList.drop 46 = dktX1_move_2 := dk_seg dksX1_move_1 24 rfl rfl
theorem dX1_move_0 : decode cX1_move 0 = .ok (.aload_n 0, 1) := dk_42 (dk_at dksX1_move_0 0 rfl rfl)
theorem dX1_move_1 : decode cX1_move 1 = .ok (.iload_n 1, 1) := dk_27 (dk_at dksX1_move_0 1 rfl rfl)
theorem dX1_move_2 : decode cX1_move 2 = .ok (.iconst 1, 1) := dk_4 (dk_at dksX1_move_0 2 rfl rfl)
theorem dX1_move_3 : decode cX1_move 3 = .ok (.iadd, 1) := dk_96 (dk_at dksX1_move_0 3 rfl rfl)
theorem dX1_move_4 : decode cX1_move 4 = .ok (.iload_n 2, 1) := dk_28 (dk_at dksX1_move_0 4 rfl rfl)
theorem dX1_move_5 : decode cX1_move 5 = .ok (.invokevirtual 120, 3) := dk_182 0 120 (dk_at dksX1_move_0 5 rfl rfl)
theorem dX1_move_8 : decode cX1_move 8 = .ok (.ifCond .eq 9, 3) := dk_153 0 9 (dk_at dksX1_move_0 8 rfl rfl)
theorem dX1_move_11 : decode cX1_move 11 = .ok (.iload_n 1, 1) := dk_27 (dk_at dksX1_move_0 11 rfl rfl)
theorem dX1_move_12 : decode cX1_move 12 = .ok (.iconst 1, 1) := dk_4 (dk_at dksX1_move_0 12 rfl rfl)
theorem dX1_move_13 : decode cX1_move 13 = .ok (.iadd, 1) := dk_96 (dk_at dksX1_move_0 13 rfl rfl)
theorem dX1_move_14 : decode cX1_move 14 = .ok (.goto 21, 3) := dk_167 0 21 (dk_at dksX1_move_0 14 rfl rfl)
theorem dX1_move_17 : decode cX1_move 17 = .ok (.aload_n 0, 1) := dk_42 (dk_at dksX1_move_0 17 rfl rfl)
theorem dX1_move_18 : decode cX1_move 18 = .ok (.iload_n 1, 1) := dk_27 (dk_at dksX1_move_0 18 rfl rfl)
theorem dX1_move_19 : decode cX1_move 19 = .ok (.iconst 1, 1) := dk_4 (dk_at dksX1_move_0 19 rfl rfl)
theorem dX1_move_20 : decode cX1_move 20 = .ok (.isub, 1) := dk_100 (dk_at dksX1_move_0 20 rfl rfl)
theorem dX1_move_21 : decode cX1_move 21 = .ok (.iload_n 2, 1) := dk_28 (dk_at dksX1_move_0 21 rfl rfl)
theorem dX1_move_22 : decode cX1_move 22 = .ok (.invokevirtual 120, 3) := dk_182 0 120 (dk_at dksX1_move_1 0 rfl rfl)
theorem dX1_move_25 : decode cX1_move 25 = .ok (.ifCond .eq 9, 3) := dk_153 0 9 (dk_at dksX1_move_1 3 rfl rfl)
theorem dX1_move_28 : decode cX1_move 28 = .ok (.iload_n 1, 1) := dk_27 (dk_at dksX1_move_1 6 rfl rfl)
theorem dX1_move_29 : decode cX1_move 29 = .ok (.iconst 1, 1) := dk_4 (dk_at dksX1_move_1 7 rfl rfl)
theorem dX1_move_30 : decode cX1_move 30 = .ok (.isub, 1) := dk_100 (dk_at dksX1_move_1 8 rfl rfl)
theorem dX1_move_31 : decode cX1_move 31 = .ok (.goto 4, 3) := dk_167 0 4 (dk_at dksX1_move_1 9 rfl rfl)
theorem dX1_move_34 : decode cX1_move 34 = .ok (.iconst (-1), 1) := dk_2 (dk_at dksX1_move_1 12 rfl rfl)
theorem dX1_move_35 : decode cX1_move 35 = .ok (.istore_n 3, 1) := dk_62 (dk_at dksX1_move_1 13 rfl rfl)
theorem dX1_move_36 : decode cX1_move 36 = .ok (.aload_n 0, 1) := dk_42 (dk_at dksX1_move_1 14 rfl rfl)
theorem dX1_move_37 : decode cX1_move 37 = .ok (.getfield 112, 3) := dk_180 0 112 (dk_at dksX1_move_1 15 rfl rfl)
theorem dX1_move_40 : decode cX1_move 40 = .ok (.iload_n 2, 1) := dk_28 (dk_at dksX1_move_1 18 rfl rfl)
theorem dX1_move_41 : decode cX1_move 41 = .ok (.aaload, 1) := dk_50 (dk_at dksX1_move_1 19 rfl rfl)
theorem dX1_move_42 : decode cX1_move 42 = .ok (.iload_n 1, 1) := dk_27 (dk_at dksX1_move_1 20 rfl rfl)
theorem dX1_move_43 : decode cX1_move 43 = .ok (.iload_n 3, 1) := dk_29 (dk_at dksX1_move_1 21 rfl rfl)
theorem dX1_move_44 : decode cX1_move 44 = .ok (.iastore, 1) := dk_79 (dk_at dksX1_move_1 22 rfl rfl)
theorem dX1_move_45 : decode cX1_move 45 = .ok (.iload_n 3, 1) := dk_29 (dk_at dksX1_move_1 23 rfl rfl)
theorem dX1_move_46 : decode cX1_move 46 = .ok (.iconst (-1), 1) := dk_2 (dk_at dksX1_move_2 0 rfl rfl)
theorem dX1_move_47 : decode cX1_move 47 = .ok (.if_icmp .eq 12, 3) := dk_159 0 12 (dk_at dksX1_move_2 1 rfl rfl)
theorem dX1_move_50 : decode cX1_move 50 = .ok (.aload_n 0, 1) := dk_42 (dk_at dksX1_move_2 4 rfl rfl)
theorem dX1_move_51 : decode cX1_move 51 = .ok (.getfield 106, 3) := dk_180 0 106 (dk_at dksX1_move_2 5 rfl rfl)
theorem dX1_move_54 : decode cX1_move 54 = .ok (.iload_n 2, 1) := dk_28 (dk_at dksX1_move_2 8 rfl rfl)
theorem dX1_move_55 : decode cX1_move 55 = .ok (.aaload, 1) := dk_50 (dk_at dksX1_move_2 9 rfl rfl)
theorem dX1_move_56 : decode cX1_move 56 = .ok (.iload_n 3, 1) := dk_29 (dk_at dksX1_move_2 10 rfl rfl)
theorem dX1_move_57 : decode cX1_move 57 = .ok (.iconst 1, 1) := dk_4 (dk_at dksX1_move_2 11 rfl rfl)
theorem dX1_move_58 : decode cX1_move 58 = .ok (.bastore, 1) := dk_84 (dk_at dksX1_move_2 12 rfl rfl)
theorem dX1_move_59 : decode cX1_move 59 = .ok (.return_, 1) := dk_177 (dk_at dksX1_move_2 13 rfl rfl)
abbrev cX1_isFree : ByteArray := prog_1_method_19_code
def yX1_isFree : MethodName := ⟨RX1, "isFree", "(II)Z"⟩
def dkwX1_isFree_1 : List UInt8 := [28, 50, 27, 51, 154, 0, 7, 4, 167, 0, 4, 3, 172]
abbrev dktX1_isFree_1 : List UInt8 := dkwX1_isFree_1 ++ []
def dkwX1_isFree_0 : List UInt8 := [42, 27, 28, 182, 0, 98, 153, 0, 29, 42, 180, 0, 102, 28, 50, 27, 51, 154, 0, 18, 42, 180, 0, 106]
abbrev dktX1_isFree_0 : List UInt8 := dkwX1_isFree_0 ++ dktX1_isFree_1
theorem dksX1_isFree_0 : cX1_isFree.data.toList.drop 0 = dktX1_isFree_0 := by decide +kernel
theorem dksX1_isFree_1 : cX1_isFree.data.toList.drop 24 = dktX1_isFree_1 := dk_seg dksX1_isFree_0 24 rfl rfl
theorem dX1_isFree_0 : decode cX1_isFree 0 = .ok (.aload_n 0, 1) := dk_42 (dk_at dksX1_isFree_0 0 rfl rfl)
theorem dX1_isFree_1 : decode cX1_isFree 1 = .ok (.iload_n 1, 1) := dk_27 (dk_at dksX1_isFree_0 1 rfl rfl)
theorem dX1_isFree_2 : decode cX1_isFree 2 = .ok (.iload_n 2, 1) := dk_28 (dk_at dksX1_isFree_0 2 rfl rfl)
theorem dX1_isFree_3 : decode cX1_isFree 3 = .ok (.invokevirtual 98, 3) := dk_182 0 98 (dk_at dksX1_isFree_0 3 rfl rfl)
theorem dX1_isFree_6 : decode cX1_isFree 6 = .ok (.ifCond .eq 29, 3) := dk_153 0 29 (dk_at dksX1_isFree_0 6 rfl rfl)
theorem dX1_isFree_9 : decode cX1_isFree 9 = .ok (.aload_n 0, 1) := dk_42 (dk_at dksX1_isFree_0 9 rfl rfl)
theorem dX1_isFree_10 : decode cX1_isFree 10 = .ok (.getfield 102, 3) := dk_180 0 102 (dk_at dksX1_isFree_0 10 rfl rfl)
theorem dX1_isFree_13 : decode cX1_isFree 13 = .ok (.iload_n 2, 1) := dk_28 (dk_at dksX1_isFree_0 13 rfl rfl)
theorem dX1_isFree_14 : decode cX1_isFree 14 = .ok (.aaload, 1) := dk_50 (dk_at dksX1_isFree_0 14 rfl rfl)
theorem dX1_isFree_15 : decode cX1_isFree 15 = .ok (.iload_n 1, 1) := dk_27 (dk_at dksX1_isFree_0 15 rfl rfl)
theorem dX1_isFree_16 : decode cX1_isFree 16 = .ok (.baload, 1) := dk_51 (dk_at dksX1_isFree_0 16 rfl rfl)
theorem dX1_isFree_17 : decode cX1_isFree 17 = .ok (.ifCond .ne 18, 3) := dk_154 0 18 (dk_at dksX1_isFree_0 17 rfl rfl)
theorem dX1_isFree_20 : decode cX1_isFree 20 = .ok (.aload_n 0, 1) := dk_42 (dk_at dksX1_isFree_0 20 rfl rfl)
theorem dX1_isFree_21 : decode cX1_isFree 21 = .ok (.getfield 106, 3) := dk_180 0 106 (dk_at dksX1_isFree_0 21 rfl rfl)
theorem dX1_isFree_24 : decode cX1_isFree 24 = .ok (.iload_n 2, 1) := dk_28 (dk_at dksX1_isFree_1 0 rfl rfl)
theorem dX1_isFree_25 : decode cX1_isFree 25 = .ok (.aaload, 1) := dk_50 (dk_at dksX1_isFree_1 1 rfl rfl)
theorem dX1_isFree_26 : decode cX1_isFree 26 = .ok (.iload_n 1, 1) := dk_27 (dk_at dksX1_isFree_1 2 rfl rfl)
theorem dX1_isFree_27 : decode cX1_isFree 27 = .ok (.baload, 1) := dk_51 (dk_at dksX1_isFree_1 3 rfl rfl)
theorem dX1_isFree_28 : decode cX1_isFree 28 = .ok (.ifCond .ne 7, 3) := dk_154 0 7 (dk_at dksX1_isFree_1 4 rfl rfl)
theorem dX1_isFree_31 : decode cX1_isFree 31 = .ok (.iconst 1, 1) := dk_4 (dk_at dksX1_isFree_1 7 rfl rfl)
theorem dX1_isFree_32 : decode cX1_isFree 32 = .ok (.goto 4, 3) := dk_167 0 4 (dk_at dksX1_isFree_1 8 rfl rfl)
theorem dX1_isFree_35 : decode cX1_isFree 35 = .ok (.iconst 0, 1) := dk_3 (dk_at dksX1_isFree_1 11 rfl rfl)
theorem dX1_isFree_36 : decode cX1_isFree 36 = .ok (.ireturn, 1) := dk_172 (dk_at dksX1_isFree_1 12 rfl rfl)
abbrev cX1_today : ByteArray := prog_1_method_31_code
def yX1_today : MethodName := ⟨RX1, "today", "()I"⟩
theorem dX1_today_0 : decode cX1_today 0 = .ok (.aload_n 0, 1) := by decide +kernel
theorem dX1_today_1 : decode cX1_today 1 = .ok (.getfield 176, 3) := by decide +kernel
theorem dX1_today_4 : decode cX1_today 4 = .ok (.ireturn, 1) := by decide +kernel
abbrev cX1_errors : ByteArray := prog_1_method_63_code
def yX1_errors : MethodName := ⟨RX1, "errors", "()I"⟩
def dkwX1_errors_4 : List UInt8 := [167, 255, 214, 28, 172]
abbrev dktX1_errors_4 : List UInt8 := dkwX1_errors_4 ++ []
def dkwX1_errors_3 : List UInt8 := [3, 3, 182, 0, 139, 42, 29, 182, 0, 136, 164, 0, 7, 4, 167, 0, 4, 3, 96, 61, 132, 3, 1]
abbrev dktX1_errors_3 : List UInt8 := dkwX1_errors_3 ++ dktX1_errors_4
def dkwX1_errors_2 : List UInt8 := [167, 255, 225, 3, 62, 29, 42, 182, 0, 41, 162, 0, 40, 28, 42, 29, 182, 1, 17, 153, 0, 22, 42, 29]
abbrev dktX1_errors_2 : List UInt8 := dkwX1_errors_2 ++ dktX1_errors_3
def dkwX1_errors_1 : List UInt8 := [43, 180, 1, 14, 29, 46, 42, 29, 182, 0, 250, 160, 0, 7, 3, 167, 0, 4, 4, 96, 61, 132, 3, 1]
abbrev dktX1_errors_1 : List UInt8 := dkwX1_errors_1 ++ dktX1_errors_2
def dkwX1_errors_0 : List UInt8 := [187, 1, 6, 89, 42, 183, 1, 8, 76, 43, 182, 1, 11, 3, 61, 3, 62, 29, 16, 6, 162, 0, 31, 28]
abbrev dktX1_errors_0 : List UInt8 := dkwX1_errors_0 ++ dktX1_errors_1
theorem dksX1_errors_0 : cX1_errors.data.toList.drop 0 = dktX1_errors_0 := by decide +kernel
theorem dksX1_errors_1 : cX1_errors.data.toList.drop 24 = dktX1_errors_1 := dk_seg dksX1_errors_0 24 rfl rfl
theorem dksX1_errors_2 : cX1_errors.data.toList.drop 48 = dktX1_errors_2 := dk_seg dksX1_errors_1 24 rfl rfl
theorem dksX1_errors_3 : cX1_errors.data.toList.drop 72 = dktX1_errors_3 := dk_seg dksX1_errors_2 24 rfl rfl
theorem dksX1_errors_4 : cX1_errors.data.toList.drop 95 = dktX1_errors_4 := dk_seg dksX1_errors_3 23 rfl rfl
theorem dX1_errors_0 : decode cX1_errors 0 = .ok (.new 262, 3) := dk_187 1 6 (dk_at dksX1_errors_0 0 rfl rfl)
theorem dX1_errors_3 : decode cX1_errors 3 = .ok (.dup, 1) := dk_89 (dk_at dksX1_errors_0 3 rfl rfl)
theorem dX1_errors_4 : decode cX1_errors 4 = .ok (.aload_n 0, 1) := dk_42 (dk_at dksX1_errors_0 4 rfl rfl)
theorem dX1_errors_5 : decode cX1_errors 5 = .ok (.invokespecial 264, 3) := dk_183 1 8 (dk_at dksX1_errors_0 5 rfl rfl)
theorem dX1_errors_8 : decode cX1_errors 8 = .ok (.astore_n 1, 1) := dk_76 (dk_at dksX1_errors_0 8 rfl rfl)
theorem dX1_errors_9 : decode cX1_errors 9 = .ok (.aload_n 1, 1) := dk_43 (dk_at dksX1_errors_0 9 rfl rfl)
theorem dX1_errors_10 : decode cX1_errors 10 = .ok (.invokevirtual 267, 3) := dk_182 1 11 (dk_at dksX1_errors_0 10 rfl rfl)
theorem dX1_errors_13 : decode cX1_errors 13 = .ok (.iconst 0, 1) := dk_3 (dk_at dksX1_errors_0 13 rfl rfl)
theorem dX1_errors_14 : decode cX1_errors 14 = .ok (.istore_n 2, 1) := dk_61 (dk_at dksX1_errors_0 14 rfl rfl)
theorem dX1_errors_15 : decode cX1_errors 15 = .ok (.iconst 0, 1) := dk_3 (dk_at dksX1_errors_0 15 rfl rfl)
theorem dX1_errors_16 : decode cX1_errors 16 = .ok (.istore_n 3, 1) := dk_62 (dk_at dksX1_errors_0 16 rfl rfl)
theorem dX1_errors_17 : decode cX1_errors 17 = .ok (.iload_n 3, 1) := dk_29 (dk_at dksX1_errors_0 17 rfl rfl)
theorem dX1_errors_18 : decode cX1_errors 18 = .ok (.bipush 6, 2) := dk_16 6 (dk_at dksX1_errors_0 18 rfl rfl)
theorem dX1_errors_20 : decode cX1_errors 20 = .ok (.if_icmp .ge 31, 3) := dk_162 0 31 (dk_at dksX1_errors_0 20 rfl rfl)
theorem dX1_errors_23 : decode cX1_errors 23 = .ok (.iload_n 2, 1) := dk_28 (dk_at dksX1_errors_0 23 rfl rfl)
theorem dX1_errors_24 : decode cX1_errors 24 = .ok (.aload_n 1, 1) := dk_43 (dk_at dksX1_errors_1 0 rfl rfl)
theorem dX1_errors_25 : decode cX1_errors 25 = .ok (.getfield 270, 3) := dk_180 1 14 (dk_at dksX1_errors_1 1 rfl rfl)
theorem dX1_errors_28 : decode cX1_errors 28 = .ok (.iload_n 3, 1) := dk_29 (dk_at dksX1_errors_1 4 rfl rfl)
theorem dX1_errors_29 : decode cX1_errors 29 = .ok (.iaload, 1) := dk_46 (dk_at dksX1_errors_1 5 rfl rfl)
theorem dX1_errors_30 : decode cX1_errors 30 = .ok (.aload_n 0, 1) := dk_42 (dk_at dksX1_errors_1 6 rfl rfl)
theorem dX1_errors_31 : decode cX1_errors 31 = .ok (.iload_n 3, 1) := dk_29 (dk_at dksX1_errors_1 7 rfl rfl)
theorem dX1_errors_32 : decode cX1_errors 32 = .ok (.invokevirtual 250, 3) := dk_182 0 250 (dk_at dksX1_errors_1 8 rfl rfl)
theorem dX1_errors_35 : decode cX1_errors 35 = .ok (.if_icmp .ne 7, 3) := dk_160 0 7 (dk_at dksX1_errors_1 11 rfl rfl)
theorem dX1_errors_38 : decode cX1_errors 38 = .ok (.iconst 0, 1) := dk_3 (dk_at dksX1_errors_1 14 rfl rfl)
theorem dX1_errors_39 : decode cX1_errors 39 = .ok (.goto 4, 3) := dk_167 0 4 (dk_at dksX1_errors_1 15 rfl rfl)
theorem dX1_errors_42 : decode cX1_errors 42 = .ok (.iconst 1, 1) := dk_4 (dk_at dksX1_errors_1 18 rfl rfl)
theorem dX1_errors_43 : decode cX1_errors 43 = .ok (.iadd, 1) := dk_96 (dk_at dksX1_errors_1 19 rfl rfl)
theorem dX1_errors_44 : decode cX1_errors 44 = .ok (.istore_n 2, 1) := dk_61 (dk_at dksX1_errors_1 20 rfl rfl)
theorem dX1_errors_45 : decode cX1_errors 45 = .ok (.iinc 3 1, 3) := dk_132 3 1 (dk_at dksX1_errors_1 21 rfl rfl)
theorem dX1_errors_48 : decode cX1_errors 48 = .ok (.goto (-31), 3) := dk_167 255 225 (dk_at dksX1_errors_2 0 rfl rfl)
theorem dX1_errors_51 : decode cX1_errors 51 = .ok (.iconst 0, 1) := dk_3 (dk_at dksX1_errors_2 3 rfl rfl)
theorem dX1_errors_52 : decode cX1_errors 52 = .ok (.istore_n 3, 1) := dk_62 (dk_at dksX1_errors_2 4 rfl rfl)
theorem dX1_errors_53 : decode cX1_errors 53 = .ok (.iload_n 3, 1) := dk_29 (dk_at dksX1_errors_2 5 rfl rfl)
theorem dX1_errors_54 : decode cX1_errors 54 = .ok (.aload_n 0, 1) := dk_42 (dk_at dksX1_errors_2 6 rfl rfl)
theorem dX1_errors_55 : decode cX1_errors 55 = .ok (.invokevirtual 41, 3) := dk_182 0 41 (dk_at dksX1_errors_2 7 rfl rfl)
theorem dX1_errors_58 : decode cX1_errors 58 = .ok (.if_icmp .ge 40, 3) := dk_162 0 40 (dk_at dksX1_errors_2 10 rfl rfl)
theorem dX1_errors_61 : decode cX1_errors 61 = .ok (.iload_n 2, 1) := dk_28 (dk_at dksX1_errors_2 13 rfl rfl)
theorem dX1_errors_62 : decode cX1_errors 62 = .ok (.aload_n 0, 1) := dk_42 (dk_at dksX1_errors_2 14 rfl rfl)
theorem dX1_errors_63 : decode cX1_errors 63 = .ok (.iload_n 3, 1) := dk_29 (dk_at dksX1_errors_2 15 rfl rfl)
theorem dX1_errors_64 : decode cX1_errors 64 = .ok (.invokevirtual 273, 3) := dk_182 1 17 (dk_at dksX1_errors_2 16 rfl rfl)
theorem dX1_errors_67 : decode cX1_errors 67 = .ok (.ifCond .eq 22, 3) := dk_153 0 22 (dk_at dksX1_errors_2 19 rfl rfl)
theorem dX1_errors_70 : decode cX1_errors 70 = .ok (.aload_n 0, 1) := dk_42 (dk_at dksX1_errors_2 22 rfl rfl)
theorem dX1_errors_71 : decode cX1_errors 71 = .ok (.iload_n 3, 1) := dk_29 (dk_at dksX1_errors_2 23 rfl rfl)
theorem dX1_errors_72 : decode cX1_errors 72 = .ok (.iconst 0, 1) := dk_3 (dk_at dksX1_errors_3 0 rfl rfl)
theorem dX1_errors_73 : decode cX1_errors 73 = .ok (.iconst 0, 1) := dk_3 (dk_at dksX1_errors_3 1 rfl rfl)
theorem dX1_errors_74 : decode cX1_errors 74 = .ok (.invokevirtual 139, 3) := dk_182 0 139 (dk_at dksX1_errors_3 2 rfl rfl)
theorem dX1_errors_77 : decode cX1_errors 77 = .ok (.aload_n 0, 1) := dk_42 (dk_at dksX1_errors_3 5 rfl rfl)
theorem dX1_errors_78 : decode cX1_errors 78 = .ok (.iload_n 3, 1) := dk_29 (dk_at dksX1_errors_3 6 rfl rfl)
theorem dX1_errors_79 : decode cX1_errors 79 = .ok (.invokevirtual 136, 3) := dk_182 0 136 (dk_at dksX1_errors_3 7 rfl rfl)
theorem dX1_errors_82 : decode cX1_errors 82 = .ok (.if_icmp .le 7, 3) := dk_164 0 7 (dk_at dksX1_errors_3 10 rfl rfl)
theorem dX1_errors_85 : decode cX1_errors 85 = .ok (.iconst 1, 1) := dk_4 (dk_at dksX1_errors_3 13 rfl rfl)
theorem dX1_errors_86 : decode cX1_errors 86 = .ok (.goto 4, 3) := dk_167 0 4 (dk_at dksX1_errors_3 14 rfl rfl)
theorem dX1_errors_89 : decode cX1_errors 89 = .ok (.iconst 0, 1) := dk_3 (dk_at dksX1_errors_3 17 rfl rfl)
theorem dX1_errors_90 : decode cX1_errors 90 = .ok (.iadd, 1) := dk_96 (dk_at dksX1_errors_3 18 rfl rfl)
theorem dX1_errors_91 : decode cX1_errors 91 = .ok (.istore_n 2, 1) := dk_61 (dk_at dksX1_errors_3 19 rfl rfl)
theorem dX1_errors_92 : decode cX1_errors 92 = .ok (.iinc 3 1, 3) := dk_132 3 1 (dk_at dksX1_errors_3 20 rfl rfl)
theorem dX1_errors_95 : decode cX1_errors 95 = .ok (.goto (-42), 3) := dk_167 255 214 (dk_at dksX1_errors_4 0 rfl rfl)
theorem dX1_errors_98 : decode cX1_errors 98 = .ok (.iload_n 2, 1) := dk_28 (dk_at dksX1_errors_4 3 rfl rfl)
theorem dX1_errors_99 : decode cX1_errors 99 = .ok (.ireturn, 1) := dk_172 (dk_at dksX1_errors_4 4 rfl rfl)
abbrev cX1_isBetween : ByteArray := prog_1_method_10_code
def yX1_isBetween : MethodName := ⟨RX1, "isBetween", "(I)Z"⟩
def dkwX1_isBetween_2 : List UInt8 := [192, 0, 44, 180, 0, 46, 165, 0, 7, 4, 167, 0, 4, 3, 172]
abbrev dktX1_isBetween_2 : List UInt8 := dkwX1_isBetween_2 ++ []
def dkwX1_isBetween_1 : List UInt8 := [185, 0, 29, 2, 0, 192, 0, 44, 180, 0, 46, 42, 180, 0, 33, 27, 4, 100, 185, 0, 29, 2, 0]
abbrev dktX1_isBetween_1 : List UInt8 := dkwX1_isBetween_1 ++ dktX1_isBetween_2
def dkwX1_isBetween_0 : List UInt8 := [27, 158, 0, 57, 27, 42, 180, 0, 33, 185, 0, 13, 1, 0, 162, 0, 44, 42, 180, 0, 33, 27]
abbrev dktX1_isBetween_0 : List UInt8 := dkwX1_isBetween_0 ++ dktX1_isBetween_1
theorem dksX1_isBetween_0 : cX1_isBetween.data.toList.drop 0 = dktX1_isBetween_0 := by decide +kernel
theorem dksX1_isBetween_1 : cX1_isBetween.data.toList.drop 22 = dktX1_isBetween_1 := dk_seg dksX1_isBetween_0 22 rfl rfl
theorem dksX1_isBetween_2 : cX1_isBetween.data.toList.drop 45 = dktX1_isBetween_2 := dk_seg dksX1_isBetween_1 23 rfl rfl
theorem dX1_isBetween_0 : decode cX1_isBetween 0 = .ok (.iload_n 1, 1) := dk_27 (dk_at dksX1_isBetween_0 0 rfl rfl)
theorem dX1_isBetween_1 : decode cX1_isBetween 1 = .ok (.ifCond .le 57, 3) := dk_158 0 57 (dk_at dksX1_isBetween_0 1 rfl rfl)
theorem dX1_isBetween_4 : decode cX1_isBetween 4 = .ok (.iload_n 1, 1) := dk_27 (dk_at dksX1_isBetween_0 4 rfl rfl)
theorem dX1_isBetween_5 : decode cX1_isBetween 5 = .ok (.aload_n 0, 1) := dk_42 (dk_at dksX1_isBetween_0 5 rfl rfl)
theorem dX1_isBetween_6 : decode cX1_isBetween 6 = .ok (.getfield 33, 3) := dk_180 0 33 (dk_at dksX1_isBetween_0 6 rfl rfl)
theorem dX1_isBetween_9 : decode cX1_isBetween 9 = .ok (.invokeinterface 13 1, 5) := by decide +kernel
theorem dX1_isBetween_14 : decode cX1_isBetween 14 = .ok (.if_icmp .ge 44, 3) := dk_162 0 44 (dk_at dksX1_isBetween_0 14 rfl rfl)
theorem dX1_isBetween_17 : decode cX1_isBetween 17 = .ok (.aload_n 0, 1) := dk_42 (dk_at dksX1_isBetween_0 17 rfl rfl)
theorem dX1_isBetween_18 : decode cX1_isBetween 18 = .ok (.getfield 33, 3) := dk_180 0 33 (dk_at dksX1_isBetween_0 18 rfl rfl)
theorem dX1_isBetween_21 : decode cX1_isBetween 21 = .ok (.iload_n 1, 1) := dk_27 (dk_at dksX1_isBetween_0 21 rfl rfl)
theorem dX1_isBetween_22 : decode cX1_isBetween 22 = .ok (.invokeinterface 29 2, 5) := by decide +kernel
theorem dX1_isBetween_27 : decode cX1_isBetween 27 = .ok (.checkcast 44, 3) := dk_192 0 44 (dk_at dksX1_isBetween_1 5 rfl rfl)
theorem dX1_isBetween_30 : decode cX1_isBetween 30 = .ok (.getfield 46, 3) := dk_180 0 46 (dk_at dksX1_isBetween_1 8 rfl rfl)
theorem dX1_isBetween_33 : decode cX1_isBetween 33 = .ok (.aload_n 0, 1) := dk_42 (dk_at dksX1_isBetween_1 11 rfl rfl)
theorem dX1_isBetween_34 : decode cX1_isBetween 34 = .ok (.getfield 33, 3) := dk_180 0 33 (dk_at dksX1_isBetween_1 12 rfl rfl)
theorem dX1_isBetween_37 : decode cX1_isBetween 37 = .ok (.iload_n 1, 1) := dk_27 (dk_at dksX1_isBetween_1 15 rfl rfl)
theorem dX1_isBetween_38 : decode cX1_isBetween 38 = .ok (.iconst 1, 1) := dk_4 (dk_at dksX1_isBetween_1 16 rfl rfl)
theorem dX1_isBetween_39 : decode cX1_isBetween 39 = .ok (.isub, 1) := dk_100 (dk_at dksX1_isBetween_1 17 rfl rfl)
theorem dX1_isBetween_40 : decode cX1_isBetween 40 = .ok (.invokeinterface 29 2, 5) := by decide +kernel
theorem dX1_isBetween_45 : decode cX1_isBetween 45 = .ok (.checkcast 44, 3) := dk_192 0 44 (dk_at dksX1_isBetween_2 0 rfl rfl)
theorem dX1_isBetween_48 : decode cX1_isBetween 48 = .ok (.getfield 46, 3) := dk_180 0 46 (dk_at dksX1_isBetween_2 3 rfl rfl)
theorem dX1_isBetween_51 : decode cX1_isBetween 51 = .ok (.if_acmp .eq 7, 3) := dk_165 0 7 (dk_at dksX1_isBetween_2 6 rfl rfl)
theorem dX1_isBetween_54 : decode cX1_isBetween 54 = .ok (.iconst 1, 1) := dk_4 (dk_at dksX1_isBetween_2 9 rfl rfl)
theorem dX1_isBetween_55 : decode cX1_isBetween 55 = .ok (.goto 4, 3) := dk_167 0 4 (dk_at dksX1_isBetween_2 10 rfl rfl)
theorem dX1_isBetween_58 : decode cX1_isBetween 58 = .ok (.iconst 0, 1) := dk_3 (dk_at dksX1_isBetween_2 13 rfl rfl)
theorem dX1_isBetween_59 : decode cX1_isBetween 59 = .ok (.ireturn, 1) := dk_172 (dk_at dksX1_isBetween_2 14 rfl rfl)
abbrev cX1_allParts : ByteArray := prog_1_method_29_code
def yX1_allParts : MethodName := ⟨RX1, "allParts", "(I)I"⟩
def dkwX1_allParts_1 : List UInt8 := [185, 0, 29, 2, 0, 192, 0, 74, 27, 182, 0, 165, 96, 61, 132, 3, 1, 167, 255, 219, 28, 172]
abbrev dktX1_allParts_1 : List UInt8 := dkwX1_allParts_1 ++ []
def dkwX1_allParts_0 : List UInt8 := [3, 61, 3, 62, 29, 42, 180, 0, 71, 185, 0, 13, 1, 0, 162, 0, 30, 28, 42, 42, 180, 0, 71, 29]
abbrev dktX1_allParts_0 : List UInt8 := dkwX1_allParts_0 ++ dktX1_allParts_1
theorem dksX1_allParts_0 : cX1_allParts.data.toList.drop 0 = dktX1_allParts_0 := by decide +kernel
theorem dksX1_allParts_1 : cX1_allParts.data.toList.drop 24 = dktX1_allParts_1 := dk_seg dksX1_allParts_0 24 rfl rfl
theorem dX1_allParts_0 : decode cX1_allParts 0 = .ok (.iconst 0, 1) := dk_3 (dk_at dksX1_allParts_0 0 rfl rfl)
theorem dX1_allParts_1 : decode cX1_allParts 1 = .ok (.istore_n 2, 1) := dk_61 (dk_at dksX1_allParts_0 1 rfl rfl)
theorem dX1_allParts_2 : decode cX1_allParts 2 = .ok (.iconst 0, 1) := dk_3 (dk_at dksX1_allParts_0 2 rfl rfl)
theorem dX1_allParts_3 : decode cX1_allParts 3 = .ok (.istore_n 3, 1) := dk_62 (dk_at dksX1_allParts_0 3 rfl rfl)
theorem dX1_allParts_4 : decode cX1_allParts 4 = .ok (.iload_n 3, 1) := dk_29 (dk_at dksX1_allParts_0 4 rfl rfl)
theorem dX1_allParts_5 : decode cX1_allParts 5 = .ok (.aload_n 0, 1) := dk_42 (dk_at dksX1_allParts_0 5 rfl rfl)
theorem dX1_allParts_6 : decode cX1_allParts 6 = .ok (.getfield 71, 3) := dk_180 0 71 (dk_at dksX1_allParts_0 6 rfl rfl)
theorem dX1_allParts_9 : decode cX1_allParts 9 = .ok (.invokeinterface 13 1, 5) := by decide +kernel
theorem dX1_allParts_14 : decode cX1_allParts 14 = .ok (.if_icmp .ge 30, 3) := dk_162 0 30 (dk_at dksX1_allParts_0 14 rfl rfl)
theorem dX1_allParts_17 : decode cX1_allParts 17 = .ok (.iload_n 2, 1) := dk_28 (dk_at dksX1_allParts_0 17 rfl rfl)
theorem dX1_allParts_18 : decode cX1_allParts 18 = .ok (.aload_n 0, 1) := dk_42 (dk_at dksX1_allParts_0 18 rfl rfl)
theorem dX1_allParts_19 : decode cX1_allParts 19 = .ok (.aload_n 0, 1) := dk_42 (dk_at dksX1_allParts_0 19 rfl rfl)
theorem dX1_allParts_20 : decode cX1_allParts 20 = .ok (.getfield 71, 3) := dk_180 0 71 (dk_at dksX1_allParts_0 20 rfl rfl)
theorem dX1_allParts_23 : decode cX1_allParts 23 = .ok (.iload_n 3, 1) := dk_29 (dk_at dksX1_allParts_0 23 rfl rfl)
theorem dX1_allParts_24 : decode cX1_allParts 24 = .ok (.invokeinterface 29 2, 5) := by decide +kernel
theorem dX1_allParts_29 : decode cX1_allParts 29 = .ok (.checkcast 74, 3) := dk_192 0 74 (dk_at dksX1_allParts_1 5 rfl rfl)
theorem dX1_allParts_32 : decode cX1_allParts 32 = .ok (.iload_n 1, 1) := dk_27 (dk_at dksX1_allParts_1 8 rfl rfl)
theorem dX1_allParts_33 : decode cX1_allParts 33 = .ok (.invokevirtual 165, 3) := dk_182 0 165 (dk_at dksX1_allParts_1 9 rfl rfl)
theorem dX1_allParts_36 : decode cX1_allParts 36 = .ok (.iadd, 1) := dk_96 (dk_at dksX1_allParts_1 12 rfl rfl)
theorem dX1_allParts_37 : decode cX1_allParts 37 = .ok (.istore_n 2, 1) := dk_61 (dk_at dksX1_allParts_1 13 rfl rfl)
theorem dX1_allParts_38 : decode cX1_allParts 38 = .ok (.iinc 3 1, 3) := dk_132 3 1 (dk_at dksX1_allParts_1 14 rfl rfl)
theorem dX1_allParts_41 : decode cX1_allParts 41 = .ok (.goto (-37), 3) := dk_167 255 219 (dk_at dksX1_allParts_1 17 rfl rfl)
theorem dX1_allParts_44 : decode cX1_allParts 44 = .ok (.iload_n 2, 1) := dk_28 (dk_at dksX1_allParts_1 20 rfl rfl)
theorem dX1_allParts_45 : decode cX1_allParts 45 = .ok (.ireturn, 1) := dk_172 (dk_at dksX1_allParts_1 21 rfl rfl)
abbrev cX1_partsOf : ByteArray := prog_1_method_28_code
def yX1_partsOf : MethodName := ⟨RX1, "partsOf", "(LScaffolder$Face;I)I"⟩
def dkwX1_partsOf_3 : List UInt8 := [132, 4, 1, 167, 255, 223, 29, 172]
abbrev dktX1_partsOf_3 : List UInt8 := dkwX1_partsOf_3 ++ []
def dkwX1_partsOf_2 : List UInt8 := [162, 0, 30, 29, 42, 180, 0, 33, 21, 4, 185, 0, 29, 2, 0, 192, 0, 44, 28, 184, 0, 161, 96, 62]
abbrev dktX1_partsOf_2 : List UInt8 := dkwX1_partsOf_2 ++ dktX1_partsOf_3
def dkwX1_partsOf_1 : List UInt8 := [182, 0, 155, 96, 62, 132, 4, 1, 167, 255, 234, 43, 180, 0, 158, 54, 4, 21, 4, 43, 182, 0, 152]
abbrev dktX1_partsOf_1 : List UInt8 := dkwX1_partsOf_1 ++ dktX1_partsOf_2
def dkwX1_partsOf_0 : List UInt8 := [3, 62, 43, 182, 0, 149, 54, 4, 21, 4, 43, 182, 0, 152, 163, 0, 19, 29, 42, 21, 4, 28]
abbrev dktX1_partsOf_0 : List UInt8 := dkwX1_partsOf_0 ++ dktX1_partsOf_1
theorem dksX1_partsOf_0 : cX1_partsOf.data.toList.drop 0 = dktX1_partsOf_0 := by decide +kernel
theorem dksX1_partsOf_1 : cX1_partsOf.data.toList.drop 22 = dktX1_partsOf_1 := dk_seg dksX1_partsOf_0 22 rfl rfl
theorem dksX1_partsOf_2 : cX1_partsOf.data.toList.drop 45 = dktX1_partsOf_2 := dk_seg dksX1_partsOf_1 23 rfl rfl
theorem dksX1_partsOf_3 : cX1_partsOf.data.toList.drop 69 = dktX1_partsOf_3 := dk_seg dksX1_partsOf_2 24 rfl rfl
theorem dX1_partsOf_0 : decode cX1_partsOf 0 = .ok (.iconst 0, 1) := dk_3 (dk_at dksX1_partsOf_0 0 rfl rfl)
theorem dX1_partsOf_1 : decode cX1_partsOf 1 = .ok (.istore_n 3, 1) := dk_62 (dk_at dksX1_partsOf_0 1 rfl rfl)
theorem dX1_partsOf_2 : decode cX1_partsOf 2 = .ok (.aload_n 1, 1) := dk_43 (dk_at dksX1_partsOf_0 2 rfl rfl)
theorem dX1_partsOf_3 : decode cX1_partsOf 3 = .ok (.invokevirtual 149, 3) := dk_182 0 149 (dk_at dksX1_partsOf_0 3 rfl rfl)
theorem dX1_partsOf_6 : decode cX1_partsOf 6 = .ok (.istore 4, 2) := dk_54 4 (dk_at dksX1_partsOf_0 6 rfl rfl)
theorem dX1_partsOf_8 : decode cX1_partsOf 8 = .ok (.iload 4, 2) := dk_21 4 (dk_at dksX1_partsOf_0 8 rfl rfl)
theorem dX1_partsOf_10 : decode cX1_partsOf 10 = .ok (.aload_n 1, 1) := dk_43 (dk_at dksX1_partsOf_0 10 rfl rfl)
theorem dX1_partsOf_11 : decode cX1_partsOf 11 = .ok (.invokevirtual 152, 3) := dk_182 0 152 (dk_at dksX1_partsOf_0 11 rfl rfl)
theorem dX1_partsOf_14 : decode cX1_partsOf 14 = .ok (.if_icmp .gt 19, 3) := dk_163 0 19 (dk_at dksX1_partsOf_0 14 rfl rfl)
theorem dX1_partsOf_17 : decode cX1_partsOf 17 = .ok (.iload_n 3, 1) := dk_29 (dk_at dksX1_partsOf_0 17 rfl rfl)
theorem dX1_partsOf_18 : decode cX1_partsOf 18 = .ok (.aload_n 0, 1) := dk_42 (dk_at dksX1_partsOf_0 18 rfl rfl)
theorem dX1_partsOf_19 : decode cX1_partsOf 19 = .ok (.iload 4, 2) := dk_21 4 (dk_at dksX1_partsOf_0 19 rfl rfl)
theorem dX1_partsOf_21 : decode cX1_partsOf 21 = .ok (.iload_n 2, 1) := dk_28 (dk_at dksX1_partsOf_0 21 rfl rfl)
theorem dX1_partsOf_22 : decode cX1_partsOf 22 = .ok (.invokevirtual 155, 3) := dk_182 0 155 (dk_at dksX1_partsOf_1 0 rfl rfl)
theorem dX1_partsOf_25 : decode cX1_partsOf 25 = .ok (.iadd, 1) := dk_96 (dk_at dksX1_partsOf_1 3 rfl rfl)
theorem dX1_partsOf_26 : decode cX1_partsOf 26 = .ok (.istore_n 3, 1) := dk_62 (dk_at dksX1_partsOf_1 4 rfl rfl)
theorem dX1_partsOf_27 : decode cX1_partsOf 27 = .ok (.iinc 4 1, 3) := dk_132 4 1 (dk_at dksX1_partsOf_1 5 rfl rfl)
theorem dX1_partsOf_30 : decode cX1_partsOf 30 = .ok (.goto (-22), 3) := dk_167 255 234 (dk_at dksX1_partsOf_1 8 rfl rfl)
theorem dX1_partsOf_33 : decode cX1_partsOf 33 = .ok (.aload_n 1, 1) := dk_43 (dk_at dksX1_partsOf_1 11 rfl rfl)
theorem dX1_partsOf_34 : decode cX1_partsOf 34 = .ok (.getfield 158, 3) := dk_180 0 158 (dk_at dksX1_partsOf_1 12 rfl rfl)
theorem dX1_partsOf_37 : decode cX1_partsOf 37 = .ok (.istore 4, 2) := dk_54 4 (dk_at dksX1_partsOf_1 15 rfl rfl)
theorem dX1_partsOf_39 : decode cX1_partsOf 39 = .ok (.iload 4, 2) := dk_21 4 (dk_at dksX1_partsOf_1 17 rfl rfl)
theorem dX1_partsOf_41 : decode cX1_partsOf 41 = .ok (.aload_n 1, 1) := dk_43 (dk_at dksX1_partsOf_1 19 rfl rfl)
theorem dX1_partsOf_42 : decode cX1_partsOf 42 = .ok (.invokevirtual 152, 3) := dk_182 0 152 (dk_at dksX1_partsOf_1 20 rfl rfl)
theorem dX1_partsOf_45 : decode cX1_partsOf 45 = .ok (.if_icmp .ge 30, 3) := dk_162 0 30 (dk_at dksX1_partsOf_2 0 rfl rfl)
theorem dX1_partsOf_48 : decode cX1_partsOf 48 = .ok (.iload_n 3, 1) := dk_29 (dk_at dksX1_partsOf_2 3 rfl rfl)
theorem dX1_partsOf_49 : decode cX1_partsOf 49 = .ok (.aload_n 0, 1) := dk_42 (dk_at dksX1_partsOf_2 4 rfl rfl)
theorem dX1_partsOf_50 : decode cX1_partsOf 50 = .ok (.getfield 33, 3) := dk_180 0 33 (dk_at dksX1_partsOf_2 5 rfl rfl)
theorem dX1_partsOf_53 : decode cX1_partsOf 53 = .ok (.iload 4, 2) := dk_21 4 (dk_at dksX1_partsOf_2 8 rfl rfl)
theorem dX1_partsOf_55 : decode cX1_partsOf 55 = .ok (.invokeinterface 29 2, 5) := by decide +kernel
theorem dX1_partsOf_60 : decode cX1_partsOf 60 = .ok (.checkcast 44, 3) := dk_192 0 44 (dk_at dksX1_partsOf_2 15 rfl rfl)
theorem dX1_partsOf_63 : decode cX1_partsOf 63 = .ok (.iload_n 2, 1) := dk_28 (dk_at dksX1_partsOf_2 18 rfl rfl)
theorem dX1_partsOf_64 : decode cX1_partsOf 64 = .ok (.invokestatic 161, 3) := dk_184 0 161 (dk_at dksX1_partsOf_2 19 rfl rfl)
theorem dX1_partsOf_67 : decode cX1_partsOf 67 = .ok (.iadd, 1) := dk_96 (dk_at dksX1_partsOf_2 22 rfl rfl)
theorem dX1_partsOf_68 : decode cX1_partsOf 68 = .ok (.istore_n 3, 1) := dk_62 (dk_at dksX1_partsOf_2 23 rfl rfl)
theorem dX1_partsOf_69 : decode cX1_partsOf 69 = .ok (.iinc 4 1, 3) := dk_132 4 1 (dk_at dksX1_partsOf_3 0 rfl rfl)
theorem dX1_partsOf_72 : decode cX1_partsOf 72 = .ok (.goto (-33), 3) := dk_167 255 223 (dk_at dksX1_partsOf_3 3 rfl rfl)
theorem dX1_partsOf_75 : decode cX1_partsOf 75 = .ok (.iload_n 3, 1) := dk_29 (dk_at dksX1_partsOf_3 6 rfl rfl)
theorem dX1_partsOf_76 : decode cX1_partsOf 76 = .ok (.ireturn, 1) := dk_172 (dk_at dksX1_partsOf_3 7 rfl rfl)
abbrev cX1_partsAt : ByteArray := prog_1_method_26_code
def yX1_partsAt : MethodName := ⟨RX1, "partsAt", "(II)I"⟩
def dkwX1_partsAt_3 : List UInt8 := [29, 172]
abbrev dktX1_partsAt_3 : List UInt8 := dkwX1_partsAt_3 ++ []
def dkwX1_partsAt_2 : List UInt8 := [180, 0, 106, 21, 4, 50, 27, 51, 153, 0, 7, 4, 167, 0, 4, 3, 96, 62, 132, 4, 1, 167, 255, 221]
abbrev dktX1_partsAt_2 : List UInt8 := dkwX1_partsAt_2 ++ dktX1_partsAt_3
def dkwX1_partsAt_1 : List UInt8 := [182, 0, 64, 172, 3, 62, 3, 54, 4, 21, 4, 16, 8, 162, 0, 34, 28, 8, 160, 0, 29, 29, 42]
abbrev dktX1_partsAt_1 : List UInt8 := dkwX1_partsAt_1 ++ dktX1_partsAt_2
def dkwX1_partsAt_0 : List UInt8 := [28, 154, 0, 15, 42, 27, 182, 0, 123, 42, 27, 182, 0, 64, 104, 172, 28, 4, 160, 0, 9, 42, 27]
abbrev dktX1_partsAt_0 : List UInt8 := dkwX1_partsAt_0 ++ dktX1_partsAt_1
theorem dksX1_partsAt_0 : cX1_partsAt.data.toList.drop 0 = dktX1_partsAt_0 := by decide +kernel
theorem dksX1_partsAt_1 : cX1_partsAt.data.toList.drop 23 = dktX1_partsAt_1 := dk_seg dksX1_partsAt_0 23 rfl rfl
theorem dksX1_partsAt_2 : cX1_partsAt.data.toList.drop 46 = dktX1_partsAt_2 := dk_seg dksX1_partsAt_1 23 rfl rfl
theorem dksX1_partsAt_3 : cX1_partsAt.data.toList.drop 70 = dktX1_partsAt_3 := dk_seg dksX1_partsAt_2 24 rfl rfl
theorem dX1_partsAt_0 : decode cX1_partsAt 0 = .ok (.iload_n 2, 1) := dk_28 (dk_at dksX1_partsAt_0 0 rfl rfl)
theorem dX1_partsAt_1 : decode cX1_partsAt 1 = .ok (.ifCond .ne 15, 3) := dk_154 0 15 (dk_at dksX1_partsAt_0 1 rfl rfl)
theorem dX1_partsAt_4 : decode cX1_partsAt 4 = .ok (.aload_n 0, 1) := dk_42 (dk_at dksX1_partsAt_0 4 rfl rfl)
theorem dX1_partsAt_5 : decode cX1_partsAt 5 = .ok (.iload_n 1, 1) := dk_27 (dk_at dksX1_partsAt_0 5 rfl rfl)
theorem dX1_partsAt_6 : decode cX1_partsAt 6 = .ok (.invokevirtual 123, 3) := dk_182 0 123 (dk_at dksX1_partsAt_0 6 rfl rfl)
theorem dX1_partsAt_9 : decode cX1_partsAt 9 = .ok (.aload_n 0, 1) := dk_42 (dk_at dksX1_partsAt_0 9 rfl rfl)
theorem dX1_partsAt_10 : decode cX1_partsAt 10 = .ok (.iload_n 1, 1) := dk_27 (dk_at dksX1_partsAt_0 10 rfl rfl)
theorem dX1_partsAt_11 : decode cX1_partsAt 11 = .ok (.invokevirtual 64, 3) := dk_182 0 64 (dk_at dksX1_partsAt_0 11 rfl rfl)
theorem dX1_partsAt_14 : decode cX1_partsAt 14 = .ok (.imul, 1) := dk_104 (dk_at dksX1_partsAt_0 14 rfl rfl)
theorem dX1_partsAt_15 : decode cX1_partsAt 15 = .ok (.ireturn, 1) := dk_172 (dk_at dksX1_partsAt_0 15 rfl rfl)
theorem dX1_partsAt_16 : decode cX1_partsAt 16 = .ok (.iload_n 2, 1) := dk_28 (dk_at dksX1_partsAt_0 16 rfl rfl)
theorem dX1_partsAt_17 : decode cX1_partsAt 17 = .ok (.iconst 1, 1) := dk_4 (dk_at dksX1_partsAt_0 17 rfl rfl)
theorem dX1_partsAt_18 : decode cX1_partsAt 18 = .ok (.if_icmp .ne 9, 3) := dk_160 0 9 (dk_at dksX1_partsAt_0 18 rfl rfl)
theorem dX1_partsAt_21 : decode cX1_partsAt 21 = .ok (.aload_n 0, 1) := dk_42 (dk_at dksX1_partsAt_0 21 rfl rfl)
theorem dX1_partsAt_22 : decode cX1_partsAt 22 = .ok (.iload_n 1, 1) := dk_27 (dk_at dksX1_partsAt_0 22 rfl rfl)
theorem dX1_partsAt_23 : decode cX1_partsAt 23 = .ok (.invokevirtual 64, 3) := dk_182 0 64 (dk_at dksX1_partsAt_1 0 rfl rfl)
theorem dX1_partsAt_26 : decode cX1_partsAt 26 = .ok (.ireturn, 1) := dk_172 (dk_at dksX1_partsAt_1 3 rfl rfl)
theorem dX1_partsAt_27 : decode cX1_partsAt 27 = .ok (.iconst 0, 1) := dk_3 (dk_at dksX1_partsAt_1 4 rfl rfl)
theorem dX1_partsAt_28 : decode cX1_partsAt 28 = .ok (.istore_n 3, 1) := dk_62 (dk_at dksX1_partsAt_1 5 rfl rfl)
theorem dX1_partsAt_29 : decode cX1_partsAt 29 = .ok (.iconst 0, 1) := dk_3 (dk_at dksX1_partsAt_1 6 rfl rfl)
theorem dX1_partsAt_30 : decode cX1_partsAt 30 = .ok (.istore 4, 2) := dk_54 4 (dk_at dksX1_partsAt_1 7 rfl rfl)
theorem dX1_partsAt_32 : decode cX1_partsAt 32 = .ok (.iload 4, 2) := dk_21 4 (dk_at dksX1_partsAt_1 9 rfl rfl)
theorem dX1_partsAt_34 : decode cX1_partsAt 34 = .ok (.bipush 8, 2) := dk_16 8 (dk_at dksX1_partsAt_1 11 rfl rfl)
theorem dX1_partsAt_36 : decode cX1_partsAt 36 = .ok (.if_icmp .ge 34, 3) := dk_162 0 34 (dk_at dksX1_partsAt_1 13 rfl rfl)
theorem dX1_partsAt_39 : decode cX1_partsAt 39 = .ok (.iload_n 2, 1) := dk_28 (dk_at dksX1_partsAt_1 16 rfl rfl)
theorem dX1_partsAt_40 : decode cX1_partsAt 40 = .ok (.iconst 5, 1) := dk_8 (dk_at dksX1_partsAt_1 17 rfl rfl)
theorem dX1_partsAt_41 : decode cX1_partsAt 41 = .ok (.if_icmp .ne 29, 3) := dk_160 0 29 (dk_at dksX1_partsAt_1 18 rfl rfl)
theorem dX1_partsAt_44 : decode cX1_partsAt 44 = .ok (.iload_n 3, 1) := dk_29 (dk_at dksX1_partsAt_1 21 rfl rfl)
theorem dX1_partsAt_45 : decode cX1_partsAt 45 = .ok (.aload_n 0, 1) := dk_42 (dk_at dksX1_partsAt_1 22 rfl rfl)
theorem dX1_partsAt_46 : decode cX1_partsAt 46 = .ok (.getfield 106, 3) := dk_180 0 106 (dk_at dksX1_partsAt_2 0 rfl rfl)
theorem dX1_partsAt_49 : decode cX1_partsAt 49 = .ok (.iload 4, 2) := dk_21 4 (dk_at dksX1_partsAt_2 3 rfl rfl)
theorem dX1_partsAt_51 : decode cX1_partsAt 51 = .ok (.aaload, 1) := dk_50 (dk_at dksX1_partsAt_2 5 rfl rfl)
theorem dX1_partsAt_52 : decode cX1_partsAt 52 = .ok (.iload_n 1, 1) := dk_27 (dk_at dksX1_partsAt_2 6 rfl rfl)
theorem dX1_partsAt_53 : decode cX1_partsAt 53 = .ok (.baload, 1) := dk_51 (dk_at dksX1_partsAt_2 7 rfl rfl)
theorem dX1_partsAt_54 : decode cX1_partsAt 54 = .ok (.ifCond .eq 7, 3) := dk_153 0 7 (dk_at dksX1_partsAt_2 8 rfl rfl)
theorem dX1_partsAt_57 : decode cX1_partsAt 57 = .ok (.iconst 1, 1) := dk_4 (dk_at dksX1_partsAt_2 11 rfl rfl)
theorem dX1_partsAt_58 : decode cX1_partsAt 58 = .ok (.goto 4, 3) := dk_167 0 4 (dk_at dksX1_partsAt_2 12 rfl rfl)
theorem dX1_partsAt_61 : decode cX1_partsAt 61 = .ok (.iconst 0, 1) := dk_3 (dk_at dksX1_partsAt_2 15 rfl rfl)
theorem dX1_partsAt_62 : decode cX1_partsAt 62 = .ok (.iadd, 1) := dk_96 (dk_at dksX1_partsAt_2 16 rfl rfl)
theorem dX1_partsAt_63 : decode cX1_partsAt 63 = .ok (.istore_n 3, 1) := dk_62 (dk_at dksX1_partsAt_2 17 rfl rfl)
theorem dX1_partsAt_64 : decode cX1_partsAt 64 = .ok (.iinc 4 1, 3) := dk_132 4 1 (dk_at dksX1_partsAt_2 18 rfl rfl)
theorem dX1_partsAt_67 : decode cX1_partsAt 67 = .ok (.goto (-35), 3) := dk_167 255 221 (dk_at dksX1_partsAt_2 21 rfl rfl)
theorem dX1_partsAt_70 : decode cX1_partsAt 70 = .ok (.iload_n 3, 1) := dk_29 (dk_at dksX1_partsAt_3 0 rfl rfl)
theorem dX1_partsAt_71 : decode cX1_partsAt 71 = .ok (.ireturn, 1) := dk_172 (dk_at dksX1_partsAt_3 1 rfl rfl)
abbrev cX1_standards : ByteArray := prog_1_method_14_code
def yX1_standards : MethodName := ⟨RX1, "standards", "(I)I"⟩
def dkwX1_standards_0 : List UInt8 := [42, 27, 182, 0, 67, 153, 0, 7, 6, 167, 0, 4, 5, 172]
abbrev dktX1_standards_0 : List UInt8 := dkwX1_standards_0 ++ []
theorem dksX1_standards_0 : cX1_standards.data.toList.drop 0 = dktX1_standards_0 := by decide +kernel
theorem dX1_standards_0 : decode cX1_standards 0 = .ok (.aload_n 0, 1) := dk_42 (dk_at dksX1_standards_0 0 rfl rfl)
theorem dX1_standards_1 : decode cX1_standards 1 = .ok (.iload_n 1, 1) := dk_27 (dk_at dksX1_standards_0 1 rfl rfl)
theorem dX1_standards_2 : decode cX1_standards 2 = .ok (.invokevirtual 67, 3) := dk_182 0 67 (dk_at dksX1_standards_0 2 rfl rfl)
theorem dX1_standards_5 : decode cX1_standards 5 = .ok (.ifCond .eq 7, 3) := dk_153 0 7 (dk_at dksX1_standards_0 5 rfl rfl)
theorem dX1_standards_8 : decode cX1_standards 8 = .ok (.iconst 3, 1) := dk_6 (dk_at dksX1_standards_0 8 rfl rfl)
theorem dX1_standards_9 : decode cX1_standards 9 = .ok (.goto 4, 3) := dk_167 0 4 (dk_at dksX1_standards_0 9 rfl rfl)
theorem dX1_standards_12 : decode cX1_standards 12 = .ok (.iconst 2, 1) := dk_5 (dk_at dksX1_standards_0 12 rfl rfl)
theorem dX1_standards_13 : decode cX1_standards 13 = .ok (.ireturn, 1) := dk_172 (dk_at dksX1_standards_0 13 rfl rfl)
abbrev cX1_partsOf_2 : ByteArray := prog_1_method_27_code
def yX1_partsOf_2 : MethodName := ⟨RX1, "partsOf", "(LScaffolder$Bay;I)I"⟩
def dkwX1_partsOf_2_3 : List UInt8 := [180, 0, 84, 182, 0, 146, 153, 0, 10, 42, 180, 0, 50, 167, 0, 8, 3, 167, 0, 4, 3, 172]
abbrev dktX1_partsOf_2_3 : List UInt8 := dkwX1_partsOf_2_3 ++ []
def dkwX1_partsOf_2_2 : List UInt8 := [5, 42, 180, 0, 50, 104, 167, 0, 38, 8, 42, 182, 0, 143, 104, 167, 0, 29, 42, 180, 0, 46, 42]
abbrev dktX1_partsOf_2_2 : List UInt8 := dkwX1_partsOf_2_2 ++ dktX1_partsOf_2_3
def dkwX1_partsOf_2_1 : List UInt8 := [170, 0, 0, 0, 0, 0, 70, 0, 0, 0, 2, 0, 0, 0, 4, 0, 0, 0, 27, 0, 0, 0, 36, 0, 0, 0, 45]
abbrev dktX1_partsOf_2_1 : List UInt8 := dkwX1_partsOf_2_1 ++ dktX1_partsOf_2_2
def dkwX1_partsOf_2_0 : List UInt8 := [27]
abbrev dktX1_partsOf_2_0 : List UInt8 := dkwX1_partsOf_2_0 ++ dktX1_partsOf_2_1
theorem dksX1_partsOf_2_0 : cX1_partsOf_2.data.toList.drop 0 = dktX1_partsOf_2_0 := by decide +kernel
theorem dksX1_partsOf_2_1 : cX1_partsOf_2.data.toList.drop 1 = dktX1_partsOf_2_1 := dk_seg dksX1_partsOf_2_0 1 rfl rfl
theorem dksX1_partsOf_2_2 : cX1_partsOf_2.data.toList.drop 28 = dktX1_partsOf_2_2 := dk_seg dksX1_partsOf_2_1 27 rfl rfl
theorem dksX1_partsOf_2_3 : cX1_partsOf_2.data.toList.drop 51 = dktX1_partsOf_2_3 := dk_seg dksX1_partsOf_2_2 23 rfl rfl
theorem dX1_partsOf_2_0 : decode cX1_partsOf_2 0 = .ok (.iload_n 1, 1) := dk_27 (dk_at dksX1_partsOf_2_0 0 rfl rfl)
theorem dX1_partsOf_2_1 : decode cX1_partsOf_2 1 = .ok (.tableswitch 70 2 4 #[27, 36, 45], 27) := by decide +kernel
theorem dX1_partsOf_2_28 : decode cX1_partsOf_2 28 = .ok (.iconst 2, 1) := dk_5 (dk_at dksX1_partsOf_2_2 0 rfl rfl)
theorem dX1_partsOf_2_29 : decode cX1_partsOf_2 29 = .ok (.aload_n 0, 1) := dk_42 (dk_at dksX1_partsOf_2_2 1 rfl rfl)
theorem dX1_partsOf_2_30 : decode cX1_partsOf_2 30 = .ok (.getfield 50, 3) := dk_180 0 50 (dk_at dksX1_partsOf_2_2 2 rfl rfl)
theorem dX1_partsOf_2_33 : decode cX1_partsOf_2 33 = .ok (.imul, 1) := dk_104 (dk_at dksX1_partsOf_2_2 5 rfl rfl)
theorem dX1_partsOf_2_34 : decode cX1_partsOf_2 34 = .ok (.goto 38, 3) := dk_167 0 38 (dk_at dksX1_partsOf_2_2 6 rfl rfl)
theorem dX1_partsOf_2_37 : decode cX1_partsOf_2 37 = .ok (.iconst 5, 1) := dk_8 (dk_at dksX1_partsOf_2_2 9 rfl rfl)
theorem dX1_partsOf_2_38 : decode cX1_partsOf_2 38 = .ok (.aload_n 0, 1) := dk_42 (dk_at dksX1_partsOf_2_2 10 rfl rfl)
theorem dX1_partsOf_2_39 : decode cX1_partsOf_2 39 = .ok (.invokevirtual 143, 3) := dk_182 0 143 (dk_at dksX1_partsOf_2_2 11 rfl rfl)
theorem dX1_partsOf_2_42 : decode cX1_partsOf_2 42 = .ok (.imul, 1) := dk_104 (dk_at dksX1_partsOf_2_2 14 rfl rfl)
theorem dX1_partsOf_2_43 : decode cX1_partsOf_2 43 = .ok (.goto 29, 3) := dk_167 0 29 (dk_at dksX1_partsOf_2_2 15 rfl rfl)
theorem dX1_partsOf_2_46 : decode cX1_partsOf_2 46 = .ok (.aload_n 0, 1) := dk_42 (dk_at dksX1_partsOf_2_2 18 rfl rfl)
theorem dX1_partsOf_2_47 : decode cX1_partsOf_2 47 = .ok (.getfield 46, 3) := dk_180 0 46 (dk_at dksX1_partsOf_2_2 19 rfl rfl)
theorem dX1_partsOf_2_50 : decode cX1_partsOf_2 50 = .ok (.aload_n 0, 1) := dk_42 (dk_at dksX1_partsOf_2_2 22 rfl rfl)
theorem dX1_partsOf_2_51 : decode cX1_partsOf_2 51 = .ok (.getfield 84, 3) := dk_180 0 84 (dk_at dksX1_partsOf_2_3 0 rfl rfl)
theorem dX1_partsOf_2_54 : decode cX1_partsOf_2 54 = .ok (.invokevirtual 146, 3) := dk_182 0 146 (dk_at dksX1_partsOf_2_3 3 rfl rfl)
theorem dX1_partsOf_2_57 : decode cX1_partsOf_2 57 = .ok (.ifCond .eq 10, 3) := dk_153 0 10 (dk_at dksX1_partsOf_2_3 6 rfl rfl)
theorem dX1_partsOf_2_60 : decode cX1_partsOf_2 60 = .ok (.aload_n 0, 1) := dk_42 (dk_at dksX1_partsOf_2_3 9 rfl rfl)
theorem dX1_partsOf_2_61 : decode cX1_partsOf_2 61 = .ok (.getfield 50, 3) := dk_180 0 50 (dk_at dksX1_partsOf_2_3 10 rfl rfl)
theorem dX1_partsOf_2_64 : decode cX1_partsOf_2 64 = .ok (.goto 8, 3) := dk_167 0 8 (dk_at dksX1_partsOf_2_3 13 rfl rfl)
theorem dX1_partsOf_2_67 : decode cX1_partsOf_2 67 = .ok (.iconst 0, 1) := dk_3 (dk_at dksX1_partsOf_2_3 16 rfl rfl)
theorem dX1_partsOf_2_68 : decode cX1_partsOf_2 68 = .ok (.goto 4, 3) := dk_167 0 4 (dk_at dksX1_partsOf_2_3 17 rfl rfl)
theorem dX1_partsOf_2_71 : decode cX1_partsOf_2 71 = .ok (.iconst 0, 1) := dk_3 (dk_at dksX1_partsOf_2_3 20 rfl rfl)
theorem dX1_partsOf_2_72 : decode cX1_partsOf_2 72 = .ok (.ireturn, 1) := dk_172 (dk_at dksX1_partsOf_2_3 21 rfl rfl)
abbrev cX1_isGreenAt : ByteArray := prog_1_method_62_code
def yX1_isGreenAt : MethodName := ⟨RX1, "isGreenAt", "(I)Z"⟩
def dkwX1_isGreenAt_3 : List UInt8 := [167, 255, 193, 28, 172]
abbrev dktX1_isGreenAt_3 : List UInt8 := dkwX1_isGreenAt_3 ++ []
def dkwX1_isGreenAt_2 : List UInt8 := [185, 0, 29, 2, 0, 192, 0, 74, 182, 0, 230, 153, 0, 7, 4, 167, 0, 4, 3, 128, 61, 132, 3, 1]
abbrev dktX1_isGreenAt_2 : List UInt8 := dkwX1_isGreenAt_2 ++ dktX1_isGreenAt_3
def dkwX1_isGreenAt_1 : List UInt8 := [185, 0, 29, 2, 0, 192, 0, 74, 27, 182, 0, 87, 153, 0, 26, 42, 180, 0, 71, 29]
abbrev dktX1_isGreenAt_1 : List UInt8 := dkwX1_isGreenAt_1 ++ dktX1_isGreenAt_2
def dkwX1_isGreenAt_0 : List UInt8 := [3, 61, 3, 62, 29, 42, 180, 0, 71, 185, 0, 13, 1, 0, 162, 0, 56, 28, 42, 180, 0, 71, 29]
abbrev dktX1_isGreenAt_0 : List UInt8 := dkwX1_isGreenAt_0 ++ dktX1_isGreenAt_1
theorem dksX1_isGreenAt_0 : cX1_isGreenAt.data.toList.drop 0 = dktX1_isGreenAt_0 := by decide +kernel
theorem dksX1_isGreenAt_1 : cX1_isGreenAt.data.toList.drop 23 = dktX1_isGreenAt_1 := dk_seg dksX1_isGreenAt_0 23 rfl rfl
theorem dksX1_isGreenAt_2 : cX1_isGreenAt.data.toList.drop 43 = dktX1_isGreenAt_2 := dk_seg dksX1_isGreenAt_1 20 rfl rfl
theorem dksX1_isGreenAt_3 : cX1_isGreenAt.data.toList.drop 67 = dktX1_isGreenAt_3 := dk_seg dksX1_isGreenAt_2 24 rfl rfl
theorem dX1_isGreenAt_0 : decode cX1_isGreenAt 0 = .ok (.iconst 0, 1) := dk_3 (dk_at dksX1_isGreenAt_0 0 rfl rfl)
theorem dX1_isGreenAt_1 : decode cX1_isGreenAt 1 = .ok (.istore_n 2, 1) := dk_61 (dk_at dksX1_isGreenAt_0 1 rfl rfl)
theorem dX1_isGreenAt_2 : decode cX1_isGreenAt 2 = .ok (.iconst 0, 1) := dk_3 (dk_at dksX1_isGreenAt_0 2 rfl rfl)
theorem dX1_isGreenAt_3 : decode cX1_isGreenAt 3 = .ok (.istore_n 3, 1) := dk_62 (dk_at dksX1_isGreenAt_0 3 rfl rfl)
theorem dX1_isGreenAt_4 : decode cX1_isGreenAt 4 = .ok (.iload_n 3, 1) := dk_29 (dk_at dksX1_isGreenAt_0 4 rfl rfl)
theorem dX1_isGreenAt_5 : decode cX1_isGreenAt 5 = .ok (.aload_n 0, 1) := dk_42 (dk_at dksX1_isGreenAt_0 5 rfl rfl)
theorem dX1_isGreenAt_6 : decode cX1_isGreenAt 6 = .ok (.getfield 71, 3) := dk_180 0 71 (dk_at dksX1_isGreenAt_0 6 rfl rfl)
theorem dX1_isGreenAt_9 : decode cX1_isGreenAt 9 = .ok (.invokeinterface 13 1, 5) := by decide +kernel
theorem dX1_isGreenAt_14 : decode cX1_isGreenAt 14 = .ok (.if_icmp .ge 56, 3) := dk_162 0 56 (dk_at dksX1_isGreenAt_0 14 rfl rfl)
theorem dX1_isGreenAt_17 : decode cX1_isGreenAt 17 = .ok (.iload_n 2, 1) := dk_28 (dk_at dksX1_isGreenAt_0 17 rfl rfl)
theorem dX1_isGreenAt_18 : decode cX1_isGreenAt 18 = .ok (.aload_n 0, 1) := dk_42 (dk_at dksX1_isGreenAt_0 18 rfl rfl)
theorem dX1_isGreenAt_19 : decode cX1_isGreenAt 19 = .ok (.getfield 71, 3) := dk_180 0 71 (dk_at dksX1_isGreenAt_0 19 rfl rfl)
theorem dX1_isGreenAt_22 : decode cX1_isGreenAt 22 = .ok (.iload_n 3, 1) := dk_29 (dk_at dksX1_isGreenAt_0 22 rfl rfl)
theorem dX1_isGreenAt_23 : decode cX1_isGreenAt 23 = .ok (.invokeinterface 29 2, 5) := by decide +kernel
theorem dX1_isGreenAt_28 : decode cX1_isGreenAt 28 = .ok (.checkcast 74, 3) := dk_192 0 74 (dk_at dksX1_isGreenAt_1 5 rfl rfl)
theorem dX1_isGreenAt_31 : decode cX1_isGreenAt 31 = .ok (.iload_n 1, 1) := dk_27 (dk_at dksX1_isGreenAt_1 8 rfl rfl)
theorem dX1_isGreenAt_32 : decode cX1_isGreenAt 32 = .ok (.invokevirtual 87, 3) := dk_182 0 87 (dk_at dksX1_isGreenAt_1 9 rfl rfl)
theorem dX1_isGreenAt_35 : decode cX1_isGreenAt 35 = .ok (.ifCond .eq 26, 3) := dk_153 0 26 (dk_at dksX1_isGreenAt_1 12 rfl rfl)
theorem dX1_isGreenAt_38 : decode cX1_isGreenAt 38 = .ok (.aload_n 0, 1) := dk_42 (dk_at dksX1_isGreenAt_1 15 rfl rfl)
theorem dX1_isGreenAt_39 : decode cX1_isGreenAt 39 = .ok (.getfield 71, 3) := dk_180 0 71 (dk_at dksX1_isGreenAt_1 16 rfl rfl)
theorem dX1_isGreenAt_42 : decode cX1_isGreenAt 42 = .ok (.iload_n 3, 1) := dk_29 (dk_at dksX1_isGreenAt_1 19 rfl rfl)
theorem dX1_isGreenAt_43 : decode cX1_isGreenAt 43 = .ok (.invokeinterface 29 2, 5) := by decide +kernel
theorem dX1_isGreenAt_48 : decode cX1_isGreenAt 48 = .ok (.checkcast 74, 3) := dk_192 0 74 (dk_at dksX1_isGreenAt_2 5 rfl rfl)
theorem dX1_isGreenAt_51 : decode cX1_isGreenAt 51 = .ok (.invokevirtual 230, 3) := dk_182 0 230 (dk_at dksX1_isGreenAt_2 8 rfl rfl)
theorem dX1_isGreenAt_54 : decode cX1_isGreenAt 54 = .ok (.ifCond .eq 7, 3) := dk_153 0 7 (dk_at dksX1_isGreenAt_2 11 rfl rfl)
theorem dX1_isGreenAt_57 : decode cX1_isGreenAt 57 = .ok (.iconst 1, 1) := dk_4 (dk_at dksX1_isGreenAt_2 14 rfl rfl)
theorem dX1_isGreenAt_58 : decode cX1_isGreenAt 58 = .ok (.goto 4, 3) := dk_167 0 4 (dk_at dksX1_isGreenAt_2 15 rfl rfl)
theorem dX1_isGreenAt_61 : decode cX1_isGreenAt 61 = .ok (.iconst 0, 1) := dk_3 (dk_at dksX1_isGreenAt_2 18 rfl rfl)
theorem dX1_isGreenAt_62 : decode cX1_isGreenAt 62 = .ok (.ior, 1) := dk_128 (dk_at dksX1_isGreenAt_2 19 rfl rfl)
theorem dX1_isGreenAt_63 : decode cX1_isGreenAt 63 = .ok (.istore_n 2, 1) := dk_61 (dk_at dksX1_isGreenAt_2 20 rfl rfl)
theorem dX1_isGreenAt_64 : decode cX1_isGreenAt 64 = .ok (.iinc 3 1, 3) := dk_132 3 1 (dk_at dksX1_isGreenAt_2 21 rfl rfl)
theorem dX1_isGreenAt_67 : decode cX1_isGreenAt 67 = .ok (.goto (-63), 3) := dk_167 255 193 (dk_at dksX1_isGreenAt_3 0 rfl rfl)
theorem dX1_isGreenAt_70 : decode cX1_isGreenAt 70 = .ok (.iload_n 2, 1) := dk_28 (dk_at dksX1_isGreenAt_3 3 rfl rfl)
theorem dX1_isGreenAt_71 : decode cX1_isGreenAt 71 = .ok (.ireturn, 1) := dk_172 (dk_at dksX1_isGreenAt_3 4 rfl rfl)
abbrev cX1_loadOf : ByteArray := prog_1_method_23_code
def yX1_loadOf : MethodName := ⟨RX1, "loadOf", "(IIZ)I"⟩
def dkwX1_loadOf_5 : List UInt8 := [172]
abbrev dktX1_loadOf_5 : List UInt8 := dkwX1_loadOf_5 ++ []
def dkwX1_loadOf_4 : List UInt8 := [192, 0, 44, 21, 5, 29, 182, 0, 126, 167, 0, 4, 3, 96, 54, 4, 132, 5, 1, 167, 255, 155, 21, 4]
abbrev dktX1_loadOf_4 : List UInt8 := dkwX1_loadOf_4 ++ dktX1_loadOf_5
def dkwX1_loadOf_3 : List UInt8 := [42, 180, 0, 33, 185, 0, 13, 1, 0, 162, 0, 25, 42, 180, 0, 33, 27, 185, 0, 29, 2, 0]
abbrev dktX1_loadOf_3 : List UInt8 := dkwX1_loadOf_3 ++ dktX1_loadOf_4
def dkwX1_loadOf_2 : List UInt8 := [185, 0, 29, 2, 0, 192, 0, 44, 21, 5, 29, 182, 0, 126, 167, 0, 4, 3, 96, 54, 4, 21, 4, 27]
abbrev dktX1_loadOf_2 : List UInt8 := dkwX1_loadOf_2 ++ dktX1_loadOf_3
def dkwX1_loadOf_1 : List UInt8 := [182, 0, 123, 104, 96, 54, 4, 21, 4, 27, 158, 0, 27, 42, 180, 0, 33, 27, 4, 100]
abbrev dktX1_loadOf_1 : List UInt8 := dkwX1_loadOf_1 ++ dktX1_loadOf_2
def dkwX1_loadOf_0 : List UInt8 := [3, 54, 4, 28, 54, 5, 21, 5, 42, 27, 182, 0, 64, 162, 0, 97, 21, 4, 16, 20, 42, 27]
abbrev dktX1_loadOf_0 : List UInt8 := dkwX1_loadOf_0 ++ dktX1_loadOf_1
theorem dksX1_loadOf_0 : cX1_loadOf.data.toList.drop 0 = dktX1_loadOf_0 := by decide +kernel
theorem dksX1_loadOf_1 : cX1_loadOf.data.toList.drop 22 = dktX1_loadOf_1 := dk_seg dksX1_loadOf_0 22 rfl rfl
theorem dksX1_loadOf_2 : cX1_loadOf.data.toList.drop 42 = dktX1_loadOf_2 := dk_seg dksX1_loadOf_1 20 rfl rfl
theorem dksX1_loadOf_3 : cX1_loadOf.data.toList.drop 66 = dktX1_loadOf_3 := dk_seg dksX1_loadOf_2 24 rfl rfl
theorem dksX1_loadOf_4 : cX1_loadOf.data.toList.drop 88 = dktX1_loadOf_4 := dk_seg dksX1_loadOf_3 22 rfl rfl
theorem dksX1_loadOf_5 : cX1_loadOf.data.toList.drop 112 = dktX1_loadOf_5 := dk_seg dksX1_loadOf_4 24 rfl rfl
theorem dX1_loadOf_0 : decode cX1_loadOf 0 = .ok (.iconst 0, 1) := dk_3 (dk_at dksX1_loadOf_0 0 rfl rfl)
theorem dX1_loadOf_1 : decode cX1_loadOf 1 = .ok (.istore 4, 2) := dk_54 4 (dk_at dksX1_loadOf_0 1 rfl rfl)
theorem dX1_loadOf_3 : decode cX1_loadOf 3 = .ok (.iload_n 2, 1) := dk_28 (dk_at dksX1_loadOf_0 3 rfl rfl)
theorem dX1_loadOf_4 : decode cX1_loadOf 4 = .ok (.istore 5, 2) := dk_54 5 (dk_at dksX1_loadOf_0 4 rfl rfl)
theorem dX1_loadOf_6 : decode cX1_loadOf 6 = .ok (.iload 5, 2) := dk_21 5 (dk_at dksX1_loadOf_0 6 rfl rfl)
theorem dX1_loadOf_8 : decode cX1_loadOf 8 = .ok (.aload_n 0, 1) := dk_42 (dk_at dksX1_loadOf_0 8 rfl rfl)
theorem dX1_loadOf_9 : decode cX1_loadOf 9 = .ok (.iload_n 1, 1) := dk_27 (dk_at dksX1_loadOf_0 9 rfl rfl)
theorem dX1_loadOf_10 : decode cX1_loadOf 10 = .ok (.invokevirtual 64, 3) := dk_182 0 64 (dk_at dksX1_loadOf_0 10 rfl rfl)
theorem dX1_loadOf_13 : decode cX1_loadOf 13 = .ok (.if_icmp .ge 97, 3) := dk_162 0 97 (dk_at dksX1_loadOf_0 13 rfl rfl)
theorem dX1_loadOf_16 : decode cX1_loadOf 16 = .ok (.iload 4, 2) := dk_21 4 (dk_at dksX1_loadOf_0 16 rfl rfl)
theorem dX1_loadOf_18 : decode cX1_loadOf 18 = .ok (.bipush 20, 2) := dk_16 20 (dk_at dksX1_loadOf_0 18 rfl rfl)
theorem dX1_loadOf_20 : decode cX1_loadOf 20 = .ok (.aload_n 0, 1) := dk_42 (dk_at dksX1_loadOf_0 20 rfl rfl)
theorem dX1_loadOf_21 : decode cX1_loadOf 21 = .ok (.iload_n 1, 1) := dk_27 (dk_at dksX1_loadOf_0 21 rfl rfl)
theorem dX1_loadOf_22 : decode cX1_loadOf 22 = .ok (.invokevirtual 123, 3) := dk_182 0 123 (dk_at dksX1_loadOf_1 0 rfl rfl)
theorem dX1_loadOf_25 : decode cX1_loadOf 25 = .ok (.imul, 1) := dk_104 (dk_at dksX1_loadOf_1 3 rfl rfl)
theorem dX1_loadOf_26 : decode cX1_loadOf 26 = .ok (.iadd, 1) := dk_96 (dk_at dksX1_loadOf_1 4 rfl rfl)
theorem dX1_loadOf_27 : decode cX1_loadOf 27 = .ok (.istore 4, 2) := dk_54 4 (dk_at dksX1_loadOf_1 5 rfl rfl)
theorem dX1_loadOf_29 : decode cX1_loadOf 29 = .ok (.iload 4, 2) := dk_21 4 (dk_at dksX1_loadOf_1 7 rfl rfl)
theorem dX1_loadOf_31 : decode cX1_loadOf 31 = .ok (.iload_n 1, 1) := dk_27 (dk_at dksX1_loadOf_1 9 rfl rfl)
theorem dX1_loadOf_32 : decode cX1_loadOf 32 = .ok (.ifCond .le 27, 3) := dk_158 0 27 (dk_at dksX1_loadOf_1 10 rfl rfl)
theorem dX1_loadOf_35 : decode cX1_loadOf 35 = .ok (.aload_n 0, 1) := dk_42 (dk_at dksX1_loadOf_1 13 rfl rfl)
theorem dX1_loadOf_36 : decode cX1_loadOf 36 = .ok (.getfield 33, 3) := dk_180 0 33 (dk_at dksX1_loadOf_1 14 rfl rfl)
theorem dX1_loadOf_39 : decode cX1_loadOf 39 = .ok (.iload_n 1, 1) := dk_27 (dk_at dksX1_loadOf_1 17 rfl rfl)
theorem dX1_loadOf_40 : decode cX1_loadOf 40 = .ok (.iconst 1, 1) := dk_4 (dk_at dksX1_loadOf_1 18 rfl rfl)
theorem dX1_loadOf_41 : decode cX1_loadOf 41 = .ok (.isub, 1) := dk_100 (dk_at dksX1_loadOf_1 19 rfl rfl)
theorem dX1_loadOf_42 : decode cX1_loadOf 42 = .ok (.invokeinterface 29 2, 5) := by decide +kernel
theorem dX1_loadOf_47 : decode cX1_loadOf 47 = .ok (.checkcast 44, 3) := dk_192 0 44 (dk_at dksX1_loadOf_2 5 rfl rfl)
theorem dX1_loadOf_50 : decode cX1_loadOf 50 = .ok (.iload 5, 2) := dk_21 5 (dk_at dksX1_loadOf_2 8 rfl rfl)
theorem dX1_loadOf_52 : decode cX1_loadOf 52 = .ok (.iload_n 3, 1) := dk_29 (dk_at dksX1_loadOf_2 10 rfl rfl)
theorem dX1_loadOf_53 : decode cX1_loadOf 53 = .ok (.invokevirtual 126, 3) := dk_182 0 126 (dk_at dksX1_loadOf_2 11 rfl rfl)
theorem dX1_loadOf_56 : decode cX1_loadOf 56 = .ok (.goto 4, 3) := dk_167 0 4 (dk_at dksX1_loadOf_2 14 rfl rfl)
theorem dX1_loadOf_59 : decode cX1_loadOf 59 = .ok (.iconst 0, 1) := dk_3 (dk_at dksX1_loadOf_2 17 rfl rfl)
theorem dX1_loadOf_60 : decode cX1_loadOf 60 = .ok (.iadd, 1) := dk_96 (dk_at dksX1_loadOf_2 18 rfl rfl)
theorem dX1_loadOf_61 : decode cX1_loadOf 61 = .ok (.istore 4, 2) := dk_54 4 (dk_at dksX1_loadOf_2 19 rfl rfl)
theorem dX1_loadOf_63 : decode cX1_loadOf 63 = .ok (.iload 4, 2) := dk_21 4 (dk_at dksX1_loadOf_2 21 rfl rfl)
theorem dX1_loadOf_65 : decode cX1_loadOf 65 = .ok (.iload_n 1, 1) := dk_27 (dk_at dksX1_loadOf_2 23 rfl rfl)
theorem dX1_loadOf_66 : decode cX1_loadOf 66 = .ok (.aload_n 0, 1) := dk_42 (dk_at dksX1_loadOf_3 0 rfl rfl)
theorem dX1_loadOf_67 : decode cX1_loadOf 67 = .ok (.getfield 33, 3) := dk_180 0 33 (dk_at dksX1_loadOf_3 1 rfl rfl)
theorem dX1_loadOf_70 : decode cX1_loadOf 70 = .ok (.invokeinterface 13 1, 5) := by decide +kernel
theorem dX1_loadOf_75 : decode cX1_loadOf 75 = .ok (.if_icmp .ge 25, 3) := dk_162 0 25 (dk_at dksX1_loadOf_3 9 rfl rfl)
theorem dX1_loadOf_78 : decode cX1_loadOf 78 = .ok (.aload_n 0, 1) := dk_42 (dk_at dksX1_loadOf_3 12 rfl rfl)
theorem dX1_loadOf_79 : decode cX1_loadOf 79 = .ok (.getfield 33, 3) := dk_180 0 33 (dk_at dksX1_loadOf_3 13 rfl rfl)
theorem dX1_loadOf_82 : decode cX1_loadOf 82 = .ok (.iload_n 1, 1) := dk_27 (dk_at dksX1_loadOf_3 16 rfl rfl)
theorem dX1_loadOf_83 : decode cX1_loadOf 83 = .ok (.invokeinterface 29 2, 5) := by decide +kernel
theorem dX1_loadOf_88 : decode cX1_loadOf 88 = .ok (.checkcast 44, 3) := dk_192 0 44 (dk_at dksX1_loadOf_4 0 rfl rfl)
theorem dX1_loadOf_91 : decode cX1_loadOf 91 = .ok (.iload 5, 2) := dk_21 5 (dk_at dksX1_loadOf_4 3 rfl rfl)
theorem dX1_loadOf_93 : decode cX1_loadOf 93 = .ok (.iload_n 3, 1) := dk_29 (dk_at dksX1_loadOf_4 5 rfl rfl)
theorem dX1_loadOf_94 : decode cX1_loadOf 94 = .ok (.invokevirtual 126, 3) := dk_182 0 126 (dk_at dksX1_loadOf_4 6 rfl rfl)
theorem dX1_loadOf_97 : decode cX1_loadOf 97 = .ok (.goto 4, 3) := dk_167 0 4 (dk_at dksX1_loadOf_4 9 rfl rfl)
theorem dX1_loadOf_100 : decode cX1_loadOf 100 = .ok (.iconst 0, 1) := dk_3 (dk_at dksX1_loadOf_4 12 rfl rfl)
theorem dX1_loadOf_101 : decode cX1_loadOf 101 = .ok (.iadd, 1) := dk_96 (dk_at dksX1_loadOf_4 13 rfl rfl)
theorem dX1_loadOf_102 : decode cX1_loadOf 102 = .ok (.istore 4, 2) := dk_54 4 (dk_at dksX1_loadOf_4 14 rfl rfl)
theorem dX1_loadOf_104 : decode cX1_loadOf 104 = .ok (.iinc 5 1, 3) := dk_132 5 1 (dk_at dksX1_loadOf_4 16 rfl rfl)
theorem dX1_loadOf_107 : decode cX1_loadOf 107 = .ok (.goto (-101), 3) := dk_167 255 155 (dk_at dksX1_loadOf_4 19 rfl rfl)
theorem dX1_loadOf_110 : decode cX1_loadOf 110 = .ok (.iload 4, 2) := dk_21 4 (dk_at dksX1_loadOf_4 22 rfl rfl)
theorem dX1_loadOf_112 : decode cX1_loadOf 112 = .ok (.ireturn, 1) := dk_172 (dk_at dksX1_loadOf_5 0 rfl rfl)
abbrev cX1_bornBy : ByteArray := prog_1_method_7_code
def yX1_bornBy : MethodName := ⟨RX1, "bornBy", "(I)I"⟩
def dkwX1_bornBy_3 : List UInt8 := [167, 0, 12, 17, 1, 194, 167, 0, 6, 17, 2, 88, 172]
abbrev dktX1_bornBy_3 : List UInt8 := dkwX1_bornBy_3 ++ []
def dkwX1_bornBy_2 : List UInt8 := [3, 167, 0, 35, 16, 75, 167, 0, 30, 17, 0, 150, 167, 0, 24, 17, 0, 200, 167, 0, 18, 17, 1, 44]
abbrev dktX1_bornBy_2 : List UInt8 := dkwX1_bornBy_2 ++ dktX1_bornBy_3
def dkwX1_bornBy_1 : List UInt8 := [170, 0, 0, 0, 0, 0, 72, 0, 0, 0, 0, 0, 0, 0, 5, 0, 0, 0, 39, 0, 0, 0, 43, 0, 0, 0, 48, 0, 0, 0, 54, 0, 0, 0, 60, 0, 0, 0, 66]
abbrev dktX1_bornBy_1 : List UInt8 := dkwX1_bornBy_1 ++ dktX1_bornBy_2
def dkwX1_bornBy_0 : List UInt8 := [26]
abbrev dktX1_bornBy_0 : List UInt8 := dkwX1_bornBy_0 ++ dktX1_bornBy_1
theorem dksX1_bornBy_0 : cX1_bornBy.data.toList.drop 0 = dktX1_bornBy_0 := by decide +kernel
theorem dksX1_bornBy_1 : cX1_bornBy.data.toList.drop 1 = dktX1_bornBy_1 := dk_seg dksX1_bornBy_0 1 rfl rfl
theorem dksX1_bornBy_2 : cX1_bornBy.data.toList.drop 40 = dktX1_bornBy_2 := dk_seg dksX1_bornBy_1 39 rfl rfl
theorem dksX1_bornBy_3 : cX1_bornBy.data.toList.drop 64 = dktX1_bornBy_3 := dk_seg dksX1_bornBy_2 24 rfl rfl
theorem dX1_bornBy_0 : decode cX1_bornBy 0 = .ok (.iload_n 0, 1) := dk_26 (dk_at dksX1_bornBy_0 0 rfl rfl)
theorem dX1_bornBy_1 : decode cX1_bornBy 1 = .ok (.tableswitch 72 0 5 #[39, 43, 48, 54, 60, 66], 39) := by decide +kernel
theorem dX1_bornBy_40 : decode cX1_bornBy 40 = .ok (.iconst 0, 1) := dk_3 (dk_at dksX1_bornBy_2 0 rfl rfl)
theorem dX1_bornBy_41 : decode cX1_bornBy 41 = .ok (.goto 35, 3) := dk_167 0 35 (dk_at dksX1_bornBy_2 1 rfl rfl)
theorem dX1_bornBy_44 : decode cX1_bornBy 44 = .ok (.bipush 75, 2) := dk_16 75 (dk_at dksX1_bornBy_2 4 rfl rfl)
theorem dX1_bornBy_46 : decode cX1_bornBy 46 = .ok (.goto 30, 3) := dk_167 0 30 (dk_at dksX1_bornBy_2 6 rfl rfl)
theorem dX1_bornBy_49 : decode cX1_bornBy 49 = .ok (.sipush 150, 3) := dk_17 0 150 (dk_at dksX1_bornBy_2 9 rfl rfl)
theorem dX1_bornBy_52 : decode cX1_bornBy 52 = .ok (.goto 24, 3) := dk_167 0 24 (dk_at dksX1_bornBy_2 12 rfl rfl)
theorem dX1_bornBy_55 : decode cX1_bornBy 55 = .ok (.sipush 200, 3) := dk_17 0 200 (dk_at dksX1_bornBy_2 15 rfl rfl)
theorem dX1_bornBy_58 : decode cX1_bornBy 58 = .ok (.goto 18, 3) := dk_167 0 18 (dk_at dksX1_bornBy_2 18 rfl rfl)
theorem dX1_bornBy_61 : decode cX1_bornBy 61 = .ok (.sipush 300, 3) := dk_17 1 44 (dk_at dksX1_bornBy_2 21 rfl rfl)
theorem dX1_bornBy_64 : decode cX1_bornBy 64 = .ok (.goto 12, 3) := dk_167 0 12 (dk_at dksX1_bornBy_3 0 rfl rfl)
theorem dX1_bornBy_67 : decode cX1_bornBy 67 = .ok (.sipush 450, 3) := dk_17 1 194 (dk_at dksX1_bornBy_3 3 rfl rfl)
theorem dX1_bornBy_70 : decode cX1_bornBy 70 = .ok (.goto 6, 3) := dk_167 0 6 (dk_at dksX1_bornBy_3 6 rfl rfl)
theorem dX1_bornBy_73 : decode cX1_bornBy 73 = .ok (.sipush 600, 3) := dk_17 2 88 (dk_at dksX1_bornBy_3 9 rfl rfl)
theorem dX1_bornBy_76 : decode cX1_bornBy 76 = .ok (.ireturn, 1) := dk_172 (dk_at dksX1_bornBy_3 12 rfl rfl)
abbrev cX1_bearsOf : ByteArray := prog_1_method_24_code
def yX1_bearsOf : MethodName := ⟨RX1, "bearsOf", "(I)I"⟩
def dkwX1_bearsOf_1 : List UInt8 := [184, 0, 58, 172]
abbrev dktX1_bearsOf_1 : List UInt8 := dkwX1_bearsOf_1 ++ []
def dkwX1_bearsOf_0 : List UInt8 := [42, 180, 0, 130, 42, 27, 182, 0, 123, 104, 61, 3, 28, 42, 27, 182, 0, 133, 28, 7, 108, 104, 100]
abbrev dktX1_bearsOf_0 : List UInt8 := dkwX1_bearsOf_0 ++ dktX1_bearsOf_1
theorem dksX1_bearsOf_0 : cX1_bearsOf.data.toList.drop 0 = dktX1_bearsOf_0 := by decide +kernel
theorem dksX1_bearsOf_1 : cX1_bearsOf.data.toList.drop 23 = dktX1_bearsOf_1 := dk_seg dksX1_bearsOf_0 23 rfl rfl
theorem dX1_bearsOf_0 : decode cX1_bearsOf 0 = .ok (.aload_n 0, 1) := dk_42 (dk_at dksX1_bearsOf_0 0 rfl rfl)
theorem dX1_bearsOf_1 : decode cX1_bearsOf 1 = .ok (.getfield 130, 3) := dk_180 0 130 (dk_at dksX1_bearsOf_0 1 rfl rfl)
theorem dX1_bearsOf_4 : decode cX1_bearsOf 4 = .ok (.aload_n 0, 1) := dk_42 (dk_at dksX1_bearsOf_0 4 rfl rfl)
theorem dX1_bearsOf_5 : decode cX1_bearsOf 5 = .ok (.iload_n 1, 1) := dk_27 (dk_at dksX1_bearsOf_0 5 rfl rfl)
theorem dX1_bearsOf_6 : decode cX1_bearsOf 6 = .ok (.invokevirtual 123, 3) := dk_182 0 123 (dk_at dksX1_bearsOf_0 6 rfl rfl)
theorem dX1_bearsOf_9 : decode cX1_bearsOf 9 = .ok (.imul, 1) := dk_104 (dk_at dksX1_bearsOf_0 9 rfl rfl)
theorem dX1_bearsOf_10 : decode cX1_bearsOf 10 = .ok (.istore_n 2, 1) := dk_61 (dk_at dksX1_bearsOf_0 10 rfl rfl)
theorem dX1_bearsOf_11 : decode cX1_bearsOf 11 = .ok (.iconst 0, 1) := dk_3 (dk_at dksX1_bearsOf_0 11 rfl rfl)
theorem dX1_bearsOf_12 : decode cX1_bearsOf 12 = .ok (.iload_n 2, 1) := dk_28 (dk_at dksX1_bearsOf_0 12 rfl rfl)
theorem dX1_bearsOf_13 : decode cX1_bearsOf 13 = .ok (.aload_n 0, 1) := dk_42 (dk_at dksX1_bearsOf_0 13 rfl rfl)
theorem dX1_bearsOf_14 : decode cX1_bearsOf 14 = .ok (.iload_n 1, 1) := dk_27 (dk_at dksX1_bearsOf_0 14 rfl rfl)
theorem dX1_bearsOf_15 : decode cX1_bearsOf 15 = .ok (.invokevirtual 133, 3) := dk_182 0 133 (dk_at dksX1_bearsOf_0 15 rfl rfl)
theorem dX1_bearsOf_18 : decode cX1_bearsOf 18 = .ok (.iload_n 2, 1) := dk_28 (dk_at dksX1_bearsOf_0 18 rfl rfl)
theorem dX1_bearsOf_19 : decode cX1_bearsOf 19 = .ok (.iconst 4, 1) := dk_7 (dk_at dksX1_bearsOf_0 19 rfl rfl)
theorem dX1_bearsOf_20 : decode cX1_bearsOf 20 = .ok (.idiv, 1) := dk_108 (dk_at dksX1_bearsOf_0 20 rfl rfl)
theorem dX1_bearsOf_21 : decode cX1_bearsOf 21 = .ok (.imul, 1) := dk_104 (dk_at dksX1_bearsOf_0 21 rfl rfl)
theorem dX1_bearsOf_22 : decode cX1_bearsOf 22 = .ok (.isub, 1) := dk_100 (dk_at dksX1_bearsOf_0 22 rfl rfl)
theorem dX1_bearsOf_23 : decode cX1_bearsOf 23 = .ok (.invokestatic 58, 3) := dk_184 0 58 (dk_at dksX1_bearsOf_1 0 rfl rfl)
theorem dX1_bearsOf_26 : decode cX1_bearsOf 26 = .ok (.ireturn, 1) := dk_172 (dk_at dksX1_bearsOf_1 3 rfl rfl)
abbrev cX1_missingOf : ByteArray := prog_1_method_22_code
def yX1_missingOf : MethodName := ⟨RX1, "missingOf", "(I)I"⟩
def dkwX1_missingOf_1 : List UInt8 := [29, 50, 27, 46, 2, 160, 0, 7, 4, 167, 0, 4, 3, 96, 61, 132, 3, 1, 167, 255, 218, 28, 172]
abbrev dktX1_missingOf_1 : List UInt8 := dkwX1_missingOf_1 ++ []
def dkwX1_missingOf_0 : List UInt8 := [3, 61, 3, 62, 29, 16, 8, 162, 0, 38, 28, 42, 27, 29, 182, 0, 109, 153, 0, 19, 42, 180, 0, 112]
abbrev dktX1_missingOf_0 : List UInt8 := dkwX1_missingOf_0 ++ dktX1_missingOf_1
theorem dksX1_missingOf_0 : cX1_missingOf.data.toList.drop 0 = dktX1_missingOf_0 := by decide +kernel
theorem dksX1_missingOf_1 : cX1_missingOf.data.toList.drop 24 = dktX1_missingOf_1 := dk_seg dksX1_missingOf_0 24 rfl rfl
theorem dX1_missingOf_0 : decode cX1_missingOf 0 = .ok (.iconst 0, 1) := dk_3 (dk_at dksX1_missingOf_0 0 rfl rfl)
theorem dX1_missingOf_1 : decode cX1_missingOf 1 = .ok (.istore_n 2, 1) := dk_61 (dk_at dksX1_missingOf_0 1 rfl rfl)
theorem dX1_missingOf_2 : decode cX1_missingOf 2 = .ok (.iconst 0, 1) := dk_3 (dk_at dksX1_missingOf_0 2 rfl rfl)
theorem dX1_missingOf_3 : decode cX1_missingOf 3 = .ok (.istore_n 3, 1) := dk_62 (dk_at dksX1_missingOf_0 3 rfl rfl)
theorem dX1_missingOf_4 : decode cX1_missingOf 4 = .ok (.iload_n 3, 1) := dk_29 (dk_at dksX1_missingOf_0 4 rfl rfl)
theorem dX1_missingOf_5 : decode cX1_missingOf 5 = .ok (.bipush 8, 2) := dk_16 8 (dk_at dksX1_missingOf_0 5 rfl rfl)
theorem dX1_missingOf_7 : decode cX1_missingOf 7 = .ok (.if_icmp .ge 38, 3) := dk_162 0 38 (dk_at dksX1_missingOf_0 7 rfl rfl)
theorem dX1_missingOf_10 : decode cX1_missingOf 10 = .ok (.iload_n 2, 1) := dk_28 (dk_at dksX1_missingOf_0 10 rfl rfl)
theorem dX1_missingOf_11 : decode cX1_missingOf 11 = .ok (.aload_n 0, 1) := dk_42 (dk_at dksX1_missingOf_0 11 rfl rfl)
theorem dX1_missingOf_12 : decode cX1_missingOf 12 = .ok (.iload_n 1, 1) := dk_27 (dk_at dksX1_missingOf_0 12 rfl rfl)
theorem dX1_missingOf_13 : decode cX1_missingOf 13 = .ok (.iload_n 3, 1) := dk_29 (dk_at dksX1_missingOf_0 13 rfl rfl)
theorem dX1_missingOf_14 : decode cX1_missingOf 14 = .ok (.invokevirtual 109, 3) := dk_182 0 109 (dk_at dksX1_missingOf_0 14 rfl rfl)
theorem dX1_missingOf_17 : decode cX1_missingOf 17 = .ok (.ifCond .eq 19, 3) := dk_153 0 19 (dk_at dksX1_missingOf_0 17 rfl rfl)
theorem dX1_missingOf_20 : decode cX1_missingOf 20 = .ok (.aload_n 0, 1) := dk_42 (dk_at dksX1_missingOf_0 20 rfl rfl)
theorem dX1_missingOf_21 : decode cX1_missingOf 21 = .ok (.getfield 112, 3) := dk_180 0 112 (dk_at dksX1_missingOf_0 21 rfl rfl)
theorem dX1_missingOf_24 : decode cX1_missingOf 24 = .ok (.iload_n 3, 1) := dk_29 (dk_at dksX1_missingOf_1 0 rfl rfl)
theorem dX1_missingOf_25 : decode cX1_missingOf 25 = .ok (.aaload, 1) := dk_50 (dk_at dksX1_missingOf_1 1 rfl rfl)
theorem dX1_missingOf_26 : decode cX1_missingOf 26 = .ok (.iload_n 1, 1) := dk_27 (dk_at dksX1_missingOf_1 2 rfl rfl)
theorem dX1_missingOf_27 : decode cX1_missingOf 27 = .ok (.iaload, 1) := dk_46 (dk_at dksX1_missingOf_1 3 rfl rfl)
theorem dX1_missingOf_28 : decode cX1_missingOf 28 = .ok (.iconst (-1), 1) := dk_2 (dk_at dksX1_missingOf_1 4 rfl rfl)
theorem dX1_missingOf_29 : decode cX1_missingOf 29 = .ok (.if_icmp .ne 7, 3) := dk_160 0 7 (dk_at dksX1_missingOf_1 5 rfl rfl)
theorem dX1_missingOf_32 : decode cX1_missingOf 32 = .ok (.iconst 1, 1) := dk_4 (dk_at dksX1_missingOf_1 8 rfl rfl)
theorem dX1_missingOf_33 : decode cX1_missingOf 33 = .ok (.goto 4, 3) := dk_167 0 4 (dk_at dksX1_missingOf_1 9 rfl rfl)
theorem dX1_missingOf_36 : decode cX1_missingOf 36 = .ok (.iconst 0, 1) := dk_3 (dk_at dksX1_missingOf_1 12 rfl rfl)
theorem dX1_missingOf_37 : decode cX1_missingOf 37 = .ok (.iadd, 1) := dk_96 (dk_at dksX1_missingOf_1 13 rfl rfl)
theorem dX1_missingOf_38 : decode cX1_missingOf 38 = .ok (.istore_n 2, 1) := dk_61 (dk_at dksX1_missingOf_1 14 rfl rfl)
theorem dX1_missingOf_39 : decode cX1_missingOf 39 = .ok (.iinc 3 1, 3) := dk_132 3 1 (dk_at dksX1_missingOf_1 15 rfl rfl)
theorem dX1_missingOf_42 : decode cX1_missingOf 42 = .ok (.goto (-38), 3) := dk_167 255 218 (dk_at dksX1_missingOf_1 18 rfl rfl)
theorem dX1_missingOf_45 : decode cX1_missingOf 45 = .ok (.iload_n 2, 1) := dk_28 (dk_at dksX1_missingOf_1 21 rfl rfl)
theorem dX1_missingOf_46 : decode cX1_missingOf 46 = .ok (.ireturn, 1) := dk_172 (dk_at dksX1_missingOf_1 22 rfl rfl)
abbrev cX1_meanLoad : ByteArray := prog_1_method_64_code
def yX1_meanLoad : MethodName := ⟨RX1, "meanLoad", "()D"⟩
def dkwX1_meanLoad_2 : List UInt8 := [154, 0, 7, 14, 167, 0, 8, 27, 135, 28, 135, 111, 175]
abbrev dktX1_meanLoad_2 : List UInt8 := dkwX1_meanLoad_2 ++ []
def dkwX1_meanLoad_1 : List UInt8 := [167, 0, 16, 27, 42, 29, 3, 4, 182, 0, 139, 96, 60, 132, 2, 1, 132, 3, 1, 167, 255, 220, 28]
abbrev dktX1_meanLoad_1 : List UInt8 := dkwX1_meanLoad_1 ++ dktX1_meanLoad_2
def dkwX1_meanLoad_0 : List UInt8 := [3, 60, 3, 61, 3, 62, 29, 42, 182, 0, 41, 162, 0, 34, 42, 29, 3, 182, 0, 98, 154, 0, 6]
abbrev dktX1_meanLoad_0 : List UInt8 := dkwX1_meanLoad_0 ++ dktX1_meanLoad_1
theorem dksX1_meanLoad_0 : cX1_meanLoad.data.toList.drop 0 = dktX1_meanLoad_0 := by decide +kernel
theorem dksX1_meanLoad_1 : cX1_meanLoad.data.toList.drop 23 = dktX1_meanLoad_1 := dk_seg dksX1_meanLoad_0 23 rfl rfl
theorem dksX1_meanLoad_2 : cX1_meanLoad.data.toList.drop 46 = dktX1_meanLoad_2 := dk_seg dksX1_meanLoad_1 23 rfl rfl
theorem dX1_meanLoad_0 : decode cX1_meanLoad 0 = .ok (.iconst 0, 1) := dk_3 (dk_at dksX1_meanLoad_0 0 rfl rfl)
theorem dX1_meanLoad_1 : decode cX1_meanLoad 1 = .ok (.istore_n 1, 1) := dk_60 (dk_at dksX1_meanLoad_0 1 rfl rfl)
theorem dX1_meanLoad_2 : decode cX1_meanLoad 2 = .ok (.iconst 0, 1) := dk_3 (dk_at dksX1_meanLoad_0 2 rfl rfl)
theorem dX1_meanLoad_3 : decode cX1_meanLoad 3 = .ok (.istore_n 2, 1) := dk_61 (dk_at dksX1_meanLoad_0 3 rfl rfl)
theorem dX1_meanLoad_4 : decode cX1_meanLoad 4 = .ok (.iconst 0, 1) := dk_3 (dk_at dksX1_meanLoad_0 4 rfl rfl)
theorem dX1_meanLoad_5 : decode cX1_meanLoad 5 = .ok (.istore_n 3, 1) := dk_62 (dk_at dksX1_meanLoad_0 5 rfl rfl)
theorem dX1_meanLoad_6 : decode cX1_meanLoad 6 = .ok (.iload_n 3, 1) := dk_29 (dk_at dksX1_meanLoad_0 6 rfl rfl)
theorem dX1_meanLoad_7 : decode cX1_meanLoad 7 = .ok (.aload_n 0, 1) := dk_42 (dk_at dksX1_meanLoad_0 7 rfl rfl)
theorem dX1_meanLoad_8 : decode cX1_meanLoad 8 = .ok (.invokevirtual 41, 3) := dk_182 0 41 (dk_at dksX1_meanLoad_0 8 rfl rfl)
theorem dX1_meanLoad_11 : decode cX1_meanLoad 11 = .ok (.if_icmp .ge 34, 3) := dk_162 0 34 (dk_at dksX1_meanLoad_0 11 rfl rfl)
theorem dX1_meanLoad_14 : decode cX1_meanLoad 14 = .ok (.aload_n 0, 1) := dk_42 (dk_at dksX1_meanLoad_0 14 rfl rfl)
theorem dX1_meanLoad_15 : decode cX1_meanLoad 15 = .ok (.iload_n 3, 1) := dk_29 (dk_at dksX1_meanLoad_0 15 rfl rfl)
theorem dX1_meanLoad_16 : decode cX1_meanLoad 16 = .ok (.iconst 0, 1) := dk_3 (dk_at dksX1_meanLoad_0 16 rfl rfl)
theorem dX1_meanLoad_17 : decode cX1_meanLoad 17 = .ok (.invokevirtual 98, 3) := dk_182 0 98 (dk_at dksX1_meanLoad_0 17 rfl rfl)
theorem dX1_meanLoad_20 : decode cX1_meanLoad 20 = .ok (.ifCond .ne 6, 3) := dk_154 0 6 (dk_at dksX1_meanLoad_0 20 rfl rfl)
theorem dX1_meanLoad_23 : decode cX1_meanLoad 23 = .ok (.goto 16, 3) := dk_167 0 16 (dk_at dksX1_meanLoad_1 0 rfl rfl)
theorem dX1_meanLoad_26 : decode cX1_meanLoad 26 = .ok (.iload_n 1, 1) := dk_27 (dk_at dksX1_meanLoad_1 3 rfl rfl)
theorem dX1_meanLoad_27 : decode cX1_meanLoad 27 = .ok (.aload_n 0, 1) := dk_42 (dk_at dksX1_meanLoad_1 4 rfl rfl)
theorem dX1_meanLoad_28 : decode cX1_meanLoad 28 = .ok (.iload_n 3, 1) := dk_29 (dk_at dksX1_meanLoad_1 5 rfl rfl)
theorem dX1_meanLoad_29 : decode cX1_meanLoad 29 = .ok (.iconst 0, 1) := dk_3 (dk_at dksX1_meanLoad_1 6 rfl rfl)
theorem dX1_meanLoad_30 : decode cX1_meanLoad 30 = .ok (.iconst 1, 1) := dk_4 (dk_at dksX1_meanLoad_1 7 rfl rfl)
theorem dX1_meanLoad_31 : decode cX1_meanLoad 31 = .ok (.invokevirtual 139, 3) := dk_182 0 139 (dk_at dksX1_meanLoad_1 8 rfl rfl)
theorem dX1_meanLoad_34 : decode cX1_meanLoad 34 = .ok (.iadd, 1) := dk_96 (dk_at dksX1_meanLoad_1 11 rfl rfl)
theorem dX1_meanLoad_35 : decode cX1_meanLoad 35 = .ok (.istore_n 1, 1) := dk_60 (dk_at dksX1_meanLoad_1 12 rfl rfl)
theorem dX1_meanLoad_36 : decode cX1_meanLoad 36 = .ok (.iinc 2 1, 3) := dk_132 2 1 (dk_at dksX1_meanLoad_1 13 rfl rfl)
theorem dX1_meanLoad_39 : decode cX1_meanLoad 39 = .ok (.iinc 3 1, 3) := dk_132 3 1 (dk_at dksX1_meanLoad_1 16 rfl rfl)
theorem dX1_meanLoad_42 : decode cX1_meanLoad 42 = .ok (.goto (-36), 3) := dk_167 255 220 (dk_at dksX1_meanLoad_1 19 rfl rfl)
theorem dX1_meanLoad_45 : decode cX1_meanLoad 45 = .ok (.iload_n 2, 1) := dk_28 (dk_at dksX1_meanLoad_1 22 rfl rfl)
theorem dX1_meanLoad_46 : decode cX1_meanLoad 46 = .ok (.ifCond .ne 7, 3) := dk_154 0 7 (dk_at dksX1_meanLoad_2 0 rfl rfl)
theorem dX1_meanLoad_49 : decode cX1_meanLoad 49 = .ok (.dconst 0, 1) := dk_14 (dk_at dksX1_meanLoad_2 3 rfl rfl)
theorem dX1_meanLoad_50 : decode cX1_meanLoad 50 = .ok (.goto 8, 3) := dk_167 0 8 (dk_at dksX1_meanLoad_2 4 rfl rfl)
theorem dX1_meanLoad_53 : decode cX1_meanLoad 53 = .ok (.iload_n 1, 1) := dk_27 (dk_at dksX1_meanLoad_2 7 rfl rfl)
theorem dX1_meanLoad_54 : decode cX1_meanLoad 54 = .ok (.i2d, 1) := dk_135 (dk_at dksX1_meanLoad_2 8 rfl rfl)
theorem dX1_meanLoad_55 : decode cX1_meanLoad 55 = .ok (.iload_n 2, 1) := dk_28 (dk_at dksX1_meanLoad_2 9 rfl rfl)
theorem dX1_meanLoad_56 : decode cX1_meanLoad 56 = .ok (.i2d, 1) := dk_135 (dk_at dksX1_meanLoad_2 10 rfl rfl)
theorem dX1_meanLoad_57 : decode cX1_meanLoad 57 = .ok (.ddiv, 1) := dk_111 (dk_at dksX1_meanLoad_2 11 rfl rfl)
theorem dX1_meanLoad_58 : decode cX1_meanLoad 58 = .ok (.dreturn, 1) := dk_175 (dk_at dksX1_meanLoad_2 12 rfl rfl)
abbrev cX1_boardedShare : ByteArray := prog_1_method_65_code
def yX1_boardedShare : MethodName := ⟨RX1, "boardedShare", "()F"⟩
def dkwX1_boardedShare_1 : List UInt8 := [110, 174]
abbrev dktX1_boardedShare_1 : List UInt8 := dkwX1_boardedShare_1 ++ []
def dkwX1_boardedShare_0 : List UInt8 := [42, 6, 182, 1, 3, 154, 0, 7, 11, 167, 0, 16, 42, 7, 182, 1, 3, 134, 42, 6, 182, 1, 3, 134]
abbrev dktX1_boardedShare_0 : List UInt8 := dkwX1_boardedShare_0 ++ dktX1_boardedShare_1
theorem dksX1_boardedShare_0 : cX1_boardedShare.data.toList.drop 0 = dktX1_boardedShare_0 := by decide +kernel
theorem dksX1_boardedShare_1 : cX1_boardedShare.data.toList.drop 24 = dktX1_boardedShare_1 := dk_seg dksX1_boardedShare_0 24 rfl rfl
theorem dX1_boardedShare_0 : decode cX1_boardedShare 0 = .ok (.aload_n 0, 1) := dk_42 (dk_at dksX1_boardedShare_0 0 rfl rfl)
theorem dX1_boardedShare_1 : decode cX1_boardedShare 1 = .ok (.iconst 3, 1) := dk_6 (dk_at dksX1_boardedShare_0 1 rfl rfl)
theorem dX1_boardedShare_2 : decode cX1_boardedShare 2 = .ok (.invokevirtual 259, 3) := dk_182 1 3 (dk_at dksX1_boardedShare_0 2 rfl rfl)
theorem dX1_boardedShare_5 : decode cX1_boardedShare 5 = .ok (.ifCond .ne 7, 3) := dk_154 0 7 (dk_at dksX1_boardedShare_0 5 rfl rfl)
theorem dX1_boardedShare_8 : decode cX1_boardedShare 8 = .ok (.fconst 0, 1) := dk_11 (dk_at dksX1_boardedShare_0 8 rfl rfl)
theorem dX1_boardedShare_9 : decode cX1_boardedShare 9 = .ok (.goto 16, 3) := dk_167 0 16 (dk_at dksX1_boardedShare_0 9 rfl rfl)
theorem dX1_boardedShare_12 : decode cX1_boardedShare 12 = .ok (.aload_n 0, 1) := dk_42 (dk_at dksX1_boardedShare_0 12 rfl rfl)
theorem dX1_boardedShare_13 : decode cX1_boardedShare 13 = .ok (.iconst 4, 1) := dk_7 (dk_at dksX1_boardedShare_0 13 rfl rfl)
theorem dX1_boardedShare_14 : decode cX1_boardedShare 14 = .ok (.invokevirtual 259, 3) := dk_182 1 3 (dk_at dksX1_boardedShare_0 14 rfl rfl)
theorem dX1_boardedShare_17 : decode cX1_boardedShare 17 = .ok (.i2f, 1) := dk_134 (dk_at dksX1_boardedShare_0 17 rfl rfl)
theorem dX1_boardedShare_18 : decode cX1_boardedShare 18 = .ok (.aload_n 0, 1) := dk_42 (dk_at dksX1_boardedShare_0 18 rfl rfl)
theorem dX1_boardedShare_19 : decode cX1_boardedShare 19 = .ok (.iconst 3, 1) := dk_6 (dk_at dksX1_boardedShare_0 19 rfl rfl)
theorem dX1_boardedShare_20 : decode cX1_boardedShare 20 = .ok (.invokevirtual 259, 3) := dk_182 1 3 (dk_at dksX1_boardedShare_0 20 rfl rfl)
theorem dX1_boardedShare_23 : decode cX1_boardedShare 23 = .ok (.i2f, 1) := dk_134 (dk_at dksX1_boardedShare_0 23 rfl rfl)
theorem dX1_boardedShare_24 : decode cX1_boardedShare 24 = .ok (.fdiv, 1) := dk_110 (dk_at dksX1_boardedShare_1 0 rfl rfl)
theorem dX1_boardedShare_25 : decode cX1_boardedShare 25 = .ok (.freturn, 1) := dk_174 (dk_at dksX1_boardedShare_1 1 rfl rfl)
abbrev cX1_ofBays : ByteArray := prog_1_method_58_code
def yX1_ofBays : MethodName := ⟨RX1, "ofBays", "(I)I"⟩
def dkwX1_ofBays_4 : List UInt8 := [167, 255, 229, 132, 3, 1, 167, 255, 162, 28, 172]
abbrev dktX1_ofBays_4 : List UInt8 := dkwX1_ofBays_4 ++ []
def dkwX1_ofBays_3 : List UInt8 := [162, 0, 26, 27, 16, 8, 160, 0, 20, 28, 25, 4, 180, 0, 224, 21, 5, 46, 96, 61, 132, 5, 1]
abbrev dktX1_ofBays_3 : List UInt8 := dkwX1_ofBays_3 ++ dktX1_ofBays_4
def dkwX1_ofBays_2 : List UInt8 := [27, 7, 160, 0, 11, 25, 4, 182, 0, 143, 167, 0, 4, 3, 96, 61, 3, 54, 5, 21, 5, 16, 8]
abbrev dktX1_ofBays_2 : List UInt8 := dkwX1_ofBays_2 ++ dktX1_ofBays_3
def dkwX1_ofBays_1 : List UInt8 := [185, 0, 29, 2, 0, 192, 0, 44, 58, 4, 28, 27, 6, 160, 0, 11, 25, 4, 180, 0, 50, 167, 0, 17]
abbrev dktX1_ofBays_1 : List UInt8 := dkwX1_ofBays_1 ++ dktX1_ofBays_2
def dkwX1_ofBays_0 : List UInt8 := [3, 61, 3, 62, 29, 42, 180, 0, 33, 185, 0, 13, 1, 0, 162, 0, 87, 42, 180, 0, 33, 29]
abbrev dktX1_ofBays_0 : List UInt8 := dkwX1_ofBays_0 ++ dktX1_ofBays_1
theorem dksX1_ofBays_0 : cX1_ofBays.data.toList.drop 0 = dktX1_ofBays_0 := by decide +kernel
theorem dksX1_ofBays_1 : cX1_ofBays.data.toList.drop 22 = dktX1_ofBays_1 := dk_seg dksX1_ofBays_0 22 rfl rfl
theorem dksX1_ofBays_2 : cX1_ofBays.data.toList.drop 46 = dktX1_ofBays_2 := dk_seg dksX1_ofBays_1 24 rfl rfl
theorem dksX1_ofBays_3 : cX1_ofBays.data.toList.drop 69 = dktX1_ofBays_3 := dk_seg dksX1_ofBays_2 23 rfl rfl
theorem dksX1_ofBays_4 : cX1_ofBays.data.toList.drop 92 = dktX1_ofBays_4 := dk_seg dksX1_ofBays_3 23 rfl rfl
theorem dX1_ofBays_0 : decode cX1_ofBays 0 = .ok (.iconst 0, 1) := dk_3 (dk_at dksX1_ofBays_0 0 rfl rfl)
theorem dX1_ofBays_1 : decode cX1_ofBays 1 = .ok (.istore_n 2, 1) := dk_61 (dk_at dksX1_ofBays_0 1 rfl rfl)
theorem dX1_ofBays_2 : decode cX1_ofBays 2 = .ok (.iconst 0, 1) := dk_3 (dk_at dksX1_ofBays_0 2 rfl rfl)
theorem dX1_ofBays_3 : decode cX1_ofBays 3 = .ok (.istore_n 3, 1) := dk_62 (dk_at dksX1_ofBays_0 3 rfl rfl)
theorem dX1_ofBays_4 : decode cX1_ofBays 4 = .ok (.iload_n 3, 1) := dk_29 (dk_at dksX1_ofBays_0 4 rfl rfl)
theorem dX1_ofBays_5 : decode cX1_ofBays 5 = .ok (.aload_n 0, 1) := dk_42 (dk_at dksX1_ofBays_0 5 rfl rfl)
theorem dX1_ofBays_6 : decode cX1_ofBays 6 = .ok (.getfield 33, 3) := dk_180 0 33 (dk_at dksX1_ofBays_0 6 rfl rfl)
theorem dX1_ofBays_9 : decode cX1_ofBays 9 = .ok (.invokeinterface 13 1, 5) := by decide +kernel
theorem dX1_ofBays_14 : decode cX1_ofBays 14 = .ok (.if_icmp .ge 87, 3) := dk_162 0 87 (dk_at dksX1_ofBays_0 14 rfl rfl)
theorem dX1_ofBays_17 : decode cX1_ofBays 17 = .ok (.aload_n 0, 1) := dk_42 (dk_at dksX1_ofBays_0 17 rfl rfl)
theorem dX1_ofBays_18 : decode cX1_ofBays 18 = .ok (.getfield 33, 3) := dk_180 0 33 (dk_at dksX1_ofBays_0 18 rfl rfl)
theorem dX1_ofBays_21 : decode cX1_ofBays 21 = .ok (.iload_n 3, 1) := dk_29 (dk_at dksX1_ofBays_0 21 rfl rfl)
theorem dX1_ofBays_22 : decode cX1_ofBays 22 = .ok (.invokeinterface 29 2, 5) := by decide +kernel
theorem dX1_ofBays_27 : decode cX1_ofBays 27 = .ok (.checkcast 44, 3) := dk_192 0 44 (dk_at dksX1_ofBays_1 5 rfl rfl)
theorem dX1_ofBays_30 : decode cX1_ofBays 30 = .ok (.astore 4, 2) := dk_58 4 (dk_at dksX1_ofBays_1 8 rfl rfl)
theorem dX1_ofBays_32 : decode cX1_ofBays 32 = .ok (.iload_n 2, 1) := dk_28 (dk_at dksX1_ofBays_1 10 rfl rfl)
theorem dX1_ofBays_33 : decode cX1_ofBays 33 = .ok (.iload_n 1, 1) := dk_27 (dk_at dksX1_ofBays_1 11 rfl rfl)
theorem dX1_ofBays_34 : decode cX1_ofBays 34 = .ok (.iconst 3, 1) := dk_6 (dk_at dksX1_ofBays_1 12 rfl rfl)
theorem dX1_ofBays_35 : decode cX1_ofBays 35 = .ok (.if_icmp .ne 11, 3) := dk_160 0 11 (dk_at dksX1_ofBays_1 13 rfl rfl)
theorem dX1_ofBays_38 : decode cX1_ofBays 38 = .ok (.aload 4, 2) := dk_25 4 (dk_at dksX1_ofBays_1 16 rfl rfl)
theorem dX1_ofBays_40 : decode cX1_ofBays 40 = .ok (.getfield 50, 3) := dk_180 0 50 (dk_at dksX1_ofBays_1 18 rfl rfl)
theorem dX1_ofBays_43 : decode cX1_ofBays 43 = .ok (.goto 17, 3) := dk_167 0 17 (dk_at dksX1_ofBays_1 21 rfl rfl)
theorem dX1_ofBays_46 : decode cX1_ofBays 46 = .ok (.iload_n 1, 1) := dk_27 (dk_at dksX1_ofBays_2 0 rfl rfl)
theorem dX1_ofBays_47 : decode cX1_ofBays 47 = .ok (.iconst 4, 1) := dk_7 (dk_at dksX1_ofBays_2 1 rfl rfl)
theorem dX1_ofBays_48 : decode cX1_ofBays 48 = .ok (.if_icmp .ne 11, 3) := dk_160 0 11 (dk_at dksX1_ofBays_2 2 rfl rfl)
theorem dX1_ofBays_51 : decode cX1_ofBays 51 = .ok (.aload 4, 2) := dk_25 4 (dk_at dksX1_ofBays_2 5 rfl rfl)
theorem dX1_ofBays_53 : decode cX1_ofBays 53 = .ok (.invokevirtual 143, 3) := dk_182 0 143 (dk_at dksX1_ofBays_2 7 rfl rfl)
theorem dX1_ofBays_56 : decode cX1_ofBays 56 = .ok (.goto 4, 3) := dk_167 0 4 (dk_at dksX1_ofBays_2 10 rfl rfl)
theorem dX1_ofBays_59 : decode cX1_ofBays 59 = .ok (.iconst 0, 1) := dk_3 (dk_at dksX1_ofBays_2 13 rfl rfl)
theorem dX1_ofBays_60 : decode cX1_ofBays 60 = .ok (.iadd, 1) := dk_96 (dk_at dksX1_ofBays_2 14 rfl rfl)
theorem dX1_ofBays_61 : decode cX1_ofBays 61 = .ok (.istore_n 2, 1) := dk_61 (dk_at dksX1_ofBays_2 15 rfl rfl)
theorem dX1_ofBays_62 : decode cX1_ofBays 62 = .ok (.iconst 0, 1) := dk_3 (dk_at dksX1_ofBays_2 16 rfl rfl)
theorem dX1_ofBays_63 : decode cX1_ofBays 63 = .ok (.istore 5, 2) := dk_54 5 (dk_at dksX1_ofBays_2 17 rfl rfl)
theorem dX1_ofBays_65 : decode cX1_ofBays 65 = .ok (.iload 5, 2) := dk_21 5 (dk_at dksX1_ofBays_2 19 rfl rfl)
theorem dX1_ofBays_67 : decode cX1_ofBays 67 = .ok (.bipush 8, 2) := dk_16 8 (dk_at dksX1_ofBays_2 21 rfl rfl)
theorem dX1_ofBays_69 : decode cX1_ofBays 69 = .ok (.if_icmp .ge 26, 3) := dk_162 0 26 (dk_at dksX1_ofBays_3 0 rfl rfl)
theorem dX1_ofBays_72 : decode cX1_ofBays 72 = .ok (.iload_n 1, 1) := dk_27 (dk_at dksX1_ofBays_3 3 rfl rfl)
theorem dX1_ofBays_73 : decode cX1_ofBays 73 = .ok (.bipush 8, 2) := dk_16 8 (dk_at dksX1_ofBays_3 4 rfl rfl)
theorem dX1_ofBays_75 : decode cX1_ofBays 75 = .ok (.if_icmp .ne 20, 3) := dk_160 0 20 (dk_at dksX1_ofBays_3 6 rfl rfl)
theorem dX1_ofBays_78 : decode cX1_ofBays 78 = .ok (.iload_n 2, 1) := dk_28 (dk_at dksX1_ofBays_3 9 rfl rfl)
theorem dX1_ofBays_79 : decode cX1_ofBays 79 = .ok (.aload 4, 2) := dk_25 4 (dk_at dksX1_ofBays_3 10 rfl rfl)
theorem dX1_ofBays_81 : decode cX1_ofBays 81 = .ok (.getfield 224, 3) := dk_180 0 224 (dk_at dksX1_ofBays_3 12 rfl rfl)
theorem dX1_ofBays_84 : decode cX1_ofBays 84 = .ok (.iload 5, 2) := dk_21 5 (dk_at dksX1_ofBays_3 15 rfl rfl)
theorem dX1_ofBays_86 : decode cX1_ofBays 86 = .ok (.iaload, 1) := dk_46 (dk_at dksX1_ofBays_3 17 rfl rfl)
theorem dX1_ofBays_87 : decode cX1_ofBays 87 = .ok (.iadd, 1) := dk_96 (dk_at dksX1_ofBays_3 18 rfl rfl)
theorem dX1_ofBays_88 : decode cX1_ofBays 88 = .ok (.istore_n 2, 1) := dk_61 (dk_at dksX1_ofBays_3 19 rfl rfl)
theorem dX1_ofBays_89 : decode cX1_ofBays 89 = .ok (.iinc 5 1, 3) := dk_132 5 1 (dk_at dksX1_ofBays_3 20 rfl rfl)
theorem dX1_ofBays_92 : decode cX1_ofBays 92 = .ok (.goto (-27), 3) := dk_167 255 229 (dk_at dksX1_ofBays_4 0 rfl rfl)
theorem dX1_ofBays_95 : decode cX1_ofBays 95 = .ok (.iinc 3 1, 3) := dk_132 3 1 (dk_at dksX1_ofBays_4 3 rfl rfl)
theorem dX1_ofBays_98 : decode cX1_ofBays 98 = .ok (.goto (-94), 3) := dk_167 255 162 (dk_at dksX1_ofBays_4 6 rfl rfl)
theorem dX1_ofBays_101 : decode cX1_ofBays 101 = .ok (.iload_n 2, 1) := dk_28 (dk_at dksX1_ofBays_4 9 rfl rfl)
theorem dX1_ofBays_102 : decode cX1_ofBays 102 = .ok (.ireturn, 1) := dk_172 (dk_at dksX1_ofBays_4 10 rfl rfl)
abbrev cX1_pass : ByteArray := prog_1_method_32_code
def yX1_pass : MethodName := ⟨RX1, "pass", "(I)I"⟩
def dkwX1_pass_1 : List UInt8 := [167, 0, 4, 3, 184, 0, 182, 42, 89, 180, 0, 176, 27, 96, 181, 0, 176, 42, 180, 0, 176, 172]
abbrev dktX1_pass_1 : List UInt8 := dkwX1_pass_1 ++ []
def dkwX1_pass_0 : List UInt8 := [27, 4, 16, 100, 184, 0, 19, 184, 0, 179, 42, 180, 0, 176, 27, 96, 17, 1, 244, 163, 0, 7, 4]
abbrev dktX1_pass_0 : List UInt8 := dkwX1_pass_0 ++ dktX1_pass_1
theorem dksX1_pass_0 : cX1_pass.data.toList.drop 0 = dktX1_pass_0 := by decide +kernel
theorem dksX1_pass_1 : cX1_pass.data.toList.drop 23 = dktX1_pass_1 := dk_seg dksX1_pass_0 23 rfl rfl
theorem dX1_pass_0 : decode cX1_pass 0 = .ok (.iload_n 1, 1) := dk_27 (dk_at dksX1_pass_0 0 rfl rfl)
theorem dX1_pass_1 : decode cX1_pass 1 = .ok (.iconst 1, 1) := dk_4 (dk_at dksX1_pass_0 1 rfl rfl)
theorem dX1_pass_2 : decode cX1_pass 2 = .ok (.bipush 100, 2) := dk_16 100 (dk_at dksX1_pass_0 2 rfl rfl)
theorem dX1_pass_4 : decode cX1_pass 4 = .ok (.invokestatic 19, 3) := dk_184 0 19 (dk_at dksX1_pass_0 4 rfl rfl)
theorem dX1_pass_7 : decode cX1_pass 7 = .ok (.invokestatic 179, 3) := dk_184 0 179 (dk_at dksX1_pass_0 7 rfl rfl)
theorem dX1_pass_10 : decode cX1_pass 10 = .ok (.aload_n 0, 1) := dk_42 (dk_at dksX1_pass_0 10 rfl rfl)
theorem dX1_pass_11 : decode cX1_pass 11 = .ok (.getfield 176, 3) := dk_180 0 176 (dk_at dksX1_pass_0 11 rfl rfl)
theorem dX1_pass_14 : decode cX1_pass 14 = .ok (.iload_n 1, 1) := dk_27 (dk_at dksX1_pass_0 14 rfl rfl)
theorem dX1_pass_15 : decode cX1_pass 15 = .ok (.iadd, 1) := dk_96 (dk_at dksX1_pass_0 15 rfl rfl)
theorem dX1_pass_16 : decode cX1_pass 16 = .ok (.sipush 500, 3) := dk_17 1 244 (dk_at dksX1_pass_0 16 rfl rfl)
theorem dX1_pass_19 : decode cX1_pass 19 = .ok (.if_icmp .gt 7, 3) := dk_163 0 7 (dk_at dksX1_pass_0 19 rfl rfl)
theorem dX1_pass_22 : decode cX1_pass 22 = .ok (.iconst 1, 1) := dk_4 (dk_at dksX1_pass_0 22 rfl rfl)
theorem dX1_pass_23 : decode cX1_pass 23 = .ok (.goto 4, 3) := dk_167 0 4 (dk_at dksX1_pass_1 0 rfl rfl)
theorem dX1_pass_26 : decode cX1_pass 26 = .ok (.iconst 0, 1) := dk_3 (dk_at dksX1_pass_1 3 rfl rfl)
theorem dX1_pass_27 : decode cX1_pass 27 = .ok (.invokestatic 182, 3) := dk_184 0 182 (dk_at dksX1_pass_1 4 rfl rfl)
theorem dX1_pass_30 : decode cX1_pass 30 = .ok (.aload_n 0, 1) := dk_42 (dk_at dksX1_pass_1 7 rfl rfl)
theorem dX1_pass_31 : decode cX1_pass 31 = .ok (.dup, 1) := dk_89 (dk_at dksX1_pass_1 8 rfl rfl)
theorem dX1_pass_32 : decode cX1_pass 32 = .ok (.getfield 176, 3) := dk_180 0 176 (dk_at dksX1_pass_1 9 rfl rfl)
theorem dX1_pass_35 : decode cX1_pass 35 = .ok (.iload_n 1, 1) := dk_27 (dk_at dksX1_pass_1 12 rfl rfl)
theorem dX1_pass_36 : decode cX1_pass 36 = .ok (.iadd, 1) := dk_96 (dk_at dksX1_pass_1 13 rfl rfl)
theorem dX1_pass_37 : decode cX1_pass 37 = .ok (.putfield 176, 3) := dk_181 0 176 (dk_at dksX1_pass_1 14 rfl rfl)
theorem dX1_pass_40 : decode cX1_pass 40 = .ok (.aload_n 0, 1) := dk_42 (dk_at dksX1_pass_1 17 rfl rfl)
theorem dX1_pass_41 : decode cX1_pass 41 = .ok (.getfield 176, 3) := dk_180 0 176 (dk_at dksX1_pass_1 18 rfl rfl)
theorem dX1_pass_44 : decode cX1_pass 44 = .ok (.ireturn, 1) := dk_172 (dk_at dksX1_pass_1 21 rfl rfl)
abbrev cX1_checkArgument : ByteArray := prog_1_method_2_code
def yX1_checkArgument : MethodName := ⟨RX1, "checkArgument", "(Z)V"⟩
def dkwX1_checkArgument_0 : List UInt8 := [26, 154, 0, 11, 187, 0, 7, 89, 183, 0, 9, 191, 177]
abbrev dktX1_checkArgument_0 : List UInt8 := dkwX1_checkArgument_0 ++ []
theorem dksX1_checkArgument_0 : cX1_checkArgument.data.toList.drop 0 = dktX1_checkArgument_0 := by decide +kernel
theorem dX1_checkArgument_0 : decode cX1_checkArgument 0 = .ok (.iload_n 0, 1) := dk_26 (dk_at dksX1_checkArgument_0 0 rfl rfl)
theorem dX1_checkArgument_1 : decode cX1_checkArgument 1 = .ok (.ifCond .ne 11, 3) := dk_154 0 11 (dk_at dksX1_checkArgument_0 1 rfl rfl)
theorem dX1_checkArgument_4 : decode cX1_checkArgument 4 = .ok (.new 7, 3) := dk_187 0 7 (dk_at dksX1_checkArgument_0 4 rfl rfl)
theorem dX1_checkArgument_7 : decode cX1_checkArgument 7 = .ok (.dup, 1) := dk_89 (dk_at dksX1_checkArgument_0 7 rfl rfl)
theorem dX1_checkArgument_8 : decode cX1_checkArgument 8 = .ok (.invokespecial 9, 3) := dk_183 0 9 (dk_at dksX1_checkArgument_0 8 rfl rfl)
theorem dX1_checkArgument_11 : decode cX1_checkArgument 11 = .ok (.athrow, 1) := dk_191 (dk_at dksX1_checkArgument_0 11 rfl rfl)
theorem dX1_checkArgument_12 : decode cX1_checkArgument 12 = .ok (.return_, 1) := dk_177 (dk_at dksX1_checkArgument_0 12 rfl rfl)
abbrev cX1_checkState : ByteArray := prog_1_method_3_code
def yX1_checkState : MethodName := ⟨RX1, "checkState", "(Z)V"⟩
def dkwX1_checkState_0 : List UInt8 := [26, 154, 0, 11, 187, 0, 10, 89, 183, 0, 12, 191, 177]
abbrev dktX1_checkState_0 : List UInt8 := dkwX1_checkState_0 ++ []
theorem dksX1_checkState_0 : cX1_checkState.data.toList.drop 0 = dktX1_checkState_0 := by decide +kernel
theorem dX1_checkState_0 : decode cX1_checkState 0 = .ok (.iload_n 0, 1) := dk_26 (dk_at dksX1_checkState_0 0 rfl rfl)
theorem dX1_checkState_1 : decode cX1_checkState 1 = .ok (.ifCond .ne 11, 3) := dk_154 0 11 (dk_at dksX1_checkState_0 1 rfl rfl)
theorem dX1_checkState_4 : decode cX1_checkState 4 = .ok (.new 10, 3) := dk_187 0 10 (dk_at dksX1_checkState_0 4 rfl rfl)
theorem dX1_checkState_7 : decode cX1_checkState 7 = .ok (.dup, 1) := dk_89 (dk_at dksX1_checkState_0 7 rfl rfl)
theorem dX1_checkState_8 : decode cX1_checkState 8 = .ok (.invokespecial 12, 3) := dk_183 0 12 (dk_at dksX1_checkState_0 8 rfl rfl)
theorem dX1_checkState_11 : decode cX1_checkState 11 = .ok (.athrow, 1) := dk_191 (dk_at dksX1_checkState_0 11 rfl rfl)
theorem dX1_checkState_12 : decode cX1_checkState 12 = .ok (.return_, 1) := dk_177 (dk_at dksX1_checkState_0 12 rfl rfl)
abbrev cX1_addFace : ByteArray := prog_1_method_33_code
def yX1_addFace : MethodName := ⟨RX1, "addFace", "(I)I"⟩
def dkwX1_addFace_6 : List UInt8 := [172]
abbrev dktX1_addFace_6 : List UInt8 := dkwX1_addFace_6 ++ []
def dkwX1_addFace_5 : List UInt8 := [185, 0, 90, 2, 0, 87, 132, 3, 1, 167, 255, 221, 42, 182, 0, 191, 42, 182, 0, 173, 44, 180, 0, 194]
abbrev dktX1_addFace_5 : List UInt8 := dkwX1_addFace_5 ++ dktX1_addFace_6
def dkwX1_addFace_4 : List UInt8 := [180, 0, 33, 187, 0, 44, 89, 42, 180, 0, 33, 185, 0, 13, 1, 0, 44, 183, 0, 188]
abbrev dktX1_addFace_4 : List UInt8 := dkwX1_addFace_4 ++ dktX1_addFace_5
def dkwX1_addFace_3 : List UInt8 := [183, 0, 185, 77, 42, 180, 0, 71, 44, 185, 0, 90, 2, 0, 87, 3, 62, 29, 27, 162, 0, 36, 42]
abbrev dktX1_addFace_3 : List UInt8 := dkwX1_addFace_3 ++ dktX1_addFace_4
def dkwX1_addFace_2 : List UInt8 := [187, 0, 74, 89, 42, 42, 180, 0, 71, 185, 0, 13, 1, 0, 42, 180, 0, 33, 185, 0, 13, 1, 0, 27]
abbrev dktX1_addFace_2 : List UInt8 := dkwX1_addFace_2 ++ dktX1_addFace_3
def dkwX1_addFace_1 : List UInt8 := [180, 0, 33, 185, 0, 13, 1, 0, 27, 96, 16, 24, 163, 0, 7, 4, 167, 0, 4, 3, 184, 0, 182]
abbrev dktX1_addFace_1 : List UInt8 := dkwX1_addFace_1 ++ dktX1_addFace_2
def dkwX1_addFace_0 : List UInt8 := [27, 4, 16, 8, 184, 0, 19, 184, 0, 179, 42, 180, 0, 71, 185, 0, 13, 1, 0, 8, 162, 0, 23, 42]
abbrev dktX1_addFace_0 : List UInt8 := dkwX1_addFace_0 ++ dktX1_addFace_1
theorem dksX1_addFace_0 : cX1_addFace.data.toList.drop 0 = dktX1_addFace_0 := by decide +kernel
theorem dksX1_addFace_1 : cX1_addFace.data.toList.drop 24 = dktX1_addFace_1 := dk_seg dksX1_addFace_0 24 rfl rfl
theorem dksX1_addFace_2 : cX1_addFace.data.toList.drop 47 = dktX1_addFace_2 := dk_seg dksX1_addFace_1 23 rfl rfl
theorem dksX1_addFace_3 : cX1_addFace.data.toList.drop 71 = dktX1_addFace_3 := dk_seg dksX1_addFace_2 24 rfl rfl
theorem dksX1_addFace_4 : cX1_addFace.data.toList.drop 94 = dktX1_addFace_4 := dk_seg dksX1_addFace_3 23 rfl rfl
theorem dksX1_addFace_5 : cX1_addFace.data.toList.drop 114 = dktX1_addFace_5 := dk_seg dksX1_addFace_4 20 rfl rfl
theorem dksX1_addFace_6 : cX1_addFace.data.toList.drop 138 = dktX1_addFace_6 := dk_seg dksX1_addFace_5 24 rfl rfl
theorem dX1_addFace_0 : decode cX1_addFace 0 = .ok (.iload_n 1, 1) := dk_27 (dk_at dksX1_addFace_0 0 rfl rfl)
theorem dX1_addFace_1 : decode cX1_addFace 1 = .ok (.iconst 1, 1) := dk_4 (dk_at dksX1_addFace_0 1 rfl rfl)
theorem dX1_addFace_2 : decode cX1_addFace 2 = .ok (.bipush 8, 2) := dk_16 8 (dk_at dksX1_addFace_0 2 rfl rfl)
theorem dX1_addFace_4 : decode cX1_addFace 4 = .ok (.invokestatic 19, 3) := dk_184 0 19 (dk_at dksX1_addFace_0 4 rfl rfl)
theorem dX1_addFace_7 : decode cX1_addFace 7 = .ok (.invokestatic 179, 3) := dk_184 0 179 (dk_at dksX1_addFace_0 7 rfl rfl)
theorem dX1_addFace_10 : decode cX1_addFace 10 = .ok (.aload_n 0, 1) := dk_42 (dk_at dksX1_addFace_0 10 rfl rfl)
theorem dX1_addFace_11 : decode cX1_addFace 11 = .ok (.getfield 71, 3) := dk_180 0 71 (dk_at dksX1_addFace_0 11 rfl rfl)
theorem dX1_addFace_14 : decode cX1_addFace 14 = .ok (.invokeinterface 13 1, 5) := by decide +kernel
theorem dX1_addFace_19 : decode cX1_addFace 19 = .ok (.iconst 5, 1) := dk_8 (dk_at dksX1_addFace_0 19 rfl rfl)
theorem dX1_addFace_20 : decode cX1_addFace 20 = .ok (.if_icmp .ge 23, 3) := dk_162 0 23 (dk_at dksX1_addFace_0 20 rfl rfl)
theorem dX1_addFace_23 : decode cX1_addFace 23 = .ok (.aload_n 0, 1) := dk_42 (dk_at dksX1_addFace_0 23 rfl rfl)
theorem dX1_addFace_24 : decode cX1_addFace 24 = .ok (.getfield 33, 3) := dk_180 0 33 (dk_at dksX1_addFace_1 0 rfl rfl)
theorem dX1_addFace_27 : decode cX1_addFace 27 = .ok (.invokeinterface 13 1, 5) := by decide +kernel
theorem dX1_addFace_32 : decode cX1_addFace 32 = .ok (.iload_n 1, 1) := dk_27 (dk_at dksX1_addFace_1 8 rfl rfl)
theorem dX1_addFace_33 : decode cX1_addFace 33 = .ok (.iadd, 1) := dk_96 (dk_at dksX1_addFace_1 9 rfl rfl)
theorem dX1_addFace_34 : decode cX1_addFace 34 = .ok (.bipush 24, 2) := dk_16 24 (dk_at dksX1_addFace_1 10 rfl rfl)
theorem dX1_addFace_36 : decode cX1_addFace 36 = .ok (.if_icmp .gt 7, 3) := dk_163 0 7 (dk_at dksX1_addFace_1 12 rfl rfl)
theorem dX1_addFace_39 : decode cX1_addFace 39 = .ok (.iconst 1, 1) := dk_4 (dk_at dksX1_addFace_1 15 rfl rfl)
theorem dX1_addFace_40 : decode cX1_addFace 40 = .ok (.goto 4, 3) := dk_167 0 4 (dk_at dksX1_addFace_1 16 rfl rfl)
theorem dX1_addFace_43 : decode cX1_addFace 43 = .ok (.iconst 0, 1) := dk_3 (dk_at dksX1_addFace_1 19 rfl rfl)
theorem dX1_addFace_44 : decode cX1_addFace 44 = .ok (.invokestatic 182, 3) := dk_184 0 182 (dk_at dksX1_addFace_1 20 rfl rfl)
theorem dX1_addFace_47 : decode cX1_addFace 47 = .ok (.new 74, 3) := dk_187 0 74 (dk_at dksX1_addFace_2 0 rfl rfl)
theorem dX1_addFace_50 : decode cX1_addFace 50 = .ok (.dup, 1) := dk_89 (dk_at dksX1_addFace_2 3 rfl rfl)
theorem dX1_addFace_51 : decode cX1_addFace 51 = .ok (.aload_n 0, 1) := dk_42 (dk_at dksX1_addFace_2 4 rfl rfl)
theorem dX1_addFace_52 : decode cX1_addFace 52 = .ok (.aload_n 0, 1) := dk_42 (dk_at dksX1_addFace_2 5 rfl rfl)
theorem dX1_addFace_53 : decode cX1_addFace 53 = .ok (.getfield 71, 3) := dk_180 0 71 (dk_at dksX1_addFace_2 6 rfl rfl)
theorem dX1_addFace_56 : decode cX1_addFace 56 = .ok (.invokeinterface 13 1, 5) := by decide +kernel
theorem dX1_addFace_61 : decode cX1_addFace 61 = .ok (.aload_n 0, 1) := dk_42 (dk_at dksX1_addFace_2 14 rfl rfl)
theorem dX1_addFace_62 : decode cX1_addFace 62 = .ok (.getfield 33, 3) := dk_180 0 33 (dk_at dksX1_addFace_2 15 rfl rfl)
theorem dX1_addFace_65 : decode cX1_addFace 65 = .ok (.invokeinterface 13 1, 5) := by decide +kernel
theorem dX1_addFace_70 : decode cX1_addFace 70 = .ok (.iload_n 1, 1) := dk_27 (dk_at dksX1_addFace_2 23 rfl rfl)
theorem dX1_addFace_71 : decode cX1_addFace 71 = .ok (.invokespecial 185, 3) := dk_183 0 185 (dk_at dksX1_addFace_3 0 rfl rfl)
theorem dX1_addFace_74 : decode cX1_addFace 74 = .ok (.astore_n 2, 1) := dk_77 (dk_at dksX1_addFace_3 3 rfl rfl)
theorem dX1_addFace_75 : decode cX1_addFace 75 = .ok (.aload_n 0, 1) := dk_42 (dk_at dksX1_addFace_3 4 rfl rfl)
theorem dX1_addFace_76 : decode cX1_addFace 76 = .ok (.getfield 71, 3) := dk_180 0 71 (dk_at dksX1_addFace_3 5 rfl rfl)
theorem dX1_addFace_79 : decode cX1_addFace 79 = .ok (.aload_n 2, 1) := dk_44 (dk_at dksX1_addFace_3 8 rfl rfl)
theorem dX1_addFace_80 : decode cX1_addFace 80 = .ok (.invokeinterface 90 2, 5) := by decide +kernel
theorem dX1_addFace_85 : decode cX1_addFace 85 = .ok (.pop, 1) := dk_87 (dk_at dksX1_addFace_3 14 rfl rfl)
theorem dX1_addFace_86 : decode cX1_addFace 86 = .ok (.iconst 0, 1) := dk_3 (dk_at dksX1_addFace_3 15 rfl rfl)
theorem dX1_addFace_87 : decode cX1_addFace 87 = .ok (.istore_n 3, 1) := dk_62 (dk_at dksX1_addFace_3 16 rfl rfl)
theorem dX1_addFace_88 : decode cX1_addFace 88 = .ok (.iload_n 3, 1) := dk_29 (dk_at dksX1_addFace_3 17 rfl rfl)
theorem dX1_addFace_89 : decode cX1_addFace 89 = .ok (.iload_n 1, 1) := dk_27 (dk_at dksX1_addFace_3 18 rfl rfl)
theorem dX1_addFace_90 : decode cX1_addFace 90 = .ok (.if_icmp .ge 36, 3) := dk_162 0 36 (dk_at dksX1_addFace_3 19 rfl rfl)
theorem dX1_addFace_93 : decode cX1_addFace 93 = .ok (.aload_n 0, 1) := dk_42 (dk_at dksX1_addFace_3 22 rfl rfl)
theorem dX1_addFace_94 : decode cX1_addFace 94 = .ok (.getfield 33, 3) := dk_180 0 33 (dk_at dksX1_addFace_4 0 rfl rfl)
theorem dX1_addFace_97 : decode cX1_addFace 97 = .ok (.new 44, 3) := dk_187 0 44 (dk_at dksX1_addFace_4 3 rfl rfl)
theorem dX1_addFace_100 : decode cX1_addFace 100 = .ok (.dup, 1) := dk_89 (dk_at dksX1_addFace_4 6 rfl rfl)
theorem dX1_addFace_101 : decode cX1_addFace 101 = .ok (.aload_n 0, 1) := dk_42 (dk_at dksX1_addFace_4 7 rfl rfl)
theorem dX1_addFace_102 : decode cX1_addFace 102 = .ok (.getfield 33, 3) := dk_180 0 33 (dk_at dksX1_addFace_4 8 rfl rfl)
theorem dX1_addFace_105 : decode cX1_addFace 105 = .ok (.invokeinterface 13 1, 5) := by decide +kernel
theorem dX1_addFace_110 : decode cX1_addFace 110 = .ok (.aload_n 2, 1) := dk_44 (dk_at dksX1_addFace_4 16 rfl rfl)
theorem dX1_addFace_111 : decode cX1_addFace 111 = .ok (.invokespecial 188, 3) := dk_183 0 188 (dk_at dksX1_addFace_4 17 rfl rfl)
theorem dX1_addFace_114 : decode cX1_addFace 114 = .ok (.invokeinterface 90 2, 5) := by decide +kernel
theorem dX1_addFace_119 : decode cX1_addFace 119 = .ok (.pop, 1) := dk_87 (dk_at dksX1_addFace_5 5 rfl rfl)
theorem dX1_addFace_120 : decode cX1_addFace 120 = .ok (.iinc 3 1, 3) := dk_132 3 1 (dk_at dksX1_addFace_5 6 rfl rfl)
theorem dX1_addFace_123 : decode cX1_addFace 123 = .ok (.goto (-35), 3) := dk_167 255 221 (dk_at dksX1_addFace_5 9 rfl rfl)
theorem dX1_addFace_126 : decode cX1_addFace 126 = .ok (.aload_n 0, 1) := dk_42 (dk_at dksX1_addFace_5 12 rfl rfl)
theorem dX1_addFace_127 : decode cX1_addFace 127 = .ok (.invokevirtual 191, 3) := dk_182 0 191 (dk_at dksX1_addFace_5 13 rfl rfl)
theorem dX1_addFace_130 : decode cX1_addFace 130 = .ok (.aload_n 0, 1) := dk_42 (dk_at dksX1_addFace_5 16 rfl rfl)
theorem dX1_addFace_131 : decode cX1_addFace 131 = .ok (.invokevirtual 173, 3) := dk_182 0 173 (dk_at dksX1_addFace_5 17 rfl rfl)
theorem dX1_addFace_134 : decode cX1_addFace 134 = .ok (.aload_n 2, 1) := dk_44 (dk_at dksX1_addFace_5 20 rfl rfl)
theorem dX1_addFace_135 : decode cX1_addFace 135 = .ok (.getfield 194, 3) := dk_180 0 194 (dk_at dksX1_addFace_5 21 rfl rfl)
theorem dX1_addFace_138 : decode cX1_addFace 138 = .ok (.ireturn, 1) := dk_172 (dk_at dksX1_addFace_6 0 rfl rfl)
abbrev cX1_withdrawAll : ByteArray := prog_1_method_15_code
def yX1_withdrawAll : MethodName := ⟨RX1, "withdrawAll", "()V"⟩
def dkwX1_withdrawAll_1 : List UInt8 := [185, 0, 29, 2, 0, 192, 0, 74, 182, 0, 76, 132, 1, 1, 167, 255, 224, 177]
abbrev dktX1_withdrawAll_1 : List UInt8 := dkwX1_withdrawAll_1 ++ []
def dkwX1_withdrawAll_0 : List UInt8 := [3, 60, 27, 42, 180, 0, 71, 185, 0, 13, 1, 0, 162, 0, 25, 42, 180, 0, 71, 27]
abbrev dktX1_withdrawAll_0 : List UInt8 := dkwX1_withdrawAll_0 ++ dktX1_withdrawAll_1
theorem dksX1_withdrawAll_0 : cX1_withdrawAll.data.toList.drop 0 = dktX1_withdrawAll_0 := by decide +kernel
theorem dksX1_withdrawAll_1 : cX1_withdrawAll.data.toList.drop 20 = dktX1_withdrawAll_1 := dk_seg dksX1_withdrawAll_0 20 rfl rfl
theorem dX1_withdrawAll_0 : decode cX1_withdrawAll 0 = .ok (.iconst 0, 1) := dk_3 (dk_at dksX1_withdrawAll_0 0 rfl rfl)
theorem dX1_withdrawAll_1 : decode cX1_withdrawAll 1 = .ok (.istore_n 1, 1) := dk_60 (dk_at dksX1_withdrawAll_0 1 rfl rfl)
theorem dX1_withdrawAll_2 : decode cX1_withdrawAll 2 = .ok (.iload_n 1, 1) := dk_27 (dk_at dksX1_withdrawAll_0 2 rfl rfl)
theorem dX1_withdrawAll_3 : decode cX1_withdrawAll 3 = .ok (.aload_n 0, 1) := dk_42 (dk_at dksX1_withdrawAll_0 3 rfl rfl)
theorem dX1_withdrawAll_4 : decode cX1_withdrawAll 4 = .ok (.getfield 71, 3) := dk_180 0 71 (dk_at dksX1_withdrawAll_0 4 rfl rfl)
theorem dX1_withdrawAll_7 : decode cX1_withdrawAll 7 = .ok (.invokeinterface 13 1, 5) := by decide +kernel
theorem dX1_withdrawAll_12 : decode cX1_withdrawAll 12 = .ok (.if_icmp .ge 25, 3) := dk_162 0 25 (dk_at dksX1_withdrawAll_0 12 rfl rfl)
theorem dX1_withdrawAll_15 : decode cX1_withdrawAll 15 = .ok (.aload_n 0, 1) := dk_42 (dk_at dksX1_withdrawAll_0 15 rfl rfl)
theorem dX1_withdrawAll_16 : decode cX1_withdrawAll 16 = .ok (.getfield 71, 3) := dk_180 0 71 (dk_at dksX1_withdrawAll_0 16 rfl rfl)
theorem dX1_withdrawAll_19 : decode cX1_withdrawAll 19 = .ok (.iload_n 1, 1) := dk_27 (dk_at dksX1_withdrawAll_0 19 rfl rfl)
theorem dX1_withdrawAll_20 : decode cX1_withdrawAll 20 = .ok (.invokeinterface 29 2, 5) := by decide +kernel
theorem dX1_withdrawAll_25 : decode cX1_withdrawAll 25 = .ok (.checkcast 74, 3) := dk_192 0 74 (dk_at dksX1_withdrawAll_1 5 rfl rfl)
theorem dX1_withdrawAll_28 : decode cX1_withdrawAll 28 = .ok (.invokevirtual 76, 3) := dk_182 0 76 (dk_at dksX1_withdrawAll_1 8 rfl rfl)
theorem dX1_withdrawAll_31 : decode cX1_withdrawAll 31 = .ok (.iinc 1 1, 3) := dk_132 1 1 (dk_at dksX1_withdrawAll_1 11 rfl rfl)
theorem dX1_withdrawAll_34 : decode cX1_withdrawAll 34 = .ok (.goto (-32), 3) := dk_167 255 224 (dk_at dksX1_withdrawAll_1 14 rfl rfl)
theorem dX1_withdrawAll_37 : decode cX1_withdrawAll 37 = .ok (.return_, 1) := dk_177 (dk_at dksX1_withdrawAll_1 17 rfl rfl)
abbrev cX1_faceOf : ByteArray := prog_1_method_34_code
def yX1_faceOf : MethodName := ⟨RX1, "faceOf", "(I)I"⟩
def dkwX1_faceOf_0 : List UInt8 := [42, 180, 0, 33, 27, 184, 0, 195, 192, 0, 44, 180, 0, 46, 180, 0, 194, 172]
abbrev dktX1_faceOf_0 : List UInt8 := dkwX1_faceOf_0 ++ []
theorem dksX1_faceOf_0 : cX1_faceOf.data.toList.drop 0 = dktX1_faceOf_0 := by decide +kernel
theorem dX1_faceOf_0 : decode cX1_faceOf 0 = .ok (.aload_n 0, 1) := dk_42 (dk_at dksX1_faceOf_0 0 rfl rfl)
theorem dX1_faceOf_1 : decode cX1_faceOf 1 = .ok (.getfield 33, 3) := dk_180 0 33 (dk_at dksX1_faceOf_0 1 rfl rfl)
theorem dX1_faceOf_4 : decode cX1_faceOf 4 = .ok (.iload_n 1, 1) := dk_27 (dk_at dksX1_faceOf_0 4 rfl rfl)
theorem dX1_faceOf_5 : decode cX1_faceOf 5 = .ok (.invokestatic 195, 3) := dk_184 0 195 (dk_at dksX1_faceOf_0 5 rfl rfl)
theorem dX1_faceOf_8 : decode cX1_faceOf 8 = .ok (.checkcast 44, 3) := dk_192 0 44 (dk_at dksX1_faceOf_0 8 rfl rfl)
theorem dX1_faceOf_11 : decode cX1_faceOf 11 = .ok (.getfield 46, 3) := dk_180 0 46 (dk_at dksX1_faceOf_0 11 rfl rfl)
theorem dX1_faceOf_14 : decode cX1_faceOf 14 = .ok (.getfield 194, 3) := dk_180 0 194 (dk_at dksX1_faceOf_0 14 rfl rfl)
theorem dX1_faceOf_17 : decode cX1_faceOf 17 = .ok (.ireturn, 1) := dk_172 (dk_at dksX1_faceOf_0 17 rfl rfl)
abbrev cX1_in : ByteArray := prog_1_method_5_code
def yX1_in : MethodName := ⟨RX1, "in", "(Ljava/util/List;I)Ljava/lang/Object;"⟩
def dkwX1_in_0 : List UInt8 := [27, 3, 42, 185, 0, 13, 1, 0, 4, 100, 184, 0, 19, 184, 0, 25, 42, 27, 185, 0, 29, 2, 0, 176]
abbrev dktX1_in_0 : List UInt8 := dkwX1_in_0 ++ []
theorem dksX1_in_0 : cX1_in.data.toList.drop 0 = dktX1_in_0 := by decide +kernel
theorem dX1_in_0 : decode cX1_in 0 = .ok (.iload_n 1, 1) := dk_27 (dk_at dksX1_in_0 0 rfl rfl)
theorem dX1_in_1 : decode cX1_in 1 = .ok (.iconst 0, 1) := dk_3 (dk_at dksX1_in_0 1 rfl rfl)
theorem dX1_in_2 : decode cX1_in 2 = .ok (.aload_n 0, 1) := dk_42 (dk_at dksX1_in_0 2 rfl rfl)
theorem dX1_in_3 : decode cX1_in 3 = .ok (.invokeinterface 13 1, 5) := by decide +kernel
theorem dX1_in_8 : decode cX1_in 8 = .ok (.iconst 1, 1) := dk_4 (dk_at dksX1_in_0 8 rfl rfl)
theorem dX1_in_9 : decode cX1_in 9 = .ok (.isub, 1) := dk_100 (dk_at dksX1_in_0 9 rfl rfl)
theorem dX1_in_10 : decode cX1_in 10 = .ok (.invokestatic 19, 3) := dk_184 0 19 (dk_at dksX1_in_0 10 rfl rfl)
theorem dX1_in_13 : decode cX1_in 13 = .ok (.invokestatic 25, 3) := dk_184 0 25 (dk_at dksX1_in_0 13 rfl rfl)
theorem dX1_in_16 : decode cX1_in 16 = .ok (.aload_n 0, 1) := dk_42 (dk_at dksX1_in_0 16 rfl rfl)
theorem dX1_in_17 : decode cX1_in 17 = .ok (.iload_n 1, 1) := dk_27 (dk_at dksX1_in_0 17 rfl rfl)
theorem dX1_in_18 : decode cX1_in 18 = .ok (.invokeinterface 29 2, 5) := by decide +kernel
theorem dX1_in_23 : decode cX1_in 23 = .ok (.areturn, 1) := dk_176 (dk_at dksX1_in_0 23 rfl rfl)
abbrev cX1_checkIndex : ByteArray := prog_1_method_1_code
def yX1_checkIndex : MethodName := ⟨RX1, "checkIndex", "(Z)V"⟩
def dkwX1_checkIndex_0 : List UInt8 := [26, 154, 0, 11, 187, 0, 1, 89, 183, 0, 3, 191, 177]
abbrev dktX1_checkIndex_0 : List UInt8 := dkwX1_checkIndex_0 ++ []
theorem dksX1_checkIndex_0 : cX1_checkIndex.data.toList.drop 0 = dktX1_checkIndex_0 := by decide +kernel
theorem dX1_checkIndex_0 : decode cX1_checkIndex 0 = .ok (.iload_n 0, 1) := dk_26 (dk_at dksX1_checkIndex_0 0 rfl rfl)
theorem dX1_checkIndex_1 : decode cX1_checkIndex 1 = .ok (.ifCond .ne 11, 3) := dk_154 0 11 (dk_at dksX1_checkIndex_0 1 rfl rfl)
theorem dX1_checkIndex_4 : decode cX1_checkIndex 4 = .ok (.new 1, 3) := dk_187 0 1 (dk_at dksX1_checkIndex_0 4 rfl rfl)
theorem dX1_checkIndex_7 : decode cX1_checkIndex 7 = .ok (.dup, 1) := dk_89 (dk_at dksX1_checkIndex_0 7 rfl rfl)
theorem dX1_checkIndex_8 : decode cX1_checkIndex 8 = .ok (.invokespecial 3, 3) := dk_183 0 3 (dk_at dksX1_checkIndex_0 8 rfl rfl)
theorem dX1_checkIndex_11 : decode cX1_checkIndex 11 = .ok (.athrow, 1) := dk_191 (dk_at dksX1_checkIndex_0 11 rfl rfl)
theorem dX1_checkIndex_12 : decode cX1_checkIndex 12 = .ok (.return_, 1) := dk_177 (dk_at dksX1_checkIndex_0 12 rfl rfl)
abbrev cX1_isCorner : ByteArray := prog_1_method_35_code
def yX1_isCorner : MethodName := ⟨RX1, "isCorner", "(I)Z"⟩
def dkwX1_isCorner_0 : List UInt8 := [42, 27, 182, 0, 199, 42, 27, 182, 0, 67, 172]
abbrev dktX1_isCorner_0 : List UInt8 := dkwX1_isCorner_0 ++ []
theorem dksX1_isCorner_0 : cX1_isCorner.data.toList.drop 0 = dktX1_isCorner_0 := by decide +kernel
theorem dX1_isCorner_0 : decode cX1_isCorner 0 = .ok (.aload_n 0, 1) := dk_42 (dk_at dksX1_isCorner_0 0 rfl rfl)
theorem dX1_isCorner_1 : decode cX1_isCorner 1 = .ok (.iload_n 1, 1) := dk_27 (dk_at dksX1_isCorner_0 1 rfl rfl)
theorem dX1_isCorner_2 : decode cX1_isCorner 2 = .ok (.invokevirtual 199, 3) := dk_182 0 199 (dk_at dksX1_isCorner_0 2 rfl rfl)
theorem dX1_isCorner_5 : decode cX1_isCorner 5 = .ok (.aload_n 0, 1) := dk_42 (dk_at dksX1_isCorner_0 5 rfl rfl)
theorem dX1_isCorner_6 : decode cX1_isCorner 6 = .ok (.iload_n 1, 1) := dk_27 (dk_at dksX1_isCorner_0 6 rfl rfl)
theorem dX1_isCorner_7 : decode cX1_isCorner 7 = .ok (.invokevirtual 67, 3) := dk_182 0 67 (dk_at dksX1_isCorner_0 7 rfl rfl)
theorem dX1_isCorner_10 : decode cX1_isCorner 10 = .ok (.ireturn, 1) := dk_172 (dk_at dksX1_isCorner_0 10 rfl rfl)
abbrev cX1_checkPosition : ByteArray := prog_1_method_9_code
def yX1_checkPosition : MethodName := ⟨RX1, "checkPosition", "(I)V"⟩
def dkwX1_checkPosition_0 : List UInt8 := [27, 3, 42, 182, 0, 41, 4, 100, 184, 0, 19, 184, 0, 25, 177]
abbrev dktX1_checkPosition_0 : List UInt8 := dkwX1_checkPosition_0 ++ []
theorem dksX1_checkPosition_0 : cX1_checkPosition.data.toList.drop 0 = dktX1_checkPosition_0 := by decide +kernel
theorem dX1_checkPosition_0 : decode cX1_checkPosition 0 = .ok (.iload_n 1, 1) := dk_27 (dk_at dksX1_checkPosition_0 0 rfl rfl)
theorem dX1_checkPosition_1 : decode cX1_checkPosition 1 = .ok (.iconst 0, 1) := dk_3 (dk_at dksX1_checkPosition_0 1 rfl rfl)
theorem dX1_checkPosition_2 : decode cX1_checkPosition 2 = .ok (.aload_n 0, 1) := dk_42 (dk_at dksX1_checkPosition_0 2 rfl rfl)
theorem dX1_checkPosition_3 : decode cX1_checkPosition 3 = .ok (.invokevirtual 41, 3) := dk_182 0 41 (dk_at dksX1_checkPosition_0 3 rfl rfl)
theorem dX1_checkPosition_6 : decode cX1_checkPosition 6 = .ok (.iconst 1, 1) := dk_4 (dk_at dksX1_checkPosition_0 6 rfl rfl)
theorem dX1_checkPosition_7 : decode cX1_checkPosition 7 = .ok (.isub, 1) := dk_100 (dk_at dksX1_checkPosition_0 7 rfl rfl)
theorem dX1_checkPosition_8 : decode cX1_checkPosition 8 = .ok (.invokestatic 19, 3) := dk_184 0 19 (dk_at dksX1_checkPosition_0 8 rfl rfl)
theorem dX1_checkPosition_11 : decode cX1_checkPosition 11 = .ok (.invokestatic 25, 3) := dk_184 0 25 (dk_at dksX1_checkPosition_0 11 rfl rfl)
theorem dX1_checkPosition_14 : decode cX1_checkPosition 14 = .ok (.return_, 1) := dk_177 (dk_at dksX1_checkPosition_0 14 rfl rfl)
abbrev cX1_setLifts : ByteArray := prog_1_method_36_code
def yX1_setLifts : MethodName := ⟨RX1, "setLifts", "(II)I"⟩
def dkwX1_setLifts_2 : List UInt8 := [182, 0, 173, 21, 4, 172]
abbrev dktX1_setLifts_2 : List UInt8 := dkwX1_setLifts_2 ++ []
def dkwX1_setLifts_1 : List UInt8 := [180, 0, 50, 54, 4, 21, 4, 28, 160, 0, 6, 21, 4, 172, 45, 28, 182, 0, 202, 42, 182, 0, 191, 42]
abbrev dktX1_setLifts_1 : List UInt8 := dkwX1_setLifts_1 ++ dktX1_setLifts_2
def dkwX1_setLifts_0 : List UInt8 := [42, 180, 0, 33, 27, 184, 0, 195, 192, 0, 44, 78, 28, 3, 16, 8, 184, 0, 19, 184, 0, 179, 45]
abbrev dktX1_setLifts_0 : List UInt8 := dkwX1_setLifts_0 ++ dktX1_setLifts_1
theorem dksX1_setLifts_0 : cX1_setLifts.data.toList.drop 0 = dktX1_setLifts_0 := by decide +kernel
theorem dksX1_setLifts_1 : cX1_setLifts.data.toList.drop 23 = dktX1_setLifts_1 := dk_seg dksX1_setLifts_0 23 rfl rfl
theorem dksX1_setLifts_2 : cX1_setLifts.data.toList.drop 47 = dktX1_setLifts_2 := dk_seg dksX1_setLifts_1 24 rfl rfl
theorem dX1_setLifts_0 : decode cX1_setLifts 0 = .ok (.aload_n 0, 1) := dk_42 (dk_at dksX1_setLifts_0 0 rfl rfl)
theorem dX1_setLifts_1 : decode cX1_setLifts 1 = .ok (.getfield 33, 3) := dk_180 0 33 (dk_at dksX1_setLifts_0 1 rfl rfl)
theorem dX1_setLifts_4 : decode cX1_setLifts 4 = .ok (.iload_n 1, 1) := dk_27 (dk_at dksX1_setLifts_0 4 rfl rfl)
theorem dX1_setLifts_5 : decode cX1_setLifts 5 = .ok (.invokestatic 195, 3) := dk_184 0 195 (dk_at dksX1_setLifts_0 5 rfl rfl)
theorem dX1_setLifts_8 : decode cX1_setLifts 8 = .ok (.checkcast 44, 3) := dk_192 0 44 (dk_at dksX1_setLifts_0 8 rfl rfl)
theorem dX1_setLifts_11 : decode cX1_setLifts 11 = .ok (.astore_n 3, 1) := dk_78 (dk_at dksX1_setLifts_0 11 rfl rfl)
theorem dX1_setLifts_12 : decode cX1_setLifts 12 = .ok (.iload_n 2, 1) := dk_28 (dk_at dksX1_setLifts_0 12 rfl rfl)
theorem dX1_setLifts_13 : decode cX1_setLifts 13 = .ok (.iconst 0, 1) := dk_3 (dk_at dksX1_setLifts_0 13 rfl rfl)
theorem dX1_setLifts_14 : decode cX1_setLifts 14 = .ok (.bipush 8, 2) := dk_16 8 (dk_at dksX1_setLifts_0 14 rfl rfl)
theorem dX1_setLifts_16 : decode cX1_setLifts 16 = .ok (.invokestatic 19, 3) := dk_184 0 19 (dk_at dksX1_setLifts_0 16 rfl rfl)
theorem dX1_setLifts_19 : decode cX1_setLifts 19 = .ok (.invokestatic 179, 3) := dk_184 0 179 (dk_at dksX1_setLifts_0 19 rfl rfl)
theorem dX1_setLifts_22 : decode cX1_setLifts 22 = .ok (.aload_n 3, 1) := dk_45 (dk_at dksX1_setLifts_0 22 rfl rfl)
theorem dX1_setLifts_23 : decode cX1_setLifts 23 = .ok (.getfield 50, 3) := dk_180 0 50 (dk_at dksX1_setLifts_1 0 rfl rfl)
theorem dX1_setLifts_26 : decode cX1_setLifts 26 = .ok (.istore 4, 2) := dk_54 4 (dk_at dksX1_setLifts_1 3 rfl rfl)
theorem dX1_setLifts_28 : decode cX1_setLifts 28 = .ok (.iload 4, 2) := dk_21 4 (dk_at dksX1_setLifts_1 5 rfl rfl)
theorem dX1_setLifts_30 : decode cX1_setLifts 30 = .ok (.iload_n 2, 1) := dk_28 (dk_at dksX1_setLifts_1 7 rfl rfl)
theorem dX1_setLifts_31 : decode cX1_setLifts 31 = .ok (.if_icmp .ne 6, 3) := dk_160 0 6 (dk_at dksX1_setLifts_1 8 rfl rfl)
theorem dX1_setLifts_34 : decode cX1_setLifts 34 = .ok (.iload 4, 2) := dk_21 4 (dk_at dksX1_setLifts_1 11 rfl rfl)
theorem dX1_setLifts_36 : decode cX1_setLifts 36 = .ok (.ireturn, 1) := dk_172 (dk_at dksX1_setLifts_1 13 rfl rfl)
theorem dX1_setLifts_37 : decode cX1_setLifts 37 = .ok (.aload_n 3, 1) := dk_45 (dk_at dksX1_setLifts_1 14 rfl rfl)
theorem dX1_setLifts_38 : decode cX1_setLifts 38 = .ok (.iload_n 2, 1) := dk_28 (dk_at dksX1_setLifts_1 15 rfl rfl)
theorem dX1_setLifts_39 : decode cX1_setLifts 39 = .ok (.invokevirtual 202, 3) := dk_182 0 202 (dk_at dksX1_setLifts_1 16 rfl rfl)
theorem dX1_setLifts_42 : decode cX1_setLifts 42 = .ok (.aload_n 0, 1) := dk_42 (dk_at dksX1_setLifts_1 19 rfl rfl)
theorem dX1_setLifts_43 : decode cX1_setLifts 43 = .ok (.invokevirtual 191, 3) := dk_182 0 191 (dk_at dksX1_setLifts_1 20 rfl rfl)
theorem dX1_setLifts_46 : decode cX1_setLifts 46 = .ok (.aload_n 0, 1) := dk_42 (dk_at dksX1_setLifts_1 23 rfl rfl)
theorem dX1_setLifts_47 : decode cX1_setLifts 47 = .ok (.invokevirtual 173, 3) := dk_182 0 173 (dk_at dksX1_setLifts_2 0 rfl rfl)
theorem dX1_setLifts_50 : decode cX1_setLifts 50 = .ok (.iload 4, 2) := dk_21 4 (dk_at dksX1_setLifts_2 3 rfl rfl)
theorem dX1_setLifts_52 : decode cX1_setLifts 52 = .ok (.ireturn, 1) := dk_172 (dk_at dksX1_setLifts_2 5 rfl rfl)
abbrev cX1_lifts : ByteArray := prog_1_method_37_code
def yX1_lifts : MethodName := ⟨RX1, "lifts", "(I)I"⟩
def dkwX1_lifts_0 : List UInt8 := [42, 180, 0, 33, 27, 184, 0, 195, 192, 0, 44, 180, 0, 50, 172]
abbrev dktX1_lifts_0 : List UInt8 := dkwX1_lifts_0 ++ []
theorem dksX1_lifts_0 : cX1_lifts.data.toList.drop 0 = dktX1_lifts_0 := by decide +kernel
theorem dX1_lifts_0 : decode cX1_lifts 0 = .ok (.aload_n 0, 1) := dk_42 (dk_at dksX1_lifts_0 0 rfl rfl)
theorem dX1_lifts_1 : decode cX1_lifts 1 = .ok (.getfield 33, 3) := dk_180 0 33 (dk_at dksX1_lifts_0 1 rfl rfl)
theorem dX1_lifts_4 : decode cX1_lifts 4 = .ok (.iload_n 1, 1) := dk_27 (dk_at dksX1_lifts_0 4 rfl rfl)
theorem dX1_lifts_5 : decode cX1_lifts 5 = .ok (.invokestatic 195, 3) := dk_184 0 195 (dk_at dksX1_lifts_0 5 rfl rfl)
theorem dX1_lifts_8 : decode cX1_lifts 8 = .ok (.checkcast 44, 3) := dk_192 0 44 (dk_at dksX1_lifts_0 8 rfl rfl)
theorem dX1_lifts_11 : decode cX1_lifts 11 = .ok (.getfield 50, 3) := dk_180 0 50 (dk_at dksX1_lifts_0 11 rfl rfl)
theorem dX1_lifts_14 : decode cX1_lifts 14 = .ok (.ireturn, 1) := dk_172 (dk_at dksX1_lifts_0 14 rfl rfl)
abbrev cX1_levels : ByteArray := prog_1_method_38_code
def yX1_levels : MethodName := ⟨RX1, "levels", "(I)I"⟩
def dkwX1_levels_0 : List UInt8 := [42, 27, 182, 0, 199, 42, 27, 182, 0, 64, 172]
abbrev dktX1_levels_0 : List UInt8 := dkwX1_levels_0 ++ []
theorem dksX1_levels_0 : cX1_levels.data.toList.drop 0 = dktX1_levels_0 := by decide +kernel
theorem dX1_levels_0 : decode cX1_levels 0 = .ok (.aload_n 0, 1) := dk_42 (dk_at dksX1_levels_0 0 rfl rfl)
theorem dX1_levels_1 : decode cX1_levels 1 = .ok (.iload_n 1, 1) := dk_27 (dk_at dksX1_levels_0 1 rfl rfl)
theorem dX1_levels_2 : decode cX1_levels 2 = .ok (.invokevirtual 199, 3) := dk_182 0 199 (dk_at dksX1_levels_0 2 rfl rfl)
theorem dX1_levels_5 : decode cX1_levels 5 = .ok (.aload_n 0, 1) := dk_42 (dk_at dksX1_levels_0 5 rfl rfl)
theorem dX1_levels_6 : decode cX1_levels 6 = .ok (.iload_n 1, 1) := dk_27 (dk_at dksX1_levels_0 6 rfl rfl)
theorem dX1_levels_7 : decode cX1_levels 7 = .ok (.invokevirtual 64, 3) := dk_182 0 64 (dk_at dksX1_levels_0 7 rfl rfl)
theorem dX1_levels_10 : decode cX1_levels 10 = .ok (.ireturn, 1) := dk_172 (dk_at dksX1_levels_0 10 rfl rfl)
abbrev cX1_board : ByteArray := prog_1_method_40_code
def yX1_board : MethodName := ⟨RX1, "board", "(IIZ)Z"⟩
def dkwX1_board_2 : List UInt8 := [172]
abbrev dktX1_board_2 : List UInt8 := dkwX1_board_2 ++ []
def dkwX1_board_1 : List UInt8 := [54, 5, 25, 4, 180, 0, 213, 28, 29, 84, 21, 5, 29, 159, 0, 9, 42, 25, 4, 182, 0, 217, 21, 5]
abbrev dktX1_board_1 : List UInt8 := dkwX1_board_1 ++ dktX1_board_2
def dkwX1_board_0 : List UInt8 := [42, 27, 28, 182, 0, 208, 58, 4, 25, 4, 28, 182, 0, 212, 184, 0, 182, 25, 4, 180, 0, 213, 28, 51]
abbrev dktX1_board_0 : List UInt8 := dkwX1_board_0 ++ dktX1_board_1
theorem dksX1_board_0 : cX1_board.data.toList.drop 0 = dktX1_board_0 := by decide +kernel
theorem dksX1_board_1 : cX1_board.data.toList.drop 24 = dktX1_board_1 := dk_seg dksX1_board_0 24 rfl rfl
theorem dksX1_board_2 : cX1_board.data.toList.drop 48 = dktX1_board_2 := dk_seg dksX1_board_1 24 rfl rfl
theorem dX1_board_0 : decode cX1_board 0 = .ok (.aload_n 0, 1) := dk_42 (dk_at dksX1_board_0 0 rfl rfl)
theorem dX1_board_1 : decode cX1_board 1 = .ok (.iload_n 1, 1) := dk_27 (dk_at dksX1_board_0 1 rfl rfl)
theorem dX1_board_2 : decode cX1_board 2 = .ok (.iload_n 2, 1) := dk_28 (dk_at dksX1_board_0 2 rfl rfl)
theorem dX1_board_3 : decode cX1_board 3 = .ok (.invokevirtual 208, 3) := dk_182 0 208 (dk_at dksX1_board_0 3 rfl rfl)
theorem dX1_board_6 : decode cX1_board 6 = .ok (.astore 4, 2) := dk_58 4 (dk_at dksX1_board_0 6 rfl rfl)
theorem dX1_board_8 : decode cX1_board 8 = .ok (.aload 4, 2) := dk_25 4 (dk_at dksX1_board_0 8 rfl rfl)
theorem dX1_board_10 : decode cX1_board 10 = .ok (.iload_n 2, 1) := dk_28 (dk_at dksX1_board_0 10 rfl rfl)
theorem dX1_board_11 : decode cX1_board 11 = .ok (.invokevirtual 212, 3) := dk_182 0 212 (dk_at dksX1_board_0 11 rfl rfl)
theorem dX1_board_14 : decode cX1_board 14 = .ok (.invokestatic 182, 3) := dk_184 0 182 (dk_at dksX1_board_0 14 rfl rfl)
theorem dX1_board_17 : decode cX1_board 17 = .ok (.aload 4, 2) := dk_25 4 (dk_at dksX1_board_0 17 rfl rfl)
theorem dX1_board_19 : decode cX1_board 19 = .ok (.getfield 213, 3) := dk_180 0 213 (dk_at dksX1_board_0 19 rfl rfl)
theorem dX1_board_22 : decode cX1_board 22 = .ok (.iload_n 2, 1) := dk_28 (dk_at dksX1_board_0 22 rfl rfl)
theorem dX1_board_23 : decode cX1_board 23 = .ok (.baload, 1) := dk_51 (dk_at dksX1_board_0 23 rfl rfl)
theorem dX1_board_24 : decode cX1_board 24 = .ok (.istore 5, 2) := dk_54 5 (dk_at dksX1_board_1 0 rfl rfl)
theorem dX1_board_26 : decode cX1_board 26 = .ok (.aload 4, 2) := dk_25 4 (dk_at dksX1_board_1 2 rfl rfl)
theorem dX1_board_28 : decode cX1_board 28 = .ok (.getfield 213, 3) := dk_180 0 213 (dk_at dksX1_board_1 4 rfl rfl)
theorem dX1_board_31 : decode cX1_board 31 = .ok (.iload_n 2, 1) := dk_28 (dk_at dksX1_board_1 7 rfl rfl)
theorem dX1_board_32 : decode cX1_board 32 = .ok (.iload_n 3, 1) := dk_29 (dk_at dksX1_board_1 8 rfl rfl)
theorem dX1_board_33 : decode cX1_board 33 = .ok (.bastore, 1) := dk_84 (dk_at dksX1_board_1 9 rfl rfl)
theorem dX1_board_34 : decode cX1_board 34 = .ok (.iload 5, 2) := dk_21 5 (dk_at dksX1_board_1 10 rfl rfl)
theorem dX1_board_36 : decode cX1_board 36 = .ok (.iload_n 3, 1) := dk_29 (dk_at dksX1_board_1 12 rfl rfl)
theorem dX1_board_37 : decode cX1_board 37 = .ok (.if_icmp .eq 9, 3) := dk_159 0 9 (dk_at dksX1_board_1 13 rfl rfl)
theorem dX1_board_40 : decode cX1_board 40 = .ok (.aload_n 0, 1) := dk_42 (dk_at dksX1_board_1 16 rfl rfl)
theorem dX1_board_41 : decode cX1_board 41 = .ok (.aload 4, 2) := dk_25 4 (dk_at dksX1_board_1 17 rfl rfl)
theorem dX1_board_43 : decode cX1_board 43 = .ok (.invokevirtual 217, 3) := dk_182 0 217 (dk_at dksX1_board_1 19 rfl rfl)
theorem dX1_board_46 : decode cX1_board 46 = .ok (.iload 5, 2) := dk_21 5 (dk_at dksX1_board_1 22 rfl rfl)
theorem dX1_board_48 : decode cX1_board 48 = .ok (.ireturn, 1) := dk_172 (dk_at dksX1_board_2 0 rfl rfl)
abbrev cX1_levelOf : ByteArray := prog_1_method_39_code
def yX1_levelOf : MethodName := ⟨RX1, "levelOf", "(II)LScaffolder$Bay;"⟩
def dkwX1_levelOf_0 : List UInt8 := [42, 180, 0, 33, 27, 184, 0, 195, 192, 0, 44, 78, 28, 184, 0, 205, 45, 176]
abbrev dktX1_levelOf_0 : List UInt8 := dkwX1_levelOf_0 ++ []
theorem dksX1_levelOf_0 : cX1_levelOf.data.toList.drop 0 = dktX1_levelOf_0 := by decide +kernel
theorem dX1_levelOf_0 : decode cX1_levelOf 0 = .ok (.aload_n 0, 1) := dk_42 (dk_at dksX1_levelOf_0 0 rfl rfl)
theorem dX1_levelOf_1 : decode cX1_levelOf 1 = .ok (.getfield 33, 3) := dk_180 0 33 (dk_at dksX1_levelOf_0 1 rfl rfl)
theorem dX1_levelOf_4 : decode cX1_levelOf 4 = .ok (.iload_n 1, 1) := dk_27 (dk_at dksX1_levelOf_0 4 rfl rfl)
theorem dX1_levelOf_5 : decode cX1_levelOf 5 = .ok (.invokestatic 195, 3) := dk_184 0 195 (dk_at dksX1_levelOf_0 5 rfl rfl)
theorem dX1_levelOf_8 : decode cX1_levelOf 8 = .ok (.checkcast 44, 3) := dk_192 0 44 (dk_at dksX1_levelOf_0 8 rfl rfl)
theorem dX1_levelOf_11 : decode cX1_levelOf 11 = .ok (.astore_n 3, 1) := dk_78 (dk_at dksX1_levelOf_0 11 rfl rfl)
theorem dX1_levelOf_12 : decode cX1_levelOf 12 = .ok (.iload_n 2, 1) := dk_28 (dk_at dksX1_levelOf_0 12 rfl rfl)
theorem dX1_levelOf_13 : decode cX1_levelOf 13 = .ok (.invokestatic 205, 3) := dk_184 0 205 (dk_at dksX1_levelOf_0 13 rfl rfl)
theorem dX1_levelOf_16 : decode cX1_levelOf 16 = .ok (.aload_n 3, 1) := dk_45 (dk_at dksX1_levelOf_0 16 rfl rfl)
theorem dX1_levelOf_17 : decode cX1_levelOf 17 = .ok (.areturn, 1) := dk_176 (dk_at dksX1_levelOf_0 17 rfl rfl)
abbrev cX1_checkLevel : ByteArray := prog_1_method_6_code
def yX1_checkLevel : MethodName := ⟨RX1, "checkLevel", "(I)V"⟩
def dkwX1_checkLevel_0 : List UInt8 := [26, 3, 16, 7, 184, 0, 19, 184, 0, 25, 177]
abbrev dktX1_checkLevel_0 : List UInt8 := dkwX1_checkLevel_0 ++ []
theorem dksX1_checkLevel_0 : cX1_checkLevel.data.toList.drop 0 = dktX1_checkLevel_0 := by decide +kernel
theorem dX1_checkLevel_0 : decode cX1_checkLevel 0 = .ok (.iload_n 0, 1) := dk_26 (dk_at dksX1_checkLevel_0 0 rfl rfl)
theorem dX1_checkLevel_1 : decode cX1_checkLevel 1 = .ok (.iconst 0, 1) := dk_3 (dk_at dksX1_checkLevel_0 1 rfl rfl)
theorem dX1_checkLevel_2 : decode cX1_checkLevel 2 = .ok (.bipush 7, 2) := dk_16 7 (dk_at dksX1_checkLevel_0 2 rfl rfl)
theorem dX1_checkLevel_4 : decode cX1_checkLevel 4 = .ok (.invokestatic 19, 3) := dk_184 0 19 (dk_at dksX1_checkLevel_0 4 rfl rfl)
theorem dX1_checkLevel_7 : decode cX1_checkLevel 7 = .ok (.invokestatic 25, 3) := dk_184 0 25 (dk_at dksX1_checkLevel_0 7 rfl rfl)
theorem dX1_checkLevel_10 : decode cX1_checkLevel 10 = .ok (.return_, 1) := dk_177 (dk_at dksX1_checkLevel_0 10 rfl rfl)
abbrev cX1_withdraw : ByteArray := prog_1_method_17_code
def yX1_withdraw : MethodName := ⟨RX1, "withdraw", "(LScaffolder$Bay;)V"⟩
def dkwX1_withdraw_1 : List UInt8 := [185, 0, 29, 2, 0, 192, 0, 74, 182, 0, 76, 132, 3, 1, 167, 255, 230, 177]
abbrev dktX1_withdraw_1 : List UInt8 := dkwX1_withdraw_1 ++ []
def dkwX1_withdraw_0 : List UInt8 := [42, 43, 182, 0, 94, 77, 3, 62, 29, 44, 185, 0, 13, 1, 0, 162, 0, 22, 44, 29]
abbrev dktX1_withdraw_0 : List UInt8 := dkwX1_withdraw_0 ++ dktX1_withdraw_1
theorem dksX1_withdraw_0 : cX1_withdraw.data.toList.drop 0 = dktX1_withdraw_0 := by decide +kernel
theorem dksX1_withdraw_1 : cX1_withdraw.data.toList.drop 20 = dktX1_withdraw_1 := dk_seg dksX1_withdraw_0 20 rfl rfl
theorem dX1_withdraw_0 : decode cX1_withdraw 0 = .ok (.aload_n 0, 1) := dk_42 (dk_at dksX1_withdraw_0 0 rfl rfl)
theorem dX1_withdraw_1 : decode cX1_withdraw 1 = .ok (.aload_n 1, 1) := dk_43 (dk_at dksX1_withdraw_0 1 rfl rfl)
theorem dX1_withdraw_2 : decode cX1_withdraw 2 = .ok (.invokevirtual 94, 3) := dk_182 0 94 (dk_at dksX1_withdraw_0 2 rfl rfl)
theorem dX1_withdraw_5 : decode cX1_withdraw 5 = .ok (.astore_n 2, 1) := dk_77 (dk_at dksX1_withdraw_0 5 rfl rfl)
theorem dX1_withdraw_6 : decode cX1_withdraw 6 = .ok (.iconst 0, 1) := dk_3 (dk_at dksX1_withdraw_0 6 rfl rfl)
theorem dX1_withdraw_7 : decode cX1_withdraw 7 = .ok (.istore_n 3, 1) := dk_62 (dk_at dksX1_withdraw_0 7 rfl rfl)
theorem dX1_withdraw_8 : decode cX1_withdraw 8 = .ok (.iload_n 3, 1) := dk_29 (dk_at dksX1_withdraw_0 8 rfl rfl)
theorem dX1_withdraw_9 : decode cX1_withdraw 9 = .ok (.aload_n 2, 1) := dk_44 (dk_at dksX1_withdraw_0 9 rfl rfl)
theorem dX1_withdraw_10 : decode cX1_withdraw 10 = .ok (.invokeinterface 13 1, 5) := by decide +kernel
theorem dX1_withdraw_15 : decode cX1_withdraw 15 = .ok (.if_icmp .ge 22, 3) := dk_162 0 22 (dk_at dksX1_withdraw_0 15 rfl rfl)
theorem dX1_withdraw_18 : decode cX1_withdraw 18 = .ok (.aload_n 2, 1) := dk_44 (dk_at dksX1_withdraw_0 18 rfl rfl)
theorem dX1_withdraw_19 : decode cX1_withdraw 19 = .ok (.iload_n 3, 1) := dk_29 (dk_at dksX1_withdraw_0 19 rfl rfl)
theorem dX1_withdraw_20 : decode cX1_withdraw 20 = .ok (.invokeinterface 29 2, 5) := by decide +kernel
theorem dX1_withdraw_25 : decode cX1_withdraw 25 = .ok (.checkcast 74, 3) := dk_192 0 74 (dk_at dksX1_withdraw_1 5 rfl rfl)
theorem dX1_withdraw_28 : decode cX1_withdraw 28 = .ok (.invokevirtual 76, 3) := dk_182 0 76 (dk_at dksX1_withdraw_1 8 rfl rfl)
theorem dX1_withdraw_31 : decode cX1_withdraw 31 = .ok (.iinc 3 1, 3) := dk_132 3 1 (dk_at dksX1_withdraw_1 11 rfl rfl)
theorem dX1_withdraw_34 : decode cX1_withdraw 34 = .ok (.goto (-26), 3) := dk_167 255 230 (dk_at dksX1_withdraw_1 14 rfl rfl)
theorem dX1_withdraw_37 : decode cX1_withdraw 37 = .ok (.return_, 1) := dk_177 (dk_at dksX1_withdraw_1 17 rfl rfl)
abbrev cX1_facesAt : ByteArray := prog_1_method_16_code
def yX1_facesAt : MethodName := ⟨RX1, "facesAt", "(LScaffolder$Bay;)Ljava/util/List;"⟩
def dkwX1_facesAt_4 : List UInt8 := [167, 255, 172, 44, 176]
abbrev dktX1_facesAt_4 : List UInt8 := dkwX1_facesAt_4 ++ []
def dkwX1_facesAt_3 : List UInt8 := [44, 42, 180, 0, 71, 29, 185, 0, 29, 2, 0, 192, 0, 74, 185, 0, 90, 2, 0, 87, 132, 3, 1]
abbrev dktX1_facesAt_3 : List UInt8 := dkwX1_facesAt_3 ++ dktX1_facesAt_4
def dkwX1_facesAt_2 : List UInt8 := [180, 0, 71, 29, 185, 0, 29, 2, 0, 192, 0, 74, 43, 180, 0, 84, 4, 96, 182, 0, 87, 153, 0, 23]
abbrev dktX1_facesAt_2 : List UInt8 := dkwX1_facesAt_2 ++ dktX1_facesAt_3
def dkwX1_facesAt_1 : List UInt8 := [42, 180, 0, 71, 29, 185, 0, 29, 2, 0, 192, 0, 74, 43, 180, 0, 84, 182, 0, 87, 154, 0, 28, 42]
abbrev dktX1_facesAt_1 : List UInt8 := dkwX1_facesAt_1 ++ dktX1_facesAt_2
def dkwX1_facesAt_0 : List UInt8 := [187, 0, 79, 89, 8, 183, 0, 81, 77, 3, 62, 29, 42, 180, 0, 71, 185, 0, 13, 1, 0, 162, 0, 77]
abbrev dktX1_facesAt_0 : List UInt8 := dkwX1_facesAt_0 ++ dktX1_facesAt_1
theorem dksX1_facesAt_0 : cX1_facesAt.data.toList.drop 0 = dktX1_facesAt_0 := by decide +kernel
theorem dksX1_facesAt_1 : cX1_facesAt.data.toList.drop 24 = dktX1_facesAt_1 := dk_seg dksX1_facesAt_0 24 rfl rfl
theorem dksX1_facesAt_2 : cX1_facesAt.data.toList.drop 48 = dktX1_facesAt_2 := dk_seg dksX1_facesAt_1 24 rfl rfl
theorem dksX1_facesAt_3 : cX1_facesAt.data.toList.drop 72 = dktX1_facesAt_3 := dk_seg dksX1_facesAt_2 24 rfl rfl
theorem dksX1_facesAt_4 : cX1_facesAt.data.toList.drop 95 = dktX1_facesAt_4 := dk_seg dksX1_facesAt_3 23 rfl rfl
theorem dX1_facesAt_0 : decode cX1_facesAt 0 = .ok (.new 79, 3) := dk_187 0 79 (dk_at dksX1_facesAt_0 0 rfl rfl)
theorem dX1_facesAt_3 : decode cX1_facesAt 3 = .ok (.dup, 1) := dk_89 (dk_at dksX1_facesAt_0 3 rfl rfl)
theorem dX1_facesAt_4 : decode cX1_facesAt 4 = .ok (.iconst 5, 1) := dk_8 (dk_at dksX1_facesAt_0 4 rfl rfl)
theorem dX1_facesAt_5 : decode cX1_facesAt 5 = .ok (.invokespecial 81, 3) := dk_183 0 81 (dk_at dksX1_facesAt_0 5 rfl rfl)
theorem dX1_facesAt_8 : decode cX1_facesAt 8 = .ok (.astore_n 2, 1) := dk_77 (dk_at dksX1_facesAt_0 8 rfl rfl)
theorem dX1_facesAt_9 : decode cX1_facesAt 9 = .ok (.iconst 0, 1) := dk_3 (dk_at dksX1_facesAt_0 9 rfl rfl)
theorem dX1_facesAt_10 : decode cX1_facesAt 10 = .ok (.istore_n 3, 1) := dk_62 (dk_at dksX1_facesAt_0 10 rfl rfl)
theorem dX1_facesAt_11 : decode cX1_facesAt 11 = .ok (.iload_n 3, 1) := dk_29 (dk_at dksX1_facesAt_0 11 rfl rfl)
theorem dX1_facesAt_12 : decode cX1_facesAt 12 = .ok (.aload_n 0, 1) := dk_42 (dk_at dksX1_facesAt_0 12 rfl rfl)
theorem dX1_facesAt_13 : decode cX1_facesAt 13 = .ok (.getfield 71, 3) := dk_180 0 71 (dk_at dksX1_facesAt_0 13 rfl rfl)
theorem dX1_facesAt_16 : decode cX1_facesAt 16 = .ok (.invokeinterface 13 1, 5) := by decide +kernel
theorem dX1_facesAt_21 : decode cX1_facesAt 21 = .ok (.if_icmp .ge 77, 3) := dk_162 0 77 (dk_at dksX1_facesAt_0 21 rfl rfl)
theorem dX1_facesAt_24 : decode cX1_facesAt 24 = .ok (.aload_n 0, 1) := dk_42 (dk_at dksX1_facesAt_1 0 rfl rfl)
theorem dX1_facesAt_25 : decode cX1_facesAt 25 = .ok (.getfield 71, 3) := dk_180 0 71 (dk_at dksX1_facesAt_1 1 rfl rfl)
theorem dX1_facesAt_28 : decode cX1_facesAt 28 = .ok (.iload_n 3, 1) := dk_29 (dk_at dksX1_facesAt_1 4 rfl rfl)
theorem dX1_facesAt_29 : decode cX1_facesAt 29 = .ok (.invokeinterface 29 2, 5) := by decide +kernel
theorem dX1_facesAt_34 : decode cX1_facesAt 34 = .ok (.checkcast 74, 3) := dk_192 0 74 (dk_at dksX1_facesAt_1 10 rfl rfl)
theorem dX1_facesAt_37 : decode cX1_facesAt 37 = .ok (.aload_n 1, 1) := dk_43 (dk_at dksX1_facesAt_1 13 rfl rfl)
theorem dX1_facesAt_38 : decode cX1_facesAt 38 = .ok (.getfield 84, 3) := dk_180 0 84 (dk_at dksX1_facesAt_1 14 rfl rfl)
theorem dX1_facesAt_41 : decode cX1_facesAt 41 = .ok (.invokevirtual 87, 3) := dk_182 0 87 (dk_at dksX1_facesAt_1 17 rfl rfl)
theorem dX1_facesAt_44 : decode cX1_facesAt 44 = .ok (.ifCond .ne 28, 3) := dk_154 0 28 (dk_at dksX1_facesAt_1 20 rfl rfl)
theorem dX1_facesAt_47 : decode cX1_facesAt 47 = .ok (.aload_n 0, 1) := dk_42 (dk_at dksX1_facesAt_1 23 rfl rfl)
theorem dX1_facesAt_48 : decode cX1_facesAt 48 = .ok (.getfield 71, 3) := dk_180 0 71 (dk_at dksX1_facesAt_2 0 rfl rfl)
theorem dX1_facesAt_51 : decode cX1_facesAt 51 = .ok (.iload_n 3, 1) := dk_29 (dk_at dksX1_facesAt_2 3 rfl rfl)
theorem dX1_facesAt_52 : decode cX1_facesAt 52 = .ok (.invokeinterface 29 2, 5) := by decide +kernel
theorem dX1_facesAt_57 : decode cX1_facesAt 57 = .ok (.checkcast 74, 3) := dk_192 0 74 (dk_at dksX1_facesAt_2 9 rfl rfl)
theorem dX1_facesAt_60 : decode cX1_facesAt 60 = .ok (.aload_n 1, 1) := dk_43 (dk_at dksX1_facesAt_2 12 rfl rfl)
theorem dX1_facesAt_61 : decode cX1_facesAt 61 = .ok (.getfield 84, 3) := dk_180 0 84 (dk_at dksX1_facesAt_2 13 rfl rfl)
theorem dX1_facesAt_64 : decode cX1_facesAt 64 = .ok (.iconst 1, 1) := dk_4 (dk_at dksX1_facesAt_2 16 rfl rfl)
theorem dX1_facesAt_65 : decode cX1_facesAt 65 = .ok (.iadd, 1) := dk_96 (dk_at dksX1_facesAt_2 17 rfl rfl)
theorem dX1_facesAt_66 : decode cX1_facesAt 66 = .ok (.invokevirtual 87, 3) := dk_182 0 87 (dk_at dksX1_facesAt_2 18 rfl rfl)
theorem dX1_facesAt_69 : decode cX1_facesAt 69 = .ok (.ifCond .eq 23, 3) := dk_153 0 23 (dk_at dksX1_facesAt_2 21 rfl rfl)
theorem dX1_facesAt_72 : decode cX1_facesAt 72 = .ok (.aload_n 2, 1) := dk_44 (dk_at dksX1_facesAt_3 0 rfl rfl)
theorem dX1_facesAt_73 : decode cX1_facesAt 73 = .ok (.aload_n 0, 1) := dk_42 (dk_at dksX1_facesAt_3 1 rfl rfl)
theorem dX1_facesAt_74 : decode cX1_facesAt 74 = .ok (.getfield 71, 3) := dk_180 0 71 (dk_at dksX1_facesAt_3 2 rfl rfl)
theorem dX1_facesAt_77 : decode cX1_facesAt 77 = .ok (.iload_n 3, 1) := dk_29 (dk_at dksX1_facesAt_3 5 rfl rfl)
theorem dX1_facesAt_78 : decode cX1_facesAt 78 = .ok (.invokeinterface 29 2, 5) := by decide +kernel
theorem dX1_facesAt_83 : decode cX1_facesAt 83 = .ok (.checkcast 74, 3) := dk_192 0 74 (dk_at dksX1_facesAt_3 11 rfl rfl)
theorem dX1_facesAt_86 : decode cX1_facesAt 86 = .ok (.invokeinterface 90 2, 5) := by decide +kernel
theorem dX1_facesAt_91 : decode cX1_facesAt 91 = .ok (.pop, 1) := dk_87 (dk_at dksX1_facesAt_3 19 rfl rfl)
theorem dX1_facesAt_92 : decode cX1_facesAt 92 = .ok (.iinc 3 1, 3) := dk_132 3 1 (dk_at dksX1_facesAt_3 20 rfl rfl)
theorem dX1_facesAt_95 : decode cX1_facesAt 95 = .ok (.goto (-84), 3) := dk_167 255 172 (dk_at dksX1_facesAt_4 0 rfl rfl)
theorem dX1_facesAt_98 : decode cX1_facesAt 98 = .ok (.aload_n 2, 1) := dk_44 (dk_at dksX1_facesAt_4 3 rfl rfl)
theorem dX1_facesAt_99 : decode cX1_facesAt 99 = .ok (.areturn, 1) := dk_176 (dk_at dksX1_facesAt_4 4 rfl rfl)
abbrev cX1_setClass : ByteArray := prog_1_method_41_code
def yX1_setClass : MethodName := ⟨RX1, "setClass", "(III)I"⟩
def dkwX1_setClass_2 : List UInt8 := [159, 0, 9, 42, 25, 4, 182, 0, 217, 21, 5, 172]
abbrev dktX1_setClass_2 : List UInt8 := dkwX1_setClass_2 ++ []
def dkwX1_setClass_1 : List UInt8 := [184, 0, 182, 25, 4, 180, 0, 220, 28, 46, 54, 5, 25, 4, 180, 0, 220, 28, 29, 79, 21, 5, 29]
abbrev dktX1_setClass_1 : List UInt8 := dkwX1_setClass_1 ++ dktX1_setClass_2
def dkwX1_setClass_0 : List UInt8 := [42, 27, 28, 182, 0, 208, 58, 4, 29, 3, 16, 6, 184, 0, 19, 184, 0, 179, 25, 4, 28, 182, 0, 212]
abbrev dktX1_setClass_0 : List UInt8 := dkwX1_setClass_0 ++ dktX1_setClass_1
theorem dksX1_setClass_0 : cX1_setClass.data.toList.drop 0 = dktX1_setClass_0 := by decide +kernel
theorem dksX1_setClass_1 : cX1_setClass.data.toList.drop 24 = dktX1_setClass_1 := dk_seg dksX1_setClass_0 24 rfl rfl
theorem dksX1_setClass_2 : cX1_setClass.data.toList.drop 47 = dktX1_setClass_2 := dk_seg dksX1_setClass_1 23 rfl rfl
theorem dX1_setClass_0 : decode cX1_setClass 0 = .ok (.aload_n 0, 1) := dk_42 (dk_at dksX1_setClass_0 0 rfl rfl)
theorem dX1_setClass_1 : decode cX1_setClass 1 = .ok (.iload_n 1, 1) := dk_27 (dk_at dksX1_setClass_0 1 rfl rfl)
theorem dX1_setClass_2 : decode cX1_setClass 2 = .ok (.iload_n 2, 1) := dk_28 (dk_at dksX1_setClass_0 2 rfl rfl)
theorem dX1_setClass_3 : decode cX1_setClass 3 = .ok (.invokevirtual 208, 3) := dk_182 0 208 (dk_at dksX1_setClass_0 3 rfl rfl)
theorem dX1_setClass_6 : decode cX1_setClass 6 = .ok (.astore 4, 2) := dk_58 4 (dk_at dksX1_setClass_0 6 rfl rfl)
theorem dX1_setClass_8 : decode cX1_setClass 8 = .ok (.iload_n 3, 1) := dk_29 (dk_at dksX1_setClass_0 8 rfl rfl)
theorem dX1_setClass_9 : decode cX1_setClass 9 = .ok (.iconst 0, 1) := dk_3 (dk_at dksX1_setClass_0 9 rfl rfl)
theorem dX1_setClass_10 : decode cX1_setClass 10 = .ok (.bipush 6, 2) := dk_16 6 (dk_at dksX1_setClass_0 10 rfl rfl)
theorem dX1_setClass_12 : decode cX1_setClass 12 = .ok (.invokestatic 19, 3) := dk_184 0 19 (dk_at dksX1_setClass_0 12 rfl rfl)
theorem dX1_setClass_15 : decode cX1_setClass 15 = .ok (.invokestatic 179, 3) := dk_184 0 179 (dk_at dksX1_setClass_0 15 rfl rfl)
theorem dX1_setClass_18 : decode cX1_setClass 18 = .ok (.aload 4, 2) := dk_25 4 (dk_at dksX1_setClass_0 18 rfl rfl)
theorem dX1_setClass_20 : decode cX1_setClass 20 = .ok (.iload_n 2, 1) := dk_28 (dk_at dksX1_setClass_0 20 rfl rfl)
theorem dX1_setClass_21 : decode cX1_setClass 21 = .ok (.invokevirtual 212, 3) := dk_182 0 212 (dk_at dksX1_setClass_0 21 rfl rfl)
theorem dX1_setClass_24 : decode cX1_setClass 24 = .ok (.invokestatic 182, 3) := dk_184 0 182 (dk_at dksX1_setClass_1 0 rfl rfl)
theorem dX1_setClass_27 : decode cX1_setClass 27 = .ok (.aload 4, 2) := dk_25 4 (dk_at dksX1_setClass_1 3 rfl rfl)
theorem dX1_setClass_29 : decode cX1_setClass 29 = .ok (.getfield 220, 3) := dk_180 0 220 (dk_at dksX1_setClass_1 5 rfl rfl)
theorem dX1_setClass_32 : decode cX1_setClass 32 = .ok (.iload_n 2, 1) := dk_28 (dk_at dksX1_setClass_1 8 rfl rfl)
theorem dX1_setClass_33 : decode cX1_setClass 33 = .ok (.iaload, 1) := dk_46 (dk_at dksX1_setClass_1 9 rfl rfl)
theorem dX1_setClass_34 : decode cX1_setClass 34 = .ok (.istore 5, 2) := dk_54 5 (dk_at dksX1_setClass_1 10 rfl rfl)
theorem dX1_setClass_36 : decode cX1_setClass 36 = .ok (.aload 4, 2) := dk_25 4 (dk_at dksX1_setClass_1 12 rfl rfl)
theorem dX1_setClass_38 : decode cX1_setClass 38 = .ok (.getfield 220, 3) := dk_180 0 220 (dk_at dksX1_setClass_1 14 rfl rfl)
theorem dX1_setClass_41 : decode cX1_setClass 41 = .ok (.iload_n 2, 1) := dk_28 (dk_at dksX1_setClass_1 17 rfl rfl)
theorem dX1_setClass_42 : decode cX1_setClass 42 = .ok (.iload_n 3, 1) := dk_29 (dk_at dksX1_setClass_1 18 rfl rfl)
theorem dX1_setClass_43 : decode cX1_setClass 43 = .ok (.iastore, 1) := dk_79 (dk_at dksX1_setClass_1 19 rfl rfl)
theorem dX1_setClass_44 : decode cX1_setClass 44 = .ok (.iload 5, 2) := dk_21 5 (dk_at dksX1_setClass_1 20 rfl rfl)
theorem dX1_setClass_46 : decode cX1_setClass 46 = .ok (.iload_n 3, 1) := dk_29 (dk_at dksX1_setClass_1 22 rfl rfl)
theorem dX1_setClass_47 : decode cX1_setClass 47 = .ok (.if_icmp .eq 9, 3) := dk_159 0 9 (dk_at dksX1_setClass_2 0 rfl rfl)
theorem dX1_setClass_50 : decode cX1_setClass 50 = .ok (.aload_n 0, 1) := dk_42 (dk_at dksX1_setClass_2 3 rfl rfl)
theorem dX1_setClass_51 : decode cX1_setClass 51 = .ok (.aload 4, 2) := dk_25 4 (dk_at dksX1_setClass_2 4 rfl rfl)
theorem dX1_setClass_53 : decode cX1_setClass 53 = .ok (.invokevirtual 217, 3) := dk_182 0 217 (dk_at dksX1_setClass_2 6 rfl rfl)
theorem dX1_setClass_56 : decode cX1_setClass 56 = .ok (.iload 5, 2) := dk_21 5 (dk_at dksX1_setClass_2 9 rfl rfl)
theorem dX1_setClass_58 : decode cX1_setClass 58 = .ok (.ireturn, 1) := dk_172 (dk_at dksX1_setClass_2 11 rfl rfl)
abbrev cX1_lay : ByteArray := prog_1_method_43_code
def yX1_lay : MethodName := ⟨RX1, "lay", "(III)I"⟩
def dkwX1_lay_2 : List UInt8 := [184, 0, 182, 25, 4, 180, 0, 224, 28, 46, 54, 5, 25, 4, 180, 0, 224, 28, 29, 79, 21, 5, 172]
abbrev dktX1_lay_2 : List UInt8 := dkwX1_lay_2 ++ []
def dkwX1_lay_1 : List UInt8 := [182, 0, 212, 153, 0, 18, 42, 25, 4, 28, 29, 182, 0, 233, 153, 0, 7, 4, 167, 0, 4, 3]
abbrev dktX1_lay_1 : List UInt8 := dkwX1_lay_1 ++ dktX1_lay_2
def dkwX1_lay_0 : List UInt8 := [42, 27, 28, 182, 0, 208, 58, 4, 29, 3, 17, 2, 88, 184, 0, 19, 184, 0, 179, 25, 4, 28]
abbrev dktX1_lay_0 : List UInt8 := dkwX1_lay_0 ++ dktX1_lay_1
theorem dksX1_lay_0 : cX1_lay.data.toList.drop 0 = dktX1_lay_0 := by decide +kernel
theorem dksX1_lay_1 : cX1_lay.data.toList.drop 22 = dktX1_lay_1 := dk_seg dksX1_lay_0 22 rfl rfl
theorem dksX1_lay_2 : cX1_lay.data.toList.drop 44 = dktX1_lay_2 := dk_seg dksX1_lay_1 22 rfl rfl
theorem dX1_lay_0 : decode cX1_lay 0 = .ok (.aload_n 0, 1) := dk_42 (dk_at dksX1_lay_0 0 rfl rfl)
theorem dX1_lay_1 : decode cX1_lay 1 = .ok (.iload_n 1, 1) := dk_27 (dk_at dksX1_lay_0 1 rfl rfl)
theorem dX1_lay_2 : decode cX1_lay 2 = .ok (.iload_n 2, 1) := dk_28 (dk_at dksX1_lay_0 2 rfl rfl)
theorem dX1_lay_3 : decode cX1_lay 3 = .ok (.invokevirtual 208, 3) := dk_182 0 208 (dk_at dksX1_lay_0 3 rfl rfl)
theorem dX1_lay_6 : decode cX1_lay 6 = .ok (.astore 4, 2) := dk_58 4 (dk_at dksX1_lay_0 6 rfl rfl)
theorem dX1_lay_8 : decode cX1_lay 8 = .ok (.iload_n 3, 1) := dk_29 (dk_at dksX1_lay_0 8 rfl rfl)
theorem dX1_lay_9 : decode cX1_lay 9 = .ok (.iconst 0, 1) := dk_3 (dk_at dksX1_lay_0 9 rfl rfl)
theorem dX1_lay_10 : decode cX1_lay 10 = .ok (.sipush 600, 3) := dk_17 2 88 (dk_at dksX1_lay_0 10 rfl rfl)
theorem dX1_lay_13 : decode cX1_lay 13 = .ok (.invokestatic 19, 3) := dk_184 0 19 (dk_at dksX1_lay_0 13 rfl rfl)
theorem dX1_lay_16 : decode cX1_lay 16 = .ok (.invokestatic 179, 3) := dk_184 0 179 (dk_at dksX1_lay_0 16 rfl rfl)
theorem dX1_lay_19 : decode cX1_lay 19 = .ok (.aload 4, 2) := dk_25 4 (dk_at dksX1_lay_0 19 rfl rfl)
theorem dX1_lay_21 : decode cX1_lay 21 = .ok (.iload_n 2, 1) := dk_28 (dk_at dksX1_lay_0 21 rfl rfl)
theorem dX1_lay_22 : decode cX1_lay 22 = .ok (.invokevirtual 212, 3) := dk_182 0 212 (dk_at dksX1_lay_1 0 rfl rfl)
theorem dX1_lay_25 : decode cX1_lay 25 = .ok (.ifCond .eq 18, 3) := dk_153 0 18 (dk_at dksX1_lay_1 3 rfl rfl)
theorem dX1_lay_28 : decode cX1_lay 28 = .ok (.aload_n 0, 1) := dk_42 (dk_at dksX1_lay_1 6 rfl rfl)
theorem dX1_lay_29 : decode cX1_lay 29 = .ok (.aload 4, 2) := dk_25 4 (dk_at dksX1_lay_1 7 rfl rfl)
theorem dX1_lay_31 : decode cX1_lay 31 = .ok (.iload_n 2, 1) := dk_28 (dk_at dksX1_lay_1 9 rfl rfl)
theorem dX1_lay_32 : decode cX1_lay 32 = .ok (.iload_n 3, 1) := dk_29 (dk_at dksX1_lay_1 10 rfl rfl)
theorem dX1_lay_33 : decode cX1_lay 33 = .ok (.invokevirtual 233, 3) := dk_182 0 233 (dk_at dksX1_lay_1 11 rfl rfl)
theorem dX1_lay_36 : decode cX1_lay 36 = .ok (.ifCond .eq 7, 3) := dk_153 0 7 (dk_at dksX1_lay_1 14 rfl rfl)
theorem dX1_lay_39 : decode cX1_lay 39 = .ok (.iconst 1, 1) := dk_4 (dk_at dksX1_lay_1 17 rfl rfl)
theorem dX1_lay_40 : decode cX1_lay 40 = .ok (.goto 4, 3) := dk_167 0 4 (dk_at dksX1_lay_1 18 rfl rfl)
theorem dX1_lay_43 : decode cX1_lay 43 = .ok (.iconst 0, 1) := dk_3 (dk_at dksX1_lay_1 21 rfl rfl)
theorem dX1_lay_44 : decode cX1_lay 44 = .ok (.invokestatic 182, 3) := dk_184 0 182 (dk_at dksX1_lay_2 0 rfl rfl)
theorem dX1_lay_47 : decode cX1_lay 47 = .ok (.aload 4, 2) := dk_25 4 (dk_at dksX1_lay_2 3 rfl rfl)
theorem dX1_lay_49 : decode cX1_lay 49 = .ok (.getfield 224, 3) := dk_180 0 224 (dk_at dksX1_lay_2 5 rfl rfl)
theorem dX1_lay_52 : decode cX1_lay 52 = .ok (.iload_n 2, 1) := dk_28 (dk_at dksX1_lay_2 8 rfl rfl)
theorem dX1_lay_53 : decode cX1_lay 53 = .ok (.iaload, 1) := dk_46 (dk_at dksX1_lay_2 9 rfl rfl)
theorem dX1_lay_54 : decode cX1_lay 54 = .ok (.istore 5, 2) := dk_54 5 (dk_at dksX1_lay_2 10 rfl rfl)
theorem dX1_lay_56 : decode cX1_lay 56 = .ok (.aload 4, 2) := dk_25 4 (dk_at dksX1_lay_2 12 rfl rfl)
theorem dX1_lay_58 : decode cX1_lay 58 = .ok (.getfield 224, 3) := dk_180 0 224 (dk_at dksX1_lay_2 14 rfl rfl)
theorem dX1_lay_61 : decode cX1_lay 61 = .ok (.iload_n 2, 1) := dk_28 (dk_at dksX1_lay_2 17 rfl rfl)
theorem dX1_lay_62 : decode cX1_lay 62 = .ok (.iload_n 3, 1) := dk_29 (dk_at dksX1_lay_2 18 rfl rfl)
theorem dX1_lay_63 : decode cX1_lay 63 = .ok (.iastore, 1) := dk_79 (dk_at dksX1_lay_2 19 rfl rfl)
theorem dX1_lay_64 : decode cX1_lay 64 = .ok (.iload 5, 2) := dk_21 5 (dk_at dksX1_lay_2 20 rfl rfl)
theorem dX1_lay_66 : decode cX1_lay 66 = .ok (.ireturn, 1) := dk_172 (dk_at dksX1_lay_2 22 rfl rfl)
abbrev cX1_canLay : ByteArray := prog_1_method_42_code
def yX1_canLay : MethodName := ⟨RX1, "canLay", "(LScaffolder$Bay;II)Z"⟩
def dkwX1_canLay_3 : List UInt8 := [185, 0, 29, 2, 0, 192, 0, 74, 182, 0, 230, 126, 54, 4, 132, 6, 1, 167, 255, 221, 21, 4, 172]
abbrev dktX1_canLay_3 : List UInt8 := dkwX1_canLay_3 ++ []
def dkwX1_canLay_2 : List UInt8 := [58, 5, 3, 54, 6, 21, 6, 25, 5, 185, 0, 13, 1, 0, 162, 0, 29, 21, 4, 25, 5, 21, 6]
abbrev dktX1_canLay_2 : List UInt8 := dkwX1_canLay_2 ++ dktX1_canLay_3
def dkwX1_canLay_1 : List UInt8 := [180, 0, 220, 28, 46, 184, 0, 227, 163, 0, 7, 4, 167, 0, 4, 3, 54, 4, 42, 43, 182, 0, 94]
abbrev dktX1_canLay_1 : List UInt8 := dkwX1_canLay_1 ++ dktX1_canLay_2
def dkwX1_canLay_0 : List UInt8 := [29, 43, 180, 0, 224, 28, 46, 163, 0, 5, 4, 172, 43, 180, 0, 213, 28, 51, 153, 0, 20, 29, 43]
abbrev dktX1_canLay_0 : List UInt8 := dkwX1_canLay_0 ++ dktX1_canLay_1
theorem dksX1_canLay_0 : cX1_canLay.data.toList.drop 0 = dktX1_canLay_0 := by decide +kernel
theorem dksX1_canLay_1 : cX1_canLay.data.toList.drop 23 = dktX1_canLay_1 := dk_seg dksX1_canLay_0 23 rfl rfl
theorem dksX1_canLay_2 : cX1_canLay.data.toList.drop 46 = dktX1_canLay_2 := dk_seg dksX1_canLay_1 23 rfl rfl
theorem dksX1_canLay_3 : cX1_canLay.data.toList.drop 69 = dktX1_canLay_3 := dk_seg dksX1_canLay_2 23 rfl rfl
theorem dX1_canLay_0 : decode cX1_canLay 0 = .ok (.iload_n 3, 1) := dk_29 (dk_at dksX1_canLay_0 0 rfl rfl)
theorem dX1_canLay_1 : decode cX1_canLay 1 = .ok (.aload_n 1, 1) := dk_43 (dk_at dksX1_canLay_0 1 rfl rfl)
theorem dX1_canLay_2 : decode cX1_canLay 2 = .ok (.getfield 224, 3) := dk_180 0 224 (dk_at dksX1_canLay_0 2 rfl rfl)
theorem dX1_canLay_5 : decode cX1_canLay 5 = .ok (.iload_n 2, 1) := dk_28 (dk_at dksX1_canLay_0 5 rfl rfl)
theorem dX1_canLay_6 : decode cX1_canLay 6 = .ok (.iaload, 1) := dk_46 (dk_at dksX1_canLay_0 6 rfl rfl)
theorem dX1_canLay_7 : decode cX1_canLay 7 = .ok (.if_icmp .gt 5, 3) := dk_163 0 5 (dk_at dksX1_canLay_0 7 rfl rfl)
theorem dX1_canLay_10 : decode cX1_canLay 10 = .ok (.iconst 1, 1) := dk_4 (dk_at dksX1_canLay_0 10 rfl rfl)
theorem dX1_canLay_11 : decode cX1_canLay 11 = .ok (.ireturn, 1) := dk_172 (dk_at dksX1_canLay_0 11 rfl rfl)
theorem dX1_canLay_12 : decode cX1_canLay 12 = .ok (.aload_n 1, 1) := dk_43 (dk_at dksX1_canLay_0 12 rfl rfl)
theorem dX1_canLay_13 : decode cX1_canLay 13 = .ok (.getfield 213, 3) := dk_180 0 213 (dk_at dksX1_canLay_0 13 rfl rfl)
theorem dX1_canLay_16 : decode cX1_canLay 16 = .ok (.iload_n 2, 1) := dk_28 (dk_at dksX1_canLay_0 16 rfl rfl)
theorem dX1_canLay_17 : decode cX1_canLay 17 = .ok (.baload, 1) := dk_51 (dk_at dksX1_canLay_0 17 rfl rfl)
theorem dX1_canLay_18 : decode cX1_canLay 18 = .ok (.ifCond .eq 20, 3) := dk_153 0 20 (dk_at dksX1_canLay_0 18 rfl rfl)
theorem dX1_canLay_21 : decode cX1_canLay 21 = .ok (.iload_n 3, 1) := dk_29 (dk_at dksX1_canLay_0 21 rfl rfl)
theorem dX1_canLay_22 : decode cX1_canLay 22 = .ok (.aload_n 1, 1) := dk_43 (dk_at dksX1_canLay_0 22 rfl rfl)
theorem dX1_canLay_23 : decode cX1_canLay 23 = .ok (.getfield 220, 3) := dk_180 0 220 (dk_at dksX1_canLay_1 0 rfl rfl)
theorem dX1_canLay_26 : decode cX1_canLay 26 = .ok (.iload_n 2, 1) := dk_28 (dk_at dksX1_canLay_1 3 rfl rfl)
theorem dX1_canLay_27 : decode cX1_canLay 27 = .ok (.iaload, 1) := dk_46 (dk_at dksX1_canLay_1 4 rfl rfl)
theorem dX1_canLay_28 : decode cX1_canLay 28 = .ok (.invokestatic 227, 3) := dk_184 0 227 (dk_at dksX1_canLay_1 5 rfl rfl)
theorem dX1_canLay_31 : decode cX1_canLay 31 = .ok (.if_icmp .gt 7, 3) := dk_163 0 7 (dk_at dksX1_canLay_1 8 rfl rfl)
theorem dX1_canLay_34 : decode cX1_canLay 34 = .ok (.iconst 1, 1) := dk_4 (dk_at dksX1_canLay_1 11 rfl rfl)
theorem dX1_canLay_35 : decode cX1_canLay 35 = .ok (.goto 4, 3) := dk_167 0 4 (dk_at dksX1_canLay_1 12 rfl rfl)
theorem dX1_canLay_38 : decode cX1_canLay 38 = .ok (.iconst 0, 1) := dk_3 (dk_at dksX1_canLay_1 15 rfl rfl)
theorem dX1_canLay_39 : decode cX1_canLay 39 = .ok (.istore 4, 2) := dk_54 4 (dk_at dksX1_canLay_1 16 rfl rfl)
theorem dX1_canLay_41 : decode cX1_canLay 41 = .ok (.aload_n 0, 1) := dk_42 (dk_at dksX1_canLay_1 18 rfl rfl)
theorem dX1_canLay_42 : decode cX1_canLay 42 = .ok (.aload_n 1, 1) := dk_43 (dk_at dksX1_canLay_1 19 rfl rfl)
theorem dX1_canLay_43 : decode cX1_canLay 43 = .ok (.invokevirtual 94, 3) := dk_182 0 94 (dk_at dksX1_canLay_1 20 rfl rfl)
theorem dX1_canLay_46 : decode cX1_canLay 46 = .ok (.astore 5, 2) := dk_58 5 (dk_at dksX1_canLay_2 0 rfl rfl)
theorem dX1_canLay_48 : decode cX1_canLay 48 = .ok (.iconst 0, 1) := dk_3 (dk_at dksX1_canLay_2 2 rfl rfl)
theorem dX1_canLay_49 : decode cX1_canLay 49 = .ok (.istore 6, 2) := dk_54 6 (dk_at dksX1_canLay_2 3 rfl rfl)
theorem dX1_canLay_51 : decode cX1_canLay 51 = .ok (.iload 6, 2) := dk_21 6 (dk_at dksX1_canLay_2 5 rfl rfl)
theorem dX1_canLay_53 : decode cX1_canLay 53 = .ok (.aload 5, 2) := dk_25 5 (dk_at dksX1_canLay_2 7 rfl rfl)
theorem dX1_canLay_55 : decode cX1_canLay 55 = .ok (.invokeinterface 13 1, 5) := by decide +kernel
theorem dX1_canLay_60 : decode cX1_canLay 60 = .ok (.if_icmp .ge 29, 3) := dk_162 0 29 (dk_at dksX1_canLay_2 14 rfl rfl)
theorem dX1_canLay_63 : decode cX1_canLay 63 = .ok (.iload 4, 2) := dk_21 4 (dk_at dksX1_canLay_2 17 rfl rfl)
theorem dX1_canLay_65 : decode cX1_canLay 65 = .ok (.aload 5, 2) := dk_25 5 (dk_at dksX1_canLay_2 19 rfl rfl)
theorem dX1_canLay_67 : decode cX1_canLay 67 = .ok (.iload 6, 2) := dk_21 6 (dk_at dksX1_canLay_2 21 rfl rfl)
theorem dX1_canLay_69 : decode cX1_canLay 69 = .ok (.invokeinterface 29 2, 5) := by decide +kernel
theorem dX1_canLay_74 : decode cX1_canLay 74 = .ok (.checkcast 74, 3) := dk_192 0 74 (dk_at dksX1_canLay_3 5 rfl rfl)
theorem dX1_canLay_77 : decode cX1_canLay 77 = .ok (.invokevirtual 230, 3) := dk_182 0 230 (dk_at dksX1_canLay_3 8 rfl rfl)
theorem dX1_canLay_80 : decode cX1_canLay 80 = .ok (.iand, 1) := dk_126 (dk_at dksX1_canLay_3 11 rfl rfl)
theorem dX1_canLay_81 : decode cX1_canLay 81 = .ok (.istore 4, 2) := dk_54 4 (dk_at dksX1_canLay_3 12 rfl rfl)
theorem dX1_canLay_83 : decode cX1_canLay 83 = .ok (.iinc 6 1, 3) := dk_132 6 1 (dk_at dksX1_canLay_3 14 rfl rfl)
theorem dX1_canLay_86 : decode cX1_canLay 86 = .ok (.goto (-35), 3) := dk_167 255 221 (dk_at dksX1_canLay_3 17 rfl rfl)
theorem dX1_canLay_89 : decode cX1_canLay 89 = .ok (.iload 4, 2) := dk_21 4 (dk_at dksX1_canLay_3 20 rfl rfl)
theorem dX1_canLay_91 : decode cX1_canLay 91 = .ok (.ireturn, 1) := dk_172 (dk_at dksX1_canLay_3 22 rfl rfl)
abbrev cX1_bayAt : ByteArray := prog_1_method_44_code
def yX1_bayAt : MethodName := ⟨RX1, "bayAt", "(III)I"⟩
def dkwX1_bayAt_2 : List UInt8 := [180, 0, 220, 28, 46, 167, 0, 10, 25, 4, 180, 0, 224, 28, 46, 172]
abbrev dktX1_bayAt_2 : List UInt8 := dkwX1_bayAt_2 ++ []
def dkwX1_bayAt_1 : List UInt8 := [180, 0, 213, 28, 51, 153, 0, 7, 4, 167, 0, 29, 3, 167, 0, 25, 29, 4, 160, 0, 13, 25, 4]
abbrev dktX1_bayAt_1 : List UInt8 := dkwX1_bayAt_1 ++ dktX1_bayAt_2
def dkwX1_bayAt_0 : List UInt8 := [42, 27, 28, 182, 0, 208, 58, 4, 29, 3, 5, 184, 0, 19, 184, 0, 179, 29, 154, 0, 21, 25, 4]
abbrev dktX1_bayAt_0 : List UInt8 := dkwX1_bayAt_0 ++ dktX1_bayAt_1
theorem dksX1_bayAt_0 : cX1_bayAt.data.toList.drop 0 = dktX1_bayAt_0 := by decide +kernel
theorem dksX1_bayAt_1 : cX1_bayAt.data.toList.drop 23 = dktX1_bayAt_1 := dk_seg dksX1_bayAt_0 23 rfl rfl
theorem dksX1_bayAt_2 : cX1_bayAt.data.toList.drop 46 = dktX1_bayAt_2 := dk_seg dksX1_bayAt_1 23 rfl rfl
theorem dX1_bayAt_0 : decode cX1_bayAt 0 = .ok (.aload_n 0, 1) := dk_42 (dk_at dksX1_bayAt_0 0 rfl rfl)
theorem dX1_bayAt_1 : decode cX1_bayAt 1 = .ok (.iload_n 1, 1) := dk_27 (dk_at dksX1_bayAt_0 1 rfl rfl)
theorem dX1_bayAt_2 : decode cX1_bayAt 2 = .ok (.iload_n 2, 1) := dk_28 (dk_at dksX1_bayAt_0 2 rfl rfl)
theorem dX1_bayAt_3 : decode cX1_bayAt 3 = .ok (.invokevirtual 208, 3) := dk_182 0 208 (dk_at dksX1_bayAt_0 3 rfl rfl)
theorem dX1_bayAt_6 : decode cX1_bayAt 6 = .ok (.astore 4, 2) := dk_58 4 (dk_at dksX1_bayAt_0 6 rfl rfl)
theorem dX1_bayAt_8 : decode cX1_bayAt 8 = .ok (.iload_n 3, 1) := dk_29 (dk_at dksX1_bayAt_0 8 rfl rfl)
theorem dX1_bayAt_9 : decode cX1_bayAt 9 = .ok (.iconst 0, 1) := dk_3 (dk_at dksX1_bayAt_0 9 rfl rfl)
theorem dX1_bayAt_10 : decode cX1_bayAt 10 = .ok (.iconst 2, 1) := dk_5 (dk_at dksX1_bayAt_0 10 rfl rfl)
theorem dX1_bayAt_11 : decode cX1_bayAt 11 = .ok (.invokestatic 19, 3) := dk_184 0 19 (dk_at dksX1_bayAt_0 11 rfl rfl)
theorem dX1_bayAt_14 : decode cX1_bayAt 14 = .ok (.invokestatic 179, 3) := dk_184 0 179 (dk_at dksX1_bayAt_0 14 rfl rfl)
theorem dX1_bayAt_17 : decode cX1_bayAt 17 = .ok (.iload_n 3, 1) := dk_29 (dk_at dksX1_bayAt_0 17 rfl rfl)
theorem dX1_bayAt_18 : decode cX1_bayAt 18 = .ok (.ifCond .ne 21, 3) := dk_154 0 21 (dk_at dksX1_bayAt_0 18 rfl rfl)
theorem dX1_bayAt_21 : decode cX1_bayAt 21 = .ok (.aload 4, 2) := dk_25 4 (dk_at dksX1_bayAt_0 21 rfl rfl)
theorem dX1_bayAt_23 : decode cX1_bayAt 23 = .ok (.getfield 213, 3) := dk_180 0 213 (dk_at dksX1_bayAt_1 0 rfl rfl)
theorem dX1_bayAt_26 : decode cX1_bayAt 26 = .ok (.iload_n 2, 1) := dk_28 (dk_at dksX1_bayAt_1 3 rfl rfl)
theorem dX1_bayAt_27 : decode cX1_bayAt 27 = .ok (.baload, 1) := dk_51 (dk_at dksX1_bayAt_1 4 rfl rfl)
theorem dX1_bayAt_28 : decode cX1_bayAt 28 = .ok (.ifCond .eq 7, 3) := dk_153 0 7 (dk_at dksX1_bayAt_1 5 rfl rfl)
theorem dX1_bayAt_31 : decode cX1_bayAt 31 = .ok (.iconst 1, 1) := dk_4 (dk_at dksX1_bayAt_1 8 rfl rfl)
theorem dX1_bayAt_32 : decode cX1_bayAt 32 = .ok (.goto 29, 3) := dk_167 0 29 (dk_at dksX1_bayAt_1 9 rfl rfl)
theorem dX1_bayAt_35 : decode cX1_bayAt 35 = .ok (.iconst 0, 1) := dk_3 (dk_at dksX1_bayAt_1 12 rfl rfl)
theorem dX1_bayAt_36 : decode cX1_bayAt 36 = .ok (.goto 25, 3) := dk_167 0 25 (dk_at dksX1_bayAt_1 13 rfl rfl)
theorem dX1_bayAt_39 : decode cX1_bayAt 39 = .ok (.iload_n 3, 1) := dk_29 (dk_at dksX1_bayAt_1 16 rfl rfl)
theorem dX1_bayAt_40 : decode cX1_bayAt 40 = .ok (.iconst 1, 1) := dk_4 (dk_at dksX1_bayAt_1 17 rfl rfl)
theorem dX1_bayAt_41 : decode cX1_bayAt 41 = .ok (.if_icmp .ne 13, 3) := dk_160 0 13 (dk_at dksX1_bayAt_1 18 rfl rfl)
theorem dX1_bayAt_44 : decode cX1_bayAt 44 = .ok (.aload 4, 2) := dk_25 4 (dk_at dksX1_bayAt_1 21 rfl rfl)
theorem dX1_bayAt_46 : decode cX1_bayAt 46 = .ok (.getfield 220, 3) := dk_180 0 220 (dk_at dksX1_bayAt_2 0 rfl rfl)
theorem dX1_bayAt_49 : decode cX1_bayAt 49 = .ok (.iload_n 2, 1) := dk_28 (dk_at dksX1_bayAt_2 3 rfl rfl)
theorem dX1_bayAt_50 : decode cX1_bayAt 50 = .ok (.iaload, 1) := dk_46 (dk_at dksX1_bayAt_2 4 rfl rfl)
theorem dX1_bayAt_51 : decode cX1_bayAt 51 = .ok (.goto 10, 3) := dk_167 0 10 (dk_at dksX1_bayAt_2 5 rfl rfl)
theorem dX1_bayAt_54 : decode cX1_bayAt 54 = .ok (.aload 4, 2) := dk_25 4 (dk_at dksX1_bayAt_2 8 rfl rfl)
theorem dX1_bayAt_56 : decode cX1_bayAt 56 = .ok (.getfield 224, 3) := dk_180 0 224 (dk_at dksX1_bayAt_2 10 rfl rfl)
theorem dX1_bayAt_59 : decode cX1_bayAt 59 = .ok (.iload_n 2, 1) := dk_28 (dk_at dksX1_bayAt_2 13 rfl rfl)
theorem dX1_bayAt_60 : decode cX1_bayAt 60 = .ok (.iaload, 1) := dk_46 (dk_at dksX1_bayAt_2 14 rfl rfl)
theorem dX1_bayAt_61 : decode cX1_bayAt 61 = .ok (.ireturn, 1) := dk_172 (dk_at dksX1_bayAt_2 15 rfl rfl)
abbrev cX1_cut : ByteArray := prog_1_method_45_code
def yX1_cut : MethodName := ⟨RX1, "cut", "(IIZ)Z"⟩
def dkwX1_cut_1 : List UInt8 := [50, 27, 29, 84, 21, 4, 29, 160, 0, 6, 21, 4, 172, 42, 182, 0, 191, 42, 182, 0, 173, 21, 4, 172]
abbrev dktX1_cut_1 : List UInt8 := dkwX1_cut_1 ++ []
def dkwX1_cut_0 : List UInt8 := [42, 27, 182, 0, 199, 28, 184, 0, 205, 42, 180, 0, 102, 28, 50, 27, 51, 54, 4, 42, 180, 0, 102, 28]
abbrev dktX1_cut_0 : List UInt8 := dkwX1_cut_0 ++ dktX1_cut_1
theorem dksX1_cut_0 : cX1_cut.data.toList.drop 0 = dktX1_cut_0 := by decide +kernel
theorem dksX1_cut_1 : cX1_cut.data.toList.drop 24 = dktX1_cut_1 := dk_seg dksX1_cut_0 24 rfl rfl
theorem dX1_cut_0 : decode cX1_cut 0 = .ok (.aload_n 0, 1) := dk_42 (dk_at dksX1_cut_0 0 rfl rfl)
theorem dX1_cut_1 : decode cX1_cut 1 = .ok (.iload_n 1, 1) := dk_27 (dk_at dksX1_cut_0 1 rfl rfl)
theorem dX1_cut_2 : decode cX1_cut 2 = .ok (.invokevirtual 199, 3) := dk_182 0 199 (dk_at dksX1_cut_0 2 rfl rfl)
theorem dX1_cut_5 : decode cX1_cut 5 = .ok (.iload_n 2, 1) := dk_28 (dk_at dksX1_cut_0 5 rfl rfl)
theorem dX1_cut_6 : decode cX1_cut 6 = .ok (.invokestatic 205, 3) := dk_184 0 205 (dk_at dksX1_cut_0 6 rfl rfl)
theorem dX1_cut_9 : decode cX1_cut 9 = .ok (.aload_n 0, 1) := dk_42 (dk_at dksX1_cut_0 9 rfl rfl)
theorem dX1_cut_10 : decode cX1_cut 10 = .ok (.getfield 102, 3) := dk_180 0 102 (dk_at dksX1_cut_0 10 rfl rfl)
theorem dX1_cut_13 : decode cX1_cut 13 = .ok (.iload_n 2, 1) := dk_28 (dk_at dksX1_cut_0 13 rfl rfl)
theorem dX1_cut_14 : decode cX1_cut 14 = .ok (.aaload, 1) := dk_50 (dk_at dksX1_cut_0 14 rfl rfl)
theorem dX1_cut_15 : decode cX1_cut 15 = .ok (.iload_n 1, 1) := dk_27 (dk_at dksX1_cut_0 15 rfl rfl)
theorem dX1_cut_16 : decode cX1_cut 16 = .ok (.baload, 1) := dk_51 (dk_at dksX1_cut_0 16 rfl rfl)
theorem dX1_cut_17 : decode cX1_cut 17 = .ok (.istore 4, 2) := dk_54 4 (dk_at dksX1_cut_0 17 rfl rfl)
theorem dX1_cut_19 : decode cX1_cut 19 = .ok (.aload_n 0, 1) := dk_42 (dk_at dksX1_cut_0 19 rfl rfl)
theorem dX1_cut_20 : decode cX1_cut 20 = .ok (.getfield 102, 3) := dk_180 0 102 (dk_at dksX1_cut_0 20 rfl rfl)
theorem dX1_cut_23 : decode cX1_cut 23 = .ok (.iload_n 2, 1) := dk_28 (dk_at dksX1_cut_0 23 rfl rfl)
theorem dX1_cut_24 : decode cX1_cut 24 = .ok (.aaload, 1) := dk_50 (dk_at dksX1_cut_1 0 rfl rfl)
theorem dX1_cut_25 : decode cX1_cut 25 = .ok (.iload_n 1, 1) := dk_27 (dk_at dksX1_cut_1 1 rfl rfl)
theorem dX1_cut_26 : decode cX1_cut 26 = .ok (.iload_n 3, 1) := dk_29 (dk_at dksX1_cut_1 2 rfl rfl)
theorem dX1_cut_27 : decode cX1_cut 27 = .ok (.bastore, 1) := dk_84 (dk_at dksX1_cut_1 3 rfl rfl)
theorem dX1_cut_28 : decode cX1_cut 28 = .ok (.iload 4, 2) := dk_21 4 (dk_at dksX1_cut_1 4 rfl rfl)
theorem dX1_cut_30 : decode cX1_cut 30 = .ok (.iload_n 3, 1) := dk_29 (dk_at dksX1_cut_1 6 rfl rfl)
theorem dX1_cut_31 : decode cX1_cut 31 = .ok (.if_icmp .ne 6, 3) := dk_160 0 6 (dk_at dksX1_cut_1 7 rfl rfl)
theorem dX1_cut_34 : decode cX1_cut 34 = .ok (.iload 4, 2) := dk_21 4 (dk_at dksX1_cut_1 10 rfl rfl)
theorem dX1_cut_36 : decode cX1_cut 36 = .ok (.ireturn, 1) := dk_172 (dk_at dksX1_cut_1 12 rfl rfl)
theorem dX1_cut_37 : decode cX1_cut 37 = .ok (.aload_n 0, 1) := dk_42 (dk_at dksX1_cut_1 13 rfl rfl)
theorem dX1_cut_38 : decode cX1_cut 38 = .ok (.invokevirtual 191, 3) := dk_182 0 191 (dk_at dksX1_cut_1 14 rfl rfl)
theorem dX1_cut_41 : decode cX1_cut 41 = .ok (.aload_n 0, 1) := dk_42 (dk_at dksX1_cut_1 17 rfl rfl)
theorem dX1_cut_42 : decode cX1_cut 42 = .ok (.invokevirtual 173, 3) := dk_182 0 173 (dk_at dksX1_cut_1 18 rfl rfl)
theorem dX1_cut_45 : decode cX1_cut 45 = .ok (.iload 4, 2) := dk_21 4 (dk_at dksX1_cut_1 21 rfl rfl)
theorem dX1_cut_47 : decode cX1_cut 47 = .ok (.ireturn, 1) := dk_172 (dk_at dksX1_cut_1 23 rfl rfl)
abbrev cX1_setLimit : ByteArray := prog_1_method_46_code
def yX1_setLimit : MethodName := ⟨RX1, "setLimit", "(I)I"⟩
def dkwX1_setLimit_1 : List UInt8 := [159, 0, 7, 42, 182, 0, 191, 28, 172]
abbrev dktX1_setLimit_1 : List UInt8 := dkwX1_setLimit_1 ++ []
def dkwX1_setLimit_0 : List UInt8 := [27, 4, 17, 39, 15, 184, 0, 19, 184, 0, 179, 42, 180, 0, 130, 61, 42, 27, 181, 0, 130, 28, 27]
abbrev dktX1_setLimit_0 : List UInt8 := dkwX1_setLimit_0 ++ dktX1_setLimit_1
theorem dksX1_setLimit_0 : cX1_setLimit.data.toList.drop 0 = dktX1_setLimit_0 := by decide +kernel
theorem dksX1_setLimit_1 : cX1_setLimit.data.toList.drop 23 = dktX1_setLimit_1 := dk_seg dksX1_setLimit_0 23 rfl rfl
theorem dX1_setLimit_0 : decode cX1_setLimit 0 = .ok (.iload_n 1, 1) := dk_27 (dk_at dksX1_setLimit_0 0 rfl rfl)
theorem dX1_setLimit_1 : decode cX1_setLimit 1 = .ok (.iconst 1, 1) := dk_4 (dk_at dksX1_setLimit_0 1 rfl rfl)
theorem dX1_setLimit_2 : decode cX1_setLimit 2 = .ok (.sipush 9999, 3) := dk_17 39 15 (dk_at dksX1_setLimit_0 2 rfl rfl)
theorem dX1_setLimit_5 : decode cX1_setLimit 5 = .ok (.invokestatic 19, 3) := dk_184 0 19 (dk_at dksX1_setLimit_0 5 rfl rfl)
theorem dX1_setLimit_8 : decode cX1_setLimit 8 = .ok (.invokestatic 179, 3) := dk_184 0 179 (dk_at dksX1_setLimit_0 8 rfl rfl)
theorem dX1_setLimit_11 : decode cX1_setLimit 11 = .ok (.aload_n 0, 1) := dk_42 (dk_at dksX1_setLimit_0 11 rfl rfl)
theorem dX1_setLimit_12 : decode cX1_setLimit 12 = .ok (.getfield 130, 3) := dk_180 0 130 (dk_at dksX1_setLimit_0 12 rfl rfl)
theorem dX1_setLimit_15 : decode cX1_setLimit 15 = .ok (.istore_n 2, 1) := dk_61 (dk_at dksX1_setLimit_0 15 rfl rfl)
theorem dX1_setLimit_16 : decode cX1_setLimit 16 = .ok (.aload_n 0, 1) := dk_42 (dk_at dksX1_setLimit_0 16 rfl rfl)
theorem dX1_setLimit_17 : decode cX1_setLimit 17 = .ok (.iload_n 1, 1) := dk_27 (dk_at dksX1_setLimit_0 17 rfl rfl)
theorem dX1_setLimit_18 : decode cX1_setLimit 18 = .ok (.putfield 130, 3) := dk_181 0 130 (dk_at dksX1_setLimit_0 18 rfl rfl)
theorem dX1_setLimit_21 : decode cX1_setLimit 21 = .ok (.iload_n 2, 1) := dk_28 (dk_at dksX1_setLimit_0 21 rfl rfl)
theorem dX1_setLimit_22 : decode cX1_setLimit 22 = .ok (.iload_n 1, 1) := dk_27 (dk_at dksX1_setLimit_0 22 rfl rfl)
theorem dX1_setLimit_23 : decode cX1_setLimit 23 = .ok (.if_icmp .eq 7, 3) := dk_159 0 7 (dk_at dksX1_setLimit_1 0 rfl rfl)
theorem dX1_setLimit_26 : decode cX1_setLimit 26 = .ok (.aload_n 0, 1) := dk_42 (dk_at dksX1_setLimit_1 3 rfl rfl)
theorem dX1_setLimit_27 : decode cX1_setLimit 27 = .ok (.invokevirtual 191, 3) := dk_182 0 191 (dk_at dksX1_setLimit_1 4 rfl rfl)
theorem dX1_setLimit_30 : decode cX1_setLimit 30 = .ok (.iload_n 2, 1) := dk_28 (dk_at dksX1_setLimit_1 7 rfl rfl)
theorem dX1_setLimit_31 : decode cX1_setLimit 31 = .ok (.ireturn, 1) := dk_172 (dk_at dksX1_setLimit_1 8 rfl rfl)
abbrev cX1_tieOf : ByteArray := prog_1_method_47_code
def yX1_tieOf : MethodName := ⟨RX1, "tieOf", "(II)I"⟩
def dkwX1_tieOf_0 : List UInt8 := [42, 27, 182, 0, 199, 28, 184, 0, 205, 42, 180, 0, 112, 28, 50, 27, 46, 172]
abbrev dktX1_tieOf_0 : List UInt8 := dkwX1_tieOf_0 ++ []
theorem dksX1_tieOf_0 : cX1_tieOf.data.toList.drop 0 = dktX1_tieOf_0 := by decide +kernel
theorem dX1_tieOf_0 : decode cX1_tieOf 0 = .ok (.aload_n 0, 1) := dk_42 (dk_at dksX1_tieOf_0 0 rfl rfl)
theorem dX1_tieOf_1 : decode cX1_tieOf 1 = .ok (.iload_n 1, 1) := dk_27 (dk_at dksX1_tieOf_0 1 rfl rfl)
theorem dX1_tieOf_2 : decode cX1_tieOf 2 = .ok (.invokevirtual 199, 3) := dk_182 0 199 (dk_at dksX1_tieOf_0 2 rfl rfl)
theorem dX1_tieOf_5 : decode cX1_tieOf 5 = .ok (.iload_n 2, 1) := dk_28 (dk_at dksX1_tieOf_0 5 rfl rfl)
theorem dX1_tieOf_6 : decode cX1_tieOf 6 = .ok (.invokestatic 205, 3) := dk_184 0 205 (dk_at dksX1_tieOf_0 6 rfl rfl)
theorem dX1_tieOf_9 : decode cX1_tieOf 9 = .ok (.aload_n 0, 1) := dk_42 (dk_at dksX1_tieOf_0 9 rfl rfl)
theorem dX1_tieOf_10 : decode cX1_tieOf 10 = .ok (.getfield 112, 3) := dk_180 0 112 (dk_at dksX1_tieOf_0 10 rfl rfl)
theorem dX1_tieOf_13 : decode cX1_tieOf 13 = .ok (.iload_n 2, 1) := dk_28 (dk_at dksX1_tieOf_0 13 rfl rfl)
theorem dX1_tieOf_14 : decode cX1_tieOf 14 = .ok (.aaload, 1) := dk_50 (dk_at dksX1_tieOf_0 14 rfl rfl)
theorem dX1_tieOf_15 : decode cX1_tieOf 15 = .ok (.iload_n 1, 1) := dk_27 (dk_at dksX1_tieOf_0 15 rfl rfl)
theorem dX1_tieOf_16 : decode cX1_tieOf 16 = .ok (.iaload, 1) := dk_46 (dk_at dksX1_tieOf_0 16 rfl rfl)
theorem dX1_tieOf_17 : decode cX1_tieOf 17 = .ok (.ireturn, 1) := dk_172 (dk_at dksX1_tieOf_0 17 rfl rfl)
abbrev cX1_hasTie : ByteArray := prog_1_method_48_code
def yX1_hasTie : MethodName := ⟨RX1, "hasTie", "(II)Z"⟩
def dkwX1_hasTie_0 : List UInt8 := [42, 27, 182, 0, 199, 28, 184, 0, 205, 42, 180, 0, 106, 28, 50, 27, 51, 172]
abbrev dktX1_hasTie_0 : List UInt8 := dkwX1_hasTie_0 ++ []
theorem dksX1_hasTie_0 : cX1_hasTie.data.toList.drop 0 = dktX1_hasTie_0 := by decide +kernel
theorem dX1_hasTie_0 : decode cX1_hasTie 0 = .ok (.aload_n 0, 1) := dk_42 (dk_at dksX1_hasTie_0 0 rfl rfl)
theorem dX1_hasTie_1 : decode cX1_hasTie 1 = .ok (.iload_n 1, 1) := dk_27 (dk_at dksX1_hasTie_0 1 rfl rfl)
theorem dX1_hasTie_2 : decode cX1_hasTie 2 = .ok (.invokevirtual 199, 3) := dk_182 0 199 (dk_at dksX1_hasTie_0 2 rfl rfl)
theorem dX1_hasTie_5 : decode cX1_hasTie 5 = .ok (.iload_n 2, 1) := dk_28 (dk_at dksX1_hasTie_0 5 rfl rfl)
theorem dX1_hasTie_6 : decode cX1_hasTie 6 = .ok (.invokestatic 205, 3) := dk_184 0 205 (dk_at dksX1_hasTie_0 6 rfl rfl)
theorem dX1_hasTie_9 : decode cX1_hasTie 9 = .ok (.aload_n 0, 1) := dk_42 (dk_at dksX1_hasTie_0 9 rfl rfl)
theorem dX1_hasTie_10 : decode cX1_hasTie 10 = .ok (.getfield 106, 3) := dk_180 0 106 (dk_at dksX1_hasTie_0 10 rfl rfl)
theorem dX1_hasTie_13 : decode cX1_hasTie 13 = .ok (.iload_n 2, 1) := dk_28 (dk_at dksX1_hasTie_0 13 rfl rfl)
theorem dX1_hasTie_14 : decode cX1_hasTie 14 = .ok (.aaload, 1) := dk_50 (dk_at dksX1_hasTie_0 14 rfl rfl)
theorem dX1_hasTie_15 : decode cX1_hasTie 15 = .ok (.iload_n 1, 1) := dk_27 (dk_at dksX1_hasTie_0 15 rfl rfl)
theorem dX1_hasTie_16 : decode cX1_hasTie 16 = .ok (.baload, 1) := dk_51 (dk_at dksX1_hasTie_0 16 rfl rfl)
theorem dX1_hasTie_17 : decode cX1_hasTie 17 = .ok (.ireturn, 1) := dk_172 (dk_at dksX1_hasTie_0 17 rfl rfl)
abbrev cX1_missing : ByteArray := prog_1_method_49_code
def yX1_missing : MethodName := ⟨RX1, "missing", "(I)I"⟩
def dkwX1_missing_0 : List UInt8 := [42, 27, 182, 0, 199, 42, 27, 182, 0, 133, 172]
abbrev dktX1_missing_0 : List UInt8 := dkwX1_missing_0 ++ []
theorem dksX1_missing_0 : cX1_missing.data.toList.drop 0 = dktX1_missing_0 := by decide +kernel
theorem dX1_missing_0 : decode cX1_missing 0 = .ok (.aload_n 0, 1) := dk_42 (dk_at dksX1_missing_0 0 rfl rfl)
theorem dX1_missing_1 : decode cX1_missing 1 = .ok (.iload_n 1, 1) := dk_27 (dk_at dksX1_missing_0 1 rfl rfl)
theorem dX1_missing_2 : decode cX1_missing 2 = .ok (.invokevirtual 199, 3) := dk_182 0 199 (dk_at dksX1_missing_0 2 rfl rfl)
theorem dX1_missing_5 : decode cX1_missing 5 = .ok (.aload_n 0, 1) := dk_42 (dk_at dksX1_missing_0 5 rfl rfl)
theorem dX1_missing_6 : decode cX1_missing 6 = .ok (.iload_n 1, 1) := dk_27 (dk_at dksX1_missing_0 6 rfl rfl)
theorem dX1_missing_7 : decode cX1_missing 7 = .ok (.invokevirtual 133, 3) := dk_182 0 133 (dk_at dksX1_missing_0 7 rfl rfl)
theorem dX1_missing_10 : decode cX1_missing 10 = .ok (.ireturn, 1) := dk_172 (dk_at dksX1_missing_0 10 rfl rfl)
abbrev cX1_load : ByteArray := prog_1_method_50_code
def yX1_load : MethodName := ⟨RX1, "load", "(IIZ)I"⟩
def dkwX1_load_0 : List UInt8 := [42, 27, 182, 0, 199, 28, 184, 0, 205, 42, 27, 28, 29, 182, 0, 139, 172]
abbrev dktX1_load_0 : List UInt8 := dkwX1_load_0 ++ []
theorem dksX1_load_0 : cX1_load.data.toList.drop 0 = dktX1_load_0 := by decide +kernel
theorem dX1_load_0 : decode cX1_load 0 = .ok (.aload_n 0, 1) := dk_42 (dk_at dksX1_load_0 0 rfl rfl)
theorem dX1_load_1 : decode cX1_load 1 = .ok (.iload_n 1, 1) := dk_27 (dk_at dksX1_load_0 1 rfl rfl)
theorem dX1_load_2 : decode cX1_load 2 = .ok (.invokevirtual 199, 3) := dk_182 0 199 (dk_at dksX1_load_0 2 rfl rfl)
theorem dX1_load_5 : decode cX1_load 5 = .ok (.iload_n 2, 1) := dk_28 (dk_at dksX1_load_0 5 rfl rfl)
theorem dX1_load_6 : decode cX1_load 6 = .ok (.invokestatic 205, 3) := dk_184 0 205 (dk_at dksX1_load_0 6 rfl rfl)
theorem dX1_load_9 : decode cX1_load 9 = .ok (.aload_n 0, 1) := dk_42 (dk_at dksX1_load_0 9 rfl rfl)
theorem dX1_load_10 : decode cX1_load 10 = .ok (.iload_n 1, 1) := dk_27 (dk_at dksX1_load_0 10 rfl rfl)
theorem dX1_load_11 : decode cX1_load 11 = .ok (.iload_n 2, 1) := dk_28 (dk_at dksX1_load_0 11 rfl rfl)
theorem dX1_load_12 : decode cX1_load 12 = .ok (.iload_n 3, 1) := dk_29 (dk_at dksX1_load_0 12 rfl rfl)
theorem dX1_load_13 : decode cX1_load 13 = .ok (.invokevirtual 139, 3) := dk_182 0 139 (dk_at dksX1_load_0 13 rfl rfl)
theorem dX1_load_16 : decode cX1_load 16 = .ok (.ireturn, 1) := dk_172 (dk_at dksX1_load_0 16 rfl rfl)
abbrev cX1_bears : ByteArray := prog_1_method_51_code
def yX1_bears : MethodName := ⟨RX1, "bears", "(I)I"⟩
def dkwX1_bears_0 : List UInt8 := [42, 27, 182, 0, 199, 42, 27, 182, 0, 136, 172]
abbrev dktX1_bears_0 : List UInt8 := dkwX1_bears_0 ++ []
theorem dksX1_bears_0 : cX1_bears.data.toList.drop 0 = dktX1_bears_0 := by decide +kernel
theorem dX1_bears_0 : decode cX1_bears 0 = .ok (.aload_n 0, 1) := dk_42 (dk_at dksX1_bears_0 0 rfl rfl)
theorem dX1_bears_1 : decode cX1_bears 1 = .ok (.iload_n 1, 1) := dk_27 (dk_at dksX1_bears_0 1 rfl rfl)
theorem dX1_bears_2 : decode cX1_bears 2 = .ok (.invokevirtual 199, 3) := dk_182 0 199 (dk_at dksX1_bears_0 2 rfl rfl)
theorem dX1_bears_5 : decode cX1_bears 5 = .ok (.aload_n 0, 1) := dk_42 (dk_at dksX1_bears_0 5 rfl rfl)
theorem dX1_bears_6 : decode cX1_bears 6 = .ok (.iload_n 1, 1) := dk_27 (dk_at dksX1_bears_0 6 rfl rfl)
theorem dX1_bears_7 : decode cX1_bears 7 = .ok (.invokevirtual 136, 3) := dk_182 0 136 (dk_at dksX1_bears_0 7 rfl rfl)
theorem dX1_bears_10 : decode cX1_bears 10 = .ok (.ireturn, 1) := dk_172 (dk_at dksX1_bears_0 10 rfl rfl)
abbrev cX1_inspect : ByteArray := prog_1_method_53_code
def yX1_inspect : MethodName := ⟨RX1, "inspect", "(I)I"⟩
def dkwX1_inspect_1 : List UInt8 := [180, 0, 176, 16, 7, 96, 4, 100, 167, 0, 4, 2, 181, 0, 247, 29, 172]
abbrev dktX1_inspect_1 : List UInt8 := dkwX1_inspect_1 ++ []
def dkwX1_inspect_0 : List UInt8 := [42, 180, 0, 71, 27, 184, 0, 195, 192, 0, 74, 77, 42, 44, 182, 0, 243, 62, 44, 29, 154, 0, 15, 42]
abbrev dktX1_inspect_0 : List UInt8 := dkwX1_inspect_0 ++ dktX1_inspect_1
theorem dksX1_inspect_0 : cX1_inspect.data.toList.drop 0 = dktX1_inspect_0 := by decide +kernel
theorem dksX1_inspect_1 : cX1_inspect.data.toList.drop 24 = dktX1_inspect_1 := dk_seg dksX1_inspect_0 24 rfl rfl
theorem dX1_inspect_0 : decode cX1_inspect 0 = .ok (.aload_n 0, 1) := dk_42 (dk_at dksX1_inspect_0 0 rfl rfl)
theorem dX1_inspect_1 : decode cX1_inspect 1 = .ok (.getfield 71, 3) := dk_180 0 71 (dk_at dksX1_inspect_0 1 rfl rfl)
theorem dX1_inspect_4 : decode cX1_inspect 4 = .ok (.iload_n 1, 1) := dk_27 (dk_at dksX1_inspect_0 4 rfl rfl)
theorem dX1_inspect_5 : decode cX1_inspect 5 = .ok (.invokestatic 195, 3) := dk_184 0 195 (dk_at dksX1_inspect_0 5 rfl rfl)
theorem dX1_inspect_8 : decode cX1_inspect 8 = .ok (.checkcast 74, 3) := dk_192 0 74 (dk_at dksX1_inspect_0 8 rfl rfl)
theorem dX1_inspect_11 : decode cX1_inspect 11 = .ok (.astore_n 2, 1) := dk_77 (dk_at dksX1_inspect_0 11 rfl rfl)
theorem dX1_inspect_12 : decode cX1_inspect 12 = .ok (.aload_n 0, 1) := dk_42 (dk_at dksX1_inspect_0 12 rfl rfl)
theorem dX1_inspect_13 : decode cX1_inspect 13 = .ok (.aload_n 2, 1) := dk_44 (dk_at dksX1_inspect_0 13 rfl rfl)
theorem dX1_inspect_14 : decode cX1_inspect 14 = .ok (.invokevirtual 243, 3) := dk_182 0 243 (dk_at dksX1_inspect_0 14 rfl rfl)
theorem dX1_inspect_17 : decode cX1_inspect 17 = .ok (.istore_n 3, 1) := dk_62 (dk_at dksX1_inspect_0 17 rfl rfl)
theorem dX1_inspect_18 : decode cX1_inspect 18 = .ok (.aload_n 2, 1) := dk_44 (dk_at dksX1_inspect_0 18 rfl rfl)
theorem dX1_inspect_19 : decode cX1_inspect 19 = .ok (.iload_n 3, 1) := dk_29 (dk_at dksX1_inspect_0 19 rfl rfl)
theorem dX1_inspect_20 : decode cX1_inspect 20 = .ok (.ifCond .ne 15, 3) := dk_154 0 15 (dk_at dksX1_inspect_0 20 rfl rfl)
theorem dX1_inspect_23 : decode cX1_inspect 23 = .ok (.aload_n 0, 1) := dk_42 (dk_at dksX1_inspect_0 23 rfl rfl)
theorem dX1_inspect_24 : decode cX1_inspect 24 = .ok (.getfield 176, 3) := dk_180 0 176 (dk_at dksX1_inspect_1 0 rfl rfl)
theorem dX1_inspect_27 : decode cX1_inspect 27 = .ok (.bipush 7, 2) := dk_16 7 (dk_at dksX1_inspect_1 3 rfl rfl)
theorem dX1_inspect_29 : decode cX1_inspect 29 = .ok (.iadd, 1) := dk_96 (dk_at dksX1_inspect_1 5 rfl rfl)
theorem dX1_inspect_30 : decode cX1_inspect 30 = .ok (.iconst 1, 1) := dk_4 (dk_at dksX1_inspect_1 6 rfl rfl)
theorem dX1_inspect_31 : decode cX1_inspect 31 = .ok (.isub, 1) := dk_100 (dk_at dksX1_inspect_1 7 rfl rfl)
theorem dX1_inspect_32 : decode cX1_inspect 32 = .ok (.goto 4, 3) := dk_167 0 4 (dk_at dksX1_inspect_1 8 rfl rfl)
theorem dX1_inspect_35 : decode cX1_inspect 35 = .ok (.iconst (-1), 1) := dk_2 (dk_at dksX1_inspect_1 11 rfl rfl)
theorem dX1_inspect_36 : decode cX1_inspect 36 = .ok (.putfield 247, 3) := dk_181 0 247 (dk_at dksX1_inspect_1 12 rfl rfl)
theorem dX1_inspect_39 : decode cX1_inspect 39 = .ok (.iload_n 3, 1) := dk_29 (dk_at dksX1_inspect_1 15 rfl rfl)
theorem dX1_inspect_40 : decode cX1_inspect 40 = .ok (.ireturn, 1) := dk_172 (dk_at dksX1_inspect_1 16 rfl rfl)
abbrev cX1_reasonOf : ByteArray := prog_1_method_52_code
def yX1_reasonOf : MethodName := ⟨RX1, "reasonOf", "(LScaffolder$Face;)I"⟩
def dkwX1_reasonOf_5 : List UInt8 := [167, 0, 4, 3, 172]
abbrev dktX1_reasonOf_5 : List UInt8 := dkwX1_reasonOf_5 ++ []
def dkwX1_reasonOf_4 : List UInt8 := [154, 0, 7, 4, 167, 0, 22, 21, 4, 156, 0, 7, 5, 167, 0, 13, 29, 4, 164, 0, 7, 6]
abbrev dktX1_reasonOf_4 : List UInt8 := dkwX1_reasonOf_4 ++ dktX1_reasonOf_5
def dkwX1_reasonOf_3 : List UInt8 := [184, 0, 240, 54, 4, 29, 42, 21, 5, 182, 0, 133, 184, 0, 58, 62, 132, 5, 1, 167, 255, 220, 28]
abbrev dktX1_reasonOf_3 : List UInt8 := dkwX1_reasonOf_3 ++ dktX1_reasonOf_4
def dkwX1_reasonOf_2 : List UInt8 := [43, 180, 0, 158, 54, 5, 21, 5, 43, 182, 0, 152, 163, 0, 33, 21, 4, 42, 21, 5, 182, 0, 237]
abbrev dktX1_reasonOf_2 : List UInt8 := dkwX1_reasonOf_2 ++ dktX1_reasonOf_3
def dkwX1_reasonOf_1 : List UInt8 := [180, 0, 33, 21, 5, 185, 0, 29, 2, 0, 192, 0, 44, 180, 0, 50, 96, 61, 132, 5, 1, 167, 255, 224]
abbrev dktX1_reasonOf_1 : List UInt8 := dkwX1_reasonOf_1 ++ dktX1_reasonOf_2
def dkwX1_reasonOf_0 : List UInt8 := [3, 61, 3, 62, 3, 54, 4, 43, 180, 0, 158, 54, 5, 21, 5, 43, 182, 0, 152, 162, 0, 29, 28, 42]
abbrev dktX1_reasonOf_0 : List UInt8 := dkwX1_reasonOf_0 ++ dktX1_reasonOf_1
theorem dksX1_reasonOf_0 : cX1_reasonOf.data.toList.drop 0 = dktX1_reasonOf_0 := by decide +kernel
theorem dksX1_reasonOf_1 : cX1_reasonOf.data.toList.drop 24 = dktX1_reasonOf_1 := dk_seg dksX1_reasonOf_0 24 rfl rfl
theorem dksX1_reasonOf_2 : cX1_reasonOf.data.toList.drop 48 = dktX1_reasonOf_2 := dk_seg dksX1_reasonOf_1 24 rfl rfl
theorem dksX1_reasonOf_3 : cX1_reasonOf.data.toList.drop 71 = dktX1_reasonOf_3 := dk_seg dksX1_reasonOf_2 23 rfl rfl
theorem dksX1_reasonOf_4 : cX1_reasonOf.data.toList.drop 94 = dktX1_reasonOf_4 := dk_seg dksX1_reasonOf_3 23 rfl rfl
theorem dksX1_reasonOf_5 : cX1_reasonOf.data.toList.drop 116 = dktX1_reasonOf_5 := dk_seg dksX1_reasonOf_4 22 rfl rfl
theorem dX1_reasonOf_0 : decode cX1_reasonOf 0 = .ok (.iconst 0, 1) := dk_3 (dk_at dksX1_reasonOf_0 0 rfl rfl)
theorem dX1_reasonOf_1 : decode cX1_reasonOf 1 = .ok (.istore_n 2, 1) := dk_61 (dk_at dksX1_reasonOf_0 1 rfl rfl)
theorem dX1_reasonOf_2 : decode cX1_reasonOf 2 = .ok (.iconst 0, 1) := dk_3 (dk_at dksX1_reasonOf_0 2 rfl rfl)
theorem dX1_reasonOf_3 : decode cX1_reasonOf 3 = .ok (.istore_n 3, 1) := dk_62 (dk_at dksX1_reasonOf_0 3 rfl rfl)
theorem dX1_reasonOf_4 : decode cX1_reasonOf 4 = .ok (.iconst 0, 1) := dk_3 (dk_at dksX1_reasonOf_0 4 rfl rfl)
theorem dX1_reasonOf_5 : decode cX1_reasonOf 5 = .ok (.istore 4, 2) := dk_54 4 (dk_at dksX1_reasonOf_0 5 rfl rfl)
theorem dX1_reasonOf_7 : decode cX1_reasonOf 7 = .ok (.aload_n 1, 1) := dk_43 (dk_at dksX1_reasonOf_0 7 rfl rfl)
theorem dX1_reasonOf_8 : decode cX1_reasonOf 8 = .ok (.getfield 158, 3) := dk_180 0 158 (dk_at dksX1_reasonOf_0 8 rfl rfl)
theorem dX1_reasonOf_11 : decode cX1_reasonOf 11 = .ok (.istore 5, 2) := dk_54 5 (dk_at dksX1_reasonOf_0 11 rfl rfl)
theorem dX1_reasonOf_13 : decode cX1_reasonOf 13 = .ok (.iload 5, 2) := dk_21 5 (dk_at dksX1_reasonOf_0 13 rfl rfl)
theorem dX1_reasonOf_15 : decode cX1_reasonOf 15 = .ok (.aload_n 1, 1) := dk_43 (dk_at dksX1_reasonOf_0 15 rfl rfl)
theorem dX1_reasonOf_16 : decode cX1_reasonOf 16 = .ok (.invokevirtual 152, 3) := dk_182 0 152 (dk_at dksX1_reasonOf_0 16 rfl rfl)
theorem dX1_reasonOf_19 : decode cX1_reasonOf 19 = .ok (.if_icmp .ge 29, 3) := dk_162 0 29 (dk_at dksX1_reasonOf_0 19 rfl rfl)
theorem dX1_reasonOf_22 : decode cX1_reasonOf 22 = .ok (.iload_n 2, 1) := dk_28 (dk_at dksX1_reasonOf_0 22 rfl rfl)
theorem dX1_reasonOf_23 : decode cX1_reasonOf 23 = .ok (.aload_n 0, 1) := dk_42 (dk_at dksX1_reasonOf_0 23 rfl rfl)
theorem dX1_reasonOf_24 : decode cX1_reasonOf 24 = .ok (.getfield 33, 3) := dk_180 0 33 (dk_at dksX1_reasonOf_1 0 rfl rfl)
theorem dX1_reasonOf_27 : decode cX1_reasonOf 27 = .ok (.iload 5, 2) := dk_21 5 (dk_at dksX1_reasonOf_1 3 rfl rfl)
theorem dX1_reasonOf_29 : decode cX1_reasonOf 29 = .ok (.invokeinterface 29 2, 5) := by decide +kernel
theorem dX1_reasonOf_34 : decode cX1_reasonOf 34 = .ok (.checkcast 44, 3) := dk_192 0 44 (dk_at dksX1_reasonOf_1 10 rfl rfl)
theorem dX1_reasonOf_37 : decode cX1_reasonOf 37 = .ok (.getfield 50, 3) := dk_180 0 50 (dk_at dksX1_reasonOf_1 13 rfl rfl)
theorem dX1_reasonOf_40 : decode cX1_reasonOf 40 = .ok (.iadd, 1) := dk_96 (dk_at dksX1_reasonOf_1 16 rfl rfl)
theorem dX1_reasonOf_41 : decode cX1_reasonOf 41 = .ok (.istore_n 2, 1) := dk_61 (dk_at dksX1_reasonOf_1 17 rfl rfl)
theorem dX1_reasonOf_42 : decode cX1_reasonOf 42 = .ok (.iinc 5 1, 3) := dk_132 5 1 (dk_at dksX1_reasonOf_1 18 rfl rfl)
theorem dX1_reasonOf_45 : decode cX1_reasonOf 45 = .ok (.goto (-32), 3) := dk_167 255 224 (dk_at dksX1_reasonOf_1 21 rfl rfl)
theorem dX1_reasonOf_48 : decode cX1_reasonOf 48 = .ok (.aload_n 1, 1) := dk_43 (dk_at dksX1_reasonOf_2 0 rfl rfl)
theorem dX1_reasonOf_49 : decode cX1_reasonOf 49 = .ok (.getfield 158, 3) := dk_180 0 158 (dk_at dksX1_reasonOf_2 1 rfl rfl)
theorem dX1_reasonOf_52 : decode cX1_reasonOf 52 = .ok (.istore 5, 2) := dk_54 5 (dk_at dksX1_reasonOf_2 4 rfl rfl)
theorem dX1_reasonOf_54 : decode cX1_reasonOf 54 = .ok (.iload 5, 2) := dk_21 5 (dk_at dksX1_reasonOf_2 6 rfl rfl)
theorem dX1_reasonOf_56 : decode cX1_reasonOf 56 = .ok (.aload_n 1, 1) := dk_43 (dk_at dksX1_reasonOf_2 8 rfl rfl)
theorem dX1_reasonOf_57 : decode cX1_reasonOf 57 = .ok (.invokevirtual 152, 3) := dk_182 0 152 (dk_at dksX1_reasonOf_2 9 rfl rfl)
theorem dX1_reasonOf_60 : decode cX1_reasonOf 60 = .ok (.if_icmp .gt 33, 3) := dk_163 0 33 (dk_at dksX1_reasonOf_2 12 rfl rfl)
theorem dX1_reasonOf_63 : decode cX1_reasonOf 63 = .ok (.iload 4, 2) := dk_21 4 (dk_at dksX1_reasonOf_2 15 rfl rfl)
theorem dX1_reasonOf_65 : decode cX1_reasonOf 65 = .ok (.aload_n 0, 1) := dk_42 (dk_at dksX1_reasonOf_2 17 rfl rfl)
theorem dX1_reasonOf_66 : decode cX1_reasonOf 66 = .ok (.iload 5, 2) := dk_21 5 (dk_at dksX1_reasonOf_2 18 rfl rfl)
theorem dX1_reasonOf_68 : decode cX1_reasonOf 68 = .ok (.invokevirtual 237, 3) := dk_182 0 237 (dk_at dksX1_reasonOf_2 20 rfl rfl)
theorem dX1_reasonOf_71 : decode cX1_reasonOf 71 = .ok (.invokestatic 240, 3) := dk_184 0 240 (dk_at dksX1_reasonOf_3 0 rfl rfl)
theorem dX1_reasonOf_74 : decode cX1_reasonOf 74 = .ok (.istore 4, 2) := dk_54 4 (dk_at dksX1_reasonOf_3 3 rfl rfl)
theorem dX1_reasonOf_76 : decode cX1_reasonOf 76 = .ok (.iload_n 3, 1) := dk_29 (dk_at dksX1_reasonOf_3 5 rfl rfl)
theorem dX1_reasonOf_77 : decode cX1_reasonOf 77 = .ok (.aload_n 0, 1) := dk_42 (dk_at dksX1_reasonOf_3 6 rfl rfl)
theorem dX1_reasonOf_78 : decode cX1_reasonOf 78 = .ok (.iload 5, 2) := dk_21 5 (dk_at dksX1_reasonOf_3 7 rfl rfl)
theorem dX1_reasonOf_80 : decode cX1_reasonOf 80 = .ok (.invokevirtual 133, 3) := dk_182 0 133 (dk_at dksX1_reasonOf_3 9 rfl rfl)
theorem dX1_reasonOf_83 : decode cX1_reasonOf 83 = .ok (.invokestatic 58, 3) := dk_184 0 58 (dk_at dksX1_reasonOf_3 12 rfl rfl)
theorem dX1_reasonOf_86 : decode cX1_reasonOf 86 = .ok (.istore_n 3, 1) := dk_62 (dk_at dksX1_reasonOf_3 15 rfl rfl)
theorem dX1_reasonOf_87 : decode cX1_reasonOf 87 = .ok (.iinc 5 1, 3) := dk_132 5 1 (dk_at dksX1_reasonOf_3 16 rfl rfl)
theorem dX1_reasonOf_90 : decode cX1_reasonOf 90 = .ok (.goto (-36), 3) := dk_167 255 220 (dk_at dksX1_reasonOf_3 19 rfl rfl)
theorem dX1_reasonOf_93 : decode cX1_reasonOf 93 = .ok (.iload_n 2, 1) := dk_28 (dk_at dksX1_reasonOf_3 22 rfl rfl)
theorem dX1_reasonOf_94 : decode cX1_reasonOf 94 = .ok (.ifCond .ne 7, 3) := dk_154 0 7 (dk_at dksX1_reasonOf_4 0 rfl rfl)
theorem dX1_reasonOf_97 : decode cX1_reasonOf 97 = .ok (.iconst 1, 1) := dk_4 (dk_at dksX1_reasonOf_4 3 rfl rfl)
theorem dX1_reasonOf_98 : decode cX1_reasonOf 98 = .ok (.goto 22, 3) := dk_167 0 22 (dk_at dksX1_reasonOf_4 4 rfl rfl)
theorem dX1_reasonOf_101 : decode cX1_reasonOf 101 = .ok (.iload 4, 2) := dk_21 4 (dk_at dksX1_reasonOf_4 7 rfl rfl)
theorem dX1_reasonOf_103 : decode cX1_reasonOf 103 = .ok (.ifCond .ge 7, 3) := dk_156 0 7 (dk_at dksX1_reasonOf_4 9 rfl rfl)
theorem dX1_reasonOf_106 : decode cX1_reasonOf 106 = .ok (.iconst 2, 1) := dk_5 (dk_at dksX1_reasonOf_4 12 rfl rfl)
theorem dX1_reasonOf_107 : decode cX1_reasonOf 107 = .ok (.goto 13, 3) := dk_167 0 13 (dk_at dksX1_reasonOf_4 13 rfl rfl)
theorem dX1_reasonOf_110 : decode cX1_reasonOf 110 = .ok (.iload_n 3, 1) := dk_29 (dk_at dksX1_reasonOf_4 16 rfl rfl)
theorem dX1_reasonOf_111 : decode cX1_reasonOf 111 = .ok (.iconst 1, 1) := dk_4 (dk_at dksX1_reasonOf_4 17 rfl rfl)
theorem dX1_reasonOf_112 : decode cX1_reasonOf 112 = .ok (.if_icmp .le 7, 3) := dk_164 0 7 (dk_at dksX1_reasonOf_4 18 rfl rfl)
theorem dX1_reasonOf_115 : decode cX1_reasonOf 115 = .ok (.iconst 3, 1) := dk_6 (dk_at dksX1_reasonOf_4 21 rfl rfl)
theorem dX1_reasonOf_116 : decode cX1_reasonOf 116 = .ok (.goto 4, 3) := dk_167 0 4 (dk_at dksX1_reasonOf_5 0 rfl rfl)
theorem dX1_reasonOf_119 : decode cX1_reasonOf 119 = .ok (.iconst 0, 1) := dk_3 (dk_at dksX1_reasonOf_5 3 rfl rfl)
theorem dX1_reasonOf_120 : decode cX1_reasonOf 120 = .ok (.ireturn, 1) := dk_172 (dk_at dksX1_reasonOf_5 4 rfl rfl)
abbrev cX1_spare : ByteArray := prog_1_method_25_code
def yX1_spare : MethodName := ⟨RX1, "spare", "(I)I"⟩
def dkwX1_spare_0 : List UInt8 := [42, 27, 182, 0, 136, 42, 27, 3, 4, 182, 0, 139, 100, 172]
abbrev dktX1_spare_0 : List UInt8 := dkwX1_spare_0 ++ []
theorem dksX1_spare_0 : cX1_spare.data.toList.drop 0 = dktX1_spare_0 := by decide +kernel
theorem dX1_spare_0 : decode cX1_spare 0 = .ok (.aload_n 0, 1) := dk_42 (dk_at dksX1_spare_0 0 rfl rfl)
theorem dX1_spare_1 : decode cX1_spare 1 = .ok (.iload_n 1, 1) := dk_27 (dk_at dksX1_spare_0 1 rfl rfl)
theorem dX1_spare_2 : decode cX1_spare 2 = .ok (.invokevirtual 136, 3) := dk_182 0 136 (dk_at dksX1_spare_0 2 rfl rfl)
theorem dX1_spare_5 : decode cX1_spare 5 = .ok (.aload_n 0, 1) := dk_42 (dk_at dksX1_spare_0 5 rfl rfl)
theorem dX1_spare_6 : decode cX1_spare 6 = .ok (.iload_n 1, 1) := dk_27 (dk_at dksX1_spare_0 6 rfl rfl)
theorem dX1_spare_7 : decode cX1_spare 7 = .ok (.iconst 0, 1) := dk_3 (dk_at dksX1_spare_0 7 rfl rfl)
theorem dX1_spare_8 : decode cX1_spare 8 = .ok (.iconst 1, 1) := dk_4 (dk_at dksX1_spare_0 8 rfl rfl)
theorem dX1_spare_9 : decode cX1_spare 9 = .ok (.invokevirtual 139, 3) := dk_182 0 139 (dk_at dksX1_spare_0 9 rfl rfl)
theorem dX1_spare_12 : decode cX1_spare 12 = .ok (.isub, 1) := dk_100 (dk_at dksX1_spare_0 12 rfl rfl)
theorem dX1_spare_13 : decode cX1_spare 13 = .ok (.ireturn, 1) := dk_172 (dk_at dksX1_spare_0 13 rfl rfl)
abbrev cX1_tag : ByteArray := prog_1_method_54_code
def yX1_tag : MethodName := ⟨RX1, "tag", "(I)I"⟩
def dkwX1_tag_1 : List UInt8 := [180, 0, 176, 100, 4, 96, 167, 0, 4, 3, 172]
abbrev dktX1_tag_1 : List UInt8 := dkwX1_tag_1 ++ []
def dkwX1_tag_0 : List UInt8 := [42, 180, 0, 71, 27, 184, 0, 195, 192, 0, 74, 77, 44, 182, 0, 230, 153, 0, 17, 44, 180, 0, 247, 42]
abbrev dktX1_tag_0 : List UInt8 := dkwX1_tag_0 ++ dktX1_tag_1
theorem dksX1_tag_0 : cX1_tag.data.toList.drop 0 = dktX1_tag_0 := by decide +kernel
theorem dksX1_tag_1 : cX1_tag.data.toList.drop 24 = dktX1_tag_1 := dk_seg dksX1_tag_0 24 rfl rfl
theorem dX1_tag_0 : decode cX1_tag 0 = .ok (.aload_n 0, 1) := dk_42 (dk_at dksX1_tag_0 0 rfl rfl)
theorem dX1_tag_1 : decode cX1_tag 1 = .ok (.getfield 71, 3) := dk_180 0 71 (dk_at dksX1_tag_0 1 rfl rfl)
theorem dX1_tag_4 : decode cX1_tag 4 = .ok (.iload_n 1, 1) := dk_27 (dk_at dksX1_tag_0 4 rfl rfl)
theorem dX1_tag_5 : decode cX1_tag 5 = .ok (.invokestatic 195, 3) := dk_184 0 195 (dk_at dksX1_tag_0 5 rfl rfl)
theorem dX1_tag_8 : decode cX1_tag 8 = .ok (.checkcast 74, 3) := dk_192 0 74 (dk_at dksX1_tag_0 8 rfl rfl)
theorem dX1_tag_11 : decode cX1_tag 11 = .ok (.astore_n 2, 1) := dk_77 (dk_at dksX1_tag_0 11 rfl rfl)
theorem dX1_tag_12 : decode cX1_tag 12 = .ok (.aload_n 2, 1) := dk_44 (dk_at dksX1_tag_0 12 rfl rfl)
theorem dX1_tag_13 : decode cX1_tag 13 = .ok (.invokevirtual 230, 3) := dk_182 0 230 (dk_at dksX1_tag_0 13 rfl rfl)
theorem dX1_tag_16 : decode cX1_tag 16 = .ok (.ifCond .eq 17, 3) := dk_153 0 17 (dk_at dksX1_tag_0 16 rfl rfl)
theorem dX1_tag_19 : decode cX1_tag 19 = .ok (.aload_n 2, 1) := dk_44 (dk_at dksX1_tag_0 19 rfl rfl)
theorem dX1_tag_20 : decode cX1_tag 20 = .ok (.getfield 247, 3) := dk_180 0 247 (dk_at dksX1_tag_0 20 rfl rfl)
theorem dX1_tag_23 : decode cX1_tag 23 = .ok (.aload_n 0, 1) := dk_42 (dk_at dksX1_tag_0 23 rfl rfl)
theorem dX1_tag_24 : decode cX1_tag 24 = .ok (.getfield 176, 3) := dk_180 0 176 (dk_at dksX1_tag_1 0 rfl rfl)
theorem dX1_tag_27 : decode cX1_tag 27 = .ok (.isub, 1) := dk_100 (dk_at dksX1_tag_1 3 rfl rfl)
theorem dX1_tag_28 : decode cX1_tag 28 = .ok (.iconst 1, 1) := dk_4 (dk_at dksX1_tag_1 4 rfl rfl)
theorem dX1_tag_29 : decode cX1_tag 29 = .ok (.iadd, 1) := dk_96 (dk_at dksX1_tag_1 5 rfl rfl)
theorem dX1_tag_30 : decode cX1_tag 30 = .ok (.goto 4, 3) := dk_167 0 4 (dk_at dksX1_tag_1 6 rfl rfl)
theorem dX1_tag_33 : decode cX1_tag 33 = .ok (.iconst 0, 1) := dk_3 (dk_at dksX1_tag_1 9 rfl rfl)
theorem dX1_tag_34 : decode cX1_tag 34 = .ok (.ireturn, 1) := dk_172 (dk_at dksX1_tag_1 10 rfl rfl)
abbrev cX1_parts : ByteArray := prog_1_method_55_code
def yX1_parts : MethodName := ⟨RX1, "parts", "(II)I"⟩
def dkwX1_parts_2 : List UInt8 := [172]
abbrev dktX1_parts_2 : List UInt8 := dkwX1_parts_2 ++ []
def dkwX1_parts_1 : List UInt8 := [184, 0, 19, 184, 0, 179, 45, 199, 0, 11, 42, 28, 182, 0, 250, 167, 0, 9, 42, 45, 28, 182, 0, 165]
abbrev dktX1_parts_1 : List UInt8 := dkwX1_parts_1 ++ dktX1_parts_2
def dkwX1_parts_0 : List UInt8 := [27, 2, 160, 0, 7, 1, 167, 0, 14, 42, 180, 0, 71, 27, 184, 0, 195, 192, 0, 74, 78, 28, 3, 8]
abbrev dktX1_parts_0 : List UInt8 := dkwX1_parts_0 ++ dktX1_parts_1
theorem dksX1_parts_0 : cX1_parts.data.toList.drop 0 = dktX1_parts_0 := by decide +kernel
theorem dksX1_parts_1 : cX1_parts.data.toList.drop 24 = dktX1_parts_1 := dk_seg dksX1_parts_0 24 rfl rfl
theorem dksX1_parts_2 : cX1_parts.data.toList.drop 48 = dktX1_parts_2 := dk_seg dksX1_parts_1 24 rfl rfl
theorem dX1_parts_0 : decode cX1_parts 0 = .ok (.iload_n 1, 1) := dk_27 (dk_at dksX1_parts_0 0 rfl rfl)
theorem dX1_parts_1 : decode cX1_parts 1 = .ok (.iconst (-1), 1) := dk_2 (dk_at dksX1_parts_0 1 rfl rfl)
theorem dX1_parts_2 : decode cX1_parts 2 = .ok (.if_icmp .ne 7, 3) := dk_160 0 7 (dk_at dksX1_parts_0 2 rfl rfl)
theorem dX1_parts_5 : decode cX1_parts 5 = .ok (.aconst_null, 1) := dk_1 (dk_at dksX1_parts_0 5 rfl rfl)
theorem dX1_parts_6 : decode cX1_parts 6 = .ok (.goto 14, 3) := dk_167 0 14 (dk_at dksX1_parts_0 6 rfl rfl)
theorem dX1_parts_9 : decode cX1_parts 9 = .ok (.aload_n 0, 1) := dk_42 (dk_at dksX1_parts_0 9 rfl rfl)
theorem dX1_parts_10 : decode cX1_parts 10 = .ok (.getfield 71, 3) := dk_180 0 71 (dk_at dksX1_parts_0 10 rfl rfl)
theorem dX1_parts_13 : decode cX1_parts 13 = .ok (.iload_n 1, 1) := dk_27 (dk_at dksX1_parts_0 13 rfl rfl)
theorem dX1_parts_14 : decode cX1_parts 14 = .ok (.invokestatic 195, 3) := dk_184 0 195 (dk_at dksX1_parts_0 14 rfl rfl)
theorem dX1_parts_17 : decode cX1_parts 17 = .ok (.checkcast 74, 3) := dk_192 0 74 (dk_at dksX1_parts_0 17 rfl rfl)
theorem dX1_parts_20 : decode cX1_parts 20 = .ok (.astore_n 3, 1) := dk_78 (dk_at dksX1_parts_0 20 rfl rfl)
theorem dX1_parts_21 : decode cX1_parts 21 = .ok (.iload_n 2, 1) := dk_28 (dk_at dksX1_parts_0 21 rfl rfl)
theorem dX1_parts_22 : decode cX1_parts 22 = .ok (.iconst 0, 1) := dk_3 (dk_at dksX1_parts_0 22 rfl rfl)
theorem dX1_parts_23 : decode cX1_parts 23 = .ok (.iconst 5, 1) := dk_8 (dk_at dksX1_parts_0 23 rfl rfl)
theorem dX1_parts_24 : decode cX1_parts 24 = .ok (.invokestatic 19, 3) := dk_184 0 19 (dk_at dksX1_parts_1 0 rfl rfl)
theorem dX1_parts_27 : decode cX1_parts 27 = .ok (.invokestatic 179, 3) := dk_184 0 179 (dk_at dksX1_parts_1 3 rfl rfl)
theorem dX1_parts_30 : decode cX1_parts 30 = .ok (.aload_n 3, 1) := dk_45 (dk_at dksX1_parts_1 6 rfl rfl)
theorem dX1_parts_31 : decode cX1_parts 31 = .ok (.ifnonnull 11, 3) := dk_199 0 11 (dk_at dksX1_parts_1 7 rfl rfl)
theorem dX1_parts_34 : decode cX1_parts 34 = .ok (.aload_n 0, 1) := dk_42 (dk_at dksX1_parts_1 10 rfl rfl)
theorem dX1_parts_35 : decode cX1_parts 35 = .ok (.iload_n 2, 1) := dk_28 (dk_at dksX1_parts_1 11 rfl rfl)
theorem dX1_parts_36 : decode cX1_parts 36 = .ok (.invokevirtual 250, 3) := dk_182 0 250 (dk_at dksX1_parts_1 12 rfl rfl)
theorem dX1_parts_39 : decode cX1_parts 39 = .ok (.goto 9, 3) := dk_167 0 9 (dk_at dksX1_parts_1 15 rfl rfl)
theorem dX1_parts_42 : decode cX1_parts 42 = .ok (.aload_n 0, 1) := dk_42 (dk_at dksX1_parts_1 18 rfl rfl)
theorem dX1_parts_43 : decode cX1_parts 43 = .ok (.aload_n 3, 1) := dk_45 (dk_at dksX1_parts_1 19 rfl rfl)
theorem dX1_parts_44 : decode cX1_parts 44 = .ok (.iload_n 2, 1) := dk_28 (dk_at dksX1_parts_1 20 rfl rfl)
theorem dX1_parts_45 : decode cX1_parts 45 = .ok (.invokevirtual 165, 3) := dk_182 0 165 (dk_at dksX1_parts_1 21 rfl rfl)
theorem dX1_parts_48 : decode cX1_parts 48 = .ok (.ireturn, 1) := dk_172 (dk_at dksX1_parts_2 0 rfl rfl)
abbrev cX1_weakest : ByteArray := prog_1_method_56_code
def yX1_weakest : MethodName := ⟨RX1, "weakest", "(I)I"⟩
def dkwX1_weakest_2 : List UInt8 := [21, 4, 167, 0, 4, 29, 62, 132, 4, 1, 167, 255, 223, 29, 172]
abbrev dktX1_weakest_2 : List UInt8 := dkwX1_weakest_2 ++ []
def dkwX1_weakest_1 : List UInt8 := [21, 4, 44, 182, 0, 152, 163, 0, 30, 42, 21, 4, 182, 0, 237, 42, 29, 182, 0, 237, 162, 0, 8]
abbrev dktX1_weakest_1 : List UInt8 := dkwX1_weakest_1 ++ dktX1_weakest_2
def dkwX1_weakest_0 : List UInt8 := [42, 180, 0, 71, 27, 184, 0, 195, 192, 0, 74, 77, 44, 180, 0, 158, 62, 44, 180, 0, 158, 54, 4]
abbrev dktX1_weakest_0 : List UInt8 := dkwX1_weakest_0 ++ dktX1_weakest_1
theorem dksX1_weakest_0 : cX1_weakest.data.toList.drop 0 = dktX1_weakest_0 := by decide +kernel
theorem dksX1_weakest_1 : cX1_weakest.data.toList.drop 23 = dktX1_weakest_1 := dk_seg dksX1_weakest_0 23 rfl rfl
theorem dksX1_weakest_2 : cX1_weakest.data.toList.drop 46 = dktX1_weakest_2 := dk_seg dksX1_weakest_1 23 rfl rfl
theorem dX1_weakest_0 : decode cX1_weakest 0 = .ok (.aload_n 0, 1) := dk_42 (dk_at dksX1_weakest_0 0 rfl rfl)
theorem dX1_weakest_1 : decode cX1_weakest 1 = .ok (.getfield 71, 3) := dk_180 0 71 (dk_at dksX1_weakest_0 1 rfl rfl)
theorem dX1_weakest_4 : decode cX1_weakest 4 = .ok (.iload_n 1, 1) := dk_27 (dk_at dksX1_weakest_0 4 rfl rfl)
theorem dX1_weakest_5 : decode cX1_weakest 5 = .ok (.invokestatic 195, 3) := dk_184 0 195 (dk_at dksX1_weakest_0 5 rfl rfl)
theorem dX1_weakest_8 : decode cX1_weakest 8 = .ok (.checkcast 74, 3) := dk_192 0 74 (dk_at dksX1_weakest_0 8 rfl rfl)
theorem dX1_weakest_11 : decode cX1_weakest 11 = .ok (.astore_n 2, 1) := dk_77 (dk_at dksX1_weakest_0 11 rfl rfl)
theorem dX1_weakest_12 : decode cX1_weakest 12 = .ok (.aload_n 2, 1) := dk_44 (dk_at dksX1_weakest_0 12 rfl rfl)
theorem dX1_weakest_13 : decode cX1_weakest 13 = .ok (.getfield 158, 3) := dk_180 0 158 (dk_at dksX1_weakest_0 13 rfl rfl)
theorem dX1_weakest_16 : decode cX1_weakest 16 = .ok (.istore_n 3, 1) := dk_62 (dk_at dksX1_weakest_0 16 rfl rfl)
theorem dX1_weakest_17 : decode cX1_weakest 17 = .ok (.aload_n 2, 1) := dk_44 (dk_at dksX1_weakest_0 17 rfl rfl)
theorem dX1_weakest_18 : decode cX1_weakest 18 = .ok (.getfield 158, 3) := dk_180 0 158 (dk_at dksX1_weakest_0 18 rfl rfl)
theorem dX1_weakest_21 : decode cX1_weakest 21 = .ok (.istore 4, 2) := dk_54 4 (dk_at dksX1_weakest_0 21 rfl rfl)
theorem dX1_weakest_23 : decode cX1_weakest 23 = .ok (.iload 4, 2) := dk_21 4 (dk_at dksX1_weakest_1 0 rfl rfl)
theorem dX1_weakest_25 : decode cX1_weakest 25 = .ok (.aload_n 2, 1) := dk_44 (dk_at dksX1_weakest_1 2 rfl rfl)
theorem dX1_weakest_26 : decode cX1_weakest 26 = .ok (.invokevirtual 152, 3) := dk_182 0 152 (dk_at dksX1_weakest_1 3 rfl rfl)
theorem dX1_weakest_29 : decode cX1_weakest 29 = .ok (.if_icmp .gt 30, 3) := dk_163 0 30 (dk_at dksX1_weakest_1 6 rfl rfl)
theorem dX1_weakest_32 : decode cX1_weakest 32 = .ok (.aload_n 0, 1) := dk_42 (dk_at dksX1_weakest_1 9 rfl rfl)
theorem dX1_weakest_33 : decode cX1_weakest 33 = .ok (.iload 4, 2) := dk_21 4 (dk_at dksX1_weakest_1 10 rfl rfl)
theorem dX1_weakest_35 : decode cX1_weakest 35 = .ok (.invokevirtual 237, 3) := dk_182 0 237 (dk_at dksX1_weakest_1 12 rfl rfl)
theorem dX1_weakest_38 : decode cX1_weakest 38 = .ok (.aload_n 0, 1) := dk_42 (dk_at dksX1_weakest_1 15 rfl rfl)
theorem dX1_weakest_39 : decode cX1_weakest 39 = .ok (.iload_n 3, 1) := dk_29 (dk_at dksX1_weakest_1 16 rfl rfl)
theorem dX1_weakest_40 : decode cX1_weakest 40 = .ok (.invokevirtual 237, 3) := dk_182 0 237 (dk_at dksX1_weakest_1 17 rfl rfl)
theorem dX1_weakest_43 : decode cX1_weakest 43 = .ok (.if_icmp .ge 8, 3) := dk_162 0 8 (dk_at dksX1_weakest_1 20 rfl rfl)
theorem dX1_weakest_46 : decode cX1_weakest 46 = .ok (.iload 4, 2) := dk_21 4 (dk_at dksX1_weakest_2 0 rfl rfl)
theorem dX1_weakest_48 : decode cX1_weakest 48 = .ok (.goto 4, 3) := dk_167 0 4 (dk_at dksX1_weakest_2 2 rfl rfl)
theorem dX1_weakest_51 : decode cX1_weakest 51 = .ok (.iload_n 3, 1) := dk_29 (dk_at dksX1_weakest_2 5 rfl rfl)
theorem dX1_weakest_52 : decode cX1_weakest 52 = .ok (.istore_n 3, 1) := dk_62 (dk_at dksX1_weakest_2 6 rfl rfl)
theorem dX1_weakest_53 : decode cX1_weakest 53 = .ok (.iinc 4 1, 3) := dk_132 4 1 (dk_at dksX1_weakest_2 7 rfl rfl)
theorem dX1_weakest_56 : decode cX1_weakest 56 = .ok (.goto (-33), 3) := dk_167 255 223 (dk_at dksX1_weakest_2 10 rfl rfl)
theorem dX1_weakest_59 : decode cX1_weakest 59 = .ok (.iload_n 3, 1) := dk_29 (dk_at dksX1_weakest_2 13 rfl rfl)
theorem dX1_weakest_60 : decode cX1_weakest 60 = .ok (.ireturn, 1) := dk_172 (dk_at dksX1_weakest_2 14 rfl rfl)
abbrev cX1_mostClass : ByteArray := prog_1_method_57_code
def yX1_mostClass : MethodName := ⟨RX1, "mostClass", "(II)I"⟩
def dkwX1_mostClass_3 : List UInt8 := [167, 255, 216, 45, 180, 0, 220, 28, 21, 4, 79, 21, 5, 172]
abbrev dktX1_mostClass_3 : List UInt8 := dkwX1_mostClass_3 ++ []
def dkwX1_mostClass_2 : List UInt8 := [182, 0, 237, 155, 0, 17, 42, 27, 4, 96, 182, 0, 237, 155, 0, 7, 21, 6, 54, 5, 132, 6, 1]
abbrev dktX1_mostClass_2 : List UInt8 := dkwX1_mostClass_2 ++ dktX1_mostClass_3
def dkwX1_mostClass_1 : List UInt8 := [54, 5, 3, 54, 6, 21, 6, 16, 6, 163, 0, 39, 45, 180, 0, 220, 28, 21, 6, 79, 42, 27]
abbrev dktX1_mostClass_1 : List UInt8 := dkwX1_mostClass_1 ++ dktX1_mostClass_2
def dkwX1_mostClass_0 : List UInt8 := [42, 27, 28, 182, 0, 208, 78, 45, 28, 182, 0, 212, 184, 0, 182, 45, 180, 0, 220, 28, 46, 54, 4, 2]
abbrev dktX1_mostClass_0 : List UInt8 := dkwX1_mostClass_0 ++ dktX1_mostClass_1
theorem dksX1_mostClass_0 : cX1_mostClass.data.toList.drop 0 = dktX1_mostClass_0 := by decide +kernel
theorem dksX1_mostClass_1 : cX1_mostClass.data.toList.drop 24 = dktX1_mostClass_1 := dk_seg dksX1_mostClass_0 24 rfl rfl
theorem dksX1_mostClass_2 : cX1_mostClass.data.toList.drop 46 = dktX1_mostClass_2 := dk_seg dksX1_mostClass_1 22 rfl rfl
theorem dksX1_mostClass_3 : cX1_mostClass.data.toList.drop 69 = dktX1_mostClass_3 := dk_seg dksX1_mostClass_2 23 rfl rfl
theorem dX1_mostClass_0 : decode cX1_mostClass 0 = .ok (.aload_n 0, 1) := dk_42 (dk_at dksX1_mostClass_0 0 rfl rfl)
theorem dX1_mostClass_1 : decode cX1_mostClass 1 = .ok (.iload_n 1, 1) := dk_27 (dk_at dksX1_mostClass_0 1 rfl rfl)
theorem dX1_mostClass_2 : decode cX1_mostClass 2 = .ok (.iload_n 2, 1) := dk_28 (dk_at dksX1_mostClass_0 2 rfl rfl)
theorem dX1_mostClass_3 : decode cX1_mostClass 3 = .ok (.invokevirtual 208, 3) := dk_182 0 208 (dk_at dksX1_mostClass_0 3 rfl rfl)
theorem dX1_mostClass_6 : decode cX1_mostClass 6 = .ok (.astore_n 3, 1) := dk_78 (dk_at dksX1_mostClass_0 6 rfl rfl)
theorem dX1_mostClass_7 : decode cX1_mostClass 7 = .ok (.aload_n 3, 1) := dk_45 (dk_at dksX1_mostClass_0 7 rfl rfl)
theorem dX1_mostClass_8 : decode cX1_mostClass 8 = .ok (.iload_n 2, 1) := dk_28 (dk_at dksX1_mostClass_0 8 rfl rfl)
theorem dX1_mostClass_9 : decode cX1_mostClass 9 = .ok (.invokevirtual 212, 3) := dk_182 0 212 (dk_at dksX1_mostClass_0 9 rfl rfl)
theorem dX1_mostClass_12 : decode cX1_mostClass 12 = .ok (.invokestatic 182, 3) := dk_184 0 182 (dk_at dksX1_mostClass_0 12 rfl rfl)
theorem dX1_mostClass_15 : decode cX1_mostClass 15 = .ok (.aload_n 3, 1) := dk_45 (dk_at dksX1_mostClass_0 15 rfl rfl)
theorem dX1_mostClass_16 : decode cX1_mostClass 16 = .ok (.getfield 220, 3) := dk_180 0 220 (dk_at dksX1_mostClass_0 16 rfl rfl)
theorem dX1_mostClass_19 : decode cX1_mostClass 19 = .ok (.iload_n 2, 1) := dk_28 (dk_at dksX1_mostClass_0 19 rfl rfl)
theorem dX1_mostClass_20 : decode cX1_mostClass 20 = .ok (.iaload, 1) := dk_46 (dk_at dksX1_mostClass_0 20 rfl rfl)
theorem dX1_mostClass_21 : decode cX1_mostClass 21 = .ok (.istore 4, 2) := dk_54 4 (dk_at dksX1_mostClass_0 21 rfl rfl)
theorem dX1_mostClass_23 : decode cX1_mostClass 23 = .ok (.iconst (-1), 1) := dk_2 (dk_at dksX1_mostClass_0 23 rfl rfl)
theorem dX1_mostClass_24 : decode cX1_mostClass 24 = .ok (.istore 5, 2) := dk_54 5 (dk_at dksX1_mostClass_1 0 rfl rfl)
theorem dX1_mostClass_26 : decode cX1_mostClass 26 = .ok (.iconst 0, 1) := dk_3 (dk_at dksX1_mostClass_1 2 rfl rfl)
theorem dX1_mostClass_27 : decode cX1_mostClass 27 = .ok (.istore 6, 2) := dk_54 6 (dk_at dksX1_mostClass_1 3 rfl rfl)
theorem dX1_mostClass_29 : decode cX1_mostClass 29 = .ok (.iload 6, 2) := dk_21 6 (dk_at dksX1_mostClass_1 5 rfl rfl)
theorem dX1_mostClass_31 : decode cX1_mostClass 31 = .ok (.bipush 6, 2) := dk_16 6 (dk_at dksX1_mostClass_1 7 rfl rfl)
theorem dX1_mostClass_33 : decode cX1_mostClass 33 = .ok (.if_icmp .gt 39, 3) := dk_163 0 39 (dk_at dksX1_mostClass_1 9 rfl rfl)
theorem dX1_mostClass_36 : decode cX1_mostClass 36 = .ok (.aload_n 3, 1) := dk_45 (dk_at dksX1_mostClass_1 12 rfl rfl)
theorem dX1_mostClass_37 : decode cX1_mostClass 37 = .ok (.getfield 220, 3) := dk_180 0 220 (dk_at dksX1_mostClass_1 13 rfl rfl)
theorem dX1_mostClass_40 : decode cX1_mostClass 40 = .ok (.iload_n 2, 1) := dk_28 (dk_at dksX1_mostClass_1 16 rfl rfl)
theorem dX1_mostClass_41 : decode cX1_mostClass 41 = .ok (.iload 6, 2) := dk_21 6 (dk_at dksX1_mostClass_1 17 rfl rfl)
theorem dX1_mostClass_43 : decode cX1_mostClass 43 = .ok (.iastore, 1) := dk_79 (dk_at dksX1_mostClass_1 19 rfl rfl)
theorem dX1_mostClass_44 : decode cX1_mostClass 44 = .ok (.aload_n 0, 1) := dk_42 (dk_at dksX1_mostClass_1 20 rfl rfl)
theorem dX1_mostClass_45 : decode cX1_mostClass 45 = .ok (.iload_n 1, 1) := dk_27 (dk_at dksX1_mostClass_1 21 rfl rfl)
theorem dX1_mostClass_46 : decode cX1_mostClass 46 = .ok (.invokevirtual 237, 3) := dk_182 0 237 (dk_at dksX1_mostClass_2 0 rfl rfl)
theorem dX1_mostClass_49 : decode cX1_mostClass 49 = .ok (.ifCond .lt 17, 3) := dk_155 0 17 (dk_at dksX1_mostClass_2 3 rfl rfl)
theorem dX1_mostClass_52 : decode cX1_mostClass 52 = .ok (.aload_n 0, 1) := dk_42 (dk_at dksX1_mostClass_2 6 rfl rfl)
theorem dX1_mostClass_53 : decode cX1_mostClass 53 = .ok (.iload_n 1, 1) := dk_27 (dk_at dksX1_mostClass_2 7 rfl rfl)
theorem dX1_mostClass_54 : decode cX1_mostClass 54 = .ok (.iconst 1, 1) := dk_4 (dk_at dksX1_mostClass_2 8 rfl rfl)
theorem dX1_mostClass_55 : decode cX1_mostClass 55 = .ok (.iadd, 1) := dk_96 (dk_at dksX1_mostClass_2 9 rfl rfl)
theorem dX1_mostClass_56 : decode cX1_mostClass 56 = .ok (.invokevirtual 237, 3) := dk_182 0 237 (dk_at dksX1_mostClass_2 10 rfl rfl)
theorem dX1_mostClass_59 : decode cX1_mostClass 59 = .ok (.ifCond .lt 7, 3) := dk_155 0 7 (dk_at dksX1_mostClass_2 13 rfl rfl)
theorem dX1_mostClass_62 : decode cX1_mostClass 62 = .ok (.iload 6, 2) := dk_21 6 (dk_at dksX1_mostClass_2 16 rfl rfl)
theorem dX1_mostClass_64 : decode cX1_mostClass 64 = .ok (.istore 5, 2) := dk_54 5 (dk_at dksX1_mostClass_2 18 rfl rfl)
theorem dX1_mostClass_66 : decode cX1_mostClass 66 = .ok (.iinc 6 1, 3) := dk_132 6 1 (dk_at dksX1_mostClass_2 20 rfl rfl)
theorem dX1_mostClass_69 : decode cX1_mostClass 69 = .ok (.goto (-40), 3) := dk_167 255 216 (dk_at dksX1_mostClass_3 0 rfl rfl)
theorem dX1_mostClass_72 : decode cX1_mostClass 72 = .ok (.aload_n 3, 1) := dk_45 (dk_at dksX1_mostClass_3 3 rfl rfl)
theorem dX1_mostClass_73 : decode cX1_mostClass 73 = .ok (.getfield 220, 3) := dk_180 0 220 (dk_at dksX1_mostClass_3 4 rfl rfl)
theorem dX1_mostClass_76 : decode cX1_mostClass 76 = .ok (.iload_n 2, 1) := dk_28 (dk_at dksX1_mostClass_3 7 rfl rfl)
theorem dX1_mostClass_77 : decode cX1_mostClass 77 = .ok (.iload 4, 2) := dk_21 4 (dk_at dksX1_mostClass_3 8 rfl rfl)
theorem dX1_mostClass_79 : decode cX1_mostClass 79 = .ok (.iastore, 1) := dk_79 (dk_at dksX1_mostClass_3 10 rfl rfl)
theorem dX1_mostClass_80 : decode cX1_mostClass 80 = .ok (.iload 5, 2) := dk_21 5 (dk_at dksX1_mostClass_3 11 rfl rfl)
theorem dX1_mostClass_82 : decode cX1_mostClass 82 = .ok (.ireturn, 1) := dk_172 (dk_at dksX1_mostClass_3 13 rfl rfl)
abbrev cX1_counts : ByteArray := prog_1_method_61_code
def yX1_counts : MethodName := ⟨RX1, "counts", "(I)I"⟩
def dkwX1_counts_4 : List UInt8 := [182, 1, 3, 172]
abbrev dktX1_counts_4 : List UInt8 := dkwX1_counts_4 ++ []
def dkwX1_counts_3 : List UInt8 := [42, 182, 0, 41, 167, 0, 23, 42, 27, 182, 0, 253, 167, 0, 15, 42, 182, 1, 0, 167, 0, 8, 42, 27]
abbrev dktX1_counts_3 : List UInt8 := dkwX1_counts_3 ++ dktX1_counts_4
def dkwX1_counts_2 : List UInt8 := [42, 180, 0, 71, 185, 0, 13, 1, 0, 167, 0, 42, 42, 180, 0, 33, 185, 0, 13, 1, 0, 167, 0, 30]
abbrev dktX1_counts_2 : List UInt8 := dkwX1_counts_2 ++ dktX1_counts_3
def dkwX1_counts_1 : List UInt8 := [170, 0, 0, 0, 91, 0, 0, 0, 0, 0, 0, 0, 7, 0, 0, 0, 45, 0, 0, 0, 57, 0, 0, 0, 69, 0, 0, 0, 91, 0, 0, 0, 91, 0, 0, 0, 76, 0, 0, 0, 76, 0, 0, 0, 84]
abbrev dktX1_counts_1 : List UInt8 := dkwX1_counts_1 ++ dktX1_counts_2
def dkwX1_counts_0 : List UInt8 := [27, 3, 16, 8, 184, 0, 19, 184, 0, 179, 27]
abbrev dktX1_counts_0 : List UInt8 := dkwX1_counts_0 ++ dktX1_counts_1
theorem dksX1_counts_0 : cX1_counts.data.toList.drop 0 = dktX1_counts_0 := by decide +kernel
theorem dksX1_counts_1 : cX1_counts.data.toList.drop 11 = dktX1_counts_1 := dk_seg dksX1_counts_0 11 rfl rfl
theorem dksX1_counts_2 : cX1_counts.data.toList.drop 56 = dktX1_counts_2 := dk_seg dksX1_counts_1 45 rfl rfl
theorem dksX1_counts_3 : cX1_counts.data.toList.drop 80 = dktX1_counts_3 := dk_seg dksX1_counts_2 24 rfl rfl
theorem dksX1_counts_4 : cX1_counts.data.toList.drop 104 = dktX1_counts_4 := dk_seg dksX1_counts_3 24 rfl rfl
theorem dX1_counts_0 : decode cX1_counts 0 = .ok (.iload_n 1, 1) := dk_27 (dk_at dksX1_counts_0 0 rfl rfl)
theorem dX1_counts_1 : decode cX1_counts 1 = .ok (.iconst 0, 1) := dk_3 (dk_at dksX1_counts_0 1 rfl rfl)
theorem dX1_counts_2 : decode cX1_counts 2 = .ok (.bipush 8, 2) := dk_16 8 (dk_at dksX1_counts_0 2 rfl rfl)
theorem dX1_counts_4 : decode cX1_counts 4 = .ok (.invokestatic 19, 3) := dk_184 0 19 (dk_at dksX1_counts_0 4 rfl rfl)
theorem dX1_counts_7 : decode cX1_counts 7 = .ok (.invokestatic 179, 3) := dk_184 0 179 (dk_at dksX1_counts_0 7 rfl rfl)
theorem dX1_counts_10 : decode cX1_counts 10 = .ok (.iload_n 1, 1) := dk_27 (dk_at dksX1_counts_0 10 rfl rfl)
theorem dX1_counts_11 : decode cX1_counts 11 = .ok (.tableswitch 91 0 7 #[45, 57, 69, 91, 91, 76, 76, 84], 45) := by decide +kernel
theorem dX1_counts_56 : decode cX1_counts 56 = .ok (.aload_n 0, 1) := dk_42 (dk_at dksX1_counts_2 0 rfl rfl)
theorem dX1_counts_57 : decode cX1_counts 57 = .ok (.getfield 71, 3) := dk_180 0 71 (dk_at dksX1_counts_2 1 rfl rfl)
theorem dX1_counts_60 : decode cX1_counts 60 = .ok (.invokeinterface 13 1, 5) := by decide +kernel
theorem dX1_counts_65 : decode cX1_counts 65 = .ok (.goto 42, 3) := dk_167 0 42 (dk_at dksX1_counts_2 9 rfl rfl)
theorem dX1_counts_68 : decode cX1_counts 68 = .ok (.aload_n 0, 1) := dk_42 (dk_at dksX1_counts_2 12 rfl rfl)
theorem dX1_counts_69 : decode cX1_counts 69 = .ok (.getfield 33, 3) := dk_180 0 33 (dk_at dksX1_counts_2 13 rfl rfl)
theorem dX1_counts_72 : decode cX1_counts 72 = .ok (.invokeinterface 13 1, 5) := by decide +kernel
theorem dX1_counts_77 : decode cX1_counts 77 = .ok (.goto 30, 3) := dk_167 0 30 (dk_at dksX1_counts_2 21 rfl rfl)
theorem dX1_counts_80 : decode cX1_counts 80 = .ok (.aload_n 0, 1) := dk_42 (dk_at dksX1_counts_3 0 rfl rfl)
theorem dX1_counts_81 : decode cX1_counts 81 = .ok (.invokevirtual 41, 3) := dk_182 0 41 (dk_at dksX1_counts_3 1 rfl rfl)
theorem dX1_counts_84 : decode cX1_counts 84 = .ok (.goto 23, 3) := dk_167 0 23 (dk_at dksX1_counts_3 4 rfl rfl)
theorem dX1_counts_87 : decode cX1_counts 87 = .ok (.aload_n 0, 1) := dk_42 (dk_at dksX1_counts_3 7 rfl rfl)
theorem dX1_counts_88 : decode cX1_counts 88 = .ok (.iload_n 1, 1) := dk_27 (dk_at dksX1_counts_3 8 rfl rfl)
theorem dX1_counts_89 : decode cX1_counts 89 = .ok (.invokevirtual 253, 3) := dk_182 0 253 (dk_at dksX1_counts_3 9 rfl rfl)
theorem dX1_counts_92 : decode cX1_counts 92 = .ok (.goto 15, 3) := dk_167 0 15 (dk_at dksX1_counts_3 12 rfl rfl)
theorem dX1_counts_95 : decode cX1_counts 95 = .ok (.aload_n 0, 1) := dk_42 (dk_at dksX1_counts_3 15 rfl rfl)
theorem dX1_counts_96 : decode cX1_counts 96 = .ok (.invokevirtual 256, 3) := dk_182 1 0 (dk_at dksX1_counts_3 16 rfl rfl)
theorem dX1_counts_99 : decode cX1_counts 99 = .ok (.goto 8, 3) := dk_167 0 8 (dk_at dksX1_counts_3 19 rfl rfl)
theorem dX1_counts_102 : decode cX1_counts 102 = .ok (.aload_n 0, 1) := dk_42 (dk_at dksX1_counts_3 22 rfl rfl)
theorem dX1_counts_103 : decode cX1_counts 103 = .ok (.iload_n 1, 1) := dk_27 (dk_at dksX1_counts_3 23 rfl rfl)
theorem dX1_counts_104 : decode cX1_counts 104 = .ok (.invokevirtual 259, 3) := dk_182 1 3 (dk_at dksX1_counts_4 0 rfl rfl)
theorem dX1_counts_107 : decode cX1_counts 107 = .ok (.ireturn, 1) := dk_172 (dk_at dksX1_counts_4 3 rfl rfl)
abbrev cX1_ofPositions : ByteArray := prog_1_method_59_code
def yX1_ofPositions : MethodName := ⟨RX1, "ofPositions", "(I)I"⟩
def dkwX1_ofPositions_3 : List UInt8 := [132, 3, 1, 167, 255, 186, 28, 172]
abbrev dktX1_ofPositions_3 : List UInt8 := dkwX1_ofPositions_3 ++ []
def dkwX1_ofPositions_2 : List UInt8 := [180, 0, 102, 21, 4, 50, 29, 51, 153, 0, 7, 4, 167, 0, 4, 3, 96, 61, 132, 4, 1, 167, 255, 221]
abbrev dktX1_ofPositions_2 : List UInt8 := dkwX1_ofPositions_2 ++ dktX1_ofPositions_3
def dkwX1_ofPositions_1 : List UInt8 := [167, 0, 4, 3, 96, 61, 3, 54, 4, 21, 4, 16, 8, 162, 0, 34, 27, 8, 160, 0, 29, 28, 42]
abbrev dktX1_ofPositions_1 : List UInt8 := dkwX1_ofPositions_1 ++ dktX1_ofPositions_2
def dkwX1_ofPositions_0 : List UInt8 := [3, 61, 3, 62, 29, 42, 182, 0, 41, 162, 0, 68, 28, 27, 16, 6, 160, 0, 11, 42, 29, 182, 0, 133]
abbrev dktX1_ofPositions_0 : List UInt8 := dkwX1_ofPositions_0 ++ dktX1_ofPositions_1
theorem dksX1_ofPositions_0 : cX1_ofPositions.data.toList.drop 0 = dktX1_ofPositions_0 := by decide +kernel
theorem dksX1_ofPositions_1 : cX1_ofPositions.data.toList.drop 24 = dktX1_ofPositions_1 := dk_seg dksX1_ofPositions_0 24 rfl rfl
theorem dksX1_ofPositions_2 : cX1_ofPositions.data.toList.drop 47 = dktX1_ofPositions_2 := dk_seg dksX1_ofPositions_1 23 rfl rfl
theorem dksX1_ofPositions_3 : cX1_ofPositions.data.toList.drop 71 = dktX1_ofPositions_3 := dk_seg dksX1_ofPositions_2 24 rfl rfl
theorem dX1_ofPositions_0 : decode cX1_ofPositions 0 = .ok (.iconst 0, 1) := dk_3 (dk_at dksX1_ofPositions_0 0 rfl rfl)
theorem dX1_ofPositions_1 : decode cX1_ofPositions 1 = .ok (.istore_n 2, 1) := dk_61 (dk_at dksX1_ofPositions_0 1 rfl rfl)
theorem dX1_ofPositions_2 : decode cX1_ofPositions 2 = .ok (.iconst 0, 1) := dk_3 (dk_at dksX1_ofPositions_0 2 rfl rfl)
theorem dX1_ofPositions_3 : decode cX1_ofPositions 3 = .ok (.istore_n 3, 1) := dk_62 (dk_at dksX1_ofPositions_0 3 rfl rfl)
theorem dX1_ofPositions_4 : decode cX1_ofPositions 4 = .ok (.iload_n 3, 1) := dk_29 (dk_at dksX1_ofPositions_0 4 rfl rfl)
theorem dX1_ofPositions_5 : decode cX1_ofPositions 5 = .ok (.aload_n 0, 1) := dk_42 (dk_at dksX1_ofPositions_0 5 rfl rfl)
theorem dX1_ofPositions_6 : decode cX1_ofPositions 6 = .ok (.invokevirtual 41, 3) := dk_182 0 41 (dk_at dksX1_ofPositions_0 6 rfl rfl)
theorem dX1_ofPositions_9 : decode cX1_ofPositions 9 = .ok (.if_icmp .ge 68, 3) := dk_162 0 68 (dk_at dksX1_ofPositions_0 9 rfl rfl)
theorem dX1_ofPositions_12 : decode cX1_ofPositions 12 = .ok (.iload_n 2, 1) := dk_28 (dk_at dksX1_ofPositions_0 12 rfl rfl)
theorem dX1_ofPositions_13 : decode cX1_ofPositions 13 = .ok (.iload_n 1, 1) := dk_27 (dk_at dksX1_ofPositions_0 13 rfl rfl)
theorem dX1_ofPositions_14 : decode cX1_ofPositions 14 = .ok (.bipush 6, 2) := dk_16 6 (dk_at dksX1_ofPositions_0 14 rfl rfl)
theorem dX1_ofPositions_16 : decode cX1_ofPositions 16 = .ok (.if_icmp .ne 11, 3) := dk_160 0 11 (dk_at dksX1_ofPositions_0 16 rfl rfl)
theorem dX1_ofPositions_19 : decode cX1_ofPositions 19 = .ok (.aload_n 0, 1) := dk_42 (dk_at dksX1_ofPositions_0 19 rfl rfl)
theorem dX1_ofPositions_20 : decode cX1_ofPositions 20 = .ok (.iload_n 3, 1) := dk_29 (dk_at dksX1_ofPositions_0 20 rfl rfl)
theorem dX1_ofPositions_21 : decode cX1_ofPositions 21 = .ok (.invokevirtual 133, 3) := dk_182 0 133 (dk_at dksX1_ofPositions_0 21 rfl rfl)
theorem dX1_ofPositions_24 : decode cX1_ofPositions 24 = .ok (.goto 4, 3) := dk_167 0 4 (dk_at dksX1_ofPositions_1 0 rfl rfl)
theorem dX1_ofPositions_27 : decode cX1_ofPositions 27 = .ok (.iconst 0, 1) := dk_3 (dk_at dksX1_ofPositions_1 3 rfl rfl)
theorem dX1_ofPositions_28 : decode cX1_ofPositions 28 = .ok (.iadd, 1) := dk_96 (dk_at dksX1_ofPositions_1 4 rfl rfl)
theorem dX1_ofPositions_29 : decode cX1_ofPositions 29 = .ok (.istore_n 2, 1) := dk_61 (dk_at dksX1_ofPositions_1 5 rfl rfl)
theorem dX1_ofPositions_30 : decode cX1_ofPositions 30 = .ok (.iconst 0, 1) := dk_3 (dk_at dksX1_ofPositions_1 6 rfl rfl)
theorem dX1_ofPositions_31 : decode cX1_ofPositions 31 = .ok (.istore 4, 2) := dk_54 4 (dk_at dksX1_ofPositions_1 7 rfl rfl)
theorem dX1_ofPositions_33 : decode cX1_ofPositions 33 = .ok (.iload 4, 2) := dk_21 4 (dk_at dksX1_ofPositions_1 9 rfl rfl)
theorem dX1_ofPositions_35 : decode cX1_ofPositions 35 = .ok (.bipush 8, 2) := dk_16 8 (dk_at dksX1_ofPositions_1 11 rfl rfl)
theorem dX1_ofPositions_37 : decode cX1_ofPositions 37 = .ok (.if_icmp .ge 34, 3) := dk_162 0 34 (dk_at dksX1_ofPositions_1 13 rfl rfl)
theorem dX1_ofPositions_40 : decode cX1_ofPositions 40 = .ok (.iload_n 1, 1) := dk_27 (dk_at dksX1_ofPositions_1 16 rfl rfl)
theorem dX1_ofPositions_41 : decode cX1_ofPositions 41 = .ok (.iconst 5, 1) := dk_8 (dk_at dksX1_ofPositions_1 17 rfl rfl)
theorem dX1_ofPositions_42 : decode cX1_ofPositions 42 = .ok (.if_icmp .ne 29, 3) := dk_160 0 29 (dk_at dksX1_ofPositions_1 18 rfl rfl)
theorem dX1_ofPositions_45 : decode cX1_ofPositions 45 = .ok (.iload_n 2, 1) := dk_28 (dk_at dksX1_ofPositions_1 21 rfl rfl)
theorem dX1_ofPositions_46 : decode cX1_ofPositions 46 = .ok (.aload_n 0, 1) := dk_42 (dk_at dksX1_ofPositions_1 22 rfl rfl)
theorem dX1_ofPositions_47 : decode cX1_ofPositions 47 = .ok (.getfield 102, 3) := dk_180 0 102 (dk_at dksX1_ofPositions_2 0 rfl rfl)
theorem dX1_ofPositions_50 : decode cX1_ofPositions 50 = .ok (.iload 4, 2) := dk_21 4 (dk_at dksX1_ofPositions_2 3 rfl rfl)
theorem dX1_ofPositions_52 : decode cX1_ofPositions 52 = .ok (.aaload, 1) := dk_50 (dk_at dksX1_ofPositions_2 5 rfl rfl)
theorem dX1_ofPositions_53 : decode cX1_ofPositions 53 = .ok (.iload_n 3, 1) := dk_29 (dk_at dksX1_ofPositions_2 6 rfl rfl)
theorem dX1_ofPositions_54 : decode cX1_ofPositions 54 = .ok (.baload, 1) := dk_51 (dk_at dksX1_ofPositions_2 7 rfl rfl)
theorem dX1_ofPositions_55 : decode cX1_ofPositions 55 = .ok (.ifCond .eq 7, 3) := dk_153 0 7 (dk_at dksX1_ofPositions_2 8 rfl rfl)
theorem dX1_ofPositions_58 : decode cX1_ofPositions 58 = .ok (.iconst 1, 1) := dk_4 (dk_at dksX1_ofPositions_2 11 rfl rfl)
theorem dX1_ofPositions_59 : decode cX1_ofPositions 59 = .ok (.goto 4, 3) := dk_167 0 4 (dk_at dksX1_ofPositions_2 12 rfl rfl)
theorem dX1_ofPositions_62 : decode cX1_ofPositions 62 = .ok (.iconst 0, 1) := dk_3 (dk_at dksX1_ofPositions_2 15 rfl rfl)
theorem dX1_ofPositions_63 : decode cX1_ofPositions 63 = .ok (.iadd, 1) := dk_96 (dk_at dksX1_ofPositions_2 16 rfl rfl)
theorem dX1_ofPositions_64 : decode cX1_ofPositions 64 = .ok (.istore_n 2, 1) := dk_61 (dk_at dksX1_ofPositions_2 17 rfl rfl)
theorem dX1_ofPositions_65 : decode cX1_ofPositions 65 = .ok (.iinc 4 1, 3) := dk_132 4 1 (dk_at dksX1_ofPositions_2 18 rfl rfl)
theorem dX1_ofPositions_68 : decode cX1_ofPositions 68 = .ok (.goto (-35), 3) := dk_167 255 221 (dk_at dksX1_ofPositions_2 21 rfl rfl)
theorem dX1_ofPositions_71 : decode cX1_ofPositions 71 = .ok (.iinc 3 1, 3) := dk_132 3 1 (dk_at dksX1_ofPositions_3 0 rfl rfl)
theorem dX1_ofPositions_74 : decode cX1_ofPositions 74 = .ok (.goto (-70), 3) := dk_167 255 186 (dk_at dksX1_ofPositions_3 3 rfl rfl)
theorem dX1_ofPositions_77 : decode cX1_ofPositions 77 = .ok (.iload_n 2, 1) := dk_28 (dk_at dksX1_ofPositions_3 6 rfl rfl)
theorem dX1_ofPositions_78 : decode cX1_ofPositions 78 = .ok (.ireturn, 1) := dk_172 (dk_at dksX1_ofPositions_3 7 rfl rfl)
abbrev cX1_greenFaces : ByteArray := prog_1_method_60_code
def yX1_greenFaces : MethodName := ⟨RX1, "greenFaces", "()I"⟩
def dkwX1_greenFaces_2 : List UInt8 := [167, 255, 213, 27, 172]
abbrev dktX1_greenFaces_2 : List UInt8 := dkwX1_greenFaces_2 ++ []
def dkwX1_greenFaces_1 : List UInt8 := [185, 0, 29, 2, 0, 192, 0, 74, 182, 0, 230, 153, 0, 7, 4, 167, 0, 4, 3, 96, 60, 132, 2, 1]
abbrev dktX1_greenFaces_1 : List UInt8 := dkwX1_greenFaces_1 ++ dktX1_greenFaces_2
def dkwX1_greenFaces_0 : List UInt8 := [3, 60, 3, 61, 28, 42, 180, 0, 71, 185, 0, 13, 1, 0, 162, 0, 36, 27, 42, 180, 0, 71, 28]
abbrev dktX1_greenFaces_0 : List UInt8 := dkwX1_greenFaces_0 ++ dktX1_greenFaces_1
theorem dksX1_greenFaces_0 : cX1_greenFaces.data.toList.drop 0 = dktX1_greenFaces_0 := by decide +kernel
theorem dksX1_greenFaces_1 : cX1_greenFaces.data.toList.drop 23 = dktX1_greenFaces_1 := dk_seg dksX1_greenFaces_0 23 rfl rfl
theorem dksX1_greenFaces_2 : cX1_greenFaces.data.toList.drop 47 = dktX1_greenFaces_2 := dk_seg dksX1_greenFaces_1 24 rfl rfl
theorem dX1_greenFaces_0 : decode cX1_greenFaces 0 = .ok (.iconst 0, 1) := dk_3 (dk_at dksX1_greenFaces_0 0 rfl rfl)
theorem dX1_greenFaces_1 : decode cX1_greenFaces 1 = .ok (.istore_n 1, 1) := dk_60 (dk_at dksX1_greenFaces_0 1 rfl rfl)
theorem dX1_greenFaces_2 : decode cX1_greenFaces 2 = .ok (.iconst 0, 1) := dk_3 (dk_at dksX1_greenFaces_0 2 rfl rfl)
theorem dX1_greenFaces_3 : decode cX1_greenFaces 3 = .ok (.istore_n 2, 1) := dk_61 (dk_at dksX1_greenFaces_0 3 rfl rfl)
theorem dX1_greenFaces_4 : decode cX1_greenFaces 4 = .ok (.iload_n 2, 1) := dk_28 (dk_at dksX1_greenFaces_0 4 rfl rfl)
theorem dX1_greenFaces_5 : decode cX1_greenFaces 5 = .ok (.aload_n 0, 1) := dk_42 (dk_at dksX1_greenFaces_0 5 rfl rfl)
theorem dX1_greenFaces_6 : decode cX1_greenFaces 6 = .ok (.getfield 71, 3) := dk_180 0 71 (dk_at dksX1_greenFaces_0 6 rfl rfl)
theorem dX1_greenFaces_9 : decode cX1_greenFaces 9 = .ok (.invokeinterface 13 1, 5) := by decide +kernel
theorem dX1_greenFaces_14 : decode cX1_greenFaces 14 = .ok (.if_icmp .ge 36, 3) := dk_162 0 36 (dk_at dksX1_greenFaces_0 14 rfl rfl)
theorem dX1_greenFaces_17 : decode cX1_greenFaces 17 = .ok (.iload_n 1, 1) := dk_27 (dk_at dksX1_greenFaces_0 17 rfl rfl)
theorem dX1_greenFaces_18 : decode cX1_greenFaces 18 = .ok (.aload_n 0, 1) := dk_42 (dk_at dksX1_greenFaces_0 18 rfl rfl)
theorem dX1_greenFaces_19 : decode cX1_greenFaces 19 = .ok (.getfield 71, 3) := dk_180 0 71 (dk_at dksX1_greenFaces_0 19 rfl rfl)
theorem dX1_greenFaces_22 : decode cX1_greenFaces 22 = .ok (.iload_n 2, 1) := dk_28 (dk_at dksX1_greenFaces_0 22 rfl rfl)
theorem dX1_greenFaces_23 : decode cX1_greenFaces 23 = .ok (.invokeinterface 29 2, 5) := by decide +kernel
theorem dX1_greenFaces_28 : decode cX1_greenFaces 28 = .ok (.checkcast 74, 3) := dk_192 0 74 (dk_at dksX1_greenFaces_1 5 rfl rfl)
theorem dX1_greenFaces_31 : decode cX1_greenFaces 31 = .ok (.invokevirtual 230, 3) := dk_182 0 230 (dk_at dksX1_greenFaces_1 8 rfl rfl)
theorem dX1_greenFaces_34 : decode cX1_greenFaces 34 = .ok (.ifCond .eq 7, 3) := dk_153 0 7 (dk_at dksX1_greenFaces_1 11 rfl rfl)
theorem dX1_greenFaces_37 : decode cX1_greenFaces 37 = .ok (.iconst 1, 1) := dk_4 (dk_at dksX1_greenFaces_1 14 rfl rfl)
theorem dX1_greenFaces_38 : decode cX1_greenFaces 38 = .ok (.goto 4, 3) := dk_167 0 4 (dk_at dksX1_greenFaces_1 15 rfl rfl)
theorem dX1_greenFaces_41 : decode cX1_greenFaces 41 = .ok (.iconst 0, 1) := dk_3 (dk_at dksX1_greenFaces_1 18 rfl rfl)
theorem dX1_greenFaces_42 : decode cX1_greenFaces 42 = .ok (.iadd, 1) := dk_96 (dk_at dksX1_greenFaces_1 19 rfl rfl)
theorem dX1_greenFaces_43 : decode cX1_greenFaces 43 = .ok (.istore_n 1, 1) := dk_60 (dk_at dksX1_greenFaces_1 20 rfl rfl)
theorem dX1_greenFaces_44 : decode cX1_greenFaces 44 = .ok (.iinc 2 1, 3) := dk_132 2 1 (dk_at dksX1_greenFaces_1 21 rfl rfl)
theorem dX1_greenFaces_47 : decode cX1_greenFaces 47 = .ok (.goto (-43), 3) := dk_167 255 213 (dk_at dksX1_greenFaces_2 0 rfl rfl)
theorem dX1_greenFaces_50 : decode cX1_greenFaces 50 = .ok (.iload_n 1, 1) := dk_27 (dk_at dksX1_greenFaces_2 3 rfl rfl)
theorem dX1_greenFaces_51 : decode cX1_greenFaces 51 = .ok (.ireturn, 1) := dk_172 (dk_at dksX1_greenFaces_2 4 rfl rfl)
theorem q67 : (Jvm.Cond.initialized "Scaffolder") ∈ lw_all := lw_g (lw_at lw_m1 1 rfl) rfl
theorem q98 : (Jvm.Cond.instantiable "Scaffolder" (7 : Nat)) ∈ lw_all := lw_g (lw_at lw_m1 32 rfl) rfl
theorem q100 : (Jvm.Cond.instanceMethod ({ cls := "Scaffolder", name := "<init>", desc := "()V" } : Jvm.MethodName)) ∈ lw_all := lw_g (lw_at lw_m1 34 rfl) rfl
theorem q101 : (Jvm.Cond.code ({ cls := "Scaffolder", name := "<init>", desc := "()V" } : Jvm.MethodName) prog_1_method_30_code (1 : Nat) (Option.none : Option Jvm.ClassFile.FieldType)) ∈ lw_all := lw_g (lw_at lw_m1 35 rfl) rfl
theorem q102 : (Jvm.Cond.methodLink "Scaffolder" (168 : Nat) ({ cls := "java/lang/Object", name := "<init>", desc := "()V" } : Jvm.MethodName)) ∈ lw_all := lw_g (lw_at lw_m1 36 rfl) rfl
theorem q105 : (Jvm.Cond.classLink "Scaffolder" (79 : Nat) "java/util/ArrayList") ∈ lw_all := lw_g (lw_at lw_m1 39 rfl) rfl
theorem q107 : (Jvm.Cond.methodLink "Scaffolder" (81 : Nat) ({ cls := "java/util/ArrayList", name := "<init>", desc := "(I)V" } : Jvm.MethodName)) ∈ lw_all := lw_g (lw_at lw_m1 41 rfl) rfl
theorem q446 : (Jvm.Cond.classLink "Scaffolder" (171 : Nat) "[[Z") ∈ lw_all := lw_g (lw_at lw_m2 140 rfl) rfl
theorem q448 : (Jvm.Cond.classLink "Scaffolder" (172 : Nat) "[[I") ∈ lw_all := lw_g (lw_at lw_m2 142 rfl) rfl
theorem q450 : (Jvm.Cond.methodLink "Scaffolder" (173 : Nat) ({ cls := "Scaffolder", name := "findTies", desc := "()V" } : Jvm.MethodName)) ∈ lw_all := lw_g (lw_at lw_m2 144 rfl) rfl
theorem q451 : (Jvm.Cond.privateMethod ({ cls := "Scaffolder", name := "findTies", desc := "()V" } : Jvm.MethodName)) ∈ lw_tbl := lw_at lw_m2 145 rfl
theorem q452 : (Jvm.Cond.instanceMethod ({ cls := "Scaffolder", name := "findTies", desc := "()V" } : Jvm.MethodName)) ∈ lw_all := lw_g (lw_at lw_m2 146 rfl) rfl
theorem q453 : (Jvm.Cond.code ({ cls := "Scaffolder", name := "findTies", desc := "()V" } : Jvm.MethodName) prog_1_method_20_code (4 : Nat) (Option.none : Option Jvm.ClassFile.FieldType)) ∈ lw_all := lw_g (lw_at lw_m2 147 rfl) rfl
theorem q454 : (Jvm.Cond.methodLink "Scaffolder" (109 : Nat) ({ cls := "Scaffolder", name := "isAsked", desc := "(II)Z" } : Jvm.MethodName)) ∈ lw_all := lw_g (lw_at lw_m2 148 rfl) rfl
theorem q455 : (Jvm.Cond.privateMethod ({ cls := "Scaffolder", name := "isAsked", desc := "(II)Z" } : Jvm.MethodName)) ∈ lw_tbl := lw_at lw_m2 149 rfl
theorem q456 : (Jvm.Cond.instanceMethod ({ cls := "Scaffolder", name := "isAsked", desc := "(II)Z" } : Jvm.MethodName)) ∈ lw_all := lw_g (lw_at lw_m2 150 rfl) rfl
theorem q457 : (Jvm.Cond.code ({ cls := "Scaffolder", name := "isAsked", desc := "(II)Z" } : Jvm.MethodName) prog_1_method_18_code (3 : Nat) (Option.some Jvm.ClassFile.FieldType.boolean)) ∈ lw_all := lw_g (lw_at lw_m2 151 rfl) rfl
theorem q458 : (Jvm.Cond.methodLink "Scaffolder" (98 : Nat) ({ cls := "Scaffolder", name := "hasLevel", desc := "(II)Z" } : Jvm.MethodName)) ∈ lw_all := lw_g (lw_at lw_m2 152 rfl) rfl
theorem q459 : (Jvm.Cond.privateMethod ({ cls := "Scaffolder", name := "hasLevel", desc := "(II)Z" } : Jvm.MethodName)) ∈ lw_tbl := lw_at lw_m2 153 rfl
theorem q460 : (Jvm.Cond.instanceMethod ({ cls := "Scaffolder", name := "hasLevel", desc := "(II)Z" } : Jvm.MethodName)) ∈ lw_all := lw_g (lw_at lw_m2 154 rfl) rfl
theorem q461 : (Jvm.Cond.code ({ cls := "Scaffolder", name := "hasLevel", desc := "(II)Z" } : Jvm.MethodName) prog_1_method_13_code (3 : Nat) (Option.some Jvm.ClassFile.FieldType.boolean)) ∈ lw_all := lw_g (lw_at lw_m2 155 rfl) rfl
theorem q462 : (Jvm.Cond.methodLink "Scaffolder" (41 : Nat) ({ cls := "Scaffolder", name := "positions", desc := "()I" } : Jvm.MethodName)) ∈ lw_all := lw_g (lw_at lw_m2 156 rfl) rfl
theorem q463 : (Jvm.Cond.privateMethod ({ cls := "Scaffolder", name := "positions", desc := "()I" } : Jvm.MethodName)) ∈ lw_tbl := lw_at lw_m2 157 rfl
theorem q464 : (Jvm.Cond.instanceMethod ({ cls := "Scaffolder", name := "positions", desc := "()I" } : Jvm.MethodName)) ∈ lw_all := lw_g (lw_at lw_m2 158 rfl) rfl
theorem q465 : (Jvm.Cond.code ({ cls := "Scaffolder", name := "positions", desc := "()I" } : Jvm.MethodName) prog_1_method_8_code (1 : Nat) (Option.some Jvm.ClassFile.FieldType.int)) ∈ lw_all := lw_g (lw_at lw_m2 159 rfl) rfl
theorem q466 : (Jvm.Cond.interfaceEntry "Scaffolder" (37 : Nat)) ∈ lw_tbl := lw_at lw_m2 160 rfl
theorem q467 : (Jvm.Cond.methodLink "Scaffolder" (37 : Nat) ({ cls := "java/util/List", name := "isEmpty", desc := "()Z" } : Jvm.MethodName)) ∈ lw_all := lw_g (lw_at lw_m2 161 rfl) rfl
theorem q476 : (Jvm.Cond.interfaceEntry "Scaffolder" (13 : Nat)) ∈ lw_tbl := lw_at lw_m2 170 rfl
theorem q477 : (Jvm.Cond.methodLink "Scaffolder" (13 : Nat) ({ cls := "java/util/List", name := "size", desc := "()I" } : Jvm.MethodName)) ∈ lw_all := lw_g (lw_at lw_m2 171 rfl) rfl
theorem q485 : (Jvm.Cond.methodLink "Scaffolder" (19 : Nat) ({ cls := "Scaffolder", name := "inRange", desc := "(III)Z" } : Jvm.MethodName)) ∈ lw_all := lw_g (lw_at lw_m2 179 rfl) rfl
theorem q486 : (Jvm.Cond.static ({ cls := "Scaffolder", name := "inRange", desc := "(III)Z" } : Jvm.MethodName)) ∈ lw_all := lw_g (lw_at lw_m2 180 rfl) rfl
theorem q487 : (Jvm.Cond.code ({ cls := "Scaffolder", name := "inRange", desc := "(III)Z" } : Jvm.MethodName) prog_1_method_4_code (3 : Nat) (Option.some Jvm.ClassFile.FieldType.boolean)) ∈ lw_all := lw_g (lw_at lw_m2 181 rfl) rfl
theorem q488 : (Jvm.Cond.methodLink "Scaffolder" (64 : Nat) ({ cls := "Scaffolder", name := "levelsOf", desc := "(I)I" } : Jvm.MethodName)) ∈ lw_all := lw_g (lw_at lw_m2 182 rfl) rfl
theorem q489 : (Jvm.Cond.privateMethod ({ cls := "Scaffolder", name := "levelsOf", desc := "(I)I" } : Jvm.MethodName)) ∈ lw_tbl := lw_at lw_m2 183 rfl
theorem q490 : (Jvm.Cond.instanceMethod ({ cls := "Scaffolder", name := "levelsOf", desc := "(I)I" } : Jvm.MethodName)) ∈ lw_all := lw_g (lw_at lw_m2 184 rfl) rfl
theorem q491 : (Jvm.Cond.code ({ cls := "Scaffolder", name := "levelsOf", desc := "(I)I" } : Jvm.MethodName) prog_1_method_12_code (2 : Nat) (Option.some Jvm.ClassFile.FieldType.int)) ∈ lw_all := lw_g (lw_at lw_m2 185 rfl) rfl
theorem q492 : (Jvm.Cond.methodLink "Scaffolder" (54 : Nat) ({ cls := "Scaffolder", name := "liftsOf", desc := "(I)I" } : Jvm.MethodName)) ∈ lw_all := lw_g (lw_at lw_m2 186 rfl) rfl
theorem q493 : (Jvm.Cond.privateMethod ({ cls := "Scaffolder", name := "liftsOf", desc := "(I)I" } : Jvm.MethodName)) ∈ lw_tbl := lw_at lw_m2 187 rfl
theorem q494 : (Jvm.Cond.instanceMethod ({ cls := "Scaffolder", name := "liftsOf", desc := "(I)I" } : Jvm.MethodName)) ∈ lw_all := lw_g (lw_at lw_m2 188 rfl) rfl
theorem q495 : (Jvm.Cond.code ({ cls := "Scaffolder", name := "liftsOf", desc := "(I)I" } : Jvm.MethodName) prog_1_method_11_code (2 : Nat) (Option.some Jvm.ClassFile.FieldType.int)) ∈ lw_all := lw_g (lw_at lw_m2 189 rfl) rfl
theorem q496 : (Jvm.Cond.interfaceEntry "Scaffolder" (29 : Nat)) ∈ lw_tbl := lw_at lw_m2 190 rfl
theorem q497 : (Jvm.Cond.methodLink "Scaffolder" (29 : Nat) ({ cls := "java/util/List", name := "get", desc := "(I)Ljava/lang/Object;" } : Jvm.MethodName)) ∈ lw_all := lw_g (lw_at lw_m2 191 rfl) rfl
theorem q515 : (Jvm.Cond.classLink "Scaffolder" (44 : Nat) "Scaffolder$Bay") ∈ lw_all := lw_g (lw_at lw_m2 209 rfl) rfl
theorem q516 : (Jvm.Cond.methodLink "Scaffolder" (58 : Nat) ({ cls := "java/lang/Math", name := "max", desc := "(II)I" } : Jvm.MethodName)) ∈ lw_all := lw_g (lw_at lw_m2 210 rfl) rfl
theorem q517 : (Jvm.Cond.methodLink "Scaffolder" (116 : Nat) ({ cls := "Scaffolder", name := "move", desc := "(II)V" } : Jvm.MethodName)) ∈ lw_all := lw_g (lw_at lw_m2 211 rfl) rfl
theorem q518 : (Jvm.Cond.privateMethod ({ cls := "Scaffolder", name := "move", desc := "(II)V" } : Jvm.MethodName)) ∈ lw_tbl := lw_at lw_m2 212 rfl
theorem q519 : (Jvm.Cond.instanceMethod ({ cls := "Scaffolder", name := "move", desc := "(II)V" } : Jvm.MethodName)) ∈ lw_all := lw_g (lw_at lw_m2 213 rfl) rfl
theorem q520 : (Jvm.Cond.code ({ cls := "Scaffolder", name := "move", desc := "(II)V" } : Jvm.MethodName) prog_1_method_21_code (4 : Nat) (Option.none : Option Jvm.ClassFile.FieldType)) ∈ lw_all := lw_g (lw_at lw_m2 214 rfl) rfl
theorem q521 : (Jvm.Cond.methodLink "Scaffolder" (120 : Nat) ({ cls := "Scaffolder", name := "isFree", desc := "(II)Z" } : Jvm.MethodName)) ∈ lw_all := lw_g (lw_at lw_m2 215 rfl) rfl
theorem q522 : (Jvm.Cond.privateMethod ({ cls := "Scaffolder", name := "isFree", desc := "(II)Z" } : Jvm.MethodName)) ∈ lw_tbl := lw_at lw_m2 216 rfl
theorem q523 : (Jvm.Cond.instanceMethod ({ cls := "Scaffolder", name := "isFree", desc := "(II)Z" } : Jvm.MethodName)) ∈ lw_all := lw_g (lw_at lw_m2 217 rfl) rfl
theorem q524 : (Jvm.Cond.code ({ cls := "Scaffolder", name := "isFree", desc := "(II)Z" } : Jvm.MethodName) prog_1_method_19_code (3 : Nat) (Option.some Jvm.ClassFile.FieldType.boolean)) ∈ lw_all := lw_g (lw_at lw_m2 218 rfl) rfl
theorem q525 : (Jvm.Cond.fieldLink "Scaffolder" (71 : Nat) "Scaffolder" "faces" "Ljava/util/List;") ∈ lw_all := lw_g (lw_at lw_m2 219 rfl) rfl
theorem q527 : (Jvm.Cond.fieldLink "Scaffolder" (33 : Nat) "Scaffolder" "bays" "Ljava/util/List;") ∈ lw_all := lw_g (lw_at lw_m2 221 rfl) rfl
theorem q529 : (Jvm.Cond.fieldLink "Scaffolder" (176 : Nat) "Scaffolder" "today" "I") ∈ lw_all := lw_g (lw_at lw_m2 223 rfl) rfl
theorem q530 : (Jvm.Cond.fieldLink "Scaffolder" (130 : Nat) "Scaffolder" "limit" "I") ∈ lw_all := lw_g (lw_at lw_m2 224 rfl) rfl
theorem q531 : (Jvm.Cond.fieldLink "Scaffolder" (102 : Nat) "Scaffolder" "openings" "[[Z") ∈ lw_all := lw_g (lw_at lw_m2 225 rfl) rfl
theorem q533 : (Jvm.Cond.fieldLink "Scaffolder" (106 : Nat) "Scaffolder" "ties" "[[Z") ∈ lw_all := lw_g (lw_at lw_m2 227 rfl) rfl
theorem q534 : (Jvm.Cond.fieldLink "Scaffolder" (112 : Nat) "Scaffolder" "tieOf" "[[I") ∈ lw_all := lw_g (lw_at lw_m2 228 rfl) rfl
theorem q535 : (Jvm.Cond.laysFinal "Scaffolder" "Scaffolder" "faces" "Ljava/util/List;") ∈ lw_all := lw_g (lw_at lw_m2 229 rfl) rfl
theorem q536 : (Jvm.Cond.soleField "Scaffolder" "faces") ∈ lw_all := lw_g (lw_at lw_m2 230 rfl) rfl
theorem q537 : (Jvm.Cond.laysFinal "Scaffolder" "Scaffolder" "bays" "Ljava/util/List;") ∈ lw_all := lw_g (lw_at lw_m2 231 rfl) rfl
theorem q538 : (Jvm.Cond.soleField "Scaffolder" "bays") ∈ lw_all := lw_g (lw_at lw_m2 232 rfl) rfl
theorem q539 : (Jvm.Cond.lays "Scaffolder" "Scaffolder" "today" "I") ∈ lw_all := lw_g (lw_at lw_m2 233 rfl) rfl
theorem q540 : (Jvm.Cond.soleField "Scaffolder" "today") ∈ lw_all := lw_g (lw_at lw_m2 234 rfl) rfl
theorem q541 : (Jvm.Cond.lays "Scaffolder" "Scaffolder" "limit" "I") ∈ lw_all := lw_g (lw_at lw_m2 235 rfl) rfl
theorem q542 : (Jvm.Cond.soleField "Scaffolder" "limit") ∈ lw_all := lw_g (lw_at lw_m2 236 rfl) rfl
theorem q543 : (Jvm.Cond.laysFinal "Scaffolder" "Scaffolder" "openings" "[[Z") ∈ lw_all := lw_g (lw_at lw_m2 237 rfl) rfl
theorem q544 : (Jvm.Cond.soleField "Scaffolder" "openings") ∈ lw_all := lw_g (lw_at lw_m2 238 rfl) rfl
theorem q545 : (Jvm.Cond.laysFinal "Scaffolder" "Scaffolder" "ties" "[[Z") ∈ lw_all := lw_g (lw_at lw_m2 239 rfl) rfl
theorem q546 : (Jvm.Cond.soleField "Scaffolder" "ties") ∈ lw_all := lw_g (lw_at lw_m3 0 rfl) rfl
theorem q547 : (Jvm.Cond.laysFinal "Scaffolder" "Scaffolder" "tieOf" "[[I") ∈ lw_all := lw_g (lw_at lw_m3 1 rfl) rfl
theorem q548 : (Jvm.Cond.soleField "Scaffolder" "tieOf") ∈ lw_all := lw_g (lw_at lw_m3 2 rfl) rfl
theorem q549 : (Jvm.Cond.superclass "Scaffolder" "java/lang/Object") ∈ lw_all := lw_g (lw_at lw_m3 3 rfl) rfl
theorem q553 : (Jvm.Cond.instanceMethod ({ cls := "Scaffolder", name := "today", desc := "()I" } : Jvm.MethodName)) ∈ lw_all := lw_g (lw_at lw_m3 7 rfl) rfl
theorem q554 : (Jvm.Cond.selects "Scaffolder" ({ cls := "Scaffolder", name := "today", desc := "()I" } : Jvm.MethodName) ({ cls := "Scaffolder", name := "today", desc := "()I" } : Jvm.MethodName)) ∈ lw_all := lw_g (lw_at lw_m3 8 rfl) rfl
theorem q555 : (Jvm.Cond.code ({ cls := "Scaffolder", name := "today", desc := "()I" } : Jvm.MethodName) prog_1_method_31_code (1 : Nat) (Option.some Jvm.ClassFile.FieldType.int)) ∈ lw_all := lw_g (lw_at lw_m3 9 rfl) rfl
theorem q557 : (Jvm.Cond.instanceMethod ({ cls := "Scaffolder", name := "errors", desc := "()I" } : Jvm.MethodName)) ∈ lw_all := lw_g (lw_at lw_m3 11 rfl) rfl
theorem q558 : (Jvm.Cond.selects "Scaffolder" ({ cls := "Scaffolder", name := "errors", desc := "()I" } : Jvm.MethodName) ({ cls := "Scaffolder", name := "errors", desc := "()I" } : Jvm.MethodName)) ∈ lw_all := lw_g (lw_at lw_m3 12 rfl) rfl
theorem q559 : (Jvm.Cond.code ({ cls := "Scaffolder", name := "errors", desc := "()I" } : Jvm.MethodName) prog_1_method_63_code (4 : Nat) (Option.some Jvm.ClassFile.FieldType.int)) ∈ lw_all := lw_g (lw_at lw_m3 13 rfl) rfl
theorem q560 : (Jvm.Cond.classLink "Scaffolder" (262 : Nat) "Scaffolder$Walk") ∈ lw_all := lw_g (lw_at lw_m3 14 rfl) rfl
theorem q562 : (Jvm.Cond.methodLinkNest "Scaffolder" (264 : Nat) ({ cls := "Scaffolder$Walk", name := "<init>", desc := "(LScaffolder;)V" } : Jvm.MethodName) "Scaffolder") ∈ lw_tbl := lw_at lw_m3 16 rfl
theorem q567 : (Jvm.Cond.fieldLinkNest "Scaffolder" (270 : Nat) "Scaffolder$Walk" "counts" "[I" "Scaffolder") ∈ lw_tbl := lw_at lw_m3 21 rfl
theorem q574 : (Jvm.Cond.methodLink "Scaffolder" (267 : Nat) ({ cls := "Scaffolder$Walk", name := "go", desc := "()V" } : Jvm.MethodName)) ∈ lw_all := lw_g (lw_at lw_m3 28 rfl) rfl
theorem q585 : (Jvm.Cond.privateMethod ({ cls := "Scaffolder", name := "isBetween", desc := "(I)Z" } : Jvm.MethodName)) ∈ lw_tbl := lw_at lw_m3 39 rfl
theorem q586 : (Jvm.Cond.instanceMethod ({ cls := "Scaffolder", name := "isBetween", desc := "(I)Z" } : Jvm.MethodName)) ∈ lw_all := lw_g (lw_at lw_m3 40 rfl) rfl
theorem q587 : (Jvm.Cond.code ({ cls := "Scaffolder", name := "isBetween", desc := "(I)Z" } : Jvm.MethodName) prog_1_method_10_code (2 : Nat) (Option.some Jvm.ClassFile.FieldType.boolean)) ∈ lw_all := lw_g (lw_at lw_m3 41 rfl) rfl
theorem q609 : (Jvm.Cond.methodLink "Scaffolder" (250 : Nat) ({ cls := "Scaffolder", name := "allParts", desc := "(I)I" } : Jvm.MethodName)) ∈ lw_all := lw_g (lw_at lw_m3 63 rfl) rfl
theorem q610 : (Jvm.Cond.privateMethod ({ cls := "Scaffolder", name := "allParts", desc := "(I)I" } : Jvm.MethodName)) ∈ lw_tbl := lw_at lw_m3 64 rfl
theorem q611 : (Jvm.Cond.instanceMethod ({ cls := "Scaffolder", name := "allParts", desc := "(I)I" } : Jvm.MethodName)) ∈ lw_all := lw_g (lw_at lw_m3 65 rfl) rfl
theorem q612 : (Jvm.Cond.code ({ cls := "Scaffolder", name := "allParts", desc := "(I)I" } : Jvm.MethodName) prog_1_method_29_code (4 : Nat) (Option.some Jvm.ClassFile.FieldType.int)) ∈ lw_all := lw_g (lw_at lw_m3 66 rfl) rfl
theorem q613 : (Jvm.Cond.classLink "Scaffolder" (74 : Nat) "Scaffolder$Face") ∈ lw_all := lw_g (lw_at lw_m3 67 rfl) rfl
theorem q614 : (Jvm.Cond.methodLink "Scaffolder" (165 : Nat) ({ cls := "Scaffolder", name := "partsOf", desc := "(LScaffolder$Face;I)I" } : Jvm.MethodName)) ∈ lw_all := lw_g (lw_at lw_m3 68 rfl) rfl
theorem q615 : (Jvm.Cond.privateMethod ({ cls := "Scaffolder", name := "partsOf", desc := "(LScaffolder$Face;I)I" } : Jvm.MethodName)) ∈ lw_tbl := lw_at lw_m3 69 rfl
theorem q616 : (Jvm.Cond.instanceMethod ({ cls := "Scaffolder", name := "partsOf", desc := "(LScaffolder$Face;I)I" } : Jvm.MethodName)) ∈ lw_all := lw_g (lw_at lw_m3 70 rfl) rfl
theorem q617 : (Jvm.Cond.code ({ cls := "Scaffolder", name := "partsOf", desc := "(LScaffolder$Face;I)I" } : Jvm.MethodName) prog_1_method_28_code (5 : Nat) (Option.some Jvm.ClassFile.FieldType.int)) ∈ lw_all := lw_g (lw_at lw_m3 71 rfl) rfl
theorem q618 : (Jvm.Cond.methodLink "Scaffolder" (149 : Nat) ({ cls := "Scaffolder$Face", name := "firstOfOwn", desc := "()I" } : Jvm.MethodName)) ∈ lw_all := lw_g (lw_at lw_m3 72 rfl) rfl
theorem q622 : (Jvm.Cond.methodLink "Scaffolder" (152 : Nat) ({ cls := "Scaffolder$Face", name := "last", desc := "()I" } : Jvm.MethodName)) ∈ lw_all := lw_g (lw_at lw_m3 76 rfl) rfl
theorem q623 : (Jvm.Cond.methodLink "Scaffolder" (155 : Nat) ({ cls := "Scaffolder", name := "partsAt", desc := "(II)I" } : Jvm.MethodName)) ∈ lw_all := lw_g (lw_at lw_m3 77 rfl) rfl
theorem q624 : (Jvm.Cond.privateMethod ({ cls := "Scaffolder", name := "partsAt", desc := "(II)I" } : Jvm.MethodName)) ∈ lw_tbl := lw_at lw_m3 78 rfl
theorem q625 : (Jvm.Cond.instanceMethod ({ cls := "Scaffolder", name := "partsAt", desc := "(II)I" } : Jvm.MethodName)) ∈ lw_all := lw_g (lw_at lw_m3 79 rfl) rfl
theorem q626 : (Jvm.Cond.code ({ cls := "Scaffolder", name := "partsAt", desc := "(II)I" } : Jvm.MethodName) prog_1_method_26_code (5 : Nat) (Option.some Jvm.ClassFile.FieldType.int)) ∈ lw_all := lw_g (lw_at lw_m3 80 rfl) rfl
theorem q627 : (Jvm.Cond.methodLink "Scaffolder" (123 : Nat) ({ cls := "Scaffolder", name := "standards", desc := "(I)I" } : Jvm.MethodName)) ∈ lw_all := lw_g (lw_at lw_m3 81 rfl) rfl
theorem q628 : (Jvm.Cond.privateMethod ({ cls := "Scaffolder", name := "standards", desc := "(I)I" } : Jvm.MethodName)) ∈ lw_tbl := lw_at lw_m3 82 rfl
theorem q629 : (Jvm.Cond.instanceMethod ({ cls := "Scaffolder", name := "standards", desc := "(I)I" } : Jvm.MethodName)) ∈ lw_all := lw_g (lw_at lw_m3 83 rfl) rfl
theorem q630 : (Jvm.Cond.code ({ cls := "Scaffolder", name := "standards", desc := "(I)I" } : Jvm.MethodName) prog_1_method_14_code (2 : Nat) (Option.some Jvm.ClassFile.FieldType.int)) ∈ lw_all := lw_g (lw_at lw_m3 84 rfl) rfl
theorem q631 : (Jvm.Cond.methodLink "Scaffolder" (67 : Nat) ({ cls := "Scaffolder", name := "isBetween", desc := "(I)Z" } : Jvm.MethodName)) ∈ lw_all := lw_g (lw_at lw_m3 85 rfl) rfl
theorem q632 : (Jvm.Cond.methodLink "Scaffolder" (161 : Nat) ({ cls := "Scaffolder", name := "partsOf", desc := "(LScaffolder$Bay;I)I" } : Jvm.MethodName)) ∈ lw_all := lw_g (lw_at lw_m3 86 rfl) rfl
theorem q633 : (Jvm.Cond.static ({ cls := "Scaffolder", name := "partsOf", desc := "(LScaffolder$Bay;I)I" } : Jvm.MethodName)) ∈ lw_all := lw_g (lw_at lw_m3 87 rfl) rfl
theorem q634 : (Jvm.Cond.code ({ cls := "Scaffolder", name := "partsOf", desc := "(LScaffolder$Bay;I)I" } : Jvm.MethodName) prog_1_method_27_code (2 : Nat) (Option.some Jvm.ClassFile.FieldType.int)) ∈ lw_all := lw_g (lw_at lw_m3 88 rfl) rfl
theorem q635 : (Jvm.Cond.methodLink "Scaffolder" (143 : Nat) ({ cls := "Scaffolder$Bay", name := "boarded", desc := "()I" } : Jvm.MethodName)) ∈ lw_all := lw_g (lw_at lw_m3 89 rfl) rfl
theorem q639 : (Jvm.Cond.methodLink "Scaffolder" (146 : Nat) ({ cls := "Scaffolder$Face", name := "hasBrace", desc := "(I)Z" } : Jvm.MethodName)) ∈ lw_all := lw_g (lw_at lw_m3 93 rfl) rfl
theorem q640 : (Jvm.Cond.methodLink "Scaffolder" (273 : Nat) ({ cls := "Scaffolder", name := "isGreenAt", desc := "(I)Z" } : Jvm.MethodName)) ∈ lw_all := lw_g (lw_at lw_m3 94 rfl) rfl
theorem q641 : (Jvm.Cond.privateMethod ({ cls := "Scaffolder", name := "isGreenAt", desc := "(I)Z" } : Jvm.MethodName)) ∈ lw_tbl := lw_at lw_m3 95 rfl
theorem q642 : (Jvm.Cond.instanceMethod ({ cls := "Scaffolder", name := "isGreenAt", desc := "(I)Z" } : Jvm.MethodName)) ∈ lw_all := lw_g (lw_at lw_m3 96 rfl) rfl
theorem q643 : (Jvm.Cond.code ({ cls := "Scaffolder", name := "isGreenAt", desc := "(I)Z" } : Jvm.MethodName) prog_1_method_62_code (4 : Nat) (Option.some Jvm.ClassFile.FieldType.boolean)) ∈ lw_all := lw_g (lw_at lw_m3 97 rfl) rfl
theorem q644 : (Jvm.Cond.methodLink "Scaffolder" (87 : Nat) ({ cls := "Scaffolder$Face", name := "has", desc := "(I)Z" } : Jvm.MethodName)) ∈ lw_all := lw_g (lw_at lw_m3 98 rfl) rfl
theorem q649 : (Jvm.Cond.methodLink "Scaffolder" (230 : Nat) ({ cls := "Scaffolder$Face", name := "isGreen", desc := "()Z" } : Jvm.MethodName)) ∈ lw_all := lw_g (lw_at lw_m3 103 rfl) rfl
theorem q653 : (Jvm.Cond.methodLink "Scaffolder" (139 : Nat) ({ cls := "Scaffolder", name := "loadOf", desc := "(IIZ)I" } : Jvm.MethodName)) ∈ lw_all := lw_g (lw_at lw_m3 107 rfl) rfl
theorem q654 : (Jvm.Cond.privateMethod ({ cls := "Scaffolder", name := "loadOf", desc := "(IIZ)I" } : Jvm.MethodName)) ∈ lw_tbl := lw_at lw_m3 108 rfl
theorem q655 : (Jvm.Cond.instanceMethod ({ cls := "Scaffolder", name := "loadOf", desc := "(IIZ)I" } : Jvm.MethodName)) ∈ lw_all := lw_g (lw_at lw_m3 109 rfl) rfl
theorem q656 : (Jvm.Cond.code ({ cls := "Scaffolder", name := "loadOf", desc := "(IIZ)I" } : Jvm.MethodName) prog_1_method_23_code (6 : Nat) (Option.some Jvm.ClassFile.FieldType.int)) ∈ lw_all := lw_g (lw_at lw_m3 110 rfl) rfl
theorem q657 : (Jvm.Cond.methodLink "Scaffolder" (126 : Nat) ({ cls := "Scaffolder$Bay", name := "half", desc := "(IZ)I" } : Jvm.MethodName)) ∈ lw_all := lw_g (lw_at lw_m3 111 rfl) rfl
theorem q663 : (Jvm.Cond.static ({ cls := "Scaffolder", name := "bornBy", desc := "(I)I" } : Jvm.MethodName)) ∈ lw_all := lw_g (lw_at lw_m3 117 rfl) rfl
theorem q664 : (Jvm.Cond.code ({ cls := "Scaffolder", name := "bornBy", desc := "(I)I" } : Jvm.MethodName) prog_1_method_7_code (1 : Nat) (Option.some Jvm.ClassFile.FieldType.int)) ∈ lw_all := lw_g (lw_at lw_m3 118 rfl) rfl
theorem q666 : (Jvm.Cond.methodLink "Scaffolder" (136 : Nat) ({ cls := "Scaffolder", name := "bearsOf", desc := "(I)I" } : Jvm.MethodName)) ∈ lw_all := lw_g (lw_at lw_m3 120 rfl) rfl
theorem q667 : (Jvm.Cond.privateMethod ({ cls := "Scaffolder", name := "bearsOf", desc := "(I)I" } : Jvm.MethodName)) ∈ lw_tbl := lw_at lw_m3 121 rfl
theorem q668 : (Jvm.Cond.instanceMethod ({ cls := "Scaffolder", name := "bearsOf", desc := "(I)I" } : Jvm.MethodName)) ∈ lw_all := lw_g (lw_at lw_m3 122 rfl) rfl
theorem q669 : (Jvm.Cond.code ({ cls := "Scaffolder", name := "bearsOf", desc := "(I)I" } : Jvm.MethodName) prog_1_method_24_code (3 : Nat) (Option.some Jvm.ClassFile.FieldType.int)) ∈ lw_all := lw_g (lw_at lw_m3 123 rfl) rfl
theorem q670 : (Jvm.Cond.methodLink "Scaffolder" (133 : Nat) ({ cls := "Scaffolder", name := "missingOf", desc := "(I)I" } : Jvm.MethodName)) ∈ lw_all := lw_g (lw_at lw_m3 124 rfl) rfl
theorem q671 : (Jvm.Cond.privateMethod ({ cls := "Scaffolder", name := "missingOf", desc := "(I)I" } : Jvm.MethodName)) ∈ lw_tbl := lw_at lw_m3 125 rfl
theorem q672 : (Jvm.Cond.instanceMethod ({ cls := "Scaffolder", name := "missingOf", desc := "(I)I" } : Jvm.MethodName)) ∈ lw_all := lw_g (lw_at lw_m3 126 rfl) rfl
theorem q673 : (Jvm.Cond.code ({ cls := "Scaffolder", name := "missingOf", desc := "(I)I" } : Jvm.MethodName) prog_1_method_22_code (4 : Nat) (Option.some Jvm.ClassFile.FieldType.int)) ∈ lw_all := lw_g (lw_at lw_m3 127 rfl) rfl
theorem q675 : (Jvm.Cond.instanceMethod ({ cls := "Scaffolder", name := "meanLoad", desc := "()D" } : Jvm.MethodName)) ∈ lw_all := lw_g (lw_at lw_m3 129 rfl) rfl
theorem q676 : (Jvm.Cond.selects "Scaffolder" ({ cls := "Scaffolder", name := "meanLoad", desc := "()D" } : Jvm.MethodName) ({ cls := "Scaffolder", name := "meanLoad", desc := "()D" } : Jvm.MethodName)) ∈ lw_all := lw_g (lw_at lw_m3 130 rfl) rfl
theorem q677 : (Jvm.Cond.code ({ cls := "Scaffolder", name := "meanLoad", desc := "()D" } : Jvm.MethodName) prog_1_method_64_code (4 : Nat) (Option.some Jvm.ClassFile.FieldType.double)) ∈ lw_all := lw_g (lw_at lw_m3 131 rfl) rfl
theorem q679 : (Jvm.Cond.instanceMethod ({ cls := "Scaffolder", name := "boardedShare", desc := "()F" } : Jvm.MethodName)) ∈ lw_all := lw_g (lw_at lw_m3 133 rfl) rfl
theorem q680 : (Jvm.Cond.selects "Scaffolder" ({ cls := "Scaffolder", name := "boardedShare", desc := "()F" } : Jvm.MethodName) ({ cls := "Scaffolder", name := "boardedShare", desc := "()F" } : Jvm.MethodName)) ∈ lw_all := lw_g (lw_at lw_m3 134 rfl) rfl
theorem q681 : (Jvm.Cond.code ({ cls := "Scaffolder", name := "boardedShare", desc := "()F" } : Jvm.MethodName) prog_1_method_65_code (1 : Nat) (Option.some Jvm.ClassFile.FieldType.float)) ∈ lw_all := lw_g (lw_at lw_m3 135 rfl) rfl
theorem q682 : (Jvm.Cond.methodLink "Scaffolder" (259 : Nat) ({ cls := "Scaffolder", name := "ofBays", desc := "(I)I" } : Jvm.MethodName)) ∈ lw_all := lw_g (lw_at lw_m3 136 rfl) rfl
theorem q683 : (Jvm.Cond.privateMethod ({ cls := "Scaffolder", name := "ofBays", desc := "(I)I" } : Jvm.MethodName)) ∈ lw_tbl := lw_at lw_m3 137 rfl
theorem q684 : (Jvm.Cond.instanceMethod ({ cls := "Scaffolder", name := "ofBays", desc := "(I)I" } : Jvm.MethodName)) ∈ lw_all := lw_g (lw_at lw_m3 138 rfl) rfl
theorem q685 : (Jvm.Cond.code ({ cls := "Scaffolder", name := "ofBays", desc := "(I)I" } : Jvm.MethodName) prog_1_method_58_code (6 : Nat) (Option.some Jvm.ClassFile.FieldType.int)) ∈ lw_all := lw_g (lw_at lw_m3 139 rfl) rfl
theorem q692 : (Jvm.Cond.instanceMethod ({ cls := "Scaffolder", name := "pass", desc := "(I)I" } : Jvm.MethodName)) ∈ lw_all := lw_g (lw_at lw_m3 146 rfl) rfl
theorem q693 : (Jvm.Cond.selects "Scaffolder" ({ cls := "Scaffolder", name := "pass", desc := "(I)I" } : Jvm.MethodName) ({ cls := "Scaffolder", name := "pass", desc := "(I)I" } : Jvm.MethodName)) ∈ lw_all := lw_g (lw_at lw_m3 147 rfl) rfl
theorem q694 : (Jvm.Cond.code ({ cls := "Scaffolder", name := "pass", desc := "(I)I" } : Jvm.MethodName) prog_1_method_32_code (2 : Nat) (Option.some Jvm.ClassFile.FieldType.int)) ∈ lw_all := lw_g (lw_at lw_m3 148 rfl) rfl
theorem q695 : (Jvm.Cond.methodLink "Scaffolder" (179 : Nat) ({ cls := "Scaffolder", name := "checkArgument", desc := "(Z)V" } : Jvm.MethodName)) ∈ lw_all := lw_g (lw_at lw_m3 149 rfl) rfl
theorem q696 : (Jvm.Cond.static ({ cls := "Scaffolder", name := "checkArgument", desc := "(Z)V" } : Jvm.MethodName)) ∈ lw_all := lw_g (lw_at lw_m3 150 rfl) rfl
theorem q697 : (Jvm.Cond.code ({ cls := "Scaffolder", name := "checkArgument", desc := "(Z)V" } : Jvm.MethodName) prog_1_method_2_code (1 : Nat) (Option.none : Option Jvm.ClassFile.FieldType)) ∈ lw_all := lw_g (lw_at lw_m3 151 rfl) rfl
theorem q698 : (Jvm.Cond.classLink "Scaffolder" (7 : Nat) "java/lang/IllegalArgumentException") ∈ lw_all := lw_g (lw_at lw_m3 152 rfl) rfl
theorem q699 : (Jvm.Cond.methodLink "Scaffolder" (9 : Nat) ({ cls := "java/lang/IllegalArgumentException", name := "<init>", desc := "()V" } : Jvm.MethodName)) ∈ lw_all := lw_g (lw_at lw_m3 153 rfl) rfl
theorem q709 : (Jvm.Cond.methodLink "Scaffolder" (182 : Nat) ({ cls := "Scaffolder", name := "checkState", desc := "(Z)V" } : Jvm.MethodName)) ∈ lw_all := lw_g (lw_at lw_m3 163 rfl) rfl
theorem q710 : (Jvm.Cond.static ({ cls := "Scaffolder", name := "checkState", desc := "(Z)V" } : Jvm.MethodName)) ∈ lw_all := lw_g (lw_at lw_m3 164 rfl) rfl
theorem q711 : (Jvm.Cond.code ({ cls := "Scaffolder", name := "checkState", desc := "(Z)V" } : Jvm.MethodName) prog_1_method_3_code (1 : Nat) (Option.none : Option Jvm.ClassFile.FieldType)) ∈ lw_all := lw_g (lw_at lw_m3 165 rfl) rfl
theorem q712 : (Jvm.Cond.classLink "Scaffolder" (10 : Nat) "java/lang/IllegalStateException") ∈ lw_all := lw_g (lw_at lw_m3 166 rfl) rfl
theorem q721 : (Jvm.Cond.methodLink "Scaffolder" (12 : Nat) ({ cls := "java/lang/IllegalStateException", name := "<init>", desc := "()V" } : Jvm.MethodName)) ∈ lw_all := lw_g (lw_at lw_m3 175 rfl) rfl
theorem q731 : (Jvm.Cond.instanceMethod ({ cls := "Scaffolder", name := "addFace", desc := "(I)I" } : Jvm.MethodName)) ∈ lw_all := lw_g (lw_at lw_m3 185 rfl) rfl
theorem q732 : (Jvm.Cond.selects "Scaffolder" ({ cls := "Scaffolder", name := "addFace", desc := "(I)I" } : Jvm.MethodName) ({ cls := "Scaffolder", name := "addFace", desc := "(I)I" } : Jvm.MethodName)) ∈ lw_all := lw_g (lw_at lw_m3 186 rfl) rfl
theorem q733 : (Jvm.Cond.code ({ cls := "Scaffolder", name := "addFace", desc := "(I)I" } : Jvm.MethodName) prog_1_method_33_code (4 : Nat) (Option.some Jvm.ClassFile.FieldType.int)) ∈ lw_all := lw_g (lw_at lw_m3 187 rfl) rfl
theorem q735 : (Jvm.Cond.methodLink "Scaffolder" (185 : Nat) ({ cls := "Scaffolder$Face", name := "<init>", desc := "(LScaffolder;III)V" } : Jvm.MethodName)) ∈ lw_all := lw_g (lw_at lw_m3 189 rfl) rfl
theorem q740 : (Jvm.Cond.fieldLinkNest "Scaffolder" (194 : Nat) "Scaffolder$Face" "number" "I" "Scaffolder") ∈ lw_tbl := lw_at lw_m3 194 rfl
theorem q742 : (Jvm.Cond.fieldLinkNest "Scaffolder" (158 : Nat) "Scaffolder$Face" "first" "I" "Scaffolder") ∈ lw_tbl := lw_at lw_m3 196 rfl
theorem q745 : (Jvm.Cond.fieldLinkNest "Scaffolder" (247 : Nat) "Scaffolder$Face" "greenUntil" "I" "Scaffolder") ∈ lw_tbl := lw_at lw_m3 199 rfl
theorem q758 : (Jvm.Cond.interfaceEntry "Scaffolder" (90 : Nat)) ∈ lw_tbl := lw_at lw_m3 212 rfl
theorem q759 : (Jvm.Cond.methodLink "Scaffolder" (90 : Nat) ({ cls := "java/util/List", name := "add", desc := "(Ljava/lang/Object;)Z" } : Jvm.MethodName)) ∈ lw_all := lw_g (lw_at lw_m3 213 rfl) rfl
theorem q788 : (Jvm.Cond.selects "Scaffolder" ({ cls := "java/lang/Object", name := "getClass", desc := "()Ljava/lang/Class;" } : Jvm.MethodName) ({ cls := "java/lang/Object", name := "getClass", desc := "()Ljava/lang/Class;" } : Jvm.MethodName)) ∈ lw_all := lw_g (lw_at lw_m4 2 rfl) rfl
theorem q810 : (Jvm.Cond.methodLink "Scaffolder" (188 : Nat) ({ cls := "Scaffolder$Bay", name := "<init>", desc := "(ILScaffolder$Face;)V" } : Jvm.MethodName)) ∈ lw_all := lw_g (lw_at lw_m4 24 rfl) rfl
theorem q816 : (Jvm.Cond.fieldLinkNest "Scaffolder" (84 : Nat) "Scaffolder$Bay" "number" "I" "Scaffolder") ∈ lw_tbl := lw_at lw_m4 30 rfl
theorem q819 : (Jvm.Cond.fieldLinkNest "Scaffolder" (46 : Nat) "Scaffolder$Bay" "of" "LScaffolder$Face;" "Scaffolder") ∈ lw_tbl := lw_at lw_m4 33 rfl
theorem q822 : (Jvm.Cond.fieldLinkNest "Scaffolder" (213 : Nat) "Scaffolder$Bay" "isBoarded" "[Z" "Scaffolder") ∈ lw_tbl := lw_at lw_m4 36 rfl
theorem q824 : (Jvm.Cond.fieldLinkNest "Scaffolder" (220 : Nat) "Scaffolder$Bay" "sorts" "[I" "Scaffolder") ∈ lw_tbl := lw_at lw_m4 38 rfl
theorem q826 : (Jvm.Cond.fieldLinkNest "Scaffolder" (224 : Nat) "Scaffolder$Bay" "laid" "[I" "Scaffolder") ∈ lw_tbl := lw_at lw_m4 40 rfl
theorem q828 : (Jvm.Cond.fieldLinkNest "Scaffolder" (50 : Nat) "Scaffolder$Bay" "lifts" "I" "Scaffolder") ∈ lw_tbl := lw_at lw_m4 42 rfl
theorem q842 : (Jvm.Cond.methodLink "Scaffolder" (191 : Nat) ({ cls := "Scaffolder", name := "withdrawAll", desc := "()V" } : Jvm.MethodName)) ∈ lw_all := lw_g (lw_at lw_m4 56 rfl) rfl
theorem q843 : (Jvm.Cond.privateMethod ({ cls := "Scaffolder", name := "withdrawAll", desc := "()V" } : Jvm.MethodName)) ∈ lw_tbl := lw_at lw_m4 57 rfl
theorem q844 : (Jvm.Cond.instanceMethod ({ cls := "Scaffolder", name := "withdrawAll", desc := "()V" } : Jvm.MethodName)) ∈ lw_all := lw_g (lw_at lw_m4 58 rfl) rfl
theorem q845 : (Jvm.Cond.code ({ cls := "Scaffolder", name := "withdrawAll", desc := "()V" } : Jvm.MethodName) prog_1_method_15_code (2 : Nat) (Option.none : Option Jvm.ClassFile.FieldType)) ∈ lw_all := lw_g (lw_at lw_m4 59 rfl) rfl
theorem q846 : (Jvm.Cond.methodLink "Scaffolder" (76 : Nat) ({ cls := "Scaffolder$Face", name := "withdraw", desc := "()V" } : Jvm.MethodName)) ∈ lw_all := lw_g (lw_at lw_m4 60 rfl) rfl
theorem q873 : (Jvm.Cond.instanceMethod ({ cls := "Scaffolder", name := "faceOf", desc := "(I)I" } : Jvm.MethodName)) ∈ lw_all := lw_g (lw_at lw_m4 87 rfl) rfl
theorem q874 : (Jvm.Cond.selects "Scaffolder" ({ cls := "Scaffolder", name := "faceOf", desc := "(I)I" } : Jvm.MethodName) ({ cls := "Scaffolder", name := "faceOf", desc := "(I)I" } : Jvm.MethodName)) ∈ lw_all := lw_g (lw_at lw_m4 88 rfl) rfl
theorem q875 : (Jvm.Cond.code ({ cls := "Scaffolder", name := "faceOf", desc := "(I)I" } : Jvm.MethodName) prog_1_method_34_code (2 : Nat) (Option.some Jvm.ClassFile.FieldType.int)) ∈ lw_all := lw_g (lw_at lw_m4 89 rfl) rfl
theorem q876 : (Jvm.Cond.methodLink "Scaffolder" (195 : Nat) ({ cls := "Scaffolder", name := "in", desc := "(Ljava/util/List;I)Ljava/lang/Object;" } : Jvm.MethodName)) ∈ lw_all := lw_g (lw_at lw_m4 90 rfl) rfl
theorem q877 : (Jvm.Cond.static ({ cls := "Scaffolder", name := "in", desc := "(Ljava/util/List;I)Ljava/lang/Object;" } : Jvm.MethodName)) ∈ lw_all := lw_g (lw_at lw_m4 91 rfl) rfl
theorem q878 : (Jvm.Cond.code ({ cls := "Scaffolder", name := "in", desc := "(Ljava/util/List;I)Ljava/lang/Object;" } : Jvm.MethodName) prog_1_method_5_code (2 : Nat) (Option.some (Jvm.ClassFile.FieldType.object "java/lang/Object"))) ∈ lw_all := lw_g (lw_at lw_m4 92 rfl) rfl
theorem q879 : (Jvm.Cond.methodLink "Scaffolder" (25 : Nat) ({ cls := "Scaffolder", name := "checkIndex", desc := "(Z)V" } : Jvm.MethodName)) ∈ lw_all := lw_g (lw_at lw_m4 93 rfl) rfl
theorem q880 : (Jvm.Cond.static ({ cls := "Scaffolder", name := "checkIndex", desc := "(Z)V" } : Jvm.MethodName)) ∈ lw_all := lw_g (lw_at lw_m4 94 rfl) rfl
theorem q881 : (Jvm.Cond.code ({ cls := "Scaffolder", name := "checkIndex", desc := "(Z)V" } : Jvm.MethodName) prog_1_method_1_code (1 : Nat) (Option.none : Option Jvm.ClassFile.FieldType)) ∈ lw_all := lw_g (lw_at lw_m4 95 rfl) rfl
theorem q882 : (Jvm.Cond.classLink "Scaffolder" (1 : Nat) "java/lang/IndexOutOfBoundsException") ∈ lw_all := lw_g (lw_at lw_m4 96 rfl) rfl
theorem q891 : (Jvm.Cond.methodLink "Scaffolder" (3 : Nat) ({ cls := "java/lang/IndexOutOfBoundsException", name := "<init>", desc := "()V" } : Jvm.MethodName)) ∈ lw_all := lw_g (lw_at lw_m4 105 rfl) rfl
theorem q901 : (Jvm.Cond.instanceMethod ({ cls := "Scaffolder", name := "isCorner", desc := "(I)Z" } : Jvm.MethodName)) ∈ lw_all := lw_g (lw_at lw_m4 115 rfl) rfl
theorem q902 : (Jvm.Cond.selects "Scaffolder" ({ cls := "Scaffolder", name := "isCorner", desc := "(I)Z" } : Jvm.MethodName) ({ cls := "Scaffolder", name := "isCorner", desc := "(I)Z" } : Jvm.MethodName)) ∈ lw_all := lw_g (lw_at lw_m4 116 rfl) rfl
theorem q903 : (Jvm.Cond.code ({ cls := "Scaffolder", name := "isCorner", desc := "(I)Z" } : Jvm.MethodName) prog_1_method_35_code (2 : Nat) (Option.some Jvm.ClassFile.FieldType.boolean)) ∈ lw_all := lw_g (lw_at lw_m4 117 rfl) rfl
theorem q904 : (Jvm.Cond.methodLink "Scaffolder" (199 : Nat) ({ cls := "Scaffolder", name := "checkPosition", desc := "(I)V" } : Jvm.MethodName)) ∈ lw_all := lw_g (lw_at lw_m4 118 rfl) rfl
theorem q905 : (Jvm.Cond.privateMethod ({ cls := "Scaffolder", name := "checkPosition", desc := "(I)V" } : Jvm.MethodName)) ∈ lw_tbl := lw_at lw_m4 119 rfl
theorem q906 : (Jvm.Cond.instanceMethod ({ cls := "Scaffolder", name := "checkPosition", desc := "(I)V" } : Jvm.MethodName)) ∈ lw_all := lw_g (lw_at lw_m4 120 rfl) rfl
theorem q907 : (Jvm.Cond.code ({ cls := "Scaffolder", name := "checkPosition", desc := "(I)V" } : Jvm.MethodName) prog_1_method_9_code (2 : Nat) (Option.none : Option Jvm.ClassFile.FieldType)) ∈ lw_all := lw_g (lw_at lw_m4 121 rfl) rfl
theorem q912 : (Jvm.Cond.instanceMethod ({ cls := "Scaffolder", name := "setLifts", desc := "(II)I" } : Jvm.MethodName)) ∈ lw_all := lw_g (lw_at lw_m4 126 rfl) rfl
theorem q913 : (Jvm.Cond.selects "Scaffolder" ({ cls := "Scaffolder", name := "setLifts", desc := "(II)I" } : Jvm.MethodName) ({ cls := "Scaffolder", name := "setLifts", desc := "(II)I" } : Jvm.MethodName)) ∈ lw_all := lw_g (lw_at lw_m4 127 rfl) rfl
theorem q914 : (Jvm.Cond.code ({ cls := "Scaffolder", name := "setLifts", desc := "(II)I" } : Jvm.MethodName) prog_1_method_36_code (5 : Nat) (Option.some Jvm.ClassFile.FieldType.int)) ∈ lw_all := lw_g (lw_at lw_m4 128 rfl) rfl
theorem q915 : (Jvm.Cond.methodLink "Scaffolder" (202 : Nat) ({ cls := "Scaffolder$Bay", name := "setLifts", desc := "(I)V" } : Jvm.MethodName)) ∈ lw_all := lw_g (lw_at lw_m4 129 rfl) rfl
theorem q923 : (Jvm.Cond.instanceMethod ({ cls := "Scaffolder", name := "lifts", desc := "(I)I" } : Jvm.MethodName)) ∈ lw_all := lw_g (lw_at lw_m4 137 rfl) rfl
theorem q924 : (Jvm.Cond.selects "Scaffolder" ({ cls := "Scaffolder", name := "lifts", desc := "(I)I" } : Jvm.MethodName) ({ cls := "Scaffolder", name := "lifts", desc := "(I)I" } : Jvm.MethodName)) ∈ lw_all := lw_g (lw_at lw_m4 138 rfl) rfl
theorem q925 : (Jvm.Cond.code ({ cls := "Scaffolder", name := "lifts", desc := "(I)I" } : Jvm.MethodName) prog_1_method_37_code (2 : Nat) (Option.some Jvm.ClassFile.FieldType.int)) ∈ lw_all := lw_g (lw_at lw_m4 139 rfl) rfl
theorem q930 : (Jvm.Cond.instanceMethod ({ cls := "Scaffolder", name := "levels", desc := "(I)I" } : Jvm.MethodName)) ∈ lw_all := lw_g (lw_at lw_m4 144 rfl) rfl
theorem q931 : (Jvm.Cond.selects "Scaffolder" ({ cls := "Scaffolder", name := "levels", desc := "(I)I" } : Jvm.MethodName) ({ cls := "Scaffolder", name := "levels", desc := "(I)I" } : Jvm.MethodName)) ∈ lw_all := lw_g (lw_at lw_m4 145 rfl) rfl
theorem q932 : (Jvm.Cond.code ({ cls := "Scaffolder", name := "levels", desc := "(I)I" } : Jvm.MethodName) prog_1_method_38_code (2 : Nat) (Option.some Jvm.ClassFile.FieldType.int)) ∈ lw_all := lw_g (lw_at lw_m4 146 rfl) rfl
theorem q937 : (Jvm.Cond.instanceMethod ({ cls := "Scaffolder", name := "board", desc := "(IIZ)Z" } : Jvm.MethodName)) ∈ lw_all := lw_g (lw_at lw_m4 151 rfl) rfl
theorem q938 : (Jvm.Cond.selects "Scaffolder" ({ cls := "Scaffolder", name := "board", desc := "(IIZ)Z" } : Jvm.MethodName) ({ cls := "Scaffolder", name := "board", desc := "(IIZ)Z" } : Jvm.MethodName)) ∈ lw_all := lw_g (lw_at lw_m4 152 rfl) rfl
theorem q939 : (Jvm.Cond.code ({ cls := "Scaffolder", name := "board", desc := "(IIZ)Z" } : Jvm.MethodName) prog_1_method_40_code (6 : Nat) (Option.some Jvm.ClassFile.FieldType.boolean)) ∈ lw_all := lw_g (lw_at lw_m4 153 rfl) rfl
theorem q940 : (Jvm.Cond.methodLink "Scaffolder" (208 : Nat) ({ cls := "Scaffolder", name := "levelOf", desc := "(II)LScaffolder$Bay;" } : Jvm.MethodName)) ∈ lw_all := lw_g (lw_at lw_m4 154 rfl) rfl
theorem q941 : (Jvm.Cond.privateMethod ({ cls := "Scaffolder", name := "levelOf", desc := "(II)LScaffolder$Bay;" } : Jvm.MethodName)) ∈ lw_tbl := lw_at lw_m4 155 rfl
theorem q942 : (Jvm.Cond.instanceMethod ({ cls := "Scaffolder", name := "levelOf", desc := "(II)LScaffolder$Bay;" } : Jvm.MethodName)) ∈ lw_all := lw_g (lw_at lw_m4 156 rfl) rfl
theorem q943 : (Jvm.Cond.code ({ cls := "Scaffolder", name := "levelOf", desc := "(II)LScaffolder$Bay;" } : Jvm.MethodName) prog_1_method_39_code (4 : Nat) (Option.some (Jvm.ClassFile.FieldType.object "Scaffolder$Bay"))) ∈ lw_all := lw_g (lw_at lw_m4 157 rfl) rfl
theorem q944 : (Jvm.Cond.methodLink "Scaffolder" (205 : Nat) ({ cls := "Scaffolder", name := "checkLevel", desc := "(I)V" } : Jvm.MethodName)) ∈ lw_all := lw_g (lw_at lw_m4 158 rfl) rfl
theorem q945 : (Jvm.Cond.static ({ cls := "Scaffolder", name := "checkLevel", desc := "(I)V" } : Jvm.MethodName)) ∈ lw_all := lw_g (lw_at lw_m4 159 rfl) rfl
theorem q946 : (Jvm.Cond.code ({ cls := "Scaffolder", name := "checkLevel", desc := "(I)V" } : Jvm.MethodName) prog_1_method_6_code (1 : Nat) (Option.none : Option Jvm.ClassFile.FieldType)) ∈ lw_all := lw_g (lw_at lw_m4 160 rfl) rfl
theorem q947 : (Jvm.Cond.methodLink "Scaffolder" (212 : Nat) ({ cls := "Scaffolder$Bay", name := "has", desc := "(I)Z" } : Jvm.MethodName)) ∈ lw_all := lw_g (lw_at lw_m4 161 rfl) rfl
theorem q948 : (Jvm.Cond.methodLink "Scaffolder" (217 : Nat) ({ cls := "Scaffolder", name := "withdraw", desc := "(LScaffolder$Bay;)V" } : Jvm.MethodName)) ∈ lw_all := lw_g (lw_at lw_m4 162 rfl) rfl
theorem q949 : (Jvm.Cond.privateMethod ({ cls := "Scaffolder", name := "withdraw", desc := "(LScaffolder$Bay;)V" } : Jvm.MethodName)) ∈ lw_tbl := lw_at lw_m4 163 rfl
theorem q950 : (Jvm.Cond.instanceMethod ({ cls := "Scaffolder", name := "withdraw", desc := "(LScaffolder$Bay;)V" } : Jvm.MethodName)) ∈ lw_all := lw_g (lw_at lw_m4 164 rfl) rfl
theorem q951 : (Jvm.Cond.code ({ cls := "Scaffolder", name := "withdraw", desc := "(LScaffolder$Bay;)V" } : Jvm.MethodName) prog_1_method_17_code (4 : Nat) (Option.none : Option Jvm.ClassFile.FieldType)) ∈ lw_all := lw_g (lw_at lw_m4 165 rfl) rfl
theorem q952 : (Jvm.Cond.methodLink "Scaffolder" (94 : Nat) ({ cls := "Scaffolder", name := "facesAt", desc := "(LScaffolder$Bay;)Ljava/util/List;" } : Jvm.MethodName)) ∈ lw_all := lw_g (lw_at lw_m4 166 rfl) rfl
theorem q953 : (Jvm.Cond.privateMethod ({ cls := "Scaffolder", name := "facesAt", desc := "(LScaffolder$Bay;)Ljava/util/List;" } : Jvm.MethodName)) ∈ lw_tbl := lw_at lw_m4 167 rfl
theorem q954 : (Jvm.Cond.instanceMethod ({ cls := "Scaffolder", name := "facesAt", desc := "(LScaffolder$Bay;)Ljava/util/List;" } : Jvm.MethodName)) ∈ lw_all := lw_g (lw_at lw_m4 168 rfl) rfl
theorem q955 : (Jvm.Cond.code ({ cls := "Scaffolder", name := "facesAt", desc := "(LScaffolder$Bay;)Ljava/util/List;" } : Jvm.MethodName) prog_1_method_16_code (4 : Nat) (Option.some (Jvm.ClassFile.FieldType.object "java/util/List"))) ∈ lw_all := lw_g (lw_at lw_m4 169 rfl) rfl
theorem q960 : (Jvm.Cond.instanceMethod ({ cls := "Scaffolder", name := "setClass", desc := "(III)I" } : Jvm.MethodName)) ∈ lw_all := lw_g (lw_at lw_m4 174 rfl) rfl
theorem q961 : (Jvm.Cond.selects "Scaffolder" ({ cls := "Scaffolder", name := "setClass", desc := "(III)I" } : Jvm.MethodName) ({ cls := "Scaffolder", name := "setClass", desc := "(III)I" } : Jvm.MethodName)) ∈ lw_all := lw_g (lw_at lw_m4 175 rfl) rfl
theorem q962 : (Jvm.Cond.code ({ cls := "Scaffolder", name := "setClass", desc := "(III)I" } : Jvm.MethodName) prog_1_method_41_code (6 : Nat) (Option.some Jvm.ClassFile.FieldType.int)) ∈ lw_all := lw_g (lw_at lw_m4 176 rfl) rfl
theorem q967 : (Jvm.Cond.instanceMethod ({ cls := "Scaffolder", name := "lay", desc := "(III)I" } : Jvm.MethodName)) ∈ lw_all := lw_g (lw_at lw_m4 181 rfl) rfl
theorem q968 : (Jvm.Cond.selects "Scaffolder" ({ cls := "Scaffolder", name := "lay", desc := "(III)I" } : Jvm.MethodName) ({ cls := "Scaffolder", name := "lay", desc := "(III)I" } : Jvm.MethodName)) ∈ lw_all := lw_g (lw_at lw_m4 182 rfl) rfl
theorem q969 : (Jvm.Cond.code ({ cls := "Scaffolder", name := "lay", desc := "(III)I" } : Jvm.MethodName) prog_1_method_43_code (6 : Nat) (Option.some Jvm.ClassFile.FieldType.int)) ∈ lw_all := lw_g (lw_at lw_m4 183 rfl) rfl
theorem q970 : (Jvm.Cond.methodLink "Scaffolder" (233 : Nat) ({ cls := "Scaffolder", name := "canLay", desc := "(LScaffolder$Bay;II)Z" } : Jvm.MethodName)) ∈ lw_all := lw_g (lw_at lw_m4 184 rfl) rfl
theorem q971 : (Jvm.Cond.privateMethod ({ cls := "Scaffolder", name := "canLay", desc := "(LScaffolder$Bay;II)Z" } : Jvm.MethodName)) ∈ lw_tbl := lw_at lw_m4 185 rfl
theorem q972 : (Jvm.Cond.instanceMethod ({ cls := "Scaffolder", name := "canLay", desc := "(LScaffolder$Bay;II)Z" } : Jvm.MethodName)) ∈ lw_all := lw_g (lw_at lw_m4 186 rfl) rfl
theorem q973 : (Jvm.Cond.code ({ cls := "Scaffolder", name := "canLay", desc := "(LScaffolder$Bay;II)Z" } : Jvm.MethodName) prog_1_method_42_code (7 : Nat) (Option.some Jvm.ClassFile.FieldType.boolean)) ∈ lw_all := lw_g (lw_at lw_m4 187 rfl) rfl
theorem q974 : (Jvm.Cond.methodLink "Scaffolder" (227 : Nat) ({ cls := "Scaffolder", name := "bornBy", desc := "(I)I" } : Jvm.MethodName)) ∈ lw_all := lw_g (lw_at lw_m4 188 rfl) rfl
theorem q979 : (Jvm.Cond.instanceMethod ({ cls := "Scaffolder", name := "bayAt", desc := "(III)I" } : Jvm.MethodName)) ∈ lw_all := lw_g (lw_at lw_m4 193 rfl) rfl
theorem q980 : (Jvm.Cond.selects "Scaffolder" ({ cls := "Scaffolder", name := "bayAt", desc := "(III)I" } : Jvm.MethodName) ({ cls := "Scaffolder", name := "bayAt", desc := "(III)I" } : Jvm.MethodName)) ∈ lw_all := lw_g (lw_at lw_m4 194 rfl) rfl
theorem q981 : (Jvm.Cond.code ({ cls := "Scaffolder", name := "bayAt", desc := "(III)I" } : Jvm.MethodName) prog_1_method_44_code (5 : Nat) (Option.some Jvm.ClassFile.FieldType.int)) ∈ lw_all := lw_g (lw_at lw_m4 195 rfl) rfl
theorem q986 : (Jvm.Cond.instanceMethod ({ cls := "Scaffolder", name := "cut", desc := "(IIZ)Z" } : Jvm.MethodName)) ∈ lw_all := lw_g (lw_at lw_m4 200 rfl) rfl
theorem q987 : (Jvm.Cond.selects "Scaffolder" ({ cls := "Scaffolder", name := "cut", desc := "(IIZ)Z" } : Jvm.MethodName) ({ cls := "Scaffolder", name := "cut", desc := "(IIZ)Z" } : Jvm.MethodName)) ∈ lw_all := lw_g (lw_at lw_m4 201 rfl) rfl
theorem q988 : (Jvm.Cond.code ({ cls := "Scaffolder", name := "cut", desc := "(IIZ)Z" } : Jvm.MethodName) prog_1_method_45_code (5 : Nat) (Option.some Jvm.ClassFile.FieldType.boolean)) ∈ lw_all := lw_g (lw_at lw_m4 202 rfl) rfl
theorem q993 : (Jvm.Cond.instanceMethod ({ cls := "Scaffolder", name := "setLimit", desc := "(I)I" } : Jvm.MethodName)) ∈ lw_all := lw_g (lw_at lw_m4 207 rfl) rfl
theorem q994 : (Jvm.Cond.selects "Scaffolder" ({ cls := "Scaffolder", name := "setLimit", desc := "(I)I" } : Jvm.MethodName) ({ cls := "Scaffolder", name := "setLimit", desc := "(I)I" } : Jvm.MethodName)) ∈ lw_all := lw_g (lw_at lw_m4 208 rfl) rfl
theorem q995 : (Jvm.Cond.code ({ cls := "Scaffolder", name := "setLimit", desc := "(I)I" } : Jvm.MethodName) prog_1_method_46_code (3 : Nat) (Option.some Jvm.ClassFile.FieldType.int)) ∈ lw_all := lw_g (lw_at lw_m4 209 rfl) rfl
theorem q1000 : (Jvm.Cond.instanceMethod ({ cls := "Scaffolder", name := "tieOf", desc := "(II)I" } : Jvm.MethodName)) ∈ lw_all := lw_g (lw_at lw_m4 214 rfl) rfl
theorem q1001 : (Jvm.Cond.selects "Scaffolder" ({ cls := "Scaffolder", name := "tieOf", desc := "(II)I" } : Jvm.MethodName) ({ cls := "Scaffolder", name := "tieOf", desc := "(II)I" } : Jvm.MethodName)) ∈ lw_all := lw_g (lw_at lw_m4 215 rfl) rfl
theorem q1002 : (Jvm.Cond.code ({ cls := "Scaffolder", name := "tieOf", desc := "(II)I" } : Jvm.MethodName) prog_1_method_47_code (3 : Nat) (Option.some Jvm.ClassFile.FieldType.int)) ∈ lw_all := lw_g (lw_at lw_m4 216 rfl) rfl
theorem q1007 : (Jvm.Cond.instanceMethod ({ cls := "Scaffolder", name := "hasTie", desc := "(II)Z" } : Jvm.MethodName)) ∈ lw_all := lw_g (lw_at lw_m4 221 rfl) rfl
theorem q1008 : (Jvm.Cond.selects "Scaffolder" ({ cls := "Scaffolder", name := "hasTie", desc := "(II)Z" } : Jvm.MethodName) ({ cls := "Scaffolder", name := "hasTie", desc := "(II)Z" } : Jvm.MethodName)) ∈ lw_all := lw_g (lw_at lw_m4 222 rfl) rfl
theorem q1009 : (Jvm.Cond.code ({ cls := "Scaffolder", name := "hasTie", desc := "(II)Z" } : Jvm.MethodName) prog_1_method_48_code (3 : Nat) (Option.some Jvm.ClassFile.FieldType.boolean)) ∈ lw_all := lw_g (lw_at lw_m4 223 rfl) rfl
theorem q1014 : (Jvm.Cond.instanceMethod ({ cls := "Scaffolder", name := "missing", desc := "(I)I" } : Jvm.MethodName)) ∈ lw_all := lw_g (lw_at lw_m4 228 rfl) rfl
theorem q1015 : (Jvm.Cond.selects "Scaffolder" ({ cls := "Scaffolder", name := "missing", desc := "(I)I" } : Jvm.MethodName) ({ cls := "Scaffolder", name := "missing", desc := "(I)I" } : Jvm.MethodName)) ∈ lw_all := lw_g (lw_at lw_m4 229 rfl) rfl
theorem q1016 : (Jvm.Cond.code ({ cls := "Scaffolder", name := "missing", desc := "(I)I" } : Jvm.MethodName) prog_1_method_49_code (2 : Nat) (Option.some Jvm.ClassFile.FieldType.int)) ∈ lw_all := lw_g (lw_at lw_m4 230 rfl) rfl
theorem q1021 : (Jvm.Cond.instanceMethod ({ cls := "Scaffolder", name := "load", desc := "(IIZ)I" } : Jvm.MethodName)) ∈ lw_all := lw_g (lw_at lw_m4 235 rfl) rfl
theorem q1022 : (Jvm.Cond.selects "Scaffolder" ({ cls := "Scaffolder", name := "load", desc := "(IIZ)I" } : Jvm.MethodName) ({ cls := "Scaffolder", name := "load", desc := "(IIZ)I" } : Jvm.MethodName)) ∈ lw_all := lw_g (lw_at lw_m4 236 rfl) rfl
theorem q1023 : (Jvm.Cond.code ({ cls := "Scaffolder", name := "load", desc := "(IIZ)I" } : Jvm.MethodName) prog_1_method_50_code (4 : Nat) (Option.some Jvm.ClassFile.FieldType.int)) ∈ lw_all := lw_g (lw_at lw_m4 237 rfl) rfl
theorem q1028 : (Jvm.Cond.instanceMethod ({ cls := "Scaffolder", name := "bears", desc := "(I)I" } : Jvm.MethodName)) ∈ lw_all := lw_g (lw_at lw_m5 2 rfl) rfl
theorem q1029 : (Jvm.Cond.selects "Scaffolder" ({ cls := "Scaffolder", name := "bears", desc := "(I)I" } : Jvm.MethodName) ({ cls := "Scaffolder", name := "bears", desc := "(I)I" } : Jvm.MethodName)) ∈ lw_all := lw_g (lw_at lw_m5 3 rfl) rfl
theorem q1030 : (Jvm.Cond.code ({ cls := "Scaffolder", name := "bears", desc := "(I)I" } : Jvm.MethodName) prog_1_method_51_code (2 : Nat) (Option.some Jvm.ClassFile.FieldType.int)) ∈ lw_all := lw_g (lw_at lw_m5 4 rfl) rfl
theorem q1035 : (Jvm.Cond.instanceMethod ({ cls := "Scaffolder", name := "inspect", desc := "(I)I" } : Jvm.MethodName)) ∈ lw_all := lw_g (lw_at lw_m5 9 rfl) rfl
theorem q1036 : (Jvm.Cond.selects "Scaffolder" ({ cls := "Scaffolder", name := "inspect", desc := "(I)I" } : Jvm.MethodName) ({ cls := "Scaffolder", name := "inspect", desc := "(I)I" } : Jvm.MethodName)) ∈ lw_all := lw_g (lw_at lw_m5 10 rfl) rfl
theorem q1037 : (Jvm.Cond.code ({ cls := "Scaffolder", name := "inspect", desc := "(I)I" } : Jvm.MethodName) prog_1_method_53_code (4 : Nat) (Option.some Jvm.ClassFile.FieldType.int)) ∈ lw_all := lw_g (lw_at lw_m5 11 rfl) rfl
theorem q1038 : (Jvm.Cond.methodLink "Scaffolder" (243 : Nat) ({ cls := "Scaffolder", name := "reasonOf", desc := "(LScaffolder$Face;)I" } : Jvm.MethodName)) ∈ lw_all := lw_g (lw_at lw_m5 12 rfl) rfl
theorem q1039 : (Jvm.Cond.privateMethod ({ cls := "Scaffolder", name := "reasonOf", desc := "(LScaffolder$Face;)I" } : Jvm.MethodName)) ∈ lw_tbl := lw_at lw_m5 13 rfl
theorem q1040 : (Jvm.Cond.instanceMethod ({ cls := "Scaffolder", name := "reasonOf", desc := "(LScaffolder$Face;)I" } : Jvm.MethodName)) ∈ lw_all := lw_g (lw_at lw_m5 14 rfl) rfl
theorem q1041 : (Jvm.Cond.code ({ cls := "Scaffolder", name := "reasonOf", desc := "(LScaffolder$Face;)I" } : Jvm.MethodName) prog_1_method_52_code (6 : Nat) (Option.some Jvm.ClassFile.FieldType.int)) ∈ lw_all := lw_g (lw_at lw_m5 15 rfl) rfl
theorem q1042 : (Jvm.Cond.methodLink "Scaffolder" (237 : Nat) ({ cls := "Scaffolder", name := "spare", desc := "(I)I" } : Jvm.MethodName)) ∈ lw_all := lw_g (lw_at lw_m5 16 rfl) rfl
theorem q1043 : (Jvm.Cond.privateMethod ({ cls := "Scaffolder", name := "spare", desc := "(I)I" } : Jvm.MethodName)) ∈ lw_tbl := lw_at lw_m5 17 rfl
theorem q1044 : (Jvm.Cond.instanceMethod ({ cls := "Scaffolder", name := "spare", desc := "(I)I" } : Jvm.MethodName)) ∈ lw_all := lw_g (lw_at lw_m5 18 rfl) rfl
theorem q1045 : (Jvm.Cond.code ({ cls := "Scaffolder", name := "spare", desc := "(I)I" } : Jvm.MethodName) prog_1_method_25_code (2 : Nat) (Option.some Jvm.ClassFile.FieldType.int)) ∈ lw_all := lw_g (lw_at lw_m5 19 rfl) rfl
theorem q1046 : (Jvm.Cond.methodLink "Scaffolder" (240 : Nat) ({ cls := "java/lang/Math", name := "min", desc := "(II)I" } : Jvm.MethodName)) ∈ lw_all := lw_g (lw_at lw_m5 20 rfl) rfl
theorem q1051 : (Jvm.Cond.instanceMethod ({ cls := "Scaffolder", name := "tag", desc := "(I)I" } : Jvm.MethodName)) ∈ lw_all := lw_g (lw_at lw_m5 25 rfl) rfl
theorem q1052 : (Jvm.Cond.selects "Scaffolder" ({ cls := "Scaffolder", name := "tag", desc := "(I)I" } : Jvm.MethodName) ({ cls := "Scaffolder", name := "tag", desc := "(I)I" } : Jvm.MethodName)) ∈ lw_all := lw_g (lw_at lw_m5 26 rfl) rfl
theorem q1053 : (Jvm.Cond.code ({ cls := "Scaffolder", name := "tag", desc := "(I)I" } : Jvm.MethodName) prog_1_method_54_code (3 : Nat) (Option.some Jvm.ClassFile.FieldType.int)) ∈ lw_all := lw_g (lw_at lw_m5 27 rfl) rfl
theorem q1058 : (Jvm.Cond.instanceMethod ({ cls := "Scaffolder", name := "parts", desc := "(II)I" } : Jvm.MethodName)) ∈ lw_all := lw_g (lw_at lw_m5 32 rfl) rfl
theorem q1059 : (Jvm.Cond.selects "Scaffolder" ({ cls := "Scaffolder", name := "parts", desc := "(II)I" } : Jvm.MethodName) ({ cls := "Scaffolder", name := "parts", desc := "(II)I" } : Jvm.MethodName)) ∈ lw_all := lw_g (lw_at lw_m5 33 rfl) rfl
theorem q1060 : (Jvm.Cond.code ({ cls := "Scaffolder", name := "parts", desc := "(II)I" } : Jvm.MethodName) prog_1_method_55_code (4 : Nat) (Option.some Jvm.ClassFile.FieldType.int)) ∈ lw_all := lw_g (lw_at lw_m5 34 rfl) rfl
theorem q1065 : (Jvm.Cond.instanceMethod ({ cls := "Scaffolder", name := "weakest", desc := "(I)I" } : Jvm.MethodName)) ∈ lw_all := lw_g (lw_at lw_m5 39 rfl) rfl
theorem q1066 : (Jvm.Cond.selects "Scaffolder" ({ cls := "Scaffolder", name := "weakest", desc := "(I)I" } : Jvm.MethodName) ({ cls := "Scaffolder", name := "weakest", desc := "(I)I" } : Jvm.MethodName)) ∈ lw_all := lw_g (lw_at lw_m5 40 rfl) rfl
theorem q1067 : (Jvm.Cond.code ({ cls := "Scaffolder", name := "weakest", desc := "(I)I" } : Jvm.MethodName) prog_1_method_56_code (5 : Nat) (Option.some Jvm.ClassFile.FieldType.int)) ∈ lw_all := lw_g (lw_at lw_m5 41 rfl) rfl
theorem q1072 : (Jvm.Cond.instanceMethod ({ cls := "Scaffolder", name := "mostClass", desc := "(II)I" } : Jvm.MethodName)) ∈ lw_all := lw_g (lw_at lw_m5 46 rfl) rfl
theorem q1073 : (Jvm.Cond.selects "Scaffolder" ({ cls := "Scaffolder", name := "mostClass", desc := "(II)I" } : Jvm.MethodName) ({ cls := "Scaffolder", name := "mostClass", desc := "(II)I" } : Jvm.MethodName)) ∈ lw_all := lw_g (lw_at lw_m5 47 rfl) rfl
theorem q1074 : (Jvm.Cond.code ({ cls := "Scaffolder", name := "mostClass", desc := "(II)I" } : Jvm.MethodName) prog_1_method_57_code (7 : Nat) (Option.some Jvm.ClassFile.FieldType.int)) ∈ lw_all := lw_g (lw_at lw_m5 48 rfl) rfl
theorem q1079 : (Jvm.Cond.instanceMethod ({ cls := "Scaffolder", name := "counts", desc := "(I)I" } : Jvm.MethodName)) ∈ lw_all := lw_g (lw_at lw_m5 53 rfl) rfl
theorem q1080 : (Jvm.Cond.selects "Scaffolder" ({ cls := "Scaffolder", name := "counts", desc := "(I)I" } : Jvm.MethodName) ({ cls := "Scaffolder", name := "counts", desc := "(I)I" } : Jvm.MethodName)) ∈ lw_all := lw_g (lw_at lw_m5 54 rfl) rfl
theorem q1081 : (Jvm.Cond.code ({ cls := "Scaffolder", name := "counts", desc := "(I)I" } : Jvm.MethodName) prog_1_method_61_code (2 : Nat) (Option.some Jvm.ClassFile.FieldType.int)) ∈ lw_all := lw_g (lw_at lw_m5 55 rfl) rfl
theorem q1082 : (Jvm.Cond.methodLink "Scaffolder" (253 : Nat) ({ cls := "Scaffolder", name := "ofPositions", desc := "(I)I" } : Jvm.MethodName)) ∈ lw_all := lw_g (lw_at lw_m5 56 rfl) rfl
theorem q1083 : (Jvm.Cond.privateMethod ({ cls := "Scaffolder", name := "ofPositions", desc := "(I)I" } : Jvm.MethodName)) ∈ lw_tbl := lw_at lw_m5 57 rfl
theorem q1084 : (Jvm.Cond.instanceMethod ({ cls := "Scaffolder", name := "ofPositions", desc := "(I)I" } : Jvm.MethodName)) ∈ lw_all := lw_g (lw_at lw_m5 58 rfl) rfl
theorem q1085 : (Jvm.Cond.code ({ cls := "Scaffolder", name := "ofPositions", desc := "(I)I" } : Jvm.MethodName) prog_1_method_59_code (5 : Nat) (Option.some Jvm.ClassFile.FieldType.int)) ∈ lw_all := lw_g (lw_at lw_m5 59 rfl) rfl
theorem q1086 : (Jvm.Cond.methodLink "Scaffolder" (256 : Nat) ({ cls := "Scaffolder", name := "greenFaces", desc := "()I" } : Jvm.MethodName)) ∈ lw_all := lw_g (lw_at lw_m5 60 rfl) rfl
theorem q1087 : (Jvm.Cond.privateMethod ({ cls := "Scaffolder", name := "greenFaces", desc := "()I" } : Jvm.MethodName)) ∈ lw_tbl := lw_at lw_m5 61 rfl
theorem q1088 : (Jvm.Cond.instanceMethod ({ cls := "Scaffolder", name := "greenFaces", desc := "()I" } : Jvm.MethodName)) ∈ lw_all := lw_g (lw_at lw_m5 62 rfl) rfl
theorem q1089 : (Jvm.Cond.code ({ cls := "Scaffolder", name := "greenFaces", desc := "()I" } : Jvm.MethodName) prog_1_method_60_code (3 : Nat) (Option.some Jvm.ClassFile.FieldType.int)) ∈ lw_all := lw_g (lw_at lw_m5 63 rfl) rfl
theorem q1473 : (Jvm.Cond.castable "Scaffolder" "java/lang/Object") ∈ lw_tbl := lw_at lw_m6 207 rfl
theorem in_X1 : ∀ w ∈ wsX10, w ∈ lw_all := lw_in wsX10 [535, 537, 539, 541, 543, 545, 547] (by decide +kernel) (by decide +kernel)
