/-! Scaffolder$Face -/
set_option maxRecDepth 100000
def RX3 : String := "Scaffolder$Face"
def TX3 : u_T := fun k => match k with
  | 0 => ("Scaffolder$Face", "number", "I", true)
  | 1 => ("Scaffolder$Face", "first", "I", true)
  | 2 => ("Scaffolder$Face", "many", "I", true)
  | 3 => ("Scaffolder$Face", "greenUntil", "I", false)
  | _ => ("Scaffolder$Face", "this$0", "LScaffolder;", true)
def tyX3 : Nat → FieldType := fun k => match k with
  | 0 => .int
  | 1 => .int
  | 2 => .int
  | 3 => .int
  | _ => .object "Scaffolder"
abbrev wsX30 : List Cond := u_ws RX3 TX3 5
theorem nmX3 : ∀ a, a < 5 → ∀ b, b < 5 → a ≠ b → (TX3 a).2.1 ≠ (TX3 b).2.1 := by decide +kernel
theorem tyX3_ok : ∀ k, k < 5 → parseFieldDescriptor (TX3 k).2.2.1 = some (tyX3 k) := by decide +kernel
abbrev cX3_hasBrace : ByteArray := prog_3_method_7_code
def yX3_hasBrace : MethodName := ⟨RX3, "hasBrace", "(I)Z"⟩
def dkwX3_hasBrace_1 : List UInt8 := [167, 0, 4, 3, 172]
abbrev dktX3_hasBrace_1 : List UInt8 := dkwX3_hasBrace_1 ++ []
def dkwX3_hasBrace_0 : List UInt8 := [27, 42, 180, 0, 22, 100, 6, 112, 153, 0, 13, 27, 42, 182, 0, 31, 4, 100, 160, 0, 7, 4]
abbrev dktX3_hasBrace_0 : List UInt8 := dkwX3_hasBrace_0 ++ dktX3_hasBrace_1
theorem dksX3_hasBrace_0 : cX3_hasBrace.data.toList.drop 0 = dktX3_hasBrace_0 := by decide +kernel
theorem dksX3_hasBrace_1 : cX3_hasBrace.data.toList.drop 22 = dktX3_hasBrace_1 := dk_seg dksX3_hasBrace_0 22 rfl rfl
theorem dX3_hasBrace_0 : decode cX3_hasBrace 0 = .ok (.iload_n 1, 1) := dk_27 (dk_at dksX3_hasBrace_0 0 rfl rfl)
theorem dX3_hasBrace_1 : decode cX3_hasBrace 1 = .ok (.aload_n 0, 1) := dk_42 (dk_at dksX3_hasBrace_0 1 rfl rfl)
theorem dX3_hasBrace_2 : decode cX3_hasBrace 2 = .ok (.getfield 22, 3) := dk_180 0 22 (dk_at dksX3_hasBrace_0 2 rfl rfl)
theorem dX3_hasBrace_5 : decode cX3_hasBrace 5 = .ok (.isub, 1) := dk_100 (dk_at dksX3_hasBrace_0 5 rfl rfl)
theorem dX3_hasBrace_6 : decode cX3_hasBrace 6 = .ok (.iconst 3, 1) := dk_6 (dk_at dksX3_hasBrace_0 6 rfl rfl)
theorem dX3_hasBrace_7 : decode cX3_hasBrace 7 = .ok (.irem, 1) := dk_112 (dk_at dksX3_hasBrace_0 7 rfl rfl)
theorem dX3_hasBrace_8 : decode cX3_hasBrace 8 = .ok (.ifCond .eq 13, 3) := dk_153 0 13 (dk_at dksX3_hasBrace_0 8 rfl rfl)
theorem dX3_hasBrace_11 : decode cX3_hasBrace 11 = .ok (.iload_n 1, 1) := dk_27 (dk_at dksX3_hasBrace_0 11 rfl rfl)
theorem dX3_hasBrace_12 : decode cX3_hasBrace 12 = .ok (.aload_n 0, 1) := dk_42 (dk_at dksX3_hasBrace_0 12 rfl rfl)
theorem dX3_hasBrace_13 : decode cX3_hasBrace 13 = .ok (.invokevirtual 31, 3) := dk_182 0 31 (dk_at dksX3_hasBrace_0 13 rfl rfl)
theorem dX3_hasBrace_16 : decode cX3_hasBrace 16 = .ok (.iconst 1, 1) := dk_4 (dk_at dksX3_hasBrace_0 16 rfl rfl)
theorem dX3_hasBrace_17 : decode cX3_hasBrace 17 = .ok (.isub, 1) := dk_100 (dk_at dksX3_hasBrace_0 17 rfl rfl)
theorem dX3_hasBrace_18 : decode cX3_hasBrace 18 = .ok (.if_icmp .ne 7, 3) := dk_160 0 7 (dk_at dksX3_hasBrace_0 18 rfl rfl)
theorem dX3_hasBrace_21 : decode cX3_hasBrace 21 = .ok (.iconst 1, 1) := dk_4 (dk_at dksX3_hasBrace_0 21 rfl rfl)
theorem dX3_hasBrace_22 : decode cX3_hasBrace 22 = .ok (.goto 4, 3) := dk_167 0 4 (dk_at dksX3_hasBrace_1 0 rfl rfl)
theorem dX3_hasBrace_25 : decode cX3_hasBrace 25 = .ok (.iconst 0, 1) := dk_3 (dk_at dksX3_hasBrace_1 3 rfl rfl)
theorem dX3_hasBrace_26 : decode cX3_hasBrace 26 = .ok (.ireturn, 1) := dk_172 (dk_at dksX3_hasBrace_1 4 rfl rfl)
abbrev cX3_last : ByteArray := prog_3_method_4_code
def yX3_last : MethodName := ⟨RX3, "last", "()I"⟩
def dkwX3_last_0 : List UInt8 := [42, 180, 0, 22, 42, 180, 0, 25, 96, 172]
abbrev dktX3_last_0 : List UInt8 := dkwX3_last_0 ++ []
theorem dksX3_last_0 : cX3_last.data.toList.drop 0 = dktX3_last_0 := by decide +kernel
theorem dX3_last_0 : decode cX3_last 0 = .ok (.aload_n 0, 1) := dk_42 (dk_at dksX3_last_0 0 rfl rfl)
theorem dX3_last_1 : decode cX3_last 1 = .ok (.getfield 22, 3) := dk_180 0 22 (dk_at dksX3_last_0 1 rfl rfl)
theorem dX3_last_4 : decode cX3_last 4 = .ok (.aload_n 0, 1) := dk_42 (dk_at dksX3_last_0 4 rfl rfl)
theorem dX3_last_5 : decode cX3_last 5 = .ok (.getfield 25, 3) := dk_180 0 25 (dk_at dksX3_last_0 5 rfl rfl)
theorem dX3_last_8 : decode cX3_last 8 = .ok (.iadd, 1) := dk_96 (dk_at dksX3_last_0 8 rfl rfl)
theorem dX3_last_9 : decode cX3_last 9 = .ok (.ireturn, 1) := dk_172 (dk_at dksX3_last_0 9 rfl rfl)
abbrev cX3_firstOfOwn : ByteArray := prog_3_method_6_code
def yX3_firstOfOwn : MethodName := ⟨RX3, "firstOfOwn", "()I"⟩
def dkwX3_firstOfOwn_0 : List UInt8 := [42, 180, 0, 19, 154, 0, 10, 42, 180, 0, 22, 167, 0, 9, 42, 180, 0, 22, 4, 96, 172]
abbrev dktX3_firstOfOwn_0 : List UInt8 := dkwX3_firstOfOwn_0 ++ []
theorem dksX3_firstOfOwn_0 : cX3_firstOfOwn.data.toList.drop 0 = dktX3_firstOfOwn_0 := by decide +kernel
theorem dX3_firstOfOwn_0 : decode cX3_firstOfOwn 0 = .ok (.aload_n 0, 1) := dk_42 (dk_at dksX3_firstOfOwn_0 0 rfl rfl)
theorem dX3_firstOfOwn_1 : decode cX3_firstOfOwn 1 = .ok (.getfield 19, 3) := dk_180 0 19 (dk_at dksX3_firstOfOwn_0 1 rfl rfl)
theorem dX3_firstOfOwn_4 : decode cX3_firstOfOwn 4 = .ok (.ifCond .ne 10, 3) := dk_154 0 10 (dk_at dksX3_firstOfOwn_0 4 rfl rfl)
theorem dX3_firstOfOwn_7 : decode cX3_firstOfOwn 7 = .ok (.aload_n 0, 1) := dk_42 (dk_at dksX3_firstOfOwn_0 7 rfl rfl)
theorem dX3_firstOfOwn_8 : decode cX3_firstOfOwn 8 = .ok (.getfield 22, 3) := dk_180 0 22 (dk_at dksX3_firstOfOwn_0 8 rfl rfl)
theorem dX3_firstOfOwn_11 : decode cX3_firstOfOwn 11 = .ok (.goto 9, 3) := dk_167 0 9 (dk_at dksX3_firstOfOwn_0 11 rfl rfl)
theorem dX3_firstOfOwn_14 : decode cX3_firstOfOwn 14 = .ok (.aload_n 0, 1) := dk_42 (dk_at dksX3_firstOfOwn_0 14 rfl rfl)
theorem dX3_firstOfOwn_15 : decode cX3_firstOfOwn 15 = .ok (.getfield 22, 3) := dk_180 0 22 (dk_at dksX3_firstOfOwn_0 15 rfl rfl)
theorem dX3_firstOfOwn_18 : decode cX3_firstOfOwn 18 = .ok (.iconst 1, 1) := dk_4 (dk_at dksX3_firstOfOwn_0 18 rfl rfl)
theorem dX3_firstOfOwn_19 : decode cX3_firstOfOwn 19 = .ok (.iadd, 1) := dk_96 (dk_at dksX3_firstOfOwn_0 19 rfl rfl)
theorem dX3_firstOfOwn_20 : decode cX3_firstOfOwn 20 = .ok (.ireturn, 1) := dk_172 (dk_at dksX3_firstOfOwn_0 20 rfl rfl)
abbrev cX3_has : ByteArray := prog_3_method_5_code
def yX3_has : MethodName := ⟨RX3, "has", "(I)Z"⟩
def dkwX3_has_0 : List UInt8 := [27, 42, 180, 0, 22, 42, 182, 0, 31, 184, 0, 35, 172]
abbrev dktX3_has_0 : List UInt8 := dkwX3_has_0 ++ []
theorem dksX3_has_0 : cX3_has.data.toList.drop 0 = dktX3_has_0 := by decide +kernel
theorem dX3_has_0 : decode cX3_has 0 = .ok (.iload_n 1, 1) := dk_27 (dk_at dksX3_has_0 0 rfl rfl)
theorem dX3_has_1 : decode cX3_has 1 = .ok (.aload_n 0, 1) := dk_42 (dk_at dksX3_has_0 1 rfl rfl)
theorem dX3_has_2 : decode cX3_has 2 = .ok (.getfield 22, 3) := dk_180 0 22 (dk_at dksX3_has_0 2 rfl rfl)
theorem dX3_has_5 : decode cX3_has 5 = .ok (.aload_n 0, 1) := dk_42 (dk_at dksX3_has_0 5 rfl rfl)
theorem dX3_has_6 : decode cX3_has 6 = .ok (.invokevirtual 31, 3) := dk_182 0 31 (dk_at dksX3_has_0 6 rfl rfl)
theorem dX3_has_9 : decode cX3_has 9 = .ok (.invokestatic 35, 3) := dk_184 0 35 (dk_at dksX3_has_0 9 rfl rfl)
theorem dX3_has_12 : decode cX3_has 12 = .ok (.ireturn, 1) := dk_172 (dk_at dksX3_has_0 12 rfl rfl)
abbrev cX3_isGreen : ByteArray := prog_3_method_2_code
def yX3_isGreen : MethodName := ⟨RX3, "isGreen", "()Z"⟩
def dkwX3_isGreen_0 : List UInt8 := [42, 180, 0, 15, 42, 180, 0, 3, 180, 0, 28, 161, 0, 7, 4, 167, 0, 4, 3, 172]
abbrev dktX3_isGreen_0 : List UInt8 := dkwX3_isGreen_0 ++ []
theorem dksX3_isGreen_0 : cX3_isGreen.data.toList.drop 0 = dktX3_isGreen_0 := by decide +kernel
theorem dX3_isGreen_0 : decode cX3_isGreen 0 = .ok (.aload_n 0, 1) := dk_42 (dk_at dksX3_isGreen_0 0 rfl rfl)
theorem dX3_isGreen_1 : decode cX3_isGreen 1 = .ok (.getfield 15, 3) := dk_180 0 15 (dk_at dksX3_isGreen_0 1 rfl rfl)
theorem dX3_isGreen_4 : decode cX3_isGreen 4 = .ok (.aload_n 0, 1) := dk_42 (dk_at dksX3_isGreen_0 4 rfl rfl)
theorem dX3_isGreen_5 : decode cX3_isGreen 5 = .ok (.getfield 3, 3) := dk_180 0 3 (dk_at dksX3_isGreen_0 5 rfl rfl)
theorem dX3_isGreen_8 : decode cX3_isGreen 8 = .ok (.getfield 28, 3) := dk_180 0 28 (dk_at dksX3_isGreen_0 8 rfl rfl)
theorem dX3_isGreen_11 : decode cX3_isGreen 11 = .ok (.if_icmp .lt 7, 3) := dk_161 0 7 (dk_at dksX3_isGreen_0 11 rfl rfl)
theorem dX3_isGreen_14 : decode cX3_isGreen 14 = .ok (.iconst 1, 1) := dk_4 (dk_at dksX3_isGreen_0 14 rfl rfl)
theorem dX3_isGreen_15 : decode cX3_isGreen 15 = .ok (.goto 4, 3) := dk_167 0 4 (dk_at dksX3_isGreen_0 15 rfl rfl)
theorem dX3_isGreen_18 : decode cX3_isGreen 18 = .ok (.iconst 0, 1) := dk_3 (dk_at dksX3_isGreen_0 18 rfl rfl)
theorem dX3_isGreen_19 : decode cX3_isGreen 19 = .ok (.ireturn, 1) := dk_172 (dk_at dksX3_isGreen_0 19 rfl rfl)
abbrev cX3_init : ByteArray := prog_3_method_1_code
def yX3_init : MethodName := ⟨RX3, "<init>", "(LScaffolder;III)V"⟩
def dkwX3_init_1 : List UInt8 := [42, 21, 4, 181, 0, 25, 177]
abbrev dktX3_init_1 : List UInt8 := dkwX3_init_1 ++ []
def dkwX3_init_0 : List UInt8 := [42, 43, 181, 0, 3, 42, 183, 0, 9, 42, 2, 181, 0, 15, 42, 28, 181, 0, 19, 42, 29, 181, 0, 22]
abbrev dktX3_init_0 : List UInt8 := dkwX3_init_0 ++ dktX3_init_1
theorem dksX3_init_0 : cX3_init.data.toList.drop 0 = dktX3_init_0 := by decide +kernel
theorem dksX3_init_1 : cX3_init.data.toList.drop 24 = dktX3_init_1 := dk_seg dksX3_init_0 24 rfl rfl
theorem dX3_init_0 : decode cX3_init 0 = .ok (.aload_n 0, 1) := dk_42 (dk_at dksX3_init_0 0 rfl rfl)
theorem dX3_init_1 : decode cX3_init 1 = .ok (.aload_n 1, 1) := dk_43 (dk_at dksX3_init_0 1 rfl rfl)
theorem dX3_init_2 : decode cX3_init 2 = .ok (.putfield 3, 3) := dk_181 0 3 (dk_at dksX3_init_0 2 rfl rfl)
theorem dX3_init_5 : decode cX3_init 5 = .ok (.aload_n 0, 1) := dk_42 (dk_at dksX3_init_0 5 rfl rfl)
theorem dX3_init_6 : decode cX3_init 6 = .ok (.invokespecial 9, 3) := dk_183 0 9 (dk_at dksX3_init_0 6 rfl rfl)
theorem dX3_init_9 : decode cX3_init 9 = .ok (.aload_n 0, 1) := dk_42 (dk_at dksX3_init_0 9 rfl rfl)
theorem dX3_init_10 : decode cX3_init 10 = .ok (.iconst (-1), 1) := dk_2 (dk_at dksX3_init_0 10 rfl rfl)
theorem dX3_init_11 : decode cX3_init 11 = .ok (.putfield 15, 3) := dk_181 0 15 (dk_at dksX3_init_0 11 rfl rfl)
theorem dX3_init_14 : decode cX3_init 14 = .ok (.aload_n 0, 1) := dk_42 (dk_at dksX3_init_0 14 rfl rfl)
theorem dX3_init_15 : decode cX3_init 15 = .ok (.iload_n 2, 1) := dk_28 (dk_at dksX3_init_0 15 rfl rfl)
theorem dX3_init_16 : decode cX3_init 16 = .ok (.putfield 19, 3) := dk_181 0 19 (dk_at dksX3_init_0 16 rfl rfl)
theorem dX3_init_19 : decode cX3_init 19 = .ok (.aload_n 0, 1) := dk_42 (dk_at dksX3_init_0 19 rfl rfl)
theorem dX3_init_20 : decode cX3_init 20 = .ok (.iload_n 3, 1) := dk_29 (dk_at dksX3_init_0 20 rfl rfl)
theorem dX3_init_21 : decode cX3_init 21 = .ok (.putfield 22, 3) := dk_181 0 22 (dk_at dksX3_init_0 21 rfl rfl)
theorem dX3_init_24 : decode cX3_init 24 = .ok (.aload_n 0, 1) := dk_42 (dk_at dksX3_init_1 0 rfl rfl)
theorem dX3_init_25 : decode cX3_init 25 = .ok (.iload 4, 2) := dk_21 4 (dk_at dksX3_init_1 1 rfl rfl)
theorem dX3_init_27 : decode cX3_init 27 = .ok (.putfield 25, 3) := dk_181 0 25 (dk_at dksX3_init_1 3 rfl rfl)
theorem dX3_init_30 : decode cX3_init 30 = .ok (.return_, 1) := dk_177 (dk_at dksX3_init_1 6 rfl rfl)
abbrev cX3_withdraw : ByteArray := prog_3_method_3_code
def yX3_withdraw : MethodName := ⟨RX3, "withdraw", "()V"⟩
def dkwX3_withdraw_0 : List UInt8 := [42, 2, 181, 0, 15, 177]
abbrev dktX3_withdraw_0 : List UInt8 := dkwX3_withdraw_0 ++ []
theorem dksX3_withdraw_0 : cX3_withdraw.data.toList.drop 0 = dktX3_withdraw_0 := by decide +kernel
theorem dX3_withdraw_0 : decode cX3_withdraw 0 = .ok (.aload_n 0, 1) := dk_42 (dk_at dksX3_withdraw_0 0 rfl rfl)
theorem dX3_withdraw_1 : decode cX3_withdraw 1 = .ok (.iconst (-1), 1) := dk_2 (dk_at dksX3_withdraw_0 1 rfl rfl)
theorem dX3_withdraw_2 : decode cX3_withdraw 2 = .ok (.putfield 15, 3) := dk_181 0 15 (dk_at dksX3_withdraw_0 2 rfl rfl)
theorem dX3_withdraw_5 : decode cX3_withdraw 5 = .ok (.return_, 1) := dk_177 (dk_at dksX3_withdraw_0 5 rfl rfl)
theorem q90 : (Jvm.Cond.initialized "Scaffolder$Face") ∈ lw_all := lw_g (lw_at lw_m1 24 rfl) rfl
theorem q528 : (Jvm.Cond.fieldLinkNest "Scaffolder$Face" (28 : Nat) "Scaffolder" "today" "I" "Scaffolder") ∈ lw_tbl := lw_at lw_m2 222 rfl
theorem q602 : (Jvm.Cond.instanceMethod ({ cls := "Scaffolder$Face", name := "hasBrace", desc := "(I)Z" } : Jvm.MethodName)) ∈ lw_all := lw_g (lw_at lw_m3 56 rfl) rfl
theorem q603 : (Jvm.Cond.selects "Scaffolder$Face" ({ cls := "Scaffolder$Face", name := "hasBrace", desc := "(I)Z" } : Jvm.MethodName) ({ cls := "Scaffolder$Face", name := "hasBrace", desc := "(I)Z" } : Jvm.MethodName)) ∈ lw_all := lw_g (lw_at lw_m3 57 rfl) rfl
theorem q604 : (Jvm.Cond.code ({ cls := "Scaffolder$Face", name := "hasBrace", desc := "(I)Z" } : Jvm.MethodName) prog_3_method_7_code (2 : Nat) (Option.some Jvm.ClassFile.FieldType.boolean)) ∈ lw_all := lw_g (lw_at lw_m3 58 rfl) rfl
theorem q605 : (Jvm.Cond.methodLink "Scaffolder$Face" (31 : Nat) ({ cls := "Scaffolder$Face", name := "last", desc := "()I" } : Jvm.MethodName)) ∈ lw_all := lw_g (lw_at lw_m3 59 rfl) rfl
theorem q606 : (Jvm.Cond.instanceMethod ({ cls := "Scaffolder$Face", name := "last", desc := "()I" } : Jvm.MethodName)) ∈ lw_all := lw_g (lw_at lw_m3 60 rfl) rfl
theorem q607 : (Jvm.Cond.selects "Scaffolder$Face" ({ cls := "Scaffolder$Face", name := "last", desc := "()I" } : Jvm.MethodName) ({ cls := "Scaffolder$Face", name := "last", desc := "()I" } : Jvm.MethodName)) ∈ lw_all := lw_g (lw_at lw_m3 61 rfl) rfl
theorem q608 : (Jvm.Cond.code ({ cls := "Scaffolder$Face", name := "last", desc := "()I" } : Jvm.MethodName) prog_3_method_4_code (1 : Nat) (Option.some Jvm.ClassFile.FieldType.int)) ∈ lw_all := lw_g (lw_at lw_m3 62 rfl) rfl
theorem q619 : (Jvm.Cond.instanceMethod ({ cls := "Scaffolder$Face", name := "firstOfOwn", desc := "()I" } : Jvm.MethodName)) ∈ lw_all := lw_g (lw_at lw_m3 73 rfl) rfl
theorem q620 : (Jvm.Cond.selects "Scaffolder$Face" ({ cls := "Scaffolder$Face", name := "firstOfOwn", desc := "()I" } : Jvm.MethodName) ({ cls := "Scaffolder$Face", name := "firstOfOwn", desc := "()I" } : Jvm.MethodName)) ∈ lw_all := lw_g (lw_at lw_m3 74 rfl) rfl
theorem q621 : (Jvm.Cond.code ({ cls := "Scaffolder$Face", name := "firstOfOwn", desc := "()I" } : Jvm.MethodName) prog_3_method_6_code (1 : Nat) (Option.some Jvm.ClassFile.FieldType.int)) ∈ lw_all := lw_g (lw_at lw_m3 75 rfl) rfl
theorem q645 : (Jvm.Cond.instanceMethod ({ cls := "Scaffolder$Face", name := "has", desc := "(I)Z" } : Jvm.MethodName)) ∈ lw_all := lw_g (lw_at lw_m3 99 rfl) rfl
theorem q646 : (Jvm.Cond.selects "Scaffolder$Face" ({ cls := "Scaffolder$Face", name := "has", desc := "(I)Z" } : Jvm.MethodName) ({ cls := "Scaffolder$Face", name := "has", desc := "(I)Z" } : Jvm.MethodName)) ∈ lw_all := lw_g (lw_at lw_m3 100 rfl) rfl
theorem q647 : (Jvm.Cond.code ({ cls := "Scaffolder$Face", name := "has", desc := "(I)Z" } : Jvm.MethodName) prog_3_method_5_code (2 : Nat) (Option.some Jvm.ClassFile.FieldType.boolean)) ∈ lw_all := lw_g (lw_at lw_m3 101 rfl) rfl
theorem q648 : (Jvm.Cond.methodLinkNest "Scaffolder$Face" (35 : Nat) ({ cls := "Scaffolder", name := "inRange", desc := "(III)Z" } : Jvm.MethodName) "Scaffolder") ∈ lw_tbl := lw_at lw_m3 102 rfl
theorem q650 : (Jvm.Cond.instanceMethod ({ cls := "Scaffolder$Face", name := "isGreen", desc := "()Z" } : Jvm.MethodName)) ∈ lw_all := lw_g (lw_at lw_m3 104 rfl) rfl
theorem q651 : (Jvm.Cond.selects "Scaffolder$Face" ({ cls := "Scaffolder$Face", name := "isGreen", desc := "()Z" } : Jvm.MethodName) ({ cls := "Scaffolder$Face", name := "isGreen", desc := "()Z" } : Jvm.MethodName)) ∈ lw_all := lw_g (lw_at lw_m3 105 rfl) rfl
theorem q652 : (Jvm.Cond.code ({ cls := "Scaffolder$Face", name := "isGreen", desc := "()Z" } : Jvm.MethodName) prog_3_method_2_code (1 : Nat) (Option.some Jvm.ClassFile.FieldType.boolean)) ∈ lw_all := lw_g (lw_at lw_m3 106 rfl) rfl
theorem q734 : (Jvm.Cond.instantiable "Scaffolder$Face" (5 : Nat)) ∈ lw_all := lw_g (lw_at lw_m3 188 rfl) rfl
theorem q736 : (Jvm.Cond.instanceMethod ({ cls := "Scaffolder$Face", name := "<init>", desc := "(LScaffolder;III)V" } : Jvm.MethodName)) ∈ lw_all := lw_g (lw_at lw_m3 190 rfl) rfl
theorem q737 : (Jvm.Cond.code ({ cls := "Scaffolder$Face", name := "<init>", desc := "(LScaffolder;III)V" } : Jvm.MethodName) prog_3_method_1_code (5 : Nat) (Option.none : Option Jvm.ClassFile.FieldType)) ∈ lw_all := lw_g (lw_at lw_m3 191 rfl) rfl
theorem q738 : (Jvm.Cond.methodLink "Scaffolder$Face" (9 : Nat) ({ cls := "java/lang/Object", name := "<init>", desc := "()V" } : Jvm.MethodName)) ∈ lw_all := lw_g (lw_at lw_m3 192 rfl) rfl
theorem q739 : (Jvm.Cond.fieldLink "Scaffolder$Face" (19 : Nat) "Scaffolder$Face" "number" "I") ∈ lw_all := lw_g (lw_at lw_m3 193 rfl) rfl
theorem q741 : (Jvm.Cond.fieldLink "Scaffolder$Face" (22 : Nat) "Scaffolder$Face" "first" "I") ∈ lw_all := lw_g (lw_at lw_m3 195 rfl) rfl
theorem q743 : (Jvm.Cond.fieldLink "Scaffolder$Face" (25 : Nat) "Scaffolder$Face" "many" "I") ∈ lw_all := lw_g (lw_at lw_m3 197 rfl) rfl
theorem q744 : (Jvm.Cond.fieldLink "Scaffolder$Face" (15 : Nat) "Scaffolder$Face" "greenUntil" "I") ∈ lw_all := lw_g (lw_at lw_m3 198 rfl) rfl
theorem q746 : (Jvm.Cond.fieldLink "Scaffolder$Face" (3 : Nat) "Scaffolder$Face" "this$0" "LScaffolder;") ∈ lw_all := lw_g (lw_at lw_m3 200 rfl) rfl
theorem q747 : (Jvm.Cond.laysFinal "Scaffolder$Face" "Scaffolder$Face" "number" "I") ∈ lw_all := lw_g (lw_at lw_m3 201 rfl) rfl
theorem q748 : (Jvm.Cond.soleField "Scaffolder$Face" "number") ∈ lw_all := lw_g (lw_at lw_m3 202 rfl) rfl
theorem q749 : (Jvm.Cond.laysFinal "Scaffolder$Face" "Scaffolder$Face" "first" "I") ∈ lw_all := lw_g (lw_at lw_m3 203 rfl) rfl
theorem q750 : (Jvm.Cond.soleField "Scaffolder$Face" "first") ∈ lw_all := lw_g (lw_at lw_m3 204 rfl) rfl
theorem q751 : (Jvm.Cond.laysFinal "Scaffolder$Face" "Scaffolder$Face" "many" "I") ∈ lw_all := lw_g (lw_at lw_m3 205 rfl) rfl
theorem q752 : (Jvm.Cond.soleField "Scaffolder$Face" "many") ∈ lw_all := lw_g (lw_at lw_m3 206 rfl) rfl
theorem q753 : (Jvm.Cond.lays "Scaffolder$Face" "Scaffolder$Face" "greenUntil" "I") ∈ lw_all := lw_g (lw_at lw_m3 207 rfl) rfl
theorem q754 : (Jvm.Cond.soleField "Scaffolder$Face" "greenUntil") ∈ lw_all := lw_g (lw_at lw_m3 208 rfl) rfl
theorem q755 : (Jvm.Cond.laysFinal "Scaffolder$Face" "Scaffolder$Face" "this$0" "LScaffolder;") ∈ lw_all := lw_g (lw_at lw_m3 209 rfl) rfl
theorem q756 : (Jvm.Cond.soleField "Scaffolder$Face" "this$0") ∈ lw_all := lw_g (lw_at lw_m3 210 rfl) rfl
theorem q757 : (Jvm.Cond.superclass "Scaffolder$Face" "java/lang/Object") ∈ lw_all := lw_g (lw_at lw_m3 211 rfl) rfl
theorem q790 : (Jvm.Cond.selects "Scaffolder$Face" ({ cls := "java/lang/Object", name := "getClass", desc := "()Ljava/lang/Class;" } : Jvm.MethodName) ({ cls := "java/lang/Object", name := "getClass", desc := "()Ljava/lang/Class;" } : Jvm.MethodName)) ∈ lw_all := lw_g (lw_at lw_m4 4 rfl) rfl
theorem q847 : (Jvm.Cond.instanceMethod ({ cls := "Scaffolder$Face", name := "withdraw", desc := "()V" } : Jvm.MethodName)) ∈ lw_all := lw_g (lw_at lw_m4 61 rfl) rfl
theorem q848 : (Jvm.Cond.selects "Scaffolder$Face" ({ cls := "Scaffolder$Face", name := "withdraw", desc := "()V" } : Jvm.MethodName) ({ cls := "Scaffolder$Face", name := "withdraw", desc := "()V" } : Jvm.MethodName)) ∈ lw_all := lw_g (lw_at lw_m4 62 rfl) rfl
theorem q849 : (Jvm.Cond.code ({ cls := "Scaffolder$Face", name := "withdraw", desc := "()V" } : Jvm.MethodName) prog_3_method_3_code (1 : Nat) (Option.none : Option Jvm.ClassFile.FieldType)) ∈ lw_all := lw_g (lw_at lw_m4 63 rfl) rfl
theorem q1480 : (Jvm.Cond.castable "Scaffolder$Face" "java/lang/Object") ∈ lw_tbl := lw_at lw_m6 214 rfl
theorem in_X3 : ∀ w ∈ wsX30, w ∈ lw_all := lw_in wsX30 [747, 749, 751, 753, 755] (by decide +kernel) (by decide +kernel)
/-! Scaffolder$Bay -/
set_option maxRecDepth 100000
def RX4 : String := "Scaffolder$Bay"
def TX4 : u_T := fun k => match k with
  | 0 => ("Scaffolder$Bay", "number", "I", true)
  | 1 => ("Scaffolder$Bay", "of", "LScaffolder$Face;", true)
  | 2 => ("Scaffolder$Bay", "isBoarded", "[Z", true)
  | 3 => ("Scaffolder$Bay", "sorts", "[I", true)
  | 4 => ("Scaffolder$Bay", "laid", "[I", true)
  | _ => ("Scaffolder$Bay", "lifts", "I", false)
def tyX4 : Nat → FieldType := fun k => match k with
  | 0 => .int
  | 1 => .object "Scaffolder$Face"
  | 2 => .array .boolean
  | 3 => .array .int
  | 4 => .array .int
  | _ => .int
abbrev wsX40 : List Cond := u_ws RX4 TX4 6
theorem nmX4 : ∀ a, a < 6 → ∀ b, b < 6 → a ≠ b → (TX4 a).2.1 ≠ (TX4 b).2.1 := by decide +kernel
theorem tyX4_ok : ∀ k, k < 6 → parseFieldDescriptor (TX4 k).2.2.1 = some (tyX4 k) := by decide +kernel
abbrev cX4_has : ByteArray := prog_2_method_3_code
def yX4_has : MethodName := ⟨RX4, "has", "(I)Z"⟩
def dkwX4_has_0 : List UInt8 := [27, 42, 180, 0, 30, 162, 0, 7, 4, 167, 0, 4, 3, 172]
abbrev dktX4_has_0 : List UInt8 := dkwX4_has_0 ++ []
theorem dksX4_has_0 : cX4_has.data.toList.drop 0 = dktX4_has_0 := by decide +kernel
theorem dX4_has_0 : decode cX4_has 0 = .ok (.iload_n 1, 1) := dk_27 (dk_at dksX4_has_0 0 rfl rfl)
theorem dX4_has_1 : decode cX4_has 1 = .ok (.aload_n 0, 1) := dk_42 (dk_at dksX4_has_0 1 rfl rfl)
theorem dX4_has_2 : decode cX4_has 2 = .ok (.getfield 30, 3) := dk_180 0 30 (dk_at dksX4_has_0 2 rfl rfl)
theorem dX4_has_5 : decode cX4_has 5 = .ok (.if_icmp .ge 7, 3) := dk_162 0 7 (dk_at dksX4_has_0 5 rfl rfl)
theorem dX4_has_8 : decode cX4_has 8 = .ok (.iconst 1, 1) := dk_4 (dk_at dksX4_has_0 8 rfl rfl)
theorem dX4_has_9 : decode cX4_has 9 = .ok (.goto 4, 3) := dk_167 0 4 (dk_at dksX4_has_0 9 rfl rfl)
theorem dX4_has_12 : decode cX4_has 12 = .ok (.iconst 0, 1) := dk_3 (dk_at dksX4_has_0 12 rfl rfl)
theorem dX4_has_13 : decode cX4_has 13 = .ok (.ireturn, 1) := dk_172 (dk_at dksX4_has_0 13 rfl rfl)
abbrev cX4_boarded : ByteArray := prog_2_method_4_code
def yX4_boarded : MethodName := ⟨RX4, "boarded", "()I"⟩
def dkwX4_boarded_1 : List UInt8 := [167, 0, 4, 3, 96, 60, 132, 2, 1, 167, 255, 228, 27, 172]
abbrev dktX4_boarded_1 : List UInt8 := dkwX4_boarded_1 ++ []
def dkwX4_boarded_0 : List UInt8 := [3, 60, 3, 61, 28, 42, 180, 0, 30, 162, 0, 26, 27, 42, 180, 0, 9, 28, 51, 153, 0, 7, 4]
abbrev dktX4_boarded_0 : List UInt8 := dkwX4_boarded_0 ++ dktX4_boarded_1
theorem dksX4_boarded_0 : cX4_boarded.data.toList.drop 0 = dktX4_boarded_0 := by decide +kernel
theorem dksX4_boarded_1 : cX4_boarded.data.toList.drop 23 = dktX4_boarded_1 := dk_seg dksX4_boarded_0 23 rfl rfl
theorem dX4_boarded_0 : decode cX4_boarded 0 = .ok (.iconst 0, 1) := dk_3 (dk_at dksX4_boarded_0 0 rfl rfl)
theorem dX4_boarded_1 : decode cX4_boarded 1 = .ok (.istore_n 1, 1) := dk_60 (dk_at dksX4_boarded_0 1 rfl rfl)
theorem dX4_boarded_2 : decode cX4_boarded 2 = .ok (.iconst 0, 1) := dk_3 (dk_at dksX4_boarded_0 2 rfl rfl)
theorem dX4_boarded_3 : decode cX4_boarded 3 = .ok (.istore_n 2, 1) := dk_61 (dk_at dksX4_boarded_0 3 rfl rfl)
theorem dX4_boarded_4 : decode cX4_boarded 4 = .ok (.iload_n 2, 1) := dk_28 (dk_at dksX4_boarded_0 4 rfl rfl)
theorem dX4_boarded_5 : decode cX4_boarded 5 = .ok (.aload_n 0, 1) := dk_42 (dk_at dksX4_boarded_0 5 rfl rfl)
theorem dX4_boarded_6 : decode cX4_boarded 6 = .ok (.getfield 30, 3) := dk_180 0 30 (dk_at dksX4_boarded_0 6 rfl rfl)
theorem dX4_boarded_9 : decode cX4_boarded 9 = .ok (.if_icmp .ge 26, 3) := dk_162 0 26 (dk_at dksX4_boarded_0 9 rfl rfl)
theorem dX4_boarded_12 : decode cX4_boarded 12 = .ok (.iload_n 1, 1) := dk_27 (dk_at dksX4_boarded_0 12 rfl rfl)
theorem dX4_boarded_13 : decode cX4_boarded 13 = .ok (.aload_n 0, 1) := dk_42 (dk_at dksX4_boarded_0 13 rfl rfl)
theorem dX4_boarded_14 : decode cX4_boarded 14 = .ok (.getfield 9, 3) := dk_180 0 9 (dk_at dksX4_boarded_0 14 rfl rfl)
theorem dX4_boarded_17 : decode cX4_boarded 17 = .ok (.iload_n 2, 1) := dk_28 (dk_at dksX4_boarded_0 17 rfl rfl)
theorem dX4_boarded_18 : decode cX4_boarded 18 = .ok (.baload, 1) := dk_51 (dk_at dksX4_boarded_0 18 rfl rfl)
theorem dX4_boarded_19 : decode cX4_boarded 19 = .ok (.ifCond .eq 7, 3) := dk_153 0 7 (dk_at dksX4_boarded_0 19 rfl rfl)
theorem dX4_boarded_22 : decode cX4_boarded 22 = .ok (.iconst 1, 1) := dk_4 (dk_at dksX4_boarded_0 22 rfl rfl)
theorem dX4_boarded_23 : decode cX4_boarded 23 = .ok (.goto 4, 3) := dk_167 0 4 (dk_at dksX4_boarded_1 0 rfl rfl)
theorem dX4_boarded_26 : decode cX4_boarded 26 = .ok (.iconst 0, 1) := dk_3 (dk_at dksX4_boarded_1 3 rfl rfl)
theorem dX4_boarded_27 : decode cX4_boarded 27 = .ok (.iadd, 1) := dk_96 (dk_at dksX4_boarded_1 4 rfl rfl)
theorem dX4_boarded_28 : decode cX4_boarded 28 = .ok (.istore_n 1, 1) := dk_60 (dk_at dksX4_boarded_1 5 rfl rfl)
theorem dX4_boarded_29 : decode cX4_boarded 29 = .ok (.iinc 2 1, 3) := dk_132 2 1 (dk_at dksX4_boarded_1 6 rfl rfl)
theorem dX4_boarded_32 : decode cX4_boarded 32 = .ok (.goto (-28), 3) := dk_167 255 228 (dk_at dksX4_boarded_1 9 rfl rfl)
theorem dX4_boarded_35 : decode cX4_boarded 35 = .ok (.iload_n 1, 1) := dk_27 (dk_at dksX4_boarded_1 12 rfl rfl)
theorem dX4_boarded_36 : decode cX4_boarded 36 = .ok (.ireturn, 1) := dk_172 (dk_at dksX4_boarded_1 13 rfl rfl)
abbrev cX4_half : ByteArray := prog_2_method_5_code
def yX4_half : MethodName := ⟨RX4, "half", "(IZ)I"⟩
def dkwX4_half_2 : List UInt8 := [153, 0, 8, 16, 60, 167, 0, 4, 3, 29, 96, 5, 108, 172]
abbrev dktX4_half_2 : List UInt8 := dkwX4_half_2 ++ []
def dkwX4_half_1 : List UInt8 := [180, 0, 19, 27, 46, 184, 0, 41, 167, 0, 9, 42, 180, 0, 19, 27, 46, 62, 42, 180, 0, 9, 27, 51]
abbrev dktX4_half_1 : List UInt8 := dkwX4_half_1 ++ dktX4_half_2
def dkwX4_half_0 : List UInt8 := [42, 27, 182, 0, 33, 154, 0, 5, 3, 172, 28, 153, 0, 24, 42, 180, 0, 15, 27, 46, 184, 0, 37, 42]
abbrev dktX4_half_0 : List UInt8 := dkwX4_half_0 ++ dktX4_half_1
theorem dksX4_half_0 : cX4_half.data.toList.drop 0 = dktX4_half_0 := by decide +kernel
theorem dksX4_half_1 : cX4_half.data.toList.drop 24 = dktX4_half_1 := dk_seg dksX4_half_0 24 rfl rfl
theorem dksX4_half_2 : cX4_half.data.toList.drop 48 = dktX4_half_2 := dk_seg dksX4_half_1 24 rfl rfl
theorem dX4_half_0 : decode cX4_half 0 = .ok (.aload_n 0, 1) := dk_42 (dk_at dksX4_half_0 0 rfl rfl)
theorem dX4_half_1 : decode cX4_half 1 = .ok (.iload_n 1, 1) := dk_27 (dk_at dksX4_half_0 1 rfl rfl)
theorem dX4_half_2 : decode cX4_half 2 = .ok (.invokevirtual 33, 3) := dk_182 0 33 (dk_at dksX4_half_0 2 rfl rfl)
theorem dX4_half_5 : decode cX4_half 5 = .ok (.ifCond .ne 5, 3) := dk_154 0 5 (dk_at dksX4_half_0 5 rfl rfl)
theorem dX4_half_8 : decode cX4_half 8 = .ok (.iconst 0, 1) := dk_3 (dk_at dksX4_half_0 8 rfl rfl)
theorem dX4_half_9 : decode cX4_half 9 = .ok (.ireturn, 1) := dk_172 (dk_at dksX4_half_0 9 rfl rfl)
theorem dX4_half_10 : decode cX4_half 10 = .ok (.iload_n 2, 1) := dk_28 (dk_at dksX4_half_0 10 rfl rfl)
theorem dX4_half_11 : decode cX4_half 11 = .ok (.ifCond .eq 24, 3) := dk_153 0 24 (dk_at dksX4_half_0 11 rfl rfl)
theorem dX4_half_14 : decode cX4_half 14 = .ok (.aload_n 0, 1) := dk_42 (dk_at dksX4_half_0 14 rfl rfl)
theorem dX4_half_15 : decode cX4_half 15 = .ok (.getfield 15, 3) := dk_180 0 15 (dk_at dksX4_half_0 15 rfl rfl)
theorem dX4_half_18 : decode cX4_half 18 = .ok (.iload_n 1, 1) := dk_27 (dk_at dksX4_half_0 18 rfl rfl)
theorem dX4_half_19 : decode cX4_half 19 = .ok (.iaload, 1) := dk_46 (dk_at dksX4_half_0 19 rfl rfl)
theorem dX4_half_20 : decode cX4_half 20 = .ok (.invokestatic 37, 3) := dk_184 0 37 (dk_at dksX4_half_0 20 rfl rfl)
theorem dX4_half_23 : decode cX4_half 23 = .ok (.aload_n 0, 1) := dk_42 (dk_at dksX4_half_0 23 rfl rfl)
theorem dX4_half_24 : decode cX4_half 24 = .ok (.getfield 19, 3) := dk_180 0 19 (dk_at dksX4_half_1 0 rfl rfl)
theorem dX4_half_27 : decode cX4_half 27 = .ok (.iload_n 1, 1) := dk_27 (dk_at dksX4_half_1 3 rfl rfl)
theorem dX4_half_28 : decode cX4_half 28 = .ok (.iaload, 1) := dk_46 (dk_at dksX4_half_1 4 rfl rfl)
theorem dX4_half_29 : decode cX4_half 29 = .ok (.invokestatic 41, 3) := dk_184 0 41 (dk_at dksX4_half_1 5 rfl rfl)
theorem dX4_half_32 : decode cX4_half 32 = .ok (.goto 9, 3) := dk_167 0 9 (dk_at dksX4_half_1 8 rfl rfl)
theorem dX4_half_35 : decode cX4_half 35 = .ok (.aload_n 0, 1) := dk_42 (dk_at dksX4_half_1 11 rfl rfl)
theorem dX4_half_36 : decode cX4_half 36 = .ok (.getfield 19, 3) := dk_180 0 19 (dk_at dksX4_half_1 12 rfl rfl)
theorem dX4_half_39 : decode cX4_half 39 = .ok (.iload_n 1, 1) := dk_27 (dk_at dksX4_half_1 15 rfl rfl)
theorem dX4_half_40 : decode cX4_half 40 = .ok (.iaload, 1) := dk_46 (dk_at dksX4_half_1 16 rfl rfl)
theorem dX4_half_41 : decode cX4_half 41 = .ok (.istore_n 3, 1) := dk_62 (dk_at dksX4_half_1 17 rfl rfl)
theorem dX4_half_42 : decode cX4_half 42 = .ok (.aload_n 0, 1) := dk_42 (dk_at dksX4_half_1 18 rfl rfl)
theorem dX4_half_43 : decode cX4_half 43 = .ok (.getfield 9, 3) := dk_180 0 9 (dk_at dksX4_half_1 19 rfl rfl)
theorem dX4_half_46 : decode cX4_half 46 = .ok (.iload_n 1, 1) := dk_27 (dk_at dksX4_half_1 22 rfl rfl)
theorem dX4_half_47 : decode cX4_half 47 = .ok (.baload, 1) := dk_51 (dk_at dksX4_half_1 23 rfl rfl)
theorem dX4_half_48 : decode cX4_half 48 = .ok (.ifCond .eq 8, 3) := dk_153 0 8 (dk_at dksX4_half_2 0 rfl rfl)
theorem dX4_half_51 : decode cX4_half 51 = .ok (.bipush 60, 2) := dk_16 60 (dk_at dksX4_half_2 3 rfl rfl)
theorem dX4_half_53 : decode cX4_half 53 = .ok (.goto 4, 3) := dk_167 0 4 (dk_at dksX4_half_2 5 rfl rfl)
theorem dX4_half_56 : decode cX4_half 56 = .ok (.iconst 0, 1) := dk_3 (dk_at dksX4_half_2 8 rfl rfl)
theorem dX4_half_57 : decode cX4_half 57 = .ok (.iload_n 3, 1) := dk_29 (dk_at dksX4_half_2 9 rfl rfl)
theorem dX4_half_58 : decode cX4_half 58 = .ok (.iadd, 1) := dk_96 (dk_at dksX4_half_2 10 rfl rfl)
theorem dX4_half_59 : decode cX4_half 59 = .ok (.iconst 2, 1) := dk_5 (dk_at dksX4_half_2 11 rfl rfl)
theorem dX4_half_60 : decode cX4_half 60 = .ok (.idiv, 1) := dk_108 (dk_at dksX4_half_2 12 rfl rfl)
theorem dX4_half_61 : decode cX4_half 61 = .ok (.ireturn, 1) := dk_172 (dk_at dksX4_half_2 13 rfl rfl)
abbrev cX4_init : ByteArray := prog_2_method_1_code
def yX4_init : MethodName := ⟨RX4, "<init>", "(ILScaffolder$Face;)V"⟩
def dkwX4_init_1 : List UInt8 := [188, 10, 181, 0, 19, 42, 27, 181, 0, 22, 42, 44, 181, 0, 26, 177]
abbrev dktX4_init_1 : List UInt8 := dkwX4_init_1 ++ []
def dkwX4_init_0 : List UInt8 := [42, 183, 0, 3, 42, 16, 8, 188, 4, 181, 0, 9, 42, 16, 8, 188, 10, 181, 0, 15, 42, 16, 8]
abbrev dktX4_init_0 : List UInt8 := dkwX4_init_0 ++ dktX4_init_1
theorem dksX4_init_0 : cX4_init.data.toList.drop 0 = dktX4_init_0 := by decide +kernel
theorem dksX4_init_1 : cX4_init.data.toList.drop 23 = dktX4_init_1 := dk_seg dksX4_init_0 23 rfl rfl
theorem dX4_init_0 : decode cX4_init 0 = .ok (.aload_n 0, 1) := dk_42 (dk_at dksX4_init_0 0 rfl rfl)
theorem dX4_init_1 : decode cX4_init 1 = .ok (.invokespecial 3, 3) := dk_183 0 3 (dk_at dksX4_init_0 1 rfl rfl)
theorem dX4_init_4 : decode cX4_init 4 = .ok (.aload_n 0, 1) := dk_42 (dk_at dksX4_init_0 4 rfl rfl)
theorem dX4_init_5 : decode cX4_init 5 = .ok (.bipush 8, 2) := dk_16 8 (dk_at dksX4_init_0 5 rfl rfl)
theorem dX4_init_7 : decode cX4_init 7 = .ok (.newarray .boolean, 2) := dk_188_4 (dk_at dksX4_init_0 7 rfl rfl)
theorem dX4_init_9 : decode cX4_init 9 = .ok (.putfield 9, 3) := dk_181 0 9 (dk_at dksX4_init_0 9 rfl rfl)
theorem dX4_init_12 : decode cX4_init 12 = .ok (.aload_n 0, 1) := dk_42 (dk_at dksX4_init_0 12 rfl rfl)
theorem dX4_init_13 : decode cX4_init 13 = .ok (.bipush 8, 2) := dk_16 8 (dk_at dksX4_init_0 13 rfl rfl)
theorem dX4_init_15 : decode cX4_init 15 = .ok (.newarray .int, 2) := dk_188_10 (dk_at dksX4_init_0 15 rfl rfl)
theorem dX4_init_17 : decode cX4_init 17 = .ok (.putfield 15, 3) := dk_181 0 15 (dk_at dksX4_init_0 17 rfl rfl)
theorem dX4_init_20 : decode cX4_init 20 = .ok (.aload_n 0, 1) := dk_42 (dk_at dksX4_init_0 20 rfl rfl)
theorem dX4_init_21 : decode cX4_init 21 = .ok (.bipush 8, 2) := dk_16 8 (dk_at dksX4_init_0 21 rfl rfl)
theorem dX4_init_23 : decode cX4_init 23 = .ok (.newarray .int, 2) := dk_188_10 (dk_at dksX4_init_1 0 rfl rfl)
theorem dX4_init_25 : decode cX4_init 25 = .ok (.putfield 19, 3) := dk_181 0 19 (dk_at dksX4_init_1 2 rfl rfl)
theorem dX4_init_28 : decode cX4_init 28 = .ok (.aload_n 0, 1) := dk_42 (dk_at dksX4_init_1 5 rfl rfl)
theorem dX4_init_29 : decode cX4_init 29 = .ok (.iload_n 1, 1) := dk_27 (dk_at dksX4_init_1 6 rfl rfl)
theorem dX4_init_30 : decode cX4_init 30 = .ok (.putfield 22, 3) := dk_181 0 22 (dk_at dksX4_init_1 7 rfl rfl)
theorem dX4_init_33 : decode cX4_init 33 = .ok (.aload_n 0, 1) := dk_42 (dk_at dksX4_init_1 10 rfl rfl)
theorem dX4_init_34 : decode cX4_init 34 = .ok (.aload_n 2, 1) := dk_44 (dk_at dksX4_init_1 11 rfl rfl)
theorem dX4_init_35 : decode cX4_init 35 = .ok (.putfield 26, 3) := dk_181 0 26 (dk_at dksX4_init_1 12 rfl rfl)
theorem dX4_init_38 : decode cX4_init 38 = .ok (.return_, 1) := dk_177 (dk_at dksX4_init_1 15 rfl rfl)
abbrev cX4_setLifts : ByteArray := prog_2_method_2_code
def yX4_setLifts : MethodName := ⟨RX4, "setLifts", "(I)V"⟩
def dkwX4_setLifts_1 : List UInt8 := [180, 0, 19, 28, 3, 79, 132, 2, 1, 167, 255, 226, 42, 27, 181, 0, 30, 177]
abbrev dktX4_setLifts_1 : List UInt8 := dkwX4_setLifts_1 ++ []
def dkwX4_setLifts_0 : List UInt8 := [27, 61, 28, 16, 8, 162, 0, 30, 42, 180, 0, 9, 28, 3, 84, 42, 180, 0, 15, 28, 3, 79, 42]
abbrev dktX4_setLifts_0 : List UInt8 := dkwX4_setLifts_0 ++ dktX4_setLifts_1
theorem dksX4_setLifts_0 : cX4_setLifts.data.toList.drop 0 = dktX4_setLifts_0 := by decide +kernel
theorem dksX4_setLifts_1 : cX4_setLifts.data.toList.drop 23 = dktX4_setLifts_1 := dk_seg dksX4_setLifts_0 23 rfl rfl
theorem dX4_setLifts_0 : decode cX4_setLifts 0 = .ok (.iload_n 1, 1) := dk_27 (dk_at dksX4_setLifts_0 0 rfl rfl)
theorem dX4_setLifts_1 : decode cX4_setLifts 1 = .ok (.istore_n 2, 1) := dk_61 (dk_at dksX4_setLifts_0 1 rfl rfl)
theorem dX4_setLifts_2 : decode cX4_setLifts 2 = .ok (.iload_n 2, 1) := dk_28 (dk_at dksX4_setLifts_0 2 rfl rfl)
theorem dX4_setLifts_3 : decode cX4_setLifts 3 = .ok (.bipush 8, 2) := dk_16 8 (dk_at dksX4_setLifts_0 3 rfl rfl)
theorem dX4_setLifts_5 : decode cX4_setLifts 5 = .ok (.if_icmp .ge 30, 3) := dk_162 0 30 (dk_at dksX4_setLifts_0 5 rfl rfl)
theorem dX4_setLifts_8 : decode cX4_setLifts 8 = .ok (.aload_n 0, 1) := dk_42 (dk_at dksX4_setLifts_0 8 rfl rfl)
theorem dX4_setLifts_9 : decode cX4_setLifts 9 = .ok (.getfield 9, 3) := dk_180 0 9 (dk_at dksX4_setLifts_0 9 rfl rfl)
theorem dX4_setLifts_12 : decode cX4_setLifts 12 = .ok (.iload_n 2, 1) := dk_28 (dk_at dksX4_setLifts_0 12 rfl rfl)
theorem dX4_setLifts_13 : decode cX4_setLifts 13 = .ok (.iconst 0, 1) := dk_3 (dk_at dksX4_setLifts_0 13 rfl rfl)
theorem dX4_setLifts_14 : decode cX4_setLifts 14 = .ok (.bastore, 1) := dk_84 (dk_at dksX4_setLifts_0 14 rfl rfl)
theorem dX4_setLifts_15 : decode cX4_setLifts 15 = .ok (.aload_n 0, 1) := dk_42 (dk_at dksX4_setLifts_0 15 rfl rfl)
theorem dX4_setLifts_16 : decode cX4_setLifts 16 = .ok (.getfield 15, 3) := dk_180 0 15 (dk_at dksX4_setLifts_0 16 rfl rfl)
theorem dX4_setLifts_19 : decode cX4_setLifts 19 = .ok (.iload_n 2, 1) := dk_28 (dk_at dksX4_setLifts_0 19 rfl rfl)
theorem dX4_setLifts_20 : decode cX4_setLifts 20 = .ok (.iconst 0, 1) := dk_3 (dk_at dksX4_setLifts_0 20 rfl rfl)
theorem dX4_setLifts_21 : decode cX4_setLifts 21 = .ok (.iastore, 1) := dk_79 (dk_at dksX4_setLifts_0 21 rfl rfl)
theorem dX4_setLifts_22 : decode cX4_setLifts 22 = .ok (.aload_n 0, 1) := dk_42 (dk_at dksX4_setLifts_0 22 rfl rfl)
theorem dX4_setLifts_23 : decode cX4_setLifts 23 = .ok (.getfield 19, 3) := dk_180 0 19 (dk_at dksX4_setLifts_1 0 rfl rfl)
theorem dX4_setLifts_26 : decode cX4_setLifts 26 = .ok (.iload_n 2, 1) := dk_28 (dk_at dksX4_setLifts_1 3 rfl rfl)
theorem dX4_setLifts_27 : decode cX4_setLifts 27 = .ok (.iconst 0, 1) := dk_3 (dk_at dksX4_setLifts_1 4 rfl rfl)
theorem dX4_setLifts_28 : decode cX4_setLifts 28 = .ok (.iastore, 1) := dk_79 (dk_at dksX4_setLifts_1 5 rfl rfl)
theorem dX4_setLifts_29 : decode cX4_setLifts 29 = .ok (.iinc 2 1, 3) := dk_132 2 1 (dk_at dksX4_setLifts_1 6 rfl rfl)
theorem dX4_setLifts_32 : decode cX4_setLifts 32 = .ok (.goto (-30), 3) := dk_167 255 226 (dk_at dksX4_setLifts_1 9 rfl rfl)
theorem dX4_setLifts_35 : decode cX4_setLifts 35 = .ok (.aload_n 0, 1) := dk_42 (dk_at dksX4_setLifts_1 12 rfl rfl)
theorem dX4_setLifts_36 : decode cX4_setLifts 36 = .ok (.iload_n 1, 1) := dk_27 (dk_at dksX4_setLifts_1 13 rfl rfl)
theorem dX4_setLifts_37 : decode cX4_setLifts 37 = .ok (.putfield 30, 3) := dk_181 0 30 (dk_at dksX4_setLifts_1 14 rfl rfl)
theorem dX4_setLifts_40 : decode cX4_setLifts 40 = .ok (.return_, 1) := dk_177 (dk_at dksX4_setLifts_1 17 rfl rfl)
theorem q91 : (Jvm.Cond.initialized "Scaffolder$Bay") ∈ lw_all := lw_g (lw_at lw_m1 25 rfl) rfl
theorem q594 : (Jvm.Cond.instanceMethod ({ cls := "Scaffolder$Bay", name := "has", desc := "(I)Z" } : Jvm.MethodName)) ∈ lw_all := lw_g (lw_at lw_m3 48 rfl) rfl
theorem q595 : (Jvm.Cond.selects "Scaffolder$Bay" ({ cls := "Scaffolder$Bay", name := "has", desc := "(I)Z" } : Jvm.MethodName) ({ cls := "Scaffolder$Bay", name := "has", desc := "(I)Z" } : Jvm.MethodName)) ∈ lw_all := lw_g (lw_at lw_m3 49 rfl) rfl
theorem q596 : (Jvm.Cond.code ({ cls := "Scaffolder$Bay", name := "has", desc := "(I)Z" } : Jvm.MethodName) prog_2_method_3_code (2 : Nat) (Option.some Jvm.ClassFile.FieldType.boolean)) ∈ lw_all := lw_g (lw_at lw_m3 50 rfl) rfl
theorem q636 : (Jvm.Cond.instanceMethod ({ cls := "Scaffolder$Bay", name := "boarded", desc := "()I" } : Jvm.MethodName)) ∈ lw_all := lw_g (lw_at lw_m3 90 rfl) rfl
theorem q637 : (Jvm.Cond.selects "Scaffolder$Bay" ({ cls := "Scaffolder$Bay", name := "boarded", desc := "()I" } : Jvm.MethodName) ({ cls := "Scaffolder$Bay", name := "boarded", desc := "()I" } : Jvm.MethodName)) ∈ lw_all := lw_g (lw_at lw_m3 91 rfl) rfl
theorem q638 : (Jvm.Cond.code ({ cls := "Scaffolder$Bay", name := "boarded", desc := "()I" } : Jvm.MethodName) prog_2_method_4_code (3 : Nat) (Option.some Jvm.ClassFile.FieldType.int)) ∈ lw_all := lw_g (lw_at lw_m3 92 rfl) rfl
theorem q658 : (Jvm.Cond.instanceMethod ({ cls := "Scaffolder$Bay", name := "half", desc := "(IZ)I" } : Jvm.MethodName)) ∈ lw_all := lw_g (lw_at lw_m3 112 rfl) rfl
theorem q659 : (Jvm.Cond.selects "Scaffolder$Bay" ({ cls := "Scaffolder$Bay", name := "half", desc := "(IZ)I" } : Jvm.MethodName) ({ cls := "Scaffolder$Bay", name := "half", desc := "(IZ)I" } : Jvm.MethodName)) ∈ lw_all := lw_g (lw_at lw_m3 113 rfl) rfl
theorem q660 : (Jvm.Cond.code ({ cls := "Scaffolder$Bay", name := "half", desc := "(IZ)I" } : Jvm.MethodName) prog_2_method_5_code (4 : Nat) (Option.some Jvm.ClassFile.FieldType.int)) ∈ lw_all := lw_g (lw_at lw_m3 114 rfl) rfl
theorem q661 : (Jvm.Cond.methodLink "Scaffolder$Bay" (33 : Nat) ({ cls := "Scaffolder$Bay", name := "has", desc := "(I)Z" } : Jvm.MethodName)) ∈ lw_all := lw_g (lw_at lw_m3 115 rfl) rfl
theorem q662 : (Jvm.Cond.methodLinkNest "Scaffolder$Bay" (37 : Nat) ({ cls := "Scaffolder", name := "bornBy", desc := "(I)I" } : Jvm.MethodName) "Scaffolder") ∈ lw_tbl := lw_at lw_m3 116 rfl
theorem q665 : (Jvm.Cond.methodLink "Scaffolder$Bay" (41 : Nat) ({ cls := "java/lang/Math", name := "max", desc := "(II)I" } : Jvm.MethodName)) ∈ lw_all := lw_g (lw_at lw_m3 119 rfl) rfl
theorem q789 : (Jvm.Cond.selects "Scaffolder$Bay" ({ cls := "java/lang/Object", name := "getClass", desc := "()Ljava/lang/Class;" } : Jvm.MethodName) ({ cls := "java/lang/Object", name := "getClass", desc := "()Ljava/lang/Class;" } : Jvm.MethodName)) ∈ lw_all := lw_g (lw_at lw_m4 3 rfl) rfl
theorem q809 : (Jvm.Cond.instantiable "Scaffolder$Bay" (6 : Nat)) ∈ lw_all := lw_g (lw_at lw_m4 23 rfl) rfl
theorem q811 : (Jvm.Cond.instanceMethod ({ cls := "Scaffolder$Bay", name := "<init>", desc := "(ILScaffolder$Face;)V" } : Jvm.MethodName)) ∈ lw_all := lw_g (lw_at lw_m4 25 rfl) rfl
theorem q812 : (Jvm.Cond.code ({ cls := "Scaffolder$Bay", name := "<init>", desc := "(ILScaffolder$Face;)V" } : Jvm.MethodName) prog_2_method_1_code (3 : Nat) (Option.none : Option Jvm.ClassFile.FieldType)) ∈ lw_all := lw_g (lw_at lw_m4 26 rfl) rfl
theorem q813 : (Jvm.Cond.methodLink "Scaffolder$Bay" (3 : Nat) ({ cls := "java/lang/Object", name := "<init>", desc := "()V" } : Jvm.MethodName)) ∈ lw_all := lw_g (lw_at lw_m4 27 rfl) rfl
theorem q814 : (Jvm.Cond.fieldLink "Scaffolder$Bay" (22 : Nat) "Scaffolder$Bay" "number" "I") ∈ lw_all := lw_g (lw_at lw_m4 28 rfl) rfl
theorem q817 : (Jvm.Cond.fieldLink "Scaffolder$Bay" (26 : Nat) "Scaffolder$Bay" "of" "LScaffolder$Face;") ∈ lw_all := lw_g (lw_at lw_m4 31 rfl) rfl
theorem q820 : (Jvm.Cond.fieldLink "Scaffolder$Bay" (9 : Nat) "Scaffolder$Bay" "isBoarded" "[Z") ∈ lw_all := lw_g (lw_at lw_m4 34 rfl) rfl
theorem q823 : (Jvm.Cond.fieldLink "Scaffolder$Bay" (15 : Nat) "Scaffolder$Bay" "sorts" "[I") ∈ lw_all := lw_g (lw_at lw_m4 37 rfl) rfl
theorem q825 : (Jvm.Cond.fieldLink "Scaffolder$Bay" (19 : Nat) "Scaffolder$Bay" "laid" "[I") ∈ lw_all := lw_g (lw_at lw_m4 39 rfl) rfl
theorem q827 : (Jvm.Cond.fieldLink "Scaffolder$Bay" (30 : Nat) "Scaffolder$Bay" "lifts" "I") ∈ lw_all := lw_g (lw_at lw_m4 41 rfl) rfl
theorem q829 : (Jvm.Cond.laysFinal "Scaffolder$Bay" "Scaffolder$Bay" "number" "I") ∈ lw_all := lw_g (lw_at lw_m4 43 rfl) rfl
theorem q830 : (Jvm.Cond.soleField "Scaffolder$Bay" "number") ∈ lw_all := lw_g (lw_at lw_m4 44 rfl) rfl
theorem q831 : (Jvm.Cond.laysFinal "Scaffolder$Bay" "Scaffolder$Bay" "of" "LScaffolder$Face;") ∈ lw_all := lw_g (lw_at lw_m4 45 rfl) rfl
theorem q832 : (Jvm.Cond.soleField "Scaffolder$Bay" "of") ∈ lw_all := lw_g (lw_at lw_m4 46 rfl) rfl
theorem q833 : (Jvm.Cond.laysFinal "Scaffolder$Bay" "Scaffolder$Bay" "isBoarded" "[Z") ∈ lw_all := lw_g (lw_at lw_m4 47 rfl) rfl
theorem q834 : (Jvm.Cond.soleField "Scaffolder$Bay" "isBoarded") ∈ lw_all := lw_g (lw_at lw_m4 48 rfl) rfl
theorem q835 : (Jvm.Cond.laysFinal "Scaffolder$Bay" "Scaffolder$Bay" "sorts" "[I") ∈ lw_all := lw_g (lw_at lw_m4 49 rfl) rfl
theorem q836 : (Jvm.Cond.soleField "Scaffolder$Bay" "sorts") ∈ lw_all := lw_g (lw_at lw_m4 50 rfl) rfl
theorem q837 : (Jvm.Cond.laysFinal "Scaffolder$Bay" "Scaffolder$Bay" "laid" "[I") ∈ lw_all := lw_g (lw_at lw_m4 51 rfl) rfl
theorem q838 : (Jvm.Cond.soleField "Scaffolder$Bay" "laid") ∈ lw_all := lw_g (lw_at lw_m4 52 rfl) rfl
theorem q839 : (Jvm.Cond.lays "Scaffolder$Bay" "Scaffolder$Bay" "lifts" "I") ∈ lw_all := lw_g (lw_at lw_m4 53 rfl) rfl
theorem q840 : (Jvm.Cond.soleField "Scaffolder$Bay" "lifts") ∈ lw_all := lw_g (lw_at lw_m4 54 rfl) rfl
theorem q841 : (Jvm.Cond.superclass "Scaffolder$Bay" "java/lang/Object") ∈ lw_all := lw_g (lw_at lw_m4 55 rfl) rfl
theorem q916 : (Jvm.Cond.instanceMethod ({ cls := "Scaffolder$Bay", name := "setLifts", desc := "(I)V" } : Jvm.MethodName)) ∈ lw_all := lw_g (lw_at lw_m4 130 rfl) rfl
theorem q917 : (Jvm.Cond.selects "Scaffolder$Bay" ({ cls := "Scaffolder$Bay", name := "setLifts", desc := "(I)V" } : Jvm.MethodName) ({ cls := "Scaffolder$Bay", name := "setLifts", desc := "(I)V" } : Jvm.MethodName)) ∈ lw_all := lw_g (lw_at lw_m4 131 rfl) rfl
theorem q918 : (Jvm.Cond.code ({ cls := "Scaffolder$Bay", name := "setLifts", desc := "(I)V" } : Jvm.MethodName) prog_2_method_2_code (3 : Nat) (Option.none : Option Jvm.ClassFile.FieldType)) ∈ lw_all := lw_g (lw_at lw_m4 132 rfl) rfl
theorem q1481 : (Jvm.Cond.castable "Scaffolder$Bay" "java/lang/Object") ∈ lw_tbl := lw_at lw_m6 215 rfl
theorem in_X4 : ∀ w ∈ wsX40, w ∈ lw_all := lw_in wsX40 [829, 831, 833, 835, 837, 839] (by decide +kernel) (by decide +kernel)
/-! ScaffolderModel$Bay -/
set_option maxRecDepth 100000
def RX5 : String := "ScaffolderModel$Bay"
def TX5 : u_T := fun k => match k with
  | 0 => ("ScaffolderModel$Bay", "face", "I", true)
  | 1 => ("ScaffolderModel$Bay", "number", "I", true)
  | 2 => ("ScaffolderModel$Bay", "boarded", "[Z", true)
  | 3 => ("ScaffolderModel$Bay", "sort", "[I", true)
  | 4 => ("ScaffolderModel$Bay", "laid", "[I", true)
  | _ => ("ScaffolderModel$Bay", "lifts", "I", false)
def tyX5 : Nat → FieldType := fun k => match k with
  | 0 => .int
  | 1 => .int
  | 2 => .array .boolean
  | 3 => .array .int
  | 4 => .array .int
  | _ => .int
abbrev wsX50 : List Cond := u_ws RX5 TX5 6
theorem nmX5 : ∀ a, a < 6 → ∀ b, b < 6 → a ≠ b → (TX5 a).2.1 ≠ (TX5 b).2.1 := by decide +kernel
theorem tyX5_ok : ∀ k, k < 6 → parseFieldDescriptor (TX5 k).2.2.1 = some (tyX5 k) := by decide +kernel
abbrev cX5_init : ByteArray := prog_7_method_1_code
def yX5_init : MethodName := ⟨RX5, "<init>", "(II)V"⟩
def dkwX5_init_1 : List UInt8 := [188, 10, 181, 0, 19, 42, 27, 181, 0, 22, 42, 28, 181, 0, 26, 177]
abbrev dktX5_init_1 : List UInt8 := dkwX5_init_1 ++ []
def dkwX5_init_0 : List UInt8 := [42, 183, 0, 3, 42, 16, 8, 188, 4, 181, 0, 9, 42, 16, 8, 188, 10, 181, 0, 15, 42, 16, 8]
abbrev dktX5_init_0 : List UInt8 := dkwX5_init_0 ++ dktX5_init_1
theorem dksX5_init_0 : cX5_init.data.toList.drop 0 = dktX5_init_0 := by decide +kernel
theorem dksX5_init_1 : cX5_init.data.toList.drop 23 = dktX5_init_1 := dk_seg dksX5_init_0 23 rfl rfl
theorem dX5_init_0 : decode cX5_init 0 = .ok (.aload_n 0, 1) := dk_42 (dk_at dksX5_init_0 0 rfl rfl)
theorem dX5_init_1 : decode cX5_init 1 = .ok (.invokespecial 3, 3) := dk_183 0 3 (dk_at dksX5_init_0 1 rfl rfl)
theorem dX5_init_4 : decode cX5_init 4 = .ok (.aload_n 0, 1) := dk_42 (dk_at dksX5_init_0 4 rfl rfl)
theorem dX5_init_5 : decode cX5_init 5 = .ok (.bipush 8, 2) := dk_16 8 (dk_at dksX5_init_0 5 rfl rfl)
theorem dX5_init_7 : decode cX5_init 7 = .ok (.newarray .boolean, 2) := dk_188_4 (dk_at dksX5_init_0 7 rfl rfl)
theorem dX5_init_9 : decode cX5_init 9 = .ok (.putfield 9, 3) := dk_181 0 9 (dk_at dksX5_init_0 9 rfl rfl)
theorem dX5_init_12 : decode cX5_init 12 = .ok (.aload_n 0, 1) := dk_42 (dk_at dksX5_init_0 12 rfl rfl)
theorem dX5_init_13 : decode cX5_init 13 = .ok (.bipush 8, 2) := dk_16 8 (dk_at dksX5_init_0 13 rfl rfl)
theorem dX5_init_15 : decode cX5_init 15 = .ok (.newarray .int, 2) := dk_188_10 (dk_at dksX5_init_0 15 rfl rfl)
theorem dX5_init_17 : decode cX5_init 17 = .ok (.putfield 15, 3) := dk_181 0 15 (dk_at dksX5_init_0 17 rfl rfl)
theorem dX5_init_20 : decode cX5_init 20 = .ok (.aload_n 0, 1) := dk_42 (dk_at dksX5_init_0 20 rfl rfl)
theorem dX5_init_21 : decode cX5_init 21 = .ok (.bipush 8, 2) := dk_16 8 (dk_at dksX5_init_0 21 rfl rfl)
theorem dX5_init_23 : decode cX5_init 23 = .ok (.newarray .int, 2) := dk_188_10 (dk_at dksX5_init_1 0 rfl rfl)
theorem dX5_init_25 : decode cX5_init 25 = .ok (.putfield 19, 3) := dk_181 0 19 (dk_at dksX5_init_1 2 rfl rfl)
theorem dX5_init_28 : decode cX5_init 28 = .ok (.aload_n 0, 1) := dk_42 (dk_at dksX5_init_1 5 rfl rfl)
theorem dX5_init_29 : decode cX5_init 29 = .ok (.iload_n 1, 1) := dk_27 (dk_at dksX5_init_1 6 rfl rfl)
theorem dX5_init_30 : decode cX5_init 30 = .ok (.putfield 22, 3) := dk_181 0 22 (dk_at dksX5_init_1 7 rfl rfl)
theorem dX5_init_33 : decode cX5_init 33 = .ok (.aload_n 0, 1) := dk_42 (dk_at dksX5_init_1 10 rfl rfl)
theorem dX5_init_34 : decode cX5_init 34 = .ok (.iload_n 2, 1) := dk_28 (dk_at dksX5_init_1 11 rfl rfl)
theorem dX5_init_35 : decode cX5_init 35 = .ok (.putfield 26, 3) := dk_181 0 26 (dk_at dksX5_init_1 12 rfl rfl)
theorem dX5_init_38 : decode cX5_init 38 = .ok (.return_, 1) := dk_177 (dk_at dksX5_init_1 15 rfl rfl)
abbrev cX5_setLifts : ByteArray := prog_7_method_4_code
def yX5_setLifts : MethodName := ⟨RX5, "setLifts", "(I)V"⟩
def dkwX5_setLifts_1 : List UInt8 := [28, 3, 79, 42, 180, 0, 19, 28, 3, 79, 132, 2, 1, 167, 255, 226, 177]
abbrev dktX5_setLifts_1 : List UInt8 := dkwX5_setLifts_1 ++ []
def dkwX5_setLifts_0 : List UInt8 := [42, 27, 181, 0, 29, 27, 61, 28, 16, 8, 162, 0, 30, 42, 180, 0, 9, 28, 3, 84, 42, 180, 0, 15]
abbrev dktX5_setLifts_0 : List UInt8 := dkwX5_setLifts_0 ++ dktX5_setLifts_1
theorem dksX5_setLifts_0 : cX5_setLifts.data.toList.drop 0 = dktX5_setLifts_0 := by decide +kernel
theorem dksX5_setLifts_1 : cX5_setLifts.data.toList.drop 24 = dktX5_setLifts_1 := dk_seg dksX5_setLifts_0 24 rfl rfl
theorem dX5_setLifts_0 : decode cX5_setLifts 0 = .ok (.aload_n 0, 1) := dk_42 (dk_at dksX5_setLifts_0 0 rfl rfl)
theorem dX5_setLifts_1 : decode cX5_setLifts 1 = .ok (.iload_n 1, 1) := dk_27 (dk_at dksX5_setLifts_0 1 rfl rfl)
theorem dX5_setLifts_2 : decode cX5_setLifts 2 = .ok (.putfield 29, 3) := dk_181 0 29 (dk_at dksX5_setLifts_0 2 rfl rfl)
theorem dX5_setLifts_5 : decode cX5_setLifts 5 = .ok (.iload_n 1, 1) := dk_27 (dk_at dksX5_setLifts_0 5 rfl rfl)
theorem dX5_setLifts_6 : decode cX5_setLifts 6 = .ok (.istore_n 2, 1) := dk_61 (dk_at dksX5_setLifts_0 6 rfl rfl)
theorem dX5_setLifts_7 : decode cX5_setLifts 7 = .ok (.iload_n 2, 1) := dk_28 (dk_at dksX5_setLifts_0 7 rfl rfl)
theorem dX5_setLifts_8 : decode cX5_setLifts 8 = .ok (.bipush 8, 2) := dk_16 8 (dk_at dksX5_setLifts_0 8 rfl rfl)
theorem dX5_setLifts_10 : decode cX5_setLifts 10 = .ok (.if_icmp .ge 30, 3) := dk_162 0 30 (dk_at dksX5_setLifts_0 10 rfl rfl)
theorem dX5_setLifts_13 : decode cX5_setLifts 13 = .ok (.aload_n 0, 1) := dk_42 (dk_at dksX5_setLifts_0 13 rfl rfl)
theorem dX5_setLifts_14 : decode cX5_setLifts 14 = .ok (.getfield 9, 3) := dk_180 0 9 (dk_at dksX5_setLifts_0 14 rfl rfl)
theorem dX5_setLifts_17 : decode cX5_setLifts 17 = .ok (.iload_n 2, 1) := dk_28 (dk_at dksX5_setLifts_0 17 rfl rfl)
theorem dX5_setLifts_18 : decode cX5_setLifts 18 = .ok (.iconst 0, 1) := dk_3 (dk_at dksX5_setLifts_0 18 rfl rfl)
theorem dX5_setLifts_19 : decode cX5_setLifts 19 = .ok (.bastore, 1) := dk_84 (dk_at dksX5_setLifts_0 19 rfl rfl)
theorem dX5_setLifts_20 : decode cX5_setLifts 20 = .ok (.aload_n 0, 1) := dk_42 (dk_at dksX5_setLifts_0 20 rfl rfl)
theorem dX5_setLifts_21 : decode cX5_setLifts 21 = .ok (.getfield 15, 3) := dk_180 0 15 (dk_at dksX5_setLifts_0 21 rfl rfl)
theorem dX5_setLifts_24 : decode cX5_setLifts 24 = .ok (.iload_n 2, 1) := dk_28 (dk_at dksX5_setLifts_1 0 rfl rfl)
theorem dX5_setLifts_25 : decode cX5_setLifts 25 = .ok (.iconst 0, 1) := dk_3 (dk_at dksX5_setLifts_1 1 rfl rfl)
theorem dX5_setLifts_26 : decode cX5_setLifts 26 = .ok (.iastore, 1) := dk_79 (dk_at dksX5_setLifts_1 2 rfl rfl)
theorem dX5_setLifts_27 : decode cX5_setLifts 27 = .ok (.aload_n 0, 1) := dk_42 (dk_at dksX5_setLifts_1 3 rfl rfl)
theorem dX5_setLifts_28 : decode cX5_setLifts 28 = .ok (.getfield 19, 3) := dk_180 0 19 (dk_at dksX5_setLifts_1 4 rfl rfl)
theorem dX5_setLifts_31 : decode cX5_setLifts 31 = .ok (.iload_n 2, 1) := dk_28 (dk_at dksX5_setLifts_1 7 rfl rfl)
theorem dX5_setLifts_32 : decode cX5_setLifts 32 = .ok (.iconst 0, 1) := dk_3 (dk_at dksX5_setLifts_1 8 rfl rfl)
theorem dX5_setLifts_33 : decode cX5_setLifts 33 = .ok (.iastore, 1) := dk_79 (dk_at dksX5_setLifts_1 9 rfl rfl)
theorem dX5_setLifts_34 : decode cX5_setLifts 34 = .ok (.iinc 2 1, 3) := dk_132 2 1 (dk_at dksX5_setLifts_1 10 rfl rfl)
theorem dX5_setLifts_37 : decode cX5_setLifts 37 = .ok (.goto (-30), 3) := dk_167 255 226 (dk_at dksX5_setLifts_1 13 rfl rfl)
theorem dX5_setLifts_40 : decode cX5_setLifts 40 = .ok (.return_, 1) := dk_177 (dk_at dksX5_setLifts_1 16 rfl rfl)
abbrev cX5_has : ByteArray := prog_7_method_2_code
def yX5_has : MethodName := ⟨RX5, "has", "(I)Z"⟩
def dkwX5_has_0 : List UInt8 := [27, 3, 42, 180, 0, 29, 4, 100, 184, 0, 32, 172]
abbrev dktX5_has_0 : List UInt8 := dkwX5_has_0 ++ []
theorem dksX5_has_0 : cX5_has.data.toList.drop 0 = dktX5_has_0 := by decide +kernel
theorem dX5_has_0 : decode cX5_has 0 = .ok (.iload_n 1, 1) := dk_27 (dk_at dksX5_has_0 0 rfl rfl)
theorem dX5_has_1 : decode cX5_has 1 = .ok (.iconst 0, 1) := dk_3 (dk_at dksX5_has_0 1 rfl rfl)
theorem dX5_has_2 : decode cX5_has 2 = .ok (.aload_n 0, 1) := dk_42 (dk_at dksX5_has_0 2 rfl rfl)
theorem dX5_has_3 : decode cX5_has 3 = .ok (.getfield 29, 3) := dk_180 0 29 (dk_at dksX5_has_0 3 rfl rfl)
theorem dX5_has_6 : decode cX5_has 6 = .ok (.iconst 1, 1) := dk_4 (dk_at dksX5_has_0 6 rfl rfl)
theorem dX5_has_7 : decode cX5_has 7 = .ok (.isub, 1) := dk_100 (dk_at dksX5_has_0 7 rfl rfl)
theorem dX5_has_8 : decode cX5_has 8 = .ok (.invokestatic 32, 3) := dk_184 0 32 (dk_at dksX5_has_0 8 rfl rfl)
theorem dX5_has_11 : decode cX5_has 11 = .ok (.ireturn, 1) := dk_172 (dk_at dksX5_has_0 11 rfl rfl)
abbrev cX5_weight : ByteArray := prog_7_method_3_code
def yX5_weight : MethodName := ⟨RX5, "weight", "(IZ)I"⟩
def dkwX5_weight_2 : List UInt8 := [3, 29, 96, 172]
abbrev dktX5_weight_2 : List UInt8 := dkwX5_weight_2 ++ []
def dkwX5_weight_1 : List UInt8 := [167, 0, 9, 42, 180, 0, 19, 27, 46, 62, 42, 180, 0, 9, 27, 51, 153, 0, 8, 16, 60, 167, 0, 4]
abbrev dktX5_weight_1 : List UInt8 := dkwX5_weight_1 ++ dktX5_weight_2
def dkwX5_weight_0 : List UInt8 := [28, 153, 0, 25, 178, 0, 36, 42, 180, 0, 15, 27, 46, 46, 42, 180, 0, 19, 27, 46, 184, 0, 39]
abbrev dktX5_weight_0 : List UInt8 := dkwX5_weight_0 ++ dktX5_weight_1
theorem dksX5_weight_0 : cX5_weight.data.toList.drop 0 = dktX5_weight_0 := by decide +kernel
theorem dksX5_weight_1 : cX5_weight.data.toList.drop 23 = dktX5_weight_1 := dk_seg dksX5_weight_0 23 rfl rfl
theorem dksX5_weight_2 : cX5_weight.data.toList.drop 47 = dktX5_weight_2 := dk_seg dksX5_weight_1 24 rfl rfl
theorem dX5_weight_0 : decode cX5_weight 0 = .ok (.iload_n 2, 1) := dk_28 (dk_at dksX5_weight_0 0 rfl rfl)
theorem dX5_weight_1 : decode cX5_weight 1 = .ok (.ifCond .eq 25, 3) := dk_153 0 25 (dk_at dksX5_weight_0 1 rfl rfl)
theorem dX5_weight_4 : decode cX5_weight 4 = .ok (.getstatic 36, 3) := dk_178 0 36 (dk_at dksX5_weight_0 4 rfl rfl)
theorem dX5_weight_7 : decode cX5_weight 7 = .ok (.aload_n 0, 1) := dk_42 (dk_at dksX5_weight_0 7 rfl rfl)
theorem dX5_weight_8 : decode cX5_weight 8 = .ok (.getfield 15, 3) := dk_180 0 15 (dk_at dksX5_weight_0 8 rfl rfl)
theorem dX5_weight_11 : decode cX5_weight 11 = .ok (.iload_n 1, 1) := dk_27 (dk_at dksX5_weight_0 11 rfl rfl)
theorem dX5_weight_12 : decode cX5_weight 12 = .ok (.iaload, 1) := dk_46 (dk_at dksX5_weight_0 12 rfl rfl)
theorem dX5_weight_13 : decode cX5_weight 13 = .ok (.iaload, 1) := dk_46 (dk_at dksX5_weight_0 13 rfl rfl)
theorem dX5_weight_14 : decode cX5_weight 14 = .ok (.aload_n 0, 1) := dk_42 (dk_at dksX5_weight_0 14 rfl rfl)
theorem dX5_weight_15 : decode cX5_weight 15 = .ok (.getfield 19, 3) := dk_180 0 19 (dk_at dksX5_weight_0 15 rfl rfl)
theorem dX5_weight_18 : decode cX5_weight 18 = .ok (.iload_n 1, 1) := dk_27 (dk_at dksX5_weight_0 18 rfl rfl)
theorem dX5_weight_19 : decode cX5_weight 19 = .ok (.iaload, 1) := dk_46 (dk_at dksX5_weight_0 19 rfl rfl)
theorem dX5_weight_20 : decode cX5_weight 20 = .ok (.invokestatic 39, 3) := dk_184 0 39 (dk_at dksX5_weight_0 20 rfl rfl)
theorem dX5_weight_23 : decode cX5_weight 23 = .ok (.goto 9, 3) := dk_167 0 9 (dk_at dksX5_weight_1 0 rfl rfl)
theorem dX5_weight_26 : decode cX5_weight 26 = .ok (.aload_n 0, 1) := dk_42 (dk_at dksX5_weight_1 3 rfl rfl)
theorem dX5_weight_27 : decode cX5_weight 27 = .ok (.getfield 19, 3) := dk_180 0 19 (dk_at dksX5_weight_1 4 rfl rfl)
theorem dX5_weight_30 : decode cX5_weight 30 = .ok (.iload_n 1, 1) := dk_27 (dk_at dksX5_weight_1 7 rfl rfl)
theorem dX5_weight_31 : decode cX5_weight 31 = .ok (.iaload, 1) := dk_46 (dk_at dksX5_weight_1 8 rfl rfl)
theorem dX5_weight_32 : decode cX5_weight 32 = .ok (.istore_n 3, 1) := dk_62 (dk_at dksX5_weight_1 9 rfl rfl)
theorem dX5_weight_33 : decode cX5_weight 33 = .ok (.aload_n 0, 1) := dk_42 (dk_at dksX5_weight_1 10 rfl rfl)
theorem dX5_weight_34 : decode cX5_weight 34 = .ok (.getfield 9, 3) := dk_180 0 9 (dk_at dksX5_weight_1 11 rfl rfl)
theorem dX5_weight_37 : decode cX5_weight 37 = .ok (.iload_n 1, 1) := dk_27 (dk_at dksX5_weight_1 14 rfl rfl)
theorem dX5_weight_38 : decode cX5_weight 38 = .ok (.baload, 1) := dk_51 (dk_at dksX5_weight_1 15 rfl rfl)
theorem dX5_weight_39 : decode cX5_weight 39 = .ok (.ifCond .eq 8, 3) := dk_153 0 8 (dk_at dksX5_weight_1 16 rfl rfl)
theorem dX5_weight_42 : decode cX5_weight 42 = .ok (.bipush 60, 2) := dk_16 60 (dk_at dksX5_weight_1 19 rfl rfl)
theorem dX5_weight_44 : decode cX5_weight 44 = .ok (.goto 4, 3) := dk_167 0 4 (dk_at dksX5_weight_1 21 rfl rfl)
theorem dX5_weight_47 : decode cX5_weight 47 = .ok (.iconst 0, 1) := dk_3 (dk_at dksX5_weight_2 0 rfl rfl)
theorem dX5_weight_48 : decode cX5_weight 48 = .ok (.iload_n 3, 1) := dk_29 (dk_at dksX5_weight_2 1 rfl rfl)
theorem dX5_weight_49 : decode cX5_weight 49 = .ok (.iadd, 1) := dk_96 (dk_at dksX5_weight_2 2 rfl rfl)
theorem dX5_weight_50 : decode cX5_weight 50 = .ok (.ireturn, 1) := dk_172 (dk_at dksX5_weight_2 3 rfl rfl)
theorem q93 : (Jvm.Cond.initialized "ScaffolderModel$Bay") ∈ lw_all := lw_g (lw_at lw_m1 27 rfl) rfl
theorem q793 : (Jvm.Cond.selects "ScaffolderModel$Bay" ({ cls := "java/lang/Object", name := "getClass", desc := "()Ljava/lang/Class;" } : Jvm.MethodName) ({ cls := "java/lang/Object", name := "getClass", desc := "()Ljava/lang/Class;" } : Jvm.MethodName)) ∈ lw_all := lw_g (lw_at lw_m4 7 rfl) rfl
theorem q1185 : (Jvm.Cond.instantiable "ScaffolderModel$Bay" (6 : Nat)) ∈ lw_all := lw_g (lw_at lw_m5 159 rfl) rfl
theorem q1187 : (Jvm.Cond.instanceMethod ({ cls := "ScaffolderModel$Bay", name := "<init>", desc := "(II)V" } : Jvm.MethodName)) ∈ lw_all := lw_g (lw_at lw_m5 161 rfl) rfl
theorem q1188 : (Jvm.Cond.code ({ cls := "ScaffolderModel$Bay", name := "<init>", desc := "(II)V" } : Jvm.MethodName) prog_7_method_1_code (3 : Nat) (Option.none : Option Jvm.ClassFile.FieldType)) ∈ lw_all := lw_g (lw_at lw_m5 162 rfl) rfl
theorem q1189 : (Jvm.Cond.methodLink "ScaffolderModel$Bay" (3 : Nat) ({ cls := "java/lang/Object", name := "<init>", desc := "()V" } : Jvm.MethodName)) ∈ lw_all := lw_g (lw_at lw_m5 163 rfl) rfl
theorem q1190 : (Jvm.Cond.fieldLink "ScaffolderModel$Bay" (22 : Nat) "ScaffolderModel$Bay" "face" "I") ∈ lw_all := lw_g (lw_at lw_m5 164 rfl) rfl
theorem q1192 : (Jvm.Cond.fieldLink "ScaffolderModel$Bay" (26 : Nat) "ScaffolderModel$Bay" "number" "I") ∈ lw_all := lw_g (lw_at lw_m5 166 rfl) rfl
theorem q1194 : (Jvm.Cond.fieldLink "ScaffolderModel$Bay" (9 : Nat) "ScaffolderModel$Bay" "boarded" "[Z") ∈ lw_all := lw_g (lw_at lw_m5 168 rfl) rfl
theorem q1196 : (Jvm.Cond.fieldLink "ScaffolderModel$Bay" (15 : Nat) "ScaffolderModel$Bay" "sort" "[I") ∈ lw_all := lw_g (lw_at lw_m5 170 rfl) rfl
theorem q1198 : (Jvm.Cond.fieldLink "ScaffolderModel$Bay" (19 : Nat) "ScaffolderModel$Bay" "laid" "[I") ∈ lw_all := lw_g (lw_at lw_m5 172 rfl) rfl
theorem q1200 : (Jvm.Cond.fieldLink "ScaffolderModel$Bay" (29 : Nat) "ScaffolderModel$Bay" "lifts" "I") ∈ lw_all := lw_g (lw_at lw_m5 174 rfl) rfl
theorem q1202 : (Jvm.Cond.laysFinal "ScaffolderModel$Bay" "ScaffolderModel$Bay" "face" "I") ∈ lw_all := lw_g (lw_at lw_m5 176 rfl) rfl
theorem q1203 : (Jvm.Cond.soleField "ScaffolderModel$Bay" "face") ∈ lw_all := lw_g (lw_at lw_m5 177 rfl) rfl
theorem q1204 : (Jvm.Cond.laysFinal "ScaffolderModel$Bay" "ScaffolderModel$Bay" "number" "I") ∈ lw_all := lw_g (lw_at lw_m5 178 rfl) rfl
theorem q1205 : (Jvm.Cond.soleField "ScaffolderModel$Bay" "number") ∈ lw_all := lw_g (lw_at lw_m5 179 rfl) rfl
theorem q1206 : (Jvm.Cond.laysFinal "ScaffolderModel$Bay" "ScaffolderModel$Bay" "boarded" "[Z") ∈ lw_all := lw_g (lw_at lw_m5 180 rfl) rfl
theorem q1207 : (Jvm.Cond.soleField "ScaffolderModel$Bay" "boarded") ∈ lw_all := lw_g (lw_at lw_m5 181 rfl) rfl
theorem q1208 : (Jvm.Cond.laysFinal "ScaffolderModel$Bay" "ScaffolderModel$Bay" "sort" "[I") ∈ lw_all := lw_g (lw_at lw_m5 182 rfl) rfl
theorem q1209 : (Jvm.Cond.soleField "ScaffolderModel$Bay" "sort") ∈ lw_all := lw_g (lw_at lw_m5 183 rfl) rfl
theorem q1210 : (Jvm.Cond.laysFinal "ScaffolderModel$Bay" "ScaffolderModel$Bay" "laid" "[I") ∈ lw_all := lw_g (lw_at lw_m5 184 rfl) rfl
theorem q1211 : (Jvm.Cond.soleField "ScaffolderModel$Bay" "laid") ∈ lw_all := lw_g (lw_at lw_m5 185 rfl) rfl
theorem q1212 : (Jvm.Cond.lays "ScaffolderModel$Bay" "ScaffolderModel$Bay" "lifts" "I") ∈ lw_all := lw_g (lw_at lw_m5 186 rfl) rfl
theorem q1213 : (Jvm.Cond.soleField "ScaffolderModel$Bay" "lifts") ∈ lw_all := lw_g (lw_at lw_m5 187 rfl) rfl
theorem q1214 : (Jvm.Cond.superclass "ScaffolderModel$Bay" "java/lang/Object") ∈ lw_all := lw_g (lw_at lw_m5 188 rfl) rfl
theorem q1257 : (Jvm.Cond.instanceMethod ({ cls := "ScaffolderModel$Bay", name := "setLifts", desc := "(I)V" } : Jvm.MethodName)) ∈ lw_all := lw_g (lw_at lw_m5 231 rfl) rfl
theorem q1258 : (Jvm.Cond.selects "ScaffolderModel$Bay" ({ cls := "ScaffolderModel$Bay", name := "setLifts", desc := "(I)V" } : Jvm.MethodName) ({ cls := "ScaffolderModel$Bay", name := "setLifts", desc := "(I)V" } : Jvm.MethodName)) ∈ lw_all := lw_g (lw_at lw_m5 232 rfl) rfl
theorem q1259 : (Jvm.Cond.code ({ cls := "ScaffolderModel$Bay", name := "setLifts", desc := "(I)V" } : Jvm.MethodName) prog_7_method_4_code (3 : Nat) (Option.none : Option Jvm.ClassFile.FieldType)) ∈ lw_all := lw_g (lw_at lw_m5 233 rfl) rfl
theorem q1272 : (Jvm.Cond.instanceMethod ({ cls := "ScaffolderModel$Bay", name := "has", desc := "(I)Z" } : Jvm.MethodName)) ∈ lw_all := lw_g (lw_at lw_m6 6 rfl) rfl
theorem q1273 : (Jvm.Cond.selects "ScaffolderModel$Bay" ({ cls := "ScaffolderModel$Bay", name := "has", desc := "(I)Z" } : Jvm.MethodName) ({ cls := "ScaffolderModel$Bay", name := "has", desc := "(I)Z" } : Jvm.MethodName)) ∈ lw_all := lw_g (lw_at lw_m6 7 rfl) rfl
theorem q1274 : (Jvm.Cond.code ({ cls := "ScaffolderModel$Bay", name := "has", desc := "(I)Z" } : Jvm.MethodName) prog_7_method_2_code (2 : Nat) (Option.some Jvm.ClassFile.FieldType.boolean)) ∈ lw_all := lw_g (lw_at lw_m6 8 rfl) rfl
theorem q1275 : (Jvm.Cond.methodLinkNest "ScaffolderModel$Bay" (32 : Nat) ({ cls := "ScaffolderModel", name := "in", desc := "(III)Z" } : Jvm.MethodName) "ScaffolderModel") ∈ lw_tbl := lw_at lw_m6 9 rfl
theorem q1372 : (Jvm.Cond.instanceMethod ({ cls := "ScaffolderModel$Bay", name := "weight", desc := "(IZ)I" } : Jvm.MethodName)) ∈ lw_all := lw_g (lw_at lw_m6 106 rfl) rfl
theorem q1373 : (Jvm.Cond.selects "ScaffolderModel$Bay" ({ cls := "ScaffolderModel$Bay", name := "weight", desc := "(IZ)I" } : Jvm.MethodName) ({ cls := "ScaffolderModel$Bay", name := "weight", desc := "(IZ)I" } : Jvm.MethodName)) ∈ lw_all := lw_g (lw_at lw_m6 107 rfl) rfl
theorem q1374 : (Jvm.Cond.code ({ cls := "ScaffolderModel$Bay", name := "weight", desc := "(IZ)I" } : Jvm.MethodName) prog_7_method_3_code (4 : Nat) (Option.some Jvm.ClassFile.FieldType.int)) ∈ lw_all := lw_g (lw_at lw_m6 108 rfl) rfl
theorem q1375 : (Jvm.Cond.fieldLinkNest "ScaffolderModel$Bay" (36 : Nat) "ScaffolderModel" "BEARS" "[I" "ScaffolderModel") ∈ lw_tbl := lw_at lw_m6 109 rfl
theorem q1376 : (Jvm.Cond.methodLink "ScaffolderModel$Bay" (39 : Nat) ({ cls := "java/lang/Math", name := "max", desc := "(II)I" } : Jvm.MethodName)) ∈ lw_all := lw_g (lw_at lw_m6 110 rfl) rfl
theorem q1483 : (Jvm.Cond.castable "ScaffolderModel$Bay" "java/lang/Object") ∈ lw_tbl := lw_at lw_m6 217 rfl
theorem in_X5 : ∀ w ∈ wsX50, w ∈ lw_all := lw_in wsX50 [1202, 1204, 1206, 1208, 1210, 1212] (by decide +kernel) (by decide +kernel)
/-! Scaffolder$Walk -/
set_option maxRecDepth 100000
def RX6 : String := "Scaffolder$Walk"
def TX6 : u_T := fun k => match k with
  | 0 => ("Scaffolder$Walk", "counts", "[I", true)
  | _ => ("Scaffolder$Walk", "this$0", "LScaffolder;", true)
def tyX6 : Nat → FieldType := fun k => match k with
  | 0 => .array .int
  | _ => .object "Scaffolder"
abbrev wsX60 : List Cond := u_ws RX6 TX6 2
theorem nmX6 : ∀ a, a < 2 → ∀ b, b < 2 → a ≠ b → (TX6 a).2.1 ≠ (TX6 b).2.1 := by decide +kernel
theorem tyX6_ok : ∀ k, k < 2 → parseFieldDescriptor (TX6 k).2.2.1 = some (tyX6 k) := by decide +kernel
abbrev cX6_init : ByteArray := prog_4_method_1_code
def yX6_init : MethodName := ⟨RX6, "<init>", "(LScaffolder;)V"⟩
def dkwX6_init_0 : List UInt8 := [42, 43, 181, 0, 3, 42, 183, 0, 9, 42, 16, 6, 188, 10, 181, 0, 15, 177]
abbrev dktX6_init_0 : List UInt8 := dkwX6_init_0 ++ []
theorem dksX6_init_0 : cX6_init.data.toList.drop 0 = dktX6_init_0 := by decide +kernel
theorem dX6_init_0 : decode cX6_init 0 = .ok (.aload_n 0, 1) := dk_42 (dk_at dksX6_init_0 0 rfl rfl)
theorem dX6_init_1 : decode cX6_init 1 = .ok (.aload_n 1, 1) := dk_43 (dk_at dksX6_init_0 1 rfl rfl)
theorem dX6_init_2 : decode cX6_init 2 = .ok (.putfield 3, 3) := dk_181 0 3 (dk_at dksX6_init_0 2 rfl rfl)
theorem dX6_init_5 : decode cX6_init 5 = .ok (.aload_n 0, 1) := dk_42 (dk_at dksX6_init_0 5 rfl rfl)
theorem dX6_init_6 : decode cX6_init 6 = .ok (.invokespecial 9, 3) := dk_183 0 9 (dk_at dksX6_init_0 6 rfl rfl)
theorem dX6_init_9 : decode cX6_init 9 = .ok (.aload_n 0, 1) := dk_42 (dk_at dksX6_init_0 9 rfl rfl)
theorem dX6_init_10 : decode cX6_init 10 = .ok (.bipush 6, 2) := dk_16 6 (dk_at dksX6_init_0 10 rfl rfl)
theorem dX6_init_12 : decode cX6_init 12 = .ok (.newarray .int, 2) := dk_188_10 (dk_at dksX6_init_0 12 rfl rfl)
theorem dX6_init_14 : decode cX6_init 14 = .ok (.putfield 15, 3) := dk_181 0 15 (dk_at dksX6_init_0 14 rfl rfl)
theorem dX6_init_17 : decode cX6_init 17 = .ok (.return_, 1) := dk_177 (dk_at dksX6_init_0 17 rfl rfl)
abbrev cX6_go : ByteArray := prog_4_method_2_code
def yX6_go : MethodName := ⟨RX6, "go", "()V"⟩
def dkwX6_go_5 : List UInt8 := [167, 255, 142, 177]
abbrev dktX6_go_5 : List UInt8 := dkwX6_go_5 ++ []
def dkwX6_go_4 : List UInt8 := [28, 185, 0, 40, 2, 0, 192, 0, 44, 27, 182, 0, 50, 132, 2, 1, 167, 255, 193, 132, 1, 1]
abbrev dktX6_go_4 : List UInt8 := dkwX6_go_4 ++ dktX6_go_5
def dkwX6_go_3 : List UInt8 := [28, 185, 0, 40, 2, 0, 192, 0, 44, 27, 182, 0, 46, 153, 0, 24, 42, 42, 180, 0, 3, 180, 0, 31]
abbrev dktX6_go_3 : List UInt8 := dkwX6_go_3 ++ dktX6_go_4
def dkwX6_go_2 : List UInt8 := [61, 28, 42, 180, 0, 3, 180, 0, 31, 185, 0, 35, 1, 0, 162, 0, 53, 42, 180, 0, 3, 180, 0, 31]
abbrev dktX6_go_2 : List UInt8 := dkwX6_go_2 ++ dktX6_go_3
def dkwX6_go_1 : List UInt8 := [180, 0, 3, 28, 27, 182, 0, 23, 153, 0, 9, 42, 28, 27, 182, 0, 27, 132, 2, 1, 167, 255, 224, 3]
abbrev dktX6_go_1 : List UInt8 := dkwX6_go_1 ++ dktX6_go_2
def dkwX6_go_0 : List UInt8 := [3, 60, 27, 16, 8, 162, 0, 114, 3, 61, 28, 42, 180, 0, 3, 182, 0, 19, 162, 0, 27, 42]
abbrev dktX6_go_0 : List UInt8 := dkwX6_go_0 ++ dktX6_go_1
theorem dksX6_go_0 : cX6_go.data.toList.drop 0 = dktX6_go_0 := by decide +kernel
theorem dksX6_go_1 : cX6_go.data.toList.drop 22 = dktX6_go_1 := dk_seg dksX6_go_0 22 rfl rfl
theorem dksX6_go_2 : cX6_go.data.toList.drop 46 = dktX6_go_2 := dk_seg dksX6_go_1 24 rfl rfl
theorem dksX6_go_3 : cX6_go.data.toList.drop 70 = dktX6_go_3 := dk_seg dksX6_go_2 24 rfl rfl
theorem dksX6_go_4 : cX6_go.data.toList.drop 94 = dktX6_go_4 := dk_seg dksX6_go_3 24 rfl rfl
theorem dksX6_go_5 : cX6_go.data.toList.drop 116 = dktX6_go_5 := dk_seg dksX6_go_4 22 rfl rfl
theorem dX6_go_0 : decode cX6_go 0 = .ok (.iconst 0, 1) := dk_3 (dk_at dksX6_go_0 0 rfl rfl)
theorem dX6_go_1 : decode cX6_go 1 = .ok (.istore_n 1, 1) := dk_60 (dk_at dksX6_go_0 1 rfl rfl)
theorem dX6_go_2 : decode cX6_go 2 = .ok (.iload_n 1, 1) := dk_27 (dk_at dksX6_go_0 2 rfl rfl)
theorem dX6_go_3 : decode cX6_go 3 = .ok (.bipush 8, 2) := dk_16 8 (dk_at dksX6_go_0 3 rfl rfl)
theorem dX6_go_5 : decode cX6_go 5 = .ok (.if_icmp .ge 114, 3) := dk_162 0 114 (dk_at dksX6_go_0 5 rfl rfl)
theorem dX6_go_8 : decode cX6_go 8 = .ok (.iconst 0, 1) := dk_3 (dk_at dksX6_go_0 8 rfl rfl)
theorem dX6_go_9 : decode cX6_go 9 = .ok (.istore_n 2, 1) := dk_61 (dk_at dksX6_go_0 9 rfl rfl)
theorem dX6_go_10 : decode cX6_go 10 = .ok (.iload_n 2, 1) := dk_28 (dk_at dksX6_go_0 10 rfl rfl)
theorem dX6_go_11 : decode cX6_go 11 = .ok (.aload_n 0, 1) := dk_42 (dk_at dksX6_go_0 11 rfl rfl)
theorem dX6_go_12 : decode cX6_go 12 = .ok (.getfield 3, 3) := dk_180 0 3 (dk_at dksX6_go_0 12 rfl rfl)
theorem dX6_go_15 : decode cX6_go 15 = .ok (.invokevirtual 19, 3) := dk_182 0 19 (dk_at dksX6_go_0 15 rfl rfl)
theorem dX6_go_18 : decode cX6_go 18 = .ok (.if_icmp .ge 27, 3) := dk_162 0 27 (dk_at dksX6_go_0 18 rfl rfl)
theorem dX6_go_21 : decode cX6_go 21 = .ok (.aload_n 0, 1) := dk_42 (dk_at dksX6_go_0 21 rfl rfl)
theorem dX6_go_22 : decode cX6_go 22 = .ok (.getfield 3, 3) := dk_180 0 3 (dk_at dksX6_go_1 0 rfl rfl)
theorem dX6_go_25 : decode cX6_go 25 = .ok (.iload_n 2, 1) := dk_28 (dk_at dksX6_go_1 3 rfl rfl)
theorem dX6_go_26 : decode cX6_go 26 = .ok (.iload_n 1, 1) := dk_27 (dk_at dksX6_go_1 4 rfl rfl)
theorem dX6_go_27 : decode cX6_go 27 = .ok (.invokevirtual 23, 3) := dk_182 0 23 (dk_at dksX6_go_1 5 rfl rfl)
theorem dX6_go_30 : decode cX6_go 30 = .ok (.ifCond .eq 9, 3) := dk_153 0 9 (dk_at dksX6_go_1 8 rfl rfl)
theorem dX6_go_33 : decode cX6_go 33 = .ok (.aload_n 0, 1) := dk_42 (dk_at dksX6_go_1 11 rfl rfl)
theorem dX6_go_34 : decode cX6_go 34 = .ok (.iload_n 2, 1) := dk_28 (dk_at dksX6_go_1 12 rfl rfl)
theorem dX6_go_35 : decode cX6_go 35 = .ok (.iload_n 1, 1) := dk_27 (dk_at dksX6_go_1 13 rfl rfl)
theorem dX6_go_36 : decode cX6_go 36 = .ok (.invokevirtual 27, 3) := dk_182 0 27 (dk_at dksX6_go_1 14 rfl rfl)
theorem dX6_go_39 : decode cX6_go 39 = .ok (.iinc 2 1, 3) := dk_132 2 1 (dk_at dksX6_go_1 17 rfl rfl)
theorem dX6_go_42 : decode cX6_go 42 = .ok (.goto (-32), 3) := dk_167 255 224 (dk_at dksX6_go_1 20 rfl rfl)
theorem dX6_go_45 : decode cX6_go 45 = .ok (.iconst 0, 1) := dk_3 (dk_at dksX6_go_1 23 rfl rfl)
theorem dX6_go_46 : decode cX6_go 46 = .ok (.istore_n 2, 1) := dk_61 (dk_at dksX6_go_2 0 rfl rfl)
theorem dX6_go_47 : decode cX6_go 47 = .ok (.iload_n 2, 1) := dk_28 (dk_at dksX6_go_2 1 rfl rfl)
theorem dX6_go_48 : decode cX6_go 48 = .ok (.aload_n 0, 1) := dk_42 (dk_at dksX6_go_2 2 rfl rfl)
theorem dX6_go_49 : decode cX6_go 49 = .ok (.getfield 3, 3) := dk_180 0 3 (dk_at dksX6_go_2 3 rfl rfl)
theorem dX6_go_52 : decode cX6_go 52 = .ok (.getfield 31, 3) := dk_180 0 31 (dk_at dksX6_go_2 6 rfl rfl)
theorem dX6_go_55 : decode cX6_go 55 = .ok (.invokeinterface 35 1, 5) := by decide +kernel
theorem dX6_go_60 : decode cX6_go 60 = .ok (.if_icmp .ge 53, 3) := dk_162 0 53 (dk_at dksX6_go_2 14 rfl rfl)
theorem dX6_go_63 : decode cX6_go 63 = .ok (.aload_n 0, 1) := dk_42 (dk_at dksX6_go_2 17 rfl rfl)
theorem dX6_go_64 : decode cX6_go 64 = .ok (.getfield 3, 3) := dk_180 0 3 (dk_at dksX6_go_2 18 rfl rfl)
theorem dX6_go_67 : decode cX6_go 67 = .ok (.getfield 31, 3) := dk_180 0 31 (dk_at dksX6_go_2 21 rfl rfl)
theorem dX6_go_70 : decode cX6_go 70 = .ok (.iload_n 2, 1) := dk_28 (dk_at dksX6_go_3 0 rfl rfl)
theorem dX6_go_71 : decode cX6_go 71 = .ok (.invokeinterface 40 2, 5) := by decide +kernel
theorem dX6_go_76 : decode cX6_go 76 = .ok (.checkcast 44, 3) := dk_192 0 44 (dk_at dksX6_go_3 6 rfl rfl)
theorem dX6_go_79 : decode cX6_go 79 = .ok (.iload_n 1, 1) := dk_27 (dk_at dksX6_go_3 9 rfl rfl)
theorem dX6_go_80 : decode cX6_go 80 = .ok (.invokevirtual 46, 3) := dk_182 0 46 (dk_at dksX6_go_3 10 rfl rfl)
theorem dX6_go_83 : decode cX6_go 83 = .ok (.ifCond .eq 24, 3) := dk_153 0 24 (dk_at dksX6_go_3 13 rfl rfl)
theorem dX6_go_86 : decode cX6_go 86 = .ok (.aload_n 0, 1) := dk_42 (dk_at dksX6_go_3 16 rfl rfl)
theorem dX6_go_87 : decode cX6_go 87 = .ok (.aload_n 0, 1) := dk_42 (dk_at dksX6_go_3 17 rfl rfl)
theorem dX6_go_88 : decode cX6_go 88 = .ok (.getfield 3, 3) := dk_180 0 3 (dk_at dksX6_go_3 18 rfl rfl)
theorem dX6_go_91 : decode cX6_go 91 = .ok (.getfield 31, 3) := dk_180 0 31 (dk_at dksX6_go_3 21 rfl rfl)
theorem dX6_go_94 : decode cX6_go 94 = .ok (.iload_n 2, 1) := dk_28 (dk_at dksX6_go_4 0 rfl rfl)
theorem dX6_go_95 : decode cX6_go 95 = .ok (.invokeinterface 40 2, 5) := by decide +kernel
theorem dX6_go_100 : decode cX6_go 100 = .ok (.checkcast 44, 3) := dk_192 0 44 (dk_at dksX6_go_4 6 rfl rfl)
theorem dX6_go_103 : decode cX6_go 103 = .ok (.iload_n 1, 1) := dk_27 (dk_at dksX6_go_4 9 rfl rfl)
theorem dX6_go_104 : decode cX6_go 104 = .ok (.invokevirtual 50, 3) := dk_182 0 50 (dk_at dksX6_go_4 10 rfl rfl)
theorem dX6_go_107 : decode cX6_go 107 = .ok (.iinc 2 1, 3) := dk_132 2 1 (dk_at dksX6_go_4 13 rfl rfl)
theorem dX6_go_110 : decode cX6_go 110 = .ok (.goto (-63), 3) := dk_167 255 193 (dk_at dksX6_go_4 16 rfl rfl)
theorem dX6_go_113 : decode cX6_go 113 = .ok (.iinc 1 1, 3) := dk_132 1 1 (dk_at dksX6_go_4 19 rfl rfl)
theorem dX6_go_116 : decode cX6_go 116 = .ok (.goto (-114), 3) := dk_167 255 142 (dk_at dksX6_go_5 0 rfl rfl)
theorem dX6_go_119 : decode cX6_go 119 = .ok (.return_, 1) := dk_177 (dk_at dksX6_go_5 3 rfl rfl)
abbrev cX6_atPosition : ByteArray := prog_4_method_3_code
def yX6_atPosition : MethodName := ⟨RX6, "atPosition", "(II)V"⟩
def dkwX6_atPosition_3 : List UInt8 := [4, 96, 79, 177]
abbrev dktX6_atPosition_3 : List UInt8 := dkwX6_atPosition_3 ++ []
def dkwX6_atPosition_2 : List UInt8 := [4, 96, 79, 42, 180, 0, 3, 180, 0, 57, 28, 50, 27, 51, 153, 0, 13, 42, 180, 0, 15, 8, 92, 46]
abbrev dktX6_atPosition_2 : List UInt8 := dkwX6_atPosition_2 ++ dktX6_atPosition_3
def dkwX6_atPosition_1 : List UInt8 := [27, 182, 0, 54, 153, 0, 13, 42, 180, 0, 15, 3, 92, 46, 4, 96, 79, 42, 180, 0, 15, 4, 92, 46]
abbrev dktX6_atPosition_1 : List UInt8 := dkwX6_atPosition_1 ++ dktX6_atPosition_2
def dkwX6_atPosition_0 : List UInt8 := [42, 180, 0, 15, 3, 92, 46, 4, 96, 79, 42, 180, 0, 15, 3, 92, 46, 4, 96, 79, 42, 180, 0, 3]
abbrev dktX6_atPosition_0 : List UInt8 := dkwX6_atPosition_0 ++ dktX6_atPosition_1
theorem dksX6_atPosition_0 : cX6_atPosition.data.toList.drop 0 = dktX6_atPosition_0 := by decide +kernel
theorem dksX6_atPosition_1 : cX6_atPosition.data.toList.drop 24 = dktX6_atPosition_1 := dk_seg dksX6_atPosition_0 24 rfl rfl
theorem dksX6_atPosition_2 : cX6_atPosition.data.toList.drop 48 = dktX6_atPosition_2 := dk_seg dksX6_atPosition_1 24 rfl rfl
theorem dksX6_atPosition_3 : cX6_atPosition.data.toList.drop 72 = dktX6_atPosition_3 := dk_seg dksX6_atPosition_2 24 rfl rfl
theorem dX6_atPosition_0 : decode cX6_atPosition 0 = .ok (.aload_n 0, 1) := dk_42 (dk_at dksX6_atPosition_0 0 rfl rfl)
theorem dX6_atPosition_1 : decode cX6_atPosition 1 = .ok (.getfield 15, 3) := dk_180 0 15 (dk_at dksX6_atPosition_0 1 rfl rfl)
theorem dX6_atPosition_4 : decode cX6_atPosition 4 = .ok (.iconst 0, 1) := dk_3 (dk_at dksX6_atPosition_0 4 rfl rfl)
theorem dX6_atPosition_5 : decode cX6_atPosition 5 = .ok (.dup2, 1) := dk_92 (dk_at dksX6_atPosition_0 5 rfl rfl)
theorem dX6_atPosition_6 : decode cX6_atPosition 6 = .ok (.iaload, 1) := dk_46 (dk_at dksX6_atPosition_0 6 rfl rfl)
theorem dX6_atPosition_7 : decode cX6_atPosition 7 = .ok (.iconst 1, 1) := dk_4 (dk_at dksX6_atPosition_0 7 rfl rfl)
theorem dX6_atPosition_8 : decode cX6_atPosition 8 = .ok (.iadd, 1) := dk_96 (dk_at dksX6_atPosition_0 8 rfl rfl)
theorem dX6_atPosition_9 : decode cX6_atPosition 9 = .ok (.iastore, 1) := dk_79 (dk_at dksX6_atPosition_0 9 rfl rfl)
theorem dX6_atPosition_10 : decode cX6_atPosition 10 = .ok (.aload_n 0, 1) := dk_42 (dk_at dksX6_atPosition_0 10 rfl rfl)
theorem dX6_atPosition_11 : decode cX6_atPosition 11 = .ok (.getfield 15, 3) := dk_180 0 15 (dk_at dksX6_atPosition_0 11 rfl rfl)
theorem dX6_atPosition_14 : decode cX6_atPosition 14 = .ok (.iconst 0, 1) := dk_3 (dk_at dksX6_atPosition_0 14 rfl rfl)
theorem dX6_atPosition_15 : decode cX6_atPosition 15 = .ok (.dup2, 1) := dk_92 (dk_at dksX6_atPosition_0 15 rfl rfl)
theorem dX6_atPosition_16 : decode cX6_atPosition 16 = .ok (.iaload, 1) := dk_46 (dk_at dksX6_atPosition_0 16 rfl rfl)
theorem dX6_atPosition_17 : decode cX6_atPosition 17 = .ok (.iconst 1, 1) := dk_4 (dk_at dksX6_atPosition_0 17 rfl rfl)
theorem dX6_atPosition_18 : decode cX6_atPosition 18 = .ok (.iadd, 1) := dk_96 (dk_at dksX6_atPosition_0 18 rfl rfl)
theorem dX6_atPosition_19 : decode cX6_atPosition 19 = .ok (.iastore, 1) := dk_79 (dk_at dksX6_atPosition_0 19 rfl rfl)
theorem dX6_atPosition_20 : decode cX6_atPosition 20 = .ok (.aload_n 0, 1) := dk_42 (dk_at dksX6_atPosition_0 20 rfl rfl)
theorem dX6_atPosition_21 : decode cX6_atPosition 21 = .ok (.getfield 3, 3) := dk_180 0 3 (dk_at dksX6_atPosition_0 21 rfl rfl)
theorem dX6_atPosition_24 : decode cX6_atPosition 24 = .ok (.iload_n 1, 1) := dk_27 (dk_at dksX6_atPosition_1 0 rfl rfl)
theorem dX6_atPosition_25 : decode cX6_atPosition 25 = .ok (.invokevirtual 54, 3) := dk_182 0 54 (dk_at dksX6_atPosition_1 1 rfl rfl)
theorem dX6_atPosition_28 : decode cX6_atPosition 28 = .ok (.ifCond .eq 13, 3) := dk_153 0 13 (dk_at dksX6_atPosition_1 4 rfl rfl)
theorem dX6_atPosition_31 : decode cX6_atPosition 31 = .ok (.aload_n 0, 1) := dk_42 (dk_at dksX6_atPosition_1 7 rfl rfl)
theorem dX6_atPosition_32 : decode cX6_atPosition 32 = .ok (.getfield 15, 3) := dk_180 0 15 (dk_at dksX6_atPosition_1 8 rfl rfl)
theorem dX6_atPosition_35 : decode cX6_atPosition 35 = .ok (.iconst 0, 1) := dk_3 (dk_at dksX6_atPosition_1 11 rfl rfl)
theorem dX6_atPosition_36 : decode cX6_atPosition 36 = .ok (.dup2, 1) := dk_92 (dk_at dksX6_atPosition_1 12 rfl rfl)
theorem dX6_atPosition_37 : decode cX6_atPosition 37 = .ok (.iaload, 1) := dk_46 (dk_at dksX6_atPosition_1 13 rfl rfl)
theorem dX6_atPosition_38 : decode cX6_atPosition 38 = .ok (.iconst 1, 1) := dk_4 (dk_at dksX6_atPosition_1 14 rfl rfl)
theorem dX6_atPosition_39 : decode cX6_atPosition 39 = .ok (.iadd, 1) := dk_96 (dk_at dksX6_atPosition_1 15 rfl rfl)
theorem dX6_atPosition_40 : decode cX6_atPosition 40 = .ok (.iastore, 1) := dk_79 (dk_at dksX6_atPosition_1 16 rfl rfl)
theorem dX6_atPosition_41 : decode cX6_atPosition 41 = .ok (.aload_n 0, 1) := dk_42 (dk_at dksX6_atPosition_1 17 rfl rfl)
theorem dX6_atPosition_42 : decode cX6_atPosition 42 = .ok (.getfield 15, 3) := dk_180 0 15 (dk_at dksX6_atPosition_1 18 rfl rfl)
theorem dX6_atPosition_45 : decode cX6_atPosition 45 = .ok (.iconst 1, 1) := dk_4 (dk_at dksX6_atPosition_1 21 rfl rfl)
theorem dX6_atPosition_46 : decode cX6_atPosition 46 = .ok (.dup2, 1) := dk_92 (dk_at dksX6_atPosition_1 22 rfl rfl)
theorem dX6_atPosition_47 : decode cX6_atPosition 47 = .ok (.iaload, 1) := dk_46 (dk_at dksX6_atPosition_1 23 rfl rfl)
theorem dX6_atPosition_48 : decode cX6_atPosition 48 = .ok (.iconst 1, 1) := dk_4 (dk_at dksX6_atPosition_2 0 rfl rfl)
theorem dX6_atPosition_49 : decode cX6_atPosition 49 = .ok (.iadd, 1) := dk_96 (dk_at dksX6_atPosition_2 1 rfl rfl)
theorem dX6_atPosition_50 : decode cX6_atPosition 50 = .ok (.iastore, 1) := dk_79 (dk_at dksX6_atPosition_2 2 rfl rfl)
theorem dX6_atPosition_51 : decode cX6_atPosition 51 = .ok (.aload_n 0, 1) := dk_42 (dk_at dksX6_atPosition_2 3 rfl rfl)
theorem dX6_atPosition_52 : decode cX6_atPosition 52 = .ok (.getfield 3, 3) := dk_180 0 3 (dk_at dksX6_atPosition_2 4 rfl rfl)
theorem dX6_atPosition_55 : decode cX6_atPosition 55 = .ok (.getfield 57, 3) := dk_180 0 57 (dk_at dksX6_atPosition_2 7 rfl rfl)
theorem dX6_atPosition_58 : decode cX6_atPosition 58 = .ok (.iload_n 2, 1) := dk_28 (dk_at dksX6_atPosition_2 10 rfl rfl)
theorem dX6_atPosition_59 : decode cX6_atPosition 59 = .ok (.aaload, 1) := dk_50 (dk_at dksX6_atPosition_2 11 rfl rfl)
theorem dX6_atPosition_60 : decode cX6_atPosition 60 = .ok (.iload_n 1, 1) := dk_27 (dk_at dksX6_atPosition_2 12 rfl rfl)
theorem dX6_atPosition_61 : decode cX6_atPosition 61 = .ok (.baload, 1) := dk_51 (dk_at dksX6_atPosition_2 13 rfl rfl)
theorem dX6_atPosition_62 : decode cX6_atPosition 62 = .ok (.ifCond .eq 13, 3) := dk_153 0 13 (dk_at dksX6_atPosition_2 14 rfl rfl)
theorem dX6_atPosition_65 : decode cX6_atPosition 65 = .ok (.aload_n 0, 1) := dk_42 (dk_at dksX6_atPosition_2 17 rfl rfl)
theorem dX6_atPosition_66 : decode cX6_atPosition 66 = .ok (.getfield 15, 3) := dk_180 0 15 (dk_at dksX6_atPosition_2 18 rfl rfl)
theorem dX6_atPosition_69 : decode cX6_atPosition 69 = .ok (.iconst 5, 1) := dk_8 (dk_at dksX6_atPosition_2 21 rfl rfl)
theorem dX6_atPosition_70 : decode cX6_atPosition 70 = .ok (.dup2, 1) := dk_92 (dk_at dksX6_atPosition_2 22 rfl rfl)
theorem dX6_atPosition_71 : decode cX6_atPosition 71 = .ok (.iaload, 1) := dk_46 (dk_at dksX6_atPosition_2 23 rfl rfl)
theorem dX6_atPosition_72 : decode cX6_atPosition 72 = .ok (.iconst 1, 1) := dk_4 (dk_at dksX6_atPosition_3 0 rfl rfl)
theorem dX6_atPosition_73 : decode cX6_atPosition 73 = .ok (.iadd, 1) := dk_96 (dk_at dksX6_atPosition_3 1 rfl rfl)
theorem dX6_atPosition_74 : decode cX6_atPosition 74 = .ok (.iastore, 1) := dk_79 (dk_at dksX6_atPosition_3 2 rfl rfl)
theorem dX6_atPosition_75 : decode cX6_atPosition 75 = .ok (.return_, 1) := dk_177 (dk_at dksX6_atPosition_3 3 rfl rfl)
abbrev cX6_atBay : ByteArray := prog_4_method_4_code
def yX6_atBay : MethodName := ⟨RX6, "atBay", "(LScaffolder$Bay;I)V"⟩
def dkwX6_atBay_3 : List UInt8 := [7, 92, 46, 4, 96, 79, 177]
abbrev dktX6_atBay_3 : List UInt8 := dkwX6_atBay_3 ++ []
def dkwX6_atBay_2 : List UInt8 := [132, 3, 1, 167, 255, 229, 43, 180, 0, 65, 43, 180, 0, 69, 182, 0, 73, 153, 0, 13, 42, 180, 0, 15]
abbrev dktX6_atBay_2 : List UInt8 := dkwX6_atBay_2 ++ dktX6_atBay_3
def dkwX6_atBay_1 : List UInt8 := [162, 0, 28, 43, 180, 0, 61, 28, 51, 153, 0, 19, 42, 180, 0, 15, 6, 92, 46, 4, 96, 79]
abbrev dktX6_atBay_1 : List UInt8 := dkwX6_atBay_1 ++ dktX6_atBay_2
def dkwX6_atBay_0 : List UInt8 := [42, 180, 0, 15, 5, 92, 46, 4, 96, 79, 42, 180, 0, 15, 5, 92, 46, 4, 96, 79, 3, 62, 29, 8]
abbrev dktX6_atBay_0 : List UInt8 := dkwX6_atBay_0 ++ dktX6_atBay_1
theorem dksX6_atBay_0 : cX6_atBay.data.toList.drop 0 = dktX6_atBay_0 := by decide +kernel
theorem dksX6_atBay_1 : cX6_atBay.data.toList.drop 24 = dktX6_atBay_1 := dk_seg dksX6_atBay_0 24 rfl rfl
theorem dksX6_atBay_2 : cX6_atBay.data.toList.drop 46 = dktX6_atBay_2 := dk_seg dksX6_atBay_1 22 rfl rfl
theorem dksX6_atBay_3 : cX6_atBay.data.toList.drop 70 = dktX6_atBay_3 := dk_seg dksX6_atBay_2 24 rfl rfl
theorem dX6_atBay_0 : decode cX6_atBay 0 = .ok (.aload_n 0, 1) := dk_42 (dk_at dksX6_atBay_0 0 rfl rfl)
theorem dX6_atBay_1 : decode cX6_atBay 1 = .ok (.getfield 15, 3) := dk_180 0 15 (dk_at dksX6_atBay_0 1 rfl rfl)
theorem dX6_atBay_4 : decode cX6_atBay 4 = .ok (.iconst 2, 1) := dk_5 (dk_at dksX6_atBay_0 4 rfl rfl)
theorem dX6_atBay_5 : decode cX6_atBay 5 = .ok (.dup2, 1) := dk_92 (dk_at dksX6_atBay_0 5 rfl rfl)
theorem dX6_atBay_6 : decode cX6_atBay 6 = .ok (.iaload, 1) := dk_46 (dk_at dksX6_atBay_0 6 rfl rfl)
theorem dX6_atBay_7 : decode cX6_atBay 7 = .ok (.iconst 1, 1) := dk_4 (dk_at dksX6_atBay_0 7 rfl rfl)
theorem dX6_atBay_8 : decode cX6_atBay 8 = .ok (.iadd, 1) := dk_96 (dk_at dksX6_atBay_0 8 rfl rfl)
theorem dX6_atBay_9 : decode cX6_atBay 9 = .ok (.iastore, 1) := dk_79 (dk_at dksX6_atBay_0 9 rfl rfl)
theorem dX6_atBay_10 : decode cX6_atBay 10 = .ok (.aload_n 0, 1) := dk_42 (dk_at dksX6_atBay_0 10 rfl rfl)
theorem dX6_atBay_11 : decode cX6_atBay 11 = .ok (.getfield 15, 3) := dk_180 0 15 (dk_at dksX6_atBay_0 11 rfl rfl)
theorem dX6_atBay_14 : decode cX6_atBay 14 = .ok (.iconst 2, 1) := dk_5 (dk_at dksX6_atBay_0 14 rfl rfl)
theorem dX6_atBay_15 : decode cX6_atBay 15 = .ok (.dup2, 1) := dk_92 (dk_at dksX6_atBay_0 15 rfl rfl)
theorem dX6_atBay_16 : decode cX6_atBay 16 = .ok (.iaload, 1) := dk_46 (dk_at dksX6_atBay_0 16 rfl rfl)
theorem dX6_atBay_17 : decode cX6_atBay 17 = .ok (.iconst 1, 1) := dk_4 (dk_at dksX6_atBay_0 17 rfl rfl)
theorem dX6_atBay_18 : decode cX6_atBay 18 = .ok (.iadd, 1) := dk_96 (dk_at dksX6_atBay_0 18 rfl rfl)
theorem dX6_atBay_19 : decode cX6_atBay 19 = .ok (.iastore, 1) := dk_79 (dk_at dksX6_atBay_0 19 rfl rfl)
theorem dX6_atBay_20 : decode cX6_atBay 20 = .ok (.iconst 0, 1) := dk_3 (dk_at dksX6_atBay_0 20 rfl rfl)
theorem dX6_atBay_21 : decode cX6_atBay 21 = .ok (.istore_n 3, 1) := dk_62 (dk_at dksX6_atBay_0 21 rfl rfl)
theorem dX6_atBay_22 : decode cX6_atBay 22 = .ok (.iload_n 3, 1) := dk_29 (dk_at dksX6_atBay_0 22 rfl rfl)
theorem dX6_atBay_23 : decode cX6_atBay 23 = .ok (.iconst 5, 1) := dk_8 (dk_at dksX6_atBay_0 23 rfl rfl)
theorem dX6_atBay_24 : decode cX6_atBay 24 = .ok (.if_icmp .ge 28, 3) := dk_162 0 28 (dk_at dksX6_atBay_1 0 rfl rfl)
theorem dX6_atBay_27 : decode cX6_atBay 27 = .ok (.aload_n 1, 1) := dk_43 (dk_at dksX6_atBay_1 3 rfl rfl)
theorem dX6_atBay_28 : decode cX6_atBay 28 = .ok (.getfield 61, 3) := dk_180 0 61 (dk_at dksX6_atBay_1 4 rfl rfl)
theorem dX6_atBay_31 : decode cX6_atBay 31 = .ok (.iload_n 2, 1) := dk_28 (dk_at dksX6_atBay_1 7 rfl rfl)
theorem dX6_atBay_32 : decode cX6_atBay 32 = .ok (.baload, 1) := dk_51 (dk_at dksX6_atBay_1 8 rfl rfl)
theorem dX6_atBay_33 : decode cX6_atBay 33 = .ok (.ifCond .eq 19, 3) := dk_153 0 19 (dk_at dksX6_atBay_1 9 rfl rfl)
theorem dX6_atBay_36 : decode cX6_atBay 36 = .ok (.aload_n 0, 1) := dk_42 (dk_at dksX6_atBay_1 12 rfl rfl)
theorem dX6_atBay_37 : decode cX6_atBay 37 = .ok (.getfield 15, 3) := dk_180 0 15 (dk_at dksX6_atBay_1 13 rfl rfl)
theorem dX6_atBay_40 : decode cX6_atBay 40 = .ok (.iconst 3, 1) := dk_6 (dk_at dksX6_atBay_1 16 rfl rfl)
theorem dX6_atBay_41 : decode cX6_atBay 41 = .ok (.dup2, 1) := dk_92 (dk_at dksX6_atBay_1 17 rfl rfl)
theorem dX6_atBay_42 : decode cX6_atBay 42 = .ok (.iaload, 1) := dk_46 (dk_at dksX6_atBay_1 18 rfl rfl)
theorem dX6_atBay_43 : decode cX6_atBay 43 = .ok (.iconst 1, 1) := dk_4 (dk_at dksX6_atBay_1 19 rfl rfl)
theorem dX6_atBay_44 : decode cX6_atBay 44 = .ok (.iadd, 1) := dk_96 (dk_at dksX6_atBay_1 20 rfl rfl)
theorem dX6_atBay_45 : decode cX6_atBay 45 = .ok (.iastore, 1) := dk_79 (dk_at dksX6_atBay_1 21 rfl rfl)
theorem dX6_atBay_46 : decode cX6_atBay 46 = .ok (.iinc 3 1, 3) := dk_132 3 1 (dk_at dksX6_atBay_2 0 rfl rfl)
theorem dX6_atBay_49 : decode cX6_atBay 49 = .ok (.goto (-27), 3) := dk_167 255 229 (dk_at dksX6_atBay_2 3 rfl rfl)
theorem dX6_atBay_52 : decode cX6_atBay 52 = .ok (.aload_n 1, 1) := dk_43 (dk_at dksX6_atBay_2 6 rfl rfl)
theorem dX6_atBay_53 : decode cX6_atBay 53 = .ok (.getfield 65, 3) := dk_180 0 65 (dk_at dksX6_atBay_2 7 rfl rfl)
theorem dX6_atBay_56 : decode cX6_atBay 56 = .ok (.aload_n 1, 1) := dk_43 (dk_at dksX6_atBay_2 10 rfl rfl)
theorem dX6_atBay_57 : decode cX6_atBay 57 = .ok (.getfield 69, 3) := dk_180 0 69 (dk_at dksX6_atBay_2 11 rfl rfl)
theorem dX6_atBay_60 : decode cX6_atBay 60 = .ok (.invokevirtual 73, 3) := dk_182 0 73 (dk_at dksX6_atBay_2 14 rfl rfl)
theorem dX6_atBay_63 : decode cX6_atBay 63 = .ok (.ifCond .eq 13, 3) := dk_153 0 13 (dk_at dksX6_atBay_2 17 rfl rfl)
theorem dX6_atBay_66 : decode cX6_atBay 66 = .ok (.aload_n 0, 1) := dk_42 (dk_at dksX6_atBay_2 20 rfl rfl)
theorem dX6_atBay_67 : decode cX6_atBay 67 = .ok (.getfield 15, 3) := dk_180 0 15 (dk_at dksX6_atBay_2 21 rfl rfl)
theorem dX6_atBay_70 : decode cX6_atBay 70 = .ok (.iconst 4, 1) := dk_7 (dk_at dksX6_atBay_3 0 rfl rfl)
theorem dX6_atBay_71 : decode cX6_atBay 71 = .ok (.dup2, 1) := dk_92 (dk_at dksX6_atBay_3 1 rfl rfl)
theorem dX6_atBay_72 : decode cX6_atBay 72 = .ok (.iaload, 1) := dk_46 (dk_at dksX6_atBay_3 2 rfl rfl)
theorem dX6_atBay_73 : decode cX6_atBay 73 = .ok (.iconst 1, 1) := dk_4 (dk_at dksX6_atBay_3 3 rfl rfl)
theorem dX6_atBay_74 : decode cX6_atBay 74 = .ok (.iadd, 1) := dk_96 (dk_at dksX6_atBay_3 4 rfl rfl)
theorem dX6_atBay_75 : decode cX6_atBay 75 = .ok (.iastore, 1) := dk_79 (dk_at dksX6_atBay_3 5 rfl rfl)
theorem dX6_atBay_76 : decode cX6_atBay 76 = .ok (.return_, 1) := dk_177 (dk_at dksX6_atBay_3 6 rfl rfl)
theorem q96 : (Jvm.Cond.initialized "Scaffolder$Walk") ∈ lw_all := lw_g (lw_at lw_m1 30 rfl) rfl
theorem q526 : (Jvm.Cond.fieldLinkNest "Scaffolder$Walk" (31 : Nat) "Scaffolder" "bays" "Ljava/util/List;" "Scaffolder") ∈ lw_tbl := lw_at lw_m2 220 rfl
theorem q532 : (Jvm.Cond.fieldLinkNest "Scaffolder$Walk" (57 : Nat) "Scaffolder" "ties" "[[Z" "Scaffolder") ∈ lw_tbl := lw_at lw_m2 226 rfl
theorem q561 : (Jvm.Cond.instantiable "Scaffolder$Walk" (2 : Nat)) ∈ lw_all := lw_g (lw_at lw_m3 15 rfl) rfl
theorem q563 : (Jvm.Cond.instanceMethod ({ cls := "Scaffolder$Walk", name := "<init>", desc := "(LScaffolder;)V" } : Jvm.MethodName)) ∈ lw_all := lw_g (lw_at lw_m3 17 rfl) rfl
theorem q564 : (Jvm.Cond.code ({ cls := "Scaffolder$Walk", name := "<init>", desc := "(LScaffolder;)V" } : Jvm.MethodName) prog_4_method_1_code (2 : Nat) (Option.none : Option Jvm.ClassFile.FieldType)) ∈ lw_all := lw_g (lw_at lw_m3 18 rfl) rfl
theorem q565 : (Jvm.Cond.methodLink "Scaffolder$Walk" (9 : Nat) ({ cls := "java/lang/Object", name := "<init>", desc := "()V" } : Jvm.MethodName)) ∈ lw_all := lw_g (lw_at lw_m3 19 rfl) rfl
theorem q566 : (Jvm.Cond.fieldLink "Scaffolder$Walk" (15 : Nat) "Scaffolder$Walk" "counts" "[I") ∈ lw_all := lw_g (lw_at lw_m3 20 rfl) rfl
theorem q568 : (Jvm.Cond.fieldLink "Scaffolder$Walk" (3 : Nat) "Scaffolder$Walk" "this$0" "LScaffolder;") ∈ lw_all := lw_g (lw_at lw_m3 22 rfl) rfl
theorem q569 : (Jvm.Cond.laysFinal "Scaffolder$Walk" "Scaffolder$Walk" "counts" "[I") ∈ lw_all := lw_g (lw_at lw_m3 23 rfl) rfl
theorem q570 : (Jvm.Cond.soleField "Scaffolder$Walk" "counts") ∈ lw_all := lw_g (lw_at lw_m3 24 rfl) rfl
theorem q571 : (Jvm.Cond.laysFinal "Scaffolder$Walk" "Scaffolder$Walk" "this$0" "LScaffolder;") ∈ lw_all := lw_g (lw_at lw_m3 25 rfl) rfl
theorem q572 : (Jvm.Cond.soleField "Scaffolder$Walk" "this$0") ∈ lw_all := lw_g (lw_at lw_m3 26 rfl) rfl
theorem q573 : (Jvm.Cond.superclass "Scaffolder$Walk" "java/lang/Object") ∈ lw_all := lw_g (lw_at lw_m3 27 rfl) rfl
theorem q575 : (Jvm.Cond.instanceMethod ({ cls := "Scaffolder$Walk", name := "go", desc := "()V" } : Jvm.MethodName)) ∈ lw_all := lw_g (lw_at lw_m3 29 rfl) rfl
theorem q576 : (Jvm.Cond.selects "Scaffolder$Walk" ({ cls := "Scaffolder$Walk", name := "go", desc := "()V" } : Jvm.MethodName) ({ cls := "Scaffolder$Walk", name := "go", desc := "()V" } : Jvm.MethodName)) ∈ lw_all := lw_g (lw_at lw_m3 30 rfl) rfl
theorem q577 : (Jvm.Cond.code ({ cls := "Scaffolder$Walk", name := "go", desc := "()V" } : Jvm.MethodName) prog_4_method_2_code (3 : Nat) (Option.none : Option Jvm.ClassFile.FieldType)) ∈ lw_all := lw_g (lw_at lw_m3 31 rfl) rfl
theorem q578 : (Jvm.Cond.methodLinkNest "Scaffolder$Walk" (19 : Nat) ({ cls := "Scaffolder", name := "positions", desc := "()I" } : Jvm.MethodName) "Scaffolder") ∈ lw_tbl := lw_at lw_m3 32 rfl
theorem q579 : (Jvm.Cond.methodLinkNest "Scaffolder$Walk" (23 : Nat) ({ cls := "Scaffolder", name := "hasLevel", desc := "(II)Z" } : Jvm.MethodName) "Scaffolder") ∈ lw_tbl := lw_at lw_m3 33 rfl
theorem q580 : (Jvm.Cond.methodLink "Scaffolder$Walk" (27 : Nat) ({ cls := "Scaffolder$Walk", name := "atPosition", desc := "(II)V" } : Jvm.MethodName)) ∈ lw_all := lw_g (lw_at lw_m3 34 rfl) rfl
theorem q581 : (Jvm.Cond.privateMethod ({ cls := "Scaffolder$Walk", name := "atPosition", desc := "(II)V" } : Jvm.MethodName)) ∈ lw_tbl := lw_at lw_m3 35 rfl
theorem q582 : (Jvm.Cond.instanceMethod ({ cls := "Scaffolder$Walk", name := "atPosition", desc := "(II)V" } : Jvm.MethodName)) ∈ lw_all := lw_g (lw_at lw_m3 36 rfl) rfl
theorem q583 : (Jvm.Cond.code ({ cls := "Scaffolder$Walk", name := "atPosition", desc := "(II)V" } : Jvm.MethodName) prog_4_method_3_code (3 : Nat) (Option.none : Option Jvm.ClassFile.FieldType)) ∈ lw_all := lw_g (lw_at lw_m3 37 rfl) rfl
theorem q584 : (Jvm.Cond.methodLinkNest "Scaffolder$Walk" (54 : Nat) ({ cls := "Scaffolder", name := "isBetween", desc := "(I)Z" } : Jvm.MethodName) "Scaffolder") ∈ lw_tbl := lw_at lw_m3 38 rfl
theorem q588 : (Jvm.Cond.interfaceEntry "Scaffolder$Walk" (35 : Nat)) ∈ lw_tbl := lw_at lw_m3 42 rfl
theorem q589 : (Jvm.Cond.methodLink "Scaffolder$Walk" (35 : Nat) ({ cls := "java/util/List", name := "size", desc := "()I" } : Jvm.MethodName)) ∈ lw_all := lw_g (lw_at lw_m3 43 rfl) rfl
theorem q590 : (Jvm.Cond.interfaceEntry "Scaffolder$Walk" (40 : Nat)) ∈ lw_tbl := lw_at lw_m3 44 rfl
theorem q591 : (Jvm.Cond.methodLink "Scaffolder$Walk" (40 : Nat) ({ cls := "java/util/List", name := "get", desc := "(I)Ljava/lang/Object;" } : Jvm.MethodName)) ∈ lw_all := lw_g (lw_at lw_m3 45 rfl) rfl
theorem q592 : (Jvm.Cond.classLink "Scaffolder$Walk" (44 : Nat) "Scaffolder$Bay") ∈ lw_all := lw_g (lw_at lw_m3 46 rfl) rfl
theorem q593 : (Jvm.Cond.methodLink "Scaffolder$Walk" (46 : Nat) ({ cls := "Scaffolder$Bay", name := "has", desc := "(I)Z" } : Jvm.MethodName)) ∈ lw_all := lw_g (lw_at lw_m3 47 rfl) rfl
theorem q597 : (Jvm.Cond.methodLink "Scaffolder$Walk" (50 : Nat) ({ cls := "Scaffolder$Walk", name := "atBay", desc := "(LScaffolder$Bay;I)V" } : Jvm.MethodName)) ∈ lw_all := lw_g (lw_at lw_m3 51 rfl) rfl
theorem q598 : (Jvm.Cond.privateMethod ({ cls := "Scaffolder$Walk", name := "atBay", desc := "(LScaffolder$Bay;I)V" } : Jvm.MethodName)) ∈ lw_tbl := lw_at lw_m3 52 rfl
theorem q599 : (Jvm.Cond.instanceMethod ({ cls := "Scaffolder$Walk", name := "atBay", desc := "(LScaffolder$Bay;I)V" } : Jvm.MethodName)) ∈ lw_all := lw_g (lw_at lw_m3 53 rfl) rfl
theorem q600 : (Jvm.Cond.code ({ cls := "Scaffolder$Walk", name := "atBay", desc := "(LScaffolder$Bay;I)V" } : Jvm.MethodName) prog_4_method_4_code (4 : Nat) (Option.none : Option Jvm.ClassFile.FieldType)) ∈ lw_all := lw_g (lw_at lw_m3 54 rfl) rfl
theorem q601 : (Jvm.Cond.methodLink "Scaffolder$Walk" (73 : Nat) ({ cls := "Scaffolder$Face", name := "hasBrace", desc := "(I)Z" } : Jvm.MethodName)) ∈ lw_all := lw_g (lw_at lw_m3 55 rfl) rfl
theorem q791 : (Jvm.Cond.selects "Scaffolder$Walk" ({ cls := "java/lang/Object", name := "getClass", desc := "()Ljava/lang/Class;" } : Jvm.MethodName) ({ cls := "java/lang/Object", name := "getClass", desc := "()Ljava/lang/Class;" } : Jvm.MethodName)) ∈ lw_all := lw_g (lw_at lw_m4 5 rfl) rfl
theorem q815 : (Jvm.Cond.fieldLinkNest "Scaffolder$Walk" (69 : Nat) "Scaffolder$Bay" "number" "I" "Scaffolder") ∈ lw_tbl := lw_at lw_m4 29 rfl
theorem q818 : (Jvm.Cond.fieldLinkNest "Scaffolder$Walk" (65 : Nat) "Scaffolder$Bay" "of" "LScaffolder$Face;" "Scaffolder") ∈ lw_tbl := lw_at lw_m4 32 rfl
theorem q821 : (Jvm.Cond.fieldLinkNest "Scaffolder$Walk" (61 : Nat) "Scaffolder$Bay" "isBoarded" "[Z" "Scaffolder") ∈ lw_tbl := lw_at lw_m4 35 rfl
theorem q1486 : (Jvm.Cond.castable "Scaffolder$Walk" "java/lang/Object") ∈ lw_tbl := lw_at lw_m6 220 rfl
theorem in_X6 : ∀ w ∈ wsX60, w ∈ lw_all := lw_in wsX60 [569, 571] (by decide +kernel) (by decide +kernel)
