/-! one row an instruction, over WG -/
set_option maxRecDepth 100000
section WGR
variable {X : Cx} {cc : ByteArray} {nL : Nat} {own : String} {ret : Option FieldType} {d : Nat} {pc : Nat} {lv : List (Option Value)} {stk : List Value} {w : Wo} {k n : Nat}
theorem wg_iconst (C : CxOk X cc nL own ret d) {i : Int} (hd : decode cc pc = .ok (.iconst i, 1)) (kk : WG X (pc + 1) lv (vI i :: stk) w k n) : WG X pc lv (stk) w k n :=
  fun H locs ls c0 s0 hc hs hP hS hl => lv_iconst C.hx C.hb hd rfl (kk H locs ls c0 s0 hc hs hP hS hl)
theorem wg_bipush (C : CxOk X cc nL own ret d) {i : Int} (hd : decode cc pc = .ok (.bipush i, 2)) (hv : (Int8.ofInt i).toInt32 = Int32.ofInt i) (kk : WG X (pc + 2) lv (vI i :: stk) w k n) : WG X pc lv stk w k n :=
  fun H locs ls c0 s0 hc hs hP hS hl => lv_bipush C.hx C.hb hd hv (kk H locs ls c0 s0 hc hs hP hS hl)
theorem wg_sipush (C : CxOk X cc nL own ret d) {i : Int} (hd : decode cc pc = .ok (.sipush i, 3)) (hv : (Int16.ofInt i).toInt32 = Int32.ofInt i) (kk : WG X (pc + 3) lv (vI i :: stk) w k n) : WG X pc lv stk w k n :=
  fun H locs ls c0 s0 hc hs hP hS hl => lv_sipush C.hx C.hb hd hv (kk H locs ls c0 s0 hc hs hP hS hl)
theorem wg_iadd (C : CxOk X cc nL own ret d) {a b : Int} (hd : decode cc pc = .ok (.iadd, 1)) (kk : WG X (pc + 1) lv (vI (a + b) :: stk) w k n) : WG X pc lv (vI b :: vI a :: stk) w k n :=
  fun H locs ls c0 s0 hc hs hP hS hl => lv_iadd C.hx C.hb hd (by rw [← Int32.ofInt_add]; exact kk H locs ls c0 s0 hc hs hP hS hl)
theorem wg_isub (C : CxOk X cc nL own ret d) {a b : Int} (hd : decode cc pc = .ok (.isub, 1)) (kk : WG X (pc + 1) lv (vI (a - b) :: stk) w k n) : WG X pc lv (vI b :: vI a :: stk) w k n :=
  fun H locs ls c0 s0 hc hs hP hS hl => lv_isub C.hx C.hb hd (by rw [← Int32.ofInt_sub]; exact kk H locs ls c0 s0 hc hs hP hS hl)
theorem wg_imul (C : CxOk X cc nL own ret d) {a b : Int} (hd : decode cc pc = .ok (.imul, 1)) (kk : WG X (pc + 1) lv (vI (a * b) :: stk) w k n) : WG X pc lv (vI b :: vI a :: stk) w k n :=
  fun H locs ls c0 s0 hc hs hP hS hl => lv_imul C.hx C.hb hd (by rw [← Int32.ofInt_mul]; exact kk H locs ls c0 s0 hc hs hP hS hl)
theorem i_div {a b : Int} (ha : 0 ≤ a) (ha2 : a < 2147483648) (hb : 0 < b) (hb2 : b < 2147483648) : Int32.ofInt a / Int32.ofInt b = Int32.ofInt (a / b) := by
  have h1 : (Int32.ofInt a).toInt = a := i_toInt (by unfold InR; omega)
  have h2 : (Int32.ofInt b).toInt = b := i_toInt (by unfold InR; omega)
  have h3 : a / b ≤ a := Int.ediv_le_self _ ha
  have h4 : 0 ≤ a / b := Int.ediv_nonneg ha (by omega)
  rw [← Int32.toInt_inj, Int32.toInt_div_of_ne_right _ _ (fun q => by have := congrArg Int32.toInt q; rw [h2] at this; have h5 : (-1 : Int32).toInt = -1 := by decide
                                                                      omega), h1, h2, i_toInt (by unfold InR; omega), Int.tdiv_eq_ediv_of_nonneg ha]
theorem i_ne0 {b : Int} (hb : 0 < b) (hb2 : b < 2147483648) : ¬ Int32.ofInt b = 0 := by
  rw [← i_0, i_eq (by unfold InR; omega) InR0]
  omega
theorem wg_idiv (C : CxOk X cc nL own ret d) {a b : Int} (hd : decode cc pc = .ok (.idiv, 1)) (ha : 0 ≤ a) (ha2 : a < 2147483648) (hb : 0 < b) (hb2 : b < 2147483648) (kk : WG X (pc + 1) lv (vI (a / b) :: stk) w k n) : WG X pc lv (vI b :: vI a :: stk) w k n :=
  fun H locs ls c0 s0 hc hs hP hS hl => lv_idiv C.hx C.hb hd (i_ne0 hb hb2) (by rw [i_div ha ha2 hb hb2]; exact kk H locs ls c0 s0 hc hs hP hS hl)
theorem i_rem {a b : Int} (ha : 0 ≤ a) (ha2 : a < 2147483648) (hb : 0 < b) (hb2 : b < 2147483648) : Int32.ofInt a - Int32.ofInt a / Int32.ofInt b * Int32.ofInt b = Int32.ofInt (a % b) := by
  rw [i_div ha ha2 hb hb2, ← Int32.ofInt_mul, ← Int32.ofInt_sub]
  congr 1
  have := Int.emod_add_mul_ediv a b
  rw [Int.mul_comm] at this
  omega
theorem wg_irem (C : CxOk X cc nL own ret d) {a b : Int} (hd : decode cc pc = .ok (.irem, 1)) (ha : 0 ≤ a) (ha2 : a < 2147483648) (hb : 0 < b) (hb2 : b < 2147483648) (kk : WG X (pc + 1) lv (vI (a % b) :: stk) w k n) : WG X pc lv (vI b :: vI a :: stk) w k n :=
  fun H locs ls c0 s0 hc hs hP hS hl => lv_irem C.hx C.hb hd (i_ne0 hb hb2) (by rw [i_rem ha ha2 hb hb2]; exact kk H locs ls c0 s0 hc hs hP hS hl)
theorem i_and01 (p q : Prop) [Decidable p] [Decidable q] : Int32.ofInt (if p then 1 else 0) &&& Int32.ofInt (if q then 1 else 0) = Int32.ofInt (if p ∧ q then 1 else 0) := by
  by_cases hp : p <;> by_cases hq : q <;> simp [hp, hq]
theorem i_or01 (p q : Prop) [Decidable p] [Decidable q] : Int32.ofInt (if p then 1 else 0) ||| Int32.ofInt (if q then 1 else 0) = Int32.ofInt (if p ∨ q then 1 else 0) := by
  by_cases hp : p <;> by_cases hq : q <;> simp [hp, hq]
theorem wg_iand01 (C : CxOk X cc nL own ret d) {p q : Prop} [Decidable p] [Decidable q] (hd : decode cc pc = .ok (.iand, 1)) (kk : WG X (pc + 1) lv (vI (if p ∧ q then 1 else 0) :: stk) w k n) : WG X pc lv (vI (if q then 1 else 0) :: vI (if p then 1 else 0) :: stk) w k n :=
  fun H locs ls c0 s0 hc hs hP hS hl => lv_iand C.hx C.hb hd (by rw [i_and01]; exact kk H locs ls c0 s0 hc hs hP hS hl)
theorem wg_ior01 (C : CxOk X cc nL own ret d) {p q : Prop} [Decidable p] [Decidable q] (hd : decode cc pc = .ok (.ior, 1)) (kk : WG X (pc + 1) lv (vI (if p ∨ q then 1 else 0) :: stk) w k n) : WG X pc lv (vI (if q then 1 else 0) :: vI (if p then 1 else 0) :: stk) w k n :=
  fun H locs ls c0 s0 hc hs hP hS hl => lv_ior C.hx C.hb hd (by rw [i_or01]; exact kk H locs ls c0 s0 hc hs hP hS hl)
theorem wg_iandR (C : CxOk X cc nL own ret d) {x y : Int32} (hd : decode cc pc = .ok (.iand, 1)) (kk : WG X (pc + 1) lv (.int (x &&& y) :: stk) w k n) : WG X pc lv (.int y :: .int x :: stk) w k n :=
  fun H locs ls c0 s0 hc hs hP hS hl => lv_iand C.hx C.hb hd (kk H locs ls c0 s0 hc hs hP hS hl)
theorem wg_dup (C : CxOk X cc nL own ret d) {v : Value} (hd : decode cc pc = .ok (.dup, 1)) (hv : v.category = 1) (kk : WG X (pc + 1) lv (v :: v :: stk) w k n) : WG X pc lv (v :: stk) w k n :=
  fun H locs ls c0 s0 hc hs hP hS hl => lv_dup C.hx C.hb hd hv (kk H locs ls c0 s0 hc hs hP hS hl)
theorem wg_pop (C : CxOk X cc nL own ret d) {v : Value} (hd : decode cc pc = .ok (.pop, 1)) (hv : v.category = 1) (kk : WG X (pc + 1) lv (stk) w k n) : WG X pc lv (v :: stk) w k n :=
  fun H locs ls c0 s0 hc hs hP hS hl => lv_pop C.hx C.hb hd hv (kk H locs ls c0 s0 hc hs hP hS hl)
theorem wg_dup_x1 (C : CxOk X cc nL own ret d) {v u : Value} (hd : decode cc pc = .ok (.dup_x1, 1)) (hv : v.category = 1) (hu : u.category = 1) (kk : WG X (pc + 1) lv (v :: u :: v :: stk) w k n) : WG X pc lv (v :: u :: stk) w k n :=
  fun H locs ls c0 s0 hc hs hP hS hl => lv_dup_x1 C.hx C.hb hd hv hu (kk H locs ls c0 s0 hc hs hP hS hl)
theorem wg_dup_x2 (C : CxOk X cc nL own ret d) {v u x : Value} (hd : decode cc pc = .ok (.dup_x2, 1)) (hv : v.category = 1) (hu : u.category = 1) (hx : x.category = 1) (kk : WG X (pc + 1) lv (v :: u :: x :: v :: stk) w k n) : WG X pc lv (v :: u :: x :: stk) w k n :=
  fun H locs ls c0 s0 hc hs hP hS hl => lv_dup_x2 C.hx C.hb hd hv hu hx (kk H locs ls c0 s0 hc hs hP hS hl)
theorem wg_dup2 (C : CxOk X cc nL own ret d) {v u : Value} (hd : decode cc pc = .ok (.dup2, 1)) (hv : v.category = 1) (hu : u.category = 1) (kk : WG X (pc + 1) lv (v :: u :: v :: u :: stk) w k n) : WG X pc lv (v :: u :: stk) w k n :=
  fun H locs ls c0 s0 hc hs hP hS hl => lv_dup2_11 C.hx C.hb hd hv hu (kk H locs ls c0 s0 hc hs hP hS hl)
theorem wg_null (C : CxOk X cc nL own ret d) (hd : decode cc pc = .ok (.aconst_null, 1)) (kk : WG X (pc + 1) lv (.null :: stk) w k n) : WG X pc lv (stk) w k n :=
  fun H locs ls c0 s0 hc hs hP hS hl => lv_null C.hx C.hb hd (kk H locs ls c0 s0 hc hs hP hS hl)
theorem wg_goto (C : CxOk X cc nL own ret d) {off : Int} {tgt : Nat} (hd : decode cc pc = .ok (.goto off, 3)) (ht : (pc : Int) + off = (tgt : Int)) (kk : WG X tgt lv stk w k n) : WG X pc lv stk w k n :=
  fun H locs ls c0 s0 hc hs hP hS hl => lv_goto C.hx C.hb hd ht (kk H locs ls c0 s0 hc hs hP hS hl)
theorem wg_icmp_eq (C : CxOk X cc nL own ret d) {a b : Int} {off : Int} {tgt : Nat} (hd : decode cc pc = .ok (.if_icmp .eq off, 3)) (ht : (pc : Int) + off = (tgt : Int)) (ha : InR a) (hb : InR b) (kt : a = b → WG X tgt lv stk w k n) (kf : ¬ (a = b) → WG X (pc + 3) lv stk w k n) : WG X pc lv (vI b :: vI a :: stk) w k n :=
  fun H locs ls c0 s0 hc hs hP hS hl => lv_icmp_eq C.hx C.hb hd ht (fun q => kt ((i_eq ha hb).mp q) H locs ls c0 s0 hc hs hP hS hl) (fun q => kf (fun z => q ((i_eq ha hb).mpr z)) H locs ls c0 s0 hc hs hP hS hl)
theorem wg_if_eq (C : CxOk X cc nL own ret d) {a : Int} {off : Int} {tgt : Nat} (hd : decode cc pc = .ok (.ifCond .eq off, 3)) (ht : (pc : Int) + off = (tgt : Int)) (ha : InR a) (kt : a = 0 → WG X tgt lv stk w k n) (kf : ¬ (a = 0) → WG X (pc + 3) lv stk w k n) : WG X pc lv (vI a :: stk) w k n := by
  have e0 : (0 : Int32) = Int32.ofInt 0 := i_0.symm
  intro H locs ls c0 s0 hc hs hP hS hl
  refine lv_if_eq C.hx C.hb hd ht (fun q => kt ?_ H locs ls c0 s0 hc hs hP hS hl) (fun q => kf ?_ H locs ls c0 s0 hc hs hP hS hl)
  · rw [e0] at q; exact (i_eq ha InR0).mp q
  · rw [e0] at q; exact fun z => q ((i_eq ha InR0).mpr z)
theorem wg_icmp_ne (C : CxOk X cc nL own ret d) {a b : Int} {off : Int} {tgt : Nat} (hd : decode cc pc = .ok (.if_icmp .ne off, 3)) (ht : (pc : Int) + off = (tgt : Int)) (ha : InR a) (hb : InR b) (kt : ¬ a = b → WG X tgt lv stk w k n) (kf : a = b → WG X (pc + 3) lv stk w k n) : WG X pc lv (vI b :: vI a :: stk) w k n :=
  fun H locs ls c0 s0 hc hs hP hS hl => lv_icmp_ne C.hx C.hb hd ht (fun q => kt (fun z => q ((i_eq ha hb).mpr z)) H locs ls c0 s0 hc hs hP hS hl) (fun q => kf ((i_eq ha hb).mp q) H locs ls c0 s0 hc hs hP hS hl)
theorem wg_if_ne (C : CxOk X cc nL own ret d) {a : Int} {off : Int} {tgt : Nat} (hd : decode cc pc = .ok (.ifCond .ne off, 3)) (ht : (pc : Int) + off = (tgt : Int)) (ha : InR a) (kt : ¬ a = 0 → WG X tgt lv stk w k n) (kf : a = 0 → WG X (pc + 3) lv stk w k n) : WG X pc lv (vI a :: stk) w k n := by
  have e0 : (0 : Int32) = Int32.ofInt 0 := i_0.symm
  intro H locs ls c0 s0 hc hs hP hS hl
  refine lv_if_ne C.hx C.hb hd ht (fun q => kt ?_ H locs ls c0 s0 hc hs hP hS hl) (fun q => kf ?_ H locs ls c0 s0 hc hs hP hS hl)
  · rw [e0] at q; exact fun z => q ((i_eq ha InR0).mpr z)
  · rw [e0] at q; exact (i_eq ha InR0).mp q
theorem wg_icmp_lt (C : CxOk X cc nL own ret d) {a b : Int} {off : Int} {tgt : Nat} (hd : decode cc pc = .ok (.if_icmp .lt off, 3)) (ht : (pc : Int) + off = (tgt : Int)) (ha : InR a) (hb : InR b) (kt : a < b → WG X tgt lv stk w k n) (kf : ¬ (a < b) → WG X (pc + 3) lv stk w k n) : WG X pc lv (vI b :: vI a :: stk) w k n :=
  fun H locs ls c0 s0 hc hs hP hS hl => lv_icmp_lt C.hx C.hb hd ht (fun q => kt ((i_lt ha hb).mp q) H locs ls c0 s0 hc hs hP hS hl) (fun q => kf (fun z => q ((i_lt ha hb).mpr z)) H locs ls c0 s0 hc hs hP hS hl)
theorem wg_if_lt (C : CxOk X cc nL own ret d) {a : Int} {off : Int} {tgt : Nat} (hd : decode cc pc = .ok (.ifCond .lt off, 3)) (ht : (pc : Int) + off = (tgt : Int)) (ha : InR a) (kt : a < 0 → WG X tgt lv stk w k n) (kf : ¬ (a < 0) → WG X (pc + 3) lv stk w k n) : WG X pc lv (vI a :: stk) w k n := by
  have e0 : (0 : Int32) = Int32.ofInt 0 := i_0.symm
  intro H locs ls c0 s0 hc hs hP hS hl
  refine lv_if_lt C.hx C.hb hd ht (fun q => kt ?_ H locs ls c0 s0 hc hs hP hS hl) (fun q => kf ?_ H locs ls c0 s0 hc hs hP hS hl)
  · rw [e0] at q; exact (i_lt ha InR0).mp q
  · rw [e0] at q; exact fun z => q ((i_lt ha InR0).mpr z)
theorem wg_icmp_ge (C : CxOk X cc nL own ret d) {a b : Int} {off : Int} {tgt : Nat} (hd : decode cc pc = .ok (.if_icmp .ge off, 3)) (ht : (pc : Int) + off = (tgt : Int)) (ha : InR a) (hb : InR b) (kt : b ≤ a → WG X tgt lv stk w k n) (kf : ¬ (b ≤ a) → WG X (pc + 3) lv stk w k n) : WG X pc lv (vI b :: vI a :: stk) w k n :=
  fun H locs ls c0 s0 hc hs hP hS hl => lv_icmp_ge C.hx C.hb hd ht (fun q => kt ((i_le hb ha).mp q) H locs ls c0 s0 hc hs hP hS hl) (fun q => kf (fun z => q ((i_le hb ha).mpr z)) H locs ls c0 s0 hc hs hP hS hl)
theorem wg_if_ge (C : CxOk X cc nL own ret d) {a : Int} {off : Int} {tgt : Nat} (hd : decode cc pc = .ok (.ifCond .ge off, 3)) (ht : (pc : Int) + off = (tgt : Int)) (ha : InR a) (kt : 0 ≤ a → WG X tgt lv stk w k n) (kf : ¬ (0 ≤ a) → WG X (pc + 3) lv stk w k n) : WG X pc lv (vI a :: stk) w k n := by
  have e0 : (0 : Int32) = Int32.ofInt 0 := i_0.symm
  intro H locs ls c0 s0 hc hs hP hS hl
  refine lv_if_ge C.hx C.hb hd ht (fun q => kt ?_ H locs ls c0 s0 hc hs hP hS hl) (fun q => kf ?_ H locs ls c0 s0 hc hs hP hS hl)
  · rw [e0] at q; exact (i_le InR0 ha).mp q
  · rw [e0] at q; exact fun z => q ((i_le InR0 ha).mpr z)
theorem wg_icmp_gt (C : CxOk X cc nL own ret d) {a b : Int} {off : Int} {tgt : Nat} (hd : decode cc pc = .ok (.if_icmp .gt off, 3)) (ht : (pc : Int) + off = (tgt : Int)) (ha : InR a) (hb : InR b) (kt : b < a → WG X tgt lv stk w k n) (kf : ¬ (b < a) → WG X (pc + 3) lv stk w k n) : WG X pc lv (vI b :: vI a :: stk) w k n :=
  fun H locs ls c0 s0 hc hs hP hS hl => lv_icmp_gt C.hx C.hb hd ht (fun q => kt ((i_lt hb ha).mp q) H locs ls c0 s0 hc hs hP hS hl) (fun q => kf (fun z => q ((i_lt hb ha).mpr z)) H locs ls c0 s0 hc hs hP hS hl)
theorem wg_if_gt (C : CxOk X cc nL own ret d) {a : Int} {off : Int} {tgt : Nat} (hd : decode cc pc = .ok (.ifCond .gt off, 3)) (ht : (pc : Int) + off = (tgt : Int)) (ha : InR a) (kt : 0 < a → WG X tgt lv stk w k n) (kf : ¬ (0 < a) → WG X (pc + 3) lv stk w k n) : WG X pc lv (vI a :: stk) w k n := by
  have e0 : (0 : Int32) = Int32.ofInt 0 := i_0.symm
  intro H locs ls c0 s0 hc hs hP hS hl
  refine lv_if_gt C.hx C.hb hd ht (fun q => kt ?_ H locs ls c0 s0 hc hs hP hS hl) (fun q => kf ?_ H locs ls c0 s0 hc hs hP hS hl)
  · rw [e0] at q; exact (i_lt InR0 ha).mp q
  · rw [e0] at q; exact fun z => q ((i_lt InR0 ha).mpr z)
theorem wg_icmp_le (C : CxOk X cc nL own ret d) {a b : Int} {off : Int} {tgt : Nat} (hd : decode cc pc = .ok (.if_icmp .le off, 3)) (ht : (pc : Int) + off = (tgt : Int)) (ha : InR a) (hb : InR b) (kt : a ≤ b → WG X tgt lv stk w k n) (kf : ¬ (a ≤ b) → WG X (pc + 3) lv stk w k n) : WG X pc lv (vI b :: vI a :: stk) w k n :=
  fun H locs ls c0 s0 hc hs hP hS hl => lv_icmp_le C.hx C.hb hd ht (fun q => kt ((i_le ha hb).mp q) H locs ls c0 s0 hc hs hP hS hl) (fun q => kf (fun z => q ((i_le ha hb).mpr z)) H locs ls c0 s0 hc hs hP hS hl)
theorem wg_if_le (C : CxOk X cc nL own ret d) {a : Int} {off : Int} {tgt : Nat} (hd : decode cc pc = .ok (.ifCond .le off, 3)) (ht : (pc : Int) + off = (tgt : Int)) (ha : InR a) (kt : a ≤ 0 → WG X tgt lv stk w k n) (kf : ¬ (a ≤ 0) → WG X (pc + 3) lv stk w k n) : WG X pc lv (vI a :: stk) w k n := by
  have e0 : (0 : Int32) = Int32.ofInt 0 := i_0.symm
  intro H locs ls c0 s0 hc hs hP hS hl
  refine lv_if_le C.hx C.hb hd ht (fun q => kt ?_ H locs ls c0 s0 hc hs hP hS hl) (fun q => kf ?_ H locs ls c0 s0 hc hs hP hS hl)
  · rw [e0] at q; exact (i_le ha InR0).mp q
  · rw [e0] at q; exact fun z => q ((i_le ha InR0).mpr z)
theorem i_b01 (p : Prop) [Decidable p] : Int32.ofInt (if p then 1 else 0) = 0 ↔ ¬ p := by
  by_cases hp : p <;> simp [hp]
theorem wg_ifeqB (C : CxOk X cc nL own ret d) {p : Prop} [Decidable p] {off : Int} {tgt : Nat} (hd : decode cc pc = .ok (.ifCond .eq off, 3)) (ht : (pc : Int) + off = (tgt : Int)) (kt : ¬ p → WG X tgt lv stk w k n) (kf : p → WG X (pc + 3) lv stk w k n) : WG X pc lv (vI (if p then 1 else 0) :: stk) w k n :=
  fun H locs ls c0 s0 hc hs hP hS hl => lv_if_eq C.hx C.hb hd ht (fun q => kt ((i_b01 p).mp q) H locs ls c0 s0 hc hs hP hS hl) (fun q => kf (Decidable.not_not.mp (fun z => q ((i_b01 p).mpr z))) H locs ls c0 s0 hc hs hP hS hl)
theorem wg_ifneB (C : CxOk X cc nL own ret d) {p : Prop} [Decidable p] {off : Int} {tgt : Nat} (hd : decode cc pc = .ok (.ifCond .ne off, 3)) (ht : (pc : Int) + off = (tgt : Int)) (kt : p → WG X tgt lv stk w k n) (kf : ¬ p → WG X (pc + 3) lv stk w k n) : WG X pc lv (vI (if p then 1 else 0) :: stk) w k n :=
  fun H locs ls c0 s0 hc hs hP hS hl => lv_if_ne C.hx C.hb hd ht (fun q => kt (Decidable.not_not.mp (fun z => q ((i_b01 p).mpr z))) H locs ls c0 s0 hc hs hP hS hl) (fun q => kf ((i_b01 p).mp q) H locs ls c0 s0 hc hs hP hS hl)
theorem wg_acmp_eq (C : CxOk X cc nL own ret d) {a b : Nat} {off : Int} {tgt : Nat} (hd : decode cc pc = .ok (.if_acmp .eq off, 3)) (ht : (pc : Int) + off = (tgt : Int)) (kt : a = b → WG X tgt lv stk w k n) (kf : ¬ a = b → WG X (pc + 3) lv stk w k n) : WG X pc lv (.ref b :: .ref a :: stk) w k n :=
  fun H locs ls c0 s0 hc hs hP hS hl => lv_acmp_eq (rx := some a) (ry := some b) C.hx C.hb hd ht (fun q => kt (Option.some.inj q) H locs ls c0 s0 hc hs hP hS hl) (fun q => kf (fun z => q (congrArg some z)) H locs ls c0 s0 hc hs hP hS hl)
theorem wg_acmp_ne (C : CxOk X cc nL own ret d) {a b : Nat} {off : Int} {tgt : Nat} (hd : decode cc pc = .ok (.if_acmp .ne off, 3)) (ht : (pc : Int) + off = (tgt : Int)) (kt : ¬ a = b → WG X tgt lv stk w k n) (kf : a = b → WG X (pc + 3) lv stk w k n) : WG X pc lv (.ref b :: .ref a :: stk) w k n :=
  fun H locs ls c0 s0 hc hs hP hS hl => lv_acmp_ne (rx := some a) (ry := some b) C.hx C.hb hd ht (fun q => kt (fun z => q (congrArg some z)) H locs ls c0 s0 hc hs hP hS hl) (fun q => kf (Option.some.inj q) H locs ls c0 s0 hc hs hP hS hl)
theorem wg_ifnonnull (C : CxOk X cc nL own ret d) {a : Nat} {off : Int} {tgt : Nat} (hd : decode cc pc = .ok (.ifnonnull off, 3)) (ht : (pc : Int) + off = (tgt : Int)) (kk : WG X tgt lv stk w k n) : WG X pc lv (.ref a :: stk) w k n :=
  fun H locs ls c0 s0 hc hs hP hS hl => lv_ifnonnull C.hx C.hb hd ht (kk H locs ls c0 s0 hc hs hP hS hl)
theorem wg_ifnonnullN (C : CxOk X cc nL own ret d) {off : Int} (hd : decode cc pc = .ok (.ifnonnull off, 3)) (kk : WG X (pc + 3) lv stk w k n) : WG X pc lv (.null :: stk) w k n :=
  fun H locs ls c0 s0 hc hs hP hS hl => lv_ifnonnullN C.hx C.hb hd (kk H locs ls c0 s0 hc hs hP hS hl)
theorem wg_tblIn (C : CxOk X cc nL own ret d) {dflt lo hi : Int} {offs : Array Int} {len : Nat} {z off : Int} {tgt : Nat} (hd : decode cc pc = .ok (.tableswitch dflt lo hi offs, len)) (hz : InR z) (h1 : ¬ z < lo) (h2 : ¬ hi < z) (ho : offs[(z - lo).toNat]? = some off) (ht : (pc : Int) + off = (tgt : Int)) (kk : WG X tgt lv stk w k n) : WG X pc lv (vI z :: stk) w k n :=
  fun H locs ls c0 s0 hc hs hP hS hl => lv_tableIn C.hx C.hb hd (by rw [i_toInt hz]; exact h1) (by rw [i_toInt hz]; exact h2) (by rw [i_toInt hz]; exact ho) ht (kk H locs ls c0 s0 hc hs hP hS hl)
theorem wg_tblOut (C : CxOk X cc nL own ret d) {dflt lo hi : Int} {offs : Array Int} {len : Nat} {z : Int} {tgt : Nat} (hd : decode cc pc = .ok (.tableswitch dflt lo hi offs, len)) (hz : InR z) (h : z < lo ∨ hi < z) (ht : (pc : Int) + dflt = (tgt : Int)) (kk : WG X tgt lv stk w k n) : WG X pc lv (vI z :: stk) w k n :=
  fun H locs ls c0 s0 hc hs hP hS hl => lv_tableOut C.hx C.hb hd (by rw [i_toInt hz]; exact h) ht (kk H locs ls c0 s0 hc hs hP hS hl)
theorem wg_i2l (C : CxOk X cc nL own ret d) {z : Int} (hd : decode cc pc = .ok (.i2l, 1)) (kk : WG X (pc + 1) lv (.long (Int32.ofInt z).toInt64 :: stk) w k n) : WG X pc lv (vI z :: stk) w k n :=
  fun H locs ls c0 s0 hc hs hP hS hl => lv_i2l C.hx C.hb hd rfl (kk H locs ls c0 s0 hc hs hP hS hl)
theorem wg_lconst (C : CxOk X cc nL own ret d) {i : Fin 2} (hd : decode cc pc = .ok (.lconst i, 1)) (kk : WG X (pc + 1) lv (.long (Int64.ofNat (i : Nat)) :: stk) w k n) : WG X pc lv stk w k n :=
  fun H locs ls c0 s0 hc hs hP hS hl => lv_lconst C.hx C.hb hd rfl (kk H locs ls c0 s0 hc hs hP hS hl)
theorem wg_i2d (C : CxOk X cc nL own ret d) {z : Int} (hd : decode cc pc = .ok (.i2d, 1)) (kk : WG X (pc + 1) lv (.double (FP.i2d (Int32.ofInt z)) :: stk) w k n) : WG X pc lv (vI z :: stk) w k n :=
  fun H locs ls c0 s0 hc hs hP hS hl => lv_i2d C.hx C.hb hd (kk H locs ls c0 s0 hc hs hP hS hl)
theorem wg_i2f (C : CxOk X cc nL own ret d) {z : Int} (hd : decode cc pc = .ok (.i2f, 1)) (kk : WG X (pc + 1) lv (.float (FP.i2f (Int32.ofInt z)) :: stk) w k n) : WG X pc lv (vI z :: stk) w k n :=
  fun H locs ls c0 s0 hc hs hP hS hl => lv_i2f C.hx C.hb hd (kk H locs ls c0 s0 hc hs hP hS hl)
theorem wg_dconst0 (C : CxOk X cc nL own ret d) (hd : decode cc pc = .ok (.dconst 0, 1)) (kk : WG X (pc + 1) lv (.double FP.dconst0 :: stk) w k n) : WG X pc lv stk w k n :=
  fun H locs ls c0 s0 hc hs hP hS hl => lv_dconst0 C.hx C.hb hd (kk H locs ls c0 s0 hc hs hP hS hl)
theorem wg_fconst0 (C : CxOk X cc nL own ret d) (hd : decode cc pc = .ok (.fconst 0, 1)) (kk : WG X (pc + 1) lv (.float FP.fconst0 :: stk) w k n) : WG X pc lv stk w k n :=
  fun H locs ls c0 s0 hc hs hP hS hl => lv_fconst0 C.hx C.hb hd (kk H locs ls c0 s0 hc hs hP hS hl)
theorem wg_ddiv (C : CxOk X cc nL own ret d) {x y : UInt64} (hd : decode cc pc = .ok (.ddiv, 1)) (hne : vf_n64 (FP.ddiv x y)) (kk : WG X (pc + 1) lv (.double (FP.ddiv x y) :: stk) w k n) : WG X pc lv (.double y :: .double x :: stk) w k n :=
  fun H locs ls c0 s0 hc hs hP hS hl => lv_ddiv C.hx C.hb hd hne (kk H locs ls c0 s0 hc hs hP hS hl)
theorem wg_fdiv (C : CxOk X cc nL own ret d) {x y : UInt32} (hd : decode cc pc = .ok (.fdiv, 1)) (hne : vf_n32 (FP.fdiv x y)) (kk : WG X (pc + 1) lv (.float (FP.fdiv x y) :: stk) w k n) : WG X pc lv (.float y :: .float x :: stk) w k n :=
  fun H locs ls c0 s0 hc hs hP hS hl => lv_fdiv C.hx C.hb hd hne (kk H locs ls c0 s0 hc hs hP hS hl)
theorem wg_f2d (C : CxOk X cc nL own ret d) {x : UInt32} (hd : decode cc pc = .ok (.f2d, 1)) (hne : vf_n64 (FP.f2d x)) (kk : WG X (pc + 1) lv (.double (FP.f2d x) :: stk) w k n) : WG X pc lv (.float x :: stk) w k n :=
  fun H locs ls c0 s0 hc hs hP hS hl => lv_f2d C.hx C.hb hd hne (kk H locs ls c0 s0 hc hs hP hS hl)
theorem wg_dcmp (C : CxOk X cc nL own ret d) {x y : UInt64} {op : CmpOp} (hd : decode cc pc = .ok (.dcmp op, 1)) (kk : WG X (pc + 1) lv (.int (Op.cmpValue (FP.dcmp x y) op) :: stk) w k n) : WG X pc lv (.double y :: .double x :: stk) w k n :=
  fun H locs ls c0 s0 hc hs hP hS hl => lv_dcmp C.hx C.hb hd (kk H locs ls c0 s0 hc hs hP hS hl)
theorem wg_ifeqR (C : CxOk X cc nL own ret d) {x : Int32} {off : Int} {tgt : Nat} (hd : decode cc pc = .ok (.ifCond .eq off, 3)) (ht : (pc : Int) + off = (tgt : Int)) (kt : x = 0 → WG X tgt lv stk w k n) (kf : ¬ x = 0 → WG X (pc + 3) lv stk w k n) : WG X pc lv (.int x :: stk) w k n :=
  fun H locs ls c0 s0 hc hs hP hS hl => lv_if_eq C.hx C.hb hd ht (fun q => kt q H locs ls c0 s0 hc hs hP hS hl) (fun q => kf q H locs ls c0 s0 hc hs hP hS hl)
theorem wg_ifneR (C : CxOk X cc nL own ret d) {x : Int32} {off : Int} {tgt : Nat} (hd : decode cc pc = .ok (.ifCond .ne off, 3)) (ht : (pc : Int) + off = (tgt : Int)) (kt : ¬ x = 0 → WG X tgt lv stk w k n) (kf : x = 0 → WG X (pc + 3) lv stk w k n) : WG X pc lv (.int x :: stk) w k n :=
  fun H locs ls c0 s0 hc hs hP hS hl => lv_if_ne C.hx C.hb hd ht (fun q => kt q H locs ls c0 s0 hc hs hP hS hl) (fun q => kf q H locs ls c0 s0 hc hs hP hS hl)
theorem wg_iload_n (C : CxOk X cc nL own ret d) {kf : Fin 4} {i : Nat} {z : Int} (hd : decode cc pc = .ok (.iload_n kf, 1)) (hi : (kf : Nat) = i) (hv : lv[i]? = some (some (vI z))) (kk : WG X (pc + 1) lv (vI z :: stk) w k n) : WG X pc lv stk w k n :=
  fun H locs ls c0 s0 hc hs hP hS hl => lv_iload_n C.hx C.hb hd hi (hl.get hv) (kk H locs ls c0 s0 hc hs hP hS hl)
theorem wg_iload (C : CxOk X cc nL own ret d) {i : Nat} {z : Int} (hd : decode cc pc = .ok (.iload i, 2)) (hv : lv[i]? = some (some (vI z))) (kk : WG X (pc + 2) lv (vI z :: stk) w k n) : WG X pc lv stk w k n :=
  fun H locs ls c0 s0 hc hs hP hS hl => lv_iload C.hx C.hb hd (hl.get hv) (kk H locs ls c0 s0 hc hs hP hS hl)
theorem wg_aload_n (C : CxOk X cc nL own ret d) {kf : Fin 4} {i : Nat} {a : Nat} (hd : decode cc pc = .ok (.aload_n kf, 1)) (hi : (kf : Nat) = i) (hv : lv[i]? = some (some (.ref a))) (kk : WG X (pc + 1) lv (.ref a :: stk) w k n) : WG X pc lv stk w k n :=
  fun H locs ls c0 s0 hc hs hP hS hl => lv_aload_n C.hx C.hb hd hi (hl.get hv) (kk H locs ls c0 s0 hc hs hP hS hl)
theorem wg_aload_nN (C : CxOk X cc nL own ret d) {kf : Fin 4} {i : Nat} (hd : decode cc pc = .ok (.aload_n kf, 1)) (hi : (kf : Nat) = i) (hv : lv[i]? = some (some .null)) (kk : WG X (pc + 1) lv (.null :: stk) w k n) : WG X pc lv stk w k n :=
  fun H locs ls c0 s0 hc hs hP hS hl => lv_aload_nN C.hx C.hb hd hi (hl.get hv) (kk H locs ls c0 s0 hc hs hP hS hl)
theorem wg_aload (C : CxOk X cc nL own ret d) {i : Nat} {a : Nat} (hd : decode cc pc = .ok (.aload i, 2)) (hv : lv[i]? = some (some (.ref a))) (kk : WG X (pc + 2) lv (.ref a :: stk) w k n) : WG X pc lv stk w k n :=
  fun H locs ls c0 s0 hc hs hP hS hl => lv_aload C.hx C.hb hd (hl.get hv) (kk H locs ls c0 s0 hc hs hP hS hl)
theorem wg_dload (C : CxOk X cc nL own ret d) {i : Nat} {x : UInt64} (hd : decode cc pc = .ok (.dload i, 2)) (hv : lv[i]? = some (some (.double x))) (kk : WG X (pc + 2) lv (.double x :: stk) w k n) : WG X pc lv stk w k n :=
  fun H locs ls c0 s0 hc hs hP hS hl => lv_dload C.hx C.hb hd (hl.get hv) (kk H locs ls c0 s0 hc hs hP hS hl)
theorem wg_dstore (C : CxOk X cc nL own ret d) {i : Nat} {x : UInt64} {lv' : List (Option Value)} (hd : decode cc pc = .ok (.dstore i, 2)) (hp : pkAt lv i = true) (hn : i + 1 < lv.length) (he : (lv.set i (some (.double x))).set (i + 1) none = lv') (kk : WG X (pc + 2) lv' stk w k n) : WG X pc lv (.double x :: stk) w k n := by
  intro H locs ls c0 s0 hc hs hP hS hl
  obtain ⟨l, h1, h2⟩ := hl
  exact lv_dstore C.hx C.hb hd h1 hn rfl (fun ls' h' => kk H locs ls' c0 s0 hc hs hP hS (he ▸ LV.st2 h2 hp hn h'))
theorem wg_istore_n (C : CxOk X cc nL own ret d) {kf : Fin 4} {i : Nat} {z : Int} (hd : decode cc pc = .ok (.istore_n kf, 1)) (hi : (kf : Nat) = i) (hp : pkAt lv i = true) (hn : i < lv.length) (kk : WG X (pc + 1) (lv.set i (some (vI z))) stk w k n) : WG X pc lv (vI z :: stk) w k n := by
  intro H locs ls c0 s0 hc hs hP hS hl
  obtain ⟨l, h1, h2⟩ := hl
  exact lv_istore_n C.hx C.hb hd hi h1 hn rfl (fun ls' h' => kk H locs ls' c0 s0 hc hs hP hS (LV.st h2 hp hn h'))
theorem wg_istore (C : CxOk X cc nL own ret d) {i : Nat} {z : Int} (hd : decode cc pc = .ok (.istore i, 2)) (hp : pkAt lv i = true) (hn : i < lv.length) (kk : WG X (pc + 2) (lv.set i (some (vI z))) stk w k n) : WG X pc lv (vI z :: stk) w k n := by
  intro H locs ls c0 s0 hc hs hP hS hl
  obtain ⟨l, h1, h2⟩ := hl
  exact lv_istore C.hx C.hb hd h1 hn rfl (fun ls' h' => kk H locs ls' c0 s0 hc hs hP hS (LV.st h2 hp hn h'))
theorem wg_astore_n (C : CxOk X cc nL own ret d) {kf : Fin 4} {i : Nat} {a : Nat} (hd : decode cc pc = .ok (.astore_n kf, 1)) (hi : (kf : Nat) = i) (hp : pkAt lv i = true) (hn : i < lv.length) (kk : WG X (pc + 1) (lv.set i (some (.ref a))) stk w k n) : WG X pc lv (.ref a :: stk) w k n := by
  intro H locs ls c0 s0 hc hs hP hS hl
  obtain ⟨l, h1, h2⟩ := hl
  exact lv_astore_n C.hx C.hb hd hi h1 hn rfl (fun ls' h' => kk H locs ls' c0 s0 hc hs hP hS (LV.st h2 hp hn h'))
theorem wg_astore (C : CxOk X cc nL own ret d) {i : Nat} {a : Nat} (hd : decode cc pc = .ok (.astore i, 2)) (hp : pkAt lv i = true) (hn : i < lv.length) (kk : WG X (pc + 2) (lv.set i (some (.ref a))) stk w k n) : WG X pc lv (.ref a :: stk) w k n := by
  intro H locs ls c0 s0 hc hs hP hS hl
  obtain ⟨l, h1, h2⟩ := hl
  exact lv_astore C.hx C.hb hd h1 hn rfl (fun ls' h' => kk H locs ls' c0 s0 hc hs hP hS (LV.st h2 hp hn h'))
theorem wg_astore_nN (C : CxOk X cc nL own ret d) {kf : Fin 4} {i : Nat} (hd : decode cc pc = .ok (.astore_n kf, 1)) (hi : (kf : Nat) = i) (hp : pkAt lv i = true) (hn : i < lv.length) (kk : WG X (pc + 1) (lv.set i (some .null)) stk w k n) : WG X pc lv (.null :: stk) w k n := by
  intro H locs ls c0 s0 hc hs hP hS hl
  obtain ⟨l, h1, h2⟩ := hl
  exact lv_astore_nN C.hx C.hb hd hi h1 hn rfl (fun ls' h' => kk H locs ls' c0 s0 hc hs hP hS (LV.st h2 hp hn h'))
theorem wg_iinc (C : CxOk X cc nL own ret d) {i : Nat} {z dl : Int} (hd : decode cc pc = .ok (.iinc i dl, 3)) (hv : lv[i]? = some (some (vI z))) (hp : pkAt lv i = true) (hn : i < lv.length) (kk : WG X (pc + 3) (lv.set i (some (vI (z + dl)))) stk w k n) : WG X pc lv stk w k n := by
  intro H locs ls c0 s0 hc hs hP hS hl
  obtain ⟨l, h1, h2⟩ := hl
  obtain ⟨j, hj⟩ := List.getElem?_of_mem (h2 i _ hv)
  exact lv_iinc C.hx C.hb hd h1 hj (by rw [← Int32.ofInt_add]) hn rfl (fun ls' h' => kk H locs ls' c0 s0 hc hs hP hS (LV.st h2 hp hn h'))
theorem wg_iload_0 (C : CxOk X cc nL own ret d) {r : List (Option Value)} {z : Int} (hd : decode cc pc = .ok (.iload_n 0, 1)) (kk : WG X (pc + 1) (some (vI z) :: r) ((vI z) :: stk) w k n) : WG X pc (some (vI z) :: r) stk w k n := wg_iload_n C hd rfl rfl kk
theorem wg_istore_0 (C : CxOk X cc nL own ret d) {o : Option Value} {r : List (Option Value)} {z : Int} (hd : decode cc pc = .ok (.istore_n 0, 1)) (kk : WG X (pc + 1) (some (vI z) :: r) stk w k n) : WG X pc (o :: r) ((vI z) :: stk) w k n := wg_istore_n C hd rfl rfl (by simp only [List.length_cons]; omega) kk
theorem wg_aload_0 (C : CxOk X cc nL own ret d) {r : List (Option Value)} {a : Nat} (hd : decode cc pc = .ok (.aload_n 0, 1)) (kk : WG X (pc + 1) (some (.ref a) :: r) ((.ref a) :: stk) w k n) : WG X pc (some (.ref a) :: r) stk w k n := wg_aload_n C hd rfl rfl kk
theorem wg_astore_0 (C : CxOk X cc nL own ret d) {o : Option Value} {r : List (Option Value)} {a : Nat} (hd : decode cc pc = .ok (.astore_n 0, 1)) (kk : WG X (pc + 1) (some (.ref a) :: r) stk w k n) : WG X pc (o :: r) ((.ref a) :: stk) w k n := wg_astore_n C hd rfl rfl (by simp only [List.length_cons]; omega) kk
theorem wg_aloadN_0 (C : CxOk X cc nL own ret d) {r : List (Option Value)} (hd : decode cc pc = .ok (.aload_n 0, 1)) (kk : WG X (pc + 1) (some .null :: r) (.null :: stk) w k n) : WG X pc (some .null :: r) stk w k n := wg_aload_nN C hd rfl rfl kk
theorem wg_astoreN_0 (C : CxOk X cc nL own ret d) {o : Option Value} {r : List (Option Value)} (hd : decode cc pc = .ok (.astore_n 0, 1)) (kk : WG X (pc + 1) (some .null :: r) stk w k n) : WG X pc (o :: r) (.null :: stk) w k n := wg_astore_nN C hd rfl rfl (by simp only [List.length_cons]; omega) kk
theorem wg_iinc_0 (C : CxOk X cc nL own ret d) {r : List (Option Value)} {z dl : Int} (hd : decode cc pc = .ok (.iinc 0 dl, 3)) (kk : WG X (pc + 3) (some (vI (z + dl)) :: r) stk w k n) : WG X pc (some (vI z) :: r) stk w k n := wg_iinc C hd rfl rfl (by simp only [List.length_cons]; omega) kk
theorem wg_iload_1 (C : CxOk X cc nL own ret d) {a0 : Option Value} {r : List (Option Value)} {z : Int} (hd : decode cc pc = .ok (.iload_n 1, 1)) (kk : WG X (pc + 1) (a0 :: some (vI z) :: r) ((vI z) :: stk) w k n) : WG X pc (a0 :: some (vI z) :: r) stk w k n := wg_iload_n C hd rfl rfl kk
theorem wg_istore_1 (C : CxOk X cc nL own ret d) {a0 : Option Value} {o : Option Value} {r : List (Option Value)} {z : Int} (hd : decode cc pc = .ok (.istore_n 1, 1)) (hp : pk1 a0 = true) (kk : WG X (pc + 1) (a0 :: some (vI z) :: r) stk w k n) : WG X pc (a0 :: o :: r) ((vI z) :: stk) w k n := wg_istore_n C hd rfl hp (by simp only [List.length_cons]; omega) kk
theorem wg_aload_1 (C : CxOk X cc nL own ret d) {a0 : Option Value} {r : List (Option Value)} {a : Nat} (hd : decode cc pc = .ok (.aload_n 1, 1)) (kk : WG X (pc + 1) (a0 :: some (.ref a) :: r) ((.ref a) :: stk) w k n) : WG X pc (a0 :: some (.ref a) :: r) stk w k n := wg_aload_n C hd rfl rfl kk
theorem wg_astore_1 (C : CxOk X cc nL own ret d) {a0 : Option Value} {o : Option Value} {r : List (Option Value)} {a : Nat} (hd : decode cc pc = .ok (.astore_n 1, 1)) (hp : pk1 a0 = true) (kk : WG X (pc + 1) (a0 :: some (.ref a) :: r) stk w k n) : WG X pc (a0 :: o :: r) ((.ref a) :: stk) w k n := wg_astore_n C hd rfl hp (by simp only [List.length_cons]; omega) kk
theorem wg_aloadN_1 (C : CxOk X cc nL own ret d) {a0 : Option Value} {r : List (Option Value)} (hd : decode cc pc = .ok (.aload_n 1, 1)) (kk : WG X (pc + 1) (a0 :: some .null :: r) (.null :: stk) w k n) : WG X pc (a0 :: some .null :: r) stk w k n := wg_aload_nN C hd rfl rfl kk
theorem wg_astoreN_1 (C : CxOk X cc nL own ret d) {a0 : Option Value} {o : Option Value} {r : List (Option Value)} (hd : decode cc pc = .ok (.astore_n 1, 1)) (hp : pk1 a0 = true) (kk : WG X (pc + 1) (a0 :: some .null :: r) stk w k n) : WG X pc (a0 :: o :: r) (.null :: stk) w k n := wg_astore_nN C hd rfl hp (by simp only [List.length_cons]; omega) kk
theorem wg_iinc_1 (C : CxOk X cc nL own ret d) {a0 : Option Value} {r : List (Option Value)} {z dl : Int} (hd : decode cc pc = .ok (.iinc 1 dl, 3)) (hp : pk1 a0 = true) (kk : WG X (pc + 3) (a0 :: some (vI (z + dl)) :: r) stk w k n) : WG X pc (a0 :: some (vI z) :: r) stk w k n := wg_iinc C hd rfl hp (by simp only [List.length_cons]; omega) kk
theorem wg_iload_2 (C : CxOk X cc nL own ret d) {a0 a1 : Option Value} {r : List (Option Value)} {z : Int} (hd : decode cc pc = .ok (.iload_n 2, 1)) (kk : WG X (pc + 1) (a0 :: a1 :: some (vI z) :: r) ((vI z) :: stk) w k n) : WG X pc (a0 :: a1 :: some (vI z) :: r) stk w k n := wg_iload_n C hd rfl rfl kk
theorem wg_istore_2 (C : CxOk X cc nL own ret d) {a0 a1 : Option Value} {o : Option Value} {r : List (Option Value)} {z : Int} (hd : decode cc pc = .ok (.istore_n 2, 1)) (hp : pk1 a1 = true) (kk : WG X (pc + 1) (a0 :: a1 :: some (vI z) :: r) stk w k n) : WG X pc (a0 :: a1 :: o :: r) ((vI z) :: stk) w k n := wg_istore_n C hd rfl hp (by simp only [List.length_cons]; omega) kk
theorem wg_aload_2 (C : CxOk X cc nL own ret d) {a0 a1 : Option Value} {r : List (Option Value)} {a : Nat} (hd : decode cc pc = .ok (.aload_n 2, 1)) (kk : WG X (pc + 1) (a0 :: a1 :: some (.ref a) :: r) ((.ref a) :: stk) w k n) : WG X pc (a0 :: a1 :: some (.ref a) :: r) stk w k n := wg_aload_n C hd rfl rfl kk
theorem wg_astore_2 (C : CxOk X cc nL own ret d) {a0 a1 : Option Value} {o : Option Value} {r : List (Option Value)} {a : Nat} (hd : decode cc pc = .ok (.astore_n 2, 1)) (hp : pk1 a1 = true) (kk : WG X (pc + 1) (a0 :: a1 :: some (.ref a) :: r) stk w k n) : WG X pc (a0 :: a1 :: o :: r) ((.ref a) :: stk) w k n := wg_astore_n C hd rfl hp (by simp only [List.length_cons]; omega) kk
theorem wg_aloadN_2 (C : CxOk X cc nL own ret d) {a0 a1 : Option Value} {r : List (Option Value)} (hd : decode cc pc = .ok (.aload_n 2, 1)) (kk : WG X (pc + 1) (a0 :: a1 :: some .null :: r) (.null :: stk) w k n) : WG X pc (a0 :: a1 :: some .null :: r) stk w k n := wg_aload_nN C hd rfl rfl kk
theorem wg_astoreN_2 (C : CxOk X cc nL own ret d) {a0 a1 : Option Value} {o : Option Value} {r : List (Option Value)} (hd : decode cc pc = .ok (.astore_n 2, 1)) (hp : pk1 a1 = true) (kk : WG X (pc + 1) (a0 :: a1 :: some .null :: r) stk w k n) : WG X pc (a0 :: a1 :: o :: r) (.null :: stk) w k n := wg_astore_nN C hd rfl hp (by simp only [List.length_cons]; omega) kk
theorem wg_iinc_2 (C : CxOk X cc nL own ret d) {a0 a1 : Option Value} {r : List (Option Value)} {z dl : Int} (hd : decode cc pc = .ok (.iinc 2 dl, 3)) (hp : pk1 a1 = true) (kk : WG X (pc + 3) (a0 :: a1 :: some (vI (z + dl)) :: r) stk w k n) : WG X pc (a0 :: a1 :: some (vI z) :: r) stk w k n := wg_iinc C hd rfl hp (by simp only [List.length_cons]; omega) kk
theorem wg_iload_3 (C : CxOk X cc nL own ret d) {a0 a1 a2 : Option Value} {r : List (Option Value)} {z : Int} (hd : decode cc pc = .ok (.iload_n 3, 1)) (kk : WG X (pc + 1) (a0 :: a1 :: a2 :: some (vI z) :: r) ((vI z) :: stk) w k n) : WG X pc (a0 :: a1 :: a2 :: some (vI z) :: r) stk w k n := wg_iload_n C hd rfl rfl kk
theorem wg_istore_3 (C : CxOk X cc nL own ret d) {a0 a1 a2 : Option Value} {o : Option Value} {r : List (Option Value)} {z : Int} (hd : decode cc pc = .ok (.istore_n 3, 1)) (hp : pk1 a2 = true) (kk : WG X (pc + 1) (a0 :: a1 :: a2 :: some (vI z) :: r) stk w k n) : WG X pc (a0 :: a1 :: a2 :: o :: r) ((vI z) :: stk) w k n := wg_istore_n C hd rfl hp (by simp only [List.length_cons]; omega) kk
theorem wg_aload_3 (C : CxOk X cc nL own ret d) {a0 a1 a2 : Option Value} {r : List (Option Value)} {a : Nat} (hd : decode cc pc = .ok (.aload_n 3, 1)) (kk : WG X (pc + 1) (a0 :: a1 :: a2 :: some (.ref a) :: r) ((.ref a) :: stk) w k n) : WG X pc (a0 :: a1 :: a2 :: some (.ref a) :: r) stk w k n := wg_aload_n C hd rfl rfl kk
theorem wg_astore_3 (C : CxOk X cc nL own ret d) {a0 a1 a2 : Option Value} {o : Option Value} {r : List (Option Value)} {a : Nat} (hd : decode cc pc = .ok (.astore_n 3, 1)) (hp : pk1 a2 = true) (kk : WG X (pc + 1) (a0 :: a1 :: a2 :: some (.ref a) :: r) stk w k n) : WG X pc (a0 :: a1 :: a2 :: o :: r) ((.ref a) :: stk) w k n := wg_astore_n C hd rfl hp (by simp only [List.length_cons]; omega) kk
theorem wg_aloadN_3 (C : CxOk X cc nL own ret d) {a0 a1 a2 : Option Value} {r : List (Option Value)} (hd : decode cc pc = .ok (.aload_n 3, 1)) (kk : WG X (pc + 1) (a0 :: a1 :: a2 :: some .null :: r) (.null :: stk) w k n) : WG X pc (a0 :: a1 :: a2 :: some .null :: r) stk w k n := wg_aload_nN C hd rfl rfl kk
theorem wg_astoreN_3 (C : CxOk X cc nL own ret d) {a0 a1 a2 : Option Value} {o : Option Value} {r : List (Option Value)} (hd : decode cc pc = .ok (.astore_n 3, 1)) (hp : pk1 a2 = true) (kk : WG X (pc + 1) (a0 :: a1 :: a2 :: some .null :: r) stk w k n) : WG X pc (a0 :: a1 :: a2 :: o :: r) (.null :: stk) w k n := wg_astore_nN C hd rfl hp (by simp only [List.length_cons]; omega) kk
theorem wg_iinc_3 (C : CxOk X cc nL own ret d) {a0 a1 a2 : Option Value} {r : List (Option Value)} {z dl : Int} (hd : decode cc pc = .ok (.iinc 3 dl, 3)) (hp : pk1 a2 = true) (kk : WG X (pc + 3) (a0 :: a1 :: a2 :: some (vI (z + dl)) :: r) stk w k n) : WG X pc (a0 :: a1 :: a2 :: some (vI z) :: r) stk w k n := wg_iinc C hd rfl hp (by simp only [List.length_cons]; omega) kk
theorem wg_iload_4 (C : CxOk X cc nL own ret d) {a0 a1 a2 a3 : Option Value} {r : List (Option Value)} {z : Int} (hd : decode cc pc = .ok (.iload 4, 2)) (kk : WG X (pc + 2) (a0 :: a1 :: a2 :: a3 :: some (vI z) :: r) ((vI z) :: stk) w k n) : WG X pc (a0 :: a1 :: a2 :: a3 :: some (vI z) :: r) stk w k n := wg_iload C hd rfl kk
theorem wg_istore_4 (C : CxOk X cc nL own ret d) {a0 a1 a2 a3 : Option Value} {o : Option Value} {r : List (Option Value)} {z : Int} (hd : decode cc pc = .ok (.istore 4, 2)) (hp : pk1 a3 = true) (kk : WG X (pc + 2) (a0 :: a1 :: a2 :: a3 :: some (vI z) :: r) stk w k n) : WG X pc (a0 :: a1 :: a2 :: a3 :: o :: r) ((vI z) :: stk) w k n := wg_istore C hd hp (by simp only [List.length_cons]; omega) kk
theorem wg_aload_4 (C : CxOk X cc nL own ret d) {a0 a1 a2 a3 : Option Value} {r : List (Option Value)} {a : Nat} (hd : decode cc pc = .ok (.aload 4, 2)) (kk : WG X (pc + 2) (a0 :: a1 :: a2 :: a3 :: some (.ref a) :: r) ((.ref a) :: stk) w k n) : WG X pc (a0 :: a1 :: a2 :: a3 :: some (.ref a) :: r) stk w k n := wg_aload C hd rfl kk
theorem wg_astore_4 (C : CxOk X cc nL own ret d) {a0 a1 a2 a3 : Option Value} {o : Option Value} {r : List (Option Value)} {a : Nat} (hd : decode cc pc = .ok (.astore 4, 2)) (hp : pk1 a3 = true) (kk : WG X (pc + 2) (a0 :: a1 :: a2 :: a3 :: some (.ref a) :: r) stk w k n) : WG X pc (a0 :: a1 :: a2 :: a3 :: o :: r) ((.ref a) :: stk) w k n := wg_astore C hd hp (by simp only [List.length_cons]; omega) kk
theorem wg_iinc_4 (C : CxOk X cc nL own ret d) {a0 a1 a2 a3 : Option Value} {r : List (Option Value)} {z dl : Int} (hd : decode cc pc = .ok (.iinc 4 dl, 3)) (hp : pk1 a3 = true) (kk : WG X (pc + 3) (a0 :: a1 :: a2 :: a3 :: some (vI (z + dl)) :: r) stk w k n) : WG X pc (a0 :: a1 :: a2 :: a3 :: some (vI z) :: r) stk w k n := wg_iinc C hd rfl hp (by simp only [List.length_cons]; omega) kk
theorem wg_iload_5 (C : CxOk X cc nL own ret d) {a0 a1 a2 a3 a4 : Option Value} {r : List (Option Value)} {z : Int} (hd : decode cc pc = .ok (.iload 5, 2)) (kk : WG X (pc + 2) (a0 :: a1 :: a2 :: a3 :: a4 :: some (vI z) :: r) ((vI z) :: stk) w k n) : WG X pc (a0 :: a1 :: a2 :: a3 :: a4 :: some (vI z) :: r) stk w k n := wg_iload C hd rfl kk
theorem wg_istore_5 (C : CxOk X cc nL own ret d) {a0 a1 a2 a3 a4 : Option Value} {o : Option Value} {r : List (Option Value)} {z : Int} (hd : decode cc pc = .ok (.istore 5, 2)) (hp : pk1 a4 = true) (kk : WG X (pc + 2) (a0 :: a1 :: a2 :: a3 :: a4 :: some (vI z) :: r) stk w k n) : WG X pc (a0 :: a1 :: a2 :: a3 :: a4 :: o :: r) ((vI z) :: stk) w k n := wg_istore C hd hp (by simp only [List.length_cons]; omega) kk
theorem wg_aload_5 (C : CxOk X cc nL own ret d) {a0 a1 a2 a3 a4 : Option Value} {r : List (Option Value)} {a : Nat} (hd : decode cc pc = .ok (.aload 5, 2)) (kk : WG X (pc + 2) (a0 :: a1 :: a2 :: a3 :: a4 :: some (.ref a) :: r) ((.ref a) :: stk) w k n) : WG X pc (a0 :: a1 :: a2 :: a3 :: a4 :: some (.ref a) :: r) stk w k n := wg_aload C hd rfl kk
theorem wg_astore_5 (C : CxOk X cc nL own ret d) {a0 a1 a2 a3 a4 : Option Value} {o : Option Value} {r : List (Option Value)} {a : Nat} (hd : decode cc pc = .ok (.astore 5, 2)) (hp : pk1 a4 = true) (kk : WG X (pc + 2) (a0 :: a1 :: a2 :: a3 :: a4 :: some (.ref a) :: r) stk w k n) : WG X pc (a0 :: a1 :: a2 :: a3 :: a4 :: o :: r) ((.ref a) :: stk) w k n := wg_astore C hd hp (by simp only [List.length_cons]; omega) kk
theorem wg_iinc_5 (C : CxOk X cc nL own ret d) {a0 a1 a2 a3 a4 : Option Value} {r : List (Option Value)} {z dl : Int} (hd : decode cc pc = .ok (.iinc 5 dl, 3)) (hp : pk1 a4 = true) (kk : WG X (pc + 3) (a0 :: a1 :: a2 :: a3 :: a4 :: some (vI (z + dl)) :: r) stk w k n) : WG X pc (a0 :: a1 :: a2 :: a3 :: a4 :: some (vI z) :: r) stk w k n := wg_iinc C hd rfl hp (by simp only [List.length_cons]; omega) kk
theorem wg_iload_6 (C : CxOk X cc nL own ret d) {a0 a1 a2 a3 a4 a5 : Option Value} {r : List (Option Value)} {z : Int} (hd : decode cc pc = .ok (.iload 6, 2)) (kk : WG X (pc + 2) (a0 :: a1 :: a2 :: a3 :: a4 :: a5 :: some (vI z) :: r) ((vI z) :: stk) w k n) : WG X pc (a0 :: a1 :: a2 :: a3 :: a4 :: a5 :: some (vI z) :: r) stk w k n := wg_iload C hd rfl kk
theorem wg_istore_6 (C : CxOk X cc nL own ret d) {a0 a1 a2 a3 a4 a5 : Option Value} {o : Option Value} {r : List (Option Value)} {z : Int} (hd : decode cc pc = .ok (.istore 6, 2)) (hp : pk1 a5 = true) (kk : WG X (pc + 2) (a0 :: a1 :: a2 :: a3 :: a4 :: a5 :: some (vI z) :: r) stk w k n) : WG X pc (a0 :: a1 :: a2 :: a3 :: a4 :: a5 :: o :: r) ((vI z) :: stk) w k n := wg_istore C hd hp (by simp only [List.length_cons]; omega) kk
theorem wg_aload_6 (C : CxOk X cc nL own ret d) {a0 a1 a2 a3 a4 a5 : Option Value} {r : List (Option Value)} {a : Nat} (hd : decode cc pc = .ok (.aload 6, 2)) (kk : WG X (pc + 2) (a0 :: a1 :: a2 :: a3 :: a4 :: a5 :: some (.ref a) :: r) ((.ref a) :: stk) w k n) : WG X pc (a0 :: a1 :: a2 :: a3 :: a4 :: a5 :: some (.ref a) :: r) stk w k n := wg_aload C hd rfl kk
theorem wg_astore_6 (C : CxOk X cc nL own ret d) {a0 a1 a2 a3 a4 a5 : Option Value} {o : Option Value} {r : List (Option Value)} {a : Nat} (hd : decode cc pc = .ok (.astore 6, 2)) (hp : pk1 a5 = true) (kk : WG X (pc + 2) (a0 :: a1 :: a2 :: a3 :: a4 :: a5 :: some (.ref a) :: r) stk w k n) : WG X pc (a0 :: a1 :: a2 :: a3 :: a4 :: a5 :: o :: r) ((.ref a) :: stk) w k n := wg_astore C hd hp (by simp only [List.length_cons]; omega) kk
theorem wg_iinc_6 (C : CxOk X cc nL own ret d) {a0 a1 a2 a3 a4 a5 : Option Value} {r : List (Option Value)} {z dl : Int} (hd : decode cc pc = .ok (.iinc 6 dl, 3)) (hp : pk1 a5 = true) (kk : WG X (pc + 3) (a0 :: a1 :: a2 :: a3 :: a4 :: a5 :: some (vI (z + dl)) :: r) stk w k n) : WG X pc (a0 :: a1 :: a2 :: a3 :: a4 :: a5 :: some (vI z) :: r) stk w k n := wg_iinc C hd rfl hp (by simp only [List.length_cons]; omega) kk
theorem wg_iload_7 (C : CxOk X cc nL own ret d) {a0 a1 a2 a3 a4 a5 a6 : Option Value} {r : List (Option Value)} {z : Int} (hd : decode cc pc = .ok (.iload 7, 2)) (kk : WG X (pc + 2) (a0 :: a1 :: a2 :: a3 :: a4 :: a5 :: a6 :: some (vI z) :: r) ((vI z) :: stk) w k n) : WG X pc (a0 :: a1 :: a2 :: a3 :: a4 :: a5 :: a6 :: some (vI z) :: r) stk w k n := wg_iload C hd rfl kk
theorem wg_istore_7 (C : CxOk X cc nL own ret d) {a0 a1 a2 a3 a4 a5 a6 : Option Value} {o : Option Value} {r : List (Option Value)} {z : Int} (hd : decode cc pc = .ok (.istore 7, 2)) (hp : pk1 a6 = true) (kk : WG X (pc + 2) (a0 :: a1 :: a2 :: a3 :: a4 :: a5 :: a6 :: some (vI z) :: r) stk w k n) : WG X pc (a0 :: a1 :: a2 :: a3 :: a4 :: a5 :: a6 :: o :: r) ((vI z) :: stk) w k n := wg_istore C hd hp (by simp only [List.length_cons]; omega) kk
theorem wg_aload_7 (C : CxOk X cc nL own ret d) {a0 a1 a2 a3 a4 a5 a6 : Option Value} {r : List (Option Value)} {a : Nat} (hd : decode cc pc = .ok (.aload 7, 2)) (kk : WG X (pc + 2) (a0 :: a1 :: a2 :: a3 :: a4 :: a5 :: a6 :: some (.ref a) :: r) ((.ref a) :: stk) w k n) : WG X pc (a0 :: a1 :: a2 :: a3 :: a4 :: a5 :: a6 :: some (.ref a) :: r) stk w k n := wg_aload C hd rfl kk
theorem wg_astore_7 (C : CxOk X cc nL own ret d) {a0 a1 a2 a3 a4 a5 a6 : Option Value} {o : Option Value} {r : List (Option Value)} {a : Nat} (hd : decode cc pc = .ok (.astore 7, 2)) (hp : pk1 a6 = true) (kk : WG X (pc + 2) (a0 :: a1 :: a2 :: a3 :: a4 :: a5 :: a6 :: some (.ref a) :: r) stk w k n) : WG X pc (a0 :: a1 :: a2 :: a3 :: a4 :: a5 :: a6 :: o :: r) ((.ref a) :: stk) w k n := wg_astore C hd hp (by simp only [List.length_cons]; omega) kk
theorem wg_iinc_7 (C : CxOk X cc nL own ret d) {a0 a1 a2 a3 a4 a5 a6 : Option Value} {r : List (Option Value)} {z dl : Int} (hd : decode cc pc = .ok (.iinc 7 dl, 3)) (hp : pk1 a6 = true) (kk : WG X (pc + 3) (a0 :: a1 :: a2 :: a3 :: a4 :: a5 :: a6 :: some (vI (z + dl)) :: r) stk w k n) : WG X pc (a0 :: a1 :: a2 :: a3 :: a4 :: a5 :: a6 :: some (vI z) :: r) stk w k n := wg_iinc C hd rfl hp (by simp only [List.length_cons]; omega) kk
theorem wg_iload_8 (C : CxOk X cc nL own ret d) {a0 a1 a2 a3 a4 a5 a6 a7 : Option Value} {r : List (Option Value)} {z : Int} (hd : decode cc pc = .ok (.iload 8, 2)) (kk : WG X (pc + 2) (a0 :: a1 :: a2 :: a3 :: a4 :: a5 :: a6 :: a7 :: some (vI z) :: r) ((vI z) :: stk) w k n) : WG X pc (a0 :: a1 :: a2 :: a3 :: a4 :: a5 :: a6 :: a7 :: some (vI z) :: r) stk w k n := wg_iload C hd rfl kk
theorem wg_istore_8 (C : CxOk X cc nL own ret d) {a0 a1 a2 a3 a4 a5 a6 a7 : Option Value} {o : Option Value} {r : List (Option Value)} {z : Int} (hd : decode cc pc = .ok (.istore 8, 2)) (hp : pk1 a7 = true) (kk : WG X (pc + 2) (a0 :: a1 :: a2 :: a3 :: a4 :: a5 :: a6 :: a7 :: some (vI z) :: r) stk w k n) : WG X pc (a0 :: a1 :: a2 :: a3 :: a4 :: a5 :: a6 :: a7 :: o :: r) ((vI z) :: stk) w k n := wg_istore C hd hp (by simp only [List.length_cons]; omega) kk
theorem wg_aload_8 (C : CxOk X cc nL own ret d) {a0 a1 a2 a3 a4 a5 a6 a7 : Option Value} {r : List (Option Value)} {a : Nat} (hd : decode cc pc = .ok (.aload 8, 2)) (kk : WG X (pc + 2) (a0 :: a1 :: a2 :: a3 :: a4 :: a5 :: a6 :: a7 :: some (.ref a) :: r) ((.ref a) :: stk) w k n) : WG X pc (a0 :: a1 :: a2 :: a3 :: a4 :: a5 :: a6 :: a7 :: some (.ref a) :: r) stk w k n := wg_aload C hd rfl kk
theorem wg_astore_8 (C : CxOk X cc nL own ret d) {a0 a1 a2 a3 a4 a5 a6 a7 : Option Value} {o : Option Value} {r : List (Option Value)} {a : Nat} (hd : decode cc pc = .ok (.astore 8, 2)) (hp : pk1 a7 = true) (kk : WG X (pc + 2) (a0 :: a1 :: a2 :: a3 :: a4 :: a5 :: a6 :: a7 :: some (.ref a) :: r) stk w k n) : WG X pc (a0 :: a1 :: a2 :: a3 :: a4 :: a5 :: a6 :: a7 :: o :: r) ((.ref a) :: stk) w k n := wg_astore C hd hp (by simp only [List.length_cons]; omega) kk
theorem wg_iinc_8 (C : CxOk X cc nL own ret d) {a0 a1 a2 a3 a4 a5 a6 a7 : Option Value} {r : List (Option Value)} {z dl : Int} (hd : decode cc pc = .ok (.iinc 8 dl, 3)) (hp : pk1 a7 = true) (kk : WG X (pc + 3) (a0 :: a1 :: a2 :: a3 :: a4 :: a5 :: a6 :: a7 :: some (vI (z + dl)) :: r) stk w k n) : WG X pc (a0 :: a1 :: a2 :: a3 :: a4 :: a5 :: a6 :: a7 :: some (vI z) :: r) stk w k n := wg_iinc C hd rfl hp (by simp only [List.length_cons]; omega) kk
theorem wg_iload_9 (C : CxOk X cc nL own ret d) {a0 a1 a2 a3 a4 a5 a6 a7 a8 : Option Value} {r : List (Option Value)} {z : Int} (hd : decode cc pc = .ok (.iload 9, 2)) (kk : WG X (pc + 2) (a0 :: a1 :: a2 :: a3 :: a4 :: a5 :: a6 :: a7 :: a8 :: some (vI z) :: r) ((vI z) :: stk) w k n) : WG X pc (a0 :: a1 :: a2 :: a3 :: a4 :: a5 :: a6 :: a7 :: a8 :: some (vI z) :: r) stk w k n := wg_iload C hd rfl kk
theorem wg_istore_9 (C : CxOk X cc nL own ret d) {a0 a1 a2 a3 a4 a5 a6 a7 a8 : Option Value} {o : Option Value} {r : List (Option Value)} {z : Int} (hd : decode cc pc = .ok (.istore 9, 2)) (hp : pk1 a8 = true) (kk : WG X (pc + 2) (a0 :: a1 :: a2 :: a3 :: a4 :: a5 :: a6 :: a7 :: a8 :: some (vI z) :: r) stk w k n) : WG X pc (a0 :: a1 :: a2 :: a3 :: a4 :: a5 :: a6 :: a7 :: a8 :: o :: r) ((vI z) :: stk) w k n := wg_istore C hd hp (by simp only [List.length_cons]; omega) kk
theorem wg_aload_9 (C : CxOk X cc nL own ret d) {a0 a1 a2 a3 a4 a5 a6 a7 a8 : Option Value} {r : List (Option Value)} {a : Nat} (hd : decode cc pc = .ok (.aload 9, 2)) (kk : WG X (pc + 2) (a0 :: a1 :: a2 :: a3 :: a4 :: a5 :: a6 :: a7 :: a8 :: some (.ref a) :: r) ((.ref a) :: stk) w k n) : WG X pc (a0 :: a1 :: a2 :: a3 :: a4 :: a5 :: a6 :: a7 :: a8 :: some (.ref a) :: r) stk w k n := wg_aload C hd rfl kk
theorem wg_astore_9 (C : CxOk X cc nL own ret d) {a0 a1 a2 a3 a4 a5 a6 a7 a8 : Option Value} {o : Option Value} {r : List (Option Value)} {a : Nat} (hd : decode cc pc = .ok (.astore 9, 2)) (hp : pk1 a8 = true) (kk : WG X (pc + 2) (a0 :: a1 :: a2 :: a3 :: a4 :: a5 :: a6 :: a7 :: a8 :: some (.ref a) :: r) stk w k n) : WG X pc (a0 :: a1 :: a2 :: a3 :: a4 :: a5 :: a6 :: a7 :: a8 :: o :: r) ((.ref a) :: stk) w k n := wg_astore C hd hp (by simp only [List.length_cons]; omega) kk
theorem wg_iinc_9 (C : CxOk X cc nL own ret d) {a0 a1 a2 a3 a4 a5 a6 a7 a8 : Option Value} {r : List (Option Value)} {z dl : Int} (hd : decode cc pc = .ok (.iinc 9 dl, 3)) (hp : pk1 a8 = true) (kk : WG X (pc + 3) (a0 :: a1 :: a2 :: a3 :: a4 :: a5 :: a6 :: a7 :: a8 :: some (vI (z + dl)) :: r) stk w k n) : WG X pc (a0 :: a1 :: a2 :: a3 :: a4 :: a5 :: a6 :: a7 :: a8 :: some (vI z) :: r) stk w k n := wg_iinc C hd rfl hp (by simp only [List.length_cons]; omega) kk
end WGR
