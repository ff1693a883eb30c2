/-! the class: means, shares -/
set_option maxRecDepth 100000
set_option maxHeartbeats 4000000
def mlS (σ : St) (k : Int) : Int := if 0 < levelsOf σ k then load σ k 0 1 else 0
def mlC (σ : St) (k : Int) : Int := if 0 < levelsOf σ k then 1 else 0
def mlV (σ : St) : UInt64 := if sm (mlC σ) 0 (pos σ) = 0 then FP.dconst0 else FP.ddiv (FP.i2d (Int32.ofInt (sm (mlS σ) 0 (pos σ)))) (FP.i2d (Int32.ofInt (sm (mlC σ) 0 (pos σ))))
def bsV (σ : St) : UInt32 := if ofB σ 3 = 0 then FP.fconst0 else FP.fdiv (FP.i2f (Int32.ofInt (ofB σ 4))) (FP.i2f (Int32.ofInt (ofB σ 3)))
theorem n64_iff (x : UInt64) : vf_n64 x ↔ x.toNat % 9223372036854775808 ≤ 9218868437227405312 := by
  unfold vf_n64
  rw [UInt64.le_iff_toNat_le, UInt64.toNat_and]
  have h1 : (0x7fffffffffffffff : UInt64).toNat = 2 ^ 63 - 1 := by decide
  have h2 : (0x7ff0000000000000 : UInt64).toNat = 9218868437227405312 := by decide
  rw [h1, h2, Nat.and_two_pow_sub_one_eq_mod]
theorem n32_iff (x : UInt32) : vf_n32 x ↔ x.toNat % 2147483648 ≤ 2139095040 := by
  unfold vf_n32
  rw [UInt32.le_iff_toNat_le, UInt32.toNat_and]
  have h1 : (0x7fffffff : UInt32).toNat = 2 ^ 31 - 1 := by decide
  have h2 : (0x7f800000 : UInt32).toNat = 2139095040 := by decide
  rw [h1, h2, Nat.and_two_pow_sub_one_eq_mod]
theorem b64_T : FP.Core.Fmt.tails FP.Core.b64 = 4503599627370496 := by decide
theorem b64_E : FP.Core.Fmt.exps FP.Core.b64 = 2048 := by decide
theorem b64_q : FP.Core.Fmt.qmin FP.Core.b64 = -1074 := by decide
theorem b64_Q : FP.Core.Fmt.qmax FP.Core.b64 = 971 := by decide
theorem b64_p : 2 ^ (FP.Core.b64).p = 9007199254740992 := by decide
def gd_b64 : FP.Core.Datum → Prop
  | .nan => False
  | .inf _ => True
  | .fin _ c q => c < 9007199254740992 ∧ q ≤ 971
theorem gd_b64_settle (s : Bool) (c : Nat) (q : Int) : gd_b64 (FP.Core.settle FP.Core.b64 s c q) := by
  unfold FP.Core.settle FP.Core.bound
  rw [b64_p, b64_Q, b64_T]
  by_cases h1 : c < 9007199254740992
  · rw [if_pos h1]
    by_cases h2 : q ≤ 971
    · rw [if_pos h2]; exact ⟨h1, h2⟩
    · rw [if_neg h2]; trivial
  · rw [if_neg h1]
    by_cases h2 : q + 1 ≤ 971
    · rw [if_pos h2]; exact ⟨by decide, h2⟩
    · rw [if_neg h2]; trivial
theorem gd_b64_ratio (s : Bool) (c d : Nat) (e : Int) : gd_b64 (FP.Core.roundRatio FP.Core.b64 s c d e) := by
  unfold FP.Core.roundRatio
  by_cases h : c = 0
  · rw [if_pos h, b64_q]; exact ⟨by decide, by decide⟩
  · rw [if_neg h]; exact gd_b64_settle _ _ _
theorem gd_b64_round {d : FP.Core.Datum} (h : d ≠ .nan) : gd_b64 (FP.Core.round FP.Core.b64 d) := by
  cases d with
  | nan => exact absurd rfl h
  | inf s => trivial
  | fin s c q => exact gd_b64_ratio _ _ _ _
theorem gd_b64_enc {d : FP.Core.Datum} (h : gd_b64 d) : FP.Core.encode FP.Core.b64 d < 18446744073709551616 ∧ FP.Core.encode FP.Core.b64 d % 9223372036854775808 ≤ 9218868437227405312 := by
  cases d with
  | nan => exact h.elim
  | inf s =>
    show (s.toNat * FP.Core.Fmt.exps FP.Core.b64 + (FP.Core.Fmt.exps FP.Core.b64 - 1)) * FP.Core.Fmt.tails FP.Core.b64 + 0 < 18446744073709551616 ∧ ((s.toNat * FP.Core.Fmt.exps FP.Core.b64 + (FP.Core.Fmt.exps FP.Core.b64 - 1)) * FP.Core.Fmt.tails FP.Core.b64 + 0) % 9223372036854775808 ≤ 9218868437227405312
    rw [b64_E, b64_T]
    have hs : s.toNat = 0 ∨ s.toNat = 1 := by cases s <;> simp
    omega
  | fin s c q =>
    obtain ⟨h1, h2⟩ := h
    have hs : s.toNat = 0 ∨ s.toNat = 1 := by cases s <;> simp
    show (if c < FP.Core.Fmt.tails FP.Core.b64 then (s.toNat * FP.Core.Fmt.exps FP.Core.b64 + 0) * FP.Core.Fmt.tails FP.Core.b64 + c else (s.toNat * FP.Core.Fmt.exps FP.Core.b64 + ((q - FP.Core.Fmt.qmin FP.Core.b64).toNat + 1)) * FP.Core.Fmt.tails FP.Core.b64 + (c - FP.Core.Fmt.tails FP.Core.b64)) < 18446744073709551616 ∧ (if c < FP.Core.Fmt.tails FP.Core.b64 then (s.toNat * FP.Core.Fmt.exps FP.Core.b64 + 0) * FP.Core.Fmt.tails FP.Core.b64 + c else (s.toNat * FP.Core.Fmt.exps FP.Core.b64 + ((q - FP.Core.Fmt.qmin FP.Core.b64).toNat + 1)) * FP.Core.Fmt.tails FP.Core.b64 + (c - FP.Core.Fmt.tails FP.Core.b64)) % 9223372036854775808 ≤ 9218868437227405312
    rw [b64_E, b64_T, b64_q]
    by_cases hc : c < 4503599627370496
    · rw [if_pos hc]; omega
    · rw [if_neg hc]; omega
theorem nn_b64 {n : Nat} (h : n % 9223372036854775808 ≤ 9218868437227405312) : FP.Core.decode FP.Core.b64 n ≠ .nan := by
  unfold FP.Core.decode FP.Core.fieldE FP.Core.fieldT
  rw [b64_E, b64_T]
  by_cases h1 : n / 4503599627370496 % 2048 = 2048 - 1
  · rw [if_pos h1]
    by_cases h2 : n % 4503599627370496 = 0
    · rw [if_pos h2]; intro z; cases z
    · exfalso; omega
  · rw [if_neg h1]
    by_cases h2 : n / 4503599627370496 % 2048 = 0
    · rw [if_pos h2]; intro z; cases z
    · rw [if_neg h2]; intro z; cases z
theorem gd_b64_quot {x : FP.Core.Datum} {s : Bool} {d : Nat} {r : Int} (hx : x ≠ .nan) (hd : d ≠ 0) : gd_b64 (FP.Core.quotient FP.Core.b64 x (.fin s d r)) := by
  cases x with
  | nan => exact absurd rfl hx
  | inf s => trivial
  | fin t c q =>
    show gd_b64 (if d = 0 then (if c = 0 then .nan else .inf (t != s)) else FP.Core.roundRatio FP.Core.b64 (t != s) c d (q - r))
    rw [if_neg hd]
    exact gd_b64_ratio _ _ _ _
theorem ofNat_b64 {d : FP.Core.Datum} (h : gd_b64 d) : (UInt64.ofNat (FP.Core.encode FP.Core.b64 d)).toNat = FP.Core.encode FP.Core.b64 d := by
  rw [UInt64.toNat_ofNat_of_lt' (gd_b64_enc h).1]

theorem b32_T : FP.Core.Fmt.tails FP.Core.b32 = 8388608 := by decide
theorem b32_E : FP.Core.Fmt.exps FP.Core.b32 = 256 := by decide
theorem b32_q : FP.Core.Fmt.qmin FP.Core.b32 = -149 := by decide
theorem b32_Q : FP.Core.Fmt.qmax FP.Core.b32 = 104 := by decide
theorem b32_p : 2 ^ (FP.Core.b32).p = 16777216 := by decide
def gd_b32 : FP.Core.Datum → Prop
  | .nan => False
  | .inf _ => True
  | .fin _ c q => c < 16777216 ∧ q ≤ 104
theorem gd_b32_settle (s : Bool) (c : Nat) (q : Int) : gd_b32 (FP.Core.settle FP.Core.b32 s c q) := by
  unfold FP.Core.settle FP.Core.bound
  rw [b32_p, b32_Q, b32_T]
  by_cases h1 : c < 16777216
  · rw [if_pos h1]
    by_cases h2 : q ≤ 104
    · rw [if_pos h2]; exact ⟨h1, h2⟩
    · rw [if_neg h2]; trivial
  · rw [if_neg h1]
    by_cases h2 : q + 1 ≤ 104
    · rw [if_pos h2]; exact ⟨by decide, h2⟩
    · rw [if_neg h2]; trivial
theorem gd_b32_ratio (s : Bool) (c d : Nat) (e : Int) : gd_b32 (FP.Core.roundRatio FP.Core.b32 s c d e) := by
  unfold FP.Core.roundRatio
  by_cases h : c = 0
  · rw [if_pos h, b32_q]; exact ⟨by decide, by decide⟩
  · rw [if_neg h]; exact gd_b32_settle _ _ _
theorem gd_b32_round {d : FP.Core.Datum} (h : d ≠ .nan) : gd_b32 (FP.Core.round FP.Core.b32 d) := by
  cases d with
  | nan => exact absurd rfl h
  | inf s => trivial
  | fin s c q => exact gd_b32_ratio _ _ _ _
theorem gd_b32_enc {d : FP.Core.Datum} (h : gd_b32 d) : FP.Core.encode FP.Core.b32 d < 4294967296 ∧ FP.Core.encode FP.Core.b32 d % 2147483648 ≤ 2139095040 := by
  cases d with
  | nan => exact h.elim
  | inf s =>
    show (s.toNat * FP.Core.Fmt.exps FP.Core.b32 + (FP.Core.Fmt.exps FP.Core.b32 - 1)) * FP.Core.Fmt.tails FP.Core.b32 + 0 < 4294967296 ∧ ((s.toNat * FP.Core.Fmt.exps FP.Core.b32 + (FP.Core.Fmt.exps FP.Core.b32 - 1)) * FP.Core.Fmt.tails FP.Core.b32 + 0) % 2147483648 ≤ 2139095040
    rw [b32_E, b32_T]
    have hs : s.toNat = 0 ∨ s.toNat = 1 := by cases s <;> simp
    omega
  | fin s c q =>
    obtain ⟨h1, h2⟩ := h
    have hs : s.toNat = 0 ∨ s.toNat = 1 := by cases s <;> simp
    show (if c < FP.Core.Fmt.tails FP.Core.b32 then (s.toNat * FP.Core.Fmt.exps FP.Core.b32 + 0) * FP.Core.Fmt.tails FP.Core.b32 + c else (s.toNat * FP.Core.Fmt.exps FP.Core.b32 + ((q - FP.Core.Fmt.qmin FP.Core.b32).toNat + 1)) * FP.Core.Fmt.tails FP.Core.b32 + (c - FP.Core.Fmt.tails FP.Core.b32)) < 4294967296 ∧ (if c < FP.Core.Fmt.tails FP.Core.b32 then (s.toNat * FP.Core.Fmt.exps FP.Core.b32 + 0) * FP.Core.Fmt.tails FP.Core.b32 + c else (s.toNat * FP.Core.Fmt.exps FP.Core.b32 + ((q - FP.Core.Fmt.qmin FP.Core.b32).toNat + 1)) * FP.Core.Fmt.tails FP.Core.b32 + (c - FP.Core.Fmt.tails FP.Core.b32)) % 2147483648 ≤ 2139095040
    rw [b32_E, b32_T, b32_q]
    by_cases hc : c < 8388608
    · rw [if_pos hc]; omega
    · rw [if_neg hc]; omega
theorem nn_b32 {n : Nat} (h : n % 2147483648 ≤ 2139095040) : FP.Core.decode FP.Core.b32 n ≠ .nan := by
  unfold FP.Core.decode FP.Core.fieldE FP.Core.fieldT
  rw [b32_E, b32_T]
  by_cases h1 : n / 8388608 % 256 = 256 - 1
  · rw [if_pos h1]
    by_cases h2 : n % 8388608 = 0
    · rw [if_pos h2]; intro z; cases z
    · exfalso; omega
  · rw [if_neg h1]
    by_cases h2 : n / 8388608 % 256 = 0
    · rw [if_pos h2]; intro z; cases z
    · rw [if_neg h2]; intro z; cases z
theorem gd_b32_quot {x : FP.Core.Datum} {s : Bool} {d : Nat} {r : Int} (hx : x ≠ .nan) (hd : d ≠ 0) : gd_b32 (FP.Core.quotient FP.Core.b32 x (.fin s d r)) := by
  cases x with
  | nan => exact absurd rfl hx
  | inf s => trivial
  | fin t c q =>
    show gd_b32 (if d = 0 then (if c = 0 then .nan else .inf (t != s)) else FP.Core.roundRatio FP.Core.b32 (t != s) c d (q - r))
    rw [if_neg hd]
    exact gd_b32_ratio _ _ _ _
theorem ofNat_b32 {d : FP.Core.Datum} (h : gd_b32 d) : (UInt32.ofNat (FP.Core.encode FP.Core.b32 d)).toNat = FP.Core.encode FP.Core.b32 d := by
  rw [UInt32.toNat_ofNat_of_lt' (gd_b32_enc h).1]
/-- the greater zero: ints of a small range have no zero for their datum -/
def nz64 (n : Nat) : Bool := match FP.Core.decode FP.Core.b64 (FP.i2d (Int32.ofInt ((n : Int) + 1))).toNat with
  | .fin _ c _ => c != 0
  | _ => false
def nz32 (n : Nat) : Bool := match FP.Core.decode FP.Core.b32 (FP.i2f (Int32.ofInt ((n : Int) + 1))).toNat with
  | .fin _ c _ => c != 0
  | _ => false
theorem nz64_all : ∀ n, n < 25 → nz64 n = true := by decide +kernel
theorem nz32_all : ∀ n, n < 192 → nz32 n = true := by decide +kernel
theorem nz64_at {m : Int} (h0 : 1 ≤ m) (h1 : m ≤ 25) : ∃ s c q, FP.Core.decode FP.Core.b64 (FP.i2d (Int32.ofInt m)).toNat = .fin s c q ∧ c ≠ 0 := by
  have h := nz64_all (m - 1).toNat (by omega)
  unfold nz64 at h
  rw [show (((m - 1).toNat : Nat) : Int) + 1 = m by omega] at h
  split at h
  · rename_i s c q e
    exact ⟨s, c, q, e, by simpa using h⟩
  · cases h
theorem nz32_at {m : Int} (h0 : 1 ≤ m) (h1 : m ≤ 192) : ∃ s c q, FP.Core.decode FP.Core.b32 (FP.i2f (Int32.ofInt m)).toNat = .fin s c q ∧ c ≠ 0 := by
  have h := nz32_all (m - 1).toNat (by omega)
  unfold nz32 at h
  rw [show (((m - 1).toNat : Nat) : Int) + 1 = m by omega] at h
  split at h
  · rename_i s c q e
    exact ⟨s, c, q, e, by simpa using h⟩
  · cases h
theorem ml_num {s m : Int} (h0 : 1 ≤ m) (h1 : m ≤ 25) : vf_n64 (FP.ddiv (FP.i2d (Int32.ofInt s)) (FP.i2d (Int32.ofInt m))) := by
  obtain ⟨t, c, q, e, hc⟩ := nz64_at h0 h1
  have g : gd_b64 (FP.Core.round FP.Core.b64 (FP.Core.ofInt (Int32.ofInt s).toInt)) := gd_b64_round (fun z => by cases z)
  have gx : FP.Core.decode FP.Core.b64 (FP.i2d (Int32.ofInt s)).toNat ≠ .nan := nn_b64 (by
    show (UInt64.ofNat (FP.Core.encode FP.Core.b64 (FP.Core.round FP.Core.b64 (FP.Core.ofInt (Int32.ofInt s).toInt)))).toNat % _ ≤ _
    rw [ofNat_b64 g]
    exact (gd_b64_enc g).2)
  have gq : gd_b64 (FP.Core.quotient FP.Core.b64 (FP.Core.decode FP.Core.b64 (FP.i2d (Int32.ofInt s)).toNat) (FP.Core.decode FP.Core.b64 (FP.i2d (Int32.ofInt m)).toNat)) := by
    rw [e]
    exact gd_b64_quot gx hc
  rw [n64_iff]
  show (UInt64.ofNat (FP.Core.encode FP.Core.b64 (FP.Core.quotient FP.Core.b64 (FP.Core.decode FP.Core.b64 (FP.i2d (Int32.ofInt s)).toNat) (FP.Core.decode FP.Core.b64 (FP.i2d (Int32.ofInt m)).toNat)))).toNat % _ ≤ _
  rw [ofNat_b64 gq]
  exact (gd_b64_enc gq).2
theorem bs_num {s m : Int} (h0 : 1 ≤ m) (h1 : m ≤ 192) : vf_n32 (FP.fdiv (FP.i2f (Int32.ofInt s)) (FP.i2f (Int32.ofInt m))) := by
  obtain ⟨t, c, q, e, hc⟩ := nz32_at h0 h1
  have g : gd_b32 (FP.Core.round FP.Core.b32 (FP.Core.ofInt (Int32.ofInt s).toInt)) := gd_b32_round (fun z => by cases z)
  have gx : FP.Core.decode FP.Core.b32 (FP.i2f (Int32.ofInt s)).toNat ≠ .nan := nn_b32 (by
    show (UInt32.ofNat (FP.Core.encode FP.Core.b32 (FP.Core.round FP.Core.b32 (FP.Core.ofInt (Int32.ofInt s).toInt)))).toNat % _ ≤ _
    rw [ofNat_b32 g]
    exact (gd_b32_enc g).2)
  have gq : gd_b32 (FP.Core.quotient FP.Core.b32 (FP.Core.decode FP.Core.b32 (FP.i2f (Int32.ofInt s)).toNat) (FP.Core.decode FP.Core.b32 (FP.i2f (Int32.ofInt m)).toNat)) := by
    rw [e]
    exact gd_b32_quot gx hc
  rw [n32_iff]
  show (UInt32.ofNat (FP.Core.encode FP.Core.b32 (FP.Core.quotient FP.Core.b32 (FP.Core.decode FP.Core.b32 (FP.i2f (Int32.ofInt s)).toNat) (FP.Core.decode FP.Core.b32 (FP.i2f (Int32.ofInt m)).toNat)))).toNat % _ ≤ _
  rw [ofNat_b32 gq]
  exact (gd_b32_enc gq).2
theorem f2d_num {x : UInt32} (h : vf_n32 x) : vf_n64 (FP.f2d x) := by
  have hx : FP.Core.decode FP.Core.b32 x.toNat ≠ .nan := nn_b32 ((n32_iff x).mp h)
  have e : FP.f2d x = UInt64.ofNat (FP.Core.encode FP.Core.b64 (FP.Core.round FP.Core.b64 (FP.Core.decode FP.Core.b32 x.toNat))) := by
    unfold FP.f2d
    rw [if_neg (by
      show ¬ decide (FP.Core.decode FP.Core.b32 x.toNat = .nan) = true
      simpa using hx)]
    rfl
  have g := gd_b64_round hx
  rw [n64_iff, e, ofNat_b64 g]
  exact (gd_b64_enc g).2
theorem n32_0 : vf_n32 FP.fconst0 := by rw [n32_iff]; decide
theorem bdN_le {σ : St} (h : Ok σ) (b : Int) : bdN σ b ≤ lft σ b := by
  have h1 := h.lf b
  unfold bdN
  exact Int.le_trans (sm_le (m := 1) (by omega) (fun k _ _ => by split <;> omega)) (by omega)
theorem ofB3_rng {σ : St} (h : Ok σ) : 0 ≤ ofB σ 3 ∧ ofB σ 3 ≤ 192 := by
  have hB := h.hB
  have e : ∀ k, cntB σ 3 k = lft σ k := fun k => by unfold cntB; rw [if_pos rfl, if_neg (by decide)]; omega
  unfold ofB
  refine ⟨sm_nonneg (fun k _ _ => by rw [e]; exact (h.lf k).1), Int.le_trans (sm_le (m := 8) (by omega) (fun k _ _ => by rw [e]; exact (h.lf k).2)) (by omega)⟩
theorem bs_n32 {σ : St} (h : Ok σ) : vf_n32 (bsV σ) := by
  have h3 := ofB3_rng h
  unfold bsV
  by_cases hz : ofB σ 3 = 0
  · rw [if_pos hz]; exact n32_0
  · rw [if_neg hz]; exact bs_num (by omega) h3.2

theorem tX1_meanLoad {G : Gm} {w : Wo} {σ ζ : St} (hX : HasX G w σ ζ) (hO : Ok σ) : Ct G mX1_meanLoad 7 0 0 w [.ref (w.1 (0, 0))] (fun v w1 => v = some (.double (mlV σ)) ∧ w1 = w) := by
  refine ct_of [some (.ref (w.1 (0, 0))), none, none, none] plX1 rfl (Nat.le_of_ble_eq_true rfl) rfl ?_
  intro X hG C hnm hQ
  subst hG
  change CxOk X cX1_meanLoad 4 RX1 (some .double) 7 at C
  have hB := hO.hB
  have hF := hO.hF
  have hps := pos_rng hO
  have L6 : ∀ (N : Nat) (k s m : Int), (pos σ - k).toNat = N → 0 ≤ k → k ≤ pos σ → (0 ≤ m ∧ m ≤ k) → (0 ≤ s ∧ s ≤ 5760 * k) → s = sm (mlS σ) 0 k → m = sm (mlC σ) 0 k → WG X 6 [some (.ref (w.1 (0, 0))), some (vI s), some (vI m), some (vI k)] [] w 0 0 := by
    intro N
    induction N using Nat.strongRecOn with | _ N IH => ?_
    intro k s m hN hk0 hk1 hmr hsr hs hm
    refine wg_iload_3 (pc := 6) C dX1_meanLoad_6 ?_
    refine wg_aload_0 (pc := 7) C dX1_meanLoad_7 ?_
    refine wg_callVP (pc := 8) C kX1_positions q462 (tX1_positions hX hO) (rc_of C hX.obj rfl) dX1_meanLoad_8 rfl rfl (Nat.le_of_ble_eq_true rfl) rfl (by decide) (fun f8 => ?_)
    refine wg_icmp_ge (tgt := 45) (pc := 11) C dX1_meanLoad_11 (by decide) (by unfold InR; omega) (by unfold InR; omega) (fun h11 => ?_) (fun h11 => ?_)
    · have e : k = pos σ := by omega
      subst e
      refine wg_iload_2 (pc := 45) C dX1_meanLoad_45 ?_
      refine wg_if_ne (tgt := 53) (pc := 46) C dX1_meanLoad_46 (by decide) (by unfold InR; omega) (fun h46 => ?_) (fun h46 => ?_)
      · refine wg_iload_1 (pc := 53) C dX1_meanLoad_53 ?_
        refine wg_i2d (pc := 54) C dX1_meanLoad_54 ?_
        refine wg_iload_2 (pc := 55) C dX1_meanLoad_55 ?_
        refine wg_i2d (pc := 56) C dX1_meanLoad_56 ?_
        refine wg_ddiv (pc := 57) C dX1_meanLoad_57 (ml_num (by omega) (by omega)) ?_
        refine wg_dret (pc := 58) C hQ dX1_meanLoad_58 ?_
        first
          | exact ⟨by unfold mlV; rw [if_pos (by rw [← hm]; exact h46)], rfl⟩
          | exact ⟨by unfold mlV; rw [if_neg (by rw [← hm]; exact h46), ← hm, ← hs], rfl⟩
      · refine wg_dconst0 (pc := 49) C dX1_meanLoad_49 ?_
        refine wg_goto (tgt := 58) (pc := 50) C dX1_meanLoad_50 (by decide) ?_
        refine wg_dret (pc := 58) C hQ dX1_meanLoad_58 ?_
        first
          | exact ⟨by unfold mlV; rw [if_pos (by rw [← hm]; exact h46)], rfl⟩
          | exact ⟨by unfold mlV; rw [if_neg (by rw [← hm]; exact h46), ← hm, ← hs], rfl⟩
    · refine wg_aload_0 (pc := 14) C dX1_meanLoad_14 ?_
      refine wg_iload_3 (pc := 15) C dX1_meanLoad_15 ?_
      refine wg_iconst (pc := 16) C dX1_meanLoad_16 ?_
      refine wg_callVP (pc := 17) C kX1_hasLevel q458 (tX1_hasLevel hX hO (by unfold InR; omega) (by unfold InR; omega)) (rc_of C hX.obj rfl) dX1_meanLoad_17 rfl rfl (Nat.le_of_ble_eq_true rfl) rfl (by decide) (fun f17 => ?_)
      refine wg_ifneB (tgt := 26) (pc := 20) C dX1_meanLoad_20 (by decide) (fun h20 => ?_) (fun h20 => ?_)
      · refine wg_iload_1 (pc := 26) C dX1_meanLoad_26 ?_
        refine wg_aload_0 (pc := 27) C dX1_meanLoad_27 ?_
        refine wg_iload_3 (pc := 28) C dX1_meanLoad_28 ?_
        refine wg_iconst (pc := 29) C dX1_meanLoad_29 ?_
        refine wg_iconst (pc := 30) C dX1_meanLoad_30 ?_
        refine wg_callVP (pc := 31) C kX1_loadOf q653 (tX1_loadOf hX hO (by omega) (by omega) (by omega) (by omega) (by unfold InR; omega)) (rc_of C hX.obj rfl) dX1_meanLoad_31 rfl rfl (Nat.le_of_ble_eq_true rfl) rfl (by decide) (fun f31 => ?_)
        refine wg_iadd (pc := 34) C dX1_meanLoad_34 ?_
        refine wg_istore_1 (pc := 35) C dX1_meanLoad_35 rfl ?_
        refine wg_iinc_2 (pc := 36) C dX1_meanLoad_36 rfl ?_
        refine wg_iinc_3 (pc := 39) C dX1_meanLoad_39 rfl ?_
        refine wg_goto (tgt := 6) (pc := 42) C dX1_meanLoad_42 (by decide) ?_
        first
          | exact IH _ (by omega) (k + 1) _ _ rfl (by omega) (by omega) (by omega) (by omega) (by rw [sm_succ _ (by omega), ← hs]; show _ = s + (if 0 < levelsOf σ k then load σ k 0 1 else 0); rw [if_pos h20.2.2]) (by rw [sm_succ _ (by omega), ← hm]; show _ = m + (if 0 < levelsOf σ k then 1 else 0); rw [if_pos h20.2.2])
          | exact IH _ (by omega) (k + 1) _ _ rfl (by omega) (by omega) (by omega) (by omega) (by rw [sm_succ _ (by omega), ← hs]; show _ = s + (if 0 < levelsOf σ k then load σ k 0 1 else 0); rw [if_neg (fun z => h20 ⟨by omega, by omega, z⟩), Int.add_zero]) (by rw [sm_succ _ (by omega), ← hm]; show _ = m + (if 0 < levelsOf σ k then 1 else 0); rw [if_neg (fun z => h20 ⟨by omega, by omega, z⟩), Int.add_zero])
      · refine wg_goto (tgt := 39) (pc := 23) C dX1_meanLoad_23 (by decide) ?_
        refine wg_iinc_3 (pc := 39) C dX1_meanLoad_39 rfl ?_
        refine wg_goto (tgt := 6) (pc := 42) C dX1_meanLoad_42 (by decide) ?_
        first
          | exact IH _ (by omega) (k + 1) _ _ rfl (by omega) (by omega) (by omega) (by omega) (by rw [sm_succ _ (by omega), ← hs]; show _ = s + (if 0 < levelsOf σ k then load σ k 0 1 else 0); rw [if_pos h20.2.2]) (by rw [sm_succ _ (by omega), ← hm]; show _ = m + (if 0 < levelsOf σ k then 1 else 0); rw [if_pos h20.2.2])
          | exact IH _ (by omega) (k + 1) _ _ rfl (by omega) (by omega) (by omega) (by omega) (by rw [sm_succ _ (by omega), ← hs]; show _ = s + (if 0 < levelsOf σ k then load σ k 0 1 else 0); rw [if_neg (fun z => h20 ⟨by omega, by omega, z⟩), Int.add_zero]) (by rw [sm_succ _ (by omega), ← hm]; show _ = m + (if 0 < levelsOf σ k then 1 else 0); rw [if_neg (fun z => h20 ⟨by omega, by omega, z⟩), Int.add_zero])
  refine wg_iconst (pc := 0) C dX1_meanLoad_0 ?_
  refine wg_istore_1 (pc := 1) C dX1_meanLoad_1 rfl ?_
  refine wg_iconst (pc := 2) C dX1_meanLoad_2 ?_
  refine wg_istore_2 (pc := 3) C dX1_meanLoad_3 rfl ?_
  refine wg_iconst (pc := 4) C dX1_meanLoad_4 ?_
  refine wg_istore_3 (pc := 5) C dX1_meanLoad_5 rfl ?_
  exact L6 _ 0 0 0 rfl (by omega) (by omega) (by omega) (by omega) (by rw [sm_nil _ (by omega)]) (by rw [sm_nil _ (by omega)])

theorem tX1_boardedShare {G : Gm} {w : Wo} {σ ζ : St} (hX : HasX G w σ ζ) (hO : Ok σ) : Ct G mX1_boardedShare 5 0 0 w [.ref (w.1 (0, 0))] (fun v w1 => v = some (.float (bsV σ)) ∧ w1 = w) := by
  refine ct_of [some (.ref (w.1 (0, 0)))] plX1 rfl (Nat.le_of_ble_eq_true rfl) rfl ?_
  intro X hG C hnm hQ
  subst hG
  change CxOk X cX1_boardedShare 1 RX1 (some .float) 5 at C
  have hB := hO.hB
  have hF := hO.hF
  have h3 := ofB3_rng hO
  refine wg_aload_0 (pc := 0) C dX1_boardedShare_0 ?_
  refine wg_iconst (pc := 1) C dX1_boardedShare_1 ?_
  refine wg_callVP (pc := 2) C kX1_ofBays q682 (tX1_ofBays hX hO (by unfold InR; omega)) (rc_of C hX.obj rfl) dX1_boardedShare_2 rfl rfl (Nat.le_of_ble_eq_true rfl) rfl (by decide) (fun f2 => ?_)
  refine wg_if_ne (tgt := 12) (pc := 5) C dX1_boardedShare_5 (by decide) (by unfold InR; omega) (fun h5 => ?_) (fun h5 => ?_)
  · refine wg_aload_0 (pc := 12) C dX1_boardedShare_12 ?_
    refine wg_iconst (pc := 13) C dX1_boardedShare_13 ?_
    refine wg_callVP (pc := 14) C kX1_ofBays q682 (tX1_ofBays hX hO (by unfold InR; omega)) (rc_of C hX.obj rfl) dX1_boardedShare_14 rfl rfl (Nat.le_of_ble_eq_true rfl) rfl (by decide) (fun f14 => ?_)
    refine wg_i2f (pc := 17) C dX1_boardedShare_17 ?_
    refine wg_aload_0 (pc := 18) C dX1_boardedShare_18 ?_
    refine wg_iconst (pc := 19) C dX1_boardedShare_19 ?_
    refine wg_callVP (pc := 20) C kX1_ofBays q682 (tX1_ofBays hX hO (by unfold InR; omega)) (rc_of C hX.obj rfl) dX1_boardedShare_20 rfl rfl (Nat.le_of_ble_eq_true rfl) rfl (by decide) (fun f20 => ?_)
    refine wg_i2f (pc := 23) C dX1_boardedShare_23 ?_
    refine wg_fdiv (pc := 24) C dX1_boardedShare_24 (bs_num (by omega) h3.2) ?_
    refine wg_fret (pc := 25) C hQ dX1_boardedShare_25 ?_
    first
      | exact ⟨by unfold bsV; rw [if_pos h5], rfl⟩
      | exact ⟨by unfold bsV; rw [if_neg h5], rfl⟩
  · refine wg_fconst0 (pc := 8) C dX1_boardedShare_8 ?_
    refine wg_goto (tgt := 25) (pc := 9) C dX1_boardedShare_9 (by decide) ?_
    refine wg_fret (pc := 25) C hQ dX1_boardedShare_25 ?_
    first
      | exact ⟨by unfold bsV; rw [if_pos h5], rfl⟩
      | exact ⟨by unfold bsV; rw [if_neg h5], rfl⟩

