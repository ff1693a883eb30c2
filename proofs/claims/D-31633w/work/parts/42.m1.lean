/-! the reference: methods that change nothing -/
set_option maxRecDepth 100000
set_option maxHeartbeats 4000000
theorem levelsOf_0 {σ : St} (h : nB σ = 0) (p : Int) : levelsOf σ p = 0 := by
  unfold levelsOf
  rw [liftsOf_out (by omega), liftsOf_out (by omega)]
  rfl
theorem levelsOf_M {σ : St} (hO : Ok σ) {p a b : Int} (ha : a = liftsOf σ (p - 1)) (hb : b = liftsOf σ p) : (if a < b then b else a) = levelsOf σ p := by rw [ha, hb]; rfl
theorem tJ17_intValue {G : Gm} {w : Wo} {z : Int} (h0 : -128 ≤ z) (h1 : z < 128) : PCt G mJ17_intValue 1 w [.ref (gS G (10 + (z + 128).toNat))] (vI z) (True) := by
  refine ⟨ct_of [some (.ref (gS G (10 + (z + 128).toNat)))] plJ17 rfl (Nat.le_of_ble_eq_true rfl) rfl ?_, trivial⟩
  intro X hG C hnm hQ
  subst hG
  change CxOk X cJ17_intValue 1 RJ17 (some .int) 1 at C
  refine wg_aload_0 (pc := 0) C dJ17_intValue_0 ?_
  refine wg_boxV (pc := 1) C (by omega) q1178 (fun _ h => h) dJ17_intValue_1 ?_
  refine wg_iret (pc := 4) C hQ dJ17_intValue_4 ?_
  exact ⟨vI_c (by omega), rfl⟩

theorem tX2_in {G : Gm} {w : Wo} {v a b : Int} (hv : InR v) (ha : InR a) (hb : InR b) : PCt G mX2_in 1 w [vI v, vI a, vI b] (vI (if a ≤ v ∧ v ≤ b then 1 else 0)) (True) := by
  refine ⟨ct_of [some (vI v), some (vI a), some (vI b)] plX2 rfl (Nat.le_of_ble_eq_true rfl) rfl ?_, trivial⟩
  intro X hG C hnm hQ
  subst hG
  change CxOk X cX2_in 3 RX2 (some .boolean) 1 at C
  unfold InR at hv ha hb
  refine wg_iload_0 (pc := 0) C dX2_in_0 ?_
  refine wg_iload_1 (pc := 1) C dX2_in_1 ?_
  refine wg_icmp_lt (tgt := 14) (pc := 2) C dX2_in_2 (by decide) (by unfold InR; omega) (by unfold InR; omega) (fun h2 => ?_) (fun h2 => ?_)
  · refine wg_iconst (pc := 14) C dX2_in_14 ?_
    refine wg_zret (pc := 15) C hQ dX2_in_15 (by omega) ?_
    exact ⟨by first | exact vB_t (by omega) | exact vB_f (by omega), rfl⟩
  · refine wg_iload_0 (pc := 5) C dX2_in_5 ?_
    refine wg_iload_2 (pc := 6) C dX2_in_6 ?_
    refine wg_icmp_gt (tgt := 14) (pc := 7) C dX2_in_7 (by decide) (by unfold InR; omega) (by unfold InR; omega) (fun h7 => ?_) (fun h7 => ?_)
    · refine wg_iconst (pc := 14) C dX2_in_14 ?_
      refine wg_zret (pc := 15) C hQ dX2_in_15 (by omega) ?_
      exact ⟨by first | exact vB_t (by omega) | exact vB_f (by omega), rfl⟩
    · refine wg_iconst (pc := 10) C dX2_in_10 ?_
      refine wg_goto (tgt := 15) (pc := 11) C dX2_in_11 (by decide) ?_
      refine wg_zret (pc := 15) C hQ dX2_in_15 (by omega) ?_
      exact ⟨by first | exact vB_t (by omega) | exact vB_f (by omega), rfl⟩

theorem ite_iff {p q : Prop} [Decidable p] [Decidable q] (h : p ↔ q) : (if p then (1 : Int) else 0) = if q then 1 else 0 := by
  by_cases hp : p
  · rw [if_pos hp, if_pos (h.mp hp)]
  · rw [if_neg hp, if_neg (fun z => hp (h.mpr z))]
theorem tX2_isFace {G : Gm} {w : Wo} {σ ζ : St} (hM : HasM G w σ ζ) (hO : Ok σ) {f : Int} (hf : InR f) : PCt G mX2_isFace 2 w [.ref (w.1 (20, 0)), vI f] (vI (if 0 ≤ f ∧ f < nF σ then 1 else 0)) (True) := by
  refine ⟨ct_of [some (.ref (w.1 (20, 0))), some (vI f)] plX2 rfl (Nat.le_of_ble_eq_true rfl) rfl ?_, trivial⟩
  intro X hG C hnm hQ
  subst hG
  change CxOk X cX2_isFace 2 RX2 (some .boolean) 2 at C
  have hB := hO.hB
  have hF := hO.hF
  have hbc := hM.bc
  have hfc0 := hM.fc
  have hf2 := hf
  unfold InR at hf2
  refine wg_iload_1 (pc := 0) C dX2_isFace_0 ?_
  refine wg_iconst (pc := 1) C dX2_isFace_1 ?_
  refine wg_aload_0 (pc := 2) C dX2_isFace_2 ?_
  refine gX2_20 (pc := 3) C hM.obj rfl dX2_isFace_3 ?_
  refine wg_callFP (pc := 6) C kF_size q1161 (tJ2_size hM.fl) (rc_of C hM.fl rfl) dX2_isFace_6 rfl rfl (Nat.le_of_ble_eq_true rfl) rfl (by decide) (fun f6 => ?_)
  refine wg_iconst (pc := 11) C dX2_isFace_11 ?_
  refine wg_isub (pc := 12) C dX2_isFace_12 ?_
  refine wg_callSP (pc := 13) C kX2_in q1149 (tX2_in (by unfold InR; omega) (by unfold InR; omega) (by unfold InR; omega)) dX2_isFace_13 rfl rfl (Nat.le_of_ble_eq_true rfl) rfl (by decide) (fun f13 => ?_)
  rw [ite_iff (q := 0 ≤ f ∧ f < nF σ) ⟨fun z => by omega, fun z => by omega⟩]
  refine wg_zret (pc := 16) C hQ dX2_isFace_16 ?_ ⟨rfl, rfl⟩
  split <;> omega

theorem tX2_isBay {G : Gm} {w : Wo} {σ ζ : St} (hM : HasM G w σ ζ) (hO : Ok σ) {b : Int} (hb : InR b) : PCt G mX2_isBay 2 w [.ref (w.1 (20, 0)), vI b] (vI (if 0 ≤ b ∧ b < nB σ then 1 else 0)) (True) := by
  refine ⟨ct_of [some (.ref (w.1 (20, 0))), some (vI b)] plX2 rfl (Nat.le_of_ble_eq_true rfl) rfl ?_, trivial⟩
  intro X hG C hnm hQ
  subst hG
  change CxOk X cX2_isBay 2 RX2 (some .boolean) 2 at C
  have hB := hO.hB
  have hF := hO.hF
  have hbc := hM.bc
  have hfc0 := hM.fc
  have hb2 := hb
  unfold InR at hb2
  refine wg_iload_1 (pc := 0) C dX2_isBay_0 ?_
  refine wg_iconst (pc := 1) C dX2_isBay_1 ?_
  refine wg_aload_0 (pc := 2) C dX2_isBay_2 ?_
  refine gX2_16 (pc := 3) C hM.obj rfl dX2_isBay_3 ?_
  refine wg_callFP (pc := 6) C kF_size q1161 (tJ2_size hM.bl) (rc_of C hM.bl rfl) dX2_isBay_6 rfl rfl (Nat.le_of_ble_eq_true rfl) rfl (by decide) (fun f6 => ?_)
  refine wg_iconst (pc := 11) C dX2_isBay_11 ?_
  refine wg_isub (pc := 12) C dX2_isBay_12 ?_
  refine wg_callSP (pc := 13) C kX2_in q1149 (tX2_in (by unfold InR; omega) (by unfold InR; omega) (by unfold InR; omega)) dX2_isBay_13 rfl rfl (Nat.le_of_ble_eq_true rfl) rfl (by decide) (fun f13 => ?_)
  rw [ite_iff (q := 0 ≤ b ∧ b < nB σ) ⟨fun z => by omega, fun z => by omega⟩]
  refine wg_zret (pc := 16) C hQ dX2_isBay_16 ?_ ⟨rfl, rfl⟩
  split <;> omega

theorem tX2_isLevel {G : Gm} {w : Wo} {l : Int} (hl : InR l) : PCt G mX2_isLevel 2 w [vI l] (vI (if 0 ≤ l ∧ l < 8 then 1 else 0)) (True) := by
  refine ⟨ct_of [some (vI l)] plX2 rfl (Nat.le_of_ble_eq_true rfl) rfl ?_, trivial⟩
  intro X hG C hnm hQ
  subst hG
  change CxOk X cX2_isLevel 1 RX2 (some .boolean) 2 at C
  have hl2 := hl
  unfold InR at hl2
  refine wg_iload_0 (pc := 0) C dX2_isLevel_0 ?_
  refine wg_iconst (pc := 1) C dX2_isLevel_1 ?_
  refine wg_bipush (pc := 2) C dX2_isLevel_2 (by decide) ?_
  refine wg_callSP (pc := 4) C kX2_in q1149 (tX2_in (by unfold InR; omega) (by unfold InR; omega) (by unfold InR; omega)) dX2_isLevel_4 rfl rfl (Nat.le_of_ble_eq_true rfl) rfl (by decide) (fun f4 => ?_)
  rw [ite_iff (q := 0 ≤ l ∧ l < 8) ⟨fun z => by omega, fun z => by omega⟩]
  refine wg_zret (pc := 7) C hQ dX2_isLevel_7 ?_ ⟨rfl, rfl⟩
  split <;> omega

theorem tX2_isPosition {G : Gm} {w : Wo} {σ ζ : St} (hM : HasM G w σ ζ) (hO : Ok σ) {p : Int} (hp : InR p) : PCt G mX2_isPosition 2 w [.ref (w.1 (20, 0)), vI p] (vI (if 0 ≤ p ∧ p < pos σ then 1 else 0)) (True) := by
  refine ⟨ct_of [some (.ref (w.1 (20, 0))), some (vI p)] plX2 rfl (Nat.le_of_ble_eq_true rfl) rfl ?_, trivial⟩
  intro X hG C hnm hQ
  subst hG
  change CxOk X cX2_isPosition 2 RX2 (some .boolean) 2 at C
  have hB := hO.hB
  have hF := hO.hF
  have hbc := hM.bc
  have hfc0 := hM.fc
  have hps := pos_rng hO
  have hp2 := hp
  unfold InR at hp2
  refine wg_aload_0 (pc := 0) C dX2_isPosition_0 ?_
  refine gX2_16 (pc := 1) C hM.obj rfl dX2_isPosition_1 ?_
  refine wg_callFP (pc := 4) C kF_isEmpty q1234 (tJ2_isEmpty hM.bl (by unfold InR; omega)) (rc_of C hM.bl rfl) dX2_isPosition_4 rfl rfl (Nat.le_of_ble_eq_true rfl) rfl (by decide) (fun f4 => ?_)
  refine wg_ifneB (tgt := 33) (pc := 9) C dX2_isPosition_9 (by decide) (fun h9 => ?_) (fun h9 => ?_)
  · refine wg_iconst (pc := 33) C dX2_isPosition_33 ?_
    refine wg_zret (pc := 34) C hQ dX2_isPosition_34 (by omega) ?_
    exact ⟨by first | exact vB_t (by omega) | exact vB_f (by omega), rfl⟩
  · refine wg_iload_1 (pc := 12) C dX2_isPosition_12 ?_
    refine wg_iconst (pc := 13) C dX2_isPosition_13 ?_
    refine wg_aload_0 (pc := 14) C dX2_isPosition_14 ?_
    refine gX2_16 (pc := 15) C hM.obj rfl dX2_isPosition_15 ?_
    refine wg_callFP (pc := 18) C kF_size q1161 (tJ2_size hM.bl) (rc_of C hM.bl rfl) dX2_isPosition_18 rfl rfl (Nat.le_of_ble_eq_true rfl) rfl (by decide) (fun f18 => ?_)
    refine wg_callSP (pc := 23) C kX2_in q1149 (tX2_in (by unfold InR; omega) (by unfold InR; omega) (by unfold InR; omega)) dX2_isPosition_23 rfl rfl (Nat.le_of_ble_eq_true rfl) rfl (by decide) (fun f23 => ?_)
    refine wg_ifeqB (tgt := 33) (pc := 26) C dX2_isPosition_26 (by decide) (fun h26 => ?_) (fun h26 => ?_)
    · refine wg_iconst (pc := 33) C dX2_isPosition_33 ?_
      refine wg_zret (pc := 34) C hQ dX2_isPosition_34 (by omega) ?_
      exact ⟨by first | exact vB_t (by omega) | exact vB_f (by omega), rfl⟩
    · refine wg_iconst (pc := 29) C dX2_isPosition_29 ?_
      refine wg_goto (tgt := 34) (pc := 30) C dX2_isPosition_30 (by decide) ?_
      refine wg_zret (pc := 34) C hQ dX2_isPosition_34 (by omega) ?_
      exact ⟨by first | exact vB_t (by omega) | exact vB_f (by omega), rfl⟩

theorem tX2_isBetween {G : Gm} {w : Wo} {σ ζ : St} (hM : HasM G w σ ζ) (hO : Ok σ) {p : Int} (hp : InR p) : PCt G mX2_isBetween 4 w [.ref (w.1 (20, 0)), vI p] (vI (if btw σ p then 1 else 0)) (True) := by
  refine ⟨ct_of [some (.ref (w.1 (20, 0))), some (vI p)] plX2 rfl (Nat.le_of_ble_eq_true rfl) rfl ?_, trivial⟩
  intro X hG C hnm hQ
  subst hG
  change CxOk X cX2_isBetween 2 RX2 (some .boolean) 4 at C
  have hB := hO.hB
  have hF := hO.hF
  have hbc := hM.bc
  have hfc0 := hM.fc
  have hp2 := hp
  unfold InR at hp2
  refine wg_iload_1 (pc := 0) C dX2_isBetween_0 ?_
  refine wg_iconst (pc := 1) C dX2_isBetween_1 ?_
  refine wg_aload_0 (pc := 2) C dX2_isBetween_2 ?_
  refine gX2_16 (pc := 3) C hM.obj rfl dX2_isBetween_3 ?_
  refine wg_callFP (pc := 6) C kF_size q1161 (tJ2_size hM.bl) (rc_of C hM.bl rfl) dX2_isBetween_6 rfl rfl (Nat.le_of_ble_eq_true rfl) rfl (by decide) (fun f6 => ?_)
  refine wg_iconst (pc := 11) C dX2_isBetween_11 ?_
  refine wg_isub (pc := 12) C dX2_isBetween_12 ?_
  refine wg_callSP (pc := 13) C kX2_in q1149 (tX2_in (by unfold InR; omega) (by unfold InR; omega) (by unfold InR; omega)) dX2_isBetween_13 rfl rfl (Nat.le_of_ble_eq_true rfl) rfl (by decide) (fun f13 => ?_)
  refine wg_ifeqB (tgt := 60) (pc := 16) C dX2_isBetween_16 (by decide) (fun h16 => ?_) (fun h16 => ?_)
  · refine wg_iconst (pc := 60) C dX2_isBetween_60 ?_
    refine wg_zret (pc := 61) C hQ dX2_isBetween_61 (by omega) ?_
    exact ⟨by first | exact vB_t ⟨by omega, by omega, by omega⟩ | exact vB_f (fun z => by omega), rfl⟩
  · refine wg_aload_0 (pc := 19) C dX2_isBetween_19 ?_
    refine gX2_16 (pc := 20) C hM.obj rfl dX2_isBetween_20 ?_
    refine wg_iload_1 (pc := 23) C dX2_isBetween_23 ?_
    refine wg_iconst (pc := 24) C dX2_isBetween_24 ?_
    refine wg_isub (pc := 25) C dX2_isBetween_25 ?_
    refine wg_callFP (pc := 26) C kF_get q1224 (tJ2_get (hM.blA (by omega)) (hM.baA (by omega)) (by omega) (by omega) (by omega) (by omega) (rws_at (by omega) (by omega))) (rc_of C hM.bl rfl) dX2_isBetween_26 rfl rfl (Nat.le_of_ble_eq_true rfl) rfl (by decide) (fun f26 => ?_)
    refine wg_cast (pc := 31) (ci := 5) C rfl q1184 (rc_of C (hM.bay (by omega) (by omega)) rfl) dX2_isBetween_31 ?_
    refine gX2_96 (pc := 34) C (hM.bay (by omega) (by omega)) rfl dX2_isBetween_34 ?_
    refine wg_aload_0 (pc := 37) C dX2_isBetween_37 ?_
    refine gX2_16 (pc := 38) C hM.obj rfl dX2_isBetween_38 ?_
    refine wg_iload_1 (pc := 41) C dX2_isBetween_41 ?_
    refine wg_callFP (pc := 42) C kF_get q1224 (tJ2_get (hM.blA (by omega)) (hM.baA (by omega)) (by omega) (by omega) (by omega) (by omega) (rws_at (by omega) (by omega))) (rc_of C hM.bl rfl) dX2_isBetween_42 rfl rfl (Nat.le_of_ble_eq_true rfl) rfl (by decide) (fun f42 => ?_)
    refine wg_cast (pc := 47) (ci := 5) C rfl q1184 (rc_of C (hM.bay (by omega) (by omega)) rfl) dX2_isBetween_47 ?_
    refine gX2_96 (pc := 50) C (hM.bay (by omega) (by omega)) rfl dX2_isBetween_50 ?_
    have hb1 := hO.by (k := p) (by omega) (by omega)
    have hb2 := hO.by (k := p - 1) (by omega) (by omega)
    refine wg_icmp_eq (tgt := 60) (pc := 53) C dX2_isBetween_53 (by decide) (by unfold InR; omega) (by unfold InR; omega) (fun h53 => ?_) (fun h53 => ?_)
    · refine wg_iconst (pc := 60) C dX2_isBetween_60 ?_
      refine wg_zret (pc := 61) C hQ dX2_isBetween_61 (by omega) ?_
      exact ⟨by first | exact vB_t ⟨by omega, by omega, by omega⟩ | exact vB_f (fun z => by omega), rfl⟩
    · refine wg_iconst (pc := 56) C dX2_isBetween_56 ?_
      refine wg_goto (tgt := 61) (pc := 57) C dX2_isBetween_57 (by decide) ?_
      refine wg_zret (pc := 61) C hQ dX2_isBetween_61 (by omega) ?_
      exact ⟨by first | exact vB_t ⟨by omega, by omega, by omega⟩ | exact vB_f (fun z => by omega), rfl⟩

theorem tX2_standards {G : Gm} {w : Wo} {σ ζ : St} (hM : HasM G w σ ζ) (hO : Ok σ) {p : Int} (hp : InR p) : PCt G mX2_standards 5 w [.ref (w.1 (20, 0)), vI p] (vI (stds σ p)) (stds σ p = 2 ∨ stds σ p = 3) := by
  refine ⟨ct_of [some (.ref (w.1 (20, 0))), some (vI p)] plX2 rfl (Nat.le_of_ble_eq_true rfl) rfl ?_, stds_rng σ p⟩
  intro X hG C hnm hQ
  subst hG
  change CxOk X cX2_standards 2 RX2 (some .int) 5 at C
  have hB := hO.hB
  have hF := hO.hF
  have hbc := hM.bc
  have hfc0 := hM.fc
  unfold InR at hp
  refine wg_aload_0 (pc := 0) C dX2_standards_0 ?_
  refine wg_iload_1 (pc := 1) C dX2_standards_1 ?_
  refine wg_callVP (pc := 2) C kX2_isBetween q1235 (tX2_isBetween hM hO (by unfold InR; omega)) (rc_of C hM.obj rfl) dX2_standards_2 rfl rfl (Nat.le_of_ble_eq_true rfl) rfl (by decide) (fun f2 => ?_)
  refine wg_ifeqB (tgt := 12) (pc := 5) C dX2_standards_5 (by decide) (fun h5 => ?_) (fun h5 => ?_)
  · refine wg_iconst (pc := 12) C dX2_standards_12 ?_
    refine wg_iret (pc := 13) C hQ dX2_standards_13 ?_
    exact ⟨vI_c (by unfold stds; first | rw [if_pos h5] | rw [if_neg h5]), rfl⟩
  · refine wg_iconst (pc := 8) C dX2_standards_8 ?_
    refine wg_goto (tgt := 13) (pc := 9) C dX2_standards_9 (by decide) ?_
    refine wg_iret (pc := 13) C hQ dX2_standards_13 ?_
    exact ⟨vI_c (by unfold stds; first | rw [if_pos h5] | rw [if_neg h5]), rfl⟩

theorem tX2_levelsOf {G : Gm} {w : Wo} {σ ζ : St} (hM : HasM G w σ ζ) (hO : Ok σ) {p : Int} (h0 : 0 ≤ p) (h1 : p ≤ nB σ) : PCt G mX2_levelsOf 4 w [.ref (w.1 (20, 0)), vI p] (vI (levelsOf σ p)) (0 ≤ levelsOf σ p ∧ levelsOf σ p ≤ 8) := by
  refine ⟨ct_of [some (.ref (w.1 (20, 0))), some (vI p), none, none] plX2 rfl (Nat.le_of_ble_eq_true rfl) rfl ?_, levelsOf_rng hO p⟩
  intro X hG C hnm hQ
  subst hG
  change CxOk X cX2_levelsOf 4 RX2 (some .int) 4 at C
  have hB := hO.hB
  have hF := hO.hF
  have hbc := hM.bc
  have hfc0 := hM.fc
  have hl1 := hO.lf (p - 1)
  have hl2 := hO.lf p
  have L26 : ∀ (a : Int), a = liftsOf σ (p - 1) → WG X 26 [some (.ref (w.1 (20, 0))), some (vI p), none, none] [vI a] w 0 0 := by
    intro a ha
    have har := liftsOf_rng hO (p - 1)
    have L60 : ∀ (b : Int), b = liftsOf σ p → WG X 60 [some (.ref (w.1 (20, 0))), some (vI p), some (vI a), none] [vI b] w 0 0 := by
      intro b hb
      have hbr := liftsOf_rng hO p
      refine wg_istore_3 (pc := 60) C dX2_levelsOf_60 rfl ?_
      refine wg_iload_2 (pc := 61) C dX2_levelsOf_61 ?_
      refine wg_iload_3 (pc := 62) C dX2_levelsOf_62 ?_
      refine wg_max (pc := 63) C q1247 dX2_levelsOf_63 (by unfold InR; omega) (by unfold InR; omega) (by decide) (Nat.le_of_ble_eq_true rfl) rfl ?_
      refine wg_iret (pc := 66) C hQ dX2_levelsOf_66 ?_
      exact ⟨vI_c (levelsOf_M hO ha hb), rfl⟩
    refine wg_istore_2 (pc := 26) C dX2_levelsOf_26 rfl ?_
    refine wg_iload_1 (pc := 27) C dX2_levelsOf_27 ?_
    refine wg_aload_0 (pc := 28) C dX2_levelsOf_28 ?_
    refine gX2_16 (pc := 29) C hM.obj rfl dX2_levelsOf_29 ?_
    refine wg_callFP (pc := 32) C kF_size q1161 (tJ2_size hM.bl) (rc_of C hM.bl rfl) dX2_levelsOf_32 rfl rfl (Nat.le_of_ble_eq_true rfl) rfl (by decide) (fun f32 => ?_)
    refine wg_icmp_ge (tgt := 59) (pc := 37) C dX2_levelsOf_37 (by decide) (by unfold InR; omega) (by unfold InR; omega) (fun h37 => ?_) (fun h37 => ?_)
    · refine wg_iconst (pc := 59) C dX2_levelsOf_59 ?_
      refine WG.mask [true, true, true, false] rfl ?_
      exact L60 _ (by first | exact (liftsOf_in (by omega) (by omega)).symm | exact (liftsOf_out (by omega)).symm)
    · refine wg_aload_0 (pc := 40) C dX2_levelsOf_40 ?_
      refine gX2_16 (pc := 41) C hM.obj rfl dX2_levelsOf_41 ?_
      refine wg_iload_1 (pc := 44) C dX2_levelsOf_44 ?_
      refine wg_callFP (pc := 45) C kF_get q1224 (tJ2_get (hM.blA (by omega)) (hM.baA (by omega)) (by omega) (by omega) (by omega) (by omega) (rws_at (by omega) (by omega))) (rc_of C hM.bl rfl) dX2_levelsOf_45 rfl rfl (Nat.le_of_ble_eq_true rfl) rfl (by decide) (fun f45 => ?_)
      refine wg_cast (pc := 50) (ci := 5) C rfl q1184 (rc_of C (hM.bay (by omega) (by omega)) rfl) dX2_levelsOf_50 ?_
      refine gX2_105 (pc := 53) C (hM.bay (by omega) (by omega)) rfl dX2_levelsOf_53 ?_
      refine wg_goto (tgt := 60) (pc := 56) C dX2_levelsOf_56 (by decide) ?_
      refine WG.mask [true, true, true, false] rfl ?_
      exact L60 _ (by first | exact (liftsOf_in (by omega) (by omega)).symm | exact (liftsOf_out (by omega)).symm)
  refine wg_iload_1 (pc := 0) C dX2_levelsOf_0 ?_
  refine wg_if_le (tgt := 25) (pc := 1) C dX2_levelsOf_1 (by decide) (by unfold InR; omega) (fun h1 => ?_) (fun h1 => ?_)
  · refine wg_iconst (pc := 25) C dX2_levelsOf_25 ?_
    refine WG.mask [true, true, false, false] rfl ?_
    exact L26 _ (by first | exact (liftsOf_in (by omega) (by omega)).symm | exact (liftsOf_out (by omega)).symm)
  · refine wg_aload_0 (pc := 4) C dX2_levelsOf_4 ?_
    refine gX2_16 (pc := 5) C hM.obj rfl dX2_levelsOf_5 ?_
    refine wg_iload_1 (pc := 8) C dX2_levelsOf_8 ?_
    refine wg_iconst (pc := 9) C dX2_levelsOf_9 ?_
    refine wg_isub (pc := 10) C dX2_levelsOf_10 ?_
    refine wg_callFP (pc := 11) C kF_get q1224 (tJ2_get (hM.blA (by omega)) (hM.baA (by omega)) (by omega) (by omega) (by omega) (by omega) (rws_at (by omega) (by omega))) (rc_of C hM.bl rfl) dX2_levelsOf_11 rfl rfl (Nat.le_of_ble_eq_true rfl) rfl (by decide) (fun f11 => ?_)
    refine wg_cast (pc := 16) (ci := 5) C rfl q1184 (rc_of C (hM.bay (by omega) (by omega)) rfl) dX2_levelsOf_16 ?_
    refine gX2_105 (pc := 19) C (hM.bay (by omega) (by omega)) rfl dX2_levelsOf_19 ?_
    refine wg_goto (tgt := 26) (pc := 22) C dX2_levelsOf_22 (by decide) ?_
    refine WG.mask [true, true, false, false] rfl ?_
    exact L26 _ (by first | exact (liftsOf_in (by omega) (by omega)).symm | exact (liftsOf_out (by omega)).symm)

theorem tX5_has {G : Gm} {w : Wo} {σ ζ : St} (hM : HasM G w σ ζ) (hO : Ok σ) {b : Int} (hb0 : 0 ≤ b) (hb1 : b < nB σ) {l : Int} (hl : InR l) : PCt G mX5_has 2 w [.ref (w.1 (23, b)), vI l] (vI (if 0 ≤ l ∧ l < lft σ b then 1 else 0)) (True) := by
  refine ⟨ct_of [some (.ref (w.1 (23, b))), some (vI l)] plX5 rfl (Nat.le_of_ble_eq_true rfl) rfl ?_, trivial⟩
  intro X hG C hnm hQ
  subst hG
  change CxOk X cX5_has 2 RX5 (some .boolean) 2 at C
  have hB := hO.hB
  have hF := hO.hF
  have hbc := hM.bc
  have hfc0 := hM.fc
  have hlf := hO.lf b
  have hl2 := hl
  unfold InR at hl2
  refine wg_iload_1 (pc := 0) C dX5_has_0 ?_
  refine wg_iconst (pc := 1) C dX5_has_1 ?_
  refine wg_aload_0 (pc := 2) C dX5_has_2 ?_
  refine gX5_29 (pc := 3) C (hM.bay (by omega) (by omega)) rfl dX5_has_3 ?_
  refine wg_iconst (pc := 6) C dX5_has_6 ?_
  refine wg_isub (pc := 7) C dX5_has_7 ?_
  refine wg_callSNP (pc := 8) C kX2_in (nM_X5_32 C) (tX2_in (by unfold InR; omega) (by unfold InR; omega) (by unfold InR; omega)) dX5_has_8 rfl rfl (Nat.le_of_ble_eq_true rfl) rfl (by decide) (fun f8 => ?_)
  rw [ite_iff (q := 0 ≤ l ∧ l < lft σ b) ⟨fun z => by omega, fun z => by omega⟩]
  refine wg_zret (pc := 11) C hQ dX5_has_11 ?_ ⟨rfl, rfl⟩
  split <;> omega

theorem tX2_has {G : Gm} {w : Wo} {σ ζ : St} (hM : HasM G w σ ζ) (hO : Ok σ) {b l : Int} (hb : InR b) (hl : InR l) : PCt G mX2_has 4 w [.ref (w.1 (20, 0)), vI b, vI l] (vI (if (0 ≤ b ∧ b < nB σ) ∧ (0 ≤ l ∧ l < lft σ b) then 1 else 0)) (True) := by
  refine ⟨ct_of [some (.ref (w.1 (20, 0))), some (vI b), some (vI l)] plX2 rfl (Nat.le_of_ble_eq_true rfl) rfl ?_, trivial⟩
  intro X hG C hnm hQ
  subst hG
  change CxOk X cX2_has 3 RX2 (some .boolean) 4 at C
  have hB := hO.hB
  have hF := hO.hF
  have hbc := hM.bc
  have hfc0 := hM.fc
  unfold InR at hb hl
  refine wg_aload_0 (pc := 0) C dX2_has_0 ?_
  refine wg_iload_1 (pc := 1) C dX2_has_1 ?_
  refine wg_callVP (pc := 2) C kX2_isBay q1219 (tX2_isBay hM hO (by unfold InR; omega)) (rc_of C hM.obj rfl) dX2_has_2 rfl rfl (Nat.le_of_ble_eq_true rfl) rfl (by decide) (fun f2 => ?_)
  refine wg_ifeqB (tgt := 32) (pc := 5) C dX2_has_5 (by decide) (fun h5 => ?_) (fun h5 => ?_)
  · refine wg_iconst (pc := 32) C dX2_has_32 ?_
    refine wg_zret (pc := 33) C hQ dX2_has_33 (by omega) ?_
    exact ⟨by first | exact vB_t (by omega) | exact vB_f (by omega), rfl⟩
  · refine wg_aload_0 (pc := 8) C dX2_has_8 ?_
    refine gX2_16 (pc := 9) C hM.obj rfl dX2_has_9 ?_
    refine wg_iload_1 (pc := 12) C dX2_has_12 ?_
    refine wg_callFP (pc := 13) C kF_get q1224 (tJ2_get (hM.blA (by omega)) (hM.baA (by omega)) (by omega) (by omega) (by omega) (by omega) (rws_at (by omega) (by omega))) (rc_of C hM.bl rfl) dX2_has_13 rfl rfl (Nat.le_of_ble_eq_true rfl) rfl (by decide) (fun f13 => ?_)
    refine wg_cast (pc := 18) (ci := 5) C rfl q1184 (rc_of C (hM.bay (by omega) (by omega)) rfl) dX2_has_18 ?_
    refine wg_iload_2 (pc := 21) C dX2_has_21 ?_
    refine wg_callVP (pc := 22) C kX5_has q1271 (tX5_has hM hO (by omega) (by omega) (by unfold InR; omega)) (rc_of C (hM.bay (by omega) (by omega)) rfl) dX2_has_22 rfl rfl (Nat.le_of_ble_eq_true rfl) rfl (by decide) (fun f22 => ?_)
    refine wg_ifeqB (tgt := 32) (pc := 25) C dX2_has_25 (by decide) (fun h25 => ?_) (fun h25 => ?_)
    · refine wg_iconst (pc := 32) C dX2_has_32 ?_
      refine wg_zret (pc := 33) C hQ dX2_has_33 (by omega) ?_
      exact ⟨by first | exact vB_t (by omega) | exact vB_f (by omega), rfl⟩
    · refine wg_iconst (pc := 28) C dX2_has_28 ?_
      refine wg_goto (tgt := 33) (pc := 29) C dX2_has_29 (by decide) ?_
      refine wg_zret (pc := 33) C hQ dX2_has_33 (by omega) ?_
      exact ⟨by first | exact vB_t (by omega) | exact vB_f (by omega), rfl⟩

theorem tX5_weight {G : Gm} {w : Wo} {σ ζ : St} (hM : HasM G w σ ζ) (hO : Ok σ) {b : Int} (hb0 : 0 ≤ b) (hb1 : b < nB σ) {l r : Int} (hl0 : 0 ≤ l) (hl1 : l < 8) (hr : InR r) : PCt G mX5_weight 2 w [.ref (w.1 (23, b)), vI l, vI r] (vI ((if σ 5 b l = 0 then 0 else 60) + wgt σ b l r)) (0 ≤ wgt σ b l r ∧ wgt σ b l r ≤ 600) := by
  refine ⟨ct_of [some (.ref (w.1 (23, b))), some (vI l), some (vI r), none] plX5 rfl (Nat.le_of_ble_eq_true rfl) rfl ?_, wgt_rng hO b l r⟩
  intro X hG C hnm hQ
  subst hG
  change CxOk X cX5_weight 4 RX5 (some .int) 2 at C
  have hB := hO.hB
  have hF := hO.hF
  have hbc := hM.bc
  have hfc0 := hM.fc
  have hso := hO.so b l
  have hla := hO.la b l
  have hbd := hO.bd b l
  have hbe := bears_rng (σ 6 b l)
  unfold InR at hr
  refine wg_iload_2 (pc := 0) C dX5_weight_0 ?_
  refine wg_if_eq (tgt := 26) (pc := 1) C dX5_weight_1 (by decide) (by unfold InR; omega) (fun h1 => ?_) (fun h1 => ?_)
  · refine wg_aload_0 (pc := 26) C dX5_weight_26 ?_
    refine gX5_19 (pc := 27) C (hM.bay (by omega) (by omega)) rfl dX5_weight_27 ?_
    refine wg_iload_1 (pc := 30) C dX5_weight_30 ?_
    refine wg_iald (pc := 31) C (hM.la (by omega) (by omega)) rfl (by omega) (by omega) (by decide) dX5_weight_31 ?_
    refine wg_nm (fun y hy => ?_)
    have ey : y = wgt σ b l r := by rw [hy]; unfold wgt; first | rw [if_pos h1] | rw [if_neg h1]
    refine wg_istore_3 (pc := 32) C dX5_weight_32 rfl ?_
    refine wg_aload_0 (pc := 33) C dX5_weight_33 ?_
    refine gX5_9 (pc := 34) C (hM.bay (by omega) (by omega)) rfl dX5_weight_34 ?_
    refine wg_iload_1 (pc := 37) C dX5_weight_37 ?_
    refine wg_zald (pc := 38) C (hM.bd (by omega) (by omega)) rfl (by omega) (by omega) (by decide) dX5_weight_38 ?_
    refine wg_if_eq (tgt := 47) (pc := 39) C dX5_weight_39 (by decide) (by unfold InR; omega) (fun h39 => ?_) (fun h39 => ?_)
    · refine wg_iconst (pc := 47) C dX5_weight_47 ?_
      refine wg_iload_3 (pc := 48) C dX5_weight_48 ?_
      refine wg_iadd (pc := 49) C dX5_weight_49 ?_
      refine wg_iret (pc := 50) C hQ dX5_weight_50 ?_
      exact ⟨by rw [ey]; first | rw [if_pos h39] | rw [if_neg h39], rfl⟩
    · refine wg_bipush (pc := 42) C dX5_weight_42 (by decide) ?_
      refine wg_goto (tgt := 48) (pc := 44) C dX5_weight_44 (by decide) ?_
      refine wg_iload_3 (pc := 48) C dX5_weight_48 ?_
      refine wg_iadd (pc := 49) C dX5_weight_49 ?_
      refine wg_iret (pc := 50) C hQ dX5_weight_50 ?_
      exact ⟨by rw [ey]; first | rw [if_pos h39] | rw [if_neg h39], rfl⟩
  · refine wg_getsN (pc := 4) C C.pm.2.1 (C.nf (a := ("ScaffolderModel$Bay", 36, "ScaffolderModel", "BEARS", "[I", "ScaffolderModel")) 17 rfl) (fun _ h => h) dX5_weight_4 ?_
    refine wg_aload_0 (pc := 7) C dX5_weight_7 ?_
    refine gX5_15 (pc := 8) C (hM.bay (by omega) (by omega)) rfl dX5_weight_8 ?_
    refine wg_iload_1 (pc := 11) C dX5_weight_11 ?_
    refine wg_iald (pc := 12) C (hM.so (by omega) (by omega)) rfl (by omega) (by omega) (by decide) dX5_weight_12 ?_
    refine wg_bears (pc := 13) C (by omega) (by omega) dX5_weight_13 ?_
    refine wg_aload_0 (pc := 14) C dX5_weight_14 ?_
    refine gX5_19 (pc := 15) C (hM.bay (by omega) (by omega)) rfl dX5_weight_15 ?_
    refine wg_iload_1 (pc := 18) C dX5_weight_18 ?_
    refine wg_iald (pc := 19) C (hM.la (by omega) (by omega)) rfl (by omega) (by omega) (by decide) dX5_weight_19 ?_
    refine wg_max (pc := 20) C q1376 dX5_weight_20 (by unfold InR; omega) (by unfold InR; omega) (by decide) (Nat.le_of_ble_eq_true rfl) rfl ?_
    refine wg_goto (tgt := 32) (pc := 23) C dX5_weight_23 (by decide) ?_
    refine wg_nm (fun y hy => ?_)
    have ey : y = wgt σ b l r := by rw [hy]; unfold wgt; first | rw [if_pos h1] | rw [if_neg h1]
    refine wg_istore_3 (pc := 32) C dX5_weight_32 rfl ?_
    refine wg_aload_0 (pc := 33) C dX5_weight_33 ?_
    refine gX5_9 (pc := 34) C (hM.bay (by omega) (by omega)) rfl dX5_weight_34 ?_
    refine wg_iload_1 (pc := 37) C dX5_weight_37 ?_
    refine wg_zald (pc := 38) C (hM.bd (by omega) (by omega)) rfl (by omega) (by omega) (by decide) dX5_weight_38 ?_
    refine wg_if_eq (tgt := 47) (pc := 39) C dX5_weight_39 (by decide) (by unfold InR; omega) (fun h39 => ?_) (fun h39 => ?_)
    · refine wg_iconst (pc := 47) C dX5_weight_47 ?_
      refine wg_iload_3 (pc := 48) C dX5_weight_48 ?_
      refine wg_iadd (pc := 49) C dX5_weight_49 ?_
      refine wg_iret (pc := 50) C hQ dX5_weight_50 ?_
      exact ⟨by rw [ey]; first | rw [if_pos h39] | rw [if_neg h39], rfl⟩
    · refine wg_bipush (pc := 42) C dX5_weight_42 (by decide) ?_
      refine wg_goto (tgt := 48) (pc := 44) C dX5_weight_44 (by decide) ?_
      refine wg_iload_3 (pc := 48) C dX5_weight_48 ?_
      refine wg_iadd (pc := 49) C dX5_weight_49 ?_
      refine wg_iret (pc := 50) C hQ dX5_weight_50 ?_
      exact ⟨by rw [ey]; first | rw [if_pos h39] | rw [if_neg h39], rfl⟩

theorem tX2_halfOf {G : Gm} {w : Wo} {σ ζ : St} (hM : HasM G w σ ζ) (hO : Ok σ) {b l r : Int} (hb : InR b) (hl0 : 0 ≤ l) (hl1 : l ≤ 1000) (hr : InR r) : PCt G mX2_halfOf 5 w [.ref (w.1 (20, 0)), vI b, vI l, vI r] (vI (half σ b l r)) (0 ≤ half σ b l r ∧ half σ b l r ≤ 330) := by
  refine ⟨ct_of [some (.ref (w.1 (20, 0))), some (vI b), some (vI l), some (vI r)] plX2 rfl (Nat.le_of_ble_eq_true rfl) rfl ?_, half_rng hO b l r⟩
  intro X hG C hnm hQ
  subst hG
  change CxOk X cX2_halfOf 4 RX2 (some .int) 5 at C
  have hB := hO.hB
  have hF := hO.hF
  have hbc := hM.bc
  have hfc0 := hM.fc
  have hlf := hO.lf b
  unfold InR at hb hr
  refine wg_aload_0 (pc := 0) C dX2_halfOf_0 ?_
  refine wg_iload_1 (pc := 1) C dX2_halfOf_1 ?_
  refine wg_iload_2 (pc := 2) C dX2_halfOf_2 ?_
  refine wg_callVP (pc := 3) C kX2_has q1267 (tX2_has hM hO (by unfold InR; omega) (by unfold InR; omega)) (rc_of C hM.obj rfl) dX2_halfOf_3 rfl rfl (Nat.le_of_ble_eq_true rfl) rfl (by decide) (fun f3 => ?_)
  refine wg_ifeqB (tgt := 32) (pc := 6) C dX2_halfOf_6 (by decide) (fun h6 => ?_) (fun h6 => ?_)
  · refine wg_iconst (pc := 32) C dX2_halfOf_32 ?_
    refine wg_iret (pc := 33) C hQ dX2_halfOf_33 ?_
    first
      | exact ⟨vI_c (half_out (by omega)).symm, rfl⟩
      | exact ⟨vI_c (half_in (by omega) (by omega) (by omega)).symm, rfl⟩
  · refine wg_aload_0 (pc := 9) C dX2_halfOf_9 ?_
    refine gX2_16 (pc := 10) C hM.obj rfl dX2_halfOf_10 ?_
    refine wg_iload_1 (pc := 13) C dX2_halfOf_13 ?_
    refine wg_callFP (pc := 14) C kF_get q1224 (tJ2_get (hM.blA (by omega)) (hM.baA (by omega)) (by omega) (by omega) (by omega) (by omega) (rws_at (by omega) (by omega))) (rc_of C hM.bl rfl) dX2_halfOf_14 rfl rfl (Nat.le_of_ble_eq_true rfl) rfl (by decide) (fun f14 => ?_)
    refine wg_cast (pc := 19) (ci := 5) C rfl q1184 (rc_of C (hM.bay (by omega) (by omega)) rfl) dX2_halfOf_19 ?_
    refine wg_iload_2 (pc := 22) C dX2_halfOf_22 ?_
    refine wg_iload_3 (pc := 23) C dX2_halfOf_23 ?_
    refine wg_callVP (pc := 24) C kX5_weight q1371 (tX5_weight hM hO (by omega) (by omega) (by omega) (by omega) (by unfold InR; omega)) (rc_of C (hM.bay (by omega) (by omega)) rfl) dX2_halfOf_24 rfl rfl (Nat.le_of_ble_eq_true rfl) rfl (by decide) (fun f24 => ?_)
    have hbx : 0 ≤ (if σ 5 b l = 0 then (0 : Int) else 60) ∧ (if σ 5 b l = 0 then (0 : Int) else 60) ≤ 60 := by split <;> omega
    refine wg_iconst (pc := 27) C dX2_halfOf_27 ?_
    refine wg_idiv (pc := 28) C dX2_halfOf_28 (by omega) (by omega) (by omega) (by omega) ?_
    refine wg_goto (tgt := 33) (pc := 29) C dX2_halfOf_29 (by decide) ?_
    refine wg_iret (pc := 33) C hQ dX2_halfOf_33 ?_
    first
      | exact ⟨vI_c (half_out (by omega)).symm, rfl⟩
      | exact ⟨vI_c (half_in (by omega) (by omega) (by omega)).symm, rfl⟩

theorem tX2_loadOf {G : Gm} {w : Wo} {σ ζ : St} (hM : HasM G w σ ζ) (hO : Ok σ) {p l r : Int} (hp0 : 0 ≤ p) (hp1 : p ≤ nB σ) (hl0 : 0 ≤ l) (hl1 : l ≤ 1000) (hr : InR r) : PCt G mX2_loadOf 6 w [.ref (w.1 (20, 0)), vI p, vI l, vI r] (vI (load σ p l r)) (0 ≤ load σ p l r ∧ load σ p l r ≤ 5760) := by
  refine ⟨ct_of [some (.ref (w.1 (20, 0))), some (vI p), some (vI l), some (vI r), none, none] plX2 rfl (Nat.le_of_ble_eq_true rfl) rfl ?_, load_rng hO p hl0 r⟩
  intro X hG C hnm hQ
  subst hG
  change CxOk X cX2_loadOf 6 RX2 (some .int) 6 at C
  have hB := hO.hB
  have hF := hO.hF
  have hbc := hM.bc
  have hfc0 := hM.fc
  have hlv := levelsOf_rng hO p
  have hr2 := hr
  unfold InR at hr2
  have L6 : ∀ (N : Nat) (k s : Int), (levelsOf σ p - k).toNat = N → l ≤ k → (k ≤ levelsOf σ p ∨ k = l) → s = sm (fun k => 20 * stds σ p + half σ (p - 1) k r + half σ p k r) l k → WG X 6 [some (.ref (w.1 (20, 0))), some (vI p), some (vI l), some (vI r), some (vI s), some (vI k)] [] w 0 0 := by
    intro N
    induction N using Nat.strongRecOn with | _ N IH => ?_
    intro k s hN hk0 hk1 hs
    refine wg_iload_5 (pc := 6) C dX2_loadOf_6 ?_
    refine wg_aload_0 (pc := 8) C dX2_loadOf_8 ?_
    refine wg_iload_1 (pc := 9) C dX2_loadOf_9 ?_
    refine wg_callVP (pc := 10) C kX2_levelsOf q1243 (tX2_levelsOf hM hO (by omega) (by omega)) (rc_of C hM.obj rfl) dX2_loadOf_10 rfl rfl (Nat.le_of_ble_eq_true rfl) rfl (by decide) (fun f10 => ?_)
    refine wg_icmp_ge (tgt := 55) (pc := 13) C dX2_loadOf_13 (by decide) (by unfold InR; omega) (by unfold InR; omega) (fun h13 => ?_) (fun h13 => ?_)
    · refine wg_iload_4 (pc := 55) C dX2_loadOf_55 ?_
      refine wg_iret (pc := 57) C hQ dX2_loadOf_57 ?_
      exact ⟨vI_c (by rw [hs]; unfold load; exact sm_exit (by omega)), rfl⟩
    · refine wg_iload_4 (pc := 16) C dX2_loadOf_16 ?_
      refine wg_bipush (pc := 18) C dX2_loadOf_18 (by decide) ?_
      refine wg_aload_0 (pc := 20) C dX2_loadOf_20 ?_
      refine wg_iload_1 (pc := 21) C dX2_loadOf_21 ?_
      refine wg_callVP (pc := 22) C kX2_standards q1363 (tX2_standards hM hO (by unfold InR; omega)) (rc_of C hM.obj rfl) dX2_loadOf_22 rfl rfl (Nat.le_of_ble_eq_true rfl) rfl (by decide) (fun f22 => ?_)
      refine wg_imul (pc := 25) C dX2_loadOf_25 ?_
      refine wg_aload_0 (pc := 26) C dX2_loadOf_26 ?_
      refine wg_iload_1 (pc := 27) C dX2_loadOf_27 ?_
      refine wg_iconst (pc := 28) C dX2_loadOf_28 ?_
      refine wg_isub (pc := 29) C dX2_loadOf_29 ?_
      refine wg_iload_5 (pc := 30) C dX2_loadOf_30 ?_
      refine wg_iload_3 (pc := 32) C dX2_loadOf_32 ?_
      refine wg_callVP (pc := 33) C kX2_halfOf q1367 (tX2_halfOf hM hO (by unfold InR; omega) (by omega) (by omega) (by unfold InR; omega)) (rc_of C hM.obj rfl) dX2_loadOf_33 rfl rfl (Nat.le_of_ble_eq_true rfl) rfl (by decide) (fun f33 => ?_)
      refine wg_iadd (pc := 36) C dX2_loadOf_36 ?_
      refine wg_aload_0 (pc := 37) C dX2_loadOf_37 ?_
      refine wg_iload_1 (pc := 38) C dX2_loadOf_38 ?_
      refine wg_iload_5 (pc := 39) C dX2_loadOf_39 ?_
      refine wg_iload_3 (pc := 41) C dX2_loadOf_41 ?_
      refine wg_callVP (pc := 42) C kX2_halfOf q1367 (tX2_halfOf hM hO (by unfold InR; omega) (by omega) (by omega) (by unfold InR; omega)) (rc_of C hM.obj rfl) dX2_loadOf_42 rfl rfl (Nat.le_of_ble_eq_true rfl) rfl (by decide) (fun f42 => ?_)
      refine wg_iadd (pc := 45) C dX2_loadOf_45 ?_
      refine wg_iadd (pc := 46) C dX2_loadOf_46 ?_
      refine wg_istore_4 (pc := 47) C dX2_loadOf_47 rfl ?_
      refine wg_iinc_5 (pc := 49) C dX2_loadOf_49 rfl ?_
      refine wg_goto (tgt := 6) (pc := 52) C dX2_loadOf_52 (by decide) ?_
      exact IH _ (by omega) (k + 1) _ rfl (by omega) (by omega) (by rw [sm_succ _ (by omega), ← hs])
  refine wg_iconst (pc := 0) C dX2_loadOf_0 ?_
  refine wg_istore_4 (pc := 1) C dX2_loadOf_1 rfl ?_
  refine wg_iload_2 (pc := 3) C dX2_loadOf_3 ?_
  refine wg_istore_5 (pc := 4) C dX2_loadOf_4 rfl ?_
  exact L6 _ l 0 rfl (by omega) (by omega) (by rw [sm_nil _ (by omega)])

theorem tX2_asksFor {G : Gm} {w : Wo} {σ ζ : St} (hM : HasM G w σ ζ) (hO : Ok σ) {p l : Int} (hp0 : 0 ≤ p) (hp1 : p ≤ nB σ) (hl0 : 0 ≤ l) (hl1 : l ≤ 1000) : PCt G mX2_asksFor 5 w [.ref (w.1 (20, 0)), vI p, vI l] (vI (if asks σ p l then 1 else 0)) (True) := by
  refine ⟨ct_of [some (.ref (w.1 (20, 0))), some (vI p), some (vI l)] plX2 rfl (Nat.le_of_ble_eq_true rfl) rfl ?_, trivial⟩
  intro X hG C hnm hQ
  subst hG
  change CxOk X cX2_asksFor 3 RX2 (some .boolean) 5 at C
  have hB := hO.hB
  have hF := hO.hF
  have hbc := hM.bc
  have hfc0 := hM.fc
  have hps := pos_rng hO
  have hz0 : nB σ = 0 → levelsOf σ p = 0 := fun z => levelsOf_0 z p
  refine wg_iload_2 (pc := 0) C dX2_asksFor_0 ?_
  refine wg_iconst (pc := 1) C dX2_asksFor_1 ?_
  refine wg_irem (pc := 2) C dX2_asksFor_2 (by omega) (by omega) (by omega) (by omega) ?_
  refine wg_iconst (pc := 3) C dX2_asksFor_3 ?_
  refine wg_icmp_ne (tgt := 30) (pc := 4) C dX2_asksFor_4 (by decide) (by unfold InR; omega) (by unfold InR; omega) (fun h4 => ?_) (fun h4 => ?_)
  · refine wg_iconst (pc := 30) C dX2_asksFor_30 ?_
    refine wg_zret (pc := 31) C hQ dX2_asksFor_31 (by omega) ?_
    exact ⟨by first | exact vB_t ⟨by omega, by omega, by omega, by omega, by omega⟩ | exact vB_f (fun z => by omega), rfl⟩
  · refine wg_iload_2 (pc := 7) C dX2_asksFor_7 ?_
    refine wg_aload_0 (pc := 8) C dX2_asksFor_8 ?_
    refine wg_iload_1 (pc := 9) C dX2_asksFor_9 ?_
    refine wg_callVP (pc := 10) C kX2_levelsOf q1243 (tX2_levelsOf hM hO (by omega) (by omega)) (rc_of C hM.obj rfl) dX2_asksFor_10 rfl rfl (Nat.le_of_ble_eq_true rfl) rfl (by decide) (fun f10 => ?_)
    refine wg_icmp_ge (tgt := 30) (pc := 13) C dX2_asksFor_13 (by decide) (by unfold InR; omega) (by unfold InR; omega) (fun h13 => ?_) (fun h13 => ?_)
    · refine wg_iconst (pc := 30) C dX2_asksFor_30 ?_
      refine wg_zret (pc := 31) C hQ dX2_asksFor_31 (by omega) ?_
      exact ⟨by first | exact vB_t ⟨by omega, by omega, by omega, by omega, by omega⟩ | exact vB_f (fun z => by omega), rfl⟩
    · refine wg_iload_1 (pc := 16) C dX2_asksFor_16 ?_
      refine wg_iload_2 (pc := 17) C dX2_asksFor_17 ?_
      refine wg_iconst (pc := 18) C dX2_asksFor_18 ?_
      refine wg_idiv (pc := 19) C dX2_asksFor_19 (by omega) (by omega) (by omega) (by omega) ?_
      refine wg_iadd (pc := 20) C dX2_asksFor_20 ?_
      refine wg_iconst (pc := 21) C dX2_asksFor_21 ?_
      refine wg_irem (pc := 22) C dX2_asksFor_22 (by omega) (by omega) (by omega) (by omega) ?_
      refine wg_if_ne (tgt := 30) (pc := 23) C dX2_asksFor_23 (by decide) (by unfold InR; omega) (fun h23 => ?_) (fun h23 => ?_)
      · refine wg_iconst (pc := 30) C dX2_asksFor_30 ?_
        refine wg_zret (pc := 31) C hQ dX2_asksFor_31 (by omega) ?_
        exact ⟨by first | exact vB_t ⟨by omega, by omega, by omega, by omega, by omega⟩ | exact vB_f (fun z => by omega), rfl⟩
      · refine wg_iconst (pc := 26) C dX2_asksFor_26 ?_
        refine wg_goto (tgt := 31) (pc := 27) C dX2_asksFor_27 (by decide) ?_
        refine wg_zret (pc := 31) C hQ dX2_asksFor_31 (by omega) ?_
        exact ⟨by first | exact vB_t ⟨by omega, by omega, by omega, by omega, by omega⟩ | exact vB_f (fun z => by omega), rfl⟩

