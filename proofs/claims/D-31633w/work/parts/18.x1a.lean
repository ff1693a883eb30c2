/-! the class: methods that change nothing -/
set_option maxRecDepth 100000
set_option maxHeartbeats 4000000
theorem tX1_inRange {G : Gm} {w : Wo} {v a b : Int} (hv : InR v) (ha : InR a) (hb : InR b) : PCt G mX1_inRange 1 w [vI v, vI a, vI b] (vI (if a ≤ v ∧ v ≤ b then 1 else 0)) (True) := by
  refine ⟨ct_of [some (vI v), some (vI a), some (vI b)] plX1 rfl (Nat.le_of_ble_eq_true rfl) rfl ?_, trivial⟩
  intro X hG C hnm hQ
  subst hG
  change CxOk X cX1_inRange 3 RX1 (some .boolean) 1 at C
  unfold InR at hv ha hb
  refine wg_iload_0 (pc := 0) C dX1_inRange_0 ?_
  refine wg_iload_1 (pc := 1) C dX1_inRange_1 ?_
  refine wg_icmp_lt (tgt := 14) (pc := 2) C dX1_inRange_2 (by decide) (by unfold InR; omega) (by unfold InR; omega) (fun h2 => ?_) (fun h2 => ?_)
  · refine wg_iconst (pc := 14) C dX1_inRange_14 ?_
    refine wg_zret (pc := 15) C hQ dX1_inRange_15 (by omega) ?_
    exact ⟨by first | exact vB_t (by omega) | exact vB_f (by omega), rfl⟩
  · refine wg_iload_0 (pc := 5) C dX1_inRange_5 ?_
    refine wg_iload_2 (pc := 6) C dX1_inRange_6 ?_
    refine wg_icmp_gt (tgt := 14) (pc := 7) C dX1_inRange_7 (by decide) (by unfold InR; omega) (by unfold InR; omega) (fun h7 => ?_) (fun h7 => ?_)
    · refine wg_iconst (pc := 14) C dX1_inRange_14 ?_
      refine wg_zret (pc := 15) C hQ dX1_inRange_15 (by omega) ?_
      exact ⟨by first | exact vB_t (by omega) | exact vB_f (by omega), rfl⟩
    · refine wg_iconst (pc := 10) C dX1_inRange_10 ?_
      refine wg_goto (tgt := 15) (pc := 11) C dX1_inRange_11 (by decide) ?_
      refine wg_zret (pc := 15) C hQ dX1_inRange_15 (by omega) ?_
      exact ⟨by first | exact vB_t (by omega) | exact vB_f (by omega), rfl⟩

theorem tX1_bornBy {G : Gm} {w : Wo} {z : Int} (hz : InR z) : PCt G mX1_bornBy 1 w [vI z] (vI (bears z)) (0 ≤ bears z ∧ bears z ≤ 600) := by
  refine ⟨ct_of [some (vI z)] plX1 rfl (Nat.le_of_ble_eq_true rfl) rfl ?_, bears_rng z⟩
  intro X hG C hnm hQ
  subst hG
  change CxOk X cX1_bornBy 1 RX1 (some .int) 1 at C
  refine wg_iload_0 (pc := 0) C dX1_bornBy_0 ?_
  have hz2 := hz
  unfold InR at hz2
  by_cases hlo : z < 0 ∨ 5 < z
  · refine wg_tblOut (pc := 1) (tgt := 73) C dX1_bornBy_1 hz hlo (by decide) ?_
    refine wg_sipush (pc := 73) C dX1_bornBy_73 (by decide) ?_
    refine wg_iret (pc := 76) C hQ dX1_bornBy_76 ⟨vI_c ?_, rfl⟩
    unfold bears
    repeat' split
    all_goals omega
  · have hc : z = 0 ∨ z = 1 ∨ z = 2 ∨ z = 3 ∨ z = 4 ∨ z = 5 := by omega
    rcases hc with rfl | rfl | rfl | rfl | rfl | rfl
    · refine wg_tblIn (pc := 1) (tgt := 40) C dX1_bornBy_1 hz (by decide) (by decide) rfl (by decide) ?_
      refine wg_iconst (pc := 40) C dX1_bornBy_40 ?_
      refine wg_goto (pc := 41) (tgt := 76) C dX1_bornBy_41 (by decide) ?_
      exact wg_iret (pc := 76) C hQ dX1_bornBy_76 ⟨rfl, rfl⟩
    · refine wg_tblIn (pc := 1) (tgt := 44) C dX1_bornBy_1 hz (by decide) (by decide) rfl (by decide) ?_
      refine wg_bipush (pc := 44) C dX1_bornBy_44 (by decide) ?_
      refine wg_goto (pc := 46) (tgt := 76) C dX1_bornBy_46 (by decide) ?_
      exact wg_iret (pc := 76) C hQ dX1_bornBy_76 ⟨rfl, rfl⟩
    · refine wg_tblIn (pc := 1) (tgt := 49) C dX1_bornBy_1 hz (by decide) (by decide) rfl (by decide) ?_
      refine wg_sipush (pc := 49) C dX1_bornBy_49 (by decide) ?_
      refine wg_goto (pc := 52) (tgt := 76) C dX1_bornBy_52 (by decide) ?_
      exact wg_iret (pc := 76) C hQ dX1_bornBy_76 ⟨rfl, rfl⟩
    · refine wg_tblIn (pc := 1) (tgt := 55) C dX1_bornBy_1 hz (by decide) (by decide) rfl (by decide) ?_
      refine wg_sipush (pc := 55) C dX1_bornBy_55 (by decide) ?_
      refine wg_goto (pc := 58) (tgt := 76) C dX1_bornBy_58 (by decide) ?_
      exact wg_iret (pc := 76) C hQ dX1_bornBy_76 ⟨rfl, rfl⟩
    · refine wg_tblIn (pc := 1) (tgt := 61) C dX1_bornBy_1 hz (by decide) (by decide) rfl (by decide) ?_
      refine wg_sipush (pc := 61) C dX1_bornBy_61 (by decide) ?_
      refine wg_goto (pc := 64) (tgt := 76) C dX1_bornBy_64 (by decide) ?_
      exact wg_iret (pc := 76) C hQ dX1_bornBy_76 ⟨rfl, rfl⟩
    · refine wg_tblIn (pc := 1) (tgt := 67) C dX1_bornBy_1 hz (by decide) (by decide) rfl (by decide) ?_
      refine wg_sipush (pc := 67) C dX1_bornBy_67 (by decide) ?_
      refine wg_goto (pc := 70) (tgt := 76) C dX1_bornBy_70 (by decide) ?_
      exact wg_iret (pc := 76) C hQ dX1_bornBy_76 ⟨rfl, rfl⟩

theorem tX1_positions {G : Gm} {w : Wo} {σ ζ : St} (hX : HasX G w σ ζ) (hO : Ok σ) : PCt G mX1_positions 2 w [.ref (w.1 (0, 0))] (vI (pos σ)) (0 ≤ pos σ ∧ pos σ ≤ 25 ∧ (nB σ = 0 → pos σ = 0) ∧ (nB σ ≠ 0 → pos σ = nB σ + 1)) := by
  refine ⟨ct_of [some (.ref (w.1 (0, 0)))] plX1 rfl (Nat.le_of_ble_eq_true rfl) rfl ?_, pos_rng hO⟩
  intro X hG C hnm hQ
  subst hG
  change CxOk X cX1_positions 1 RX1 (some .int) 2 at C
  have hB := hO.hB
  have hF := hO.hF
  refine wg_aload_0 (pc := 0) C dX1_positions_0 ?_
  refine gX1_33 (pc := 1) C hX.obj rfl dX1_positions_1 ?_
  refine wg_callFP (pc := 4) C kF_isEmpty q467 (tJ2_isEmpty hX.bl (by unfold InR; omega)) (rc_of C hX.bl rfl) dX1_positions_4 rfl rfl (Nat.le_of_ble_eq_true rfl) rfl (by decide) (fun f4 => ?_)
  refine wg_ifeqB (tgt := 16) (pc := 9) C dX1_positions_9 (by decide) (fun h9 => ?_) (fun h9 => ?_)
  · refine wg_aload_0 (pc := 16) C dX1_positions_16 ?_
    refine gX1_33 (pc := 17) C hX.obj rfl dX1_positions_17 ?_
    refine wg_callFP (pc := 20) C kF_size q477 (tJ2_size hX.bl) (rc_of C hX.bl rfl) dX1_positions_20 rfl rfl (Nat.le_of_ble_eq_true rfl) rfl (by decide) (fun f20 => ?_)
    refine wg_iconst (pc := 25) C dX1_positions_25 ?_
    refine wg_iadd (pc := 26) C dX1_positions_26 ?_
    refine wg_iret (pc := 27) C hQ dX1_positions_27 ?_
    have hp := pos_rng hO
    exact ⟨vI_c (by omega), rfl⟩
  · refine wg_iconst (pc := 12) C dX1_positions_12 ?_
    refine wg_goto (tgt := 27) (pc := 13) C dX1_positions_13 (by decide) ?_
    refine wg_iret (pc := 27) C hQ dX1_positions_27 ?_
    have hp := pos_rng hO
    exact ⟨vI_c (by omega), rfl⟩

theorem tX1_isBetween {G : Gm} {w : Wo} {σ ζ : St} (hX : HasX G w σ ζ) (hO : Ok σ) {p : Int} (hp : InR p) : PCt G mX1_isBetween 4 w [.ref (w.1 (0, 0)), vI p] (vI (if btw σ p then 1 else 0)) (True) := by
  refine ⟨ct_of [some (.ref (w.1 (0, 0))), some (vI p)] plX1 rfl (Nat.le_of_ble_eq_true rfl) rfl ?_, trivial⟩
  intro X hG C hnm hQ
  subst hG
  change CxOk X cX1_isBetween 2 RX1 (some .boolean) 4 at C
  have hB := hO.hB
  have hF := hO.hF
  unfold InR at hp
  refine wg_iload_1 (pc := 0) C dX1_isBetween_0 ?_
  refine wg_if_le (tgt := 58) (pc := 1) C dX1_isBetween_1 (by decide) (by unfold InR; omega) (fun h1 => ?_) (fun h1 => ?_)
  · refine wg_iconst (pc := 58) C dX1_isBetween_58 ?_
    refine wg_zret (pc := 59) C hQ dX1_isBetween_59 (by omega) ?_
    exact ⟨by first | exact vB_t ⟨by omega, by omega, e51⟩ | exact vB_f (fun z => by omega), rfl⟩
  · refine wg_iload_1 (pc := 4) C dX1_isBetween_4 ?_
    refine wg_aload_0 (pc := 5) C dX1_isBetween_5 ?_
    refine gX1_33 (pc := 6) C hX.obj rfl dX1_isBetween_6 ?_
    refine wg_callFP (pc := 9) C kF_size q477 (tJ2_size hX.bl) (rc_of C hX.bl rfl) dX1_isBetween_9 rfl rfl (Nat.le_of_ble_eq_true rfl) rfl (by decide) (fun f9 => ?_)
    refine wg_icmp_ge (tgt := 58) (pc := 14) C dX1_isBetween_14 (by decide) (by unfold InR; omega) (by unfold InR; omega) (fun h14 => ?_) (fun h14 => ?_)
    · refine wg_iconst (pc := 58) C dX1_isBetween_58 ?_
      refine wg_zret (pc := 59) C hQ dX1_isBetween_59 (by omega) ?_
      exact ⟨by first | exact vB_t ⟨by omega, by omega, e51⟩ | exact vB_f (fun z => by omega), rfl⟩
    · refine wg_aload_0 (pc := 17) C dX1_isBetween_17 ?_
      refine gX1_33 (pc := 18) C hX.obj rfl dX1_isBetween_18 ?_
      refine wg_iload_1 (pc := 21) C dX1_isBetween_21 ?_
      refine wg_callFP (pc := 22) C kF_get q497 (tJ2_get hX.bl hX.ba (by omega) (by omega) (by omega) (by decide) (rws_at (by omega) (by omega))) (rc_of C hX.bl rfl) dX1_isBetween_22 rfl rfl (Nat.le_of_ble_eq_true rfl) rfl (by decide) (fun f22 => ?_)
      refine wg_cast (pc := 27) (ci := 3) C rfl q515 (rc_of C (hX.bay (by omega) (by omega)) rfl) dX1_isBetween_27 ?_
      refine gX1_46 (pc := 30) C (hX.bay (by omega) (by omega)) rfl dX1_isBetween_30 ?_
      refine wg_aload_0 (pc := 33) C dX1_isBetween_33 ?_
      refine gX1_33 (pc := 34) C hX.obj rfl dX1_isBetween_34 ?_
      refine wg_iload_1 (pc := 37) C dX1_isBetween_37 ?_
      refine wg_iconst (pc := 38) C dX1_isBetween_38 ?_
      refine wg_isub (pc := 39) C dX1_isBetween_39 ?_
      refine wg_callFP (pc := 40) C kF_get q497 (tJ2_get hX.bl hX.ba (by omega) (by omega) (by omega) (by decide) (rws_at (by omega) (by omega))) (rc_of C hX.bl rfl) dX1_isBetween_40 rfl rfl (Nat.le_of_ble_eq_true rfl) rfl (by decide) (fun f40 => ?_)
      refine wg_cast (pc := 45) (ci := 3) C rfl q515 (rc_of C (hX.bay (by omega) (by omega)) rfl) dX1_isBetween_45 ?_
      refine gX1_46 (pc := 48) C (hX.bay (by omega) (by omega)) rfl dX1_isBetween_48 ?_
      have hb1 := hO.by (k := p) (by omega) (by omega)
      have hb2 := hO.by (k := p - 1) (by omega) (by omega)
      refine wg_acmpT_eq (pc := 51) (tgt := 58) C (hX.face (by omega) (by omega)) (hX.face (by omega) (by omega)) dX1_isBetween_51 (by decide) (fun h51 => ?_) (fun h51 => ?_)
      · have e51 : bfc σ p = bfc σ (p - 1) := congrArg Prod.snd h51
        refine wg_iconst (pc := 58) C dX1_isBetween_58 ?_
        exact wg_zret (pc := 59) C hQ dX1_isBetween_59 (by omega) ⟨vB_f (fun z => z.2.2 e51), rfl⟩
      have e51 : ¬ bfc σ p = bfc σ (p - 1) := fun z => h51 (by rw [z])
      refine wg_iconst (pc := 54) C dX1_isBetween_54 ?_
      refine wg_goto (tgt := 59) (pc := 55) C dX1_isBetween_55 (by decide) ?_
      refine wg_zret (pc := 59) C hQ dX1_isBetween_59 (by omega) ?_
      exact ⟨by first | exact vB_t ⟨by omega, by omega, e51⟩ | exact vB_f (fun z => by omega), rfl⟩

theorem tX1_liftsOf {G : Gm} {w : Wo} {σ ζ : St} (hX : HasX G w σ ζ) (hO : Ok σ) {b : Int} (hb : InR b) : PCt G mX1_liftsOf 4 w [.ref (w.1 (0, 0)), vI b] (vI (liftsOf σ b)) (0 ≤ liftsOf σ b ∧ liftsOf σ b ≤ 8) := by
  refine ⟨ct_of [some (.ref (w.1 (0, 0))), some (vI b)] plX1 rfl (Nat.le_of_ble_eq_true rfl) rfl ?_, liftsOf_rng hO b⟩
  intro X hG C hnm hQ
  subst hG
  change CxOk X cX1_liftsOf 2 RX1 (some .int) 4 at C
  have hB := hO.hB
  have hF := hO.hF
  unfold InR at hb
  refine wg_iload_1 (pc := 0) C dX1_liftsOf_0 ?_
  refine wg_iconst (pc := 1) C dX1_liftsOf_1 ?_
  refine wg_aload_0 (pc := 2) C dX1_liftsOf_2 ?_
  refine gX1_33 (pc := 3) C hX.obj rfl dX1_liftsOf_3 ?_
  refine wg_callFP (pc := 6) C kF_size q477 (tJ2_size hX.bl) (rc_of C hX.bl rfl) dX1_liftsOf_6 rfl rfl (Nat.le_of_ble_eq_true rfl) rfl (by decide) (fun f6 => ?_)
  refine wg_iconst (pc := 11) C dX1_liftsOf_11 ?_
  refine wg_isub (pc := 12) C dX1_liftsOf_12 ?_
  refine wg_callSP (pc := 13) C kX1_inRange q485 (tX1_inRange (by unfold InR; omega) (by unfold InR; omega) (by unfold InR; omega)) dX1_liftsOf_13 rfl rfl (Nat.le_of_ble_eq_true rfl) rfl (by decide) (fun f13 => ?_)
  refine wg_ifeqB (tgt := 38) (pc := 16) C dX1_liftsOf_16 (by decide) (fun h16 => ?_) (fun h16 => ?_)
  · refine wg_iconst (pc := 38) C dX1_liftsOf_38 ?_
    refine wg_iret (pc := 39) C hQ dX1_liftsOf_39 ?_
    exact ⟨vI_c (by first | exact (liftsOf_in (by omega) (by omega)).symm | exact (liftsOf_out (by omega)).symm), rfl⟩
  · refine wg_aload_0 (pc := 19) C dX1_liftsOf_19 ?_
    refine gX1_33 (pc := 20) C hX.obj rfl dX1_liftsOf_20 ?_
    refine wg_iload_1 (pc := 23) C dX1_liftsOf_23 ?_
    refine wg_callFP (pc := 24) C kF_get q497 (tJ2_get hX.bl hX.ba (by omega) (by omega) (by omega) (by decide) (rws_at (by omega) (by omega))) (rc_of C hX.bl rfl) dX1_liftsOf_24 rfl rfl (Nat.le_of_ble_eq_true rfl) rfl (by decide) (fun f24 => ?_)
    refine wg_cast (pc := 29) (ci := 3) C rfl q515 (rc_of C (hX.bay (by omega) (by omega)) rfl) dX1_liftsOf_29 ?_
    refine gX1_50 (pc := 32) C (hX.bay (by omega) (by omega)) rfl dX1_liftsOf_32 ?_
    refine wg_goto (tgt := 39) (pc := 35) C dX1_liftsOf_35 (by decide) ?_
    refine wg_iret (pc := 39) C hQ dX1_liftsOf_39 ?_
    exact ⟨vI_c (by first | exact (liftsOf_in (by omega) (by omega)).symm | exact (liftsOf_out (by omega)).symm), rfl⟩

theorem tX1_levelsOf {G : Gm} {w : Wo} {σ ζ : St} (hX : HasX G w σ ζ) (hO : Ok σ) {p : Int} (h0 : -1000 ≤ p) (h1 : p ≤ 1000) : PCt G mX1_levelsOf 5 w [.ref (w.1 (0, 0)), vI p] (vI (levelsOf σ p)) (0 ≤ levelsOf σ p ∧ levelsOf σ p ≤ 8) := by
  refine ⟨ct_of [some (.ref (w.1 (0, 0))), some (vI p)] plX1 rfl (Nat.le_of_ble_eq_true rfl) rfl ?_, levelsOf_rng hO p⟩
  intro X hG C hnm hQ
  subst hG
  change CxOk X cX1_levelsOf 2 RX1 (some .int) 5 at C
  have hB := hO.hB
  have hF := hO.hF
  refine wg_aload_0 (pc := 0) C dX1_levelsOf_0 ?_
  refine wg_iload_1 (pc := 1) C dX1_levelsOf_1 ?_
  refine wg_iconst (pc := 2) C dX1_levelsOf_2 ?_
  refine wg_isub (pc := 3) C dX1_levelsOf_3 ?_
  refine wg_callVP (pc := 4) C kX1_liftsOf q492 (tX1_liftsOf hX hO (by unfold InR; omega)) (rc_of C hX.obj rfl) dX1_levelsOf_4 rfl rfl (Nat.le_of_ble_eq_true rfl) rfl (by decide) (fun f4 => ?_)
  refine wg_aload_0 (pc := 7) C dX1_levelsOf_7 ?_
  refine wg_iload_1 (pc := 8) C dX1_levelsOf_8 ?_
  refine wg_callVP (pc := 9) C kX1_liftsOf q492 (tX1_liftsOf hX hO (by unfold InR; omega)) (rc_of C hX.obj rfl) dX1_levelsOf_9 rfl rfl (Nat.le_of_ble_eq_true rfl) rfl (by decide) (fun f9 => ?_)
  refine wg_max (pc := 12) C q516 dX1_levelsOf_12 (by unfold InR; omega) (by unfold InR; omega) (by decide) (Nat.le_of_ble_eq_true rfl) rfl ?_
  refine wg_iret (pc := 15) C hQ dX1_levelsOf_15 ?_
  exact ⟨rfl, rfl⟩

theorem tX1_hasLevel {G : Gm} {w : Wo} {σ ζ : St} (hX : HasX G w σ ζ) (hO : Ok σ) {p l : Int} (hp : InR p) (hl : InR l) : PCt G mX1_hasLevel 6 w [.ref (w.1 (0, 0)), vI p, vI l] (vI (if hasLv σ p l then 1 else 0)) (True) := by
  refine ⟨ct_of [some (.ref (w.1 (0, 0))), some (vI p), some (vI l)] plX1 rfl (Nat.le_of_ble_eq_true rfl) rfl ?_, trivial⟩
  intro X hG C hnm hQ
  subst hG
  change CxOk X cX1_hasLevel 3 RX1 (some .boolean) 6 at C
  have hB := hO.hB
  have hF := hO.hF
  unfold InR at hp hl
  refine wg_iload_1 (pc := 0) C dX1_hasLevel_0 ?_
  refine wg_iconst (pc := 1) C dX1_hasLevel_1 ?_
  refine wg_aload_0 (pc := 2) C dX1_hasLevel_2 ?_
  refine wg_callVP (pc := 3) C kX1_positions q462 (tX1_positions hX hO) (rc_of C hX.obj rfl) dX1_hasLevel_3 rfl rfl (Nat.le_of_ble_eq_true rfl) rfl (by decide) (fun f3 => ?_)
  refine wg_iconst (pc := 6) C dX1_hasLevel_6 ?_
  refine wg_isub (pc := 7) C dX1_hasLevel_7 ?_
  refine wg_callSP (pc := 8) C kX1_inRange q485 (tX1_inRange (by unfold InR; omega) (by unfold InR; omega) (by unfold InR; omega)) dX1_hasLevel_8 rfl rfl (Nat.le_of_ble_eq_true rfl) rfl (by decide) (fun f8 => ?_)
  refine wg_ifeqB (tgt := 27) (pc := 11) C dX1_hasLevel_11 (by decide) (fun h11 => ?_) (fun h11 => ?_)
  · refine wg_iconst (pc := 27) C dX1_hasLevel_27 ?_
    refine wg_zret (pc := 28) C hQ dX1_hasLevel_28 (by omega) ?_
    exact ⟨by first | exact vB_t ⟨by omega, by omega, by omega⟩ | exact vB_f (fun z => by omega), rfl⟩
  · refine wg_iload_2 (pc := 14) C dX1_hasLevel_14 ?_
    refine wg_aload_0 (pc := 15) C dX1_hasLevel_15 ?_
    refine wg_iload_1 (pc := 16) C dX1_hasLevel_16 ?_
    refine wg_callVP (pc := 17) C kX1_levelsOf q488 (tX1_levelsOf hX hO (by omega) (by omega)) (rc_of C hX.obj rfl) dX1_hasLevel_17 rfl rfl (Nat.le_of_ble_eq_true rfl) rfl (by decide) (fun f17 => ?_)
    refine wg_icmp_ge (tgt := 27) (pc := 20) C dX1_hasLevel_20 (by decide) (by unfold InR; omega) (by unfold InR; omega) (fun h20 => ?_) (fun h20 => ?_)
    · refine wg_iconst (pc := 27) C dX1_hasLevel_27 ?_
      refine wg_zret (pc := 28) C hQ dX1_hasLevel_28 (by omega) ?_
      exact ⟨by first | exact vB_t ⟨by omega, by omega, by omega⟩ | exact vB_f (fun z => by omega), rfl⟩
    · refine wg_iconst (pc := 23) C dX1_hasLevel_23 ?_
      refine wg_goto (tgt := 28) (pc := 24) C dX1_hasLevel_24 (by decide) ?_
      refine wg_zret (pc := 28) C hQ dX1_hasLevel_28 (by omega) ?_
      exact ⟨by first | exact vB_t ⟨by omega, by omega, by omega⟩ | exact vB_f (fun z => by omega), rfl⟩

theorem tX1_standards {G : Gm} {w : Wo} {σ ζ : St} (hX : HasX G w σ ζ) (hO : Ok σ) {p : Int} (hp : InR p) : PCt G mX1_standards 5 w [.ref (w.1 (0, 0)), vI p] (vI (stds σ p)) (stds σ p = 2 ∨ stds σ p = 3) := by
  refine ⟨ct_of [some (.ref (w.1 (0, 0))), some (vI p)] plX1 rfl (Nat.le_of_ble_eq_true rfl) rfl ?_, stds_rng σ p⟩
  intro X hG C hnm hQ
  subst hG
  change CxOk X cX1_standards 2 RX1 (some .int) 5 at C
  have hB := hO.hB
  have hF := hO.hF
  unfold InR at hp
  refine wg_aload_0 (pc := 0) C dX1_standards_0 ?_
  refine wg_iload_1 (pc := 1) C dX1_standards_1 ?_
  refine wg_callVP (pc := 2) C kX1_isBetween q631 (tX1_isBetween hX hO (by unfold InR; omega)) (rc_of C hX.obj rfl) dX1_standards_2 rfl rfl (Nat.le_of_ble_eq_true rfl) rfl (by decide) (fun f2 => ?_)
  refine wg_ifeqB (tgt := 12) (pc := 5) C dX1_standards_5 (by decide) (fun h5 => ?_) (fun h5 => ?_)
  · refine wg_iconst (pc := 12) C dX1_standards_12 ?_
    refine wg_iret (pc := 13) C hQ dX1_standards_13 ?_
    exact ⟨vI_c (by unfold stds; first | rw [if_pos h5] | rw [if_neg h5]), rfl⟩
  · refine wg_iconst (pc := 8) C dX1_standards_8 ?_
    refine wg_goto (tgt := 13) (pc := 9) C dX1_standards_9 (by decide) ?_
    refine wg_iret (pc := 13) C hQ dX1_standards_13 ?_
    exact ⟨vI_c (by unfold stds; first | rw [if_pos h5] | rw [if_neg h5]), rfl⟩

theorem tX1_isAsked {G : Gm} {w : Wo} {σ ζ : St} (hX : HasX G w σ ζ) (hO : Ok σ) {p l : Int} (hp0 : 0 ≤ p) (hp1 : p ≤ 1000) (hl0 : 0 ≤ l) (hl1 : l ≤ 1000) : PCt G mX1_isAsked 7 w [.ref (w.1 (0, 0)), vI p, vI l] (vI (if asks σ p l then 1 else 0)) (True) := by
  refine ⟨ct_of [some (.ref (w.1 (0, 0))), some (vI p), some (vI l)] plX1 rfl (Nat.le_of_ble_eq_true rfl) rfl ?_, trivial⟩
  intro X hG C hnm hQ
  subst hG
  change CxOk X cX1_isAsked 3 RX1 (some .boolean) 7 at C
  have hB := hO.hB
  have hF := hO.hF
  refine wg_iload_2 (pc := 0) C dX1_isAsked_0 ?_
  refine wg_iconst (pc := 1) C dX1_isAsked_1 ?_
  refine wg_irem (pc := 2) C dX1_isAsked_2 (by omega) (by omega) (by omega) (by omega) ?_
  refine wg_iconst (pc := 3) C dX1_isAsked_3 ?_
  refine wg_icmp_ne (tgt := 30) (pc := 4) C dX1_isAsked_4 (by decide) (by unfold InR; omega) (by unfold InR; omega) (fun h4 => ?_) (fun h4 => ?_)
  · refine wg_iconst (pc := 30) C dX1_isAsked_30 ?_
    refine wg_zret (pc := 31) C hQ dX1_isAsked_31 (by omega) ?_
    exact ⟨by first | exact vB_t ⟨by omega, by omega, by assumption⟩ | exact vB_f (fun z => by first | omega | exact h23 z.2.2), rfl⟩
  · refine wg_iload_1 (pc := 7) C dX1_isAsked_7 ?_
    refine wg_iload_2 (pc := 8) C dX1_isAsked_8 ?_
    refine wg_iconst (pc := 9) C dX1_isAsked_9 ?_
    refine wg_idiv (pc := 10) C dX1_isAsked_10 (by omega) (by omega) (by omega) (by omega) ?_
    refine wg_iadd (pc := 11) C dX1_isAsked_11 ?_
    refine wg_iconst (pc := 12) C dX1_isAsked_12 ?_
    refine wg_irem (pc := 13) C dX1_isAsked_13 (by omega) (by omega) (by omega) (by omega) ?_
    refine wg_if_ne (tgt := 30) (pc := 14) C dX1_isAsked_14 (by decide) (by unfold InR; omega) (fun h14 => ?_) (fun h14 => ?_)
    · refine wg_iconst (pc := 30) C dX1_isAsked_30 ?_
      refine wg_zret (pc := 31) C hQ dX1_isAsked_31 (by omega) ?_
      exact ⟨by first | exact vB_t ⟨by omega, by omega, by assumption⟩ | exact vB_f (fun z => by first | omega | exact h23 z.2.2), rfl⟩
    · refine wg_aload_0 (pc := 17) C dX1_isAsked_17 ?_
      refine wg_iload_1 (pc := 18) C dX1_isAsked_18 ?_
      refine wg_iload_2 (pc := 19) C dX1_isAsked_19 ?_
      refine wg_callVP (pc := 20) C kX1_hasLevel q458 (tX1_hasLevel hX hO (by unfold InR; omega) (by unfold InR; omega)) (rc_of C hX.obj rfl) dX1_isAsked_20 rfl rfl (Nat.le_of_ble_eq_true rfl) rfl (by decide) (fun f20 => ?_)
      refine wg_ifeqB (tgt := 30) (pc := 23) C dX1_isAsked_23 (by decide) (fun h23 => ?_) (fun h23 => ?_)
      · refine wg_iconst (pc := 30) C dX1_isAsked_30 ?_
        refine wg_zret (pc := 31) C hQ dX1_isAsked_31 (by omega) ?_
        exact ⟨by first | exact vB_t ⟨by omega, by omega, by assumption⟩ | exact vB_f (fun z => by first | omega | exact h23 z.2.2), rfl⟩
      · refine wg_iconst (pc := 26) C dX1_isAsked_26 ?_
        refine wg_goto (tgt := 31) (pc := 27) C dX1_isAsked_27 (by decide) ?_
        refine wg_zret (pc := 31) C hQ dX1_isAsked_31 (by omega) ?_
        exact ⟨by first | exact vB_t ⟨by omega, by omega, by assumption⟩ | exact vB_f (fun z => by first | omega | exact h23 z.2.2), rfl⟩

