/-! the reference: public methods that only read -/
set_option maxRecDepth 100000
set_option maxHeartbeats 4000000
theorem ZK.th {a b : St} (h : ZK a b) : b 0 0 0 = a 0 0 0 := by rw [h 0 (by decide) (by decide) (by decide)]
/-- what a public method of the reference leaves: its cells alone are written, the exception's number is t -/
def MP (G : Gm) (w w1 : Wo) (σ : St) (t : Int) : Prop := SmM w w1 ∧ ∃ ζ' : St, HasM G w1 σ ζ' ∧ ζ' 0 0 0 = t
theorem bayA_M (σ : St) (b l wh : Int) : bayA σ b l wh = bayA σ b l wh := rfl
theorem tX2_today {G : Gm} {w : Wo} {σ ζ : St} (hM : HasM G w σ ζ) (hO : Ok σ) : Ct G mX2_today 2 0 0 w [.ref (w.1 (20, 0))] (fun v w1 => v = some (vI (day σ)) ∧ MP G w w1 σ 0) := by
  refine ct_of [some (.ref (w.1 (20, 0)))] plX2 rfl (Nat.le_of_ble_eq_true rfl) rfl ?_
  intro X hG C hnm hQ
  subst hG
  change CxOk X cX2_today 1 RX2 (some .int) 2 at C
  refine wg_aload_0 (pc := 0) C dX2_today_0 ?_
  refine wg_aload_0 (pc := 1) C dX2_today_1 ?_
  refine gX2_68 (pc := 2) C hM.obj rfl dX2_today_2 ?_
  refine wg_callV (pc := 5) C (k' := 0) (n' := 0) kX2_returned q1141 (tX2_returned hM hO) (rc_of C hM.obj rfl) dX2_today_5 rfl rfl (Nat.le_of_ble_eq_true rfl) rfl (by decide) (by omega) (by omega) (fun v5 w5 h5 => ?_)
  obtain ⟨e5, s5, h5⟩ := h5
  subst e5
  obtain ⟨A5, V5⟩ := w5
  have a5 : A5 = w.1 := s5.1
  subst a5
  refine wg_iret (pc := 8) C hQ dX2_today_8 ?_
  exact ⟨rfl, s5, _, h5, uS_at _ _ _ _ _⟩

theorem tX2_errors {G : Gm} {w : Wo} {σ ζ : St} (hM : HasM G w σ ζ) (hO : Ok σ) : Ct G mX2_errors 2 0 0 w [.ref (w.1 (20, 0))] (fun v w1 => v = some (vI 0) ∧ MP G w w1 σ 0) := by
  refine ct_of [some (.ref (w.1 (20, 0)))] plX2 rfl (Nat.le_of_ble_eq_true rfl) rfl ?_
  intro X hG C hnm hQ
  subst hG
  change CxOk X cX2_errors 1 RX2 (some .int) 2 at C
  refine wg_aload_0 (pc := 0) C dX2_errors_0 ?_
  refine wg_iconst (pc := 1) C dX2_errors_1 ?_
  refine wg_callV (pc := 2) C (k' := 0) (n' := 0) kX2_returned q1141 (tX2_returned hM hO) (rc_of C hM.obj rfl) dX2_errors_2 rfl rfl (Nat.le_of_ble_eq_true rfl) rfl (by decide) (by omega) (by omega) (fun v2 w2 h2 => ?_)
  obtain ⟨e2, s2, h2⟩ := h2
  subst e2
  obtain ⟨A2, V2⟩ := w2
  have a2 : A2 = w.1 := s2.1
  subst a2
  refine wg_iret (pc := 5) C hQ dX2_errors_5 ?_
  exact ⟨rfl, s2, _, h2, uS_at _ _ _ _ _⟩

theorem tX2_faceOf {G : Gm} {w : Wo} {σ ζ : St} (hM : HasM G w σ ζ) (hO : Ok σ) {b : Int} (hb : InR b) : Ct G mX2_faceOf 4 0 0 w [.ref (w.1 (20, 0)), vI b] (fun v w1 => v = some (vI (if (0 ≤ b ∧ b < nB σ) ∧ (True) ∧ (True) then bfc σ b else 0)) ∧ MP G w w1 σ (thr (0 ≤ b ∧ b < nB σ) (True) (True))) := by
  refine ct_of [some (.ref (w.1 (20, 0))), some (vI b)] plX2 rfl (Nat.le_of_ble_eq_true rfl) rfl ?_
  intro X hG C hnm hQ
  subst hG
  change CxOk X cX2_faceOf 2 RX2 (some .int) 4 at C
  have hB := hO.hB
  have hF := hO.hF
  have hbc := hM.bc
  have hfc0 := hM.fc
  have hps := pos_rng hO
  refine wg_aload_0 (pc := 0) C dX2_faceOf_0 ?_
  refine wg_aload_0 (pc := 1) C dX2_faceOf_1 ?_
  refine wg_iload_1 (pc := 2) C dX2_faceOf_2 ?_
  refine wg_callVP (pc := 3) C kX2_isBay q1219 (tX2_isBay hM hO hb) (rc_of C hM.obj rfl) dX2_faceOf_3 rfl rfl (Nat.le_of_ble_eq_true rfl) rfl (by decide) (fun f3 => ?_)
  refine wg_iconst (pc := 6) C dX2_faceOf_6 ?_
  refine wg_iconst (pc := 7) C dX2_faceOf_7 ?_
  refine wg_callV (pc := 8) C (k' := 0) (n' := 0) kX2_passes q1152 (tX2_passes hM hO (p := 0 ≤ b ∧ b < nB σ) (q := True) (r := True)) (rc_of C hM.obj rfl) dX2_faceOf_8 rfl rfl (Nat.le_of_ble_eq_true rfl) rfl (by decide) (by omega) (by omega) (fun v8 w8 h8 => ?_)
  obtain ⟨e8, s8, h8⟩ := h8
  subst e8
  obtain ⟨A8, V8⟩ := w8
  have a8 : A8 = w.1 := s8.1
  subst a8
  have hM := h8
  have hbc := hM.bc
  have hfc0 := hM.fc
  refine wg_ifeqB (tgt := 33) (pc := 11) C dX2_faceOf_11 (by decide) (fun h11 => ?_) (fun h11 => ?_)
  · refine wg_iconst (pc := 33) C dX2_faceOf_33 ?_
    refine wg_iret (pc := 34) C hQ dX2_faceOf_34 ?_
    first
      | exact ⟨by rw [if_pos h11], (SmM.rf w).tr s8, _, hM, uS_at _ _ _ _ _⟩
      | exact ⟨by rw [if_neg h11], (SmM.rf w).tr s8, _, hM, uS_at _ _ _ _ _⟩
  · have hbb := h11.1
    refine wg_aload_0 (pc := 14) C dX2_faceOf_14 ?_
    refine gX2_16 (pc := 15) C hM.obj rfl dX2_faceOf_15 ?_
    refine wg_iload_1 (pc := 18) C dX2_faceOf_18 ?_
    refine wg_callFP (pc := 19) C kF_get q1224 (tJ2_get (hM.blA (by omega)) (hM.baA (by omega)) (by omega) (by omega) (by omega) (by omega) (rws_at (by omega) (by omega))) (rc_of C hM.bl rfl) dX2_faceOf_19 rfl rfl (Nat.le_of_ble_eq_true rfl) rfl (by decide) (fun f19 => ?_)
    refine wg_cast (pc := 24) (ci := 5) C rfl q1184 (rc_of C (hM.bay (by omega) (by omega)) rfl) dX2_faceOf_24 ?_
    refine gX2_96 (pc := 27) C (hM.bay (by omega) (by omega)) rfl dX2_faceOf_27 ?_
    refine wg_goto (tgt := 34) (pc := 30) C dX2_faceOf_30 (by decide) ?_
    refine wg_iret (pc := 34) C hQ dX2_faceOf_34 ?_
    first
      | exact ⟨by rw [if_pos h11], (SmM.rf w).tr s8, _, hM, uS_at _ _ _ _ _⟩
      | exact ⟨by rw [if_neg h11], (SmM.rf w).tr s8, _, hM, uS_at _ _ _ _ _⟩

theorem tX2_lifts {G : Gm} {w : Wo} {σ ζ : St} (hM : HasM G w σ ζ) (hO : Ok σ) {b : Int} (hb : InR b) : Ct G mX2_lifts 4 0 0 w [.ref (w.1 (20, 0)), vI b] (fun v w1 => v = some (vI (if (0 ≤ b ∧ b < nB σ) ∧ (True) ∧ (True) then lft σ b else 0)) ∧ MP G w w1 σ (thr (0 ≤ b ∧ b < nB σ) (True) (True))) := by
  refine ct_of [some (.ref (w.1 (20, 0))), some (vI b)] plX2 rfl (Nat.le_of_ble_eq_true rfl) rfl ?_
  intro X hG C hnm hQ
  subst hG
  change CxOk X cX2_lifts 2 RX2 (some .int) 4 at C
  have hB := hO.hB
  have hF := hO.hF
  have hbc := hM.bc
  have hfc0 := hM.fc
  have hps := pos_rng hO
  refine wg_aload_0 (pc := 0) C dX2_lifts_0 ?_
  refine wg_aload_0 (pc := 1) C dX2_lifts_1 ?_
  refine wg_iload_1 (pc := 2) C dX2_lifts_2 ?_
  refine wg_callVP (pc := 3) C kX2_isBay q1219 (tX2_isBay hM hO hb) (rc_of C hM.obj rfl) dX2_lifts_3 rfl rfl (Nat.le_of_ble_eq_true rfl) rfl (by decide) (fun f3 => ?_)
  refine wg_iconst (pc := 6) C dX2_lifts_6 ?_
  refine wg_iconst (pc := 7) C dX2_lifts_7 ?_
  refine wg_callV (pc := 8) C (k' := 0) (n' := 0) kX2_passes q1152 (tX2_passes hM hO (p := 0 ≤ b ∧ b < nB σ) (q := True) (r := True)) (rc_of C hM.obj rfl) dX2_lifts_8 rfl rfl (Nat.le_of_ble_eq_true rfl) rfl (by decide) (by omega) (by omega) (fun v8 w8 h8 => ?_)
  obtain ⟨e8, s8, h8⟩ := h8
  subst e8
  obtain ⟨A8, V8⟩ := w8
  have a8 : A8 = w.1 := s8.1
  subst a8
  have hM := h8
  have hbc := hM.bc
  have hfc0 := hM.fc
  refine wg_ifeqB (tgt := 33) (pc := 11) C dX2_lifts_11 (by decide) (fun h11 => ?_) (fun h11 => ?_)
  · refine wg_iconst (pc := 33) C dX2_lifts_33 ?_
    refine wg_iret (pc := 34) C hQ dX2_lifts_34 ?_
    first
      | exact ⟨by rw [if_pos h11], (SmM.rf w).tr s8, _, hM, uS_at _ _ _ _ _⟩
      | exact ⟨by rw [if_neg h11], (SmM.rf w).tr s8, _, hM, uS_at _ _ _ _ _⟩
  · have hbb := h11.1
    refine wg_aload_0 (pc := 14) C dX2_lifts_14 ?_
    refine gX2_16 (pc := 15) C hM.obj rfl dX2_lifts_15 ?_
    refine wg_iload_1 (pc := 18) C dX2_lifts_18 ?_
    refine wg_callFP (pc := 19) C kF_get q1224 (tJ2_get (hM.blA (by omega)) (hM.baA (by omega)) (by omega) (by omega) (by omega) (by omega) (rws_at (by omega) (by omega))) (rc_of C hM.bl rfl) dX2_lifts_19 rfl rfl (Nat.le_of_ble_eq_true rfl) rfl (by decide) (fun f19 => ?_)
    refine wg_cast (pc := 24) (ci := 5) C rfl q1184 (rc_of C (hM.bay (by omega) (by omega)) rfl) dX2_lifts_24 ?_
    refine gX2_105 (pc := 27) C (hM.bay (by omega) (by omega)) rfl dX2_lifts_27 ?_
    refine wg_goto (tgt := 34) (pc := 30) C dX2_lifts_30 (by decide) ?_
    refine wg_iret (pc := 34) C hQ dX2_lifts_34 ?_
    first
      | exact ⟨by rw [if_pos h11], (SmM.rf w).tr s8, _, hM, uS_at _ _ _ _ _⟩
      | exact ⟨by rw [if_neg h11], (SmM.rf w).tr s8, _, hM, uS_at _ _ _ _ _⟩

theorem tX2_levels {G : Gm} {w : Wo} {σ ζ : St} (hM : HasM G w σ ζ) (hO : Ok σ) {p : Int} (hp : InR p) : Ct G mX2_levels 5 0 0 w [.ref (w.1 (20, 0)), vI p] (fun v w1 => v = some (vI (if (0 ≤ p ∧ p < pos σ) ∧ (True) ∧ (True) then levelsOf σ p else 0)) ∧ MP G w w1 σ (thr (0 ≤ p ∧ p < pos σ) (True) (True))) := by
  refine ct_of [some (.ref (w.1 (20, 0))), some (vI p)] plX2 rfl (Nat.le_of_ble_eq_true rfl) rfl ?_
  intro X hG C hnm hQ
  subst hG
  change CxOk X cX2_levels 2 RX2 (some .int) 5 at C
  have hB := hO.hB
  have hF := hO.hF
  have hbc := hM.bc
  have hfc0 := hM.fc
  have hps := pos_rng hO
  refine wg_aload_0 (pc := 0) C dX2_levels_0 ?_
  refine wg_aload_0 (pc := 1) C dX2_levels_1 ?_
  refine wg_iload_1 (pc := 2) C dX2_levels_2 ?_
  refine wg_callVP (pc := 3) C kX2_isPosition q1229 (tX2_isPosition hM hO hp) (rc_of C hM.obj rfl) dX2_levels_3 rfl rfl (Nat.le_of_ble_eq_true rfl) rfl (by decide) (fun f3 => ?_)
  refine wg_iconst (pc := 6) C dX2_levels_6 ?_
  refine wg_iconst (pc := 7) C dX2_levels_7 ?_
  refine wg_callV (pc := 8) C (k' := 0) (n' := 0) kX2_passes q1152 (tX2_passes hM hO (p := 0 ≤ p ∧ p < pos σ) (q := True) (r := True)) (rc_of C hM.obj rfl) dX2_levels_8 rfl rfl (Nat.le_of_ble_eq_true rfl) rfl (by decide) (by omega) (by omega) (fun v8 w8 h8 => ?_)
  obtain ⟨e8, s8, h8⟩ := h8
  subst e8
  obtain ⟨A8, V8⟩ := w8
  have a8 : A8 = w.1 := s8.1
  subst a8
  have hM := h8
  have hbc := hM.bc
  have hfc0 := hM.fc
  refine wg_ifeqB (tgt := 22) (pc := 11) C dX2_levels_11 (by decide) (fun h11 => ?_) (fun h11 => ?_)
  · refine wg_iconst (pc := 22) C dX2_levels_22 ?_
    refine wg_iret (pc := 23) C hQ dX2_levels_23 ?_
    first
      | exact ⟨by rw [if_pos h11], (SmM.rf w).tr s8, _, hM, uS_at _ _ _ _ _⟩
      | exact ⟨by rw [if_neg h11], (SmM.rf w).tr s8, _, hM, uS_at _ _ _ _ _⟩
  · have hbb := h11.1
    refine wg_aload_0 (pc := 14) C dX2_levels_14 ?_
    refine wg_iload_1 (pc := 15) C dX2_levels_15 ?_
    refine wg_callVP (pc := 16) C kX2_levelsOf q1243 (tX2_levelsOf hM hO (by omega) (by omega)) (rc_of C hM.obj rfl) dX2_levels_16 rfl rfl (Nat.le_of_ble_eq_true rfl) rfl (by decide) (fun f16 => ?_)
    refine wg_goto (tgt := 23) (pc := 19) C dX2_levels_19 (by decide) ?_
    refine wg_iret (pc := 23) C hQ dX2_levels_23 ?_
    first
      | exact ⟨by rw [if_pos h11], (SmM.rf w).tr s8, _, hM, uS_at _ _ _ _ _⟩
      | exact ⟨by rw [if_neg h11], (SmM.rf w).tr s8, _, hM, uS_at _ _ _ _ _⟩

theorem tX2_isCorner {G : Gm} {w : Wo} {σ ζ : St} (hM : HasM G w σ ζ) (hO : Ok σ) {p : Int} (hp : InR p) : Ct G mX2_isCorner 5 0 0 w [.ref (w.1 (20, 0)), vI p] (fun v w1 => v = some (vI (if (0 ≤ p ∧ p < pos σ) ∧ (True) ∧ (True) then (if btw σ p then 1 else 0) else 0)) ∧ MP G w w1 σ (thr (0 ≤ p ∧ p < pos σ) (True) (True))) := by
  refine ct_of [some (.ref (w.1 (20, 0))), some (vI p)] plX2 rfl (Nat.le_of_ble_eq_true rfl) rfl ?_
  intro X hG C hnm hQ
  subst hG
  change CxOk X cX2_isCorner 2 RX2 (some .boolean) 5 at C
  have hB := hO.hB
  have hF := hO.hF
  have hbc := hM.bc
  have hfc0 := hM.fc
  have hps := pos_rng hO
  refine wg_aload_0 (pc := 0) C dX2_isCorner_0 ?_
  refine wg_aload_0 (pc := 1) C dX2_isCorner_1 ?_
  refine wg_iload_1 (pc := 2) C dX2_isCorner_2 ?_
  refine wg_callVP (pc := 3) C kX2_isPosition q1229 (tX2_isPosition hM hO hp) (rc_of C hM.obj rfl) dX2_isCorner_3 rfl rfl (Nat.le_of_ble_eq_true rfl) rfl (by decide) (fun f3 => ?_)
  refine wg_iconst (pc := 6) C dX2_isCorner_6 ?_
  refine wg_iconst (pc := 7) C dX2_isCorner_7 ?_
  refine wg_callV (pc := 8) C (k' := 0) (n' := 0) kX2_passes q1152 (tX2_passes hM hO (p := 0 ≤ p ∧ p < pos σ) (q := True) (r := True)) (rc_of C hM.obj rfl) dX2_isCorner_8 rfl rfl (Nat.le_of_ble_eq_true rfl) rfl (by decide) (by omega) (by omega) (fun v8 w8 h8 => ?_)
  obtain ⟨e8, s8, h8⟩ := h8
  subst e8
  obtain ⟨A8, V8⟩ := w8
  have a8 : A8 = w.1 := s8.1
  subst a8
  have hM := h8
  have hbc := hM.bc
  have hfc0 := hM.fc
  refine wg_ifeqB (tgt := 26) (pc := 11) C dX2_isCorner_11 (by decide) (fun h11 => ?_) (fun h11 => ?_)
  · refine wg_iconst (pc := 26) C dX2_isCorner_26 ?_
    refine wg_zret (pc := 27) C hQ dX2_isCorner_27 (by omega) ?_
    first
      | exact ⟨by rw [if_pos h11, if_pos h19], s8, _, hM, uS_at _ _ _ _ _⟩
      | exact ⟨by rw [if_pos h11, if_neg h19], s8, _, hM, uS_at _ _ _ _ _⟩
      | exact ⟨by rw [if_neg h11], s8, _, hM, uS_at _ _ _ _ _⟩
  · have hbb := h11.1
    refine wg_aload_0 (pc := 14) C dX2_isCorner_14 ?_
    refine wg_iload_1 (pc := 15) C dX2_isCorner_15 ?_
    refine wg_callVP (pc := 16) C kX2_isBetween q1235 (tX2_isBetween hM hO (by unfold InR; omega)) (rc_of C hM.obj rfl) dX2_isCorner_16 rfl rfl (Nat.le_of_ble_eq_true rfl) rfl (by decide) (fun f16 => ?_)
    refine wg_ifeqB (tgt := 26) (pc := 19) C dX2_isCorner_19 (by decide) (fun h19 => ?_) (fun h19 => ?_)
    · refine wg_iconst (pc := 26) C dX2_isCorner_26 ?_
      refine wg_zret (pc := 27) C hQ dX2_isCorner_27 (by omega) ?_
      first
        | exact ⟨by rw [if_pos h11, if_pos h19], s8, _, hM, uS_at _ _ _ _ _⟩
        | exact ⟨by rw [if_pos h11, if_neg h19], s8, _, hM, uS_at _ _ _ _ _⟩
        | exact ⟨by rw [if_neg h11], s8, _, hM, uS_at _ _ _ _ _⟩
    · refine wg_iconst (pc := 22) C dX2_isCorner_22 ?_
      refine wg_goto (tgt := 27) (pc := 23) C dX2_isCorner_23 (by decide) ?_
      refine wg_zret (pc := 27) C hQ dX2_isCorner_27 (by omega) ?_
      first
        | exact ⟨by rw [if_pos h11, if_pos h19], s8, _, hM, uS_at _ _ _ _ _⟩
        | exact ⟨by rw [if_pos h11, if_neg h19], s8, _, hM, uS_at _ _ _ _ _⟩
        | exact ⟨by rw [if_neg h11], s8, _, hM, uS_at _ _ _ _ _⟩

theorem tX2_missing {G : Gm} {w : Wo} {σ ζ : St} (hM : HasM G w σ ζ) (hO : Ok σ) {p : Int} (hp : InR p) : Ct G mX2_missing 8 0 0 w [.ref (w.1 (20, 0)), vI p] (fun v w1 => v = some (vI (if (0 ≤ p ∧ p < pos σ) ∧ (True) ∧ (True) then missing σ p else 0)) ∧ MP G w w1 σ (thr (0 ≤ p ∧ p < pos σ) (True) (True))) := by
  refine ct_of [some (.ref (w.1 (20, 0))), some (vI p)] plX2 rfl (Nat.le_of_ble_eq_true rfl) rfl ?_
  intro X hG C hnm hQ
  subst hG
  change CxOk X cX2_missing 2 RX2 (some .int) 8 at C
  have hB := hO.hB
  have hF := hO.hF
  have hbc := hM.bc
  have hfc0 := hM.fc
  have hps := pos_rng hO
  refine wg_aload_0 (pc := 0) C dX2_missing_0 ?_
  refine wg_aload_0 (pc := 1) C dX2_missing_1 ?_
  refine wg_iload_1 (pc := 2) C dX2_missing_2 ?_
  refine wg_callVP (pc := 3) C kX2_isPosition q1229 (tX2_isPosition hM hO hp) (rc_of C hM.obj rfl) dX2_missing_3 rfl rfl (Nat.le_of_ble_eq_true rfl) rfl (by decide) (fun f3 => ?_)
  refine wg_iconst (pc := 6) C dX2_missing_6 ?_
  refine wg_iconst (pc := 7) C dX2_missing_7 ?_
  refine wg_callV (pc := 8) C (k' := 0) (n' := 0) kX2_passes q1152 (tX2_passes hM hO (p := 0 ≤ p ∧ p < pos σ) (q := True) (r := True)) (rc_of C hM.obj rfl) dX2_missing_8 rfl rfl (Nat.le_of_ble_eq_true rfl) rfl (by decide) (by omega) (by omega) (fun v8 w8 h8 => ?_)
  obtain ⟨e8, s8, h8⟩ := h8
  subst e8
  obtain ⟨A8, V8⟩ := w8
  have a8 : A8 = w.1 := s8.1
  subst a8
  have hM := h8
  have hbc := hM.bc
  have hfc0 := hM.fc
  refine wg_ifeqB (tgt := 22) (pc := 11) C dX2_missing_11 (by decide) (fun h11 => ?_) (fun h11 => ?_)
  · refine wg_iconst (pc := 22) C dX2_missing_22 ?_
    refine wg_iret (pc := 23) C hQ dX2_missing_23 ?_
    first
      | exact ⟨by rw [if_pos h11], s8.tr s16, _, hM, hz16.th.trans (uS_at _ _ _ _ _)⟩
      | exact ⟨by rw [if_neg h11], s8, _, hM, uS_at _ _ _ _ _⟩
  · have hbb := h11.1
    refine wg_aload_0 (pc := 14) C dX2_missing_14 ?_
    refine wg_iload_1 (pc := 15) C dX2_missing_15 ?_
    refine wg_callV (pc := 16) C (k' := 0) (n' := 0) kX2_missingOf q1351 (tX2_missingOf hM hO (by omega) (by omega)) (rc_of C hM.obj rfl) dX2_missing_16 rfl rfl (Nat.le_of_ble_eq_true rfl) rfl (by decide) (by omega) (by omega) (fun v16 w16 h16 => ?_)
    obtain ⟨e16, s16, ζ16, hM16, hz16⟩ := h16
    subst e16
    obtain ⟨A16, V16⟩ := w16
    have a16 : A16 = w.1 := s16.1
    subst a16
    have hM := hM16
    have hbc := hM.bc
    have hfc0 := hM.fc
    refine wg_goto (tgt := 23) (pc := 19) C dX2_missing_19 (by decide) ?_
    refine wg_iret (pc := 23) C hQ dX2_missing_23 ?_
    first
      | exact ⟨by rw [if_pos h11], s8.tr s16, _, hM, hz16.th.trans (uS_at _ _ _ _ _)⟩
      | exact ⟨by rw [if_neg h11], s8, _, hM, uS_at _ _ _ _ _⟩

theorem tX2_bears {G : Gm} {w : Wo} {σ ζ : St} (hM : HasM G w σ ζ) (hO : Ok σ) {p : Int} (hp : InR p) : Ct G mX2_bears 9 0 0 w [.ref (w.1 (20, 0)), vI p] (fun v w1 => v = some (vI (if (0 ≤ p ∧ p < pos σ) ∧ (True) ∧ (True) then bearsOf σ p else 0)) ∧ MP G w w1 σ (thr (0 ≤ p ∧ p < pos σ) (True) (True))) := by
  refine ct_of [some (.ref (w.1 (20, 0))), some (vI p)] plX2 rfl (Nat.le_of_ble_eq_true rfl) rfl ?_
  intro X hG C hnm hQ
  subst hG
  change CxOk X cX2_bears 2 RX2 (some .int) 9 at C
  have hB := hO.hB
  have hF := hO.hF
  have hbc := hM.bc
  have hfc0 := hM.fc
  have hps := pos_rng hO
  refine wg_aload_0 (pc := 0) C dX2_bears_0 ?_
  refine wg_aload_0 (pc := 1) C dX2_bears_1 ?_
  refine wg_iload_1 (pc := 2) C dX2_bears_2 ?_
  refine wg_callVP (pc := 3) C kX2_isPosition q1229 (tX2_isPosition hM hO hp) (rc_of C hM.obj rfl) dX2_bears_3 rfl rfl (Nat.le_of_ble_eq_true rfl) rfl (by decide) (fun f3 => ?_)
  refine wg_iconst (pc := 6) C dX2_bears_6 ?_
  refine wg_iconst (pc := 7) C dX2_bears_7 ?_
  refine wg_callV (pc := 8) C (k' := 0) (n' := 0) kX2_passes q1152 (tX2_passes hM hO (p := 0 ≤ p ∧ p < pos σ) (q := True) (r := True)) (rc_of C hM.obj rfl) dX2_bears_8 rfl rfl (Nat.le_of_ble_eq_true rfl) rfl (by decide) (by omega) (by omega) (fun v8 w8 h8 => ?_)
  obtain ⟨e8, s8, h8⟩ := h8
  subst e8
  obtain ⟨A8, V8⟩ := w8
  have a8 : A8 = w.1 := s8.1
  subst a8
  have hM := h8
  have hbc := hM.bc
  have hfc0 := hM.fc
  refine wg_ifeqB (tgt := 22) (pc := 11) C dX2_bears_11 (by decide) (fun h11 => ?_) (fun h11 => ?_)
  · refine wg_iconst (pc := 22) C dX2_bears_22 ?_
    refine wg_iret (pc := 23) C hQ dX2_bears_23 ?_
    first
      | exact ⟨by rw [if_pos h11], s8.tr s16, _, hM, hz16.th.trans (uS_at _ _ _ _ _)⟩
      | exact ⟨by rw [if_neg h11], s8, _, hM, uS_at _ _ _ _ _⟩
  · have hbb := h11.1
    refine wg_aload_0 (pc := 14) C dX2_bears_14 ?_
    refine wg_iload_1 (pc := 15) C dX2_bears_15 ?_
    refine wg_callV (pc := 16) C (k' := 0) (n' := 0) kX2_bearsOf q1381 (tX2_bearsOf hM hO (by omega) (by omega)) (rc_of C hM.obj rfl) dX2_bears_16 rfl rfl (Nat.le_of_ble_eq_true rfl) rfl (by decide) (by omega) (by omega) (fun v16 w16 h16 => ?_)
    obtain ⟨e16, s16, ζ16, hM16, hz16⟩ := h16
    subst e16
    obtain ⟨A16, V16⟩ := w16
    have a16 : A16 = w.1 := s16.1
    subst a16
    have hM := hM16
    have hbc := hM.bc
    have hfc0 := hM.fc
    refine wg_goto (tgt := 23) (pc := 19) C dX2_bears_19 (by decide) ?_
    refine wg_iret (pc := 23) C hQ dX2_bears_23 ?_
    first
      | exact ⟨by rw [if_pos h11], s8.tr s16, _, hM, hz16.th.trans (uS_at _ _ _ _ _)⟩
      | exact ⟨by rw [if_neg h11], s8, _, hM, uS_at _ _ _ _ _⟩

theorem tX2_load {G : Gm} {w : Wo} {σ ζ : St} (hM : HasM G w σ ζ) (hO : Ok σ) {p l r : Int} (hp : InR p) (hl : InR l) (hr : InR r) : Ct G mX2_load 7 0 0 w [.ref (w.1 (20, 0)), vI p, vI l, vI r] (fun v w1 => v = some (vI (if ((0 ≤ p ∧ p < pos σ) ∧ (0 ≤ l ∧ l < 8)) ∧ (True) ∧ (True) then load σ p l r else 0)) ∧ MP G w w1 σ (thr ((0 ≤ p ∧ p < pos σ) ∧ (0 ≤ l ∧ l < 8)) (True) (True))) := by
  refine ct_of [some (.ref (w.1 (20, 0))), some (vI p), some (vI l), some (vI r)] plX2 rfl (Nat.le_of_ble_eq_true rfl) rfl ?_
  intro X hG C hnm hQ
  subst hG
  change CxOk X cX2_load 4 RX2 (some .int) 7 at C
  have hB := hO.hB
  have hF := hO.hF
  have hbc := hM.bc
  have hfc0 := hM.fc
  have hps := pos_rng hO
  have L21 : WG X 21 [some (.ref (w.1 (20, 0))), some (vI p), some (vI l), some (vI r)] [vI (if (0 ≤ p ∧ p < pos σ) ∧ (0 ≤ l ∧ l < 8) then 1 else 0), .ref (w.1 (20, 0))] w 0 0 := by
    refine wg_iconst (pc := 21) C dX2_load_21 ?_
    refine wg_iconst (pc := 22) C dX2_load_22 ?_
    refine wg_callV (pc := 23) C (k' := 0) (n' := 0) kX2_passes q1152 (tX2_passes hM hO (p := (0 ≤ p ∧ p < pos σ) ∧ (0 ≤ l ∧ l < 8)) (q := True) (r := True)) (rc_of C hM.obj rfl) dX2_load_23 rfl rfl (Nat.le_of_ble_eq_true rfl) rfl (by decide) (by omega) (by omega) (fun v23 w23 h23 => ?_)
    obtain ⟨e23, s23, h23⟩ := h23
    subst e23
    obtain ⟨A23, V23⟩ := w23
    have a23 : A23 = w.1 := s23.1
    subst a23
    have hM := h23
    have hbc := hM.bc
    have hfc0 := hM.fc
    refine wg_ifeqB (tgt := 39) (pc := 26) C dX2_load_26 (by decide) (fun h26 => ?_) (fun h26 => ?_)
    · refine wg_iconst (pc := 39) C dX2_load_39 ?_
      refine wg_iret (pc := 40) C hQ dX2_load_40 ?_
      first
        | exact ⟨by rw [if_pos h26], (SmM.rf w).tr s23, _, hM, uS_at _ _ _ _ _⟩
        | exact ⟨by rw [if_neg h26], (SmM.rf w).tr s23, _, hM, uS_at _ _ _ _ _⟩
    · have hbb := h26.1
      refine wg_aload_0 (pc := 29) C dX2_load_29 ?_
      refine wg_iload_1 (pc := 30) C dX2_load_30 ?_
      refine wg_iload_2 (pc := 31) C dX2_load_31 ?_
      refine wg_iload_3 (pc := 32) C dX2_load_32 ?_
      refine wg_callVP (pc := 33) C kX2_loadOf q1359 (tX2_loadOf hM hO (by omega) (by omega) (by omega) (by omega) hr) (rc_of C hM.obj rfl) dX2_load_33 rfl rfl (Nat.le_of_ble_eq_true rfl) rfl (by decide) (fun f33 => ?_)
      refine wg_goto (tgt := 40) (pc := 36) C dX2_load_36 (by decide) ?_
      refine wg_iret (pc := 40) C hQ dX2_load_40 ?_
      first
        | exact ⟨by rw [if_pos h26], (SmM.rf w).tr s23, _, hM, uS_at _ _ _ _ _⟩
        | exact ⟨by rw [if_neg h26], (SmM.rf w).tr s23, _, hM, uS_at _ _ _ _ _⟩
  refine wg_aload_0 (pc := 0) C dX2_load_0 ?_
  refine wg_aload_0 (pc := 1) C dX2_load_1 ?_
  refine wg_iload_1 (pc := 2) C dX2_load_2 ?_
  refine wg_callVP (pc := 3) C kX2_isPosition q1229 (tX2_isPosition hM hO hp) (rc_of C hM.obj rfl) dX2_load_3 rfl rfl (Nat.le_of_ble_eq_true rfl) rfl (by decide) (fun f3 => ?_)
  refine wg_ifeqB (tgt := 20) (pc := 6) C dX2_load_6 (by decide) (fun h6 => ?_) (fun h6 => ?_)
  · refine wg_iconst (pc := 20) C dX2_load_20 ?_
    refine WG.at L21 rfl rfl ?_ rfl
    show [vI _, _] = [vI (if (0 ≤ p ∧ p < pos σ) ∧ (0 ≤ l ∧ l < 8) then 1 else 0), _]
    split <;> rename_i hc <;> first | rfl | (exfalso; first | exact hc ⟨h6, h13⟩ | exact h6 hc.1 | exact h13 hc.2)
  · refine wg_iload_2 (pc := 9) C dX2_load_9 ?_
    refine wg_callSP (pc := 10) C kX2_isLevel q1264 (tX2_isLevel hl) dX2_load_10 rfl rfl (Nat.le_of_ble_eq_true rfl) rfl (by decide) (fun f10 => ?_)
    refine wg_ifeqB (tgt := 20) (pc := 13) C dX2_load_13 (by decide) (fun h13 => ?_) (fun h13 => ?_)
    · refine wg_iconst (pc := 20) C dX2_load_20 ?_
      refine WG.at L21 rfl rfl ?_ rfl
      show [vI _, _] = [vI (if (0 ≤ p ∧ p < pos σ) ∧ (0 ≤ l ∧ l < 8) then 1 else 0), _]
      split <;> rename_i hc <;> first | rfl | (exfalso; first | exact hc ⟨h6, h13⟩ | exact h6 hc.1 | exact h13 hc.2)
    · refine wg_iconst (pc := 16) C dX2_load_16 ?_
      refine wg_goto (tgt := 21) (pc := 17) C dX2_load_17 (by decide) ?_
      refine WG.at L21 rfl rfl ?_ rfl
      show [vI _, _] = [vI (if (0 ≤ p ∧ p < pos σ) ∧ (0 ≤ l ∧ l < 8) then 1 else 0), _]
      split <;> rename_i hc <;> first | rfl | (exfalso; first | exact hc ⟨h6, h13⟩ | exact h6 hc.1 | exact h13 hc.2)

theorem tX2_tieOf {G : Gm} {w : Wo} {σ ζ : St} (hM : HasM G w σ ζ) (hO : Ok σ) {p l : Int} (hp : InR p) (hl : InR l) : Ct G mX2_tieOf 7 0 0 w [.ref (w.1 (20, 0)), vI p, vI l] (fun v w1 => v = some (vI (if ((0 ≤ p ∧ p < pos σ) ∧ (0 ≤ l ∧ l < 8)) ∧ (True) ∧ (True) then tieAt σ l p else 0)) ∧ MP G w w1 σ (thr ((0 ≤ p ∧ p < pos σ) ∧ (0 ≤ l ∧ l < 8)) (True) (True))) := by
  refine ct_of [some (.ref (w.1 (20, 0))), some (vI p), some (vI l)] plX2 rfl (Nat.le_of_ble_eq_true rfl) rfl ?_
  intro X hG C hnm hQ
  subst hG
  change CxOk X cX2_tieOf 3 RX2 (some .int) 7 at C
  have hB := hO.hB
  have hF := hO.hF
  have hbc := hM.bc
  have hfc0 := hM.fc
  have hps := pos_rng hO
  have L21 : WG X 21 [some (.ref (w.1 (20, 0))), some (vI p), some (vI l)] [vI (if (0 ≤ p ∧ p < pos σ) ∧ (0 ≤ l ∧ l < 8) then 1 else 0), .ref (w.1 (20, 0))] w 0 0 := by
    refine wg_iconst (pc := 21) C dX2_tieOf_21 ?_
    refine wg_iconst (pc := 22) C dX2_tieOf_22 ?_
    refine wg_callV (pc := 23) C (k' := 0) (n' := 0) kX2_passes q1152 (tX2_passes hM hO (p := (0 ≤ p ∧ p < pos σ) ∧ (0 ≤ l ∧ l < 8)) (q := True) (r := True)) (rc_of C hM.obj rfl) dX2_tieOf_23 rfl rfl (Nat.le_of_ble_eq_true rfl) rfl (by decide) (by omega) (by omega) (fun v23 w23 h23 => ?_)
    obtain ⟨e23, s23, h23⟩ := h23
    subst e23
    obtain ⟨A23, V23⟩ := w23
    have a23 : A23 = w.1 := s23.1
    subst a23
    have hM := h23
    have hbc := hM.bc
    have hfc0 := hM.fc
    refine wg_ifneB (tgt := 31) (pc := 26) C dX2_tieOf_26 (by decide) (fun h26 => ?_) (fun h26 => ?_)
    · have hbb := h26.1
      refine wg_aload_0 (pc := 31) C dX2_tieOf_31 ?_
      refine wg_iload_2 (pc := 32) C dX2_tieOf_32 ?_
      refine wg_callV (pc := 33) C (k' := 0) (n' := 0) kX2_findTies q1331 (tX2_findTies hM hO (by omega) (by omega)) (rc_of C hM.obj rfl) dX2_tieOf_33 rfl rfl (Nat.le_of_ble_eq_true rfl) rfl (by decide) (by omega) (by omega) (fun v33 w33 h33 => ?_)
      obtain ⟨e33, s33, ζ33, hM33, hz33, hft33⟩ := h33
      subst e33
      obtain ⟨A33, V33⟩ := w33
      have a33 : A33 = w.1 := s33.1
      subst a33
      have hM := hM33
      have hbc := hM.bc
      have hfc0 := hM.fc
      refine wg_aload_0 (pc := 36) C dX2_tieOf_36 ?_
      refine gX2_35 (pc := 37) C hM.obj rfl dX2_tieOf_37 ?_
      refine wg_iload_1 (pc := 40) C dX2_tieOf_40 ?_
      refine wg_iald (pc := 41) C hM.tf rfl (by omega) (by omega) (by decide) dX2_tieOf_41 ?_
      rw [(hft33 p (by omega) (by omega)).2]
      refine wg_iret (pc := 42) C hQ dX2_tieOf_42 ?_
      first
        | exact ⟨by rw [if_pos h26], s23.tr s33, _, hM, hz33.th.trans (uS_at _ _ _ _ _)⟩
        | exact ⟨by rw [if_neg h26], s23, _, hM, uS_at _ _ _ _ _⟩
    · refine wg_iconst (pc := 29) C dX2_tieOf_29 ?_
      refine wg_iret (pc := 30) C hQ dX2_tieOf_30 ?_
      first
        | exact ⟨by rw [if_pos h26], s23.tr s33, _, hM, hz33.th.trans (uS_at _ _ _ _ _)⟩
        | exact ⟨by rw [if_neg h26], s23, _, hM, uS_at _ _ _ _ _⟩
  refine wg_aload_0 (pc := 0) C dX2_tieOf_0 ?_
  refine wg_aload_0 (pc := 1) C dX2_tieOf_1 ?_
  refine wg_iload_1 (pc := 2) C dX2_tieOf_2 ?_
  refine wg_callVP (pc := 3) C kX2_isPosition q1229 (tX2_isPosition hM hO hp) (rc_of C hM.obj rfl) dX2_tieOf_3 rfl rfl (Nat.le_of_ble_eq_true rfl) rfl (by decide) (fun f3 => ?_)
  refine wg_ifeqB (tgt := 20) (pc := 6) C dX2_tieOf_6 (by decide) (fun h6 => ?_) (fun h6 => ?_)
  · refine wg_iconst (pc := 20) C dX2_tieOf_20 ?_
    refine WG.at L21 rfl rfl ?_ rfl
    show [vI _, _] = [vI (if (0 ≤ p ∧ p < pos σ) ∧ (0 ≤ l ∧ l < 8) then 1 else 0), _]
    split <;> rename_i hc <;> first | rfl | (exfalso; first | exact hc ⟨h6, h13⟩ | exact h6 hc.1 | exact h13 hc.2)
  · refine wg_iload_2 (pc := 9) C dX2_tieOf_9 ?_
    refine wg_callSP (pc := 10) C kX2_isLevel q1264 (tX2_isLevel hl) dX2_tieOf_10 rfl rfl (Nat.le_of_ble_eq_true rfl) rfl (by decide) (fun f10 => ?_)
    refine wg_ifeqB (tgt := 20) (pc := 13) C dX2_tieOf_13 (by decide) (fun h13 => ?_) (fun h13 => ?_)
    · refine wg_iconst (pc := 20) C dX2_tieOf_20 ?_
      refine WG.at L21 rfl rfl ?_ rfl
      show [vI _, _] = [vI (if (0 ≤ p ∧ p < pos σ) ∧ (0 ≤ l ∧ l < 8) then 1 else 0), _]
      split <;> rename_i hc <;> first | rfl | (exfalso; first | exact hc ⟨h6, h13⟩ | exact h6 hc.1 | exact h13 hc.2)
    · refine wg_iconst (pc := 16) C dX2_tieOf_16 ?_
      refine wg_goto (tgt := 21) (pc := 17) C dX2_tieOf_17 (by decide) ?_
      refine WG.at L21 rfl rfl ?_ rfl
      show [vI _, _] = [vI (if (0 ≤ p ∧ p < pos σ) ∧ (0 ≤ l ∧ l < 8) then 1 else 0), _]
      split <;> rename_i hc <;> first | rfl | (exfalso; first | exact hc ⟨h6, h13⟩ | exact h6 hc.1 | exact h13 hc.2)

theorem tX2_hasTie {G : Gm} {w : Wo} {σ ζ : St} (hM : HasM G w σ ζ) (hO : Ok σ) {p l : Int} (hp : InR p) (hl : InR l) : Ct G mX2_hasTie 7 0 0 w [.ref (w.1 (20, 0)), vI p, vI l] (fun v w1 => v = some (vI (if ((0 ≤ p ∧ p < pos σ) ∧ (0 ≤ l ∧ l < 8)) ∧ (True) ∧ (True) then ties σ l p else 0)) ∧ MP G w w1 σ (thr ((0 ≤ p ∧ p < pos σ) ∧ (0 ≤ l ∧ l < 8)) (True) (True))) := by
  refine ct_of [some (.ref (w.1 (20, 0))), some (vI p), some (vI l)] plX2 rfl (Nat.le_of_ble_eq_true rfl) rfl ?_
  intro X hG C hnm hQ
  subst hG
  change CxOk X cX2_hasTie 3 RX2 (some .boolean) 7 at C
  have hB := hO.hB
  have hF := hO.hF
  have hbc := hM.bc
  have hfc0 := hM.fc
  have hps := pos_rng hO
  have L21 : WG X 21 [some (.ref (w.1 (20, 0))), some (vI p), some (vI l)] [vI (if (0 ≤ p ∧ p < pos σ) ∧ (0 ≤ l ∧ l < 8) then 1 else 0), .ref (w.1 (20, 0))] w 0 0 := by
    refine wg_iconst (pc := 21) C dX2_hasTie_21 ?_
    refine wg_iconst (pc := 22) C dX2_hasTie_22 ?_
    refine wg_callV (pc := 23) C (k' := 0) (n' := 0) kX2_passes q1152 (tX2_passes hM hO (p := (0 ≤ p ∧ p < pos σ) ∧ (0 ≤ l ∧ l < 8)) (q := True) (r := True)) (rc_of C hM.obj rfl) dX2_hasTie_23 rfl rfl (Nat.le_of_ble_eq_true rfl) rfl (by decide) (by omega) (by omega) (fun v23 w23 h23 => ?_)
    obtain ⟨e23, s23, h23⟩ := h23
    subst e23
    obtain ⟨A23, V23⟩ := w23
    have a23 : A23 = w.1 := s23.1
    subst a23
    have hM := h23
    have hbc := hM.bc
    have hfc0 := hM.fc
    refine wg_ifneB (tgt := 31) (pc := 26) C dX2_hasTie_26 (by decide) (fun h26 => ?_) (fun h26 => ?_)
    · have hbb := h26.1
      refine wg_aload_0 (pc := 31) C dX2_hasTie_31 ?_
      refine wg_iload_2 (pc := 32) C dX2_hasTie_32 ?_
      refine wg_callV (pc := 33) C (k' := 0) (n' := 0) kX2_findTies q1331 (tX2_findTies hM hO (by omega) (by omega)) (rc_of C hM.obj rfl) dX2_hasTie_33 rfl rfl (Nat.le_of_ble_eq_true rfl) rfl (by decide) (by omega) (by omega) (fun v33 w33 h33 => ?_)
      obtain ⟨e33, s33, ζ33, hM33, hz33, hft33⟩ := h33
      subst e33
      obtain ⟨A33, V33⟩ := w33
      have a33 : A33 = w.1 := s33.1
      subst a33
      have hM := hM33
      have hbc := hM.bc
      have hfc0 := hM.fc
      refine wg_aload_0 (pc := 36) C dX2_hasTie_36 ?_
      refine gX2_38 (pc := 37) C hM.obj rfl dX2_hasTie_37 ?_
      refine wg_iload_1 (pc := 40) C dX2_hasTie_40 ?_
      refine wg_zald (pc := 41) C hM.ti rfl (by omega) (by omega) (by decide) dX2_hasTie_41 ?_
      rw [(hft33 p (by omega) (by omega)).1]
      have hti := ties_rng hO l p
      refine wg_zret (pc := 42) C hQ dX2_hasTie_42 (by omega) ?_
      first
        | exact ⟨by rw [if_pos h26], s23.tr s33, _, hM, hz33.th.trans (uS_at _ _ _ _ _)⟩
        | exact ⟨by rw [if_neg h26], s23, _, hM, uS_at _ _ _ _ _⟩
    · refine wg_iconst (pc := 29) C dX2_hasTie_29 ?_
      refine wg_zret (pc := 30) C hQ dX2_hasTie_30 (by omega) ?_
      first
        | exact ⟨by rw [if_pos h26], s23.tr s33, _, hM, hz33.th.trans (uS_at _ _ _ _ _)⟩
        | exact ⟨by rw [if_neg h26], s23, _, hM, uS_at _ _ _ _ _⟩
  refine wg_aload_0 (pc := 0) C dX2_hasTie_0 ?_
  refine wg_aload_0 (pc := 1) C dX2_hasTie_1 ?_
  refine wg_iload_1 (pc := 2) C dX2_hasTie_2 ?_
  refine wg_callVP (pc := 3) C kX2_isPosition q1229 (tX2_isPosition hM hO hp) (rc_of C hM.obj rfl) dX2_hasTie_3 rfl rfl (Nat.le_of_ble_eq_true rfl) rfl (by decide) (fun f3 => ?_)
  refine wg_ifeqB (tgt := 20) (pc := 6) C dX2_hasTie_6 (by decide) (fun h6 => ?_) (fun h6 => ?_)
  · refine wg_iconst (pc := 20) C dX2_hasTie_20 ?_
    refine WG.at L21 rfl rfl ?_ rfl
    show [vI _, _] = [vI (if (0 ≤ p ∧ p < pos σ) ∧ (0 ≤ l ∧ l < 8) then 1 else 0), _]
    split <;> rename_i hc <;> first | rfl | (exfalso; first | exact hc ⟨h6, h13⟩ | exact h6 hc.1 | exact h13 hc.2)
  · refine wg_iload_2 (pc := 9) C dX2_hasTie_9 ?_
    refine wg_callSP (pc := 10) C kX2_isLevel q1264 (tX2_isLevel hl) dX2_hasTie_10 rfl rfl (Nat.le_of_ble_eq_true rfl) rfl (by decide) (fun f10 => ?_)
    refine wg_ifeqB (tgt := 20) (pc := 13) C dX2_hasTie_13 (by decide) (fun h13 => ?_) (fun h13 => ?_)
    · refine wg_iconst (pc := 20) C dX2_hasTie_20 ?_
      refine WG.at L21 rfl rfl ?_ rfl
      show [vI _, _] = [vI (if (0 ≤ p ∧ p < pos σ) ∧ (0 ≤ l ∧ l < 8) then 1 else 0), _]
      split <;> rename_i hc <;> first | rfl | (exfalso; first | exact hc ⟨h6, h13⟩ | exact h6 hc.1 | exact h13 hc.2)
    · refine wg_iconst (pc := 16) C dX2_hasTie_16 ?_
      refine wg_goto (tgt := 21) (pc := 17) C dX2_hasTie_17 (by decide) ?_
      refine WG.at L21 rfl rfl ?_ rfl
      show [vI _, _] = [vI (if (0 ≤ p ∧ p < pos σ) ∧ (0 ≤ l ∧ l < 8) then 1 else 0), _]
      split <;> rename_i hc <;> first | rfl | (exfalso; first | exact hc ⟨h6, h13⟩ | exact h6 hc.1 | exact h13 hc.2)

theorem tX2_tag {G : Gm} {w : Wo} {σ ζ : St} (hM : HasM G w σ ζ) (hO : Ok σ) {f : Int} (hf : InR f) : Ct G mX2_tag 3 0 0 w [.ref (w.1 (20, 0)), vI f] (fun v w1 => v = some (vI (if (0 ≤ f ∧ f < nF σ) ∧ (True) ∧ (True) then (if day σ ≤ grn σ f then grn σ f - day σ + 1 else 0) else 0)) ∧ MP G w w1 σ (thr (0 ≤ f ∧ f < nF σ) (True) (True))) := by
  refine ct_of [some (.ref (w.1 (20, 0))), some (vI f)] plX2 rfl (Nat.le_of_ble_eq_true rfl) rfl ?_
  intro X hG C hnm hQ
  subst hG
  change CxOk X cX2_tag 2 RX2 (some .int) 3 at C
  have hB := hO.hB
  have hF := hO.hF
  have hbc := hM.bc
  have hfc0 := hM.fc
  have hps := pos_rng hO
  refine wg_aload_0 (pc := 0) C dX2_tag_0 ?_
  refine wg_aload_0 (pc := 1) C dX2_tag_1 ?_
  refine wg_iload_1 (pc := 2) C dX2_tag_2 ?_
  refine wg_callVP (pc := 3) C kX2_isFace q1389 (tX2_isFace hM hO hf) (rc_of C hM.obj rfl) dX2_tag_3 rfl rfl (Nat.le_of_ble_eq_true rfl) rfl (by decide) (fun f3 => ?_)
  refine wg_iconst (pc := 6) C dX2_tag_6 ?_
  refine wg_iconst (pc := 7) C dX2_tag_7 ?_
  refine wg_callV (pc := 8) C (k' := 0) (n' := 0) kX2_passes q1152 (tX2_passes hM hO (p := 0 ≤ f ∧ f < nF σ) (q := True) (r := True)) (rc_of C hM.obj rfl) dX2_tag_8 rfl rfl (Nat.le_of_ble_eq_true rfl) rfl (by decide) (by omega) (by omega) (fun v8 w8 h8 => ?_)
  obtain ⟨e8, s8, h8⟩ := h8
  subst e8
  obtain ⟨A8, V8⟩ := w8
  have a8 : A8 = w.1 := s8.1
  subst a8
  have hM := h8
  have hbc := hM.bc
  have hfc0 := hM.fc
  refine wg_ifeqB (tgt := 34) (pc := 11) C dX2_tag_11 (by decide) (fun h11 => ?_) (fun h11 => ?_)
  · refine wg_iconst (pc := 34) C dX2_tag_34 ?_
    refine wg_iret (pc := 35) C hQ dX2_tag_35 ?_
    first
      | exact ⟨by rw [if_pos h11]; (congr 2; split <;> split <;> omega), s8, _, hM, uS_at _ _ _ _ _⟩
      | exact ⟨by rw [if_neg h11], s8, _, hM, uS_at _ _ _ _ _⟩
  · have hbb := h11.1
    have hgr := hO.gr f
    have hdy := hO.dy
    refine wg_iconst (pc := 14) C dX2_tag_14 ?_
    refine wg_aload_0 (pc := 15) C dX2_tag_15 ?_
    refine gX2_23 (pc := 16) C hM.obj rfl dX2_tag_16 ?_
    refine wg_iload_1 (pc := 19) C dX2_tag_19 ?_
    refine wg_iald (pc := 20) C hM.gt rfl (by omega) (by omega) (by decide) dX2_tag_20 ?_
    refine wg_nm (fun y hy => ?_)
    have ey : y = grn σ f := hy.trans (if_pos (by omega))
    subst ey
    refine wg_aload_0 (pc := 21) C dX2_tag_21 ?_
    refine gX2_68 (pc := 22) C hM.obj rfl dX2_tag_22 ?_
    refine wg_isub (pc := 25) C dX2_tag_25 ?_
    refine wg_iconst (pc := 26) C dX2_tag_26 ?_
    refine wg_iadd (pc := 27) C dX2_tag_27 ?_
    refine wg_max (pc := 28) C q1247 dX2_tag_28 (by unfold InR; omega) (by unfold InR; omega) (by decide) (Nat.le_of_ble_eq_true rfl) rfl ?_
    refine wg_goto (tgt := 35) (pc := 31) C dX2_tag_31 (by decide) ?_
    refine wg_iret (pc := 35) C hQ dX2_tag_35 ?_
    first
      | exact ⟨by rw [if_pos h11]; (congr 2; split <;> split <;> omega), s8, _, hM, uS_at _ _ _ _ _⟩
      | exact ⟨by rw [if_neg h11], s8, _, hM, uS_at _ _ _ _ _⟩

theorem tX2_weakest {G : Gm} {w : Wo} {σ ζ : St} (hM : HasM G w σ ζ) (hO : Ok σ) {f : Int} (hf : InR f) : Ct G mX2_weakest 10 0 0 w [.ref (w.1 (20, 0)), vI f] (fun v w1 => v = some (vI (if (0 ≤ f ∧ f < nF σ) ∧ (True) ∧ (True) then weakest σ f else 0)) ∧ MP G w w1 σ (thr (0 ≤ f ∧ f < nF σ) (True) (True))) := by
  refine ct_of [some (.ref (w.1 (20, 0))), some (vI f), none, none] plX2 rfl (Nat.le_of_ble_eq_true rfl) rfl ?_
  intro X hG C hnm hQ
  subst hG
  change CxOk X cX2_weakest 4 RX2 (some .int) 10 at C
  have hB := hO.hB
  have hF := hO.hF
  have hbc := hM.bc
  have hfc0 := hM.fc
  have hps := pos_rng hO
  refine wg_aload_0 (pc := 0) C dX2_weakest_0 ?_
  refine wg_aload_0 (pc := 1) C dX2_weakest_1 ?_
  refine wg_iload_1 (pc := 2) C dX2_weakest_2 ?_
  refine wg_callVP (pc := 3) C kX2_isFace q1389 (tX2_isFace hM hO hf) (rc_of C hM.obj rfl) dX2_weakest_3 rfl rfl (Nat.le_of_ble_eq_true rfl) rfl (by decide) (fun f3 => ?_)
  refine wg_iconst (pc := 6) C dX2_weakest_6 ?_
  refine wg_iconst (pc := 7) C dX2_weakest_7 ?_
  refine wg_callV (pc := 8) C (k' := 0) (n' := 0) kX2_passes q1152 (tX2_passes hM hO (p := 0 ≤ f ∧ f < nF σ) (q := True) (r := True)) (rc_of C hM.obj rfl) dX2_weakest_8 rfl rfl (Nat.le_of_ble_eq_true rfl) rfl (by decide) (by omega) (by omega) (fun v8 w8 h8 => ?_)
  obtain ⟨e8, s8, h8⟩ := h8
  subst e8
  obtain ⟨A8, V8⟩ := w8
  have a8 : A8 = w.1 := s8.1
  subst a8
  have hM := h8
  have hbc := hM.bc
  have hfc0 := hM.fc
  refine wg_ifneB (tgt := 16) (pc := 11) C dX2_weakest_11 (by decide) (fun h11 => ?_) (fun h11 => ?_)
  · have hbb := h11.1
    have hfc := hO.fc hbb.1 hbb.2
    refine wg_aload_0 (pc := 16) C dX2_weakest_16 ?_
    refine gX2_20 (pc := 17) C hM.obj rfl dX2_weakest_17 ?_
    refine wg_iload_1 (pc := 20) C dX2_weakest_20 ?_
    refine wg_callFP (pc := 21) C kF_get q1224 (tJ2_get (hM.flA (by omega)) (hM.faA (by omega)) (by omega) (by omega) (by omega) (by omega) (bxs_at (by omega) (by omega))) (rc_of C hM.fl rfl) dX2_weakest_21 rfl rfl (Nat.le_of_ble_eq_true rfl) rfl (by decide) (fun f21 => ?_)
    refine wg_castQ (pc := 26) C q1284 (RcG.box (by omega) X rfl C.pm) dX2_weakest_26 ?_
    refine wg_callVP (pc := 29) C kJ17_intValue q1285 (tJ17_intValue (by omega) (by omega)) (RcG.box (by omega) X rfl C.pm) dX2_weakest_29 rfl rfl (Nat.le_of_ble_eq_true rfl) rfl (by decide) (fun f29 => ?_)
    refine wg_istore_2 (pc := 32) C dX2_weakest_32 rfl ?_
    refine wg_aload_0 (pc := 33) C dX2_weakest_33 ?_
    refine gX2_20 (pc := 34) C hM.obj rfl dX2_weakest_34 ?_
    refine wg_iload_1 (pc := 37) C dX2_weakest_37 ?_
    refine wg_callFP (pc := 38) C kF_get q1224 (tJ2_get (hM.flA (by omega)) (hM.faA (by omega)) (by omega) (by omega) (by omega) (by omega) (bxs_at (by omega) (by omega))) (rc_of C hM.fl rfl) dX2_weakest_38 rfl rfl (Nat.le_of_ble_eq_true rfl) rfl (by decide) (fun f38 => ?_)
    refine wg_castQ (pc := 43) C q1284 (RcG.box (by omega) X rfl C.pm) dX2_weakest_43 ?_
    refine wg_callVP (pc := 46) C kJ17_intValue q1285 (tJ17_intValue (by omega) (by omega)) (RcG.box (by omega) X rfl C.pm) dX2_weakest_46 rfl rfl (Nat.le_of_ble_eq_true rfl) rfl (by decide) (fun f46 => ?_)
    have L50 : ∀ (N : Nat) (V : Tg → Option va_E) (ζ2 : St) (k b : Int), (first σ f + many σ f + 1 - k).toNat = N → SmM w (w.1, V) → HasM (xG X) (w.1, V) σ ζ2 → ζ2 0 0 0 = thr (0 ≤ f ∧ f < nF σ) True True → first σ f ≤ k → k ≤ first σ f + many σ f + 1 → first σ f ≤ b → b ≤ nB σ → b = wkN σ (first σ f) (k - first σ f).toNat → WG X 50 [some (.ref (w.1 (20, 0))), some (vI f), some (vI b), some (vI k)] [] (w.1, V) 0 0 := by
      intro N
      induction N using Nat.strongRecOn with | _ N IH => ?_
      intro V ζ2 k b hN hS hM hZ hk0 hk1 hb0 hb1 hb
      have hbc := hM.bc
      have hfc0 := hM.fc
      refine wg_iload_3 (pc := 50) C dX2_weakest_50 ?_
      refine wg_aload_0 (pc := 51) C dX2_weakest_51 ?_
      refine wg_iload_1 (pc := 52) C dX2_weakest_52 ?_
      refine wg_callVP (pc := 53) C kX2_endOf q1289 (tX2_endOf hM hO (by omega) (by omega)) (rc_of C hM.obj rfl) dX2_weakest_53 rfl rfl (Nat.le_of_ble_eq_true rfl) rfl (by decide) (fun f53 => ?_)
      refine wg_icmp_gt (tgt := 84) (pc := 56) C dX2_weakest_56 (by decide) (by unfold InR; omega) (by unfold InR; omega) (fun h56 => ?_) (fun h56 => ?_)
      · refine wg_iload_2 (pc := 84) C dX2_weakest_84 ?_
        refine wg_iret (pc := 85) C hQ dX2_weakest_85 ?_
        have e : k = first σ f + many σ f + 1 := by omega
        exact ⟨by rw [if_pos h11]; exact vI_c (by rw [hb, e]; show _ = wkN _ _ _; congr 1; omega), hS, ζ2, hM, hZ⟩
      · have hr1 := spare_rng hO k
        refine wg_aload_0 (pc := 59) C dX2_weakest_59 ?_
        refine wg_iload_3 (pc := 60) C dX2_weakest_60 ?_
        refine wg_callV (pc := 61) C (k' := 0) (n' := 0) kX2_spare q1421 (tX2_spare hM hO (by omega) (by omega)) (rc_of C hM.obj rfl) dX2_weakest_61 rfl rfl (Nat.le_of_ble_eq_true rfl) rfl (by decide) (by omega) (by omega) (fun v61 w61 h61 => ?_)
        obtain ⟨e61, s61, ζ61, hM61, hz61⟩ := h61
        subst e61
        obtain ⟨A61, V61⟩ := w61
        have a61 : A61 = w.1 := s61.1
        subst a61
        have hM := hM61
        have hbc := hM.bc
        have hfc0 := hM.fc
        have hr2 := spare_rng hO b
        refine wg_aload_0 (pc := 64) C dX2_weakest_64 ?_
        refine wg_iload_2 (pc := 65) C dX2_weakest_65 ?_
        refine wg_callV (pc := 66) C (k' := 0) (n' := 0) kX2_spare q1421 (tX2_spare hM hO (by omega) (by omega)) (rc_of C hM.obj rfl) dX2_weakest_66 rfl rfl (Nat.le_of_ble_eq_true rfl) rfl (by decide) (by omega) (by omega) (fun v66 w66 h66 => ?_)
        obtain ⟨e66, s66, ζ66, hM66, hz66⟩ := h66
        subst e66
        obtain ⟨A66, V66⟩ := w66
        have a66 : A66 = w.1 := s66.1
        subst a66
        have hM := hM66
        have hbc := hM.bc
        have hfc0 := hM.fc
        refine wg_icmp_ge (tgt := 76) (pc := 69) C dX2_weakest_69 (by decide) (by unfold InR; omega) (by unfold InR; omega) (fun h69 => ?_) (fun h69 => ?_)
        · refine wg_iload_2 (pc := 76) C dX2_weakest_76 ?_
          refine wg_istore_2 (pc := 77) C dX2_weakest_77 rfl ?_
          refine wg_iinc_3 (pc := 78) C dX2_weakest_78 rfl ?_
          refine wg_goto (tgt := 50) (pc := 81) C dX2_weakest_81 (by decide) ?_
          exact IH _ (by omega) _ _ (k + 1) _ rfl ((hS.tr s61).tr s66) hM ((((ZK.rf ζ2).tr hz61).tr hz66).th.trans hZ) (by omega) (by omega) (by omega) (by omega) (by rw [wkN_s σ hk0 hb]; first | rw [if_pos (by omega)] | rw [if_neg (by omega)])
        · refine wg_iload_3 (pc := 72) C dX2_weakest_72 ?_
          refine wg_goto (tgt := 77) (pc := 73) C dX2_weakest_73 (by decide) ?_
          refine wg_istore_2 (pc := 77) C dX2_weakest_77 rfl ?_
          refine wg_iinc_3 (pc := 78) C dX2_weakest_78 rfl ?_
          refine wg_goto (tgt := 50) (pc := 81) C dX2_weakest_81 (by decide) ?_
          exact IH _ (by omega) _ _ (k + 1) _ rfl ((hS.tr s61).tr s66) hM ((((ZK.rf ζ2).tr hz61).tr hz66).th.trans hZ) (by omega) (by omega) (by omega) (by omega) (by rw [wkN_s σ hk0 hb]; first | rw [if_pos (by omega)] | rw [if_neg (by omega)])
    refine wg_istore_3 (pc := 49) C dX2_weakest_49 rfl ?_
    exact L50 _ V8 _ _ _ rfl s8 hM (uS_at _ _ _ _ _) (by omega) (by omega) (by omega) (by omega) (by rw [show (first σ f - first σ f).toNat = 0 by omega]; rfl)
  · refine wg_iconst (pc := 14) C dX2_weakest_14 ?_
    refine wg_iret (pc := 15) C hQ dX2_weakest_15 ?_
    exact ⟨by rw [if_neg h11], s8, _, hM, uS_at _ _ _ _ _⟩

