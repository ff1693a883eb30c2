/-! the class: faces and bays, what changes nothing -/
set_option maxRecDepth 100000
set_option maxHeartbeats 4000000
theorem tX3_last {G : Gm} {w : Wo} {σ ζ : St} (hX : HasX G w σ ζ) (hO : Ok σ) {f : Int} (hf0 : 0 ≤ f) (hf1 : f < nF σ) : PCt G mX3_last 1 w [.ref (w.1 (3, f))] (vI (first σ f + many σ f)) (0 ≤ first σ f ∧ 1 ≤ many σ f ∧ first σ f + many σ f ≤ nB σ) := by
  refine ⟨ct_of [some (.ref (w.1 (3, f)))] plX3 rfl (Nat.le_of_ble_eq_true rfl) rfl ?_, ⟨(hO.fc hf0 hf1).2.1, (hO.fc hf0 hf1).1, (hO.fc hf0 hf1).2.2.1⟩⟩
  intro X hG C hnm hQ
  subst hG
  change CxOk X cX3_last 1 RX3 (some .int) 1 at C
  have hB := hO.hB
  have hF := hO.hF
  have hc := hO.fc hf0 hf1
  refine wg_aload_0 (pc := 0) C dX3_last_0 ?_
  refine gX3_22 (pc := 1) C (hX.face (by omega) (by omega)) rfl dX3_last_1 ?_
  refine wg_aload_0 (pc := 4) C dX3_last_4 ?_
  refine gX3_25 (pc := 5) C (hX.face (by omega) (by omega)) rfl dX3_last_5 ?_
  refine wg_iadd (pc := 8) C dX3_last_8 ?_
  refine wg_iret (pc := 9) C hQ dX3_last_9 ?_
  exact ⟨rfl, rfl⟩

theorem tX3_firstOfOwn {G : Gm} {w : Wo} {σ ζ : St} (hX : HasX G w σ ζ) (hO : Ok σ) {f : Int} (hf0 : 0 ≤ f) (hf1 : f < nF σ) : PCt G mX3_firstOfOwn 1 w [.ref (w.1 (3, f))] (vI (ownP σ f)) (0 ≤ ownP σ f ∧ ownP σ f ≤ 24) := by
  refine ⟨ct_of [some (.ref (w.1 (3, f)))] plX3 rfl (Nat.le_of_ble_eq_true rfl) rfl ?_, by have := hO.fc hf0 hf1; have := hO.hB; unfold ownP; split <;> omega⟩
  intro X hG C hnm hQ
  subst hG
  change CxOk X cX3_firstOfOwn 1 RX3 (some .int) 1 at C
  have hB := hO.hB
  have hF := hO.hF
  have hc := hO.fc hf0 hf1
  refine wg_aload_0 (pc := 0) C dX3_firstOfOwn_0 ?_
  refine gX3_19 (pc := 1) C (hX.face (by omega) (by omega)) rfl dX3_firstOfOwn_1 ?_
  refine wg_if_ne (tgt := 14) (pc := 4) C dX3_firstOfOwn_4 (by decide) (by unfold InR; omega) (fun h4 => ?_) (fun h4 => ?_)
  · refine wg_aload_0 (pc := 14) C dX3_firstOfOwn_14 ?_
    refine gX3_22 (pc := 15) C (hX.face (by omega) (by omega)) rfl dX3_firstOfOwn_15 ?_
    refine wg_iconst (pc := 18) C dX3_firstOfOwn_18 ?_
    refine wg_iadd (pc := 19) C dX3_firstOfOwn_19 ?_
    refine wg_iret (pc := 20) C hQ dX3_firstOfOwn_20 ?_
    exact ⟨vI_c (by unfold ownP; first | rw [if_pos h4] | rw [if_neg h4]), rfl⟩
  · refine wg_aload_0 (pc := 7) C dX3_firstOfOwn_7 ?_
    refine gX3_22 (pc := 8) C (hX.face (by omega) (by omega)) rfl dX3_firstOfOwn_8 ?_
    refine wg_goto (tgt := 20) (pc := 11) C dX3_firstOfOwn_11 (by decide) ?_
    refine wg_iret (pc := 20) C hQ dX3_firstOfOwn_20 ?_
    exact ⟨vI_c (by unfold ownP; first | rw [if_pos h4] | rw [if_neg h4]), rfl⟩

theorem tX3_has {G : Gm} {w : Wo} {σ ζ : St} (hX : HasX G w σ ζ) (hO : Ok σ) {f : Int} (hf0 : 0 ≤ f) (hf1 : f < nF σ) {p : Int} (hp : InR p) : PCt G mX3_has 2 w [.ref (w.1 (3, f)), vI p] (vI (if first σ f ≤ p ∧ p ≤ first σ f + many σ f then 1 else 0)) (True) := by
  refine ⟨ct_of [some (.ref (w.1 (3, f))), some (vI p)] plX3 rfl (Nat.le_of_ble_eq_true rfl) rfl ?_, trivial⟩
  intro X hG C hnm hQ
  subst hG
  change CxOk X cX3_has 2 RX3 (some .boolean) 2 at C
  have hB := hO.hB
  have hF := hO.hF
  have hc := hO.fc hf0 hf1
  unfold InR at hp
  refine wg_iload_1 (pc := 0) C dX3_has_0 ?_
  refine wg_aload_0 (pc := 1) C dX3_has_1 ?_
  refine gX3_22 (pc := 2) C (hX.face (by omega) (by omega)) rfl dX3_has_2 ?_
  refine wg_aload_0 (pc := 5) C dX3_has_5 ?_
  refine wg_callVP (pc := 6) C kX3_last q605 (tX3_last hX hO (by omega) (by omega)) (rc_of C (hX.face (by omega) (by omega)) rfl) dX3_has_6 rfl rfl (Nat.le_of_ble_eq_true rfl) rfl (by decide) (fun f6 => ?_)
  refine wg_callSNP (pc := 9) C kX1_inRange (nM_X3_35 C) (tX1_inRange (by unfold InR; omega) (by unfold InR; omega) (by unfold InR; omega)) dX3_has_9 rfl rfl (Nat.le_of_ble_eq_true rfl) rfl (by decide) (fun f9 => ?_)
  refine wg_zret (pc := 12) C hQ dX3_has_12 ?_ ⟨rfl, rfl⟩
  split <;> omega

theorem tX3_isGreen {G : Gm} {w : Wo} {σ ζ : St} (hX : HasX G w σ ζ) (hO : Ok σ) {f : Int} (hf0 : 0 ≤ f) (hf1 : f < nF σ) : PCt G mX3_isGreen 1 w [.ref (w.1 (3, f))] (vI (if day σ ≤ grn σ f then 1 else 0)) (True) := by
  refine ⟨ct_of [some (.ref (w.1 (3, f)))] plX3 rfl (Nat.le_of_ble_eq_true rfl) rfl ?_, trivial⟩
  intro X hG C hnm hQ
  subst hG
  change CxOk X cX3_isGreen 1 RX3 (some .boolean) 1 at C
  have hB := hO.hB
  have hF := hO.hF
  have hc := hO.fc hf0 hf1
  have hg := hO.gr f
  have hd := hO.dy
  refine wg_aload_0 (pc := 0) C dX3_isGreen_0 ?_
  refine gX3_15 (pc := 1) C (hX.face (by omega) (by omega)) rfl dX3_isGreen_1 ?_
  refine wg_aload_0 (pc := 4) C dX3_isGreen_4 ?_
  refine gX3_3 (pc := 5) C (hX.face (by omega) (by omega)) rfl dX3_isGreen_5 ?_
  refine gX3_28 (pc := 8) C hX.obj rfl dX3_isGreen_8 ?_
  refine wg_icmp_lt (tgt := 18) (pc := 11) C dX3_isGreen_11 (by decide) (by unfold InR; omega) (by unfold InR; omega) (fun h11 => ?_) (fun h11 => ?_)
  · refine wg_iconst (pc := 18) C dX3_isGreen_18 ?_
    refine wg_zret (pc := 19) C hQ dX3_isGreen_19 (by omega) ?_
    exact ⟨by first | exact vB_t (by omega) | exact vB_f (by omega), rfl⟩
  · refine wg_iconst (pc := 14) C dX3_isGreen_14 ?_
    refine wg_goto (tgt := 19) (pc := 15) C dX3_isGreen_15 (by decide) ?_
    refine wg_zret (pc := 19) C hQ dX3_isGreen_19 (by omega) ?_
    exact ⟨by first | exact vB_t (by omega) | exact vB_f (by omega), rfl⟩

theorem tX3_hasBrace {G : Gm} {w : Wo} {σ ζ : St} (hX : HasX G w σ ζ) (hO : Ok σ) {f : Int} (hf0 : 0 ≤ f) (hf1 : f < nF σ) {k : Int} (hk0 : first σ f ≤ k) (hk1 : k ≤ 100) : PCt G mX3_hasBrace 2 w [.ref (w.1 (3, f)), vI k] (vI (if brc σ f k then 1 else 0)) (True) := by
  refine ⟨ct_of [some (.ref (w.1 (3, f))), some (vI k)] plX3 rfl (Nat.le_of_ble_eq_true rfl) rfl ?_, trivial⟩
  intro X hG C hnm hQ
  subst hG
  change CxOk X cX3_hasBrace 2 RX3 (some .boolean) 2 at C
  have hB := hO.hB
  have hF := hO.hF
  have hc := hO.fc hf0 hf1
  refine wg_iload_1 (pc := 0) C dX3_hasBrace_0 ?_
  refine wg_aload_0 (pc := 1) C dX3_hasBrace_1 ?_
  refine gX3_22 (pc := 2) C (hX.face (by omega) (by omega)) rfl dX3_hasBrace_2 ?_
  refine wg_isub (pc := 5) C dX3_hasBrace_5 ?_
  refine wg_iconst (pc := 6) C dX3_hasBrace_6 ?_
  refine wg_irem (pc := 7) C dX3_hasBrace_7 (by omega) (by omega) (by omega) (by omega) ?_
  refine wg_if_eq (tgt := 21) (pc := 8) C dX3_hasBrace_8 (by decide) (by unfold InR; omega) (fun h8 => ?_) (fun h8 => ?_)
  · refine wg_iconst (pc := 21) C dX3_hasBrace_21 ?_
    refine wg_goto (tgt := 26) (pc := 22) C dX3_hasBrace_22 (by decide) ?_
    refine wg_zret (pc := 26) C hQ dX3_hasBrace_26 (by omega) ?_
    exact ⟨by first | exact vB_t (by omega) | exact vB_f (by omega), rfl⟩
  · refine wg_iload_1 (pc := 11) C dX3_hasBrace_11 ?_
    refine wg_aload_0 (pc := 12) C dX3_hasBrace_12 ?_
    refine wg_callVP (pc := 13) C kX3_last q605 (tX3_last hX hO (by omega) (by omega)) (rc_of C (hX.face (by omega) (by omega)) rfl) dX3_hasBrace_13 rfl rfl (Nat.le_of_ble_eq_true rfl) rfl (by decide) (fun f13 => ?_)
    refine wg_iconst (pc := 16) C dX3_hasBrace_16 ?_
    refine wg_isub (pc := 17) C dX3_hasBrace_17 ?_
    refine wg_icmp_ne (tgt := 25) (pc := 18) C dX3_hasBrace_18 (by decide) (by unfold InR; omega) (by unfold InR; omega) (fun h18 => ?_) (fun h18 => ?_)
    · refine wg_iconst (pc := 25) C dX3_hasBrace_25 ?_
      refine wg_zret (pc := 26) C hQ dX3_hasBrace_26 (by omega) ?_
      exact ⟨by first | exact vB_t (by omega) | exact vB_f (by omega), rfl⟩
    · refine wg_iconst (pc := 21) C dX3_hasBrace_21 ?_
      refine wg_goto (tgt := 26) (pc := 22) C dX3_hasBrace_22 (by decide) ?_
      refine wg_zret (pc := 26) C hQ dX3_hasBrace_26 (by omega) ?_
      exact ⟨by first | exact vB_t (by omega) | exact vB_f (by omega), rfl⟩

theorem tX4_has {G : Gm} {w : Wo} {σ ζ : St} (hX : HasX G w σ ζ) (hO : Ok σ) {b : Int} (hb0 : 0 ≤ b) (hb1 : b < nB σ) {l : Int} (hl : InR l) : PCt G mX4_has 1 w [.ref (w.1 (6, b)), vI l] (vI (if l < lft σ b then 1 else 0)) (True) := by
  refine ⟨ct_of [some (.ref (w.1 (6, b))), some (vI l)] plX4 rfl (Nat.le_of_ble_eq_true rfl) rfl ?_, trivial⟩
  intro X hG C hnm hQ
  subst hG
  change CxOk X cX4_has 2 RX4 (some .boolean) 1 at C
  have hB := hO.hB
  have hF := hO.hF
  have hlf := hO.lf b
  unfold InR at hl
  refine wg_iload_1 (pc := 0) C dX4_has_0 ?_
  refine wg_aload_0 (pc := 1) C dX4_has_1 ?_
  refine gX4_30 (pc := 2) C (hX.bay (by omega) (by omega)) rfl dX4_has_2 ?_
  refine wg_icmp_ge (tgt := 12) (pc := 5) C dX4_has_5 (by decide) (by unfold InR; omega) (by unfold InR; omega) (fun h5 => ?_) (fun h5 => ?_)
  · refine wg_iconst (pc := 12) C dX4_has_12 ?_
    refine wg_zret (pc := 13) C hQ dX4_has_13 (by omega) ?_
    exact ⟨by first | exact vB_t (by omega) | exact vB_f (by omega), rfl⟩
  · refine wg_iconst (pc := 8) C dX4_has_8 ?_
    refine wg_goto (tgt := 13) (pc := 9) C dX4_has_9 (by decide) ?_
    refine wg_zret (pc := 13) C hQ dX4_has_13 (by omega) ?_
    exact ⟨by first | exact vB_t (by omega) | exact vB_f (by omega), rfl⟩

theorem tX4_boarded {G : Gm} {w : Wo} {σ ζ : St} (hX : HasX G w σ ζ) (hO : Ok σ) {b : Int} (hb0 : 0 ≤ b) (hb1 : b < nB σ) : PCt G mX4_boarded 1 w [.ref (w.1 (6, b))] (vI (bdN σ b)) (0 ≤ bdN σ b ∧ bdN σ b ≤ 8) := by
  refine ⟨ct_of [some (.ref (w.1 (6, b))), none, none] plX4 rfl (Nat.le_of_ble_eq_true rfl) rfl ?_, bdN_rng hO b⟩
  intro X hG C hnm hQ
  subst hG
  change CxOk X cX4_boarded 3 RX4 (some .int) 1 at C
  have hB := hO.hB
  have hF := hO.hF
  have hl := hO.lf b
  have L4 : ∀ (N : Nat) (k s : Int), (lft σ b - k).toNat = N → 0 ≤ k → k ≤ lft σ b → s = sm (fun l => if σ 5 b l = 0 then 0 else 1) 0 k → WG X 4 [some (.ref (w.1 (6, b))), some (vI s), some (vI k)] [] w 0 0 := by
    intro N
    induction N using Nat.strongRecOn with | _ N IH => ?_
    intro k s hN hk0 hk1 hs
    have hbd := hO.bd b k
    refine wg_iload_2 (pc := 4) C dX4_boarded_4 ?_
    refine wg_aload_0 (pc := 5) C dX4_boarded_5 ?_
    refine gX4_30 (pc := 6) C (hX.bay (by omega) (by omega)) rfl dX4_boarded_6 ?_
    refine wg_icmp_ge (tgt := 35) (pc := 9) C dX4_boarded_9 (by decide) (by unfold InR; omega) (by unfold InR; omega) (fun h9 => ?_) (fun h9 => ?_)
    · refine wg_iload_1 (pc := 35) C dX4_boarded_35 ?_
      refine wg_iret (pc := 36) C hQ dX4_boarded_36 ?_
      have e : k = lft σ b := by omega
      exact ⟨vI_c (by rw [hs, e]; rfl), rfl⟩
    · refine wg_iload_1 (pc := 12) C dX4_boarded_12 ?_
      refine wg_aload_0 (pc := 13) C dX4_boarded_13 ?_
      refine gX4_9 (pc := 14) C (hX.bay (by omega) (by omega)) rfl dX4_boarded_14 ?_
      refine wg_iload_2 (pc := 17) C dX4_boarded_17 ?_
      refine wg_zald (pc := 18) C (hX.bd (by omega) (by omega)) rfl (by omega) (by omega) (by decide) dX4_boarded_18 ?_
      refine wg_if_eq (tgt := 26) (pc := 19) C dX4_boarded_19 (by decide) (by unfold InR; omega) (fun h19 => ?_) (fun h19 => ?_)
      · refine wg_iconst (pc := 26) C dX4_boarded_26 ?_
        refine wg_iadd (pc := 27) C dX4_boarded_27 ?_
        refine wg_istore_1 (pc := 28) C dX4_boarded_28 rfl ?_
        refine wg_iinc_2 (pc := 29) C dX4_boarded_29 rfl ?_
        refine wg_goto (tgt := 4) (pc := 32) C dX4_boarded_32 (by decide) ?_
        exact IH _ (by omega) (k + 1) _ rfl (by omega) (by omega) (by rw [sm_succ _ (by omega), ← hs]; first | rw [if_pos h19] | rw [if_neg h19])
      · refine wg_iconst (pc := 22) C dX4_boarded_22 ?_
        refine wg_goto (tgt := 27) (pc := 23) C dX4_boarded_23 (by decide) ?_
        refine wg_iadd (pc := 27) C dX4_boarded_27 ?_
        refine wg_istore_1 (pc := 28) C dX4_boarded_28 rfl ?_
        refine wg_iinc_2 (pc := 29) C dX4_boarded_29 rfl ?_
        refine wg_goto (tgt := 4) (pc := 32) C dX4_boarded_32 (by decide) ?_
        exact IH _ (by omega) (k + 1) _ rfl (by omega) (by omega) (by rw [sm_succ _ (by omega), ← hs]; first | rw [if_pos h19] | rw [if_neg h19])
  refine wg_iconst (pc := 0) C dX4_boarded_0 ?_
  refine wg_istore_1 (pc := 1) C dX4_boarded_1 rfl ?_
  refine wg_iconst (pc := 2) C dX4_boarded_2 ?_
  refine wg_istore_2 (pc := 3) C dX4_boarded_3 rfl ?_
  exact L4 _ 0 0 rfl (by omega) (by omega) (by rw [sm_nil _ (by omega)])

theorem tX4_half {G : Gm} {w : Wo} {σ ζ : St} (hX : HasX G w σ ζ) (hO : Ok σ) {b : Int} (hb0 : 0 ≤ b) (hb1 : b < nB σ) {l r : Int} (hl0 : 0 ≤ l) (hl1 : l ≤ 1000) (hr : InR r) : PCt G mX4_half 2 w [.ref (w.1 (6, b)), vI l, vI r] (vI (half σ b l r)) (0 ≤ half σ b l r ∧ half σ b l r ≤ 330) := by
  refine ⟨ct_of [some (.ref (w.1 (6, b))), some (vI l), some (vI r), none] plX4 rfl (Nat.le_of_ble_eq_true rfl) rfl ?_, half_rng hO b l r⟩
  intro X hG C hnm hQ
  subst hG
  change CxOk X cX4_half 4 RX4 (some .int) 2 at C
  have hB := hO.hB
  have hF := hO.hF
  have hlf := hO.lf b
  have hso := hO.so b l
  have hla := hO.la b l
  have hbd := hO.bd b l
  unfold InR at hr
  refine wg_aload_0 (pc := 0) C dX4_half_0 ?_
  refine wg_iload_1 (pc := 1) C dX4_half_1 ?_
  refine wg_callVP (pc := 2) C kX4_has q661 (tX4_has hX hO (by omega) (by omega) (by unfold InR; omega)) (rc_of C (hX.bay (by omega) (by omega)) rfl) dX4_half_2 rfl rfl (Nat.le_of_ble_eq_true rfl) rfl (by decide) (fun f2 => ?_)
  refine wg_ifneB (tgt := 10) (pc := 5) C dX4_half_5 (by decide) (fun h5 => ?_) (fun h5 => ?_)
  · refine wg_iload_2 (pc := 10) C dX4_half_10 ?_
    refine wg_if_eq (tgt := 35) (pc := 11) C dX4_half_11 (by decide) (by unfold InR; omega) (fun h11 => ?_) (fun h11 => ?_)
    · refine wg_aload_0 (pc := 35) C dX4_half_35 ?_
      refine gX4_19 (pc := 36) C (hX.bay (by omega) (by omega)) rfl dX4_half_36 ?_
      refine wg_iload_1 (pc := 39) C dX4_half_39 ?_
      refine wg_iald (pc := 40) C (hX.la (by omega) (by omega)) rfl (by omega) (by omega) (by decide) dX4_half_40 ?_
      refine wg_nm (fun y hy => ?_)
      have ey : y = wgt σ b l r := by rw [hy]; unfold wgt; first | rw [if_pos h11] | rw [if_neg h11]
      have ry := wgt_rng hO b l r
      rw [← ey] at ry
      refine wg_istore_3 (pc := 41) C dX4_half_41 rfl ?_
      refine wg_aload_0 (pc := 42) C dX4_half_42 ?_
      refine gX4_9 (pc := 43) C (hX.bay (by omega) (by omega)) rfl dX4_half_43 ?_
      refine wg_iload_1 (pc := 46) C dX4_half_46 ?_
      refine wg_zald (pc := 47) C (hX.bd (by omega) (by omega)) rfl (by omega) (by omega) (by decide) dX4_half_47 ?_
      refine wg_if_eq (tgt := 56) (pc := 48) C dX4_half_48 (by decide) (by unfold InR; omega) (fun h48 => ?_) (fun h48 => ?_)
      · refine wg_iconst (pc := 56) C dX4_half_56 ?_
        refine wg_iload_3 (pc := 57) C dX4_half_57 ?_
        refine wg_iadd (pc := 58) C dX4_half_58 ?_
        refine wg_iconst (pc := 59) C dX4_half_59 ?_
        refine wg_idiv (pc := 60) C dX4_half_60 (by omega) (by omega) (by omega) (by omega) ?_
        refine wg_iret (pc := 61) C hQ dX4_half_61 ?_
        exact ⟨vI_c (by rw [half_in hb0 hb1 h5, ← ey]; first | rw [if_pos h48] | rw [if_neg h48]), rfl⟩
      · refine wg_bipush (pc := 51) C dX4_half_51 (by decide) ?_
        refine wg_goto (tgt := 57) (pc := 53) C dX4_half_53 (by decide) ?_
        refine wg_iload_3 (pc := 57) C dX4_half_57 ?_
        refine wg_iadd (pc := 58) C dX4_half_58 ?_
        refine wg_iconst (pc := 59) C dX4_half_59 ?_
        refine wg_idiv (pc := 60) C dX4_half_60 (by omega) (by omega) (by omega) (by omega) ?_
        refine wg_iret (pc := 61) C hQ dX4_half_61 ?_
        exact ⟨vI_c (by rw [half_in hb0 hb1 h5, ← ey]; first | rw [if_pos h48] | rw [if_neg h48]), rfl⟩
    · refine wg_aload_0 (pc := 14) C dX4_half_14 ?_
      refine gX4_15 (pc := 15) C (hX.bay (by omega) (by omega)) rfl dX4_half_15 ?_
      refine wg_iload_1 (pc := 18) C dX4_half_18 ?_
      refine wg_iald (pc := 19) C (hX.so (by omega) (by omega)) rfl (by omega) (by omega) (by decide) dX4_half_19 ?_
      refine wg_callSNP (pc := 20) C kX1_bornBy (nM_X4_37 C) (tX1_bornBy (by unfold InR; omega)) dX4_half_20 rfl rfl (Nat.le_of_ble_eq_true rfl) rfl (by decide) (fun f20 => ?_)
      refine wg_aload_0 (pc := 23) C dX4_half_23 ?_
      refine gX4_19 (pc := 24) C (hX.bay (by omega) (by omega)) rfl dX4_half_24 ?_
      refine wg_iload_1 (pc := 27) C dX4_half_27 ?_
      refine wg_iald (pc := 28) C (hX.la (by omega) (by omega)) rfl (by omega) (by omega) (by decide) dX4_half_28 ?_
      refine wg_max (pc := 29) C q665 dX4_half_29 (by unfold InR; omega) (by unfold InR; omega) (by decide) (Nat.le_of_ble_eq_true rfl) rfl ?_
      refine wg_goto (tgt := 41) (pc := 32) C dX4_half_32 (by decide) ?_
      refine wg_nm (fun y hy => ?_)
      have ey : y = wgt σ b l r := by rw [hy]; unfold wgt; first | rw [if_pos h11] | rw [if_neg h11]
      have ry := wgt_rng hO b l r
      rw [← ey] at ry
      refine wg_istore_3 (pc := 41) C dX4_half_41 rfl ?_
      refine wg_aload_0 (pc := 42) C dX4_half_42 ?_
      refine gX4_9 (pc := 43) C (hX.bay (by omega) (by omega)) rfl dX4_half_43 ?_
      refine wg_iload_1 (pc := 46) C dX4_half_46 ?_
      refine wg_zald (pc := 47) C (hX.bd (by omega) (by omega)) rfl (by omega) (by omega) (by decide) dX4_half_47 ?_
      refine wg_if_eq (tgt := 56) (pc := 48) C dX4_half_48 (by decide) (by unfold InR; omega) (fun h48 => ?_) (fun h48 => ?_)
      · refine wg_iconst (pc := 56) C dX4_half_56 ?_
        refine wg_iload_3 (pc := 57) C dX4_half_57 ?_
        refine wg_iadd (pc := 58) C dX4_half_58 ?_
        refine wg_iconst (pc := 59) C dX4_half_59 ?_
        refine wg_idiv (pc := 60) C dX4_half_60 (by omega) (by omega) (by omega) (by omega) ?_
        refine wg_iret (pc := 61) C hQ dX4_half_61 ?_
        exact ⟨vI_c (by rw [half_in hb0 hb1 h5, ← ey]; first | rw [if_pos h48] | rw [if_neg h48]), rfl⟩
      · refine wg_bipush (pc := 51) C dX4_half_51 (by decide) ?_
        refine wg_goto (tgt := 57) (pc := 53) C dX4_half_53 (by decide) ?_
        refine wg_iload_3 (pc := 57) C dX4_half_57 ?_
        refine wg_iadd (pc := 58) C dX4_half_58 ?_
        refine wg_iconst (pc := 59) C dX4_half_59 ?_
        refine wg_idiv (pc := 60) C dX4_half_60 (by omega) (by omega) (by omega) (by omega) ?_
        refine wg_iret (pc := 61) C hQ dX4_half_61 ?_
        exact ⟨vI_c (by rw [half_in hb0 hb1 h5, ← ey]; first | rw [if_pos h48] | rw [if_neg h48]), rfl⟩
  · refine wg_iconst (pc := 8) C dX4_half_8 ?_
    refine wg_iret (pc := 9) C hQ dX4_half_9 ?_
    exact ⟨vI_c (half_out (by omega)).symm, rfl⟩

