/-! the reference: public methods that write -/
set_option maxRecDepth 100000
set_option maxHeartbeats 4000000
theorem thr_q {p q q' : Prop} [Decidable p] [Decidable q] [Decidable q'] (h : p → (q ↔ q')) : thr p q True = thr p q' True := by
  unfold thr
  by_cases hp : p
  · rw [if_pos hp, if_pos hp]
    by_cases hq : q
    · rw [if_pos hq, if_pos ((h hp).mp hq)]
    · rw [if_neg hq, if_neg (fun z => hq ((h hp).mpr z))]
  · rw [if_neg hp, if_neg hp]
theorem tX2_pass {G : Gm} {w : Wo} {σ ζ : St} (hM : HasM G w σ ζ) (hO : Ok σ) {n : Int} (hn : InR n) : Ct G mX2_pass 2 0 0 w [.ref (w.1 (20, 0)), vI n] (fun v w1 => v = some (vI (if (1 ≤ n ∧ n ≤ 100) ∧ (day σ + n ≤ 500) ∧ (True) then (day σ + n) else 0)) ∧ MP G w w1 (if (1 ≤ n ∧ n ≤ 100) ∧ (day σ + n ≤ 500) ∧ (True) then (uS σ 10 0 0 (day σ + n)) else σ) (thr (1 ≤ n ∧ n ≤ 100) (day σ + n ≤ 500) (True))) := by
  refine ct_of [some (.ref (w.1 (20, 0))), some (vI n)] plX2 rfl (Nat.le_of_ble_eq_true rfl) rfl ?_
  intro X hG C hnm hQ
  subst hG
  change CxOk X cX2_pass 2 RX2 (some .int) 2 at C
  have hB := hO.hB
  have hF := hO.hF
  have hbc := hM.bc
  have hfc0 := hM.fc
  have hdy := hO.dy
  have hn2 := hn
  unfold InR at hn2
  refine wg_aload_0 (pc := 0) C dX2_pass_0 ?_
  refine wg_iload_1 (pc := 1) C dX2_pass_1 ?_
  refine wg_iconst (pc := 2) C dX2_pass_2 ?_
  refine wg_bipush (pc := 3) C dX2_pass_3 (by decide) ?_
  refine wg_callSP (pc := 5) C kX2_in q1149 (tX2_in (by unfold InR; omega) (by unfold InR; omega) (by unfold InR; omega)) dX2_pass_5 rfl rfl (Nat.le_of_ble_eq_true rfl) rfl (by decide) (fun f5 => ?_)
  refine wg_aload_0 (pc := 8) C dX2_pass_8 ?_
  refine gX2_68 (pc := 9) C hM.obj rfl dX2_pass_9 ?_
  refine wg_iload_1 (pc := 12) C dX2_pass_12 ?_
  refine wg_iadd (pc := 13) C dX2_pass_13 ?_
  obtain ⟨z, hz, ez⟩ := i_of (Int32.ofInt (day σ + n))
  rw [show vI (day σ + n) = vI z from congrArg Value.int ez]
  have hz2 := hz
  unfold InR at hz2
  have hzz : 1 ≤ n ∧ n ≤ 100 → z = day σ + n := fun q => by
    have h1 := congrArg Int32.toInt ez
    rw [i_toInt (by unfold InR; omega), i_toInt hz] at h1
    exact h1.symm
  have eth := thr_q (p := 1 ≤ n ∧ n ≤ 100) (q := z ≤ 500) (q' := day σ + n ≤ 500) (fun q => by rw [hzz q])
  refine wg_sipush (pc := 14) C dX2_pass_14 (by decide) ?_
  have L25 : WG X 25 [some (.ref (w.1 (20, 0))), some (vI n)] [vI (if z ≤ 500 then 1 else 0), vI (if 1 ≤ n ∧ n ≤ 100 then 1 else 0), .ref (w.1 (20, 0))] w 0 0 := by
    refine wg_iconst (pc := 25) C dX2_pass_25 ?_
    refine wg_callV (pc := 26) C (k' := 0) (n' := 0) kX2_passes q1152 (tX2_passes hM hO (p := 1 ≤ n ∧ n ≤ 100) (q := z ≤ 500) (r := True)) (rc_of C hM.obj rfl) dX2_pass_26 rfl rfl (Nat.le_of_ble_eq_true rfl) rfl (by decide) (by omega) (by omega) (fun v26 w26 h26 => ?_)
    obtain ⟨e26, s26, h26⟩ := h26
    subst e26
    obtain ⟨A26, V26⟩ := w26
    have a26 : A26 = w.1 := s26.1
    subst a26
    have hM := h26
    have hbc := hM.bc
    have hfc0 := hM.fc
    refine wg_ifneB (tgt := 34) (pc := 29) C dX2_pass_29 (by decide) (fun h29 => ?_) (fun h29 => ?_)
    · have hyes : (1 ≤ n ∧ n ≤ 100) ∧ (day σ + n ≤ 500) ∧ True := ⟨h29.1, by rw [← hzz h29.1]; exact h29.2.1, trivial⟩
      refine wg_aload_0 (pc := 34) C dX2_pass_34 ?_
      refine wg_dup (pc := 35) C dX2_pass_35 rfl ?_
      refine gX2_68 (pc := 36) C hM.obj rfl dX2_pass_36 ?_
      refine wg_iload_1 (pc := 39) C dX2_pass_39 ?_
      refine wg_iadd (pc := 40) C dX2_pass_40 ?_
      refine pX2_68 (pc := 41) C hM.obj rfl dX2_pass_41 ?_
      replace hM := hM.wDay (day σ + n)
      refine wg_aload_0 (pc := 44) C dX2_pass_44 ?_
      refine gX2_68 (pc := 45) C hM.obj rfl dX2_pass_45 ?_
      refine wg_iret (pc := 48) C hQ dX2_pass_48 ?_
      exact ⟨by rw [if_pos hyes]; exact vI_c (uS_at _ _ _ _ _), by rw [if_pos hyes]; exact ⟨s26.uv rfl, _, hM, (uS_at _ _ _ _ _).trans eth⟩⟩
    · have hno : ¬ ((1 ≤ n ∧ n ≤ 100) ∧ (day σ + n ≤ 500) ∧ True) := fun q => h29 ⟨q.1, by rw [hzz q.1]; exact q.2.1, trivial⟩
      refine wg_iconst (pc := 32) C dX2_pass_32 ?_
      refine wg_iret (pc := 33) C hQ dX2_pass_33 ?_
      exact ⟨by rw [if_neg hno], by rw [if_neg hno]; exact ⟨s26, _, hM, (uS_at _ _ _ _ _).trans eth⟩⟩
  refine wg_icmp_gt (tgt := 24) (pc := 17) C dX2_pass_17 (by decide) (by unfold InR; omega) (by unfold InR; omega) (fun h17 => ?_) (fun h17 => ?_)
  · refine wg_iconst (pc := 24) C dX2_pass_24 ?_
    refine WG.at L25 rfl rfl ?_ rfl
    refine congrArg (fun t : Int => vI t :: _) ?_
    split <;> first | rfl | omega
  · refine wg_iconst (pc := 20) C dX2_pass_20 ?_
    refine wg_goto (tgt := 25) (pc := 21) C dX2_pass_21 (by decide) ?_
    refine WG.at L25 rfl rfl ?_ rfl
    refine congrArg (fun t : Int => vI t :: _) ?_
    split <;> first | rfl | omega

theorem tX2_setLimit {G : Gm} {w : Wo} {σ ζ : St} (hM : HasM G w σ ζ) (hO : Ok σ) {n : Int} (hn : InR n) : Ct G mX2_setLimit 2 0 0 w [.ref (w.1 (20, 0)), vI n] (fun v w1 => v = some (vI (if (1 ≤ n ∧ n ≤ 9999) ∧ (True) ∧ (True) then lim σ else 0)) ∧ MP G w w1 (if (1 ≤ n ∧ n ≤ 9999) ∧ (True) ∧ (True) then stLim σ n else σ) (thr (1 ≤ n ∧ n ≤ 9999) (True) (True))) := by
  refine ct_of [some (.ref (w.1 (20, 0))), some (vI n), none] plX2 rfl (Nat.le_of_ble_eq_true rfl) rfl ?_
  intro X hG C hnm hQ
  subst hG
  change CxOk X cX2_setLimit 3 RX2 (some .int) 2 at C
  have hB := hO.hB
  have hF := hO.hF
  have hbc := hM.bc
  have hfc0 := hM.fc
  have hlm := hO.lm
  have hn2 := hn
  unfold InR at hn2
  refine wg_aload_0 (pc := 0) C dX2_setLimit_0 ?_
  refine wg_iload_1 (pc := 1) C dX2_setLimit_1 ?_
  refine wg_iconst (pc := 2) C dX2_setLimit_2 ?_
  refine wg_sipush (pc := 3) C dX2_setLimit_3 (by decide) ?_
  refine wg_callSP (pc := 6) C kX2_in q1149 (tX2_in (by unfold InR; omega) (by unfold InR; omega) (by unfold InR; omega)) dX2_setLimit_6 rfl rfl (Nat.le_of_ble_eq_true rfl) rfl (by decide) (fun f6 => ?_)
  refine wg_iconst (pc := 9) C dX2_setLimit_9 ?_
  refine wg_iconst (pc := 10) C dX2_setLimit_10 ?_
  refine wg_callV (pc := 11) C (k' := 0) (n' := 0) kX2_passes q1152 (tX2_passes hM hO (p := 1 ≤ n ∧ n ≤ 9999) (q := True) (r := True)) (rc_of C hM.obj rfl) dX2_setLimit_11 rfl rfl (Nat.le_of_ble_eq_true rfl) rfl (by decide) (by omega) (by omega) (fun v11 w11 h11 => ?_)
  obtain ⟨e11, s11, h11⟩ := h11
  subst e11
  obtain ⟨A11, V11⟩ := w11
  have a11 : A11 = w.1 := s11.1
  subst a11
  have hM := h11
  have hbc := hM.bc
  have hfc0 := hM.fc
  refine wg_ifneB (tgt := 19) (pc := 14) C dX2_setLimit_14 (by decide) (fun h14 => ?_) (fun h14 => ?_)
  · have hbb := h14.1
    refine wg_aload_0 (pc := 19) C dX2_setLimit_19 ?_
    refine gX2_32 (pc := 20) C hM.obj rfl dX2_setLimit_20 ?_
    refine wg_istore_2 (pc := 23) C dX2_setLimit_23 rfl ?_
    refine wg_aload_0 (pc := 24) C dX2_setLimit_24 ?_
    refine wg_iload_1 (pc := 25) C dX2_setLimit_25 ?_
    refine pX2_32 (pc := 26) C hM.obj rfl dX2_setLimit_26 ?_
    have hM2 := hM.wLim n
    have hO2 := hO.wLim hbb.1 hbb.2
    refine wg_iload_2 (pc := 29) C dX2_setLimit_29 ?_
    refine wg_iload_1 (pc := 30) C dX2_setLimit_30 ?_
    refine wg_icmp_eq (tgt := 38) (pc := 31) C dX2_setLimit_31 (by decide) (by unfold InR; omega) (by unfold InR; omega) (fun h31 => ?_) (fun h31 => ?_)
    · refine wg_iload_2 (pc := 38) C dX2_setLimit_38 ?_
      refine wg_iret (pc := 39) C hQ dX2_setLimit_39 ?_
      first
        | exact ⟨by rw [if_pos h14], by rw [if_pos h14]; exact ⟨s11.uv rfl, _, (by unfold stLim; rw [if_pos h31]; exact hM2), uS_at _ _ _ _ _⟩⟩
        | exact ⟨by rw [if_pos h14], by rw [if_pos h14]; exact ⟨(s11.uv rfl).tr s35, _, (by unfold stLim; rw [if_neg h31]; exact hM35), hz35.th.trans (uS_at _ _ _ _ _)⟩⟩
    · refine wg_aload_0 (pc := 34) C dX2_setLimit_34 ?_
      refine wg_callV (pc := 35) C (k' := 0) (n' := 0) kX2_withdrawAll q1105 (tX2_withdrawAll hM2 hO2) (rc_of C hM2.obj rfl) dX2_setLimit_35 rfl rfl (Nat.le_of_ble_eq_true rfl) rfl (by decide) (by omega) (by omega) (fun v35 w35 h35 => ?_)
      obtain ⟨e35, s35, h35⟩ := h35
      subst e35
      obtain ⟨A35, V35⟩ := w35
      have a35 : A35 = w.1 := s35.1
      subst a35
      obtain ⟨ζ35, hM35, hz35⟩ := h35
      refine wg_iload_2 (pc := 38) C dX2_setLimit_38 ?_
      refine wg_iret (pc := 39) C hQ dX2_setLimit_39 ?_
      first
        | exact ⟨by rw [if_pos h14], by rw [if_pos h14]; exact ⟨s11.uv rfl, _, (by unfold stLim; rw [if_pos h31]; exact hM2), uS_at _ _ _ _ _⟩⟩
        | exact ⟨by rw [if_pos h14], by rw [if_pos h14]; exact ⟨(s11.uv rfl).tr s35, _, (by unfold stLim; rw [if_neg h31]; exact hM35), hz35.th.trans (uS_at _ _ _ _ _)⟩⟩
  · refine wg_iconst (pc := 17) C dX2_setLimit_17 ?_
    refine wg_iret (pc := 18) C hQ dX2_setLimit_18 ?_
    exact ⟨by rw [if_neg h14], by rw [if_neg h14]; exact ⟨s11, _, hM, uS_at _ _ _ _ _⟩⟩

theorem tX2_cut {G : Gm} {w : Wo} {σ ζ : St} (hM : HasM G w σ ζ) (hO : Ok σ) {p l o : Int} (hp : InR p) (hl : InR l) (ho : o = 0 ∨ o = 1) : Ct G mX2_cut 3 0 0 w [.ref (w.1 (20, 0)), vI p, vI l, vI o] (fun v w1 => v = some (vI (if ((0 ≤ p ∧ p < pos σ) ∧ (0 ≤ l ∧ l < 8)) ∧ (True) ∧ (True) then σ 8 l p else 0)) ∧ MP G w w1 (if ((0 ≤ p ∧ p < pos σ) ∧ (0 ≤ l ∧ l < 8)) ∧ (True) ∧ (True) then stCut σ p l o else σ) (thr ((0 ≤ p ∧ p < pos σ) ∧ (0 ≤ l ∧ l < 8)) (True) (True))) := by
  refine ct_of [some (.ref (w.1 (20, 0))), some (vI p), some (vI l), some (vI o), none] plX2 rfl (Nat.le_of_ble_eq_true rfl) rfl ?_
  intro X hG C hnm hQ
  subst hG
  change CxOk X cX2_cut 5 RX2 (some .boolean) 3 at C
  have hB := hO.hB
  have hF := hO.hF
  have hbc := hM.bc
  have hfc0 := hM.fc
  have hps := pos_rng hO
  have L21 : WG X 21 [some (.ref (w.1 (20, 0))), some (vI p), some (vI l), some (vI o), none] [vI (if (0 ≤ p ∧ p < pos σ) ∧ (0 ≤ l ∧ l < 8) then 1 else 0), .ref (w.1 (20, 0))] w 0 0 := by
    refine wg_iconst (pc := 21) C dX2_cut_21 ?_
    refine wg_iconst (pc := 22) C dX2_cut_22 ?_
    refine wg_callV (pc := 23) C (k' := 0) (n' := 0) kX2_passes q1152 (tX2_passes hM hO (p := (0 ≤ p ∧ p < pos σ) ∧ (0 ≤ l ∧ l < 8)) (q := True) (r := True)) (rc_of C hM.obj rfl) dX2_cut_23 rfl rfl (Nat.le_of_ble_eq_true rfl) rfl (by decide) (by omega) (by omega) (fun v23 w23 h23 => ?_)
    obtain ⟨e23, s23, h23⟩ := h23
    subst e23
    obtain ⟨A23, V23⟩ := w23
    have a23 : A23 = w.1 := s23.1
    subst a23
    have hM := h23
    have hbc := hM.bc
    have hfc0 := hM.fc
    refine wg_ifneB (tgt := 31) (pc := 26) C dX2_cut_26 (by decide) (fun h26 => ?_) (fun h26 => ?_)
    · have hbb := h26.1
      have hop := hO.op l p
      refine wg_aload_0 (pc := 31) C dX2_cut_31 ?_
      refine gX2_29 (pc := 32) C hM.obj rfl dX2_cut_32 ?_
      refine wg_iload_1 (pc := 35) C dX2_cut_35 ?_
      refine wg_aald (pc := 36) C rfl rfl hM.oo rfl (by omega) (by omega) (by decide) (rws_at (by omega) (by omega)) dX2_cut_36 ?_
      refine wg_iload_2 (pc := 37) C dX2_cut_37 ?_
      refine wg_zald (pc := 38) C (hM.op (by omega) (by omega)) rfl (by omega) (by omega) (by decide) dX2_cut_38 ?_
      refine wg_istore_4 (pc := 39) C dX2_cut_39 rfl ?_
      refine wg_iload_4 (pc := 41) C dX2_cut_41 ?_
      refine wg_iload_3 (pc := 43) C dX2_cut_43 ?_
      refine wg_icmp_eq (tgt := 60) (pc := 44) C dX2_cut_44 (by decide) (by unfold InR; omega) (by unfold InR; omega) (fun h44 => ?_) (fun h44 => ?_)
      · refine wg_iload_4 (pc := 60) C dX2_cut_60 ?_
        refine wg_zret (pc := 62) C hQ dX2_cut_62 (by omega) ?_
        first
          | exact ⟨by rw [if_pos h26], by rw [if_pos h26]; exact ⟨s23, _, (by unfold stCut; rw [if_pos h44]; exact hM), uS_at _ _ _ _ _⟩⟩
          | exact ⟨by rw [if_pos h26], by rw [if_pos h26]; exact ⟨(s23.uv rfl).tr s57, _, (by unfold stCut; rw [if_neg h44]; exact hM57), hz57.th.trans (uS_at _ _ _ _ _)⟩⟩
      · refine wg_aload_0 (pc := 47) C dX2_cut_47 ?_
        refine gX2_29 (pc := 48) C hM.obj rfl dX2_cut_48 ?_
        refine wg_iload_1 (pc := 51) C dX2_cut_51 ?_
        refine wg_aald (pc := 52) C rfl rfl hM.oo rfl (by omega) (by omega) (by decide) (rws_at (by omega) (by omega)) dX2_cut_52 ?_
        refine wg_iload_2 (pc := 53) C dX2_cut_53 ?_
        refine wg_iload_3 (pc := 54) C dX2_cut_54 ?_
        refine wg_zast (pc := 55) C (hM.op (by omega) (by omega)) rfl (by omega) (by omega) (by decide) ho dX2_cut_55 ?_
        have hM2 := hM.wOp p l o
        have hO2 := hO.wOp l hbb.1.1 hbb.1.2 ho
        refine wg_aload_0 (pc := 56) C dX2_cut_56 ?_
        refine wg_callV (pc := 57) C (k' := 0) (n' := 0) kX2_withdrawAll q1105 (tX2_withdrawAll hM2 hO2) (rc_of C hM2.obj rfl) dX2_cut_57 rfl rfl (Nat.le_of_ble_eq_true rfl) rfl (by decide) (by omega) (by omega) (fun v57 w57 h57 => ?_)
        obtain ⟨e57, s57, h57⟩ := h57
        subst e57
        obtain ⟨A57, V57⟩ := w57
        have a57 : A57 = w.1 := s57.1
        subst a57
        obtain ⟨ζ57, hM57, hz57⟩ := h57
        refine wg_iload_4 (pc := 60) C dX2_cut_60 ?_
        refine wg_zret (pc := 62) C hQ dX2_cut_62 (by omega) ?_
        first
          | exact ⟨by rw [if_pos h26], by rw [if_pos h26]; exact ⟨s23, _, (by unfold stCut; rw [if_pos h44]; exact hM), uS_at _ _ _ _ _⟩⟩
          | exact ⟨by rw [if_pos h26], by rw [if_pos h26]; exact ⟨(s23.uv rfl).tr s57, _, (by unfold stCut; rw [if_neg h44]; exact hM57), hz57.th.trans (uS_at _ _ _ _ _)⟩⟩
    · refine wg_iconst (pc := 29) C dX2_cut_29 ?_
      refine wg_zret (pc := 30) C hQ dX2_cut_30 (by omega) ?_
      exact ⟨by rw [if_neg h26], by rw [if_neg h26]; exact ⟨s23, _, hM, uS_at _ _ _ _ _⟩⟩
  refine wg_aload_0 (pc := 0) C dX2_cut_0 ?_
  refine wg_aload_0 (pc := 1) C dX2_cut_1 ?_
  refine wg_iload_1 (pc := 2) C dX2_cut_2 ?_
  refine wg_callVP (pc := 3) C kX2_isPosition q1229 (tX2_isPosition hM hO hp) (rc_of C hM.obj rfl) dX2_cut_3 rfl rfl (Nat.le_of_ble_eq_true rfl) rfl (by decide) (fun f3 => ?_)
  refine wg_ifeqB (tgt := 20) (pc := 6) C dX2_cut_6 (by decide) (fun h6 => ?_) (fun h6 => ?_)
  · refine wg_iconst (pc := 20) C dX2_cut_20 ?_
    refine WG.mask [true, true, true, true, false] rfl ?_
    refine WG.at L21 rfl rfl ?_ rfl
    show [vI _, _] = [vI (if (0 ≤ p ∧ p < pos σ) ∧ (0 ≤ l ∧ l < 8) then 1 else 0), _]
    split <;> rename_i hc <;> first | rfl | (exfalso; first | exact hc ⟨h6, h13⟩ | exact h6 hc.1 | exact h13 hc.2)
  · refine wg_iload_2 (pc := 9) C dX2_cut_9 ?_
    refine wg_callSP (pc := 10) C kX2_isLevel q1264 (tX2_isLevel hl) dX2_cut_10 rfl rfl (Nat.le_of_ble_eq_true rfl) rfl (by decide) (fun f10 => ?_)
    refine wg_ifeqB (tgt := 20) (pc := 13) C dX2_cut_13 (by decide) (fun h13 => ?_) (fun h13 => ?_)
    · refine wg_iconst (pc := 20) C dX2_cut_20 ?_
      refine WG.mask [true, true, true, true, false] rfl ?_
      refine WG.at L21 rfl rfl ?_ rfl
      show [vI _, _] = [vI (if (0 ≤ p ∧ p < pos σ) ∧ (0 ≤ l ∧ l < 8) then 1 else 0), _]
      split <;> rename_i hc <;> first | rfl | (exfalso; first | exact hc ⟨h6, h13⟩ | exact h6 hc.1 | exact h13 hc.2)
    · refine wg_iconst (pc := 16) C dX2_cut_16 ?_
      refine wg_goto (tgt := 21) (pc := 17) C dX2_cut_17 (by decide) ?_
      refine WG.mask [true, true, true, true, false] rfl ?_
      refine WG.at L21 rfl rfl ?_ rfl
      show [vI _, _] = [vI (if (0 ≤ p ∧ p < pos σ) ∧ (0 ≤ l ∧ l < 8) then 1 else 0), _]
      split <;> rename_i hc <;> first | rfl | (exfalso; first | exact hc ⟨h6, h13⟩ | exact h6 hc.1 | exact h13 hc.2)

theorem tX2_setLifts {G : Gm} {w : Wo} {σ ζ : St} (hM : HasM G w σ ζ) (hO : Ok σ) {b n : Int} (hb : InR b) (hn : InR n) : Ct G mX2_setLifts 4 0 0 w [.ref (w.1 (20, 0)), vI b, vI n] (fun v w1 => v = some (vI (if (0 ≤ b ∧ b < nB σ) ∧ (0 ≤ n ∧ n ≤ 8) ∧ (True) then lft σ b else 0)) ∧ MP G w w1 (if (0 ≤ b ∧ b < nB σ) ∧ (0 ≤ n ∧ n ≤ 8) ∧ (True) then stSet σ b n else σ) (thr (0 ≤ b ∧ b < nB σ) (0 ≤ n ∧ n ≤ 8) (True))) := by
  refine ct_of [some (.ref (w.1 (20, 0))), some (vI b), some (vI n), none] plX2 rfl (Nat.le_of_ble_eq_true rfl) rfl ?_
  intro X hG C hnm hQ
  subst hG
  change CxOk X cX2_setLifts 4 RX2 (some .int) 4 at C
  have hB := hO.hB
  have hF := hO.hF
  have hbc := hM.bc
  have hfc0 := hM.fc
  have hn2 := hn
  unfold InR at hn2
  refine wg_aload_0 (pc := 0) C dX2_setLifts_0 ?_
  refine wg_aload_0 (pc := 1) C dX2_setLifts_1 ?_
  refine wg_iload_1 (pc := 2) C dX2_setLifts_2 ?_
  refine wg_callVP (pc := 3) C kX2_isBay q1219 (tX2_isBay hM hO hb) (rc_of C hM.obj rfl) dX2_setLifts_3 rfl rfl (Nat.le_of_ble_eq_true rfl) rfl (by decide) (fun f3 => ?_)
  refine wg_iload_2 (pc := 6) C dX2_setLifts_6 ?_
  refine wg_iconst (pc := 7) C dX2_setLifts_7 ?_
  refine wg_bipush (pc := 8) C dX2_setLifts_8 (by decide) ?_
  refine wg_callSP (pc := 10) C kX2_in q1149 (tX2_in (by unfold InR; omega) (by unfold InR; omega) (by unfold InR; omega)) dX2_setLifts_10 rfl rfl (Nat.le_of_ble_eq_true rfl) rfl (by decide) (fun f10 => ?_)
  refine wg_iconst (pc := 13) C dX2_setLifts_13 ?_
  refine wg_callV (pc := 14) C (k' := 0) (n' := 0) kX2_passes q1152 (tX2_passes hM hO (p := 0 ≤ b ∧ b < nB σ) (q := 0 ≤ n ∧ n ≤ 8) (r := True)) (rc_of C hM.obj rfl) dX2_setLifts_14 rfl rfl (Nat.le_of_ble_eq_true rfl) rfl (by decide) (by omega) (by omega) (fun v14 w14 h14 => ?_)
  obtain ⟨e14, s14, h14⟩ := h14
  subst e14
  obtain ⟨A14, V14⟩ := w14
  have a14 : A14 = w.1 := s14.1
  subst a14
  have hM := h14
  have hbc := hM.bc
  have hfc0 := hM.fc
  refine wg_ifneB (tgt := 22) (pc := 17) C dX2_setLifts_17 (by decide) (fun h17 => ?_) (fun h17 => ?_)
  · have hbb := h17.1
    have hlf := hO.lf b
    refine wg_aload_0 (pc := 22) C dX2_setLifts_22 ?_
    refine gX2_16 (pc := 23) C hM.obj rfl dX2_setLifts_23 ?_
    refine wg_iload_1 (pc := 26) C dX2_setLifts_26 ?_
    refine wg_callFP (pc := 27) C kF_get q1224 (tJ2_get (hM.blA (by omega)) (hM.baA (by omega)) (by omega) (by omega) (by omega) (by omega) (rws_at (by omega) (by omega))) (rc_of C hM.bl rfl) dX2_setLifts_27 rfl rfl (Nat.le_of_ble_eq_true rfl) rfl (by decide) (fun f27 => ?_)
    refine wg_cast (pc := 32) (ci := 5) C rfl q1184 (rc_of C (hM.bay (by omega) (by omega)) rfl) dX2_setLifts_32 ?_
    refine gX2_105 (pc := 35) C (hM.bay (by omega) (by omega)) rfl dX2_setLifts_35 ?_
    refine wg_istore_3 (pc := 38) C dX2_setLifts_38 rfl ?_
    refine wg_iload_2 (pc := 39) C dX2_setLifts_39 ?_
    refine wg_iload_3 (pc := 40) C dX2_setLifts_40 ?_
    refine wg_icmp_eq (tgt := 65) (pc := 41) C dX2_setLifts_41 (by decide) (by unfold InR; omega) (by unfold InR; omega) (fun h41 => ?_) (fun h41 => ?_)
    · refine wg_iload_3 (pc := 65) C dX2_setLifts_65 ?_
      refine wg_iret (pc := 66) C hQ dX2_setLifts_66 ?_
      first
        | exact ⟨by rw [if_pos h17], by rw [if_pos h17]; exact ⟨s14, _, (by unfold stSet; rw [if_pos (by omega)]; exact hM), uS_at _ _ _ _ _⟩⟩
        | exact ⟨by rw [if_pos h17], by rw [if_pos h17]; exact ⟨(s14.tr s58).tr s62, _, (by unfold stSet; rw [if_neg (by omega)]; exact hM62), hz62.th.trans (uS_at _ _ _ _ _)⟩⟩
    · refine wg_aload_0 (pc := 44) C dX2_setLifts_44 ?_
      refine gX2_16 (pc := 45) C hM.obj rfl dX2_setLifts_45 ?_
      refine wg_iload_1 (pc := 48) C dX2_setLifts_48 ?_
      refine wg_callFP (pc := 49) C kF_get q1224 (tJ2_get (hM.blA (by omega)) (hM.baA (by omega)) (by omega) (by omega) (by omega) (by omega) (rws_at (by omega) (by omega))) (rc_of C hM.bl rfl) dX2_setLifts_49 rfl rfl (Nat.le_of_ble_eq_true rfl) rfl (by decide) (fun f49 => ?_)
      refine wg_cast (pc := 54) (ci := 5) C rfl q1184 (rc_of C (hM.bay (by omega) (by omega)) rfl) dX2_setLifts_54 ?_
      refine wg_iload_2 (pc := 57) C dX2_setLifts_57 ?_
      refine wg_callV (pc := 58) C (k' := 0) (n' := 0) kX5_setLifts q1256 (tX5_setLifts hM hO (by omega) (by omega) (by omega) (by omega)) (rc_of C (hM.bay (by omega) (by omega)) rfl) dX2_setLifts_58 rfl rfl (Nat.le_of_ble_eq_true rfl) rfl (by decide) (by omega) (by omega) (fun v58 w58 h58 => ?_)
      obtain ⟨e58, s58, h58⟩ := h58
      subst e58
      obtain ⟨A58, V58⟩ := w58
      have a58 : A58 = w.1 := s58.1
      subst a58
      refine wg_aload_0 (pc := 61) C dX2_setLifts_61 ?_
      refine wg_callV (pc := 62) C (k' := 0) (n' := 0) kX2_withdrawAll q1105 (tX2_withdrawAll h58 (hO.stLft b h17.2.1.1 h17.2.1.2)) (rc_of C h58.obj rfl) dX2_setLifts_62 rfl rfl (Nat.le_of_ble_eq_true rfl) rfl (by decide) (by omega) (by omega) (fun v62 w62 h62 => ?_)
      obtain ⟨e62, s62, h62⟩ := h62
      subst e62
      obtain ⟨A62, V62⟩ := w62
      have a62 : A62 = w.1 := s62.1
      subst a62
      obtain ⟨ζ62, hM62, hz62⟩ := h62
      refine wg_iload_3 (pc := 65) C dX2_setLifts_65 ?_
      refine wg_iret (pc := 66) C hQ dX2_setLifts_66 ?_
      first
        | exact ⟨by rw [if_pos h17], by rw [if_pos h17]; exact ⟨s14, _, (by unfold stSet; rw [if_pos (by omega)]; exact hM), uS_at _ _ _ _ _⟩⟩
        | exact ⟨by rw [if_pos h17], by rw [if_pos h17]; exact ⟨(s14.tr s58).tr s62, _, (by unfold stSet; rw [if_neg (by omega)]; exact hM62), hz62.th.trans (uS_at _ _ _ _ _)⟩⟩
  · refine wg_iconst (pc := 20) C dX2_setLifts_20 ?_
    refine wg_iret (pc := 21) C hQ dX2_setLifts_21 ?_
    exact ⟨by rw [if_neg h17], by rw [if_neg h17]; exact ⟨s14, _, hM, uS_at _ _ _ _ _⟩⟩

theorem tX2_board {G : Gm} {w : Wo} {σ ζ : St} (hM : HasM G w σ ζ) (hO : Ok σ) {b l o : Int} (hb : InR b) (hl : InR l) (ho : o = 0 ∨ o = 1) : Ct G mX2_board 7 0 0 w [.ref (w.1 (20, 0)), vI b, vI l, vI o] (fun v w1 => v = some (vI (if ((0 ≤ b ∧ b < nB σ) ∧ (0 ≤ l ∧ l < 8)) ∧ ((0 ≤ b ∧ b < nB σ) ∧ (0 ≤ l ∧ l < lft σ b)) ∧ (True) then σ 5 b l else 0)) ∧ MP G w w1 (if ((0 ≤ b ∧ b < nB σ) ∧ (0 ≤ l ∧ l < 8)) ∧ ((0 ≤ b ∧ b < nB σ) ∧ (0 ≤ l ∧ l < lft σ b)) ∧ (True) then stBd σ b l o else σ) (thr ((0 ≤ b ∧ b < nB σ) ∧ (0 ≤ l ∧ l < 8)) ((0 ≤ b ∧ b < nB σ) ∧ (0 ≤ l ∧ l < lft σ b)) (True))) := by
  refine ct_of [some (.ref (w.1 (20, 0))), some (vI b), some (vI l), some (vI o), none] plX2 rfl (Nat.le_of_ble_eq_true rfl) rfl ?_
  intro X hG C hnm hQ
  subst hG
  change CxOk X cX2_board 5 RX2 (some .boolean) 7 at C
  have hB := hO.hB
  have hF := hO.hF
  have hbc := hM.bc
  have hfc0 := hM.fc
  have hps := pos_rng hO
  have L21 : WG X 21 [some (.ref (w.1 (20, 0))), some (vI b), some (vI l), some (vI o), none] [vI (if (0 ≤ b ∧ b < nB σ) ∧ (0 ≤ l ∧ l < 8) then 1 else 0), .ref (w.1 (20, 0))] w 0 0 := by
    refine wg_aload_0 (pc := 21) C dX2_board_21 ?_
    refine wg_iload_1 (pc := 22) C dX2_board_22 ?_
    refine wg_iload_2 (pc := 23) C dX2_board_23 ?_
    refine wg_callVP (pc := 24) C kX2_has q1267 (tX2_has hM hO hb hl) (rc_of C hM.obj rfl) dX2_board_24 rfl rfl (Nat.le_of_ble_eq_true rfl) rfl (by decide) (fun f24 => ?_)
    refine wg_iconst (pc := 27) C dX2_board_27 ?_
    refine wg_callV (pc := 28) C (k' := 0) (n' := 0) kX2_passes q1152 (tX2_passes hM hO (p := (0 ≤ b ∧ b < nB σ) ∧ (0 ≤ l ∧ l < 8)) (q := (0 ≤ b ∧ b < nB σ) ∧ (0 ≤ l ∧ l < lft σ b)) (r := True)) (rc_of C hM.obj rfl) dX2_board_28 rfl rfl (Nat.le_of_ble_eq_true rfl) rfl (by decide) (by omega) (by omega) (fun v28 w28 h28 => ?_)
    obtain ⟨e28, s28, h28⟩ := h28
    subst e28
    obtain ⟨A28, V28⟩ := w28
    have a28 : A28 = w.1 := s28.1
    subst a28
    have hM := h28
    have hbc := hM.bc
    have hfc0 := hM.fc
    refine wg_ifneB (tgt := 36) (pc := 31) C dX2_board_31 (by decide) (fun h31 => ?_) (fun h31 => ?_)
    · have hbb := h31.1
      have hbd := hO.bd b l
      refine wg_aload_0 (pc := 36) C dX2_board_36 ?_
      refine gX2_16 (pc := 37) C hM.obj rfl dX2_board_37 ?_
      refine wg_iload_1 (pc := 40) C dX2_board_40 ?_
      refine wg_callFP (pc := 41) C kF_get q1224 (tJ2_get (hM.blA (by omega)) (hM.baA (by omega)) (by omega) (by omega) (by omega) (by omega) (rws_at (by omega) (by omega))) (rc_of C hM.bl rfl) dX2_board_41 rfl rfl (Nat.le_of_ble_eq_true rfl) rfl (by decide) (fun f41 => ?_)
      refine wg_cast (pc := 46) (ci := 5) C rfl q1184 (rc_of C (hM.bay (by omega) (by omega)) rfl) dX2_board_46 ?_
      refine gX2_139 (pc := 49) C (hM.bay (by omega) (by omega)) rfl dX2_board_49 ?_
      refine wg_iload_2 (pc := 52) C dX2_board_52 ?_
      refine wg_zald (pc := 53) C (hM.bd (by omega) (by omega)) rfl (by omega) (by omega) (by decide) dX2_board_53 ?_
      refine wg_istore_4 (pc := 54) C dX2_board_54 rfl ?_
      refine wg_iload_4 (pc := 56) C dX2_board_56 ?_
      refine wg_iload_3 (pc := 58) C dX2_board_58 ?_
      refine wg_icmp_eq (tgt := 86) (pc := 59) C dX2_board_59 (by decide) (by unfold InR; omega) (by unfold InR; omega) (fun h59 => ?_) (fun h59 => ?_)
      · refine wg_iload_4 (pc := 86) C dX2_board_86 ?_
        refine wg_zret (pc := 88) C hQ dX2_board_88 (by omega) ?_
        first
          | exact ⟨by rw [if_pos h31], by rw [if_pos h31]; exact ⟨s28, _, (by unfold stBd; rw [if_pos h59]; exact hM), uS_at _ _ _ _ _⟩⟩
          | exact ⟨by rw [if_pos h31], by rw [if_pos h31]; exact ⟨(s28.uv rfl).tr s83, _, (by unfold stBd; rw [if_neg h59]; exact h83), uS_at _ _ _ _ _⟩⟩
      · refine wg_aload_0 (pc := 62) C dX2_board_62 ?_
        refine gX2_16 (pc := 63) C hM.obj rfl dX2_board_63 ?_
        refine wg_iload_1 (pc := 66) C dX2_board_66 ?_
        refine wg_callFP (pc := 67) C kF_get q1224 (tJ2_get (hM.blA (by omega)) (hM.baA (by omega)) (by omega) (by omega) (by omega) (by omega) (rws_at (by omega) (by omega))) (rc_of C hM.bl rfl) dX2_board_67 rfl rfl (Nat.le_of_ble_eq_true rfl) rfl (by decide) (fun f67 => ?_)
        refine wg_cast (pc := 72) (ci := 5) C rfl q1184 (rc_of C (hM.bay (by omega) (by omega)) rfl) dX2_board_72 ?_
        refine gX2_139 (pc := 75) C (hM.bay (by omega) (by omega)) rfl dX2_board_75 ?_
        refine wg_iload_2 (pc := 78) C dX2_board_78 ?_
        refine wg_iload_3 (pc := 79) C dX2_board_79 ?_
        refine wg_zast (pc := 80) C (hM.bd (by omega) (by omega)) rfl (by omega) (by omega) (by decide) ho dX2_board_80 ?_
        have hM2 := hM.wBd b l o
        have hO2 := hO.wBd b l ho
        refine wg_aload_0 (pc := 81) C dX2_board_81 ?_
        refine wg_iload_1 (pc := 82) C dX2_board_82 ?_
        refine wg_callV (pc := 83) C (k' := 0) (n' := 0) kX2_withdrawAround q1276 (tX2_withdrawAround hM2 hO2 hbb.1.1 hbb.1.2) (rc_of C hM2.obj rfl) dX2_board_83 rfl rfl (Nat.le_of_ble_eq_true rfl) rfl (by decide) (by omega) (by omega) (fun v83 w83 h83 => ?_)
        obtain ⟨e83, s83, h83⟩ := h83
        subst e83
        obtain ⟨A83, V83⟩ := w83
        have a83 : A83 = w.1 := s83.1
        subst a83
        refine wg_iload_4 (pc := 86) C dX2_board_86 ?_
        refine wg_zret (pc := 88) C hQ dX2_board_88 (by omega) ?_
        first
          | exact ⟨by rw [if_pos h31], by rw [if_pos h31]; exact ⟨s28, _, (by unfold stBd; rw [if_pos h59]; exact hM), uS_at _ _ _ _ _⟩⟩
          | exact ⟨by rw [if_pos h31], by rw [if_pos h31]; exact ⟨(s28.uv rfl).tr s83, _, (by unfold stBd; rw [if_neg h59]; exact h83), uS_at _ _ _ _ _⟩⟩
    · refine wg_iconst (pc := 34) C dX2_board_34 ?_
      refine wg_zret (pc := 35) C hQ dX2_board_35 (by omega) ?_
      exact ⟨by rw [if_neg h31], by rw [if_neg h31]; exact ⟨s28, _, hM, uS_at _ _ _ _ _⟩⟩
  refine wg_aload_0 (pc := 0) C dX2_board_0 ?_
  refine wg_aload_0 (pc := 1) C dX2_board_1 ?_
  refine wg_iload_1 (pc := 2) C dX2_board_2 ?_
  refine wg_callVP (pc := 3) C kX2_isBay q1219 (tX2_isBay hM hO hb) (rc_of C hM.obj rfl) dX2_board_3 rfl rfl (Nat.le_of_ble_eq_true rfl) rfl (by decide) (fun f3 => ?_)
  refine wg_ifeqB (tgt := 20) (pc := 6) C dX2_board_6 (by decide) (fun h6 => ?_) (fun h6 => ?_)
  · refine wg_iconst (pc := 20) C dX2_board_20 ?_
    refine WG.mask [true, true, true, true, false] rfl ?_
    refine WG.at L21 rfl rfl ?_ rfl
    show [vI _, _] = [vI (if (0 ≤ b ∧ b < nB σ) ∧ (0 ≤ l ∧ l < 8) then 1 else 0), _]
    split <;> rename_i hc <;> first | rfl | (exfalso; first | exact hc ⟨h6, h13⟩ | exact h6 hc.1 | exact h13 hc.2)
  · refine wg_iload_2 (pc := 9) C dX2_board_9 ?_
    refine wg_callSP (pc := 10) C kX2_isLevel q1264 (tX2_isLevel hl) dX2_board_10 rfl rfl (Nat.le_of_ble_eq_true rfl) rfl (by decide) (fun f10 => ?_)
    refine wg_ifeqB (tgt := 20) (pc := 13) C dX2_board_13 (by decide) (fun h13 => ?_) (fun h13 => ?_)
    · refine wg_iconst (pc := 20) C dX2_board_20 ?_
      refine WG.mask [true, true, true, true, false] rfl ?_
      refine WG.at L21 rfl rfl ?_ rfl
      show [vI _, _] = [vI (if (0 ≤ b ∧ b < nB σ) ∧ (0 ≤ l ∧ l < 8) then 1 else 0), _]
      split <;> rename_i hc <;> first | rfl | (exfalso; first | exact hc ⟨h6, h13⟩ | exact h6 hc.1 | exact h13 hc.2)
    · refine wg_iconst (pc := 16) C dX2_board_16 ?_
      refine wg_goto (tgt := 21) (pc := 17) C dX2_board_17 (by decide) ?_
      refine WG.mask [true, true, true, true, false] rfl ?_
      refine WG.at L21 rfl rfl ?_ rfl
      show [vI _, _] = [vI (if (0 ≤ b ∧ b < nB σ) ∧ (0 ≤ l ∧ l < 8) then 1 else 0), _]
      split <;> rename_i hc <;> first | rfl | (exfalso; first | exact hc ⟨h6, h13⟩ | exact h6 hc.1 | exact h13 hc.2)

theorem tX2_setClass {G : Gm} {w : Wo} {σ ζ : St} (hM : HasM G w σ ζ) (hO : Ok σ) {b l s : Int} (hb : InR b) (hl : InR l) (hs : InR s) : Ct G mX2_setClass 7 0 0 w [.ref (w.1 (20, 0)), vI b, vI l, vI s] (fun v w1 => v = some (vI (if ((0 ≤ b ∧ b < nB σ) ∧ (0 ≤ l ∧ l < 8)) ∧ (0 ≤ s ∧ s ≤ 6) ∧ ((0 ≤ b ∧ b < nB σ) ∧ (0 ≤ l ∧ l < lft σ b)) then σ 6 b l else 0)) ∧ MP G w w1 (if ((0 ≤ b ∧ b < nB σ) ∧ (0 ≤ l ∧ l < 8)) ∧ (0 ≤ s ∧ s ≤ 6) ∧ ((0 ≤ b ∧ b < nB σ) ∧ (0 ≤ l ∧ l < lft σ b)) then stSo σ b l s else σ) (thr ((0 ≤ b ∧ b < nB σ) ∧ (0 ≤ l ∧ l < 8)) (0 ≤ s ∧ s ≤ 6) ((0 ≤ b ∧ b < nB σ) ∧ (0 ≤ l ∧ l < lft σ b)))) := by
  refine ct_of [some (.ref (w.1 (20, 0))), some (vI b), some (vI l), some (vI s), none] plX2 rfl (Nat.le_of_ble_eq_true rfl) rfl ?_
  intro X hG C hnm hQ
  subst hG
  change CxOk X cX2_setClass 5 RX2 (some .int) 7 at C
  have hB := hO.hB
  have hF := hO.hF
  have hbc := hM.bc
  have hfc0 := hM.fc
  have hs2 := hs
  unfold InR at hs2
  have L21 : WG X 21 [some (.ref (w.1 (20, 0))), some (vI b), some (vI l), some (vI s), none] [vI (if (0 ≤ b ∧ b < nB σ) ∧ (0 ≤ l ∧ l < 8) then 1 else 0), .ref (w.1 (20, 0))] w 0 0 := by
    refine wg_iload_3 (pc := 21) C dX2_setClass_21 ?_
    refine wg_iconst (pc := 22) C dX2_setClass_22 ?_
    refine wg_bipush (pc := 23) C dX2_setClass_23 (by decide) ?_
    refine wg_callSP (pc := 25) C kX2_in q1149 (tX2_in (by unfold InR; omega) (by unfold InR; omega) (by unfold InR; omega)) dX2_setClass_25 rfl rfl (Nat.le_of_ble_eq_true rfl) rfl (by decide) (fun f25 => ?_)
    refine wg_aload_0 (pc := 28) C dX2_setClass_28 ?_
    refine wg_iload_1 (pc := 29) C dX2_setClass_29 ?_
    refine wg_iload_2 (pc := 30) C dX2_setClass_30 ?_
    refine wg_callVP (pc := 31) C kX2_has q1267 (tX2_has hM hO hb hl) (rc_of C hM.obj rfl) dX2_setClass_31 rfl rfl (Nat.le_of_ble_eq_true rfl) rfl (by decide) (fun f31 => ?_)
    refine wg_callV (pc := 34) C (k' := 0) (n' := 0) kX2_passes q1152 (tX2_passes hM hO (p := (0 ≤ b ∧ b < nB σ) ∧ (0 ≤ l ∧ l < 8)) (q := 0 ≤ s ∧ s ≤ 6) (r := (0 ≤ b ∧ b < nB σ) ∧ (0 ≤ l ∧ l < lft σ b))) (rc_of C hM.obj rfl) dX2_setClass_34 rfl rfl (Nat.le_of_ble_eq_true rfl) rfl (by decide) (by omega) (by omega) (fun v34 w34 h34 => ?_)
    obtain ⟨e34, s34, h34⟩ := h34
    subst e34
    obtain ⟨A34, V34⟩ := w34
    have a34 : A34 = w.1 := s34.1
    subst a34
    have hM := h34
    have hbc := hM.bc
    have hfc0 := hM.fc
    refine wg_ifneB (tgt := 42) (pc := 37) C dX2_setClass_37 (by decide) (fun h37 => ?_) (fun h37 => ?_)
    · have hbb := h37.1
      have hso := hO.so b l
      refine wg_aload_0 (pc := 42) C dX2_setClass_42 ?_
      refine gX2_16 (pc := 43) C hM.obj rfl dX2_setClass_43 ?_
      refine wg_iload_1 (pc := 46) C dX2_setClass_46 ?_
      refine wg_callFP (pc := 47) C kF_get q1224 (tJ2_get (hM.blA (by omega)) (hM.baA (by omega)) (by omega) (by omega) (by omega) (by omega) (rws_at (by omega) (by omega))) (rc_of C hM.bl rfl) dX2_setClass_47 rfl rfl (Nat.le_of_ble_eq_true rfl) rfl (by decide) (fun f47 => ?_)
      refine wg_cast (pc := 52) (ci := 5) C rfl q1184 (rc_of C (hM.bay (by omega) (by omega)) rfl) dX2_setClass_52 ?_
      refine gX2_145 (pc := 55) C (hM.bay (by omega) (by omega)) rfl dX2_setClass_55 ?_
      refine wg_iload_2 (pc := 58) C dX2_setClass_58 ?_
      refine wg_iald (pc := 59) C (hM.so (by omega) (by omega)) rfl (by omega) (by omega) (by decide) dX2_setClass_59 ?_
      refine wg_istore_4 (pc := 60) C dX2_setClass_60 rfl ?_
      refine wg_iload_4 (pc := 62) C dX2_setClass_62 ?_
      refine wg_iload_3 (pc := 64) C dX2_setClass_64 ?_
      refine wg_icmp_eq (tgt := 92) (pc := 65) C dX2_setClass_65 (by decide) (by unfold InR; omega) (by unfold InR; omega) (fun h65 => ?_) (fun h65 => ?_)
      · refine wg_iload_4 (pc := 92) C dX2_setClass_92 ?_
        refine wg_iret (pc := 94) C hQ dX2_setClass_94 ?_
        first
          | exact ⟨by rw [if_pos h37], by rw [if_pos h37]; exact ⟨s34, _, (by unfold stSo; rw [if_pos h65]; exact hM), uS_at _ _ _ _ _⟩⟩
          | exact ⟨by rw [if_pos h37], by rw [if_pos h37]; exact ⟨(s34.uv rfl).tr s89, _, (by unfold stSo; rw [if_neg h65]; exact h89), uS_at _ _ _ _ _⟩⟩
      · refine wg_aload_0 (pc := 68) C dX2_setClass_68 ?_
        refine gX2_16 (pc := 69) C hM.obj rfl dX2_setClass_69 ?_
        refine wg_iload_1 (pc := 72) C dX2_setClass_72 ?_
        refine wg_callFP (pc := 73) C kF_get q1224 (tJ2_get (hM.blA (by omega)) (hM.baA (by omega)) (by omega) (by omega) (by omega) (by omega) (rws_at (by omega) (by omega))) (rc_of C hM.bl rfl) dX2_setClass_73 rfl rfl (Nat.le_of_ble_eq_true rfl) rfl (by decide) (fun f73 => ?_)
        refine wg_cast (pc := 78) (ci := 5) C rfl q1184 (rc_of C (hM.bay (by omega) (by omega)) rfl) dX2_setClass_78 ?_
        refine gX2_145 (pc := 81) C (hM.bay (by omega) (by omega)) rfl dX2_setClass_81 ?_
        refine wg_iload_2 (pc := 84) C dX2_setClass_84 ?_
        refine wg_iload_3 (pc := 85) C dX2_setClass_85 ?_
        refine wg_iast (pc := 86) C (hM.so (by omega) (by omega)) rfl (by omega) (by omega) (by decide) dX2_setClass_86 ?_
        have hM2 := hM.wSo b l s
        have hO2 := hO.wSo b l h37.2.1.1 h37.2.1.2
        refine wg_aload_0 (pc := 87) C dX2_setClass_87 ?_
        refine wg_iload_1 (pc := 88) C dX2_setClass_88 ?_
        refine wg_callV (pc := 89) C (k' := 0) (n' := 0) kX2_withdrawAround q1276 (tX2_withdrawAround hM2 hO2 hbb.1.1 hbb.1.2) (rc_of C hM2.obj rfl) dX2_setClass_89 rfl rfl (Nat.le_of_ble_eq_true rfl) rfl (by decide) (by omega) (by omega) (fun v89 w89 h89 => ?_)
        obtain ⟨e89, s89, h89⟩ := h89
        subst e89
        obtain ⟨A89, V89⟩ := w89
        have a89 : A89 = w.1 := s89.1
        subst a89
        refine wg_iload_4 (pc := 92) C dX2_setClass_92 ?_
        refine wg_iret (pc := 94) C hQ dX2_setClass_94 ?_
        first
          | exact ⟨by rw [if_pos h37], by rw [if_pos h37]; exact ⟨s34, _, (by unfold stSo; rw [if_pos h65]; exact hM), uS_at _ _ _ _ _⟩⟩
          | exact ⟨by rw [if_pos h37], by rw [if_pos h37]; exact ⟨(s34.uv rfl).tr s89, _, (by unfold stSo; rw [if_neg h65]; exact h89), uS_at _ _ _ _ _⟩⟩
    · refine wg_iconst (pc := 40) C dX2_setClass_40 ?_
      refine wg_iret (pc := 41) C hQ dX2_setClass_41 ?_
      exact ⟨by rw [if_neg h37], by rw [if_neg h37]; exact ⟨s34, _, hM, uS_at _ _ _ _ _⟩⟩
  refine wg_aload_0 (pc := 0) C dX2_setClass_0 ?_
  refine wg_aload_0 (pc := 1) C dX2_setClass_1 ?_
  refine wg_iload_1 (pc := 2) C dX2_setClass_2 ?_
  refine wg_callVP (pc := 3) C kX2_isBay q1219 (tX2_isBay hM hO hb) (rc_of C hM.obj rfl) dX2_setClass_3 rfl rfl (Nat.le_of_ble_eq_true rfl) rfl (by decide) (fun f3 => ?_)
  refine wg_ifeqB (tgt := 20) (pc := 6) C dX2_setClass_6 (by decide) (fun h6 => ?_) (fun h6 => ?_)
  · refine wg_iconst (pc := 20) C dX2_setClass_20 ?_
    refine WG.mask [true, true, true, true, false] rfl ?_
    refine WG.at L21 rfl rfl ?_ rfl
    show [vI _, _] = [vI (if (0 ≤ b ∧ b < nB σ) ∧ (0 ≤ l ∧ l < 8) then 1 else 0), _]
    split <;> rename_i hc <;> first | rfl | (exfalso; first | exact hc ⟨h6, h13⟩ | exact h6 hc.1 | exact h13 hc.2)
  · refine wg_iload_2 (pc := 9) C dX2_setClass_9 ?_
    refine wg_callSP (pc := 10) C kX2_isLevel q1264 (tX2_isLevel hl) dX2_setClass_10 rfl rfl (Nat.le_of_ble_eq_true rfl) rfl (by decide) (fun f10 => ?_)
    refine wg_ifeqB (tgt := 20) (pc := 13) C dX2_setClass_13 (by decide) (fun h13 => ?_) (fun h13 => ?_)
    · refine wg_iconst (pc := 20) C dX2_setClass_20 ?_
      refine WG.mask [true, true, true, true, false] rfl ?_
      refine WG.at L21 rfl rfl ?_ rfl
      show [vI _, _] = [vI (if (0 ≤ b ∧ b < nB σ) ∧ (0 ≤ l ∧ l < 8) then 1 else 0), _]
      split <;> rename_i hc <;> first | rfl | (exfalso; first | exact hc ⟨h6, h13⟩ | exact h6 hc.1 | exact h13 hc.2)
    · refine wg_iconst (pc := 16) C dX2_setClass_16 ?_
      refine wg_goto (tgt := 21) (pc := 17) C dX2_setClass_17 (by decide) ?_
      refine WG.mask [true, true, true, true, false] rfl ?_
      refine WG.at L21 rfl rfl ?_ rfl
      show [vI _, _] = [vI (if (0 ≤ b ∧ b < nB σ) ∧ (0 ≤ l ∧ l < 8) then 1 else 0), _]
      split <;> rename_i hc <;> first | rfl | (exfalso; first | exact hc ⟨h6, h13⟩ | exact h6 hc.1 | exact h13 hc.2)

theorem tX2_lay {G : Gm} {w : Wo} {σ ζ : St} (hM : HasM G w σ ζ) (hO : Ok σ) {b l n : Int} (hb : InR b) (hl : InR l) (hn : InR n) : Ct G mX2_lay 8 0 0 w [.ref (w.1 (20, 0)), vI b, vI l, vI n] (fun v w1 => v = some (vI (if ((0 ≤ b ∧ b < nB σ) ∧ (0 ≤ l ∧ l < 8)) ∧ (0 ≤ n ∧ n ≤ 600) ∧ (((0 ≤ b ∧ b < nB σ) ∧ (0 ≤ l ∧ l < lft σ b)) ∧ canL σ b l n) then σ 7 b l else 0)) ∧ MP G w w1 (if ((0 ≤ b ∧ b < nB σ) ∧ (0 ≤ l ∧ l < 8)) ∧ (0 ≤ n ∧ n ≤ 600) ∧ (((0 ≤ b ∧ b < nB σ) ∧ (0 ≤ l ∧ l < lft σ b)) ∧ canL σ b l n) then uS σ 7 b l n else σ) (thr ((0 ≤ b ∧ b < nB σ) ∧ (0 ≤ l ∧ l < 8)) (0 ≤ n ∧ n ≤ 600) (((0 ≤ b ∧ b < nB σ) ∧ (0 ≤ l ∧ l < lft σ b)) ∧ canL σ b l n))) := by
  refine ct_of [some (.ref (w.1 (20, 0))), some (vI b), some (vI l), some (vI n), none, none] plX2 rfl (Nat.le_of_ble_eq_true rfl) rfl ?_
  intro X hG C hnm hQ
  subst hG
  change CxOk X cX2_lay 6 RX2 (some .int) 8 at C
  have hB := hO.hB
  have hF := hO.hF
  have hbc := hM.bc
  have hfc0 := hM.fc
  have hn2 := hn
  unfold InR at hn2
  refine wg_iload_3 (pc := 0) C dX2_lay_0 ?_
  refine wg_iconst (pc := 1) C dX2_lay_1 ?_
  refine wg_sipush (pc := 2) C dX2_lay_2 (by decide) ?_
  refine wg_callSP (pc := 5) C kX2_in q1149 (tX2_in (by unfold InR; omega) (by unfold InR; omega) (by unfold InR; omega)) dX2_lay_5 rfl rfl (Nat.le_of_ble_eq_true rfl) rfl (by decide) (fun f5 => ?_)
  refine wg_istore_4 (pc := 8) C dX2_lay_8 rfl ?_
  refine wg_aload_0 (pc := 10) C dX2_lay_10 ?_
  have L57 : WG X 57 [some (.ref (w.1 (20, 0))), some (vI b), some (vI l), some (vI n), some (vI (if 0 ≤ n ∧ n ≤ 600 then 1 else 0)), none] [vI (if ((0 ≤ b ∧ b < nB σ) ∧ (0 ≤ l ∧ l < lft σ b)) ∧ canL σ b l n then 1 else 0), vI (if 0 ≤ n ∧ n ≤ 600 then 1 else 0), vI (if (0 ≤ b ∧ b < nB σ) ∧ (0 ≤ l ∧ l < 8) then 1 else 0), .ref (w.1 (20, 0))] w 0 0 := by
    refine wg_callV (pc := 57) C (k' := 0) (n' := 0) kX2_passes q1152 (tX2_passes hM hO (p := (0 ≤ b ∧ b < nB σ) ∧ (0 ≤ l ∧ l < 8)) (q := 0 ≤ n ∧ n ≤ 600) (r := ((0 ≤ b ∧ b < nB σ) ∧ (0 ≤ l ∧ l < lft σ b)) ∧ canL σ b l n)) (rc_of C hM.obj rfl) dX2_lay_57 rfl rfl (Nat.le_of_ble_eq_true rfl) rfl (by decide) (by omega) (by omega) (fun v57 w57 h57 => ?_)
    obtain ⟨e57, s57, h57⟩ := h57
    subst e57
    obtain ⟨A57, V57⟩ := w57
    have a57 : A57 = w.1 := s57.1
    subst a57
    have hM := h57
    have hbc := hM.bc
    have hfc0 := hM.fc
    refine wg_ifneB (tgt := 65) (pc := 60) C dX2_lay_60 (by decide) (fun h60 => ?_) (fun h60 => ?_)
    · have hbb := h60.1
      refine wg_aload_0 (pc := 65) C dX2_lay_65 ?_
      refine gX2_16 (pc := 66) C hM.obj rfl dX2_lay_66 ?_
      refine wg_iload_1 (pc := 69) C dX2_lay_69 ?_
      refine wg_callFP (pc := 70) C kF_get q1224 (tJ2_get (hM.blA (by omega)) (hM.baA (by omega)) (by omega) (by omega) (by omega) (by omega) (rws_at (by omega) (by omega))) (rc_of C hM.bl rfl) dX2_lay_70 rfl rfl (Nat.le_of_ble_eq_true rfl) rfl (by decide) (fun f70 => ?_)
      refine wg_cast (pc := 75) (ci := 5) C rfl q1184 (rc_of C (hM.bay (by omega) (by omega)) rfl) dX2_lay_75 ?_
      refine gX2_154 (pc := 78) C (hM.bay (by omega) (by omega)) rfl dX2_lay_78 ?_
      refine wg_iload_2 (pc := 81) C dX2_lay_81 ?_
      refine wg_iald (pc := 82) C (hM.la (by omega) (by omega)) rfl (by omega) (by omega) (by decide) dX2_lay_82 ?_
      refine wg_istore_5 (pc := 83) C dX2_lay_83 rfl ?_
      refine wg_aload_0 (pc := 85) C dX2_lay_85 ?_
      refine gX2_16 (pc := 86) C hM.obj rfl dX2_lay_86 ?_
      refine wg_iload_1 (pc := 89) C dX2_lay_89 ?_
      refine wg_callFP (pc := 90) C kF_get q1224 (tJ2_get (hM.blA (by omega)) (hM.baA (by omega)) (by omega) (by omega) (by omega) (by omega) (rws_at (by omega) (by omega))) (rc_of C hM.bl rfl) dX2_lay_90 rfl rfl (Nat.le_of_ble_eq_true rfl) rfl (by decide) (fun f90 => ?_)
      refine wg_cast (pc := 95) (ci := 5) C rfl q1184 (rc_of C (hM.bay (by omega) (by omega)) rfl) dX2_lay_95 ?_
      refine gX2_154 (pc := 98) C (hM.bay (by omega) (by omega)) rfl dX2_lay_98 ?_
      refine wg_iload_2 (pc := 101) C dX2_lay_101 ?_
      refine wg_iload_3 (pc := 102) C dX2_lay_102 ?_
      refine wg_iast (pc := 103) C (hM.la (by omega) (by omega)) rfl (by omega) (by omega) (by decide) dX2_lay_103 ?_
      refine wg_iload_5 (pc := 104) C dX2_lay_104 ?_
      refine wg_iret (pc := 106) C hQ dX2_lay_106 ?_
      exact ⟨by rw [if_pos h60], by rw [if_pos h60]; exact ⟨s57.uv rfl, _, hM.wLa b l n, uS_at _ _ _ _ _⟩⟩
    · refine wg_iconst (pc := 63) C dX2_lay_63 ?_
      refine wg_iret (pc := 64) C hQ dX2_lay_64 ?_
      exact ⟨by rw [if_neg h60], by rw [if_neg h60]; exact ⟨s57, _, hM, uS_at _ _ _ _ _⟩⟩
  have L31 : WG X 31 [some (.ref (w.1 (20, 0))), some (vI b), some (vI l), some (vI n), some (vI (if 0 ≤ n ∧ n ≤ 600 then 1 else 0)), none] [vI (if (0 ≤ b ∧ b < nB σ) ∧ (0 ≤ l ∧ l < 8) then 1 else 0), .ref (w.1 (20, 0))] w 0 0 := by
    refine wg_iload_4 (pc := 31) C dX2_lay_31 ?_
    refine wg_aload_0 (pc := 33) C dX2_lay_33 ?_
    refine wg_iload_1 (pc := 34) C dX2_lay_34 ?_
    refine wg_iload_2 (pc := 35) C dX2_lay_35 ?_
    refine wg_callVP (pc := 36) C kX2_has q1267 (tX2_has hM hO hb hl) (rc_of C hM.obj rfl) dX2_lay_36 rfl rfl (Nat.le_of_ble_eq_true rfl) rfl (by decide) (fun f36 => ?_)
    refine wg_ifeqB (tgt := 56) (pc := 39) C dX2_lay_39 (by decide) (fun h39 => ?_) (fun h39 => ?_)
    · refine wg_iconst (pc := 56) C dX2_lay_56 ?_
      refine WG.mask [true, true, true, true, true, false] rfl ?_
      refine WG.at L57 rfl rfl ?_ rfl
      refine congrArg (fun t : Int => vI t :: _) ?_
      split <;> rename_i hc <;> first | rfl | (exfalso; first | exact hc ⟨h39, h49⟩ | exact h39 hc.1 | exact h49 hc.2)
    · refine wg_aload_0 (pc := 42) C dX2_lay_42 ?_
      refine wg_iload_1 (pc := 43) C dX2_lay_43 ?_
      refine wg_iload_2 (pc := 44) C dX2_lay_44 ?_
      refine wg_iload_3 (pc := 45) C dX2_lay_45 ?_
      refine wg_callVP (pc := 46) C kX2_canLay q1301 (tX2_canLay hM hO h39.1.1 h39.1.2 h39.2.1 (by have := hO.lf b; omega) hn) (rc_of C hM.obj rfl) dX2_lay_46 rfl rfl (Nat.le_of_ble_eq_true rfl) rfl (by decide) (fun f46 => ?_)
      refine wg_ifeqB (tgt := 56) (pc := 49) C dX2_lay_49 (by decide) (fun h49 => ?_) (fun h49 => ?_)
      · refine wg_iconst (pc := 56) C dX2_lay_56 ?_
        refine WG.mask [true, true, true, true, true, false] rfl ?_
        refine WG.at L57 rfl rfl ?_ rfl
        refine congrArg (fun t : Int => vI t :: _) ?_
        split <;> rename_i hc <;> first | rfl | (exfalso; first | exact hc ⟨h39, h49⟩ | exact h39 hc.1 | exact h49 hc.2)
      · refine wg_iconst (pc := 52) C dX2_lay_52 ?_
        refine wg_goto (tgt := 57) (pc := 53) C dX2_lay_53 (by decide) ?_
        refine WG.mask [true, true, true, true, true, false] rfl ?_
        refine WG.at L57 rfl rfl ?_ rfl
        refine congrArg (fun t : Int => vI t :: _) ?_
        split <;> rename_i hc <;> first | rfl | (exfalso; first | exact hc ⟨h39, h49⟩ | exact h39 hc.1 | exact h49 hc.2)
  refine wg_aload_0 (pc := 11) C dX2_lay_11 ?_
  refine wg_iload_1 (pc := 12) C dX2_lay_12 ?_
  refine wg_callVP (pc := 13) C kX2_isBay q1219 (tX2_isBay hM hO hb) (rc_of C hM.obj rfl) dX2_lay_13 rfl rfl (Nat.le_of_ble_eq_true rfl) rfl (by decide) (fun f13 => ?_)
  refine wg_ifeqB (tgt := 30) (pc := 16) C dX2_lay_16 (by decide) (fun h16 => ?_) (fun h16 => ?_)
  · refine wg_iconst (pc := 30) C dX2_lay_30 ?_
    refine WG.mask [true, true, true, true, true, false] rfl ?_
    refine WG.at L31 rfl rfl ?_ rfl
    refine congrArg (fun t : Int => vI t :: _) ?_
    split <;> rename_i hc <;> first | rfl | (exfalso; first | exact hc ⟨h16, h23⟩ | exact h16 hc.1 | exact h23 hc.2)
  · refine wg_iload_2 (pc := 19) C dX2_lay_19 ?_
    refine wg_callSP (pc := 20) C kX2_isLevel q1264 (tX2_isLevel hl) dX2_lay_20 rfl rfl (Nat.le_of_ble_eq_true rfl) rfl (by decide) (fun f20 => ?_)
    refine wg_ifeqB (tgt := 30) (pc := 23) C dX2_lay_23 (by decide) (fun h23 => ?_) (fun h23 => ?_)
    · refine wg_iconst (pc := 30) C dX2_lay_30 ?_
      refine WG.mask [true, true, true, true, true, false] rfl ?_
      refine WG.at L31 rfl rfl ?_ rfl
      refine congrArg (fun t : Int => vI t :: _) ?_
      split <;> rename_i hc <;> first | rfl | (exfalso; first | exact hc ⟨h16, h23⟩ | exact h16 hc.1 | exact h23 hc.2)
    · refine wg_iconst (pc := 26) C dX2_lay_26 ?_
      refine wg_goto (tgt := 31) (pc := 27) C dX2_lay_27 (by decide) ?_
      refine WG.mask [true, true, true, true, true, false] rfl ?_
      refine WG.at L31 rfl rfl ?_ rfl
      refine congrArg (fun t : Int => vI t :: _) ?_
      split <;> rename_i hc <;> first | rfl | (exfalso; first | exact hc ⟨h16, h23⟩ | exact h16 hc.1 | exact h23 hc.2)

theorem tX2_inspect {G : Gm} {w : Wo} {σ ζ : St} (hM : HasM G w σ ζ) (hO : Ok σ) {f : Int} (hf : InR f) : Ct G mX2_inspect 10 0 0 w [.ref (w.1 (20, 0)), vI f] (fun v w1 => v = some (vI (if (0 ≤ f ∧ f < nF σ) ∧ (True) ∧ (True) then rsn σ f else 0)) ∧ MP G w w1 (if (0 ≤ f ∧ f < nF σ) ∧ (True) ∧ (True) then stIns σ f else σ) (thr (0 ≤ f ∧ f < nF σ) (True) (True))) := by
  refine ct_of [some (.ref (w.1 (20, 0))), some (vI f), none] plX2 rfl (Nat.le_of_ble_eq_true rfl) rfl ?_
  intro X hG C hnm hQ
  subst hG
  change CxOk X cX2_inspect 3 RX2 (some .int) 10 at C
  have hB := hO.hB
  have hF := hO.hF
  have hbc := hM.bc
  have hfc0 := hM.fc
  have hdy := hO.dy
  refine wg_aload_0 (pc := 0) C dX2_inspect_0 ?_
  refine wg_aload_0 (pc := 1) C dX2_inspect_1 ?_
  refine wg_iload_1 (pc := 2) C dX2_inspect_2 ?_
  refine wg_callVP (pc := 3) C kX2_isFace q1389 (tX2_isFace hM hO hf) (rc_of C hM.obj rfl) dX2_inspect_3 rfl rfl (Nat.le_of_ble_eq_true rfl) rfl (by decide) (fun f3 => ?_)
  refine wg_iconst (pc := 6) C dX2_inspect_6 ?_
  refine wg_iconst (pc := 7) C dX2_inspect_7 ?_
  refine wg_callV (pc := 8) C (k' := 0) (n' := 0) kX2_passes q1152 (tX2_passes hM hO (p := 0 ≤ f ∧ f < nF σ) (q := True) (r := True)) (rc_of C hM.obj rfl) dX2_inspect_8 rfl rfl (Nat.le_of_ble_eq_true rfl) rfl (by decide) (by omega) (by omega) (fun v8 w8 h8 => ?_)
  obtain ⟨e8, s8, h8⟩ := h8
  subst e8
  obtain ⟨A8, V8⟩ := w8
  have a8 : A8 = w.1 := s8.1
  subst a8
  have hM := h8
  have hbc := hM.bc
  have hfc0 := hM.fc
  refine wg_ifneB (tgt := 16) (pc := 11) C dX2_inspect_11 (by decide) (fun h11 => ?_) (fun h11 => ?_)
  · have hbb := h11.1
    refine wg_aload_0 (pc := 16) C dX2_inspect_16 ?_
    refine wg_iload_1 (pc := 17) C dX2_inspect_17 ?_
    refine wg_callV (pc := 18) C (k' := 0) (n' := 0) kX2_reason q1393 (tX2_reason hM hO (by omega) (by omega)) (rc_of C hM.obj rfl) dX2_inspect_18 rfl rfl (Nat.le_of_ble_eq_true rfl) rfl (by decide) (by omega) (by omega) (fun v18 w18 h18 => ?_)
    obtain ⟨e18, s18, ζ18, hM18, hz18⟩ := h18
    subst e18
    obtain ⟨A18, V18⟩ := w18
    have a18 : A18 = w.1 := s18.1
    subst a18
    have hM := hM18
    have hbc := hM.bc
    have hfc0 := hM.fc
    have hrr := rsn_rng σ f
    refine wg_istore_2 (pc := 21) C dX2_inspect_21 rfl ?_
    refine wg_aload_0 (pc := 22) C dX2_inspect_22 ?_
    refine gX2_23 (pc := 23) C hM.obj rfl dX2_inspect_23 ?_
    refine wg_iload_1 (pc := 26) C dX2_inspect_26 ?_
    refine wg_iload_2 (pc := 27) C dX2_inspect_27 ?_
    refine wg_if_ne (tgt := 43) (pc := 28) C dX2_inspect_28 (by decide) (by unfold InR; omega) (fun h28 => ?_) (fun h28 => ?_)
    · refine wg_iconst (pc := 43) C dX2_inspect_43 ?_
      refine wg_iast (pc := 44) C hM.gt rfl (by omega) (by omega) (by decide) dX2_inspect_44 ?_
      refine wg_iload_2 (pc := 45) C dX2_inspect_45 ?_
      refine wg_iret (pc := 46) C hQ dX2_inspect_46 ?_
      first
        | exact ⟨by rw [if_pos h11], by rw [if_pos h11]; exact ⟨(s8.tr s18).uv rfl, _, (by unfold stIns; rw [if_pos h28, show day σ + 6 = day σ + 7 - 1 by omega]; exact hM.wGrn f _ hbb.2), hz18.th.trans (uS_at _ _ _ _ _)⟩⟩
        | exact ⟨by rw [if_pos h11], by rw [if_pos h11]; exact ⟨(s8.tr s18).uv rfl, _, (by unfold stIns; rw [if_neg h28]; exact hM.wGrn f _ hbb.2), hz18.th.trans (uS_at _ _ _ _ _)⟩⟩
    · refine wg_aload_0 (pc := 31) C dX2_inspect_31 ?_
      refine gX2_68 (pc := 32) C hM.obj rfl dX2_inspect_32 ?_
      refine wg_bipush (pc := 35) C dX2_inspect_35 (by decide) ?_
      refine wg_iadd (pc := 37) C dX2_inspect_37 ?_
      refine wg_iconst (pc := 38) C dX2_inspect_38 ?_
      refine wg_isub (pc := 39) C dX2_inspect_39 ?_
      refine wg_goto (tgt := 44) (pc := 40) C dX2_inspect_40 (by decide) ?_
      refine wg_iast (pc := 44) C hM.gt rfl (by omega) (by omega) (by decide) dX2_inspect_44 ?_
      refine wg_iload_2 (pc := 45) C dX2_inspect_45 ?_
      refine wg_iret (pc := 46) C hQ dX2_inspect_46 ?_
      first
        | exact ⟨by rw [if_pos h11], by rw [if_pos h11]; exact ⟨(s8.tr s18).uv rfl, _, (by unfold stIns; rw [if_pos h28, show day σ + 6 = day σ + 7 - 1 by omega]; exact hM.wGrn f _ hbb.2), hz18.th.trans (uS_at _ _ _ _ _)⟩⟩
        | exact ⟨by rw [if_pos h11], by rw [if_pos h11]; exact ⟨(s8.tr s18).uv rfl, _, (by unfold stIns; rw [if_neg h28]; exact hM.wGrn f _ hbb.2), hz18.th.trans (uS_at _ _ _ _ _)⟩⟩
  · refine wg_iconst (pc := 14) C dX2_inspect_14 ?_
    refine wg_iret (pc := 15) C hQ dX2_inspect_15 ?_
    exact ⟨by rw [if_neg h11], by rw [if_neg h11]; exact ⟨s8, _, hM, uS_at _ _ _ _ _⟩⟩

