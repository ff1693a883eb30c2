/-! the reference: reason, parts, sums -/
set_option maxRecDepth 100000
set_option maxHeartbeats 4000000
theorem ownp_rng {σ : St} (h : Ok σ) {f kd k : Int} (hk : k ≤ 25) (hf0 : 0 ≤ f) (hf1 : f < nF σ) : 0 ≤ sm (fun p => prtAt σ p kd) (ownP σ f) k ∧ sm (fun p => prtAt σ p kd) (ownP σ f) k ≤ 600 := by
  have hc := h.fc hf0 hf1
  have ho : 0 ≤ ownP σ f := by unfold ownP; split <;> omega
  refine ⟨sm_nonneg (fun p _ _ => (prtAt_rng h p kd).1), Int.le_trans (sm_le (m := 24) (by omega) (fun p _ _ => (prtAt_rng h p kd).2)) (by omega)⟩
theorem bayp_rng {σ : St} (h : Ok σ) {f kd k : Int} (hk : k ≤ 24) (hf0 : 0 ≤ f) (hf1 : f < nF σ) : 0 ≤ sm (fun b => prtBay σ b kd) (first σ f) k ∧ sm (fun b => prtBay σ b kd) (first σ f) k ≤ 960 := by
  have hc := h.fc hf0 hf1
  refine ⟨sm_nonneg (fun p _ _ => (prtBay_rng h p kd).1), Int.le_trans (sm_le (m := 40) (by omega) (fun p _ _ => (prtBay_rng h p kd).2)) (by omega)⟩
theorem tX2_partsOfPosition {G : Gm} {w : Wo} {σ ζ : St} (hM : HasM G w σ ζ) (hO : Ok σ) {p : Int} (hp0 : 0 ≤ p) (hp1 : p ≤ nB σ) {kd : Int} (hk : InR kd) : Ct G mX2_partsOfPosition 7 0 0 w [.ref (w.1 (20, 0)), vI p, vI kd] (fun v w1 => v = some (vI (prtAt σ p kd)) ∧ SmM w w1 ∧ ∃ ζ' : St, HasM G w1 σ ζ' ∧ ZK ζ ζ') := by
  refine ct_of [some (.ref (w.1 (20, 0))), some (vI p), some (vI kd), none, none, none] plX2 rfl (Nat.le_of_ble_eq_true rfl) rfl ?_
  intro X hG C hnm hQ
  subst hG
  change CxOk X cX2_partsOfPosition 6 RX2 (some .int) 7 at C
  have hB := hO.hB
  have hF := hO.hF
  have hbc := hM.bc
  have hfc0 := hM.fc
  have hlv := levelsOf_rng hO p
  have hst := stds_rng σ p
  unfold InR at hk
  have L30 : ∀ (s : Int), (0 ≤ s ∧ s ≤ 24) → s = (if kd = 0 then stds σ p * levelsOf σ p else if kd = 1 then levelsOf σ p else 0) → WG X 30 [some (.ref (w.1 (20, 0))), some (vI p), some (vI kd), some (vI (levelsOf σ p)), none, none] [vI s] w 0 0 := by
    intro s hsr hs
    have L35 : ∀ (N : Nat) (V : Tg → Option va_E) (ζ2 : St) (k t : Int), (levelsOf σ p - k).toNat = N → SmM w (w.1, V) → HasM (xG X) (w.1, V) σ ζ2 → ZK ζ ζ2 → 0 ≤ k → k ≤ levelsOf σ p → (kd ≠ 5 → k = 0) → t = s + sm (fun l => if ties σ l p = 0 then 0 else 1) 0 k → WG X 35 [some (.ref (w.1 (20, 0))), some (vI p), some (vI kd), some (vI (levelsOf σ p)), some (vI t), some (vI k)] [] (w.1, V) 0 0 := by
      intro N
      induction N using Nat.strongRecOn with | _ N IH => ?_
      intro V ζ2 k t hN hS hM hZ hk0 hk1 hk5 ht
      have hti := ties_rng hO k p
      refine wg_iload_5 (pc := 35) C dX2_partsOfPosition_35 ?_
      refine wg_iload_3 (pc := 37) C dX2_partsOfPosition_37 ?_
      refine wg_icmp_ge (tgt := 77) (pc := 38) C dX2_partsOfPosition_38 (by decide) (by unfold InR; omega) (by unfold InR; omega) (fun h38 => ?_) (fun h38 => ?_)
      · refine wg_iload_4 (pc := 77) C dX2_partsOfPosition_77 ?_
        refine wg_iret (pc := 79) C hQ dX2_partsOfPosition_79 ?_
        refine ⟨vI_c ?_, hS, ζ2, hM, hZ⟩
        rw [ht, hs]
        unfold prtAt
        by_cases k0 : kd = 0
        · rw [if_pos k0, if_pos k0, show k = 0 by omega, sm_nil _ (by omega)]; omega
        · rw [if_neg k0, if_neg k0]
          by_cases k1 : kd = 1
          · rw [if_pos k1, if_pos k1, show k = 0 by omega, sm_nil _ (by omega)]; omega
          · rw [if_neg k1, if_neg k1]
            by_cases k5 : kd = 5
            · rw [if_pos k5, show k = levelsOf σ p by omega, tieCnt_lv hO]; omega
            · rw [if_neg k5, show k = 0 by omega, sm_nil _ (by omega)]; omega
      · refine wg_iload_2 (pc := 41) C dX2_partsOfPosition_41 ?_
        refine wg_iconst (pc := 42) C dX2_partsOfPosition_42 ?_
        refine wg_icmp_ne (tgt := 77) (pc := 43) C dX2_partsOfPosition_43 (by decide) (by unfold InR; omega) (by unfold InR; omega) (fun h43 => ?_) (fun h43 => ?_)
        · refine wg_iload_4 (pc := 77) C dX2_partsOfPosition_77 ?_
          refine wg_iret (pc := 79) C hQ dX2_partsOfPosition_79 ?_
          refine ⟨vI_c ?_, hS, ζ2, hM, hZ⟩
          rw [ht, hs]
          unfold prtAt
          by_cases k0 : kd = 0
          · rw [if_pos k0, if_pos k0, show k = 0 by omega, sm_nil _ (by omega)]; omega
          · rw [if_neg k0, if_neg k0]
            by_cases k1 : kd = 1
            · rw [if_pos k1, if_pos k1, show k = 0 by omega, sm_nil _ (by omega)]; omega
            · rw [if_neg k1, if_neg k1]
              by_cases k5 : kd = 5
              · rw [if_pos k5, show k = levelsOf σ p by omega, tieCnt_lv hO]; omega
              · rw [if_neg k5, show k = 0 by omega, sm_nil _ (by omega)]; omega
        · refine wg_aload_0 (pc := 46) C dX2_partsOfPosition_46 ?_
          refine wg_iload_5 (pc := 47) C dX2_partsOfPosition_47 ?_
          refine wg_callV (pc := 49) C (k' := 0) (n' := 0) kX2_findTies q1331 (tX2_findTies hM hO (by omega) (by omega)) (rc_of C hM.obj rfl) dX2_partsOfPosition_49 rfl rfl (Nat.le_of_ble_eq_true rfl) rfl (by decide) (by omega) (by omega) (fun v49 w49 h49 => ?_)
          obtain ⟨e49, s49, ζ49, hM49, hz49, hft49⟩ := h49
          subst e49
          obtain ⟨A49, V49⟩ := w49
          have a49 : A49 = w.1 := s49.1
          subst a49
          have hM := hM49
          have hbc := hM.bc
          have hfc0 := hM.fc
          refine wg_iload_4 (pc := 52) C dX2_partsOfPosition_52 ?_
          refine wg_aload_0 (pc := 54) C dX2_partsOfPosition_54 ?_
          refine gX2_38 (pc := 55) C hM.obj rfl dX2_partsOfPosition_55 ?_
          refine wg_iload_1 (pc := 58) C dX2_partsOfPosition_58 ?_
          refine wg_zald (pc := 59) C hM.ti rfl (by omega) (by omega) (by decide) dX2_partsOfPosition_59 ?_
          rw [(hft49 p hp0 hp1).1]
          refine wg_if_eq (tgt := 67) (pc := 60) C dX2_partsOfPosition_60 (by decide) (by unfold InR; omega) (fun h60 => ?_) (fun h60 => ?_)
          · refine wg_iconst (pc := 67) C dX2_partsOfPosition_67 ?_
            refine wg_iadd (pc := 68) C dX2_partsOfPosition_68 ?_
            refine wg_istore_4 (pc := 69) C dX2_partsOfPosition_69 rfl ?_
            refine wg_iinc_5 (pc := 71) C dX2_partsOfPosition_71 rfl ?_
            refine wg_goto (tgt := 35) (pc := 74) C dX2_partsOfPosition_74 (by decide) ?_
            exact IH _ (by omega) V49 ζ49 (k + 1) _ rfl (hS.tr s49) hM (hZ.tr hz49) (by omega) (by omega) (by omega) (by rw [sm_succ _ (by omega), ht]; first | (rw [if_pos h60]; omega) | (rw [if_neg h60]; omega))
          · refine wg_iconst (pc := 63) C dX2_partsOfPosition_63 ?_
            refine wg_goto (tgt := 68) (pc := 64) C dX2_partsOfPosition_64 (by decide) ?_
            refine wg_iadd (pc := 68) C dX2_partsOfPosition_68 ?_
            refine wg_istore_4 (pc := 69) C dX2_partsOfPosition_69 rfl ?_
            refine wg_iinc_5 (pc := 71) C dX2_partsOfPosition_71 rfl ?_
            refine wg_goto (tgt := 35) (pc := 74) C dX2_partsOfPosition_74 (by decide) ?_
            exact IH _ (by omega) V49 ζ49 (k + 1) _ rfl (hS.tr s49) hM (hZ.tr hz49) (by omega) (by omega) (by omega) (by rw [sm_succ _ (by omega), ht]; first | (rw [if_pos h60]; omega) | (rw [if_neg h60]; omega))
    refine wg_istore_4 (pc := 30) C dX2_partsOfPosition_30 rfl ?_
    refine wg_iconst (pc := 32) C dX2_partsOfPosition_32 ?_
    refine wg_istore_5 (pc := 33) C dX2_partsOfPosition_33 rfl ?_
    exact L35 _ w.2 ζ 0 s rfl (SmM.rf w) hM (ZK.rf ζ) (by omega) (by omega) (by omega) (by rw [sm_nil _ (by omega)]; omega)
  refine wg_aload_0 (pc := 0) C dX2_partsOfPosition_0 ?_
  refine wg_iload_1 (pc := 1) C dX2_partsOfPosition_1 ?_
  refine wg_callVP (pc := 2) C kX2_levelsOf q1243 (tX2_levelsOf hM hO (by omega) (by omega)) (rc_of C hM.obj rfl) dX2_partsOfPosition_2 rfl rfl (Nat.le_of_ble_eq_true rfl) rfl (by decide) (fun f2 => ?_)
  refine wg_istore_3 (pc := 5) C dX2_partsOfPosition_5 rfl ?_
  refine wg_iload_2 (pc := 6) C dX2_partsOfPosition_6 ?_
  refine wg_if_ne (tgt := 20) (pc := 7) C dX2_partsOfPosition_7 (by decide) (by unfold InR; omega) (fun h7 => ?_) (fun h7 => ?_)
  · refine wg_iload_2 (pc := 20) C dX2_partsOfPosition_20 ?_
    refine wg_iconst (pc := 21) C dX2_partsOfPosition_21 ?_
    refine wg_icmp_ne (tgt := 29) (pc := 22) C dX2_partsOfPosition_22 (by decide) (by unfold InR; omega) (by unfold InR; omega) (fun h22 => ?_) (fun h22 => ?_)
    · refine wg_iconst (pc := 29) C dX2_partsOfPosition_29 ?_
      refine WG.mask [true, true, true, true, false, false] rfl ?_
      first
        | exact L30 _ (by have h2 := mul23 (a := levelsOf σ p) hst; rw [Int.mul_comm] at h2; omega) (by rw [if_pos (by omega)])
        | exact L30 _ (by omega) (by rw [if_neg (by omega), if_pos (by omega)])
        | exact L30 _ (by omega) (by rw [if_neg (by omega), if_neg (by omega)])
    · refine wg_iload_3 (pc := 25) C dX2_partsOfPosition_25 ?_
      refine wg_goto (tgt := 30) (pc := 26) C dX2_partsOfPosition_26 (by decide) ?_
      refine WG.mask [true, true, true, true, false, false] rfl ?_
      first
        | exact L30 _ (by have h2 := mul23 (a := levelsOf σ p) hst; rw [Int.mul_comm] at h2; omega) (by rw [if_pos (by omega)])
        | exact L30 _ (by omega) (by rw [if_neg (by omega), if_pos (by omega)])
        | exact L30 _ (by omega) (by rw [if_neg (by omega), if_neg (by omega)])
  · refine wg_aload_0 (pc := 10) C dX2_partsOfPosition_10 ?_
    refine wg_iload_1 (pc := 11) C dX2_partsOfPosition_11 ?_
    refine wg_callVP (pc := 12) C kX2_standards q1363 (tX2_standards hM hO (by unfold InR; omega)) (rc_of C hM.obj rfl) dX2_partsOfPosition_12 rfl rfl (Nat.le_of_ble_eq_true rfl) rfl (by decide) (fun f12 => ?_)
    refine wg_iload_3 (pc := 15) C dX2_partsOfPosition_15 ?_
    refine wg_imul (pc := 16) C dX2_partsOfPosition_16 ?_
    refine wg_goto (tgt := 30) (pc := 17) C dX2_partsOfPosition_17 (by decide) ?_
    refine WG.mask [true, true, true, true, false, false] rfl ?_
    first
      | exact L30 _ (by have h2 := mul23 (a := levelsOf σ p) hst; rw [Int.mul_comm] at h2; omega) (by rw [if_pos (by omega)])
      | exact L30 _ (by omega) (by rw [if_neg (by omega), if_pos (by omega)])
      | exact L30 _ (by omega) (by rw [if_neg (by omega), if_neg (by omega)])

theorem tX2_partsOf {G : Gm} {w : Wo} {σ ζ : St} (hM : HasM G w σ ζ) (hO : Ok σ) {f : Int} (hf0 : 0 ≤ f) (hf1 : f < nF σ) {kd : Int} (hk : InR kd) : Ct G mX2_partsOf 8 0 0 w [.ref (w.1 (20, 0)), vI f, vI kd] (fun v w1 => v = some (vI (prtFace σ f kd)) ∧ SmM w w1 ∧ ∃ ζ' : St, HasM G w1 σ ζ' ∧ ZK ζ ζ') := by
  refine ct_of [some (.ref (w.1 (20, 0))), some (vI f), some (vI kd), none, none, none] plX2 rfl (Nat.le_of_ble_eq_true rfl) rfl ?_
  intro X hG C hnm hQ
  subst hG
  change CxOk X cX2_partsOf 6 RX2 (some .int) 8 at C
  have hB := hO.hB
  have hF := hO.hF
  have hbc := hM.bc
  have hfc0 := hM.fc
  have hc := hO.fc hf0 hf1
  have hpf := first_pos hO (f := f)
  unfold InR at hk
  refine wg_iconst (pc := 0) C dX2_partsOf_0 ?_
  refine wg_istore_3 (pc := 1) C dX2_partsOf_1 rfl ?_
  refine wg_aload_0 (pc := 2) C dX2_partsOf_2 ?_
  refine gX2_20 (pc := 3) C hM.obj rfl dX2_partsOf_3 ?_
  refine wg_iload_1 (pc := 6) C dX2_partsOf_6 ?_
  refine wg_callFP (pc := 7) C kF_get q1224 (tJ2_get (hM.flA (by omega)) (hM.faA (by omega)) (by omega) (by omega) (by omega) (by omega) (bxs_at (by omega) (by omega))) (rc_of C hM.fl rfl) dX2_partsOf_7 rfl rfl (Nat.le_of_ble_eq_true rfl) rfl (by decide) (fun f7 => ?_)
  refine wg_castQ (pc := 12) C q1284 (RcG.box (by omega) X rfl C.pm) dX2_partsOf_12 ?_
  refine wg_callVP (pc := 15) C kJ17_intValue q1285 (tJ17_intValue (by omega) (by omega)) (RcG.box (by omega) X rfl C.pm) dX2_partsOf_15 rfl rfl (Nat.le_of_ble_eq_true rfl) rfl (by decide) (fun f15 => ?_)
  refine wg_istore_4 (pc := 18) C dX2_partsOf_18 rfl ?_
  have L63 : ∀ (s q : Int), s = sm (fun b => prtBay σ b kd) (first σ f) (first σ f + many σ f) → q = ownP σ f → WG X 63 [some (.ref (w.1 (20, 0))), some (vI f), some (vI kd), some (vI s), some (vI (first σ f)), none] [vI q] w 0 0 := by
    intro s q hs hq
    have L65 : ∀ (N : Nat) (V : Tg → Option va_E) (ζ2 : St) (k t : Int), (first σ f + many σ f + 1 - k).toNat = N → SmM w (w.1, V) → HasM (xG X) (w.1, V) σ ζ2 → ZK ζ ζ2 → ownP σ f ≤ k → k ≤ first σ f + many σ f + 1 → t = s + sm (fun p => prtAt σ p kd) (ownP σ f) k → WG X 65 [some (.ref (w.1 (20, 0))), some (vI f), some (vI kd), some (vI t), none, some (vI k)] [] (w.1, V) 0 0 := by
      intro N
      induction N using Nat.strongRecOn with | _ N IH2 => ?_
      intro V ζ2 k t hN hS hM hZ hk0 hk1 ht
      have hpr := ownp_rng hO (kd := kd) (k := k) (by omega) hf0 hf1
      have hbr := bayp_rng hO (kd := kd) (k := first σ f + many σ f) (by omega) hf0 hf1
      have hoP : 0 ≤ ownP σ f := by unfold ownP; split <;> omega
      have hbc := hM.bc
      have hfc0 := hM.fc
      refine wg_iload_5 (pc := 65) C dX2_partsOf_65 ?_
      refine wg_aload_0 (pc := 67) C dX2_partsOf_67 ?_
      refine wg_iload_1 (pc := 68) C dX2_partsOf_68 ?_
      refine wg_callVP (pc := 69) C kX2_endOf q1289 (tX2_endOf hM hO (by omega) (by omega)) (rc_of C hM.obj rfl) dX2_partsOf_69 rfl rfl (Nat.le_of_ble_eq_true rfl) rfl (by decide) (fun f69 => ?_)
      refine wg_icmp_gt (tgt := 91) (pc := 72) C dX2_partsOf_72 (by decide) (by unfold InR; omega) (by unfold InR; omega) (fun h72 => ?_) (fun h72 => ?_)
      · refine wg_iload_3 (pc := 91) C dX2_partsOf_91 ?_
        refine wg_iret (pc := 92) C hQ dX2_partsOf_92 ?_
        have e : k = first σ f + many σ f + 1 := by omega
        exact ⟨vI_c (by rw [ht, hs, e]; unfold prtFace; omega), hS, ζ2, hM, hZ⟩
      · refine wg_iload_3 (pc := 75) C dX2_partsOf_75 ?_
        refine wg_aload_0 (pc := 76) C dX2_partsOf_76 ?_
        refine wg_iload_5 (pc := 77) C dX2_partsOf_77 ?_
        refine wg_iload_2 (pc := 79) C dX2_partsOf_79 ?_
        refine wg_callV (pc := 80) C (k' := 0) (n' := 0) kX2_partsOfPosition q1413 (tX2_partsOfPosition hM hO (by omega) (by omega) (by unfold InR; omega)) (rc_of C hM.obj rfl) dX2_partsOf_80 rfl rfl (Nat.le_of_ble_eq_true rfl) rfl (by decide) (by omega) (by omega) (fun v80 w80 h80 => ?_)
        obtain ⟨e80, s80, ζ80, hM80, hz80⟩ := h80
        subst e80
        obtain ⟨A80, V80⟩ := w80
        have a80 : A80 = w.1 := s80.1
        subst a80
        have hM := hM80
        have hbc := hM.bc
        have hfc0 := hM.fc
        refine wg_iadd (pc := 83) C dX2_partsOf_83 ?_
        refine wg_istore_3 (pc := 84) C dX2_partsOf_84 rfl ?_
        refine wg_iinc_5 (pc := 85) C dX2_partsOf_85 rfl ?_
        refine wg_goto (tgt := 65) (pc := 88) C dX2_partsOf_88 (by decide) ?_
        refine WG.mask [true, true, true, true, false, true] rfl ?_
        exact IH2 _ (by omega) V80 ζ80 (k + 1) _ rfl (hS.tr s80) hM (hZ.tr hz80) (by omega) (by omega) (by rw [sm_succ (fun p => prtAt σ p kd) hk0, ht]; omega)
    refine wg_istore_5 (pc := 63) C dX2_partsOf_63 rfl ?_
    refine WG.mask [true, true, true, true, false, true] rfl ?_
    exact L65 _ w.2 ζ _ s rfl (SmM.rf w) hM (ZK.rf ζ) (by omega) (by rw [hq]; unfold ownP; split <;> omega) (by rw [hq, sm_nil _ (by omega)]; omega)
  have L24 : ∀ (N : Nat) (k s : Int), (first σ f + many σ f - k).toNat = N → first σ f ≤ k → k ≤ first σ f + many σ f → s = sm (fun b => prtBay σ b kd) (first σ f) k → WG X 24 [some (.ref (w.1 (20, 0))), some (vI f), some (vI kd), some (vI s), some (vI (first σ f)), some (vI k)] [] w 0 0 := by
    intro N
    induction N using Nat.strongRecOn with | _ N IH => ?_
    intro k s hN hk0 hk1 hs
    have hsr := bayp_rng hO (kd := kd) (k := k) (by omega) hf0 hf1
    refine wg_iload_5 (pc := 24) C dX2_partsOf_24 ?_
    refine wg_aload_0 (pc := 26) C dX2_partsOf_26 ?_
    refine wg_iload_1 (pc := 27) C dX2_partsOf_27 ?_
    refine wg_callVP (pc := 28) C kX2_endOf q1289 (tX2_endOf hM hO (by omega) (by omega)) (rc_of C hM.obj rfl) dX2_partsOf_28 rfl rfl (Nat.le_of_ble_eq_true rfl) rfl (by decide) (fun f28 => ?_)
    refine wg_icmp_ge (tgt := 50) (pc := 31) C dX2_partsOf_31 (by decide) (by unfold InR; omega) (by unfold InR; omega) (fun h31 => ?_) (fun h31 => ?_)
    · refine wg_iload_4 (pc := 50) C dX2_partsOf_50 ?_
      refine wg_if_le (tgt := 62) (pc := 52) C dX2_partsOf_52 (by decide) (by unfold InR; omega) (fun h52 => ?_) (fun h52 => ?_)
      · refine wg_iconst (pc := 62) C dX2_partsOf_62 ?_
        refine WG.mask [true, true, true, true, true, false] rfl ?_
        first
          | exact L63 s _ (by rw [hs, show k = first σ f + many σ f by omega]) (by rw [← ownP_M hO hf0 hf1, if_pos (by omega)])
          | exact L63 s _ (by rw [hs, show k = first σ f + many σ f by omega]) (by rw [← ownP_M hO hf0 hf1, if_neg (by omega)])
      · refine wg_iload_4 (pc := 55) C dX2_partsOf_55 ?_
        refine wg_iconst (pc := 57) C dX2_partsOf_57 ?_
        refine wg_iadd (pc := 58) C dX2_partsOf_58 ?_
        refine wg_goto (tgt := 63) (pc := 59) C dX2_partsOf_59 (by decide) ?_
        refine WG.mask [true, true, true, true, true, false] rfl ?_
        first
          | exact L63 s _ (by rw [hs, show k = first σ f + many σ f by omega]) (by rw [← ownP_M hO hf0 hf1, if_pos (by omega)])
          | exact L63 s _ (by rw [hs, show k = first σ f + many σ f by omega]) (by rw [← ownP_M hO hf0 hf1, if_neg (by omega)])
    · refine wg_iload_3 (pc := 34) C dX2_partsOf_34 ?_
      refine wg_aload_0 (pc := 35) C dX2_partsOf_35 ?_
      refine wg_iload_5 (pc := 36) C dX2_partsOf_36 ?_
      refine wg_iload_2 (pc := 38) C dX2_partsOf_38 ?_
      refine wg_callVP (pc := 39) C kX2_partsOfBay q1409 (tX2_partsOfBay hM hO (by omega) (by omega) (by unfold InR; omega)) (rc_of C hM.obj rfl) dX2_partsOf_39 rfl rfl (Nat.le_of_ble_eq_true rfl) rfl (by decide) (fun f39 => ?_)
      refine wg_iadd (pc := 42) C dX2_partsOf_42 ?_
      refine wg_istore_3 (pc := 43) C dX2_partsOf_43 rfl ?_
      refine wg_iinc_5 (pc := 44) C dX2_partsOf_44 rfl ?_
      refine wg_goto (tgt := 24) (pc := 47) C dX2_partsOf_47 (by decide) ?_
      exact IH _ (by omega) (k + 1) _ rfl (by omega) (by omega) (by rw [sm_succ _ (by omega), ← hs])
  refine wg_iload_4 (pc := 20) C dX2_partsOf_20 ?_
  refine wg_istore_5 (pc := 22) C dX2_partsOf_22 rfl ?_
  exact L24 _ _ 0 rfl (by omega) (by omega) (by rw [sm_nil _ (by omega)])

theorem tX2_missingInAll {G : Gm} {w : Wo} {σ ζ : St} (hM : HasM G w σ ζ) (hO : Ok σ) : Ct G mX2_missingInAll 8 0 0 w [.ref (w.1 (20, 0))] (fun v w1 => v = some (vI (ofP σ 6)) ∧ SmM w w1 ∧ ∃ ζ' : St, HasM G w1 σ ζ' ∧ ZK ζ ζ') := by
  refine ct_of [some (.ref (w.1 (20, 0))), none, none] plX2 rfl (Nat.le_of_ble_eq_true rfl) rfl ?_
  intro X hG C hnm hQ
  subst hG
  change CxOk X cX2_missingInAll 3 RX2 (some .int) 8 at C
  have hB := hO.hB
  have hF := hO.hF
  have hbc := hM.bc
  have hfc0 := hM.fc
  have hps := pos_rng hO
  have L4 : ∀ (N : Nat) (V : Tg → Option va_E) (ζ2 : St) (k s : Int), (nB σ + 1 - k).toNat = N → SmM w (w.1, V) → HasM (xG X) (w.1, V) σ ζ2 → ZK ζ ζ2 → 0 ≤ k → k ≤ pos σ → s = sm (fun p => cntP σ 6 p) 0 k → WG X 4 [some (.ref (w.1 (20, 0))), some (vI s), some (vI k)] [] (w.1, V) 0 0 := by
    intro N
    induction N using Nat.strongRecOn with | _ N IH => ?_
    intro V ζ2 k s hN hS hM hZ hk0 hk1 hs
    have hbc := hM.bc
    have hfc0 := hM.fc
    refine wg_iload_2 (pc := 4) C dX2_missingInAll_4 ?_
    refine wg_aload_0 (pc := 5) C dX2_missingInAll_5 ?_
    refine gX2_16 (pc := 6) C hM.obj rfl dX2_missingInAll_6 ?_
    refine wg_callFP (pc := 9) C kF_size q1161 (tJ2_size hM.bl) (rc_of C hM.bl rfl) dX2_missingInAll_9 rfl rfl (Nat.le_of_ble_eq_true rfl) rfl (by decide) (fun f9 => ?_)
    refine wg_icmp_gt (tgt := 43) (pc := 14) C dX2_missingInAll_14 (by decide) (by unfold InR; omega) (by unfold InR; omega) (fun h14 => ?_) (fun h14 => ?_)
    · refine wg_iload_1 (pc := 43) C dX2_missingInAll_43 ?_
      refine wg_iret (pc := 44) C hQ dX2_missingInAll_44 ?_
      have e : k = pos σ := by omega
      exact ⟨vI_c (by rw [hs, e]; rfl), hS, ζ2, hM, hZ⟩
    · refine wg_aload_0 (pc := 17) C dX2_missingInAll_17 ?_
      refine gX2_16 (pc := 18) C hM.obj rfl dX2_missingInAll_18 ?_
      refine wg_callFP (pc := 21) C kF_isEmpty q1234 (tJ2_isEmpty hM.bl (by unfold InR; omega)) (rc_of C hM.bl rfl) dX2_missingInAll_21 rfl rfl (Nat.le_of_ble_eq_true rfl) rfl (by decide) (fun f21 => ?_)
      refine wg_ifneB (tgt := 43) (pc := 26) C dX2_missingInAll_26 (by decide) (fun h26 => ?_) (fun h26 => ?_)
      · refine wg_iload_1 (pc := 43) C dX2_missingInAll_43 ?_
        refine wg_iret (pc := 44) C hQ dX2_missingInAll_44 ?_
        have e : k = pos σ := by omega
        exact ⟨vI_c (by rw [hs, e]; rfl), hS, ζ2, hM, hZ⟩
      · refine wg_iload_1 (pc := 29) C dX2_missingInAll_29 ?_
        refine wg_aload_0 (pc := 30) C dX2_missingInAll_30 ?_
        refine wg_iload_2 (pc := 31) C dX2_missingInAll_31 ?_
        refine wg_callV (pc := 32) C (k' := 0) (n' := 0) kX2_missingOf q1351 (tX2_missingOf hM hO (by omega) (by omega)) (rc_of C hM.obj rfl) dX2_missingInAll_32 rfl rfl (Nat.le_of_ble_eq_true rfl) rfl (by decide) (by omega) (by omega) (fun v32 w32 h32 => ?_)
        obtain ⟨e32, s32, ζ32, hM32, hz32⟩ := h32
        subst e32
        obtain ⟨A32, V32⟩ := w32
        have a32 : A32 = w.1 := s32.1
        subst a32
        have hM := hM32
        have hbc := hM.bc
        have hfc0 := hM.fc
        refine wg_iadd (pc := 35) C dX2_missingInAll_35 ?_
        refine wg_istore_1 (pc := 36) C dX2_missingInAll_36 rfl ?_
        refine wg_iinc_2 (pc := 37) C dX2_missingInAll_37 rfl ?_
        refine wg_goto (tgt := 4) (pc := 40) C dX2_missingInAll_40 (by decide) ?_
        exact IH _ (by omega) V32 ζ32 (k + 1) _ rfl (hS.tr s32) hM (hZ.tr hz32) (by omega) (by omega) (by rw [sm_succ _ hk0, ← hs]; congr 1; unfold cntP; rw [if_pos rfl, if_neg (by decide)]; omega)
  refine wg_iconst (pc := 0) C dX2_missingInAll_0 ?_
  refine wg_istore_1 (pc := 1) C dX2_missingInAll_1 rfl ?_
  refine wg_iconst (pc := 2) C dX2_missingInAll_2 ?_
  refine wg_istore_2 (pc := 3) C dX2_missingInAll_3 rfl ?_
  exact L4 _ w.2 ζ 0 0 rfl (SmM.rf w) hM (ZK.rf ζ) (by omega) (by omega) (by rw [sm_nil _ (by omega)])

theorem tX2_reason {G : Gm} {w : Wo} {σ ζ : St} (hM : HasM G w σ ζ) (hO : Ok σ) {f : Int} (hf0 : 0 ≤ f) (hf1 : f < nF σ) : Ct G mX2_reason 9 0 0 w [.ref (w.1 (20, 0)), vI f] (fun v w1 => v = some (vI (rsn σ f)) ∧ SmM w w1 ∧ ∃ ζ' : St, HasM G w1 σ ζ' ∧ ZK ζ ζ') := by
  refine ct_of [some (.ref (w.1 (20, 0))), some (vI f), none, none, none, none] plX2 rfl (Nat.le_of_ble_eq_true rfl) rfl ?_
  intro X hG C hnm hQ
  subst hG
  change CxOk X cX2_reason 6 RX2 (some .int) 9 at C
  have hB := hO.hB
  have hF := hO.hF
  have hbc := hM.bc
  have hfc0 := hM.fc
  have hc := hO.fc hf0 hf1
  refine wg_iconst (pc := 0) C dX2_reason_0 ?_
  refine wg_istore_2 (pc := 1) C dX2_reason_1 rfl ?_
  refine wg_aload_0 (pc := 2) C dX2_reason_2 ?_
  refine gX2_20 (pc := 3) C hM.obj rfl dX2_reason_3 ?_
  refine wg_iload_1 (pc := 6) C dX2_reason_6 ?_
  refine wg_callFP (pc := 7) C kF_get q1224 (tJ2_get (hM.flA (by omega)) (hM.faA (by omega)) (by omega) (by omega) (by omega) (by omega) (bxs_at (by omega) (by omega))) (rc_of C hM.fl rfl) dX2_reason_7 rfl rfl (Nat.le_of_ble_eq_true rfl) rfl (by decide) (fun f7 => ?_)
  refine wg_castQ (pc := 12) C q1284 (RcG.box (by omega) X rfl C.pm) dX2_reason_12 ?_
  refine wg_callVP (pc := 15) C kJ17_intValue q1285 (tJ17_intValue (by omega) (by omega)) (RcG.box (by omega) X rfl C.pm) dX2_reason_15 rfl rfl (Nat.le_of_ble_eq_true rfl) rfl (by decide) (fun f15 => ?_)
  have L19 : ∀ (N : Nat) (k s : Int), (first σ f + many σ f - k).toNat = N → first σ f ≤ k → k ≤ first σ f + many σ f → (s = 0 ∨ s = 1) → (s = 0 ↔ sm (fun k => lft σ k) (first σ f) k = 0) → WG X 19 [some (.ref (w.1 (20, 0))), some (vI f), some (vI s), some (vI k), none, none] [] w 0 0 := by
    intro N
    induction N using Nat.strongRecOn with | _ N IH => ?_
    intro k s hN hk0 hk1 hs1 hs
    have hlf := hO.lf k
    have hnn := sm_nonneg (f := fun k => lft σ k) (a := first σ f) (b := k) (fun b _ _ => (hO.lf b).1)
    have L56 : ∀ (e : Int), k < first σ f + many σ f → (e = 0 ∨ e = 1) → (e = 0 ↔ sm (fun k => lft σ k) (first σ f) k + lft σ k = 0) → WG X 56 [some (.ref (w.1 (20, 0))), some (vI f), some (vI s), some (vI k), none, none] [vI e] w 0 0 := by
      intro e hkF he1 he
      refine wg_istore_2 (pc := 56) C dX2_reason_56 rfl ?_
      refine wg_iinc_3 (pc := 57) C dX2_reason_57 rfl ?_
      refine wg_goto (tgt := 19) (pc := 60) C dX2_reason_60 (by decide) ?_
      refine WG.mask [true, true, true, true, false, false] rfl ?_
      exact IH _ (by omega) (k + 1) _ rfl (by omega) (by omega) he1 (by rw [sm_succ _ hk0]; exact he)
    refine wg_iload_3 (pc := 19) C dX2_reason_19 ?_
    refine wg_aload_0 (pc := 20) C dX2_reason_20 ?_
    refine wg_iload_1 (pc := 21) C dX2_reason_21 ?_
    refine wg_callVP (pc := 22) C kX2_endOf q1289 (tX2_endOf hM hO (by omega) (by omega)) (rc_of C hM.obj rfl) dX2_reason_22 rfl rfl (Nat.le_of_ble_eq_true rfl) rfl (by decide) (fun f22 => ?_)
    refine wg_icmp_ge (tgt := 63) (pc := 25) C dX2_reason_25 (by decide) (by unfold InR; omega) (by unfold InR; omega) (fun h25 => ?_) (fun h25 => ?_)
    · have ek : k = first σ f + many σ f := by omega
      rw [ek] at hs hnn
      refine wg_iconst (pc := 63) C dX2_reason_63 ?_
      refine wg_istore_3 (pc := 64) C dX2_reason_64 rfl ?_
      refine wg_iconst (pc := 65) C dX2_reason_65 ?_
      have L86 : ∀ (N : Nat) (V : Tg → Option va_E) (ζ2 : St) (k x y : Int), (first σ f + many σ f + 1 - k).toNat = N → SmM w (w.1, V) → HasM (xG X) (w.1, V) σ ζ2 → ZK ζ ζ2 → first σ f ≤ k → k ≤ first σ f + many σ f + 1 → (x = 0 ∨ x = 1) → (y = 0 ∨ y = 1) → (x = 1 ↔ mnN (spare σ) (first σ f) (k - first σ f).toNat < 0) → (y = 1 ↔ 1 < mxN (missing σ) (first σ f) (k - first σ f).toNat) → WG X 86 [some (.ref (w.1 (20, 0))), some (vI f), some (vI s), some (vI x), some (vI y), some (vI k)] [] (w.1, V) 0 0 := by
        intro N
        induction N using Nat.strongRecOn with | _ N IH2 => ?_
        intro V ζ2 k x y hN hS hM hZ hk0 hk1 hx1 hy1 hx hy
        have hbc := hM.bc
        have hfc0 := hM.fc
        have L122 : ∀ (V2 : Tg → Option va_E) (ζ4 : St) (x2 : Int), k < first σ f + many σ f + 1 → SmM w (w.1, V2) → HasM (xG X) (w.1, V2) σ ζ4 → ZK ζ ζ4 → (x2 = 0 ∨ x2 = 1) → (x2 = 1 ↔ mnN (spare σ) (first σ f) (k + 1 - first σ f).toNat < 0) → WG X 122 [some (.ref (w.1 (20, 0))), some (vI f), some (vI s), none, some (vI y), some (vI k)] [vI x2] (w.1, V2) 0 0 := by
          intro V2 ζ4 x2 hkF hS2 hM hZ2 hx21 hx2
          have hbc := hM.bc
          have hfc0 := hM.fc
          have L143 : ∀ (V3 : Tg → Option va_E) (ζ3 : St) (y2 : Int), SmM w (w.1, V3) → HasM (xG X) (w.1, V3) σ ζ3 → ZK ζ ζ3 → (y2 = 0 ∨ y2 = 1) → (y2 = 1 ↔ 1 < mxN (missing σ) (first σ f) (k + 1 - first σ f).toNat) → WG X 143 [some (.ref (w.1 (20, 0))), some (vI f), some (vI s), some (vI x2), none, some (vI k)] [vI y2] (w.1, V3) 0 0 := by
            intro V3 ζ3 y2 hS3 hM hZ3 hy21 hy2
            refine wg_istore_4 (pc := 143) C dX2_reason_143 rfl ?_
            refine wg_iinc_5 (pc := 145) C dX2_reason_145 rfl ?_
            refine wg_goto (tgt := 86) (pc := 148) C dX2_reason_148 (by decide) ?_
            exact IH2 _ (by omega) V3 ζ3 (k + 1) x2 y2 rfl hS3 hM hZ3 (by omega) (by omega) hx21 hy21 hx2 hy2
          refine wg_istore_3 (pc := 122) C dX2_reason_122 rfl ?_
          refine wg_iload_4 (pc := 123) C dX2_reason_123 ?_
          refine wg_if_ne (tgt := 138) (pc := 125) C dX2_reason_125 (by decide) (by unfold InR; omega) (fun h125 => ?_) (fun h125 => ?_)
          · refine wg_iconst (pc := 138) C dX2_reason_138 ?_
            refine wg_goto (tgt := 143) (pc := 139) C dX2_reason_139 (by decide) ?_
            refine WG.mask [true, true, true, true, false, true] rfl ?_
            refine L143 _ _ _ hS2 hM hZ2 (by omega) ?_
            rw [mxN_s (missing σ) hk0 rfl]
            split <;> omega
          · have hmr := missing_rng σ k
            refine wg_aload_0 (pc := 128) C dX2_reason_128 ?_
            refine wg_iload_5 (pc := 129) C dX2_reason_129 ?_
            refine wg_callV (pc := 131) C (k' := 0) (n' := 0) kX2_missingOf q1351 (tX2_missingOf hM hO (by omega) (by omega)) (rc_of C hM.obj rfl) dX2_reason_131 rfl rfl (Nat.le_of_ble_eq_true rfl) rfl (by decide) (by omega) (by omega) (fun v131 w131 h131 => ?_)
            obtain ⟨e131, s131, ζ131, hM131, hz131⟩ := h131
            subst e131
            obtain ⟨A131, V131⟩ := w131
            have a131 : A131 = w.1 := s131.1
            subst a131
            have hM := hM131
            have hbc := hM.bc
            have hfc0 := hM.fc
            refine wg_iconst (pc := 134) C dX2_reason_134 ?_
            refine wg_icmp_le (tgt := 142) (pc := 135) C dX2_reason_135 (by decide) (by unfold InR; omega) (by unfold InR; omega) (fun h135 => ?_) (fun h135 => ?_)
            · refine wg_iconst (pc := 142) C dX2_reason_142 ?_
              refine WG.mask [true, true, true, true, false, true] rfl ?_
              refine L143 _ _ _ (hS2.tr s131) hM (hZ2.tr hz131) (by omega) ?_
              rw [mxN_s (missing σ) hk0 rfl]
              split <;> omega
            · refine wg_iconst (pc := 138) C dX2_reason_138 ?_
              refine wg_goto (tgt := 143) (pc := 139) C dX2_reason_139 (by decide) ?_
              refine WG.mask [true, true, true, true, false, true] rfl ?_
              refine L143 _ _ _ (hS2.tr s131) hM (hZ2.tr hz131) (by omega) ?_
              rw [mxN_s (missing σ) hk0 rfl]
              split <;> omega
        refine wg_iload_5 (pc := 86) C dX2_reason_86 ?_
        refine wg_aload_0 (pc := 88) C dX2_reason_88 ?_
        refine wg_iload_1 (pc := 89) C dX2_reason_89 ?_
        refine wg_callVP (pc := 90) C kX2_endOf q1289 (tX2_endOf hM hO (by omega) (by omega)) (rc_of C hM.obj rfl) dX2_reason_90 rfl rfl (Nat.le_of_ble_eq_true rfl) rfl (by decide) (fun f90 => ?_)
        refine wg_icmp_gt (tgt := 151) (pc := 93) C dX2_reason_93 (by decide) (by unfold InR; omega) (by unfold InR; omega) (fun h93 => ?_) (fun h93 => ?_)
        · refine wg_iload_2 (pc := 151) C dX2_reason_151 ?_
          refine wg_if_ne (tgt := 159) (pc := 152) C dX2_reason_152 (by decide) (by unfold InR; omega) (fun h152 => ?_) (fun h152 => ?_)
          · refine wg_iload_3 (pc := 159) C dX2_reason_159 ?_
            refine wg_if_eq (tgt := 167) (pc := 160) C dX2_reason_160 (by decide) (by unfold InR; omega) (fun h160 => ?_) (fun h160 => ?_)
            · refine wg_iload_4 (pc := 167) C dX2_reason_167 ?_
              refine wg_if_eq (tgt := 176) (pc := 169) C dX2_reason_169 (by decide) (by unfold InR; omega) (fun h169 => ?_) (fun h169 => ?_)
              · refine wg_iconst (pc := 176) C dX2_reason_176 ?_
                refine wg_iret (pc := 177) C hQ dX2_reason_177 ?_
                have e : k = first σ f + many σ f + 1 := by omega
                subst e
                rw [show (first σ f + many σ f + 1 - first σ f).toNat = (many σ f + 1).toNat by omega] at hx hy
                refine ⟨vI_c ?_, hS, ζ2, hM, hZ⟩
                unfold rsn
                (repeat' split) <;> omega
              · refine wg_iconst (pc := 172) C dX2_reason_172 ?_
                refine wg_goto (tgt := 177) (pc := 173) C dX2_reason_173 (by decide) ?_
                refine wg_iret (pc := 177) C hQ dX2_reason_177 ?_
                have e : k = first σ f + many σ f + 1 := by omega
                subst e
                rw [show (first σ f + many σ f + 1 - first σ f).toNat = (many σ f + 1).toNat by omega] at hx hy
                refine ⟨vI_c ?_, hS, ζ2, hM, hZ⟩
                unfold rsn
                (repeat' split) <;> omega
            · refine wg_iconst (pc := 163) C dX2_reason_163 ?_
              refine wg_goto (tgt := 177) (pc := 164) C dX2_reason_164 (by decide) ?_
              refine wg_iret (pc := 177) C hQ dX2_reason_177 ?_
              have e : k = first σ f + many σ f + 1 := by omega
              subst e
              rw [show (first σ f + many σ f + 1 - first σ f).toNat = (many σ f + 1).toNat by omega] at hx hy
              refine ⟨vI_c ?_, hS, ζ2, hM, hZ⟩
              unfold rsn
              (repeat' split) <;> omega
          · refine wg_iconst (pc := 155) C dX2_reason_155 ?_
            refine wg_goto (tgt := 177) (pc := 156) C dX2_reason_156 (by decide) ?_
            refine wg_iret (pc := 177) C hQ dX2_reason_177 ?_
            have e : k = first σ f + many σ f + 1 := by omega
            subst e
            rw [show (first σ f + many σ f + 1 - first σ f).toNat = (many σ f + 1).toNat by omega] at hx hy
            refine ⟨vI_c ?_, hS, ζ2, hM, hZ⟩
            unfold rsn
            (repeat' split) <;> omega
        · refine wg_iload_3 (pc := 96) C dX2_reason_96 ?_
          refine wg_if_ne (tgt := 117) (pc := 97) C dX2_reason_97 (by decide) (by unfold InR; omega) (fun h97 => ?_) (fun h97 => ?_)
          · refine wg_iconst (pc := 117) C dX2_reason_117 ?_
            refine wg_goto (tgt := 122) (pc := 118) C dX2_reason_118 (by decide) ?_
            refine WG.mask [true, true, true, false, true, true] rfl ?_
            refine L122 _ _ _ (by omega) hS hM hZ (by omega) ?_
            rw [mnN_s (spare σ) hk0 rfl]
            have hsp : spare σ k = bearsOf σ k - load σ k 0 1 := rfl
            split <;> omega
          · have hld := load_rng hO k (l := 0) (by omega) 1
            have hbr := bearsOf_rng hO k
            refine wg_aload_0 (pc := 100) C dX2_reason_100 ?_
            refine wg_iload_5 (pc := 101) C dX2_reason_101 ?_
            refine wg_iconst (pc := 103) C dX2_reason_103 ?_
            refine wg_iconst (pc := 104) C dX2_reason_104 ?_
            refine wg_callVP (pc := 105) C kX2_loadOf q1359 (tX2_loadOf hM hO (by omega) (by omega) (by omega) (by omega) (by unfold InR; omega)) (rc_of C hM.obj rfl) dX2_reason_105 rfl rfl (Nat.le_of_ble_eq_true rfl) rfl (by decide) (fun f105 => ?_)
            refine wg_aload_0 (pc := 108) C dX2_reason_108 ?_
            refine wg_iload_5 (pc := 109) C dX2_reason_109 ?_
            refine wg_callV (pc := 111) C (k' := 0) (n' := 0) kX2_bearsOf q1381 (tX2_bearsOf hM hO (by omega) (by omega)) (rc_of C hM.obj rfl) dX2_reason_111 rfl rfl (Nat.le_of_ble_eq_true rfl) rfl (by decide) (by omega) (by omega) (fun v111 w111 h111 => ?_)
            obtain ⟨e111, s111, ζ111, hM111, hz111⟩ := h111
            subst e111
            obtain ⟨A111, V111⟩ := w111
            have a111 : A111 = w.1 := s111.1
            subst a111
            have hM := hM111
            have hbc := hM.bc
            have hfc0 := hM.fc
            refine wg_icmp_le (tgt := 121) (pc := 114) C dX2_reason_114 (by decide) (by unfold InR; omega) (by unfold InR; omega) (fun h114 => ?_) (fun h114 => ?_)
            · refine wg_iconst (pc := 121) C dX2_reason_121 ?_
              refine WG.mask [true, true, true, false, true, true] rfl ?_
              refine L122 _ _ _ (by omega) (hS.tr s111) hM (hZ.tr hz111) (by omega) ?_
              rw [mnN_s (spare σ) hk0 rfl]
              have hsp : spare σ k = bearsOf σ k - load σ k 0 1 := rfl
              split <;> omega
            · refine wg_iconst (pc := 117) C dX2_reason_117 ?_
              refine wg_goto (tgt := 122) (pc := 118) C dX2_reason_118 (by decide) ?_
              refine WG.mask [true, true, true, false, true, true] rfl ?_
              refine L122 _ _ _ (by omega) (hS.tr s111) hM (hZ.tr hz111) (by omega) ?_
              rw [mnN_s (spare σ) hk0 rfl]
              have hsp : spare σ k = bearsOf σ k - load σ k 0 1 := rfl
              split <;> omega
      refine wg_istore_4 (pc := 66) C dX2_reason_66 rfl ?_
      refine wg_aload_0 (pc := 68) C dX2_reason_68 ?_
      refine gX2_20 (pc := 69) C hM.obj rfl dX2_reason_69 ?_
      refine wg_iload_1 (pc := 72) C dX2_reason_72 ?_
      refine wg_callFP (pc := 73) C kF_get q1224 (tJ2_get (hM.flA (by omega)) (hM.faA (by omega)) (by omega) (by omega) (by omega) (by omega) (bxs_at (by omega) (by omega))) (rc_of C hM.fl rfl) dX2_reason_73 rfl rfl (Nat.le_of_ble_eq_true rfl) rfl (by decide) (fun f73 => ?_)
      refine wg_castQ (pc := 78) C q1284 (RcG.box (by omega) X rfl C.pm) dX2_reason_78 ?_
      refine wg_callVP (pc := 81) C kJ17_intValue q1285 (tJ17_intValue (by omega) (by omega)) (RcG.box (by omega) X rfl C.pm) dX2_reason_81 rfl rfl (Nat.le_of_ble_eq_true rfl) rfl (by decide) (fun f81 => ?_)
      refine wg_istore_5 (pc := 84) C dX2_reason_84 rfl ?_
      exact L86 _ w.2 ζ _ 0 0 rfl (SmM.rf w) hM (ZK.rf ζ) (by omega) (by omega) (by omega) (by omega) (by rw [show (first σ f - first σ f).toNat = 0 by omega]; exact ⟨fun z => by omega, fun z => absurd z (by show ¬ (0 : Int) < 0; omega)⟩) (by rw [show (first σ f - first σ f).toNat = 0 by omega]; exact ⟨fun z => by omega, fun z => absurd z (by show ¬ (1 : Int) < 0; omega)⟩)
    · refine wg_iload_2 (pc := 28) C dX2_reason_28 ?_
      refine wg_if_ne (tgt := 51) (pc := 29) C dX2_reason_29 (by decide) (by unfold InR; omega) (fun h29 => ?_) (fun h29 => ?_)
      · refine wg_iconst (pc := 51) C dX2_reason_51 ?_
        refine wg_goto (tgt := 56) (pc := 52) C dX2_reason_52 (by decide) ?_
        refine WG.mask [true, true, true, true, false, false] rfl ?_
        exact L56 _ (by omega) (by omega) (by omega)
      · have hkF2 : k < first σ f + many σ f := by omega
        refine wg_aload_0 (pc := 32) C dX2_reason_32 ?_
        refine gX2_16 (pc := 33) C hM.obj rfl dX2_reason_33 ?_
        refine wg_iload_3 (pc := 36) C dX2_reason_36 ?_
        refine wg_callFP (pc := 37) C kF_get q1224 (tJ2_get (hM.blA (by omega)) (hM.baA (by omega)) (by omega) (by omega) (by omega) (by omega) (rws_at (by omega) (by omega))) (rc_of C hM.bl rfl) dX2_reason_37 rfl rfl (Nat.le_of_ble_eq_true rfl) rfl (by decide) (fun f37 => ?_)
        refine wg_cast (pc := 42) (ci := 5) C rfl q1184 (rc_of C (hM.bay (by omega) (by omega)) rfl) dX2_reason_42 ?_
        refine gX2_105 (pc := 45) C (hM.bay (by omega) (by omega)) rfl dX2_reason_45 ?_
        refine wg_if_le (tgt := 55) (pc := 48) C dX2_reason_48 (by decide) (by unfold InR; omega) (fun h48 => ?_) (fun h48 => ?_)
        · refine wg_iconst (pc := 55) C dX2_reason_55 ?_
          refine WG.mask [true, true, true, true, false, false] rfl ?_
          exact L56 _ (by omega) (by omega) (by omega)
        · refine wg_iconst (pc := 51) C dX2_reason_51 ?_
          refine wg_goto (tgt := 56) (pc := 52) C dX2_reason_52 (by decide) ?_
          refine WG.mask [true, true, true, true, false, false] rfl ?_
          exact L56 _ (by omega) (by omega) (by omega)
  refine wg_istore_3 (pc := 18) C dX2_reason_18 rfl ?_
  refine WG.mask [true, true, true, true, false, false] rfl ?_
  exact L19 _ _ 0 rfl (by omega) (by omega) (by omega) ⟨fun _ => sm_nil _ (by omega), fun _ => rfl⟩

