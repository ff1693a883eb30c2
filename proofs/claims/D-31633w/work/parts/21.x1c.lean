/-! the class: parts, counts -/
set_option maxRecDepth 100000
set_option maxHeartbeats 4000000
theorem tX1_partsOf {G : Gm} {w : Wo} {σ ζ : St} (hX : HasX G w σ ζ) (hO : Ok σ) (hT : TieOk σ ζ) {f : Int} (hf0 : 0 ≤ f) (hf1 : f < nF σ) {kd : Int} (hk : InR kd) : PCt G mX1_partsOf 7 w [.ref (w.1 (0, 0)), .ref (w.1 (3, f)), vI kd] (vI (prtFace σ f kd)) (0 ≤ prtFace σ f kd ∧ prtFace σ f kd ≤ 1560) := by
  refine ⟨ct_of [some (.ref (w.1 (0, 0))), some (.ref (w.1 (3, f))), some (vI kd), none, none] plX1 rfl (Nat.le_of_ble_eq_true rfl) rfl ?_, prtFace_rng hO hf0 hf1 kd⟩
  intro X hG C hnm hQ
  subst hG
  change CxOk X cX1_partsOf 5 RX1 (some .int) 7 at C
  have hB := hO.hB
  have hF := hO.hF
  have hc := hO.fc hf0 hf1
  unfold InR at hk
  refine wg_iconst (pc := 0) C dX1_partsOf_0 ?_
  refine wg_istore_3 (pc := 1) C dX1_partsOf_1 rfl ?_
  refine wg_aload_1 (pc := 2) C dX1_partsOf_2 ?_
  refine wg_callVP (pc := 3) C kX3_firstOfOwn q618 (tX3_firstOfOwn hX hO (by omega) (by omega)) (rc_of C (hX.face (by omega) (by omega)) rfl) dX1_partsOf_3 rfl rfl (Nat.le_of_ble_eq_true rfl) rfl (by decide) (fun f3 => ?_)
  have L39 : ∀ (N : Nat) (k s : Int), (first σ f + many σ f - k).toNat = N → first σ f ≤ k → k ≤ first σ f + many σ f → s = sm (fun p => prtAt σ p kd) (ownP σ f) (first σ f + many σ f + 1) + sm (fun b => prtBay σ b kd) (first σ f) k → WG X 39 [some (.ref (w.1 (0, 0))), some (.ref (w.1 (3, f))), some (vI kd), some (vI s), some (vI k)] [] w 0 0 := by
    intro N
    induction N using Nat.strongRecOn with | _ N IH => ?_
    intro k s hN hk0 hk1 hs
    refine wg_iload_4 (pc := 39) C dX1_partsOf_39 ?_
    refine wg_aload_1 (pc := 41) C dX1_partsOf_41 ?_
    refine wg_callVP (pc := 42) C kX3_last q622 (tX3_last hX hO (by omega) (by omega)) (rc_of C (hX.face (by omega) (by omega)) rfl) dX1_partsOf_42 rfl rfl (Nat.le_of_ble_eq_true rfl) rfl (by decide) (fun f42 => ?_)
    refine wg_icmp_ge (tgt := 75) (pc := 45) C dX1_partsOf_45 (by decide) (by unfold InR; omega) (by unfold InR; omega) (fun h45 => ?_) (fun h45 => ?_)
    · refine wg_iload_3 (pc := 75) C dX1_partsOf_75 ?_
      refine wg_iret (pc := 76) C hQ dX1_partsOf_76 ?_
      have e : k = first σ f + many σ f := by omega
      exact ⟨vI_c (by rw [hs, e]; rfl), rfl⟩
    · refine wg_iload_3 (pc := 48) C dX1_partsOf_48 ?_
      refine wg_aload_0 (pc := 49) C dX1_partsOf_49 ?_
      refine gX1_33 (pc := 50) C hX.obj rfl dX1_partsOf_50 ?_
      refine wg_iload_4 (pc := 53) C dX1_partsOf_53 ?_
      refine wg_callFP (pc := 55) C kF_get q497 (tJ2_get hX.bl hX.ba (by omega) (by omega) (by omega) (by decide) (rws_at (by omega) (by omega))) (rc_of C hX.bl rfl) dX1_partsOf_55 rfl rfl (Nat.le_of_ble_eq_true rfl) rfl (by decide) (fun f55 => ?_)
      refine wg_cast (pc := 60) (ci := 3) C rfl q515 (rc_of C (hX.bay (by omega) (by omega)) rfl) dX1_partsOf_60 ?_
      refine wg_iload_2 (pc := 63) C dX1_partsOf_63 ?_
      refine wg_callSP (pc := 64) C kX1_partsOf_2 q632 (tX1_partsOf_2 hX hO (by omega) (by omega) (by unfold InR; omega)) dX1_partsOf_64 rfl rfl (Nat.le_of_ble_eq_true rfl) rfl (by decide) (fun f64 => ?_)
      refine wg_iadd (pc := 67) C dX1_partsOf_67 ?_
      refine wg_istore_3 (pc := 68) C dX1_partsOf_68 rfl ?_
      refine wg_iinc_4 (pc := 69) C dX1_partsOf_69 rfl ?_
      refine wg_goto (tgt := 39) (pc := 72) C dX1_partsOf_72 (by decide) ?_
      exact IH _ (by omega) (k + 1) _ rfl (by omega) (by omega) (by rw [sm_succ (fun b => prtBay σ b kd) (by omega), hs, Int.add_assoc])
  have L8 : ∀ (N : Nat) (k s : Int), (first σ f + many σ f + 1 - k).toNat = N → ownP σ f ≤ k → k ≤ first σ f + many σ f + 1 → s = sm (fun p => prtAt σ p kd) (ownP σ f) k → WG X 8 [some (.ref (w.1 (0, 0))), some (.ref (w.1 (3, f))), some (vI kd), some (vI s), some (vI k)] [] w 0 0 := by
    intro N
    induction N using Nat.strongRecOn with | _ N IH => ?_
    intro k s hN hk0 hk1 hs
    refine wg_iload_4 (pc := 8) C dX1_partsOf_8 ?_
    refine wg_aload_1 (pc := 10) C dX1_partsOf_10 ?_
    refine wg_callVP (pc := 11) C kX3_last q622 (tX3_last hX hO (by omega) (by omega)) (rc_of C (hX.face (by omega) (by omega)) rfl) dX1_partsOf_11 rfl rfl (Nat.le_of_ble_eq_true rfl) rfl (by decide) (fun f11 => ?_)
    refine wg_icmp_gt (tgt := 33) (pc := 14) C dX1_partsOf_14 (by decide) (by unfold InR; omega) (by unfold InR; omega) (fun h14 => ?_) (fun h14 => ?_)
    · refine wg_aload_1 (pc := 33) C dX1_partsOf_33 ?_
      refine gX1_158 (pc := 34) C (hX.face (by omega) (by omega)) rfl dX1_partsOf_34 ?_
      refine wg_istore_4 (pc := 37) C dX1_partsOf_37 rfl ?_
      exact L39 _ _ _ rfl (by omega) (by omega) (by rw [sm_nil (fun b => prtBay σ b kd) (by omega), hs, show k = first σ f + many σ f + 1 by omega, Int.add_zero])
    · refine wg_iload_3 (pc := 17) C dX1_partsOf_17 ?_
      refine wg_aload_0 (pc := 18) C dX1_partsOf_18 ?_
      refine wg_iload_4 (pc := 19) C dX1_partsOf_19 ?_
      refine wg_iload_2 (pc := 21) C dX1_partsOf_21 ?_
      refine wg_callVP (pc := 22) C kX1_partsAt q623 (tX1_partsAt hX hO hT (by omega) (by omega) (by unfold InR; omega)) (rc_of C hX.obj rfl) dX1_partsOf_22 rfl rfl (Nat.le_of_ble_eq_true rfl) rfl (by decide) (fun f22 => ?_)
      refine wg_iadd (pc := 25) C dX1_partsOf_25 ?_
      refine wg_istore_3 (pc := 26) C dX1_partsOf_26 rfl ?_
      refine wg_iinc_4 (pc := 27) C dX1_partsOf_27 rfl ?_
      refine wg_goto (tgt := 8) (pc := 30) C dX1_partsOf_30 (by decide) ?_
      exact IH _ (by omega) (k + 1) _ rfl (by omega) (by omega) (by rw [sm_succ _ (by omega), ← hs])
  refine wg_istore_4 (pc := 6) C dX1_partsOf_6 rfl ?_
  exact L8 _ _ 0 rfl (by omega) (by unfold ownP; split <;> omega) (by rw [sm_nil _ (by omega)])

theorem tX1_allParts {G : Gm} {w : Wo} {σ ζ : St} (hX : HasX G w σ ζ) (hO : Ok σ) (hT : TieOk σ ζ) {kd : Int} (hk : InR kd) : PCt G mX1_allParts 8 w [.ref (w.1 (0, 0)), vI kd] (vI (allPrt σ kd)) (0 ≤ allPrt σ kd ∧ allPrt σ kd ≤ 7800) := by
  refine ⟨ct_of [some (.ref (w.1 (0, 0))), some (vI kd), none, none] plX1 rfl (Nat.le_of_ble_eq_true rfl) rfl ?_, allPrt_rng hO kd⟩
  intro X hG C hnm hQ
  subst hG
  change CxOk X cX1_allParts 4 RX1 (some .int) 8 at C
  have hB := hO.hB
  have hF := hO.hF
  unfold InR at hk
  have L4 : ∀ (N : Nat) (k s : Int), (nF σ - k).toNat = N → 0 ≤ k → k ≤ nF σ → s = sm (fun f => prtFace σ f kd) 0 k → WG X 4 [some (.ref (w.1 (0, 0))), some (vI kd), some (vI s), some (vI k)] [] w 0 0 := by
    intro N
    induction N using Nat.strongRecOn with | _ N IH => ?_
    intro k s hN hk0 hk1 hs
    refine wg_iload_3 (pc := 4) C dX1_allParts_4 ?_
    refine wg_aload_0 (pc := 5) C dX1_allParts_5 ?_
    refine gX1_71 (pc := 6) C hX.obj rfl dX1_allParts_6 ?_
    refine wg_callFP (pc := 9) C kF_size q477 (tJ2_size hX.fl) (rc_of C hX.fl rfl) dX1_allParts_9 rfl rfl (Nat.le_of_ble_eq_true rfl) rfl (by decide) (fun f9 => ?_)
    refine wg_icmp_ge (tgt := 44) (pc := 14) C dX1_allParts_14 (by decide) (by unfold InR; omega) (by unfold InR; omega) (fun h14 => ?_) (fun h14 => ?_)
    · refine wg_iload_2 (pc := 44) C dX1_allParts_44 ?_
      refine wg_iret (pc := 45) C hQ dX1_allParts_45 ?_
      have e : k = nF σ := by omega
      exact ⟨vI_c (by rw [hs, e]; rfl), rfl⟩
    · refine wg_iload_2 (pc := 17) C dX1_allParts_17 ?_
      refine wg_aload_0 (pc := 18) C dX1_allParts_18 ?_
      refine wg_aload_0 (pc := 19) C dX1_allParts_19 ?_
      refine gX1_71 (pc := 20) C hX.obj rfl dX1_allParts_20 ?_
      refine wg_iload_3 (pc := 23) C dX1_allParts_23 ?_
      refine wg_callFP (pc := 24) C kF_get q497 (tJ2_get hX.fl hX.fa (by omega) (by omega) (by omega) (by decide) (rws_at (by omega) (by omega))) (rc_of C hX.fl rfl) dX1_allParts_24 rfl rfl (Nat.le_of_ble_eq_true rfl) rfl (by decide) (fun f24 => ?_)
      refine wg_cast (pc := 29) (ci := 2) C rfl q613 (rc_of C (hX.face (by omega) (by omega)) rfl) dX1_allParts_29 ?_
      refine wg_iload_1 (pc := 32) C dX1_allParts_32 ?_
      refine wg_callVP (pc := 33) C kX1_partsOf q614 (tX1_partsOf hX hO hT (by omega) (by omega) (by unfold InR; omega)) (rc_of C hX.obj rfl) dX1_allParts_33 rfl rfl (Nat.le_of_ble_eq_true rfl) rfl (by decide) (fun f33 => ?_)
      refine wg_iadd (pc := 36) C dX1_allParts_36 ?_
      refine wg_istore_2 (pc := 37) C dX1_allParts_37 rfl ?_
      refine wg_iinc_3 (pc := 38) C dX1_allParts_38 rfl ?_
      refine wg_goto (tgt := 4) (pc := 41) C dX1_allParts_41 (by decide) ?_
      exact IH _ (by omega) (k + 1) _ rfl (by omega) (by omega) (by rw [sm_succ _ (by omega), ← hs])
  refine wg_iconst (pc := 0) C dX1_allParts_0 ?_
  refine wg_istore_2 (pc := 1) C dX1_allParts_1 rfl ?_
  refine wg_iconst (pc := 2) C dX1_allParts_2 ?_
  refine wg_istore_3 (pc := 3) C dX1_allParts_3 rfl ?_
  exact L4 _ 0 0 rfl (by omega) (by omega) (by rw [sm_nil _ (by omega)])

theorem tX1_ofBays {G : Gm} {w : Wo} {σ ζ : St} (hX : HasX G w σ ζ) (hO : Ok σ) {wh : Int} (hk : InR wh) : PCt G mX1_ofBays 4 w [.ref (w.1 (0, 0)), vI wh] (vI (ofB σ wh)) (0 ≤ ofB σ wh ∧ ofB σ wh ≤ 115392) := by
  refine ⟨ct_of [some (.ref (w.1 (0, 0))), some (vI wh), none, none, none, none] plX1 rfl (Nat.le_of_ble_eq_true rfl) rfl ?_, ofB_rng hO wh⟩
  intro X hG C hnm hQ
  subst hG
  change CxOk X cX1_ofBays 6 RX1 (some .int) 4 at C
  have hB := hO.hB
  have hF := hO.hF
  unfold InR at hk
  have L4 : ∀ (N : Nat) (k s : Int), (nB σ - k).toNat = N → 0 ≤ k → k ≤ nB σ → s = sm (fun k => cntB σ wh k) 0 k → WG X 4 [some (.ref (w.1 (0, 0))), some (vI wh), some (vI s), some (vI k), none, none] [] w 0 0 := by
    intro N
    induction N using Nat.strongRecOn with | _ N IH => ?_
    intro k s hN hk0 hk1 hs
    refine wg_iload_3 (pc := 4) C dX1_ofBays_4 ?_
    refine wg_aload_0 (pc := 5) C dX1_ofBays_5 ?_
    refine gX1_33 (pc := 6) C hX.obj rfl dX1_ofBays_6 ?_
    refine wg_callFP (pc := 9) C kF_size q477 (tJ2_size hX.bl) (rc_of C hX.bl rfl) dX1_ofBays_9 rfl rfl (Nat.le_of_ble_eq_true rfl) rfl (by decide) (fun f9 => ?_)
    refine wg_icmp_ge (tgt := 101) (pc := 14) C dX1_ofBays_14 (by decide) (by unfold InR; omega) (by unfold InR; omega) (fun h14 => ?_) (fun h14 => ?_)
    · refine wg_iload_2 (pc := 101) C dX1_ofBays_101 ?_
      refine wg_iret (pc := 102) C hQ dX1_ofBays_102 ?_
      have e : k = nB σ := by omega
      exact ⟨vI_c (by rw [hs, e]; rfl), rfl⟩
    · refine wg_aload_0 (pc := 17) C dX1_ofBays_17 ?_
      refine gX1_33 (pc := 18) C hX.obj rfl dX1_ofBays_18 ?_
      refine wg_iload_3 (pc := 21) C dX1_ofBays_21 ?_
      refine wg_callFP (pc := 22) C kF_get q497 (tJ2_get hX.bl hX.ba (by omega) (by omega) (by omega) (by decide) (rws_at (by omega) (by omega))) (rc_of C hX.bl rfl) dX1_ofBays_22 rfl rfl (Nat.le_of_ble_eq_true rfl) rfl (by decide) (fun f22 => ?_)
      refine wg_cast (pc := 27) (ci := 3) C rfl q515 (rc_of C (hX.bay (by omega) (by omega)) rfl) dX1_ofBays_27 ?_
      have L65 : ∀ (N : Nat) (j t : Int), (8 - j).toNat = N → 0 ≤ j → j ≤ 8 → (wh ≠ 8 → j = 0) → t = s + (if wh = 3 then lft σ k else if wh = 4 then bdN σ k else 0) + sm (fun l => σ 7 k l) 0 j → WG X 65 [some (.ref (w.1 (0, 0))), some (vI wh), some (vI t), some (vI k), some (.ref (w.1 (6, k))), some (vI j)] [] w 0 0 := by
        intro N
        induction N using Nat.strongRecOn with | _ N IH2 => ?_
        intro j t hN2 hj0 hj1 hj8 ht
        refine wg_iload_5 (pc := 65) C dX1_ofBays_65 ?_
        refine wg_bipush (pc := 67) C dX1_ofBays_67 (by decide) ?_
        refine wg_icmp_ge (tgt := 95) (pc := 69) C dX1_ofBays_69 (by decide) (by unfold InR; omega) (by unfold InR; omega) (fun h69 => ?_) (fun h69 => ?_)
        · have e95 : t = s + cntB σ wh k := by
            unfold cntB
            rw [ht, Int.add_assoc]
            congr 2
            by_cases h8 : wh = 8
            · rw [if_pos h8, show j = 8 by omega]
            · rw [if_neg h8, sm_nil _ (by omega)]
          refine wg_iinc_3 (pc := 95) C dX1_ofBays_95 rfl ?_
          refine wg_goto (tgt := 4) (pc := 98) C dX1_ofBays_98 (by decide) ?_
          refine WG.mask [true, true, true, true, false, false] rfl ?_
          exact IH _ (by omega) (k + 1) _ rfl (by omega) (by omega) (by rw [sm_succ _ (by omega), ← hs]; exact e95)
        · refine wg_iload_1 (pc := 72) C dX1_ofBays_72 ?_
          refine wg_bipush (pc := 73) C dX1_ofBays_73 (by decide) ?_
          refine wg_icmp_ne (tgt := 95) (pc := 75) C dX1_ofBays_75 (by decide) (by unfold InR; omega) (by unfold InR; omega) (fun h75 => ?_) (fun h75 => ?_)
          · have e95 : t = s + cntB σ wh k := by
              unfold cntB
              rw [ht, Int.add_assoc]
              congr 2
              by_cases h8 : wh = 8
              · rw [if_pos h8, show j = 8 by omega]
              · rw [if_neg h8, sm_nil _ (by omega)]
            refine wg_iinc_3 (pc := 95) C dX1_ofBays_95 rfl ?_
            refine wg_goto (tgt := 4) (pc := 98) C dX1_ofBays_98 (by decide) ?_
            refine WG.mask [true, true, true, true, false, false] rfl ?_
            exact IH _ (by omega) (k + 1) _ rfl (by omega) (by omega) (by rw [sm_succ _ (by omega), ← hs]; exact e95)
          · refine wg_iload_2 (pc := 78) C dX1_ofBays_78 ?_
            refine wg_aload_4 (pc := 79) C dX1_ofBays_79 ?_
            refine gX1_224 (pc := 81) C (hX.bay (by omega) (by omega)) rfl dX1_ofBays_81 ?_
            refine wg_iload_5 (pc := 84) C dX1_ofBays_84 ?_
            refine wg_iald (pc := 86) C (hX.la (by omega) (by omega)) rfl (by omega) (by omega) (by decide) dX1_ofBays_86 ?_
            refine wg_iadd (pc := 87) C dX1_ofBays_87 ?_
            refine wg_istore_2 (pc := 88) C dX1_ofBays_88 rfl ?_
            refine wg_iinc_5 (pc := 89) C dX1_ofBays_89 rfl ?_
            refine wg_goto (tgt := 65) (pc := 92) C dX1_ofBays_92 (by decide) ?_
            exact IH2 _ (by omega) (j + 1) _ rfl (by omega) (by omega) (by omega) (by rw [sm_succ _ (by omega), ht, Int.add_assoc])
      refine wg_astore_4 (pc := 30) C dX1_ofBays_30 rfl ?_
      refine wg_iload_2 (pc := 32) C dX1_ofBays_32 ?_
      refine wg_iload_1 (pc := 33) C dX1_ofBays_33 ?_
      refine wg_iconst (pc := 34) C dX1_ofBays_34 ?_
      refine wg_icmp_ne (tgt := 46) (pc := 35) C dX1_ofBays_35 (by decide) (by unfold InR; omega) (by unfold InR; omega) (fun h35 => ?_) (fun h35 => ?_)
      · refine wg_iload_1 (pc := 46) C dX1_ofBays_46 ?_
        refine wg_iconst (pc := 47) C dX1_ofBays_47 ?_
        refine wg_icmp_ne (tgt := 59) (pc := 48) C dX1_ofBays_48 (by decide) (by unfold InR; omega) (by unfold InR; omega) (fun h48 => ?_) (fun h48 => ?_)
        · refine wg_iconst (pc := 59) C dX1_ofBays_59 ?_
          refine wg_iadd (pc := 60) C dX1_ofBays_60 ?_
          refine wg_istore_2 (pc := 61) C dX1_ofBays_61 rfl ?_
          refine wg_iconst (pc := 62) C dX1_ofBays_62 ?_
          refine wg_istore_5 (pc := 63) C dX1_ofBays_63 rfl ?_
          exact L65 _ 0 _ rfl (by omega) (by omega) (by omega) (by rw [sm_nil _ (by omega)]; (first | rw [if_pos h35] | rw [if_neg h35, if_pos h48] | rw [if_neg h35, if_neg h48]) <;> omega)
        · refine wg_aload_4 (pc := 51) C dX1_ofBays_51 ?_
          refine wg_callVP (pc := 53) C kX4_boarded q635 (tX4_boarded hX hO (by omega) (by omega)) (rc_of C (hX.bay (by omega) (by omega)) rfl) dX1_ofBays_53 rfl rfl (Nat.le_of_ble_eq_true rfl) rfl (by decide) (fun f53 => ?_)
          refine wg_goto (tgt := 60) (pc := 56) C dX1_ofBays_56 (by decide) ?_
          refine wg_iadd (pc := 60) C dX1_ofBays_60 ?_
          refine wg_istore_2 (pc := 61) C dX1_ofBays_61 rfl ?_
          refine wg_iconst (pc := 62) C dX1_ofBays_62 ?_
          refine wg_istore_5 (pc := 63) C dX1_ofBays_63 rfl ?_
          exact L65 _ 0 _ rfl (by omega) (by omega) (by omega) (by rw [sm_nil _ (by omega)]; (first | rw [if_pos h35] | rw [if_neg h35, if_pos h48] | rw [if_neg h35, if_neg h48]) <;> omega)
      · refine wg_aload_4 (pc := 38) C dX1_ofBays_38 ?_
        refine gX1_50 (pc := 40) C (hX.bay (by omega) (by omega)) rfl dX1_ofBays_40 ?_
        refine wg_goto (tgt := 60) (pc := 43) C dX1_ofBays_43 (by decide) ?_
        refine wg_iadd (pc := 60) C dX1_ofBays_60 ?_
        refine wg_istore_2 (pc := 61) C dX1_ofBays_61 rfl ?_
        refine wg_iconst (pc := 62) C dX1_ofBays_62 ?_
        refine wg_istore_5 (pc := 63) C dX1_ofBays_63 rfl ?_
        exact L65 _ 0 _ rfl (by omega) (by omega) (by omega) (by rw [sm_nil _ (by omega)]; (first | rw [if_pos h35] | rw [if_neg h35, if_pos h48] | rw [if_neg h35, if_neg h48]) <;> omega)
  refine wg_iconst (pc := 0) C dX1_ofBays_0 ?_
  refine wg_istore_2 (pc := 1) C dX1_ofBays_1 rfl ?_
  refine wg_iconst (pc := 2) C dX1_ofBays_2 ?_
  refine wg_istore_3 (pc := 3) C dX1_ofBays_3 rfl ?_
  refine WG.mask [true, true, true, true, false, false] rfl ?_
  exact L4 _ 0 0 rfl (by omega) (by omega) (by rw [sm_nil _ (by omega)])

theorem tX1_ofPositions {G : Gm} {w : Wo} {σ ζ : St} (hX : HasX G w σ ζ) (hO : Ok σ) (hT : TieOk σ ζ) {wh : Int} (hk : InR wh) : PCt G mX1_ofPositions 9 w [.ref (w.1 (0, 0)), vI wh] (vI (ofP σ wh)) (0 ≤ ofP σ wh ∧ ofP σ wh ≤ 400) := by
  refine ⟨ct_of [some (.ref (w.1 (0, 0))), some (vI wh), none, none, none] plX1 rfl (Nat.le_of_ble_eq_true rfl) rfl ?_, ofP_rng hO wh⟩
  intro X hG C hnm hQ
  subst hG
  change CxOk X cX1_ofPositions 5 RX1 (some .int) 9 at C
  have hB := hO.hB
  have hF := hO.hF
  have hps := pos_rng hO
  unfold InR at hk
  have L4 : ∀ (N : Nat) (k s : Int), (pos σ - k).toNat = N → 0 ≤ k → k ≤ pos σ → s = sm (fun p => cntP σ wh p) 0 k → WG X 4 [some (.ref (w.1 (0, 0))), some (vI wh), some (vI s), some (vI k), none] [] w 0 0 := by
    intro N
    induction N using Nat.strongRecOn with | _ N IH => ?_
    intro k s hN hk0 hk1 hs
    refine wg_iload_3 (pc := 4) C dX1_ofPositions_4 ?_
    refine wg_aload_0 (pc := 5) C dX1_ofPositions_5 ?_
    refine wg_callVP (pc := 6) C kX1_positions q462 (tX1_positions hX hO) (rc_of C hX.obj rfl) dX1_ofPositions_6 rfl rfl (Nat.le_of_ble_eq_true rfl) rfl (by decide) (fun f6 => ?_)
    refine wg_icmp_ge (tgt := 77) (pc := 9) C dX1_ofPositions_9 (by decide) (by unfold InR; omega) (by unfold InR; omega) (fun h9 => ?_) (fun h9 => ?_)
    · refine wg_iload_2 (pc := 77) C dX1_ofPositions_77 ?_
      refine wg_iret (pc := 78) C hQ dX1_ofPositions_78 ?_
      have e : k = pos σ := by omega
      exact ⟨vI_c (by rw [hs, e]; rfl), rfl⟩
    · have L33 : ∀ (N : Nat) (j t : Int), (8 - j).toNat = N → 0 ≤ j → j ≤ 8 → (wh ≠ 5 → j = 0) → t = s + (if wh = 6 then missing σ k else 0) + sm (fun l => if σ 8 l k = 0 then 0 else 1) 0 j → WG X 33 [some (.ref (w.1 (0, 0))), some (vI wh), some (vI t), some (vI k), some (vI j)] [] w 0 0 := by
        intro N
        induction N using Nat.strongRecOn with | _ N IH2 => ?_
        intro j t hN2 hj0 hj1 hj8 ht
        have hop := hO.op j k
        refine wg_iload_4 (pc := 33) C dX1_ofPositions_33 ?_
        refine wg_bipush (pc := 35) C dX1_ofPositions_35 (by decide) ?_
        refine wg_icmp_ge (tgt := 71) (pc := 37) C dX1_ofPositions_37 (by decide) (by unfold InR; omega) (by unfold InR; omega) (fun h37 => ?_) (fun h37 => ?_)
        · have e71 : t = s + cntP σ wh k := by
            unfold cntP
            rw [ht, Int.add_assoc]
            congr 2
            by_cases h8 : wh = 5
            · rw [if_pos h8, show j = 8 by omega]
            · rw [if_neg h8, sm_nil _ (by omega)]
          refine wg_iinc_3 (pc := 71) C dX1_ofPositions_71 rfl ?_
          refine wg_goto (tgt := 4) (pc := 74) C dX1_ofPositions_74 (by decide) ?_
          refine WG.mask [true, true, true, true, false] rfl ?_
          exact IH _ (by omega) (k + 1) _ rfl (by omega) (by omega) (by rw [sm_succ _ (by omega), ← hs]; exact e71)
        · refine wg_iload_1 (pc := 40) C dX1_ofPositions_40 ?_
          refine wg_iconst (pc := 41) C dX1_ofPositions_41 ?_
          refine wg_icmp_ne (tgt := 71) (pc := 42) C dX1_ofPositions_42 (by decide) (by unfold InR; omega) (by unfold InR; omega) (fun h42 => ?_) (fun h42 => ?_)
          · have e71 : t = s + cntP σ wh k := by
              unfold cntP
              rw [ht, Int.add_assoc]
              congr 2
              by_cases h8 : wh = 5
              · rw [if_pos h8, show j = 8 by omega]
              · rw [if_neg h8, sm_nil _ (by omega)]
            refine wg_iinc_3 (pc := 71) C dX1_ofPositions_71 rfl ?_
            refine wg_goto (tgt := 4) (pc := 74) C dX1_ofPositions_74 (by decide) ?_
            refine WG.mask [true, true, true, true, false] rfl ?_
            exact IH _ (by omega) (k + 1) _ rfl (by omega) (by omega) (by rw [sm_succ _ (by omega), ← hs]; exact e71)
          · refine wg_iload_2 (pc := 45) C dX1_ofPositions_45 ?_
            refine wg_aload_0 (pc := 46) C dX1_ofPositions_46 ?_
            refine gX1_102 (pc := 47) C hX.obj rfl dX1_ofPositions_47 ?_
            refine wg_iload_4 (pc := 50) C dX1_ofPositions_50 ?_
            refine wg_aald (pc := 52) C rfl rfl hX.oo rfl (by omega) (by omega) (by decide) (rws_at (by omega) (by omega)) dX1_ofPositions_52 ?_
            refine wg_iload_3 (pc := 53) C dX1_ofPositions_53 ?_
            refine wg_zald (pc := 54) C (hX.op (by omega) (by omega)) rfl (by omega) (by omega) (by decide) dX1_ofPositions_54 ?_
            refine wg_if_eq (tgt := 62) (pc := 55) C dX1_ofPositions_55 (by decide) (by unfold InR; omega) (fun h55 => ?_) (fun h55 => ?_)
            · refine wg_iconst (pc := 62) C dX1_ofPositions_62 ?_
              refine wg_iadd (pc := 63) C dX1_ofPositions_63 ?_
              refine wg_istore_2 (pc := 64) C dX1_ofPositions_64 rfl ?_
              refine wg_iinc_4 (pc := 65) C dX1_ofPositions_65 rfl ?_
              refine wg_goto (tgt := 33) (pc := 68) C dX1_ofPositions_68 (by decide) ?_
              exact IH2 _ (by omega) (j + 1) _ rfl (by omega) (by omega) (by omega) (by rw [sm_succ _ (by omega), ht, Int.add_assoc]; first | rw [if_pos h55] | rw [if_neg h55])
            · refine wg_iconst (pc := 58) C dX1_ofPositions_58 ?_
              refine wg_goto (tgt := 63) (pc := 59) C dX1_ofPositions_59 (by decide) ?_
              refine wg_iadd (pc := 63) C dX1_ofPositions_63 ?_
              refine wg_istore_2 (pc := 64) C dX1_ofPositions_64 rfl ?_
              refine wg_iinc_4 (pc := 65) C dX1_ofPositions_65 rfl ?_
              refine wg_goto (tgt := 33) (pc := 68) C dX1_ofPositions_68 (by decide) ?_
              exact IH2 _ (by omega) (j + 1) _ rfl (by omega) (by omega) (by omega) (by rw [sm_succ _ (by omega), ht, Int.add_assoc]; first | rw [if_pos h55] | rw [if_neg h55])
      refine wg_iload_2 (pc := 12) C dX1_ofPositions_12 ?_
      refine wg_iload_1 (pc := 13) C dX1_ofPositions_13 ?_
      refine wg_bipush (pc := 14) C dX1_ofPositions_14 (by decide) ?_
      refine wg_icmp_ne (tgt := 27) (pc := 16) C dX1_ofPositions_16 (by decide) (by unfold InR; omega) (by unfold InR; omega) (fun h16 => ?_) (fun h16 => ?_)
      · refine wg_iconst (pc := 27) C dX1_ofPositions_27 ?_
        refine wg_iadd (pc := 28) C dX1_ofPositions_28 ?_
        refine wg_istore_2 (pc := 29) C dX1_ofPositions_29 rfl ?_
        refine wg_iconst (pc := 30) C dX1_ofPositions_30 ?_
        refine wg_istore_4 (pc := 31) C dX1_ofPositions_31 rfl ?_
        exact L33 _ 0 _ rfl (by omega) (by omega) (by omega) (by rw [sm_nil _ (by omega)]; (first | rw [if_pos h16] | rw [if_neg h16]) <;> omega)
      · refine wg_aload_0 (pc := 19) C dX1_ofPositions_19 ?_
        refine wg_iload_3 (pc := 20) C dX1_ofPositions_20 ?_
        refine wg_callVP (pc := 21) C kX1_missingOf q670 (tX1_missingOf hX hO hT (by omega) (by omega)) (rc_of C hX.obj rfl) dX1_ofPositions_21 rfl rfl (Nat.le_of_ble_eq_true rfl) rfl (by decide) (fun f21 => ?_)
        refine wg_goto (tgt := 28) (pc := 24) C dX1_ofPositions_24 (by decide) ?_
        refine wg_iadd (pc := 28) C dX1_ofPositions_28 ?_
        refine wg_istore_2 (pc := 29) C dX1_ofPositions_29 rfl ?_
        refine wg_iconst (pc := 30) C dX1_ofPositions_30 ?_
        refine wg_istore_4 (pc := 31) C dX1_ofPositions_31 rfl ?_
        exact L33 _ 0 _ rfl (by omega) (by omega) (by omega) (by rw [sm_nil _ (by omega)]; (first | rw [if_pos h16] | rw [if_neg h16]) <;> omega)
  refine wg_iconst (pc := 0) C dX1_ofPositions_0 ?_
  refine wg_istore_2 (pc := 1) C dX1_ofPositions_1 rfl ?_
  refine wg_iconst (pc := 2) C dX1_ofPositions_2 ?_
  refine wg_istore_3 (pc := 3) C dX1_ofPositions_3 rfl ?_
  refine WG.mask [true, true, true, true, false] rfl ?_
  exact L4 _ 0 0 rfl (by omega) (by omega) (by rw [sm_nil _ (by omega)])

theorem tX1_greenFaces {G : Gm} {w : Wo} {σ ζ : St} (hX : HasX G w σ ζ) (hO : Ok σ) : PCt G mX1_greenFaces 4 w [.ref (w.1 (0, 0))] (vI (grnF σ)) (0 ≤ grnF σ ∧ grnF σ ≤ 5) := by
  refine ⟨ct_of [some (.ref (w.1 (0, 0))), none, none] plX1 rfl (Nat.le_of_ble_eq_true rfl) rfl ?_, grnF_rng hO⟩
  intro X hG C hnm hQ
  subst hG
  change CxOk X cX1_greenFaces 3 RX1 (some .int) 4 at C
  have hB := hO.hB
  have hF := hO.hF
  have L4 : ∀ (N : Nat) (k s : Int), (nF σ - k).toNat = N → 0 ≤ k → k ≤ nF σ → s = sm (fun f => if day σ ≤ grn σ f then 1 else 0) 0 k → WG X 4 [some (.ref (w.1 (0, 0))), some (vI s), some (vI k)] [] w 0 0 := by
    intro N
    induction N using Nat.strongRecOn with | _ N IH => ?_
    intro k s hN hk0 hk1 hs
    refine wg_iload_2 (pc := 4) C dX1_greenFaces_4 ?_
    refine wg_aload_0 (pc := 5) C dX1_greenFaces_5 ?_
    refine gX1_71 (pc := 6) C hX.obj rfl dX1_greenFaces_6 ?_
    refine wg_callFP (pc := 9) C kF_size q477 (tJ2_size hX.fl) (rc_of C hX.fl rfl) dX1_greenFaces_9 rfl rfl (Nat.le_of_ble_eq_true rfl) rfl (by decide) (fun f9 => ?_)
    refine wg_icmp_ge (tgt := 50) (pc := 14) C dX1_greenFaces_14 (by decide) (by unfold InR; omega) (by unfold InR; omega) (fun h14 => ?_) (fun h14 => ?_)
    · refine wg_iload_1 (pc := 50) C dX1_greenFaces_50 ?_
      refine wg_iret (pc := 51) C hQ dX1_greenFaces_51 ?_
      have e : k = nF σ := by omega
      exact ⟨vI_c (by rw [hs, e]; rfl), rfl⟩
    · refine wg_iload_1 (pc := 17) C dX1_greenFaces_17 ?_
      refine wg_aload_0 (pc := 18) C dX1_greenFaces_18 ?_
      refine gX1_71 (pc := 19) C hX.obj rfl dX1_greenFaces_19 ?_
      refine wg_iload_2 (pc := 22) C dX1_greenFaces_22 ?_
      refine wg_callFP (pc := 23) C kF_get q497 (tJ2_get hX.fl hX.fa (by omega) (by omega) (by omega) (by decide) (rws_at (by omega) (by omega))) (rc_of C hX.fl rfl) dX1_greenFaces_23 rfl rfl (Nat.le_of_ble_eq_true rfl) rfl (by decide) (fun f23 => ?_)
      refine wg_cast (pc := 28) (ci := 2) C rfl q613 (rc_of C (hX.face (by omega) (by omega)) rfl) dX1_greenFaces_28 ?_
      refine wg_callVP (pc := 31) C kX3_isGreen q649 (tX3_isGreen hX hO (by omega) (by omega)) (rc_of C (hX.face (by omega) (by omega)) rfl) dX1_greenFaces_31 rfl rfl (Nat.le_of_ble_eq_true rfl) rfl (by decide) (fun f31 => ?_)
      refine wg_ifeqB (tgt := 41) (pc := 34) C dX1_greenFaces_34 (by decide) (fun h34 => ?_) (fun h34 => ?_)
      · refine wg_iconst (pc := 41) C dX1_greenFaces_41 ?_
        refine wg_iadd (pc := 42) C dX1_greenFaces_42 ?_
        refine wg_istore_1 (pc := 43) C dX1_greenFaces_43 rfl ?_
        refine wg_iinc_2 (pc := 44) C dX1_greenFaces_44 rfl ?_
        refine wg_goto (tgt := 4) (pc := 47) C dX1_greenFaces_47 (by decide) ?_
        exact IH _ (by omega) (k + 1) _ rfl (by omega) (by omega) (by rw [sm_succ _ (by omega), ← hs]; first | rw [if_pos h34] | rw [if_neg h34])
      · refine wg_iconst (pc := 37) C dX1_greenFaces_37 ?_
        refine wg_goto (tgt := 42) (pc := 38) C dX1_greenFaces_38 (by decide) ?_
        refine wg_iadd (pc := 42) C dX1_greenFaces_42 ?_
        refine wg_istore_1 (pc := 43) C dX1_greenFaces_43 rfl ?_
        refine wg_iinc_2 (pc := 44) C dX1_greenFaces_44 rfl ?_
        refine wg_goto (tgt := 4) (pc := 47) C dX1_greenFaces_47 (by decide) ?_
        exact IH _ (by omega) (k + 1) _ rfl (by omega) (by omega) (by rw [sm_succ _ (by omega), ← hs]; first | rw [if_pos h34] | rw [if_neg h34])
  refine wg_iconst (pc := 0) C dX1_greenFaces_0 ?_
  refine wg_istore_1 (pc := 1) C dX1_greenFaces_1 rfl ?_
  refine wg_iconst (pc := 2) C dX1_greenFaces_2 ?_
  refine wg_istore_2 (pc := 3) C dX1_greenFaces_3 rfl ?_
  exact L4 _ 0 0 rfl (by omega) (by omega) (by rw [sm_nil _ (by omega)])

theorem tX1_isGreenAt {G : Gm} {w : Wo} {σ ζ : St} (hX : HasX G w σ ζ) (hO : Ok σ) {p : Int} (hp : InR p) : PCt G mX1_isGreenAt 4 w [.ref (w.1 (0, 0)), vI p] (vI (grnAt σ p)) (grnAt σ p = 0 ∨ grnAt σ p = 1) := by
  refine ⟨ct_of [some (.ref (w.1 (0, 0))), some (vI p), none, none] plX1 rfl (Nat.le_of_ble_eq_true rfl) rfl ?_, by unfold grnAt; split <;> omega⟩
  intro X hG C hnm hQ
  subst hG
  change CxOk X cX1_isGreenAt 4 RX1 (some .boolean) 4 at C
  have hB := hO.hB
  have hF := hO.hF
  unfold InR at hp
  have L4 : ∀ (N : Nat) (k s : Int), (nF σ - k).toNat = N → 0 ≤ k → k ≤ nF σ → (s = 0 ∨ s = 1) → s = (if 0 < sm (grnC σ p) 0 k then 1 else 0) → WG X 4 [some (.ref (w.1 (0, 0))), some (vI p), some (vI s), some (vI k)] [] w 0 0 := by
    intro N
    induction N using Nat.strongRecOn with | _ N IH => ?_
    intro k s hN hk0 hk1 hs1 hs
    have hsn := sm_nonneg (f := grnC σ p) (a := 0) (b := k) (fun f _ _ => grnC_rng σ p f)
    refine wg_iload_3 (pc := 4) C dX1_isGreenAt_4 ?_
    refine wg_aload_0 (pc := 5) C dX1_isGreenAt_5 ?_
    refine gX1_71 (pc := 6) C hX.obj rfl dX1_isGreenAt_6 ?_
    refine wg_callFP (pc := 9) C kF_size q477 (tJ2_size hX.fl) (rc_of C hX.fl rfl) dX1_isGreenAt_9 rfl rfl (Nat.le_of_ble_eq_true rfl) rfl (by decide) (fun f9 => ?_)
    refine wg_icmp_ge (tgt := 70) (pc := 14) C dX1_isGreenAt_14 (by decide) (by unfold InR; omega) (by unfold InR; omega) (fun h14 => ?_) (fun h14 => ?_)
    · refine wg_iload_2 (pc := 70) C dX1_isGreenAt_70 ?_
      refine wg_zret (pc := 71) C hQ dX1_isGreenAt_71 (by omega) ?_
      have e : k = nF σ := by omega
      exact ⟨vI_c (by rw [hs, e]; rfl), rfl⟩
    · refine wg_iload_2 (pc := 17) C dX1_isGreenAt_17 ?_
      refine wg_aload_0 (pc := 18) C dX1_isGreenAt_18 ?_
      refine gX1_71 (pc := 19) C hX.obj rfl dX1_isGreenAt_19 ?_
      refine wg_iload_3 (pc := 22) C dX1_isGreenAt_22 ?_
      refine wg_callFP (pc := 23) C kF_get q497 (tJ2_get hX.fl hX.fa (by omega) (by omega) (by omega) (by decide) (rws_at (by omega) (by omega))) (rc_of C hX.fl rfl) dX1_isGreenAt_23 rfl rfl (Nat.le_of_ble_eq_true rfl) rfl (by decide) (fun f23 => ?_)
      refine wg_cast (pc := 28) (ci := 2) C rfl q613 (rc_of C (hX.face (by omega) (by omega)) rfl) dX1_isGreenAt_28 ?_
      refine wg_iload_1 (pc := 31) C dX1_isGreenAt_31 ?_
      refine wg_callVP (pc := 32) C kX3_has q644 (tX3_has hX hO (by omega) (by omega) (by unfold InR; omega)) (rc_of C (hX.face (by omega) (by omega)) rfl) dX1_isGreenAt_32 rfl rfl (Nat.le_of_ble_eq_true rfl) rfl (by decide) (fun f32 => ?_)
      refine wg_ifeqB (tgt := 61) (pc := 35) C dX1_isGreenAt_35 (by decide) (fun h35 => ?_) (fun h35 => ?_)
      · refine wg_iconst (pc := 61) C dX1_isGreenAt_61 ?_
        have e62 : (if 0 < sm (grnC σ p) 0 k + grnC σ p k then (1 : Int) else 0) = (if 0 < sm (grnC σ p) 0 (k + 1) then 1 else 0) := by rw [sm_succ _ hk0]
        have c62 : (grnC σ p k = 1) ∨ (grnC σ p k = 0) := by unfold grnC; split <;> omega
        first | refine wg_ior1 (pc := 62) C dX1_isGreenAt_62 hs1 ?_ | refine wg_ior0 (pc := 62) C dX1_isGreenAt_62 hs1 ?_
        refine wg_istore_2 (pc := 63) C dX1_isGreenAt_63 rfl ?_
        refine wg_iinc_3 (pc := 64) C dX1_isGreenAt_64 rfl ?_
        refine wg_goto (tgt := 4) (pc := 67) C dX1_isGreenAt_67 (by decide) ?_
        exact IH _ (by omega) (k + 1) _ rfl (by omega) (by omega) (by omega) (by rw [← e62]; rw [show grnC σ p k = 0 from if_neg (fun z => by first | exact absurd z.1 (by assumption) | exact absurd z.2 (by assumption)), Int.add_zero]; exact hs)
      · refine wg_aload_0 (pc := 38) C dX1_isGreenAt_38 ?_
        refine gX1_71 (pc := 39) C hX.obj rfl dX1_isGreenAt_39 ?_
        refine wg_iload_3 (pc := 42) C dX1_isGreenAt_42 ?_
        refine wg_callFP (pc := 43) C kF_get q497 (tJ2_get hX.fl hX.fa (by omega) (by omega) (by omega) (by decide) (rws_at (by omega) (by omega))) (rc_of C hX.fl rfl) dX1_isGreenAt_43 rfl rfl (Nat.le_of_ble_eq_true rfl) rfl (by decide) (fun f43 => ?_)
        refine wg_cast (pc := 48) (ci := 2) C rfl q613 (rc_of C (hX.face (by omega) (by omega)) rfl) dX1_isGreenAt_48 ?_
        refine wg_callVP (pc := 51) C kX3_isGreen q649 (tX3_isGreen hX hO (by omega) (by omega)) (rc_of C (hX.face (by omega) (by omega)) rfl) dX1_isGreenAt_51 rfl rfl (Nat.le_of_ble_eq_true rfl) rfl (by decide) (fun f51 => ?_)
        refine wg_ifeqB (tgt := 61) (pc := 54) C dX1_isGreenAt_54 (by decide) (fun h54 => ?_) (fun h54 => ?_)
        · refine wg_iconst (pc := 61) C dX1_isGreenAt_61 ?_
          have e62 : (if 0 < sm (grnC σ p) 0 k + grnC σ p k then (1 : Int) else 0) = (if 0 < sm (grnC σ p) 0 (k + 1) then 1 else 0) := by rw [sm_succ _ hk0]
          have c62 : (grnC σ p k = 1) ∨ (grnC σ p k = 0) := by unfold grnC; split <;> omega
          first | refine wg_ior1 (pc := 62) C dX1_isGreenAt_62 hs1 ?_ | refine wg_ior0 (pc := 62) C dX1_isGreenAt_62 hs1 ?_
          refine wg_istore_2 (pc := 63) C dX1_isGreenAt_63 rfl ?_
          refine wg_iinc_3 (pc := 64) C dX1_isGreenAt_64 rfl ?_
          refine wg_goto (tgt := 4) (pc := 67) C dX1_isGreenAt_67 (by decide) ?_
          exact IH _ (by omega) (k + 1) _ rfl (by omega) (by omega) (by omega) (by rw [← e62]; rw [show grnC σ p k = 0 from if_neg (fun z => by first | exact absurd z.1 (by assumption) | exact absurd z.2 (by assumption)), Int.add_zero]; exact hs)
        · refine wg_iconst (pc := 57) C dX1_isGreenAt_57 ?_
          refine wg_goto (tgt := 62) (pc := 58) C dX1_isGreenAt_58 (by decide) ?_
          have e62 : (if 0 < sm (grnC σ p) 0 k + grnC σ p k then (1 : Int) else 0) = (if 0 < sm (grnC σ p) 0 (k + 1) then 1 else 0) := by rw [sm_succ _ hk0]
          have c62 : (grnC σ p k = 1) ∨ (grnC σ p k = 0) := by unfold grnC; split <;> omega
          first | refine wg_ior1 (pc := 62) C dX1_isGreenAt_62 hs1 ?_ | refine wg_ior0 (pc := 62) C dX1_isGreenAt_62 hs1 ?_
          refine wg_istore_2 (pc := 63) C dX1_isGreenAt_63 rfl ?_
          refine wg_iinc_3 (pc := 64) C dX1_isGreenAt_64 rfl ?_
          refine wg_goto (tgt := 4) (pc := 67) C dX1_isGreenAt_67 (by decide) ?_
          exact IH _ (by omega) (k + 1) _ rfl (by omega) (by omega) (by omega) (by rw [← e62]; rw [show grnC σ p k = 1 from if_pos ⟨h35, h54⟩, if_pos (by omega)])
  refine wg_iconst (pc := 0) C dX1_isGreenAt_0 ?_
  refine wg_istore_2 (pc := 1) C dX1_isGreenAt_1 rfl ?_
  refine wg_iconst (pc := 2) C dX1_isGreenAt_2 ?_
  refine wg_istore_3 (pc := 3) C dX1_isGreenAt_3 rfl ?_
  exact L4 _ 0 0 rfl (by omega) (by omega) (Or.inl rfl) (by rw [sm_nil _ (by omega)]; rfl)

