/-! the reference: public methods that only read (2) -/
set_option maxRecDepth 100000
set_option maxHeartbeats 4000000
theorem tX2_bayAt {G : Gm} {w : Wo} {σ ζ : St} (hM : HasM G w σ ζ) (hO : Ok σ) {b l wh : Int} (hb : InR b) (hl : InR l) (hwh : InR wh) : Ct G mX2_bayAt 4 0 0 w [.ref (w.1 (20, 0)), vI b, vI l, vI wh] (fun v w1 => v = some (vI (if ((0 ≤ b ∧ b < nB σ) ∧ (0 ≤ l ∧ l < 8)) ∧ (0 ≤ wh ∧ wh ≤ 2) ∧ (True) then bayA σ b l wh else 0)) ∧ MP G w w1 σ (thr ((0 ≤ b ∧ b < nB σ) ∧ (0 ≤ l ∧ l < 8)) (0 ≤ wh ∧ wh ≤ 2) (True))) := by
  refine ct_of [some (.ref (w.1 (20, 0))), some (vI b), some (vI l), some (vI wh), none] plX2 rfl (Nat.le_of_ble_eq_true rfl) rfl ?_
  intro X hG C hnm hQ
  subst hG
  change CxOk X cX2_bayAt 5 RX2 (some .int) 4 at C
  have hB := hO.hB
  have hF := hO.hF
  have hbc := hM.bc
  have hfc0 := hM.fc
  have hw2 := hwh
  unfold InR at hw2
  have L21 : WG X 21 [some (.ref (w.1 (20, 0))), some (vI b), some (vI l), some (vI wh), none] [vI (if (0 ≤ b ∧ b < nB σ) ∧ (0 ≤ l ∧ l < 8) then 1 else 0), .ref (w.1 (20, 0))] w 0 0 := by
    refine wg_iload_3 (pc := 21) C dX2_bayAt_21 ?_
    refine wg_iconst (pc := 22) C dX2_bayAt_22 ?_
    refine wg_iconst (pc := 23) C dX2_bayAt_23 ?_
    refine wg_callSP (pc := 24) C kX2_in q1149 (tX2_in (by unfold InR; omega) (by unfold InR; omega) (by unfold InR; omega)) dX2_bayAt_24 rfl rfl (Nat.le_of_ble_eq_true rfl) rfl (by decide) (fun f24 => ?_)
    refine wg_iconst (pc := 27) C dX2_bayAt_27 ?_
    refine wg_callV (pc := 28) C (k' := 0) (n' := 0) kX2_passes q1152 (tX2_passes hM hO (p := (0 ≤ b ∧ b < nB σ) ∧ (0 ≤ l ∧ l < 8)) (q := 0 ≤ wh ∧ wh ≤ 2) (r := True)) (rc_of C hM.obj rfl) dX2_bayAt_28 rfl rfl (Nat.le_of_ble_eq_true rfl) rfl (by decide) (by omega) (by omega) (fun v28 w28 h28 => ?_)
    obtain ⟨e28, s28, h28⟩ := h28
    subst e28
    obtain ⟨A28, V28⟩ := w28
    have a28 : A28 = w.1 := s28.1
    subst a28
    have hM := h28
    have hbc := hM.bc
    have hfc0 := hM.fc
    refine wg_ifneB (tgt := 36) (pc := 31) C dX2_bayAt_31 (by decide) (fun h31 => ?_) (fun h31 => ?_)
    · have hbb := h31.1
      have hbd := hO.bd b l
      refine wg_aload_0 (pc := 36) C dX2_bayAt_36 ?_
      refine gX2_16 (pc := 37) C hM.obj rfl dX2_bayAt_37 ?_
      refine wg_iload_1 (pc := 40) C dX2_bayAt_40 ?_
      refine wg_callFP (pc := 41) C kF_get q1224 (tJ2_get (hM.blA (by omega)) (hM.baA (by omega)) (by omega) (by omega) (by omega) (by omega) (rws_at (by omega) (by omega))) (rc_of C hM.bl rfl) dX2_bayAt_41 rfl rfl (Nat.le_of_ble_eq_true rfl) rfl (by decide) (fun f41 => ?_)
      refine wg_cast (pc := 46) (ci := 5) C rfl q1184 (rc_of C (hM.bay (by omega) (by omega)) rfl) dX2_bayAt_46 ?_
      refine wg_astore_4 (pc := 49) C dX2_bayAt_49 rfl ?_
      refine wg_iload_3 (pc := 51) C dX2_bayAt_51 ?_
      refine wg_if_ne (tgt := 73) (pc := 52) C dX2_bayAt_52 (by decide) (by unfold InR; omega) (fun h52 => ?_) (fun h52 => ?_)
      · refine wg_iload_3 (pc := 73) C dX2_bayAt_73 ?_
        refine wg_iconst (pc := 74) C dX2_bayAt_74 ?_
        refine wg_icmp_ne (tgt := 88) (pc := 75) C dX2_bayAt_75 (by decide) (by unfold InR; omega) (by unfold InR; omega) (fun h75 => ?_) (fun h75 => ?_)
        · refine wg_aload_4 (pc := 88) C dX2_bayAt_88 ?_
          refine gX2_154 (pc := 90) C (hM.bay (by omega) (by omega)) rfl dX2_bayAt_90 ?_
          refine wg_iload_2 (pc := 93) C dX2_bayAt_93 ?_
          refine wg_iald (pc := 94) C (hM.la (by omega) (by omega)) rfl (by omega) (by omega) (by decide) dX2_bayAt_94 ?_
          refine wg_nm (fun y hy => ?_)
          have ey : y = bayA σ b l wh := by rw [hy]; unfold bayA; (repeat' split) <;> omega
          refine wg_iret (pc := 95) C hQ dX2_bayAt_95 ?_
          first
            | exact ⟨by rw [if_pos h31, ey], s28, _, hM, uS_at _ _ _ _ _⟩
            | exact ⟨by rw [if_neg h31], s28, _, hM, uS_at _ _ _ _ _⟩
        · refine wg_aload_4 (pc := 78) C dX2_bayAt_78 ?_
          refine gX2_145 (pc := 80) C (hM.bay (by omega) (by omega)) rfl dX2_bayAt_80 ?_
          refine wg_iload_2 (pc := 83) C dX2_bayAt_83 ?_
          refine wg_iald (pc := 84) C (hM.so (by omega) (by omega)) rfl (by omega) (by omega) (by decide) dX2_bayAt_84 ?_
          refine wg_goto (tgt := 95) (pc := 85) C dX2_bayAt_85 (by decide) ?_
          refine wg_nm (fun y hy => ?_)
          have ey : y = bayA σ b l wh := by rw [hy]; unfold bayA; (repeat' split) <;> omega
          refine wg_iret (pc := 95) C hQ dX2_bayAt_95 ?_
          first
            | exact ⟨by rw [if_pos h31, ey], s28, _, hM, uS_at _ _ _ _ _⟩
            | exact ⟨by rw [if_neg h31], s28, _, hM, uS_at _ _ _ _ _⟩
      · refine wg_aload_4 (pc := 55) C dX2_bayAt_55 ?_
        refine gX2_139 (pc := 57) C (hM.bay (by omega) (by omega)) rfl dX2_bayAt_57 ?_
        refine wg_iload_2 (pc := 60) C dX2_bayAt_60 ?_
        refine wg_zald (pc := 61) C (hM.bd (by omega) (by omega)) rfl (by omega) (by omega) (by decide) dX2_bayAt_61 ?_
        refine wg_if_eq (tgt := 69) (pc := 62) C dX2_bayAt_62 (by decide) (by unfold InR; omega) (fun h62 => ?_) (fun h62 => ?_)
        · refine wg_iconst (pc := 69) C dX2_bayAt_69 ?_
          refine wg_goto (tgt := 95) (pc := 70) C dX2_bayAt_70 (by decide) ?_
          refine wg_nm (fun y hy => ?_)
          have ey : y = bayA σ b l wh := by rw [hy]; unfold bayA; (repeat' split) <;> omega
          refine wg_iret (pc := 95) C hQ dX2_bayAt_95 ?_
          first
            | exact ⟨by rw [if_pos h31, ey], s28, _, hM, uS_at _ _ _ _ _⟩
            | exact ⟨by rw [if_neg h31], s28, _, hM, uS_at _ _ _ _ _⟩
        · refine wg_iconst (pc := 65) C dX2_bayAt_65 ?_
          refine wg_goto (tgt := 95) (pc := 66) C dX2_bayAt_66 (by decide) ?_
          refine wg_nm (fun y hy => ?_)
          have ey : y = bayA σ b l wh := by rw [hy]; unfold bayA; (repeat' split) <;> omega
          refine wg_iret (pc := 95) C hQ dX2_bayAt_95 ?_
          first
            | exact ⟨by rw [if_pos h31, ey], s28, _, hM, uS_at _ _ _ _ _⟩
            | exact ⟨by rw [if_neg h31], s28, _, hM, uS_at _ _ _ _ _⟩
    · refine wg_iconst (pc := 34) C dX2_bayAt_34 ?_
      refine wg_iret (pc := 35) C hQ dX2_bayAt_35 ?_
      first
        | exact ⟨by rw [if_pos h31, ey], s28, _, hM, uS_at _ _ _ _ _⟩
        | exact ⟨by rw [if_neg h31], s28, _, hM, uS_at _ _ _ _ _⟩
  refine wg_aload_0 (pc := 0) C dX2_bayAt_0 ?_
  refine wg_aload_0 (pc := 1) C dX2_bayAt_1 ?_
  refine wg_iload_1 (pc := 2) C dX2_bayAt_2 ?_
  refine wg_callVP (pc := 3) C kX2_isBay q1219 (tX2_isBay hM hO hb) (rc_of C hM.obj rfl) dX2_bayAt_3 rfl rfl (Nat.le_of_ble_eq_true rfl) rfl (by decide) (fun f3 => ?_)
  refine wg_ifeqB (tgt := 20) (pc := 6) C dX2_bayAt_6 (by decide) (fun h6 => ?_) (fun h6 => ?_)
  · refine wg_iconst (pc := 20) C dX2_bayAt_20 ?_
    refine WG.mask [true, true, true, true, false] rfl ?_
    refine WG.at L21 rfl rfl ?_ rfl
    show [vI _, _] = [vI (if (0 ≤ b ∧ b < nB σ) ∧ (0 ≤ l ∧ l < 8) then 1 else 0), _]
    split <;> rename_i hc <;> first | rfl | (exfalso; first | exact hc ⟨h6, h13⟩ | exact h6 hc.1 | exact h13 hc.2)
  · refine wg_iload_2 (pc := 9) C dX2_bayAt_9 ?_
    refine wg_callSP (pc := 10) C kX2_isLevel q1264 (tX2_isLevel hl) dX2_bayAt_10 rfl rfl (Nat.le_of_ble_eq_true rfl) rfl (by decide) (fun f10 => ?_)
    refine wg_ifeqB (tgt := 20) (pc := 13) C dX2_bayAt_13 (by decide) (fun h13 => ?_) (fun h13 => ?_)
    · refine wg_iconst (pc := 20) C dX2_bayAt_20 ?_
      refine WG.mask [true, true, true, true, false] rfl ?_
      refine WG.at L21 rfl rfl ?_ rfl
      show [vI _, _] = [vI (if (0 ≤ b ∧ b < nB σ) ∧ (0 ≤ l ∧ l < 8) then 1 else 0), _]
      split <;> rename_i hc <;> first | rfl | (exfalso; first | exact hc ⟨h6, h13⟩ | exact h6 hc.1 | exact h13 hc.2)
    · refine wg_iconst (pc := 16) C dX2_bayAt_16 ?_
      refine wg_goto (tgt := 21) (pc := 17) C dX2_bayAt_17 (by decide) ?_
      refine WG.mask [true, true, true, true, false] rfl ?_
      refine WG.at L21 rfl rfl ?_ rfl
      show [vI _, _] = [vI (if (0 ≤ b ∧ b < nB σ) ∧ (0 ≤ l ∧ l < 8) then 1 else 0), _]
      split <;> rename_i hc <;> first | rfl | (exfalso; first | exact hc ⟨h6, h13⟩ | exact h6 hc.1 | exact h13 hc.2)

theorem tX2_parts {G : Gm} {w : Wo} {σ ζ : St} (hM : HasM G w σ ζ) (hO : Ok σ) {f kd : Int} (hf : InR f) (hk : InR kd) : Ct G mX2_parts 9 0 0 w [.ref (w.1 (20, 0)), vI f, vI kd] (fun v w1 => v = some (vI (if (f = -1 ∨ (0 ≤ f ∧ f < nF σ)) ∧ (0 ≤ kd ∧ kd ≤ 5) ∧ (True) then prtA σ f kd else 0)) ∧ MP G w w1 σ (thr (f = -1 ∨ (0 ≤ f ∧ f < nF σ)) (0 ≤ kd ∧ kd ≤ 5) (True))) := by
  refine ct_of [some (.ref (w.1 (20, 0))), some (vI f), some (vI kd), none, none] plX2 rfl (Nat.le_of_ble_eq_true rfl) rfl ?_
  intro X hG C hnm hQ
  subst hG
  change CxOk X cX2_parts 5 RX2 (some .int) 9 at C
  have hB := hO.hB
  have hF := hO.hF
  have hbc := hM.bc
  have hfc0 := hM.fc
  have hf2 := hf
  unfold InR at hf2
  have hk2 := hk
  unfold InR at hk2
  have L19 : WG X 19 [some (.ref (w.1 (20, 0))), some (vI f), some (vI kd), none, none] [vI (if f = -1 ∨ (0 ≤ f ∧ f < nF σ) then 1 else 0), .ref (w.1 (20, 0))] w 0 0 := by
    refine wg_iload_2 (pc := 19) C dX2_parts_19 ?_
    refine wg_iconst (pc := 20) C dX2_parts_20 ?_
    refine wg_iconst (pc := 21) C dX2_parts_21 ?_
    refine wg_callSP (pc := 22) C kX2_in q1149 (tX2_in (by unfold InR; omega) (by unfold InR; omega) (by unfold InR; omega)) dX2_parts_22 rfl rfl (Nat.le_of_ble_eq_true rfl) rfl (by decide) (fun f22 => ?_)
    refine wg_iconst (pc := 25) C dX2_parts_25 ?_
    refine wg_callV (pc := 26) C (k' := 0) (n' := 0) kX2_passes q1152 (tX2_passes hM hO (p := f = -1 ∨ (0 ≤ f ∧ f < nF σ)) (q := 0 ≤ kd ∧ kd ≤ 5) (r := True)) (rc_of C hM.obj rfl) dX2_parts_26 rfl rfl (Nat.le_of_ble_eq_true rfl) rfl (by decide) (by omega) (by omega) (fun v26 w26 h26 => ?_)
    obtain ⟨e26, s26, h26⟩ := h26
    subst e26
    obtain ⟨A26, V26⟩ := w26
    have a26 : A26 = w.1 := s26.1
    subst a26
    have hM := h26
    have hbc := hM.bc
    have hfc0 := hM.fc
    refine wg_ifneB (tgt := 34) (pc := 29) C dX2_parts_29 (by decide) (fun h29 => ?_) (fun h29 => ?_)
    · have hbb := h29.1
      refine wg_iconst (pc := 34) C dX2_parts_34 ?_
      refine wg_istore_3 (pc := 35) C dX2_parts_35 rfl ?_
      refine wg_iconst (pc := 36) C dX2_parts_36 ?_
      have L39 : ∀ (N : Nat) (V : Tg → Option va_E) (ζ2 : St) (k s : Int), (nF σ - k).toNat = N → SmM w (w.1, V) → HasM (xG X) (w.1, V) σ ζ2 → ζ2 0 0 0 = thr (f = -1 ∨ (0 ≤ f ∧ f < nF σ)) (0 ≤ kd ∧ kd ≤ 5) True → 0 ≤ k → k ≤ nF σ → s = sm (prtO σ f kd) 0 k → WG X 39 [some (.ref (w.1 (20, 0))), some (vI f), some (vI kd), some (vI s), some (vI k)] [] (w.1, V) 0 0 := by
        intro N
        induction N using Nat.strongRecOn with | _ N IH => ?_
        intro V ζ2 k s hN hS hM hZ hk0 hk1 hs
        have hbc := hM.bc
        have hfc0 := hM.fc
        have L76 : ∀ (V3 : Tg → Option va_E) (ζ3 : St) (q : Int), SmM w (w.1, V3) → HasM (xG X) (w.1, V3) σ ζ3 → ζ3 0 0 0 = thr (f = -1 ∨ (0 ≤ f ∧ f < nF σ)) (0 ≤ kd ∧ kd ≤ 5) True → k < nF σ → q = prtO σ f kd k → WG X 76 [some (.ref (w.1 (20, 0))), some (vI f), some (vI kd), some (vI s), some (vI k)] [vI q, vI s] (w.1, V3) 0 0 := by
          intro V3 ζ3 q hS3 hM hZ3 hkF hq
          have hbc := hM.bc
          have hfc0 := hM.fc
          refine wg_iadd (pc := 76) C dX2_parts_76 ?_
          refine wg_istore_3 (pc := 77) C dX2_parts_77 rfl ?_
          refine wg_iinc_4 (pc := 78) C dX2_parts_78 rfl ?_
          refine wg_goto (tgt := 39) (pc := 81) C dX2_parts_81 (by decide) ?_
          exact IH _ (by omega) V3 ζ3 (k + 1) _ rfl hS3 hM hZ3 (by omega) (by omega) (by rw [sm_succ _ hk0, ← hs, hq])
        refine wg_iload_4 (pc := 39) C dX2_parts_39 ?_
        refine wg_aload_0 (pc := 41) C dX2_parts_41 ?_
        refine gX2_20 (pc := 42) C hM.obj rfl dX2_parts_42 ?_
        refine wg_callFP (pc := 45) C kF_size q1161 (tJ2_size hM.fl) (rc_of C hM.fl rfl) dX2_parts_45 rfl rfl (Nat.le_of_ble_eq_true rfl) rfl (by decide) (fun f45 => ?_)
        refine wg_icmp_ge (tgt := 84) (pc := 50) C dX2_parts_50 (by decide) (by unfold InR; omega) (by unfold InR; omega) (fun h50 => ?_) (fun h50 => ?_)
        · refine wg_iload_3 (pc := 84) C dX2_parts_84 ?_
          refine wg_iret (pc := 85) C hQ dX2_parts_85 ?_
          have e : k = nF σ := by omega
          exact ⟨by rw [if_pos h29]; exact vI_c (by rw [hs, e, prtO_all h29.1]), hS, ζ2, hM, hZ⟩
        · refine wg_iload_3 (pc := 53) C dX2_parts_53 ?_
          refine wg_iload_1 (pc := 54) C dX2_parts_54 ?_
          refine wg_iconst (pc := 55) C dX2_parts_55 ?_
          refine wg_icmp_eq (tgt := 65) (pc := 56) C dX2_parts_56 (by decide) (by unfold InR; omega) (by unfold InR; omega) (fun h56 => ?_) (fun h56 => ?_)
          · refine wg_aload_0 (pc := 65) C dX2_parts_65 ?_
            refine wg_iload_4 (pc := 66) C dX2_parts_66 ?_
            refine wg_iload_2 (pc := 68) C dX2_parts_68 ?_
            refine wg_callV (pc := 69) C (k' := 0) (n' := 0) kX2_partsOf q1405 (tX2_partsOf hM hO (by omega) (by omega) (by unfold InR; omega)) (rc_of C hM.obj rfl) dX2_parts_69 rfl rfl (Nat.le_of_ble_eq_true rfl) rfl (by decide) (by omega) (by omega) (fun v69 w69 h69 => ?_)
            obtain ⟨e69, s69, ζ69, hM69, hz69⟩ := h69
            subst e69
            obtain ⟨A69, V69⟩ := w69
            have a69 : A69 = w.1 := s69.1
            subst a69
            have hM := hM69
            have hbc := hM.bc
            have hfc0 := hM.fc
            refine wg_goto (tgt := 76) (pc := 72) C dX2_parts_72 (by decide) ?_
            exact L76 _ _ _ (hS.tr s69) hM (((ZK.rf ζ2).tr hz69).th.trans hZ) (by omega) (by unfold prtO; first | rw [if_pos (by omega)] | rw [if_neg (by omega)])
          · refine wg_iload_1 (pc := 59) C dX2_parts_59 ?_
            refine wg_iload_4 (pc := 60) C dX2_parts_60 ?_
            refine wg_icmp_ne (tgt := 75) (pc := 62) C dX2_parts_62 (by decide) (by unfold InR; omega) (by unfold InR; omega) (fun h62 => ?_) (fun h62 => ?_)
            · refine wg_iconst (pc := 75) C dX2_parts_75 ?_
              exact L76 _ _ _ hS hM ((ZK.rf ζ2).th.trans hZ) (by omega) (by unfold prtO; first | rw [if_pos (by omega)] | rw [if_neg (by omega)])
            · refine wg_aload_0 (pc := 65) C dX2_parts_65 ?_
              refine wg_iload_4 (pc := 66) C dX2_parts_66 ?_
              refine wg_iload_2 (pc := 68) C dX2_parts_68 ?_
              refine wg_callV (pc := 69) C (k' := 0) (n' := 0) kX2_partsOf q1405 (tX2_partsOf hM hO (by omega) (by omega) (by unfold InR; omega)) (rc_of C hM.obj rfl) dX2_parts_69 rfl rfl (Nat.le_of_ble_eq_true rfl) rfl (by decide) (by omega) (by omega) (fun v69 w69 h69 => ?_)
              obtain ⟨e69, s69, ζ69, hM69, hz69⟩ := h69
              subst e69
              obtain ⟨A69, V69⟩ := w69
              have a69 : A69 = w.1 := s69.1
              subst a69
              have hM := hM69
              have hbc := hM.bc
              have hfc0 := hM.fc
              refine wg_goto (tgt := 76) (pc := 72) C dX2_parts_72 (by decide) ?_
              exact L76 _ _ _ (hS.tr s69) hM (((ZK.rf ζ2).tr hz69).th.trans hZ) (by omega) (by unfold prtO; first | rw [if_pos (by omega)] | rw [if_neg (by omega)])
      refine wg_istore_4 (pc := 37) C dX2_parts_37 rfl ?_
      exact L39 _ V26 _ 0 0 rfl s26 hM (uS_at _ _ _ _ _) (by omega) (by omega) (by rw [sm_nil _ (by omega)])
    · refine wg_iconst (pc := 32) C dX2_parts_32 ?_
      refine wg_iret (pc := 33) C hQ dX2_parts_33 ?_
      exact ⟨by rw [if_neg h29], s26, _, hM, uS_at _ _ _ _ _⟩
  refine wg_aload_0 (pc := 0) C dX2_parts_0 ?_
  refine wg_iload_1 (pc := 1) C dX2_parts_1 ?_
  refine wg_iconst (pc := 2) C dX2_parts_2 ?_
  refine wg_icmp_eq (tgt := 14) (pc := 3) C dX2_parts_3 (by decide) (by unfold InR; omega) (by unfold InR; omega) (fun h3 => ?_) (fun h3 => ?_)
  · refine wg_iconst (pc := 14) C dX2_parts_14 ?_
    refine wg_goto (tgt := 19) (pc := 15) C dX2_parts_15 (by decide) ?_
    refine WG.mask [true, true, true, false, false] rfl ?_
    refine WG.at L19 rfl rfl ?_ rfl
    show [vI _, _] = [vI (if f = -1 ∨ (0 ≤ f ∧ f < nF σ) then 1 else 0), _]
    split <;> rename_i hc <;> first | rfl | (exfalso; omega)
  · refine wg_aload_0 (pc := 6) C dX2_parts_6 ?_
    refine wg_iload_1 (pc := 7) C dX2_parts_7 ?_
    refine wg_callVP (pc := 8) C kX2_isFace q1389 (tX2_isFace hM hO hf) (rc_of C hM.obj rfl) dX2_parts_8 rfl rfl (Nat.le_of_ble_eq_true rfl) rfl (by decide) (fun f8 => ?_)
    refine wg_ifeqB (tgt := 18) (pc := 11) C dX2_parts_11 (by decide) (fun h11 => ?_) (fun h11 => ?_)
    · refine wg_iconst (pc := 18) C dX2_parts_18 ?_
      refine WG.mask [true, true, true, false, false] rfl ?_
      refine WG.at L19 rfl rfl ?_ rfl
      show [vI _, _] = [vI (if f = -1 ∨ (0 ≤ f ∧ f < nF σ) then 1 else 0), _]
      split <;> rename_i hc <;> first | rfl | (exfalso; omega)
    · refine wg_iconst (pc := 14) C dX2_parts_14 ?_
      refine wg_goto (tgt := 19) (pc := 15) C dX2_parts_15 (by decide) ?_
      refine WG.mask [true, true, true, false, false] rfl ?_
      refine WG.at L19 rfl rfl ?_ rfl
      show [vI _, _] = [vI (if f = -1 ∨ (0 ≤ f ∧ f < nF σ) then 1 else 0), _]
      split <;> rename_i hc <;> first | rfl | (exfalso; omega)

theorem tX2_counts {G : Gm} {w : Wo} {σ ζ : St} (hM : HasM G w σ ζ) (hO : Ok σ) {wh : Int} (hwh : InR wh) : Ct G mX2_counts 9 0 0 w [.ref (w.1 (20, 0)), vI wh] (fun v w1 => v = some (vI (if (0 ≤ wh ∧ wh ≤ 8) ∧ (True) ∧ (True) then cntA σ wh else 0)) ∧ MP G w w1 σ (thr (0 ≤ wh ∧ wh ≤ 8) (True) (True))) := by
  refine ct_of [some (.ref (w.1 (20, 0))), some (vI wh)] plX2 rfl (Nat.le_of_ble_eq_true rfl) rfl ?_
  intro X hG C hnm hQ
  subst hG
  change CxOk X cX2_counts 2 RX2 (some .int) 9 at C
  have hB := hO.hB
  have hF := hO.hF
  have hbc := hM.bc
  have hfc0 := hM.fc
  have hps := pos_rng hO
  have hk2 := hwh
  unfold InR at hk2
  refine wg_aload_0 (pc := 0) C dX2_counts_0 ?_
  refine wg_iload_1 (pc := 1) C dX2_counts_1 ?_
  refine wg_iconst (pc := 2) C dX2_counts_2 ?_
  refine wg_bipush (pc := 3) C dX2_counts_3 (by decide) ?_
  refine wg_callSP (pc := 5) C kX2_in q1149 (tX2_in (by unfold InR; omega) (by unfold InR; omega) (by unfold InR; omega)) dX2_counts_5 rfl rfl (Nat.le_of_ble_eq_true rfl) rfl (by decide) (fun f5 => ?_)
  refine wg_iconst (pc := 8) C dX2_counts_8 ?_
  refine wg_iconst (pc := 9) C dX2_counts_9 ?_
  refine wg_callV (pc := 10) C (k' := 0) (n' := 0) kX2_passes q1152 (tX2_passes hM hO (p := 0 ≤ wh ∧ wh ≤ 8) (q := True) (r := True)) (rc_of C hM.obj rfl) dX2_counts_10 rfl rfl (Nat.le_of_ble_eq_true rfl) rfl (by decide) (by omega) (by omega) (fun v10 w10 h10 => ?_)
  obtain ⟨e10, s10, h10⟩ := h10
  subst e10
  obtain ⟨A10, V10⟩ := w10
  have a10 : A10 = w.1 := s10.1
  subst a10
  have hM := h10
  have hbc := hM.bc
  have hfc0 := hM.fc
  refine wg_ifneB (tgt := 18) (pc := 13) C dX2_counts_13 (by decide) (fun h13 => ?_) (fun h13 => ?_)
  · refine wg_iload_1 (pc := 18) C dX2_counts_18 ?_
    have L64 : wh = 0 → WG X 64 [some (.ref (w.1 (20, 0))), some (vI wh)] [] (w.1, V10) 0 0 := by
      intro hc
      refine wg_aload_0 (pc := 64) C dX2_counts_64 ?_
      refine gX2_20 (pc := 65) C hM.obj rfl dX2_counts_65 ?_
      refine wg_callFP (pc := 68) C kF_size q1161 (tJ2_size hM.fl) (rc_of C hM.fl rfl) dX2_counts_68 rfl rfl (Nat.le_of_ble_eq_true rfl) rfl (by decide) (fun f68 => ?_)
      refine wg_iret (pc := 73) C hQ dX2_counts_73 ?_
      exact ⟨by rw [if_pos h13, hc]; rfl, s10, _, hM, uS_at _ _ _ _ _⟩
    have L74 : wh = 1 → WG X 74 [some (.ref (w.1 (20, 0))), some (vI wh)] [] (w.1, V10) 0 0 := by
      intro hc
      refine wg_aload_0 (pc := 74) C dX2_counts_74 ?_
      refine gX2_16 (pc := 75) C hM.obj rfl dX2_counts_75 ?_
      refine wg_callFP (pc := 78) C kF_size q1161 (tJ2_size hM.bl) (rc_of C hM.bl rfl) dX2_counts_78 rfl rfl (Nat.le_of_ble_eq_true rfl) rfl (by decide) (fun f78 => ?_)
      refine wg_iret (pc := 83) C hQ dX2_counts_83 ?_
      exact ⟨by rw [if_pos h13, hc]; rfl, s10, _, hM, uS_at _ _ _ _ _⟩
    have L84 : wh = 2 → WG X 84 [some (.ref (w.1 (20, 0))), some (vI wh)] [] (w.1, V10) 0 0 := by
      intro hc
      refine wg_aload_0 (pc := 84) C dX2_counts_84 ?_
      refine gX2_16 (pc := 85) C hM.obj rfl dX2_counts_85 ?_
      refine wg_callFP (pc := 88) C kF_isEmpty q1234 (tJ2_isEmpty hM.bl (by unfold InR; omega)) (rc_of C hM.bl rfl) dX2_counts_88 rfl rfl (Nat.le_of_ble_eq_true rfl) rfl (by decide) (fun f88 => ?_)
      refine wg_ifeqB (tgt := 100) (pc := 93) C dX2_counts_93 (by decide) (fun h93 => ?_) (fun h93 => ?_)
      · refine wg_aload_0 (pc := 100) C dX2_counts_100 ?_
        refine gX2_16 (pc := 101) C hM.obj rfl dX2_counts_101 ?_
        refine wg_callFP (pc := 104) C kF_size q1161 (tJ2_size hM.bl) (rc_of C hM.bl rfl) dX2_counts_104 rfl rfl (Nat.le_of_ble_eq_true rfl) rfl (by decide) (fun f104 => ?_)
        refine wg_iconst (pc := 109) C dX2_counts_109 ?_
        refine wg_iadd (pc := 110) C dX2_counts_110 ?_
        refine wg_iret (pc := 111) C hQ dX2_counts_111 ?_
        exact ⟨by rw [if_pos h13, hc]; exact vI_c (by show _ = pos σ; omega), s10, _, hM, uS_at _ _ _ _ _⟩
      · refine wg_iconst (pc := 96) C dX2_counts_96 ?_
        refine wg_goto (tgt := 111) (pc := 97) C dX2_counts_97 (by decide) ?_
        refine wg_iret (pc := 111) C hQ dX2_counts_111 ?_
        exact ⟨by rw [if_pos h13, hc]; exact vI_c (by show _ = pos σ; omega), s10, _, hM, uS_at _ _ _ _ _⟩
    have L112 : wh = 3 → WG X 112 [some (.ref (w.1 (20, 0))), some (vI wh)] [] (w.1, V10) 0 0 := by
      intro hc
      refine wg_aload_0 (pc := 112) C dX2_counts_112 ?_
      refine wg_iconst (pc := 113) C dX2_counts_113 ?_
      refine wg_callVP (pc := 114) C kX2_ofLevels q1433 (tX2_ofLevels hM hO (wh := 0) (by unfold InR; omega)) (rc_of C hM.obj rfl) dX2_counts_114 rfl rfl (Nat.le_of_ble_eq_true rfl) rfl (by decide) (fun f114 => ?_)
      refine wg_iret (pc := 117) C hQ dX2_counts_117 ?_
      exact ⟨by rw [if_pos h13, hc, ofL_0 hO]; rfl, s10, _, hM, uS_at _ _ _ _ _⟩
    have L118 : wh = 4 → WG X 118 [some (.ref (w.1 (20, 0))), some (vI wh)] [] (w.1, V10) 0 0 := by
      intro hc
      refine wg_aload_0 (pc := 118) C dX2_counts_118 ?_
      refine wg_iconst (pc := 119) C dX2_counts_119 ?_
      refine wg_callVP (pc := 120) C kX2_ofLevels q1433 (tX2_ofLevels hM hO (wh := 1) (by unfold InR; omega)) (rc_of C hM.obj rfl) dX2_counts_120 rfl rfl (Nat.le_of_ble_eq_true rfl) rfl (by decide) (fun f120 => ?_)
      refine wg_iret (pc := 123) C hQ dX2_counts_123 ?_
      exact ⟨by rw [if_pos h13, hc, ofL_1 hO]; rfl, s10, _, hM, uS_at _ _ _ _ _⟩
    have L124 : wh = 5 → WG X 124 [some (.ref (w.1 (20, 0))), some (vI wh)] [] (w.1, V10) 0 0 := by
      intro hc
      refine wg_aload_0 (pc := 124) C dX2_counts_124 ?_
      refine wg_callVP (pc := 125) C kX2_openings q1437 (tX2_openings hM hO) (rc_of C hM.obj rfl) dX2_counts_125 rfl rfl (Nat.le_of_ble_eq_true rfl) rfl (by decide) (fun f125 => ?_)
      refine wg_iret (pc := 128) C hQ dX2_counts_128 ?_
      exact ⟨by rw [if_pos h13, hc, opA_P hO]; rfl, s10, _, hM, uS_at _ _ _ _ _⟩
    have L129 : wh = 6 → WG X 129 [some (.ref (w.1 (20, 0))), some (vI wh)] [] (w.1, V10) 0 0 := by
      intro hc
      refine wg_aload_0 (pc := 129) C dX2_counts_129 ?_
      refine wg_callV (pc := 130) C (k' := 0) (n' := 0) kX2_missingInAll q1441 (tX2_missingInAll hM hO) (rc_of C hM.obj rfl) dX2_counts_130 rfl rfl (Nat.le_of_ble_eq_true rfl) rfl (by decide) (by omega) (by omega) (fun v130 w130 h130 => ?_)
      obtain ⟨e130, s130, ζ130, hM130, hz130⟩ := h130
      subst e130
      obtain ⟨A130, V130⟩ := w130
      have a130 : A130 = w.1 := s130.1
      subst a130
      have hM := hM130
      have hbc := hM.bc
      have hfc0 := hM.fc
      refine wg_iret (pc := 133) C hQ dX2_counts_133 ?_
      exact ⟨by rw [if_pos h13, hc]; rfl, s10.tr s130, _, hM, hz130.th.trans (uS_at _ _ _ _ _)⟩
    have L134 : wh = 7 → WG X 134 [some (.ref (w.1 (20, 0))), some (vI wh)] [] (w.1, V10) 0 0 := by
      intro hc
      refine wg_aload_0 (pc := 134) C dX2_counts_134 ?_
      refine wg_callVP (pc := 135) C kX2_greenFaces q1445 (tX2_greenFaces hM hO) (rc_of C hM.obj rfl) dX2_counts_135 rfl rfl (Nat.le_of_ble_eq_true rfl) rfl (by decide) (fun f135 => ?_)
      refine wg_iret (pc := 138) C hQ dX2_counts_138 ?_
      exact ⟨by rw [if_pos h13, hc]; rfl, s10, _, hM, uS_at _ _ _ _ _⟩
    have L139 : wh = 8 → WG X 139 [some (.ref (w.1 (20, 0))), some (vI wh)] [] (w.1, V10) 0 0 := by
      intro hc
      refine wg_aload_0 (pc := 139) C dX2_counts_139 ?_
      refine wg_iconst (pc := 140) C dX2_counts_140 ?_
      refine wg_callVP (pc := 141) C kX2_ofLevels q1433 (tX2_ofLevels hM hO (wh := 2) (by unfold InR; omega)) (rc_of C hM.obj rfl) dX2_counts_141 rfl rfl (Nat.le_of_ble_eq_true rfl) rfl (by decide) (fun f141 => ?_)
      refine wg_iret (pc := 144) C hQ dX2_counts_144 ?_
      exact ⟨by rw [if_pos h13, hc, ofL_2 hO]; rfl, s10, _, hM, uS_at _ _ _ _ _⟩
    by_cases h8 : wh = 8
    · exact wg_tblOut (pc := 19) (tgt := 139) C dX2_counts_19 hwh (by omega) (by decide) (L139 h8)
    have hcc : wh = 0 ∨ wh = 1 ∨ wh = 2 ∨ wh = 3 ∨ wh = 4 ∨ wh = 5 ∨ wh = 6 ∨ wh = 7 := by omega
    rcases hcc with rfl | rfl | rfl | rfl | rfl | rfl | rfl | rfl
    · exact wg_tblIn (pc := 19) (tgt := 64) C dX2_counts_19 hwh (by decide) (by decide) rfl (by decide) (L64 rfl)
    · exact wg_tblIn (pc := 19) (tgt := 74) C dX2_counts_19 hwh (by decide) (by decide) rfl (by decide) (L74 rfl)
    · exact wg_tblIn (pc := 19) (tgt := 84) C dX2_counts_19 hwh (by decide) (by decide) rfl (by decide) (L84 rfl)
    · exact wg_tblIn (pc := 19) (tgt := 112) C dX2_counts_19 hwh (by decide) (by decide) rfl (by decide) (L112 rfl)
    · exact wg_tblIn (pc := 19) (tgt := 118) C dX2_counts_19 hwh (by decide) (by decide) rfl (by decide) (L118 rfl)
    · exact wg_tblIn (pc := 19) (tgt := 124) C dX2_counts_19 hwh (by decide) (by decide) rfl (by decide) (L124 rfl)
    · exact wg_tblIn (pc := 19) (tgt := 129) C dX2_counts_19 hwh (by decide) (by decide) rfl (by decide) (L129 rfl)
    · exact wg_tblIn (pc := 19) (tgt := 134) C dX2_counts_19 hwh (by decide) (by decide) rfl (by decide) (L134 rfl)
  · refine wg_iconst (pc := 16) C dX2_counts_16 ?_
    refine wg_iret (pc := 17) C hQ dX2_counts_17 ?_
    exact ⟨by rw [if_neg h13], s10, _, hM, uS_at _ _ _ _ _⟩

theorem tX2_meanLoad {G : Gm} {w : Wo} {σ ζ : St} (hM : HasM G w σ ζ) (hO : Ok σ) : Ct G mX2_meanLoad 7 0 0 w [.ref (w.1 (20, 0))] (fun v w1 => v = some (.double (mlV σ)) ∧ MP G w w1 σ 0) := by
  refine ct_of [some (.ref (w.1 (20, 0))), none, none, none] plX2 rfl (Nat.le_of_ble_eq_true rfl) rfl ?_
  intro X hG C hnm hQ
  subst hG
  change CxOk X cX2_meanLoad 4 RX2 (some .double) 7 at C
  have hB := hO.hB
  have hF := hO.hF
  have hbc := hM.bc
  have hfc0 := hM.fc
  have hps := pos_rng hO
  refine wg_aload_0 (pc := 0) C dX2_meanLoad_0 ?_
  refine wg_iconst (pc := 1) C dX2_meanLoad_1 ?_
  refine pX2_1 (pc := 2) C hM.obj rfl dX2_meanLoad_2 ?_
  replace hM := hM.wThr 0
  have hbc := hM.bc
  have hfc0 := hM.fc
  refine wg_iconst (pc := 5) C dX2_meanLoad_5 ?_
  refine wg_istore_1 (pc := 6) C dX2_meanLoad_6 rfl ?_
  refine wg_iconst (pc := 7) C dX2_meanLoad_7 ?_
  refine wg_istore_2 (pc := 8) C dX2_meanLoad_8 rfl ?_
  have L11 : ∀ (N : Nat) (k s m : Int), (nB σ + 1 - k).toNat = N → 0 ≤ k → k ≤ pos σ → (0 ≤ m ∧ m ≤ k) → (0 ≤ s ∧ s ≤ 5760 * k) → s = sm (mlS σ) 0 k → m = sm (mlC σ) 0 k → WG X 11 [some (.ref (w.1 (20, 0))), some (vI s), some (vI m), some (vI k)] [] (w.1, uV w.2 (20, 0) (ob 4 [vI 0, .ref (w.1 (21, 0)), .ref (w.1 (27, 0)), .ref (w.1 (29, 0)), .ref (w.1 (30, 0)), vI (day σ), vI (lim σ), .ref (w.1 (32, 0)), .ref (w.1 (33, 0))])) 0 0 := by
    intro N
    induction N using Nat.strongRecOn with | _ N IH => ?_
    intro k s m hN hk0 hk1 hmr hsr hs hm
    refine wg_iload_3 (pc := 11) C dX2_meanLoad_11 ?_
    refine wg_aload_0 (pc := 12) C dX2_meanLoad_12 ?_
    refine gX2_16 (pc := 13) C hM.obj rfl dX2_meanLoad_13 ?_
    refine wg_callFP (pc := 16) C kF_size q1161 (tJ2_size hM.bl) (rc_of C hM.bl rfl) dX2_meanLoad_16 rfl rfl (Nat.le_of_ble_eq_true rfl) rfl (by decide) (fun f16 => ?_)
    refine wg_icmp_gt (tgt := 68) (pc := 21) C dX2_meanLoad_21 (by decide) (by unfold InR; omega) (by unfold InR; omega) (fun h21 => ?_) (fun h21 => ?_)
    · have e : k = pos σ := by omega
      subst e
      refine wg_iload_2 (pc := 68) C dX2_meanLoad_68 ?_
      refine wg_if_ne (tgt := 76) (pc := 69) C dX2_meanLoad_69 (by decide) (by unfold InR; omega) (fun h69 => ?_) (fun h69 => ?_)
      · refine wg_iload_1 (pc := 76) C dX2_meanLoad_76 ?_
        refine wg_i2d (pc := 77) C dX2_meanLoad_77 ?_
        refine wg_iload_2 (pc := 78) C dX2_meanLoad_78 ?_
        refine wg_i2d (pc := 79) C dX2_meanLoad_79 ?_
        refine wg_ddiv (pc := 80) C dX2_meanLoad_80 (ml_num (by omega) (by omega)) ?_
        refine wg_dret (pc := 81) C hQ dX2_meanLoad_81 ?_
        first
          | exact ⟨by unfold mlV; rw [if_pos (by rw [← hm]; exact h69)], (SmM.rf w).uv rfl, _, hM, uS_at _ _ _ _ _⟩
          | exact ⟨by unfold mlV; rw [if_neg (by rw [← hm]; exact h69), ← hm, ← hs], (SmM.rf w).uv rfl, _, hM, uS_at _ _ _ _ _⟩
      · refine wg_dconst0 (pc := 72) C dX2_meanLoad_72 ?_
        refine wg_goto (tgt := 81) (pc := 73) C dX2_meanLoad_73 (by decide) ?_
        refine wg_dret (pc := 81) C hQ dX2_meanLoad_81 ?_
        first
          | exact ⟨by unfold mlV; rw [if_pos (by rw [← hm]; exact h69)], (SmM.rf w).uv rfl, _, hM, uS_at _ _ _ _ _⟩
          | exact ⟨by unfold mlV; rw [if_neg (by rw [← hm]; exact h69), ← hm, ← hs], (SmM.rf w).uv rfl, _, hM, uS_at _ _ _ _ _⟩
    · refine wg_aload_0 (pc := 24) C dX2_meanLoad_24 ?_
      refine gX2_16 (pc := 25) C hM.obj rfl dX2_meanLoad_25 ?_
      refine wg_callFP (pc := 28) C kF_isEmpty q1234 (tJ2_isEmpty hM.bl (by unfold InR; omega)) (rc_of C hM.bl rfl) dX2_meanLoad_28 rfl rfl (Nat.le_of_ble_eq_true rfl) rfl (by decide) (fun f28 => ?_)
      refine wg_ifneB (tgt := 68) (pc := 33) C dX2_meanLoad_33 (by decide) (fun h33 => ?_) (fun h33 => ?_)
      · have e : k = pos σ := by omega
        subst e
        refine wg_iload_2 (pc := 68) C dX2_meanLoad_68 ?_
        refine wg_if_ne (tgt := 76) (pc := 69) C dX2_meanLoad_69 (by decide) (by unfold InR; omega) (fun h69 => ?_) (fun h69 => ?_)
        · refine wg_iload_1 (pc := 76) C dX2_meanLoad_76 ?_
          refine wg_i2d (pc := 77) C dX2_meanLoad_77 ?_
          refine wg_iload_2 (pc := 78) C dX2_meanLoad_78 ?_
          refine wg_i2d (pc := 79) C dX2_meanLoad_79 ?_
          refine wg_ddiv (pc := 80) C dX2_meanLoad_80 (ml_num (by omega) (by omega)) ?_
          refine wg_dret (pc := 81) C hQ dX2_meanLoad_81 ?_
          first
            | exact ⟨by unfold mlV; rw [if_pos (by rw [← hm]; exact h69)], (SmM.rf w).uv rfl, _, hM, uS_at _ _ _ _ _⟩
            | exact ⟨by unfold mlV; rw [if_neg (by rw [← hm]; exact h69), ← hm, ← hs], (SmM.rf w).uv rfl, _, hM, uS_at _ _ _ _ _⟩
        · refine wg_dconst0 (pc := 72) C dX2_meanLoad_72 ?_
          refine wg_goto (tgt := 81) (pc := 73) C dX2_meanLoad_73 (by decide) ?_
          refine wg_dret (pc := 81) C hQ dX2_meanLoad_81 ?_
          first
            | exact ⟨by unfold mlV; rw [if_pos (by rw [← hm]; exact h69)], (SmM.rf w).uv rfl, _, hM, uS_at _ _ _ _ _⟩
            | exact ⟨by unfold mlV; rw [if_neg (by rw [← hm]; exact h69), ← hm, ← hs], (SmM.rf w).uv rfl, _, hM, uS_at _ _ _ _ _⟩
      · refine wg_iload_1 (pc := 36) C dX2_meanLoad_36 ?_
        refine wg_aload_0 (pc := 37) C dX2_meanLoad_37 ?_
        refine wg_iload_3 (pc := 38) C dX2_meanLoad_38 ?_
        refine wg_iconst (pc := 39) C dX2_meanLoad_39 ?_
        refine wg_iconst (pc := 40) C dX2_meanLoad_40 ?_
        refine wg_callVP (pc := 41) C kX2_loadOf q1359 (tX2_loadOf hM hO (by omega) (by omega) (by omega) (by omega) (by unfold InR; omega)) (rc_of C hM.obj rfl) dX2_meanLoad_41 rfl rfl (Nat.le_of_ble_eq_true rfl) rfl (by decide) (fun f41 => ?_)
        refine wg_iadd (pc := 44) C dX2_meanLoad_44 ?_
        refine wg_istore_1 (pc := 45) C dX2_meanLoad_45 rfl ?_
        refine wg_iload_2 (pc := 46) C dX2_meanLoad_46 ?_
        refine wg_aload_0 (pc := 47) C dX2_meanLoad_47 ?_
        refine wg_iload_3 (pc := 48) C dX2_meanLoad_48 ?_
        refine wg_callVP (pc := 49) C kX2_levelsOf q1243 (tX2_levelsOf hM hO (by omega) (by omega)) (rc_of C hM.obj rfl) dX2_meanLoad_49 rfl rfl (Nat.le_of_ble_eq_true rfl) rfl (by decide) (fun f49 => ?_)
        refine wg_if_le (tgt := 59) (pc := 52) C dX2_meanLoad_52 (by decide) (by unfold InR; omega) (fun h52 => ?_) (fun h52 => ?_)
        · refine wg_iconst (pc := 59) C dX2_meanLoad_59 ?_
          refine wg_iadd (pc := 60) C dX2_meanLoad_60 ?_
          refine wg_istore_2 (pc := 61) C dX2_meanLoad_61 rfl ?_
          refine wg_iinc_3 (pc := 62) C dX2_meanLoad_62 rfl ?_
          refine wg_goto (tgt := 11) (pc := 65) C dX2_meanLoad_65 (by decide) ?_
          exact IH _ (by omega) (k + 1) _ _ rfl (by omega) (by omega) (by omega) (by omega) (by rw [sm_succ _ (by omega), ← hs]; congr 1; unfold mlS; split <;> rename_i hc <;> first | rfl | (unfold load; rw [sm_nil _ (by omega)])) (by rw [sm_succ _ (by omega), ← hm]; congr 1; unfold mlC; split <;> omega)
        · refine wg_iconst (pc := 55) C dX2_meanLoad_55 ?_
          refine wg_goto (tgt := 60) (pc := 56) C dX2_meanLoad_56 (by decide) ?_
          refine wg_iadd (pc := 60) C dX2_meanLoad_60 ?_
          refine wg_istore_2 (pc := 61) C dX2_meanLoad_61 rfl ?_
          refine wg_iinc_3 (pc := 62) C dX2_meanLoad_62 rfl ?_
          refine wg_goto (tgt := 11) (pc := 65) C dX2_meanLoad_65 (by decide) ?_
          exact IH _ (by omega) (k + 1) _ _ rfl (by omega) (by omega) (by omega) (by omega) (by rw [sm_succ _ (by omega), ← hs]; congr 1; unfold mlS; split <;> rename_i hc <;> first | rfl | (unfold load; rw [sm_nil _ (by omega)])) (by rw [sm_succ _ (by omega), ← hm]; congr 1; unfold mlC; split <;> omega)
  refine wg_iconst (pc := 9) C dX2_meanLoad_9 ?_
  refine wg_istore_3 (pc := 10) C dX2_meanLoad_10 rfl ?_
  exact L11 _ 0 0 0 rfl (by omega) (by omega) (by omega) (by omega) (by rw [sm_nil _ (by omega)]) (by rw [sm_nil _ (by omega)])

theorem tX2_boardedShare {G : Gm} {w : Wo} {σ ζ : St} (hM : HasM G w σ ζ) (hO : Ok σ) : Ct G mX2_boardedShare 5 0 0 w [.ref (w.1 (20, 0))] (fun v w1 => v = some (.float (bsV σ)) ∧ MP G w w1 σ 0) := by
  refine ct_of [some (.ref (w.1 (20, 0)))] plX2 rfl (Nat.le_of_ble_eq_true rfl) rfl ?_
  intro X hG C hnm hQ
  subst hG
  change CxOk X cX2_boardedShare 1 RX2 (some .float) 5 at C
  have hB := hO.hB
  have hF := hO.hF
  have hbc := hM.bc
  have hfc0 := hM.fc
  have h3 := ofB3_rng hO
  have e0 := ofL_0 hO
  have e1 := ofL_1 hO
  refine wg_aload_0 (pc := 0) C dX2_boardedShare_0 ?_
  refine wg_iconst (pc := 1) C dX2_boardedShare_1 ?_
  refine pX2_1 (pc := 2) C hM.obj rfl dX2_boardedShare_2 ?_
  replace hM := hM.wThr 0
  refine wg_aload_0 (pc := 5) C dX2_boardedShare_5 ?_
  refine wg_iconst (pc := 6) C dX2_boardedShare_6 ?_
  refine wg_callVP (pc := 7) C kX2_ofLevels q1433 (tX2_ofLevels hM hO (wh := 0) (by unfold InR; omega)) (rc_of C hM.obj rfl) dX2_boardedShare_7 rfl rfl (Nat.le_of_ble_eq_true rfl) rfl (by decide) (fun f7 => ?_)
  refine wg_if_ne (tgt := 17) (pc := 10) C dX2_boardedShare_10 (by decide) (by unfold InR; omega) (fun h10 => ?_) (fun h10 => ?_)
  · refine wg_aload_0 (pc := 17) C dX2_boardedShare_17 ?_
    refine wg_iconst (pc := 18) C dX2_boardedShare_18 ?_
    refine wg_callVP (pc := 19) C kX2_ofLevels q1433 (tX2_ofLevels hM hO (wh := 1) (by unfold InR; omega)) (rc_of C hM.obj rfl) dX2_boardedShare_19 rfl rfl (Nat.le_of_ble_eq_true rfl) rfl (by decide) (fun f19 => ?_)
    refine wg_i2f (pc := 22) C dX2_boardedShare_22 ?_
    refine wg_aload_0 (pc := 23) C dX2_boardedShare_23 ?_
    refine wg_iconst (pc := 24) C dX2_boardedShare_24 ?_
    refine wg_callVP (pc := 25) C kX2_ofLevels q1433 (tX2_ofLevels hM hO (wh := 0) (by unfold InR; omega)) (rc_of C hM.obj rfl) dX2_boardedShare_25 rfl rfl (Nat.le_of_ble_eq_true rfl) rfl (by decide) (fun f25 => ?_)
    refine wg_i2f (pc := 28) C dX2_boardedShare_28 ?_
    rw [e0, e1]
    refine wg_fdiv (pc := 29) C dX2_boardedShare_29 (bs_num (by omega) h3.2) ?_
    refine wg_fret (pc := 30) C hQ dX2_boardedShare_30 ?_
    first
      | exact ⟨by unfold bsV; rw [if_pos (by omega)], (SmM.rf w).uv rfl, _, hM, uS_at _ _ _ _ _⟩
      | exact ⟨by unfold bsV; rw [if_neg (by omega)], (SmM.rf w).uv rfl, _, hM, uS_at _ _ _ _ _⟩
  · refine wg_fconst0 (pc := 13) C dX2_boardedShare_13 ?_
    refine wg_goto (tgt := 30) (pc := 14) C dX2_boardedShare_14 (by decide) ?_
    refine wg_fret (pc := 30) C hQ dX2_boardedShare_30 ?_
    first
      | exact ⟨by unfold bsV; rw [if_pos (by omega)], (SmM.rf w).uv rfl, _, hM, uS_at _ _ _ _ _⟩
      | exact ⟨by unfold bsV; rw [if_neg (by omega)], (SmM.rf w).uv rfl, _, hM, uS_at _ _ _ _ _⟩

