/-! the reference: mostClass -/
set_option maxRecDepth 100000
set_option maxHeartbeats 4000000
theorem tX2_mostClass {G : Gm} {w : Wo} {σ ζ : St} (hM : HasM G w σ ζ) (hO : Ok σ) {b l : Int} (hb : InR b) (hl : InR l) : Ct G mX2_mostClass 10 0 0 w [.ref (w.1 (20, 0)), vI b, vI l] (fun v w1 => v = some (vI (if ((0 ≤ b ∧ b < nB σ) ∧ (0 ≤ l ∧ l < 8)) ∧ ((0 ≤ b ∧ b < nB σ) ∧ (0 ≤ l ∧ l < lft σ b)) ∧ (True) then mcN σ b l 7 else 0)) ∧ MP G w w1 (if ((0 ≤ b ∧ b < nB σ) ∧ (0 ≤ l ∧ l < 8)) ∧ ((0 ≤ b ∧ b < nB σ) ∧ (0 ≤ l ∧ l < lft σ b)) ∧ (True) then σ else σ) (thr ((0 ≤ b ∧ b < nB σ) ∧ (0 ≤ l ∧ l < 8)) ((0 ≤ b ∧ b < nB σ) ∧ (0 ≤ l ∧ l < lft σ b)) (True))) := by
  refine ct_of [some (.ref (w.1 (20, 0))), some (vI b), some (vI l), none, none, none, none] plX2 rfl (Nat.le_of_ble_eq_true rfl) rfl ?_
  intro X hG C hnm hQ
  subst hG
  change CxOk X cX2_mostClass 7 RX2 (some .int) 10 at C
  have hB := hO.hB
  have hF := hO.hF
  have hbc := hM.bc
  have hfc0 := hM.fc
  have hps := pos_rng hO
  have L21 : WG X 21 [some (.ref (w.1 (20, 0))), some (vI b), some (vI l), none, none, none, none] [vI (if (0 ≤ b ∧ b < nB σ) ∧ (0 ≤ l ∧ l < 8) then 1 else 0), .ref (w.1 (20, 0))] w 0 0 := by
    refine wg_aload_0 (pc := 21) C dX2_mostClass_21 ?_
    refine wg_iload_1 (pc := 22) C dX2_mostClass_22 ?_
    refine wg_iload_2 (pc := 23) C dX2_mostClass_23 ?_
    refine wg_callVP (pc := 24) C kX2_has q1267 (tX2_has hM hO hb hl) (rc_of C hM.obj rfl) dX2_mostClass_24 rfl rfl (Nat.le_of_ble_eq_true rfl) rfl (by decide) (fun f24 => ?_)
    refine wg_iconst (pc := 27) C dX2_mostClass_27 ?_
    refine wg_callV (pc := 28) C (k' := 0) (n' := 0) kX2_passes q1152 (tX2_passes hM hO (p := (0 ≤ b ∧ b < nB σ) ∧ (0 ≤ l ∧ l < 8)) (q := (0 ≤ b ∧ b < nB σ) ∧ (0 ≤ l ∧ l < lft σ b)) (r := True)) (rc_of C hM.obj rfl) dX2_mostClass_28 rfl rfl (Nat.le_of_ble_eq_true rfl) rfl (by decide) (by omega) (by omega) (fun v28 w28 h28 => ?_)
    obtain ⟨e28, s28, h28⟩ := h28
    subst e28
    obtain ⟨A28, V28⟩ := w28
    have a28 : A28 = w.1 := s28.1
    subst a28
    have hM := h28
    have hbc := hM.bc
    have hfc0 := hM.fc
    refine wg_ifneB (tgt := 36) (pc := 31) C dX2_mostClass_31 (by decide) (fun h31 => ?_) (fun h31 => ?_)
    · have hbb : (0 ≤ b ∧ b < nB σ) ∧ (0 ≤ l ∧ l < 8) := h31.1
      refine wg_aload_0 (pc := 36) C dX2_mostClass_36 ?_
      refine gX2_16 (pc := 37) C hM.obj rfl dX2_mostClass_37 ?_
      refine wg_iload_1 (pc := 40) C dX2_mostClass_40 ?_
      refine wg_callFP (pc := 41) C kF_get q1224 (tJ2_get (hM.blA (by omega)) (hM.baA (by omega)) (by omega) (by omega) (by omega) (by omega) (rws_at (by omega) (by omega))) (rc_of C hM.bl rfl) dX2_mostClass_41 rfl rfl (Nat.le_of_ble_eq_true rfl) rfl (by decide) (fun f41 => ?_)
      refine wg_cast (pc := 46) (ci := 5) C rfl q1184 (rc_of C (hM.bay (by omega) (by omega)) rfl) dX2_mostClass_46 ?_
      refine gX2_145 (pc := 49) C (hM.bay h31.1.1.1 h31.1.1.2) rfl dX2_mostClass_49 ?_
      refine wg_astore_3 (pc := 52) C dX2_mostClass_52 rfl ?_
      refine wg_aload_3 (pc := 53) C dX2_mostClass_53 ?_
      refine wg_iload_2 (pc := 54) C dX2_mostClass_54 ?_
      refine wg_iald (pc := 55) C (hM.so h31.1.1.1 h31.1.1.2) rfl (by omega) (by omega) (by decide) dX2_mostClass_55 ?_
      refine wg_istore_4 (pc := 56) C dX2_mostClass_56 rfl ?_
      refine wg_iconst (pc := 58) C dX2_mostClass_58 ?_
      refine wg_istore_5 (pc := 59) C dX2_mostClass_59 rfl ?_
      have L64 : ∀ (N : Nat) (V : Tg → Option va_E) (ζ2 : St) (x s m : Int), (7 - s).toNat = N → SmM w (w.1, V) → HasM (xG X) (w.1, V) (uS σ 6 b l x) ζ2 → ζ2 0 0 0 = thr ((0 ≤ b ∧ b < nB σ) ∧ (0 ≤ l ∧ l < 8)) ((0 ≤ b ∧ b < nB σ) ∧ (0 ≤ l ∧ l < lft σ b)) True → 0 ≤ s → s ≤ 7 → m = mcN σ b l s.toNat → WG X 64 [some (.ref (w.1 (20, 0))), some (vI b), some (vI l), some (.ref (w.1 (25, b))), some (vI (σ 6 b l)), some (vI m), some (vI s)] [] (w.1, V) 0 0 := by
        intro N
        induction N using Nat.strongRecOn with | _ N IH => ?_
        intro V ζ2 x s m hN hS hM hZ hs0 hs1 hm
        have hbb : (0 ≤ b ∧ b < nB σ) ∧ (0 ≤ l ∧ l < 8) := h31.1
        have L101 : ∀ (V3 : Tg → Option va_E) (ζ3 : St) (q : Int), SmM w (w.1, V3) → HasM (xG X) (w.1, V3) (uS σ 6 b l s) ζ3 → ζ3 0 0 0 = thr ((0 ≤ b ∧ b < nB σ) ∧ (0 ≤ l ∧ l < 8)) ((0 ≤ b ∧ b < nB σ) ∧ (0 ≤ l ∧ l < lft σ b)) True → s ≤ 6 → q = (if 0 ≤ spare (uS σ 6 b l s) b ∧ 0 ≤ spare (uS σ 6 b l s) (b + 1) then s else m) → WG X 101 [some (.ref (w.1 (20, 0))), some (vI b), some (vI l), some (.ref (w.1 (25, b))), some (vI (σ 6 b l)), some (vI m), some (vI s)] [vI q] (w.1, V3) 0 0 := by
          intro V3 ζ3 q hS3 hM hZ3 hs6 hq
          refine wg_istore_5 (pc := 101) C dX2_mostClass_101 rfl ?_
          refine wg_iinc_6 (pc := 103) C dX2_mostClass_103 rfl ?_
          refine wg_goto (tgt := 64) (pc := 106) C dX2_mostClass_106 (by decide) ?_
          exact IH _ (by omega) V3 ζ3 s (s + 1) _ rfl hS3 hM hZ3 (by omega) (by omega) (by rw [mcN_s σ b l hs0 hm]; exact hq)
        refine wg_iload_6 (pc := 64) C dX2_mostClass_64 ?_
        refine wg_bipush (pc := 66) C dX2_mostClass_66 (by decide) ?_
        refine wg_icmp_gt (tgt := 109) (pc := 68) C dX2_mostClass_68 (by decide) (by unfold InR; omega) (by unfold InR; omega) (fun h68 => ?_) (fun h68 => ?_)
        · refine wg_aload_3 (pc := 109) C dX2_mostClass_109 ?_
          refine wg_iload_2 (pc := 110) C dX2_mostClass_110 ?_
          refine wg_iload_4 (pc := 111) C dX2_mostClass_111 ?_
          refine wg_iast (pc := 113) C (hM.so h31.1.1.1 h31.1.1.2) rfl (by omega) (by omega) (by decide) dX2_mostClass_113 ?_
          have hM := hM.wSo b l (σ 6 b l)
          rw [uS_uS, uS_same σ rfl] at hM
          refine wg_iload_5 (pc := 114) C dX2_mostClass_114 ?_
          refine wg_iret (pc := 116) C hQ dX2_mostClass_116 ?_
          have e : s = 7 := by omega
          subst e
          exact ⟨by rw [if_pos h31]; exact vI_c (by rw [hm]; rfl), by rw [if_pos h31]; exact ⟨hS.uv rfl, _, hM, hZ⟩⟩
        · refine wg_aload_3 (pc := 71) C dX2_mostClass_71 ?_
          refine wg_iload_2 (pc := 72) C dX2_mostClass_72 ?_
          refine wg_iload_6 (pc := 73) C dX2_mostClass_73 ?_
          refine wg_iast (pc := 75) C (hM.so h31.1.1.1 h31.1.1.2) rfl (by omega) (by omega) (by decide) dX2_mostClass_75 ?_
          have hM := hM.wSo b l s
          rw [uS_uS] at hM
          have hO2 := hO.wSo b l (v := s) (by omega) (by omega)
          have enB : nB (uS σ 6 b l s) = nB σ := rfl
          have hbc := hM.bc
          have hfc0 := hM.fc
          have hr1 := spare_rng hO2 b
          have hr2 := spare_rng hO2 (b + 1)
          refine wg_aload_0 (pc := 76) C dX2_mostClass_76 ?_
          refine wg_iload_1 (pc := 77) C dX2_mostClass_77 ?_
          refine wg_callV (pc := 78) C (k' := 0) (n' := 0) kX2_spare q1421 (tX2_spare hM hO2 (by omega) (by omega)) (rc_of C hM.obj rfl) dX2_mostClass_78 rfl rfl (Nat.le_of_ble_eq_true rfl) rfl (by decide) (by omega) (by omega) (fun v78 w78 h78 => ?_)
          obtain ⟨e78, s78, ζ78, hM78, hz78⟩ := h78
          subst e78
          obtain ⟨A78, V78⟩ := w78
          have a78 : A78 = w.1 := s78.1
          subst a78
          have hM := hM78
          have hbc := hM.bc
          have hfc0 := hM.fc
          refine wg_if_lt (tgt := 99) (pc := 81) C dX2_mostClass_81 (by decide) (by unfold InR; omega) (fun h81 => ?_) (fun h81 => ?_)
          · refine wg_iload_5 (pc := 99) C dX2_mostClass_99 ?_
            exact L101 _ _ _ ((hS.uv rfl).tr s78) hM (((ZK.rf ζ2).tr hz78).th.trans hZ) (by omega) (by split <;> omega)
          · refine wg_aload_0 (pc := 84) C dX2_mostClass_84 ?_
            refine wg_iload_1 (pc := 85) C dX2_mostClass_85 ?_
            refine wg_iconst (pc := 86) C dX2_mostClass_86 ?_
            refine wg_iadd (pc := 87) C dX2_mostClass_87 ?_
            refine wg_callV (pc := 88) C (k' := 0) (n' := 0) kX2_spare q1421 (tX2_spare hM hO2 (by omega) (by omega)) (rc_of C hM.obj rfl) dX2_mostClass_88 rfl rfl (Nat.le_of_ble_eq_true rfl) rfl (by decide) (by omega) (by omega) (fun v88 w88 h88 => ?_)
            obtain ⟨e88, s88, ζ88, hM88, hz88⟩ := h88
            subst e88
            obtain ⟨A88, V88⟩ := w88
            have a88 : A88 = w.1 := s88.1
            subst a88
            have hM := hM88
            have hbc := hM.bc
            have hfc0 := hM.fc
            refine wg_if_lt (tgt := 99) (pc := 91) C dX2_mostClass_91 (by decide) (by unfold InR; omega) (fun h91 => ?_) (fun h91 => ?_)
            · refine wg_iload_5 (pc := 99) C dX2_mostClass_99 ?_
              exact L101 _ _ _ (((hS.uv rfl).tr s78).tr s88) hM ((((ZK.rf ζ2).tr hz78).tr hz88).th.trans hZ) (by omega) (by split <;> omega)
            · refine wg_iload_6 (pc := 94) C dX2_mostClass_94 ?_
              refine wg_goto (tgt := 101) (pc := 96) C dX2_mostClass_96 (by decide) ?_
              exact L101 _ _ _ (((hS.uv rfl).tr s78).tr s88) hM ((((ZK.rf ζ2).tr hz78).tr hz88).th.trans hZ) (by omega) (by split <;> omega)
      refine wg_iconst (pc := 61) C dX2_mostClass_61 ?_
      refine wg_istore_6 (pc := 62) C dX2_mostClass_62 rfl ?_
      exact L64 _ V28 _ (σ 6 b l) 0 (-1) rfl s28 (by rw [uS_same σ rfl]; exact hM) (uS_at _ _ _ _ _) (by omega) (by omega) rfl
    · refine wg_iconst (pc := 34) C dX2_mostClass_34 ?_
      refine wg_iret (pc := 35) C hQ dX2_mostClass_35 ?_
      exact ⟨by rw [if_neg h31], by rw [if_neg h31]; exact ⟨s28, _, hM, uS_at _ _ _ _ _⟩⟩
  refine wg_aload_0 (pc := 0) C dX2_mostClass_0 ?_
  refine wg_aload_0 (pc := 1) C dX2_mostClass_1 ?_
  refine wg_iload_1 (pc := 2) C dX2_mostClass_2 ?_
  refine wg_callVP (pc := 3) C kX2_isBay q1219 (tX2_isBay hM hO hb) (rc_of C hM.obj rfl) dX2_mostClass_3 rfl rfl (Nat.le_of_ble_eq_true rfl) rfl (by decide) (fun f3 => ?_)
  refine wg_ifeqB (tgt := 20) (pc := 6) C dX2_mostClass_6 (by decide) (fun h6 => ?_) (fun h6 => ?_)
  · refine wg_iconst (pc := 20) C dX2_mostClass_20 ?_
    refine WG.mask [true, true, true, false, false, false, false] rfl ?_
    refine WG.at L21 rfl rfl ?_ rfl
    show [vI _, _] = [vI (if (0 ≤ b ∧ b < nB σ) ∧ (0 ≤ l ∧ l < 8) then 1 else 0), _]
    split <;> rename_i hc <;> first | rfl | (exfalso; first | exact hc ⟨h6, h13⟩ | exact h6 hc.1 | exact h13 hc.2)
  · refine wg_iload_2 (pc := 9) C dX2_mostClass_9 ?_
    refine wg_callSP (pc := 10) C kX2_isLevel q1264 (tX2_isLevel hl) dX2_mostClass_10 rfl rfl (Nat.le_of_ble_eq_true rfl) rfl (by decide) (fun f10 => ?_)
    refine wg_ifeqB (tgt := 20) (pc := 13) C dX2_mostClass_13 (by decide) (fun h13 => ?_) (fun h13 => ?_)
    · refine wg_iconst (pc := 20) C dX2_mostClass_20 ?_
      refine WG.mask [true, true, true, false, false, false, false] rfl ?_
      refine WG.at L21 rfl rfl ?_ rfl
      show [vI _, _] = [vI (if (0 ≤ b ∧ b < nB σ) ∧ (0 ≤ l ∧ l < 8) then 1 else 0), _]
      split <;> rename_i hc <;> first | rfl | (exfalso; first | exact hc ⟨h6, h13⟩ | exact h6 hc.1 | exact h13 hc.2)
    · refine wg_iconst (pc := 16) C dX2_mostClass_16 ?_
      refine wg_goto (tgt := 21) (pc := 17) C dX2_mostClass_17 (by decide) ?_
      refine WG.mask [true, true, true, false, false, false, false] rfl ?_
      refine WG.at L21 rfl rfl ?_ rfl
      show [vI _, _] = [vI (if (0 ≤ b ∧ b < nB σ) ∧ (0 ≤ l ∧ l < 8) then 1 else 0), _]
      split <;> rename_i hc <;> first | rfl | (exfalso; first | exact hc ⟨h6, h13⟩ | exact h6 hc.1 | exact h13 hc.2)

