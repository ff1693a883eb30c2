/-! the class: sums and counts -/
set_option maxRecDepth 100000
set_option maxHeartbeats 4000000
theorem ite_tt {p q : Prop} [Decidable p] [Decidable q] (hp : p) (hq : q) : (if p ∧ q then (1 : Int) else 0) = 1 := if_pos ⟨hp, hq⟩
theorem ite_f1 {p q : Prop} [Decidable p] [Decidable q] (hp : ¬ p) : (if p ∧ q then (1 : Int) else 0) = 0 := if_neg (fun z => hp z.1)
theorem ite_f2 {p q : Prop} [Decidable p] [Decidable q] (hq : ¬ q) : (if p ∧ q then (1 : Int) else 0) = 0 := if_neg (fun z => hq z.2)
theorem tX1_today {G : Gm} {w : Wo} {σ ζ : St} (hX : HasX G w σ ζ) (hO : Ok σ) : PCt G mX1_today 1 w [.ref (w.1 (0, 0))] (vI (day σ)) (True) := by
  refine ⟨ct_of [some (.ref (w.1 (0, 0)))] plX1 rfl (Nat.le_of_ble_eq_true rfl) rfl ?_, trivial⟩
  intro X hG C hnm hQ
  subst hG
  change CxOk X cX1_today 1 RX1 (some .int) 1 at C
  refine wg_aload_0 (pc := 0) C dX1_today_0 ?_
  refine gX1_176 (pc := 1) C hX.obj rfl dX1_today_1 ?_
  refine wg_iret (pc := 4) C hQ dX1_today_4 ?_
  exact ⟨rfl, rfl⟩

theorem tX1_missingOf {G : Gm} {w : Wo} {σ ζ : St} (hX : HasX G w σ ζ) (hO : Ok σ) (hT : TieOk σ ζ) {p : Int} (hp0 : 0 ≤ p) (hp1 : p ≤ nB σ) : PCt G mX1_missingOf 8 w [.ref (w.1 (0, 0)), vI p] (vI (missing σ p)) (0 ≤ missing σ p ∧ missing σ p ≤ 8) := by
  refine ⟨ct_of [some (.ref (w.1 (0, 0))), some (vI p), none, none] plX1 rfl (Nat.le_of_ble_eq_true rfl) rfl ?_, missing_rng σ p⟩
  intro X hG C hnm hQ
  subst hG
  change CxOk X cX1_missingOf 4 RX1 (some .int) 8 at C
  have hB := hO.hB
  have hF := hO.hF
  have L4 : ∀ (N : Nat) (k s : Int), (8 - k).toNat = N → 0 ≤ k → k ≤ 8 → s = sm (fun l => if asks σ p l ∧ tieAt σ l p = -1 then 1 else 0) 0 k → WG X 4 [some (.ref (w.1 (0, 0))), some (vI p), some (vI s), some (vI k)] [] w 0 0 := by
    intro N
    induction N using Nat.strongRecOn with | _ N IH => ?_
    intro k s hN hk0 hk1 hs
    have hta := tieAt_rng hO k p
    refine wg_iload_3 (pc := 4) C dX1_missingOf_4 ?_
    refine wg_bipush (pc := 5) C dX1_missingOf_5 (by decide) ?_
    refine wg_icmp_ge (tgt := 45) (pc := 7) C dX1_missingOf_7 (by decide) (by unfold InR; omega) (by unfold InR; omega) (fun h7 => ?_) (fun h7 => ?_)
    · refine wg_iload_2 (pc := 45) C dX1_missingOf_45 ?_
      refine wg_iret (pc := 46) C hQ dX1_missingOf_46 ?_
      have e : k = 8 := by omega
      exact ⟨vI_c (by rw [hs, e]; rfl), rfl⟩
    · refine wg_iload_2 (pc := 10) C dX1_missingOf_10 ?_
      refine wg_aload_0 (pc := 11) C dX1_missingOf_11 ?_
      refine wg_iload_1 (pc := 12) C dX1_missingOf_12 ?_
      refine wg_iload_3 (pc := 13) C dX1_missingOf_13 ?_
      refine wg_callVP (pc := 14) C kX1_isAsked q454 (tX1_isAsked hX hO (by omega) (by omega) (by omega) (by omega)) (rc_of C hX.obj rfl) dX1_missingOf_14 rfl rfl (Nat.le_of_ble_eq_true rfl) rfl (by decide) (fun f14 => ?_)
      refine wg_ifeqB (tgt := 36) (pc := 17) C dX1_missingOf_17 (by decide) (fun h17 => ?_) (fun h17 => ?_)
      · refine wg_iconst (pc := 36) C dX1_missingOf_36 ?_
        refine wg_iadd (pc := 37) C dX1_missingOf_37 ?_
        refine wg_istore_2 (pc := 38) C dX1_missingOf_38 rfl ?_
        refine wg_iinc_3 (pc := 39) C dX1_missingOf_39 rfl ?_
        refine wg_goto (tgt := 4) (pc := 42) C dX1_missingOf_42 (by decide) ?_
        exact IH _ (by omega) (k + 1) _ rfl (by omega) (by omega) (by rw [sm_succ _ (by omega), ← hs]; first | rw [ite_tt h17 h29] | rw [ite_f2 h29] | rw [ite_f1 h17])
      · refine wg_aload_0 (pc := 20) C dX1_missingOf_20 ?_
        refine gX1_112 (pc := 21) C hX.obj rfl dX1_missingOf_21 ?_
        refine wg_iload_3 (pc := 24) C dX1_missingOf_24 ?_
        refine wg_aald (pc := 25) C rfl rfl hX.oo2 rfl (by omega) (by omega) (by decide) (rws_at (by omega) (by omega)) dX1_missingOf_25 ?_
        refine wg_iload_1 (pc := 26) C dX1_missingOf_26 ?_
        refine wg_iald (pc := 27) C (hX.tf (by omega) (by omega)) rfl (by omega) (by omega) (by decide) dX1_missingOf_27 ?_
        rw [(hT k (by omega) (by omega) p (by omega) (by omega)).2]
        refine wg_iconst (pc := 28) C dX1_missingOf_28 ?_
        refine wg_icmp_ne (tgt := 36) (pc := 29) C dX1_missingOf_29 (by decide) (by unfold InR; omega) (by unfold InR; omega) (fun h29 => ?_) (fun h29 => ?_)
        · refine wg_iconst (pc := 36) C dX1_missingOf_36 ?_
          refine wg_iadd (pc := 37) C dX1_missingOf_37 ?_
          refine wg_istore_2 (pc := 38) C dX1_missingOf_38 rfl ?_
          refine wg_iinc_3 (pc := 39) C dX1_missingOf_39 rfl ?_
          refine wg_goto (tgt := 4) (pc := 42) C dX1_missingOf_42 (by decide) ?_
          exact IH _ (by omega) (k + 1) _ rfl (by omega) (by omega) (by rw [sm_succ _ (by omega), ← hs]; first | rw [ite_tt h17 h29] | rw [ite_f2 h29] | rw [ite_f1 h17])
        · refine wg_iconst (pc := 32) C dX1_missingOf_32 ?_
          refine wg_goto (tgt := 37) (pc := 33) C dX1_missingOf_33 (by decide) ?_
          refine wg_iadd (pc := 37) C dX1_missingOf_37 ?_
          refine wg_istore_2 (pc := 38) C dX1_missingOf_38 rfl ?_
          refine wg_iinc_3 (pc := 39) C dX1_missingOf_39 rfl ?_
          refine wg_goto (tgt := 4) (pc := 42) C dX1_missingOf_42 (by decide) ?_
          exact IH _ (by omega) (k + 1) _ rfl (by omega) (by omega) (by rw [sm_succ _ (by omega), ← hs]; first | rw [ite_tt h17 h29] | rw [ite_f2 h29] | rw [ite_f1 h17])
  refine wg_iconst (pc := 0) C dX1_missingOf_0 ?_
  refine wg_istore_2 (pc := 1) C dX1_missingOf_1 rfl ?_
  refine wg_iconst (pc := 2) C dX1_missingOf_2 ?_
  refine wg_istore_3 (pc := 3) C dX1_missingOf_3 rfl ?_
  exact L4 _ 0 0 rfl (by omega) (by omega) (by rw [sm_nil _ (by omega)])

theorem tX1_loadOf {G : Gm} {w : Wo} {σ ζ : St} (hX : HasX G w σ ζ) (hO : Ok σ) {p : Int} (hp0 : 0 ≤ p) (hp1 : p ≤ nB σ) {l r : Int} (hl0 : 0 ≤ l) (hl1 : l ≤ 1000) (hr : InR r) : PCt G mX1_loadOf 6 w [.ref (w.1 (0, 0)), vI p, vI l, vI r] (vI (load σ p l r)) (0 ≤ load σ p l r ∧ load σ p l r ≤ 5760) := by
  refine ⟨ct_of [some (.ref (w.1 (0, 0))), some (vI p), some (vI l), some (vI r), none, none] plX1 rfl (Nat.le_of_ble_eq_true rfl) rfl ?_, load_rng hO p hl0 r⟩
  intro X hG C hnm hQ
  subst hG
  change CxOk X cX1_loadOf 6 RX1 (some .int) 6 at C
  have hB := hO.hB
  have hF := hO.hF
  have hlv := levelsOf_rng hO p
  have hr2 := hr
  unfold InR at hr2
  have L6 : ∀ (N : Nat) (k s : Int), (levelsOf σ p - k).toNat = N → l ≤ k → (k ≤ levelsOf σ p ∨ k = l) → s = sm (fun k => 20 * stds σ p + half σ (p - 1) k r + half σ p k r) l k → WG X 6 [some (.ref (w.1 (0, 0))), some (vI p), some (vI l), some (vI r), some (vI s), some (vI k)] [] w 0 0 := by
    intro N
    induction N using Nat.strongRecOn with | _ N IH => ?_
    intro k s hN hk0 hk1 hs
    have e1 : p ≤ 0 → half σ (p - 1) k r = 0 := fun z => half_out (by omega)
    have e2 : nB σ ≤ p → half σ p k r = 0 := fun z => half_out (by omega)
    refine wg_iload_5 (pc := 6) C dX1_loadOf_6 ?_
    refine wg_aload_0 (pc := 8) C dX1_loadOf_8 ?_
    refine wg_iload_1 (pc := 9) C dX1_loadOf_9 ?_
    refine wg_callVP (pc := 10) C kX1_levelsOf q488 (tX1_levelsOf hX hO (by omega) (by omega)) (rc_of C hX.obj rfl) dX1_loadOf_10 rfl rfl (Nat.le_of_ble_eq_true rfl) rfl (by decide) (fun f10 => ?_)
    refine wg_icmp_ge (tgt := 110) (pc := 13) C dX1_loadOf_13 (by decide) (by unfold InR; omega) (by unfold InR; omega) (fun h13 => ?_) (fun h13 => ?_)
    · refine wg_iload_4 (pc := 110) C dX1_loadOf_110 ?_
      refine wg_iret (pc := 112) C hQ dX1_loadOf_112 ?_
      exact ⟨vI_c (by rw [hs]; exact sm_exit (by omega)), rfl⟩
    · refine wg_iload_4 (pc := 16) C dX1_loadOf_16 ?_
      refine wg_bipush (pc := 18) C dX1_loadOf_18 (by decide) ?_
      refine wg_aload_0 (pc := 20) C dX1_loadOf_20 ?_
      refine wg_iload_1 (pc := 21) C dX1_loadOf_21 ?_
      refine wg_callVP (pc := 22) C kX1_standards q627 (tX1_standards hX hO (by unfold InR; omega)) (rc_of C hX.obj rfl) dX1_loadOf_22 rfl rfl (Nat.le_of_ble_eq_true rfl) rfl (by decide) (fun f22 => ?_)
      refine wg_imul (pc := 25) C dX1_loadOf_25 ?_
      refine wg_iadd (pc := 26) C dX1_loadOf_26 ?_
      refine wg_istore_4 (pc := 27) C dX1_loadOf_27 rfl ?_
      refine wg_iload_4 (pc := 29) C dX1_loadOf_29 ?_
      refine wg_iload_1 (pc := 31) C dX1_loadOf_31 ?_
      refine wg_if_le (tgt := 59) (pc := 32) C dX1_loadOf_32 (by decide) (by unfold InR; omega) (fun h32 => ?_) (fun h32 => ?_)
      · refine wg_iconst (pc := 59) C dX1_loadOf_59 ?_
        refine wg_iadd (pc := 60) C dX1_loadOf_60 ?_
        refine wg_istore_4 (pc := 61) C dX1_loadOf_61 rfl ?_
        refine wg_iload_4 (pc := 63) C dX1_loadOf_63 ?_
        refine wg_iload_1 (pc := 65) C dX1_loadOf_65 ?_
        refine wg_aload_0 (pc := 66) C dX1_loadOf_66 ?_
        refine gX1_33 (pc := 67) C hX.obj rfl dX1_loadOf_67 ?_
        refine wg_callFP (pc := 70) C kF_size q477 (tJ2_size hX.bl) (rc_of C hX.bl rfl) dX1_loadOf_70 rfl rfl (Nat.le_of_ble_eq_true rfl) rfl (by decide) (fun f70 => ?_)
        refine wg_icmp_ge (tgt := 100) (pc := 75) C dX1_loadOf_75 (by decide) (by unfold InR; omega) (by unfold InR; omega) (fun h75 => ?_) (fun h75 => ?_)
        · refine wg_iconst (pc := 100) C dX1_loadOf_100 ?_
          refine wg_iadd (pc := 101) C dX1_loadOf_101 ?_
          refine wg_istore_4 (pc := 102) C dX1_loadOf_102 rfl ?_
          refine wg_iinc_5 (pc := 104) C dX1_loadOf_104 rfl ?_
          refine wg_goto (tgt := 6) (pc := 107) C dX1_loadOf_107 (by decide) ?_
          exact IH _ (by omega) (k + 1) _ rfl (by omega) (by omega) (by rw [sm_succ _ (by omega), ← hs]; omega)
        · refine wg_aload_0 (pc := 78) C dX1_loadOf_78 ?_
          refine gX1_33 (pc := 79) C hX.obj rfl dX1_loadOf_79 ?_
          refine wg_iload_1 (pc := 82) C dX1_loadOf_82 ?_
          refine wg_callFP (pc := 83) C kF_get q497 (tJ2_get hX.bl hX.ba (by omega) (by omega) (by omega) (by decide) (rws_at (by omega) (by omega))) (rc_of C hX.bl rfl) dX1_loadOf_83 rfl rfl (Nat.le_of_ble_eq_true rfl) rfl (by decide) (fun f83 => ?_)
          refine wg_cast (pc := 88) (ci := 3) C rfl q515 (rc_of C (hX.bay (by omega) (by omega)) rfl) dX1_loadOf_88 ?_
          refine wg_iload_5 (pc := 91) C dX1_loadOf_91 ?_
          refine wg_iload_3 (pc := 93) C dX1_loadOf_93 ?_
          refine wg_callVP (pc := 94) C kX4_half q657 (tX4_half hX hO (by omega) (by omega) (by omega) (by omega) (by unfold InR; omega)) (rc_of C (hX.bay (by omega) (by omega)) rfl) dX1_loadOf_94 rfl rfl (Nat.le_of_ble_eq_true rfl) rfl (by decide) (fun f94 => ?_)
          refine wg_goto (tgt := 101) (pc := 97) C dX1_loadOf_97 (by decide) ?_
          refine wg_iadd (pc := 101) C dX1_loadOf_101 ?_
          refine wg_istore_4 (pc := 102) C dX1_loadOf_102 rfl ?_
          refine wg_iinc_5 (pc := 104) C dX1_loadOf_104 rfl ?_
          refine wg_goto (tgt := 6) (pc := 107) C dX1_loadOf_107 (by decide) ?_
          exact IH _ (by omega) (k + 1) _ rfl (by omega) (by omega) (by rw [sm_succ _ (by omega), ← hs]; omega)
      · refine wg_aload_0 (pc := 35) C dX1_loadOf_35 ?_
        refine gX1_33 (pc := 36) C hX.obj rfl dX1_loadOf_36 ?_
        refine wg_iload_1 (pc := 39) C dX1_loadOf_39 ?_
        refine wg_iconst (pc := 40) C dX1_loadOf_40 ?_
        refine wg_isub (pc := 41) C dX1_loadOf_41 ?_
        refine wg_callFP (pc := 42) C kF_get q497 (tJ2_get hX.bl hX.ba (by omega) (by omega) (by omega) (by decide) (rws_at (by omega) (by omega))) (rc_of C hX.bl rfl) dX1_loadOf_42 rfl rfl (Nat.le_of_ble_eq_true rfl) rfl (by decide) (fun f42 => ?_)
        refine wg_cast (pc := 47) (ci := 3) C rfl q515 (rc_of C (hX.bay (by omega) (by omega)) rfl) dX1_loadOf_47 ?_
        refine wg_iload_5 (pc := 50) C dX1_loadOf_50 ?_
        refine wg_iload_3 (pc := 52) C dX1_loadOf_52 ?_
        refine wg_callVP (pc := 53) C kX4_half q657 (tX4_half hX hO (by omega) (by omega) (by omega) (by omega) (by unfold InR; omega)) (rc_of C (hX.bay (by omega) (by omega)) rfl) dX1_loadOf_53 rfl rfl (Nat.le_of_ble_eq_true rfl) rfl (by decide) (fun f53 => ?_)
        refine wg_goto (tgt := 60) (pc := 56) C dX1_loadOf_56 (by decide) ?_
        refine wg_iadd (pc := 60) C dX1_loadOf_60 ?_
        refine wg_istore_4 (pc := 61) C dX1_loadOf_61 rfl ?_
        refine wg_iload_4 (pc := 63) C dX1_loadOf_63 ?_
        refine wg_iload_1 (pc := 65) C dX1_loadOf_65 ?_
        refine wg_aload_0 (pc := 66) C dX1_loadOf_66 ?_
        refine gX1_33 (pc := 67) C hX.obj rfl dX1_loadOf_67 ?_
        refine wg_callFP (pc := 70) C kF_size q477 (tJ2_size hX.bl) (rc_of C hX.bl rfl) dX1_loadOf_70 rfl rfl (Nat.le_of_ble_eq_true rfl) rfl (by decide) (fun f70 => ?_)
        refine wg_icmp_ge (tgt := 100) (pc := 75) C dX1_loadOf_75 (by decide) (by unfold InR; omega) (by unfold InR; omega) (fun h75 => ?_) (fun h75 => ?_)
        · refine wg_iconst (pc := 100) C dX1_loadOf_100 ?_
          refine wg_iadd (pc := 101) C dX1_loadOf_101 ?_
          refine wg_istore_4 (pc := 102) C dX1_loadOf_102 rfl ?_
          refine wg_iinc_5 (pc := 104) C dX1_loadOf_104 rfl ?_
          refine wg_goto (tgt := 6) (pc := 107) C dX1_loadOf_107 (by decide) ?_
          exact IH _ (by omega) (k + 1) _ rfl (by omega) (by omega) (by rw [sm_succ _ (by omega), ← hs]; omega)
        · refine wg_aload_0 (pc := 78) C dX1_loadOf_78 ?_
          refine gX1_33 (pc := 79) C hX.obj rfl dX1_loadOf_79 ?_
          refine wg_iload_1 (pc := 82) C dX1_loadOf_82 ?_
          refine wg_callFP (pc := 83) C kF_get q497 (tJ2_get hX.bl hX.ba (by omega) (by omega) (by omega) (by decide) (rws_at (by omega) (by omega))) (rc_of C hX.bl rfl) dX1_loadOf_83 rfl rfl (Nat.le_of_ble_eq_true rfl) rfl (by decide) (fun f83 => ?_)
          refine wg_cast (pc := 88) (ci := 3) C rfl q515 (rc_of C (hX.bay (by omega) (by omega)) rfl) dX1_loadOf_88 ?_
          refine wg_iload_5 (pc := 91) C dX1_loadOf_91 ?_
          refine wg_iload_3 (pc := 93) C dX1_loadOf_93 ?_
          refine wg_callVP (pc := 94) C kX4_half q657 (tX4_half hX hO (by omega) (by omega) (by omega) (by omega) (by unfold InR; omega)) (rc_of C (hX.bay (by omega) (by omega)) rfl) dX1_loadOf_94 rfl rfl (Nat.le_of_ble_eq_true rfl) rfl (by decide) (fun f94 => ?_)
          refine wg_goto (tgt := 101) (pc := 97) C dX1_loadOf_97 (by decide) ?_
          refine wg_iadd (pc := 101) C dX1_loadOf_101 ?_
          refine wg_istore_4 (pc := 102) C dX1_loadOf_102 rfl ?_
          refine wg_iinc_5 (pc := 104) C dX1_loadOf_104 rfl ?_
          refine wg_goto (tgt := 6) (pc := 107) C dX1_loadOf_107 (by decide) ?_
          exact IH _ (by omega) (k + 1) _ rfl (by omega) (by omega) (by rw [sm_succ _ (by omega), ← hs]; omega)
  refine wg_iconst (pc := 0) C dX1_loadOf_0 ?_
  refine wg_istore_4 (pc := 1) C dX1_loadOf_1 rfl ?_
  refine wg_iload_2 (pc := 3) C dX1_loadOf_3 ?_
  refine wg_istore_5 (pc := 4) C dX1_loadOf_4 rfl ?_
  exact L6 _ l 0 rfl (by omega) (by omega) (by rw [sm_nil _ (by omega)])

theorem tX1_bearsOf {G : Gm} {w : Wo} {σ ζ : St} (hX : HasX G w σ ζ) (hO : Ok σ) (hT : TieOk σ ζ) {p : Int} (hp0 : 0 ≤ p) (hp1 : p ≤ nB σ) : PCt G mX1_bearsOf 9 w [.ref (w.1 (0, 0)), vI p] (vI (bearsOf σ p)) (0 ≤ bearsOf σ p ∧ bearsOf σ p ≤ 29997) := by
  refine ⟨ct_of [some (.ref (w.1 (0, 0))), some (vI p), none] plX1 rfl (Nat.le_of_ble_eq_true rfl) rfl ?_, bearsOf_rng hO p⟩
  intro X hG C hnm hQ
  subst hG
  change CxOk X cX1_bearsOf 3 RX1 (some .int) 9 at C
  have hB := hO.hB
  have hF := hO.hF
  have hlm := hO.lm
  refine wg_aload_0 (pc := 0) C dX1_bearsOf_0 ?_
  refine gX1_130 (pc := 1) C hX.obj rfl dX1_bearsOf_1 ?_
  refine wg_aload_0 (pc := 4) C dX1_bearsOf_4 ?_
  refine wg_iload_1 (pc := 5) C dX1_bearsOf_5 ?_
  refine wg_callVP (pc := 6) C kX1_standards q627 (tX1_standards hX hO (by unfold InR; omega)) (rc_of C hX.obj rfl) dX1_bearsOf_6 rfl rfl (Nat.le_of_ble_eq_true rfl) rfl (by decide) (fun f6 => ?_)
  refine wg_imul (pc := 9) C dX1_bearsOf_9 ?_
  refine wg_istore_2 (pc := 10) C dX1_bearsOf_10 rfl ?_
  refine wg_iconst (pc := 11) C dX1_bearsOf_11 ?_
  refine wg_iload_2 (pc := 12) C dX1_bearsOf_12 ?_
  refine wg_aload_0 (pc := 13) C dX1_bearsOf_13 ?_
  refine wg_iload_1 (pc := 14) C dX1_bearsOf_14 ?_
  refine wg_callVP (pc := 15) C kX1_missingOf q670 (tX1_missingOf hX hO hT (by omega) (by omega)) (rc_of C hX.obj rfl) dX1_bearsOf_15 rfl rfl (Nat.le_of_ble_eq_true rfl) rfl (by decide) (fun f15 => ?_)
  refine wg_iload_2 (pc := 18) C dX1_bearsOf_18 ?_
  refine wg_iconst (pc := 19) C dX1_bearsOf_19 ?_
  have h2 := mul23 (a := lim σ) f6
  refine wg_idiv (pc := 20) C dX1_bearsOf_20 (by omega) (by omega) (by omega) (by omega) ?_
  refine wg_imul (pc := 21) C dX1_bearsOf_21 ?_
  refine wg_isub (pc := 22) C dX1_bearsOf_22 ?_
  have h4 := mul8 (a := lim σ * stds σ p / 4) f15.1 f15.2 (by omega)
  refine wg_max (pc := 23) C q516 dX1_bearsOf_23 (by unfold InR; omega) (by unfold InR; omega) (by decide) (Nat.le_of_ble_eq_true rfl) rfl ?_
  refine wg_iret (pc := 26) C hQ dX1_bearsOf_26 ?_
  exact ⟨rfl, rfl⟩

theorem tX1_spare {G : Gm} {w : Wo} {σ ζ : St} (hX : HasX G w σ ζ) (hO : Ok σ) (hT : TieOk σ ζ) {p : Int} (hp0 : 0 ≤ p) (hp1 : p ≤ nB σ) : PCt G mX1_spare 10 w [.ref (w.1 (0, 0)), vI p] (vI (spare σ p)) (-5760 ≤ spare σ p ∧ spare σ p ≤ 29997) := by
  refine ⟨ct_of [some (.ref (w.1 (0, 0))), some (vI p)] plX1 rfl (Nat.le_of_ble_eq_true rfl) rfl ?_, spare_rng hO p⟩
  intro X hG C hnm hQ
  subst hG
  change CxOk X cX1_spare 2 RX1 (some .int) 10 at C
  have hB := hO.hB
  have hF := hO.hF
  refine wg_aload_0 (pc := 0) C dX1_spare_0 ?_
  refine wg_iload_1 (pc := 1) C dX1_spare_1 ?_
  refine wg_callVP (pc := 2) C kX1_bearsOf q666 (tX1_bearsOf hX hO hT (by omega) (by omega)) (rc_of C hX.obj rfl) dX1_spare_2 rfl rfl (Nat.le_of_ble_eq_true rfl) rfl (by decide) (fun f2 => ?_)
  refine wg_aload_0 (pc := 5) C dX1_spare_5 ?_
  refine wg_iload_1 (pc := 6) C dX1_spare_6 ?_
  refine wg_iconst (pc := 7) C dX1_spare_7 ?_
  refine wg_iconst (pc := 8) C dX1_spare_8 ?_
  refine wg_callVP (pc := 9) C kX1_loadOf q653 (tX1_loadOf hX hO (by omega) (by omega) (by omega) (by omega) (by unfold InR; omega)) (rc_of C hX.obj rfl) dX1_spare_9 rfl rfl (Nat.le_of_ble_eq_true rfl) rfl (by decide) (fun f9 => ?_)
  refine wg_isub (pc := 12) C dX1_spare_12 ?_
  refine wg_iret (pc := 13) C hQ dX1_spare_13 ?_
  exact ⟨rfl, rfl⟩

theorem tX1_partsAt {G : Gm} {w : Wo} {σ ζ : St} (hX : HasX G w σ ζ) (hO : Ok σ) (hT : TieOk σ ζ) {p : Int} (hp0 : 0 ≤ p) (hp1 : p ≤ nB σ) {kd : Int} (hk : InR kd) : PCt G mX1_partsAt 6 w [.ref (w.1 (0, 0)), vI p, vI kd] (vI (prtAt σ p kd)) (0 ≤ prtAt σ p kd ∧ prtAt σ p kd ≤ 24) := by
  refine ⟨ct_of [some (.ref (w.1 (0, 0))), some (vI p), some (vI kd), none, none] plX1 rfl (Nat.le_of_ble_eq_true rfl) rfl ?_, prtAt_rng hO p kd⟩
  intro X hG C hnm hQ
  subst hG
  change CxOk X cX1_partsAt 5 RX1 (some .int) 6 at C
  have hB := hO.hB
  have hF := hO.hF
  unfold InR at hk
  refine wg_iload_2 (pc := 0) C dX1_partsAt_0 ?_
  refine wg_if_ne (tgt := 16) (pc := 1) C dX1_partsAt_1 (by decide) (by unfold InR; omega) (fun h1 => ?_) (fun h1 => ?_)
  · refine wg_iload_2 (pc := 16) C dX1_partsAt_16 ?_
    refine wg_iconst (pc := 17) C dX1_partsAt_17 ?_
    refine wg_icmp_ne (tgt := 27) (pc := 18) C dX1_partsAt_18 (by decide) (by unfold InR; omega) (by unfold InR; omega) (fun h18 => ?_) (fun h18 => ?_)
    · have L32 : ∀ (N : Nat) (k s : Int), (8 - k).toNat = N → 0 ≤ k → k ≤ 8 → (kd ≠ 5 → k = 0) → s = sm (fun l => if ties σ l p = 0 then 0 else 1) 0 k → WG X 32 [some (.ref (w.1 (0, 0))), some (vI p), some (vI kd), some (vI s), some (vI k)] [] w 0 0 := by
        intro N
        induction N using Nat.strongRecOn with | _ N IH => ?_
        intro k s hN hk0 hk1 hk5 hs
        have hti := ties_rng hO k p
        refine wg_iload_4 (pc := 32) C dX1_partsAt_32 ?_
        refine wg_bipush (pc := 34) C dX1_partsAt_34 (by decide) ?_
        refine wg_icmp_ge (tgt := 70) (pc := 36) C dX1_partsAt_36 (by decide) (by unfold InR; omega) (by unfold InR; omega) (fun h36 => ?_) (fun h36 => ?_)
        · refine wg_iload_3 (pc := 70) C dX1_partsAt_70 ?_
          refine wg_iret (pc := 71) C hQ dX1_partsAt_71 ?_
          have e : s = if kd = 5 then tieCnt σ p else 0 := by
            by_cases h5 : kd = 5
            · rw [if_pos h5, hs, show k = 8 by omega]; rfl
            · rw [if_neg h5, hs, sm_nil _ (by omega)]
          exact ⟨vI_c (by unfold prtAt; rw [if_neg (by omega), if_neg (by omega)]; exact e), rfl⟩
        · refine wg_iload_2 (pc := 39) C dX1_partsAt_39 ?_
          refine wg_iconst (pc := 40) C dX1_partsAt_40 ?_
          refine wg_icmp_ne (tgt := 70) (pc := 41) C dX1_partsAt_41 (by decide) (by unfold InR; omega) (by unfold InR; omega) (fun h41 => ?_) (fun h41 => ?_)
          · refine wg_iload_3 (pc := 70) C dX1_partsAt_70 ?_
            refine wg_iret (pc := 71) C hQ dX1_partsAt_71 ?_
            have e : s = if kd = 5 then tieCnt σ p else 0 := by
              by_cases h5 : kd = 5
              · rw [if_pos h5, hs, show k = 8 by omega]; rfl
              · rw [if_neg h5, hs, sm_nil _ (by omega)]
            exact ⟨vI_c (by unfold prtAt; rw [if_neg (by omega), if_neg (by omega)]; exact e), rfl⟩
          · refine wg_iload_3 (pc := 44) C dX1_partsAt_44 ?_
            refine wg_aload_0 (pc := 45) C dX1_partsAt_45 ?_
            refine gX1_106 (pc := 46) C hX.obj rfl dX1_partsAt_46 ?_
            refine wg_iload_4 (pc := 49) C dX1_partsAt_49 ?_
            refine wg_aald (pc := 51) C rfl rfl hX.to rfl (by omega) (by omega) (by decide) (rws_at (by omega) (by omega)) dX1_partsAt_51 ?_
            refine wg_iload_1 (pc := 52) C dX1_partsAt_52 ?_
            refine wg_zald (pc := 53) C (hX.ti (by omega) (by omega)) rfl (by omega) (by omega) (by decide) dX1_partsAt_53 ?_
            rw [(hT k (by omega) (by omega) p (by omega) (by omega)).1]
            refine wg_if_eq (tgt := 61) (pc := 54) C dX1_partsAt_54 (by decide) (by unfold InR; omega) (fun h54 => ?_) (fun h54 => ?_)
            · refine wg_iconst (pc := 61) C dX1_partsAt_61 ?_
              refine wg_iadd (pc := 62) C dX1_partsAt_62 ?_
              refine wg_istore_3 (pc := 63) C dX1_partsAt_63 rfl ?_
              refine wg_iinc_4 (pc := 64) C dX1_partsAt_64 rfl ?_
              refine wg_goto (tgt := 32) (pc := 67) C dX1_partsAt_67 (by decide) ?_
              exact IH _ (by omega) (k + 1) _ rfl (by omega) (by omega) (by omega) (by rw [sm_succ _ (by omega), ← hs]; first | rw [if_pos h54] | rw [if_neg h54])
            · refine wg_iconst (pc := 57) C dX1_partsAt_57 ?_
              refine wg_goto (tgt := 62) (pc := 58) C dX1_partsAt_58 (by decide) ?_
              refine wg_iadd (pc := 62) C dX1_partsAt_62 ?_
              refine wg_istore_3 (pc := 63) C dX1_partsAt_63 rfl ?_
              refine wg_iinc_4 (pc := 64) C dX1_partsAt_64 rfl ?_
              refine wg_goto (tgt := 32) (pc := 67) C dX1_partsAt_67 (by decide) ?_
              exact IH _ (by omega) (k + 1) _ rfl (by omega) (by omega) (by omega) (by rw [sm_succ _ (by omega), ← hs]; first | rw [if_pos h54] | rw [if_neg h54])
      refine wg_iconst (pc := 27) C dX1_partsAt_27 ?_
      refine wg_istore_3 (pc := 28) C dX1_partsAt_28 rfl ?_
      refine wg_iconst (pc := 29) C dX1_partsAt_29 ?_
      refine wg_istore_4 (pc := 30) C dX1_partsAt_30 rfl ?_
      exact L32 _ 0 0 rfl (by omega) (by omega) (by omega) (by rw [sm_nil _ (by omega)])
    · refine wg_aload_0 (pc := 21) C dX1_partsAt_21 ?_
      refine wg_iload_1 (pc := 22) C dX1_partsAt_22 ?_
      refine wg_callVP (pc := 23) C kX1_levelsOf q488 (tX1_levelsOf hX hO (by omega) (by omega)) (rc_of C hX.obj rfl) dX1_partsAt_23 rfl rfl (Nat.le_of_ble_eq_true rfl) rfl (by decide) (fun f23 => ?_)
      refine wg_iret (pc := 26) C hQ dX1_partsAt_26 ?_
      exact ⟨vI_c (by unfold prtAt; rw [if_neg (by omega), if_pos (by omega)]), rfl⟩
  · refine wg_aload_0 (pc := 4) C dX1_partsAt_4 ?_
    refine wg_iload_1 (pc := 5) C dX1_partsAt_5 ?_
    refine wg_callVP (pc := 6) C kX1_standards q627 (tX1_standards hX hO (by unfold InR; omega)) (rc_of C hX.obj rfl) dX1_partsAt_6 rfl rfl (Nat.le_of_ble_eq_true rfl) rfl (by decide) (fun f6 => ?_)
    refine wg_aload_0 (pc := 9) C dX1_partsAt_9 ?_
    refine wg_iload_1 (pc := 10) C dX1_partsAt_10 ?_
    refine wg_callVP (pc := 11) C kX1_levelsOf q488 (tX1_levelsOf hX hO (by omega) (by omega)) (rc_of C hX.obj rfl) dX1_partsAt_11 rfl rfl (Nat.le_of_ble_eq_true rfl) rfl (by decide) (fun f11 => ?_)
    refine wg_imul (pc := 14) C dX1_partsAt_14 ?_
    refine wg_iret (pc := 15) C hQ dX1_partsAt_15 ?_
    exact ⟨vI_c (by unfold prtAt; rw [if_pos (by omega)]), rfl⟩

theorem tX1_partsOf_2 {G : Gm} {w : Wo} {σ ζ : St} (hX : HasX G w σ ζ) (hO : Ok σ) {b : Int} (hb0 : 0 ≤ b) (hb1 : b < nB σ) {kd : Int} (hk : InR kd) : PCt G mX1_partsOf_2 3 w [.ref (w.1 (6, b)), vI kd] (vI (prtBay σ b kd)) (0 ≤ prtBay σ b kd ∧ prtBay σ b kd ≤ 40) := by
  refine ⟨ct_of [some (.ref (w.1 (6, b))), some (vI kd)] plX1 rfl (Nat.le_of_ble_eq_true rfl) rfl ?_, prtBay_rng hO b kd⟩
  intro X hG C hnm hQ
  subst hG
  change CxOk X cX1_partsOf_2 2 RX1 (some .int) 3 at C
  have hB := hO.hB
  have hF := hO.hF
  have hlf := hO.lf b
  have hby := hO.by hb0 hb1
  have hk2 := hk
  unfold InR at hk2
  have L28 : kd = 2 → WG X 28 [some (.ref (w.1 (6, b))), some (vI kd)] [] w 0 0 := by
    intro hkd
    refine wg_iconst (pc := 28) C dX1_partsOf_2_28 ?_
    refine wg_aload_0 (pc := 29) C dX1_partsOf_2_29 ?_
    refine gX1_50 (pc := 30) C (hX.bay (by omega) (by omega)) rfl dX1_partsOf_2_30 ?_
    refine wg_imul (pc := 33) C dX1_partsOf_2_33 ?_
    refine wg_goto (tgt := 72) (pc := 34) C dX1_partsOf_2_34 (by decide) ?_
    refine wg_iret (pc := 72) C hQ dX1_partsOf_2_72 ?_
    exact ⟨vI_c (by unfold prtBay; rw [hkd]; first | rfl | (show _ = if brc σ (bfc σ b) b then lft σ b else 0; first | rw [if_pos h57] | rw [if_neg h57])), rfl⟩
  have L37 : kd = 3 → WG X 37 [some (.ref (w.1 (6, b))), some (vI kd)] [] w 0 0 := by
    intro hkd
    refine wg_iconst (pc := 37) C dX1_partsOf_2_37 ?_
    refine wg_aload_0 (pc := 38) C dX1_partsOf_2_38 ?_
    refine wg_callVP (pc := 39) C kX4_boarded q635 (tX4_boarded hX hO (by omega) (by omega)) (rc_of C (hX.bay (by omega) (by omega)) rfl) dX1_partsOf_2_39 rfl rfl (Nat.le_of_ble_eq_true rfl) rfl (by decide) (fun f39 => ?_)
    refine wg_imul (pc := 42) C dX1_partsOf_2_42 ?_
    refine wg_goto (tgt := 72) (pc := 43) C dX1_partsOf_2_43 (by decide) ?_
    refine wg_iret (pc := 72) C hQ dX1_partsOf_2_72 ?_
    exact ⟨vI_c (by unfold prtBay; rw [hkd]; first | rfl | (show _ = if brc σ (bfc σ b) b then lft σ b else 0; first | rw [if_pos h57] | rw [if_neg h57])), rfl⟩
  have L46 : kd = 4 → WG X 46 [some (.ref (w.1 (6, b))), some (vI kd)] [] w 0 0 := by
    intro hkd
    refine wg_aload_0 (pc := 46) C dX1_partsOf_2_46 ?_
    refine gX1_46 (pc := 47) C (hX.bay (by omega) (by omega)) rfl dX1_partsOf_2_47 ?_
    refine wg_aload_0 (pc := 50) C dX1_partsOf_2_50 ?_
    refine gX1_84 (pc := 51) C (hX.bay (by omega) (by omega)) rfl dX1_partsOf_2_51 ?_
    refine wg_callVP (pc := 54) C kX3_hasBrace q639 (tX3_hasBrace hX hO (by omega) (by omega) (by omega) (by omega)) (rc_of C (hX.face (by omega) (by omega)) rfl) dX1_partsOf_2_54 rfl rfl (Nat.le_of_ble_eq_true rfl) rfl (by decide) (fun f54 => ?_)
    refine wg_ifeqB (tgt := 67) (pc := 57) C dX1_partsOf_2_57 (by decide) (fun h57 => ?_) (fun h57 => ?_)
    · refine wg_iconst (pc := 67) C dX1_partsOf_2_67 ?_
      refine wg_goto (tgt := 72) (pc := 68) C dX1_partsOf_2_68 (by decide) ?_
      refine wg_iret (pc := 72) C hQ dX1_partsOf_2_72 ?_
      exact ⟨vI_c (by unfold prtBay; rw [hkd]; first | rfl | (show _ = if brc σ (bfc σ b) b then lft σ b else 0; first | rw [if_pos h57] | rw [if_neg h57])), rfl⟩
    · refine wg_aload_0 (pc := 60) C dX1_partsOf_2_60 ?_
      refine gX1_50 (pc := 61) C (hX.bay (by omega) (by omega)) rfl dX1_partsOf_2_61 ?_
      refine wg_goto (tgt := 72) (pc := 64) C dX1_partsOf_2_64 (by decide) ?_
      refine wg_iret (pc := 72) C hQ dX1_partsOf_2_72 ?_
      exact ⟨vI_c (by unfold prtBay; rw [hkd]; first | rfl | (show _ = if brc σ (bfc σ b) b then lft σ b else 0; first | rw [if_pos h57] | rw [if_neg h57])), rfl⟩
  refine wg_iload_1 (pc := 0) C dX1_partsOf_2_0 ?_
  by_cases hlo : kd < 2 ∨ 4 < kd
  · refine wg_tblOut (pc := 1) (tgt := 71) C dX1_partsOf_2_1 hk hlo (by decide) ?_
    refine wg_iconst (pc := 71) C dX1_partsOf_2_71 ?_
    refine wg_iret (pc := 72) C hQ dX1_partsOf_2_72 ⟨vI_c ?_, rfl⟩
    unfold prtBay
    rw [if_neg (by omega), if_neg (by omega), if_neg (by omega)]
  · have hc : kd = 2 ∨ kd = 3 ∨ kd = 4 := by omega
    rcases hc with rfl | rfl | rfl
    · refine wg_tblIn (pc := 1) (tgt := 28) C dX1_partsOf_2_1 hk (by decide) (by decide) rfl (by decide) ?_
      exact L28 rfl
    · refine wg_tblIn (pc := 1) (tgt := 37) C dX1_partsOf_2_1 hk (by decide) (by decide) rfl (by decide) ?_
      exact L37 rfl
    · refine wg_tblIn (pc := 1) (tgt := 46) C dX1_partsOf_2_1 hk (by decide) (by decide) rfl (by decide) ?_
      exact L46 rfl

