/-! the class: the walk goes over all levels -/
set_option maxRecDepth 100000
set_option maxHeartbeats 4000000
def wP (σ : St) (kd l p : Int) : Int := if hasLv σ p l then aP σ p l kd else 0
def wB (σ : St) (kd l b : Int) : Int := if l < lft σ b then aB σ b l kd else 0
def lvS (σ : St) (kd l : Int) : Int := sm (wP σ kd l) 0 (pos σ) + sm (wB σ kd l) 0 (nB σ)
theorem tX6_go {G : Gm} {w : Wo} {σ ζ : St} {g : Int → Int} (hX : HasX G w σ ζ) (hO : Ok σ) (hW : w.2 (60, 0) = some (ob 6 [.ref (w.1 (61, 0)), .ref (w.1 (0, 0))])) (hT : TieOk σ ζ) : Ct G mX6_go 7 0 0 (w.1, uV w.2 (61, 0) (aI G 6 g)) [.ref (w.1 (60, 0))] (fun v w1 => v = none ∧ ∃ g' : Int → Int, w1 = (w.1, uV w.2 (61, 0) (aI G 6 g')) ∧ ∀ kd, g' kd = g kd + sm (lvS σ kd) 0 8) := by
  refine ct_of [some (.ref (w.1 (60, 0))), none, none] plX6 rfl (Nat.le_of_ble_eq_true rfl) rfl ?_
  intro X hG C hnm hQ
  subst hG
  change CxOk X cX6_go 3 RX6 (none) 7 at C
  have hB := hO.hB
  have hF := hO.hF
  have hps := pos_rng hO
  have hXg : ∀ g : Int → Int, HasX (xG X) (w.1, uV w.2 (61, 0) (aI (xG X) 6 g)) σ ζ := fun g => hX.fr (fun u hu => ⟨rfl, uV_ne (tg_lt hu rfl)⟩)
  have L2 : ∀ (N : Nat) (h : Int → Int) (l : Int), (8 - l).toNat = N → 0 ≤ l → l ≤ 8 → (∀ kd, h kd = g kd + sm (lvS σ kd) 0 l) → WG X 2 [some (.ref (w.1 (60, 0))), some (vI l), none] [] (w.1, uV w.2 (61, 0) (aI (xG X) 6 h)) 0 0 := by
    intro N
    induction N using Nat.strongRecOn with | _ N IH => ?_
    intro h l hN hl0 hl1 hh
    refine wg_iload_1 (pc := 2) C dX6_go_2 ?_
    refine wg_bipush (pc := 3) C dX6_go_3 (by decide) ?_
    refine wg_icmp_ge (tgt := 119) (pc := 5) C dX6_go_5 (by decide) (by unfold InR; omega) (by unfold InR; omega) (fun h5 => ?_) (fun h5 => ?_)
    · refine wg_vret (pc := 119) C hQ dX6_go_119 ⟨rfl, h, rfl, fun kd => ?_⟩
      rw [hh kd, show l = 8 by omega]
    · have L47 : ∀ (N : Nat) (h : Int → Int) (k : Int), (nB σ - k).toNat = N → 0 ≤ k → k ≤ nB σ → (∀ kd, h kd = g kd + sm (lvS σ kd) 0 l + sm (wP σ kd l) 0 (pos σ) + sm (wB σ kd l) 0 k) → WG X 47 [some (.ref (w.1 (60, 0))), some (vI l), some (vI k)] [] (w.1, uV w.2 (61, 0) (aI (xG X) 6 h)) 0 0 := by
        intro N
        induction N using Nat.strongRecOn with | _ N IH3 => ?_
        intro h k hN3 hk0 hk1 hh
        refine wg_iload_2 (pc := 47) C dX6_go_47 ?_
        refine wg_aload_0 (pc := 48) C dX6_go_48 ?_
        refine gX6_3 (pc := 49) C ((wo_ne (tg_ne rfl)).trans hW) rfl dX6_go_49 ?_
        refine gX6_31 (pc := 52) C (hXg _).obj rfl dX6_go_52 ?_
        refine wg_callFP (pc := 55) C kF_size q589 (tJ2_size (hXg _).bl) (rc_of C (hXg _).bl rfl) dX6_go_55 rfl rfl (Nat.le_of_ble_eq_true rfl) rfl (by decide) (fun f55 => ?_)
        refine wg_icmp_ge (tgt := 113) (pc := 60) C dX6_go_60 (by decide) (by unfold InR; omega) (by unfold InR; omega) (fun h60 => ?_) (fun h60 => ?_)
        · refine wg_iinc_1 (pc := 113) C dX6_go_113 rfl ?_
          refine wg_goto (tgt := 2) (pc := 116) C dX6_go_116 (by decide) ?_
          refine WG.mask [true, true, false] rfl ?_
          exact IH _ (by omega) h (l + 1) rfl (by omega) (by omega) (fun kd => by rw [sm_succ _ hl0, hh kd, show k = nB σ by omega]; unfold lvS; omega)
        · refine wg_aload_0 (pc := 63) C dX6_go_63 ?_
          refine gX6_3 (pc := 64) C ((wo_ne (tg_ne rfl)).trans hW) rfl dX6_go_64 ?_
          refine gX6_31 (pc := 67) C (hXg _).obj rfl dX6_go_67 ?_
          refine wg_iload_2 (pc := 70) C dX6_go_70 ?_
          refine wg_callFP (pc := 71) C kF_get q591 (tJ2_get (hXg _).bl (hXg _).ba (by omega) (by omega) (by omega) (by decide) (rws_at (by omega) (by omega))) (rc_of C (hXg _).bl rfl) dX6_go_71 rfl rfl (Nat.le_of_ble_eq_true rfl) rfl (by decide) (fun f71 => ?_)
          refine wg_cast (pc := 76) (ci := 3) C rfl q592 (rc_of C ((hXg _).bay (by omega) (by omega)) rfl) dX6_go_76 ?_
          refine wg_iload_1 (pc := 79) C dX6_go_79 ?_
          refine wg_callVP (pc := 80) C kX4_has q593 (tX4_has (hXg _) hO (by omega) (by omega) (by unfold InR; omega)) (rc_of C ((hXg _).bay (by omega) (by omega)) rfl) dX6_go_80 rfl rfl (Nat.le_of_ble_eq_true rfl) rfl (by decide) (fun f80 => ?_)
          refine wg_ifeqB (tgt := 107) (pc := 83) C dX6_go_83 (by decide) (fun h83 => ?_) (fun h83 => ?_)
          · refine wg_iinc_2 (pc := 107) C dX6_go_107 rfl ?_
            refine wg_goto (tgt := 47) (pc := 110) C dX6_go_110 (by decide) ?_
            first
              | exact IH3 _ (by omega) g104 (k + 1) rfl (by omega) (by omega) (fun kd => by rw [hg104 kd, hh kd, sm_succ (wB σ kd l) hk0]; unfold wB; rw [if_pos h83]; omega)
              | exact IH3 _ (by omega) h (k + 1) rfl (by omega) (by omega) (fun kd => by rw [hh kd, sm_succ (wB σ kd l) hk0]; unfold wB; rw [if_neg h83]; omega)
          · refine wg_aload_0 (pc := 86) C dX6_go_86 ?_
            refine wg_aload_0 (pc := 87) C dX6_go_87 ?_
            refine gX6_3 (pc := 88) C ((wo_ne (tg_ne rfl)).trans hW) rfl dX6_go_88 ?_
            refine gX6_31 (pc := 91) C (hXg _).obj rfl dX6_go_91 ?_
            refine wg_iload_2 (pc := 94) C dX6_go_94 ?_
            refine wg_callFP (pc := 95) C kF_get q591 (tJ2_get (hXg _).bl (hXg _).ba (by omega) (by omega) (by omega) (by decide) (rws_at (by omega) (by omega))) (rc_of C (hXg _).bl rfl) dX6_go_95 rfl rfl (Nat.le_of_ble_eq_true rfl) rfl (by decide) (fun f95 => ?_)
            refine wg_cast (pc := 100) (ci := 3) C rfl q592 (rc_of C ((hXg _).bay (by omega) (by omega)) rfl) dX6_go_100 ?_
            refine wg_iload_1 (pc := 103) C dX6_go_103 ?_
            refine wg_callV (pc := 104) C (k' := 0) (n' := 0) kX6_atBay q597 (tX6_atBay (w := w) (g := h) hX hO hW (by omega) (by omega) (by omega) (by omega)) (rc_of C ((wo_ne (tg_ne rfl)).trans hW) rfl) dX6_go_104 rfl rfl (Nat.le_of_ble_eq_true rfl) rfl (by decide) (by omega) (by omega) (fun v104 w104 h104 => ?_)
            obtain ⟨e104, g104, ew104, hg104⟩ := h104
            subst e104
            rw [ew104]
            refine wg_iinc_2 (pc := 107) C dX6_go_107 rfl ?_
            refine wg_goto (tgt := 47) (pc := 110) C dX6_go_110 (by decide) ?_
            first
              | exact IH3 _ (by omega) g104 (k + 1) rfl (by omega) (by omega) (fun kd => by rw [hg104 kd, hh kd, sm_succ (wB σ kd l) hk0]; unfold wB; rw [if_pos h83]; omega)
              | exact IH3 _ (by omega) h (k + 1) rfl (by omega) (by omega) (fun kd => by rw [hh kd, sm_succ (wB σ kd l) hk0]; unfold wB; rw [if_neg h83]; omega)
      have L10 : ∀ (N : Nat) (h : Int → Int) (k : Int), (pos σ - k).toNat = N → 0 ≤ k → k ≤ pos σ → (∀ kd, h kd = g kd + sm (lvS σ kd) 0 l + sm (wP σ kd l) 0 k) → WG X 10 [some (.ref (w.1 (60, 0))), some (vI l), some (vI k)] [] (w.1, uV w.2 (61, 0) (aI (xG X) 6 h)) 0 0 := by
        intro N
        induction N using Nat.strongRecOn with | _ N IH2 => ?_
        intro h k hN2 hk0 hk1 hh
        refine wg_iload_2 (pc := 10) C dX6_go_10 ?_
        refine wg_aload_0 (pc := 11) C dX6_go_11 ?_
        refine gX6_3 (pc := 12) C ((wo_ne (tg_ne rfl)).trans hW) rfl dX6_go_12 ?_
        refine wg_callVNP (pc := 15) C kX1_positions (nM_X6_19 C) (tX1_positions (hXg _) hO) (rc_of C (hXg _).obj rfl) dX6_go_15 rfl rfl (Nat.le_of_ble_eq_true rfl) rfl (by decide) (fun f15 => ?_)
        refine wg_icmp_ge (tgt := 45) (pc := 18) C dX6_go_18 (by decide) (by unfold InR; omega) (by unfold InR; omega) (fun h18 => ?_) (fun h18 => ?_)
        · refine wg_iconst (pc := 45) C dX6_go_45 ?_
          refine wg_istore_2 (pc := 46) C dX6_go_46 rfl ?_
          exact L47 _ h 0 rfl (by omega) (by omega) (fun kd => by rw [hh kd, sm_nil (wB σ kd l) (by omega), show k = pos σ by omega]; omega)
        · refine wg_aload_0 (pc := 21) C dX6_go_21 ?_
          refine gX6_3 (pc := 22) C ((wo_ne (tg_ne rfl)).trans hW) rfl dX6_go_22 ?_
          refine wg_iload_2 (pc := 25) C dX6_go_25 ?_
          refine wg_iload_1 (pc := 26) C dX6_go_26 ?_
          refine wg_callVNP (pc := 27) C kX1_hasLevel (nM_X6_23 C) (tX1_hasLevel (hXg _) hO (by unfold InR; omega) (by unfold InR; omega)) (rc_of C (hXg _).obj rfl) dX6_go_27 rfl rfl (Nat.le_of_ble_eq_true rfl) rfl (by decide) (fun f27 => ?_)
          refine wg_ifeqB (tgt := 39) (pc := 30) C dX6_go_30 (by decide) (fun h30 => ?_) (fun h30 => ?_)
          · refine wg_iinc_2 (pc := 39) C dX6_go_39 rfl ?_
            refine wg_goto (tgt := 10) (pc := 42) C dX6_go_42 (by decide) ?_
            first
              | exact IH2 _ (by omega) g36 (k + 1) rfl (by omega) (by omega) (fun kd => by rw [hg36 kd, hh kd, sm_succ (wP σ kd l) hk0]; unfold wP; rw [if_pos h30]; omega)
              | exact IH2 _ (by omega) h (k + 1) rfl (by omega) (by omega) (fun kd => by rw [hh kd, sm_succ (wP σ kd l) hk0]; unfold wP; rw [if_neg h30]; omega)
          · refine wg_aload_0 (pc := 33) C dX6_go_33 ?_
            refine wg_iload_2 (pc := 34) C dX6_go_34 ?_
            refine wg_iload_1 (pc := 35) C dX6_go_35 ?_
            refine wg_callV (pc := 36) C (k' := 0) (n' := 0) kX6_atPosition q580 (tX6_atPosition (w := w) (g := h) hX hO hW hT h30.1 h30.2.1 (by omega) (by omega)) (rc_of C ((wo_ne (tg_ne rfl)).trans hW) rfl) dX6_go_36 rfl rfl (Nat.le_of_ble_eq_true rfl) rfl (by decide) (by omega) (by omega) (fun v36 w36 h36 => ?_)
            obtain ⟨e36, g36, ew36, hg36⟩ := h36
            subst e36
            rw [ew36]
            refine wg_iinc_2 (pc := 39) C dX6_go_39 rfl ?_
            refine wg_goto (tgt := 10) (pc := 42) C dX6_go_42 (by decide) ?_
            first
              | exact IH2 _ (by omega) g36 (k + 1) rfl (by omega) (by omega) (fun kd => by rw [hg36 kd, hh kd, sm_succ (wP σ kd l) hk0]; unfold wP; rw [if_pos h30]; omega)
              | exact IH2 _ (by omega) h (k + 1) rfl (by omega) (by omega) (fun kd => by rw [hh kd, sm_succ (wP σ kd l) hk0]; unfold wP; rw [if_neg h30]; omega)
      refine wg_iconst (pc := 8) C dX6_go_8 ?_
      refine wg_istore_2 (pc := 9) C dX6_go_9 rfl ?_
      exact L10 _ h 0 rfl (by omega) (by omega) (fun kd => by rw [hh kd, sm_nil (wP σ kd l) (by omega)]; omega)
  refine wg_iconst (pc := 0) C dX6_go_0 ?_
  refine wg_istore_1 (pc := 1) C dX6_go_1 rfl ?_
  refine WG.mask [true, true, false] rfl ?_
  exact L2 _ g 0 rfl (by omega) (by omega) (fun kd => by rw [sm_nil _ (by omega)]; omega)

