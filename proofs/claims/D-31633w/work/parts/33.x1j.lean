/-! the class: the walk over all parts -/
set_option maxRecDepth 100000
set_option maxHeartbeats 4000000
theorem uV_self {V : Tg → Option va_E} {t : Tg} {e : va_E} (h : V t = some e) : uV V t e = V := by
  funext u
  by_cases hu : u = t
  · subst hu; rw [uV_eq, h]
  · exact uV_ne hu
def aP (σ : St) (p l kd : Int) : Int := if kd = 0 then stds σ p else if kd = 1 then 1 else if kd = 5 then ties σ l p else 0
def aB (σ : St) (b l kd : Int) : Int := if kd = 2 then 2 else if kd = 3 then (if σ 5 b l = 0 then 0 else 5) else if kd = 4 then (if brc σ (bfc σ b) b then 1 else 0) else 0
theorem tX6_init {G : Gm} {w : Wo} {t ta : Tg} {y : Nat} {a b : Value} (htt : t ≠ ta) (hV : w.2 t = some (ob 6 [a, b])) : Ct G mX6_init 1 1 6 w [.ref (w.1 t), .ref y] (fun v w1 => v = none ∧ (∀ u, u ≠ ta → w1.1 u = w.1 u) ∧ w1.2 t = some (ob 6 [.ref (w1.1 ta), .ref y]) ∧ w1.2 ta = some (aI G 6 (fun _ => 0)) ∧ ∀ u, u ≠ t → u ≠ ta → w1.2 u = w.2 u) := by
  refine ct_of [some (.ref (w.1 t)), some (.ref y)] plX6 rfl (Nat.le_of_ble_eq_true rfl) rfl ?_
  intro X hG C hnm hQ
  subst hG
  change CxOk X cX6_init 2 RX6 (none) 1 at C
  refine wg_aload_0 (pc := 0) C dX6_init_0 ?_
  refine wg_aload_1 (pc := 1) C dX6_init_1 ?_
  refine pX6_3 (pc := 2) C hnm hV rfl dX6_init_2 ?_
  refine wg_aload_0 (pc := 5) C dX6_init_5 ?_
  refine wg_objInit (pc := 6) C q565 q103 q104 dX6_init_6 (by decide) (by decide) rfl ?_
  refine wg_aload_0 (pc := 9) C dX6_init_9 ?_
  refine wg_bipush (pc := 10) C dX6_init_10 (by decide) ?_
  refine wg_newaI (pc := 12) (nn := 6) (k' := 0) (n' := 0) ta C q551 rfl (by decide) dX6_init_12 (by omega) (by omega) (fun ad q hq hu => ?_)
  have ht := hu t htt
  subst hq
  rw [← show ad t = w.1 t from ht]
  refine pX6_15 (pc := 14) C hnm ((wo_ne htt).trans wo_eq) rfl dX6_init_14 ?_
  refine wg_vret (pc := 17) C hQ dX6_init_17 ?_
  refine ⟨rfl, fun u hne => hu u hne, ?_, ?_, fun u g1 g2 => ?_⟩
  · exact uV_eq _ _ _
  · exact (uV_ne (Ne.symm htt)).trans (uV_eq _ _ _)
  · exact (uV_ne g1).trans ((uV_ne g2).trans (uV_ne g1))

theorem tX6_atPosition {G : Gm} {w : Wo} {σ ζ : St} {g : Int → Int} (hX : HasX G w σ ζ) (hO : Ok σ) (hW : w.2 (60, 0) = some (ob 6 [.ref (w.1 (61, 0)), .ref (w.1 (0, 0))])) (hT : TieOk σ ζ) {p l : Int} (hp0 : 0 ≤ p) (hp1 : p < pos σ) (hl0 : 0 ≤ l) (hl1 : l < 8) : Ct G mX6_atPosition 5 0 0 (w.1, uV w.2 (61, 0) (aI G 6 g)) [.ref (w.1 (60, 0)), vI p, vI l] (fun v w1 => v = none ∧ ∃ g' : Int → Int, w1 = (w.1, uV w.2 (61, 0) (aI G 6 g')) ∧ ∀ kd, g' kd = g kd + aP σ p l kd) := by
  refine ct_of [some (.ref (w.1 (60, 0))), some (vI p), some (vI l)] plX6 rfl (Nat.le_of_ble_eq_true rfl) rfl ?_
  intro X hG C hnm hQ
  subst hG
  change CxOk X cX6_atPosition 3 RX6 (none) 5 at C
  have hB := hO.hB
  have hF := hO.hF
  have hps := pos_rng hO
  have hti := ties_rng hO l p
  have hXg : ∀ g : Int → Int, HasX (xG X) (w.1, uV w.2 (61, 0) (aI (xG X) 6 g)) σ ζ := fun g => hX.fr (fun u hu => ⟨rfl, uV_ne (tg_lt hu rfl)⟩)
  refine wg_aload_0 (pc := 0) C dX6_atPosition_0 ?_
  refine gX6_15 (pc := 1) C ((wo_ne (tg_ne rfl)).trans hW) rfl dX6_atPosition_1 ?_
  refine wg_iconst (pc := 4) C dX6_atPosition_4 ?_
  refine wg_dup2 (pc := 5) C dX6_atPosition_5 rfl rfl ?_
  refine wg_iald (pc := 6) C wo_eq rfl (by omega) (by omega) (by decide) dX6_atPosition_6 ?_
  refine wg_iconst (pc := 7) C dX6_atPosition_7 ?_
  refine wg_iadd (pc := 8) C dX6_atPosition_8 ?_
  refine wg_iast (pc := 9) C wo_eq rfl (by omega) (by omega) (by decide) dX6_atPosition_9 ?_
  show WG X _ _ _ (w.1, uV (uV w.2 (61, 0) _) (61, 0) _) _ _
  rw [uV_uV]
  generalize hg1 : up g 0 (g 0 + 1) = g1
  refine wg_aload_0 (pc := 10) C dX6_atPosition_10 ?_
  refine gX6_15 (pc := 11) C ((wo_ne (tg_ne rfl)).trans hW) rfl dX6_atPosition_11 ?_
  refine wg_iconst (pc := 14) C dX6_atPosition_14 ?_
  refine wg_dup2 (pc := 15) C dX6_atPosition_15 rfl rfl ?_
  refine wg_iald (pc := 16) C wo_eq rfl (by omega) (by omega) (by decide) dX6_atPosition_16 ?_
  refine wg_iconst (pc := 17) C dX6_atPosition_17 ?_
  refine wg_iadd (pc := 18) C dX6_atPosition_18 ?_
  refine wg_iast (pc := 19) C wo_eq rfl (by omega) (by omega) (by decide) dX6_atPosition_19 ?_
  have L41 : ∀ (h : Int → Int), (∀ kd, h kd = g kd + (if kd = 0 then stds σ p else 0)) → WG X 41 [some (.ref (w.1 (60, 0))), some (vI p), some (vI l)] [] (w.1, uV w.2 (61, 0) (aI (xG X) 6 h)) 0 0 := by
    intro h hh
    refine wg_aload_0 (pc := 41) C dX6_atPosition_41 ?_
    refine gX6_15 (pc := 42) C ((wo_ne (tg_ne rfl)).trans hW) rfl dX6_atPosition_42 ?_
    refine wg_iconst (pc := 45) C dX6_atPosition_45 ?_
    refine wg_dup2 (pc := 46) C dX6_atPosition_46 rfl rfl ?_
    refine wg_iald (pc := 47) C wo_eq rfl (by omega) (by omega) (by decide) dX6_atPosition_47 ?_
    refine wg_iconst (pc := 48) C dX6_atPosition_48 ?_
    refine wg_iadd (pc := 49) C dX6_atPosition_49 ?_
    refine wg_iast (pc := 50) C wo_eq rfl (by omega) (by omega) (by decide) dX6_atPosition_50 ?_
    show WG X _ _ _ (w.1, uV (uV w.2 (61, 0) _) (61, 0) _) _ _
    rw [uV_uV]
    generalize hg4 : up h 1 (h 1 + 1) = h4
    refine wg_aload_0 (pc := 51) C dX6_atPosition_51 ?_
    refine gX6_3 (pc := 52) C ((wo_ne (tg_ne rfl)).trans hW) rfl dX6_atPosition_52 ?_
    refine gX6_57 (pc := 55) C (hXg _).obj rfl dX6_atPosition_55 ?_
    refine wg_iload_2 (pc := 58) C dX6_atPosition_58 ?_
    refine wg_aald (pc := 59) C rfl rfl (hXg _).to rfl (by omega) (by omega) (by decide) (rws_at (by omega) (by omega)) dX6_atPosition_59 ?_
    refine wg_iload_1 (pc := 60) C dX6_atPosition_60 ?_
    refine wg_zald (pc := 61) C ((hXg _).ti (by omega) (by omega)) rfl (by omega) (by omega) (by decide) dX6_atPosition_61 ?_
    rw [(hT l hl0 hl1 p hp0 (by omega)).1]
    refine wg_if_eq (tgt := 75) (pc := 62) C dX6_atPosition_62 (by decide) (by unfold InR; omega) (fun h62 => ?_) (fun h62 => ?_)
    · first
        | (show WG X _ _ _ (w.1, uV (uV w.2 (61, 0) _) (61, 0) _) _ _; rw [uV_uV])
        | skip
      refine wg_vret (pc := 75) C hQ dX6_atPosition_75 ⟨rfl, _, rfl, fun kd => ?_⟩
      have hk := hh kd
      subst hg4
      unfold aP
      try simp only [up]
      have h1 := hh 1
      have h5 := hh 5
      simp only [show ¬ (1 : Int) = 0 by decide, show ¬ (5 : Int) = 0 by decide, if_false] at h1 h5
      (repeat' split) <;> (repeat' split at hk) <;> subst_vars <;> omega
    · refine wg_aload_0 (pc := 65) C dX6_atPosition_65 ?_
      refine gX6_15 (pc := 66) C ((wo_ne (tg_ne rfl)).trans hW) rfl dX6_atPosition_66 ?_
      refine wg_iconst (pc := 69) C dX6_atPosition_69 ?_
      refine wg_dup2 (pc := 70) C dX6_atPosition_70 rfl rfl ?_
      refine wg_iald (pc := 71) C wo_eq rfl (by omega) (by omega) (by decide) dX6_atPosition_71 ?_
      refine wg_iconst (pc := 72) C dX6_atPosition_72 ?_
      refine wg_iadd (pc := 73) C dX6_atPosition_73 ?_
      refine wg_iast (pc := 74) C wo_eq rfl (by omega) (by omega) (by decide) dX6_atPosition_74 ?_
      first
        | (show WG X _ _ _ (w.1, uV (uV w.2 (61, 0) _) (61, 0) _) _ _; rw [uV_uV])
        | skip
      refine wg_vret (pc := 75) C hQ dX6_atPosition_75 ⟨rfl, _, rfl, fun kd => ?_⟩
      have hk := hh kd
      subst hg4
      unfold aP
      try simp only [up]
      have h1 := hh 1
      have h5 := hh 5
      simp only [show ¬ (1 : Int) = 0 by decide, show ¬ (5 : Int) = 0 by decide, if_false] at h1 h5
      (repeat' split) <;> (repeat' split at hk) <;> subst_vars <;> omega
  show WG X _ _ _ (w.1, uV (uV w.2 (61, 0) _) (61, 0) _) _ _
  rw [uV_uV]
  generalize hg2 : up g1 0 (g1 0 + 1) = g2
  refine wg_aload_0 (pc := 20) C dX6_atPosition_20 ?_
  refine gX6_3 (pc := 21) C ((wo_ne (tg_ne rfl)).trans hW) rfl dX6_atPosition_21 ?_
  refine wg_iload_1 (pc := 24) C dX6_atPosition_24 ?_
  refine wg_callVNP (pc := 25) C kX1_isBetween (nM_X6_54 C) (tX1_isBetween (hXg _) hO (by unfold InR; omega)) (rc_of C (hXg _).obj rfl) dX6_atPosition_25 rfl rfl (Nat.le_of_ble_eq_true rfl) rfl (by decide) (fun f25 => ?_)
  refine wg_ifeqB (tgt := 41) (pc := 28) C dX6_atPosition_28 (by decide) (fun h28 => ?_) (fun h28 => ?_)
  · have hs : stds σ p = 2 := if_neg h28
    first
      | (show WG X _ _ _ (w.1, uV (uV w.2 (61, 0) _) (61, 0) _) _ _; rw [uV_uV])
      | skip
    exact L41 _ (fun kd => by subst hg1 hg2; rw [hs]; simp only [up]; (repeat' split) <;> (try subst_vars) <;> omega)
  · have hs : stds σ p = 3 := if_pos h28
    refine wg_aload_0 (pc := 31) C dX6_atPosition_31 ?_
    refine gX6_15 (pc := 32) C ((wo_ne (tg_ne rfl)).trans hW) rfl dX6_atPosition_32 ?_
    refine wg_iconst (pc := 35) C dX6_atPosition_35 ?_
    refine wg_dup2 (pc := 36) C dX6_atPosition_36 rfl rfl ?_
    refine wg_iald (pc := 37) C wo_eq rfl (by omega) (by omega) (by decide) dX6_atPosition_37 ?_
    refine wg_iconst (pc := 38) C dX6_atPosition_38 ?_
    refine wg_iadd (pc := 39) C dX6_atPosition_39 ?_
    refine wg_iast (pc := 40) C wo_eq rfl (by omega) (by omega) (by decide) dX6_atPosition_40 ?_
    first
      | (show WG X _ _ _ (w.1, uV (uV w.2 (61, 0) _) (61, 0) _) _ _; rw [uV_uV])
      | skip
    exact L41 _ (fun kd => by subst hg1 hg2; rw [hs]; simp only [up]; (repeat' split) <;> (try subst_vars) <;> omega)

theorem tX6_atBay {G : Gm} {w : Wo} {σ ζ : St} {g : Int → Int} (hX : HasX G w σ ζ) (hO : Ok σ) (hW : w.2 (60, 0) = some (ob 6 [.ref (w.1 (61, 0)), .ref (w.1 (0, 0))])) {b l : Int} (hb0 : 0 ≤ b) (hb1 : b < nB σ) (hl0 : 0 ≤ l) (hl1 : l < 8) : Ct G mX6_atBay 3 0 0 (w.1, uV w.2 (61, 0) (aI G 6 g)) [.ref (w.1 (60, 0)), .ref (w.1 (6, b)), vI l] (fun v w1 => v = none ∧ ∃ g' : Int → Int, w1 = (w.1, uV w.2 (61, 0) (aI G 6 g')) ∧ ∀ kd, g' kd = g kd + aB σ b l kd) := by
  refine ct_of [some (.ref (w.1 (60, 0))), some (.ref (w.1 (6, b))), some (vI l), none] plX6 rfl (Nat.le_of_ble_eq_true rfl) rfl ?_
  intro X hG C hnm hQ
  subst hG
  change CxOk X cX6_atBay 4 RX6 (none) 3 at C
  have hB := hO.hB
  have hF := hO.hF
  have hby := hO.by hb0 hb1
  have hfc := hO.fc hby.1 hby.2.1
  have hbd := hO.bd b l
  have hXg : ∀ g : Int → Int, HasX (xG X) (w.1, uV w.2 (61, 0) (aI (xG X) 6 g)) σ ζ := fun g => hX.fr (fun u hu => ⟨rfl, uV_ne (tg_lt hu rfl)⟩)
  refine wg_aload_0 (pc := 0) C dX6_atBay_0 ?_
  refine gX6_15 (pc := 1) C ((wo_ne (tg_ne rfl)).trans hW) rfl dX6_atBay_1 ?_
  refine wg_iconst (pc := 4) C dX6_atBay_4 ?_
  refine wg_dup2 (pc := 5) C dX6_atBay_5 rfl rfl ?_
  refine wg_iald (pc := 6) C wo_eq rfl (by omega) (by omega) (by decide) dX6_atBay_6 ?_
  refine wg_iconst (pc := 7) C dX6_atBay_7 ?_
  refine wg_iadd (pc := 8) C dX6_atBay_8 ?_
  refine wg_iast (pc := 9) C wo_eq rfl (by omega) (by omega) (by decide) dX6_atBay_9 ?_
  show WG X _ _ _ (w.1, uV (uV w.2 (61, 0) _) (61, 0) _) _ _
  rw [uV_uV]
  generalize hg1 : up g 2 (g 2 + 1) = g1
  refine wg_aload_0 (pc := 10) C dX6_atBay_10 ?_
  refine gX6_15 (pc := 11) C ((wo_ne (tg_ne rfl)).trans hW) rfl dX6_atBay_11 ?_
  refine wg_iconst (pc := 14) C dX6_atBay_14 ?_
  refine wg_dup2 (pc := 15) C dX6_atBay_15 rfl rfl ?_
  refine wg_iald (pc := 16) C wo_eq rfl (by omega) (by omega) (by decide) dX6_atBay_16 ?_
  refine wg_iconst (pc := 17) C dX6_atBay_17 ?_
  refine wg_iadd (pc := 18) C dX6_atBay_18 ?_
  refine wg_iast (pc := 19) C wo_eq rfl (by omega) (by omega) (by decide) dX6_atBay_19 ?_
  have L52 : ∀ (h : Int → Int), (∀ kd, h kd = g kd + (if kd = 2 then 2 else 0) + (if kd = 3 then (if σ 5 b l = 0 then 0 else 5) else 0)) → WG X 52 [some (.ref (w.1 (60, 0))), some (.ref (w.1 (6, b))), some (vI l), none] [] (w.1, uV w.2 (61, 0) (aI (xG X) 6 h)) 0 0 := by
    intro h hh
    refine wg_aload_1 (pc := 52) C dX6_atBay_52 ?_
    refine gX6_65 (pc := 53) C ((hXg _).bay hb0 hb1) rfl dX6_atBay_53 ?_
    refine wg_aload_1 (pc := 56) C dX6_atBay_56 ?_
    refine gX6_69 (pc := 57) C ((hXg _).bay hb0 hb1) rfl dX6_atBay_57 ?_
    refine wg_callVP (pc := 60) C kX3_hasBrace q601 (tX3_hasBrace (hXg _) hO hby.1 hby.2.1 (by omega) (by omega)) (rc_of C ((hXg _).face hby.1 hby.2.1) rfl) dX6_atBay_60 rfl rfl (Nat.le_of_ble_eq_true rfl) rfl (by decide) (fun f60 => ?_)
    refine wg_ifeqB (tgt := 76) (pc := 63) C dX6_atBay_63 (by decide) (fun h63 => ?_) (fun h63 => ?_)
    · first
        | (show WG X _ _ _ (w.1, uV (uV w.2 (61, 0) _) (61, 0) _) _ _; rw [uV_uV])
        | skip
      refine wg_vret (pc := 76) C hQ dX6_atBay_76 ⟨rfl, _, rfl, fun kd => ?_⟩
      have hk := hh kd
      unfold aB
      try simp only [up]
      have h4 := hh 4
      rw [if_neg (by decide), if_neg (by decide)] at h4
      (repeat' split) <;> (repeat' split at hk) <;> subst_vars <;> first | omega | contradiction
    · refine wg_aload_0 (pc := 66) C dX6_atBay_66 ?_
      refine gX6_15 (pc := 67) C ((wo_ne (tg_ne rfl)).trans hW) rfl dX6_atBay_67 ?_
      refine wg_iconst (pc := 70) C dX6_atBay_70 ?_
      refine wg_dup2 (pc := 71) C dX6_atBay_71 rfl rfl ?_
      refine wg_iald (pc := 72) C wo_eq rfl (by omega) (by omega) (by decide) dX6_atBay_72 ?_
      refine wg_iconst (pc := 73) C dX6_atBay_73 ?_
      refine wg_iadd (pc := 74) C dX6_atBay_74 ?_
      refine wg_iast (pc := 75) C wo_eq rfl (by omega) (by omega) (by decide) dX6_atBay_75 ?_
      first
        | (show WG X _ _ _ (w.1, uV (uV w.2 (61, 0) _) (61, 0) _) _ _; rw [uV_uV])
        | skip
      refine wg_vret (pc := 76) C hQ dX6_atBay_76 ⟨rfl, _, rfl, fun kd => ?_⟩
      have hk := hh kd
      unfold aB
      try simp only [up]
      have h4 := hh 4
      rw [if_neg (by decide), if_neg (by decide)] at h4
      (repeat' split) <;> (repeat' split at hk) <;> subst_vars <;> first | omega | contradiction
  have L22 : ∀ (N : Nat) (h : Int → Int) (j : Int), (5 - j).toNat = N → 0 ≤ j → j ≤ 5 → (∀ kd, h kd = g kd + (if kd = 2 then 2 else 0) + (if kd = 3 then (if σ 5 b l = 0 then 0 else j) else 0)) → WG X 22 [some (.ref (w.1 (60, 0))), some (.ref (w.1 (6, b))), some (vI l), some (vI j)] [] (w.1, uV w.2 (61, 0) (aI (xG X) 6 h)) 0 0 := by
    intro N
    induction N using Nat.strongRecOn with | _ N IH => ?_
    intro h j hN hj0 hj1 hh
    refine wg_iload_3 (pc := 22) C dX6_atBay_22 ?_
    refine wg_iconst (pc := 23) C dX6_atBay_23 ?_
    refine wg_icmp_ge (tgt := 52) (pc := 24) C dX6_atBay_24 (by decide) (by unfold InR; omega) (by unfold InR; omega) (fun h24 => ?_) (fun h24 => ?_)
    · refine WG.mask [true, true, true, false] rfl ?_
      exact L52 _ (fun kd => by
          have hk := hh kd
          rw [hk]
          by_cases e3 : kd = 3
          · rw [if_pos e3, if_pos e3]
            by_cases e5 : σ 5 b l = 0
            · rw [if_pos e5, if_pos e5]
            · rw [if_neg e5, if_neg e5]; first | (exfalso; exact e5 h33) | omega
          · rw [if_neg e3, if_neg e3])
    · refine wg_aload_1 (pc := 27) C dX6_atBay_27 ?_
      refine gX6_61 (pc := 28) C ((hXg _).bay hb0 hb1) rfl dX6_atBay_28 ?_
      refine wg_iload_2 (pc := 31) C dX6_atBay_31 ?_
      refine wg_zald (pc := 32) C ((hXg _).bd hb0 hb1) rfl (by omega) (by omega) (by decide) dX6_atBay_32 ?_
      refine wg_if_eq (tgt := 52) (pc := 33) C dX6_atBay_33 (by decide) (by unfold InR; omega) (fun h33 => ?_) (fun h33 => ?_)
      · refine WG.mask [true, true, true, false] rfl ?_
        exact L52 _ (fun kd => by
            have hk := hh kd
            rw [hk]
            by_cases e3 : kd = 3
            · rw [if_pos e3, if_pos e3]
              by_cases e5 : σ 5 b l = 0
              · rw [if_pos e5, if_pos e5]
              · rw [if_neg e5, if_neg e5]; first | (exfalso; exact e5 h33) | omega
            · rw [if_neg e3, if_neg e3])
      · refine wg_aload_0 (pc := 36) C dX6_atBay_36 ?_
        refine gX6_15 (pc := 37) C ((wo_ne (tg_ne rfl)).trans hW) rfl dX6_atBay_37 ?_
        refine wg_iconst (pc := 40) C dX6_atBay_40 ?_
        refine wg_dup2 (pc := 41) C dX6_atBay_41 rfl rfl ?_
        refine wg_iald (pc := 42) C wo_eq rfl (by omega) (by omega) (by decide) dX6_atBay_42 ?_
        refine wg_iconst (pc := 43) C dX6_atBay_43 ?_
        refine wg_iadd (pc := 44) C dX6_atBay_44 ?_
        refine wg_iast (pc := 45) C wo_eq rfl (by omega) (by omega) (by decide) dX6_atBay_45 ?_
        refine wg_iinc_3 (pc := 46) C dX6_atBay_46 rfl ?_
        refine wg_goto (tgt := 22) (pc := 49) C dX6_atBay_49 (by decide) ?_
        show WG X _ _ _ (w.1, uV (uV w.2 (61, 0) _) (61, 0) _) _ _
        rw [uV_uV]
        exact IH _ (by omega) _ (j + 1) rfl (by omega) (by omega) (fun kd => by
            have hk := hh kd
            have h3 := hh 3
            rw [if_neg (by decide), if_pos rfl, if_neg h33] at h3
            simp only [up]
            by_cases e3 : kd = 3
            · rw [if_pos e3, e3, if_neg (by decide), if_pos rfl, if_neg h33]; omega
            · rw [if_neg e3, hk, if_neg e3, if_neg e3])
  show WG X _ _ _ (w.1, uV (uV w.2 (61, 0) _) (61, 0) _) _ _
  rw [uV_uV]
  generalize hg2 : up g1 2 (g1 2 + 1) = g2
  refine wg_iconst (pc := 20) C dX6_atBay_20 ?_
  refine wg_istore_3 (pc := 21) C dX6_atBay_21 rfl ?_
  exact L22 _ _ 0 rfl (by omega) (by omega) (fun kd => by
      subst hg1 hg2
      by_cases e2 : kd = 2
      · subst e2; rw [up_eq, up_eq, if_pos rfl, if_neg (by decide)]; omega
      · rw [up_ne e2, up_ne e2, if_neg e2]; (repeat' split) <;> omega)

