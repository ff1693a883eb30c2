/-! the class: what writes, without new objects -/
set_option maxRecDepth 100000
set_option maxHeartbeats 4000000
theorem uS_same (σ : St) {c : Nat} {i j v : Int} (h : σ c i j = v) : uS σ c i j v = σ := by
  funext c' i' j'
  show (if c' = c ∧ i' = i ∧ j' = j then v else σ c' i' j') = σ c' i' j'
  by_cases hc : c' = c ∧ i' = i ∧ j' = j
  · rw [if_pos hc, hc.1, hc.2.1, hc.2.2, h]
  · rw [if_neg hc]
def stLim (σ : St) (n : Int) : St := if lim σ = n then uS σ 11 0 0 n else wdAll (uS σ 11 0 0 n)
def stCut (σ : St) (p l v : Int) : St := if σ 8 l p = v then σ else wdAll (uS σ 8 l p v)
def stSet (σ : St) (b n : Int) : St := if lft σ b = n then σ else wdAll (stLft σ b n)
theorem tX3_withdraw {G : Gm} {w : Wo} {σ ζ : St} (hX : HasX G w σ ζ) (hO : Ok σ) {f : Int} (hf0 : 0 ≤ f) (hf1 : f < nF σ) : Ct G mX3_withdraw 1 0 0 w [.ref (w.1 (3, f))] (fun v w1 => v = none ∧ SmX w w1 ∧ HasX G w1 (uS σ 9 f 0 (-1)) ζ) := by
  refine ct_of [some (.ref (w.1 (3, f)))] plX3 rfl (Nat.le_of_ble_eq_true rfl) rfl ?_
  intro X hG C hnm hQ
  subst hG
  change CxOk X cX3_withdraw 1 RX3 (none) 1 at C
  have hB := hO.hB
  have hF := hO.hF
  have hc := hO.fc hf0 hf1
  refine wg_aload_0 (pc := 0) C dX3_withdraw_0 ?_
  refine wg_iconst (pc := 1) C dX3_withdraw_1 ?_
  refine pX3_15 (pc := 2) C (hX.face (by omega) (by omega)) rfl dX3_withdraw_2 ?_
  refine wg_vret (pc := 5) C hQ dX3_withdraw_5 ?_
  exact ⟨rfl, (SmX.rf w).uv rfl, hX.wGrn f (-1)⟩

theorem tX1_withdrawAll {G : Gm} {w : Wo} {σ ζ : St} (hX : HasX G w σ ζ) (hO : Ok σ) : Ct G mX1_withdrawAll 4 0 0 w [.ref (w.1 (0, 0))] (fun v w1 => v = none ∧ SmX w w1 ∧ HasX G w1 (wdAll σ) ζ) := by
  refine ct_of [some (.ref (w.1 (0, 0))), none] plX1 rfl (Nat.le_of_ble_eq_true rfl) rfl ?_
  intro X hG C hnm hQ
  subst hG
  change CxOk X cX1_withdrawAll 2 RX1 (none) 4 at C
  have hB := hO.hB
  have hF := hO.hF
  have L2 : ∀ (N : Nat) (V : Tg → Option va_E) (k : Int), (nF σ - k).toNat = N → SmX w (w.1, V) → HasX (xG X) (w.1, V) (wdTo σ k) ζ → 0 ≤ k → k ≤ nF σ → WG X 2 [some (.ref (w.1 (0, 0))), some (vI k)] [] (w.1, V) 0 0 := by
    intro N
    induction N using Nat.strongRecOn with | _ N IH => ?_
    intro V k hN hS hX hk0 hk1
    have hO := hO.wdTo k
    have enF : nF (wdTo σ k) = nF σ := rfl
    refine wg_iload_1 (pc := 2) C dX1_withdrawAll_2 ?_
    refine wg_aload_0 (pc := 3) C dX1_withdrawAll_3 ?_
    refine gX1_71 (pc := 4) C hX.obj rfl dX1_withdrawAll_4 ?_
    refine wg_callFP (pc := 7) C kF_size q477 (tJ2_size hX.fl) (rc_of C hX.fl rfl) dX1_withdrawAll_7 rfl rfl (Nat.le_of_ble_eq_true rfl) rfl (by decide) (fun f7 => ?_)
    refine wg_icmp_ge (tgt := 37) (pc := 12) C dX1_withdrawAll_12 (by decide) (by unfold InR; omega) (by unfold InR; omega) (fun h12 => ?_) (fun h12 => ?_)
    · refine wg_vret (pc := 37) C hQ dX1_withdrawAll_37 ?_
      have e : k = nF σ := by omega
      subst e
      exact ⟨rfl, hS, hX⟩
    · refine wg_aload_0 (pc := 15) C dX1_withdrawAll_15 ?_
      refine gX1_71 (pc := 16) C hX.obj rfl dX1_withdrawAll_16 ?_
      refine wg_iload_1 (pc := 19) C dX1_withdrawAll_19 ?_
      refine wg_callFP (pc := 20) C kF_get q497 (tJ2_get hX.fl hX.fa (by omega) (by omega) (by omega) (by decide) (rws_at (by omega) (by omega))) (rc_of C hX.fl rfl) dX1_withdrawAll_20 rfl rfl (Nat.le_of_ble_eq_true rfl) rfl (by decide) (fun f20 => ?_)
      refine wg_cast (pc := 25) (ci := 2) C rfl q613 (rc_of C (hX.face (by omega) (by omega)) rfl) dX1_withdrawAll_25 ?_
      refine wg_callV (pc := 28) C (k' := 0) (n' := 0) kX3_withdraw q846 (tX3_withdraw hX hO (by omega) (by omega)) (rc_of C (hX.face (by omega) (by omega)) rfl) dX1_withdrawAll_28 rfl rfl (Nat.le_of_ble_eq_true rfl) rfl (by decide) (by omega) (by omega) (fun v28 w28 h28 => ?_)
      obtain ⟨e28, s28, h28⟩ := h28
      subst e28
      obtain ⟨A28, V28⟩ := w28
      have a28 : A28 = w.1 := s28.1
      subst a28
      refine wg_iinc_1 (pc := 31) C dX1_withdrawAll_31 rfl ?_
      refine wg_goto (tgt := 2) (pc := 34) C dX1_withdrawAll_34 (by decide) ?_
      exact IH _ (by omega) V28 (k + 1) rfl (hS.tr s28) (by rw [← wdTo_s σ hk0]; exact h28) (by omega) (by omega)
  refine wg_iconst (pc := 0) C dX1_withdrawAll_0 ?_
  refine wg_istore_1 (pc := 1) C dX1_withdrawAll_1 rfl ?_
  exact L2 _ w.2 0 rfl (SmX.rf w) (by rw [wdTo_0]; exact hX) (by omega) (by omega)

theorem tX4_setLifts {G : Gm} {w : Wo} {σ ζ : St} (hX : HasX G w σ ζ) (hO : Ok σ) {b : Int} (hb0 : 0 ≤ b) (hb1 : b < nB σ) {n : Int} (hn0 : 0 ≤ n) (hn1 : n ≤ 8) : Ct G mX4_setLifts 1 0 0 w [.ref (w.1 (6, b)), vI n] (fun v w1 => v = none ∧ SmX w w1 ∧ HasX G w1 (stLft σ b n) ζ) := by
  refine ct_of [some (.ref (w.1 (6, b))), some (vI n), none] plX4 rfl (Nat.le_of_ble_eq_true rfl) rfl ?_
  intro X hG C hnm hQ
  subst hG
  change CxOk X cX4_setLifts 3 RX4 (none) 1 at C
  have hB := hO.hB
  have hF := hO.hF
  have L2 : ∀ (N : Nat) (V : Tg → Option va_E) (j : Int), (8 - j).toNat = N → SmX w (w.1, V) → HasX (xG X) (w.1, V) (clr σ b n j) ζ → n ≤ j → j ≤ 8 → WG X 2 [some (.ref (w.1 (6, b))), some (vI n), some (vI j)] [] (w.1, V) 0 0 := by
    intro N
    induction N using Nat.strongRecOn with | _ N IH => ?_
    intro V j hN hS hX hj0 hj1
    refine wg_iload_2 (pc := 2) C dX4_setLifts_2 ?_
    refine wg_bipush (pc := 3) C dX4_setLifts_3 (by decide) ?_
    refine wg_icmp_ge (tgt := 35) (pc := 5) C dX4_setLifts_5 (by decide) (by unfold InR; omega) (by unfold InR; omega) (fun h5 => ?_) (fun h5 => ?_)
    · refine wg_aload_0 (pc := 35) C dX4_setLifts_35 ?_
      refine wg_iload_1 (pc := 36) C dX4_setLifts_36 ?_
      refine pX4_30 (pc := 37) C (hX.bay hb0 hb1) rfl dX4_setLifts_37 ?_
      refine wg_vret (pc := 40) C hQ dX4_setLifts_40 ?_
      have e : j = 8 := by omega
      subst e
      exact ⟨rfl, hS.uv rfl, hX.wLft b n⟩
    · refine wg_aload_0 (pc := 8) C dX4_setLifts_8 ?_
      refine gX4_9 (pc := 9) C (hX.bay hb0 hb1) rfl dX4_setLifts_9 ?_
      refine wg_iload_2 (pc := 12) C dX4_setLifts_12 ?_
      refine wg_iconst (pc := 13) C dX4_setLifts_13 ?_
      refine wg_zast (pc := 14) C (hX.bd hb0 hb1) rfl (by omega) (by omega) (by decide) (Or.inl rfl) dX4_setLifts_14 ?_
      replace hX := hX.wBd b j 0
      refine wg_aload_0 (pc := 15) C dX4_setLifts_15 ?_
      refine gX4_15 (pc := 16) C (hX.bay hb0 hb1) rfl dX4_setLifts_16 ?_
      refine wg_iload_2 (pc := 19) C dX4_setLifts_19 ?_
      refine wg_iconst (pc := 20) C dX4_setLifts_20 ?_
      refine wg_iast (pc := 21) C (hX.so hb0 hb1) rfl (by omega) (by omega) (by decide) dX4_setLifts_21 ?_
      replace hX := hX.wSo b j 0
      refine wg_aload_0 (pc := 22) C dX4_setLifts_22 ?_
      refine gX4_19 (pc := 23) C (hX.bay hb0 hb1) rfl dX4_setLifts_23 ?_
      refine wg_iload_2 (pc := 26) C dX4_setLifts_26 ?_
      refine wg_iconst (pc := 27) C dX4_setLifts_27 ?_
      refine wg_iast (pc := 28) C (hX.la hb0 hb1) rfl (by omega) (by omega) (by decide) dX4_setLifts_28 ?_
      replace hX := hX.wLa b j 0
      refine wg_iinc_2 (pc := 29) C dX4_setLifts_29 rfl ?_
      refine wg_goto (tgt := 2) (pc := 32) C dX4_setLifts_32 (by decide) ?_
      exact IH _ (by omega) _ (j + 1) rfl (((hS.uv rfl).uv rfl).uv rfl) (by rw [← clr_s σ b hj0]; exact hX) (by omega) (by omega)
  refine wg_iload_1 (pc := 0) C dX4_setLifts_0 ?_
  refine wg_istore_2 (pc := 1) C dX4_setLifts_1 rfl ?_
  exact L2 _ w.2 n rfl (SmX.rf w) (by rw [clr_0]; exact hX) (by omega) (by omega)

theorem tX1_isFree {G : Gm} {w : Wo} {σ ζ : St} (hX : HasX G w σ ζ) (hO : Ok σ) {p l : Int} (hz : ∀ q, 0 ≤ q → q < 25 → ζ 2 l q = 0 ∨ ζ 2 l q = 1) (hp : InR p) (hl0 : 0 ≤ l) (hl1 : l < 8) : PCt G mX1_isFree 7 w [.ref (w.1 (0, 0)), vI p, vI l] (vI (if free σ l (fun q => ζ 2 l q) p then 1 else 0)) (True) := by
  refine ⟨ct_of [some (.ref (w.1 (0, 0))), some (vI p), some (vI l)] plX1 rfl (Nat.le_of_ble_eq_true rfl) rfl ?_, trivial⟩
  intro X hG C hnm hQ
  subst hG
  change CxOk X cX1_isFree 3 RX1 (some .boolean) 7 at C
  have hB := hO.hB
  have hF := hO.hF
  have hps := pos_rng hO
  unfold InR at hp
  refine wg_aload_0 (pc := 0) C dX1_isFree_0 ?_
  refine wg_iload_1 (pc := 1) C dX1_isFree_1 ?_
  refine wg_iload_2 (pc := 2) C dX1_isFree_2 ?_
  refine wg_callVP (pc := 3) C kX1_hasLevel q458 (tX1_hasLevel hX hO (by unfold InR; omega) (by unfold InR; omega)) (rc_of C hX.obj rfl) dX1_isFree_3 rfl rfl (Nat.le_of_ble_eq_true rfl) rfl (by decide) (fun f3 => ?_)
  refine wg_ifeqB (tgt := 35) (pc := 6) C dX1_isFree_6 (by decide) (fun h6 => ?_) (fun h6 => ?_)
  · refine wg_iconst (pc := 35) C dX1_isFree_35 ?_
    refine wg_zret (pc := 36) C hQ dX1_isFree_36 (by omega) ?_
    exact ⟨by first | exact vB_t ⟨h6, by omega, by show ζ 2 l p = 0; omega⟩ | exact vB_f (fun z => h6 z.1) | exact vB_f (fun z => absurd z.2.1 (by omega)) | exact vB_f (fun z => absurd z.2.2 (by show ¬ ζ 2 l p = 0; omega)), rfl⟩
  · have h6p := h6.2.1
    have hz6 := hz p h6.1 (by omega)
    have hop := hO.op l p
    refine wg_aload_0 (pc := 9) C dX1_isFree_9 ?_
    refine gX1_102 (pc := 10) C hX.obj rfl dX1_isFree_10 ?_
    refine wg_iload_2 (pc := 13) C dX1_isFree_13 ?_
    refine wg_aald (pc := 14) C rfl rfl hX.oo rfl (by omega) (by omega) (by decide) (rws_at (by omega) (by omega)) dX1_isFree_14 ?_
    refine wg_iload_1 (pc := 15) C dX1_isFree_15 ?_
    refine wg_zald (pc := 16) C (hX.op (by omega) (by omega)) rfl (by omega) (by omega) (by decide) dX1_isFree_16 ?_
    refine wg_if_ne (tgt := 35) (pc := 17) C dX1_isFree_17 (by decide) (by unfold InR; omega) (fun h17 => ?_) (fun h17 => ?_)
    · refine wg_iconst (pc := 35) C dX1_isFree_35 ?_
      refine wg_zret (pc := 36) C hQ dX1_isFree_36 (by omega) ?_
      exact ⟨by first | exact vB_t ⟨h6, by omega, by show ζ 2 l p = 0; omega⟩ | exact vB_f (fun z => h6 z.1) | exact vB_f (fun z => absurd z.2.1 (by omega)) | exact vB_f (fun z => absurd z.2.2 (by show ¬ ζ 2 l p = 0; omega)), rfl⟩
    · refine wg_aload_0 (pc := 20) C dX1_isFree_20 ?_
      refine gX1_106 (pc := 21) C hX.obj rfl dX1_isFree_21 ?_
      refine wg_iload_2 (pc := 24) C dX1_isFree_24 ?_
      refine wg_aald (pc := 25) C rfl rfl hX.to rfl (by omega) (by omega) (by decide) (rws_at (by omega) (by omega)) dX1_isFree_25 ?_
      refine wg_iload_1 (pc := 26) C dX1_isFree_26 ?_
      refine wg_zald (pc := 27) C (hX.ti (by omega) (by omega)) rfl (by omega) (by omega) (by decide) dX1_isFree_27 ?_
      refine wg_if_ne (tgt := 35) (pc := 28) C dX1_isFree_28 (by decide) (by unfold InR; omega) (fun h28 => ?_) (fun h28 => ?_)
      · refine wg_iconst (pc := 35) C dX1_isFree_35 ?_
        refine wg_zret (pc := 36) C hQ dX1_isFree_36 (by omega) ?_
        exact ⟨by first | exact vB_t ⟨h6, by omega, by show ζ 2 l p = 0; omega⟩ | exact vB_f (fun z => h6 z.1) | exact vB_f (fun z => absurd z.2.1 (by omega)) | exact vB_f (fun z => absurd z.2.2 (by show ¬ ζ 2 l p = 0; omega)), rfl⟩
      · refine wg_iconst (pc := 31) C dX1_isFree_31 ?_
        refine wg_goto (tgt := 36) (pc := 32) C dX1_isFree_32 (by decide) ?_
        refine wg_zret (pc := 36) C hQ dX1_isFree_36 (by omega) ?_
        exact ⟨by first | exact vB_t ⟨h6, by omega, by show ζ 2 l p = 0; omega⟩ | exact vB_f (fun z => h6 z.1) | exact vB_f (fun z => absurd z.2.1 (by omega)) | exact vB_f (fun z => absurd z.2.2 (by show ¬ ζ 2 l p = 0; omega)), rfl⟩

theorem tX1_move {G : Gm} {w : Wo} {σ ζ : St} (hX : HasX G w σ ζ) (hO : Ok σ) {p l : Int} (hz : ∀ q, 0 ≤ q → q < 25 → ζ 2 l q = 0 ∨ ζ 2 l q = 1) (hp0 : 0 ≤ p) (hp1 : p < pos σ) (hl0 : 0 ≤ l) (hl1 : l < 8) : Ct G mX1_move 8 0 0 w [.ref (w.1 (0, 0)), vI p, vI l] (fun v w1 => v = none ∧ SmX w w1 ∧ HasX G w1 σ (mvZ σ ζ p l)) := by
  refine ct_of [some (.ref (w.1 (0, 0))), some (vI p), some (vI l), none] plX1 rfl (Nat.le_of_ble_eq_true rfl) rfl ?_
  intro X hG C hnm hQ
  subst hG
  change CxOk X cX1_move 4 RX1 (none) 8 at C
  have hB := hO.hB
  have hF := hO.hF
  have hps := pos_rng hO
  have L35 : ∀ (to : Int), to = tieTo σ l (fun q => ζ 2 l q) p → (-1 ≤ to ∧ to ≤ 24) → WG X 35 [some (.ref (w.1 (0, 0))), some (vI p), some (vI l), none] [vI to] w 0 0 := by
    intro to hto hr
    refine wg_istore_3 (pc := 35) C dX1_move_35 rfl ?_
    refine wg_aload_0 (pc := 36) C dX1_move_36 ?_
    refine gX1_112 (pc := 37) C hX.obj rfl dX1_move_37 ?_
    refine wg_iload_2 (pc := 40) C dX1_move_40 ?_
    refine wg_aald (pc := 41) C rfl rfl hX.oo2 rfl (by omega) (by omega) (by decide) (rws_at (by omega) (by omega)) dX1_move_41 ?_
    refine wg_iload_1 (pc := 42) C dX1_move_42 ?_
    refine wg_iload_3 (pc := 43) C dX1_move_43 ?_
    refine wg_iast (pc := 44) C (hX.tf (by omega) (by omega)) rfl (by omega) (by omega) (by decide) dX1_move_44 ?_
    have hX := hX.wTf l p to
    refine wg_iload_3 (pc := 45) C dX1_move_45 ?_
    refine wg_iconst (pc := 46) C dX1_move_46 ?_
    refine wg_icmp_eq (tgt := 59) (pc := 47) C dX1_move_47 (by decide) (by unfold InR; omega) (by unfold InR; omega) (fun h47 => ?_) (fun h47 => ?_)
    · refine wg_vret (pc := 59) C hQ dX1_move_59 ?_
      first | exact ⟨rfl, (SmX.rf w).uv rfl, by unfold mvZ; rw [← hto, if_pos h47]; exact hX⟩ | exact ⟨rfl, ((SmX.rf w).uv rfl).uv rfl, by unfold mvZ; rw [← hto, if_neg h47]; exact hX.wTi l to 1⟩
    · refine wg_aload_0 (pc := 50) C dX1_move_50 ?_
      refine gX1_106 (pc := 51) C hX.obj rfl dX1_move_51 ?_
      refine wg_iload_2 (pc := 54) C dX1_move_54 ?_
      refine wg_aald (pc := 55) C rfl rfl hX.to rfl (by omega) (by omega) (by decide) (rws_at (by omega) (by omega)) dX1_move_55 ?_
      refine wg_iload_3 (pc := 56) C dX1_move_56 ?_
      refine wg_iconst (pc := 57) C dX1_move_57 ?_
      refine wg_zast (pc := 58) C (hX.ti (by omega) (by omega)) rfl (by omega) (by omega) (by decide) (Or.inr rfl) dX1_move_58 ?_
      refine wg_vret (pc := 59) C hQ dX1_move_59 ?_
      first | exact ⟨rfl, (SmX.rf w).uv rfl, by unfold mvZ; rw [← hto, if_pos h47]; exact hX⟩ | exact ⟨rfl, ((SmX.rf w).uv rfl).uv rfl, by unfold mvZ; rw [← hto, if_neg h47]; exact hX.wTi l to 1⟩
  refine wg_aload_0 (pc := 0) C dX1_move_0 ?_
  refine wg_iload_1 (pc := 1) C dX1_move_1 ?_
  refine wg_iconst (pc := 2) C dX1_move_2 ?_
  refine wg_iadd (pc := 3) C dX1_move_3 ?_
  refine wg_iload_2 (pc := 4) C dX1_move_4 ?_
  refine wg_callVP (pc := 5) C kX1_isFree q521 (tX1_isFree hX hO hz (by unfold InR; omega) hl0 hl1) (rc_of C hX.obj rfl) dX1_move_5 rfl rfl (Nat.le_of_ble_eq_true rfl) rfl (by decide) (fun f5 => ?_)
  refine wg_ifeqB (tgt := 17) (pc := 8) C dX1_move_8 (by decide) (fun h8 => ?_) (fun h8 => ?_)
  · refine wg_aload_0 (pc := 17) C dX1_move_17 ?_
    refine wg_iload_1 (pc := 18) C dX1_move_18 ?_
    refine wg_iconst (pc := 19) C dX1_move_19 ?_
    refine wg_isub (pc := 20) C dX1_move_20 ?_
    refine wg_iload_2 (pc := 21) C dX1_move_21 ?_
    refine wg_callVP (pc := 22) C kX1_isFree q521 (tX1_isFree hX hO hz (by unfold InR; omega) hl0 hl1) (rc_of C hX.obj rfl) dX1_move_22 rfl rfl (Nat.le_of_ble_eq_true rfl) rfl (by decide) (fun f22 => ?_)
    refine wg_ifeqB (tgt := 34) (pc := 25) C dX1_move_25 (by decide) (fun h25 => ?_) (fun h25 => ?_)
    · refine wg_iconst (pc := 34) C dX1_move_34 ?_
      refine WG.mask [true, true, true, false] rfl ?_
      first
        | exact L35 _ (by unfold tieTo; rw [if_pos h8]) (by have := h8.1.2.1; omega)
        | exact L35 _ (by unfold tieTo; rw [if_neg h8, if_pos h25]) (by have := h25.1.2.1; have := h25.1.1; omega)
        | exact L35 _ (by unfold tieTo; rw [if_neg h8, if_neg h25]) (by omega)
    · refine wg_iload_1 (pc := 28) C dX1_move_28 ?_
      refine wg_iconst (pc := 29) C dX1_move_29 ?_
      refine wg_isub (pc := 30) C dX1_move_30 ?_
      refine wg_goto (tgt := 35) (pc := 31) C dX1_move_31 (by decide) ?_
      refine WG.mask [true, true, true, false] rfl ?_
      first
        | exact L35 _ (by unfold tieTo; rw [if_pos h8]) (by have := h8.1.2.1; omega)
        | exact L35 _ (by unfold tieTo; rw [if_neg h8, if_pos h25]) (by have := h25.1.2.1; have := h25.1.1; omega)
        | exact L35 _ (by unfold tieTo; rw [if_neg h8, if_neg h25]) (by omega)
  · refine wg_iload_1 (pc := 11) C dX1_move_11 ?_
    refine wg_iconst (pc := 12) C dX1_move_12 ?_
    refine wg_iadd (pc := 13) C dX1_move_13 ?_
    refine wg_goto (tgt := 35) (pc := 14) C dX1_move_14 (by decide) ?_
    refine WG.mask [true, true, true, false] rfl ?_
    first
      | exact L35 _ (by unfold tieTo; rw [if_pos h8]) (by have := h8.1.2.1; omega)
      | exact L35 _ (by unfold tieTo; rw [if_neg h8, if_pos h25]) (by have := h25.1.2.1; have := h25.1.1; omega)
      | exact L35 _ (by unfold tieTo; rw [if_neg h8, if_neg h25]) (by omega)

theorem tX1_findTies {G : Gm} {w : Wo} {σ ζ : St} (hX : HasX G w σ ζ) (hO : Ok σ) : Ct G mX1_findTies 9 0 0 w [.ref (w.1 (0, 0))] (fun v w1 => v = none ∧ SmX w w1 ∧ ∃ ζ' : St, HasX G w1 σ ζ' ∧ TieOk σ ζ') := by
  refine ct_of [some (.ref (w.1 (0, 0))), none, none, none] plX1 rfl (Nat.le_of_ble_eq_true rfl) rfl ?_
  intro X hG C hnm hQ
  subst hG
  change CxOk X cX1_findTies 4 RX1 (none) 9 at C
  have hB := hO.hB
  have hF := hO.hF
  have hps := pos_rng hO
  have L2 : ∀ (N : Nat) (V : Tg → Option va_E) (ζ : St) (lv : Int), (8 - lv).toNat = N → SmX w (w.1, V) → HasX (xG X) (w.1, V) σ ζ → 0 ≤ lv → lv ≤ 8 → FtOk σ ζ lv 0 (tie0 σ lv) → WG X 2 [some (.ref (w.1 (0, 0))), some (vI lv), none, none] [] (w.1, V) 0 0 := by
    intro N
    induction N using Nat.strongRecOn with | _ N IH => ?_
    intro V ζ lv hN hS hX hl0 hl1 hF
    refine wg_iload_1 (pc := 2) C dX1_findTies_2 ?_
    refine wg_bipush (pc := 3) C dX1_findTies_3 (by decide) ?_
    refine wg_icmp_ge (tgt := 122) (pc := 5) C dX1_findTies_5 (by decide) (by unfold InR; omega) (by unfold InR; omega) (fun h5 => ?_) (fun h5 => ?_)
    · refine wg_vret (pc := 122) C hQ dX1_findTies_122 ?_
      have e : lv = 8 := by omega
      subst e
      exact ⟨rfl, hS, ζ, hX, fun l a b p c d => hF.1 l a b p c d⟩
    · have L76 : ∀ (N : Nat) (V : Tg → Option va_E) (ζ : St) (k : Int), (pos σ - k).toNat = N → SmX w (w.1, V) → HasX (xG X) (w.1, V) σ ζ → 0 ≤ k → k ≤ pos σ → FtOk σ ζ lv 25 (tieN σ lv k.toNat) → WG X 76 [some (.ref (w.1 (0, 0))), some (vI lv), some (vI k), none] [] (w.1, V) 0 0 := by
        intro N
        induction N using Nat.strongRecOn with | _ N IH3 => ?_
        intro V ζ k hN3 hS hX hk0 hk1 hF
        have hz := hF.z01 hO
        have hop := hO.op lv k
        refine wg_iload_2 (pc := 76) C dX1_findTies_76 ?_
        refine wg_aload_0 (pc := 77) C dX1_findTies_77 ?_
        refine wg_callVP (pc := 78) C kX1_positions q462 (tX1_positions hX hO) (rc_of C hX.obj rfl) dX1_findTies_78 rfl rfl (Nat.le_of_ble_eq_true rfl) rfl (by decide) (fun f78 => ?_)
        refine wg_icmp_ge (tgt := 116) (pc := 81) C dX1_findTies_81 (by decide) (by unfold InR; omega) (by unfold InR; omega) (fun h81 => ?_) (fun h81 => ?_)
        · refine wg_iinc_1 (pc := 116) C dX1_findTies_116 rfl ?_
          refine wg_goto (tgt := 2) (pc := 119) C dX1_findTies_119 (by decide) ?_
          refine WG.mask [true, true, false, false] rfl ?_
          exact IH _ (by omega) _ ζ (lv + 1) rfl hS hX (by omega) (by omega) (hF.next (tie0 σ (lv + 1)) (by omega))
        · refine wg_aload_0 (pc := 84) C dX1_findTies_84 ?_
          refine wg_iload_2 (pc := 85) C dX1_findTies_85 ?_
          refine wg_iload_1 (pc := 86) C dX1_findTies_86 ?_
          refine wg_callVP (pc := 87) C kX1_isAsked q454 (tX1_isAsked hX hO (by omega) (by omega) (by omega) (by omega)) (rc_of C hX.obj rfl) dX1_findTies_87 rfl rfl (Nat.le_of_ble_eq_true rfl) rfl (by decide) (fun f87 => ?_)
          refine wg_ifeqB (tgt := 110) (pc := 90) C dX1_findTies_90 (by decide) (fun h90 => ?_) (fun h90 => ?_)
          · refine wg_iinc_2 (pc := 110) C dX1_findTies_110 rfl ?_
            refine wg_goto (tgt := 76) (pc := 113) C dX1_findTies_113 (by decide) ?_
            refine WG.mask [true, true, true, false] rfl ?_
            first
              | exact IH3 _ (by omega) V107 _ (k + 1) rfl (hS.tr s107) h107 (by omega) (by omega) (hF.move hO hk0 ⟨h90, h101⟩)
              | exact IH3 _ (by omega) _ ζ (k + 1) rfl hS hX (by omega) (by omega) (hF.stay hk0 (fun z => by first | exact h90 z.1 | exact z.2 h101))
          · refine wg_aload_0 (pc := 93) C dX1_findTies_93 ?_
            refine gX1_102 (pc := 94) C hX.obj rfl dX1_findTies_94 ?_
            refine wg_iload_1 (pc := 97) C dX1_findTies_97 ?_
            refine wg_aald (pc := 98) C rfl rfl hX.oo rfl (by omega) (by omega) (by decide) (rws_at (by omega) (by omega)) dX1_findTies_98 ?_
            refine wg_iload_2 (pc := 99) C dX1_findTies_99 ?_
            refine wg_zald (pc := 100) C (hX.op (by omega) (by omega)) rfl (by omega) (by omega) (by decide) dX1_findTies_100 ?_
            refine wg_if_eq (tgt := 110) (pc := 101) C dX1_findTies_101 (by decide) (by unfold InR; omega) (fun h101 => ?_) (fun h101 => ?_)
            · refine wg_iinc_2 (pc := 110) C dX1_findTies_110 rfl ?_
              refine wg_goto (tgt := 76) (pc := 113) C dX1_findTies_113 (by decide) ?_
              refine WG.mask [true, true, true, false] rfl ?_
              first
                | exact IH3 _ (by omega) V107 _ (k + 1) rfl (hS.tr s107) h107 (by omega) (by omega) (hF.move hO hk0 ⟨h90, h101⟩)
                | exact IH3 _ (by omega) _ ζ (k + 1) rfl hS hX (by omega) (by omega) (hF.stay hk0 (fun z => by first | exact h90 z.1 | exact z.2 h101))
            · refine wg_aload_0 (pc := 104) C dX1_findTies_104 ?_
              refine wg_iload_2 (pc := 105) C dX1_findTies_105 ?_
              refine wg_iload_1 (pc := 106) C dX1_findTies_106 ?_
              refine wg_callV (pc := 107) C (k' := 0) (n' := 0) kX1_move q517 (tX1_move hX hO hz (by omega) (by omega) (by omega) (by omega)) (rc_of C hX.obj rfl) dX1_findTies_107 rfl rfl (Nat.le_of_ble_eq_true rfl) rfl (by decide) (by omega) (by omega) (fun v107 w107 h107 => ?_)
              obtain ⟨e107, s107, h107⟩ := h107
              subst e107
              obtain ⟨A107, V107⟩ := w107
              have a107 : A107 = w.1 := s107.1
              subst a107
              refine wg_iinc_2 (pc := 110) C dX1_findTies_110 rfl ?_
              refine wg_goto (tgt := 76) (pc := 113) C dX1_findTies_113 (by decide) ?_
              refine WG.mask [true, true, true, false] rfl ?_
              first
                | exact IH3 _ (by omega) V107 _ (k + 1) rfl (hS.tr s107) h107 (by omega) (by omega) (hF.move hO hk0 ⟨h90, h101⟩)
                | exact IH3 _ (by omega) _ ζ (k + 1) rfl hS hX (by omega) (by omega) (hF.stay hk0 (fun z => by first | exact h90 z.1 | exact z.2 h101))
      have L10 : ∀ (N : Nat) (V : Tg → Option va_E) (ζ : St) (k : Int), (25 - k).toNat = N → SmX w (w.1, V) → HasX (xG X) (w.1, V) σ ζ → 0 ≤ k → k ≤ 25 → FtOk σ ζ lv k (tie0 σ lv) → WG X 10 [some (.ref (w.1 (0, 0))), some (vI lv), some (vI k), none] [] (w.1, V) 0 0 := by
        intro N
        induction N using Nat.strongRecOn with | _ N IH2 => ?_
        intro V ζ k hN2 hS hX hk0 hk1 hF
        have hop := hO.op lv k
        have L41 : ∀ (s : Int), k ≤ 24 → (s = 0 ∨ s = 1) → s = (tie0 σ lv).1 k → WG X 41 [some (.ref (w.1 (0, 0))), some (vI lv), some (vI k), none] [vI s] (w.1, V) 0 0 := by
          intro s hk24 hs01 hst
          have L67 : ∀ (q : Int), k ≤ 24 → q = (tie0 σ lv).2 k → WG X 67 [some (.ref (w.1 (0, 0))), some (vI lv), some (vI k), some (vI s)] [vI q, vI k, .ref (w.1 (15, lv))] (w.1, uV V (13, lv) (aZ (xG X) 25 (up (fun p => ζ 2 lv p) k s))) 0 0 := by
            intro q hk24 e67
            have hX := hX.wTi lv k s
            refine wg_iast (pc := 67) C (hX.tf (by omega) (by omega)) rfl (by omega) (by omega) (by decide) dX1_findTies_67 ?_
            have hX := hX.wTf lv k q
            refine wg_iinc_2 (pc := 68) C dX1_findTies_68 rfl ?_
            refine wg_goto (tgt := 10) (pc := 71) C dX1_findTies_71 (by decide) ?_
            refine WG.mask [true, true, true, false] rfl ?_
            exact IH2 _ (by omega) _ _ (k + 1) rfl ((hS.uv rfl).uv rfl) hX (by omega) (by omega) (hF.one hst e67)
          refine wg_istore_3 (pc := 41) C dX1_findTies_41 rfl ?_
          refine wg_aload_0 (pc := 42) C dX1_findTies_42 ?_
          refine gX1_106 (pc := 43) C hX.obj rfl dX1_findTies_43 ?_
          refine wg_iload_1 (pc := 46) C dX1_findTies_46 ?_
          refine wg_aald (pc := 47) C rfl rfl hX.to rfl (by omega) (by omega) (by decide) (rws_at (by omega) (by omega)) dX1_findTies_47 ?_
          refine wg_iload_2 (pc := 48) C dX1_findTies_48 ?_
          refine wg_iload_3 (pc := 49) C dX1_findTies_49 ?_
          refine wg_zast (pc := 50) C (hX.ti (by omega) (by omega)) rfl (by omega) (by omega) (by decide) hs01 dX1_findTies_50 ?_
          have hX := hX.wTi lv k s
          refine wg_aload_0 (pc := 51) C dX1_findTies_51 ?_
          refine gX1_112 (pc := 52) C hX.obj rfl dX1_findTies_52 ?_
          refine wg_iload_1 (pc := 55) C dX1_findTies_55 ?_
          refine wg_aald (pc := 56) C rfl rfl hX.oo2 rfl (by omega) (by omega) (by decide) (rws_at (by omega) (by omega)) dX1_findTies_56 ?_
          refine wg_iload_2 (pc := 57) C dX1_findTies_57 ?_
          refine wg_iload_3 (pc := 58) C dX1_findTies_58 ?_
          refine wg_if_eq (tgt := 66) (pc := 59) C dX1_findTies_59 (by decide) (by unfold InR; omega) (fun h59 => ?_) (fun h59 => ?_)
          · refine wg_iconst (pc := 66) C dX1_findTies_66 ?_
            exact L67 _ (by omega) (by show _ = if asks σ k lv ∧ σ 8 lv k = 0 then k else -1; have e : s = if asks σ k lv ∧ σ 8 lv k = 0 then (1 : Int) else 0 := hst; split at e <;> first | omega | rw [if_pos (by assumption)] | rw [if_neg (by assumption)])
          · refine wg_iload_2 (pc := 62) C dX1_findTies_62 ?_
            refine wg_goto (tgt := 67) (pc := 63) C dX1_findTies_63 (by decide) ?_
            exact L67 _ (by omega) (by show _ = if asks σ k lv ∧ σ 8 lv k = 0 then k else -1; have e : s = if asks σ k lv ∧ σ 8 lv k = 0 then (1 : Int) else 0 := hst; split at e <;> first | omega | rw [if_pos (by assumption)] | rw [if_neg (by assumption)])
        refine wg_iload_2 (pc := 10) C dX1_findTies_10 ?_
        refine wg_bipush (pc := 11) C dX1_findTies_11 (by decide) ?_
        refine wg_icmp_gt (tgt := 74) (pc := 13) C dX1_findTies_13 (by decide) (by unfold InR; omega) (by unfold InR; omega) (fun h13 => ?_) (fun h13 => ?_)
        · refine wg_iconst (pc := 74) C dX1_findTies_74 ?_
          refine wg_istore_2 (pc := 75) C dX1_findTies_75 rfl ?_
          refine WG.mask [true, true, true, false] rfl ?_
          exact L76 _ _ ζ 0 rfl hS hX (by omega) (by omega) (by rw [show k = 25 by omega] at hF; exact hF)
        · refine wg_aload_0 (pc := 16) C dX1_findTies_16 ?_
          refine wg_iload_2 (pc := 17) C dX1_findTies_17 ?_
          refine wg_iload_1 (pc := 18) C dX1_findTies_18 ?_
          refine wg_callVP (pc := 19) C kX1_isAsked q454 (tX1_isAsked hX hO (by omega) (by omega) (by omega) (by omega)) (rc_of C hX.obj rfl) dX1_findTies_19 rfl rfl (Nat.le_of_ble_eq_true rfl) rfl (by decide) (fun f19 => ?_)
          refine wg_ifeqB (tgt := 40) (pc := 22) C dX1_findTies_22 (by decide) (fun h22 => ?_) (fun h22 => ?_)
          · refine wg_iconst (pc := 40) C dX1_findTies_40 ?_
            refine WG.mask [true, true, true, false] rfl ?_
            exact L41 _ (by omega) (by omega) (by show _ = if asks σ k lv ∧ σ 8 lv k = 0 then (1 : Int) else 0; split <;> rename_i hc <;> first | rfl | (exfalso; first | exact hc ⟨h22, h33⟩ | exact h22 hc.1 | exact h33 hc.2))
          · refine wg_aload_0 (pc := 25) C dX1_findTies_25 ?_
            refine gX1_102 (pc := 26) C hX.obj rfl dX1_findTies_26 ?_
            refine wg_iload_1 (pc := 29) C dX1_findTies_29 ?_
            refine wg_aald (pc := 30) C rfl rfl hX.oo rfl (by omega) (by omega) (by decide) (rws_at (by omega) (by omega)) dX1_findTies_30 ?_
            refine wg_iload_2 (pc := 31) C dX1_findTies_31 ?_
            refine wg_zald (pc := 32) C (hX.op (by omega) (by omega)) rfl (by omega) (by omega) (by decide) dX1_findTies_32 ?_
            refine wg_if_ne (tgt := 40) (pc := 33) C dX1_findTies_33 (by decide) (by unfold InR; omega) (fun h33 => ?_) (fun h33 => ?_)
            · refine wg_iconst (pc := 40) C dX1_findTies_40 ?_
              refine WG.mask [true, true, true, false] rfl ?_
              exact L41 _ (by omega) (by omega) (by show _ = if asks σ k lv ∧ σ 8 lv k = 0 then (1 : Int) else 0; split <;> rename_i hc <;> first | rfl | (exfalso; first | exact hc ⟨h22, h33⟩ | exact h22 hc.1 | exact h33 hc.2))
            · refine wg_iconst (pc := 36) C dX1_findTies_36 ?_
              refine wg_goto (tgt := 41) (pc := 37) C dX1_findTies_37 (by decide) ?_
              refine WG.mask [true, true, true, false] rfl ?_
              exact L41 _ (by omega) (by omega) (by show _ = if asks σ k lv ∧ σ 8 lv k = 0 then (1 : Int) else 0; split <;> rename_i hc <;> first | rfl | (exfalso; first | exact hc ⟨h22, h33⟩ | exact h22 hc.1 | exact h33 hc.2))
      refine wg_iconst (pc := 8) C dX1_findTies_8 ?_
      refine wg_istore_2 (pc := 9) C dX1_findTies_9 rfl ?_
      refine WG.mask [true, true, true, false] rfl ?_
      exact L10 _ _ ζ 0 rfl hS hX (by omega) (by omega) hF
  refine wg_iconst (pc := 0) C dX1_findTies_0 ?_
  refine wg_istore_1 (pc := 1) C dX1_findTies_1 rfl ?_
  refine WG.mask [true, true, false, false] rfl ?_
  exact L2 _ w.2 ζ 0 rfl (SmX.rf w) hX (by omega) (by omega) ⟨fun l a b => by omega, fun p a b => by omega⟩

