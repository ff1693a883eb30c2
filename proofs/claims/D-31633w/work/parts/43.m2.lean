/-! the reference: faces, parts of bays, counts -/
set_option maxRecDepth 100000
set_option maxHeartbeats 4000000
def lvlA (σ : St) (wh b l : Int) : Int := if wh = 0 then 1 else if wh = 2 then σ 7 b l else if σ 5 b l = 0 then 0 else 1
def ofL (σ : St) (wh : Int) : Int := sm (fun b => sm (lvlA σ wh b) 0 (lft σ b)) 0 (nB σ)
theorem lvlA_rng {σ : St} (h : Ok σ) (wh b l : Int) : 0 ≤ lvlA σ wh b l ∧ lvlA σ wh b l ≤ 600 := by
  have := h.la b l
  unfold lvlA
  repeat' split
  all_goals omega
theorem lvlS_rng {σ : St} (h : Ok σ) (wh b : Int) {j : Int} (h0 : 0 ≤ j) (h1 : j ≤ 8) : 0 ≤ sm (lvlA σ wh b) 0 j ∧ sm (lvlA σ wh b) 0 j ≤ 4800 := by
  refine ⟨sm_nonneg (fun k _ _ => (lvlA_rng h wh b k).1), Int.le_trans (sm_le (m := 600) (by omega) (fun k _ _ => (lvlA_rng h wh b k).2)) (by omega)⟩
theorem ofLk_rng {σ : St} (h : Ok σ) (wh : Int) {k : Int} (h1 : k ≤ 24) : 0 ≤ sm (fun b => sm (lvlA σ wh b) 0 (lft σ b)) 0 k ∧ sm (fun b => sm (lvlA σ wh b) 0 (lft σ b)) 0 k ≤ 115200 := by
  refine ⟨sm_nonneg (fun b _ _ => (lvlS_rng h wh b (h.lf b).1 (h.lf b).2).1), Int.le_trans (sm_le (m := 4800) (by omega) (fun b _ _ => (lvlS_rng h wh b (h.lf b).1 (h.lf b).2).2)) (by omega)⟩
theorem ofL_rng {σ : St} (h : Ok σ) (wh : Int) : 0 ≤ ofL σ wh ∧ ofL σ wh ≤ 115200 := ofLk_rng h wh h.hB.2
theorem ofL_0 {σ : St} (h : Ok σ) : ofL σ 0 = ofB σ 3 := by
  unfold ofL ofB
  refine sm_congr fun b _ _ => ?_
  have e : lvlA σ 0 b = fun _ => 1 := rfl
  rw [e, sm_const _ (h.lf b).1]
  unfold cntB
  rw [if_pos rfl, if_neg (by decide)]
  omega
theorem ofL_1 {σ : St} (h : Ok σ) : ofL σ 1 = ofB σ 4 := by
  unfold ofL ofB
  refine sm_congr fun b _ _ => ?_
  have e : lvlA σ 1 b = fun l => if σ 5 b l = 0 then 0 else 1 := rfl
  rw [e]
  unfold cntB
  rw [if_neg (by decide), if_pos rfl, if_neg (by decide)]
  show _ = sm (fun l => if σ 5 b l = 0 then 0 else 1) 0 (lft σ b) + 0
  omega
theorem ofL_2 {σ : St} (h : Ok σ) : ofL σ 2 = ofB σ 8 := by
  unfold ofL ofB
  refine sm_congr fun b b0 b1 => ?_
  have hl := h.lf b
  have e : lvlA σ 2 b = fun l => σ 7 b l := rfl
  rw [e]
  unfold cntB
  rw [if_neg (by decide), if_neg (by decide), if_pos rfl, sm_split (fun l => σ 7 b l) hl.1 hl.2, sm_congr (a := lft σ b) (b := 8) (g := fun _ => 0) (fun l h0 _ => h.lz b0 b1 h0), sm_zero]
  omega
def opS (σ : St) (p : Int) : Int := sm (fun l => if σ 8 l p = 0 then 0 else 1) 0 8
def opA (σ : St) : Int := sm (opS σ) 0 (nB σ + 1)
theorem opS_rng (σ : St) (p : Int) {j : Int} (h1 : j ≤ 8) : 0 ≤ sm (fun l => if σ 8 l p = 0 then 0 else 1) 0 j ∧ sm (fun l => if σ 8 l p = 0 then 0 else 1) 0 j ≤ 8 := by
  refine ⟨sm_nonneg (fun k _ _ => by split <;> omega), Int.le_trans (sm_le (m := 1) (by omega) (fun k _ _ => by split <;> omega)) (by omega)⟩
theorem opk_rng (σ : St) {k : Int} (h1 : k ≤ 25) : 0 ≤ sm (opS σ) 0 k ∧ sm (opS σ) 0 k ≤ 200 := by
  refine ⟨sm_nonneg (fun p _ _ => (opS_rng σ p (by omega)).1), Int.le_trans (sm_le (m := 8) (by omega) (fun p _ _ => (opS_rng σ p (by omega)).2)) (by omega)⟩
theorem opA_P {σ : St} (h : Ok σ) : opA σ = ofP σ 5 := by
  have hp := pos_rng h
  have hB := h.hB
  have e : ∀ p, cntP σ 5 p = opS σ p := fun p => by
    unfold cntP opS
    rw [if_neg (by decide), if_pos rfl]
    omega
  unfold opA ofP
  by_cases h0 : nB σ = 0
  · have e0 : sm (opS σ) 0 (nB σ + 1) = opS σ 0 := by
      rw [h0, sm_succ _ (by omega), sm_nil _ (by omega)]
      omega
    rw [e0, hp.2.2.1 h0, sm_nil (fun p => cntP σ 5 p) (by omega)]
    unfold opS
    rw [sm_congr (g := fun _ => 0) (fun l _ _ => by rw [if_pos (h.oz (Or.inr h0))]), sm_zero]
  · rw [hp.2.2.2 h0]
    exact sm_congr fun p _ _ => (e p).symm
theorem tX2_endOf {G : Gm} {w : Wo} {σ ζ : St} (hM : HasM G w σ ζ) (hO : Ok σ) {f : Int} (hf0 : 0 ≤ f) (hf1 : f < nF σ) : PCt G mX2_endOf 4 w [.ref (w.1 (20, 0)), vI f] (vI (first σ f + many σ f)) (0 ≤ first σ f ∧ 1 ≤ many σ f ∧ first σ f + many σ f ≤ nB σ) := by
  refine ⟨ct_of [some (.ref (w.1 (20, 0))), some (vI f)] plX2 rfl (Nat.le_of_ble_eq_true rfl) rfl ?_, ⟨(hO.fc hf0 hf1).2.1, (hO.fc hf0 hf1).1, (hO.fc hf0 hf1).2.2.1⟩⟩
  intro X hG C hnm hQ
  subst hG
  change CxOk X cX2_endOf 2 RX2 (some .int) 4 at C
  have hB := hO.hB
  have hF := hO.hF
  have hbc := hM.bc
  have hfc0 := hM.fc
  have hc := hO.fc hf0 hf1
  refine wg_iload_1 (pc := 0) C dX2_endOf_0 ?_
  refine wg_iconst (pc := 1) C dX2_endOf_1 ?_
  refine wg_iadd (pc := 2) C dX2_endOf_2 ?_
  refine wg_aload_0 (pc := 3) C dX2_endOf_3 ?_
  refine gX2_20 (pc := 4) C hM.obj rfl dX2_endOf_4 ?_
  refine wg_callFP (pc := 7) C kF_size q1161 (tJ2_size hM.fl) (rc_of C hM.fl rfl) dX2_endOf_7 rfl rfl (Nat.le_of_ble_eq_true rfl) rfl (by decide) (fun f7 => ?_)
  refine wg_icmp_ge (tgt := 36) (pc := 12) C dX2_endOf_12 (by decide) (by unfold InR; omega) (by unfold InR; omega) (fun h12 => ?_) (fun h12 => ?_)
  · refine wg_aload_0 (pc := 36) C dX2_endOf_36 ?_
    refine gX2_16 (pc := 37) C hM.obj rfl dX2_endOf_37 ?_
    refine wg_callFP (pc := 40) C kF_size q1161 (tJ2_size hM.bl) (rc_of C hM.bl rfl) dX2_endOf_40 rfl rfl (Nat.le_of_ble_eq_true rfl) rfl (by decide) (fun f40 => ?_)
    refine wg_iret (pc := 45) C hQ dX2_endOf_45 ?_
    first
      | exact ⟨vI_c (hc.2.2.2.1 (by omega)), rfl⟩
      | exact ⟨vI_c (hc.2.2.2.2 (by omega)).symm, rfl⟩
  · have hc2 := hO.fc (f := f + 1) (by omega) (by omega)
    refine wg_aload_0 (pc := 15) C dX2_endOf_15 ?_
    refine gX2_20 (pc := 16) C hM.obj rfl dX2_endOf_16 ?_
    refine wg_iload_1 (pc := 19) C dX2_endOf_19 ?_
    refine wg_iconst (pc := 20) C dX2_endOf_20 ?_
    refine wg_iadd (pc := 21) C dX2_endOf_21 ?_
    refine wg_callFP (pc := 22) C kF_get q1224 (tJ2_get (hM.flA (by omega)) (hM.faA (by omega)) (by omega) (by omega) (by omega) (by omega) (bxs_at (by omega) (by omega))) (rc_of C hM.fl rfl) dX2_endOf_22 rfl rfl (Nat.le_of_ble_eq_true rfl) rfl (by decide) (fun f22 => ?_)
    refine wg_castQ (pc := 27) C q1284 (RcG.box (by omega) X rfl C.pm) dX2_endOf_27 ?_
    refine wg_callVP (pc := 30) C kJ17_intValue q1285 (tJ17_intValue (by omega) (by omega)) (RcG.box (by omega) X rfl C.pm) dX2_endOf_30 rfl rfl (Nat.le_of_ble_eq_true rfl) rfl (by decide) (fun f30 => ?_)
    refine wg_goto (tgt := 45) (pc := 33) C dX2_endOf_33 (by decide) ?_
    refine wg_iret (pc := 45) C hQ dX2_endOf_45 ?_
    first
      | exact ⟨vI_c (hc.2.2.2.1 (by omega)), rfl⟩
      | exact ⟨vI_c (hc.2.2.2.2 (by omega)).symm, rfl⟩

theorem tX2_isGreen {G : Gm} {w : Wo} {σ ζ : St} (hM : HasM G w σ ζ) (hO : Ok σ) {f : Int} (hf0 : 0 ≤ f) (hf1 : f < nF σ) : PCt G mX2_isGreen 1 w [.ref (w.1 (20, 0)), vI f] (vI (if day σ ≤ grn σ f then 1 else 0)) (True) := by
  refine ⟨ct_of [some (.ref (w.1 (20, 0))), some (vI f)] plX2 rfl (Nat.le_of_ble_eq_true rfl) rfl ?_, trivial⟩
  intro X hG C hnm hQ
  subst hG
  change CxOk X cX2_isGreen 2 RX2 (some .boolean) 1 at C
  have hB := hO.hB
  have hF := hO.hF
  have hbc := hM.bc
  have hfc0 := hM.fc
  have hc := hO.fc hf0 hf1
  have hg := hO.gr f
  have hd := hO.dy
  refine wg_aload_0 (pc := 0) C dX2_isGreen_0 ?_
  refine gX2_23 (pc := 1) C hM.obj rfl dX2_isGreen_1 ?_
  refine wg_iload_1 (pc := 4) C dX2_isGreen_4 ?_
  refine wg_iald (pc := 5) C hM.gt rfl (by omega) (by omega) (by decide) dX2_isGreen_5 ?_
  refine wg_nm (fun y hy => ?_)
  have ey : y = grn σ f := hy.trans (if_pos (by omega))
  subst ey
  refine wg_aload_0 (pc := 6) C dX2_isGreen_6 ?_
  refine gX2_68 (pc := 7) C hM.obj rfl dX2_isGreen_7 ?_
  refine wg_icmp_lt (tgt := 17) (pc := 10) C dX2_isGreen_10 (by decide) (by unfold InR; omega) (by unfold InR; omega) (fun h10 => ?_) (fun h10 => ?_)
  · refine wg_iconst (pc := 17) C dX2_isGreen_17 ?_
    refine wg_zret (pc := 18) C hQ dX2_isGreen_18 (by omega) ?_
    exact ⟨by first | exact vB_t (by omega) | exact vB_f (by omega), rfl⟩
  · refine wg_iconst (pc := 13) C dX2_isGreen_13 ?_
    refine wg_goto (tgt := 18) (pc := 14) C dX2_isGreen_14 (by decide) ?_
    refine wg_zret (pc := 18) C hQ dX2_isGreen_18 (by omega) ?_
    exact ⟨by first | exact vB_t (by omega) | exact vB_f (by omega), rfl⟩

theorem tX2_touches {G : Gm} {w : Wo} {σ ζ : St} (hM : HasM G w σ ζ) (hO : Ok σ) {f : Int} (hf0 : 0 ≤ f) (hf1 : f < nF σ) {b : Int} (hb0 : 0 ≤ b) (hb1 : b < nB σ) : PCt G mX2_touches 5 w [.ref (w.1 (20, 0)), vI f, vI b] (vI (if touch σ f b then 1 else 0)) (True) := by
  refine ⟨ct_of [some (.ref (w.1 (20, 0))), some (vI f), some (vI b)] plX2 rfl (Nat.le_of_ble_eq_true rfl) rfl ?_, trivial⟩
  intro X hG C hnm hQ
  subst hG
  change CxOk X cX2_touches 3 RX2 (some .boolean) 5 at C
  have hB := hO.hB
  have hF := hO.hF
  have hbc := hM.bc
  have hfc0 := hM.fc
  have hc := hO.fc hf0 hf1
  refine wg_iload_2 (pc := 0) C dX2_touches_0 ?_
  refine wg_iconst (pc := 1) C dX2_touches_1 ?_
  refine wg_iadd (pc := 2) C dX2_touches_2 ?_
  refine wg_aload_0 (pc := 3) C dX2_touches_3 ?_
  refine gX2_20 (pc := 4) C hM.obj rfl dX2_touches_4 ?_
  refine wg_iload_1 (pc := 7) C dX2_touches_7 ?_
  refine wg_callFP (pc := 8) C kF_get q1224 (tJ2_get (hM.flA (by omega)) (hM.faA (by omega)) (by omega) (by omega) (by omega) (by omega) (bxs_at (by omega) (by omega))) (rc_of C hM.fl rfl) dX2_touches_8 rfl rfl (Nat.le_of_ble_eq_true rfl) rfl (by decide) (fun f8 => ?_)
  refine wg_castQ (pc := 13) C q1284 (RcG.box (by omega) X rfl C.pm) dX2_touches_13 ?_
  refine wg_callVP (pc := 16) C kJ17_intValue q1285 (tJ17_intValue (by omega) (by omega)) (RcG.box (by omega) X rfl C.pm) dX2_touches_16 rfl rfl (Nat.le_of_ble_eq_true rfl) rfl (by decide) (fun f16 => ?_)
  refine wg_aload_0 (pc := 19) C dX2_touches_19 ?_
  refine wg_iload_1 (pc := 20) C dX2_touches_20 ?_
  refine wg_callVP (pc := 21) C kX2_endOf q1289 (tX2_endOf hM hO (by omega) (by omega)) (rc_of C hM.obj rfl) dX2_touches_21 rfl rfl (Nat.le_of_ble_eq_true rfl) rfl (by decide) (fun f21 => ?_)
  refine wg_callSP (pc := 24) C kX2_in q1149 (tX2_in (by unfold InR; omega) (by unfold InR; omega) (by unfold InR; omega)) dX2_touches_24 rfl rfl (Nat.le_of_ble_eq_true rfl) rfl (by decide) (fun f24 => ?_)
  refine wg_ifneB (tgt := 58) (pc := 27) C dX2_touches_27 (by decide) (fun h27 => ?_) (fun h27 => ?_)
  · refine wg_iconst (pc := 58) C dX2_touches_58 ?_
    refine wg_goto (tgt := 63) (pc := 59) C dX2_touches_59 (by decide) ?_
    refine wg_zret (pc := 63) C hQ dX2_touches_63 (by omega) ?_
    exact ⟨by first | exact vB_t (by unfold touch; omega) | exact vB_f (by unfold touch; omega), rfl⟩
  · refine wg_iload_2 (pc := 30) C dX2_touches_30 ?_
    refine wg_aload_0 (pc := 31) C dX2_touches_31 ?_
    refine gX2_20 (pc := 32) C hM.obj rfl dX2_touches_32 ?_
    refine wg_iload_1 (pc := 35) C dX2_touches_35 ?_
    refine wg_callFP (pc := 36) C kF_get q1224 (tJ2_get (hM.flA (by omega)) (hM.faA (by omega)) (by omega) (by omega) (by omega) (by omega) (bxs_at (by omega) (by omega))) (rc_of C hM.fl rfl) dX2_touches_36 rfl rfl (Nat.le_of_ble_eq_true rfl) rfl (by decide) (fun f36 => ?_)
    refine wg_castQ (pc := 41) C q1284 (RcG.box (by omega) X rfl C.pm) dX2_touches_41 ?_
    refine wg_callVP (pc := 44) C kJ17_intValue q1285 (tJ17_intValue (by omega) (by omega)) (RcG.box (by omega) X rfl C.pm) dX2_touches_44 rfl rfl (Nat.le_of_ble_eq_true rfl) rfl (by decide) (fun f44 => ?_)
    refine wg_aload_0 (pc := 47) C dX2_touches_47 ?_
    refine wg_iload_1 (pc := 48) C dX2_touches_48 ?_
    refine wg_callVP (pc := 49) C kX2_endOf q1289 (tX2_endOf hM hO (by omega) (by omega)) (rc_of C hM.obj rfl) dX2_touches_49 rfl rfl (Nat.le_of_ble_eq_true rfl) rfl (by decide) (fun f49 => ?_)
    refine wg_callSP (pc := 52) C kX2_in q1149 (tX2_in (by unfold InR; omega) (by unfold InR; omega) (by unfold InR; omega)) dX2_touches_52 rfl rfl (Nat.le_of_ble_eq_true rfl) rfl (by decide) (fun f52 => ?_)
    refine wg_ifeqB (tgt := 62) (pc := 55) C dX2_touches_55 (by decide) (fun h55 => ?_) (fun h55 => ?_)
    · refine wg_iconst (pc := 62) C dX2_touches_62 ?_
      refine wg_zret (pc := 63) C hQ dX2_touches_63 (by omega) ?_
      exact ⟨by first | exact vB_t (by unfold touch; omega) | exact vB_f (by unfold touch; omega), rfl⟩
    · refine wg_iconst (pc := 58) C dX2_touches_58 ?_
      refine wg_goto (tgt := 63) (pc := 59) C dX2_touches_59 (by decide) ?_
      refine wg_zret (pc := 63) C hQ dX2_touches_63 (by omega) ?_
      exact ⟨by first | exact vB_t (by unfold touch; omega) | exact vB_f (by unfold touch; omega), rfl⟩

theorem tX2_areGreenAround {G : Gm} {w : Wo} {σ ζ : St} (hM : HasM G w σ ζ) (hO : Ok σ) {b : Int} (hb0 : 0 ≤ b) (hb1 : b < nB σ) : PCt G mX2_areGreenAround 6 w [.ref (w.1 (20, 0)), vI b] (vI (if notG σ b = 0 then 1 else 0)) (True) := by
  refine ⟨ct_of [some (.ref (w.1 (20, 0))), some (vI b), none, none] plX2 rfl (Nat.le_of_ble_eq_true rfl) rfl ?_, trivial⟩
  intro X hG C hnm hQ
  subst hG
  change CxOk X cX2_areGreenAround 4 RX2 (some .boolean) 6 at C
  have hB := hO.hB
  have hF := hO.hF
  have hbc := hM.bc
  have hfc0 := hM.fc
  have L4 : ∀ (N : Nat) (k s : Int), (nF σ - k).toNat = N → 0 ≤ k → k ≤ nF σ → (s = 0 ∨ s = 1) → (s = 1 ↔ sm (fun f => if touch σ f b ∧ ¬ day σ ≤ grn σ f then 1 else 0) 0 k = 0) → WG X 4 [some (.ref (w.1 (20, 0))), some (vI b), some (vI s), some (vI k)] [] w 0 0 := by
    intro N
    induction N using Nat.strongRecOn with | _ N IH => ?_
    intro k s hN hk0 hk1 hs1 hs
    have hnn := sm_nonneg (f := (fun f => if touch σ f b ∧ ¬ day σ ≤ grn σ f then 1 else 0)) (a := 0) (b := k) (fun f _ _ => by split <;> omega)
    have L43 : ∀ (e : Int), k < nF σ → (e = 0 ∨ e = 1) → (e = 1 ↔ sm (fun f => if touch σ f b ∧ ¬ day σ ≤ grn σ f then 1 else 0) 0 k + (fun f => if touch σ f b ∧ ¬ day σ ≤ grn σ f then 1 else 0) k = 0) → WG X 43 [some (.ref (w.1 (20, 0))), some (vI b), some (vI s), some (vI k)] [vI e] w 0 0 := by
      intro e hkF he1 he
      refine wg_istore_2 (pc := 43) C dX2_areGreenAround_43 rfl ?_
      refine wg_iinc_3 (pc := 44) C dX2_areGreenAround_44 rfl ?_
      refine wg_goto (tgt := 4) (pc := 47) C dX2_areGreenAround_47 (by decide) ?_
      exact IH _ (by omega) (k + 1) _ rfl (by omega) (by omega) he1 (by rw [sm_succ _ hk0]; exact he)
    refine wg_iload_3 (pc := 4) C dX2_areGreenAround_4 ?_
    refine wg_aload_0 (pc := 5) C dX2_areGreenAround_5 ?_
    refine gX2_20 (pc := 6) C hM.obj rfl dX2_areGreenAround_6 ?_
    refine wg_callFP (pc := 9) C kF_size q1161 (tJ2_size hM.fl) (rc_of C hM.fl rfl) dX2_areGreenAround_9 rfl rfl (Nat.le_of_ble_eq_true rfl) rfl (by decide) (fun f9 => ?_)
    refine wg_icmp_ge (tgt := 50) (pc := 14) C dX2_areGreenAround_14 (by decide) (by unfold InR; omega) (by unfold InR; omega) (fun h14 => ?_) (fun h14 => ?_)
    · refine wg_iload_2 (pc := 50) C dX2_areGreenAround_50 ?_
      have e51 : k = nF σ := by omega
      refine wg_zret (pc := 51) C hQ dX2_areGreenAround_51 hs1 ⟨?_, rfl⟩
      unfold notG
      rw [← e51]
      by_cases h1 : s = 1
      · rw [if_pos (hs.mp h1), h1]
      · rw [if_neg (fun z => h1 (hs.mpr z)), show s = 0 by omega]
    · refine wg_iload_2 (pc := 17) C dX2_areGreenAround_17 ?_
      refine wg_if_eq (tgt := 42) (pc := 18) C dX2_areGreenAround_18 (by decide) (by unfold InR; omega) (fun h18 => ?_) (fun h18 => ?_)
      · refine wg_iconst (pc := 42) C dX2_areGreenAround_42 ?_
        refine L43 _ (by omega) (by omega) ?_
        show _ ↔ sm _ 0 k + (if touch σ k b ∧ ¬ day σ ≤ grn σ k then (1 : Int) else 0) = 0
        split <;> rename_i hc <;> first | omega | (exfalso; first | exact h27 hc.1 | exact hc.2 h35 | exact hc ⟨h27, h35⟩)
      · refine wg_aload_0 (pc := 21) C dX2_areGreenAround_21 ?_
        refine wg_iload_3 (pc := 22) C dX2_areGreenAround_22 ?_
        refine wg_iload_1 (pc := 23) C dX2_areGreenAround_23 ?_
        refine wg_callVP (pc := 24) C kX2_touches q1280 (tX2_touches hM hO (by omega) (by omega) (by omega) (by omega)) (rc_of C hM.obj rfl) dX2_areGreenAround_24 rfl rfl (Nat.le_of_ble_eq_true rfl) rfl (by decide) (fun f24 => ?_)
        refine wg_ifeqB (tgt := 38) (pc := 27) C dX2_areGreenAround_27 (by decide) (fun h27 => ?_) (fun h27 => ?_)
        · refine wg_iconst (pc := 38) C dX2_areGreenAround_38 ?_
          refine wg_goto (tgt := 43) (pc := 39) C dX2_areGreenAround_39 (by decide) ?_
          refine L43 _ (by omega) (by omega) ?_
          show _ ↔ sm _ 0 k + (if touch σ k b ∧ ¬ day σ ≤ grn σ k then (1 : Int) else 0) = 0
          split <;> rename_i hc <;> first | omega | (exfalso; first | exact h27 hc.1 | exact hc.2 h35 | exact hc ⟨h27, h35⟩)
        · refine wg_aload_0 (pc := 30) C dX2_areGreenAround_30 ?_
          refine wg_iload_3 (pc := 31) C dX2_areGreenAround_31 ?_
          refine wg_callVP (pc := 32) C kX2_isGreen q1311 (tX2_isGreen hM hO (by omega) (by omega)) (rc_of C hM.obj rfl) dX2_areGreenAround_32 rfl rfl (Nat.le_of_ble_eq_true rfl) rfl (by decide) (fun f32 => ?_)
          refine wg_ifeqB (tgt := 42) (pc := 35) C dX2_areGreenAround_35 (by decide) (fun h35 => ?_) (fun h35 => ?_)
          · refine wg_iconst (pc := 42) C dX2_areGreenAround_42 ?_
            refine L43 _ (by omega) (by omega) ?_
            show _ ↔ sm _ 0 k + (if touch σ k b ∧ ¬ day σ ≤ grn σ k then (1 : Int) else 0) = 0
            split <;> rename_i hc <;> first | omega | (exfalso; first | exact h27 hc.1 | exact hc.2 h35 | exact hc ⟨h27, h35⟩)
          · refine wg_iconst (pc := 38) C dX2_areGreenAround_38 ?_
            refine wg_goto (tgt := 43) (pc := 39) C dX2_areGreenAround_39 (by decide) ?_
            refine L43 _ (by omega) (by omega) ?_
            show _ ↔ sm _ 0 k + (if touch σ k b ∧ ¬ day σ ≤ grn σ k then (1 : Int) else 0) = 0
            split <;> rename_i hc <;> first | omega | (exfalso; first | exact h27 hc.1 | exact hc.2 h35 | exact hc ⟨h27, h35⟩)
  refine wg_iconst (pc := 0) C dX2_areGreenAround_0 ?_
  refine wg_istore_2 (pc := 1) C dX2_areGreenAround_1 rfl ?_
  refine wg_iconst (pc := 2) C dX2_areGreenAround_2 ?_
  refine wg_istore_3 (pc := 3) C dX2_areGreenAround_3 rfl ?_
  exact L4 _ 0 1 rfl (by omega) (by omega) (by omega) ⟨fun _ => sm_nil _ (by omega), fun _ => rfl⟩

theorem tX2_canLay {G : Gm} {w : Wo} {σ ζ : St} (hM : HasM G w σ ζ) (hO : Ok σ) {b : Int} (hb0 : 0 ≤ b) (hb1 : b < nB σ) {l n : Int} (hl0 : 0 ≤ l) (hl1 : l < 8) (hn : InR n) : PCt G mX2_canLay 7 w [.ref (w.1 (20, 0)), vI b, vI l, vI n] (vI (if canL σ b l n then 1 else 0)) (True) := by
  refine ⟨ct_of [some (.ref (w.1 (20, 0))), some (vI b), some (vI l), some (vI n), none, none] plX2 rfl (Nat.le_of_ble_eq_true rfl) rfl ?_, trivial⟩
  intro X hG C hnm hQ
  subst hG
  change CxOk X cX2_canLay 6 RX2 (some .boolean) 7 at C
  have hB := hO.hB
  have hF := hO.hF
  have hbc := hM.bc
  have hfc0 := hM.fc
  have hso := hO.so b l
  have hla := hO.la b l
  have hbd := hO.bd b l
  have hbe := bears_rng (σ 6 b l)
  unfold InR at hn
  refine wg_aload_0 (pc := 0) C dX2_canLay_0 ?_
  refine gX2_16 (pc := 1) C hM.obj rfl dX2_canLay_1 ?_
  refine wg_iload_1 (pc := 4) C dX2_canLay_4 ?_
  refine wg_callFP (pc := 5) C kF_get q1224 (tJ2_get (hM.blA (by omega)) (hM.baA (by omega)) (by omega) (by omega) (by omega) (by omega) (rws_at (by omega) (by omega))) (rc_of C hM.bl rfl) dX2_canLay_5 rfl rfl (Nat.le_of_ble_eq_true rfl) rfl (by decide) (fun f5 => ?_)
  refine wg_cast (pc := 10) (ci := 5) C rfl q1184 (rc_of C (hM.bay (by omega) (by omega)) rfl) dX2_canLay_10 ?_
  refine wg_astore_4 (pc := 13) C dX2_canLay_13 rfl ?_
  have L53 : ∀ (c : Int), (c = 0 ∨ c = 1) → (c = 1 ↔ ((σ 5 b l = 1 ∧ n ≤ bears (σ 6 b l)) ∧ notG σ b = 0)) → WG X 53 [some (.ref (w.1 (20, 0))), some (vI b), some (vI l), some (vI n), some (.ref (w.1 (23, b))), none] [vI c] w 0 0 := by
    intro c hc hci
    refine wg_istore_5 (pc := 53) C dX2_canLay_53 rfl ?_
    refine wg_iload_3 (pc := 55) C dX2_canLay_55 ?_
    refine wg_aload_4 (pc := 56) C dX2_canLay_56 ?_
    refine gX2_154 (pc := 58) C (hM.bay hb0 hb1) rfl dX2_canLay_58 ?_
    refine wg_iload_2 (pc := 61) C dX2_canLay_61 ?_
    refine wg_iald (pc := 62) C (hM.la hb0 hb1) rfl (by omega) (by omega) (by decide) dX2_canLay_62 ?_
    refine wg_icmp_le (tgt := 71) (pc := 63) C dX2_canLay_63 (by decide) (by unfold InR; omega) (by unfold InR; omega) (fun h63 => ?_) (fun h63 => ?_)
    · refine wg_iconst (pc := 71) C dX2_canLay_71 ?_
      refine wg_goto (tgt := 76) (pc := 72) C dX2_canLay_72 (by decide) ?_
      refine wg_zret (pc := 76) C hQ dX2_canLay_76 (by omega) ?_
      exact ⟨by first | exact vB_t (by show _ ∨ _; omega) | exact vB_f (by show ¬ (_ ∨ _); omega), rfl⟩
    · refine wg_iload_5 (pc := 66) C dX2_canLay_66 ?_
      refine wg_if_eq (tgt := 75) (pc := 68) C dX2_canLay_68 (by decide) (by unfold InR; omega) (fun h68 => ?_) (fun h68 => ?_)
      · refine wg_iconst (pc := 75) C dX2_canLay_75 ?_
        refine wg_zret (pc := 76) C hQ dX2_canLay_76 (by omega) ?_
        exact ⟨by first | exact vB_t (by show _ ∨ _; omega) | exact vB_f (by show ¬ (_ ∨ _); omega), rfl⟩
      · refine wg_iconst (pc := 71) C dX2_canLay_71 ?_
        refine wg_goto (tgt := 76) (pc := 72) C dX2_canLay_72 (by decide) ?_
        refine wg_zret (pc := 76) C hQ dX2_canLay_76 (by omega) ?_
        exact ⟨by first | exact vB_t (by show _ ∨ _; omega) | exact vB_f (by show ¬ (_ ∨ _); omega), rfl⟩
  refine wg_aload_4 (pc := 15) C dX2_canLay_15 ?_
  refine gX2_139 (pc := 17) C (hM.bay hb0 hb1) rfl dX2_canLay_17 ?_
  refine wg_iload_2 (pc := 20) C dX2_canLay_20 ?_
  refine wg_zald (pc := 21) C (hM.bd hb0 hb1) rfl (by omega) (by omega) (by decide) dX2_canLay_21 ?_
  refine wg_if_eq (tgt := 52) (pc := 22) C dX2_canLay_22 (by decide) (by unfold InR; omega) (fun h22 => ?_) (fun h22 => ?_)
  · refine wg_iconst (pc := 52) C dX2_canLay_52 ?_
    refine WG.mask [true, true, true, true, true, false] rfl ?_
    exact L53 _ (by omega) (by omega)
  · refine wg_iload_3 (pc := 25) C dX2_canLay_25 ?_
    refine wg_gets (pc := 26) C C.pm.2.1 q1305 (fun _ h => h) dX2_canLay_26 ?_
    refine wg_aload_4 (pc := 29) C dX2_canLay_29 ?_
    refine gX2_145 (pc := 31) C (hM.bay hb0 hb1) rfl dX2_canLay_31 ?_
    refine wg_iload_2 (pc := 34) C dX2_canLay_34 ?_
    refine wg_iald (pc := 35) C (hM.so hb0 hb1) rfl (by omega) (by omega) (by decide) dX2_canLay_35 ?_
    refine wg_bears (pc := 36) C (by omega) (by omega) dX2_canLay_36 ?_
    refine wg_icmp_gt (tgt := 52) (pc := 37) C dX2_canLay_37 (by decide) (by unfold InR; omega) (by unfold InR; omega) (fun h37 => ?_) (fun h37 => ?_)
    · refine wg_iconst (pc := 52) C dX2_canLay_52 ?_
      refine WG.mask [true, true, true, true, true, false] rfl ?_
      exact L53 _ (by omega) (by omega)
    · refine wg_aload_0 (pc := 40) C dX2_canLay_40 ?_
      refine wg_iload_1 (pc := 41) C dX2_canLay_41 ?_
      refine wg_callVP (pc := 42) C kX2_areGreenAround q1307 (tX2_areGreenAround hM hO (by omega) (by omega)) (rc_of C hM.obj rfl) dX2_canLay_42 rfl rfl (Nat.le_of_ble_eq_true rfl) rfl (by decide) (fun f42 => ?_)
      refine wg_ifeqB (tgt := 52) (pc := 45) C dX2_canLay_45 (by decide) (fun h45 => ?_) (fun h45 => ?_)
      · refine wg_iconst (pc := 52) C dX2_canLay_52 ?_
        refine WG.mask [true, true, true, true, true, false] rfl ?_
        exact L53 _ (by omega) (by omega)
      · refine wg_iconst (pc := 48) C dX2_canLay_48 ?_
        refine wg_goto (tgt := 53) (pc := 49) C dX2_canLay_49 (by decide) ?_
        refine WG.mask [true, true, true, true, true, false] rfl ?_
        exact L53 _ (by omega) (by omega)

theorem tX2_partsOfBay {G : Gm} {w : Wo} {σ ζ : St} (hM : HasM G w σ ζ) (hO : Ok σ) {b : Int} (hb0 : 0 ≤ b) (hb1 : b < nB σ) {kd : Int} (hk : InR kd) : PCt G mX2_partsOfBay 5 w [.ref (w.1 (20, 0)), vI b, vI kd] (vI (prtBay σ b kd)) (0 ≤ prtBay σ b kd ∧ prtBay σ b kd ≤ 40) := by
  refine ⟨ct_of [some (.ref (w.1 (20, 0))), some (vI b), some (vI kd), none, none, none, none] plX2 rfl (Nat.le_of_ble_eq_true rfl) rfl ?_, prtBay_rng hO b kd⟩
  intro X hG C hnm hQ
  subst hG
  change CxOk X cX2_partsOfBay 7 RX2 (some .int) 5 at C
  have hB := hO.hB
  have hF := hO.hF
  have hbc := hM.bc
  have hfc0 := hM.fc
  have hlf := hO.lf b
  have hby := hO.by hb0 hb1
  have hc := hO.fc hby.1 hby.2.1
  unfold InR at hk
  refine wg_aload_0 (pc := 0) C dX2_partsOfBay_0 ?_
  refine gX2_16 (pc := 1) C hM.obj rfl dX2_partsOfBay_1 ?_
  refine wg_iload_1 (pc := 4) C dX2_partsOfBay_4 ?_
  refine wg_callFP (pc := 5) C kF_get q1224 (tJ2_get (hM.blA (by omega)) (hM.baA (by omega)) (by omega) (by omega) (by omega) (by omega) (rws_at (by omega) (by omega))) (rc_of C hM.bl rfl) dX2_partsOfBay_5 rfl rfl (Nat.le_of_ble_eq_true rfl) rfl (by decide) (fun f5 => ?_)
  refine wg_cast (pc := 10) (ci := 5) C rfl q1184 (rc_of C (hM.bay (by omega) (by omega)) rfl) dX2_partsOfBay_10 ?_
  refine wg_astore_3 (pc := 13) C dX2_partsOfBay_13 rfl ?_
  have L42 : ∀ (e : Int), (e = 0 ∨ e = 1) → (e = 1 ↔ brc σ (bfc σ b) b) → WG X 42 [some (.ref (w.1 (20, 0))), some (vI b), some (vI kd), some (.ref (w.1 (23, b))), none, none, none] [vI e] w 0 0 := by
    intro e he1 he
    have L76 : ∀ (s : Int), (0 ≤ s ∧ s ≤ 16) → s = (if kd = 2 then 2 * lft σ b else if kd = 4 then (if brc σ (bfc σ b) b then lft σ b else 0) else 0) → WG X 76 [some (.ref (w.1 (20, 0))), some (vI b), some (vI kd), some (.ref (w.1 (23, b))), some (vI e), none, none] [vI s] w 0 0 := by
      intro s hsr hs
      have L81 : ∀ (N : Nat) (t j : Int), (lft σ b - j).toNat = N → 0 ≤ j → j ≤ lft σ b → (kd ≠ 3 → j = 0) → (0 ≤ t ∧ t ≤ 16 + 5 * j) → t = s + 5 * sm (fun l => if σ 5 b l = 0 then 0 else 1) 0 j → WG X 81 [some (.ref (w.1 (20, 0))), some (vI b), some (vI kd), some (.ref (w.1 (23, b))), some (vI e), some (vI t), some (vI j)] [] w 0 0 := by
        intro N
        induction N using Nat.strongRecOn with | _ N IH => ?_
        intro t j hN hj0 hj1 hj3 htr ht
        have hbd := hO.bd b j
        refine wg_iload_6 (pc := 81) C dX2_partsOfBay_81 ?_
        refine wg_aload_3 (pc := 83) C dX2_partsOfBay_83 ?_
        refine gX2_105 (pc := 84) C (hM.bay hb0 hb1) rfl dX2_partsOfBay_84 ?_
        refine wg_icmp_ge (tgt := 121) (pc := 87) C dX2_partsOfBay_87 (by decide) (by unfold InR; omega) (by unfold InR; omega) (fun h87 => ?_) (fun h87 => ?_)
        · refine wg_iload_5 (pc := 121) C dX2_partsOfBay_121 ?_
          refine wg_iret (pc := 123) C hQ dX2_partsOfBay_123 ?_
          refine ⟨vI_c ?_, rfl⟩
          rw [ht, hs]
          unfold prtBay bdN
          by_cases k2 : kd = 2
          · rw [if_pos k2, if_pos k2, show j = 0 by omega, sm_nil _ (by omega)]; omega
          · rw [if_neg k2, if_neg k2]
            by_cases k3 : kd = 3
            · rw [if_neg (by omega), if_pos k3, show j = lft σ b by omega]; omega
            · rw [if_neg k3, show j = 0 by omega, sm_nil _ (by omega)]; omega
        · refine wg_iload_2 (pc := 90) C dX2_partsOfBay_90 ?_
          refine wg_iconst (pc := 91) C dX2_partsOfBay_91 ?_
          refine wg_icmp_ne (tgt := 121) (pc := 92) C dX2_partsOfBay_92 (by decide) (by unfold InR; omega) (by unfold InR; omega) (fun h92 => ?_) (fun h92 => ?_)
          · refine wg_iload_5 (pc := 121) C dX2_partsOfBay_121 ?_
            refine wg_iret (pc := 123) C hQ dX2_partsOfBay_123 ?_
            refine ⟨vI_c ?_, rfl⟩
            rw [ht, hs]
            unfold prtBay bdN
            by_cases k2 : kd = 2
            · rw [if_pos k2, if_pos k2, show j = 0 by omega, sm_nil _ (by omega)]; omega
            · rw [if_neg k2, if_neg k2]
              by_cases k3 : kd = 3
              · rw [if_neg (by omega), if_pos k3, show j = lft σ b by omega]; omega
              · rw [if_neg k3, show j = 0 by omega, sm_nil _ (by omega)]; omega
          · refine wg_iload_5 (pc := 95) C dX2_partsOfBay_95 ?_
            refine wg_aload_3 (pc := 97) C dX2_partsOfBay_97 ?_
            refine gX2_139 (pc := 98) C (hM.bay hb0 hb1) rfl dX2_partsOfBay_98 ?_
            refine wg_iload_6 (pc := 101) C dX2_partsOfBay_101 ?_
            refine wg_zald (pc := 103) C (hM.bd hb0 hb1) rfl (by omega) (by omega) (by decide) dX2_partsOfBay_103 ?_
            refine wg_if_eq (tgt := 111) (pc := 104) C dX2_partsOfBay_104 (by decide) (by unfold InR; omega) (fun h104 => ?_) (fun h104 => ?_)
            · refine wg_iconst (pc := 111) C dX2_partsOfBay_111 ?_
              refine wg_iadd (pc := 112) C dX2_partsOfBay_112 ?_
              refine wg_istore_5 (pc := 113) C dX2_partsOfBay_113 rfl ?_
              refine wg_iinc_6 (pc := 115) C dX2_partsOfBay_115 rfl ?_
              refine wg_goto (tgt := 81) (pc := 118) C dX2_partsOfBay_118 (by decide) ?_
              exact IH _ (by omega) _ (j + 1) rfl (by omega) (by omega) (by omega) (by omega) (by rw [sm_succ _ hj0, ht]; first | (rw [if_pos h104]; omega) | (rw [if_neg h104]; omega))
            · refine wg_iconst (pc := 107) C dX2_partsOfBay_107 ?_
              refine wg_goto (tgt := 112) (pc := 108) C dX2_partsOfBay_108 (by decide) ?_
              refine wg_iadd (pc := 112) C dX2_partsOfBay_112 ?_
              refine wg_istore_5 (pc := 113) C dX2_partsOfBay_113 rfl ?_
              refine wg_iinc_6 (pc := 115) C dX2_partsOfBay_115 rfl ?_
              refine wg_goto (tgt := 81) (pc := 118) C dX2_partsOfBay_118 (by decide) ?_
              exact IH _ (by omega) _ (j + 1) rfl (by omega) (by omega) (by omega) (by omega) (by rw [sm_succ _ hj0, ht]; first | (rw [if_pos h104]; omega) | (rw [if_neg h104]; omega))
      refine wg_istore_5 (pc := 76) C dX2_partsOfBay_76 rfl ?_
      refine wg_iconst (pc := 78) C dX2_partsOfBay_78 ?_
      refine wg_istore_6 (pc := 79) C dX2_partsOfBay_79 rfl ?_
      exact L81 _ s 0 rfl (by omega) (by omega) (by omega) (by omega) (by rw [sm_nil _ (by omega)]; omega)
    refine wg_istore_4 (pc := 42) C dX2_partsOfBay_42 rfl ?_
    refine wg_iload_2 (pc := 44) C dX2_partsOfBay_44 ?_
    refine wg_iconst (pc := 45) C dX2_partsOfBay_45 ?_
    refine wg_icmp_ne (tgt := 58) (pc := 46) C dX2_partsOfBay_46 (by decide) (by unfold InR; omega) (by unfold InR; omega) (fun h46 => ?_) (fun h46 => ?_)
    · refine wg_iload_2 (pc := 58) C dX2_partsOfBay_58 ?_
      refine wg_iconst (pc := 59) C dX2_partsOfBay_59 ?_
      refine wg_icmp_ne (tgt := 75) (pc := 60) C dX2_partsOfBay_60 (by decide) (by unfold InR; omega) (by unfold InR; omega) (fun h60 => ?_) (fun h60 => ?_)
      · refine wg_iconst (pc := 75) C dX2_partsOfBay_75 ?_
        refine WG.mask [true, true, true, true, true, false, false] rfl ?_
        exact L76 _ (by omega) (by
            by_cases k2 : kd = 2
            · rw [if_pos k2] <;> omega
            · rw [if_neg k2]
              by_cases k4 : kd = 4
              · rw [if_pos k4]
                by_cases hb : brc σ (bfc σ b) b
                · rw [if_pos hb] <;> (have := he.mpr hb; omega)
                · rw [if_neg hb] <;> (have : ¬ e = 1 := fun z => hb (he.mp z); omega)
              · rw [if_neg k4] <;> omega)
      · refine wg_iload_4 (pc := 63) C dX2_partsOfBay_63 ?_
        refine wg_if_eq (tgt := 75) (pc := 65) C dX2_partsOfBay_65 (by decide) (by unfold InR; omega) (fun h65 => ?_) (fun h65 => ?_)
        · refine wg_iconst (pc := 75) C dX2_partsOfBay_75 ?_
          refine WG.mask [true, true, true, true, true, false, false] rfl ?_
          exact L76 _ (by omega) (by
              by_cases k2 : kd = 2
              · rw [if_pos k2] <;> omega
              · rw [if_neg k2]
                by_cases k4 : kd = 4
                · rw [if_pos k4]
                  by_cases hb : brc σ (bfc σ b) b
                  · rw [if_pos hb] <;> (have := he.mpr hb; omega)
                  · rw [if_neg hb] <;> (have : ¬ e = 1 := fun z => hb (he.mp z); omega)
                · rw [if_neg k4] <;> omega)
        · refine wg_aload_3 (pc := 68) C dX2_partsOfBay_68 ?_
          refine gX2_105 (pc := 69) C (hM.bay hb0 hb1) rfl dX2_partsOfBay_69 ?_
          refine wg_goto (tgt := 76) (pc := 72) C dX2_partsOfBay_72 (by decide) ?_
          refine WG.mask [true, true, true, true, true, false, false] rfl ?_
          exact L76 _ (by omega) (by
              by_cases k2 : kd = 2
              · rw [if_pos k2] <;> omega
              · rw [if_neg k2]
                by_cases k4 : kd = 4
                · rw [if_pos k4]
                  by_cases hb : brc σ (bfc σ b) b
                  · rw [if_pos hb] <;> (have := he.mpr hb; omega)
                  · rw [if_neg hb] <;> (have : ¬ e = 1 := fun z => hb (he.mp z); omega)
                · rw [if_neg k4] <;> omega)
    · refine wg_iconst (pc := 49) C dX2_partsOfBay_49 ?_
      refine wg_aload_3 (pc := 50) C dX2_partsOfBay_50 ?_
      refine gX2_105 (pc := 51) C (hM.bay hb0 hb1) rfl dX2_partsOfBay_51 ?_
      refine wg_imul (pc := 54) C dX2_partsOfBay_54 ?_
      refine wg_goto (tgt := 76) (pc := 55) C dX2_partsOfBay_55 (by decide) ?_
      refine WG.mask [true, true, true, true, true, false, false] rfl ?_
      exact L76 _ (by omega) (by
          by_cases k2 : kd = 2
          · rw [if_pos k2] <;> omega
          · rw [if_neg k2]
            by_cases k4 : kd = 4
            · rw [if_pos k4]
              by_cases hb : brc σ (bfc σ b) b
              · rw [if_pos hb] <;> (have := he.mpr hb; omega)
              · rw [if_neg hb] <;> (have : ¬ e = 1 := fun z => hb (he.mp z); omega)
            · rw [if_neg k4] <;> omega)
  refine wg_aload_3 (pc := 14) C dX2_partsOfBay_14 ?_
  refine gX2_195 (pc := 15) C (hM.bay hb0 hb1) rfl dX2_partsOfBay_15 ?_
  refine wg_iconst (pc := 18) C dX2_partsOfBay_18 ?_
  refine wg_irem (pc := 19) C dX2_partsOfBay_19 (by omega) (by omega) (by omega) (by omega) ?_
  refine wg_if_eq (tgt := 37) (pc := 20) C dX2_partsOfBay_20 (by decide) (by unfold InR; omega) (fun h20 => ?_) (fun h20 => ?_)
  · refine wg_iconst (pc := 37) C dX2_partsOfBay_37 ?_
    refine wg_goto (tgt := 42) (pc := 38) C dX2_partsOfBay_38 (by decide) ?_
    refine WG.mask [true, true, true, true, false, false, false] rfl ?_
    exact L42 _ (by omega) (by unfold brc; omega)
  · refine wg_iload_1 (pc := 23) C dX2_partsOfBay_23 ?_
    refine wg_iconst (pc := 24) C dX2_partsOfBay_24 ?_
    refine wg_iadd (pc := 25) C dX2_partsOfBay_25 ?_
    refine wg_aload_0 (pc := 26) C dX2_partsOfBay_26 ?_
    refine wg_aload_3 (pc := 27) C dX2_partsOfBay_27 ?_
    refine gX2_96 (pc := 28) C (hM.bay hb0 hb1) rfl dX2_partsOfBay_28 ?_
    refine wg_callVP (pc := 31) C kX2_endOf q1289 (tX2_endOf hM hO hby.1 hby.2.1) (rc_of C hM.obj rfl) dX2_partsOfBay_31 rfl rfl (Nat.le_of_ble_eq_true rfl) rfl (by decide) (fun f31 => ?_)
    refine wg_icmp_ne (tgt := 41) (pc := 34) C dX2_partsOfBay_34 (by decide) (by unfold InR; omega) (by unfold InR; omega) (fun h34 => ?_) (fun h34 => ?_)
    · refine wg_iconst (pc := 41) C dX2_partsOfBay_41 ?_
      refine WG.mask [true, true, true, true, false, false, false] rfl ?_
      exact L42 _ (by omega) (by unfold brc; omega)
    · refine wg_iconst (pc := 37) C dX2_partsOfBay_37 ?_
      refine wg_goto (tgt := 42) (pc := 38) C dX2_partsOfBay_38 (by decide) ?_
      refine WG.mask [true, true, true, true, false, false, false] rfl ?_
      exact L42 _ (by omega) (by unfold brc; omega)

theorem tX2_ofLevels {G : Gm} {w : Wo} {σ ζ : St} (hM : HasM G w σ ζ) (hO : Ok σ) {wh : Int} (hk : InR wh) : PCt G mX2_ofLevels 4 w [.ref (w.1 (20, 0)), vI wh] (vI (ofL σ wh)) (0 ≤ ofL σ wh ∧ ofL σ wh ≤ 115200) := by
  refine ⟨ct_of [some (.ref (w.1 (20, 0))), some (vI wh), none, none, none, none] plX2 rfl (Nat.le_of_ble_eq_true rfl) rfl ?_, ofL_rng hO wh⟩
  intro X hG C hnm hQ
  subst hG
  change CxOk X cX2_ofLevels 6 RX2 (some .int) 4 at C
  have hB := hO.hB
  have hF := hO.hF
  have hbc := hM.bc
  have hfc0 := hM.fc
  unfold InR at hk
  have L4 : ∀ (N : Nat) (k s : Int), (nB σ - k).toNat = N → 0 ≤ k → k ≤ nB σ → s = sm (fun b => sm (lvlA σ wh b) 0 (lft σ b)) 0 k → WG X 4 [some (.ref (w.1 (20, 0))), some (vI wh), some (vI s), some (vI k), none, none] [] w 0 0 := by
    intro N
    induction N using Nat.strongRecOn with | _ N IH => ?_
    intro k s hN hk0 hk1 hs
    have hlf := hO.lf k
    refine wg_iload_3 (pc := 4) C dX2_ofLevels_4 ?_
    refine wg_aload_0 (pc := 5) C dX2_ofLevels_5 ?_
    refine gX2_16 (pc := 6) C hM.obj rfl dX2_ofLevels_6 ?_
    refine wg_callFP (pc := 9) C kF_size q1161 (tJ2_size hM.bl) (rc_of C hM.bl rfl) dX2_ofLevels_9 rfl rfl (Nat.le_of_ble_eq_true rfl) rfl (by decide) (fun f9 => ?_)
    refine wg_icmp_ge (tgt := 100) (pc := 14) C dX2_ofLevels_14 (by decide) (by unfold InR; omega) (by unfold InR; omega) (fun h14 => ?_) (fun h14 => ?_)
    · refine wg_iload_2 (pc := 100) C dX2_ofLevels_100 ?_
      refine wg_iret (pc := 101) C hQ dX2_ofLevels_101 ?_
      have e : k = nB σ := by omega
      exact ⟨vI_c (by rw [hs, e]; rfl), rfl⟩
    · refine wg_aload_0 (pc := 17) C dX2_ofLevels_17 ?_
      refine gX2_16 (pc := 18) C hM.obj rfl dX2_ofLevels_18 ?_
      refine wg_iload_3 (pc := 21) C dX2_ofLevels_21 ?_
      refine wg_callFP (pc := 22) C kF_get q1224 (tJ2_get (hM.blA (by omega)) (hM.baA (by omega)) (by omega) (by omega) (by omega) (by omega) (rws_at (by omega) (by omega))) (rc_of C hM.bl rfl) dX2_ofLevels_22 rfl rfl (Nat.le_of_ble_eq_true rfl) rfl (by decide) (fun f22 => ?_)
      refine wg_cast (pc := 27) (ci := 5) C rfl q1184 (rc_of C (hM.bay (by omega) (by omega)) rfl) dX2_ofLevels_27 ?_
      have L35 : ∀ (N : Nat) (t j : Int), (lft σ k - j).toNat = N → 0 ≤ j → j ≤ lft σ k → t = s + sm (lvlA σ wh k) 0 j → WG X 35 [some (.ref (w.1 (20, 0))), some (vI wh), some (vI t), some (vI k), some (.ref (w.1 (23, k))), some (vI j)] [] w 0 0 := by
        intro N
        induction N using Nat.strongRecOn with | _ N IH2 => ?_
        intro t j hN2 hj0 hj1 ht
        have hbd := hO.bd k j
        refine wg_iload_5 (pc := 35) C dX2_ofLevels_35 ?_
        refine wg_aload_4 (pc := 37) C dX2_ofLevels_37 ?_
        refine gX2_105 (pc := 39) C (hM.bay (by omega) (by omega)) rfl dX2_ofLevels_39 ?_
        refine wg_icmp_ge (tgt := 94) (pc := 42) C dX2_ofLevels_42 (by decide) (by unfold InR; omega) (by unfold InR; omega) (fun h42 => ?_) (fun h42 => ?_)
        · refine wg_iinc_3 (pc := 94) C dX2_ofLevels_94 rfl ?_
          refine wg_goto (tgt := 4) (pc := 97) C dX2_ofLevels_97 (by decide) ?_
          refine WG.mask [true, true, true, true, false, false] rfl ?_
          exact IH _ (by omega) (k + 1) _ rfl (by omega) (by omega) (by rw [sm_succ _ hk0, ht, show j = lft σ k by omega, hs])
        · refine wg_iload_2 (pc := 45) C dX2_ofLevels_45 ?_
          refine wg_iload_1 (pc := 46) C dX2_ofLevels_46 ?_
          refine wg_if_ne (tgt := 54) (pc := 47) C dX2_ofLevels_47 (by decide) (by unfold InR; omega) (fun h47 => ?_) (fun h47 => ?_)
          · refine wg_iload_1 (pc := 54) C dX2_ofLevels_54 ?_
            refine wg_iconst (pc := 55) C dX2_ofLevels_55 ?_
            refine wg_icmp_ne (tgt := 70) (pc := 56) C dX2_ofLevels_56 (by decide) (by unfold InR; omega) (by unfold InR; omega) (fun h56 => ?_) (fun h56 => ?_)
            · refine wg_aload_4 (pc := 70) C dX2_ofLevels_70 ?_
              refine gX2_139 (pc := 72) C (hM.bay (by omega) (by omega)) rfl dX2_ofLevels_72 ?_
              refine wg_iload_5 (pc := 75) C dX2_ofLevels_75 ?_
              refine wg_zald (pc := 77) C (hM.bd (by omega) (by omega)) rfl (by omega) (by omega) (by decide) dX2_ofLevels_77 ?_
              refine wg_if_eq (tgt := 85) (pc := 78) C dX2_ofLevels_78 (by decide) (by unfold InR; omega) (fun h78 => ?_) (fun h78 => ?_)
              · refine wg_iconst (pc := 85) C dX2_ofLevels_85 ?_
                refine wg_iadd (pc := 86) C dX2_ofLevels_86 ?_
                refine wg_istore_2 (pc := 87) C dX2_ofLevels_87 rfl ?_
                refine wg_iinc_5 (pc := 88) C dX2_ofLevels_88 rfl ?_
                refine wg_goto (tgt := 35) (pc := 91) C dX2_ofLevels_91 (by decide) ?_
                exact IH2 _ (by omega) _ (j + 1) rfl (by omega) (by omega) (by rw [sm_succ _ hj0, ht]; unfold lvlA; first | (rw [if_pos h47]; omega) | (rw [if_neg h47, if_pos h56]; omega) | (rw [if_neg h47, if_neg h56, if_pos h78]; omega) | (rw [if_neg h47, if_neg h56, if_neg h78]; omega))
              · refine wg_iconst (pc := 81) C dX2_ofLevels_81 ?_
                refine wg_goto (tgt := 86) (pc := 82) C dX2_ofLevels_82 (by decide) ?_
                refine wg_iadd (pc := 86) C dX2_ofLevels_86 ?_
                refine wg_istore_2 (pc := 87) C dX2_ofLevels_87 rfl ?_
                refine wg_iinc_5 (pc := 88) C dX2_ofLevels_88 rfl ?_
                refine wg_goto (tgt := 35) (pc := 91) C dX2_ofLevels_91 (by decide) ?_
                exact IH2 _ (by omega) _ (j + 1) rfl (by omega) (by omega) (by rw [sm_succ _ hj0, ht]; unfold lvlA; first | (rw [if_pos h47]; omega) | (rw [if_neg h47, if_pos h56]; omega) | (rw [if_neg h47, if_neg h56, if_pos h78]; omega) | (rw [if_neg h47, if_neg h56, if_neg h78]; omega))
            · refine wg_aload_4 (pc := 59) C dX2_ofLevels_59 ?_
              refine gX2_154 (pc := 61) C (hM.bay (by omega) (by omega)) rfl dX2_ofLevels_61 ?_
              refine wg_iload_5 (pc := 64) C dX2_ofLevels_64 ?_
              refine wg_iald (pc := 66) C (hM.la (by omega) (by omega)) rfl (by omega) (by omega) (by decide) dX2_ofLevels_66 ?_
              refine wg_goto (tgt := 86) (pc := 67) C dX2_ofLevels_67 (by decide) ?_
              refine wg_iadd (pc := 86) C dX2_ofLevels_86 ?_
              refine wg_istore_2 (pc := 87) C dX2_ofLevels_87 rfl ?_
              refine wg_iinc_5 (pc := 88) C dX2_ofLevels_88 rfl ?_
              refine wg_goto (tgt := 35) (pc := 91) C dX2_ofLevels_91 (by decide) ?_
              exact IH2 _ (by omega) _ (j + 1) rfl (by omega) (by omega) (by rw [sm_succ _ hj0, ht]; unfold lvlA; first | (rw [if_pos h47]; omega) | (rw [if_neg h47, if_pos h56]; omega) | (rw [if_neg h47, if_neg h56, if_pos h78]; omega) | (rw [if_neg h47, if_neg h56, if_neg h78]; omega))
          · refine wg_iconst (pc := 50) C dX2_ofLevels_50 ?_
            refine wg_goto (tgt := 86) (pc := 51) C dX2_ofLevels_51 (by decide) ?_
            refine wg_iadd (pc := 86) C dX2_ofLevels_86 ?_
            refine wg_istore_2 (pc := 87) C dX2_ofLevels_87 rfl ?_
            refine wg_iinc_5 (pc := 88) C dX2_ofLevels_88 rfl ?_
            refine wg_goto (tgt := 35) (pc := 91) C dX2_ofLevels_91 (by decide) ?_
            exact IH2 _ (by omega) _ (j + 1) rfl (by omega) (by omega) (by rw [sm_succ _ hj0, ht]; unfold lvlA; first | (rw [if_pos h47]; omega) | (rw [if_neg h47, if_pos h56]; omega) | (rw [if_neg h47, if_neg h56, if_pos h78]; omega) | (rw [if_neg h47, if_neg h56, if_neg h78]; omega))
      refine wg_astore_4 (pc := 30) C dX2_ofLevels_30 rfl ?_
      refine wg_iconst (pc := 32) C dX2_ofLevels_32 ?_
      refine wg_istore_5 (pc := 33) C dX2_ofLevels_33 rfl ?_
      exact L35 _ s 0 rfl (by omega) (by omega) (by rw [sm_nil _ (by omega)]; omega)
  refine wg_iconst (pc := 0) C dX2_ofLevels_0 ?_
  refine wg_istore_2 (pc := 1) C dX2_ofLevels_1 rfl ?_
  refine wg_iconst (pc := 2) C dX2_ofLevels_2 ?_
  refine wg_istore_3 (pc := 3) C dX2_ofLevels_3 rfl ?_
  refine WG.mask [true, true, true, true, false, false] rfl ?_
  exact L4 _ 0 0 rfl (by omega) (by omega) (by rw [sm_nil _ (by omega)])

theorem tX2_openings {G : Gm} {w : Wo} {σ ζ : St} (hM : HasM G w σ ζ) (hO : Ok σ) : PCt G mX2_openings 2 w [.ref (w.1 (20, 0))] (vI (opA σ)) (True) := by
  refine ⟨ct_of [some (.ref (w.1 (20, 0))), none, none, none] plX2 rfl (Nat.le_of_ble_eq_true rfl) rfl ?_, trivial⟩
  intro X hG C hnm hQ
  subst hG
  change CxOk X cX2_openings 4 RX2 (some .int) 2 at C
  have hB := hO.hB
  have hF := hO.hF
  have hbc := hM.bc
  have hfc0 := hM.fc
  have L4 : ∀ (N : Nat) (k s : Int), (nB σ + 1 - k).toNat = N → 0 ≤ k → k ≤ nB σ + 1 → s = sm (opS σ) 0 k → WG X 4 [some (.ref (w.1 (20, 0))), some (vI s), some (vI k), none] [] w 0 0 := by
    intro N
    induction N using Nat.strongRecOn with | _ N IH => ?_
    intro k s hN hk0 hk1 hs
    refine wg_iload_2 (pc := 4) C dX2_openings_4 ?_
    refine wg_aload_0 (pc := 5) C dX2_openings_5 ?_
    refine gX2_16 (pc := 6) C hM.obj rfl dX2_openings_6 ?_
    refine wg_callFP (pc := 9) C kF_size q1161 (tJ2_size hM.bl) (rc_of C hM.bl rfl) dX2_openings_9 rfl rfl (Nat.le_of_ble_eq_true rfl) rfl (by decide) (fun f9 => ?_)
    refine wg_icmp_gt (tgt := 56) (pc := 14) C dX2_openings_14 (by decide) (by unfold InR; omega) (by unfold InR; omega) (fun h14 => ?_) (fun h14 => ?_)
    · refine wg_iload_1 (pc := 56) C dX2_openings_56 ?_
      refine wg_iret (pc := 57) C hQ dX2_openings_57 ?_
      have e : k = nB σ + 1 := by omega
      exact ⟨vI_c (by rw [hs, e]; rfl), rfl⟩
    · have L19 : ∀ (N : Nat) (t j : Int), (8 - j).toNat = N → 0 ≤ j → j ≤ 8 → t = s + sm (fun l => if σ 8 l k = 0 then 0 else 1) 0 j → WG X 19 [some (.ref (w.1 (20, 0))), some (vI t), some (vI k), some (vI j)] [] w 0 0 := by
        intro N
        induction N using Nat.strongRecOn with | _ N IH2 => ?_
        intro t j hN2 hj0 hj1 ht
        have hop := hO.op j k
        refine wg_iload_3 (pc := 19) C dX2_openings_19 ?_
        refine wg_bipush (pc := 20) C dX2_openings_20 (by decide) ?_
        refine wg_icmp_ge (tgt := 50) (pc := 22) C dX2_openings_22 (by decide) (by unfold InR; omega) (by unfold InR; omega) (fun h22 => ?_) (fun h22 => ?_)
        · refine wg_iinc_2 (pc := 50) C dX2_openings_50 rfl ?_
          refine wg_goto (tgt := 4) (pc := 53) C dX2_openings_53 (by decide) ?_
          refine WG.mask [true, true, true, false] rfl ?_
          exact IH _ (by omega) (k + 1) _ rfl (by omega) (by omega) (by rw [sm_succ _ hk0, ht, show j = 8 by omega, hs]; rfl)
        · refine wg_iload_1 (pc := 25) C dX2_openings_25 ?_
          refine wg_aload_0 (pc := 26) C dX2_openings_26 ?_
          refine gX2_29 (pc := 27) C hM.obj rfl dX2_openings_27 ?_
          refine wg_iload_2 (pc := 30) C dX2_openings_30 ?_
          refine wg_aald (pc := 31) C rfl rfl hM.oo rfl (by omega) (by omega) (by decide) (rws_at (by omega) (by omega)) dX2_openings_31 ?_
          refine wg_iload_3 (pc := 32) C dX2_openings_32 ?_
          refine wg_zald (pc := 33) C (hM.op (by omega) (by omega)) rfl (by omega) (by omega) (by decide) dX2_openings_33 ?_
          refine wg_if_eq (tgt := 41) (pc := 34) C dX2_openings_34 (by decide) (by unfold InR; omega) (fun h34 => ?_) (fun h34 => ?_)
          · refine wg_iconst (pc := 41) C dX2_openings_41 ?_
            refine wg_iadd (pc := 42) C dX2_openings_42 ?_
            refine wg_istore_1 (pc := 43) C dX2_openings_43 rfl ?_
            refine wg_iinc_3 (pc := 44) C dX2_openings_44 rfl ?_
            refine wg_goto (tgt := 19) (pc := 47) C dX2_openings_47 (by decide) ?_
            exact IH2 _ (by omega) _ (j + 1) rfl (by omega) (by omega) (by rw [sm_succ _ hj0, ht]; first | (rw [if_pos h34]; omega) | (rw [if_neg h34]; omega))
          · refine wg_iconst (pc := 37) C dX2_openings_37 ?_
            refine wg_goto (tgt := 42) (pc := 38) C dX2_openings_38 (by decide) ?_
            refine wg_iadd (pc := 42) C dX2_openings_42 ?_
            refine wg_istore_1 (pc := 43) C dX2_openings_43 rfl ?_
            refine wg_iinc_3 (pc := 44) C dX2_openings_44 rfl ?_
            refine wg_goto (tgt := 19) (pc := 47) C dX2_openings_47 (by decide) ?_
            exact IH2 _ (by omega) _ (j + 1) rfl (by omega) (by omega) (by rw [sm_succ _ hj0, ht]; first | (rw [if_pos h34]; omega) | (rw [if_neg h34]; omega))
      refine wg_iconst (pc := 17) C dX2_openings_17 ?_
      refine wg_istore_3 (pc := 18) C dX2_openings_18 rfl ?_
      exact L19 _ s 0 rfl (by omega) (by omega) (by rw [sm_nil _ (by omega)]; omega)
  refine wg_iconst (pc := 0) C dX2_openings_0 ?_
  refine wg_istore_1 (pc := 1) C dX2_openings_1 rfl ?_
  refine wg_iconst (pc := 2) C dX2_openings_2 ?_
  refine wg_istore_2 (pc := 3) C dX2_openings_3 rfl ?_
  refine WG.mask [true, true, true, false] rfl ?_
  exact L4 _ 0 0 rfl (by omega) (by omega) (by rw [sm_nil _ (by omega)])

theorem tX2_greenFaces {G : Gm} {w : Wo} {σ ζ : St} (hM : HasM G w σ ζ) (hO : Ok σ) : PCt G mX2_greenFaces 2 w [.ref (w.1 (20, 0))] (vI (grnF σ)) (True) := by
  refine ⟨ct_of [some (.ref (w.1 (20, 0))), none, none] plX2 rfl (Nat.le_of_ble_eq_true rfl) rfl ?_, trivial⟩
  intro X hG C hnm hQ
  subst hG
  change CxOk X cX2_greenFaces 3 RX2 (some .int) 2 at C
  have hB := hO.hB
  have hF := hO.hF
  have hbc := hM.bc
  have hfc0 := hM.fc
  have L4 : ∀ (N : Nat) (k s : Int), (nF σ - k).toNat = N → 0 ≤ k → k ≤ nF σ → s = sm (fun f => if day σ ≤ grn σ f then 1 else 0) 0 k → WG X 4 [some (.ref (w.1 (20, 0))), some (vI s), some (vI k)] [] w 0 0 := by
    intro N
    induction N using Nat.strongRecOn with | _ N IH => ?_
    intro k s hN hk0 hk1 hs
    refine wg_iload_2 (pc := 4) C dX2_greenFaces_4 ?_
    refine wg_aload_0 (pc := 5) C dX2_greenFaces_5 ?_
    refine gX2_20 (pc := 6) C hM.obj rfl dX2_greenFaces_6 ?_
    refine wg_callFP (pc := 9) C kF_size q1161 (tJ2_size hM.fl) (rc_of C hM.fl rfl) dX2_greenFaces_9 rfl rfl (Nat.le_of_ble_eq_true rfl) rfl (by decide) (fun f9 => ?_)
    refine wg_icmp_ge (tgt := 39) (pc := 14) C dX2_greenFaces_14 (by decide) (by unfold InR; omega) (by unfold InR; omega) (fun h14 => ?_) (fun h14 => ?_)
    · refine wg_iload_1 (pc := 39) C dX2_greenFaces_39 ?_
      refine wg_iret (pc := 40) C hQ dX2_greenFaces_40 ?_
      have e : k = nF σ := by omega
      exact ⟨vI_c (by rw [hs, e]; rfl), rfl⟩
    · refine wg_iload_1 (pc := 17) C dX2_greenFaces_17 ?_
      refine wg_aload_0 (pc := 18) C dX2_greenFaces_18 ?_
      refine wg_iload_2 (pc := 19) C dX2_greenFaces_19 ?_
      refine wg_callVP (pc := 20) C kX2_isGreen q1311 (tX2_isGreen hM hO (by omega) (by omega)) (rc_of C hM.obj rfl) dX2_greenFaces_20 rfl rfl (Nat.le_of_ble_eq_true rfl) rfl (by decide) (fun f20 => ?_)
      refine wg_ifeqB (tgt := 30) (pc := 23) C dX2_greenFaces_23 (by decide) (fun h23 => ?_) (fun h23 => ?_)
      · refine wg_iconst (pc := 30) C dX2_greenFaces_30 ?_
        refine wg_iadd (pc := 31) C dX2_greenFaces_31 ?_
        refine wg_istore_1 (pc := 32) C dX2_greenFaces_32 rfl ?_
        refine wg_iinc_2 (pc := 33) C dX2_greenFaces_33 rfl ?_
        refine wg_goto (tgt := 4) (pc := 36) C dX2_greenFaces_36 (by decide) ?_
        exact IH _ (by omega) (k + 1) _ rfl (by omega) (by omega) (by rw [sm_succ _ hk0, ← hs]; first | rw [if_pos h23] | rw [if_neg h23])
      · refine wg_iconst (pc := 26) C dX2_greenFaces_26 ?_
        refine wg_goto (tgt := 31) (pc := 27) C dX2_greenFaces_27 (by decide) ?_
        refine wg_iadd (pc := 31) C dX2_greenFaces_31 ?_
        refine wg_istore_1 (pc := 32) C dX2_greenFaces_32 rfl ?_
        refine wg_iinc_2 (pc := 33) C dX2_greenFaces_33 rfl ?_
        refine wg_goto (tgt := 4) (pc := 36) C dX2_greenFaces_36 (by decide) ?_
        exact IH _ (by omega) (k + 1) _ rfl (by omega) (by omega) (by rw [sm_succ _ hk0, ← hs]; first | rw [if_pos h23] | rw [if_neg h23])
  refine wg_iconst (pc := 0) C dX2_greenFaces_0 ?_
  refine wg_istore_1 (pc := 1) C dX2_greenFaces_1 rfl ?_
  refine wg_iconst (pc := 2) C dX2_greenFaces_2 ?_
  refine wg_istore_2 (pc := 3) C dX2_greenFaces_3 rfl ?_
  exact L4 _ 0 0 rfl (by omega) (by omega) (by rw [sm_nil _ (by omega)])

