/-! the class: what may throw, and changes nothing -/
set_option maxRecDepth 100000
set_option maxHeartbeats 4000000
def wkN (σ : St) (a : Int) : Nat → Int
  | 0 => a
  | n + 1 => if spare σ (a + n) < spare σ (wkN σ a n) then a + n else wkN σ a n
def weakest (σ : St) (f : Int) : Int := wkN σ (first σ f) (many σ f + 1).toNat
theorem wkN_s (σ : St) {a k b : Int} (h : a ≤ k) (hb : b = wkN σ a (k - a).toNat) : wkN σ a (k + 1 - a).toNat = if spare σ k < spare σ b then k else b := by
  rw [show (k + 1 - a).toNat = (k - a).toNat + 1 by omega, hb]
  show (if spare σ (a + ((k - a).toNat : Int)) < _ then a + ((k - a).toNat : Int) else _) = _
  rw [show a + ((k - a).toNat : Int) = k by omega]
def cntA (σ : St) (wh : Int) : Int := if wh = 0 then nF σ else if wh = 1 then nB σ else if wh = 2 then pos σ else if wh = 5 ∨ wh = 6 then ofP σ wh else if wh = 7 then grnF σ else ofB σ wh
def bayA (σ : St) (b l wh : Int) : Int := if wh = 0 then σ 5 b l else if wh = 1 then σ 6 b l else σ 7 b l
def prtA (σ : St) (f kd : Int) : Int := if f = -1 then allPrt σ kd else prtFace σ f kd
theorem tX1_checkIndex {G : Gm} {w : Wo} {p : Prop} [Decidable p] : Cxt G mX1_checkIndex 6 1 6 w [vI (if p then 1 else 0)] (fun v w1 => v = none ∧ w1 = w ∧ p) (fun E w1 => E = eI ∧ w1 = w ∧ ¬ p) := by
  refine ctx_of [some (vI (if p then 1 else 0))] plX1 rfl (Nat.le_of_ble_eq_true rfl) rfl ?_
  intro X hG C hnm hQ hQX hno hqe
  subst hG
  change CxOk X cX1_checkIndex 1 RX1 (none) 6 at C
  refine wg_iload_0 (pc := 0) C dX1_checkIndex_0 ?_
  refine wg_ifneB (tgt := 12) (pc := 1) C dX1_checkIndex_1 (by decide) (fun h1 => ?_) (fun h1 => ?_)
  · refine wg_vret (pc := 12) C hQ dX1_checkIndex_12 ?_
    exact ⟨rfl, rfl, h1⟩
  · exact wg_throw0 (pc := 4) C thI hQ hno hqe dX1_checkIndex_4 dX1_checkIndex_7 dX1_checkIndex_8 dX1_checkIndex_11 (by decide) (by decide) (by decide) (Nat.le_of_ble_eq_true rfl) rfl ⟨rfl, rfl, h1⟩

theorem tX1_checkArgument {G : Gm} {w : Wo} {p : Prop} [Decidable p] : Cxt G mX1_checkArgument 6 1 6 w [vI (if p then 1 else 0)] (fun v w1 => v = none ∧ w1 = w ∧ p) (fun E w1 => E = eA ∧ w1 = w ∧ ¬ p) := by
  refine ctx_of [some (vI (if p then 1 else 0))] plX1 rfl (Nat.le_of_ble_eq_true rfl) rfl ?_
  intro X hG C hnm hQ hQX hno hqe
  subst hG
  change CxOk X cX1_checkArgument 1 RX1 (none) 6 at C
  refine wg_iload_0 (pc := 0) C dX1_checkArgument_0 ?_
  refine wg_ifneB (tgt := 12) (pc := 1) C dX1_checkArgument_1 (by decide) (fun h1 => ?_) (fun h1 => ?_)
  · refine wg_vret (pc := 12) C hQ dX1_checkArgument_12 ?_
    exact ⟨rfl, rfl, h1⟩
  · exact wg_throw0 (pc := 4) C thA hQ hno hqe dX1_checkArgument_4 dX1_checkArgument_7 dX1_checkArgument_8 dX1_checkArgument_11 (by decide) (by decide) (by decide) (Nat.le_of_ble_eq_true rfl) rfl ⟨rfl, rfl, h1⟩

theorem tX1_checkState {G : Gm} {w : Wo} {p : Prop} [Decidable p] : Cxt G mX1_checkState 6 1 6 w [vI (if p then 1 else 0)] (fun v w1 => v = none ∧ w1 = w ∧ p) (fun E w1 => E = eS ∧ w1 = w ∧ ¬ p) := by
  refine ctx_of [some (vI (if p then 1 else 0))] plX1 rfl (Nat.le_of_ble_eq_true rfl) rfl ?_
  intro X hG C hnm hQ hQX hno hqe
  subst hG
  change CxOk X cX1_checkState 1 RX1 (none) 6 at C
  refine wg_iload_0 (pc := 0) C dX1_checkState_0 ?_
  refine wg_ifneB (tgt := 12) (pc := 1) C dX1_checkState_1 (by decide) (fun h1 => ?_) (fun h1 => ?_)
  · refine wg_vret (pc := 12) C hQ dX1_checkState_12 ?_
    exact ⟨rfl, rfl, h1⟩
  · exact wg_throw0 (pc := 4) C thS hQ hno hqe dX1_checkState_4 dX1_checkState_7 dX1_checkState_8 dX1_checkState_11 (by decide) (by decide) (by decide) (Nat.le_of_ble_eq_true rfl) rfl ⟨rfl, rfl, h1⟩

theorem tX1_in {G : Gm} {w : Wo} {t ta : Tg} {a : Value} {cap : Nat} {r : Int → Option Nat} {yy : Int → Nat} {i m : Int} (hi : InR i) (hV : w.2 t = some (ob 1 [a, .ref (w.1 ta), vI m])) (hA : w.2 ta = some (aR G 3 cap r)) (hm0 : 0 ≤ m) (h2 : m ≤ cap) (hc : cap < 100000) (hr : ∀ j, 0 ≤ j → j < m → r j = some (yy j)) : Cxt G mX1_in 7 1 6 w [.ref (w.1 t), vI i] (fun v w1 => v = some (.ref (yy i)) ∧ w1 = w ∧ (0 ≤ i ∧ i < m)) (fun E w1 => E = eI ∧ w1 = w ∧ ¬ (0 ≤ i ∧ i < m)) := by
  refine ctx_of [some (.ref (w.1 t)), some (vI i)] plX1 rfl (Nat.le_of_ble_eq_true rfl) rfl ?_
  intro X hG C hnm hQ hQX hno hqe
  subst hG
  change CxOk X cX1_in 2 RX1 (some ((.object "java/lang/Object"))) 7 at C
  unfold InR at hi
  refine wg_iload_1 (pc := 0) C dX1_in_0 ?_
  refine wg_iconst (pc := 1) C dX1_in_1 ?_
  refine wg_aload_0 (pc := 2) C dX1_in_2 ?_
  refine wg_callFP (pc := 3) C kF_size q477 (tJ2_size hV) (rc_of C hV rfl) dX1_in_3 rfl rfl (Nat.le_of_ble_eq_true rfl) rfl (by decide) (fun f3 => ?_)
  refine wg_iconst (pc := 8) C dX1_in_8 ?_
  refine wg_isub (pc := 9) C dX1_in_9 ?_
  refine wg_callSP (pc := 10) C kX1_inRange q485 (tX1_inRange (by unfold InR; omega) (by unfold InR; omega) (by unfold InR; omega)) dX1_in_10 rfl rfl (Nat.le_of_ble_eq_true rfl) rfl (by decide) (fun f10 => ?_)
  refine wg_callSX (pc := 13) C (k' := 0) (n' := 0) kX1_checkIndex q879 (tX1_checkIndex) dX1_in_13 rfl rfl (Nat.le_of_ble_eq_true rfl) rfl (by decide) (by omega) (by omega) (fun E w1 hx => hQX _ _ _ _ _ _ ⟨hx.1, hx.2.1, fun z => hx.2.2 (by omega)⟩) (fun v13 w13 h13 => ?_)
  obtain ⟨e13, ew13, h13⟩ := h13
  subst e13
  rw [ew13]
  refine wg_aload_0 (pc := 16) C dX1_in_16 ?_
  refine wg_iload_1 (pc := 17) C dX1_in_17 ?_
  refine wg_callFP (pc := 18) C kF_get q497 (tJ2_get hV hA (by omega) (by omega) h2 hc (hr i (by omega) (by omega))) (rc_of C hV rfl) dX1_in_18 rfl rfl (Nat.le_of_ble_eq_true rfl) rfl (by decide) (fun f18 => ?_)
  refine wg_aret (pc := 23) C (Or.inl ⟨_, rfl⟩) hQ dX1_in_23 ?_
  exact ⟨rfl, rfl, by omega, by omega⟩

theorem tX1_checkLevel {G : Gm} {w : Wo} {l : Int} (hl : InR l) : Cxt G mX1_checkLevel 7 1 6 w [vI l] (fun v w1 => v = none ∧ w1 = w ∧ (0 ≤ l ∧ l < 8)) (fun E w1 => E = eI ∧ w1 = w ∧ ¬ (0 ≤ l ∧ l < 8)) := by
  refine ctx_of [some (vI l)] plX1 rfl (Nat.le_of_ble_eq_true rfl) rfl ?_
  intro X hG C hnm hQ hQX hno hqe
  subst hG
  change CxOk X cX1_checkLevel 1 RX1 (none) 7 at C
  unfold InR at hl
  refine wg_iload_0 (pc := 0) C dX1_checkLevel_0 ?_
  refine wg_iconst (pc := 1) C dX1_checkLevel_1 ?_
  refine wg_bipush (pc := 2) C dX1_checkLevel_2 (by decide) ?_
  refine wg_callSP (pc := 4) C kX1_inRange q485 (tX1_inRange (by unfold InR; omega) (by unfold InR; omega) (by unfold InR; omega)) dX1_checkLevel_4 rfl rfl (Nat.le_of_ble_eq_true rfl) rfl (by decide) (fun f4 => ?_)
  refine wg_callSX (pc := 7) C (k' := 0) (n' := 0) kX1_checkIndex q879 (tX1_checkIndex) dX1_checkLevel_7 rfl rfl (Nat.le_of_ble_eq_true rfl) rfl (by decide) (by omega) (by omega) (fun E w1 hx => hQX _ _ _ _ _ _ ⟨hx.1, hx.2.1, fun z => hx.2.2 (by omega)⟩) (fun v7 w7 h7 => ?_)
  obtain ⟨e7, ew7, h7⟩ := h7
  subst e7
  rw [ew7]
  refine wg_vret (pc := 10) C hQ dX1_checkLevel_10 ?_
  exact ⟨rfl, rfl, by omega, by omega⟩

theorem tX1_checkPosition {G : Gm} {w : Wo} {σ ζ : St} (hX : HasX G w σ ζ) (hO : Ok σ) {p : Int} (hp : InR p) : Cxt G mX1_checkPosition 7 1 6 w [.ref (w.1 (0, 0)), vI p] (fun v w1 => v = none ∧ w1 = w ∧ (0 ≤ p ∧ p < pos σ)) (fun E w1 => E = eI ∧ w1 = w ∧ ¬ (0 ≤ p ∧ p < pos σ)) := by
  refine ctx_of [some (.ref (w.1 (0, 0))), some (vI p)] plX1 rfl (Nat.le_of_ble_eq_true rfl) rfl ?_
  intro X hG C hnm hQ hQX hno hqe
  subst hG
  change CxOk X cX1_checkPosition 2 RX1 (none) 7 at C
  have hB := hO.hB
  have hF := hO.hF
  unfold InR at hp
  refine wg_iload_1 (pc := 0) C dX1_checkPosition_0 ?_
  refine wg_iconst (pc := 1) C dX1_checkPosition_1 ?_
  refine wg_aload_0 (pc := 2) C dX1_checkPosition_2 ?_
  refine wg_callVP (pc := 3) C kX1_positions q462 (tX1_positions hX hO) (rc_of C hX.obj rfl) dX1_checkPosition_3 rfl rfl (Nat.le_of_ble_eq_true rfl) rfl (by decide) (fun f3 => ?_)
  refine wg_iconst (pc := 6) C dX1_checkPosition_6 ?_
  refine wg_isub (pc := 7) C dX1_checkPosition_7 ?_
  refine wg_callSP (pc := 8) C kX1_inRange q485 (tX1_inRange (by unfold InR; omega) (by unfold InR; omega) (by unfold InR; omega)) dX1_checkPosition_8 rfl rfl (Nat.le_of_ble_eq_true rfl) rfl (by decide) (fun f8 => ?_)
  refine wg_callSX (pc := 11) C (k' := 0) (n' := 0) kX1_checkIndex q879 (tX1_checkIndex) dX1_checkPosition_11 rfl rfl (Nat.le_of_ble_eq_true rfl) rfl (by decide) (by omega) (by omega) (fun E w1 hx => hQX _ _ _ _ _ _ ⟨hx.1, hx.2.1, fun z => hx.2.2 (by omega)⟩) (fun v11 w11 h11 => ?_)
  obtain ⟨e11, ew11, h11⟩ := h11
  subst e11
  rw [ew11]
  refine wg_vret (pc := 14) C hQ dX1_checkPosition_14 ?_
  exact ⟨rfl, rfl, by omega, by omega⟩

theorem tX1_levelOf {G : Gm} {w : Wo} {σ ζ : St} (hX : HasX G w σ ζ) (hO : Ok σ) {b l : Int} (hb : InR b) (hl : InR l) : Cxt G mX1_levelOf 8 2 12 w [.ref (w.1 (0, 0)), vI b, vI l] (fun v w1 => v = some (.ref (w.1 (6, b))) ∧ w1 = w ∧ ((0 ≤ b ∧ b < nB σ) ∧ (0 ≤ l ∧ l < 8))) (fun E w1 => E = eI ∧ w1 = w ∧ ¬ ((0 ≤ b ∧ b < nB σ) ∧ (0 ≤ l ∧ l < 8))) := by
  refine ctx_of [some (.ref (w.1 (0, 0))), some (vI b), some (vI l), none] plX1 rfl (Nat.le_of_ble_eq_true rfl) rfl ?_
  intro X hG C hnm hQ hQX hno hqe
  subst hG
  change CxOk X cX1_levelOf 4 RX1 (some ((.object "Scaffolder$Bay"))) 8 at C
  have hB := hO.hB
  have hF := hO.hF
  refine wg_aload_0 (pc := 0) C dX1_levelOf_0 ?_
  refine gX1_33 (pc := 1) C hX.obj rfl dX1_levelOf_1 ?_
  refine wg_iload_1 (pc := 4) C dX1_levelOf_4 ?_
  refine wg_callSX (pc := 5) C (k' := 1) (n' := 6) kX1_in q876 (tX1_in (yy := fun j => w.1 (6, j)) (by assumption) hX.bl hX.ba (by omega) (by omega) (by decide) (fun j h0 h1 => rws_at h0 h1)) dX1_levelOf_5 rfl rfl (Nat.le_of_ble_eq_true rfl) rfl (by decide) (by omega) (by omega) (fun E w1 hx => hQX _ _ _ _ _ _ ⟨hx.1, hx.2.1, fun z => hx.2.2 (by omega)⟩) (fun v5 w5 h5 => ?_)
  obtain ⟨e5, ew5, h5⟩ := h5
  subst e5
  rw [ew5]
  refine wg_cast (pc := 8) (ci := 3) C rfl q515 (rc_of C (hX.bay (by omega) (by omega)) rfl) dX1_levelOf_8 ?_
  refine wg_astore_3 (pc := 11) C dX1_levelOf_11 rfl ?_
  refine wg_iload_2 (pc := 12) C dX1_levelOf_12 ?_
  refine wg_callSX (pc := 13) C (k' := 0) (n' := 0) kX1_checkLevel q944 (tX1_checkLevel (by assumption)) dX1_levelOf_13 rfl rfl (Nat.le_of_ble_eq_true rfl) rfl (by decide) (by omega) (by omega) (fun E w1 hx => hQX _ _ _ _ _ _ ⟨hx.1, hx.2.1, fun z => hx.2.2 (by omega)⟩) (fun v13 w13 h13 => ?_)
  obtain ⟨e13, ew13, h13⟩ := h13
  subst e13
  rw [ew13]
  refine wg_aload_3 (pc := 16) C dX1_levelOf_16 ?_
  refine wg_aret (pc := 17) C (Or.inl ⟨_, rfl⟩) hQ dX1_levelOf_17 ?_
  exact ⟨rfl, rfl, ⟨by omega, by omega⟩, by omega, by omega⟩

theorem tX1_faceOf {G : Gm} {w : Wo} {σ ζ : St} (hX : HasX G w σ ζ) (hO : Ok σ) {b : Int} (hb : InR b) : Cxt G mX1_faceOf 8 1 6 w [.ref (w.1 (0, 0)), vI b] (fun v w1 => v = some (vI (bfc σ b)) ∧ w1 = w ∧ ((0 ≤ b ∧ b < nB σ))) (fun E w1 => E = eI ∧ w1 = w ∧ ¬ ((0 ≤ b ∧ b < nB σ))) := by
  refine ctx_of [some (.ref (w.1 (0, 0))), some (vI b)] plX1 rfl (Nat.le_of_ble_eq_true rfl) rfl ?_
  intro X hG C hnm hQ hQX hno hqe
  subst hG
  change CxOk X cX1_faceOf 2 RX1 (some .int) 8 at C
  have hB := hO.hB
  have hF := hO.hF
  have hps := pos_rng hO
  refine wg_aload_0 (pc := 0) C dX1_faceOf_0 ?_
  refine gX1_33 (pc := 1) C hX.obj rfl dX1_faceOf_1 ?_
  refine wg_iload_1 (pc := 4) C dX1_faceOf_4 ?_
  refine wg_callSX (pc := 5) C (k' := 0) (n' := 0) kX1_in q876 (tX1_in (yy := fun j => w.1 (6, j)) (by assumption) hX.bl hX.ba (by omega) (by omega) (by decide) (fun j h0 h1 => rws_at h0 h1)) dX1_faceOf_5 rfl rfl (Nat.le_of_ble_eq_true rfl) rfl (by decide) (by omega) (by omega) (fun E w1 hx => hQX _ _ _ _ _ _ ⟨hx.1, hx.2.1, fun z => hx.2.2 (by omega)⟩) (fun v5 w5 h5 => ?_)
  obtain ⟨e5, ew5, h5⟩ := h5
  subst e5
  rw [ew5]
  refine wg_cast (pc := 8) (ci := 3) C rfl q515 (rc_of C (hX.bay (by omega) (by omega)) rfl) dX1_faceOf_8 ?_
  have hby := hO.by (k := b) (by omega) (by omega)
  refine gX1_46 (pc := 11) C (hX.bay (by omega) (by omega)) rfl dX1_faceOf_11 ?_
  refine gX1_194 (pc := 14) C (hX.face (by omega) (by omega)) rfl dX1_faceOf_14 ?_
  refine wg_iret (pc := 17) C hQ dX1_faceOf_17 ?_
  exact ⟨rfl, rfl, h5⟩

theorem tX1_isCorner {G : Gm} {w : Wo} {σ ζ : St} (hX : HasX G w σ ζ) (hO : Ok σ) {p : Int} (hp : InR p) : Cxt G mX1_isCorner 8 1 6 w [.ref (w.1 (0, 0)), vI p] (fun v w1 => v = some (vI (if btw σ p then 1 else 0)) ∧ w1 = w ∧ ((0 ≤ p ∧ p < pos σ))) (fun E w1 => E = eI ∧ w1 = w ∧ ¬ ((0 ≤ p ∧ p < pos σ))) := by
  refine ctx_of [some (.ref (w.1 (0, 0))), some (vI p)] plX1 rfl (Nat.le_of_ble_eq_true rfl) rfl ?_
  intro X hG C hnm hQ hQX hno hqe
  subst hG
  change CxOk X cX1_isCorner 2 RX1 (some .boolean) 8 at C
  have hB := hO.hB
  have hF := hO.hF
  have hps := pos_rng hO
  refine wg_aload_0 (pc := 0) C dX1_isCorner_0 ?_
  refine wg_iload_1 (pc := 1) C dX1_isCorner_1 ?_
  refine wg_callVX (pc := 2) C (k' := 0) (n' := 0) kX1_checkPosition q904 (tX1_checkPosition hX hO (by assumption)) (rc_of C hX.obj rfl) dX1_isCorner_2 rfl rfl (Nat.le_of_ble_eq_true rfl) rfl (by decide) (by omega) (by omega) (fun E w1 hx => hQX _ _ _ _ _ _ ⟨hx.1, hx.2.1, fun z => hx.2.2 (by omega)⟩) (fun v2 w2 h2 => ?_)
  obtain ⟨e2, ew2, h2⟩ := h2
  subst e2
  rw [ew2]
  refine wg_aload_0 (pc := 5) C dX1_isCorner_5 ?_
  refine wg_iload_1 (pc := 6) C dX1_isCorner_6 ?_
  refine wg_callVP (pc := 7) C kX1_isBetween q631 (tX1_isBetween hX hO (by unfold InR; omega)) (rc_of C hX.obj rfl) dX1_isCorner_7 rfl rfl (Nat.le_of_ble_eq_true rfl) rfl (by decide) (fun f7 => ?_)
  refine wg_zret (pc := 10) C hQ dX1_isCorner_10 ?_ ⟨rfl, rfl, h2⟩
  split <;> omega

theorem tX1_lifts {G : Gm} {w : Wo} {σ ζ : St} (hX : HasX G w σ ζ) (hO : Ok σ) {b : Int} (hb : InR b) : Cxt G mX1_lifts 8 1 6 w [.ref (w.1 (0, 0)), vI b] (fun v w1 => v = some (vI (lft σ b)) ∧ w1 = w ∧ ((0 ≤ b ∧ b < nB σ))) (fun E w1 => E = eI ∧ w1 = w ∧ ¬ ((0 ≤ b ∧ b < nB σ))) := by
  refine ctx_of [some (.ref (w.1 (0, 0))), some (vI b)] plX1 rfl (Nat.le_of_ble_eq_true rfl) rfl ?_
  intro X hG C hnm hQ hQX hno hqe
  subst hG
  change CxOk X cX1_lifts 2 RX1 (some .int) 8 at C
  have hB := hO.hB
  have hF := hO.hF
  have hps := pos_rng hO
  refine wg_aload_0 (pc := 0) C dX1_lifts_0 ?_
  refine gX1_33 (pc := 1) C hX.obj rfl dX1_lifts_1 ?_
  refine wg_iload_1 (pc := 4) C dX1_lifts_4 ?_
  refine wg_callSX (pc := 5) C (k' := 0) (n' := 0) kX1_in q876 (tX1_in (yy := fun j => w.1 (6, j)) (by assumption) hX.bl hX.ba (by omega) (by omega) (by decide) (fun j h0 h1 => rws_at h0 h1)) dX1_lifts_5 rfl rfl (Nat.le_of_ble_eq_true rfl) rfl (by decide) (by omega) (by omega) (fun E w1 hx => hQX _ _ _ _ _ _ ⟨hx.1, hx.2.1, fun z => hx.2.2 (by omega)⟩) (fun v5 w5 h5 => ?_)
  obtain ⟨e5, ew5, h5⟩ := h5
  subst e5
  rw [ew5]
  refine wg_cast (pc := 8) (ci := 3) C rfl q515 (rc_of C (hX.bay (by omega) (by omega)) rfl) dX1_lifts_8 ?_
  refine gX1_50 (pc := 11) C (hX.bay (by omega) (by omega)) rfl dX1_lifts_11 ?_
  refine wg_iret (pc := 14) C hQ dX1_lifts_14 ?_
  exact ⟨rfl, rfl, h5⟩

theorem tX1_levels {G : Gm} {w : Wo} {σ ζ : St} (hX : HasX G w σ ζ) (hO : Ok σ) {p : Int} (hp : InR p) : Cxt G mX1_levels 8 1 6 w [.ref (w.1 (0, 0)), vI p] (fun v w1 => v = some (vI (levelsOf σ p)) ∧ w1 = w ∧ ((0 ≤ p ∧ p < pos σ))) (fun E w1 => E = eI ∧ w1 = w ∧ ¬ ((0 ≤ p ∧ p < pos σ))) := by
  refine ctx_of [some (.ref (w.1 (0, 0))), some (vI p)] plX1 rfl (Nat.le_of_ble_eq_true rfl) rfl ?_
  intro X hG C hnm hQ hQX hno hqe
  subst hG
  change CxOk X cX1_levels 2 RX1 (some .int) 8 at C
  have hB := hO.hB
  have hF := hO.hF
  have hps := pos_rng hO
  refine wg_aload_0 (pc := 0) C dX1_levels_0 ?_
  refine wg_iload_1 (pc := 1) C dX1_levels_1 ?_
  refine wg_callVX (pc := 2) C (k' := 0) (n' := 0) kX1_checkPosition q904 (tX1_checkPosition hX hO (by assumption)) (rc_of C hX.obj rfl) dX1_levels_2 rfl rfl (Nat.le_of_ble_eq_true rfl) rfl (by decide) (by omega) (by omega) (fun E w1 hx => hQX _ _ _ _ _ _ ⟨hx.1, hx.2.1, fun z => hx.2.2 (by omega)⟩) (fun v2 w2 h2 => ?_)
  obtain ⟨e2, ew2, h2⟩ := h2
  subst e2
  rw [ew2]
  refine wg_aload_0 (pc := 5) C dX1_levels_5 ?_
  refine wg_iload_1 (pc := 6) C dX1_levels_6 ?_
  refine wg_callVP (pc := 7) C kX1_levelsOf q488 (tX1_levelsOf hX hO (by omega) (by omega)) (rc_of C hX.obj rfl) dX1_levels_7 rfl rfl (Nat.le_of_ble_eq_true rfl) rfl (by decide) (fun f7 => ?_)
  refine wg_iret (pc := 10) C hQ dX1_levels_10 ?_
  exact ⟨rfl, rfl, h2⟩

theorem tX1_missing {G : Gm} {w : Wo} {σ ζ : St} (hX : HasX G w σ ζ) (hO : Ok σ) (hT : TieOk σ ζ) {p : Int} (hp : InR p) : Cxt G mX1_missing 9 1 6 w [.ref (w.1 (0, 0)), vI p] (fun v w1 => v = some (vI (missing σ p)) ∧ w1 = w ∧ ((0 ≤ p ∧ p < pos σ))) (fun E w1 => E = eI ∧ w1 = w ∧ ¬ ((0 ≤ p ∧ p < pos σ))) := by
  refine ctx_of [some (.ref (w.1 (0, 0))), some (vI p)] plX1 rfl (Nat.le_of_ble_eq_true rfl) rfl ?_
  intro X hG C hnm hQ hQX hno hqe
  subst hG
  change CxOk X cX1_missing 2 RX1 (some .int) 9 at C
  have hB := hO.hB
  have hF := hO.hF
  have hps := pos_rng hO
  refine wg_aload_0 (pc := 0) C dX1_missing_0 ?_
  refine wg_iload_1 (pc := 1) C dX1_missing_1 ?_
  refine wg_callVX (pc := 2) C (k' := 0) (n' := 0) kX1_checkPosition q904 (tX1_checkPosition hX hO (by assumption)) (rc_of C hX.obj rfl) dX1_missing_2 rfl rfl (Nat.le_of_ble_eq_true rfl) rfl (by decide) (by omega) (by omega) (fun E w1 hx => hQX _ _ _ _ _ _ ⟨hx.1, hx.2.1, fun z => hx.2.2 (by omega)⟩) (fun v2 w2 h2 => ?_)
  obtain ⟨e2, ew2, h2⟩ := h2
  subst e2
  rw [ew2]
  refine wg_aload_0 (pc := 5) C dX1_missing_5 ?_
  refine wg_iload_1 (pc := 6) C dX1_missing_6 ?_
  refine wg_callVP (pc := 7) C kX1_missingOf q670 (tX1_missingOf hX hO hT (by omega) (by omega)) (rc_of C hX.obj rfl) dX1_missing_7 rfl rfl (Nat.le_of_ble_eq_true rfl) rfl (by decide) (fun f7 => ?_)
  refine wg_iret (pc := 10) C hQ dX1_missing_10 ?_
  exact ⟨rfl, rfl, h2⟩

theorem tX1_bears {G : Gm} {w : Wo} {σ ζ : St} (hX : HasX G w σ ζ) (hO : Ok σ) (hT : TieOk σ ζ) {p : Int} (hp : InR p) : Cxt G mX1_bears 10 1 6 w [.ref (w.1 (0, 0)), vI p] (fun v w1 => v = some (vI (bearsOf σ p)) ∧ w1 = w ∧ ((0 ≤ p ∧ p < pos σ))) (fun E w1 => E = eI ∧ w1 = w ∧ ¬ ((0 ≤ p ∧ p < pos σ))) := by
  refine ctx_of [some (.ref (w.1 (0, 0))), some (vI p)] plX1 rfl (Nat.le_of_ble_eq_true rfl) rfl ?_
  intro X hG C hnm hQ hQX hno hqe
  subst hG
  change CxOk X cX1_bears 2 RX1 (some .int) 10 at C
  have hB := hO.hB
  have hF := hO.hF
  have hps := pos_rng hO
  refine wg_aload_0 (pc := 0) C dX1_bears_0 ?_
  refine wg_iload_1 (pc := 1) C dX1_bears_1 ?_
  refine wg_callVX (pc := 2) C (k' := 0) (n' := 0) kX1_checkPosition q904 (tX1_checkPosition hX hO (by assumption)) (rc_of C hX.obj rfl) dX1_bears_2 rfl rfl (Nat.le_of_ble_eq_true rfl) rfl (by decide) (by omega) (by omega) (fun E w1 hx => hQX _ _ _ _ _ _ ⟨hx.1, hx.2.1, fun z => hx.2.2 (by omega)⟩) (fun v2 w2 h2 => ?_)
  obtain ⟨e2, ew2, h2⟩ := h2
  subst e2
  rw [ew2]
  refine wg_aload_0 (pc := 5) C dX1_bears_5 ?_
  refine wg_iload_1 (pc := 6) C dX1_bears_6 ?_
  refine wg_callVP (pc := 7) C kX1_bearsOf q666 (tX1_bearsOf hX hO hT (by omega) (by omega)) (rc_of C hX.obj rfl) dX1_bears_7 rfl rfl (Nat.le_of_ble_eq_true rfl) rfl (by decide) (fun f7 => ?_)
  refine wg_iret (pc := 10) C hQ dX1_bears_10 ?_
  exact ⟨rfl, rfl, h2⟩

theorem tX1_load {G : Gm} {w : Wo} {σ ζ : St} (hX : HasX G w σ ζ) (hO : Ok σ) {p l r : Int} (hp : InR p) (hl : InR l) (hr : InR r) : Cxt G mX1_load 8 2 12 w [.ref (w.1 (0, 0)), vI p, vI l, vI r] (fun v w1 => v = some (vI (load σ p l r)) ∧ w1 = w ∧ ((0 ≤ p ∧ p < pos σ) ∧ (0 ≤ l ∧ l < 8))) (fun E w1 => E = eI ∧ w1 = w ∧ ¬ ((0 ≤ p ∧ p < pos σ) ∧ (0 ≤ l ∧ l < 8))) := by
  refine ctx_of [some (.ref (w.1 (0, 0))), some (vI p), some (vI l), some (vI r)] plX1 rfl (Nat.le_of_ble_eq_true rfl) rfl ?_
  intro X hG C hnm hQ hQX hno hqe
  subst hG
  change CxOk X cX1_load 4 RX1 (some .int) 8 at C
  have hB := hO.hB
  have hF := hO.hF
  have hps := pos_rng hO
  have hr2 := hr
  unfold InR at hr2
  refine wg_aload_0 (pc := 0) C dX1_load_0 ?_
  refine wg_iload_1 (pc := 1) C dX1_load_1 ?_
  refine wg_callVX (pc := 2) C (k' := 1) (n' := 6) kX1_checkPosition q904 (tX1_checkPosition hX hO (by assumption)) (rc_of C hX.obj rfl) dX1_load_2 rfl rfl (Nat.le_of_ble_eq_true rfl) rfl (by decide) (by omega) (by omega) (fun E w1 hx => hQX _ _ _ _ _ _ ⟨hx.1, hx.2.1, fun z => hx.2.2 (by omega)⟩) (fun v2 w2 h2 => ?_)
  obtain ⟨e2, ew2, h2⟩ := h2
  subst e2
  rw [ew2]
  refine wg_iload_2 (pc := 5) C dX1_load_5 ?_
  refine wg_callSX (pc := 6) C (k' := 0) (n' := 0) kX1_checkLevel q944 (tX1_checkLevel (by assumption)) dX1_load_6 rfl rfl (Nat.le_of_ble_eq_true rfl) rfl (by decide) (by omega) (by omega) (fun E w1 hx => hQX _ _ _ _ _ _ ⟨hx.1, hx.2.1, fun z => hx.2.2 (by omega)⟩) (fun v6 w6 h6 => ?_)
  obtain ⟨e6, ew6, h6⟩ := h6
  subst e6
  rw [ew6]
  refine wg_aload_0 (pc := 9) C dX1_load_9 ?_
  refine wg_iload_1 (pc := 10) C dX1_load_10 ?_
  refine wg_iload_2 (pc := 11) C dX1_load_11 ?_
  refine wg_iload_3 (pc := 12) C dX1_load_12 ?_
  refine wg_callVP (pc := 13) C kX1_loadOf q653 (tX1_loadOf hX hO (by omega) (by omega) (by omega) (by omega) (by unfold InR; omega)) (rc_of C hX.obj rfl) dX1_load_13 rfl rfl (Nat.le_of_ble_eq_true rfl) rfl (by decide) (fun f13 => ?_)
  refine wg_iret (pc := 16) C hQ dX1_load_16 ?_
  exact ⟨rfl, rfl, h2, h6⟩

theorem tX1_tieOf {G : Gm} {w : Wo} {σ ζ : St} (hX : HasX G w σ ζ) (hO : Ok σ) (hT : TieOk σ ζ) {p l : Int} (hp : InR p) (hl : InR l) : Cxt G mX1_tieOf 8 2 12 w [.ref (w.1 (0, 0)), vI p, vI l] (fun v w1 => v = some (vI (tieAt σ l p)) ∧ w1 = w ∧ ((0 ≤ p ∧ p < pos σ) ∧ (0 ≤ l ∧ l < 8))) (fun E w1 => E = eI ∧ w1 = w ∧ ¬ ((0 ≤ p ∧ p < pos σ) ∧ (0 ≤ l ∧ l < 8))) := by
  refine ctx_of [some (.ref (w.1 (0, 0))), some (vI p), some (vI l)] plX1 rfl (Nat.le_of_ble_eq_true rfl) rfl ?_
  intro X hG C hnm hQ hQX hno hqe
  subst hG
  change CxOk X cX1_tieOf 3 RX1 (some .int) 8 at C
  have hB := hO.hB
  have hF := hO.hF
  have hps := pos_rng hO
  refine wg_aload_0 (pc := 0) C dX1_tieOf_0 ?_
  refine wg_iload_1 (pc := 1) C dX1_tieOf_1 ?_
  refine wg_callVX (pc := 2) C (k' := 1) (n' := 6) kX1_checkPosition q904 (tX1_checkPosition hX hO (by assumption)) (rc_of C hX.obj rfl) dX1_tieOf_2 rfl rfl (Nat.le_of_ble_eq_true rfl) rfl (by decide) (by omega) (by omega) (fun E w1 hx => hQX _ _ _ _ _ _ ⟨hx.1, hx.2.1, fun z => hx.2.2 (by omega)⟩) (fun v2 w2 h2 => ?_)
  obtain ⟨e2, ew2, h2⟩ := h2
  subst e2
  rw [ew2]
  refine wg_iload_2 (pc := 5) C dX1_tieOf_5 ?_
  refine wg_callSX (pc := 6) C (k' := 0) (n' := 0) kX1_checkLevel q944 (tX1_checkLevel (by assumption)) dX1_tieOf_6 rfl rfl (Nat.le_of_ble_eq_true rfl) rfl (by decide) (by omega) (by omega) (fun E w1 hx => hQX _ _ _ _ _ _ ⟨hx.1, hx.2.1, fun z => hx.2.2 (by omega)⟩) (fun v6 w6 h6 => ?_)
  obtain ⟨e6, ew6, h6⟩ := h6
  subst e6
  rw [ew6]
  refine wg_aload_0 (pc := 9) C dX1_tieOf_9 ?_
  refine gX1_112 (pc := 10) C hX.obj rfl dX1_tieOf_10 ?_
  refine wg_iload_2 (pc := 13) C dX1_tieOf_13 ?_
  refine wg_aald (pc := 14) C rfl rfl hX.oo2 rfl (by omega) (by omega) (by decide) (rws_at (by omega) (by omega)) dX1_tieOf_14 ?_
  refine wg_iload_1 (pc := 15) C dX1_tieOf_15 ?_
  refine wg_iald (pc := 16) C (hX.tf (by omega) (by omega)) rfl (by omega) (by omega) (by decide) dX1_tieOf_16 ?_
  refine wg_iret (pc := 17) C hQ dX1_tieOf_17 ?_
  exact ⟨by rw [(hT l h6.1 h6.2 p h2.1 (by omega)).2], rfl, h2, h6⟩

theorem tX1_hasTie {G : Gm} {w : Wo} {σ ζ : St} (hX : HasX G w σ ζ) (hO : Ok σ) (hT : TieOk σ ζ) {p l : Int} (hp : InR p) (hl : InR l) : Cxt G mX1_hasTie 8 2 12 w [.ref (w.1 (0, 0)), vI p, vI l] (fun v w1 => v = some (vI (ties σ l p)) ∧ w1 = w ∧ ((0 ≤ p ∧ p < pos σ) ∧ (0 ≤ l ∧ l < 8))) (fun E w1 => E = eI ∧ w1 = w ∧ ¬ ((0 ≤ p ∧ p < pos σ) ∧ (0 ≤ l ∧ l < 8))) := by
  refine ctx_of [some (.ref (w.1 (0, 0))), some (vI p), some (vI l)] plX1 rfl (Nat.le_of_ble_eq_true rfl) rfl ?_
  intro X hG C hnm hQ hQX hno hqe
  subst hG
  change CxOk X cX1_hasTie 3 RX1 (some .boolean) 8 at C
  have hB := hO.hB
  have hF := hO.hF
  have hps := pos_rng hO
  refine wg_aload_0 (pc := 0) C dX1_hasTie_0 ?_
  refine wg_iload_1 (pc := 1) C dX1_hasTie_1 ?_
  refine wg_callVX (pc := 2) C (k' := 1) (n' := 6) kX1_checkPosition q904 (tX1_checkPosition hX hO (by assumption)) (rc_of C hX.obj rfl) dX1_hasTie_2 rfl rfl (Nat.le_of_ble_eq_true rfl) rfl (by decide) (by omega) (by omega) (fun E w1 hx => hQX _ _ _ _ _ _ ⟨hx.1, hx.2.1, fun z => hx.2.2 (by omega)⟩) (fun v2 w2 h2 => ?_)
  obtain ⟨e2, ew2, h2⟩ := h2
  subst e2
  rw [ew2]
  refine wg_iload_2 (pc := 5) C dX1_hasTie_5 ?_
  refine wg_callSX (pc := 6) C (k' := 0) (n' := 0) kX1_checkLevel q944 (tX1_checkLevel (by assumption)) dX1_hasTie_6 rfl rfl (Nat.le_of_ble_eq_true rfl) rfl (by decide) (by omega) (by omega) (fun E w1 hx => hQX _ _ _ _ _ _ ⟨hx.1, hx.2.1, fun z => hx.2.2 (by omega)⟩) (fun v6 w6 h6 => ?_)
  obtain ⟨e6, ew6, h6⟩ := h6
  subst e6
  rw [ew6]
  refine wg_aload_0 (pc := 9) C dX1_hasTie_9 ?_
  refine gX1_106 (pc := 10) C hX.obj rfl dX1_hasTie_10 ?_
  refine wg_iload_2 (pc := 13) C dX1_hasTie_13 ?_
  refine wg_aald (pc := 14) C rfl rfl hX.to rfl (by omega) (by omega) (by decide) (rws_at (by omega) (by omega)) dX1_hasTie_14 ?_
  refine wg_iload_1 (pc := 15) C dX1_hasTie_15 ?_
  refine wg_zald (pc := 16) C (hX.ti (by omega) (by omega)) rfl (by omega) (by omega) (by decide) dX1_hasTie_16 ?_
  have ht17 := ties_rng hO l p
  rw [(hT l h6.1 h6.2 p h2.1 (by omega)).1]
  exact wg_zret (pc := 17) C hQ dX1_hasTie_17 ht17 ⟨rfl, rfl, h2, h6⟩

theorem tX1_tag {G : Gm} {w : Wo} {σ ζ : St} (hX : HasX G w σ ζ) (hO : Ok σ) {f : Int} (hf : InR f) : Cxt G mX1_tag 8 1 6 w [.ref (w.1 (0, 0)), vI f] (fun v w1 => v = some (vI (if day σ ≤ grn σ f then grn σ f - day σ + 1 else 0)) ∧ w1 = w ∧ ((0 ≤ f ∧ f < nF σ))) (fun E w1 => E = eI ∧ w1 = w ∧ ¬ ((0 ≤ f ∧ f < nF σ))) := by
  refine ctx_of [some (.ref (w.1 (0, 0))), some (vI f), none] plX1 rfl (Nat.le_of_ble_eq_true rfl) rfl ?_
  intro X hG C hnm hQ hQX hno hqe
  subst hG
  change CxOk X cX1_tag 3 RX1 (some .int) 8 at C
  have hB := hO.hB
  have hF := hO.hF
  have hps := pos_rng hO
  refine wg_aload_0 (pc := 0) C dX1_tag_0 ?_
  refine gX1_71 (pc := 1) C hX.obj rfl dX1_tag_1 ?_
  refine wg_iload_1 (pc := 4) C dX1_tag_4 ?_
  refine wg_callSX (pc := 5) C (k' := 0) (n' := 0) kX1_in q876 (tX1_in (yy := fun j => w.1 (3, j)) (by assumption) hX.fl hX.fa (by omega) (by omega) (by decide) (fun j h0 h1 => rws_at h0 h1)) dX1_tag_5 rfl rfl (Nat.le_of_ble_eq_true rfl) rfl (by decide) (by omega) (by omega) (fun E w1 hx => hQX _ _ _ _ _ _ ⟨hx.1, hx.2.1, fun z => hx.2.2 (by omega)⟩) (fun v5 w5 h5 => ?_)
  obtain ⟨e5, ew5, h5⟩ := h5
  subst e5
  rw [ew5]
  refine wg_cast (pc := 8) (ci := 2) C rfl q613 (rc_of C (hX.face (by omega) (by omega)) rfl) dX1_tag_8 ?_
  refine wg_astore_2 (pc := 11) C dX1_tag_11 rfl ?_
  have hfc := hO.fc (f := f) (by omega) (by omega)
  have hgr := hO.gr f
  have hdy := hO.dy
  refine wg_aload_2 (pc := 12) C dX1_tag_12 ?_
  refine wg_callVP (pc := 13) C kX3_isGreen q649 (tX3_isGreen hX hO (by omega) (by omega)) (rc_of C (hX.face (by omega) (by omega)) rfl) dX1_tag_13 rfl rfl (Nat.le_of_ble_eq_true rfl) rfl (by decide) (fun f13 => ?_)
  refine wg_ifeqB (tgt := 33) (pc := 16) C dX1_tag_16 (by decide) (fun h16 => ?_) (fun h16 => ?_)
  · refine wg_iconst (pc := 33) C dX1_tag_33 ?_
    refine wg_iret (pc := 34) C hQ dX1_tag_34 ?_
    exact ⟨by first | rw [if_pos h16] | rw [if_neg h16], rfl, h5⟩
  · refine wg_aload_2 (pc := 19) C dX1_tag_19 ?_
    refine gX1_247 (pc := 20) C (hX.face (by omega) (by omega)) rfl dX1_tag_20 ?_
    refine wg_aload_0 (pc := 23) C dX1_tag_23 ?_
    refine gX1_176 (pc := 24) C hX.obj rfl dX1_tag_24 ?_
    refine wg_isub (pc := 27) C dX1_tag_27 ?_
    refine wg_iconst (pc := 28) C dX1_tag_28 ?_
    refine wg_iadd (pc := 29) C dX1_tag_29 ?_
    refine wg_goto (tgt := 34) (pc := 30) C dX1_tag_30 (by decide) ?_
    refine wg_iret (pc := 34) C hQ dX1_tag_34 ?_
    exact ⟨by first | rw [if_pos h16] | rw [if_neg h16], rfl, h5⟩

theorem tX1_bayAt {G : Gm} {w : Wo} {σ ζ : St} (hX : HasX G w σ ζ) (hO : Ok σ) {b l wh : Int} (hb : InR b) (hl : InR l) (hwh : InR wh) : Cxt G mX1_bayAt 9 3 18 w [.ref (w.1 (0, 0)), vI b, vI l, vI wh] (fun v w1 => v = some (vI (bayA σ b l wh)) ∧ w1 = w ∧ (((0 ≤ b ∧ b < nB σ) ∧ (0 ≤ l ∧ l < 8)) ∧ (0 ≤ wh ∧ wh ≤ 2))) (fun E w1 => w1 = w ∧ ((E = eI ∧ ¬ ((0 ≤ b ∧ b < nB σ) ∧ (0 ≤ l ∧ l < 8))) ∨ (E = eA ∧ ((0 ≤ b ∧ b < nB σ) ∧ (0 ≤ l ∧ l < 8)) ∧ ¬ (0 ≤ wh ∧ wh ≤ 2)))) := by
  refine ctx_of [some (.ref (w.1 (0, 0))), some (vI b), some (vI l), some (vI wh), none] plX1 rfl (Nat.le_of_ble_eq_true rfl) rfl ?_
  intro X hG C hnm hQ hQX hno hqe
  subst hG
  change CxOk X cX1_bayAt 5 RX1 (some .int) 9 at C
  have hB := hO.hB
  have hF := hO.hF
  have hw2 := hwh
  unfold InR at hw2
  refine wg_aload_0 (pc := 0) C dX1_bayAt_0 ?_
  refine wg_iload_1 (pc := 1) C dX1_bayAt_1 ?_
  refine wg_iload_2 (pc := 2) C dX1_bayAt_2 ?_
  refine wg_callVX (pc := 3) C (k' := 1) (n' := 6) kX1_levelOf q940 (tX1_levelOf hX hO (by assumption) (by assumption)) (rc_of C hX.obj rfl) dX1_bayAt_3 rfl rfl (Nat.le_of_ble_eq_true rfl) rfl (by decide) (by omega) (by omega) (fun E w1 hx => hQX _ _ _ _ _ _ ⟨hx.2.1, Or.inl ⟨hx.1, hx.2.2⟩⟩) (fun v3 w3 h3 => ?_)
  obtain ⟨e3, ew3, h3⟩ := h3
  subst e3
  rw [ew3]
  refine wg_astore_4 (pc := 6) C dX1_bayAt_6 rfl ?_
  refine wg_iload_3 (pc := 8) C dX1_bayAt_8 ?_
  refine wg_iconst (pc := 9) C dX1_bayAt_9 ?_
  refine wg_iconst (pc := 10) C dX1_bayAt_10 ?_
  refine wg_callSP (pc := 11) C kX1_inRange q485 (tX1_inRange (by unfold InR; omega) (by unfold InR; omega) (by unfold InR; omega)) dX1_bayAt_11 rfl rfl (Nat.le_of_ble_eq_true rfl) rfl (by decide) (fun f11 => ?_)
  refine wg_callSX (pc := 14) C (k' := 0) (n' := 0) kX1_checkArgument q695 (tX1_checkArgument) dX1_bayAt_14 rfl rfl (Nat.le_of_ble_eq_true rfl) rfl (by decide) (by omega) (by omega) (fun E w1 hx => hQX _ _ _ _ _ _ ⟨hx.2.1, Or.inr ⟨hx.1, h3, fun z => hx.2.2 (by omega)⟩⟩) (fun v14 w14 h14 => ?_)
  obtain ⟨e14, ew14, h14⟩ := h14
  subst e14
  rw [ew14]
  have hbd := hO.bd b l
  refine wg_iload_3 (pc := 17) C dX1_bayAt_17 ?_
  refine wg_if_ne (tgt := 39) (pc := 18) C dX1_bayAt_18 (by decide) (by unfold InR; omega) (fun h18 => ?_) (fun h18 => ?_)
  · refine wg_iload_3 (pc := 39) C dX1_bayAt_39 ?_
    refine wg_iconst (pc := 40) C dX1_bayAt_40 ?_
    refine wg_icmp_ne (tgt := 54) (pc := 41) C dX1_bayAt_41 (by decide) (by unfold InR; omega) (by unfold InR; omega) (fun h41 => ?_) (fun h41 => ?_)
    · refine wg_aload_4 (pc := 54) C dX1_bayAt_54 ?_
      refine gX1_224 (pc := 56) C (hX.bay (by omega) (by omega)) rfl dX1_bayAt_56 ?_
      refine wg_iload_2 (pc := 59) C dX1_bayAt_59 ?_
      refine wg_iald (pc := 60) C (hX.la (by omega) (by omega)) rfl (by omega) (by omega) (by decide) dX1_bayAt_60 ?_
      refine wg_iret (pc := 61) C hQ dX1_bayAt_61 ?_
      exact ⟨vI_c (by unfold bayA; (repeat' split) <;> omega), rfl, h3, h14⟩
    · refine wg_aload_4 (pc := 44) C dX1_bayAt_44 ?_
      refine gX1_220 (pc := 46) C (hX.bay (by omega) (by omega)) rfl dX1_bayAt_46 ?_
      refine wg_iload_2 (pc := 49) C dX1_bayAt_49 ?_
      refine wg_iald (pc := 50) C (hX.so (by omega) (by omega)) rfl (by omega) (by omega) (by decide) dX1_bayAt_50 ?_
      refine wg_goto (tgt := 61) (pc := 51) C dX1_bayAt_51 (by decide) ?_
      refine wg_iret (pc := 61) C hQ dX1_bayAt_61 ?_
      exact ⟨vI_c (by unfold bayA; (repeat' split) <;> omega), rfl, h3, h14⟩
  · refine wg_aload_4 (pc := 21) C dX1_bayAt_21 ?_
    refine gX1_213 (pc := 23) C (hX.bay (by omega) (by omega)) rfl dX1_bayAt_23 ?_
    refine wg_iload_2 (pc := 26) C dX1_bayAt_26 ?_
    refine wg_zald (pc := 27) C (hX.bd (by omega) (by omega)) rfl (by omega) (by omega) (by decide) dX1_bayAt_27 ?_
    refine wg_if_eq (tgt := 35) (pc := 28) C dX1_bayAt_28 (by decide) (by unfold InR; omega) (fun h28 => ?_) (fun h28 => ?_)
    · refine wg_iconst (pc := 35) C dX1_bayAt_35 ?_
      refine wg_goto (tgt := 61) (pc := 36) C dX1_bayAt_36 (by decide) ?_
      refine wg_iret (pc := 61) C hQ dX1_bayAt_61 ?_
      exact ⟨vI_c (by unfold bayA; (repeat' split) <;> omega), rfl, h3, h14⟩
    · refine wg_iconst (pc := 31) C dX1_bayAt_31 ?_
      refine wg_goto (tgt := 61) (pc := 32) C dX1_bayAt_32 (by decide) ?_
      refine wg_iret (pc := 61) C hQ dX1_bayAt_61 ?_
      exact ⟨vI_c (by unfold bayA; (repeat' split) <;> omega), rfl, h3, h14⟩

theorem tX1_parts {G : Gm} {w : Wo} {σ ζ : St} (hX : HasX G w σ ζ) (hO : Ok σ) (hT : TieOk σ ζ) {f kd : Int} (hf : InR f) (hk : InR kd) : Cxt G mX1_parts 9 2 12 w [.ref (w.1 (0, 0)), vI f, vI kd] (fun v w1 => v = some (vI (prtA σ f kd)) ∧ w1 = w ∧ ((f = -1 ∨ (0 ≤ f ∧ f < nF σ)) ∧ (0 ≤ kd ∧ kd ≤ 5))) (fun E w1 => w1 = w ∧ ((E = eI ∧ ¬ (f = -1 ∨ (0 ≤ f ∧ f < nF σ))) ∨ (E = eA ∧ (f = -1 ∨ (0 ≤ f ∧ f < nF σ)) ∧ ¬ (0 ≤ kd ∧ kd ≤ 5)))) := by
  refine ctx_of [some (.ref (w.1 (0, 0))), some (vI f), some (vI kd), none] plX1 rfl (Nat.le_of_ble_eq_true rfl) rfl ?_
  intro X hG C hnm hQ hQX hno hqe
  subst hG
  change CxOk X cX1_parts 4 RX1 (some .int) 9 at C
  have hB := hO.hB
  have hF := hO.hF
  have hk2 := hk
  unfold InR at hk2
  have hf2 := hf
  unfold InR at hf2
  refine wg_iload_1 (pc := 0) C dX1_parts_0 ?_
  refine wg_iconst (pc := 1) C dX1_parts_1 ?_
  refine wg_icmp_ne (tgt := 9) (pc := 2) C dX1_parts_2 (by decide) (by unfold InR; omega) (by unfold InR; omega) (fun h2 => ?_) (fun h2 => ?_)
  · refine wg_aload_0 (pc := 9) C dX1_parts_9 ?_
    refine gX1_71 (pc := 10) C hX.obj rfl dX1_parts_10 ?_
    refine wg_iload_1 (pc := 13) C dX1_parts_13 ?_
    refine wg_callSX (pc := 14) C (k' := 1) (n' := 6) kX1_in q876 (tX1_in (yy := fun j => w.1 (3, j)) (by assumption) hX.fl hX.fa (by omega) (by omega) (by decide) (fun j h0 h1 => rws_at h0 h1)) dX1_parts_14 rfl rfl (Nat.le_of_ble_eq_true rfl) rfl (by decide) (by omega) (by omega) (fun E w1 hx => hQX _ _ _ _ _ _ ⟨hx.2.1, Or.inl ⟨hx.1, fun z => z.elim h2 hx.2.2⟩⟩) (fun v14 w14 h14 => ?_)
    obtain ⟨e14, ew14, h14⟩ := h14
    subst e14
    rw [ew14]
    refine wg_cast (pc := 17) (ci := 2) C rfl q613 (rc_of C (hX.face (by omega) (by omega)) rfl) dX1_parts_17 ?_
    refine wg_astore_3 (pc := 20) C dX1_parts_20 rfl ?_
    refine wg_iload_2 (pc := 21) C dX1_parts_21 ?_
    refine wg_iconst (pc := 22) C dX1_parts_22 ?_
    refine wg_iconst (pc := 23) C dX1_parts_23 ?_
    refine wg_callSP (pc := 24) C kX1_inRange q485 (tX1_inRange (by unfold InR; omega) (by unfold InR; omega) (by unfold InR; omega)) dX1_parts_24 rfl rfl (Nat.le_of_ble_eq_true rfl) rfl (by decide) (fun f24 => ?_)
    refine wg_callSX (pc := 27) C (k' := 0) (n' := 0) kX1_checkArgument q695 (tX1_checkArgument) dX1_parts_27 rfl rfl (Nat.le_of_ble_eq_true rfl) rfl (by decide) (by omega) (by omega) (fun E w1 hx => hQX _ _ _ _ _ _ ⟨hx.2.1, Or.inr ⟨hx.1, (by omega), fun z => hx.2.2 (by omega)⟩⟩) (fun v27 w27 h27 => ?_)
    obtain ⟨e27, ew27, h27⟩ := h27
    subst e27
    rw [ew27]
    refine wg_aload_3 (pc := 30) C dX1_parts_30 ?_
    refine wg_ifnonnull (tgt := 42) (pc := 31) C dX1_parts_31 (by decide) ?_
    refine wg_aload_0 (pc := 42) C dX1_parts_42 ?_
    refine wg_aload_3 (pc := 43) C dX1_parts_43 ?_
    refine wg_iload_2 (pc := 44) C dX1_parts_44 ?_
    refine wg_callVP (pc := 45) C kX1_partsOf q614 (tX1_partsOf hX hO hT (by omega) (by omega) (by unfold InR; omega)) (rc_of C hX.obj rfl) dX1_parts_45 rfl rfl (Nat.le_of_ble_eq_true rfl) rfl (by decide) (fun f45 => ?_)
    refine wg_iret (pc := 48) C hQ dX1_parts_48 ?_
    exact ⟨vI_c (by unfold prtA; first | rw [if_pos h2] | rw [if_neg h2]), rfl, by omega, h27⟩
  · refine wg_null (pc := 5) C dX1_parts_5 ?_
    refine wg_goto (tgt := 20) (pc := 6) C dX1_parts_6 (by decide) ?_
    refine wg_astoreN_3 (pc := 20) C dX1_parts_20 rfl ?_
    refine wg_iload_2 (pc := 21) C dX1_parts_21 ?_
    refine wg_iconst (pc := 22) C dX1_parts_22 ?_
    refine wg_iconst (pc := 23) C dX1_parts_23 ?_
    refine wg_callSP (pc := 24) C kX1_inRange q485 (tX1_inRange (by unfold InR; omega) (by unfold InR; omega) (by unfold InR; omega)) dX1_parts_24 rfl rfl (Nat.le_of_ble_eq_true rfl) rfl (by decide) (fun f24 => ?_)
    refine wg_callSX (pc := 27) C (k' := 1) (n' := 6) kX1_checkArgument q695 (tX1_checkArgument) dX1_parts_27 rfl rfl (Nat.le_of_ble_eq_true rfl) rfl (by decide) (by omega) (by omega) (fun E w1 hx => hQX _ _ _ _ _ _ ⟨hx.2.1, Or.inr ⟨hx.1, (by omega), fun z => hx.2.2 (by omega)⟩⟩) (fun v27 w27 h27 => ?_)
    obtain ⟨e27, ew27, h27⟩ := h27
    subst e27
    rw [ew27]
    refine wg_aloadN_3 (pc := 30) C dX1_parts_30 ?_
    refine wg_ifnonnullN (pc := 31) C dX1_parts_31 ?_
    refine wg_aload_0 (pc := 34) C dX1_parts_34 ?_
    refine wg_iload_2 (pc := 35) C dX1_parts_35 ?_
    refine wg_callVP (pc := 36) C kX1_allParts q609 (tX1_allParts hX hO hT (by unfold InR; omega)) (rc_of C hX.obj rfl) dX1_parts_36 rfl rfl (Nat.le_of_ble_eq_true rfl) rfl (by decide) (fun f36 => ?_)
    refine wg_goto (tgt := 48) (pc := 39) C dX1_parts_39 (by decide) ?_
    refine wg_iret (pc := 48) C hQ dX1_parts_48 ?_
    exact ⟨vI_c (by unfold prtA; first | rw [if_pos h2] | rw [if_neg h2]), rfl, by omega, h27⟩

theorem tX1_counts {G : Gm} {w : Wo} {σ ζ : St} (hX : HasX G w σ ζ) (hO : Ok σ) (hT : TieOk σ ζ) {wh : Int} (hwh : InR wh) : Cxt G mX1_counts 10 1 6 w [.ref (w.1 (0, 0)), vI wh] (fun v w1 => v = some (vI (cntA σ wh)) ∧ w1 = w ∧ (0 ≤ wh ∧ wh ≤ 8)) (fun E w1 => E = eA ∧ w1 = w ∧ ¬ (0 ≤ wh ∧ wh ≤ 8)) := by
  refine ctx_of [some (.ref (w.1 (0, 0))), some (vI wh)] plX1 rfl (Nat.le_of_ble_eq_true rfl) rfl ?_
  intro X hG C hnm hQ hQX hno hqe
  subst hG
  change CxOk X cX1_counts 2 RX1 (some .int) 10 at C
  have hB := hO.hB
  have hF := hO.hF
  have hk2 := hwh
  unfold InR at hk2
  refine wg_iload_1 (pc := 0) C dX1_counts_0 ?_
  refine wg_iconst (pc := 1) C dX1_counts_1 ?_
  refine wg_bipush (pc := 2) C dX1_counts_2 (by decide) ?_
  refine wg_callSP (pc := 4) C kX1_inRange q485 (tX1_inRange (by unfold InR; omega) (by unfold InR; omega) (by unfold InR; omega)) dX1_counts_4 rfl rfl (Nat.le_of_ble_eq_true rfl) rfl (by decide) (fun f4 => ?_)
  refine wg_callSX (pc := 7) C (k' := 0) (n' := 0) kX1_checkArgument q695 (tX1_checkArgument) dX1_counts_7 rfl rfl (Nat.le_of_ble_eq_true rfl) rfl (by decide) (by omega) (by omega) (fun E w1 hx => hQX _ _ _ _ _ _ ⟨hx.1, hx.2.1, fun z => hx.2.2 (by omega)⟩) (fun v7 w7 h7 => ?_)
  obtain ⟨e7, ew7, h7⟩ := h7
  subst e7
  rw [ew7]
  refine wg_iload_1 (pc := 10) C dX1_counts_10 ?_
  have L56 : wh = 0 → WG X 56 [some (.ref (w.1 (0, 0))), some (vI wh)] [] w 0 0 := by
    intro hc
    refine wg_aload_0 (pc := 56) C dX1_counts_56 ?_
    refine gX1_71 (pc := 57) C hX.obj rfl dX1_counts_57 ?_
    refine wg_callFP (pc := 60) C kF_size q477 (tJ2_size hX.fl) (rc_of C hX.fl rfl) dX1_counts_60 rfl rfl (Nat.le_of_ble_eq_true rfl) rfl (by decide) (fun f60 => ?_)
    refine wg_goto (tgt := 107) (pc := 65) C dX1_counts_65 (by decide) ?_
    refine wg_iret (pc := 107) C hQ dX1_counts_107 ?_
    exact ⟨vI_c (by unfold cntA; (repeat' split) <;> omega), rfl, h7⟩
  have L68 : wh = 1 → WG X 68 [some (.ref (w.1 (0, 0))), some (vI wh)] [] w 0 0 := by
    intro hc
    refine wg_aload_0 (pc := 68) C dX1_counts_68 ?_
    refine gX1_33 (pc := 69) C hX.obj rfl dX1_counts_69 ?_
    refine wg_callFP (pc := 72) C kF_size q477 (tJ2_size hX.bl) (rc_of C hX.bl rfl) dX1_counts_72 rfl rfl (Nat.le_of_ble_eq_true rfl) rfl (by decide) (fun f72 => ?_)
    refine wg_goto (tgt := 107) (pc := 77) C dX1_counts_77 (by decide) ?_
    refine wg_iret (pc := 107) C hQ dX1_counts_107 ?_
    exact ⟨vI_c (by unfold cntA; (repeat' split) <;> omega), rfl, h7⟩
  have L80 : wh = 2 → WG X 80 [some (.ref (w.1 (0, 0))), some (vI wh)] [] w 0 0 := by
    intro hc
    refine wg_aload_0 (pc := 80) C dX1_counts_80 ?_
    refine wg_callVP (pc := 81) C kX1_positions q462 (tX1_positions hX hO) (rc_of C hX.obj rfl) dX1_counts_81 rfl rfl (Nat.le_of_ble_eq_true rfl) rfl (by decide) (fun f81 => ?_)
    refine wg_goto (tgt := 107) (pc := 84) C dX1_counts_84 (by decide) ?_
    refine wg_iret (pc := 107) C hQ dX1_counts_107 ?_
    exact ⟨vI_c (by unfold cntA; (repeat' split) <;> omega), rfl, h7⟩
  have L87 : wh = 5 ∨ wh = 6 → WG X 87 [some (.ref (w.1 (0, 0))), some (vI wh)] [] w 0 0 := by
    intro hc
    refine wg_aload_0 (pc := 87) C dX1_counts_87 ?_
    refine wg_iload_1 (pc := 88) C dX1_counts_88 ?_
    refine wg_callVP (pc := 89) C kX1_ofPositions q1082 (tX1_ofPositions hX hO hT (by unfold InR; omega)) (rc_of C hX.obj rfl) dX1_counts_89 rfl rfl (Nat.le_of_ble_eq_true rfl) rfl (by decide) (fun f89 => ?_)
    refine wg_goto (tgt := 107) (pc := 92) C dX1_counts_92 (by decide) ?_
    refine wg_iret (pc := 107) C hQ dX1_counts_107 ?_
    exact ⟨vI_c (by unfold cntA; (repeat' split) <;> omega), rfl, h7⟩
  have L95 : wh = 7 → WG X 95 [some (.ref (w.1 (0, 0))), some (vI wh)] [] w 0 0 := by
    intro hc
    refine wg_aload_0 (pc := 95) C dX1_counts_95 ?_
    refine wg_callVP (pc := 96) C kX1_greenFaces q1086 (tX1_greenFaces hX hO) (rc_of C hX.obj rfl) dX1_counts_96 rfl rfl (Nat.le_of_ble_eq_true rfl) rfl (by decide) (fun f96 => ?_)
    refine wg_goto (tgt := 107) (pc := 99) C dX1_counts_99 (by decide) ?_
    refine wg_iret (pc := 107) C hQ dX1_counts_107 ?_
    exact ⟨vI_c (by unfold cntA; (repeat' split) <;> omega), rfl, h7⟩
  have L102 : wh = 3 ∨ wh = 4 ∨ wh = 8 → WG X 102 [some (.ref (w.1 (0, 0))), some (vI wh)] [] w 0 0 := by
    intro hc
    refine wg_aload_0 (pc := 102) C dX1_counts_102 ?_
    refine wg_iload_1 (pc := 103) C dX1_counts_103 ?_
    refine wg_callVP (pc := 104) C kX1_ofBays q682 (tX1_ofBays hX hO (by unfold InR; omega)) (rc_of C hX.obj rfl) dX1_counts_104 rfl rfl (Nat.le_of_ble_eq_true rfl) rfl (by decide) (fun f104 => ?_)
    refine wg_iret (pc := 107) C hQ dX1_counts_107 ?_
    exact ⟨vI_c (by unfold cntA; (repeat' split) <;> omega), rfl, h7⟩
  by_cases h8 : wh = 8
  · exact wg_tblOut (pc := 11) (tgt := 102) C dX1_counts_11 hwh (by omega) (by decide) (L102 (by omega))
  have hc : wh = 0 ∨ wh = 1 ∨ wh = 2 ∨ wh = 3 ∨ wh = 4 ∨ wh = 5 ∨ wh = 6 ∨ wh = 7 := by omega
  rcases hc with rfl | rfl | rfl | rfl | rfl | rfl | rfl | rfl
  · exact wg_tblIn (pc := 11) (tgt := 56) C dX1_counts_11 hwh (by decide) (by decide) rfl (by decide) (L56 (by omega))
  · exact wg_tblIn (pc := 11) (tgt := 68) C dX1_counts_11 hwh (by decide) (by decide) rfl (by decide) (L68 (by omega))
  · exact wg_tblIn (pc := 11) (tgt := 80) C dX1_counts_11 hwh (by decide) (by decide) rfl (by decide) (L80 (by omega))
  · exact wg_tblIn (pc := 11) (tgt := 102) C dX1_counts_11 hwh (by decide) (by decide) rfl (by decide) (L102 (by omega))
  · exact wg_tblIn (pc := 11) (tgt := 102) C dX1_counts_11 hwh (by decide) (by decide) rfl (by decide) (L102 (by omega))
  · exact wg_tblIn (pc := 11) (tgt := 87) C dX1_counts_11 hwh (by decide) (by decide) rfl (by decide) (L87 (by omega))
  · exact wg_tblIn (pc := 11) (tgt := 87) C dX1_counts_11 hwh (by decide) (by decide) rfl (by decide) (L87 (by omega))
  · exact wg_tblIn (pc := 11) (tgt := 95) C dX1_counts_11 hwh (by decide) (by decide) rfl (by decide) (L95 (by omega))

theorem tX1_weakest {G : Gm} {w : Wo} {σ ζ : St} (hX : HasX G w σ ζ) (hO : Ok σ) (hT : TieOk σ ζ) {f : Int} (hf : InR f) : Cxt G mX1_weakest 11 1 6 w [.ref (w.1 (0, 0)), vI f] (fun v w1 => v = some (vI (weakest σ f)) ∧ w1 = w ∧ ((0 ≤ f ∧ f < nF σ))) (fun E w1 => E = eI ∧ w1 = w ∧ ¬ ((0 ≤ f ∧ f < nF σ))) := by
  refine ctx_of [some (.ref (w.1 (0, 0))), some (vI f), none, none, none] plX1 rfl (Nat.le_of_ble_eq_true rfl) rfl ?_
  intro X hG C hnm hQ hQX hno hqe
  subst hG
  change CxOk X cX1_weakest 5 RX1 (some .int) 11 at C
  have hB := hO.hB
  have hF := hO.hF
  have hps := pos_rng hO
  refine wg_aload_0 (pc := 0) C dX1_weakest_0 ?_
  refine gX1_71 (pc := 1) C hX.obj rfl dX1_weakest_1 ?_
  refine wg_iload_1 (pc := 4) C dX1_weakest_4 ?_
  refine wg_callSX (pc := 5) C (k' := 0) (n' := 0) kX1_in q876 (tX1_in (yy := fun j => w.1 (3, j)) (by assumption) hX.fl hX.fa (by omega) (by omega) (by decide) (fun j h0 h1 => rws_at h0 h1)) dX1_weakest_5 rfl rfl (Nat.le_of_ble_eq_true rfl) rfl (by decide) (by omega) (by omega) (fun E w1 hx => hQX _ _ _ _ _ _ ⟨hx.1, hx.2.1, fun z => hx.2.2 (by omega)⟩) (fun v5 w5 h5 => ?_)
  obtain ⟨e5, ew5, h5⟩ := h5
  subst e5
  rw [ew5]
  refine wg_cast (pc := 8) (ci := 2) C rfl q613 (rc_of C (hX.face (by omega) (by omega)) rfl) dX1_weakest_8 ?_
  refine wg_astore_2 (pc := 11) C dX1_weakest_11 rfl ?_
  have L23 : ∀ (N : Nat) (k b : Int), (first σ f + many σ f + 1 - k).toNat = N → first σ f ≤ k → k ≤ first σ f + many σ f + 1 → first σ f ≤ b → b ≤ nB σ → b = wkN σ (first σ f) (k - first σ f).toNat → WG X 23 [some (.ref (w.1 (0, 0))), some (vI f), some (.ref (w.1 (3, f))), some (vI b), some (vI k)] [] w 0 0 := by
    intro N
    induction N using Nat.strongRecOn with | _ N IH => ?_
    intro k b hN hk0 hk1 hb0 hb1 hb
    refine wg_iload_4 (pc := 23) C dX1_weakest_23 ?_
    refine wg_aload_2 (pc := 25) C dX1_weakest_25 ?_
    refine wg_callVP (pc := 26) C kX3_last q622 (tX3_last hX hO (by omega) (by omega)) (rc_of C (hX.face (by omega) (by omega)) rfl) dX1_weakest_26 rfl rfl (Nat.le_of_ble_eq_true rfl) rfl (by decide) (fun f26 => ?_)
    refine wg_icmp_gt (tgt := 59) (pc := 29) C dX1_weakest_29 (by decide) (by unfold InR; omega) (by unfold InR; omega) (fun h29 => ?_) (fun h29 => ?_)
    · refine wg_iload_3 (pc := 59) C dX1_weakest_59 ?_
      refine wg_iret (pc := 60) C hQ dX1_weakest_60 ?_
      have e : k = first σ f + many σ f + 1 := by omega
      exact ⟨vI_c (by rw [hb, e]; show _ = wkN _ _ _; congr 1; omega), rfl, h5⟩
    · refine wg_aload_0 (pc := 32) C dX1_weakest_32 ?_
      refine wg_iload_4 (pc := 33) C dX1_weakest_33 ?_
      refine wg_callVP (pc := 35) C kX1_spare q1042 (tX1_spare hX hO hT (by omega) (by omega)) (rc_of C hX.obj rfl) dX1_weakest_35 rfl rfl (Nat.le_of_ble_eq_true rfl) rfl (by decide) (fun f35 => ?_)
      refine wg_aload_0 (pc := 38) C dX1_weakest_38 ?_
      refine wg_iload_3 (pc := 39) C dX1_weakest_39 ?_
      refine wg_callVP (pc := 40) C kX1_spare q1042 (tX1_spare hX hO hT (by omega) (by omega)) (rc_of C hX.obj rfl) dX1_weakest_40 rfl rfl (Nat.le_of_ble_eq_true rfl) rfl (by decide) (fun f40 => ?_)
      refine wg_icmp_ge (tgt := 51) (pc := 43) C dX1_weakest_43 (by decide) (by unfold InR; omega) (by unfold InR; omega) (fun h43 => ?_) (fun h43 => ?_)
      · refine wg_iload_3 (pc := 51) C dX1_weakest_51 ?_
        refine wg_istore_3 (pc := 52) C dX1_weakest_52 rfl ?_
        refine wg_iinc_4 (pc := 53) C dX1_weakest_53 rfl ?_
        refine wg_goto (tgt := 23) (pc := 56) C dX1_weakest_56 (by decide) ?_
        exact IH _ (by omega) (k + 1) _ rfl (by omega) (by omega) (by omega) (by omega) (by rw [wkN_s σ hk0 hb]; first | rw [if_pos (by omega)] | rw [if_neg (by omega)])
      · refine wg_iload_4 (pc := 46) C dX1_weakest_46 ?_
        refine wg_goto (tgt := 52) (pc := 48) C dX1_weakest_48 (by decide) ?_
        refine wg_istore_3 (pc := 52) C dX1_weakest_52 rfl ?_
        refine wg_iinc_4 (pc := 53) C dX1_weakest_53 rfl ?_
        refine wg_goto (tgt := 23) (pc := 56) C dX1_weakest_56 (by decide) ?_
        exact IH _ (by omega) (k + 1) _ rfl (by omega) (by omega) (by omega) (by omega) (by rw [wkN_s σ hk0 hb]; first | rw [if_pos (by omega)] | rw [if_neg (by omega)])
  have hfc := hO.fc (f := f) h5.1 h5.2
  refine wg_aload_2 (pc := 12) C dX1_weakest_12 ?_
  refine gX1_158 (pc := 13) C (hX.face (by omega) (by omega)) rfl dX1_weakest_13 ?_
  refine wg_istore_3 (pc := 16) C dX1_weakest_16 rfl ?_
  refine wg_aload_2 (pc := 17) C dX1_weakest_17 ?_
  refine gX1_158 (pc := 18) C (hX.face (by omega) (by omega)) rfl dX1_weakest_18 ?_
  refine wg_istore_4 (pc := 21) C dX1_weakest_21 rfl ?_
  exact L23 _ _ _ rfl (by omega) (by omega) (by omega) (by omega) (by rw [show (first σ f - first σ f).toNat = 0 by omega]; rfl)

