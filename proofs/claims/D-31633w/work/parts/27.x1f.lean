/-! the class: public methods that write, without new objects -/
set_option maxRecDepth 100000
set_option maxHeartbeats 4000000
def mnN (f : Int → Int) (a : Int) : Nat → Int
  | 0 => 0
  | n + 1 => if f (a + n) < mnN f a n then f (a + n) else mnN f a n
def mxN (f : Int → Int) (a : Int) : Nat → Int
  | 0 => 0
  | n + 1 => if mxN f a n < f (a + n) then f (a + n) else mxN f a n
theorem mnN_s (f : Int → Int) {a k b : Int} (h : a ≤ k) (hb : b = mnN f a (k - a).toNat) : mnN f a (k + 1 - a).toNat = if f k < b then f k else b := by
  rw [show (k + 1 - a).toNat = (k - a).toNat + 1 by omega, hb]
  show (if f (a + ((k - a).toNat : Int)) < _ then f (a + ((k - a).toNat : Int)) else _) = _
  rw [show a + ((k - a).toNat : Int) = k by omega]
theorem mxN_s (f : Int → Int) {a k b : Int} (h : a ≤ k) (hb : b = mxN f a (k - a).toNat) : mxN f a (k + 1 - a).toNat = if b < f k then f k else b := by
  rw [show (k + 1 - a).toNat = (k - a).toNat + 1 by omega, hb]
  show (if _ < f (a + ((k - a).toNat : Int)) then f (a + ((k - a).toNat : Int)) else _) = _
  rw [show a + ((k - a).toNat : Int) = k by omega]
def rsn (σ : St) (f : Int) : Int := if sm (fun k => lft σ k) (first σ f) (first σ f + many σ f) = 0 then 1 else if mnN (spare σ) (first σ f) (many σ f + 1).toNat < 0 then 2 else if 1 < mxN (missing σ) (first σ f) (many σ f + 1).toNat then 3 else 0
theorem rsn_rng (σ : St) (f : Int) : 0 ≤ rsn σ f ∧ rsn σ f ≤ 3 := by unfold rsn; (repeat' split) <;> omega
def stIns (σ : St) (f : Int) : St := uS σ 9 f 0 (if rsn σ f = 0 then day σ + 6 else -1)
def mcN (σ : St) (b l : Int) : Nat → Int
  | 0 => -1
  | n + 1 => if 0 ≤ spare (uS σ 6 b l n) b ∧ 0 ≤ spare (uS σ 6 b l n) (b + 1) then n else mcN σ b l n
theorem mcN_s (σ : St) (b l : Int) {s m : Int} (h : 0 ≤ s) (hm : m = mcN σ b l s.toNat) : mcN σ b l (s + 1).toNat = if 0 ≤ spare (uS σ 6 b l s) b ∧ 0 ≤ spare (uS σ 6 b l s) (b + 1) then s else m := by
  rw [show (s + 1).toNat = s.toNat + 1 by omega, hm]
  show (if 0 ≤ spare (uS σ 6 b l (s.toNat : Int)) b ∧ 0 ≤ spare (uS σ 6 b l (s.toNat : Int)) (b + 1) then (s.toNat : Int) else _) = _
  rw [show ((s.toNat : Nat) : Int) = s by omega]
theorem uS_uS (σ : St) (c : Nat) (i j v v' : Int) : uS (uS σ c i j v) c i j v' = uS σ c i j v' := by
  funext c' i' j'
  show (if c' = c ∧ i' = i ∧ j' = j then v' else if c' = c ∧ i' = i ∧ j' = j then v else σ c' i' j') = if c' = c ∧ i' = i ∧ j' = j then v' else σ c' i' j'
  split <;> rfl
theorem tX1_pass {G : Gm} {w : Wo} {σ ζ : St} (hX : HasX G w σ ζ) (hO : Ok σ) {n : Int} (hn : InR n) : Cxt G mX1_pass 7 2 12 w [.ref (w.1 (0, 0)), vI n] (fun v w1 => v = some (vI (day σ + n)) ∧ ((1 ≤ n ∧ n ≤ 100) ∧ day σ + n ≤ 500) ∧ SmX w w1 ∧ HasX G w1 (uS σ 10 0 0 (day σ + n)) ζ) (fun E w1 => w1 = w ∧ ((E = eA ∧ ¬ (1 ≤ n ∧ n ≤ 100)) ∨ (E = eS ∧ (1 ≤ n ∧ n ≤ 100) ∧ ¬ (day σ + n ≤ 500)))) := by
  refine ctx_of [some (.ref (w.1 (0, 0))), some (vI n)] plX1 rfl (Nat.le_of_ble_eq_true rfl) rfl ?_
  intro X hG C hnm hQ hQX hno hqe
  subst hG
  change CxOk X cX1_pass 2 RX1 (some .int) 7 at C
  have hB := hO.hB
  have hF := hO.hF
  have hdy := hO.dy
  have hn2 := hn
  unfold InR at hn2
  refine wg_iload_1 (pc := 0) C dX1_pass_0 ?_
  refine wg_iconst (pc := 1) C dX1_pass_1 ?_
  refine wg_bipush (pc := 2) C dX1_pass_2 (by decide) ?_
  refine wg_callSP (pc := 4) C kX1_inRange q485 (tX1_inRange (by unfold InR; omega) (by unfold InR; omega) (by unfold InR; omega)) dX1_pass_4 rfl rfl (Nat.le_of_ble_eq_true rfl) rfl (by decide) (fun f4 => ?_)
  refine wg_callSX (pc := 7) C (k' := 1) (n' := 6) kX1_checkArgument q695 (tX1_checkArgument) dX1_pass_7 rfl rfl (Nat.le_of_ble_eq_true rfl) rfl (by decide) (by omega) (by omega) (fun E w1 hx => hQX _ _ _ _ _ _ ⟨hx.2.1, Or.inl ⟨hx.1, hx.2.2⟩⟩) (fun v7 w7 h7 => ?_)
  obtain ⟨e7, ew7, h7⟩ := h7
  subst e7
  rw [ew7]
  have L27 : WG X 27 [some (.ref (w.1 (0, 0))), some (vI n)] [vI (if day σ + n ≤ 500 then 1 else 0)] w 1 6 := by
    refine wg_callSX (pc := 27) C (k' := 0) (n' := 0) kX1_checkState q709 (tX1_checkState) dX1_pass_27 rfl rfl (Nat.le_of_ble_eq_true rfl) rfl (by decide) (by omega) (by omega) (fun E w1 hx => hQX _ _ _ _ _ _ ⟨hx.2.1, Or.inr ⟨hx.1, h7, fun z => hx.2.2 (by omega)⟩⟩) (fun v27 w27 h27 => ?_)
    obtain ⟨e27, ew27, h27⟩ := h27
    subst e27
    rw [ew27]
    refine wg_aload_0 (pc := 30) C dX1_pass_30 ?_
    refine wg_dup (pc := 31) C dX1_pass_31 rfl ?_
    refine gX1_176 (pc := 32) C hX.obj rfl dX1_pass_32 ?_
    refine wg_iload_1 (pc := 35) C dX1_pass_35 ?_
    refine wg_iadd (pc := 36) C dX1_pass_36 ?_
    refine pX1_176 (pc := 37) C hX.obj rfl dX1_pass_37 ?_
    replace hX := hX.wDay (day σ + n)
    refine wg_aload_0 (pc := 40) C dX1_pass_40 ?_
    refine gX1_176 (pc := 41) C hX.obj rfl dX1_pass_41 ?_
    refine wg_iret (pc := 44) C hQ dX1_pass_44 ?_
    exact ⟨vI_c (uS_at _ _ _ _ _), ⟨h7, h27⟩, (SmX.rf w).uv rfl, hX⟩
  refine wg_aload_0 (pc := 10) C dX1_pass_10 ?_
  refine gX1_176 (pc := 11) C hX.obj rfl dX1_pass_11 ?_
  refine wg_iload_1 (pc := 14) C dX1_pass_14 ?_
  refine wg_iadd (pc := 15) C dX1_pass_15 ?_
  refine wg_sipush (pc := 16) C dX1_pass_16 (by decide) ?_
  refine wg_icmp_gt (tgt := 26) (pc := 19) C dX1_pass_19 (by decide) (by unfold InR; omega) (by unfold InR; omega) (fun h19 => ?_) (fun h19 => ?_)
  · refine wg_iconst (pc := 26) C dX1_pass_26 ?_
    refine WG.at L27 rfl rfl ?_ rfl
    first | (rw [if_pos (by omega)]; rfl) | (rw [if_neg (by omega)]; rfl)
  · refine wg_iconst (pc := 22) C dX1_pass_22 ?_
    refine wg_goto (tgt := 27) (pc := 23) C dX1_pass_23 (by decide) ?_
    refine WG.at L27 rfl rfl ?_ rfl
    first | (rw [if_pos (by omega)]; rfl) | (rw [if_neg (by omega)]; rfl)

theorem tX1_setLimit {G : Gm} {w : Wo} {σ ζ : St} (hX : HasX G w σ ζ) (hO : Ok σ) {n : Int} (hn : InR n) : Cxt G mX1_setLimit 7 1 6 w [.ref (w.1 (0, 0)), vI n] (fun v w1 => v = some (vI (lim σ)) ∧ (1 ≤ n ∧ n ≤ 9999) ∧ SmX w w1 ∧ HasX G w1 (stLim σ n) ζ) (fun E w1 => E = eA ∧ w1 = w ∧ ¬ (1 ≤ n ∧ n ≤ 9999)) := by
  refine ctx_of [some (.ref (w.1 (0, 0))), some (vI n), none] plX1 rfl (Nat.le_of_ble_eq_true rfl) rfl ?_
  intro X hG C hnm hQ hQX hno hqe
  subst hG
  change CxOk X cX1_setLimit 3 RX1 (some .int) 7 at C
  have hB := hO.hB
  have hF := hO.hF
  have hlm := hO.lm
  have hn2 := hn
  unfold InR at hn2
  refine wg_iload_1 (pc := 0) C dX1_setLimit_0 ?_
  refine wg_iconst (pc := 1) C dX1_setLimit_1 ?_
  refine wg_sipush (pc := 2) C dX1_setLimit_2 (by decide) ?_
  refine wg_callSP (pc := 5) C kX1_inRange q485 (tX1_inRange (by unfold InR; omega) (by unfold InR; omega) (by unfold InR; omega)) dX1_setLimit_5 rfl rfl (Nat.le_of_ble_eq_true rfl) rfl (by decide) (fun f5 => ?_)
  refine wg_callSX (pc := 8) C (k' := 0) (n' := 0) kX1_checkArgument q695 (tX1_checkArgument) dX1_setLimit_8 rfl rfl (Nat.le_of_ble_eq_true rfl) rfl (by decide) (by omega) (by omega) (fun E w1 hx => hQX _ _ _ _ _ _ ⟨hx.1, hx.2.1, fun z => hx.2.2 (by omega)⟩) (fun v8 w8 h8 => ?_)
  obtain ⟨e8, ew8, h8⟩ := h8
  subst e8
  rw [ew8]
  refine wg_aload_0 (pc := 11) C dX1_setLimit_11 ?_
  refine gX1_130 (pc := 12) C hX.obj rfl dX1_setLimit_12 ?_
  refine wg_istore_2 (pc := 15) C dX1_setLimit_15 rfl ?_
  refine wg_aload_0 (pc := 16) C dX1_setLimit_16 ?_
  refine wg_iload_1 (pc := 17) C dX1_setLimit_17 ?_
  refine pX1_130 (pc := 18) C hX.obj rfl dX1_setLimit_18 ?_
  have hX1 := hX.wLim n
  have hO1 := hO.wLim h8.1 h8.2
  refine wg_iload_2 (pc := 21) C dX1_setLimit_21 ?_
  refine wg_iload_1 (pc := 22) C dX1_setLimit_22 ?_
  refine wg_icmp_eq (tgt := 30) (pc := 23) C dX1_setLimit_23 (by decide) (by unfold InR; omega) (by unfold InR; omega) (fun h23 => ?_) (fun h23 => ?_)
  · refine wg_iload_2 (pc := 30) C dX1_setLimit_30 ?_
    refine wg_iret (pc := 31) C hQ dX1_setLimit_31 ?_
    first
      | exact ⟨rfl, h8, (SmX.rf w).uv rfl, by unfold stLim; rw [if_pos h23]; exact hX1⟩
      | exact ⟨rfl, h8, ((SmX.rf w).uv rfl).tr s27, by unfold stLim; rw [if_neg h23]; exact h27⟩
  · refine wg_aload_0 (pc := 26) C dX1_setLimit_26 ?_
    refine wg_callV (pc := 27) C (k' := 0) (n' := 0) kX1_withdrawAll q842 (tX1_withdrawAll hX1 hO1) (rc_of C hX1.obj rfl) dX1_setLimit_27 rfl rfl (Nat.le_of_ble_eq_true rfl) rfl (by decide) (by omega) (by omega) (fun v27 w27 h27 => ?_)
    obtain ⟨e27, s27, h27⟩ := h27
    subst e27
    obtain ⟨A27, V27⟩ := w27
    have a27 : A27 = w.1 := s27.1
    subst a27
    refine wg_iload_2 (pc := 30) C dX1_setLimit_30 ?_
    refine wg_iret (pc := 31) C hQ dX1_setLimit_31 ?_
    first
      | exact ⟨rfl, h8, (SmX.rf w).uv rfl, by unfold stLim; rw [if_pos h23]; exact hX1⟩
      | exact ⟨rfl, h8, ((SmX.rf w).uv rfl).tr s27, by unfold stLim; rw [if_neg h23]; exact h27⟩

theorem tX1_cut {G : Gm} {w : Wo} {σ ζ : St} (hX : HasX G w σ ζ) (hO : Ok σ) (hT : TieOk σ ζ) {p l o : Int} (hp : InR p) (hl : InR l) (ho : o = 0 ∨ o = 1) : Cxt G mX1_cut 10 2 12 w [.ref (w.1 (0, 0)), vI p, vI l, vI o] (fun v w1 => v = some (vI (σ 8 l p)) ∧ ((0 ≤ p ∧ p < pos σ) ∧ (0 ≤ l ∧ l < 8)) ∧ SmX w w1 ∧ ∃ ζ' : St, HasX G w1 (stCut σ p l o) ζ' ∧ TieOk (stCut σ p l o) ζ') (fun E w1 => E = eI ∧ w1 = w ∧ ¬ ((0 ≤ p ∧ p < pos σ) ∧ (0 ≤ l ∧ l < 8))) := by
  refine ctx_of [some (.ref (w.1 (0, 0))), some (vI p), some (vI l), some (vI o), none] plX1 rfl (Nat.le_of_ble_eq_true rfl) rfl ?_
  intro X hG C hnm hQ hQX hno hqe
  subst hG
  change CxOk X cX1_cut 5 RX1 (some .boolean) 10 at C
  have hB := hO.hB
  have hF := hO.hF
  have hps := pos_rng hO
  refine wg_aload_0 (pc := 0) C dX1_cut_0 ?_
  refine wg_iload_1 (pc := 1) C dX1_cut_1 ?_
  refine wg_callVX (pc := 2) C (k' := 1) (n' := 6) kX1_checkPosition q904 (tX1_checkPosition hX hO (by assumption)) (rc_of C hX.obj rfl) dX1_cut_2 rfl rfl (Nat.le_of_ble_eq_true rfl) rfl (by decide) (by omega) (by omega) (fun E w1 hx => hQX _ _ _ _ _ _ ⟨hx.1, hx.2.1, fun z => hx.2.2 (by omega)⟩) (fun v2 w2 h2 => ?_)
  obtain ⟨e2, ew2, h2⟩ := h2
  subst e2
  rw [ew2]
  refine wg_iload_2 (pc := 5) C dX1_cut_5 ?_
  refine wg_callSX (pc := 6) C (k' := 0) (n' := 0) kX1_checkLevel q944 (tX1_checkLevel (by assumption)) dX1_cut_6 rfl rfl (Nat.le_of_ble_eq_true rfl) rfl (by decide) (by omega) (by omega) (fun E w1 hx => hQX _ _ _ _ _ _ ⟨hx.1, hx.2.1, fun z => hx.2.2 (by omega)⟩) (fun v6 w6 h6 => ?_)
  obtain ⟨e6, ew6, h6⟩ := h6
  subst e6
  rw [ew6]
  have hop := hO.op l p
  refine wg_aload_0 (pc := 9) C dX1_cut_9 ?_
  refine gX1_102 (pc := 10) C hX.obj rfl dX1_cut_10 ?_
  refine wg_iload_2 (pc := 13) C dX1_cut_13 ?_
  refine wg_aald (pc := 14) C rfl rfl hX.oo rfl (by omega) (by omega) (by decide) (rws_at (by omega) (by omega)) dX1_cut_14 ?_
  refine wg_iload_1 (pc := 15) C dX1_cut_15 ?_
  refine wg_zald (pc := 16) C (hX.op (by omega) (by omega)) rfl (by omega) (by omega) (by decide) dX1_cut_16 ?_
  refine wg_istore_4 (pc := 17) C dX1_cut_17 rfl ?_
  refine wg_aload_0 (pc := 19) C dX1_cut_19 ?_
  refine gX1_102 (pc := 20) C hX.obj rfl dX1_cut_20 ?_
  refine wg_iload_2 (pc := 23) C dX1_cut_23 ?_
  refine wg_aald (pc := 24) C rfl rfl hX.oo rfl (by omega) (by omega) (by decide) (rws_at (by omega) (by omega)) dX1_cut_24 ?_
  refine wg_iload_1 (pc := 25) C dX1_cut_25 ?_
  refine wg_iload_3 (pc := 26) C dX1_cut_26 ?_
  refine wg_zast (pc := 27) C (hX.op (by omega) (by omega)) rfl (by omega) (by omega) (by decide) ho dX1_cut_27 ?_
  have hX1 := hX.wOp l p o
  have hO1 := hO.wOp l h2.1 h2.2 ho
  refine wg_iload_4 (pc := 28) C dX1_cut_28 ?_
  refine wg_iload_3 (pc := 30) C dX1_cut_30 ?_
  refine wg_icmp_ne (tgt := 37) (pc := 31) C dX1_cut_31 (by decide) (by unfold InR; omega) (by unfold InR; omega) (fun h31 => ?_) (fun h31 => ?_)
  · refine wg_aload_0 (pc := 37) C dX1_cut_37 ?_
    refine wg_callV (pc := 38) C (k' := 0) (n' := 0) kX1_withdrawAll q842 (tX1_withdrawAll hX1 hO1) (rc_of C hX1.obj rfl) dX1_cut_38 rfl rfl (Nat.le_of_ble_eq_true rfl) rfl (by decide) (by omega) (by omega) (fun v38 w38 h38 => ?_)
    obtain ⟨e38, s38, h38⟩ := h38
    subst e38
    obtain ⟨A38, V38⟩ := w38
    have a38 : A38 = w.1 := s38.1
    subst a38
    refine wg_aload_0 (pc := 41) C dX1_cut_41 ?_
    refine wg_callV (pc := 42) C (k' := 0) (n' := 0) kX1_findTies q450 (tX1_findTies h38 (hO1.wdTo _)) (rc_of C h38.obj rfl) dX1_cut_42 rfl rfl (Nat.le_of_ble_eq_true rfl) rfl (by decide) (by omega) (by omega) (fun v42 w42 h42 => ?_)
    obtain ⟨e42, s42, h42⟩ := h42
    subst e42
    obtain ⟨A42, V42⟩ := w42
    have a42 : A42 = w.1 := s42.1
    subst a42
    obtain ⟨ζ42, hX42, hT42⟩ := h42
    refine wg_iload_4 (pc := 45) C dX1_cut_45 ?_
    refine wg_zret (pc := 47) C hQ dX1_cut_47 hop ?_
    exact ⟨rfl, ⟨h2, h6⟩, (((SmX.rf w).uv rfl).tr s38).tr s42, ζ42, by unfold stCut; rw [if_neg h31]; exact hX42, by unfold stCut; rw [if_neg h31]; exact hT42⟩
  · refine wg_iload_4 (pc := 34) C dX1_cut_34 ?_
    refine wg_zret (pc := 36) C hQ dX1_cut_36 hop ?_
    exact ⟨rfl, ⟨h2, h6⟩, (SmX.rf w).uv rfl, ζ, by unfold stCut; rw [if_pos h31]; rw [uS_same σ h31] at hX1; exact hX1, by unfold stCut; rw [if_pos h31]; exact hT⟩

theorem tX1_setLifts {G : Gm} {w : Wo} {σ ζ : St} (hX : HasX G w σ ζ) (hO : Ok σ) (hT : TieOk σ ζ) {b n : Int} (hb : InR b) (hn : InR n) : Cxt G mX1_setLifts 10 2 12 w [.ref (w.1 (0, 0)), vI b, vI n] (fun v w1 => v = some (vI (lft σ b)) ∧ ((0 ≤ b ∧ b < nB σ) ∧ (0 ≤ n ∧ n ≤ 8)) ∧ SmX w w1 ∧ ∃ ζ' : St, HasX G w1 (stSet σ b n) ζ' ∧ TieOk (stSet σ b n) ζ') (fun E w1 => w1 = w ∧ ((E = eI ∧ ¬ ((0 ≤ b ∧ b < nB σ))) ∨ (E = eA ∧ ((0 ≤ b ∧ b < nB σ)) ∧ ¬ (0 ≤ n ∧ n ≤ 8)))) := by
  refine ctx_of [some (.ref (w.1 (0, 0))), some (vI b), some (vI n), none, none] plX1 rfl (Nat.le_of_ble_eq_true rfl) rfl ?_
  intro X hG C hnm hQ hQX hno hqe
  subst hG
  change CxOk X cX1_setLifts 5 RX1 (some .int) 10 at C
  have hB := hO.hB
  have hF := hO.hF
  have hn2 := hn
  unfold InR at hn2
  refine wg_aload_0 (pc := 0) C dX1_setLifts_0 ?_
  refine gX1_33 (pc := 1) C hX.obj rfl dX1_setLifts_1 ?_
  refine wg_iload_1 (pc := 4) C dX1_setLifts_4 ?_
  refine wg_callSX (pc := 5) C (k' := 1) (n' := 6) kX1_in q876 (tX1_in (yy := fun j => w.1 (6, j)) (by assumption) hX.bl hX.ba (by omega) (by omega) (by decide) (fun j h0 h1 => rws_at h0 h1)) dX1_setLifts_5 rfl rfl (Nat.le_of_ble_eq_true rfl) rfl (by decide) (by omega) (by omega) (fun E w1 hx => hQX _ _ _ _ _ _ ⟨hx.2.1, Or.inl ⟨hx.1, hx.2.2⟩⟩) (fun v5 w5 h5 => ?_)
  obtain ⟨e5, ew5, h5⟩ := h5
  subst e5
  rw [ew5]
  refine wg_cast (pc := 8) (ci := 3) C rfl q515 (rc_of C (hX.bay (by omega) (by omega)) rfl) dX1_setLifts_8 ?_
  refine wg_astore_3 (pc := 11) C dX1_setLifts_11 rfl ?_
  refine wg_iload_2 (pc := 12) C dX1_setLifts_12 ?_
  refine wg_iconst (pc := 13) C dX1_setLifts_13 ?_
  refine wg_bipush (pc := 14) C dX1_setLifts_14 (by decide) ?_
  refine wg_callSP (pc := 16) C kX1_inRange q485 (tX1_inRange (by unfold InR; omega) (by unfold InR; omega) (by unfold InR; omega)) dX1_setLifts_16 rfl rfl (Nat.le_of_ble_eq_true rfl) rfl (by decide) (fun f16 => ?_)
  refine wg_callSX (pc := 19) C (k' := 0) (n' := 0) kX1_checkArgument q695 (tX1_checkArgument) dX1_setLifts_19 rfl rfl (Nat.le_of_ble_eq_true rfl) rfl (by decide) (by omega) (by omega) (fun E w1 hx => hQX _ _ _ _ _ _ ⟨hx.2.1, Or.inr ⟨hx.1, h5, fun z => hx.2.2 (by omega)⟩⟩) (fun v19 w19 h19 => ?_)
  obtain ⟨e19, ew19, h19⟩ := h19
  subst e19
  rw [ew19]
  have hlf := hO.lf b
  refine wg_aload_3 (pc := 22) C dX1_setLifts_22 ?_
  refine gX1_50 (pc := 23) C (hX.bay (by omega) (by omega)) rfl dX1_setLifts_23 ?_
  refine wg_istore_4 (pc := 26) C dX1_setLifts_26 rfl ?_
  refine wg_iload_4 (pc := 28) C dX1_setLifts_28 ?_
  refine wg_iload_2 (pc := 30) C dX1_setLifts_30 ?_
  refine wg_icmp_ne (tgt := 37) (pc := 31) C dX1_setLifts_31 (by decide) (by unfold InR; omega) (by unfold InR; omega) (fun h31 => ?_) (fun h31 => ?_)
  · refine wg_aload_3 (pc := 37) C dX1_setLifts_37 ?_
    refine wg_iload_2 (pc := 38) C dX1_setLifts_38 ?_
    refine wg_callV (pc := 39) C (k' := 0) (n' := 0) kX4_setLifts q915 (tX4_setLifts hX hO (by omega) (by omega) (by omega) (by omega)) (rc_of C (hX.bay (by omega) (by omega)) rfl) dX1_setLifts_39 rfl rfl (Nat.le_of_ble_eq_true rfl) rfl (by decide) (by omega) (by omega) (fun v39 w39 h39 => ?_)
    obtain ⟨e39, s39, h39⟩ := h39
    subst e39
    obtain ⟨A39, V39⟩ := w39
    have a39 : A39 = w.1 := s39.1
    subst a39
    have hO1 := hO.stLft b h19.1 h19.2
    refine wg_aload_0 (pc := 42) C dX1_setLifts_42 ?_
    refine wg_callV (pc := 43) C (k' := 0) (n' := 0) kX1_withdrawAll q842 (tX1_withdrawAll h39 hO1) (rc_of C h39.obj rfl) dX1_setLifts_43 rfl rfl (Nat.le_of_ble_eq_true rfl) rfl (by decide) (by omega) (by omega) (fun v43 w43 h43 => ?_)
    obtain ⟨e43, s43, h43⟩ := h43
    subst e43
    obtain ⟨A43, V43⟩ := w43
    have a43 : A43 = w.1 := s43.1
    subst a43
    refine wg_aload_0 (pc := 46) C dX1_setLifts_46 ?_
    refine wg_callV (pc := 47) C (k' := 0) (n' := 0) kX1_findTies q450 (tX1_findTies h43 (hO1.wdTo _)) (rc_of C h43.obj rfl) dX1_setLifts_47 rfl rfl (Nat.le_of_ble_eq_true rfl) rfl (by decide) (by omega) (by omega) (fun v47 w47 h47 => ?_)
    obtain ⟨e47, s47, h47⟩ := h47
    subst e47
    obtain ⟨A47, V47⟩ := w47
    have a47 : A47 = w.1 := s47.1
    subst a47
    obtain ⟨ζ47, hX47, hT47⟩ := h47
    refine wg_iload_4 (pc := 50) C dX1_setLifts_50 ?_
    refine wg_iret (pc := 52) C hQ dX1_setLifts_52 ?_
    exact ⟨rfl, ⟨h5, h19⟩, (s39.tr s43).tr s47, ζ47, by unfold stSet; rw [if_neg h31]; exact hX47, by unfold stSet; rw [if_neg h31]; exact hT47⟩
  · refine wg_iload_4 (pc := 34) C dX1_setLifts_34 ?_
    refine wg_iret (pc := 36) C hQ dX1_setLifts_36 ?_
    exact ⟨rfl, ⟨h5, h19⟩, SmX.rf w, ζ, by unfold stSet; rw [if_pos h31]; exact hX, by unfold stSet; rw [if_pos h31]; exact hT⟩

theorem tX1_reasonOf {G : Gm} {w : Wo} {σ ζ : St} (hX : HasX G w σ ζ) (hO : Ok σ) (hT : TieOk σ ζ) {f : Int} (hf0 : 0 ≤ f) (hf1 : f < nF σ) : PCt G mX1_reasonOf 11 w [.ref (w.1 (0, 0)), .ref (w.1 (3, f))] (vI (rsn σ f)) (0 ≤ rsn σ f ∧ rsn σ f ≤ 3) := by
  refine ⟨ct_of [some (.ref (w.1 (0, 0))), some (.ref (w.1 (3, f))), none, none, none, none] plX1 rfl (Nat.le_of_ble_eq_true rfl) rfl ?_, rsn_rng σ f⟩
  intro X hG C hnm hQ
  subst hG
  change CxOk X cX1_reasonOf 6 RX1 (some .int) 11 at C
  have hB := hO.hB
  have hF := hO.hF
  have hc := hO.fc hf0 hf1
  have L54 : ∀ (N : Nat) (k s x y : Int), (first σ f + many σ f + 1 - k).toNat = N → (0 ≤ s ∧ s ≤ 200) → s = sm (fun k => lft σ k) (first σ f) (first σ f + many σ f) → first σ f ≤ k → k ≤ first σ f + many σ f + 1 → (-5760 ≤ y ∧ y ≤ 0) → (0 ≤ x ∧ x ≤ 8) → y = mnN (spare σ) (first σ f) (k - first σ f).toNat → x = mxN (missing σ) (first σ f) (k - first σ f).toNat → WG X 54 [some (.ref (w.1 (0, 0))), some (.ref (w.1 (3, f))), some (vI s), some (vI x), some (vI y), some (vI k)] [] w 0 0 := by
    intro N
    induction N using Nat.strongRecOn with | _ N IH2 => ?_
    intro k s x y hN hsr hs hk0 hk1 hyr hxr hy hx
    refine wg_iload_5 (pc := 54) C dX1_reasonOf_54 ?_
    refine wg_aload_1 (pc := 56) C dX1_reasonOf_56 ?_
    refine wg_callVP (pc := 57) C kX3_last q622 (tX3_last hX hO (by omega) (by omega)) (rc_of C (hX.face (by omega) (by omega)) rfl) dX1_reasonOf_57 rfl rfl (Nat.le_of_ble_eq_true rfl) rfl (by decide) (fun f57 => ?_)
    refine wg_icmp_gt (tgt := 93) (pc := 60) C dX1_reasonOf_60 (by decide) (by unfold InR; omega) (by unfold InR; omega) (fun h60 => ?_) (fun h60 => ?_)
    · refine wg_iload_2 (pc := 93) C dX1_reasonOf_93 ?_
      refine wg_if_ne (tgt := 101) (pc := 94) C dX1_reasonOf_94 (by decide) (by unfold InR; omega) (fun h94 => ?_) (fun h94 => ?_)
      · refine wg_iload_4 (pc := 101) C dX1_reasonOf_101 ?_
        refine wg_if_ge (tgt := 110) (pc := 103) C dX1_reasonOf_103 (by decide) (by unfold InR; omega) (fun h103 => ?_) (fun h103 => ?_)
        · refine wg_iload_3 (pc := 110) C dX1_reasonOf_110 ?_
          refine wg_iconst (pc := 111) C dX1_reasonOf_111 ?_
          refine wg_icmp_le (tgt := 119) (pc := 112) C dX1_reasonOf_112 (by decide) (by unfold InR; omega) (by unfold InR; omega) (fun h112 => ?_) (fun h112 => ?_)
          · refine wg_iconst (pc := 119) C dX1_reasonOf_119 ?_
            refine wg_iret (pc := 120) C hQ dX1_reasonOf_120 ?_
            have e : k = first σ f + many σ f + 1 := by omega
            subst e
            rw [show (first σ f + many σ f + 1 - first σ f).toNat = (many σ f + 1).toNat by omega] at hy hx
            refine ⟨vI_c ?_, rfl⟩
            unfold rsn
            rw [← hs, ← hy, ← hx]
            (repeat' split) <;> omega
          · refine wg_iconst (pc := 115) C dX1_reasonOf_115 ?_
            refine wg_goto (tgt := 120) (pc := 116) C dX1_reasonOf_116 (by decide) ?_
            refine wg_iret (pc := 120) C hQ dX1_reasonOf_120 ?_
            have e : k = first σ f + many σ f + 1 := by omega
            subst e
            rw [show (first σ f + many σ f + 1 - first σ f).toNat = (many σ f + 1).toNat by omega] at hy hx
            refine ⟨vI_c ?_, rfl⟩
            unfold rsn
            rw [← hs, ← hy, ← hx]
            (repeat' split) <;> omega
        · refine wg_iconst (pc := 106) C dX1_reasonOf_106 ?_
          refine wg_goto (tgt := 120) (pc := 107) C dX1_reasonOf_107 (by decide) ?_
          refine wg_iret (pc := 120) C hQ dX1_reasonOf_120 ?_
          have e : k = first σ f + many σ f + 1 := by omega
          subst e
          rw [show (first σ f + many σ f + 1 - first σ f).toNat = (many σ f + 1).toNat by omega] at hy hx
          refine ⟨vI_c ?_, rfl⟩
          unfold rsn
          rw [← hs, ← hy, ← hx]
          (repeat' split) <;> omega
      · refine wg_iconst (pc := 97) C dX1_reasonOf_97 ?_
        refine wg_goto (tgt := 120) (pc := 98) C dX1_reasonOf_98 (by decide) ?_
        refine wg_iret (pc := 120) C hQ dX1_reasonOf_120 ?_
        have e : k = first σ f + many σ f + 1 := by omega
        subst e
        rw [show (first σ f + many σ f + 1 - first σ f).toNat = (many σ f + 1).toNat by omega] at hy hx
        refine ⟨vI_c ?_, rfl⟩
        unfold rsn
        rw [← hs, ← hy, ← hx]
        (repeat' split) <;> omega
    · refine wg_iload_4 (pc := 63) C dX1_reasonOf_63 ?_
      refine wg_aload_0 (pc := 65) C dX1_reasonOf_65 ?_
      refine wg_iload_5 (pc := 66) C dX1_reasonOf_66 ?_
      refine wg_callVP (pc := 68) C kX1_spare q1042 (tX1_spare hX hO hT (by omega) (by omega)) (rc_of C hX.obj rfl) dX1_reasonOf_68 rfl rfl (Nat.le_of_ble_eq_true rfl) rfl (by decide) (fun f68 => ?_)
      refine wg_min (pc := 71) C q1046 dX1_reasonOf_71 (by unfold InR; omega) (by unfold InR; omega) (by decide) (Nat.le_of_ble_eq_true rfl) rfl ?_
      refine wg_istore_4 (pc := 74) C dX1_reasonOf_74 rfl ?_
      refine wg_iload_3 (pc := 76) C dX1_reasonOf_76 ?_
      refine wg_aload_0 (pc := 77) C dX1_reasonOf_77 ?_
      refine wg_iload_5 (pc := 78) C dX1_reasonOf_78 ?_
      refine wg_callVP (pc := 80) C kX1_missingOf q670 (tX1_missingOf hX hO hT (by omega) (by omega)) (rc_of C hX.obj rfl) dX1_reasonOf_80 rfl rfl (Nat.le_of_ble_eq_true rfl) rfl (by decide) (fun f80 => ?_)
      refine wg_max (pc := 83) C q516 dX1_reasonOf_83 (by unfold InR; omega) (by unfold InR; omega) (by decide) (Nat.le_of_ble_eq_true rfl) rfl ?_
      refine wg_istore_3 (pc := 86) C dX1_reasonOf_86 rfl ?_
      refine wg_iinc_5 (pc := 87) C dX1_reasonOf_87 rfl ?_
      refine wg_goto (tgt := 54) (pc := 90) C dX1_reasonOf_90 (by decide) ?_
      exact IH2 _ (by omega) (k + 1) s _ _ rfl hsr hs (by omega) (by omega) (by split <;> omega) (by split <;> omega) (by rw [mnN_s _ hk0 hy]) (by rw [mxN_s _ hk0 hx])
  have L13 : ∀ (N : Nat) (k s : Int), (first σ f + many σ f - k).toNat = N → first σ f ≤ k → k ≤ first σ f + many σ f → (0 ≤ s ∧ s ≤ 8 * (k - first σ f)) → s = sm (fun k => lft σ k) (first σ f) k → WG X 13 [some (.ref (w.1 (0, 0))), some (.ref (w.1 (3, f))), some (vI s), some (vI 0), some (vI 0), some (vI k)] [] w 0 0 := by
    intro N
    induction N using Nat.strongRecOn with | _ N IH => ?_
    intro k s hN hk0 hk1 hsr hs
    have hlf := hO.lf k
    refine wg_iload_5 (pc := 13) C dX1_reasonOf_13 ?_
    refine wg_aload_1 (pc := 15) C dX1_reasonOf_15 ?_
    refine wg_callVP (pc := 16) C kX3_last q622 (tX3_last hX hO (by omega) (by omega)) (rc_of C (hX.face (by omega) (by omega)) rfl) dX1_reasonOf_16 rfl rfl (Nat.le_of_ble_eq_true rfl) rfl (by decide) (fun f16 => ?_)
    refine wg_icmp_ge (tgt := 48) (pc := 19) C dX1_reasonOf_19 (by decide) (by unfold InR; omega) (by unfold InR; omega) (fun h19 => ?_) (fun h19 => ?_)
    · refine wg_aload_1 (pc := 48) C dX1_reasonOf_48 ?_
      refine gX1_158 (pc := 49) C (hX.face (by omega) (by omega)) rfl dX1_reasonOf_49 ?_
      refine wg_istore_5 (pc := 52) C dX1_reasonOf_52 rfl ?_
      exact L54 _ _ s 0 0 rfl (by omega) (by rw [hs, show k = first σ f + many σ f by omega]) (by omega) (by omega) (by omega) (by omega) (by rw [show (first σ f - first σ f).toNat = 0 by omega]; rfl) (by rw [show (first σ f - first σ f).toNat = 0 by omega]; rfl)
    · refine wg_iload_2 (pc := 22) C dX1_reasonOf_22 ?_
      refine wg_aload_0 (pc := 23) C dX1_reasonOf_23 ?_
      refine gX1_33 (pc := 24) C hX.obj rfl dX1_reasonOf_24 ?_
      refine wg_iload_5 (pc := 27) C dX1_reasonOf_27 ?_
      refine wg_callFP (pc := 29) C kF_get q497 (tJ2_get hX.bl hX.ba (by omega) (by omega) (by omega) (by decide) (rws_at (by omega) (by omega))) (rc_of C hX.bl rfl) dX1_reasonOf_29 rfl rfl (Nat.le_of_ble_eq_true rfl) rfl (by decide) (fun f29 => ?_)
      refine wg_cast (pc := 34) (ci := 3) C rfl q515 (rc_of C (hX.bay (by omega) (by omega)) rfl) dX1_reasonOf_34 ?_
      refine gX1_50 (pc := 37) C (hX.bay (by omega) (by omega)) rfl dX1_reasonOf_37 ?_
      refine wg_iadd (pc := 40) C dX1_reasonOf_40 ?_
      refine wg_istore_2 (pc := 41) C dX1_reasonOf_41 rfl ?_
      refine wg_iinc_5 (pc := 42) C dX1_reasonOf_42 rfl ?_
      refine wg_goto (tgt := 13) (pc := 45) C dX1_reasonOf_45 (by decide) ?_
      exact IH _ (by omega) (k + 1) _ rfl (by omega) (by omega) (by omega) (by rw [sm_succ _ (by omega), ← hs])
  refine wg_iconst (pc := 0) C dX1_reasonOf_0 ?_
  refine wg_istore_2 (pc := 1) C dX1_reasonOf_1 rfl ?_
  refine wg_iconst (pc := 2) C dX1_reasonOf_2 ?_
  refine wg_istore_3 (pc := 3) C dX1_reasonOf_3 rfl ?_
  refine wg_iconst (pc := 4) C dX1_reasonOf_4 ?_
  refine wg_istore_4 (pc := 5) C dX1_reasonOf_5 rfl ?_
  refine wg_aload_1 (pc := 7) C dX1_reasonOf_7 ?_
  refine gX1_158 (pc := 8) C (hX.face (by omega) (by omega)) rfl dX1_reasonOf_8 ?_
  refine wg_istore_5 (pc := 11) C dX1_reasonOf_11 rfl ?_
  exact L13 _ _ 0 rfl (by omega) (by omega) (by omega) (by rw [sm_nil _ (by omega)])

theorem tX1_inspect {G : Gm} {w : Wo} {σ ζ : St} (hX : HasX G w σ ζ) (hO : Ok σ) (hT : TieOk σ ζ) {f : Int} (hf : InR f) : Cxt G mX1_inspect 12 1 6 w [.ref (w.1 (0, 0)), vI f] (fun v w1 => v = some (vI (rsn σ f)) ∧ ((0 ≤ f ∧ f < nF σ)) ∧ SmX w w1 ∧ HasX G w1 (stIns σ f) ζ) (fun E w1 => E = eI ∧ w1 = w ∧ ¬ ((0 ≤ f ∧ f < nF σ))) := by
  refine ctx_of [some (.ref (w.1 (0, 0))), some (vI f), none, none] plX1 rfl (Nat.le_of_ble_eq_true rfl) rfl ?_
  intro X hG C hnm hQ hQX hno hqe
  subst hG
  change CxOk X cX1_inspect 4 RX1 (some .int) 12 at C
  have hB := hO.hB
  have hF := hO.hF
  have hdy := hO.dy
  refine wg_aload_0 (pc := 0) C dX1_inspect_0 ?_
  refine gX1_71 (pc := 1) C hX.obj rfl dX1_inspect_1 ?_
  refine wg_iload_1 (pc := 4) C dX1_inspect_4 ?_
  refine wg_callSX (pc := 5) C (k' := 0) (n' := 0) kX1_in q876 (tX1_in (yy := fun j => w.1 (3, j)) (by assumption) hX.fl hX.fa (by omega) (by omega) (by decide) (fun j h0 h1 => rws_at h0 h1)) dX1_inspect_5 rfl rfl (Nat.le_of_ble_eq_true rfl) rfl (by decide) (by omega) (by omega) (fun E w1 hx => hQX _ _ _ _ _ _ ⟨hx.1, hx.2.1, fun z => hx.2.2 (by omega)⟩) (fun v5 w5 h5 => ?_)
  obtain ⟨e5, ew5, h5⟩ := h5
  subst e5
  rw [ew5]
  refine wg_cast (pc := 8) (ci := 2) C rfl q613 (rc_of C (hX.face (by omega) (by omega)) rfl) dX1_inspect_8 ?_
  refine wg_astore_2 (pc := 11) C dX1_inspect_11 rfl ?_
  refine wg_aload_0 (pc := 12) C dX1_inspect_12 ?_
  refine wg_aload_2 (pc := 13) C dX1_inspect_13 ?_
  refine wg_callVP (pc := 14) C kX1_reasonOf q1038 (tX1_reasonOf hX hO hT (by omega) (by omega)) (rc_of C hX.obj rfl) dX1_inspect_14 rfl rfl (Nat.le_of_ble_eq_true rfl) rfl (by decide) (fun f14 => ?_)
  refine wg_istore_3 (pc := 17) C dX1_inspect_17 rfl ?_
  refine wg_aload_2 (pc := 18) C dX1_inspect_18 ?_
  refine wg_iload_3 (pc := 19) C dX1_inspect_19 ?_
  refine wg_if_ne (tgt := 35) (pc := 20) C dX1_inspect_20 (by decide) (by unfold InR; omega) (fun h20 => ?_) (fun h20 => ?_)
  · refine wg_iconst (pc := 35) C dX1_inspect_35 ?_
    refine pX1_247 (pc := 36) C (hX.face (by omega) (by omega)) rfl dX1_inspect_36 ?_
    refine wg_iload_3 (pc := 39) C dX1_inspect_39 ?_
    refine wg_iret (pc := 40) C hQ dX1_inspect_40 ?_
    first
      | exact ⟨rfl, h5, (SmX.rf w).uv rfl, by unfold stIns; rw [if_pos h20, show day σ + 6 = day σ + 7 - 1 by omega]; exact hX.wGrn f _⟩
      | exact ⟨rfl, h5, (SmX.rf w).uv rfl, by unfold stIns; rw [if_neg h20]; exact hX.wGrn f _⟩
  · refine wg_aload_0 (pc := 23) C dX1_inspect_23 ?_
    refine gX1_176 (pc := 24) C hX.obj rfl dX1_inspect_24 ?_
    refine wg_bipush (pc := 27) C dX1_inspect_27 (by decide) ?_
    refine wg_iadd (pc := 29) C dX1_inspect_29 ?_
    refine wg_iconst (pc := 30) C dX1_inspect_30 ?_
    refine wg_isub (pc := 31) C dX1_inspect_31 ?_
    refine wg_goto (tgt := 36) (pc := 32) C dX1_inspect_32 (by decide) ?_
    refine pX1_247 (pc := 36) C (hX.face (by omega) (by omega)) rfl dX1_inspect_36 ?_
    refine wg_iload_3 (pc := 39) C dX1_inspect_39 ?_
    refine wg_iret (pc := 40) C hQ dX1_inspect_40 ?_
    first
      | exact ⟨rfl, h5, (SmX.rf w).uv rfl, by unfold stIns; rw [if_pos h20, show day σ + 6 = day σ + 7 - 1 by omega]; exact hX.wGrn f _⟩
      | exact ⟨rfl, h5, (SmX.rf w).uv rfl, by unfold stIns; rw [if_neg h20]; exact hX.wGrn f _⟩

theorem tX1_mostClass {G : Gm} {w : Wo} {σ ζ : St} (hX : HasX G w σ ζ) (hO : Ok σ) (hT : TieOk σ ζ) {b l : Int} (hb : InR b) (hl : InR l) : Cxt G mX1_mostClass 11 3 18 w [.ref (w.1 (0, 0)), vI b, vI l] (fun v w1 => v = some (vI (mcN σ b l 7)) ∧ (((0 ≤ b ∧ b < nB σ) ∧ (0 ≤ l ∧ l < 8)) ∧ l < lft σ b) ∧ SmX w w1 ∧ HasX G w1 σ ζ) (fun E w1 => w1 = w ∧ ((E = eI ∧ ¬ (((0 ≤ b ∧ b < nB σ) ∧ (0 ≤ l ∧ l < 8)))) ∨ (E = eS ∧ (((0 ≤ b ∧ b < nB σ) ∧ (0 ≤ l ∧ l < 8))) ∧ ¬ (l < lft σ b)))) := by
  refine ctx_of [some (.ref (w.1 (0, 0))), some (vI b), some (vI l), none, none, none, none] plX1 rfl (Nat.le_of_ble_eq_true rfl) rfl ?_
  intro X hG C hnm hQ hQX hno hqe
  subst hG
  change CxOk X cX1_mostClass 7 RX1 (some .int) 11 at C
  have hB := hO.hB
  have hF := hO.hF
  refine wg_aload_0 (pc := 0) C dX1_mostClass_0 ?_
  refine wg_iload_1 (pc := 1) C dX1_mostClass_1 ?_
  refine wg_iload_2 (pc := 2) C dX1_mostClass_2 ?_
  refine wg_callVX (pc := 3) C (k' := 1) (n' := 6) kX1_levelOf q940 (tX1_levelOf hX hO (by assumption) (by assumption)) (rc_of C hX.obj rfl) dX1_mostClass_3 rfl rfl (Nat.le_of_ble_eq_true rfl) rfl (by decide) (by omega) (by omega) (fun E w1 hx => hQX _ _ _ _ _ _ ⟨hx.2.1, Or.inl ⟨hx.1, hx.2.2⟩⟩) (fun v3 w3 h3 => ?_)
  obtain ⟨e3, ew3, h3⟩ := h3
  subst e3
  rw [ew3]
  refine wg_astore_3 (pc := 6) C dX1_mostClass_6 rfl ?_
  refine wg_aload_3 (pc := 7) C dX1_mostClass_7 ?_
  refine wg_iload_2 (pc := 8) C dX1_mostClass_8 ?_
  refine wg_callVP (pc := 9) C kX4_has q947 (tX4_has hX hO (by omega) (by omega) (by unfold InR; omega)) (rc_of C (hX.bay (by omega) (by omega)) rfl) dX1_mostClass_9 rfl rfl (Nat.le_of_ble_eq_true rfl) rfl (by decide) (fun f9 => ?_)
  refine wg_callSX (pc := 12) C (k' := 0) (n' := 0) kX1_checkState q709 (tX1_checkState) dX1_mostClass_12 rfl rfl (Nat.le_of_ble_eq_true rfl) rfl (by decide) (by omega) (by omega) (fun E w1 hx => hQX _ _ _ _ _ _ ⟨hx.2.1, Or.inr ⟨hx.1, h3, fun z => hx.2.2 (by omega)⟩⟩) (fun v12 w12 h12 => ?_)
  obtain ⟨e12, ew12, h12⟩ := h12
  subst e12
  rw [ew12]
  refine wg_aload_3 (pc := 15) C dX1_mostClass_15 ?_
  refine gX1_220 (pc := 16) C (hX.bay h3.1.1 h3.1.2) rfl dX1_mostClass_16 ?_
  refine wg_iload_2 (pc := 19) C dX1_mostClass_19 ?_
  refine wg_iald (pc := 20) C (hX.so h3.1.1 h3.1.2) rfl (by omega) (by omega) (by decide) dX1_mostClass_20 ?_
  refine wg_istore_4 (pc := 21) C dX1_mostClass_21 rfl ?_
  refine wg_iconst (pc := 23) C dX1_mostClass_23 ?_
  refine wg_istore_5 (pc := 24) C dX1_mostClass_24 rfl ?_
  have L29 : ∀ (N : Nat) (V : Tg → Option va_E) (x s m : Int), (7 - s).toNat = N → SmX w (w.1, V) → HasX (xG X) (w.1, V) (uS σ 6 b l x) ζ → 0 ≤ s → s ≤ 7 → m = mcN σ b l s.toNat → WG X 29 [some (.ref (w.1 (0, 0))), some (vI b), some (vI l), some (.ref (w.1 (6, b))), some (vI (σ 6 b l)), some (vI m), some (vI s)] [] (w.1, V) 0 0 := by
    intro N
    induction N using Nat.strongRecOn with | _ N IH => ?_
    intro V x s m hN hS hX hs0 hs1 hm
    refine wg_iload_6 (pc := 29) C dX1_mostClass_29 ?_
    refine wg_bipush (pc := 31) C dX1_mostClass_31 (by decide) ?_
    refine wg_icmp_gt (tgt := 72) (pc := 33) C dX1_mostClass_33 (by decide) (by unfold InR; omega) (by unfold InR; omega) (fun h33 => ?_) (fun h33 => ?_)
    · refine wg_aload_3 (pc := 72) C dX1_mostClass_72 ?_
      refine gX1_220 (pc := 73) C (hX.bay h3.1.1 h3.1.2) rfl dX1_mostClass_73 ?_
      refine wg_iload_2 (pc := 76) C dX1_mostClass_76 ?_
      refine wg_iload_4 (pc := 77) C dX1_mostClass_77 ?_
      refine wg_iast (pc := 79) C (hX.so h3.1.1 h3.1.2) rfl (by omega) (by omega) (by decide) dX1_mostClass_79 ?_
      have hX2 := hX.wSo b l (σ 6 b l)
      rw [uS_uS, uS_same σ rfl] at hX2
      refine wg_iload_5 (pc := 80) C dX1_mostClass_80 ?_
      refine wg_iret (pc := 82) C hQ dX1_mostClass_82 ?_
      have e : s = 7 := by omega
      subst e
      exact ⟨vI_c (by rw [hm]; rfl), ⟨h3, h12⟩, hS.uv rfl, hX2⟩
    · refine wg_aload_3 (pc := 36) C dX1_mostClass_36 ?_
      refine gX1_220 (pc := 37) C (hX.bay h3.1.1 h3.1.2) rfl dX1_mostClass_37 ?_
      refine wg_iload_2 (pc := 40) C dX1_mostClass_40 ?_
      refine wg_iload_6 (pc := 41) C dX1_mostClass_41 ?_
      refine wg_iast (pc := 43) C (hX.so h3.1.1 h3.1.2) rfl (by omega) (by omega) (by decide) dX1_mostClass_43 ?_
      have hX2 := hX.wSo b l s
      rw [uS_uS] at hX2
      have hO2 := hO.wSo b l (v := s) (by omega) (by omega)
      have hT2 : TieOk (uS σ 6 b l s) ζ := hT.c rfl rfl rfl
      have enB : nB (uS σ 6 b l s) = nB σ := rfl
      refine wg_aload_0 (pc := 44) C dX1_mostClass_44 ?_
      refine wg_iload_1 (pc := 45) C dX1_mostClass_45 ?_
      refine wg_callVP (pc := 46) C kX1_spare q1042 (tX1_spare hX2 hO2 hT2 (by omega) (by omega)) (rc_of C hX2.obj rfl) dX1_mostClass_46 rfl rfl (Nat.le_of_ble_eq_true rfl) rfl (by decide) (fun f46 => ?_)
      refine wg_if_lt (tgt := 66) (pc := 49) C dX1_mostClass_49 (by decide) (by unfold InR; omega) (fun h49 => ?_) (fun h49 => ?_)
      · refine wg_iinc_6 (pc := 66) C dX1_mostClass_66 rfl ?_
        refine wg_goto (tgt := 29) (pc := 69) C dX1_mostClass_69 (by decide) ?_
        exact IH _ (by omega) _ s (s + 1) _ rfl (hS.uv rfl) hX2 (by omega) (by omega) (by rw [mcN_s σ b l hs0 hm]; split <;> rename_i hc <;> first | rfl | (exfalso; omega))
      · refine wg_aload_0 (pc := 52) C dX1_mostClass_52 ?_
        refine wg_iload_1 (pc := 53) C dX1_mostClass_53 ?_
        refine wg_iconst (pc := 54) C dX1_mostClass_54 ?_
        refine wg_iadd (pc := 55) C dX1_mostClass_55 ?_
        refine wg_callVP (pc := 56) C kX1_spare q1042 (tX1_spare hX2 hO2 hT2 (by omega) (by omega)) (rc_of C hX2.obj rfl) dX1_mostClass_56 rfl rfl (Nat.le_of_ble_eq_true rfl) rfl (by decide) (fun f56 => ?_)
        refine wg_if_lt (tgt := 66) (pc := 59) C dX1_mostClass_59 (by decide) (by unfold InR; omega) (fun h59 => ?_) (fun h59 => ?_)
        · refine wg_iinc_6 (pc := 66) C dX1_mostClass_66 rfl ?_
          refine wg_goto (tgt := 29) (pc := 69) C dX1_mostClass_69 (by decide) ?_
          exact IH _ (by omega) _ s (s + 1) _ rfl (hS.uv rfl) hX2 (by omega) (by omega) (by rw [mcN_s σ b l hs0 hm]; split <;> rename_i hc <;> first | rfl | (exfalso; omega))
        · refine wg_iload_6 (pc := 62) C dX1_mostClass_62 ?_
          refine wg_istore_5 (pc := 64) C dX1_mostClass_64 rfl ?_
          refine wg_iinc_6 (pc := 66) C dX1_mostClass_66 rfl ?_
          refine wg_goto (tgt := 29) (pc := 69) C dX1_mostClass_69 (by decide) ?_
          exact IH _ (by omega) _ s (s + 1) _ rfl (hS.uv rfl) hX2 (by omega) (by omega) (by rw [mcN_s σ b l hs0 hm]; split <;> rename_i hc <;> first | rfl | (exfalso; omega))
  refine wg_iconst (pc := 26) C dX1_mostClass_26 ?_
  refine wg_istore_6 (pc := 27) C dX1_mostClass_27 rfl ?_
  exact L29 _ w.2 (σ 6 b l) 0 (-1) rfl (SmX.rf w) (by rw [uS_same σ rfl]; exact hX) (by omega) (by omega) rfl

