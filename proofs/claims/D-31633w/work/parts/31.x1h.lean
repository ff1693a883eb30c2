/-! the class: board, setClass, lay -/
set_option maxRecDepth 100000
set_option maxHeartbeats 4000000
theorem tX1_board {G : Gm} {w : Wo} {σ ζ : St} (hX : HasX G w σ ζ) (hO : Ok σ) {b l o : Int} (hC : Cln w) (hb : InR b) (hl : InR l) (ho : o = 0 ∨ o = 1) : Cxt G mX1_board 9 5 26 w [.ref (w.1 (0, 0)), vI b, vI l, vI o] (fun v w1 => v = some (vI (σ 5 b l)) ∧ (((0 ≤ b ∧ b < nB σ) ∧ (0 ≤ l ∧ l < 8)) ∧ l < lft σ b) ∧ SmX w w1 ∧ HasX G w1 (stBd σ b l o) ζ) (fun E w1 => w1 = w ∧ ((E = eI ∧ ¬ (((0 ≤ b ∧ b < nB σ) ∧ (0 ≤ l ∧ l < 8)))) ∨ (E = eS ∧ (((0 ≤ b ∧ b < nB σ) ∧ (0 ≤ l ∧ l < 8))) ∧ ¬ (l < lft σ b)))) := by
  refine ctx_of [some (.ref (w.1 (0, 0))), some (vI b), some (vI l), some (vI o), none, none] plX1 rfl (Nat.le_of_ble_eq_true rfl) rfl ?_
  intro X hG C hnm hQ hQX hno hqe
  subst hG
  change CxOk X cX1_board 6 RX1 (some .boolean) 9 at C
  have hB := hO.hB
  have hF := hO.hF
  have hbd := hO.bd b l
  refine wg_aload_0 (pc := 0) C dX1_board_0 ?_
  refine wg_iload_1 (pc := 1) C dX1_board_1 ?_
  refine wg_iload_2 (pc := 2) C dX1_board_2 ?_
  refine wg_callVX (pc := 3) C (k' := 3) (n' := 14) kX1_levelOf q940 (tX1_levelOf hX hO (by assumption) (by assumption)) (rc_of C hX.obj rfl) dX1_board_3 rfl rfl (Nat.le_of_ble_eq_true rfl) rfl (by decide) (by omega) (by omega) (fun E w1 hx => hQX _ _ _ _ _ _ ⟨hx.2.1, Or.inl ⟨hx.1, hx.2.2⟩⟩) (fun v3 w3 h3 => ?_)
  obtain ⟨e3, ew3, h3⟩ := h3
  subst e3
  rw [ew3]
  refine wg_astore_4 (pc := 6) C dX1_board_6 rfl ?_
  refine wg_aload_4 (pc := 8) C dX1_board_8 ?_
  refine wg_iload_2 (pc := 10) C dX1_board_10 ?_
  refine wg_callVP (pc := 11) C kX4_has q947 (tX4_has hX hO (by omega) (by omega) (by unfold InR; omega)) (rc_of C (hX.bay (by omega) (by omega)) rfl) dX1_board_11 rfl rfl (Nat.le_of_ble_eq_true rfl) rfl (by decide) (fun f11 => ?_)
  refine wg_callSX (pc := 14) C (k' := 2) (n' := 8) kX1_checkState q709 (tX1_checkState) dX1_board_14 rfl rfl (Nat.le_of_ble_eq_true rfl) rfl (by decide) (by omega) (by omega) (fun E w1 hx => hQX _ _ _ _ _ _ ⟨hx.2.1, Or.inr ⟨hx.1, h3, fun z => hx.2.2 (by omega)⟩⟩) (fun v14 w14 h14 => ?_)
  obtain ⟨e14, ew14, h14⟩ := h14
  subst e14
  rw [ew14]
  refine wg_aload_4 (pc := 17) C dX1_board_17 ?_
  refine gX1_213 (pc := 19) C (hX.bay h3.1.1 h3.1.2) rfl dX1_board_19 ?_
  refine wg_iload_2 (pc := 22) C dX1_board_22 ?_
  refine wg_zald (pc := 23) C (hX.bd h3.1.1 h3.1.2) rfl (by omega) (by omega) (by decide) dX1_board_23 ?_
  refine wg_istore_5 (pc := 24) C dX1_board_24 rfl ?_
  refine wg_aload_4 (pc := 26) C dX1_board_26 ?_
  refine gX1_213 (pc := 28) C (hX.bay h3.1.1 h3.1.2) rfl dX1_board_28 ?_
  refine wg_iload_2 (pc := 31) C dX1_board_31 ?_
  refine wg_iload_3 (pc := 32) C dX1_board_32 ?_
  refine wg_zast (pc := 33) C (hX.bd h3.1.1 h3.1.2) rfl (by omega) (by omega) (by decide) ho dX1_board_33 ?_
  have hX1 := hX.wBd b l o
  have hO1 := hO.wBd b l ho
  have hC1 := ((SmX.rf w).uv (a := 7) (i := b) (e := aZ (xG X) 8 (up (fun m => σ 5 b m) l o)) rfl).cln hC
  refine wg_iload_5 (pc := 34) C dX1_board_34 ?_
  refine wg_iload_3 (pc := 36) C dX1_board_36 ?_
  refine wg_icmp_eq (tgt := 46) (pc := 37) C dX1_board_37 (by decide) (by unfold InR; omega) (by unfold InR; omega) (fun h37 => ?_) (fun h37 => ?_)
  · refine wg_iload_5 (pc := 46) C dX1_board_46 ?_
    refine wg_zret (pc := 48) C hQ dX1_board_48 hbd ?_
    first
      | exact ⟨rfl, ⟨h3, h14⟩, (SmX.rf w).uv rfl, by unfold stBd; rw [if_pos h37]; rw [uS_same σ h37] at hX1; exact hX1⟩
      | exact ⟨rfl, ⟨h3, h14⟩, ((SmX.rf w).uv rfl).tr s43, by unfold stBd; rw [if_neg h37]; exact h43⟩
  · refine wg_aload_0 (pc := 40) C dX1_board_40 ?_
    refine wg_aload_4 (pc := 41) C dX1_board_41 ?_
    refine wg_callV (pc := 43) C (k' := 0) (n' := 0) kX1_withdraw q948 (tX1_withdraw hX1 hO1 h3.1.1 h3.1.2 hC1) (rc_of C hX1.obj rfl) dX1_board_43 rfl rfl (Nat.le_of_ble_eq_true rfl) rfl (by decide) (by omega) (by omega) (fun v43 w43 h43 => ?_)
    obtain ⟨e43, s43, h43⟩ := h43
    subst e43
    obtain ⟨A43, V43⟩ := w43
    have a43 : A43 = w.1 := s43.1
    subst a43
    refine wg_iload_5 (pc := 46) C dX1_board_46 ?_
    refine wg_zret (pc := 48) C hQ dX1_board_48 hbd ?_
    first
      | exact ⟨rfl, ⟨h3, h14⟩, (SmX.rf w).uv rfl, by unfold stBd; rw [if_pos h37]; rw [uS_same σ h37] at hX1; exact hX1⟩
      | exact ⟨rfl, ⟨h3, h14⟩, ((SmX.rf w).uv rfl).tr s43, by unfold stBd; rw [if_neg h37]; exact h43⟩

theorem tX1_setClass {G : Gm} {w : Wo} {σ ζ : St} (hX : HasX G w σ ζ) (hO : Ok σ) {b l s : Int} (hC : Cln w) (hb : InR b) (hl : InR l) (hs : InR s) : Cxt G mX1_setClass 9 6 32 w [.ref (w.1 (0, 0)), vI b, vI l, vI s] (fun v w1 => v = some (vI (σ 6 b l)) ∧ (((0 ≤ b ∧ b < nB σ) ∧ (0 ≤ l ∧ l < 8)) ∧ (0 ≤ s ∧ s ≤ 6) ∧ l < lft σ b) ∧ SmX w w1 ∧ HasX G w1 (stSo σ b l s) ζ) (fun E w1 => w1 = w ∧ ((E = eI ∧ ¬ (((0 ≤ b ∧ b < nB σ) ∧ (0 ≤ l ∧ l < 8)))) ∨ (E = eA ∧ (((0 ≤ b ∧ b < nB σ) ∧ (0 ≤ l ∧ l < 8))) ∧ ¬ (0 ≤ s ∧ s ≤ 6)) ∨ (E = eS ∧ (((0 ≤ b ∧ b < nB σ) ∧ (0 ≤ l ∧ l < 8))) ∧ (0 ≤ s ∧ s ≤ 6) ∧ ¬ (l < lft σ b)))) := by
  refine ctx_of [some (.ref (w.1 (0, 0))), some (vI b), some (vI l), some (vI s), none, none] plX1 rfl (Nat.le_of_ble_eq_true rfl) rfl ?_
  intro X hG C hnm hQ hQX hno hqe
  subst hG
  change CxOk X cX1_setClass 6 RX1 (some .int) 9 at C
  have hB := hO.hB
  have hF := hO.hF
  have hso := hO.so b l
  have hs2 := hs
  unfold InR at hs2
  refine wg_aload_0 (pc := 0) C dX1_setClass_0 ?_
  refine wg_iload_1 (pc := 1) C dX1_setClass_1 ?_
  refine wg_iload_2 (pc := 2) C dX1_setClass_2 ?_
  refine wg_callVX (pc := 3) C (k' := 4) (n' := 20) kX1_levelOf q940 (tX1_levelOf hX hO (by assumption) (by assumption)) (rc_of C hX.obj rfl) dX1_setClass_3 rfl rfl (Nat.le_of_ble_eq_true rfl) rfl (by decide) (by omega) (by omega) (fun E w1 hx => hQX _ _ _ _ _ _ ⟨hx.2.1, Or.inl ⟨hx.1, hx.2.2⟩⟩) (fun v3 w3 h3 => ?_)
  obtain ⟨e3, ew3, h3⟩ := h3
  subst e3
  rw [ew3]
  refine wg_astore_4 (pc := 6) C dX1_setClass_6 rfl ?_
  refine wg_iload_3 (pc := 8) C dX1_setClass_8 ?_
  refine wg_iconst (pc := 9) C dX1_setClass_9 ?_
  refine wg_bipush (pc := 10) C dX1_setClass_10 (by decide) ?_
  refine wg_callSP (pc := 12) C kX1_inRange q485 (tX1_inRange (by unfold InR; omega) (by unfold InR; omega) (by unfold InR; omega)) dX1_setClass_12 rfl rfl (Nat.le_of_ble_eq_true rfl) rfl (by decide) (fun f12 => ?_)
  refine wg_callSX (pc := 15) C (k' := 3) (n' := 14) kX1_checkArgument q695 (tX1_checkArgument) dX1_setClass_15 rfl rfl (Nat.le_of_ble_eq_true rfl) rfl (by decide) (by omega) (by omega) (fun E w1 hx => hQX _ _ _ _ _ _ ⟨hx.2.1, Or.inr (Or.inl ⟨hx.1, h3, fun z => hx.2.2 (by omega)⟩)⟩) (fun v15 w15 h15 => ?_)
  obtain ⟨e15, ew15, h15⟩ := h15
  subst e15
  rw [ew15]
  refine wg_aload_4 (pc := 18) C dX1_setClass_18 ?_
  refine wg_iload_2 (pc := 20) C dX1_setClass_20 ?_
  refine wg_callVP (pc := 21) C kX4_has q947 (tX4_has hX hO (by omega) (by omega) (by unfold InR; omega)) (rc_of C (hX.bay (by omega) (by omega)) rfl) dX1_setClass_21 rfl rfl (Nat.le_of_ble_eq_true rfl) rfl (by decide) (fun f21 => ?_)
  refine wg_callSX (pc := 24) C (k' := 2) (n' := 8) kX1_checkState q709 (tX1_checkState) dX1_setClass_24 rfl rfl (Nat.le_of_ble_eq_true rfl) rfl (by decide) (by omega) (by omega) (fun E w1 hx => hQX _ _ _ _ _ _ ⟨hx.2.1, Or.inr (Or.inr ⟨hx.1, h3, h15, hx.2.2⟩)⟩) (fun v24 w24 h24 => ?_)
  obtain ⟨e24, ew24, h24⟩ := h24
  subst e24
  rw [ew24]
  refine wg_aload_4 (pc := 27) C dX1_setClass_27 ?_
  refine gX1_220 (pc := 29) C (hX.bay h3.1.1 h3.1.2) rfl dX1_setClass_29 ?_
  refine wg_iload_2 (pc := 32) C dX1_setClass_32 ?_
  refine wg_iald (pc := 33) C (hX.so h3.1.1 h3.1.2) rfl (by omega) (by omega) (by decide) dX1_setClass_33 ?_
  refine wg_istore_5 (pc := 34) C dX1_setClass_34 rfl ?_
  refine wg_aload_4 (pc := 36) C dX1_setClass_36 ?_
  refine gX1_220 (pc := 38) C (hX.bay h3.1.1 h3.1.2) rfl dX1_setClass_38 ?_
  refine wg_iload_2 (pc := 41) C dX1_setClass_41 ?_
  refine wg_iload_3 (pc := 42) C dX1_setClass_42 ?_
  refine wg_iast (pc := 43) C (hX.so h3.1.1 h3.1.2) rfl (by omega) (by omega) (by decide) dX1_setClass_43 ?_
  have hX1 := hX.wSo b l s
  have hO1 := hO.wSo b l h15.1 h15.2
  have hC1 := ((SmX.rf w).uv (a := 8) (i := b) (e := aI (xG X) 8 (up (fun m => σ 6 b m) l s)) rfl).cln hC
  refine wg_iload_5 (pc := 44) C dX1_setClass_44 ?_
  refine wg_iload_3 (pc := 46) C dX1_setClass_46 ?_
  refine wg_icmp_eq (tgt := 56) (pc := 47) C dX1_setClass_47 (by decide) (by unfold InR; omega) (by unfold InR; omega) (fun h47 => ?_) (fun h47 => ?_)
  · refine wg_iload_5 (pc := 56) C dX1_setClass_56 ?_
    refine wg_iret (pc := 58) C hQ dX1_setClass_58 ?_
    first
      | exact ⟨rfl, ⟨h3, h15, h24⟩, (SmX.rf w).uv rfl, by unfold stSo; rw [if_pos h47]; rw [uS_same σ h47] at hX1; exact hX1⟩
      | exact ⟨rfl, ⟨h3, h15, h24⟩, ((SmX.rf w).uv rfl).tr s53, by unfold stSo; rw [if_neg h47]; exact h53⟩
  · refine wg_aload_0 (pc := 50) C dX1_setClass_50 ?_
    refine wg_aload_4 (pc := 51) C dX1_setClass_51 ?_
    refine wg_callV (pc := 53) C (k' := 0) (n' := 0) kX1_withdraw q948 (tX1_withdraw hX1 hO1 h3.1.1 h3.1.2 hC1) (rc_of C hX1.obj rfl) dX1_setClass_53 rfl rfl (Nat.le_of_ble_eq_true rfl) rfl (by decide) (by omega) (by omega) (fun v53 w53 h53 => ?_)
    obtain ⟨e53, s53, h53⟩ := h53
    subst e53
    obtain ⟨A53, V53⟩ := w53
    have a53 : A53 = w.1 := s53.1
    subst a53
    refine wg_iload_5 (pc := 56) C dX1_setClass_56 ?_
    refine wg_iret (pc := 58) C hQ dX1_setClass_58 ?_
    first
      | exact ⟨rfl, ⟨h3, h15, h24⟩, (SmX.rf w).uv rfl, by unfold stSo; rw [if_pos h47]; rw [uS_same σ h47] at hX1; exact hX1⟩
      | exact ⟨rfl, ⟨h3, h15, h24⟩, ((SmX.rf w).uv rfl).tr s53, by unfold stSo; rw [if_neg h47]; exact h53⟩

theorem tX1_lay {G : Gm} {w : Wo} {σ ζ : St} (hX : HasX G w σ ζ) (hO : Ok σ) {b l n : Int} (hC : Cln w) (hb : InR b) (hl : InR l) (hn : InR n) : Cxt G mX1_lay 9 6 32 w [.ref (w.1 (0, 0)), vI b, vI l, vI n] (fun v w1 => v = some (vI (σ 7 b l)) ∧ (((0 ≤ b ∧ b < nB σ) ∧ (0 ≤ l ∧ l < 8)) ∧ (0 ≤ n ∧ n ≤ 600) ∧ (l < lft σ b ∧ canL σ b l n)) ∧ SmX w w1 ∧ HasX G w1 (uS σ 7 b l n) ζ) (fun E w1 => w1 = w ∧ ((E = eI ∧ ¬ (((0 ≤ b ∧ b < nB σ) ∧ (0 ≤ l ∧ l < 8)))) ∨ (E = eA ∧ (((0 ≤ b ∧ b < nB σ) ∧ (0 ≤ l ∧ l < 8))) ∧ ¬ (0 ≤ n ∧ n ≤ 600)) ∨ (E = eS ∧ (((0 ≤ b ∧ b < nB σ) ∧ (0 ≤ l ∧ l < 8))) ∧ (0 ≤ n ∧ n ≤ 600) ∧ ¬ (l < lft σ b ∧ canL σ b l n)))) := by
  refine ctx_of [some (.ref (w.1 (0, 0))), some (vI b), some (vI l), some (vI n), none, none] plX1 rfl (Nat.le_of_ble_eq_true rfl) rfl ?_
  intro X hG C hnm hQ hQX hno hqe
  subst hG
  change CxOk X cX1_lay 6 RX1 (some .int) 9 at C
  have hB := hO.hB
  have hF := hO.hF
  have hn2 := hn
  unfold InR at hn2
  refine wg_aload_0 (pc := 0) C dX1_lay_0 ?_
  refine wg_iload_1 (pc := 1) C dX1_lay_1 ?_
  refine wg_iload_2 (pc := 2) C dX1_lay_2 ?_
  refine wg_callVX (pc := 3) C (k' := 4) (n' := 20) kX1_levelOf q940 (tX1_levelOf hX hO (by assumption) (by assumption)) (rc_of C hX.obj rfl) dX1_lay_3 rfl rfl (Nat.le_of_ble_eq_true rfl) rfl (by decide) (by omega) (by omega) (fun E w1 hx => hQX _ _ _ _ _ _ ⟨hx.2.1, Or.inl ⟨hx.1, hx.2.2⟩⟩) (fun v3 w3 h3 => ?_)
  obtain ⟨e3, ew3, h3⟩ := h3
  subst e3
  rw [ew3]
  refine wg_astore_4 (pc := 6) C dX1_lay_6 rfl ?_
  refine wg_iload_3 (pc := 8) C dX1_lay_8 ?_
  refine wg_iconst (pc := 9) C dX1_lay_9 ?_
  refine wg_sipush (pc := 10) C dX1_lay_10 (by decide) ?_
  refine wg_callSP (pc := 13) C kX1_inRange q485 (tX1_inRange (by unfold InR; omega) (by unfold InR; omega) (by unfold InR; omega)) dX1_lay_13 rfl rfl (Nat.le_of_ble_eq_true rfl) rfl (by decide) (fun f13 => ?_)
  refine wg_callSX (pc := 16) C (k' := 3) (n' := 14) kX1_checkArgument q695 (tX1_checkArgument) dX1_lay_16 rfl rfl (Nat.le_of_ble_eq_true rfl) rfl (by decide) (by omega) (by omega) (fun E w1 hx => hQX _ _ _ _ _ _ ⟨hx.2.1, Or.inr (Or.inl ⟨hx.1, h3, fun z => hx.2.2 (by omega)⟩)⟩) (fun v16 w16 h16 => ?_)
  obtain ⟨e16, ew16, h16⟩ := h16
  subst e16
  rw [ew16]
  have L44 : WG X 44 [some (.ref (w.1 (0, 0))), some (vI b), some (vI l), some (vI n), some (.ref (w.1 (6, b))), none] [vI (if l < lft σ b ∧ canL σ b l n then 1 else 0)] w 1 6 := by
    refine wg_callSX (pc := 44) C (k' := 0) (n' := 0) kX1_checkState q709 (tX1_checkState) dX1_lay_44 rfl rfl (Nat.le_of_ble_eq_true rfl) rfl (by decide) (by omega) (by omega) (fun E w1 hx => hQX _ _ _ _ _ _ ⟨hx.2.1, Or.inr (Or.inr ⟨hx.1, h3, h16, hx.2.2⟩)⟩) (fun v44 w44 h44 => ?_)
    obtain ⟨e44, ew44, h44⟩ := h44
    subst e44
    rw [ew44]
    refine wg_aload_4 (pc := 47) C dX1_lay_47 ?_
    refine gX1_224 (pc := 49) C (hX.bay h3.1.1 h3.1.2) rfl dX1_lay_49 ?_
    refine wg_iload_2 (pc := 52) C dX1_lay_52 ?_
    refine wg_iald (pc := 53) C (hX.la h3.1.1 h3.1.2) rfl (by omega) (by omega) (by decide) dX1_lay_53 ?_
    refine wg_istore_5 (pc := 54) C dX1_lay_54 rfl ?_
    refine wg_aload_4 (pc := 56) C dX1_lay_56 ?_
    refine gX1_224 (pc := 58) C (hX.bay h3.1.1 h3.1.2) rfl dX1_lay_58 ?_
    refine wg_iload_2 (pc := 61) C dX1_lay_61 ?_
    refine wg_iload_3 (pc := 62) C dX1_lay_62 ?_
    refine wg_iast (pc := 63) C (hX.la h3.1.1 h3.1.2) rfl (by omega) (by omega) (by decide) dX1_lay_63 ?_
    refine wg_iload_5 (pc := 64) C dX1_lay_64 ?_
    refine wg_iret (pc := 66) C hQ dX1_lay_66 ?_
    exact ⟨rfl, ⟨h3, h16, h44⟩, (SmX.rf w).uv rfl, hX.wLa b l n⟩
  refine wg_aload_4 (pc := 19) C dX1_lay_19 ?_
  refine wg_iload_2 (pc := 21) C dX1_lay_21 ?_
  refine wg_callVP (pc := 22) C kX4_has q947 (tX4_has hX hO (by omega) (by omega) (by unfold InR; omega)) (rc_of C (hX.bay (by omega) (by omega)) rfl) dX1_lay_22 rfl rfl (Nat.le_of_ble_eq_true rfl) rfl (by decide) (fun f22 => ?_)
  refine wg_ifeqB (tgt := 43) (pc := 25) C dX1_lay_25 (by decide) (fun h25 => ?_) (fun h25 => ?_)
  · refine wg_iconst (pc := 43) C dX1_lay_43 ?_
    refine WG.widen (k' := 1) (n' := 6) (by omega) (by omega) ?_
    refine WG.mask [true, true, true, true, true, false] rfl ?_
    refine WG.at L44 rfl rfl ?_ rfl
    show [vI _] = [vI (if l < lft σ b ∧ canL σ b l n then 1 else 0)]
    split <;> rename_i hc <;> first | rfl | (exfalso; first | exact hc ⟨h25, h36⟩ | exact h25 hc.1 | exact h36 hc.2)
  · refine wg_aload_0 (pc := 28) C dX1_lay_28 ?_
    refine wg_aload_4 (pc := 29) C dX1_lay_29 ?_
    refine wg_iload_2 (pc := 31) C dX1_lay_31 ?_
    refine wg_iload_3 (pc := 32) C dX1_lay_32 ?_
    refine wg_callV (pc := 33) C (k' := 1) (n' := 6) kX1_canLay q970 (tX1_canLay hX hO h3.1.1 h3.1.2 hC h3.2.1 h3.2.2 (by assumption)) (rc_of C hX.obj rfl) dX1_lay_33 rfl rfl (Nat.le_of_ble_eq_true rfl) rfl (by decide) (by omega) (by omega) (fun v33 w33 h33 => ?_)
    obtain ⟨e33, ew33⟩ := h33
    subst e33
    rw [ew33]
    refine wg_ifeqB (tgt := 43) (pc := 36) C dX1_lay_36 (by decide) (fun h36 => ?_) (fun h36 => ?_)
    · refine wg_iconst (pc := 43) C dX1_lay_43 ?_
      refine WG.mask [true, true, true, true, true, false] rfl ?_
      refine WG.at L44 rfl rfl ?_ rfl
      show [vI _] = [vI (if l < lft σ b ∧ canL σ b l n then 1 else 0)]
      split <;> rename_i hc <;> first | rfl | (exfalso; first | exact hc ⟨h25, h36⟩ | exact h25 hc.1 | exact h36 hc.2)
    · refine wg_iconst (pc := 39) C dX1_lay_39 ?_
      refine wg_goto (tgt := 44) (pc := 40) C dX1_lay_40 (by decide) ?_
      refine WG.mask [true, true, true, true, true, false] rfl ?_
      refine WG.at L44 rfl rfl ?_ rfl
      show [vI _] = [vI (if l < lft σ b ∧ canL σ b l n then 1 else 0)]
      split <;> rename_i hc <;> first | rfl | (exfalso; first | exact hc ⟨h25, h36⟩ | exact h25 hc.1 | exact h36 hc.2)

