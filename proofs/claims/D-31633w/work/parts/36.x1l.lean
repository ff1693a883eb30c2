/-! the class: errors -/
set_option maxRecDepth 100000
set_option maxHeartbeats 4000000
theorem tX1_errors {G : Gm} {w : Wo} {σ ζ : St} (hX : HasX G w σ ζ) (hO : Ok σ) (hT : TieOk σ ζ) (hC : Cln w) (hG : GreenOk σ) : Ct G mX1_errors 10 2 8 w [.ref (w.1 (0, 0))] (fun v w1 => v = some (vI 0) ∧ w1 = w) := by
  refine ct_of [some (.ref (w.1 (0, 0))), none, none, none] plX1 rfl (Nat.le_of_ble_eq_true rfl) rfl ?_
  intro X hG C hnm hQ
  subst hG
  change CxOk X cX1_errors 4 RX1 (some .int) 10 at C
  have hB := hO.hB
  have hF := hO.hF
  have hps := pos_rng hO
  have L9 : ∀ (A : Tg → Nat) (V : Tg → Option va_E), (∀ u : Tg, u.1 < 50 → A u = w.1 u ∧ V u = w.2 u) → V (60, 0) = some (ob 6 [.ref (A (61, 0)), .ref (A (0, 0))]) → WG X 9 [some (.ref (A (0, 0))), some (.ref (A (60, 0))), none, none] [] (A, uV V (61, 0) (aI (xG X) 6 (fun _ => 0))) 0 0 := by
    intro A V hA hW
    have hX1 : HasX (xG X) (A, V) σ ζ := hX.fr (fun u hu => hA u (by omega))
    refine wg_aload_1 (pc := 9) C dX1_errors_9 ?_
    refine wg_callV (pc := 10) C (k' := 0) (n' := 0) kX6_go q574 (tX6_go (w := (A, V)) (g := fun _ => 0) hX1 hO hW hT) (rc_of (w := (A, uV V (61, 0) (aI (xG X) 6 (fun _ => 0)))) (t := (60, 0)) C ((wo_ne (tg_ne rfl)).trans hW) rfl) dX1_errors_10 rfl rfl (Nat.le_of_ble_eq_true rfl) rfl (by decide) (by omega) (by omega) (fun v10 w10 h10 => ?_)
    obtain ⟨e10, g10, ew10, hg10⟩ := h10
    subst e10
    rw [ew10]
    have hgk : ∀ kd, 0 ≤ kd → kd ≤ 5 → g10 kd = allPrt σ kd := fun kd a b => by rw [hg10 kd, walk_all hO ⟨a, b⟩]; show 0 + _ = _; omega
    have hX6 : HasX (xG X) (A, uV V (61, 0) (aI (xG X) 6 g10)) σ ζ := hX1.fr (fun u hu => ⟨rfl, uV_ne (tg_lt hu rfl)⟩)
    have L53 : ∀ (N : Nat) (k : Int), (pos σ - k).toNat = N → 0 ≤ k → k ≤ pos σ → WG X 53 [some (.ref (A (0, 0))), none, some (vI 0), some (vI k)] [] (A, uV V (61, 0) (aI (xG X) 6 g10)) 0 0 := by
      intro N
      induction N using Nat.strongRecOn with | _ N IH2 => ?_
      intro k hN hk0 hk1
      refine wg_iload_3 (pc := 53) C dX1_errors_53 ?_
      refine wg_aload_0 (pc := 54) C dX1_errors_54 ?_
      refine wg_callVP (pc := 55) C kX1_positions q462 (tX1_positions hX6 hO) (rc_of C hX6.obj rfl) dX1_errors_55 rfl rfl (Nat.le_of_ble_eq_true rfl) rfl (by decide) (fun f55 => ?_)
      refine wg_icmp_ge (tgt := 98) (pc := 58) C dX1_errors_58 (by decide) (by unfold InR; omega) (by unfold InR; omega) (fun h58 => ?_) (fun h58 => ?_)
      · refine wg_iload_2 (pc := 98) C dX1_errors_98 ?_
        refine WG.forget (w' := w) (fun t e ht => ?_) (wg_iret (pc := 99) C hQ dX1_errors_99 ⟨rfl, rfl⟩)
        have h5 : t.1 < 50 := by
          by_cases h5 : t.1 < 50
          · exact h5
          · rw [hC t (by omega)] at ht; cases ht
        exact ⟨(uV_ne (tg_lt h5 rfl)).trans (((hA t h5).2).trans ht), ((hA t h5).1).symm⟩
      · refine wg_iload_2 (pc := 61) C dX1_errors_61 ?_
        refine wg_aload_0 (pc := 62) C dX1_errors_62 ?_
        refine wg_iload_3 (pc := 63) C dX1_errors_63 ?_
        refine wg_callVP (pc := 64) C kX1_isGreenAt q640 (tX1_isGreenAt hX6 hO (by unfold InR; omega)) (rc_of C hX6.obj rfl) dX1_errors_64 rfl rfl (Nat.le_of_ble_eq_true rfl) rfl (by decide) (fun f64 => ?_)
        refine wg_if_eq (tgt := 89) (pc := 67) C dX1_errors_67 (by decide) (by unfold InR; omega) (fun h67 => ?_) (fun h67 => ?_)
        · refine wg_iconst (pc := 89) C dX1_errors_89 ?_
          refine wg_iadd (pc := 90) C dX1_errors_90 ?_
          refine wg_istore_2 (pc := 91) C dX1_errors_91 rfl ?_
          refine wg_iinc_3 (pc := 92) C dX1_errors_92 rfl ?_
          refine wg_goto (tgt := 53) (pc := 95) C dX1_errors_95 (by decide) ?_
          refine WG.mask [true, false, true, true] rfl ?_
          exact IH2 _ (by omega) (k + 1) rfl (by omega) (by omega)
        · have hgl := grnAt_load hO hG (p := k) (by omega)
          refine wg_aload_0 (pc := 70) C dX1_errors_70 ?_
          refine wg_iload_3 (pc := 71) C dX1_errors_71 ?_
          refine wg_iconst (pc := 72) C dX1_errors_72 ?_
          refine wg_iconst (pc := 73) C dX1_errors_73 ?_
          refine wg_callVP (pc := 74) C kX1_loadOf q653 (tX1_loadOf hX6 hO (by omega) (by omega) (by omega) (by omega) (by unfold InR; omega)) (rc_of C hX6.obj rfl) dX1_errors_74 rfl rfl (Nat.le_of_ble_eq_true rfl) rfl (by decide) (fun f74 => ?_)
          refine wg_aload_0 (pc := 77) C dX1_errors_77 ?_
          refine wg_iload_3 (pc := 78) C dX1_errors_78 ?_
          refine wg_callVP (pc := 79) C kX1_bearsOf q666 (tX1_bearsOf hX6 hO hT (by omega) (by omega)) (rc_of C hX6.obj rfl) dX1_errors_79 rfl rfl (Nat.le_of_ble_eq_true rfl) rfl (by decide) (fun f79 => ?_)
          refine wg_icmp_le (tgt := 89) (pc := 82) C dX1_errors_82 (by decide) (by unfold InR; omega) (by unfold InR; omega) (fun h82 => ?_) (fun h82 => by exfalso; omega)
          refine wg_iconst (pc := 89) C dX1_errors_89 ?_
          refine wg_iadd (pc := 90) C dX1_errors_90 ?_
          refine wg_istore_2 (pc := 91) C dX1_errors_91 rfl ?_
          refine wg_iinc_3 (pc := 92) C dX1_errors_92 rfl ?_
          refine wg_goto (tgt := 53) (pc := 95) C dX1_errors_95 (by decide) ?_
          refine WG.mask [true, false, true, true] rfl ?_
          exact IH2 _ (by omega) (k + 1) rfl (by omega) (by omega)
    have L17 : ∀ (N : Nat) (k : Int), (6 - k).toNat = N → 0 ≤ k → k ≤ 6 → WG X 17 [some (.ref (A (0, 0))), some (.ref (A (60, 0))), some (vI 0), some (vI k)] [] (A, uV V (61, 0) (aI (xG X) 6 g10)) 0 0 := by
      intro N
      induction N using Nat.strongRecOn with | _ N IH => ?_
      intro k hN hk0 hk1
      refine wg_iload_3 (pc := 17) C dX1_errors_17 ?_
      refine wg_bipush (pc := 18) C dX1_errors_18 (by decide) ?_
      refine wg_icmp_ge (tgt := 51) (pc := 20) C dX1_errors_20 (by decide) (by unfold InR; omega) (by unfold InR; omega) (fun h20 => ?_) (fun h20 => ?_)
      · refine wg_iconst (pc := 51) C dX1_errors_51 ?_
        refine wg_istore_3 (pc := 52) C dX1_errors_52 rfl ?_
        refine WG.mask [true, false, true, true] rfl ?_
        exact L53 _ 0 rfl (by omega) (by omega)
      · refine wg_iload_2 (pc := 23) C dX1_errors_23 ?_
        refine wg_aload_1 (pc := 24) C dX1_errors_24 ?_
        refine gX1_270 (pc := 25) C ((wo_ne (tg_ne rfl)).trans hW) rfl dX1_errors_25 ?_
        refine wg_iload_3 (pc := 28) C dX1_errors_28 ?_
        refine wg_iald (pc := 29) C wo_eq rfl (by omega) (by omega) (by decide) dX1_errors_29 ?_
        rw [hgk k hk0 (by omega)]
        refine wg_aload_0 (pc := 30) C dX1_errors_30 ?_
        refine wg_iload_3 (pc := 31) C dX1_errors_31 ?_
        refine wg_callVP (pc := 32) C kX1_allParts q609 (tX1_allParts hX6 hO hT (by unfold InR; omega)) (rc_of C hX6.obj rfl) dX1_errors_32 rfl rfl (Nat.le_of_ble_eq_true rfl) rfl (by decide) (fun f32 => ?_)
        refine wg_icmp_ne (tgt := 42) (pc := 35) C dX1_errors_35 (by decide) (by unfold InR; omega) (by unfold InR; omega) (fun h35 => by exfalso; omega) (fun h35 => ?_)
        refine wg_iconst (pc := 38) C dX1_errors_38 ?_
        refine wg_goto (tgt := 43) (pc := 39) C dX1_errors_39 (by decide) ?_
        refine wg_iadd (pc := 43) C dX1_errors_43 ?_
        refine wg_istore_2 (pc := 44) C dX1_errors_44 rfl ?_
        refine wg_iinc_3 (pc := 45) C dX1_errors_45 rfl ?_
        refine wg_goto (tgt := 17) (pc := 48) C dX1_errors_48 (by decide) ?_
        exact IH _ (by omega) (k + 1) rfl (by omega) (by omega)
    refine wg_iconst (pc := 13) C dX1_errors_13 ?_
    refine wg_istore_2 (pc := 14) C dX1_errors_14 rfl ?_
    refine wg_iconst (pc := 15) C dX1_errors_15 ?_
    refine wg_istore_3 (pc := 16) C dX1_errors_16 rfl ?_
    exact L17 _ 0 rfl (by omega) (by omega)
  refine nX6 (k' := 1) (n' := 6) (60, 0) C q560 dX1_errors_0 (by omega) (by omega) (fun A0 q0 hq0 hu0 => ?_)
  subst hq0
  refine wg_dup (pc := 3) C dX1_errors_3 rfl ?_
  refine wg_aload_0 (pc := 4) C dX1_errors_4 ?_
  refine wg_callIN (pc := 5) C (k' := 0) (n' := 0) kX6_init (nM_X1_264 C) (tX6_init (t := (60, 0)) (ta := (61, 0)) (tg_ne rfl) wo_eq) dX1_errors_5 rfl rfl (Nat.le_of_ble_eq_true rfl) rfl (by decide) (by omega) (by omega) (fun v5 w5 h5 => ?_)
  obtain ⟨e5, g5, l5, r5, u5⟩ := h5
  subst e5
  obtain ⟨A5, V5⟩ := w5
  have hA5 : ∀ u : Tg, u.1 < 50 → A5 u = w.1 u ∧ V5 u = w.2 u := fun u hu => ⟨(g5 u (tg_lt hu rfl)).trans (hu0 u (tg_lt hu rfl)), (u5 u (tg_lt hu rfl) (tg_lt hu rfl)).trans (uV_ne (tg_lt hu rfl))⟩
  have e50 : A5 (0, 0) = w.1 (0, 0) := (hA5 (0, 0) (by decide)).1
  have l50 : V5 (60, 0) = some (ob 6 [.ref (A5 (61, 0)), .ref (A5 (0, 0))]) := by rw [e50]; exact l5
  refine wg_astore_1 (pc := 8) C dX1_errors_8 rfl ?_
  refine WG.widen (k' := 0) (n' := 0) (by omega) (by omega) ?_
  refine WG.mask [true, true, false, false] rfl ?_
  refine WG.at (L9 A5 V5 hA5 l50) rfl ?_ rfl (by rw [uV_self r5])
  rw [e50, show A5 (60, 0) = A0 (60, 0) from g5 (60, 0) (tg_ne rfl)]
  rfl

