/-! the class: addFace -/
set_option maxRecDepth 100000
set_option maxHeartbeats 4000000
/-- the class' cells may be written and made, all else stays -/
def FrX (w w1 : Wo) : Prop := w1.1 (0, 0) = w.1 (0, 0) ∧ ∀ u : Tg, 16 ≤ u.1 → w1.1 u = w.1 u ∧ w1.2 u = w.2 u
theorem SmX.fr {w w1 : Wo} (h : SmX w w1) : FrX w w1 := ⟨by rw [h.1], fun u hu => ⟨by rw [h.1], h.2 u hu⟩⟩
theorem FrX.tr {w w1 w2 : Wo} (h1 : FrX w w1) (h2 : FrX w1 w2) : FrX w w2 := ⟨h2.1.trans h1.1, fun u hu => ⟨((h2.2 u hu).1).trans (h1.2 u hu).1, ((h2.2 u hu).2).trans (h1.2 u hu).2⟩⟩
theorem tg_ge {u : Tg} {a b : Nat} {i : Int} (h : b ≤ u.1) (hb : Nat.blt a b = true) : u ≠ (a, i) := fun z => by
  rw [z] at h
  have h1 : a < b := by simpa using hb
  exact absurd h (by show ¬ b ≤ a; omega)
/-- a tag of the class in range is no new one -/
theorem tg_r3 {u : Tg} {m : Int} (h : u.1 = 3 → 0 ≤ u.2 ∧ u.2 < m) : u ≠ (3, m) := fun z => by
  rw [z] at h
  have := h rfl
  omega
theorem tg_r6 {u : Tg} {m k : Int} {c : Nat} (hc : c = 6 ∨ c = 7 ∨ c = 8 ∨ c = 9) (hk : m ≤ k) (h : u.1 = 6 ∨ u.1 = 7 ∨ u.1 = 8 ∨ u.1 = 9 → 0 ≤ u.2 ∧ u.2 < m) : u ≠ (c, k) := fun z => by
  rw [z] at h
  have h2 : 0 ≤ k ∧ k < m := h hc
  omega
theorem tX1_addFace {G : Gm} {w : Wo} {σ ζ : St} (hX : HasX G w σ ζ) (hO : Ok σ) {n : Int} (hn : InR n) : Cxt G mX1_addFace 10 35 257 w [.ref (w.1 (0, 0)), vI n] (fun v w1 => v = some (vI (nF σ)) ∧ ((1 ≤ n ∧ n ≤ 8) ∧ (nF σ < 5 ∧ nB σ + n ≤ 24)) ∧ FrX w w1 ∧ ∃ ζ' : St, HasX G w1 (wdAll (stAdd σ n n)) ζ' ∧ TieOk (wdAll (stAdd σ n n)) ζ') (fun E w1 => w1 = w ∧ ((E = eA ∧ ¬ (1 ≤ n ∧ n ≤ 8)) ∨ (E = eS ∧ (1 ≤ n ∧ n ≤ 8) ∧ ¬ (nF σ < 5 ∧ nB σ + n ≤ 24)))) := by
  refine ctx_of [some (.ref (w.1 (0, 0))), some (vI n), none, none] plX1 rfl (Nat.le_of_ble_eq_true rfl) rfl ?_
  intro X hG C hnm hQ hQX hno hqe
  subst hG
  change CxOk X cX1_addFace 4 RX1 (some .int) 10 at C
  have hB := hO.hB
  have hF := hO.hF
  have hn2 := hn
  unfold InR at hn2
  refine wg_iload_1 (pc := 0) C dX1_addFace_0 ?_
  refine wg_iconst (pc := 1) C dX1_addFace_1 ?_
  refine wg_bipush (pc := 2) C dX1_addFace_2 (by decide) ?_
  refine wg_callSP (pc := 4) C kX1_inRange q485 (tX1_inRange (by unfold InR; omega) (by unfold InR; omega) (by unfold InR; omega)) dX1_addFace_4 rfl rfl (Nat.le_of_ble_eq_true rfl) rfl (by decide) (fun f4 => ?_)
  refine wg_callSX (pc := 7) C (k' := 34) (n' := 251) kX1_checkArgument q695 (tX1_checkArgument) dX1_addFace_7 rfl rfl (Nat.le_of_ble_eq_true rfl) rfl (by decide) (by omega) (by omega) (fun E w1 hx => hQX _ _ _ _ _ _ ⟨hx.2.1, Or.inl ⟨hx.1, hx.2.2⟩⟩) (fun v7 w7 h7 => ?_)
  obtain ⟨e7, ew7, h7⟩ := h7
  subst e7
  rw [ew7]
  have L44 : WG X 44 [some (.ref (w.1 (0, 0))), some (vI n), none, none] [vI (if nF σ < 5 ∧ nB σ + n ≤ 24 then 1 else 0)] w 34 251 := by
    refine wg_callSX (pc := 44) C (k' := 33) (n' := 245) kX1_checkState q709 (tX1_checkState) dX1_addFace_44 rfl rfl (Nat.le_of_ble_eq_true rfl) rfl (by decide) (by omega) (by omega) (fun E w1 hx => hQX _ _ _ _ _ _ ⟨hx.2.1, Or.inr ⟨hx.1, h7, fun z => hx.2.2 (by omega)⟩⟩) (fun v44 w44 h44 => ?_)
    obtain ⟨e44, ew44, h44⟩ := h44
    subst e44
    rw [ew44]
    have L88 : ∀ (N : Nat) (A : Tg → Nat) (V : Tg → Option va_E) (ζ : St) (j : Int), (n - j).toNat = N → FrX w (A, V) → HasX (xG X) (A, V) (stAdd σ n j) ζ → 0 ≤ j → j ≤ n → WG X 88 [some (.ref (A (0, 0))), some (vI n), some (.ref (A (3, nF σ))), some (vI j)] [] (A, V) (4 * (n - j).toNat) (30 * (n - j).toNat) := by
      intro N
      induction N using Nat.strongRecOn with | _ N IH => ?_
      intro A V ζ j hN hS hX hj0 hj1
      have hbb : ∀ k, 0 ≤ k → k < nB (stAdd σ n j) → 0 ≤ bfc (stAdd σ n j) k ∧ bfc (stAdd σ n j) k < nF (stAdd σ n j) := fun k k0 k1 => by
        rw [ad_nB] at k1
        rw [ad_nF]
        by_cases hk : nB σ ≤ k
        · rw [ad_b1 hk k1]; omega
        · have := hO.by (k := k) k0 (by omega); rw [ad_b0 (by omega)]; omega
      refine wg_iload_3 (pc := 88) C dX1_addFace_88 ?_
      refine wg_iload_1 (pc := 89) C dX1_addFace_89 ?_
      refine wg_icmp_ge (tgt := 126) (pc := 90) C dX1_addFace_90 (by decide) (by unfold InR; omega) (by unfold InR; omega) (fun h90 => ?_) (fun h90 => ?_)
      · have e : j = n := by omega
        subst e
        refine wg_aload_0 (pc := 126) C dX1_addFace_126 ?_
        refine wg_callV (pc := 127) C (k' := 0) (n' := 0) kX1_withdrawAll q842 (tX1_withdrawAll hX (hO.add h7.1 h44.1 h44.2)) (rc_of C hX.obj rfl) dX1_addFace_127 rfl rfl (Nat.le_of_ble_eq_true rfl) rfl (by decide) (by omega) (by omega) (fun v127 w127 h127 => ?_)
        obtain ⟨e127, s127, h127⟩ := h127
        subst e127
        obtain ⟨A4, V4⟩ := w127
        have b127 : A = A4 := Eq.symm s127.1
        subst b127
        refine wg_aload_0 (pc := 130) C dX1_addFace_130 ?_
        refine wg_callV (pc := 131) C (k' := 0) (n' := 0) kX1_findTies q450 (tX1_findTies h127 ((hO.add h7.1 h44.1 h44.2).wdTo _)) (rc_of C h127.obj rfl) dX1_addFace_131 rfl rfl (Nat.le_of_ble_eq_true rfl) rfl (by decide) (by omega) (by omega) (fun v131 w131 h131 => ?_)
        obtain ⟨e131, s131, ζ2, h131, hT131⟩ := h131
        subst e131
        obtain ⟨A5, V5⟩ := w131
        have b131 : A = A5 := Eq.symm s131.1
        subst b131
        refine wg_aload_2 (pc := 134) C dX1_addFace_134 ?_
        refine gX1_194 (pc := 135) C (h131.face (f := nF σ) (by omega) (by show nF σ < nF (stAdd σ j j); rw [ad_nF]; omega)) rfl dX1_addFace_135 ?_
        refine wg_iret (pc := 138) C hQ dX1_addFace_138 ?_
        exact ⟨rfl, ⟨h7, h44⟩, (hS.tr s127.fr).tr s131.fr, ζ2, h131, hT131⟩
      · refine wg_aload_0 (pc := 93) C dX1_addFace_93 ?_
        refine gX1_33 (pc := 94) C hX.obj rfl dX1_addFace_94 ?_
        refine nX4 (k' := 3 + 4 * (n - (j + 1)).toNat) (n' := 24 + 30 * (n - (j + 1)).toNat) (6, nB σ + j) C q515 dX1_addFace_97 (by omega) (by omega) (fun A1 q1 hq1 hu1 => ?_)
        subst hq1
        have hv1 : ∀ u : Tg, u ≠ (6, nB σ + j) → A1 u = A u := hu1
        rw [← hv1 (0, 0) (tg_ne rfl), ← show A1 (4, 0) = (A, V).1 (4, 0) from hv1 (4, 0) (tg_ne rfl), ← hv1 (3, nF σ) (tg_ne rfl)]
        have hX1 := hX.frN (w1 := (A1, uV V (6, nB σ + j) (ob 3 [vI 0, .null, .null, .null, .null, vI 0]))) hbb (fun u g1 g2 g3 => ⟨hv1 u (tg_r6 (Or.inl rfl) (Int.le_of_eq ad_nB) g3), uV_ne (tg_r6 (Or.inl rfl) (Int.le_of_eq ad_nB) g3)⟩)
        have hbl1 := hX1.bl
        rw [ad_nB] at hbl1
        refine wg_dup (pc := 100) C dX1_addFace_100 rfl ?_
        refine wg_aload_0 (pc := 101) C dX1_addFace_101 ?_
        refine gX1_33 (pc := 102) C hX1.obj rfl dX1_addFace_102 ?_
        refine wg_callFP (pc := 105) C kF_size q477 (tJ2_size hbl1) (rc_of C hbl1 rfl) dX1_addFace_105 rfl rfl (Nat.le_of_ble_eq_true rfl) rfl (by decide) (fun f105 => ?_)
        refine wg_aload_2 (pc := 110) C dX1_addFace_110 ?_
        refine wg_callI (pc := 111) C (k' := 4 * (n - (j + 1)).toNat) (n' := 30 * (n - (j + 1)).toNat) kX4_init q810 (tX4_init (j := nB σ + j) wo_eq) dX1_addFace_111 rfl rfl (Nat.le_of_ble_eq_true rfl) rfl (by decide) (by omega) (by omega) (fun v111 w111 h111 => ?_)
        obtain ⟨e111, g2, l6, l7, l8, l9, u2⟩ := h111
        subst e111
        obtain ⟨A2, V2⟩ := w111
        have hg2 : ∀ u : Tg, u ≠ (7, nB σ + j) → u ≠ (8, nB σ + j) → u ≠ (9, nB σ + j) → A2 u = A1 u := g2
        have l6b : V2 (6, nB σ + j) = some (ob 3 [vI (nB σ + j), .ref (A2 (3, nF σ)), .ref (A2 (7, nB σ + j)), .ref (A2 (8, nB σ + j)), .ref (A2 (9, nB σ + j)), vI 0]) := by rw [hg2 (3, nF σ) (tg_ne rfl) (tg_ne rfl) (tg_ne rfl)]; exact l6
        rw [← hg2 (0, 0) (tg_ne rfl) (tg_ne rfl) (tg_ne rfl), ← hg2 (4, 0) (tg_ne rfl) (tg_ne rfl) (tg_ne rfl), ← hg2 (3, nF σ) (tg_ne rfl) (tg_ne rfl) (tg_ne rfl), ← hg2 (6, nB σ + j) (tg_ne rfl) (tg_ne rfl) (tg_ne rfl)]
        have hE2 : ∀ u : Tg, u ≠ (6, nB σ + j) → u ≠ (7, nB σ + j) → u ≠ (8, nB σ + j) → u ≠ (9, nB σ + j) → A2 u = A u ∧ V2 u = V u := fun u n6 n7 n8 n9 => ⟨(hg2 u n7 n8 n9).trans (hv1 u n6), (u2 u n6 n7 n8 n9).trans (uV_ne n6)⟩
        have hX2 := hX.frN (w1 := (A2, V2)) hbb (fun u g1 g2 g3 => hE2 u (tg_r6 (by decide) (Int.le_of_eq ad_nB) g3) (tg_r6 (by decide) (Int.le_of_eq ad_nB) g3) (tg_r6 (by decide) (Int.le_of_eq ad_nB) g3) (tg_r6 (by decide) (Int.le_of_eq ad_nB) g3))
        have hbl2 := hX2.bl
        have hba2 := hX2.ba
        rw [ad_nB] at hbl2 hba2
        refine wg_callF (pc := 114) C (k' := 4 * (n - (j + 1)).toNat) (n' := 30 * (n - (j + 1)).toNat) kF_add q759 (tJ2_add (t := (4, 0)) (ta := (5, 0)) (Cn := RX4) (tg_ne rfl) hbl2 hba2 (by omega) (by omega) (by decide) (RcA.mk l6 rfl (tg_ne rfl) (tg_ne rfl)) (by decide +kernel)) (rc_of C hbl2 rfl) dX1_addFace_114 rfl rfl (Nat.le_of_ble_eq_true rfl) rfl (by decide) (by omega) (by omega) (fun v114 w114 h114 => ?_)
        obtain ⟨e114, a114, l114, r114, u114⟩ := h114
        subst e114
        obtain ⟨A3, V3⟩ := w114
        have b114 : A2 = A3 := Eq.symm a114
        subst b114
        have hS3 : FrX w (A2, V3) := ⟨((hE2 (0, 0) (tg_ne rfl) (tg_ne rfl) (tg_ne rfl) (tg_ne rfl)).1).trans hS.1, fun u hu => ⟨((hE2 u (tg_ge hu rfl) (tg_ge hu rfl) (tg_ge hu rfl) (tg_ge hu rfl)).1).trans (hS.2 u hu).1, ((u114 u (tg_ge hu rfl) (tg_ge hu rfl)).trans (hE2 u (tg_ge hu rfl) (tg_ge hu rfl) (tg_ge hu rfl) (tg_ge hu rfl)).2).trans (hS.2 u hu).2⟩⟩
        have hX3 : HasX (xG X) (A2, V3) (stAdd σ n (j + 1)) (uS ζ 1 0 0 (ζ 1 0 0 + 1)) := hX.addB hO hj0 (fun u _ n6 n7 n8 n9 => (hE2 u n6 n7 n8 n9).1) (fun u _ n6 n7 n8 n9 n4 n5 => (u114 u n4 n5).trans (hE2 u n6 n7 n8 n9).2) ((u114 _ (tg_ne rfl) (tg_ne rfl)).trans l6b) ((u114 _ (tg_ne rfl) (tg_ne rfl)).trans l7) ((u114 _ (tg_ne rfl) (tg_ne rfl)).trans l8) ((u114 _ (tg_ne rfl) (tg_ne rfl)).trans l9) l114 (by rw [show rws A 6 (nB σ + j) = rws A2 6 (nB σ + j) from (rws_in (fun i i0 i1 => (hE2 (6, i) (tg_ni (by omega)) (tg_ne rfl) (tg_ne rfl) (tg_ne rfl)).1)).symm]; exact r114)
        refine wg_pop (pc := 119) C dX1_addFace_119 rfl ?_
        refine wg_iinc_3 (pc := 120) C dX1_addFace_120 rfl ?_
        refine wg_goto (tgt := 88) (pc := 123) C dX1_addFace_123 (by decide) ?_
        exact IH _ (by omega) A2 V3 _ (j + 1) rfl hS3 hX3 (by omega) (by omega)
    refine nX3 (k' := 32) (n' := 240) (3, nF σ) C q613 dX1_addFace_47 (by omega) (by omega) (fun A0 q0 hq0 hu0 => ?_)
    subst hq0
    rw [← show A0 (0, 0) = w.1 (0, 0) from hu0 (0, 0) (tg_ne rfl)]
    have hX0 : HasX (xG X) (A0, uV w.2 (3, nF σ) (ob 2 [vI 0, vI 0, vI 0, vI 0, .null])) σ ζ := hX.frN (fun k a b => ⟨(hO.by a b).1, (hO.by a b).2.1⟩) (fun u g1 g2 g3 => ⟨hu0 u (tg_r3 g2), uV_ne (tg_r3 g2)⟩)
    refine wg_dup (pc := 50) C dX1_addFace_50 rfl ?_
    refine wg_aload_0 (pc := 51) C dX1_addFace_51 ?_
    refine wg_aload_0 (pc := 52) C dX1_addFace_52 ?_
    refine gX1_71 (pc := 53) C hX0.obj rfl dX1_addFace_53 ?_
    refine wg_callFP (pc := 56) C kF_size q477 (tJ2_size hX0.fl) (rc_of C hX0.fl rfl) dX1_addFace_56 rfl rfl (Nat.le_of_ble_eq_true rfl) rfl (by decide) (fun f56 => ?_)
    refine wg_aload_0 (pc := 61) C dX1_addFace_61 ?_
    refine gX1_33 (pc := 62) C hX0.obj rfl dX1_addFace_62 ?_
    refine wg_callFP (pc := 65) C kF_size q477 (tJ2_size hX0.bl) (rc_of C hX0.bl rfl) dX1_addFace_65 rfl rfl (Nat.le_of_ble_eq_true rfl) rfl (by decide) (fun f65 => ?_)
    refine wg_iload_1 (pc := 70) C dX1_addFace_70 ?_
    refine wg_callI (pc := 71) C (k' := 32) (n' := 240) kX3_init q735 (tX3_init (t := (3, nF σ)) wo_eq) dX1_addFace_71 rfl rfl (Nat.le_of_ble_eq_true rfl) rfl (by decide) (by omega) (by omega) (fun v71 w71 h71 => ?_)
    obtain ⟨e71, ew71⟩ := h71
    subst e71
    rw [ew71]
    refine wg_astore_2 (pc := 74) C dX1_addFace_74 rfl ?_
    refine wg_aload_0 (pc := 75) C dX1_addFace_75 ?_
    refine gX1_71 (pc := 76) C ((wo_ne (tg_ne rfl)).trans hX0.obj) rfl dX1_addFace_76 ?_
    refine wg_aload_2 (pc := 79) C dX1_addFace_79 ?_
    have hfl : ((A0, uV (uV w.2 (3, nF σ) (ob 2 [vI 0, vI 0, vI 0, vI 0, .null])) (3, nF σ) (ob 2 [vI (nF σ), vI (nB σ), vI n, vI (-1), .ref (A0 (0, 0))])) : Wo).2 (1, 0) = some (ob 1 [vI (ζ 0 0 0), .ref (A0 (2, 0)), vI (nF σ)]) := (wo_ne (tg_ne rfl)).trans hX0.fl
    have hfa : ((A0, uV (uV w.2 (3, nF σ) (ob 2 [vI 0, vI 0, vI 0, vI 0, .null])) (3, nF σ) (ob 2 [vI (nF σ), vI (nB σ), vI n, vI (-1), .ref (A0 (0, 0))])) : Wo).2 (2, 0) = some (aR (xG X) 3 5 (rws A0 3 (nF σ))) := (wo_ne (tg_ne rfl)).trans hX0.fa
    have hfc : ((A0, uV (uV w.2 (3, nF σ) (ob 2 [vI 0, vI 0, vI 0, vI 0, .null])) (3, nF σ) (ob 2 [vI (nF σ), vI (nB σ), vI n, vI (-1), .ref (A0 (0, 0))])) : Wo).2 (3, nF σ) = some (ob 2 [vI (nF σ), vI (nB σ), vI n, vI (-1), .ref (A0 (0, 0))]) := wo_eq
    refine wg_callF (pc := 80) C (k' := 32) (n' := 240) kF_add q759 (tJ2_add (t := (1, 0)) (ta := (2, 0)) (Cn := RX3) (tg_ne rfl) hfl hfa (by omega) (by omega) (by decide) (RcA.mk hfc rfl (tg_ne rfl) (tg_ne rfl)) (by decide +kernel)) (rc_of C hfl rfl) dX1_addFace_80 rfl rfl (Nat.le_of_ble_eq_true rfl) rfl (by decide) (by omega) (by omega) (fun v80 w80 h80 => ?_)
    obtain ⟨e80, a80, l80, r80, u80⟩ := h80
    subst e80
    obtain ⟨A80, V80⟩ := w80
    have b80 : A0 = A80 := Eq.symm a80
    subst b80
    have hE80 : ∀ u : Tg, u ≠ (3, nF σ) → u ≠ (1, 0) → u ≠ (2, 0) → A0 u = w.1 u ∧ V80 u = w.2 u := fun u n3 n1 n2 => ⟨hu0 u n3, (u80 u n1 n2).trans ((uV_ne n3).trans (uV_ne n3))⟩
    have hS80 : FrX w (A0, V80) := ⟨hu0 (0, 0) (tg_ne rfl), fun u hu => hE80 u (tg_ge hu rfl) (tg_ge hu rfl) (tg_ge hu rfl)⟩
    have hX80 : HasX (xG X) (A0, V80) (stAdd σ n 0) (uS ζ 0 0 0 (ζ 0 0 0 + 1)) := hX.addF hO (fun u g1 g2 => hu0 u g2) (fun u g1 g2 g3 g4 => (hE80 u g2 g3 g4).2) ((u80 (3, nF σ) (tg_ne rfl) (tg_ne rfl)).trans wo_eq) l80 (by rw [show rws w.1 3 (nF σ) = rws A0 3 (nF σ) from (rws_in (fun i i0 i1 => hu0 (3, i) (tg_ni (by omega)))).symm]; exact r80)
    refine wg_pop (pc := 85) C dX1_addFace_85 rfl ?_
    refine wg_iconst (pc := 86) C dX1_addFace_86 ?_
    refine wg_istore_3 (pc := 87) C dX1_addFace_87 rfl ?_
    refine WG.widen (k' := 4 * (n - 0).toNat) (n' := 30 * (n - 0).toNat) (by omega) (by omega) ?_
    refine WG.at (L88 _ A0 V80 (uS ζ 0 0 0 (ζ 0 0 0 + 1)) 0 rfl hS80 hX80 (by omega) (by omega)) rfl ?_ rfl rfl
    rfl
  refine wg_aload_0 (pc := 10) C dX1_addFace_10 ?_
  refine gX1_71 (pc := 11) C hX.obj rfl dX1_addFace_11 ?_
  refine wg_callFP (pc := 14) C kF_size q477 (tJ2_size hX.fl) (rc_of C hX.fl rfl) dX1_addFace_14 rfl rfl (Nat.le_of_ble_eq_true rfl) rfl (by decide) (fun f14 => ?_)
  refine wg_iconst (pc := 19) C dX1_addFace_19 ?_
  refine wg_icmp_ge (tgt := 43) (pc := 20) C dX1_addFace_20 (by decide) (by unfold InR; omega) (by unfold InR; omega) (fun h20 => ?_) (fun h20 => ?_)
  · refine wg_iconst (pc := 43) C dX1_addFace_43 ?_
    refine WG.mask [true, true, false, false] rfl ?_
    refine WG.at L44 rfl rfl ?_ rfl
    first | (rw [if_pos (by omega)]; rfl) | (rw [if_neg (by omega)]; rfl)
  · refine wg_aload_0 (pc := 23) C dX1_addFace_23 ?_
    refine gX1_33 (pc := 24) C hX.obj rfl dX1_addFace_24 ?_
    refine wg_callFP (pc := 27) C kF_size q477 (tJ2_size hX.bl) (rc_of C hX.bl rfl) dX1_addFace_27 rfl rfl (Nat.le_of_ble_eq_true rfl) rfl (by decide) (fun f27 => ?_)
    refine wg_iload_1 (pc := 32) C dX1_addFace_32 ?_
    refine wg_iadd (pc := 33) C dX1_addFace_33 ?_
    refine wg_bipush (pc := 34) C dX1_addFace_34 (by decide) ?_
    refine wg_icmp_gt (tgt := 43) (pc := 36) C dX1_addFace_36 (by decide) (by unfold InR; omega) (by unfold InR; omega) (fun h36 => ?_) (fun h36 => ?_)
    · refine wg_iconst (pc := 43) C dX1_addFace_43 ?_
      refine WG.mask [true, true, false, false] rfl ?_
      refine WG.at L44 rfl rfl ?_ rfl
      first | (rw [if_pos (by omega)]; rfl) | (rw [if_neg (by omega)]; rfl)
    · refine wg_iconst (pc := 39) C dX1_addFace_39 ?_
      refine wg_goto (tgt := 44) (pc := 40) C dX1_addFace_40 (by decide) ?_
      refine WG.mask [true, true, false, false] rfl ?_
      refine WG.at L44 rfl rfl ?_ rfl
      first | (rw [if_pos (by omega)]; rfl) | (rw [if_neg (by omega)]; rfl)

