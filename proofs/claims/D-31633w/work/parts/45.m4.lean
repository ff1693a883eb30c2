/-! the reference: ties, loads, parts -/
set_option maxRecDepth 100000
set_option maxHeartbeats 4000000
theorem tieCnt_lv {σ : St} (h : Ok σ) (p : Int) : sm (fun l => if ties σ l p = 0 then 0 else 1) 0 (levelsOf σ p) = tieCnt σ p := by
  have hl := levelsOf_rng h p
  unfold tieCnt
  rw [← sm_cut _ hl.1 hl.2]
  refine sm_congr fun l _ _ => ?_
  by_cases hc : l < levelsOf σ p
  · rw [if_pos hc]
  · rw [if_neg hc]
    by_cases ht : ties σ l p = 0
    · rw [if_pos ht]
    · exact absurd (ties_lv ht).2.2 hc
theorem tieC_rng (σ : St) (p : Int) {j : Int} (h1 : j ≤ 8) : 0 ≤ sm (fun l => if ties σ l p = 0 then 0 else 1) 0 j ∧ sm (fun l => if ties σ l p = 0 then 0 else 1) 0 j ≤ 8 := by
  refine ⟨sm_nonneg (fun k _ _ => by split <;> omega), Int.le_trans (sm_le (m := 1) (by omega) (fun k _ _ => by split <;> omega)) (by omega)⟩
theorem first_pos {σ : St} (h : Ok σ) {f : Int} (h0 : 0 < f) (h1 : f < nF σ) : 0 < first σ f := by
  have hc := h.fc (f := f - 1) (by omega) (by omega)
  have := hc.2.2.2.1 (by omega)
  rw [show f - 1 + 1 = f by omega] at this
  omega
theorem ownP_M {σ : St} (h : Ok σ) {f : Int} (h0 : 0 ≤ f) (h1 : f < nF σ) : (if 0 < first σ f then first σ f + 1 else 0) = ownP σ f := by
  unfold ownP
  by_cases hf : f = 0
  · subst hf
    rw [if_pos rfl, h.f0 (by omega), if_neg (by omega)]
  · rw [if_neg hf, if_pos (first_pos h (by omega) h1)]
theorem mnN_le (g : Int → Int) (a : Int) (n : Nat) : mnN g a n ≤ 0 := by
  induction n with
  | zero => exact Int.le_refl 0
  | succ n ih =>
    show (if g (a + n) < mnN g a n then g (a + n) else mnN g a n) ≤ 0
    split <;> omega
theorem mxN_ge (g : Int → Int) (a : Int) (n : Nat) : 0 ≤ mxN g a n := by
  induction n with
  | zero => exact Int.le_refl 0
  | succ n ih =>
    show 0 ≤ (if mxN g a n < g (a + n) then g (a + n) else mxN g a n)
    split <;> omega
def prtO (σ : St) (f kd g : Int) : Int := if f = -1 ∨ f = g then prtFace σ g kd else 0
theorem prtO_all {σ : St} {f kd : Int} (hf : f = -1 ∨ (0 ≤ f ∧ f < nF σ)) : sm (prtO σ f kd) 0 (nF σ) = prtA σ f kd := by
  unfold prtA
  by_cases h : f = -1
  · rw [if_pos h]
    unfold allPrt
    exact sm_congr fun g _ _ => if_pos (Or.inl h)
  · rw [if_neg h]
    have hr : 0 ≤ f ∧ f < nF σ := by omega
    rw [sm_split _ hr.1 (Int.le_of_lt hr.2), sm_split (a := f) (b := f + 1) (c := nF σ) _ (by omega) (by omega), sm_succ _ (Int.le_refl f), sm_nil _ (Int.le_refl f)]
    rw [sm_congr (f := prtO σ f kd) (a := 0) (b := f) (g := fun _ => 0) (fun g _ h1 => if_neg (by omega)), sm_congr (f := prtO σ f kd) (a := f + 1) (b := nF σ) (g := fun _ => 0) (fun g h0 _ => if_neg (by omega)), sm_zero, sm_zero]
    unfold prtO
    rw [if_pos (Or.inr rfl)]
    omega
theorem clr_lft (σ : St) (b n : Int) : clr (uS σ 4 b 0 n) b n 8 = stLft σ b n := by
  funext c i l
  show (if (c = 5 ∨ c = 6 ∨ c = 7) ∧ i = b ∧ n ≤ l ∧ l < 8 then (0 : Int) else if c = 4 ∧ i = b ∧ l = 0 then n else σ c i l) = if c = 4 ∧ i = b ∧ l = 0 then n else if (c = 5 ∨ c = 6 ∨ c = 7) ∧ i = b ∧ n ≤ l ∧ l < 8 then 0 else σ c i l
  by_cases h1 : (c = 5 ∨ c = 6 ∨ c = 7) ∧ i = b ∧ n ≤ l ∧ l < 8
  · rw [if_pos h1, if_neg (by omega), if_pos h1]
  · rw [if_neg h1, if_neg h1]
theorem tX5_setLifts {G : Gm} {w : Wo} {σ ζ : St} (hM : HasM G w σ ζ) (hO : Ok σ) {b : Int} (hb0 : 0 ≤ b) (hb1 : b < nB σ) {n : Int} (hn0 : 0 ≤ n) (hn1 : n ≤ 8) : Ct G mX5_setLifts 1 0 0 w [.ref (w.1 (23, b)), vI n] (fun v w1 => v = none ∧ SmM w w1 ∧ HasM G w1 (stLft σ b n) ζ) := by
  refine ct_of [some (.ref (w.1 (23, b))), some (vI n), none] plX5 rfl (Nat.le_of_ble_eq_true rfl) rfl ?_
  intro X hG C hnm hQ
  subst hG
  change CxOk X cX5_setLifts 3 RX5 (none) 1 at C
  have hB := hO.hB
  have hF := hO.hF
  have hbc := hM.bc
  have hfc0 := hM.fc
  refine wg_aload_0 (pc := 0) C dX5_setLifts_0 ?_
  refine wg_iload_1 (pc := 1) C dX5_setLifts_1 ?_
  refine pX5_29 (pc := 2) C (hM.bay hb0 hb1) rfl dX5_setLifts_2 ?_
  have L7 : ∀ (N : Nat) (V : Tg → Option va_E) (j : Int), (8 - j).toNat = N → SmM w (w.1, V) → HasM (xG X) (w.1, V) (clr (uS σ 4 b 0 n) b n j) ζ → n ≤ j → j ≤ 8 → WG X 7 [some (.ref (w.1 (23, b))), some (vI n), some (vI j)] [] (w.1, V) 0 0 := by
    intro N
    induction N using Nat.strongRecOn with | _ N IH => ?_
    intro V j hN hS hM hj0 hj1
    refine wg_iload_2 (pc := 7) C dX5_setLifts_7 ?_
    refine wg_bipush (pc := 8) C dX5_setLifts_8 (by decide) ?_
    refine wg_icmp_ge (tgt := 40) (pc := 10) C dX5_setLifts_10 (by decide) (by unfold InR; omega) (by unfold InR; omega) (fun h10 => ?_) (fun h10 => ?_)
    · refine wg_vret (pc := 40) C hQ dX5_setLifts_40 ?_
      have e : j = 8 := by omega
      subst e
      exact ⟨rfl, hS, by rw [← clr_lft]; exact hM⟩
    · refine wg_aload_0 (pc := 13) C dX5_setLifts_13 ?_
      refine gX5_9 (pc := 14) C (hM.bay hb0 hb1) rfl dX5_setLifts_14 ?_
      refine wg_iload_2 (pc := 17) C dX5_setLifts_17 ?_
      refine wg_iconst (pc := 18) C dX5_setLifts_18 ?_
      refine wg_zast (pc := 19) C (hM.bd hb0 hb1) rfl (by omega) (by omega) (by decide) (Or.inl rfl) dX5_setLifts_19 ?_
      replace hM := hM.wBd b j 0
      refine wg_aload_0 (pc := 20) C dX5_setLifts_20 ?_
      refine gX5_15 (pc := 21) C (hM.bay hb0 hb1) rfl dX5_setLifts_21 ?_
      refine wg_iload_2 (pc := 24) C dX5_setLifts_24 ?_
      refine wg_iconst (pc := 25) C dX5_setLifts_25 ?_
      refine wg_iast (pc := 26) C (hM.so hb0 hb1) rfl (by omega) (by omega) (by decide) dX5_setLifts_26 ?_
      replace hM := hM.wSo b j 0
      refine wg_aload_0 (pc := 27) C dX5_setLifts_27 ?_
      refine gX5_19 (pc := 28) C (hM.bay hb0 hb1) rfl dX5_setLifts_28 ?_
      refine wg_iload_2 (pc := 31) C dX5_setLifts_31 ?_
      refine wg_iconst (pc := 32) C dX5_setLifts_32 ?_
      refine wg_iast (pc := 33) C (hM.la hb0 hb1) rfl (by omega) (by omega) (by decide) dX5_setLifts_33 ?_
      replace hM := hM.wLa b j 0
      refine wg_iinc_2 (pc := 34) C dX5_setLifts_34 rfl ?_
      refine wg_goto (tgt := 7) (pc := 37) C dX5_setLifts_37 (by decide) ?_
      exact IH _ (by omega) _ (j + 1) rfl (((hS.uv rfl).uv rfl).uv rfl) (by rw [← clr_s _ b hj0]; exact hM) (by omega) (by omega)
  replace hM := hM.wLft b n
  refine wg_iload_1 (pc := 5) C dX5_setLifts_5 ?_
  refine wg_istore_2 (pc := 6) C dX5_setLifts_6 rfl ?_
  exact L7 _ _ n rfl ((SmM.rf w).uv rfl) (by rw [clr_0]; exact hM) (by omega) (by omega)

theorem tX2_isFree {G : Gm} {w : Wo} {σ ζ : St} (hM : HasM G w σ ζ) (hO : Ok σ) {p l : Int} (hz : ∀ q, 0 ≤ q → q < nB σ + 1 → ζ 6 q 0 = 0 ∨ ζ 6 q 0 = 1) (hp0 : -1 ≤ p) (hp1 : p ≤ nB σ + 1) (hl0 : 0 ≤ l) (hl1 : l < 8) : PCt G mX2_isFree 5 w [.ref (w.1 (20, 0)), vI p, vI l] (vI (if free σ l (fun q => ζ 6 q 0) p then 1 else 0)) (True) := by
  refine ⟨ct_of [some (.ref (w.1 (20, 0))), some (vI p), some (vI l)] plX2 rfl (Nat.le_of_ble_eq_true rfl) rfl ?_, trivial⟩
  intro X hG C hnm hQ
  subst hG
  change CxOk X cX2_isFree 3 RX2 (some .boolean) 5 at C
  have hB := hO.hB
  have hF := hO.hF
  have hbc := hM.bc
  have hfc0 := hM.fc
  have hps := pos_rng hO
  refine wg_aload_0 (pc := 0) C dX2_isFree_0 ?_
  refine wg_iload_1 (pc := 1) C dX2_isFree_1 ?_
  refine wg_callVP (pc := 2) C kX2_isPosition q1229 (tX2_isPosition hM hO (by unfold InR; omega)) (rc_of C hM.obj rfl) dX2_isFree_2 rfl rfl (Nat.le_of_ble_eq_true rfl) rfl (by decide) (fun f2 => ?_)
  refine wg_ifeqB (tgt := 41) (pc := 5) C dX2_isFree_5 (by decide) (fun h5 => ?_) (fun h5 => ?_)
  · refine wg_iconst (pc := 41) C dX2_isFree_41 ?_
    refine wg_zret (pc := 42) C hQ dX2_isFree_42 (by omega) ?_
    exact ⟨by first | exact vB_t ⟨⟨h5.1, h5.2, by omega⟩, by omega, by show ζ 6 p 0 = 0; omega⟩ | exact vB_f (fun z => h5 ⟨z.1.1, z.1.2.1⟩) | exact vB_f (fun z => absurd z.1.2.2 (by omega)) | exact vB_f (fun z => absurd z.2.1 (by omega)) | exact vB_f (fun z => absurd z.2.2 (by show ¬ ζ 6 p 0 = 0; omega)), rfl⟩
  · have hz6 := hz p h5.1 (by omega)
    have hop := hO.op l p
    refine wg_iload_2 (pc := 8) C dX2_isFree_8 ?_
    refine wg_aload_0 (pc := 9) C dX2_isFree_9 ?_
    refine wg_iload_1 (pc := 10) C dX2_isFree_10 ?_
    refine wg_callVP (pc := 11) C kX2_levelsOf q1243 (tX2_levelsOf hM hO (by omega) (by omega)) (rc_of C hM.obj rfl) dX2_isFree_11 rfl rfl (Nat.le_of_ble_eq_true rfl) rfl (by decide) (fun f11 => ?_)
    refine wg_icmp_ge (tgt := 41) (pc := 14) C dX2_isFree_14 (by decide) (by unfold InR; omega) (by unfold InR; omega) (fun h14 => ?_) (fun h14 => ?_)
    · refine wg_iconst (pc := 41) C dX2_isFree_41 ?_
      refine wg_zret (pc := 42) C hQ dX2_isFree_42 (by omega) ?_
      exact ⟨by first | exact vB_t ⟨⟨h5.1, h5.2, by omega⟩, by omega, by show ζ 6 p 0 = 0; omega⟩ | exact vB_f (fun z => h5 ⟨z.1.1, z.1.2.1⟩) | exact vB_f (fun z => absurd z.1.2.2 (by omega)) | exact vB_f (fun z => absurd z.2.1 (by omega)) | exact vB_f (fun z => absurd z.2.2 (by show ¬ ζ 6 p 0 = 0; omega)), rfl⟩
    · refine wg_aload_0 (pc := 17) C dX2_isFree_17 ?_
      refine gX2_29 (pc := 18) C hM.obj rfl dX2_isFree_18 ?_
      refine wg_iload_1 (pc := 21) C dX2_isFree_21 ?_
      refine wg_aald (pc := 22) C rfl rfl hM.oo rfl (by omega) (by omega) (by decide) (rws_at (by omega) (by omega)) dX2_isFree_22 ?_
      refine wg_iload_2 (pc := 23) C dX2_isFree_23 ?_
      refine wg_zald (pc := 24) C (hM.op (by omega) (by omega)) rfl (by omega) (by omega) (by decide) dX2_isFree_24 ?_
      refine wg_if_ne (tgt := 41) (pc := 25) C dX2_isFree_25 (by decide) (by unfold InR; omega) (fun h25 => ?_) (fun h25 => ?_)
      · refine wg_iconst (pc := 41) C dX2_isFree_41 ?_
        refine wg_zret (pc := 42) C hQ dX2_isFree_42 (by omega) ?_
        exact ⟨by first | exact vB_t ⟨⟨h5.1, h5.2, by omega⟩, by omega, by show ζ 6 p 0 = 0; omega⟩ | exact vB_f (fun z => h5 ⟨z.1.1, z.1.2.1⟩) | exact vB_f (fun z => absurd z.1.2.2 (by omega)) | exact vB_f (fun z => absurd z.2.1 (by omega)) | exact vB_f (fun z => absurd z.2.2 (by show ¬ ζ 6 p 0 = 0; omega)), rfl⟩
      · refine wg_aload_0 (pc := 28) C dX2_isFree_28 ?_
        refine gX2_38 (pc := 29) C hM.obj rfl dX2_isFree_29 ?_
        refine wg_iload_1 (pc := 32) C dX2_isFree_32 ?_
        refine wg_zald (pc := 33) C hM.ti rfl (by omega) (by omega) (by decide) dX2_isFree_33 ?_
        refine wg_if_ne (tgt := 41) (pc := 34) C dX2_isFree_34 (by decide) (by unfold InR; omega) (fun h34 => ?_) (fun h34 => ?_)
        · refine wg_iconst (pc := 41) C dX2_isFree_41 ?_
          refine wg_zret (pc := 42) C hQ dX2_isFree_42 (by omega) ?_
          exact ⟨by first | exact vB_t ⟨⟨h5.1, h5.2, by omega⟩, by omega, by show ζ 6 p 0 = 0; omega⟩ | exact vB_f (fun z => h5 ⟨z.1.1, z.1.2.1⟩) | exact vB_f (fun z => absurd z.1.2.2 (by omega)) | exact vB_f (fun z => absurd z.2.1 (by omega)) | exact vB_f (fun z => absurd z.2.2 (by show ¬ ζ 6 p 0 = 0; omega)), rfl⟩
        · refine wg_iconst (pc := 37) C dX2_isFree_37 ?_
          refine wg_goto (tgt := 42) (pc := 38) C dX2_isFree_38 (by decide) ?_
          refine wg_zret (pc := 42) C hQ dX2_isFree_42 (by omega) ?_
          exact ⟨by first | exact vB_t ⟨⟨h5.1, h5.2, by omega⟩, by omega, by show ζ 6 p 0 = 0; omega⟩ | exact vB_f (fun z => h5 ⟨z.1.1, z.1.2.1⟩) | exact vB_f (fun z => absurd z.1.2.2 (by omega)) | exact vB_f (fun z => absurd z.2.1 (by omega)) | exact vB_f (fun z => absurd z.2.2 (by show ¬ ζ 6 p 0 = 0; omega)), rfl⟩

theorem tX2_findTies {G : Gm} {w : Wo} {σ ζ : St} (hM : HasM G w σ ζ) (hO : Ok σ) {l : Int} (hl0 : 0 ≤ l) (hl1 : l < 8) : Ct G mX2_findTies 6 0 0 w [.ref (w.1 (20, 0)), vI l] (fun v w1 => v = none ∧ SmM w w1 ∧ ∃ ζ' : St, HasM G w1 σ ζ' ∧ ZK ζ ζ' ∧ ∀ p, 0 ≤ p → p ≤ nB σ → ζ' 6 p 0 = ties σ l p ∧ ζ' 5 p 0 = tieAt σ l p) := by
  refine ct_of [some (.ref (w.1 (20, 0))), some (vI l), none] plX2 rfl (Nat.le_of_ble_eq_true rfl) rfl ?_
  intro X hG C hnm hQ
  subst hG
  change CxOk X cX2_findTies 3 RX2 (none) 6 at C
  have hB := hO.hB
  have hF := hO.hF
  have hbc := hM.bc
  have hfc0 := hM.fc
  have hps := pos_rng hO
  have L74 : ∀ (N : Nat) (V : Tg → Option va_E) (ζ2 : St) (k : Int), (nB σ + 1 - k).toNat = N → SmM w (w.1, V) → HasM (xG X) (w.1, V) σ ζ2 → ZK ζ ζ2 → 0 ≤ k → k ≤ nB σ + 1 → FmOk ζ2 (nB σ + 1) (tieN σ l k.toNat) → WG X 74 [some (.ref (w.1 (20, 0))), some (vI l), some (vI k)] [] (w.1, V) 0 0 := by
    intro N
    induction N using Nat.strongRecOn with | _ N IH2 => ?_
    intro V ζ2 k hN2 hS hM hZ hk0 hk1 hF
    have hz := hF.z01 hO
    have hop := hO.op l k
    have hbc := hM.bc
    have hfc0 := hM.fc
    have L147 : ∀ (to : Int), k ≤ nB σ → (asks σ k l ∧ ¬ σ 8 l k = 0) → to = tieTo σ l (fun q => ζ2 6 q 0) k → (-1 ≤ to ∧ to ≤ 24) → WG X 147 [some (.ref (w.1 (20, 0))), some (vI l), some (vI k)] [vI to, vI k, .ref (w.1 (32, 0))] (w.1, V) 0 0 := by
      intro to hkB hak hto hr
      refine wg_iast (pc := 147) C hM.tf rfl (by omega) (by omega) (by decide) dX2_findTies_147 ?_
      replace hM := hM.wTf k to
      refine wg_aload_0 (pc := 148) C dX2_findTies_148 ?_
      refine gX2_35 (pc := 149) C hM.obj rfl dX2_findTies_149 ?_
      refine wg_iload_2 (pc := 152) C dX2_findTies_152 ?_
      refine wg_iald (pc := 153) C hM.tf rfl (by omega) (by omega) (by decide) dX2_findTies_153 ?_
      rw [show uS ζ2 5 k 0 to 5 k 0 = to from uS_at _ _ _ _ _]
      refine wg_iconst (pc := 154) C dX2_findTies_154 ?_
      refine wg_icmp_eq (tgt := 170) (pc := 155) C dX2_findTies_155 (by decide) (by unfold InR; omega) (by unfold InR; omega) (fun h155 => ?_) (fun h155 => ?_)
      · refine wg_iinc_2 (pc := 170) C dX2_findTies_170 rfl ?_
        refine wg_goto (tgt := 74) (pc := 173) C dX2_findTies_173 (by decide) ?_
        first
          | exact IH2 _ (by omega) _ _ (k + 1) rfl ((hS.uv rfl).uv rfl) (hM.wTi to 1) ((hZ.us (by decide) _ _ _).us (by decide) _ _ _) (by omega) (by omega) (by have h := hF.move hk0 (by omega) hak; unfold mvM at h; rw [← hto, if_neg h155] at h; exact h)
          | exact IH2 _ (by omega) _ _ (k + 1) rfl (hS.uv rfl) hM (hZ.us (by decide) _ _ _) (by omega) (by omega) (by have h := hF.move hk0 (by omega) hak; unfold mvM at h; rw [← hto, if_pos h155] at h; exact h)
          | exact IH2 _ (by omega) _ ζ2 (k + 1) rfl hS hM hZ (by omega) (by omega) (hF.stay hk0 (fun z => by first | exact h93 z.1 | exact z.2 h104))
      · refine wg_aload_0 (pc := 158) C dX2_findTies_158 ?_
        refine gX2_38 (pc := 159) C hM.obj rfl dX2_findTies_159 ?_
        refine wg_aload_0 (pc := 162) C dX2_findTies_162 ?_
        refine gX2_35 (pc := 163) C hM.obj rfl dX2_findTies_163 ?_
        refine wg_iload_2 (pc := 166) C dX2_findTies_166 ?_
        refine wg_iald (pc := 167) C hM.tf rfl (by omega) (by omega) (by decide) dX2_findTies_167 ?_
        rw [show uS ζ2 5 k 0 to 5 k 0 = to from uS_at _ _ _ _ _]
        refine wg_iconst (pc := 168) C dX2_findTies_168 ?_
        refine wg_zast (pc := 169) C hM.ti rfl (by omega) (by omega) (by decide) (Or.inr rfl) dX2_findTies_169 ?_
        refine wg_iinc_2 (pc := 170) C dX2_findTies_170 rfl ?_
        refine wg_goto (tgt := 74) (pc := 173) C dX2_findTies_173 (by decide) ?_
        first
          | exact IH2 _ (by omega) _ _ (k + 1) rfl ((hS.uv rfl).uv rfl) (hM.wTi to 1) ((hZ.us (by decide) _ _ _).us (by decide) _ _ _) (by omega) (by omega) (by have h := hF.move hk0 (by omega) hak; unfold mvM at h; rw [← hto, if_neg h155] at h; exact h)
          | exact IH2 _ (by omega) _ _ (k + 1) rfl (hS.uv rfl) hM (hZ.us (by decide) _ _ _) (by omega) (by omega) (by have h := hF.move hk0 (by omega) hak; unfold mvM at h; rw [← hto, if_pos h155] at h; exact h)
          | exact IH2 _ (by omega) _ ζ2 (k + 1) rfl hS hM hZ (by omega) (by omega) (hF.stay hk0 (fun z => by first | exact h93 z.1 | exact z.2 h104))
    refine wg_iload_2 (pc := 74) C dX2_findTies_74 ?_
    refine wg_aload_0 (pc := 75) C dX2_findTies_75 ?_
    refine gX2_16 (pc := 76) C hM.obj rfl dX2_findTies_76 ?_
    refine wg_callFP (pc := 79) C kF_size q1161 (tJ2_size hM.bl) (rc_of C hM.bl rfl) dX2_findTies_79 rfl rfl (Nat.le_of_ble_eq_true rfl) rfl (by decide) (fun f79 => ?_)
    refine wg_icmp_gt (tgt := 176) (pc := 84) C dX2_findTies_84 (by decide) (by unfold InR; omega) (by unfold InR; omega) (fun h84 => ?_) (fun h84 => ?_)
    · refine wg_vret (pc := 176) C hQ dX2_findTies_176 ?_
      have e : k = nB σ + 1 := by omega
      subst e
      exact ⟨rfl, hS, ζ2, hM, hZ, hF.fin hO⟩
    · refine wg_aload_0 (pc := 87) C dX2_findTies_87 ?_
      refine wg_iload_2 (pc := 88) C dX2_findTies_88 ?_
      refine wg_iload_1 (pc := 89) C dX2_findTies_89 ?_
      refine wg_callVP (pc := 90) C kX2_asksFor q1335 (tX2_asksFor hM hO (by omega) (by omega) (by omega) (by omega)) (rc_of C hM.obj rfl) dX2_findTies_90 rfl rfl (Nat.le_of_ble_eq_true rfl) rfl (by decide) (fun f90 => ?_)
      refine wg_ifeqB (tgt := 170) (pc := 93) C dX2_findTies_93 (by decide) (fun h93 => ?_) (fun h93 => ?_)
      · refine wg_iinc_2 (pc := 170) C dX2_findTies_170 rfl ?_
        refine wg_goto (tgt := 74) (pc := 173) C dX2_findTies_173 (by decide) ?_
        first
          | exact IH2 _ (by omega) _ _ (k + 1) rfl ((hS.uv rfl).uv rfl) (hM.wTi to 1) ((hZ.us (by decide) _ _ _).us (by decide) _ _ _) (by omega) (by omega) (by have h := hF.move hk0 (by omega) hak; unfold mvM at h; rw [← hto, if_neg h155] at h; exact h)
          | exact IH2 _ (by omega) _ _ (k + 1) rfl (hS.uv rfl) hM (hZ.us (by decide) _ _ _) (by omega) (by omega) (by have h := hF.move hk0 (by omega) hak; unfold mvM at h; rw [← hto, if_pos h155] at h; exact h)
          | exact IH2 _ (by omega) _ ζ2 (k + 1) rfl hS hM hZ (by omega) (by omega) (hF.stay hk0 (fun z => by first | exact h93 z.1 | exact z.2 h104))
      · refine wg_aload_0 (pc := 96) C dX2_findTies_96 ?_
        refine gX2_29 (pc := 97) C hM.obj rfl dX2_findTies_97 ?_
        refine wg_iload_2 (pc := 100) C dX2_findTies_100 ?_
        refine wg_aald (pc := 101) C rfl rfl hM.oo rfl (by omega) (by omega) (by decide) (rws_at (by omega) (by omega)) dX2_findTies_101 ?_
        refine wg_iload_1 (pc := 102) C dX2_findTies_102 ?_
        refine wg_zald (pc := 103) C (hM.op (by omega) (by omega)) rfl (by omega) (by omega) (by decide) dX2_findTies_103 ?_
        refine wg_if_eq (tgt := 170) (pc := 104) C dX2_findTies_104 (by decide) (by unfold InR; omega) (fun h104 => ?_) (fun h104 => ?_)
        · refine wg_iinc_2 (pc := 170) C dX2_findTies_170 rfl ?_
          refine wg_goto (tgt := 74) (pc := 173) C dX2_findTies_173 (by decide) ?_
          first
            | exact IH2 _ (by omega) _ _ (k + 1) rfl ((hS.uv rfl).uv rfl) (hM.wTi to 1) ((hZ.us (by decide) _ _ _).us (by decide) _ _ _) (by omega) (by omega) (by have h := hF.move hk0 (by omega) hak; unfold mvM at h; rw [← hto, if_neg h155] at h; exact h)
            | exact IH2 _ (by omega) _ _ (k + 1) rfl (hS.uv rfl) hM (hZ.us (by decide) _ _ _) (by omega) (by omega) (by have h := hF.move hk0 (by omega) hak; unfold mvM at h; rw [← hto, if_pos h155] at h; exact h)
            | exact IH2 _ (by omega) _ ζ2 (k + 1) rfl hS hM hZ (by omega) (by omega) (hF.stay hk0 (fun z => by first | exact h93 z.1 | exact z.2 h104))
        · refine wg_aload_0 (pc := 107) C dX2_findTies_107 ?_
          refine gX2_35 (pc := 108) C hM.obj rfl dX2_findTies_108 ?_
          refine wg_iload_2 (pc := 111) C dX2_findTies_111 ?_
          refine wg_aload_0 (pc := 112) C dX2_findTies_112 ?_
          refine wg_iload_2 (pc := 113) C dX2_findTies_113 ?_
          refine wg_iconst (pc := 114) C dX2_findTies_114 ?_
          refine wg_iadd (pc := 115) C dX2_findTies_115 ?_
          refine wg_iload_1 (pc := 116) C dX2_findTies_116 ?_
          refine wg_callVP (pc := 117) C kX2_isFree q1339 (tX2_isFree hM hO hz (by omega) (by omega) (by omega) (by omega)) (rc_of C hM.obj rfl) dX2_findTies_117 rfl rfl (Nat.le_of_ble_eq_true rfl) rfl (by decide) (fun f117 => ?_)
          refine wg_ifeqB (tgt := 129) (pc := 120) C dX2_findTies_120 (by decide) (fun h120 => ?_) (fun h120 => ?_)
          · refine wg_aload_0 (pc := 129) C dX2_findTies_129 ?_
            refine wg_iload_2 (pc := 130) C dX2_findTies_130 ?_
            refine wg_iconst (pc := 131) C dX2_findTies_131 ?_
            refine wg_isub (pc := 132) C dX2_findTies_132 ?_
            refine wg_iload_1 (pc := 133) C dX2_findTies_133 ?_
            refine wg_callVP (pc := 134) C kX2_isFree q1339 (tX2_isFree hM hO hz (by omega) (by omega) (by omega) (by omega)) (rc_of C hM.obj rfl) dX2_findTies_134 rfl rfl (Nat.le_of_ble_eq_true rfl) rfl (by decide) (fun f134 => ?_)
            refine wg_ifeqB (tgt := 146) (pc := 137) C dX2_findTies_137 (by decide) (fun h137 => ?_) (fun h137 => ?_)
            · refine wg_iconst (pc := 146) C dX2_findTies_146 ?_
              first
                | exact L147 _ (by omega) ⟨h93, h104⟩ (by unfold tieTo; rw [if_pos h120]) (by have := h120.1.2.1; omega)
                | exact L147 _ (by omega) ⟨h93, h104⟩ (by unfold tieTo; rw [if_neg h120, if_pos h137]) (by have := h137.1.2.1; have := h137.1.1; omega)
                | exact L147 _ (by omega) ⟨h93, h104⟩ (by unfold tieTo; rw [if_neg h120, if_neg h137]) (by omega)
            · refine wg_iload_2 (pc := 140) C dX2_findTies_140 ?_
              refine wg_iconst (pc := 141) C dX2_findTies_141 ?_
              refine wg_isub (pc := 142) C dX2_findTies_142 ?_
              refine wg_goto (tgt := 147) (pc := 143) C dX2_findTies_143 (by decide) ?_
              first
                | exact L147 _ (by omega) ⟨h93, h104⟩ (by unfold tieTo; rw [if_pos h120]) (by have := h120.1.2.1; omega)
                | exact L147 _ (by omega) ⟨h93, h104⟩ (by unfold tieTo; rw [if_neg h120, if_pos h137]) (by have := h137.1.2.1; have := h137.1.1; omega)
                | exact L147 _ (by omega) ⟨h93, h104⟩ (by unfold tieTo; rw [if_neg h120, if_neg h137]) (by omega)
          · refine wg_iload_2 (pc := 123) C dX2_findTies_123 ?_
            refine wg_iconst (pc := 124) C dX2_findTies_124 ?_
            refine wg_iadd (pc := 125) C dX2_findTies_125 ?_
            refine wg_goto (tgt := 147) (pc := 126) C dX2_findTies_126 (by decide) ?_
            first
              | exact L147 _ (by omega) ⟨h93, h104⟩ (by unfold tieTo; rw [if_pos h120]) (by have := h120.1.2.1; omega)
              | exact L147 _ (by omega) ⟨h93, h104⟩ (by unfold tieTo; rw [if_neg h120, if_pos h137]) (by have := h137.1.2.1; have := h137.1.1; omega)
              | exact L147 _ (by omega) ⟨h93, h104⟩ (by unfold tieTo; rw [if_neg h120, if_neg h137]) (by omega)
  have L2 : ∀ (N : Nat) (V : Tg → Option va_E) (ζ2 : St) (k : Int), (nB σ + 1 - k).toNat = N → SmM w (w.1, V) → HasM (xG X) (w.1, V) σ ζ2 → ZK ζ ζ2 → 0 ≤ k → k ≤ nB σ + 1 → FmOk ζ2 k (tie0 σ l) → WG X 2 [some (.ref (w.1 (20, 0))), some (vI l), some (vI k)] [] (w.1, V) 0 0 := by
    intro N
    induction N using Nat.strongRecOn with | _ N IH => ?_
    intro V ζ2 k hN hS hM hZ hk0 hk1 hF
    have hop := hO.op l k
    have hbc := hM.bc
    have hfc0 := hM.fc
    have L45 : ∀ (s : Int), k ≤ nB σ → (s = 0 ∨ s = 1) → s = (tie0 σ l).1 k → WG X 45 [some (.ref (w.1 (20, 0))), some (vI l), some (vI k)] [vI s, vI k, .ref (w.1 (33, 0))] (w.1, V) 0 0 := by
      intro s hkB hs01 hst
      have L65 : ∀ (q : Int), q = (tie0 σ l).2 k → WG X 65 [some (.ref (w.1 (20, 0))), some (vI l), some (vI k)] [vI q, vI k, .ref (w.1 (32, 0))] (w.1, uV V (33, 0) (aZ (xG X) 25 (up (fun p => ζ2 6 p 0) k s))) 0 0 := by
        intro q hq
        have hM := hM.wTi k s
        refine wg_iast (pc := 65) C hM.tf rfl (by omega) (by omega) (by decide) dX2_findTies_65 ?_
        replace hM := hM.wTf k q
        refine wg_iinc_2 (pc := 66) C dX2_findTies_66 rfl ?_
        refine wg_goto (tgt := 2) (pc := 69) C dX2_findTies_69 (by decide) ?_
        exact IH _ (by omega) _ _ (k + 1) rfl ((hS.uv rfl).uv rfl) hM ((hZ.us (by decide) _ _ _).us (by decide) _ _ _) (by omega) (by omega) (hF.one hst hq)
      refine wg_zast (pc := 45) C hM.ti rfl (by omega) (by omega) (by decide) hs01 dX2_findTies_45 ?_
      replace hM := hM.wTi k s
      refine wg_aload_0 (pc := 46) C dX2_findTies_46 ?_
      refine gX2_35 (pc := 47) C hM.obj rfl dX2_findTies_47 ?_
      refine wg_iload_2 (pc := 50) C dX2_findTies_50 ?_
      refine wg_aload_0 (pc := 51) C dX2_findTies_51 ?_
      refine gX2_38 (pc := 52) C hM.obj rfl dX2_findTies_52 ?_
      refine wg_iload_2 (pc := 55) C dX2_findTies_55 ?_
      refine wg_zald (pc := 56) C hM.ti rfl (by omega) (by omega) (by decide) dX2_findTies_56 ?_
      rw [show uS ζ2 6 k 0 s 6 k 0 = s from uS_at _ _ _ _ _]
      refine wg_if_eq (tgt := 64) (pc := 57) C dX2_findTies_57 (by decide) (by unfold InR; omega) (fun h57 => ?_) (fun h57 => ?_)
      · refine wg_iconst (pc := 64) C dX2_findTies_64 ?_
        exact L65 _ (by show _ = if asks σ k l ∧ σ 8 l k = 0 then k else -1; have e : s = if asks σ k l ∧ σ 8 l k = 0 then (1 : Int) else 0 := hst; split at e <;> first | omega | rw [if_pos (by assumption)] | rw [if_neg (by assumption)])
      · refine wg_iload_2 (pc := 60) C dX2_findTies_60 ?_
        refine wg_goto (tgt := 65) (pc := 61) C dX2_findTies_61 (by decide) ?_
        exact L65 _ (by show _ = if asks σ k l ∧ σ 8 l k = 0 then k else -1; have e : s = if asks σ k l ∧ σ 8 l k = 0 then (1 : Int) else 0 := hst; split at e <;> first | omega | rw [if_pos (by assumption)] | rw [if_neg (by assumption)])
    refine wg_iload_2 (pc := 2) C dX2_findTies_2 ?_
    refine wg_aload_0 (pc := 3) C dX2_findTies_3 ?_
    refine gX2_16 (pc := 4) C hM.obj rfl dX2_findTies_4 ?_
    refine wg_callFP (pc := 7) C kF_size q1161 (tJ2_size hM.bl) (rc_of C hM.bl rfl) dX2_findTies_7 rfl rfl (Nat.le_of_ble_eq_true rfl) rfl (by decide) (fun f7 => ?_)
    refine wg_icmp_gt (tgt := 72) (pc := 12) C dX2_findTies_12 (by decide) (by unfold InR; omega) (by unfold InR; omega) (fun h12 => ?_) (fun h12 => ?_)
    · refine wg_iconst (pc := 72) C dX2_findTies_72 ?_
      refine wg_istore_2 (pc := 73) C dX2_findTies_73 rfl ?_
      exact L74 _ _ ζ2 0 rfl hS hM hZ (by omega) (by omega) (by rw [show k = nB σ + 1 by omega] at hF; exact hF)
    · refine wg_aload_0 (pc := 15) C dX2_findTies_15 ?_
      refine gX2_38 (pc := 16) C hM.obj rfl dX2_findTies_16 ?_
      refine wg_iload_2 (pc := 19) C dX2_findTies_19 ?_
      refine wg_aload_0 (pc := 20) C dX2_findTies_20 ?_
      refine wg_iload_2 (pc := 21) C dX2_findTies_21 ?_
      refine wg_iload_1 (pc := 22) C dX2_findTies_22 ?_
      refine wg_callVP (pc := 23) C kX2_asksFor q1335 (tX2_asksFor hM hO (by omega) (by omega) (by omega) (by omega)) (rc_of C hM.obj rfl) dX2_findTies_23 rfl rfl (Nat.le_of_ble_eq_true rfl) rfl (by decide) (fun f23 => ?_)
      refine wg_ifeqB (tgt := 44) (pc := 26) C dX2_findTies_26 (by decide) (fun h26 => ?_) (fun h26 => ?_)
      · refine wg_iconst (pc := 44) C dX2_findTies_44 ?_
        exact L45 _ (by omega) (by omega) (by show _ = if asks σ k l ∧ σ 8 l k = 0 then (1 : Int) else 0; split <;> rename_i hc <;> first | rfl | (exfalso; first | exact hc ⟨h26, h37⟩ | exact h26 hc.1 | exact h37 hc.2))
      · refine wg_aload_0 (pc := 29) C dX2_findTies_29 ?_
        refine gX2_29 (pc := 30) C hM.obj rfl dX2_findTies_30 ?_
        refine wg_iload_2 (pc := 33) C dX2_findTies_33 ?_
        refine wg_aald (pc := 34) C rfl rfl hM.oo rfl (by omega) (by omega) (by decide) (rws_at (by omega) (by omega)) dX2_findTies_34 ?_
        refine wg_iload_1 (pc := 35) C dX2_findTies_35 ?_
        refine wg_zald (pc := 36) C (hM.op (by omega) (by omega)) rfl (by omega) (by omega) (by decide) dX2_findTies_36 ?_
        refine wg_if_ne (tgt := 44) (pc := 37) C dX2_findTies_37 (by decide) (by unfold InR; omega) (fun h37 => ?_) (fun h37 => ?_)
        · refine wg_iconst (pc := 44) C dX2_findTies_44 ?_
          exact L45 _ (by omega) (by omega) (by show _ = if asks σ k l ∧ σ 8 l k = 0 then (1 : Int) else 0; split <;> rename_i hc <;> first | rfl | (exfalso; first | exact hc ⟨h26, h37⟩ | exact h26 hc.1 | exact h37 hc.2))
        · refine wg_iconst (pc := 40) C dX2_findTies_40 ?_
          refine wg_goto (tgt := 45) (pc := 41) C dX2_findTies_41 (by decide) ?_
          exact L45 _ (by omega) (by omega) (by show _ = if asks σ k l ∧ σ 8 l k = 0 then (1 : Int) else 0; split <;> rename_i hc <;> first | rfl | (exfalso; first | exact hc ⟨h26, h37⟩ | exact h26 hc.1 | exact h37 hc.2))
  refine wg_iconst (pc := 0) C dX2_findTies_0 ?_
  refine wg_istore_2 (pc := 1) C dX2_findTies_1 rfl ?_
  exact L2 _ w.2 ζ 0 rfl (SmM.rf w) hM (ZK.rf ζ) (by omega) (by omega) (fun p a b => by omega)

theorem tX2_missingOf {G : Gm} {w : Wo} {σ ζ : St} (hM : HasM G w σ ζ) (hO : Ok σ) {p : Int} (hp0 : 0 ≤ p) (hp1 : p ≤ nB σ) : Ct G mX2_missingOf 7 0 0 w [.ref (w.1 (20, 0)), vI p] (fun v w1 => v = some (vI (missing σ p)) ∧ SmM w w1 ∧ ∃ ζ' : St, HasM G w1 σ ζ' ∧ ZK ζ ζ') := by
  refine ct_of [some (.ref (w.1 (20, 0))), some (vI p), none, none] plX2 rfl (Nat.le_of_ble_eq_true rfl) rfl ?_
  intro X hG C hnm hQ
  subst hG
  change CxOk X cX2_missingOf 4 RX2 (some .int) 7 at C
  have hB := hO.hB
  have hF := hO.hF
  have hbc := hM.bc
  have hfc0 := hM.fc
  have L4 : ∀ (N : Nat) (V : Tg → Option va_E) (ζ2 : St) (k s : Int), (8 - k).toNat = N → SmM w (w.1, V) → HasM (xG X) (w.1, V) σ ζ2 → ZK ζ ζ2 → 0 ≤ k → k ≤ 8 → s = sm (fun l => if asks σ p l ∧ tieAt σ l p = -1 then 1 else 0) 0 k → WG X 4 [some (.ref (w.1 (20, 0))), some (vI p), some (vI s), some (vI k)] [] (w.1, V) 0 0 := by
    intro N
    induction N using Nat.strongRecOn with | _ N IH => ?_
    intro V ζ2 k s hN hS hM hZ hk0 hk1 hs
    have hta := tieAt_rng hO k p
    refine wg_iload_3 (pc := 4) C dX2_missingOf_4 ?_
    refine wg_bipush (pc := 5) C dX2_missingOf_5 (by decide) ?_
    refine wg_icmp_ge (tgt := 48) (pc := 7) C dX2_missingOf_7 (by decide) (by unfold InR; omega) (by unfold InR; omega) (fun h7 => ?_) (fun h7 => ?_)
    · refine wg_iload_2 (pc := 48) C dX2_missingOf_48 ?_
      refine wg_iret (pc := 49) C hQ dX2_missingOf_49 ?_
      have e : k = 8 := by omega
      exact ⟨vI_c (by rw [hs, e]; rfl), hS, ζ2, hM, hZ⟩
    · refine wg_aload_0 (pc := 10) C dX2_missingOf_10 ?_
      refine wg_iload_3 (pc := 11) C dX2_missingOf_11 ?_
      refine wg_callV (pc := 12) C (k' := 0) (n' := 0) kX2_findTies q1331 (tX2_findTies hM hO (by omega) (by omega)) (rc_of C hM.obj rfl) dX2_missingOf_12 rfl rfl (Nat.le_of_ble_eq_true rfl) rfl (by decide) (by omega) (by omega) (fun v12 w12 h12 => ?_)
      obtain ⟨e12, s12, ζ12, hM12, hz12, hft12⟩ := h12
      subst e12
      obtain ⟨A12, V12⟩ := w12
      have a12 : A12 = w.1 := s12.1
      subst a12
      have hM := hM12
      have hbc := hM.bc
      have hfc0 := hM.fc
      refine wg_iload_2 (pc := 15) C dX2_missingOf_15 ?_
      refine wg_aload_0 (pc := 16) C dX2_missingOf_16 ?_
      refine wg_iload_1 (pc := 17) C dX2_missingOf_17 ?_
      refine wg_iload_3 (pc := 18) C dX2_missingOf_18 ?_
      refine wg_callVP (pc := 19) C kX2_asksFor q1335 (tX2_asksFor hM hO (by omega) (by omega) (by omega) (by omega)) (rc_of C hM.obj rfl) dX2_missingOf_19 rfl rfl (Nat.le_of_ble_eq_true rfl) rfl (by decide) (fun f19 => ?_)
      refine wg_ifeqB (tgt := 39) (pc := 22) C dX2_missingOf_22 (by decide) (fun h22 => ?_) (fun h22 => ?_)
      · refine wg_iconst (pc := 39) C dX2_missingOf_39 ?_
        refine wg_iadd (pc := 40) C dX2_missingOf_40 ?_
        refine wg_istore_2 (pc := 41) C dX2_missingOf_41 rfl ?_
        refine wg_iinc_3 (pc := 42) C dX2_missingOf_42 rfl ?_
        refine wg_goto (tgt := 4) (pc := 45) C dX2_missingOf_45 (by decide) ?_
        exact IH _ (by omega) V12 ζ12 (k + 1) _ rfl (hS.tr s12) hM (hZ.tr hz12) (by omega) (by omega) (by rw [sm_succ _ (by omega), ← hs]; first | rw [ite_tt h22 h32] | rw [ite_f2 h32] | rw [ite_f1 h22])
      · refine wg_aload_0 (pc := 25) C dX2_missingOf_25 ?_
        refine gX2_35 (pc := 26) C hM.obj rfl dX2_missingOf_26 ?_
        refine wg_iload_1 (pc := 29) C dX2_missingOf_29 ?_
        refine wg_iald (pc := 30) C hM.tf rfl (by omega) (by omega) (by decide) dX2_missingOf_30 ?_
        rw [(hft12 p hp0 hp1).2]
        refine wg_iconst (pc := 31) C dX2_missingOf_31 ?_
        refine wg_icmp_ne (tgt := 39) (pc := 32) C dX2_missingOf_32 (by decide) (by unfold InR; omega) (by unfold InR; omega) (fun h32 => ?_) (fun h32 => ?_)
        · refine wg_iconst (pc := 39) C dX2_missingOf_39 ?_
          refine wg_iadd (pc := 40) C dX2_missingOf_40 ?_
          refine wg_istore_2 (pc := 41) C dX2_missingOf_41 rfl ?_
          refine wg_iinc_3 (pc := 42) C dX2_missingOf_42 rfl ?_
          refine wg_goto (tgt := 4) (pc := 45) C dX2_missingOf_45 (by decide) ?_
          exact IH _ (by omega) V12 ζ12 (k + 1) _ rfl (hS.tr s12) hM (hZ.tr hz12) (by omega) (by omega) (by rw [sm_succ _ (by omega), ← hs]; first | rw [ite_tt h22 h32] | rw [ite_f2 h32] | rw [ite_f1 h22])
        · refine wg_iconst (pc := 35) C dX2_missingOf_35 ?_
          refine wg_goto (tgt := 40) (pc := 36) C dX2_missingOf_36 (by decide) ?_
          refine wg_iadd (pc := 40) C dX2_missingOf_40 ?_
          refine wg_istore_2 (pc := 41) C dX2_missingOf_41 rfl ?_
          refine wg_iinc_3 (pc := 42) C dX2_missingOf_42 rfl ?_
          refine wg_goto (tgt := 4) (pc := 45) C dX2_missingOf_45 (by decide) ?_
          exact IH _ (by omega) V12 ζ12 (k + 1) _ rfl (hS.tr s12) hM (hZ.tr hz12) (by omega) (by omega) (by rw [sm_succ _ (by omega), ← hs]; first | rw [ite_tt h22 h32] | rw [ite_f2 h32] | rw [ite_f1 h22])
  refine wg_iconst (pc := 0) C dX2_missingOf_0 ?_
  refine wg_istore_2 (pc := 1) C dX2_missingOf_1 rfl ?_
  refine wg_iconst (pc := 2) C dX2_missingOf_2 ?_
  refine wg_istore_3 (pc := 3) C dX2_missingOf_3 rfl ?_
  exact L4 _ w.2 ζ 0 0 rfl (SmM.rf w) hM (ZK.rf ζ) (by omega) (by omega) (by rw [sm_nil _ (by omega)])

theorem tX2_bearsOf {G : Gm} {w : Wo} {σ ζ : St} (hM : HasM G w σ ζ) (hO : Ok σ) {p : Int} (hp0 : 0 ≤ p) (hp1 : p ≤ nB σ) : Ct G mX2_bearsOf 8 0 0 w [.ref (w.1 (20, 0)), vI p] (fun v w1 => v = some (vI (bearsOf σ p)) ∧ SmM w w1 ∧ ∃ ζ' : St, HasM G w1 σ ζ' ∧ ZK ζ ζ') := by
  refine ct_of [some (.ref (w.1 (20, 0))), some (vI p), none] plX2 rfl (Nat.le_of_ble_eq_true rfl) rfl ?_
  intro X hG C hnm hQ
  subst hG
  change CxOk X cX2_bearsOf 3 RX2 (some .int) 8 at C
  have hB := hO.hB
  have hF := hO.hF
  have hbc := hM.bc
  have hfc0 := hM.fc
  have hlm := hO.lm
  refine wg_aload_0 (pc := 0) C dX2_bearsOf_0 ?_
  refine gX2_32 (pc := 1) C hM.obj rfl dX2_bearsOf_1 ?_
  refine wg_aload_0 (pc := 4) C dX2_bearsOf_4 ?_
  refine wg_iload_1 (pc := 5) C dX2_bearsOf_5 ?_
  refine wg_callVP (pc := 6) C kX2_standards q1363 (tX2_standards hM hO (by unfold InR; omega)) (rc_of C hM.obj rfl) dX2_bearsOf_6 rfl rfl (Nat.le_of_ble_eq_true rfl) rfl (by decide) (fun f6 => ?_)
  refine wg_imul (pc := 9) C dX2_bearsOf_9 ?_
  have h2 := mul23 (a := lim σ) f6
  refine wg_istore_2 (pc := 10) C dX2_bearsOf_10 rfl ?_
  refine wg_iconst (pc := 11) C dX2_bearsOf_11 ?_
  refine wg_iload_2 (pc := 12) C dX2_bearsOf_12 ?_
  refine wg_aload_0 (pc := 13) C dX2_bearsOf_13 ?_
  refine wg_iload_1 (pc := 14) C dX2_bearsOf_14 ?_
  refine wg_callV (pc := 15) C (k' := 0) (n' := 0) kX2_missingOf q1351 (tX2_missingOf hM hO (by omega) (by omega)) (rc_of C hM.obj rfl) dX2_bearsOf_15 rfl rfl (Nat.le_of_ble_eq_true rfl) rfl (by decide) (by omega) (by omega) (fun v15 w15 h15 => ?_)
  obtain ⟨e15, s15, ζ15, hM15, hz15⟩ := h15
  subst e15
  obtain ⟨A15, V15⟩ := w15
  have a15 : A15 = w.1 := s15.1
  subst a15
  have hM := hM15
  have hbc := hM.bc
  have hfc0 := hM.fc
  have f15 := missing_rng σ p
  refine wg_iload_2 (pc := 18) C dX2_bearsOf_18 ?_
  refine wg_iconst (pc := 19) C dX2_bearsOf_19 ?_
  refine wg_idiv (pc := 20) C dX2_bearsOf_20 (by omega) (by omega) (by omega) (by omega) ?_
  have h4 := mul8 (a := lim σ * stds σ p / 4) f15.1 f15.2 (by omega)
  refine wg_imul (pc := 21) C dX2_bearsOf_21 ?_
  refine wg_isub (pc := 22) C dX2_bearsOf_22 ?_
  refine wg_max (pc := 23) C q1247 dX2_bearsOf_23 (by unfold InR; omega) (by unfold InR; omega) (by decide) (Nat.le_of_ble_eq_true rfl) rfl ?_
  refine wg_iret (pc := 26) C hQ dX2_bearsOf_26 ?_
  exact ⟨rfl, ((SmM.rf w).tr s15), _, hM, ((ZK.rf ζ).tr hz15)⟩

theorem tX2_spare {G : Gm} {w : Wo} {σ ζ : St} (hM : HasM G w σ ζ) (hO : Ok σ) {p : Int} (hp0 : 0 ≤ p) (hp1 : p ≤ nB σ) : Ct G mX2_spare 9 0 0 w [.ref (w.1 (20, 0)), vI p] (fun v w1 => v = some (vI (spare σ p)) ∧ SmM w w1 ∧ ∃ ζ' : St, HasM G w1 σ ζ' ∧ ZK ζ ζ') := by
  refine ct_of [some (.ref (w.1 (20, 0))), some (vI p)] plX2 rfl (Nat.le_of_ble_eq_true rfl) rfl ?_
  intro X hG C hnm hQ
  subst hG
  change CxOk X cX2_spare 2 RX2 (some .int) 9 at C
  have hB := hO.hB
  have hF := hO.hF
  have hbc := hM.bc
  have hfc0 := hM.fc
  refine wg_aload_0 (pc := 0) C dX2_spare_0 ?_
  refine wg_iload_1 (pc := 1) C dX2_spare_1 ?_
  refine wg_callV (pc := 2) C (k' := 0) (n' := 0) kX2_bearsOf q1381 (tX2_bearsOf hM hO (by omega) (by omega)) (rc_of C hM.obj rfl) dX2_spare_2 rfl rfl (Nat.le_of_ble_eq_true rfl) rfl (by decide) (by omega) (by omega) (fun v2 w2 h2 => ?_)
  obtain ⟨e2, s2, ζ2, hM2, hz2⟩ := h2
  subst e2
  obtain ⟨A2, V2⟩ := w2
  have a2 : A2 = w.1 := s2.1
  subst a2
  have hM := hM2
  have hbc := hM.bc
  have hfc0 := hM.fc
  refine wg_aload_0 (pc := 5) C dX2_spare_5 ?_
  refine wg_iload_1 (pc := 6) C dX2_spare_6 ?_
  refine wg_iconst (pc := 7) C dX2_spare_7 ?_
  refine wg_iconst (pc := 8) C dX2_spare_8 ?_
  refine wg_callVP (pc := 9) C kX2_loadOf q1359 (tX2_loadOf hM hO (by omega) (by omega) (by omega) (by omega) (by unfold InR; omega)) (rc_of C hM.obj rfl) dX2_spare_9 rfl rfl (Nat.le_of_ble_eq_true rfl) rfl (by decide) (fun f9 => ?_)
  refine wg_isub (pc := 12) C dX2_spare_12 ?_
  refine wg_iret (pc := 13) C hQ dX2_spare_13 ?_
  exact ⟨rfl, ((SmM.rf w).tr s2), _, hM, ((ZK.rf ζ).tr hz2)⟩

