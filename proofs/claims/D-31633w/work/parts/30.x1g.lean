/-! the class: faces about a bay, board, setClass, lay -/
set_option maxRecDepth 100000
set_option maxHeartbeats 4000000
theorem tg_lt {u : Tg} {a b : Nat} {i : Int} (h : u.1 < b) (hb : Nat.ble b a = true) : u ≠ (a, i) := fun z => by
  rw [z] at h
  have h1 : b ≤ a := by simpa using hb
  exact absurd h (by show ¬ a < b; omega)
theorem wg_iandZ {X : Cx} {cc : ByteArray} {nL : Nat} {own : String} {ret : Option FieldType} {d : Nat} {pc : Nat} {lv : List (Option Value)} {stk : List Value} {w : Wo} {k n : Nat} (C : CxOk X cc nL own ret d) {c : Int} {q : Prop} [Decidable q] (hc : c = 0 ∨ c = 1) (hd : decode cc pc = .ok (.iand, 1)) (kk : WG X (pc + 1) lv (vI (if c = 1 ∧ q then 1 else 0) :: stk) w k n) : WG X pc lv (vI (if q then 1 else 0) :: vI c :: stk) w k n := by
  have h := wg_iand01 (p := c = 1) (q := q) C hd kk
  rwa [show (if c = 1 then (1 : Int) else 0) = c by rcases hc with rfl | rfl <;> rfl] at h
theorem wo_eq {A : Tg → Nat} {V : Tg → Option va_E} {t : Tg} {e : va_E} : ((A, uV V t e) : Wo).2 t = some e := uV_eq _ _ _
theorem wdL_c (σ : St) (y : Int → Int) (n : Nat) {c : Nat} (h : ¬ c = 9) (i j : Int) : wdL σ y n c i j = σ c i j := by
  rcases wdL_at σ y n c i j with h1 | h1
  · exact h1
  · exact absurd h1.1 h
theorem Ok.wdL {σ : St} (h : Ok σ) (y : Int → Int) (n : Nat) : Ok (wdL σ y n) := by
  induction n with
  | zero => exact h
  | succ n ih => exact ih.wGrn _ (by omega) (by omega)
/-- what facesAt leaves: the list of the faces that touch a bay, at tags of its own -/
def FAt (G : Gm) (w w1 : Wo) (σ : St) (b m : Int) (y : Int → Int) : Prop := (∀ u : Tg, u.1 < 50 → w1.1 u = w.1 u ∧ w1.2 u = w.2 u) ∧ (∃ a : Int, w1.2 (50, 0) = some (ob 1 [vI a, .ref (w1.1 (51, 0)), vI m])) ∧ (∃ r : Int → Option Nat, w1.2 (51, 0) = some (aR G 3 5 r) ∧ ∀ j, 0 ≤ j → j < m → r j = some (w1.1 (3, y j))) ∧ (0 ≤ m ∧ m ≤ 5) ∧ FL σ b m y (nF σ)
theorem FAt.cln {G : Gm} {w : Wo} {A : Tg → Nat} {V2 : Tg → Option va_E} {σ : St} {b m : Int} {y : Int → Int} (hA : ∀ u : Tg, u.1 < 50 → A u = w.1 u ∧ V2 u = w.2 u) (V : Tg → Option va_E) (t : Tg) (e : va_E) (ht : (if t.1 < 50 then V t else none) = some e) : V t = some e ∧ w.1 t = A t := by
  by_cases h5 : t.1 < 50
  · rw [if_pos h5] at ht
    exact ⟨ht, (hA t h5).1.symm⟩
  · rw [if_neg h5] at ht
    cases ht
theorem tX1_facesAt {G : Gm} {w : Wo} {σ ζ : St} (hX : HasX G w σ ζ) (hO : Ok σ) {b : Int} (hb0 : 0 ≤ b) (hb1 : b < nB σ) : Ct G mX1_facesAt 5 2 8 w [.ref (w.1 (0, 0)), .ref (w.1 (6, b))] (fun v w1 => v = some (.ref (w1.1 (50, 0))) ∧ ∃ (m : Int) (y : Int → Int), FAt G w w1 σ b m y) := by
  refine ct_of [some (.ref (w.1 (0, 0))), some (.ref (w.1 (6, b))), none, none] plX1 rfl (Nat.le_of_ble_eq_true rfl) rfl ?_
  intro X hG C hnm hQ
  subst hG
  change CxOk X cX1_facesAt 4 RX1 (some ((.object "java/util/List"))) 5 at C
  have hB := hO.hB
  have hF := hO.hF
  have L11 : ∀ (N : Nat) (A : Tg → Nat) (V : Tg → Option va_E) (k m a : Int) (y : Int → Int) (r : Int → Option Nat), (nF σ - k).toNat = N → (∀ u : Tg, u.1 < 50 → A u = w.1 u ∧ V u = w.2 u) → V (50, 0) = some (ob 1 [vI a, .ref (A (51, 0)), vI m]) → V (51, 0) = some (aR (xG X) 3 5 r) → (∀ j, 0 ≤ j → j < m → r j = some (A (3, y j))) → FL σ b m y k → 0 ≤ m → m ≤ k → k ≤ nF σ → WG X 11 [some (.ref (A (0, 0))), some (.ref (A (6, b))), some (.ref (A (50, 0))), some (vI k)] [] (A, V) 0 0 := by
    intro N
    induction N using Nat.strongRecOn with | _ N IH => ?_
    intro A V k m a y r hN hW hL hR hy hF hm0 hmk hk1
    have hX := hX.fr (w1 := (A, V)) (fun u hu => hW u (by omega))
    refine wg_iload_3 (pc := 11) C dX1_facesAt_11 ?_
    refine wg_aload_0 (pc := 12) C dX1_facesAt_12 ?_
    refine gX1_71 (pc := 13) C hX.obj rfl dX1_facesAt_13 ?_
    refine wg_callFP (pc := 16) C kF_size q477 (tJ2_size hX.fl) (rc_of C hX.fl rfl) dX1_facesAt_16 rfl rfl (Nat.le_of_ble_eq_true rfl) rfl (by decide) (fun f16 => ?_)
    refine wg_icmp_ge (tgt := 98) (pc := 21) C dX1_facesAt_21 (by decide) (by unfold InR; omega) (by unfold InR; omega) (fun h21 => ?_) (fun h21 => ?_)
    · refine wg_aload_2 (pc := 98) C dX1_facesAt_98 ?_
      refine wg_aret (pc := 99) C (Or.inl ⟨_, rfl⟩) hQ dX1_facesAt_99 ?_
      have e : k = nF σ := by omega
      subst e
      exact ⟨rfl, m, y, hW, ⟨a, hL⟩, ⟨r, hR, hy⟩, ⟨hm0, by omega⟩, hF⟩
    · refine wg_aload_0 (pc := 24) C dX1_facesAt_24 ?_
      refine gX1_71 (pc := 25) C hX.obj rfl dX1_facesAt_25 ?_
      refine wg_iload_3 (pc := 28) C dX1_facesAt_28 ?_
      refine wg_callFP (pc := 29) C kF_get q497 (tJ2_get hX.fl hX.fa (by omega) (by omega) (by omega) (by decide) (rws_at (by omega) (by omega))) (rc_of C hX.fl rfl) dX1_facesAt_29 rfl rfl (Nat.le_of_ble_eq_true rfl) rfl (by decide) (fun f29 => ?_)
      refine wg_cast (pc := 34) (ci := 2) C rfl q613 (rc_of C (hX.face (by omega) (by omega)) rfl) dX1_facesAt_34 ?_
      refine wg_aload_1 (pc := 37) C dX1_facesAt_37 ?_
      refine gX1_84 (pc := 38) C (hX.bay (by omega) (by omega)) rfl dX1_facesAt_38 ?_
      refine wg_callVP (pc := 41) C kX3_has q644 (tX3_has hX hO (by omega) (by omega) (by unfold InR; omega)) (rc_of C (hX.face (by omega) (by omega)) rfl) dX1_facesAt_41 rfl rfl (Nat.le_of_ble_eq_true rfl) rfl (by decide) (fun f41 => ?_)
      refine wg_ifneB (tgt := 72) (pc := 44) C dX1_facesAt_44 (by decide) (fun h44 => ?_) (fun h44 => ?_)
      · refine wg_aload_2 (pc := 72) C dX1_facesAt_72 ?_
        refine wg_aload_0 (pc := 73) C dX1_facesAt_73 ?_
        refine gX1_71 (pc := 74) C hX.obj rfl dX1_facesAt_74 ?_
        refine wg_iload_3 (pc := 77) C dX1_facesAt_77 ?_
        refine wg_callFP (pc := 78) C kF_get q497 (tJ2_get hX.fl hX.fa (by omega) (by omega) (by omega) (by decide) (rws_at (by omega) (by omega))) (rc_of C hX.fl rfl) dX1_facesAt_78 rfl rfl (Nat.le_of_ble_eq_true rfl) rfl (by decide) (fun f78 => ?_)
        refine wg_cast (pc := 83) (ci := 2) C rfl q613 (rc_of C (hX.face (by omega) (by omega)) rfl) dX1_facesAt_83 ?_
        refine wg_callF (pc := 86) C (k' := 0) (n' := 0) kF_add q759 (tJ2_add (t := (50, 0)) (ta := (51, 0)) (Cn := RX3) (tg_ne rfl) hL hR (by omega) (by omega) (by decide) (RcA.mk (hX.face (by omega) (by omega)) rfl (tg_ne rfl) (tg_ne rfl)) (by decide +kernel)) (rc_of (w := (A, V)) (t := (50, 0)) C hL rfl) dX1_facesAt_86 rfl rfl (Nat.le_of_ble_eq_true rfl) rfl (by decide) (by omega) (by omega) (fun v86 w86 h86 => ?_)
        obtain ⟨e86, a86, l86, r86, u86⟩ := h86
        subst e86
        obtain ⟨A6, V6⟩ := w86
        have b86 : A = A6 := Eq.symm a86
        subst b86
        have hy6 : ∀ j, 0 ≤ j → j < m + 1 → upR r m (A (3, k)) j = some (A (3, (fun j => if j = m then k else y j) j)) := fun j a c => by
          show _ = some (A (3, if j = m then k else y j))
          by_cases hj : j = m
          · rw [hj, upR_eq, if_pos rfl]
          · rw [upR_ne hj, if_neg hj]; exact hy j a (by omega)
        refine wg_pop (pc := 91) C dX1_facesAt_91 rfl ?_
        refine wg_iinc_3 (pc := 92) C dX1_facesAt_92 rfl ?_
        refine wg_goto (tgt := 11) (pc := 95) C dX1_facesAt_95 (by decide) ?_
        first
          | exact IH _ (by omega) A V6 (k + 1) (m + 1) _ _ _ rfl (fun u hu => ⟨(hW u hu).1, (u86 u (tg_lt hu rfl) (tg_lt hu rfl)).trans (hW u hu).2⟩) l86 r86 hy6 (hF.take hm0 (by omega) (by unfold touch; omega)) (by omega) (by omega) (by omega)
          | exact IH _ (by omega) A V (k + 1) m a y r rfl hW hL hR hy (hF.skip (by unfold touch; omega)) hm0 (by omega) (by omega)
      · refine wg_aload_0 (pc := 47) C dX1_facesAt_47 ?_
        refine gX1_71 (pc := 48) C hX.obj rfl dX1_facesAt_48 ?_
        refine wg_iload_3 (pc := 51) C dX1_facesAt_51 ?_
        refine wg_callFP (pc := 52) C kF_get q497 (tJ2_get hX.fl hX.fa (by omega) (by omega) (by omega) (by decide) (rws_at (by omega) (by omega))) (rc_of C hX.fl rfl) dX1_facesAt_52 rfl rfl (Nat.le_of_ble_eq_true rfl) rfl (by decide) (fun f52 => ?_)
        refine wg_cast (pc := 57) (ci := 2) C rfl q613 (rc_of C (hX.face (by omega) (by omega)) rfl) dX1_facesAt_57 ?_
        refine wg_aload_1 (pc := 60) C dX1_facesAt_60 ?_
        refine gX1_84 (pc := 61) C (hX.bay (by omega) (by omega)) rfl dX1_facesAt_61 ?_
        refine wg_iconst (pc := 64) C dX1_facesAt_64 ?_
        refine wg_iadd (pc := 65) C dX1_facesAt_65 ?_
        refine wg_callVP (pc := 66) C kX3_has q644 (tX3_has hX hO (by omega) (by omega) (by unfold InR; omega)) (rc_of C (hX.face (by omega) (by omega)) rfl) dX1_facesAt_66 rfl rfl (Nat.le_of_ble_eq_true rfl) rfl (by decide) (fun f66 => ?_)
        refine wg_ifeqB (tgt := 92) (pc := 69) C dX1_facesAt_69 (by decide) (fun h69 => ?_) (fun h69 => ?_)
        · refine wg_iinc_3 (pc := 92) C dX1_facesAt_92 rfl ?_
          refine wg_goto (tgt := 11) (pc := 95) C dX1_facesAt_95 (by decide) ?_
          first
            | exact IH _ (by omega) A V6 (k + 1) (m + 1) _ _ _ rfl (fun u hu => ⟨(hW u hu).1, (u86 u (tg_lt hu rfl) (tg_lt hu rfl)).trans (hW u hu).2⟩) l86 r86 hy6 (hF.take hm0 (by omega) (by unfold touch; omega)) (by omega) (by omega) (by omega)
            | exact IH _ (by omega) A V (k + 1) m a y r rfl hW hL hR hy (hF.skip (by unfold touch; omega)) hm0 (by omega) (by omega)
        · refine wg_aload_2 (pc := 72) C dX1_facesAt_72 ?_
          refine wg_aload_0 (pc := 73) C dX1_facesAt_73 ?_
          refine gX1_71 (pc := 74) C hX.obj rfl dX1_facesAt_74 ?_
          refine wg_iload_3 (pc := 77) C dX1_facesAt_77 ?_
          refine wg_callFP (pc := 78) C kF_get q497 (tJ2_get hX.fl hX.fa (by omega) (by omega) (by omega) (by decide) (rws_at (by omega) (by omega))) (rc_of C hX.fl rfl) dX1_facesAt_78 rfl rfl (Nat.le_of_ble_eq_true rfl) rfl (by decide) (fun f78 => ?_)
          refine wg_cast (pc := 83) (ci := 2) C rfl q613 (rc_of C (hX.face (by omega) (by omega)) rfl) dX1_facesAt_83 ?_
          refine wg_callF (pc := 86) C (k' := 0) (n' := 0) kF_add q759 (tJ2_add (t := (50, 0)) (ta := (51, 0)) (Cn := RX3) (tg_ne rfl) hL hR (by omega) (by omega) (by decide) (RcA.mk (hX.face (by omega) (by omega)) rfl (tg_ne rfl) (tg_ne rfl)) (by decide +kernel)) (rc_of (w := (A, V)) (t := (50, 0)) C hL rfl) dX1_facesAt_86 rfl rfl (Nat.le_of_ble_eq_true rfl) rfl (by decide) (by omega) (by omega) (fun v86 w86 h86 => ?_)
          obtain ⟨e86, a86, l86, r86, u86⟩ := h86
          subst e86
          obtain ⟨A6, V6⟩ := w86
          have b86 : A = A6 := Eq.symm a86
          subst b86
          have hy6 : ∀ j, 0 ≤ j → j < m + 1 → upR r m (A (3, k)) j = some (A (3, (fun j => if j = m then k else y j) j)) := fun j a c => by
            show _ = some (A (3, if j = m then k else y j))
            by_cases hj : j = m
            · rw [hj, upR_eq, if_pos rfl]
            · rw [upR_ne hj, if_neg hj]; exact hy j a (by omega)
          refine wg_pop (pc := 91) C dX1_facesAt_91 rfl ?_
          refine wg_iinc_3 (pc := 92) C dX1_facesAt_92 rfl ?_
          refine wg_goto (tgt := 11) (pc := 95) C dX1_facesAt_95 (by decide) ?_
          first
            | exact IH _ (by omega) A V6 (k + 1) (m + 1) _ _ _ rfl (fun u hu => ⟨(hW u hu).1, (u86 u (tg_lt hu rfl) (tg_lt hu rfl)).trans (hW u hu).2⟩) l86 r86 hy6 (hF.take hm0 (by omega) (by unfold touch; omega)) (by omega) (by omega) (by omega)
            | exact IH _ (by omega) A V (k + 1) m a y r rfl hW hL hR hy (hF.skip (by unfold touch; omega)) hm0 (by omega) (by omega)
  refine nJ2 (k' := 1) (n' := 5) (50, 0) C q105 dX1_facesAt_0 (by omega) (by omega) (fun A0 q0 hq0 hu0 => ?_)
  subst hq0
  refine wg_dup (pc := 3) C dX1_facesAt_3 rfl ?_
  refine wg_iconst (pc := 4) C dX1_facesAt_4 ?_
  refine wg_callI (pc := 5) C (k' := 0) (n' := 0) kJ2_init q107 (tJ2_init (t := (50, 0)) (ta := (51, 0)) (m := 5) (tg_ne rfl) wo_eq rfl (by omega) (by omega)) dX1_facesAt_5 rfl rfl (Nat.le_of_ble_eq_true rfl) rfl (by decide) (by omega) (by omega) (fun v5 w5 h5 => ?_)
  obtain ⟨e5, g5, l5, r5, u5⟩ := h5
  subst e5
  obtain ⟨A5, V5⟩ := w5
  have hW5 : ∀ u : Tg, u.1 < 50 → A5 u = w.1 u ∧ V5 u = w.2 u := fun u hu => ⟨(g5 u (tg_lt hu rfl)).trans (hu0 u (tg_lt hu rfl)), (u5 u (tg_lt hu rfl) (tg_lt hu rfl)).trans (uV_ne (tg_lt hu rfl))⟩
  refine wg_astore_2 (pc := 8) C dX1_facesAt_8 rfl ?_
  refine wg_iconst (pc := 9) C dX1_facesAt_9 ?_
  refine wg_istore_3 (pc := 10) C dX1_facesAt_10 rfl ?_
  refine WG.widen (k' := 0) (n' := 0) (by omega) (by omega) ?_
  refine WG.at (L11 _ A5 V5 0 0 0 (fun j => j) (fun _ => none) rfl hW5 l5 r5 (fun j a c => by omega) (FL.zero σ b _) (by omega) (by omega) (by omega)) rfl ?_ rfl rfl
  rw [(hW5 (0, 0) (by decide)).1, (hW5 (6, b) (by show 6 < 50; decide)).1, show A5 (50, 0) = A0 (50, 0) from g5 (50, 0) (tg_ne rfl)]

theorem tX1_withdraw {G : Gm} {w : Wo} {σ ζ : St} (hX : HasX G w σ ζ) (hO : Ok σ) {b : Int} (hb0 : 0 ≤ b) (hb1 : b < nB σ) (hC : Cln w) : Ct G mX1_withdraw 6 2 8 w [.ref (w.1 (0, 0)), .ref (w.1 (6, b))] (fun v w1 => v = none ∧ SmX w w1 ∧ HasX G w1 (wdAt σ b) ζ) := by
  refine ct_of [some (.ref (w.1 (0, 0))), some (.ref (w.1 (6, b))), none, none] plX1 rfl (Nat.le_of_ble_eq_true rfl) rfl ?_
  intro X hG C hnm hQ
  subst hG
  change CxOk X cX1_withdraw 4 RX1 (none) 6 at C
  have hB := hO.hB
  have hF := hO.hF
  refine wg_aload_0 (pc := 0) C dX1_withdraw_0 ?_
  refine wg_aload_1 (pc := 1) C dX1_withdraw_1 ?_
  refine wg_callV (pc := 2) C (k' := 0) (n' := 0) kX1_facesAt q952 (tX1_facesAt hX hO hb0 hb1) (rc_of C hX.obj rfl) dX1_withdraw_2 rfl rfl (Nat.le_of_ble_eq_true rfl) rfl (by decide) (by omega) (by omega) (fun v2 w2 h2 => ?_)
  obtain ⟨e2, m, y, hA, ⟨a, hL⟩, ⟨r, hR, hy⟩, ⟨hm0, hm5⟩, hF⟩ := h2
  subst e2
  obtain ⟨A, V2⟩ := w2
  have L8 : ∀ (N : Nat) (V : Tg → Option va_E) (k : Int), (m - k).toNat = N → (∀ u : Tg, 16 ≤ u.1 → V u = V2 u) → HasX (xG X) (A, V) (wdL σ y k.toNat) ζ → 0 ≤ k → k ≤ m → WG X 8 [none, none, some (.ref (A (50, 0))), some (vI k)] [] (A, V) 0 0 := by
    intro N
    induction N using Nat.strongRecOn with | _ N IH => ?_
    intro V k hN hS hX hk0 hk1
    have hL1 : V (50, 0) = _ := (hS (50, 0) (by decide)).trans hL
    have hR1 : V (51, 0) = _ := (hS (51, 0) (by decide)).trans hR
    have enF : nF (wdL σ y k.toNat) = nF σ := wdL_c σ y _ (by decide) 0 0
    refine wg_iload_3 (pc := 8) C dX1_withdraw_8 ?_
    refine wg_aload_2 (pc := 9) C dX1_withdraw_9 ?_
    refine wg_callFP (pc := 10) C kF_size q477 (tJ2_size hL1) (rc_of (w := (A, V)) (t := (50, 0)) C hL1 rfl) dX1_withdraw_10 rfl rfl (Nat.le_of_ble_eq_true rfl) rfl (by decide) (fun f10 => ?_)
    refine wg_icmp_ge (tgt := 37) (pc := 15) C dX1_withdraw_15 (by decide) (by unfold InR; omega) (by unfold InR; omega) (fun h15 => ?_) (fun h15 => ?_)
    · have e : k = m := by omega
      subst e
      refine WG.forget (w' := (w.1, fun u => if u.1 < 50 then V u else none)) (fun t e ht => FAt.cln (G := xG X) (σ := σ) (b := b) (m := k) (y := y) (V2 := V2) hA V t e ht) (wg_vret (pc := 37) C hQ dX1_withdraw_37 ⟨rfl, ⟨rfl, fun t ht => ?_⟩, ?_⟩)
      · show (if t.1 < 50 then V t else none) = w.2 t
        by_cases h5 : t.1 < 50
        · rw [if_pos h5, hS t ht]; exact (hA t h5).2
        · rw [if_neg h5]; exact (hC t (by omega)).symm
      · rw [wdL_all hm0 hF] at hX
        exact hX.fr (fun u hu => ⟨((hA u (by omega)).1).symm, if_pos (by omega)⟩)
    · have hy1 := hF.1 k hk0 (by omega)
      refine wg_aload_2 (pc := 18) C dX1_withdraw_18 ?_
      refine wg_iload_3 (pc := 19) C dX1_withdraw_19 ?_
      refine wg_callFP (pc := 20) C kF_get q497 (tJ2_get hL1 hR1 (by omega) (by omega) (by omega) (by decide) (hy k (by omega) (by omega))) (rc_of (w := (A, V)) (t := (50, 0)) C hL1 rfl) dX1_withdraw_20 rfl rfl (Nat.le_of_ble_eq_true rfl) rfl (by decide) (fun f20 => ?_)
      refine wg_cast (pc := 25) (ci := 2) C rfl q613 (rc_of C (hX.face hy1.1 (by omega)) rfl) dX1_withdraw_25 ?_
      refine wg_callV (pc := 28) C (k' := 0) (n' := 0) kX3_withdraw q846 (tX3_withdraw hX (hO.wdL y _) hy1.1 (by omega)) (rc_of C (hX.face (by omega) (by omega)) rfl) dX1_withdraw_28 rfl rfl (Nat.le_of_ble_eq_true rfl) rfl (by decide) (by omega) (by omega) (fun v28 w28 h28 => ?_)
      obtain ⟨e28, s28, h28⟩ := h28
      subst e28
      obtain ⟨A28, V28⟩ := w28
      have a28 : A = A28 := Eq.symm s28.1
      subst a28
      refine wg_iinc_3 (pc := 31) C dX1_withdraw_31 rfl ?_
      refine wg_goto (tgt := 8) (pc := 34) C dX1_withdraw_34 (by decide) ?_
      refine WG.mask [false, false, true, true] rfl ?_
      exact IH _ (by omega) V28 (k + 1) rfl (fun u hu => (s28.2 u hu).trans (hS u hu)) (by rw [← wdL_s hk0]; exact h28) (by omega) (by omega)
  refine wg_astore_2 (pc := 5) C dX1_withdraw_5 rfl ?_
  refine wg_iconst (pc := 6) C dX1_withdraw_6 ?_
  refine wg_istore_3 (pc := 7) C dX1_withdraw_7 rfl ?_
  refine WG.mask [false, false, true, true] rfl ?_
  exact L8 _ V2 0 rfl (fun u _ => rfl) (hX.fr (fun u hu => hA u (by omega))) (by omega) hm0

theorem tX1_canLay {G : Gm} {w : Wo} {σ ζ : St} (hX : HasX G w σ ζ) (hO : Ok σ) {b : Int} (hb0 : 0 ≤ b) (hb1 : b < nB σ) {l n : Int} (hC : Cln w) (hl0 : 0 ≤ l) (hl1 : l < 8) (hn : InR n) : Ct G mX1_canLay 6 2 8 w [.ref (w.1 (0, 0)), .ref (w.1 (6, b)), vI l, vI n] (fun v w1 => v = some (vI (if canL σ b l n then 1 else 0)) ∧ w1 = w) := by
  refine ct_of [some (.ref (w.1 (0, 0))), some (.ref (w.1 (6, b))), some (vI l), some (vI n), none, none, none] plX1 rfl (Nat.le_of_ble_eq_true rfl) rfl ?_
  intro X hG C hnm hQ
  subst hG
  change CxOk X cX1_canLay 7 RX1 (some .boolean) 6 at C
  have hB := hO.hB
  have hF := hO.hF
  unfold InR at hn
  have hla := hO.la b l
  have hso := hO.so b l
  have hbd := hO.bd b l
  refine wg_iload_3 (pc := 0) C dX1_canLay_0 ?_
  refine wg_aload_1 (pc := 1) C dX1_canLay_1 ?_
  refine gX1_224 (pc := 2) C (hX.bay hb0 hb1) rfl dX1_canLay_2 ?_
  refine wg_iload_2 (pc := 5) C dX1_canLay_5 ?_
  refine wg_iald (pc := 6) C (hX.la hb0 hb1) rfl (by omega) (by omega) (by decide) dX1_canLay_6 ?_
  refine wg_icmp_gt (tgt := 12) (pc := 7) C dX1_canLay_7 (by decide) (by unfold InR; omega) (by unfold InR; omega) (fun h7 => ?_) (fun h7 => ?_)
  · have L39 : ∀ (c : Int), (c = 0 ∨ c = 1) → (c = 1 ↔ (σ 5 b l = 1 ∧ n ≤ bears (σ 6 b l))) → WG X 39 [some (.ref (w.1 (0, 0))), some (.ref (w.1 (6, b))), some (vI l), some (vI n), none, none, none] [vI c] w 2 8 := by
      intro c hc hci
      refine wg_istore_4 (pc := 39) C dX1_canLay_39 rfl ?_
      refine wg_aload_0 (pc := 41) C dX1_canLay_41 ?_
      refine wg_aload_1 (pc := 42) C dX1_canLay_42 ?_
      refine wg_callV (pc := 43) C (k' := 0) (n' := 0) kX1_facesAt q952 (tX1_facesAt hX hO hb0 hb1) (rc_of C hX.obj rfl) dX1_canLay_43 rfl rfl (Nat.le_of_ble_eq_true rfl) rfl (by decide) (by omega) (by omega) (fun v43 w43 h43 => ?_)
      obtain ⟨e43, m, y, hA, ⟨a, hL⟩, ⟨r, hR, hy⟩, ⟨hm0, hm5⟩, hF⟩ := h43
      subst e43
      obtain ⟨A, V2⟩ := w43
      have L51 : ∀ (N : Nat) (k e : Int), (m - k).toNat = N → 0 ≤ k → k ≤ m → (e = 0 ∨ e = 1) → (e = 1 ↔ (c = 1 ∧ ∀ j, 0 ≤ j → j < k → day σ ≤ grn σ (y j))) → WG X 51 [none, none, none, none, some (vI e), some (.ref (A (50, 0))), some (vI k)] [] (A, V2) 0 0 := by
        intro N
        induction N using Nat.strongRecOn with | _ N IH => ?_
        intro k e hN hk0 hk1 he hei
        have hX := hX.fr (w1 := (A, V2)) (fun u hu => hA u (by omega))
        have hL1 := hL
        have hR1 := hR
        refine wg_iload_6 (pc := 51) C dX1_canLay_51 ?_
        refine wg_aload_5 (pc := 53) C dX1_canLay_53 ?_
        refine wg_callFP (pc := 55) C kF_size q477 (tJ2_size hL1) (rc_of (w := (A, V2)) (t := (50, 0)) C hL1 rfl) dX1_canLay_55 rfl rfl (Nat.le_of_ble_eq_true rfl) rfl (by decide) (fun f55 => ?_)
        refine wg_icmp_ge (tgt := 89) (pc := 60) C dX1_canLay_60 (by decide) (by unfold InR; omega) (by unfold InR; omega) (fun h60 => ?_) (fun h60 => ?_)
        · refine wg_iload_4 (pc := 89) C dX1_canLay_89 ?_
          have e91 : k = m := by omega
          subst e91
          have hg := notG_list hF
          refine WG.forget (w' := w) (fun t e ht => ?_) (wg_zret (pc := 91) C hQ dX1_canLay_91 he ⟨?_, rfl⟩)
          · have h5 : t.1 < 50 := by
              by_cases h5 : t.1 < 50
              · exact h5
              · rw [hC t (by omega)] at ht; cases ht
            exact ⟨((hA t h5).2).trans ht, ((hA t h5).1).symm⟩
          · by_cases he1 : e = 1
            · rw [if_pos (Or.inr ⟨hci.mp (hei.mp he1).1, hg.mpr (hei.mp he1).2⟩), he1]
            · rw [if_neg (fun z => by
                rcases z with z | z
                · omega
                · exact he1 (hei.mpr ⟨hci.mpr z.1, hg.mp z.2⟩))]
              rw [show e = 0 by omega]
        · have hy1 := hF.1 k hk0 (by omega)
          refine wg_iload_4 (pc := 63) C dX1_canLay_63 ?_
          refine wg_aload_5 (pc := 65) C dX1_canLay_65 ?_
          refine wg_iload_6 (pc := 67) C dX1_canLay_67 ?_
          refine wg_callFP (pc := 69) C kF_get q497 (tJ2_get hL1 hR1 (by omega) (by omega) (by omega) (by decide) (hy k (by omega) (by omega))) (rc_of (w := (A, V2)) (t := (50, 0)) C hL1 rfl) dX1_canLay_69 rfl rfl (Nat.le_of_ble_eq_true rfl) rfl (by decide) (fun f69 => ?_)
          refine wg_cast (pc := 74) (ci := 2) C rfl q613 (rc_of C (hX.face hy1.1 hy1.2.1) rfl) dX1_canLay_74 ?_
          refine wg_callVP (pc := 77) C kX3_isGreen q649 (tX3_isGreen hX hO hy1.1 hy1.2.1) (rc_of C (hX.face hy1.1 hy1.2.1) rfl) dX1_canLay_77 rfl rfl (Nat.le_of_ble_eq_true rfl) rfl (by decide) (fun f77 => ?_)
          refine wg_iandZ (pc := 80) C he dX1_canLay_80 ?_
          refine wg_istore_4 (pc := 81) C dX1_canLay_81 rfl ?_
          refine wg_iinc_6 (pc := 83) C dX1_canLay_83 rfl ?_
          refine wg_goto (tgt := 51) (pc := 86) C dX1_canLay_86 (by decide) ?_
          refine WG.mask [false, false, false, false, true, true, true] rfl ?_
          exact IH _ (by omega) (k + 1) _ rfl (by omega) (by omega) (by split <;> omega) (by
              by_cases hg : day σ ≤ grn σ (y k)
              · by_cases he1 : e = 1
                · rw [if_pos ⟨he1, hg⟩]
                  refine ⟨fun _ => ⟨(hei.mp he1).1, fun j a c => ?_⟩, fun _ => rfl⟩
                  by_cases hj : j = k
                  · rw [hj]; exact hg
                  · exact (hei.mp he1).2 j a (by omega)
                · rw [if_neg (fun z => he1 z.1)]
                  exact ⟨fun z => by omega, fun z => absurd (hei.mpr ⟨z.1, fun j a c => z.2 j a (by omega)⟩) he1⟩
              · rw [if_neg (fun z => hg z.2)]
                exact ⟨fun z => by omega, fun z => absurd (z.2 k hk0 (by omega)) hg⟩)
      refine wg_astore_5 (pc := 46) C dX1_canLay_46 rfl ?_
      refine wg_iconst (pc := 48) C dX1_canLay_48 ?_
      refine wg_istore_6 (pc := 49) C dX1_canLay_49 rfl ?_
      refine WG.mask [false, false, false, false, true, true, true] rfl ?_
      exact L51 _ 0 c rfl (by omega) hm0 hc ⟨fun z => ⟨z, fun j a c => by omega⟩, fun z => z.1⟩
    refine wg_aload_1 (pc := 12) C dX1_canLay_12 ?_
    refine gX1_213 (pc := 13) C (hX.bay hb0 hb1) rfl dX1_canLay_13 ?_
    refine wg_iload_2 (pc := 16) C dX1_canLay_16 ?_
    refine wg_zald (pc := 17) C (hX.bd hb0 hb1) rfl (by omega) (by omega) (by decide) dX1_canLay_17 ?_
    refine wg_if_eq (tgt := 38) (pc := 18) C dX1_canLay_18 (by decide) (by unfold InR; omega) (fun h18 => ?_) (fun h18 => ?_)
    · refine wg_iconst (pc := 38) C dX1_canLay_38 ?_
      refine WG.mask [true, true, true, true, false, false, false] rfl ?_
      exact L39 _ (by omega) (by omega)
    · refine wg_iload_3 (pc := 21) C dX1_canLay_21 ?_
      refine wg_aload_1 (pc := 22) C dX1_canLay_22 ?_
      refine gX1_220 (pc := 23) C (hX.bay hb0 hb1) rfl dX1_canLay_23 ?_
      refine wg_iload_2 (pc := 26) C dX1_canLay_26 ?_
      refine wg_iald (pc := 27) C (hX.so hb0 hb1) rfl (by omega) (by omega) (by decide) dX1_canLay_27 ?_
      refine wg_callSP (pc := 28) C kX1_bornBy q974 (tX1_bornBy (by unfold InR; omega)) dX1_canLay_28 rfl rfl (Nat.le_of_ble_eq_true rfl) rfl (by decide) (fun f28 => ?_)
      refine wg_icmp_gt (tgt := 38) (pc := 31) C dX1_canLay_31 (by decide) (by unfold InR; omega) (by unfold InR; omega) (fun h31 => ?_) (fun h31 => ?_)
      · refine wg_iconst (pc := 38) C dX1_canLay_38 ?_
        refine WG.mask [true, true, true, true, false, false, false] rfl ?_
        exact L39 _ (by omega) (by omega)
      · refine wg_iconst (pc := 34) C dX1_canLay_34 ?_
        refine wg_goto (tgt := 39) (pc := 35) C dX1_canLay_35 (by decide) ?_
        refine WG.mask [true, true, true, true, false, false, false] rfl ?_
        exact L39 _ (by omega) (by omega)
  · refine wg_iconst (pc := 10) C dX1_canLay_10 ?_
    exact wg_zret (pc := 11) C hQ dX1_canLay_11 (by omega) ⟨by rw [if_pos (Or.inl (by omega))], rfl⟩

