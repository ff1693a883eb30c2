/-! the class' picture in a world that has its cells in range; constructors of faces and bays; addFace -/
set_option maxRecDepth 100000
set_option maxHeartbeats 4000000
theorem HasX.frN {G : Gm} {w w1 : Wo} {σ ζ : St} (h : HasX G w σ ζ) (hb : ∀ k, 0 ≤ k → k < nB σ → 0 ≤ bfc σ k ∧ bfc σ k < nF σ) (he : ∀ u : Tg, u.1 < 16 → (u.1 = 3 → 0 ≤ u.2 ∧ u.2 < nF σ) → (u.1 = 6 ∨ u.1 = 7 ∨ u.1 = 8 ∨ u.1 = 9 → 0 ≤ u.2 ∧ u.2 < nB σ) → w1.1 u = w.1 u ∧ w1.2 u = w.2 u) : HasX G w1 σ ζ := by
  have e0 : ∀ (c : Nat) (i : Int), Nat.blt c 16 = true → (c == 3) = false → (c == 6) = false → (c == 7) = false → (c == 8) = false → (c == 9) = false → w1.1 (c, i) = w.1 (c, i) ∧ w1.2 (c, i) = w.2 (c, i) := fun c i hc a a1 a2 a3 a4 => by
    simp at a a1 a2 a3 a4
    exact he (c, i) (by simpa using hc) (fun z => absurd z a) (fun z => by
      rcases z with z | z | z | z
      · exact absurd z a1
      · exact absurd z a2
      · exact absurd z a3
      · exact absurd z a4)
  have e3 : ∀ i : Int, 0 ≤ i → i < nF σ → w1.1 (3, i) = w.1 (3, i) ∧ w1.2 (3, i) = w.2 (3, i) := fun i i0 i1 => he (3, i) (by show 3 < 16; decide) (fun _ => ⟨i0, i1⟩) (fun z => absurd z (by show ¬ (3 = 6 ∨ 3 = 7 ∨ 3 = 8 ∨ 3 = 9); decide))
  have e6 : ∀ (c : Nat) (i : Int), Nat.blt c 16 = true → (c == 3) = false → 0 ≤ i → i < nB σ → w1.1 (c, i) = w.1 (c, i) ∧ w1.2 (c, i) = w.2 (c, i) := fun c i hc a i0 i1 => by
    simp at a
    exact he (c, i) (by simpa using hc) (fun z => absurd z a) (fun _ => ⟨i0, i1⟩)
  refine ⟨?_, ?_, ?_, ?_, ?_, ?_, ?_, ?_, ?_, ?_, ?_, ?_, ?_, ?_, ?_, ?_⟩
  · rw [(e0 0 (0) rfl rfl rfl rfl rfl rfl).2, (e0 1 (0) rfl rfl rfl rfl rfl rfl).1, (e0 4 (0) rfl rfl rfl rfl rfl rfl).1, (e0 10 (0) rfl rfl rfl rfl rfl rfl).1, (e0 12 (0) rfl rfl rfl rfl rfl rfl).1, (e0 14 (0) rfl rfl rfl rfl rfl rfl).1]
    exact h.obj
  · rw [(e0 1 (0) rfl rfl rfl rfl rfl rfl).2, (e0 2 (0) rfl rfl rfl rfl rfl rfl).1]
    exact h.fl
  · rw [(e0 2 (0) rfl rfl rfl rfl rfl rfl).2, rws_in (fun j j0 j1 => (e3 j j0 j1).1)]
    exact h.fa
  · intro x h0 h1
    rw [(e3 x h0 h1).2, (e0 0 (0) rfl rfl rfl rfl rfl rfl).1]
    exact h.face h0 h1
  · rw [(e0 4 (0) rfl rfl rfl rfl rfl rfl).2, (e0 5 (0) rfl rfl rfl rfl rfl rfl).1]
    exact h.bl
  · rw [(e0 5 (0) rfl rfl rfl rfl rfl rfl).2, rws_in (fun j j0 j1 => (e6 6 j rfl rfl j0 j1).1)]
    exact h.ba
  · intro x h0 h1
    rw [(e6 6 (x) rfl rfl h0 h1).2, (e3 (bfc σ x) (hb x h0 h1).1 (hb x h0 h1).2).1, (e6 7 (x) rfl rfl h0 h1).1, (e6 8 (x) rfl rfl h0 h1).1, (e6 9 (x) rfl rfl h0 h1).1]
    exact h.bay h0 h1
  · intro x h0 h1
    rw [(e6 7 (x) rfl rfl h0 h1).2]
    exact h.bd h0 h1
  · intro x h0 h1
    rw [(e6 8 (x) rfl rfl h0 h1).2]
    exact h.so h0 h1
  · intro x h0 h1
    rw [(e6 9 (x) rfl rfl h0 h1).2]
    exact h.la h0 h1
  · rw [(e0 10 (0) rfl rfl rfl rfl rfl rfl).2, rws_c _ (fun j => (e0 11 j rfl rfl rfl rfl rfl rfl).1)]
    exact h.oo
  · intro x h0 h1
    rw [(e0 11 (x) rfl rfl rfl rfl rfl rfl).2]
    exact h.op h0 h1
  · rw [(e0 12 (0) rfl rfl rfl rfl rfl rfl).2, rws_c _ (fun j => (e0 13 j rfl rfl rfl rfl rfl rfl).1)]
    exact h.to
  · intro x h0 h1
    rw [(e0 13 (x) rfl rfl rfl rfl rfl rfl).2]
    exact h.ti h0 h1
  · rw [(e0 14 (0) rfl rfl rfl rfl rfl rfl).2, rws_c _ (fun j => (e0 15 j rfl rfl rfl rfl rfl rfl).1)]
    exact h.oo2
  · intro x h0 h1
    rw [(e0 15 (x) rfl rfl rfl rfl rfl rfl).2]
    exact h.tf h0 h1
theorem tX3_init {G : Gm} {w : Wo} {t : Tg} {y : Nat} {n f m : Int} {a b c d e : Value} (hV : w.2 t = some (ob 2 [a, b, c, d, e])) : Ct G mX3_init 1 0 0 w [.ref (w.1 t), .ref y, vI n, vI f, vI m] (fun v w1 => v = none ∧ w1 = (w.1, uV w.2 t (ob 2 [vI n, vI f, vI m, vI (-1), .ref y]))) := by
  refine ct_of [some (.ref (w.1 t)), some (.ref y), some (vI n), some (vI f), some (vI m)] plX3 rfl (Nat.le_of_ble_eq_true rfl) rfl ?_
  intro X hG C hnm hQ
  subst hG
  change CxOk X cX3_init 5 RX3 (none) 1 at C
  refine wg_aload_0 (pc := 0) C dX3_init_0 ?_
  refine wg_aload_1 (pc := 1) C dX3_init_1 ?_
  refine pX3_3 (pc := 2) C hnm hV rfl dX3_init_2 ?_
  refine wg_aload_0 (pc := 5) C dX3_init_5 ?_
  refine wg_objInit (pc := 6) C q738 q103 q104 dX3_init_6 (by decide) (by decide) rfl ?_
  refine wg_aload_0 (pc := 9) C dX3_init_9 ?_
  refine wg_iconst (pc := 10) C dX3_init_10 ?_
  refine pX3_15 (pc := 11) C wo_eq rfl dX3_init_11 ?_
  refine wg_aload_0 (pc := 14) C dX3_init_14 ?_
  refine wg_iload_2 (pc := 15) C dX3_init_15 ?_
  refine pX3_19 (pc := 16) C hnm wo_eq rfl dX3_init_16 ?_
  refine wg_aload_0 (pc := 19) C dX3_init_19 ?_
  refine wg_iload_3 (pc := 20) C dX3_init_20 ?_
  refine pX3_22 (pc := 21) C hnm wo_eq rfl dX3_init_21 ?_
  refine wg_aload_0 (pc := 24) C dX3_init_24 ?_
  refine wg_iload_4 (pc := 25) C dX3_init_25 ?_
  refine pX3_25 (pc := 27) C hnm wo_eq rfl dX3_init_27 ?_
  refine wg_vret (pc := 30) C hQ dX3_init_30 ?_
  exact ⟨rfl, by simp only [uV_uV]⟩

theorem tX4_init {G : Gm} {w : Wo} {j : Int} {y : Nat} {n : Int} {x0 x1 x2 x3 x4 x5 : Value} (hV : w.2 (6, j) = some (ob 3 [x0, x1, x2, x3, x4, x5])) : Ct G mX4_init 1 3 24 w [.ref (w.1 (6, j)), vI n, .ref y] (fun v w1 => v = none ∧ (∀ u, u ≠ (7, j) → u ≠ (8, j) → u ≠ (9, j) → w1.1 u = w.1 u) ∧ w1.2 (6, j) = some (ob 3 [vI n, .ref y, .ref (w1.1 (7, j)), .ref (w1.1 (8, j)), .ref (w1.1 (9, j)), x5]) ∧ w1.2 (7, j) = some (aZ G 8 (fun _ => 0)) ∧ w1.2 (8, j) = some (aI G 8 (fun _ => 0)) ∧ w1.2 (9, j) = some (aI G 8 (fun _ => 0)) ∧ ∀ u, u ≠ (6, j) → u ≠ (7, j) → u ≠ (8, j) → u ≠ (9, j) → w1.2 u = w.2 u) := by
  refine ct_of [some (.ref (w.1 (6, j))), some (vI n), some (.ref y)] plX4 rfl (Nat.le_of_ble_eq_true rfl) rfl ?_
  intro X hG C hnm hQ
  subst hG
  change CxOk X cX4_init 3 RX4 (none) 1 at C
  refine wg_aload_0 (pc := 0) C dX4_init_0 ?_
  refine wg_objInit (pc := 1) C q813 q103 q104 dX4_init_1 (by decide) (by decide) rfl ?_
  refine wg_aload_0 (pc := 4) C dX4_init_4 ?_
  refine wg_bipush (pc := 5) C dX4_init_5 (by decide) ?_
  refine wg_newaZ (pc := 7) (nn := 8) (k' := 2) (n' := 16) (7, j) C q550 rfl (by decide) dX4_init_7 (by omega) (by omega) (fun A1 q1 hq1 hu1 => ?_)
  subst hq1
  rw [← show A1 (6, j) = w.1 (6, j) from hu1 (6, j) (tg_ne rfl)]
  refine pX4_9 (pc := 9) C hnm ((wo_ne (tg_ne rfl)).trans hV) rfl dX4_init_9 ?_
  refine wg_aload_0 (pc := 12) C dX4_init_12 ?_
  refine wg_bipush (pc := 13) C dX4_init_13 (by decide) ?_
  refine wg_newaI (pc := 15) (nn := 8) (k' := 1) (n' := 8) (8, j) C q551 rfl (by decide) dX4_init_15 (by omega) (by omega) (fun A2 q2 hq2 hu2 => ?_)
  subst hq2
  rw [← show A2 (6, j) = A1 (6, j) from hu2 (6, j) (tg_ne rfl)]
  refine pX4_15 (pc := 17) C hnm ((wo_ne (tg_ne rfl)).trans wo_eq) rfl dX4_init_17 ?_
  refine wg_aload_0 (pc := 20) C dX4_init_20 ?_
  refine wg_bipush (pc := 21) C dX4_init_21 (by decide) ?_
  refine wg_newaI (pc := 23) (nn := 8) (k' := 0) (n' := 0) (9, j) C q551 rfl (by decide) dX4_init_23 (by omega) (by omega) (fun A3 q3 hq3 hu3 => ?_)
  subst hq3
  rw [← show A3 (6, j) = A2 (6, j) from hu3 (6, j) (tg_ne rfl)]
  refine pX4_19 (pc := 25) C hnm ((wo_ne (tg_ne rfl)).trans wo_eq) rfl dX4_init_25 ?_
  refine wg_aload_0 (pc := 28) C dX4_init_28 ?_
  refine wg_iload_1 (pc := 29) C dX4_init_29 ?_
  refine pX4_22 (pc := 30) C hnm wo_eq rfl dX4_init_30 ?_
  refine wg_aload_0 (pc := 33) C dX4_init_33 ?_
  refine wg_aload_2 (pc := 34) C dX4_init_34 ?_
  refine pX4_26 (pc := 35) C hnm wo_eq rfl dX4_init_35 ?_
  refine wg_vret (pc := 38) C hQ dX4_init_38 ?_
  refine ⟨rfl, fun u n1 n2 n3 => ?_, ?_, ?_, ?_, ?_, fun u n0 n1 n2 n3 => ?_⟩
  · exact (hu3 u n3).trans ((hu2 u n2).trans (hu1 u n1))
  · have a1 : A3 (7, j) = A1 (7, j) := (hu3 (7, j) (tg_ne rfl)).trans (hu2 (7, j) (tg_ne rfl))
    have a2 : A3 (8, j) = A2 (8, j) := hu3 (8, j) (tg_ne rfl)
    show uV _ (6, j) _ (6, j) = some (ob 3 [vI n, .ref y, .ref (A3 (7, j)), .ref (A3 (8, j)), .ref (A3 (9, j)), x5])
    rw [a1, a2]
    exact uV_eq _ _ _
  · simp [uV]
  · simp [uV]
  · simp [uV]
  · simp [uV, n0, n1, n2, n3]

