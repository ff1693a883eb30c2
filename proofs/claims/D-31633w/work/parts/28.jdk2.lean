/-! new objects; lists: constructors, add with room -/
set_option maxRecDepth 100000
set_option maxHeartbeats 4000000
section NW
variable {X : Cx} {cc : ByteArray} {nL : Nat} {own : String} {ret : Option FieldType} {d : Nat} {pc : Nat} {lv : List (Option Value)} {stk : List Value} {w : Wo} {k n k' n' : Nat}
theorem nJ2 {idx : Nat} (t : Tg) (C : CxOk X cc nL own ret d) (hlk : Cond.classLink own idx RJ2 ∈ lw_all) (hd : decode cc pc = .ok (.new idx, 3)) (hk : 1 + k' ≤ k) (hn2 : 3 + n' ≤ n) (kk : ∀ (ad' : Tg → Nat) (q : Nat), ad' t = q → (∀ u : Tg, u ≠ t → ad' u = w.1 u) → WG X (pc + 3) lv (.ref q :: stk) (ad', uV w.2 t (ob 1 [vI 0, .null, vI 0])) k' n') : WG X pc lv stk w k n :=
  wg_new t C in_J2 tyJ2_ok rfl hlk q106 (lw_g (by decide +kernel) (by decide +kernel)) (by
    intro j hj
    have h : j = 0 ∨ j = 1 ∨ j = 2 := by omega
    rcases h with rfl | rfl | rfl <;> rfl) hd hk hn2 kk
theorem nX3 {idx : Nat} (t : Tg) (C : CxOk X cc nL own ret d) (hlk : Cond.classLink own idx RX3 ∈ lw_all) (hd : decode cc pc = .ok (.new idx, 3)) (hk : 1 + k' ≤ k) (hn2 : 5 + n' ≤ n) (kk : ∀ (ad' : Tg → Nat) (q : Nat), ad' t = q → (∀ u : Tg, u ≠ t → ad' u = w.1 u) → WG X (pc + 3) lv (.ref q :: stk) (ad', uV w.2 t (ob 2 [vI 0, vI 0, vI 0, vI 0, .null])) k' n') : WG X pc lv stk w k n :=
  wg_new t C in_X3 tyX3_ok rfl hlk q734 (lw_g (by decide +kernel) (by decide +kernel)) (by
    intro j hj
    have h : j = 0 ∨ j = 1 ∨ j = 2 ∨ j = 3 ∨ j = 4 := by omega
    rcases h with rfl | rfl | rfl | rfl | rfl <;> rfl) hd hk hn2 kk
theorem nX4 {idx : Nat} (t : Tg) (C : CxOk X cc nL own ret d) (hlk : Cond.classLink own idx RX4 ∈ lw_all) (hd : decode cc pc = .ok (.new idx, 3)) (hk : 1 + k' ≤ k) (hn2 : 6 + n' ≤ n) (kk : ∀ (ad' : Tg → Nat) (q : Nat), ad' t = q → (∀ u : Tg, u ≠ t → ad' u = w.1 u) → WG X (pc + 3) lv (.ref q :: stk) (ad', uV w.2 t (ob 3 [vI 0, .null, .null, .null, .null, vI 0])) k' n') : WG X pc lv stk w k n :=
  wg_new t C in_X4 tyX4_ok rfl hlk q809 (lw_g (by decide +kernel) (by decide +kernel)) (by
    intro j hj
    have h : j = 0 ∨ j = 1 ∨ j = 2 ∨ j = 3 ∨ j = 4 ∨ j = 5 := by omega
    rcases h with rfl | rfl | rfl | rfl | rfl | rfl <;> rfl) hd hk hn2 kk
theorem nX5 {idx : Nat} (t : Tg) (C : CxOk X cc nL own ret d) (hlk : Cond.classLink own idx RX5 ∈ lw_all) (hd : decode cc pc = .ok (.new idx, 3)) (hk : 1 + k' ≤ k) (hn2 : 6 + n' ≤ n) (kk : ∀ (ad' : Tg → Nat) (q : Nat), ad' t = q → (∀ u : Tg, u ≠ t → ad' u = w.1 u) → WG X (pc + 3) lv (.ref q :: stk) (ad', uV w.2 t (ob 5 [vI 0, vI 0, .null, .null, .null, vI 0])) k' n') : WG X pc lv stk w k n :=
  wg_new t C in_X5 tyX5_ok rfl hlk q1185 (lw_g (by decide +kernel) (by decide +kernel)) (by
    intro j hj
    have h : j = 0 ∨ j = 1 ∨ j = 2 ∨ j = 3 ∨ j = 4 ∨ j = 5 := by omega
    rcases h with rfl | rfl | rfl | rfl | rfl | rfl <;> rfl) hd hk hn2 kk
theorem nX6 {idx : Nat} (t : Tg) (C : CxOk X cc nL own ret d) (hlk : Cond.classLink own idx RX6 ∈ lw_all) (hd : decode cc pc = .ok (.new idx, 3)) (hk : 1 + k' ≤ k) (hn2 : 2 + n' ≤ n) (kk : ∀ (ad' : Tg → Nat) (q : Nat), ad' t = q → (∀ u : Tg, u ≠ t → ad' u = w.1 u) → WG X (pc + 3) lv (.ref q :: stk) (ad', uV w.2 t (ob 6 [.null, .null])) k' n') : WG X pc lv stk w k n :=
  wg_new t C in_X6 tyX6_ok rfl hlk q561 (lw_g (by decide +kernel) (by decide +kernel)) (by
    intro j hj
    have h : j = 0 ∨ j = 1 := by omega
    rcases h with rfl | rfl <;> rfl) hd hk hn2 kk
theorem nX1 {idx : Nat} (t : Tg) (C : CxOk X cc nL own ret d) (hlk : Cond.classLink own idx RX1 ∈ lw_all) (hd : decode cc pc = .ok (.new idx, 3)) (hk : 1 + k' ≤ k) (hn2 : 7 + n' ≤ n) (kk : ∀ (ad' : Tg → Nat) (q : Nat), ad' t = q → (∀ u : Tg, u ≠ t → ad' u = w.1 u) → WG X (pc + 3) lv (.ref q :: stk) (ad', uV w.2 t (ob 0 [.null, .null, vI 0, vI 0, .null, .null, .null])) k' n') : WG X pc lv stk w k n :=
  wg_new t C in_X1 tyX1_ok rfl hlk q98 (lw_g (by decide +kernel) (by decide +kernel)) (by
    intro j hj
    have h : j = 0 ∨ j = 1 ∨ j = 2 ∨ j = 3 ∨ j = 4 ∨ j = 5 ∨ j = 6 := by omega
    rcases h with rfl | rfl | rfl | rfl | rfl | rfl | rfl <;> rfl) hd hk hn2 kk
theorem nX2 {idx : Nat} (t : Tg) (C : CxOk X cc nL own ret d) (hlk : Cond.classLink own idx RX2 ∈ lw_all) (hd : decode cc pc = .ok (.new idx, 3)) (hk : 1 + k' ≤ k) (hn2 : 9 + n' ≤ n) (kk : ∀ (ad' : Tg → Nat) (q : Nat), ad' t = q → (∀ u : Tg, u ≠ t → ad' u = w.1 u) → WG X (pc + 3) lv (.ref q :: stk) (ad', uV w.2 t (ob 4 [vI 0, .null, .null, .null, .null, vI 0, vI 0, .null, .null])) k' n') : WG X pc lv stk w k n :=
  wg_new t C in_X2 tyX2_ok rfl hlk q1095 (lw_g (by decide +kernel) (by decide +kernel)) (by
    intro j hj
    have h : j = 0 ∨ j = 1 ∨ j = 2 ∨ j = 3 ∨ j = 4 ∨ j = 5 ∨ j = 6 ∨ j = 7 ∨ j = 8 := by omega
    rcases h with rfl | rfl | rfl | rfl | rfl | rfl | rfl | rfl | rfl <;> rfl) hd hk hn2 kk
end NW
/-- an object of a class, in every heap that holds the world -/
def RcG (G : Gm) (w : Wo) (y : Nat) (Cn : String) : Prop := ∀ X : Cx, xG X = G → Pm (xG X) (xS X) (xS X).heap → Rc X w y Cn
theorem RcG.mk {G : Gm} {w : Wo} {t : Tg} {ci : Nat} {fs : List Value} {q : vw_C} (hV : w.2 t = some (ob ci fs)) (hc : clsX[ci]? = some q) : RcG G w (w.1 t) q.1 := by
  intro X hG hP H locs hH hS
  exact va_recv hP.1.1 (ws := [(w.1 t, ob ci fs)]) (fun j x hj => by
    have : j = 0 := by
      have h1 := (List.getElem?_eq_some_iff.mp hj).1
      simp at h1
      exact h1
    subst this
    cases hj
    exact (hH.1 t _ hV).1) hc (q0 := 0) rfl
theorem RcG.box {G : Gm} {w : Wo} {k : Nat} (hk : k < 256) : RcG G w (gS G (10 + k)) nmN := by
  intro X hG hP H locs hH hS
  subst hG
  exact va_Orecv (hP.2.2.2.2.2.2.2.2.1.1 k hk) hS
/-- it is so whatever is written elsewhere -/
def RcA (G : Gm) (w : Wo) (t ta : Tg) (y : Nat) (Cn : String) : Prop := ∀ w' : Wo, (∀ u : Tg, u ≠ t → u ≠ ta → w'.2 u = w.2 u ∧ w'.1 u = w.1 u) → RcG G w' y Cn
theorem RcA.mk {G : Gm} {w : Wo} {t ta tb : Tg} {ci : Nat} {fs : List Value} {q : vw_C} (hV : w.2 tb = some (ob ci fs)) (hc : clsX[ci]? = some q) (h1 : tb ≠ t) (h2 : tb ≠ ta) : RcA G w t ta (w.1 tb) q.1 := fun w' hw => by
  rw [← (hw tb h1 h2).2]
  exact RcG.mk ((hw tb h1 h2).1.trans hV) hc
theorem RcA.box {G : Gm} {w : Wo} {t ta : Tg} {k : Nat} (hk : k < 256) : RcA G w t ta (gS G (10 + k)) nmN := fun _ _ => RcG.box hk
theorem tJ0_init {G : Gm} {w : Wo} {a : Nat} : Ct G mJ0_init 2 0 0 w [.ref a] (fun v w1 => v = none ∧ w1 = w) := by
  refine ct_of [some (.ref a)] plJ0 rfl (Nat.le_of_ble_eq_true rfl) rfl ?_
  intro X hG C hnm hQ
  subst hG
  change CxOk X cJ0_init 1 RJ0 (none) 2 at C
  refine wg_aload_0 (pc := 0) C dJ0_init_0 ?_
  refine wg_objInit (pc := 1) C q116 q103 q104 dJ0_init_1 (by decide) (by decide) rfl ?_
  refine wg_vret (pc := 4) C hQ dJ0_init_4 ?_
  exact ⟨rfl, rfl⟩

theorem tJ1_init {G : Gm} {w : Wo} {t : Tg} {a b c : Value} (hV : w.2 t = some (ob 1 [a, b, c])) : Ct G mJ1_init 3 0 0 w [.ref (w.1 t)] (fun v w1 => v = none ∧ w1 = (w.1, uV w.2 t (ob 1 [vI 0, b, c]))) := by
  refine ct_of [some (.ref (w.1 t))] plJ1 rfl (Nat.le_of_ble_eq_true rfl) rfl ?_
  intro X hG C hnm hQ
  subst hG
  change CxOk X cJ1_init 1 RJ1 (none) 3 at C
  refine wg_aload_0 (pc := 0) C dJ1_init_0 ?_
  refine wg_callI (pc := 1) C (k' := 0) (n' := 0) kJ0_init q113 (tJ0_init) dJ1_init_1 rfl rfl (Nat.le_of_ble_eq_true rfl) rfl (by decide) (by omega) (by omega) (fun v1 w1 h1 => ?_)
  obtain ⟨e1, ew1⟩ := h1
  subst e1
  rw [ew1]
  refine wg_aload_0 (pc := 4) C dJ1_init_4 ?_
  refine wg_iconst (pc := 5) C dJ1_init_5 ?_
  refine pJ1_7 (pc := 6) C hV rfl dJ1_init_6 ?_
  refine wg_vret (pc := 9) C hQ dJ1_init_9 ?_
  exact ⟨rfl, rfl⟩

theorem tJ2_init_2 {G : Gm} {w : Wo} {t : Tg} {a b c : Value} (hV : w.2 t = some (ob 1 [a, b, c])) : Ct G mJ2_init_2 4 0 0 w [.ref (w.1 t)] (fun v w1 => v = none ∧ w1 = (w.1, uV w.2 t (ob 1 [vI 0, .ref (gS G 1), c]))) := by
  refine ct_of [some (.ref (w.1 t))] plJ2 rfl (Nat.le_of_ble_eq_true rfl) rfl ?_
  intro X hG C hnm hQ
  subst hG
  change CxOk X cJ2_init_2 1 RJ2 (none) 4 at C
  refine wg_aload_0 (pc := 0) C dJ2_init_2_0 ?_
  refine wg_callI (pc := 1) C (k' := 0) (n' := 0) kJ1_init q110 (tJ1_init hV) dJ2_init_2_1 rfl rfl (Nat.le_of_ble_eq_true rfl) rfl (by decide) (by omega) (by omega) (fun v1 w1 h1 => ?_)
  obtain ⟨e1, ew1⟩ := h1
  subst e1
  rw [ew1]
  refine wg_aload_0 (pc := 4) C dJ2_init_2_4 ?_
  refine wg_gets (pc := 5) C C.pm.2.2.2.1 q779 (fun _ h => h) dJ2_init_2_5 ?_
  refine pJ2_9 (pc := 8) C (uV_eq _ _ _) rfl dJ2_init_2_8 ?_
  refine wg_vret (pc := 11) C hQ dJ2_init_2_11 ?_
  exact ⟨rfl, by rw [uV_uV]⟩

theorem tJ2_init {G : Gm} {w : Wo} {t ta : Tg} {a b c : Value} {z : Int} {m : Nat} (htt : t ≠ ta) (hV : w.2 t = some (ob 1 [a, b, c])) (hz : z = m) (h0 : 0 < m) (hm : m < 1000) : Ct G mJ2_init 4 1 m w [.ref (w.1 t), vI z] (fun v w1 => v = none ∧ (∀ u, u ≠ ta → w1.1 u = w.1 u) ∧ w1.2 t = some (ob 1 [vI 0, .ref (w1.1 ta), c]) ∧ w1.2 ta = some (aR G 3 m (fun _ => none)) ∧ ∀ u, u ≠ t → u ≠ ta → w1.2 u = w.2 u) := by
  refine ct_of [some (.ref (w.1 t)), some (vI z)] plJ2 rfl (Nat.le_of_ble_eq_true rfl) rfl ?_
  intro X hG C hnm hQ
  subst hG
  change CxOk X cJ2_init 2 RJ2 (none) 4 at C
  refine wg_aload_0 (pc := 0) C dJ2_init_0 ?_
  refine wg_callI (pc := 1) C (k' := 1) (n' := m) kJ1_init q110 (tJ1_init hV) dJ2_init_1 rfl rfl (Nat.le_of_ble_eq_true rfl) rfl (by decide) (by omega) (by omega) (fun v1 w1 h1 => ?_)
  obtain ⟨e1, ew1⟩ := h1
  subst e1
  rw [ew1]
  refine wg_iload_1 (pc := 4) C dJ2_init_4 ?_
  refine wg_if_le (tgt := 19) (pc := 5) C dJ2_init_5 (by decide) (by unfold InR; omega) (fun h5 => by exfalso; omega) (fun h5 => ?_)
  refine wg_aload_0 (pc := 8) C dJ2_init_8 ?_
  refine wg_iload_1 (pc := 9) C dJ2_init_9 ?_
  refine wg_newO (pc := 10) (nn := m) (k' := 0) (n' := 0) ta C q117 hz (by omega) dJ2_init_10 (by omega) (by omega) (fun ad q hq hu => ?_)
  have ht := hu t htt
  subst hq
  rw [← show ad t = w.1 t from ht]
  refine pJ2_9 (pc := 13) C ((wo_ne htt).trans (uV_eq _ _ _)) rfl dJ2_init_13 ?_
  refine wg_goto (tgt := 60) (pc := 16) C dJ2_init_16 (by decide) ?_
  refine wg_vret (pc := 60) C hQ dJ2_init_60 ?_
  refine ⟨rfl, fun u hne => hu u hne, ?_, ?_, fun u g1 g2 => ?_⟩
  · exact uV_eq _ _ _
  · exact (uV_ne (Ne.symm htt)).trans (uV_eq _ _ _)
  · exact (uV_ne g1).trans ((uV_ne g2).trans (uV_ne g1))

theorem tJ2_add_2 {G : Gm} {w : Wo} {t ta : Tg} {a b : Value} {m z : Int} {cap y : Nat} {r : Int → Option Nat} {Cn : String} (htt : t ≠ ta) (hV : w.2 t = some (ob 1 [a, b, vI z])) (hA : w.2 ta = some (aR G 3 cap r)) (h0 : 0 ≤ m) (h1 : m < cap) (hc : cap < 100000) (hy : RcA G w t ta y Cn) (hcast : (Cn, nmO) ∈ castL) : Ct G mJ2_add_2 1 0 0 w [.ref (w.1 t), .ref y, .ref (w.1 ta), vI m] (fun v w1 => v = none ∧ w1 = (w.1, uV (uV w.2 ta (aR G 3 cap (upR r m y))) t (ob 1 [a, b, vI (m + 1)]))) := by
  refine ct_of [some (.ref (w.1 t)), some (.ref y), some (.ref (w.1 ta)), some (vI m)] plJ2 rfl (Nat.le_of_ble_eq_true rfl) rfl ?_
  intro X hG C hnm hQ
  subst hG
  change CxOk X cJ2_add_2 4 RJ2 (none) 1 at C
  refine wg_iload_3 (pc := 0) C dJ2_add_2_0 ?_
  refine wg_aload_2 (pc := 1) C dJ2_add_2_1 ?_
  refine wg_alen (pc := 2) (ty := 3) C rfl hA rfl dJ2_add_2_2 ?_
  refine wg_icmp_ne (tgt := 11) (pc := 3) C dJ2_add_2_3 (by decide) (by unfold InR; omega) (by unfold InR; omega) (fun h3 => ?_) (fun h3 => by exfalso; omega)
  refine wg_aload_2 (pc := 11) C dJ2_add_2_11 ?_
  refine wg_iload_3 (pc := 12) C dJ2_add_2_12 ?_
  refine wg_aload_1 (pc := 13) C dJ2_add_2_13 ?_
  refine wg_aast (pc := 14) (Cn := Cn) C hA rfl h0 h1 (by omega) (hy w (fun _ _ _ => ⟨rfl, rfl⟩) X rfl C.pm) hcast dJ2_add_2_14 ?_
  refine wg_aload_0 (pc := 15) C dJ2_add_2_15 ?_
  refine wg_iload_3 (pc := 16) C dJ2_add_2_16 ?_
  refine wg_iconst (pc := 17) C dJ2_add_2_17 ?_
  refine wg_iadd (pc := 18) C dJ2_add_2_18 ?_
  refine pJ2_48 (pc := 19) C ((uV_ne htt).trans hV) rfl dJ2_add_2_19 ?_
  refine wg_vret (pc := 22) C hQ dJ2_add_2_22 ?_
  exact ⟨rfl, rfl⟩

theorem tJ2_add {G : Gm} {w : Wo} {t ta : Tg} {a m : Int} {cap y : Nat} {r : Int → Option Nat} {Cn : String} (htt : t ≠ ta) (hV : w.2 t = some (ob 1 [vI a, .ref (w.1 ta), vI m])) (hA : w.2 ta = some (aR G 3 cap r)) (h0 : 0 ≤ m) (h1 : m < cap) (hc : cap < 100000) (hy : RcA G w t ta y Cn) (hcast : (Cn, nmO) ∈ castL) : Ct G mJ2_add 2 0 0 w [.ref (w.1 t), .ref y] (fun v w1 => v = some (vI 1) ∧ w1.1 = w.1 ∧ w1.2 t = some (ob 1 [vI (a + 1), .ref (w.1 ta), vI (m + 1)]) ∧ w1.2 ta = some (aR G 3 cap (upR r m y)) ∧ ∀ u, u ≠ t → u ≠ ta → w1.2 u = w.2 u) := by
  refine ct_of [some (.ref (w.1 t)), some (.ref y)] plJ2 rfl (Nat.le_of_ble_eq_true rfl) rfl ?_
  intro X hG C hnm hQ
  subst hG
  change CxOk X cJ2_add 2 RJ2 (some .boolean) 2 at C
  refine wg_aload_0 (pc := 0) C dJ2_add_0 ?_
  refine wg_dup (pc := 1) C dJ2_add_1 rfl ?_
  refine gJ2_63 (pc := 2) C hV rfl dJ2_add_2 ?_
  refine wg_iconst (pc := 5) C dJ2_add_5 ?_
  refine wg_iadd (pc := 6) C dJ2_add_6 ?_
  refine pJ2_63 (pc := 7) C hV rfl dJ2_add_7 ?_
  have hV2 : ((w.1, uV w.2 t (ob 1 [vI (a + 1), .ref (w.1 ta), vI m])) : Wo).2 t = some (ob 1 [vI (a + 1), .ref (w.1 ta), vI m]) := uV_eq _ _ _
  have hA2 : ((w.1, uV w.2 t (ob 1 [vI (a + 1), .ref (w.1 ta), vI m])) : Wo).2 ta = some (aR (xG X) 3 cap r) := (uV_ne (Ne.symm htt)).trans hA
  have hy2 : RcA (xG X) (w.1, uV w.2 t (ob 1 [vI (a + 1), .ref (w.1 ta), vI m])) t ta y Cn := fun w' hw => hy w' (fun u g1 g2 => ⟨((hw u g1 g2).1).trans (uV_ne g1), (hw u g1 g2).2⟩)
  refine wg_aload_0 (pc := 10) C dJ2_add_10 ?_
  refine wg_aload_1 (pc := 11) C dJ2_add_11 ?_
  refine wg_aload_0 (pc := 12) C dJ2_add_12 ?_
  refine gJ2_9 (pc := 13) C hV2 rfl dJ2_add_13 ?_
  refine wg_aload_0 (pc := 16) C dJ2_add_16 ?_
  refine gJ2_48 (pc := 17) C hV2 rfl dJ2_add_17 ?_
  refine wg_callV (pc := 20) C (k' := 0) (n' := 0) kJ2_add_2 q767 (tJ2_add_2 htt hV2 hA2 h0 h1 hc hy2 hcast) (rc_of C hV2 rfl) dJ2_add_20 rfl rfl (Nat.le_of_ble_eq_true rfl) rfl (by decide) (by omega) (by omega) (fun v20 w20 h20 => ?_)
  obtain ⟨e20, ew20⟩ := h20
  subst e20
  rw [ew20]
  refine wg_iconst (pc := 23) C dJ2_add_23 ?_
  refine wg_zret (pc := 24) C hQ dJ2_add_24 (Or.inr rfl) ⟨rfl, rfl, uV_eq _ _ _, ?_, fun u g1 g2 => ?_⟩
  · exact (uV_ne (Ne.symm htt)).trans (uV_eq _ _ _)
  · exact (uV_ne g1).trans ((uV_ne g2).trans (uV_ne g1))

