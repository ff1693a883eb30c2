/-! JDK methods: lists, checks, Integers -/
set_option maxRecDepth 100000
theorem tJ2_size {G : Gm} {w : Wo} {t : Tg} {a b : Value} {m : Int} (hV : w.2 t = some (ob 1 [a, b, vI m])) : PCt G mJ2_size 1 w [.ref (w.1 t)] (vI m) (True) := by
  refine ⟨ct_of [some (.ref (w.1 t))] plJ2 rfl (Nat.le_of_ble_eq_true rfl) rfl ?_, trivial⟩
  intro X hG C hnm hQ
  subst hG
  change CxOk X cJ2_size 1 RJ2 (some .int) 1 at C
  refine wg_aload_0 (pc := 0) C dJ2_size_0 ?_
  refine gJ2_48 (pc := 1) C hV rfl dJ2_size_1 ?_
  refine wg_iret (pc := 4) C hQ dJ2_size_4 ?_
  exact ⟨rfl, rfl⟩

theorem tJ2_isEmpty {G : Gm} {w : Wo} {t : Tg} {a b : Value} {m : Int} (hV : w.2 t = some (ob 1 [a, b, vI m])) (hm : InR m) : PCt G mJ2_isEmpty 1 w [.ref (w.1 t)] (vI (if m = 0 then 1 else 0)) (True) := by
  refine ⟨ct_of [some (.ref (w.1 t))] plJ2 rfl (Nat.le_of_ble_eq_true rfl) rfl ?_, trivial⟩
  intro X hG C hnm hQ
  subst hG
  change CxOk X cJ2_isEmpty 1 RJ2 (some .boolean) 1 at C
  unfold InR at hm
  refine wg_aload_0 (pc := 0) C dJ2_isEmpty_0 ?_
  refine gJ2_48 (pc := 1) C hV rfl dJ2_isEmpty_1 ?_
  refine wg_if_ne (tgt := 11) (pc := 4) C dJ2_isEmpty_4 (by decide) (by unfold InR; omega) (fun h4 => ?_) (fun h4 => ?_)
  · refine wg_iconst (pc := 11) C dJ2_isEmpty_11 ?_
    refine wg_zret (pc := 12) C hQ dJ2_isEmpty_12 (by omega) ?_
    exact ⟨by simp_all, rfl⟩
  · refine wg_iconst (pc := 7) C dJ2_isEmpty_7 ?_
    refine wg_goto (tgt := 12) (pc := 8) C dJ2_isEmpty_8 (by decide) ?_
    refine wg_zret (pc := 12) C hQ dJ2_isEmpty_12 (by omega) ?_
    exact ⟨by simp_all, rfl⟩

theorem tJ2_elementData {G : Gm} {w : Wo} {t ta : Tg} {a b : Value} {cap y : Nat} {r : Int → Option Nat} {i : Int} (hV : w.2 t = some (ob 1 [a, .ref (w.1 ta), b])) (hA : w.2 ta = some (aR G 3 cap r)) (h0 : 0 ≤ i) (h1 : i < cap) (hc : cap < 100000) (hr : r i = some y) : PCt G mJ2_elementData 1 w [.ref (w.1 t), vI i] (.ref y) (True) := by
  refine ⟨ct_of [some (.ref (w.1 t)), some (vI i)] plJ2 rfl (Nat.le_of_ble_eq_true rfl) rfl ?_, trivial⟩
  intro X hG C hnm hQ
  subst hG
  change CxOk X cJ2_elementData 2 RJ2 (some ((.object "java/lang/Object"))) 1 at C
  refine wg_aload_0 (pc := 0) C dJ2_elementData_0 ?_
  refine gJ2_9 (pc := 1) C hV rfl dJ2_elementData_1 ?_
  refine wg_iload_1 (pc := 4) C dJ2_elementData_4 ?_
  refine wg_aald (pc := 5) C rfl rfl hA rfl h0 h1 (by omega) hr dJ2_elementData_5 ?_
  refine wg_aret (pc := 6) C (Or.inl ⟨_, rfl⟩) hQ dJ2_elementData_6 ?_
  exact ⟨rfl, rfl⟩

theorem tJ14_checkIndex {G : Gm} {w : Wo} {i m : Int} {b : Nat} (hm : InR m) (h0 : 0 ≤ i) (h1 : i < m) : PCt G mJ14_checkIndex 1 w [vI i, vI m, .null] (vI i) (True) := by
  refine ⟨ct_of [some (vI i), some (vI m), some (.null)] plJ14 rfl (Nat.le_of_ble_eq_true rfl) rfl ?_, trivial⟩
  intro X hG C hnm hQ
  subst hG
  change CxOk X cJ14_checkIndex 3 RJ14 (some .int) 1 at C
  unfold InR at hm
  refine wg_iload_0 (pc := 0) C dJ14_checkIndex_0 ?_
  refine wg_if_lt (tgt := 9) (pc := 1) C dJ14_checkIndex_1 (by decide) (by unfold InR; omega) (fun h1 => by exfalso; omega) (fun h1 => ?_)
  refine wg_iload_0 (pc := 4) C dJ14_checkIndex_4 ?_
  refine wg_iload_1 (pc := 5) C dJ14_checkIndex_5 ?_
  refine wg_icmp_lt (tgt := 16) (pc := 6) C dJ14_checkIndex_6 (by decide) (by unfold InR; omega) (by unfold InR; omega) (fun h6 => ?_) (fun h6 => by exfalso; omega)
  refine wg_iload_0 (pc := 16) C dJ14_checkIndex_16 ?_
  refine wg_iret (pc := 17) C hQ dJ14_checkIndex_17 ?_
  exact ⟨rfl, rfl⟩

theorem tJ18_checkIndex {G : Gm} {w : Wo} {i m : Int} (hm : InR m) (h0 : 0 ≤ i) (h1 : i < m) : PCt G mJ18_checkIndex 2 w [vI i, vI m] (vI i) (True) := by
  refine ⟨ct_of [some (vI i), some (vI m)] plJ18 rfl (Nat.le_of_ble_eq_true rfl) rfl ?_, trivial⟩
  intro X hG C hnm hQ
  subst hG
  change CxOk X cJ18_checkIndex 2 RJ18 (some .int) 2 at C
  refine wg_iload_0 (pc := 0) C dJ18_checkIndex_0 ?_
  refine wg_iload_1 (pc := 1) C dJ18_checkIndex_1 ?_
  refine wg_null (pc := 2) C dJ18_checkIndex_2 ?_
  refine wg_callSP (pc := 3) C kJ14_checkIndex q508 (tJ14_checkIndex (b := 0) hm h0 h1) dJ18_checkIndex_3 rfl rfl (Nat.le_of_ble_eq_true rfl) rfl (by decide) (fun f3 => ?_)
  refine wg_iret (pc := 6) C hQ dJ18_checkIndex_6 ?_
  exact ⟨rfl, rfl⟩

theorem tJ2_get {G : Gm} {w : Wo} {t ta : Tg} {a : Value} {cap y : Nat} {r : Int → Option Nat} {i m : Int} (hV : w.2 t = some (ob 1 [a, .ref (w.1 ta), vI m])) (hA : w.2 ta = some (aR G 3 cap r)) (h0 : 0 ≤ i) (h1 : i < m) (h2 : m ≤ cap) (hc : cap < 100000) (hr : r i = some y) : PCt G mJ2_get 3 w [.ref (w.1 t), vI i] (.ref y) (True) := by
  refine ⟨ct_of [some (.ref (w.1 t)), some (vI i)] plJ2 rfl (Nat.le_of_ble_eq_true rfl) rfl ?_, trivial⟩
  intro X hG C hnm hQ
  subst hG
  change CxOk X cJ2_get 2 RJ2 (some ((.object "java/lang/Object"))) 3 at C
  refine wg_iload_1 (pc := 0) C dJ2_get_0 ?_
  refine wg_aload_0 (pc := 1) C dJ2_get_1 ?_
  refine gJ2_48 (pc := 2) C hV rfl dJ2_get_2 ?_
  refine wg_callSP (pc := 5) C kJ18_checkIndex q505 (tJ18_checkIndex (by unfold InR; omega) h0 h1) dJ2_get_5 rfl rfl (Nat.le_of_ble_eq_true rfl) rfl (by decide) (fun f5 => ?_)
  refine wg_pop (pc := 8) C dJ2_get_8 rfl ?_
  refine wg_aload_0 (pc := 9) C dJ2_get_9 ?_
  refine wg_iload_1 (pc := 10) C dJ2_get_10 ?_
  refine wg_callVP (pc := 11) C kJ2_elementData q511 (tJ2_elementData hV hA h0 (by omega) hc hr) (rc_of C hV rfl) dJ2_get_11 rfl rfl (Nat.le_of_ble_eq_true rfl) rfl (by decide) (fun f11 => ?_)
  refine wg_aret (pc := 14) C (Or.inl ⟨_, rfl⟩) hQ dJ2_get_14 ?_
  exact ⟨rfl, rfl⟩

