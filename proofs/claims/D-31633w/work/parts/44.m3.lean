/-! the reference: what it writes by itself -/
set_option maxRecDepth 100000
set_option maxHeartbeats 4000000
/-- of the reference's own: all but the ties of a level and the tags of faces that aren't there -/
def ZK (ζ ζ' : St) : Prop := ∀ c : Nat, ¬ c = 5 → ¬ c = 6 → ¬ c = 7 → ζ' c = ζ c
theorem ZK.rf (ζ : St) : ZK ζ ζ := fun _ _ _ _ => rfl
theorem ZK.tr {a b c : St} (h1 : ZK a b) (h2 : ZK b c) : ZK a c := fun i x y z => (h2 i x y z).trans (h1 i x y z)
theorem ZK.us {a b : St} (h : ZK a b) {c : Nat} (hc : c = 5 ∨ c = 6 ∨ c = 7) (i j v : Int) : ZK a (uS b c i j v) := fun d x y z => by
  rw [← h d x y z]
  funext i' j'
  exact uS_c (by omega)
def thr (p q r : Prop) [Decidable p] [Decidable q] [Decidable r] : Int := if p then (if q then (if r then 0 else 3) else 2) else 1
def wdUp (σ : St) (b k : Int) : St := fun c i j => if c = 9 ∧ j = 0 ∧ 0 ≤ i ∧ i < k ∧ touch σ i b then -1 else σ c i j
theorem wdUp_0 (σ : St) (b : Int) : wdUp σ b 0 = σ := by
  funext c i j
  show (if c = 9 ∧ j = 0 ∧ 0 ≤ i ∧ i < 0 ∧ touch σ i b then (-1 : Int) else σ c i j) = σ c i j
  rw [if_neg (fun z => by omega)]
theorem wdUp_t (σ : St) (b : Int) {k : Int} (h : 0 ≤ k) (ht : touch σ k b) : uS (wdUp σ b k) 9 k 0 (-1) = wdUp σ b (k + 1) := by
  funext c i j
  show (if c = 9 ∧ i = k ∧ j = 0 then (-1 : Int) else if c = 9 ∧ j = 0 ∧ 0 ≤ i ∧ i < k ∧ touch σ i b then -1 else σ c i j) = if c = 9 ∧ j = 0 ∧ 0 ≤ i ∧ i < k + 1 ∧ touch σ i b then -1 else σ c i j
  by_cases hi : c = 9 ∧ i = k ∧ j = 0
  · obtain ⟨h1, h2, h3⟩ := hi
    subst h1 h2 h3
    rw [if_pos ⟨rfl, rfl, rfl⟩, if_pos ⟨rfl, rfl, h, by omega, ht⟩]
  · rw [if_neg hi]
    by_cases hc : c = 9 ∧ j = 0 ∧ 0 ≤ i ∧ i < k ∧ touch σ i b
    · rw [if_pos hc, if_pos ⟨hc.1, hc.2.1, hc.2.2.1, by omega, hc.2.2.2.2⟩]
    · rw [if_neg hc, if_neg (fun z => hc ⟨z.1, z.2.1, z.2.2.1, by
        have : ¬ i = k := fun q => hi ⟨z.1, q, z.2.1⟩
        omega, z.2.2.2.2⟩)]
theorem wdUp_k (σ : St) (b k : Int) : grn (wdUp σ b k) k = grn σ k := by
  show (if 9 = 9 ∧ (0 : Int) = 0 ∧ 0 ≤ k ∧ k < k ∧ touch σ k b then (-1 : Int) else σ 9 k 0) = σ 9 k 0
  rw [if_neg (fun z => by omega)]
theorem wdUp_n (σ : St) (b : Int) {k v : Int} (hv : v = grn (wdUp σ b k) k) (ht : ¬ touch σ k b) : uS (wdUp σ b k) 9 k 0 v = wdUp σ b (k + 1) := by
  rw [uS_same _ hv.symm]
  funext c i j
  show (if c = 9 ∧ j = 0 ∧ 0 ≤ i ∧ i < k ∧ touch σ i b then (-1 : Int) else σ c i j) = if c = 9 ∧ j = 0 ∧ 0 ≤ i ∧ i < k + 1 ∧ touch σ i b then -1 else σ c i j
  by_cases hc : c = 9 ∧ j = 0 ∧ 0 ≤ i ∧ i < k ∧ touch σ i b
  · rw [if_pos hc, if_pos ⟨hc.1, hc.2.1, hc.2.2.1, by omega, hc.2.2.2.2⟩]
  · rw [if_neg hc, if_neg (fun z => hc ⟨z.1, z.2.1, z.2.2.1, by
      have : ¬ i = k := fun q => ht (by rw [← q]; exact z.2.2.2.2)
      omega, z.2.2.2.2⟩)]
theorem Ok.wdUp {σ : St} (h : Ok σ) (b k : Int) : Ok (wdUp σ b k) :=
  ⟨h.hF, h.hB, h.hFB, h.f0, fun f a b => h.fc a b, fun k a b => h.by a b, h.lf, h.bd, h.so, h.la, h.op, fun k l a b c => h.lz a b c, fun l p a => h.oz a, h.dy, h.lm, fun g => by
    show -1 ≤ (if 9 = 9 ∧ (0 : Int) = 0 ∧ 0 ≤ g ∧ g < k ∧ touch σ g b then (-1 : Int) else grn σ g) ∧ (if 9 = 9 ∧ (0 : Int) = 0 ∧ 0 ≤ g ∧ g < k ∧ touch σ g b then (-1 : Int) else grn σ g) ≤ 506
    have := h.gr g
    split <;> omega⟩
/-- the search of a level, in the reference's own arrays -/
def FmOk (ζ : St) (n : Int) (s : (Int → Int) × (Int → Int)) : Prop := ∀ p, 0 ≤ p → p < n → ζ 6 p 0 = s.1 p ∧ ζ 5 p 0 = s.2 p
theorem tieTo_cp {σ : St} {l : Int} {t t' : Int → Int} (ht : ∀ p, 0 ≤ p → p < pos σ → t p = t' p) (k : Int) : tieTo σ l t k = tieTo σ l t' k := by
  have hf : ∀ q, free σ l t q ↔ free σ l t' q := fun q => by
    constructor
    · intro z
      exact ⟨z.1, z.2.1, by rw [← ht q z.1.1 z.1.2.1]; exact z.2.2⟩
    · intro z
      exact ⟨z.1, z.2.1, by rw [ht q z.1.1 z.1.2.1]; exact z.2.2⟩
  unfold tieTo
  simp only [hf]
theorem tieN_S (σ : St) (l : Int) {k : Int} (h0 : 0 ≤ k) : tieN σ l (k + 1).toNat = tieS σ l (tieN σ l k.toNat) k := by
  rw [show (k + 1).toNat = k.toNat + 1 by omega]
  show tieS σ l (tieN σ l k.toNat) (k.toNat : Int) = _
  rw [show ((k.toNat : Nat) : Int) = k by omega]
theorem FmOk.one {σ ζ : St} {l k a b : Int} (h : FmOk ζ k (tie0 σ l)) (ha : a = (tie0 σ l).1 k) (hb : b = (tie0 σ l).2 k) : FmOk (uS (uS ζ 6 k 0 a) 5 k 0 b) (k + 1) (tie0 σ l) := fun p hp0 hp1 => by
  show (if 6 = 6 ∧ p = k ∧ (0 : Int) = 0 then a else ζ 6 p 0) = _ ∧ (if 5 = 5 ∧ p = k ∧ (0 : Int) = 0 then b else ζ 5 p 0) = _
  by_cases hk : p = k
  · subst hk
    rw [if_pos ⟨rfl, rfl, rfl⟩, if_pos ⟨rfl, rfl, rfl⟩]
    exact ⟨ha, hb⟩
  · rw [if_neg (by omega), if_neg (by omega)]
    exact h p hp0 (by omega)
theorem FmOk.stay {σ ζ : St} {l k n : Int} (h0 : 0 ≤ k) (ha : ¬ (asks σ k l ∧ ¬ σ 8 l k = 0)) (h : FmOk ζ n (tieN σ l k.toNat)) : FmOk ζ n (tieN σ l (k + 1).toNat) := by
  rw [tieN_S σ l h0]
  unfold tieS
  rw [if_neg ha]
  exact h
/-- what the second loop does to the arrays at a place -/
def mvM (σ ζ : St) (k l : Int) : St := if tieTo σ l (fun q => ζ 6 q 0) k = -1 then uS ζ 5 k 0 (tieTo σ l (fun q => ζ 6 q 0) k) else uS (uS ζ 5 k 0 (tieTo σ l (fun q => ζ 6 q 0) k)) 6 (tieTo σ l (fun q => ζ 6 q 0) k) 0 1
theorem FmOk.move {σ ζ : St} {l k n : Int} (h0 : 0 ≤ k) (hn : pos σ ≤ n) (ha : asks σ k l ∧ ¬ σ 8 l k = 0) (h : FmOk ζ n (tieN σ l k.toNat)) : FmOk (mvM σ ζ k l) n (tieN σ l (k + 1).toNat) := by
  have et : tieTo σ l (fun q => ζ 6 q 0) k = tieTo σ l (tieN σ l k.toNat).1 k := tieTo_cp (fun p p0 p1 => (h p p0 (by omega)).1) k
  rw [tieN_S σ l h0]
  unfold tieS mvM
  rw [if_pos ha, et]
  by_cases hm : tieTo σ l (tieN σ l k.toNat).1 k = -1
  · rw [if_pos hm, if_pos hm]
    intro p hp0 hp1
    show ζ 6 p 0 = (tieN σ l k.toNat).1 p ∧ (if 5 = 5 ∧ p = k ∧ (0 : Int) = 0 then tieTo σ l (tieN σ l k.toNat).1 k else ζ 5 p 0) = up _ _ _ p
    refine ⟨(h p hp0 hp1).1, ?_⟩
    by_cases hk : p = k
    · subst hk
      rw [if_pos ⟨rfl, rfl, rfl⟩, up_eq]
    · rw [if_neg (by omega), up_ne hk]
      exact (h p hp0 hp1).2
  · rw [if_neg hm, if_neg hm]
    generalize tieTo σ l (tieN σ l k.toNat).1 k = to at *
    intro p hp0 hp1
    show (if 6 = 6 ∧ p = to ∧ (0 : Int) = 0 then 1 else ζ 6 p 0) = up _ _ _ p ∧ (if 5 = 5 ∧ p = k ∧ (0 : Int) = 0 then to else ζ 5 p 0) = up _ _ _ p
    refine ⟨?_, ?_⟩
    · by_cases hk : p = to
      · subst hk
        rw [if_pos ⟨rfl, rfl, rfl⟩, up_eq]
      · rw [if_neg (by omega), up_ne hk]
        exact (h p hp0 hp1).1
    · by_cases hk : p = k
      · subst hk
        rw [if_pos ⟨rfl, rfl, rfl⟩, up_eq]
      · rw [if_neg (by omega), up_ne hk]
        exact (h p hp0 hp1).2
theorem FmOk.z01 {σ ζ : St} (hO : Ok σ) {l k : Int} {n : Nat} (h : FmOk ζ k (tieN σ l n)) : ∀ p, 0 ≤ p → p < k → ζ 6 p 0 = 0 ∨ ζ 6 p 0 = 1 := fun p h0 h1 => by
  rw [(h p h0 h1).1]
  exact (tieN_rng hO l n p).2
theorem FmOk.fin {σ ζ : St} (hO : Ok σ) {l : Int} (h : FmOk ζ (nB σ + 1) (tieN σ l (nB σ + 1).toNat)) : ∀ p, 0 ≤ p → p ≤ nB σ → ζ 6 p 0 = ties σ l p ∧ ζ 5 p 0 = tieAt σ l p := fun p h0 h1 => by
  have hp := pos_rng hO
  have hB := hO.hB
  have h2 := h p h0 (by omega)
  unfold ties tieAt
  by_cases hz : nB σ = 0
  · rw [hp.2.2.1 hz]
    rw [tieN_S σ l hB.1, hz] at h2
    unfold tieS at h2
    rw [if_neg (fun z => by
      have := z.1.2.2.2.1
      rw [hp.2.2.1 hz] at this
      omega)] at h2
    exact h2
  · rw [hp.2.2.2 hz]
    exact h2
theorem tX2_thrown {G : Gm} {w : Wo} {σ ζ : St} (hM : HasM G w σ ζ) (hO : Ok σ) : PCt G mX2_thrown 1 w [.ref (w.1 (20, 0))] (vI (ζ 0 0 0)) (True) := by
  refine ⟨ct_of [some (.ref (w.1 (20, 0)))] plX2 rfl (Nat.le_of_ble_eq_true rfl) rfl ?_, trivial⟩
  intro X hG C hnm hQ
  subst hG
  change CxOk X cX2_thrown 1 RX2 (some .int) 1 at C
  refine wg_aload_0 (pc := 0) C dX2_thrown_0 ?_
  refine gX2_1 (pc := 1) C hM.obj rfl dX2_thrown_1 ?_
  refine wg_iret (pc := 4) C hQ dX2_thrown_4 ?_
  exact ⟨rfl, rfl⟩

theorem tX2_returned {G : Gm} {w : Wo} {σ ζ : St} (hM : HasM G w σ ζ) (hO : Ok σ) {z : Int} : Ct G mX2_returned 1 0 0 w [.ref (w.1 (20, 0)), vI z] (fun v w1 => v = some (vI z) ∧ SmM w w1 ∧ HasM G w1 σ (uS ζ 0 0 0 0)) := by
  refine ct_of [some (.ref (w.1 (20, 0))), some (vI z)] plX2 rfl (Nat.le_of_ble_eq_true rfl) rfl ?_
  intro X hG C hnm hQ
  subst hG
  change CxOk X cX2_returned 2 RX2 (some .int) 1 at C
  refine wg_aload_0 (pc := 0) C dX2_returned_0 ?_
  refine wg_iconst (pc := 1) C dX2_returned_1 ?_
  refine pX2_1 (pc := 2) C hM.obj rfl dX2_returned_2 ?_
  refine wg_iload_1 (pc := 5) C dX2_returned_5 ?_
  refine wg_iret (pc := 6) C hQ dX2_returned_6 ?_
  exact ⟨rfl, (SmM.rf w).uv rfl, hM.wThr 0⟩

theorem tX2_passes {G : Gm} {w : Wo} {σ ζ : St} (hM : HasM G w σ ζ) (hO : Ok σ) {p q r : Prop} [Decidable p] [Decidable q] [Decidable r] : Ct G mX2_passes 1 0 0 w [.ref (w.1 (20, 0)), vI (if p then 1 else 0), vI (if q then 1 else 0), vI (if r then 1 else 0)] (fun v w1 => v = some (vI (if p ∧ q ∧ r then 1 else 0)) ∧ SmM w w1 ∧ HasM G w1 σ (uS ζ 0 0 0 (thr p q r))) := by
  refine ct_of [some (.ref (w.1 (20, 0))), some (vI (if p then 1 else 0)), some (vI (if q then 1 else 0)), some (vI (if r then 1 else 0))] plX2 rfl (Nat.le_of_ble_eq_true rfl) rfl ?_
  intro X hG C hnm hQ
  subst hG
  change CxOk X cX2_passes 4 RX2 (some .boolean) 1 at C
  have L26 : ∀ (t : Int), t = thr p q r → ((0 ≤ t ∧ t ≤ 3) ∧ (t = 0 ↔ p ∧ q ∧ r)) → WG X 26 [some (.ref (w.1 (20, 0))), some (vI (if p then 1 else 0)), some (vI (if q then 1 else 0)), some (vI (if r then 1 else 0))] [vI t, .ref (w.1 (20, 0))] w 0 0 := by
    intro t ht htr
    refine pX2_1 (pc := 26) C hM.obj rfl dX2_passes_26 ?_
    replace hM := hM.wThr t
    have ev : uS ζ 0 0 0 t 0 0 0 = t := uS_at _ _ _ _ _
    refine wg_aload_0 (pc := 29) C dX2_passes_29 ?_
    refine gX2_1 (pc := 30) C hM.obj rfl dX2_passes_30 ?_
    rw [ev]
    refine wg_if_ne (tgt := 40) (pc := 33) C dX2_passes_33 (by decide) (by unfold InR; omega) (fun h33 => ?_) (fun h33 => ?_)
    · refine wg_iconst (pc := 40) C dX2_passes_40 ?_
      refine wg_zret (pc := 41) C hQ dX2_passes_41 (by omega) ?_
      subst ht
      first
        | exact ⟨by rw [if_pos (htr.2.mp (by omega))], (SmM.rf w).uv rfl, hM⟩
        | exact ⟨by rw [if_neg (fun z => by have := htr.2.mpr z; omega)], (SmM.rf w).uv rfl, hM⟩
    · refine wg_iconst (pc := 36) C dX2_passes_36 ?_
      refine wg_goto (tgt := 41) (pc := 37) C dX2_passes_37 (by decide) ?_
      refine wg_zret (pc := 41) C hQ dX2_passes_41 (by omega) ?_
      subst ht
      first
        | exact ⟨by rw [if_pos (htr.2.mp (by omega))], (SmM.rf w).uv rfl, hM⟩
        | exact ⟨by rw [if_neg (fun z => by have := htr.2.mpr z; omega)], (SmM.rf w).uv rfl, hM⟩
  refine wg_aload_0 (pc := 0) C dX2_passes_0 ?_
  refine wg_iload_1 (pc := 1) C dX2_passes_1 ?_
  refine wg_ifneB (tgt := 9) (pc := 2) C dX2_passes_2 (by decide) (fun h2 => ?_) (fun h2 => ?_)
  · refine wg_iload_2 (pc := 9) C dX2_passes_9 ?_
    refine wg_ifneB (tgt := 17) (pc := 10) C dX2_passes_10 (by decide) (fun h10 => ?_) (fun h10 => ?_)
    · refine wg_iload_3 (pc := 17) C dX2_passes_17 ?_
      refine wg_ifneB (tgt := 25) (pc := 18) C dX2_passes_18 (by decide) (fun h18 => ?_) (fun h18 => ?_)
      · refine wg_iconst (pc := 25) C dX2_passes_25 ?_
        first
          | exact L26 _ (by unfold thr; rw [if_neg h2]) ⟨by omega, by constructor <;> intro z <;> first | omega | exact absurd z.1 h2⟩
          | exact L26 _ (by unfold thr; rw [if_pos h2, if_neg h10]) ⟨by omega, by constructor <;> intro z <;> first | omega | exact absurd z.2.1 h10⟩
          | exact L26 _ (by unfold thr; rw [if_pos h2, if_pos h10, if_neg h18]) ⟨by omega, by constructor <;> intro z <;> first | omega | exact absurd z.2.2 h18⟩
          | exact L26 _ (by unfold thr; rw [if_pos h2, if_pos h10, if_pos h18]) ⟨by omega, by constructor <;> intro z <;> first | exact ⟨h2, h10, h18⟩ | rfl⟩
      · refine wg_iconst (pc := 21) C dX2_passes_21 ?_
        refine wg_goto (tgt := 26) (pc := 22) C dX2_passes_22 (by decide) ?_
        first
          | exact L26 _ (by unfold thr; rw [if_neg h2]) ⟨by omega, by constructor <;> intro z <;> first | omega | exact absurd z.1 h2⟩
          | exact L26 _ (by unfold thr; rw [if_pos h2, if_neg h10]) ⟨by omega, by constructor <;> intro z <;> first | omega | exact absurd z.2.1 h10⟩
          | exact L26 _ (by unfold thr; rw [if_pos h2, if_pos h10, if_neg h18]) ⟨by omega, by constructor <;> intro z <;> first | omega | exact absurd z.2.2 h18⟩
          | exact L26 _ (by unfold thr; rw [if_pos h2, if_pos h10, if_pos h18]) ⟨by omega, by constructor <;> intro z <;> first | exact ⟨h2, h10, h18⟩ | rfl⟩
    · refine wg_iconst (pc := 13) C dX2_passes_13 ?_
      refine wg_goto (tgt := 26) (pc := 14) C dX2_passes_14 (by decide) ?_
      first
        | exact L26 _ (by unfold thr; rw [if_neg h2]) ⟨by omega, by constructor <;> intro z <;> first | omega | exact absurd z.1 h2⟩
        | exact L26 _ (by unfold thr; rw [if_pos h2, if_neg h10]) ⟨by omega, by constructor <;> intro z <;> first | omega | exact absurd z.2.1 h10⟩
        | exact L26 _ (by unfold thr; rw [if_pos h2, if_pos h10, if_neg h18]) ⟨by omega, by constructor <;> intro z <;> first | omega | exact absurd z.2.2 h18⟩
        | exact L26 _ (by unfold thr; rw [if_pos h2, if_pos h10, if_pos h18]) ⟨by omega, by constructor <;> intro z <;> first | exact ⟨h2, h10, h18⟩ | rfl⟩
  · refine wg_iconst (pc := 5) C dX2_passes_5 ?_
    refine wg_goto (tgt := 26) (pc := 6) C dX2_passes_6 (by decide) ?_
    first
      | exact L26 _ (by unfold thr; rw [if_neg h2]) ⟨by omega, by constructor <;> intro z <;> first | omega | exact absurd z.1 h2⟩
      | exact L26 _ (by unfold thr; rw [if_pos h2, if_neg h10]) ⟨by omega, by constructor <;> intro z <;> first | omega | exact absurd z.2.1 h10⟩
      | exact L26 _ (by unfold thr; rw [if_pos h2, if_pos h10, if_neg h18]) ⟨by omega, by constructor <;> intro z <;> first | omega | exact absurd z.2.2 h18⟩
      | exact L26 _ (by unfold thr; rw [if_pos h2, if_pos h10, if_pos h18]) ⟨by omega, by constructor <;> intro z <;> first | exact ⟨h2, h10, h18⟩ | rfl⟩

theorem tX2_withdrawAll {G : Gm} {w : Wo} {σ ζ : St} (hM : HasM G w σ ζ) (hO : Ok σ) : Ct G mX2_withdrawAll 1 0 0 w [.ref (w.1 (20, 0))] (fun v w1 => v = none ∧ SmM w w1 ∧ ∃ ζ' : St, HasM G w1 (wdAll σ) ζ' ∧ ZK ζ ζ') := by
  refine ct_of [some (.ref (w.1 (20, 0))), none] plX2 rfl (Nat.le_of_ble_eq_true rfl) rfl ?_
  intro X hG C hnm hQ
  subst hG
  change CxOk X cX2_withdrawAll 2 RX2 (none) 1 at C
  have hB := hO.hB
  have hF := hO.hF
  have hbc := hM.bc
  have hfc0 := hM.fc
  have L2 : ∀ (N : Nat) (V : Tg → Option va_E) (ζ2 : St) (k j : Int), (5 - k).toNat = N → SmM w (w.1, V) → HasM (xG X) (w.1, V) (wdTo σ j) ζ2 → ZK ζ ζ2 → 0 ≤ k → k ≤ 5 → ((k ≤ nF σ ∧ j = k) ∨ (nF σ ≤ k ∧ j = nF σ)) → WG X 2 [some (.ref (w.1 (20, 0))), some (vI k)] [] (w.1, V) 0 0 := by
    intro N
    induction N using Nat.strongRecOn with | _ N IH => ?_
    intro V ζ2 k j hN hS hM hZ hk0 hk1 hj
    have enF : nF (wdTo σ j) = nF σ := rfl
    refine wg_iload_1 (pc := 2) C dX2_withdrawAll_2 ?_
    refine wg_iconst (pc := 3) C dX2_withdrawAll_3 ?_
    refine wg_icmp_ge (tgt := 20) (pc := 4) C dX2_withdrawAll_4 (by decide) (by unfold InR; omega) (by unfold InR; omega) (fun h4 => ?_) (fun h4 => ?_)
    · refine wg_vret (pc := 20) C hQ dX2_withdrawAll_20 ?_
      have e : j = nF σ := by omega
      subst e
      exact ⟨rfl, hS, ζ2, hM, hZ⟩
    · refine wg_aload_0 (pc := 7) C dX2_withdrawAll_7 ?_
      refine gX2_23 (pc := 8) C hM.obj rfl dX2_withdrawAll_8 ?_
      refine wg_iload_1 (pc := 11) C dX2_withdrawAll_11 ?_
      refine wg_iconst (pc := 12) C dX2_withdrawAll_12 ?_
      refine wg_iast (pc := 13) C hM.gt rfl (by omega) (by omega) (by decide) dX2_withdrawAll_13 ?_
      refine wg_iinc_1 (pc := 14) C dX2_withdrawAll_14 rfl ?_
      refine wg_goto (tgt := 2) (pc := 17) C dX2_withdrawAll_17 (by decide) ?_
      by_cases hkF : k < nF σ
      · have hjk : j = k := by omega
        subst hjk
        exact IH _ (by omega) _ ζ2 (j + 1) (j + 1) rfl (hS.uv rfl) (by rw [← wdTo_s σ hk0]; exact hM.wGrn j (-1) hkF) hZ (by omega) (by omega) (by omega)
      · exact IH _ (by omega) _ _ (k + 1) j rfl (hS.uv rfl) (hM.wGrz k (-1) hkF) (hZ.us (by decide) _ _ _) (by omega) (by omega) (by omega)
  refine wg_iconst (pc := 0) C dX2_withdrawAll_0 ?_
  refine wg_istore_1 (pc := 1) C dX2_withdrawAll_1 rfl ?_
  exact L2 _ w.2 ζ 0 0 rfl (SmM.rf w) (by rw [wdTo_0]; exact hM) (ZK.rf ζ) (by omega) (by omega) (by omega)

theorem tX2_withdrawAround {G : Gm} {w : Wo} {σ ζ : St} (hM : HasM G w σ ζ) (hO : Ok σ) {b : Int} (hb0 : 0 ≤ b) (hb1 : b < nB σ) : Ct G mX2_withdrawAround 6 0 0 w [.ref (w.1 (20, 0)), vI b] (fun v w1 => v = none ∧ SmM w w1 ∧ HasM G w1 (wdAt σ b) ζ) := by
  refine ct_of [some (.ref (w.1 (20, 0))), some (vI b), none] plX2 rfl (Nat.le_of_ble_eq_true rfl) rfl ?_
  intro X hG C hnm hQ
  subst hG
  change CxOk X cX2_withdrawAround 3 RX2 (none) 6 at C
  have hB := hO.hB
  have hF := hO.hF
  have hbc := hM.bc
  have hfc0 := hM.fc
  have L2 : ∀ (N : Nat) (V : Tg → Option va_E) (k : Int), (nF σ - k).toNat = N → SmM w (w.1, V) → HasM (xG X) (w.1, V) (wdUp σ b k) ζ → 0 ≤ k → k ≤ nF σ → WG X 2 [some (.ref (w.1 (20, 0))), some (vI b), some (vI k)] [] (w.1, V) 0 0 := by
    intro N
    induction N using Nat.strongRecOn with | _ N IH => ?_
    intro V k hN hS hM hk0 hk1
    have enF : nF (wdUp σ b k) = nF σ := rfl
    have enB : nB (wdUp σ b k) = nB σ := rfl
    have hO2 := hO.wdUp b k
    have hbc := hM.bc
    have hfc0 := hM.fc
    have L39 : ∀ (v : Int), k < nF σ → uS (wdUp σ b k) 9 k 0 v = wdUp σ b (k + 1) → WG X 39 [some (.ref (w.1 (20, 0))), some (vI b), some (vI k)] [vI v, vI k, .ref (w.1 (29, 0))] (w.1, V) 0 0 := by
      intro v hkF hv
      refine wg_iast (pc := 39) C hM.gt rfl (by omega) (by omega) (by decide) dX2_withdrawAround_39 ?_
      refine wg_iinc_2 (pc := 40) C dX2_withdrawAround_40 rfl ?_
      refine wg_goto (tgt := 2) (pc := 43) C dX2_withdrawAround_43 (by decide) ?_
      exact IH _ (by omega) _ (k + 1) rfl (hS.uv rfl) (by
          have h := hM.wGrn k v (by omega)
          rw [hv] at h
          exact h) (by omega) (by omega)
    refine wg_iload_2 (pc := 2) C dX2_withdrawAround_2 ?_
    refine wg_aload_0 (pc := 3) C dX2_withdrawAround_3 ?_
    refine gX2_20 (pc := 4) C hM.obj rfl dX2_withdrawAround_4 ?_
    refine wg_callFP (pc := 7) C kF_size q1161 (tJ2_size hM.fl) (rc_of C hM.fl rfl) dX2_withdrawAround_7 rfl rfl (Nat.le_of_ble_eq_true rfl) rfl (by decide) (fun f7 => ?_)
    refine wg_icmp_ge (tgt := 46) (pc := 12) C dX2_withdrawAround_12 (by decide) (by unfold InR; omega) (by unfold InR; omega) (fun h12 => ?_) (fun h12 => ?_)
    · refine wg_vret (pc := 46) C hQ dX2_withdrawAround_46 ?_
      have e : k = nF σ := by omega
      subst e
      exact ⟨rfl, hS, hM⟩
    · refine wg_aload_0 (pc := 15) C dX2_withdrawAround_15 ?_
      refine gX2_23 (pc := 16) C hM.obj rfl dX2_withdrawAround_16 ?_
      refine wg_iload_2 (pc := 19) C dX2_withdrawAround_19 ?_
      refine wg_aload_0 (pc := 20) C dX2_withdrawAround_20 ?_
      refine wg_iload_2 (pc := 21) C dX2_withdrawAround_21 ?_
      refine wg_iload_1 (pc := 22) C dX2_withdrawAround_22 ?_
      refine wg_callVP (pc := 23) C kX2_touches q1280 (tX2_touches hM hO2 (by omega) (by omega) hb0 hb1) (rc_of C hM.obj rfl) dX2_withdrawAround_23 rfl rfl (Nat.le_of_ble_eq_true rfl) rfl (by decide) (fun f23 => ?_)
      refine wg_ifeqB (tgt := 33) (pc := 26) C dX2_withdrawAround_26 (by decide) (fun h26 => ?_) (fun h26 => ?_)
      · refine wg_aload_0 (pc := 33) C dX2_withdrawAround_33 ?_
        refine gX2_23 (pc := 34) C hM.obj rfl dX2_withdrawAround_34 ?_
        refine wg_iload_2 (pc := 37) C dX2_withdrawAround_37 ?_
        refine wg_iald (pc := 38) C hM.gt rfl (by omega) (by omega) (by decide) dX2_withdrawAround_38 ?_
        first
          | exact L39 _ (by omega) (wdUp_t σ b hk0 h26)
          | exact L39 _ (by omega) (wdUp_n σ b (if_pos (show k < nF (wdUp σ b k) by omega)) h26)
      · refine wg_iconst (pc := 29) C dX2_withdrawAround_29 ?_
        refine wg_goto (tgt := 39) (pc := 30) C dX2_withdrawAround_30 (by decide) ?_
        first
          | exact L39 _ (by omega) (wdUp_t σ b hk0 h26)
          | exact L39 _ (by omega) (wdUp_n σ b (if_pos (show k < nF (wdUp σ b k) by omega)) h26)
  refine wg_iconst (pc := 0) C dX2_withdrawAround_0 ?_
  refine wg_istore_2 (pc := 1) C dX2_withdrawAround_1 rfl ?_
  exact L2 _ w.2 0 rfl (SmM.rf w) (by rw [wdUp_0]; exact hM) (by omega) (by omega)

