/-! counted part by part, counted by sums: the same -/
set_option maxRecDepth 100000
theorem sm_swap (f : Int → Int → Int) (a b c d : Int) : sm (fun l => sm (f l) a b) c d = sm (fun p => sm (fun l => f l p) c d) a b := by
  have key : ∀ n : Nat, smN (fun l => sm (f l) a b) c n = sm (fun p => smN (fun l => f l p) c n) a b := by
    intro n
    induction n with
    | zero => exact (sm_zero a b).symm
    | succ n ih =>
      show smN (fun l => sm (f l) a b) c n + sm (f (c + n)) a b = sm (fun p => smN (fun l => f l p) c n + f (c + n) p) a b
      rw [ih, sm_add]
  exact key _
theorem sm_cut (c : Int → Int) {n m : Int} (h0 : 0 ≤ n) (h1 : n ≤ m) : sm (fun l => if l < n then c l else 0) 0 m = sm c 0 n := by
  rw [sm_split _ h0 h1, sm_congr (g := c) (fun k _ h => if_pos h), sm_congr (a := n) (b := m) (g := fun _ => 0) (fun k h _ => if_neg (by omega)), sm_zero]
  omega
theorem sm_const (c : Int) {n : Int} (h : 0 ≤ n) : sm (fun _ => c) 0 n = c * n := by
  have key : ∀ k : Nat, smN (fun _ => c) 0 k = c * k := by
    intro k
    induction k with
    | zero => show (0 : Int) = c * ((0 : Nat) : Int); simp
    | succ k ih =>
      show smN (fun _ => c) 0 k + c = c * ((k + 1 : Nat) : Int)
      rw [ih, Int.natCast_add, Int.mul_add]
      simp
  unfold sm
  rw [key]
  congr 1
  omega
theorem sm_scale (c : Int) (f : Int → Int) (a b : Int) : sm (fun k => c * f k) a b = c * sm f a b := by
  have key : ∀ n : Nat, smN (fun k => c * f k) a n = c * smN f a n := by
    intro n
    induction n with
    | zero => show (0 : Int) = c * 0; simp
    | succ n ih =>
      show smN (fun k => c * f k) a n + c * f (a + n) = c * (smN f a n + f (a + n))
      rw [ih, Int.mul_add]
  exact key _
theorem tieN_lv (σ : St) (l : Int) (n : Nat) (p : Int) : ¬ (tieN σ l n).1 p = 0 → hasLv σ p l := by
  induction n with
  | zero =>
    intro h
    have h2 : ¬ (if asks σ p l ∧ σ 8 l p = 0 then (1 : Int) else 0) = 0 := h
    by_cases hc : asks σ p l ∧ σ 8 l p = 0
    · exact hc.1.2.2
    · rw [if_neg hc] at h2
      exact absurd rfl h2
  | succ n ih =>
    intro h
    have h2 : ¬ (tieS σ l (tieN σ l n) n).1 p = 0 := h
    unfold tieS at h2
    by_cases hc : asks σ n l ∧ ¬ σ 8 l n = 0
    · rw [if_pos hc] at h2
      have h3 : ¬ (if tieTo σ l (tieN σ l n).1 n = -1 then (tieN σ l n).1 else up (tieN σ l n).1 (tieTo σ l (tieN σ l n).1 n) 1) p = 0 := h2
      by_cases h1 : tieTo σ l (tieN σ l n).1 n = -1
      · rw [if_pos h1] at h3
        exact ih h3
      · rw [if_neg h1] at h3
        by_cases hp : p = tieTo σ l (tieN σ l n).1 n
        · have e : tieTo σ l (tieN σ l n).1 n = p := hp.symm
          unfold tieTo at e h1
          by_cases f1 : free σ l (tieN σ l n).1 (n + 1)
          · rw [if_pos f1] at e
            rw [← e]
            exact f1.1
          · rw [if_neg f1] at e h1
            by_cases f2 : free σ l (tieN σ l n).1 (n - 1)
            · rw [if_pos f2] at e
              rw [← e]
              exact f2.1
            · rw [if_neg f2] at h1
              exact absurd rfl h1
        · rw [up_ne hp] at h3
          exact ih h3
    · rw [if_neg hc] at h2
      exact ih h2
theorem ties_lv {σ : St} {l p : Int} (h : ¬ ties σ l p = 0) : hasLv σ p l := tieN_lv σ l _ p h
theorem wP_sum {σ : St} (h : Ok σ) {kd p : Int} (hk : 0 ≤ kd ∧ kd ≤ 5) (h0 : 0 ≤ p) (h1 : p < pos σ) : sm (fun l => wP σ kd l p) 0 8 = prtAt σ p kd := by
  have hl := levelsOf_rng h p
  have e : sm (fun l => wP σ kd l p) 0 8 = sm (fun l => aP σ p l kd) 0 (levelsOf σ p) := by
    rw [← sm_cut (fun l => aP σ p l kd) hl.1 hl.2]
    refine sm_congr fun l _ _ => ?_
    unfold wP
    by_cases hc : l < levelsOf σ p
    · rw [if_pos hc, if_pos ⟨h0, h1, hc⟩]
    · rw [if_neg hc, if_neg (fun z => hc z.2.2)]
  rw [e]
  unfold aP prtAt
  by_cases k0 : kd = 0
  · simp only [if_pos k0]
    rw [sm_const _ hl.1]
  · simp only [if_neg k0]
    by_cases k1 : kd = 1
    · simp only [if_pos k1]
      rw [sm_const _ hl.1]
      omega
    · simp only [if_neg k1]
      by_cases k5 : kd = 5
      · simp only [if_pos k5]
        unfold tieCnt
        rw [← sm_cut (fun l => ties σ l p) hl.1 hl.2]
        refine sm_congr fun l _ _ => ?_
        have ht := ties_rng h l p
        by_cases hc : l < levelsOf σ p
        · rw [if_pos hc]
          split <;> omega
        · rw [if_neg hc, if_pos]
          rcases ht with ht | ht
          · exact ht
          · exact absurd (ties_lv (σ := σ) (l := l) (p := p) (by omega)).2.2 hc
      · simp only [if_neg k5]
        exact sm_zero _ _
theorem wB_sum {σ : St} (h : Ok σ) {kd b : Int} (hk : 0 ≤ kd ∧ kd ≤ 5) : sm (fun l => wB σ kd l b) 0 8 = prtBay σ b kd := by
  have hl := h.lf b
  unfold wB
  rw [sm_cut (fun l => aB σ b l kd) hl.1 hl.2]
  unfold aB prtBay
  by_cases k2 : kd = 2
  · simp only [if_pos k2]
    exact sm_const _ hl.1
  · simp only [if_neg k2]
    by_cases k3 : kd = 3
    · simp only [if_pos k3]
      unfold bdN
      rw [← sm_scale]
      refine sm_congr fun l _ _ => ?_
      split <;> omega
    · simp only [if_neg k3]
      by_cases k4 : kd = 4
      · simp only [if_pos k4]
        rw [sm_const _ hl.1]
        split <;> omega
      · simp only [if_neg k4]
        exact sm_zero _ _
theorem fc_pos {σ : St} (h : Ok σ) (F : Int → Int) (n : Nat) (hn : (n : Int) + 1 ≤ nF σ) : sm (fun f => sm F (ownP σ f) (first σ f + many σ f + 1)) 0 (n + 1) = sm F 0 (first σ n + many σ n + 1) := by
  induction n with
  | zero =>
    have h0 := h.f0 (by omega)
    rw [sm_succ _ (by omega), sm_nil _ (by omega)]
    show 0 + sm F (ownP σ 0) (first σ 0 + many σ 0 + 1) = _
    unfold ownP
    rw [if_pos rfl]
    show 0 + sm F (first σ 0) _ = sm F 0 (first σ 0 + many σ 0 + 1)
    rw [h0]
    omega
  | succ n ih =>
    have hf := h.fc (f := (n : Int)) (by omega) (by omega)
    have hg := h.fc (f := (n : Int) + 1) (by omega) (by omega)
    have hx := hf.2.2.2.1 (by omega)
    rw [sm_succ _ (by omega)]
    rw [show ((n + 1 : Nat) : Int) = (n : Int) + 1 by omega, ih (by omega)]
    unfold ownP
    rw [if_neg (by omega), hx]
    exact (sm_split F (by omega) (by omega)).symm
theorem fc_bay {σ : St} (h : Ok σ) (F : Int → Int) (n : Nat) (hn : (n : Int) + 1 ≤ nF σ) : sm (fun f => sm F (first σ f) (first σ f + many σ f)) 0 (n + 1) = sm F 0 (first σ n + many σ n) := by
  induction n with
  | zero =>
    have h0 := h.f0 (by omega)
    rw [sm_succ _ (by omega), sm_nil _ (by omega)]
    show 0 + sm F (first σ 0) (first σ 0 + many σ 0) = sm F 0 (first σ 0 + many σ 0)
    rw [h0]
    omega
  | succ n ih =>
    have hf := h.fc (f := (n : Int)) (by omega) (by omega)
    have hg := h.fc (f := (n : Int) + 1) (by omega) (by omega)
    have hx := hf.2.2.2.1 (by omega)
    rw [sm_succ _ (by omega)]
    rw [show ((n + 1 : Nat) : Int) = (n : Int) + 1 by omega, ih (by omega), hx]
    exact (sm_split F (by omega) (by omega)).symm
theorem all_sum {σ : St} (h : Ok σ) (kd : Int) : allPrt σ kd = sm (fun p => prtAt σ p kd) 0 (pos σ) + sm (fun b => prtBay σ b kd) 0 (nB σ) := by
  have hF := h.hF
  have hp := pos_rng h
  unfold allPrt prtFace
  rw [sm_add]
  by_cases h0 : nF σ = 0
  · have hB := h.hFB h0
    rw [h0, hB, hp.2.2.1 hB, sm_nil _ (by omega), sm_nil _ (by omega), sm_nil _ (by omega), sm_nil _ (by omega)]
  · have hn : (((nF σ - 1).toNat : Nat) : Int) + 1 = nF σ := by omega
    have hf := h.fc (f := nF σ - 1) (by omega) (by omega)
    have hx := hf.2.2.2.2 (by omega)
    have e1 := fc_pos h (fun p => prtAt σ p kd) (nF σ - 1).toNat (by omega)
    have e2 := fc_bay h (fun b => prtBay σ b kd) (nF σ - 1).toNat (by omega)
    rw [hn, show (((nF σ - 1).toNat : Nat) : Int) = nF σ - 1 by omega, hx] at e1 e2
    rw [e1, e2, hp.2.2.2 (by omega)]
theorem walk_all {σ : St} (h : Ok σ) {kd : Int} (hk : 0 ≤ kd ∧ kd ≤ 5) : sm (lvS σ kd) 0 8 = allPrt σ kd := by
  rw [all_sum h]
  show sm (fun l => sm (wP σ kd l) 0 (pos σ) + sm (wB σ kd l) 0 (nB σ)) 0 8 = _
  rw [sm_add, sm_swap, sm_swap (wB σ kd), sm_congr (a := 0) (b := pos σ) (fun p h0 h1 => wP_sum h hk h0 h1), sm_congr (a := 0) (b := nB σ) (fun b _ _ => wB_sum h hk)]
/-- green faces bear their rated loads -/
def GreenOk (σ : St) : Prop := ∀ f, 0 ≤ f → f < nF σ → ¬ grn σ f = -1 → ∀ p, first σ f ≤ p → p ≤ first σ f + many σ f → load σ p 0 1 ≤ bearsOf σ p
theorem half_le {σ : St} (b k : Int) : half σ b k 0 ≤ half σ b k 1 := by
  unfold half
  by_cases hc : 0 ≤ b ∧ b < nB σ ∧ k < lft σ b
  · rw [if_pos hc, if_pos hc]
    have e0 : wgt σ b k 0 = σ 7 b k := if_pos rfl
    have e1 : σ 7 b k ≤ wgt σ b k 1 := by
      unfold wgt
      rw [if_neg (by decide)]
      split <;> omega
    rw [e0]
    omega
  · rw [if_neg hc, if_neg hc]
    omega
theorem sm_mono {f g : Int → Int} {a b : Int} (h : ∀ k, a ≤ k → k < b → f k ≤ g k) : sm f a b ≤ sm g a b := by
  have key : ∀ (n : Nat), a + n ≤ b ∨ n = 0 → smN f a n ≤ smN g a n := by
    intro n
    induction n with
    | zero => intro _; exact Int.le_refl 0
    | succ n ih =>
      intro hn
      show smN f a n + f (a + n) ≤ smN g a n + g (a + n)
      have h1 := ih (by omega)
      have h2 := h (a + n) (by omega) (by omega)
      omega
  unfold sm
  exact key _ (by omega)
theorem load_le (σ : St) (p l : Int) : load σ p l 0 ≤ load σ p l 1 := by
  unfold load
  exact sm_mono fun k _ _ => by
    have h1 := half_le (σ := σ) (p - 1) k
    have h2 := half_le (σ := σ) p k
    omega
theorem grnAt_load {σ : St} (h : Ok σ) (hG : GreenOk σ) {p : Int} (hg : grnAt σ p = 1) : load σ p 0 0 ≤ bearsOf σ p := by
  unfold grnAt at hg
  by_cases hz : 0 < sm (grnC σ p) 0 (nF σ)
  · have hn : ¬ ∀ f, 0 ≤ f → f < nF σ → grnC σ p f = 0 := fun z => by
      have := (sm_z (f := grnC σ p) (a := 0) (b := nF σ) (fun k _ _ => grnC_rng σ p k)).mpr z
      omega
    have hex : ∃ f, 0 ≤ f ∧ f < nF σ ∧ ¬ grnC σ p f = 0 := by
      apply Classical.byContradiction
      intro hc
      exact hn fun f h0 h1 => Classical.byContradiction fun h2 => hc ⟨f, h0, h1, h2⟩
    obtain ⟨f, f0, f1, f2⟩ := hex
    unfold grnC at f2
    by_cases hc : (first σ f ≤ p ∧ p ≤ first σ f + many σ f) ∧ day σ ≤ grn σ f
    · have hd := h.dy
      exact Int.le_trans (load_le σ p 0) (hG f f0 f1 (by omega) p hc.1.1 hc.1.2)
    · rw [if_neg hc] at f2
      exact absurd rfl f2
  · rw [if_neg hz] at hg
    omega
