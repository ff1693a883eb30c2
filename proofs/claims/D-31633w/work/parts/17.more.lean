/-! more rows, small facts for the walks -/
set_option maxRecDepth 100000
theorem wg_acmpT_eq {X : Cx} {cc : ByteArray} {nL : Nat} {own : String} {ret : Option FieldType} {d : Nat} {pc : Nat} {lv : List (Option Value)} {stk : List Value} {w : Wo} {k n : Nat} {t u : Tg} {e f : va_E} {off : Int} {tgt : Nat} (C : CxOk X cc nL own ret d) (hVt : w.2 t = some e) (hVu : w.2 u = some f) (hd : decode cc pc = .ok (.if_acmp .eq off, 3)) (ht : (pc : Int) + off = (tgt : Int)) (kt : t = u → WG X tgt lv stk w k n) (kf : ¬ t = u → WG X (pc + 3) lv stk w k n) : WG X pc lv (.ref (w.1 u) :: .ref (w.1 t) :: stk) w k n :=
  fun H locs ls c0 s0 hc hs hP hS hl => lv_acmp_eq (rx := some (w.1 t)) (ry := some (w.1 u)) C.hx C.hb hd ht (fun q => kt (hP.2 t u e f hVt hVu (Option.some.inj q)) H locs ls c0 s0 hc hs hP hS hl) (fun q => kf (fun z => q (by rw [z])) H locs ls c0 s0 hc hs hP hS hl)
theorem pos_eq (σ : St) : pos σ = if nB σ = 0 then 0 else nB σ + 1 := rfl
theorem pos_rng {σ : St} (h : Ok σ) : 0 ≤ pos σ ∧ pos σ ≤ 25 ∧ (nB σ = 0 → pos σ = 0) ∧ (nB σ ≠ 0 → pos σ = nB σ + 1) := by
  have := h.hB
  unfold pos
  by_cases h0 : nB σ = 0
  · rw [if_pos h0]; omega
  · rw [if_neg h0]; omega
theorem liftsOf_in {σ : St} {b : Int} (h0 : 0 ≤ b) (h1 : b < nB σ) : liftsOf σ b = lft σ b := if_pos ⟨h0, h1⟩
theorem liftsOf_out {σ : St} {b : Int} (h : ¬ (0 ≤ b ∧ b < nB σ)) : liftsOf σ b = 0 := if_neg h
theorem liftsOf_rng {σ : St} (h : Ok σ) (b : Int) : 0 ≤ liftsOf σ b ∧ liftsOf σ b ≤ 8 := by
  have := h.lf b
  by_cases hb : 0 ≤ b ∧ b < nB σ
  · rw [liftsOf_in hb.1 hb.2]; exact this
  · rw [liftsOf_out hb]; omega
theorem levelsOf_rng {σ : St} (h : Ok σ) (p : Int) : 0 ≤ levelsOf σ p ∧ levelsOf σ p ≤ 8 := by
  have h1 := liftsOf_rng h (p - 1)
  have h2 := liftsOf_rng h p
  unfold levelsOf
  by_cases hc : liftsOf σ (p - 1) < liftsOf σ p
  · rw [if_pos hc]; exact h2
  · rw [if_neg hc]; exact h1
theorem stds_rng (σ : St) (p : Int) : stds σ p = 2 ∨ stds σ p = 3 := by
  unfold stds
  by_cases hc : btw σ p
  · rw [if_pos hc]; exact Or.inr rfl
  · rw [if_neg hc]; exact Or.inl rfl
theorem bears_rng (z : Int) : 0 ≤ bears z ∧ bears z ≤ 600 := by
  unfold bears
  repeat' split
  all_goals omega
theorem wgt_rng {σ : St} (h : Ok σ) (b k r : Int) : 0 ≤ wgt σ b k r ∧ wgt σ b k r ≤ 600 := by
  have h1 := h.la b k
  have h2 := bears_rng (σ 6 b k)
  unfold wgt
  repeat' split
  all_goals omega
theorem half_rng {σ : St} (h : Ok σ) (b k r : Int) : 0 ≤ half σ b k r ∧ half σ b k r ≤ 330 := by
  have h1 := wgt_rng h b k r
  unfold half
  repeat' split
  all_goals omega
theorem half_in {σ : St} {b k r : Int} (h0 : 0 ≤ b) (h1 : b < nB σ) (h2 : k < lft σ b) : half σ b k r = ((if σ 5 b k = 0 then 0 else 60) + wgt σ b k r) / 2 := if_pos ⟨h0, h1, h2⟩
theorem half_out {σ : St} {b k r : Int} (h : ¬ (0 ≤ b ∧ b < nB σ ∧ k < lft σ b)) : half σ b k r = 0 := if_neg h
theorem load_rng {σ : St} (h : Ok σ) (p : Int) {l : Int} (h0 : 0 ≤ l) (r : Int) : 0 ≤ load σ p l r ∧ load σ p l r ≤ 5760 := by
  have hs := stds_rng σ p
  have hl := levelsOf_rng h p
  have hf : ∀ k, 0 ≤ 20 * stds σ p + half σ (p - 1) k r + half σ p k r ∧ 20 * stds σ p + half σ (p - 1) k r + half σ p k r ≤ 720 := fun k => by
    have h1 := half_rng h (p - 1) k r
    have h2 := half_rng h p k r
    omega
  unfold load
  refine ⟨sm_nonneg (fun k _ _ => (hf k).1), Int.le_trans (sm_le (m := 720) (by omega) (fun k _ _ => (hf k).2)) ?_⟩
  omega
theorem missing_rng (σ : St) (p : Int) : 0 ≤ missing σ p ∧ missing σ p ≤ 8 := by
  unfold missing
  refine ⟨sm_nonneg (fun k _ _ => by split <;> omega), Int.le_trans (sm_le (m := 1) (by omega) (fun k _ _ => by split <;> omega)) (by decide)⟩
theorem mul23 {a s : Int} (h : s = 2 ∨ s = 3) : a * s = a + a ∨ a * s = a + a + a := by
  rcases h with rfl | rfl <;> omega
theorem mul8 {m a : Int} (h0 : 0 ≤ m) (h1 : m ≤ 8) (ha : 0 ≤ a) : 0 ≤ m * a ∧ m * a ≤ 8 * a := by
  refine ⟨Int.mul_nonneg h0 ha, Int.mul_le_mul_of_nonneg_right h1 ha⟩
theorem bearsOf_rng {σ : St} (h : Ok σ) (p : Int) : 0 ≤ bearsOf σ p ∧ bearsOf σ p ≤ 29997 := by
  have h1 := h.lm
  have h2 := mul23 (a := lim σ) (stds_rng σ p)
  have h3 := missing_rng σ p
  have h4 := mul8 (a := lim σ * stds σ p / 4) h3.1 h3.2 (by omega)
  unfold bearsOf
  split <;> omega
theorem spare_rng {σ : St} (h : Ok σ) (p : Int) : -5760 ≤ spare σ p ∧ spare σ p ≤ 29997 := by
  have h1 := bearsOf_rng h p
  have h2 := load_rng h p (l := 0) (by omega) 1
  unfold spare
  omega
theorem wg_nm {X : Cx} {pc : Nat} {lv : List (Option Value)} {stk : List Value} {w : Wo} {k n : Nat} {x : Int} (kk : ∀ y : Int, y = x → WG X pc lv (vI y :: stk) w k n) : WG X pc lv (vI x :: stk) w k n := kk x rfl
theorem sm_exit {f : Int → Int} {a b k : Int} (h : k = b ∨ (k = a ∧ b ≤ a)) : sm f a k = sm f a b := by
  rcases h with rfl | ⟨rfl, h⟩
  · rfl
  · rw [sm_nil f (Int.le_refl k), sm_nil f h]
theorem wg_ior1 {X : Cx} {cc : ByteArray} {nL : Nat} {own : String} {ret : Option FieldType} {d : Nat} {pc : Nat} {lv : List (Option Value)} {stk : List Value} {w : Wo} {k n : Nat} {s : Int} (C : CxOk X cc nL own ret d) (hd : decode cc pc = .ok (.ior, 1)) (hs : s = 0 ∨ s = 1) (kk : WG X (pc + 1) lv (vI 1 :: stk) w k n) : WG X pc lv (vI 1 :: vI s :: stk) w k n :=
  fun H locs ls c0 s0 hc hs' hP hS hl => lv_ior C.hx C.hb hd (by
    have e : Int32.ofInt s ||| Int32.ofInt 1 = Int32.ofInt 1 := by rcases hs with rfl | rfl <;> decide
    rw [e]; exact kk H locs ls c0 s0 hc hs' hP hS hl)
theorem wg_ior0 {X : Cx} {cc : ByteArray} {nL : Nat} {own : String} {ret : Option FieldType} {d : Nat} {pc : Nat} {lv : List (Option Value)} {stk : List Value} {w : Wo} {k n : Nat} {s : Int} (C : CxOk X cc nL own ret d) (hd : decode cc pc = .ok (.ior, 1)) (hs : s = 0 ∨ s = 1) (kk : WG X (pc + 1) lv (vI s :: stk) w k n) : WG X pc lv (vI 0 :: vI s :: stk) w k n :=
  fun H locs ls c0 s0 hc hs' hP hS hl => lv_ior C.hx C.hb hd (by
    have e : Int32.ofInt s ||| Int32.ofInt 0 = Int32.ofInt s := by rcases hs with rfl | rfl <;> decide
    rw [e]; exact kk H locs ls c0 s0 hc hs' hP hS hl)
/-! more pure functions -/
def bdN (σ : St) (b : Int) : Int := sm (fun l => if σ 5 b l = 0 then 0 else 1) 0 (lft σ b)
abbrev brc (σ : St) (f k : Int) : Prop := (k - first σ f) % 3 = 0 ∨ k = first σ f + many σ f - 1
def tieCnt (σ : St) (p : Int) : Int := sm (fun l => if ties σ l p = 0 then 0 else 1) 0 8
def prtAt (σ : St) (p kd : Int) : Int := if kd = 0 then stds σ p * levelsOf σ p else if kd = 1 then levelsOf σ p else if kd = 5 then tieCnt σ p else 0
def prtBay (σ : St) (b kd : Int) : Int := if kd = 2 then 2 * lft σ b else if kd = 3 then 5 * bdN σ b else if kd = 4 then (if brc σ (bfc σ b) b then lft σ b else 0) else 0
def ownP (σ : St) (f : Int) : Int := if f = 0 then first σ f else first σ f + 1
def prtFace (σ : St) (f kd : Int) : Int := sm (fun p => prtAt σ p kd) (ownP σ f) (first σ f + many σ f + 1) + sm (fun b => prtBay σ b kd) (first σ f) (first σ f + many σ f)
def allPrt (σ : St) (kd : Int) : Int := sm (fun f => prtFace σ f kd) 0 (nF σ)
def cntB (σ : St) (wh k : Int) : Int := (if wh = 3 then lft σ k else if wh = 4 then bdN σ k else 0) + (if wh = 8 then sm (fun l => σ 7 k l) 0 8 else 0)
def ofB (σ : St) (wh : Int) : Int := sm (fun k => cntB σ wh k) 0 (nB σ)
def cntP (σ : St) (wh p : Int) : Int := (if wh = 6 then missing σ p else 0) + (if wh = 5 then sm (fun l => if σ 8 l p = 0 then 0 else 1) 0 8 else 0)
def ofP (σ : St) (wh : Int) : Int := sm (fun p => cntP σ wh p) 0 (pos σ)
def grnF (σ : St) : Int := sm (fun f => if day σ ≤ grn σ f then 1 else 0) 0 (nF σ)
def grnC (σ : St) (p : Int) (f : Int) : Int := if (first σ f ≤ p ∧ p ≤ first σ f + many σ f) ∧ day σ ≤ grn σ f then 1 else 0
def grnAt (σ : St) (p : Int) : Int := if 0 < sm (grnC σ p) 0 (nF σ) then 1 else 0
theorem bdN_rng {σ : St} (h : Ok σ) (b : Int) : 0 ≤ bdN σ b ∧ bdN σ b ≤ 8 := by
  have h1 := h.lf b
  unfold bdN
  refine ⟨sm_nonneg (fun k _ _ => by split <;> omega), Int.le_trans (sm_le (m := 1) (by omega) (fun k _ _ => by split <;> omega)) (by omega)⟩
theorem tieN_rng {σ : St} (h : Ok σ) (l : Int) : ∀ (n : Nat) (p : Int), (-1 ≤ (tieN σ l n).2 p ∧ (tieN σ l n).2 p ≤ 24) ∧ ((tieN σ l n).1 p = 0 ∨ (tieN σ l n).1 p = 1) := by
  have hp := pos_rng h
  intro n
  induction n with
  | zero =>
    intro p
    show (-1 ≤ (if asks σ p l ∧ σ 8 l p = 0 then p else -1) ∧ (if asks σ p l ∧ σ 8 l p = 0 then p else -1) ≤ 24) ∧ ((if asks σ p l ∧ σ 8 l p = 0 then (1 : Int) else 0) = 0 ∨ (if asks σ p l ∧ σ 8 l p = 0 then (1 : Int) else 0) = 1)
    by_cases hc : asks σ p l ∧ σ 8 l p = 0
    · rw [if_pos hc, if_pos hc]
      have := hc.1.2.2
      exact ⟨⟨by omega, by omega⟩, Or.inr rfl⟩
    · rw [if_neg hc, if_neg hc]
      exact ⟨⟨by omega, by omega⟩, Or.inl rfl⟩
  | succ n ih =>
    intro p
    have ht : ∀ (t : Int → Int) (q : Int), -1 ≤ tieTo σ l t q ∧ tieTo σ l t q ≤ 24 := by
      intro t q
      unfold tieTo
      by_cases h1 : free σ l t (q + 1)
      · rw [if_pos h1]
        have := h1.1
        omega
      · rw [if_neg h1]
        by_cases h2 : free σ l t (q - 1)
        · rw [if_pos h2]
          have := h2.1
          omega
        · rw [if_neg h2]
          omega
    show (-1 ≤ (tieS σ l (tieN σ l n) n).2 p ∧ (tieS σ l (tieN σ l n) n).2 p ≤ 24) ∧ ((tieS σ l (tieN σ l n) n).1 p = 0 ∨ (tieS σ l (tieN σ l n) n).1 p = 1)
    unfold tieS
    by_cases hc : asks σ n l ∧ ¬ σ 8 l n = 0
    · rw [if_pos hc]
      refine ⟨?_, ?_⟩
      · show -1 ≤ up _ _ _ p ∧ up _ _ _ p ≤ 24
        by_cases hpn : p = n
        · subst hpn; rw [up_eq]; exact ht _ _
        · rw [up_ne hpn]; exact (ih p).1
      · show (if _ then _ else _ : Int → Int) p = 0 ∨ (if _ then _ else _ : Int → Int) p = 1
        by_cases h1 : tieTo σ l (tieN σ l n).1 n = -1
        · rw [if_pos h1]; exact (ih p).2
        · rw [if_neg h1]
          by_cases hpn : p = tieTo σ l (tieN σ l n).1 n
          · rw [hpn, up_eq]; exact Or.inr rfl
          · rw [up_ne hpn]; exact (ih p).2
    · rw [if_neg hc]
      exact ih p
theorem tieAt_rng {σ : St} (h : Ok σ) (l p : Int) : -1 ≤ tieAt σ l p ∧ tieAt σ l p ≤ 24 := (tieN_rng h l _ p).1
theorem ties_rng {σ : St} (h : Ok σ) (l p : Int) : ties σ l p = 0 ∨ ties σ l p = 1 := (tieN_rng h l _ p).2
theorem tieCnt_rng (σ : St) (p : Int) : 0 ≤ tieCnt σ p ∧ tieCnt σ p ≤ 8 := by
  unfold tieCnt
  refine ⟨sm_nonneg (fun k _ _ => by split <;> omega), Int.le_trans (sm_le (m := 1) (by omega) (fun k _ _ => by split <;> omega)) (by decide)⟩
theorem prtAt_rng {σ : St} (h : Ok σ) (p kd : Int) : 0 ≤ prtAt σ p kd ∧ prtAt σ p kd ≤ 24 := by
  have h1 := levelsOf_rng h p
  have h2 := mul23 (a := levelsOf σ p) (stds_rng σ p)
  have h3 := tieCnt_rng σ p
  rw [Int.mul_comm] at h2
  unfold prtAt
  repeat' split
  all_goals omega
theorem prtBay_rng {σ : St} (h : Ok σ) (b kd : Int) : 0 ≤ prtBay σ b kd ∧ prtBay σ b kd ≤ 40 := by
  have h1 := h.lf b
  have h2 := bdN_rng h b
  unfold prtBay
  repeat' split
  all_goals omega
theorem prtFace_rng {σ : St} (h : Ok σ) {f : Int} (h0 : 0 ≤ f) (h1 : f < nF σ) (kd : Int) : 0 ≤ prtFace σ f kd ∧ prtFace σ f kd ≤ 1560 := by
  have hf := h.fc h0 h1
  have hB := h.hB
  have e : ∀ a b m : Int, 0 ≤ m → 0 ≤ a → b ≤ 25 → m * (b - a).toNat ≤ m * 25 := fun a b m hm ha hb => Int.mul_le_mul_of_nonneg_left (by omega) hm
  have ho : 0 ≤ ownP σ f := by unfold ownP; split <;> omega
  unfold prtFace
  have a1 := sm_nonneg (f := fun p => prtAt σ p kd) (a := ownP σ f) (b := first σ f + many σ f + 1) (fun k _ _ => (prtAt_rng h k kd).1)
  have a2 := sm_nonneg (f := fun b => prtBay σ b kd) (a := first σ f) (b := first σ f + many σ f) (fun k _ _ => (prtBay_rng h k kd).1)
  have b1 := sm_le (f := fun p => prtAt σ p kd) (a := ownP σ f) (b := first σ f + many σ f + 1) (m := 24) (by omega) (fun k _ _ => (prtAt_rng h k kd).2)
  have b2 := sm_le (f := fun b => prtBay σ b kd) (a := first σ f) (b := first σ f + many σ f) (m := 40) (by omega) (fun k _ _ => (prtBay_rng h k kd).2)
  have c1 := e (ownP σ f) (first σ f + many σ f + 1) 24 (by omega) ho (by omega)
  have c2 := e (first σ f) (first σ f + many σ f) 40 (by omega) (by omega) (by omega)
  omega
theorem allPrt_rng {σ : St} (h : Ok σ) (kd : Int) : 0 ≤ allPrt σ kd ∧ allPrt σ kd ≤ 7800 := by
  have hF := h.hF
  unfold allPrt
  refine ⟨sm_nonneg (fun k h0 h1 => (prtFace_rng h h0 h1 kd).1), Int.le_trans (sm_le (m := 1560) (by omega) (fun k h0 h1 => (prtFace_rng h h0 h1 kd).2)) ?_⟩
  omega
theorem cntB_rng {σ : St} (h : Ok σ) (wh k : Int) : 0 ≤ cntB σ wh k ∧ cntB σ wh k ≤ 4808 := by
  have h1 := h.lf k
  have h2 := bdN_rng h k
  have h3 := sm_nonneg (f := fun l => σ 7 k l) (a := 0) (b := 8) (fun l _ _ => (h.la k l).1)
  have h4 := sm_le (f := fun l => σ 7 k l) (a := 0) (b := 8) (m := 600) (by omega) (fun l _ _ => (h.la k l).2)
  have h5 : (600 : Int) * ((8 - 0 : Int).toNat : Int) = 4800 := by decide
  unfold cntB
  repeat' split
  all_goals omega
theorem ofB_rng {σ : St} (h : Ok σ) (wh : Int) : 0 ≤ ofB σ wh ∧ ofB σ wh ≤ 115392 := by
  have hB := h.hB
  unfold ofB
  refine ⟨sm_nonneg (fun k _ _ => (cntB_rng h wh k).1), Int.le_trans (sm_le (m := 4808) (by omega) (fun k _ _ => (cntB_rng h wh k).2)) ?_⟩
  omega
theorem cntP_rng (σ : St) (wh p : Int) : 0 ≤ cntP σ wh p ∧ cntP σ wh p ≤ 16 := by
  have h1 := missing_rng σ p
  have h3 := sm_nonneg (f := fun l => if σ 8 l p = 0 then 0 else 1) (a := 0) (b := 8) (fun l _ _ => by split <;> omega)
  have h4 := sm_le (f := fun l => if σ 8 l p = 0 then 0 else 1) (a := 0) (b := 8) (m := 1) (by omega) (fun l _ _ => by split <;> omega)
  have h5 : (1 : Int) * ((8 - 0 : Int).toNat : Int) = 8 := by decide
  unfold cntP
  repeat' split
  all_goals omega
theorem ofP_rng {σ : St} (h : Ok σ) (wh : Int) : 0 ≤ ofP σ wh ∧ ofP σ wh ≤ 400 := by
  have hB := pos_rng h
  unfold ofP
  refine ⟨sm_nonneg (fun k _ _ => (cntP_rng σ wh k).1), Int.le_trans (sm_le (m := 16) (by omega) (fun k _ _ => (cntP_rng σ wh k).2)) ?_⟩
  omega
theorem grnF_rng {σ : St} (h : Ok σ) : 0 ≤ grnF σ ∧ grnF σ ≤ 5 := by
  have hF := h.hF
  unfold grnF
  refine ⟨sm_nonneg (fun k _ _ => by split <;> omega), Int.le_trans (sm_le (m := 1) (by omega) (fun k _ _ => by split <;> omega)) (by omega)⟩
theorem grnC_rng (σ : St) (p f : Int) : 0 ≤ grnC σ p f := by unfold grnC; split <;> omega
