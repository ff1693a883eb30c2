/-! what keeps Ok and the ties -/
set_option maxRecDepth 100000
section C
variable {σ σ' : St}
theorem pos_c (h1 : σ' 1 = σ 1) : pos σ' = pos σ := by simp only [pos, nB, h1]
theorem liftsOf_c (h1 : σ' 1 = σ 1) (h4 : σ' 4 = σ 4) (b : Int) : liftsOf σ' b = liftsOf σ b := by simp only [liftsOf, nB, lft, h1, h4]
theorem levelsOf_c (h1 : σ' 1 = σ 1) (h4 : σ' 4 = σ 4) (p : Int) : levelsOf σ' p = levelsOf σ p := by simp only [levelsOf, liftsOf_c h1 h4]
theorem tieN_c (h1 : σ' 1 = σ 1) (h4 : σ' 4 = σ 4) (h8 : σ' 8 = σ 8) (l : Int) (n : Nat) : tieN σ' l n = tieN σ l n := by
  induction n with
  | zero => simp only [tieN, tie0, asks, hasLv, pos_c h1, levelsOf_c h1 h4, h8]
  | succ n ih => simp only [tieN, tieS, tieTo, free, asks, hasLv, ih, pos_c h1, levelsOf_c h1 h4, h8]
theorem ties_c (h1 : σ' 1 = σ 1) (h4 : σ' 4 = σ 4) (h8 : σ' 8 = σ 8) (l p : Int) : ties σ' l p = ties σ l p := by unfold ties; rw [tieN_c h1 h4 h8, pos_c h1]
theorem tieAt_c (h1 : σ' 1 = σ 1) (h4 : σ' 4 = σ 4) (h8 : σ' 8 = σ 8) (l p : Int) : tieAt σ' l p = tieAt σ l p := by unfold tieAt; rw [tieN_c h1 h4 h8, pos_c h1]
theorem TieOk.c {ζ : St} (hT : TieOk σ ζ) (h1 : σ' 1 = σ 1) (h4 : σ' 4 = σ 4) (h8 : σ' 8 = σ 8) : TieOk σ' ζ := fun l h0 hl p hp0 hp1 => by
  rw [ties_c h1 h4 h8, tieAt_c h1 h4 h8]
  exact hT l h0 hl p hp0 hp1
theorem missing_c (h1 : σ' 1 = σ 1) (h4 : σ' 4 = σ 4) (h8 : σ' 8 = σ 8) (p : Int) : missing σ' p = missing σ p := by
  simp only [missing, asks, hasLv, pos_c h1, levelsOf_c h1 h4, tieAt_c h1 h4 h8]
theorem stds_c (h1 : σ' 1 = σ 1) (h3 : σ' 3 = σ 3) (p : Int) : stds σ' p = stds σ p := by simp only [stds, btw, nB, bfc, h1, h3]
theorem half_c (h1 : σ' 1 = σ 1) (h4 : σ' 4 = σ 4) (h5 : σ' 5 = σ 5) (h6 : σ' 6 = σ 6) (h7 : σ' 7 = σ 7) (b k r : Int) : half σ' b k r = half σ b k r := by simp only [half, wgt, nB, lft, h1, h4, h5, h6, h7]
theorem load_c (h1 : σ' 1 = σ 1) (h3 : σ' 3 = σ 3) (h4 : σ' 4 = σ 4) (h5 : σ' 5 = σ 5) (h6 : σ' 6 = σ 6) (h7 : σ' 7 = σ 7) (p l r : Int) : load σ' p l r = load σ p l r := by
  simp only [load, levelsOf_c h1 h4, stds_c h1 h3, half_c h1 h4 h5 h6 h7]
theorem bearsOf_c (h1 : σ' 1 = σ 1) (h3 : σ' 3 = σ 3) (h4 : σ' 4 = σ 4) (h8 : σ' 8 = σ 8) (hl : lim σ' = lim σ) (p : Int) : bearsOf σ' p = bearsOf σ p := by
  simp only [bearsOf, hl, stds_c h1 h3, missing_c h1 h4 h8]
end C
section O
variable {σ : St}
theorem Ok.wDay (h : Ok σ) {v : Int} (h0 : 0 ≤ v) (h1 : v ≤ 500) : Ok (uS σ 10 0 0 v) :=
  ⟨h.hF, h.hB, h.hFB, h.f0, fun f a b => h.fc a b, fun k a b => h.by a b, h.lf, h.bd, h.so, h.la, h.op, fun k l a b c => h.lz a b c, fun l p a => h.oz a, by show 0 ≤ uS σ 10 0 0 v 10 0 0 ∧ uS σ 10 0 0 v 10 0 0 ≤ 500; rw [uS_at]; exact ⟨h0, h1⟩, h.lm, h.gr⟩
theorem Ok.wLim (h : Ok σ) {v : Int} (h0 : 1 ≤ v) (h1 : v ≤ 9999) : Ok (uS σ 11 0 0 v) :=
  ⟨h.hF, h.hB, h.hFB, h.f0, fun f a b => h.fc a b, fun k a b => h.by a b, h.lf, h.bd, h.so, h.la, h.op, fun k l a b c => h.lz a b c, fun l p a => h.oz a, h.dy, by show 1 ≤ uS σ 11 0 0 v 11 0 0 ∧ uS σ 11 0 0 v 11 0 0 ≤ 9999; rw [uS_at]; exact ⟨h0, h1⟩, h.gr⟩
theorem Ok.wGrn (h : Ok σ) (f : Int) {v : Int} (h0 : -1 ≤ v) (h1 : v ≤ 506) : Ok (uS σ 9 f 0 v) :=
  ⟨h.hF, h.hB, h.hFB, h.f0, fun f a b => h.fc a b, fun k a b => h.by a b, h.lf, h.bd, h.so, h.la, h.op, fun k l a b c => h.lz a b c, fun l p a => h.oz a, h.dy, h.lm, fun g => by
    show -1 ≤ (if 9 = 9 ∧ g = f ∧ (0 : Int) = 0 then v else grn σ g) ∧ (if 9 = 9 ∧ g = f ∧ (0 : Int) = 0 then v else grn σ g) ≤ 506
    have := h.gr g
    split <;> omega⟩
theorem Ok.wdTo (h : Ok σ) (k : Int) : Ok (wdTo σ k) :=
  ⟨h.hF, h.hB, h.hFB, h.f0, fun f a b => h.fc a b, fun k a b => h.by a b, h.lf, h.bd, h.so, h.la, h.op, fun k l a b c => h.lz a b c, fun l p a => h.oz a, h.dy, h.lm, fun g => by
    show -1 ≤ (if 9 = 9 ∧ (0 : Int) = 0 ∧ 0 ≤ g ∧ g < k then (-1 : Int) else grn σ g) ∧ (if 9 = 9 ∧ (0 : Int) = 0 ∧ 0 ≤ g ∧ g < k then (-1 : Int) else grn σ g) ≤ 506
    have := h.gr g
    split <;> omega⟩
theorem Ok.wBd (h : Ok σ) (b l : Int) {v : Int} (hv : v = 0 ∨ v = 1) : Ok (uS σ 5 b l v) :=
  ⟨h.hF, h.hB, h.hFB, h.f0, fun f a b => h.fc a b, fun k a b => h.by a b, h.lf, fun k m => by
    show (if 5 = 5 ∧ k = b ∧ m = l then v else σ 5 k m) = 0 ∨ (if 5 = 5 ∧ k = b ∧ m = l then v else σ 5 k m) = 1
    have := h.bd k m
    split <;> omega, h.so, h.la, h.op, fun k l a b c => h.lz a b c, fun l p a => h.oz a, h.dy, h.lm, h.gr⟩
theorem Ok.wSo (h : Ok σ) (b l : Int) {v : Int} (h0 : 0 ≤ v) (h1 : v ≤ 6) : Ok (uS σ 6 b l v) :=
  ⟨h.hF, h.hB, h.hFB, h.f0, fun f a b => h.fc a b, fun k a b => h.by a b, h.lf, h.bd, fun k m => by
    show 0 ≤ (if 6 = 6 ∧ k = b ∧ m = l then v else σ 6 k m) ∧ (if 6 = 6 ∧ k = b ∧ m = l then v else σ 6 k m) ≤ 6
    have := h.so k m
    split <;> omega, h.la, h.op, fun k l a b c => h.lz a b c, fun l p a => h.oz a, h.dy, h.lm, h.gr⟩
theorem Ok.wLa (h : Ok σ) {b l : Int} (hl : l < lft σ b) {v : Int} (h0 : 0 ≤ v) (h1 : v ≤ 600) : Ok (uS σ 7 b l v) :=
  ⟨h.hF, h.hB, h.hFB, h.f0, fun f a b => h.fc a b, fun k a b => h.by a b, h.lf, h.bd, h.so, fun k m => by
    show 0 ≤ (if 7 = 7 ∧ k = b ∧ m = l then v else σ 7 k m) ∧ (if 7 = 7 ∧ k = b ∧ m = l then v else σ 7 k m) ≤ 600
    have := h.la k m
    split <;> omega, h.op, fun k m a c e => by
    show (if 7 = 7 ∧ k = b ∧ m = l then v else σ 7 k m) = 0
    have e2 : lft σ k ≤ m := e
    rw [if_neg (fun z => by rw [z.2.1, z.2.2] at e2; omega)]
    exact h.lz a c e2, fun l p a => h.oz a, h.dy, h.lm, h.gr⟩
theorem Ok.wOp (h : Ok σ) (l : Int) {p : Int} (hp0 : 0 ≤ p) (hp : p < pos σ) {v : Int} (hv : v = 0 ∨ v = 1) : Ok (uS σ 8 l p v) :=
  ⟨h.hF, h.hB, h.hFB, h.f0, fun f a b => h.fc a b, fun k a b => h.by a b, h.lf, h.bd, h.so, h.la, fun k m => by
    show (if 8 = 8 ∧ k = l ∧ m = p then v else σ 8 k m) = 0 ∨ (if 8 = 8 ∧ k = l ∧ m = p then v else σ 8 k m) = 1
    have := h.op k m
    split <;> omega, fun k l a b c => h.lz a b c, fun k m a => by
    show (if 8 = 8 ∧ k = l ∧ m = p then v else σ 8 k m) = 0
    have a2 : nB σ < m ∨ nB σ = 0 := a
    have hps := pos_rng h
    rw [if_neg (by omega)]
    exact h.oz a2, h.dy, h.lm, h.gr⟩
theorem Ok.stLft (h : Ok σ) (b : Int) {n : Int} (h0 : 0 ≤ n) (h1 : n ≤ 8) : Ok (stLft σ b n) :=
  ⟨h.hF, h.hB, h.hFB, h.f0, fun f a b => h.fc a b, fun k a b => h.by a b, fun k => by
    show 0 ≤ (if 4 = 4 ∧ k = b ∧ (0 : Int) = 0 then n else lft σ k) ∧ (if 4 = 4 ∧ k = b ∧ (0 : Int) = 0 then n else lft σ k) ≤ 8
    have := h.lf k
    split <;> omega, fun k m => by
    show (if (5 = 5 ∨ 5 = 6 ∨ 5 = 7) ∧ k = b ∧ n ≤ m ∧ m < 8 then (0 : Int) else σ 5 k m) = 0 ∨ (if (5 = 5 ∨ 5 = 6 ∨ 5 = 7) ∧ k = b ∧ n ≤ m ∧ m < 8 then (0 : Int) else σ 5 k m) = 1
    have := h.bd k m
    split <;> omega, fun k m => by
    show 0 ≤ (if (6 = 5 ∨ 6 = 6 ∨ 6 = 7) ∧ k = b ∧ n ≤ m ∧ m < 8 then (0 : Int) else σ 6 k m) ∧ (if (6 = 5 ∨ 6 = 6 ∨ 6 = 7) ∧ k = b ∧ n ≤ m ∧ m < 8 then (0 : Int) else σ 6 k m) ≤ 6
    have := h.so k m
    split <;> omega, fun k m => by
    show 0 ≤ (if (7 = 5 ∨ 7 = 6 ∨ 7 = 7) ∧ k = b ∧ n ≤ m ∧ m < 8 then (0 : Int) else σ 7 k m) ∧ (if (7 = 5 ∨ 7 = 6 ∨ 7 = 7) ∧ k = b ∧ n ≤ m ∧ m < 8 then (0 : Int) else σ 7 k m) ≤ 600
    have := h.la k m
    split <;> omega, h.op, fun k m a c e => by
    show (if (7 = 5 ∨ 7 = 6 ∨ 7 = 7) ∧ k = b ∧ n ≤ m ∧ m < 8 then (0 : Int) else σ 7 k m) = 0
    have e2 : (if 4 = 4 ∧ k = b ∧ (0 : Int) = 0 then n else lft σ k) ≤ m := e
    have hlf := h.lf k
    split
    · rfl
    · rename_i hn
      by_cases hk : k = b
      · rw [if_pos ⟨rfl, hk, rfl⟩] at e2
        exact h.lz a c (by omega)
      · rw [if_neg (fun z => hk z.2.1)] at e2
        exact h.lz a c e2, fun l p a => h.oz a, h.dy, h.lm, h.gr⟩
end O
/-! the search for ties -/
def mvZ (σ ζ : St) (p l : Int) : St := if tieTo σ l (fun q => ζ 2 l q) p = -1 then uS ζ 3 l p (tieTo σ l (fun q => ζ 2 l q) p) else uS (uS ζ 3 l p (tieTo σ l (fun q => ζ 2 l q) p)) 2 l (tieTo σ l (fun q => ζ 2 l q) p) 1
theorem tieTo_congr {σ : St} (h : Ok σ) {l : Int} {t t' : Int → Int} (ht : ∀ p, 0 ≤ p → p < 25 → t p = t' p) (k : Int) : tieTo σ l t k = tieTo σ l t' k := by
  have hp := pos_rng h
  have hf : ∀ q, free σ l t q ↔ free σ l t' q := fun q => by
    constructor
    · intro z
      exact ⟨z.1, z.2.1, by rw [← ht q z.1.1 (by have := z.1.2.1; omega)]; exact z.2.2⟩
    · intro z
      exact ⟨z.1, z.2.1, by rw [ht q z.1.1 (by have := z.1.2.1; omega)]; exact z.2.2⟩
  unfold tieTo
  simp only [hf]
/-- levels below lv are found, of lv the state is s -/
def FtOk (σ ζ : St) (lv n : Int) (s : (Int → Int) × (Int → Int)) : Prop := (∀ l, 0 ≤ l → l < lv → ∀ p, 0 ≤ p → p < 25 → ζ 2 l p = ties σ l p ∧ ζ 3 l p = tieAt σ l p) ∧ ∀ p, 0 ≤ p → p < n → ζ 2 lv p = s.1 p ∧ ζ 3 lv p = s.2 p
theorem FtOk.one {σ ζ : St} {lv k a b : Int} (h : FtOk σ ζ lv k (tie0 σ lv)) (ha : a = (tie0 σ lv).1 k) (hb : b = (tie0 σ lv).2 k) : FtOk σ (uS (uS ζ 2 lv k a) 3 lv k b) lv (k + 1) (tie0 σ lv) := by
  refine ⟨fun l h0 h1 p hp0 hp1 => ?_, fun p hp0 hp1 => ?_⟩
  · show (if 2 = 2 ∧ l = lv ∧ p = k then a else ζ 2 l p) = _ ∧ (if 3 = 3 ∧ l = lv ∧ p = k then b else ζ 3 l p) = _
    rw [if_neg (by omega), if_neg (by omega)]
    exact h.1 l h0 h1 p hp0 hp1
  · show (if 2 = 2 ∧ lv = lv ∧ p = k then a else ζ 2 lv p) = _ ∧ (if 3 = 3 ∧ lv = lv ∧ p = k then b else ζ 3 lv p) = _
    by_cases hk : p = k
    · subst hk
      rw [if_pos ⟨rfl, rfl, rfl⟩, if_pos ⟨rfl, rfl, rfl⟩]
      exact ⟨ha, hb⟩
    · rw [if_neg (by omega), if_neg (by omega)]
      exact h.2 p hp0 (by omega)
theorem FtOk.move {σ ζ : St} (hO : Ok σ) {lv k : Int} (h0 : 0 ≤ k) (ha : asks σ k lv ∧ ¬ σ 8 lv k = 0) (h : FtOk σ ζ lv 25 (tieN σ lv k.toNat)) : FtOk σ (mvZ σ ζ k lv) lv 25 (tieN σ lv (k + 1).toNat) := by
  have e1 : (k + 1).toNat = k.toNat + 1 := by omega
  have e2 : ((k.toNat : Nat) : Int) = k := by omega
  have et : tieTo σ lv (fun q => ζ 2 lv q) k = tieTo σ lv (tieN σ lv k.toNat).1 k := tieTo_congr hO (fun p p0 p1 => (h.2 p p0 p1).1) k
  have es : tieN σ lv (k.toNat + 1) = tieS σ lv (tieN σ lv k.toNat) k := by
    show tieS σ lv (tieN σ lv k.toNat) (k.toNat : Int) = _
    rw [e2]
  rw [e1, es]
  unfold tieS mvZ
  rw [if_pos ha, et]
  by_cases hm : tieTo σ lv (tieN σ lv k.toNat).1 k = -1
  · rw [if_pos hm, if_pos hm]
    refine ⟨fun l h0 h1 p hp0 hp1 => ?_, fun p hp0 hp1 => ?_⟩
    · show ζ 2 l p = _ ∧ (if 3 = 3 ∧ l = lv ∧ p = k then tieTo σ lv (tieN σ lv k.toNat).1 k else ζ 3 l p) = _
      rw [if_neg (by omega)]
      exact h.1 l h0 h1 p hp0 hp1
    · show ζ 2 lv p = (tieN σ lv k.toNat).1 p ∧ (if 3 = 3 ∧ lv = lv ∧ p = k then tieTo σ lv (tieN σ lv k.toNat).1 k else ζ 3 lv p) = up _ _ _ p
      refine ⟨(h.2 p hp0 hp1).1, ?_⟩
      by_cases hk : p = k
      · subst hk
        rw [if_pos ⟨rfl, rfl, rfl⟩, up_eq]
      · rw [if_neg (by omega), up_ne hk]
        exact (h.2 p hp0 hp1).2
  · rw [if_neg hm, if_neg hm]
    generalize tieTo σ lv (tieN σ lv k.toNat).1 k = to at *
    refine ⟨fun l h0 h1 p hp0 hp1 => ?_, fun p hp0 hp1 => ?_⟩
    · show (if 2 = 2 ∧ l = lv ∧ p = to then 1 else ζ 2 l p) = _ ∧ (if 3 = 3 ∧ l = lv ∧ p = k then to else ζ 3 l p) = _
      rw [if_neg (by omega), if_neg (by omega)]
      exact h.1 l h0 h1 p hp0 hp1
    · show (if 2 = 2 ∧ lv = lv ∧ p = to then 1 else ζ 2 lv p) = up _ _ _ p ∧ (if 3 = 3 ∧ lv = lv ∧ p = k then to else ζ 3 lv p) = up _ _ _ p
      refine ⟨?_, ?_⟩
      · by_cases hk : p = to
        · subst hk
          rw [if_pos ⟨rfl, rfl, rfl⟩, up_eq]
        · rw [if_neg (by omega), up_ne hk]
          exact (h.2 p hp0 hp1).1
      · by_cases hk : p = k
        · subst hk
          rw [if_pos ⟨rfl, rfl, rfl⟩, up_eq]
        · rw [if_neg (by omega), up_ne hk]
          exact (h.2 p hp0 hp1).2
theorem FtOk.stay {σ ζ : St} {lv k : Int} (h0 : 0 ≤ k) (ha : ¬ (asks σ k lv ∧ ¬ σ 8 lv k = 0)) (h : FtOk σ ζ lv 25 (tieN σ lv k.toNat)) : FtOk σ ζ lv 25 (tieN σ lv (k + 1).toNat) := by
  have e1 : (k + 1).toNat = k.toNat + 1 := by omega
  have e2 : ((k.toNat : Nat) : Int) = k := by omega
  have es : tieN σ lv (k.toNat + 1) = tieN σ lv k.toNat := by
    show tieS σ lv (tieN σ lv k.toNat) (k.toNat : Int) = _
    rw [e2]
    unfold tieS
    rw [if_neg ha]
  rw [e1, es]
  exact h
theorem FtOk.next {σ ζ : St} {lv k : Int} (s : (Int → Int) × (Int → Int)) (hk : k = pos σ) (h : FtOk σ ζ lv 25 (tieN σ lv k.toNat)) : FtOk σ ζ (lv + 1) 0 s := by
  refine ⟨fun l h0 h1 p hp0 hp1 => ?_, fun p hp0 hp1 => by omega⟩
  by_cases hl : l = lv
  · subst hl
    subst hk
    exact h.2 p hp0 hp1
  · exact h.1 l h0 (by omega) p hp0 hp1
theorem FtOk.z01 {σ ζ : St} (hO : Ok σ) {lv : Int} {n : Nat} (h : FtOk σ ζ lv 25 (tieN σ lv n)) : ∀ p, 0 ≤ p → p < 25 → ζ 2 lv p = 0 ∨ ζ 2 lv p = 1 := fun p h0 h1 => by
  rw [(h.2 p h0 h1).1]
  exact (tieN_rng hO lv n p).2
