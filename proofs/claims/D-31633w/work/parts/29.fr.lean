/-! the class' picture in another world that has its cells; faces about a bay -/
set_option maxRecDepth 100000
theorem rws_c {A A' : Tg → Nat} {c : Nat} (m : Int) (h : ∀ j, A' (c, j) = A (c, j)) : rws A' c m = rws A c m := by
  funext j
  unfold rws
  rw [h j]
theorem HasX.fr {G : Gm} {w w1 : Wo} {σ ζ : St} (h : HasX G w σ ζ) (he : ∀ u : Tg, u.1 < 16 → w1.1 u = w.1 u ∧ w1.2 u = w.2 u) : HasX G w1 σ ζ := by
  have ea : ∀ (c : Nat) (i : Int), Nat.blt c 16 = true → w1.1 (c, i) = w.1 (c, i) := fun c i hc => (he (c, i) (by simpa using hc)).1
  have ev : ∀ (c : Nat) (i : Int), Nat.blt c 16 = true → w1.2 (c, i) = w.2 (c, i) := fun c i hc => (he (c, i) (by simpa using hc)).2
  refine ⟨?_, ?_, ?_, ?_, ?_, ?_, ?_, ?_, ?_, ?_, ?_, ?_, ?_, ?_, ?_, ?_⟩
  · rw [ev 0 0 rfl, ea 1 0 rfl, ea 4 0 rfl, ea 10 0 rfl, ea 12 0 rfl, ea 14 0 rfl]
    exact h.obj
  · rw [ev 1 0 rfl, ea 2 0 rfl]
    exact h.fl
  · rw [ev 2 0 rfl, rws_c _ (fun j => ea 3 j rfl)]
    exact h.fa
  · intro x h0 h1
    rw [ev 3 x rfl, ea 0 0 rfl]
    exact h.face h0 h1
  · rw [ev 4 0 rfl, ea 5 0 rfl]
    exact h.bl
  · rw [ev 5 0 rfl, rws_c _ (fun j => ea 6 j rfl)]
    exact h.ba
  · intro x h0 h1
    rw [ev 6 x rfl, ea 3 (bfc σ x) rfl, ea 7 x rfl, ea 8 x rfl, ea 9 x rfl]
    exact h.bay h0 h1
  · intro x h0 h1
    rw [ev 7 x rfl]
    exact h.bd h0 h1
  · intro x h0 h1
    rw [ev 8 x rfl]
    exact h.so h0 h1
  · intro x h0 h1
    rw [ev 9 x rfl]
    exact h.la h0 h1
  · rw [ev 10 0 rfl, rws_c _ (fun j => ea 11 j rfl)]
    exact h.oo
  · intro x h0 h1
    rw [ev 11 x rfl]
    exact h.op h0 h1
  · rw [ev 12 0 rfl, rws_c _ (fun j => ea 13 j rfl)]
    exact h.to
  · intro x h0 h1
    rw [ev 13 x rfl]
    exact h.ti h0 h1
  · rw [ev 14 0 rfl, rws_c _ (fun j => ea 15 j rfl)]
    exact h.oo2
  · intro x h0 h1
    rw [ev 15 x rfl]
    exact h.tf h0 h1
abbrev touch (σ : St) (f b : Int) : Prop := (first σ f ≤ b ∧ b ≤ first σ f + many σ f) ∨ (first σ f ≤ b + 1 ∧ b + 1 ≤ first σ f + many σ f)
/-- the list's m entries y are the faces below k that touch the bay b -/
def FL (σ : St) (b m : Int) (y : Int → Int) (k : Int) : Prop := (∀ j, 0 ≤ j → j < m → 0 ≤ y j ∧ y j < k ∧ touch σ (y j) b) ∧ ∀ f, 0 ≤ f → f < k → touch σ f b → ∃ j, 0 ≤ j ∧ j < m ∧ y j = f
theorem FL.zero (σ : St) (b : Int) (y : Int → Int) : FL σ b 0 y 0 := ⟨fun j a c => by omega, fun f a c => by omega⟩
theorem FL.skip {σ : St} {b m k : Int} {y : Int → Int} (h : FL σ b m y k) (ht : ¬ touch σ k b) : FL σ b m y (k + 1) := by
  refine ⟨fun j a c => ?_, fun f a c d => ?_⟩
  · have := h.1 j a c
    exact ⟨this.1, by omega, this.2.2⟩
  · by_cases hf : f = k
    · rw [hf] at d
      exact absurd d ht
    · exact h.2 f a (by omega) d
theorem FL.take {σ : St} {b m k : Int} {y : Int → Int} (hm : 0 ≤ m) (hk : 0 ≤ k) (h : FL σ b m y k) (ht : touch σ k b) : FL σ b (m + 1) (fun j => if j = m then k else y j) (k + 1) := by
  refine ⟨fun j a c => ?_, fun f a c d => ?_⟩
  · show 0 ≤ (if j = m then k else y j) ∧ (if j = m then k else y j) < k + 1 ∧ touch σ (if j = m then k else y j) b
    by_cases hj : j = m
    · rw [if_pos hj]
      exact ⟨hk, by omega, ht⟩
    · rw [if_neg hj]
      have := h.1 j a (by omega)
      exact ⟨this.1, by omega, this.2.2⟩
  · by_cases hf : f = k
    · exact ⟨m, hm, by omega, by show (if m = m then k else y m) = f; rw [if_pos rfl, hf]⟩
    · obtain ⟨j, j0, j1, j2⟩ := h.2 f a (by omega) d
      exact ⟨j, j0, by omega, by show (if j = m then k else y j) = f; rw [if_neg (by omega)]; exact j2⟩
def wdAt (σ : St) (b : Int) : St := fun c i j => if c = 9 ∧ j = 0 ∧ 0 ≤ i ∧ i < nF σ ∧ touch σ i b then -1 else σ c i j
def wdL (σ : St) (y : Int → Int) : Nat → St
  | 0 => σ
  | n + 1 => uS (wdL σ y n) 9 (y n) 0 (-1)
theorem wdL_s {σ : St} {y : Int → Int} {k : Int} (h : 0 ≤ k) : uS (wdL σ y k.toNat) 9 (y k) 0 (-1) = wdL σ y (k + 1).toNat := by
  rw [show (k + 1).toNat = k.toNat + 1 by omega]
  show _ = uS (wdL σ y k.toNat) 9 (y (k.toNat : Int)) 0 (-1)
  rw [show ((k.toNat : Nat) : Int) = k by omega]
theorem wdL_at (σ : St) (y : Int → Int) (n : Nat) (c : Nat) (i j : Int) : wdL σ y n c i j = σ c i j ∨ (c = 9 ∧ j = 0 ∧ wdL σ y n c i j = -1 ∧ ∃ t : Int, 0 ≤ t ∧ t < n ∧ y t = i) := by
  induction n with
  | zero => exact Or.inl rfl
  | succ n ih =>
    by_cases hc : c = 9 ∧ i = y n ∧ j = 0
    · refine Or.inr ⟨hc.1, hc.2.2, ?_, n, by omega, by omega, hc.2.1.symm⟩
      show (if c = 9 ∧ i = y n ∧ j = 0 then (-1 : Int) else _) = -1
      rw [if_pos hc]
    · have e : wdL σ y (n + 1) c i j = wdL σ y n c i j := by
        show (if c = 9 ∧ i = y n ∧ j = 0 then (-1 : Int) else wdL σ y n c i j) = _
        rw [if_neg hc]
      rw [e]
      rcases ih with h | ⟨h1, h2, h3, t, h4, h5, h6⟩
      · exact Or.inl h
      · exact Or.inr ⟨h1, h2, h3, t, h4, by omega, h6⟩
theorem wdL_hit (σ : St) (y : Int → Int) (n : Nat) {t : Int} (h0 : 0 ≤ t) (h1 : t < n) : wdL σ y n 9 (y t) 0 = -1 := by
  induction n with
  | zero => omega
  | succ n ih =>
    show (if 9 = 9 ∧ y t = y n ∧ (0 : Int) = 0 then (-1 : Int) else wdL σ y n 9 (y t) 0) = -1
    split
    · rfl
    · rename_i hn
      exact ih (by
        have : ¬ t = n := fun z => hn ⟨rfl, by rw [z], rfl⟩
        omega)
theorem wdL_all {σ : St} {b m : Int} {y : Int → Int} (hm : 0 ≤ m) (h : FL σ b m y (nF σ)) : wdL σ y m.toNat = wdAt σ b := by
  funext c i j
  show _ = if c = 9 ∧ j = 0 ∧ 0 ≤ i ∧ i < nF σ ∧ touch σ i b then (-1 : Int) else σ c i j
  by_cases hc : c = 9 ∧ j = 0 ∧ 0 ≤ i ∧ i < nF σ ∧ touch σ i b
  · rw [if_pos hc]
    obtain ⟨c1, c2, c3, c4, c5⟩ := hc
    subst c1
    subst c2
    obtain ⟨t, t0, t1, t2⟩ := h.2 i c3 c4 c5
    subst t2
    exact wdL_hit σ y m.toNat t0 (by omega)
  · rw [if_neg hc]
    rcases wdL_at σ y m.toNat c i j with h1 | ⟨h1, h2, h3, t, h4, h5, h6⟩
    · exact h1
    · obtain ⟨g1, g2, g3⟩ := h.1 t h4 (by omega)
      rw [h6] at g1 g2 g3
      exact absurd ⟨h1, h2, g1, g2, g3⟩ hc
theorem Ok.wdAt {σ : St} (h : Ok σ) (b : Int) : Ok (wdAt σ b) :=
  ⟨h.hF, h.hB, h.hFB, h.f0, fun f a b => h.fc a b, fun k a b => h.by a b, h.lf, h.bd, h.so, h.la, h.op, fun k l a b c => h.lz a b c, fun l p a => h.oz a, h.dy, h.lm, fun g => by
    show -1 ≤ (if 9 = 9 ∧ (0 : Int) = 0 ∧ 0 ≤ g ∧ g < nF σ ∧ touch σ g b then (-1 : Int) else grn σ g) ∧ (if 9 = 9 ∧ (0 : Int) = 0 ∧ 0 ≤ g ∧ g < nF σ ∧ touch σ g b then (-1 : Int) else grn σ g) ≤ 506
    have := h.gr g
    split <;> omega⟩
/-- all faces about a bay have green tags -/
def notG (σ : St) (b : Int) : Int := sm (fun f => if touch σ f b ∧ ¬ day σ ≤ grn σ f then 1 else 0) 0 (nF σ)
abbrev canL (σ : St) (b l n : Int) : Prop := n ≤ σ 7 b l ∨ ((σ 5 b l = 1 ∧ n ≤ bears (σ 6 b l)) ∧ notG σ b = 0)
theorem sm_z {f : Int → Int} {a b : Int} (h0 : ∀ k, a ≤ k → k < b → 0 ≤ f k) : sm f a b = 0 ↔ ∀ k, a ≤ k → k < b → f k = 0 := by
  have key : ∀ (n : Nat), (a + n ≤ b ∨ n = 0) → (smN f a n = 0 ↔ ∀ k, a ≤ k → k < a + n → f k = 0) := by
    intro n
    induction n with
    | zero => intro _; exact ⟨fun _ k h1 h2 => by omega, fun _ => rfl⟩
    | succ n ih =>
      intro hn
      have ihn := ih (by omega)
      have hnn : 0 ≤ smN f a n := by
        have h2 := sm_nonneg (f := f) (a := a) (b := a + n) (fun k g1 g2 => h0 k g1 (by omega))
        unfold sm at h2
        rwa [show (a + n - a).toNat = n by omega] at h2
      have hfn := h0 (a + n) (by omega) (by omega)
      show smN f a n + f (a + n) = 0 ↔ _
      constructor
      · intro h k h1 h2
        by_cases hk : k = a + n
        · rw [hk]; omega
        · exact ihn.mp (by omega) k h1 (by omega)
      · intro h
        have e1 := ihn.mpr (fun k h1 h2 => h k h1 (by omega))
        have e2 := h (a + n) (by omega) (by omega)
        omega
  unfold sm
  rw [key _ (by omega)]
  constructor
  · intro h k h1 h2
    exact h k h1 (by omega)
  · intro h k h1 h2
    exact h k h1 (by omega)
theorem notG_iff (σ : St) (b : Int) : notG σ b = 0 ↔ ∀ f, 0 ≤ f → f < nF σ → touch σ f b → day σ ≤ grn σ f := by
  unfold notG
  rw [sm_z (fun k _ _ => by split <;> omega)]
  constructor
  · intro h f h0 h1 ht
    have := h f h0 h1
    by_cases hd : day σ ≤ grn σ f
    · exact hd
    · rw [if_pos ⟨ht, hd⟩] at this
      omega
  · intro h f h0 h1
    rw [if_neg]
    intro z
    exact z.2 (h f h0 h1 z.1)
theorem notG_list {σ : St} {b m : Int} {y : Int → Int} (h : FL σ b m y (nF σ)) : notG σ b = 0 ↔ ∀ j, 0 ≤ j → j < m → day σ ≤ grn σ (y j) := by
  rw [notG_iff]
  constructor
  · intro g j h0 h1
    obtain ⟨a, c, d⟩ := h.1 j h0 h1
    exact g _ a c d
  · intro g f h0 h1 ht
    obtain ⟨j, a, c, d⟩ := h.2 f h0 h1 ht
    rw [← d]
    exact g j a c
def stBd (σ : St) (b l o : Int) : St := if σ 5 b l = o then σ else wdAt (uS σ 5 b l o) b
def stSo (σ : St) (b l s : Int) : St := if σ 6 b l = s then σ else wdAt (uS σ 6 b l s) b

