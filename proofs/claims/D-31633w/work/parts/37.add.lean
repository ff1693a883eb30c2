/-! a face with its bays added -/
set_option maxRecDepth 100000
/-- a face of n bays added, j of its bays made -/
def stAdd (σ : St) (n j : Int) : St := fun c i l =>
  if c = 0 ∧ i = 0 ∧ l = 0 then nF σ + 1
  else if c = 1 ∧ i = 0 ∧ l = 0 then nB σ + j
  else if c = 2 ∧ i = nF σ ∧ l = 0 then nB σ
  else if c = 12 ∧ i = nF σ ∧ l = 0 then n
  else if c = 9 ∧ i = nF σ ∧ l = 0 then -1
  else if c = 3 ∧ nB σ ≤ i ∧ i < nB σ + j ∧ l = 0 then nF σ
  else if (c = 4 ∨ c = 5 ∨ c = 6 ∨ c = 7) ∧ nB σ ≤ i ∧ i < nB σ + j then 0
  else σ c i l
section AD
variable {σ : St} {n j : Int}
theorem ad_nF : nF (stAdd σ n j) = nF σ + 1 := by simp [stAdd]
theorem ad_nB : nB (stAdd σ n j) = nB σ + j := by simp [stAdd]
theorem ad_c {c : Nat} {i l : Int} (h : c = 8 ∨ 10 ≤ c) (h12 : ¬ c = 12) : stAdd σ n j c i l = σ c i l := by
  unfold stAdd
  rw [if_neg (by omega), if_neg (by omega), if_neg (by omega), if_neg (by omega), if_neg (by omega), if_neg (by omega), if_neg (by omega)]
theorem ad_f1 : first (stAdd σ n j) (nF σ) = nB σ := by simp [stAdd]
theorem ad_m1 : many (stAdd σ n j) (nF σ) = n := by simp [stAdd]
theorem ad_g1 : grn (stAdd σ n j) (nF σ) = -1 := by simp [stAdd]
theorem ad_f0 {f : Int} (h : ¬ f = nF σ) : first (stAdd σ n j) f = first σ f := by simp [stAdd, h]
theorem ad_m0 {f : Int} (h : ¬ f = nF σ) : many (stAdd σ n j) f = many σ f := by simp [stAdd, h]
theorem ad_g0 {f : Int} (h : ¬ f = nF σ) : grn (stAdd σ n j) f = grn σ f := by simp [stAdd, h]
theorem ad_b1 {k : Int} (h0 : nB σ ≤ k) (h1 : k < nB σ + j) : bfc (stAdd σ n j) k = nF σ := by simp [stAdd, h0, h1]
theorem ad_b0 {k : Int} (h : k < nB σ ∨ nB σ + j ≤ k) : bfc (stAdd σ n j) k = bfc σ k := by
  unfold bfc stAdd
  rw [if_neg (by omega), if_neg (by omega), if_neg (by omega), if_neg (by omega), if_neg (by omega), if_neg (by omega), if_neg (by omega)]
theorem ad_r1 {c : Nat} (hc : c = 4 ∨ c = 5 ∨ c = 6 ∨ c = 7) {k l : Int} (h0 : nB σ ≤ k) (h1 : k < nB σ + j) : stAdd σ n j c k l = 0 := by
  unfold stAdd
  rw [if_neg (by omega), if_neg (by omega), if_neg (by omega), if_neg (by omega), if_neg (by omega), if_neg (by omega), if_pos ⟨hc, h0, h1⟩]
theorem ad_r0 {c : Nat} (hc : c = 4 ∨ c = 5 ∨ c = 6 ∨ c = 7) {k l : Int} (h : k < nB σ ∨ nB σ + j ≤ k) : stAdd σ n j c k l = σ c k l := by
  unfold stAdd
  rw [if_neg (by omega), if_neg (by omega), if_neg (by omega), if_neg (by omega), if_neg (by omega), if_neg (by omega), if_neg (by omega)]
theorem ad_s {c : Nat} {i l : Int} (h : ¬ (c = 1 ∧ i = 0 ∧ l = 0)) (h3 : ¬ ((c = 3 ∨ c = 4 ∨ c = 5 ∨ c = 6 ∨ c = 7) ∧ i = nB σ + j)) : stAdd σ n (j + 1) c i l = stAdd σ n j c i l := by
  have e6 : (c = 3 ∧ nB σ ≤ i ∧ i < nB σ + (j + 1) ∧ l = 0) = (c = 3 ∧ nB σ ≤ i ∧ i < nB σ + j ∧ l = 0) := propext (by omega)
  have e7 : ((c = 4 ∨ c = 5 ∨ c = 6 ∨ c = 7) ∧ nB σ ≤ i ∧ i < nB σ + (j + 1)) = ((c = 4 ∨ c = 5 ∨ c = 6 ∨ c = 7) ∧ nB σ ≤ i ∧ i < nB σ + j) := propext (by omega)
  unfold stAdd
  simp only [if_neg h, e6, e7]
end AD
theorem Ok.add {σ : St} (h : Ok σ) {n : Int} (h0 : 1 ≤ n) (hF : nF σ < 5) (hn : nB σ + n ≤ 24) : Ok (stAdd σ n n) := by
  have hF0 := h.hF
  have hB0 := h.hB
  have rr : ∀ c : Nat, (c = 4 ∨ c = 5 ∨ c = 6 ∨ c = 7) → ∀ k l, stAdd σ n n c k l = 0 ∨ stAdd σ n n c k l = σ c k l := fun c hc k l => by
    by_cases hk : nB σ ≤ k ∧ k < nB σ + n
    · exact Or.inl (ad_r1 hc hk.1 hk.2)
    · exact Or.inr (ad_r0 hc (by omega))
  refine ⟨by rw [ad_nF]; omega, by rw [ad_nB]; omega, by rw [ad_nF]; omega, fun _ => ?_, fun f f0 f1 => ?_, fun k k0 k1 => ?_, fun k => ?_, fun k l => ?_, fun k l => ?_, fun k l => ?_, fun l p => ?_, fun k l k0 k1 hl => ?_, fun l p hp => ?_, ?_, ?_, fun f => ?_⟩
  · by_cases hz : nF σ = 0
    · rw [show (0 : Int) = nF σ from hz.symm, ad_f1, h.hFB hz, hz]
    · rw [ad_f0 (fun z => hz z.symm)]
      exact h.f0 (by omega)
  · rw [ad_nF] at f1
    rw [ad_nF, ad_nB]
    by_cases hf : f = nF σ
    · subst hf
      rw [ad_f1, ad_m1]
      refine ⟨h0, by omega, by omega, fun z => by omega, fun _ => rfl⟩
    · have hc := h.fc (f := f) f0 (by omega)
      rw [ad_f0 hf, ad_m0 hf]
      refine ⟨hc.1, hc.2.1, by omega, fun z => ?_, fun z => by omega⟩
      by_cases hg : f + 1 = nF σ
      · rw [hg, ad_f1]
        exact (hc.2.2.2.2 hg).symm
      · rw [ad_f0 hg]
        exact hc.2.2.2.1 (by omega)
  · rw [ad_nB] at k1
    rw [ad_nF]
    by_cases hk : nB σ ≤ k
    · rw [ad_b1 hk k1, ad_f1, ad_m1]
      omega
    · have hb := h.by (k := k) k0 (by omega)
      rw [ad_b0 (by omega), ad_f0 (by omega), ad_m0 (by omega)]
      omega
  · have := h.lf k
    rcases rr 4 (by omega) k 0 with e | e <;> (show 0 ≤ stAdd σ n n 4 k 0 ∧ stAdd σ n n 4 k 0 ≤ 8; rw [e]) <;> omega
  · have := h.bd k l
    rcases rr 5 (by omega) k l with e | e <;> rw [e] <;> omega
  · have := h.so k l
    rcases rr 6 (by omega) k l with e | e <;> rw [e] <;> omega
  · have := h.la k l
    rcases rr 7 (by omega) k l with e | e <;> rw [e] <;> omega
  · rw [ad_c (by omega) (by omega)]
    exact h.op l p
  · rw [ad_nB] at k1
    by_cases hk : nB σ ≤ k
    · exact ad_r1 (by omega) hk k1
    · rw [ad_r0 (by omega) (by omega)]
      have hl2 : stAdd σ n n 4 k 0 ≤ l := hl
      rw [ad_r0 (by omega) (by omega)] at hl2
      exact h.lz k0 (by omega) hl2
  · rw [ad_c (by omega) (by omega)]
    rw [ad_nB] at hp
    exact h.oz (by omega)
  · show 0 ≤ stAdd σ n n 10 0 0 ∧ stAdd σ n n 10 0 0 ≤ 500
    rw [ad_c (by omega) (by omega)]
    exact h.dy
  · show 1 ≤ stAdd σ n n 11 0 0 ∧ stAdd σ n n 11 0 0 ≤ 9999
    rw [ad_c (by omega) (by omega)]
    exact h.lm
  · by_cases hf : f = nF σ
    · subst hf
      rw [ad_g1]
      omega
    · rw [ad_g0 hf]
      exact h.gr f
theorem rws_up {A A' : Tg → Nat} {c : Nat} {m : Int} (h0 : 0 ≤ m) (h : ∀ j, 0 ≤ j → j < m → A' (c, j) = A (c, j)) : upR (rws A c m) m (A' (c, m)) = rws A' c (m + 1) := by
  funext j
  by_cases hj : j = m
  · subst hj
    rw [upR_eq]
    unfold rws
    rw [if_pos ⟨h0, by omega⟩]
  · rw [upR_ne hj]
    unfold rws
    by_cases hc : 0 ≤ j ∧ j < m
    · rw [if_pos hc, if_pos ⟨hc.1, by omega⟩, h j hc.1 hc.2]
    · rw [if_neg hc, if_neg (by omega)]
theorem rws_in {A A' : Tg → Nat} {c : Nat} {m : Int} (h : ∀ j, 0 ≤ j → j < m → A' (c, j) = A (c, j)) : rws A' c m = rws A c m := by
  funext j
  unfold rws
  by_cases hc : 0 ≤ j ∧ j < m
  · rw [if_pos hc, if_pos hc, h j hc.1 hc.2]
  · rw [if_neg hc, if_neg hc]
theorem HasX.addF {G : Gm} {w w1 : Wo} {σ ζ : St} {a n : Int} (h : HasX G w σ ζ) (hO : Ok σ) (hA : ∀ u : Tg, u.1 < 16 → u ≠ (3, nF σ) → w1.1 u = w.1 u) (hV : ∀ u : Tg, u.1 < 16 → u ≠ (3, nF σ) → u ≠ (1, 0) → u ≠ (2, 0) → w1.2 u = w.2 u)
    (h3 : w1.2 (3, nF σ) = some (ob 2 [vI (nF σ), vI (nB σ), vI n, vI (-1), .ref (w1.1 (0, 0))])) (h1 : w1.2 (1, 0) = some (ob 1 [vI a, .ref (w1.1 (2, 0)), vI (nF σ + 1)])) (h2 : w1.2 (2, 0) = some (aR G 3 5 (upR (rws w.1 3 (nF σ)) (nF σ) (w1.1 (3, nF σ))))) : HasX G w1 (stAdd σ n 0) (uS ζ 0 0 0 a) := by
  have ea : ∀ (c : Nat) (i : Int), Nat.blt c 16 = true → (c == 3) = false → w1.1 (c, i) = w.1 (c, i) := fun c i hc h3 => hA (c, i) (by simpa using hc) (tg_ne h3)
  have ev : ∀ (c : Nat) (i : Int), Nat.blt c 16 = true → (c == 3) = false → (c == 1) = false → (c == 2) = false → w1.2 (c, i) = w.2 (c, i) := fun c i hc h3 h1 h2 => hV (c, i) (by simpa using hc) (tg_ne h3) (tg_ne h1) (tg_ne h2)
  have hB := hO.hB
  have hF := hO.hF
  have e1 : nB (stAdd σ n 0) = nB σ := by rw [ad_nB]; omega
  have ed : day (stAdd σ n 0) = day σ := ad_c (by omega) (by omega)
  have el : lim (stAdd σ n 0) = lim σ := ad_c (by omega) (by omega)
  have er : ∀ c : Nat, (c = 4 ∨ c = 5 ∨ c = 6 ∨ c = 7) → ∀ k l, stAdd σ n 0 c k l = σ c k l := fun c hc k l => ad_r0 hc (by omega)
  refine ⟨?_, ?_, ?_, ?_, ?_, ?_, ?_, ?_, ?_, ?_, ?_, ?_, ?_, ?_, ?_, ?_⟩
  · rw [ed, el, ev 0 0 rfl rfl rfl rfl, ea 1 0 rfl rfl, ea 4 0 rfl rfl, ea 10 0 rfl rfl, ea 12 0 rfl rfl, ea 14 0 rfl rfl]
    exact h.obj
  · rw [ad_nF, uS_at]
    exact h1
  · rw [ad_nF, h2, rws_up hF.1 (fun j j0 j1 => hA (3, j) (by show 3 < 16; decide) (tg_ni (by omega)))]
  · intro f f0 f1
    rw [ad_nF] at f1
    by_cases hf : f = nF σ
    · subst hf
      rw [ad_f1, ad_m1, ad_g1]
      exact h3
    · rw [ad_f0 hf, ad_m0 hf, ad_g0 hf, hV (3, f) (by show 3 < 16; decide) (tg_ni hf) (tg_ne rfl) (tg_ne rfl), ea 0 0 rfl rfl]
      exact h.face f0 (by omega)
  · rw [e1, ev 4 0 rfl rfl rfl rfl, ea 5 0 rfl rfl]
    exact h.bl
  · rw [e1, ev 5 0 rfl rfl rfl rfl, rws_c _ (fun j => ea 6 j rfl rfl)]
    exact h.ba
  · intro k k0 k1
    rw [e1] at k1
    have hb := hO.by k0 k1
    rw [ad_b0 (by omega), show lft (stAdd σ n 0) k = lft σ k from er 4 (by omega) k 0, ev 6 k rfl rfl rfl rfl, hA (3, bfc σ k) (by show 3 < 16; decide) (tg_ni (by omega)), ea 7 k rfl rfl, ea 8 k rfl rfl, ea 9 k rfl rfl]
    exact h.bay k0 k1
  · intro k k0 k1
    rw [e1] at k1
    rw [ev 7 k rfl rfl rfl rfl, show (fun l => stAdd σ n 0 5 k l) = fun l => σ 5 k l from funext fun l => er 5 (by omega) k l]
    exact h.bd k0 k1
  · intro k k0 k1
    rw [e1] at k1
    rw [ev 8 k rfl rfl rfl rfl, show (fun l => stAdd σ n 0 6 k l) = fun l => σ 6 k l from funext fun l => er 6 (by omega) k l]
    exact h.so k0 k1
  · intro k k0 k1
    rw [e1] at k1
    rw [ev 9 k rfl rfl rfl rfl, show (fun l => stAdd σ n 0 7 k l) = fun l => σ 7 k l from funext fun l => er 7 (by omega) k l]
    exact h.la k0 k1
  · rw [ev 10 0 rfl rfl rfl rfl, rws_c _ (fun j => ea 11 j rfl rfl)]
    exact h.oo
  · intro l l0 l1
    rw [ev 11 l rfl rfl rfl rfl, show (fun p => stAdd σ n 0 8 l p) = fun p => σ 8 l p from funext fun p => ad_c (by omega) (by omega)]
    exact h.op l0 l1
  · rw [ev 12 0 rfl rfl rfl rfl, rws_c _ (fun j => ea 13 j rfl rfl)]
    exact h.to
  · intro l l0 l1
    rw [ev 13 l rfl rfl rfl rfl]
    exact h.ti l0 l1
  · rw [ev 14 0 rfl rfl rfl rfl, rws_c _ (fun j => ea 15 j rfl rfl)]
    exact h.oo2
  · intro l l0 l1
    rw [ev 15 l rfl rfl rfl rfl]
    exact h.tf l0 l1
theorem HasX.addB {G : Gm} {w w1 : Wo} {σ ζ : St} {a n j : Int} (h : HasX G w (stAdd σ n j) ζ) (hO : Ok σ) (hj : 0 ≤ j)
    (hA : ∀ u : Tg, u.1 < 16 → u ≠ (6, nB σ + j) → u ≠ (7, nB σ + j) → u ≠ (8, nB σ + j) → u ≠ (9, nB σ + j) → w1.1 u = w.1 u) (hV : ∀ u : Tg, u.1 < 16 → u ≠ (6, nB σ + j) → u ≠ (7, nB σ + j) → u ≠ (8, nB σ + j) → u ≠ (9, nB σ + j) → u ≠ (4, 0) → u ≠ (5, 0) → w1.2 u = w.2 u)
    (h6 : w1.2 (6, nB σ + j) = some (ob 3 [vI (nB σ + j), .ref (w1.1 (3, nF σ)), .ref (w1.1 (7, nB σ + j)), .ref (w1.1 (8, nB σ + j)), .ref (w1.1 (9, nB σ + j)), vI 0])) (h7 : w1.2 (7, nB σ + j) = some (aZ G 8 (fun _ => 0))) (h8 : w1.2 (8, nB σ + j) = some (aI G 8 (fun _ => 0))) (h9 : w1.2 (9, nB σ + j) = some (aI G 8 (fun _ => 0)))
    (h4 : w1.2 (4, 0) = some (ob 1 [vI a, .ref (w1.1 (5, 0)), vI (nB σ + j + 1)])) (h5 : w1.2 (5, 0) = some (aR G 3 24 (upR (rws w.1 6 (nB σ + j)) (nB σ + j) (w1.1 (6, nB σ + j))))) : HasX G w1 (stAdd σ n (j + 1)) (uS ζ 1 0 0 a) := by
  have ea : ∀ (c : Nat) (i : Int), Nat.blt c 16 = true → (c == 6) = false → (c == 7) = false → (c == 8) = false → (c == 9) = false → w1.1 (c, i) = w.1 (c, i) := fun c i hc a1 a2 a3 a4 => hA (c, i) (by simpa using hc) (tg_ne a1) (tg_ne a2) (tg_ne a3) (tg_ne a4)
  have ev : ∀ (c : Nat) (i : Int), Nat.blt c 16 = true → (c == 6) = false → (c == 7) = false → (c == 8) = false → (c == 9) = false → (c == 4) = false → (c == 5) = false → w1.2 (c, i) = w.2 (c, i) := fun c i hc a1 a2 a3 a4 a5 a6 => hV (c, i) (by simpa using hc) (tg_ne a1) (tg_ne a2) (tg_ne a3) (tg_ne a4) (tg_ne a5) (tg_ne a6)
  have hB := hO.hB
  have eF : nF (stAdd σ n j) = nF σ + 1 := ad_nF
  have eB : nB (stAdd σ n j) = nB σ + j := ad_nB
  have ed : day (stAdd σ n (j + 1)) = day (stAdd σ n j) := ad_s (by omega) (by omega)
  have el : lim (stAdd σ n (j + 1)) = lim (stAdd σ n j) := ad_s (by omega) (by omega)
  have at6 : ∀ {k : Int}, k < nB σ + j → ∀ c : Nat, Nat.ble 6 c = true → Nat.ble c 9 = true → w1.1 (c, k) = w.1 (c, k) ∧ w1.2 (c, k) = w.2 (c, k) := fun {k} hk c c0 c1 => by
    have hk2 : ¬ k = nB σ + j := by omega
    have h6 : 6 ≤ c := by simpa using c0
    have h9 : c ≤ 9 := by simpa using c1
    have n1 : ∀ d : Nat, ((c, k) : Tg) ≠ (d, nB σ + j) := fun d z => hk2 (congrArg Prod.snd z)
    exact ⟨hA (c, k) (by show c < 16; omega) (n1 6) (n1 7) (n1 8) (n1 9), hV (c, k) (by show c < 16; omega) (n1 6) (n1 7) (n1 8) (n1 9) (fun z => by have : c = 4 := congrArg Prod.fst z; omega) (fun z => by have : c = 5 := congrArg Prod.fst z; omega)⟩
  refine ⟨?_, ?_, ?_, ?_, ?_, ?_, ?_, ?_, ?_, ?_, ?_, ?_, ?_, ?_, ?_, ?_⟩
  · rw [ed, el, ev 0 0 rfl rfl rfl rfl rfl rfl rfl, ea 1 0 rfl rfl rfl rfl rfl, ea 4 0 rfl rfl rfl rfl rfl, ea 10 0 rfl rfl rfl rfl rfl, ea 12 0 rfl rfl rfl rfl rfl, ea 14 0 rfl rfl rfl rfl rfl]
    exact h.obj
  · rw [ad_nF, ev 1 0 rfl rfl rfl rfl rfl rfl rfl, ea 2 0 rfl rfl rfl rfl rfl]
    have := h.fl
    rw [ad_nF] at this
    exact this
  · rw [ad_nF, ev 2 0 rfl rfl rfl rfl rfl rfl rfl, rws_c _ (fun i => ea 3 i rfl rfl rfl rfl rfl)]
    have := h.fa
    rw [ad_nF] at this
    exact this
  · intro f f0 f1
    rw [ad_nF] at f1
    rw [show first (stAdd σ n (j + 1)) f = first (stAdd σ n j) f from ad_s (by omega) (by omega), show many (stAdd σ n (j + 1)) f = many (stAdd σ n j) f from ad_s (by omega) (by omega), show grn (stAdd σ n (j + 1)) f = grn (stAdd σ n j) f from ad_s (by omega) (by omega), ev 3 f rfl rfl rfl rfl rfl rfl rfl, ea 0 0 rfl rfl rfl rfl rfl]
    exact h.face f0 (by rw [ad_nF]; exact f1)
  · rw [ad_nB, uS_at, show nB σ + (j + 1) = nB σ + j + 1 by omega]
    exact h4
  · rw [ad_nB, h5, show nB σ + (j + 1) = nB σ + j + 1 by omega, rws_up (by omega) (fun i i0 i1 => (at6 i1 6 rfl rfl).1)]
  · intro k k0 k1
    rw [ad_nB] at k1
    by_cases hk : k = nB σ + j
    · subst hk
      rw [ad_b1 (by omega) (by omega), show lft (stAdd σ n (j + 1)) (nB σ + j) = 0 from ad_r1 (by omega) (by omega) (by omega)]
      exact h6
    · have g := at6 (k := k) (by omega)
      rw [show bfc (stAdd σ n (j + 1)) k = bfc (stAdd σ n j) k from ad_s (by omega) (by omega), show lft (stAdd σ n (j + 1)) k = lft (stAdd σ n j) k from ad_s (by omega) (by omega), (g 6 rfl rfl).2, ea 3 _ rfl rfl rfl rfl rfl, (g 7 rfl rfl).1, (g 8 rfl rfl).1, (g 9 rfl rfl).1]
      exact h.bay k0 (by rw [ad_nB]; omega)
  · intro k k0 k1
    rw [ad_nB] at k1
    by_cases hk : k = nB σ + j
    · subst hk
      rw [show (fun l => stAdd σ n (j + 1) 5 (nB σ + j) l) = fun _ => 0 from funext fun l => ad_r1 (by omega) (by omega) (by omega)]
      exact h7
    · rw [show (fun l => stAdd σ n (j + 1) 5 k l) = fun l => stAdd σ n j 5 k l from funext fun l => ad_s (by omega) (by omega), (at6 (k := k) (by omega) 7 rfl rfl).2]
      exact h.bd k0 (by rw [ad_nB]; omega)
  · intro k k0 k1
    rw [ad_nB] at k1
    by_cases hk : k = nB σ + j
    · subst hk
      rw [show (fun l => stAdd σ n (j + 1) 6 (nB σ + j) l) = fun _ => 0 from funext fun l => ad_r1 (by omega) (by omega) (by omega)]
      exact h8
    · rw [show (fun l => stAdd σ n (j + 1) 6 k l) = fun l => stAdd σ n j 6 k l from funext fun l => ad_s (by omega) (by omega), (at6 (k := k) (by omega) 8 rfl rfl).2]
      exact h.so k0 (by rw [ad_nB]; omega)
  · intro k k0 k1
    rw [ad_nB] at k1
    by_cases hk : k = nB σ + j
    · subst hk
      rw [show (fun l => stAdd σ n (j + 1) 7 (nB σ + j) l) = fun _ => 0 from funext fun l => ad_r1 (by omega) (by omega) (by omega)]
      exact h9
    · rw [show (fun l => stAdd σ n (j + 1) 7 k l) = fun l => stAdd σ n j 7 k l from funext fun l => ad_s (by omega) (by omega), (at6 (k := k) (by omega) 9 rfl rfl).2]
      exact h.la k0 (by rw [ad_nB]; omega)
  · rw [ev 10 0 rfl rfl rfl rfl rfl rfl rfl, rws_c _ (fun i => ea 11 i rfl rfl rfl rfl rfl)]
    exact h.oo
  · intro l l0 l1
    rw [ev 11 l rfl rfl rfl rfl rfl rfl rfl, show (fun p => stAdd σ n (j + 1) 8 l p) = fun p => stAdd σ n j 8 l p from funext fun p => ad_s (by omega) (by omega)]
    exact h.op l0 l1
  · rw [ev 12 0 rfl rfl rfl rfl rfl rfl rfl, rws_c _ (fun i => ea 13 i rfl rfl rfl rfl rfl)]
    exact h.to
  · intro l l0 l1
    rw [ev 13 l rfl rfl rfl rfl rfl rfl rfl]
    exact h.ti l0 l1
  · rw [ev 14 0 rfl rfl rfl rfl rfl rfl rfl, rws_c _ (fun i => ea 15 i rfl rfl rfl rfl rfl)]
    exact h.oo2
  · intro l l0 l1
    rw [ev 15 l rfl rfl rfl rfl rfl rfl rfl]
    exact h.tf l0 l1
