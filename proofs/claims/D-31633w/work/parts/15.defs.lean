/-! the abstract state, the pictures of the class and of the reference, the pure functions -/
set_option maxRecDepth 100000
theorem plX0 : plainName RX0 = true := by decide +kernel
theorem plX1 : plainName RX1 = true := by decide +kernel
theorem plX2 : plainName RX2 = true := by decide +kernel
theorem plX3 : plainName RX3 = true := by decide +kernel
theorem plX4 : plainName RX4 = true := by decide +kernel
theorem plX5 : plainName RX5 = true := by decide +kernel
theorem plX6 : plainName RX6 = true := by decide +kernel
theorem plJ0 : plainName RJ0 = true := by decide +kernel
theorem plJ1 : plainName RJ1 = true := by decide +kernel
theorem plJ2 : plainName RJ2 = true := by decide +kernel
theorem plJ11 : plainName RJ11 = true := by decide +kernel
theorem plJ13 : plainName RJ13 = true := by decide +kernel
theorem plJ14 : plainName RJ14 = true := by decide +kernel
theorem plJ17 : plainName RJ17 = true := by decide +kernel
theorem plJ18 : plainName RJ18 = true := by decide +kernel
theorem vI_c {a b : Int} (h : a = b) : some (vI a) = some (vI b) := by rw [h]
theorem b01_t {p : Prop} [Decidable p] (h : p) : (1 : Int) = if p then 1 else 0 := by rw [if_pos h]
theorem b01_f {p : Prop} [Decidable p] (h : ¬ p) : (0 : Int) = if p then 1 else 0 := by rw [if_neg h]
theorem vB_t {p : Prop} [Decidable p] (h : p) : some (vI 1) = some (vI (if p then 1 else 0)) := by rw [if_pos h]
theorem vB_f {p : Prop} [Decidable p] (h : ¬ p) : some (vI 0) = some (vI (if p then 1 else 0)) := by rw [if_neg h]
/-- sums: the values of f at the n places from a on -/
def smN (f : Int → Int) (a : Int) : Nat → Int
  | 0 => 0
  | n + 1 => smN f a n + f (a + n)
def sm (f : Int → Int) (a b : Int) : Int := smN f a (b - a).toNat
theorem sm_nil (f : Int → Int) {a b : Int} (h : b ≤ a) : sm f a b = 0 := by
  unfold sm
  rw [show (b - a).toNat = 0 by omega]
  rfl
theorem sm_succ (f : Int → Int) {a b : Int} (h : a ≤ b) : sm f a (b + 1) = sm f a b + f b := by
  unfold sm
  rw [show (b + 1 - a).toNat = (b - a).toNat + 1 by omega]
  show smN f a (b - a).toNat + f (a + ((b - a).toNat : Int)) = _
  rw [show a + ((b - a).toNat : Int) = b by omega]
theorem sm_at (f : Int → Int) {a b c : Int} (h : a ≤ b) (hc : c = b + 1) : sm f a c = sm f a b + f b := by rw [hc, sm_succ f h]
theorem sm_congr {f g : Int → Int} {a b : Int} (h : ∀ k, a ≤ k → k < b → f k = g k) : sm f a b = sm g a b := by
  have key : ∀ (n : Nat), a + n ≤ b ∨ n = 0 → smN f a n = smN g a n := by
    intro n
    induction n with
    | zero => intro _; rfl
    | succ n ih =>
      intro hn
      show smN f a n + f (a + n) = smN g a n + g (a + n)
      rw [ih (by omega), h (a + n) (by omega) (by omega)]
  unfold sm
  exact key _ (by omega)
theorem sm_nonneg {f : Int → Int} {a b : Int} (h : ∀ k, a ≤ k → k < b → 0 ≤ f k) : 0 ≤ sm f a b := by
  have key : ∀ (n : Nat), a + n ≤ b ∨ n = 0 → 0 ≤ smN f a n := by
    intro n
    induction n with
    | zero => intro _; show (0 : Int) ≤ 0; omega
    | succ n ih =>
      intro hn
      show 0 ≤ smN f a n + f (a + n)
      have h1 := ih (by omega)
      have h2 := h (a + n) (by omega) (by omega)
      omega
  unfold sm
  exact key _ (by omega)
theorem sm_le {f : Int → Int} {a b m : Int} (hm : 0 ≤ m) (h : ∀ k, a ≤ k → k < b → f k ≤ m) : sm f a b ≤ m * (b - a).toNat := by
  have key : ∀ (n : Nat), a + n ≤ b ∨ n = 0 → smN f a n ≤ m * n := by
    intro n
    induction n with
    | zero => intro _; show (0 : Int) ≤ m * 0; omega
    | succ n ih =>
      intro hn
      show smN f a n + f (a + n) ≤ m * ((n + 1 : Nat) : Int)
      have h1 := ih (by omega)
      have h2 := h (a + n) (by omega) (by omega)
      have h3 : m * ((n + 1 : Nat) : Int) = m * n + m := by rw [Int.natCast_add, Int.mul_add]; simp
      omega
  unfold sm
  exact key _ (by omega)
theorem sm_add (f g : Int → Int) (a b : Int) : sm (fun k => f k + g k) a b = sm f a b + sm g a b := by
  have key : ∀ (n : Nat), smN (fun k => f k + g k) a n = smN f a n + smN g a n := by
    intro n
    induction n with
    | zero => rfl
    | succ n ih =>
      show smN (fun k => f k + g k) a n + (f (a + n) + g (a + n)) = smN f a n + f (a + n) + (smN g a n + g (a + n))
      rw [ih]
      omega
  exact key _
theorem sm_zero (a b : Int) : sm (fun _ => 0) a b = 0 := by
  have key : ∀ (n : Nat), smN (fun _ => 0) a n = 0 := by
    intro n
    induction n with
    | zero => rfl
    | succ n ih => show smN (fun _ => 0) a n + 0 = 0; rw [ih]; rfl
  exact key _
theorem sm_split (f : Int → Int) {a b c : Int} (h1 : a ≤ b) (h2 : b ≤ c) : sm f a c = sm f a b + sm f b c := by
  have key : ∀ (n : Nat), sm f a (b + n) = sm f a b + sm f b (b + n) := by
    intro n
    induction n with
    | zero => rw [sm_nil f (show b + ((0 : Nat) : Int) ≤ b by omega)]; simp
    | succ n ih =>
      rw [show b + ((n + 1 : Nat) : Int) = (b + n) + 1 by omega, sm_succ f (by omega), sm_succ f (by omega), ih]
      omega
  have h := key (c - b).toNat
  rwa [show b + ((c - b).toNat : Int) = c by omega] at h
abbrev St : Type := Nat → Int → Int → Int
def uS (σ : St) (c : Nat) (i j v : Int) : St := fun c' i' j' => if c' = c ∧ i' = i ∧ j' = j then v else σ c' i' j'
theorem uS_at (σ : St) (c : Nat) (i j v : Int) : uS σ c i j v c i j = v := by simp [uS]
theorem uS_c {σ : St} {c c' : Nat} {i j v i' j' : Int} (h : c' ≠ c) : uS σ c i j v c' i' j' = σ c' i' j' := by simp [uS, h]
theorem uS_i {σ : St} {c : Nat} {i j v i' j' : Int} (h : i' ≠ i) : uS σ c i j v c i' j' = σ c i' j' := by simp [uS, h]
theorem uS_j {σ : St} {c : Nat} {i j v i' j' : Int} (h : j' ≠ j) : uS σ c i j v c i' j' = σ c i' j' := by simp [uS, h]
theorem uS_up {σ : St} {c : Nat} {i j v : Int} : (fun l => uS σ c i j v c i l) = up (fun l => σ c i l) j v := by
  funext l
  by_cases h : l = j
  · subst h; simp [uS, up]
  · simp [uS, up, h]
abbrev nF (σ : St) : Int := σ 0 0 0
abbrev nB (σ : St) : Int := σ 1 0 0
abbrev first (σ : St) (f : Int) : Int := σ 2 f 0
abbrev bfc (σ : St) (k : Int) : Int := σ 3 k 0
abbrev lft (σ : St) (k : Int) : Int := σ 4 k 0
abbrev grn (σ : St) (f : Int) : Int := σ 9 f 0
abbrev day (σ : St) : Int := σ 10 0 0
abbrev lim (σ : St) : Int := σ 11 0 0
abbrev many (σ : St) (f : Int) : Int := σ 12 f 0
/-- a list's row of references -/
def rws (ad : Tg → Nat) (c : Nat) (m : Int) : Int → Option Nat := fun j => if 0 ≤ j ∧ j < m then some (ad (c, j)) else none
theorem rws_at {ad : Tg → Nat} {c : Nat} {m j : Int} (h0 : 0 ≤ j) (h1 : j < m) : rws ad c m j = some (ad (c, j)) := by
  unfold rws
  rw [if_pos ⟨h0, h1⟩]
/-- the class' picture: its object stands at the tag (0, 0) -/
def HasX (G : Gm) (w : Wo) (σ ζ : St) : Prop :=
  w.2 (0, 0) = some (ob 0 [.ref (w.1 (1, 0)), .ref (w.1 (4, 0)), vI (day σ), vI (lim σ), .ref (w.1 (10, 0)), .ref (w.1 (12, 0)), .ref (w.1 (14, 0))]) ∧
  w.2 (1, 0) = some (ob 1 [vI (ζ 0 0 0), .ref (w.1 (2, 0)), vI (nF σ)]) ∧
  w.2 (2, 0) = some (aR G 3 5 (rws w.1 3 (nF σ))) ∧
  (∀ f, 0 ≤ f → f < nF σ → w.2 (3, f) = some (ob 2 [vI f, vI (first σ f), vI (many σ f), vI (grn σ f), .ref (w.1 (0, 0))])) ∧
  w.2 (4, 0) = some (ob 1 [vI (ζ 1 0 0), .ref (w.1 (5, 0)), vI (nB σ)]) ∧
  w.2 (5, 0) = some (aR G 3 24 (rws w.1 6 (nB σ))) ∧
  (∀ k, 0 ≤ k → k < nB σ → w.2 (6, k) = some (ob 3 [vI k, .ref (w.1 (3, bfc σ k)), .ref (w.1 (7, k)), .ref (w.1 (8, k)), .ref (w.1 (9, k)), vI (lft σ k)])) ∧
  (∀ k, 0 ≤ k → k < nB σ → w.2 (7, k) = some (aZ G 8 (fun l => σ 5 k l))) ∧
  (∀ k, 0 ≤ k → k < nB σ → w.2 (8, k) = some (aI G 8 (fun l => σ 6 k l))) ∧
  (∀ k, 0 ≤ k → k < nB σ → w.2 (9, k) = some (aI G 8 (fun l => σ 7 k l))) ∧
  w.2 (10, 0) = some (aR G 4 8 (rws w.1 11 8)) ∧
  (∀ l, 0 ≤ l → l < 8 → w.2 (11, l) = some (aZ G 25 (fun p => σ 8 l p))) ∧
  w.2 (12, 0) = some (aR G 4 8 (rws w.1 13 8)) ∧
  (∀ l, 0 ≤ l → l < 8 → w.2 (13, l) = some (aZ G 25 (fun p => ζ 2 l p))) ∧
  w.2 (14, 0) = some (aR G 5 8 (rws w.1 15 8)) ∧
  (∀ l, 0 ≤ l → l < 8 → w.2 (15, l) = some (aI G 25 (fun p => ζ 3 l p)))
section HX
variable {G : Gm} {w : Wo} {σ ζ : St}
theorem HasX.obj (h : HasX G w σ ζ) : w.2 (0, 0) = some (ob 0 [.ref (w.1 (1, 0)), .ref (w.1 (4, 0)), vI (day σ), vI (lim σ), .ref (w.1 (10, 0)), .ref (w.1 (12, 0)), .ref (w.1 (14, 0))]) := h.1
theorem HasX.fl (h : HasX G w σ ζ) : w.2 (1, 0) = some (ob 1 [vI (ζ 0 0 0), .ref (w.1 (2, 0)), vI (nF σ)]) := h.2.1
theorem HasX.fa (h : HasX G w σ ζ) : w.2 (2, 0) = some (aR G 3 5 (rws w.1 3 (nF σ))) := h.2.2.1
theorem HasX.face (h : HasX G w σ ζ) {f : Int} (h0 : 0 ≤ f) (h1 : f < nF σ) : w.2 (3, f) = some (ob 2 [vI f, vI (first σ f), vI (many σ f), vI (grn σ f), .ref (w.1 (0, 0))]) := h.2.2.2.1 f h0 h1
theorem HasX.bl (h : HasX G w σ ζ) : w.2 (4, 0) = some (ob 1 [vI (ζ 1 0 0), .ref (w.1 (5, 0)), vI (nB σ)]) := h.2.2.2.2.1
theorem HasX.ba (h : HasX G w σ ζ) : w.2 (5, 0) = some (aR G 3 24 (rws w.1 6 (nB σ))) := h.2.2.2.2.2.1
theorem HasX.bay (h : HasX G w σ ζ) {k : Int} (h0 : 0 ≤ k) (h1 : k < nB σ) : w.2 (6, k) = some (ob 3 [vI k, .ref (w.1 (3, bfc σ k)), .ref (w.1 (7, k)), .ref (w.1 (8, k)), .ref (w.1 (9, k)), vI (lft σ k)]) := h.2.2.2.2.2.2.1 k h0 h1
theorem HasX.bd (h : HasX G w σ ζ) {k : Int} (h0 : 0 ≤ k) (h1 : k < nB σ) : w.2 (7, k) = some (aZ G 8 (fun l => σ 5 k l)) := h.2.2.2.2.2.2.2.1 k h0 h1
theorem HasX.so (h : HasX G w σ ζ) {k : Int} (h0 : 0 ≤ k) (h1 : k < nB σ) : w.2 (8, k) = some (aI G 8 (fun l => σ 6 k l)) := h.2.2.2.2.2.2.2.2.1 k h0 h1
theorem HasX.la (h : HasX G w σ ζ) {k : Int} (h0 : 0 ≤ k) (h1 : k < nB σ) : w.2 (9, k) = some (aI G 8 (fun l => σ 7 k l)) := h.2.2.2.2.2.2.2.2.2.1 k h0 h1
theorem HasX.oo (h : HasX G w σ ζ) : w.2 (10, 0) = some (aR G 4 8 (rws w.1 11 8)) := h.2.2.2.2.2.2.2.2.2.2.1
theorem HasX.op (h : HasX G w σ ζ) {l : Int} (h0 : 0 ≤ l) (h1 : l < 8) : w.2 (11, l) = some (aZ G 25 (fun p => σ 8 l p)) := h.2.2.2.2.2.2.2.2.2.2.2.1 l h0 h1
theorem HasX.to (h : HasX G w σ ζ) : w.2 (12, 0) = some (aR G 4 8 (rws w.1 13 8)) := h.2.2.2.2.2.2.2.2.2.2.2.2.1
theorem HasX.ti (h : HasX G w σ ζ) {l : Int} (h0 : 0 ≤ l) (h1 : l < 8) : w.2 (13, l) = some (aZ G 25 (fun p => ζ 2 l p)) := h.2.2.2.2.2.2.2.2.2.2.2.2.2.1 l h0 h1
theorem HasX.oo2 (h : HasX G w σ ζ) : w.2 (14, 0) = some (aR G 5 8 (rws w.1 15 8)) := h.2.2.2.2.2.2.2.2.2.2.2.2.2.2.1
theorem HasX.tf (h : HasX G w σ ζ) {l : Int} (h0 : 0 ≤ l) (h1 : l < 8) : w.2 (15, l) = some (aI G 25 (fun p => ζ 3 l p)) := h.2.2.2.2.2.2.2.2.2.2.2.2.2.2.2 l h0 h1
end HX
/-- the reference's picture: its object stands at the tag (20, 0) -/
def mBl (G : Gm) (w : Wo) (ζ : St) : Nat := if ζ 3 0 0 = 0 then gS G 1 else w.1 (22, 0)
def mFl (G : Gm) (w : Wo) (ζ : St) : Nat := if ζ 4 0 0 = 0 then gS G 1 else w.1 (28, 0)
/-- the Integers of the cache -/
def bxs (G : Gm) (σ : St) : Int → Option Nat := fun f => if 0 ≤ f ∧ f < nF σ then some (gS G (10 + (first σ f + 128).toNat)) else none
def HasM (G : Gm) (w : Wo) (σ ζ : St) : Prop :=
  w.2 (20, 0) = some (ob 4 [vI (ζ 0 0 0), .ref (w.1 (21, 0)), .ref (w.1 (27, 0)), .ref (w.1 (29, 0)), .ref (w.1 (30, 0)), vI (day σ), vI (lim σ), .ref (w.1 (32, 0)), .ref (w.1 (33, 0))]) ∧
  w.2 (21, 0) = some (ob 1 [vI (ζ 1 0 0), .ref (mBl G w ζ), vI (nB σ)]) ∧
  (ζ 3 0 0 ≠ 0 → w.2 (22, 0) = some (aR G 3 (ζ 3 0 0).toNat (rws w.1 23 (nB σ)))) ∧
  (nB σ ≤ ζ 3 0 0 ∧ ζ 3 0 0 < 100) ∧
  (∀ k, 0 ≤ k → k < nB σ → w.2 (23, k) = some (ob 5 [vI (bfc σ k), vI (k - first σ (bfc σ k)), .ref (w.1 (24, k)), .ref (w.1 (25, k)), .ref (w.1 (26, k)), vI (lft σ k)])) ∧
  (∀ k, 0 ≤ k → k < nB σ → w.2 (24, k) = some (aZ G 8 (fun l => σ 5 k l))) ∧
  (∀ k, 0 ≤ k → k < nB σ → w.2 (25, k) = some (aI G 8 (fun l => σ 6 k l))) ∧
  (∀ k, 0 ≤ k → k < nB σ → w.2 (26, k) = some (aI G 8 (fun l => σ 7 k l))) ∧
  w.2 (27, 0) = some (ob 1 [vI (ζ 2 0 0), .ref (mFl G w ζ), vI (nF σ)]) ∧
  (ζ 4 0 0 ≠ 0 → w.2 (28, 0) = some (aR G 3 (ζ 4 0 0).toNat (bxs G σ))) ∧
  (nF σ ≤ ζ 4 0 0 ∧ ζ 4 0 0 < 100) ∧
  w.2 (29, 0) = some (aI G 5 (fun f => if f < nF σ then grn σ f else ζ 7 f 0)) ∧
  w.2 (30, 0) = some (aR G 4 25 (rws w.1 31 25)) ∧
  (∀ p, 0 ≤ p → p < 25 → w.2 (31, p) = some (aZ G 8 (fun l => σ 8 l p))) ∧
  w.2 (32, 0) = some (aI G 25 (fun p => ζ 5 p 0)) ∧
  w.2 (33, 0) = some (aZ G 25 (fun p => ζ 6 p 0))
section HM
variable {G : Gm} {w : Wo} {σ ζ : St}
theorem HasM.obj (h : HasM G w σ ζ) : w.2 (20, 0) = some (ob 4 [vI (ζ 0 0 0), .ref (w.1 (21, 0)), .ref (w.1 (27, 0)), .ref (w.1 (29, 0)), .ref (w.1 (30, 0)), vI (day σ), vI (lim σ), .ref (w.1 (32, 0)), .ref (w.1 (33, 0))]) := h.1
theorem HasM.bl (h : HasM G w σ ζ) : w.2 (21, 0) = some (ob 1 [vI (ζ 1 0 0), .ref (mBl G w ζ), vI (nB σ)]) := h.2.1
theorem HasM.ba (h : HasM G w σ ζ) (hz : ζ 3 0 0 ≠ 0) : w.2 (22, 0) = some (aR G 3 (ζ 3 0 0).toNat (rws w.1 23 (nB σ))) := h.2.2.1 hz
theorem HasM.bc (h : HasM G w σ ζ) : nB σ ≤ ζ 3 0 0 ∧ ζ 3 0 0 < 100 := h.2.2.2.1
theorem HasM.bay (h : HasM G w σ ζ) {k : Int} (h0 : 0 ≤ k) (h1 : k < nB σ) : w.2 (23, k) = some (ob 5 [vI (bfc σ k), vI (k - first σ (bfc σ k)), .ref (w.1 (24, k)), .ref (w.1 (25, k)), .ref (w.1 (26, k)), vI (lft σ k)]) := h.2.2.2.2.1 k h0 h1
theorem HasM.bd (h : HasM G w σ ζ) {k : Int} (h0 : 0 ≤ k) (h1 : k < nB σ) : w.2 (24, k) = some (aZ G 8 (fun l => σ 5 k l)) := h.2.2.2.2.2.1 k h0 h1
theorem HasM.so (h : HasM G w σ ζ) {k : Int} (h0 : 0 ≤ k) (h1 : k < nB σ) : w.2 (25, k) = some (aI G 8 (fun l => σ 6 k l)) := h.2.2.2.2.2.2.1 k h0 h1
theorem HasM.la (h : HasM G w σ ζ) {k : Int} (h0 : 0 ≤ k) (h1 : k < nB σ) : w.2 (26, k) = some (aI G 8 (fun l => σ 7 k l)) := h.2.2.2.2.2.2.2.1 k h0 h1
theorem HasM.fl (h : HasM G w σ ζ) : w.2 (27, 0) = some (ob 1 [vI (ζ 2 0 0), .ref (mFl G w ζ), vI (nF σ)]) := h.2.2.2.2.2.2.2.2.1
theorem HasM.fa (h : HasM G w σ ζ) (hz : ζ 4 0 0 ≠ 0) : w.2 (28, 0) = some (aR G 3 (ζ 4 0 0).toNat (bxs G σ)) := h.2.2.2.2.2.2.2.2.2.1 hz
theorem HasM.fc (h : HasM G w σ ζ) : nF σ ≤ ζ 4 0 0 ∧ ζ 4 0 0 < 100 := h.2.2.2.2.2.2.2.2.2.2.1
theorem HasM.gt (h : HasM G w σ ζ) : w.2 (29, 0) = some (aI G 5 (fun f => if f < nF σ then grn σ f else ζ 7 f 0)) := h.2.2.2.2.2.2.2.2.2.2.2.1
theorem HasM.oo (h : HasM G w σ ζ) : w.2 (30, 0) = some (aR G 4 25 (rws w.1 31 25)) := h.2.2.2.2.2.2.2.2.2.2.2.2.1
theorem HasM.op (h : HasM G w σ ζ) {p : Int} (h0 : 0 ≤ p) (h1 : p < 25) : w.2 (31, p) = some (aZ G 8 (fun l => σ 8 l p)) := h.2.2.2.2.2.2.2.2.2.2.2.2.2.1 p h0 h1
theorem HasM.tf (h : HasM G w σ ζ) : w.2 (32, 0) = some (aI G 25 (fun p => ζ 5 p 0)) := h.2.2.2.2.2.2.2.2.2.2.2.2.2.2.1
theorem HasM.ti (h : HasM G w σ ζ) : w.2 (33, 0) = some (aZ G 25 (fun p => ζ 6 p 0)) := h.2.2.2.2.2.2.2.2.2.2.2.2.2.2.2
end HM
/-- what holds of the abstract state between calls -/
def Ok (σ : St) : Prop :=
  (0 ≤ nF σ ∧ nF σ ≤ 5) ∧ (0 ≤ nB σ ∧ nB σ ≤ 24) ∧ (nF σ = 0 → nB σ = 0) ∧ (0 < nF σ → first σ 0 = 0) ∧
  (∀ f, 0 ≤ f → f < nF σ → 1 ≤ many σ f ∧ 0 ≤ first σ f ∧ first σ f + many σ f ≤ nB σ ∧ (f + 1 < nF σ → first σ (f + 1) = first σ f + many σ f) ∧ (f + 1 = nF σ → first σ f + many σ f = nB σ)) ∧
  (∀ k, 0 ≤ k → k < nB σ → 0 ≤ bfc σ k ∧ bfc σ k < nF σ ∧ first σ (bfc σ k) ≤ k ∧ k < first σ (bfc σ k) + many σ (bfc σ k)) ∧
  (∀ k, 0 ≤ lft σ k ∧ lft σ k ≤ 8) ∧ (∀ k l, σ 5 k l = 0 ∨ σ 5 k l = 1) ∧ (∀ k l, 0 ≤ σ 6 k l ∧ σ 6 k l ≤ 6) ∧ (∀ k l, 0 ≤ σ 7 k l ∧ σ 7 k l ≤ 600) ∧ (∀ l p, σ 8 l p = 0 ∨ σ 8 l p = 1) ∧
  (∀ k l, 0 ≤ k → k < nB σ → lft σ k ≤ l → σ 7 k l = 0) ∧ (∀ l p, (nB σ < p ∨ nB σ = 0) → σ 8 l p = 0) ∧
  (0 ≤ day σ ∧ day σ ≤ 500) ∧ (1 ≤ lim σ ∧ lim σ ≤ 9999) ∧ (∀ f, -1 ≤ grn σ f ∧ grn σ f ≤ 506)
section OK
variable {σ : St}
theorem Ok.hF (h : Ok σ) : 0 ≤ nF σ ∧ nF σ ≤ 5 := h.1
theorem Ok.hB (h : Ok σ) : 0 ≤ nB σ ∧ nB σ ≤ 24 := h.2.1
theorem Ok.hFB (h : Ok σ) : nF σ = 0 → nB σ = 0 := h.2.2.1
theorem Ok.f0 (h : Ok σ) : 0 < nF σ → first σ 0 = 0 := h.2.2.2.1
theorem Ok.fc (h : Ok σ) {f : Int} (h0 : 0 ≤ f) (h1 : f < nF σ) : 1 ≤ many σ f ∧ 0 ≤ first σ f ∧ first σ f + many σ f ≤ nB σ ∧ (f + 1 < nF σ → first σ (f + 1) = first σ f + many σ f) ∧ (f + 1 = nF σ → first σ f + many σ f = nB σ) := h.2.2.2.2.1 f h0 h1
theorem Ok.by (h : Ok σ) {k : Int} (h0 : 0 ≤ k) (h1 : k < nB σ) : 0 ≤ bfc σ k ∧ bfc σ k < nF σ ∧ first σ (bfc σ k) ≤ k ∧ k < first σ (bfc σ k) + many σ (bfc σ k) := h.2.2.2.2.2.1 k h0 h1
theorem Ok.lf (h : Ok σ) (k : Int) : 0 ≤ lft σ k ∧ lft σ k ≤ 8 := h.2.2.2.2.2.2.1 k
theorem Ok.bd (h : Ok σ) (k l : Int) : σ 5 k l = 0 ∨ σ 5 k l = 1 := h.2.2.2.2.2.2.2.1 k l
theorem Ok.so (h : Ok σ) (k l : Int) : 0 ≤ σ 6 k l ∧ σ 6 k l ≤ 6 := h.2.2.2.2.2.2.2.2.1 k l
theorem Ok.la (h : Ok σ) (k l : Int) : 0 ≤ σ 7 k l ∧ σ 7 k l ≤ 600 := h.2.2.2.2.2.2.2.2.2.1 k l
theorem Ok.op (h : Ok σ) (l p : Int) : σ 8 l p = 0 ∨ σ 8 l p = 1 := h.2.2.2.2.2.2.2.2.2.2.1 l p
theorem Ok.lz (h : Ok σ) {k l : Int} (h0 : 0 ≤ k) (h1 : k < nB σ) (h2 : lft σ k ≤ l) : σ 7 k l = 0 := h.2.2.2.2.2.2.2.2.2.2.2.1 k l h0 h1 h2
theorem Ok.oz (h : Ok σ) {l p : Int} (h1 : nB σ < p ∨ nB σ = 0) : σ 8 l p = 0 := h.2.2.2.2.2.2.2.2.2.2.2.2.1 l p h1
theorem Ok.dy (h : Ok σ) : 0 ≤ day σ ∧ day σ ≤ 500 := h.2.2.2.2.2.2.2.2.2.2.2.2.2.1
theorem Ok.lm (h : Ok σ) : 1 ≤ lim σ ∧ lim σ ≤ 9999 := h.2.2.2.2.2.2.2.2.2.2.2.2.2.2.1
theorem Ok.gr (h : Ok σ) (f : Int) : -1 ≤ grn σ f ∧ grn σ f ≤ 506 := h.2.2.2.2.2.2.2.2.2.2.2.2.2.2.2 f
end OK
/-! pure functions of the state -/
def pos (σ : St) : Int := if nB σ = 0 then 0 else nB σ + 1
abbrev btw (σ : St) (p : Int) : Prop := 0 < p ∧ p < nB σ ∧ ¬ bfc σ p = bfc σ (p - 1)
def liftsOf (σ : St) (b : Int) : Int := if 0 ≤ b ∧ b < nB σ then lft σ b else 0
def levelsOf (σ : St) (p : Int) : Int := if liftsOf σ (p - 1) < liftsOf σ p then liftsOf σ p else liftsOf σ (p - 1)
abbrev hasLv (σ : St) (p l : Int) : Prop := 0 ≤ p ∧ p < pos σ ∧ l < levelsOf σ p
def stds (σ : St) (p : Int) : Int := if btw σ p then 3 else 2
abbrev asks (σ : St) (p l : Int) : Prop := l % 2 = 1 ∧ (p + l / 2) % 2 = 0 ∧ hasLv σ p l
def wgt (σ : St) (b k r : Int) : Int := if r = 0 then σ 7 b k else if bears (σ 6 b k) < σ 7 b k then σ 7 b k else bears (σ 6 b k)
def half (σ : St) (b k r : Int) : Int := if 0 ≤ b ∧ b < nB σ ∧ k < lft σ b then ((if σ 5 b k = 0 then 0 else 60) + wgt σ b k r) / 2 else 0
def load (σ : St) (p l r : Int) : Int := sm (fun k => 20 * stds σ p + half σ (p - 1) k r + half σ p k r) l (levelsOf σ p)
/-- the ties of a level, found position by position: where one stands, where each asked for stands -/
abbrev free (σ : St) (l : Int) (t : Int → Int) (p : Int) : Prop := hasLv σ p l ∧ σ 8 l p = 0 ∧ t p = 0
def tie0 (σ : St) (l : Int) : (Int → Int) × (Int → Int) := (fun p => if asks σ p l ∧ σ 8 l p = 0 then 1 else 0, fun p => if asks σ p l ∧ σ 8 l p = 0 then p else -1)
def tieTo (σ : St) (l : Int) (t : Int → Int) (p : Int) : Int := if free σ l t (p + 1) then p + 1 else if free σ l t (p - 1) then p - 1 else -1
def tieS (σ : St) (l : Int) (s : (Int → Int) × (Int → Int)) (p : Int) : (Int → Int) × (Int → Int) :=
  if asks σ p l ∧ ¬ σ 8 l p = 0 then (if tieTo σ l s.1 p = -1 then s.1 else up s.1 (tieTo σ l s.1 p) 1, up s.2 p (tieTo σ l s.1 p)) else s
def tieN (σ : St) (l : Int) : Nat → (Int → Int) × (Int → Int)
  | 0 => tie0 σ l
  | n + 1 => tieS σ l (tieN σ l n) n
def ties (σ : St) (l p : Int) : Int := (tieN σ l (pos σ).toNat).1 p
def tieAt (σ : St) (l p : Int) : Int := (tieN σ l (pos σ).toNat).2 p
def missing (σ : St) (p : Int) : Int := sm (fun l => if asks σ p l ∧ tieAt σ l p = -1 then 1 else 0) 0 8
def bearsOf (σ : St) (p : Int) : Int := if 0 < lim σ * stds σ p - missing σ p * (lim σ * stds σ p / 4) then lim σ * stds σ p - missing σ p * (lim σ * stds σ p / 4) else 0
def spare (σ : St) (p : Int) : Int := bearsOf σ p - load σ p 0 1
/-- the class' ties kept are those of the state -/
def TieOk (σ ζ : St) : Prop := ∀ l, 0 ≤ l → l < 8 → ∀ p, 0 ≤ p → p < 25 → ζ 2 l p = ties σ l p ∧ ζ 3 l p = tieAt σ l p
/-! Math.max, Math.min -/
section MATH
variable {X : Cx} {cc : ByteArray} {nL : Nat} {own : String} {ret : Option FieldType} {d : Nat} {pc : Nat} {lv : List (Option Value)} {stk : List Value} {w : Wo} {k n : Nat}
theorem mx_code : Cond.code Lib.Math.max.name Lib.Math.max.code 2 (some .int) ∈ lw_all := q220
theorem mn_code : Cond.code Lib.Math.min.name Lib.Math.min.code 2 (some .int) ∈ lw_all := q238
theorem mx_static : Cond.static Lib.Math.max.name ∈ lw_all := q219
theorem mn_static : Cond.static Lib.Math.min.name ∈ lw_all := q237
theorem wg_max {a b : Int} {idx : Nat} (C : CxOk X cc nL own ret d) (hlk : Cond.methodLink own idx Lib.Math.max.name ∈ lw_all) (hd : decode cc pc = .ok (.invokestatic idx, 3)) (ha : InR a) (hb : InR b) (hf : 2 ≤ d) (hrest : (stk.map fun v => v.category).sum ≤ 8) (hlv : lv.length = nL) (kk : WG X (pc + 3) lv (vI (if a < b then b else a) :: stk) w k n) : WG X pc lv (vI b :: vI a :: stk) w k n := by
  intro H locs ls c0 s0 hc hs hP hS hl
  have h1 := C.hfr
  have h2 := C.hlo
  refine va_mmax C.hx C.hb (by rw [C.hml, hl.size]; exact hlv.symm) C.hown (C.hts _ hlk) (C.hts _ mx_static) (C.hts _ q80) (C.hts _ mx_code) (by omega) (by omega) (by omega) (by omega) hd ?_
  have e : (if Int32.ofInt a < Int32.ofInt b then Int32.ofInt b else Int32.ofInt a) = Int32.ofInt (if a < b then b else a) := by
    by_cases h : a < b
    · rw [if_pos h, if_pos ((i_lt ha hb).mpr h)]
    · rw [if_neg h, if_neg (fun z => h ((i_lt ha hb).mp z))]
  rw [e]
  exact kk H locs ls c0 s0 hc hs hP hS hl
theorem wg_min {a b : Int} {idx : Nat} (C : CxOk X cc nL own ret d) (hlk : Cond.methodLink own idx Lib.Math.min.name ∈ lw_all) (hd : decode cc pc = .ok (.invokestatic idx, 3)) (ha : InR a) (hb : InR b) (hf : 2 ≤ d) (hrest : (stk.map fun v => v.category).sum ≤ 8) (hlv : lv.length = nL) (kk : WG X (pc + 3) lv (vI (if b < a then b else a) :: stk) w k n) : WG X pc lv (vI b :: vI a :: stk) w k n := by
  intro H locs ls c0 s0 hc hs hP hS hl
  have h1 := C.hfr
  have h2 := C.hlo
  refine va_mmin C.hx C.hb (by rw [C.hml, hl.size]; exact hlv.symm) C.hown (C.hts _ hlk) (C.hts _ mn_static) (C.hts _ q80) (C.hts _ mn_code) (by omega) (by omega) (by omega) (by omega) hd ?_
  have e : (if Int32.ofInt b < Int32.ofInt a then Int32.ofInt b else Int32.ofInt a) = Int32.ofInt (if b < a then b else a) := by
    by_cases h : b < a
    · rw [if_pos h, if_pos ((i_lt hb ha).mpr h)]
    · rw [if_neg h, if_neg (fun z => h ((i_lt hb ha).mp z))]
  rw [e]
  exact kk H locs ls c0 s0 hc hs hP hS hl
end MATH
