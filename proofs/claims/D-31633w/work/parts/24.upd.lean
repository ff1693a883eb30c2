/-! the class' picture when one cell is written -/
set_option maxRecDepth 100000
theorem tg_ne {a b : Nat} {i j : Int} (h : (a == b) = false) : ((a, i) : Tg) ≠ (b, j) := fun z => by
  have h1 : a = b := congrArg Prod.fst z
  rw [h1] at h
  simp at h
theorem tg_ni {a : Nat} {i j : Int} (h : ¬ i = j) : ((a, i) : Tg) ≠ (a, j) := fun z => h (congrArg Prod.snd z)
theorem uS_row {σ : St} {c : Nat} {i j v i' : Int} (h : ¬ i' = i) : (fun l => uS σ c i j v c i' l) = fun l => σ c i' l := funext fun l => uS_i h
/-- only the class' cells are written, nothing is made -/
def SmX (w w1 : Wo) : Prop := w1.1 = w.1 ∧ ∀ t : Tg, 16 ≤ t.1 → w1.2 t = w.2 t
theorem SmX.rf (w : Wo) : SmX w w := ⟨rfl, fun _ _ => rfl⟩
theorem SmX.tr {w w1 w2 : Wo} (h1 : SmX w w1) (h2 : SmX w1 w2) : SmX w w2 := ⟨h2.1.trans h1.1, fun t ht => (h2.2 t ht).trans (h1.2 t ht)⟩
theorem SmX.uv {w w1 : Wo} (h : SmX w w1) {a : Nat} {i : Int} {e : va_E} (ha : Nat.blt a 16 = true) : SmX w (w1.1, uV w1.2 (a, i) e) := ⟨h.1, fun t ht => by
  have h1 : a < 16 := by simpa using ha
  exact (uV_ne (fun z => by rw [z] at ht; exact absurd ht (by show ¬ 16 ≤ a; omega))).trans (h.2 t ht)⟩
/-- nothing stands at the tags for a while -/
def Cln (w : Wo) : Prop := ∀ t : Tg, 50 ≤ t.1 → w.2 t = none
theorem SmX.cln {w w1 : Wo} (h : SmX w w1) (hC : Cln w) : Cln w1 := fun t ht => (h.2 t (by omega)).trans (hC t ht)
theorem wo_ne {A : Tg → Nat} {V : Tg → Option va_E} {t u : Tg} {e : va_E} (h : u ≠ t) : ((A, uV V t e) : Wo).2 u = V u := uV_ne h
section HX
variable {G : Gm} {w : Wo} {σ ζ : St}
theorem HasX.wDay (h : HasX G w σ ζ) (v : Int) : HasX G (w.1, uV w.2 (0, 0) (ob 0 [.ref (w.1 (1, 0)), .ref (w.1 (4, 0)), vI v, vI (lim σ), .ref (w.1 (10, 0)), .ref (w.1 (12, 0)), .ref (w.1 (14, 0))])) (uS σ 10 0 0 v) (ζ) :=
  ⟨by
      show uV w.2 (0, 0) _ (0, 0) = some (ob 0 [.ref (w.1 (1, 0)), .ref (w.1 (4, 0)), vI (uS σ 10 0 0 v 10 0 0), vI (lim σ), .ref (w.1 (10, 0)), .ref (w.1 (12, 0)), .ref (w.1 (14, 0))])
      rw [uS_at]
      exact uV_eq _ _ _,
    (wo_ne (tg_ne rfl)).trans h.fl,
    (wo_ne (tg_ne rfl)).trans h.fa,
    fun x h0 h1 => (wo_ne (tg_ne rfl)).trans (h.face h0 h1),
    (wo_ne (tg_ne rfl)).trans h.bl,
    (wo_ne (tg_ne rfl)).trans h.ba,
    fun x h0 h1 => (wo_ne (tg_ne rfl)).trans (h.bay h0 h1),
    fun x h0 h1 => (wo_ne (tg_ne rfl)).trans (h.bd h0 h1),
    fun x h0 h1 => (wo_ne (tg_ne rfl)).trans (h.so h0 h1),
    fun x h0 h1 => (wo_ne (tg_ne rfl)).trans (h.la h0 h1),
    (wo_ne (tg_ne rfl)).trans h.oo,
    fun x h0 h1 => (wo_ne (tg_ne rfl)).trans (h.op h0 h1),
    (wo_ne (tg_ne rfl)).trans h.to,
    fun x h0 h1 => (wo_ne (tg_ne rfl)).trans (h.ti h0 h1),
    (wo_ne (tg_ne rfl)).trans h.oo2,
    fun x h0 h1 => (wo_ne (tg_ne rfl)).trans (h.tf h0 h1)⟩
theorem HasX.wLim (h : HasX G w σ ζ) (v : Int) : HasX G (w.1, uV w.2 (0, 0) (ob 0 [.ref (w.1 (1, 0)), .ref (w.1 (4, 0)), vI (day σ), vI v, .ref (w.1 (10, 0)), .ref (w.1 (12, 0)), .ref (w.1 (14, 0))])) (uS σ 11 0 0 v) (ζ) :=
  ⟨by
      show uV w.2 (0, 0) _ (0, 0) = some (ob 0 [.ref (w.1 (1, 0)), .ref (w.1 (4, 0)), vI (day σ), vI (uS σ 11 0 0 v 11 0 0), .ref (w.1 (10, 0)), .ref (w.1 (12, 0)), .ref (w.1 (14, 0))])
      rw [uS_at]
      exact uV_eq _ _ _,
    (wo_ne (tg_ne rfl)).trans h.fl,
    (wo_ne (tg_ne rfl)).trans h.fa,
    fun x h0 h1 => (wo_ne (tg_ne rfl)).trans (h.face h0 h1),
    (wo_ne (tg_ne rfl)).trans h.bl,
    (wo_ne (tg_ne rfl)).trans h.ba,
    fun x h0 h1 => (wo_ne (tg_ne rfl)).trans (h.bay h0 h1),
    fun x h0 h1 => (wo_ne (tg_ne rfl)).trans (h.bd h0 h1),
    fun x h0 h1 => (wo_ne (tg_ne rfl)).trans (h.so h0 h1),
    fun x h0 h1 => (wo_ne (tg_ne rfl)).trans (h.la h0 h1),
    (wo_ne (tg_ne rfl)).trans h.oo,
    fun x h0 h1 => (wo_ne (tg_ne rfl)).trans (h.op h0 h1),
    (wo_ne (tg_ne rfl)).trans h.to,
    fun x h0 h1 => (wo_ne (tg_ne rfl)).trans (h.ti h0 h1),
    (wo_ne (tg_ne rfl)).trans h.oo2,
    fun x h0 h1 => (wo_ne (tg_ne rfl)).trans (h.tf h0 h1)⟩
theorem HasX.wGrn (h : HasX G w σ ζ) (f v : Int) : HasX G (w.1, uV w.2 (3, f) (ob 2 [vI f, vI (first σ f), vI (many σ f), vI v, .ref (w.1 (0, 0))])) (uS σ 9 f 0 v) (ζ) :=
  ⟨(wo_ne (tg_ne rfl)).trans h.obj,
    (wo_ne (tg_ne rfl)).trans h.fl,
    (wo_ne (tg_ne rfl)).trans h.fa,
    fun x h0 h1 => by
      by_cases hx : x = f
      · subst hx
        show uV w.2 (3, x) _ (3, x) = some (ob 2 [vI x, vI (first σ x), vI (many σ x), vI (uS σ 9 x 0 v 9 x 0), .ref (w.1 (0, 0))])
        rw [uS_at]
        exact uV_eq _ _ _
      · show uV w.2 (3, f) _ (3, x) = some (ob 2 [vI x, vI (first σ x), vI (many σ x), vI (uS σ 9 f 0 v 9 x 0), .ref (w.1 (0, 0))])
        rw [uS_i hx]
        exact (uV_ne (tg_ni hx)).trans (h.face h0 h1),
    (wo_ne (tg_ne rfl)).trans h.bl,
    (wo_ne (tg_ne rfl)).trans h.ba,
    fun x h0 h1 => (wo_ne (tg_ne rfl)).trans (h.bay h0 h1),
    fun x h0 h1 => (wo_ne (tg_ne rfl)).trans (h.bd h0 h1),
    fun x h0 h1 => (wo_ne (tg_ne rfl)).trans (h.so h0 h1),
    fun x h0 h1 => (wo_ne (tg_ne rfl)).trans (h.la h0 h1),
    (wo_ne (tg_ne rfl)).trans h.oo,
    fun x h0 h1 => (wo_ne (tg_ne rfl)).trans (h.op h0 h1),
    (wo_ne (tg_ne rfl)).trans h.to,
    fun x h0 h1 => (wo_ne (tg_ne rfl)).trans (h.ti h0 h1),
    (wo_ne (tg_ne rfl)).trans h.oo2,
    fun x h0 h1 => (wo_ne (tg_ne rfl)).trans (h.tf h0 h1)⟩
theorem HasX.wLft (h : HasX G w σ ζ) (b v : Int) : HasX G (w.1, uV w.2 (6, b) (ob 3 [vI b, .ref (w.1 (3, bfc σ b)), .ref (w.1 (7, b)), .ref (w.1 (8, b)), .ref (w.1 (9, b)), vI v])) (uS σ 4 b 0 v) (ζ) :=
  ⟨(wo_ne (tg_ne rfl)).trans h.obj,
    (wo_ne (tg_ne rfl)).trans h.fl,
    (wo_ne (tg_ne rfl)).trans h.fa,
    fun x h0 h1 => (wo_ne (tg_ne rfl)).trans (h.face h0 h1),
    (wo_ne (tg_ne rfl)).trans h.bl,
    (wo_ne (tg_ne rfl)).trans h.ba,
    fun x h0 h1 => by
      by_cases hx : x = b
      · subst hx
        show uV w.2 (6, x) _ (6, x) = some (ob 3 [vI x, .ref (w.1 (3, bfc σ x)), .ref (w.1 (7, x)), .ref (w.1 (8, x)), .ref (w.1 (9, x)), vI (uS σ 4 x 0 v 4 x 0)])
        rw [uS_at]
        exact uV_eq _ _ _
      · show uV w.2 (6, b) _ (6, x) = some (ob 3 [vI x, .ref (w.1 (3, bfc σ x)), .ref (w.1 (7, x)), .ref (w.1 (8, x)), .ref (w.1 (9, x)), vI (uS σ 4 b 0 v 4 x 0)])
        rw [uS_i hx]
        exact (uV_ne (tg_ni hx)).trans (h.bay h0 h1),
    fun x h0 h1 => (wo_ne (tg_ne rfl)).trans (h.bd h0 h1),
    fun x h0 h1 => (wo_ne (tg_ne rfl)).trans (h.so h0 h1),
    fun x h0 h1 => (wo_ne (tg_ne rfl)).trans (h.la h0 h1),
    (wo_ne (tg_ne rfl)).trans h.oo,
    fun x h0 h1 => (wo_ne (tg_ne rfl)).trans (h.op h0 h1),
    (wo_ne (tg_ne rfl)).trans h.to,
    fun x h0 h1 => (wo_ne (tg_ne rfl)).trans (h.ti h0 h1),
    (wo_ne (tg_ne rfl)).trans h.oo2,
    fun x h0 h1 => (wo_ne (tg_ne rfl)).trans (h.tf h0 h1)⟩
theorem HasX.wBd (h : HasX G w σ ζ) (b l v : Int) : HasX G (w.1, uV w.2 (7, b) (aZ G 8 (up (fun l => σ 5 b l) l v))) (uS σ 5 b l v) (ζ) :=
  ⟨(wo_ne (tg_ne rfl)).trans h.obj,
    (wo_ne (tg_ne rfl)).trans h.fl,
    (wo_ne (tg_ne rfl)).trans h.fa,
    fun x h0 h1 => (wo_ne (tg_ne rfl)).trans (h.face h0 h1),
    (wo_ne (tg_ne rfl)).trans h.bl,
    (wo_ne (tg_ne rfl)).trans h.ba,
    fun x h0 h1 => (wo_ne (tg_ne rfl)).trans (h.bay h0 h1),
    fun x h0 h1 => by
      by_cases hx : x = b
      · subst hx
        show uV w.2 (7, x) _ (7, x) = some (aZ G 8 (fun l' => uS σ 5 x l v 5 x l'))
        rw [uS_up]
        exact uV_eq _ _ _
      · show uV w.2 (7, b) _ (7, x) = some (aZ G 8 (fun l' => uS σ 5 b l v 5 x l'))
        rw [uS_row hx]
        exact (uV_ne (tg_ni hx)).trans (h.bd h0 h1),
    fun x h0 h1 => (wo_ne (tg_ne rfl)).trans (h.so h0 h1),
    fun x h0 h1 => (wo_ne (tg_ne rfl)).trans (h.la h0 h1),
    (wo_ne (tg_ne rfl)).trans h.oo,
    fun x h0 h1 => (wo_ne (tg_ne rfl)).trans (h.op h0 h1),
    (wo_ne (tg_ne rfl)).trans h.to,
    fun x h0 h1 => (wo_ne (tg_ne rfl)).trans (h.ti h0 h1),
    (wo_ne (tg_ne rfl)).trans h.oo2,
    fun x h0 h1 => (wo_ne (tg_ne rfl)).trans (h.tf h0 h1)⟩
theorem HasX.wSo (h : HasX G w σ ζ) (b l v : Int) : HasX G (w.1, uV w.2 (8, b) (aI G 8 (up (fun l => σ 6 b l) l v))) (uS σ 6 b l v) (ζ) :=
  ⟨(wo_ne (tg_ne rfl)).trans h.obj,
    (wo_ne (tg_ne rfl)).trans h.fl,
    (wo_ne (tg_ne rfl)).trans h.fa,
    fun x h0 h1 => (wo_ne (tg_ne rfl)).trans (h.face h0 h1),
    (wo_ne (tg_ne rfl)).trans h.bl,
    (wo_ne (tg_ne rfl)).trans h.ba,
    fun x h0 h1 => (wo_ne (tg_ne rfl)).trans (h.bay h0 h1),
    fun x h0 h1 => (wo_ne (tg_ne rfl)).trans (h.bd h0 h1),
    fun x h0 h1 => by
      by_cases hx : x = b
      · subst hx
        show uV w.2 (8, x) _ (8, x) = some (aI G 8 (fun l' => uS σ 6 x l v 6 x l'))
        rw [uS_up]
        exact uV_eq _ _ _
      · show uV w.2 (8, b) _ (8, x) = some (aI G 8 (fun l' => uS σ 6 b l v 6 x l'))
        rw [uS_row hx]
        exact (uV_ne (tg_ni hx)).trans (h.so h0 h1),
    fun x h0 h1 => (wo_ne (tg_ne rfl)).trans (h.la h0 h1),
    (wo_ne (tg_ne rfl)).trans h.oo,
    fun x h0 h1 => (wo_ne (tg_ne rfl)).trans (h.op h0 h1),
    (wo_ne (tg_ne rfl)).trans h.to,
    fun x h0 h1 => (wo_ne (tg_ne rfl)).trans (h.ti h0 h1),
    (wo_ne (tg_ne rfl)).trans h.oo2,
    fun x h0 h1 => (wo_ne (tg_ne rfl)).trans (h.tf h0 h1)⟩
theorem HasX.wLa (h : HasX G w σ ζ) (b l v : Int) : HasX G (w.1, uV w.2 (9, b) (aI G 8 (up (fun l => σ 7 b l) l v))) (uS σ 7 b l v) (ζ) :=
  ⟨(wo_ne (tg_ne rfl)).trans h.obj,
    (wo_ne (tg_ne rfl)).trans h.fl,
    (wo_ne (tg_ne rfl)).trans h.fa,
    fun x h0 h1 => (wo_ne (tg_ne rfl)).trans (h.face h0 h1),
    (wo_ne (tg_ne rfl)).trans h.bl,
    (wo_ne (tg_ne rfl)).trans h.ba,
    fun x h0 h1 => (wo_ne (tg_ne rfl)).trans (h.bay h0 h1),
    fun x h0 h1 => (wo_ne (tg_ne rfl)).trans (h.bd h0 h1),
    fun x h0 h1 => (wo_ne (tg_ne rfl)).trans (h.so h0 h1),
    fun x h0 h1 => by
      by_cases hx : x = b
      · subst hx
        show uV w.2 (9, x) _ (9, x) = some (aI G 8 (fun l' => uS σ 7 x l v 7 x l'))
        rw [uS_up]
        exact uV_eq _ _ _
      · show uV w.2 (9, b) _ (9, x) = some (aI G 8 (fun l' => uS σ 7 b l v 7 x l'))
        rw [uS_row hx]
        exact (uV_ne (tg_ni hx)).trans (h.la h0 h1),
    (wo_ne (tg_ne rfl)).trans h.oo,
    fun x h0 h1 => (wo_ne (tg_ne rfl)).trans (h.op h0 h1),
    (wo_ne (tg_ne rfl)).trans h.to,
    fun x h0 h1 => (wo_ne (tg_ne rfl)).trans (h.ti h0 h1),
    (wo_ne (tg_ne rfl)).trans h.oo2,
    fun x h0 h1 => (wo_ne (tg_ne rfl)).trans (h.tf h0 h1)⟩
theorem HasX.wOp (h : HasX G w σ ζ) (b l v : Int) : HasX G (w.1, uV w.2 (11, b) (aZ G 25 (up (fun l => σ 8 b l) l v))) (uS σ 8 b l v) (ζ) :=
  ⟨(wo_ne (tg_ne rfl)).trans h.obj,
    (wo_ne (tg_ne rfl)).trans h.fl,
    (wo_ne (tg_ne rfl)).trans h.fa,
    fun x h0 h1 => (wo_ne (tg_ne rfl)).trans (h.face h0 h1),
    (wo_ne (tg_ne rfl)).trans h.bl,
    (wo_ne (tg_ne rfl)).trans h.ba,
    fun x h0 h1 => (wo_ne (tg_ne rfl)).trans (h.bay h0 h1),
    fun x h0 h1 => (wo_ne (tg_ne rfl)).trans (h.bd h0 h1),
    fun x h0 h1 => (wo_ne (tg_ne rfl)).trans (h.so h0 h1),
    fun x h0 h1 => (wo_ne (tg_ne rfl)).trans (h.la h0 h1),
    (wo_ne (tg_ne rfl)).trans h.oo,
    fun x h0 h1 => by
      by_cases hx : x = b
      · subst hx
        show uV w.2 (11, x) _ (11, x) = some (aZ G 25 (fun l' => uS σ 8 x l v 8 x l'))
        rw [uS_up]
        exact uV_eq _ _ _
      · show uV w.2 (11, b) _ (11, x) = some (aZ G 25 (fun l' => uS σ 8 b l v 8 x l'))
        rw [uS_row hx]
        exact (uV_ne (tg_ni hx)).trans (h.op h0 h1),
    (wo_ne (tg_ne rfl)).trans h.to,
    fun x h0 h1 => (wo_ne (tg_ne rfl)).trans (h.ti h0 h1),
    (wo_ne (tg_ne rfl)).trans h.oo2,
    fun x h0 h1 => (wo_ne (tg_ne rfl)).trans (h.tf h0 h1)⟩
theorem HasX.wTi (h : HasX G w σ ζ) (b l v : Int) : HasX G (w.1, uV w.2 (13, b) (aZ G 25 (up (fun l => ζ 2 b l) l v))) (σ) (uS ζ 2 b l v) :=
  ⟨(wo_ne (tg_ne rfl)).trans h.obj,
    (wo_ne (tg_ne rfl)).trans h.fl,
    (wo_ne (tg_ne rfl)).trans h.fa,
    fun x h0 h1 => (wo_ne (tg_ne rfl)).trans (h.face h0 h1),
    (wo_ne (tg_ne rfl)).trans h.bl,
    (wo_ne (tg_ne rfl)).trans h.ba,
    fun x h0 h1 => (wo_ne (tg_ne rfl)).trans (h.bay h0 h1),
    fun x h0 h1 => (wo_ne (tg_ne rfl)).trans (h.bd h0 h1),
    fun x h0 h1 => (wo_ne (tg_ne rfl)).trans (h.so h0 h1),
    fun x h0 h1 => (wo_ne (tg_ne rfl)).trans (h.la h0 h1),
    (wo_ne (tg_ne rfl)).trans h.oo,
    fun x h0 h1 => (wo_ne (tg_ne rfl)).trans (h.op h0 h1),
    (wo_ne (tg_ne rfl)).trans h.to,
    fun x h0 h1 => by
      by_cases hx : x = b
      · subst hx
        show uV w.2 (13, x) _ (13, x) = some (aZ G 25 (fun l' => uS ζ 2 x l v 2 x l'))
        rw [uS_up]
        exact uV_eq _ _ _
      · show uV w.2 (13, b) _ (13, x) = some (aZ G 25 (fun l' => uS ζ 2 b l v 2 x l'))
        rw [uS_row hx]
        exact (uV_ne (tg_ni hx)).trans (h.ti h0 h1),
    (wo_ne (tg_ne rfl)).trans h.oo2,
    fun x h0 h1 => (wo_ne (tg_ne rfl)).trans (h.tf h0 h1)⟩
theorem HasX.wTf (h : HasX G w σ ζ) (b l v : Int) : HasX G (w.1, uV w.2 (15, b) (aI G 25 (up (fun l => ζ 3 b l) l v))) (σ) (uS ζ 3 b l v) :=
  ⟨(wo_ne (tg_ne rfl)).trans h.obj,
    (wo_ne (tg_ne rfl)).trans h.fl,
    (wo_ne (tg_ne rfl)).trans h.fa,
    fun x h0 h1 => (wo_ne (tg_ne rfl)).trans (h.face h0 h1),
    (wo_ne (tg_ne rfl)).trans h.bl,
    (wo_ne (tg_ne rfl)).trans h.ba,
    fun x h0 h1 => (wo_ne (tg_ne rfl)).trans (h.bay h0 h1),
    fun x h0 h1 => (wo_ne (tg_ne rfl)).trans (h.bd h0 h1),
    fun x h0 h1 => (wo_ne (tg_ne rfl)).trans (h.so h0 h1),
    fun x h0 h1 => (wo_ne (tg_ne rfl)).trans (h.la h0 h1),
    (wo_ne (tg_ne rfl)).trans h.oo,
    fun x h0 h1 => (wo_ne (tg_ne rfl)).trans (h.op h0 h1),
    (wo_ne (tg_ne rfl)).trans h.to,
    fun x h0 h1 => (wo_ne (tg_ne rfl)).trans (h.ti h0 h1),
    (wo_ne (tg_ne rfl)).trans h.oo2,
    fun x h0 h1 => by
      by_cases hx : x = b
      · subst hx
        show uV w.2 (15, x) _ (15, x) = some (aI G 25 (fun l' => uS ζ 3 x l v 3 x l'))
        rw [uS_up]
        exact uV_eq _ _ _
      · show uV w.2 (15, b) _ (15, x) = some (aI G 25 (fun l' => uS ζ 3 b l v 3 x l'))
        rw [uS_row hx]
        exact (uV_ne (tg_ni hx)).trans (h.tf h0 h1)⟩
end HX
/-! tags withdrawn, lifts set -/
def wdTo (σ : St) (k : Int) : St := fun c i j => if c = 9 ∧ j = 0 ∧ 0 ≤ i ∧ i < k then -1 else σ c i j
def wdAll (σ : St) : St := wdTo σ (nF σ)
theorem wdTo_0 (σ : St) : wdTo σ 0 = σ := by
  funext c i j
  show (if c = 9 ∧ j = 0 ∧ 0 ≤ i ∧ i < 0 then (-1 : Int) else σ c i j) = σ c i j
  rw [if_neg (by omega)]
theorem wdTo_s (σ : St) {k : Int} (h : 0 ≤ k) : uS (wdTo σ k) 9 k 0 (-1) = wdTo σ (k + 1) := by
  funext c i j
  show (if c = 9 ∧ i = k ∧ j = 0 then (-1 : Int) else if c = 9 ∧ j = 0 ∧ 0 ≤ i ∧ i < k then -1 else σ c i j) = if c = 9 ∧ j = 0 ∧ 0 ≤ i ∧ i < k + 1 then -1 else σ c i j
  repeat' split
  all_goals first | rfl | omega
/-- the levels of a bay from n to below j cleared -/
def clr (σ : St) (b n j : Int) : St := fun c i l => if (c = 5 ∨ c = 6 ∨ c = 7) ∧ i = b ∧ n ≤ l ∧ l < j then 0 else σ c i l
theorem clr_0 (σ : St) (b n : Int) : clr σ b n n = σ := by
  funext c i l
  show (if (c = 5 ∨ c = 6 ∨ c = 7) ∧ i = b ∧ n ≤ l ∧ l < n then (0 : Int) else σ c i l) = σ c i l
  rw [if_neg (by omega)]
theorem clr_s (σ : St) (b : Int) {n j : Int} (h : n ≤ j) : uS (uS (uS (clr σ b n j) 5 b j 0) 6 b j 0) 7 b j 0 = clr σ b n (j + 1) := by
  funext c i l
  show (if c = 7 ∧ i = b ∧ l = j then (0 : Int) else if c = 6 ∧ i = b ∧ l = j then 0 else if c = 5 ∧ i = b ∧ l = j then 0 else if (c = 5 ∨ c = 6 ∨ c = 7) ∧ i = b ∧ n ≤ l ∧ l < j then 0 else σ c i l) = if (c = 5 ∨ c = 6 ∨ c = 7) ∧ i = b ∧ n ≤ l ∧ l < j + 1 then 0 else σ c i l
  repeat' split
  all_goals first | rfl | omega
/-- a bay's lifts set -/
def stLft (σ : St) (b n : Int) : St := uS (clr σ b n 8) 4 b 0 n

