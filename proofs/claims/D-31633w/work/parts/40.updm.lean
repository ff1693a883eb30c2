/-! the reference's picture when one cell is written -/
set_option maxRecDepth 100000
theorem uS_rowI {σ : St} {c : Nat} {i j v j' : Int} (h : ¬ j' = j) : (fun p => uS σ c i j v c p j') = fun p => σ c p j' := funext fun p => uS_j h
theorem uS_upI {σ : St} {c : Nat} {i j v : Int} : (fun p => uS σ c i j v c p j) = up (fun p => σ c p j) i v := by
  funext p
  by_cases h : p = i
  · subst h; simp [uS, up]
  · simp [uS, up, h]
/-- only the reference's cells are written, nothing is made -/
def SmM (w w1 : Wo) : Prop := w1.1 = w.1 ∧ ∀ t : Tg, t.1 < 20 ∨ 34 ≤ t.1 → w1.2 t = w.2 t
theorem SmM.rf (w : Wo) : SmM w w := ⟨rfl, fun _ _ => rfl⟩
theorem SmM.tr {w w1 w2 : Wo} (h1 : SmM w w1) (h2 : SmM w1 w2) : SmM w w2 := ⟨h2.1.trans h1.1, fun t ht => (h2.2 t ht).trans (h1.2 t ht)⟩
theorem SmM.uv {w w1 : Wo} (h : SmM w w1) {a : Nat} {i : Int} {e : va_E} (ha : (Nat.ble 20 a && Nat.blt a 34) = true) : SmM w (w1.1, uV w1.2 (a, i) e) := ⟨h.1, fun t ht => by
  have h1 : 20 ≤ a ∧ a < 34 := by simpa using ha
  exact (uV_ne (fun z => by rw [z] at ht; exact absurd ht (by show ¬ (a < 20 ∨ 34 ≤ a); omega))).trans (h.2 t ht)⟩
section HM
variable {G : Gm} {w : Wo} {σ ζ : St}
theorem HasM.wThr (h : HasM G w σ ζ) (v : Int) : HasM G (w.1, uV w.2 (20, 0) (ob 4 [vI v, .ref (w.1 (21, 0)), .ref (w.1 (27, 0)), .ref (w.1 (29, 0)), .ref (w.1 (30, 0)), vI (day σ), vI (lim σ), .ref (w.1 (32, 0)), .ref (w.1 (33, 0))])) (σ) (uS ζ 0 0 0 v) :=
  ⟨by
      show uV w.2 (20, 0) _ (20, 0) = some (ob 4 [vI (uS ζ 0 0 0 v 0 0 0), .ref (w.1 (21, 0)), .ref (w.1 (27, 0)), .ref (w.1 (29, 0)), .ref (w.1 (30, 0)), vI (day σ), vI (lim σ), .ref (w.1 (32, 0)), .ref (w.1 (33, 0))])
      rw [uS_at]
      exact uV_eq _ _ _,
    (wo_ne (tg_ne rfl)).trans h.bl,
    fun hz => (wo_ne (tg_ne rfl)).trans (h.ba hz),
    h.bc,
    fun x h0 h1 => (wo_ne (tg_ne rfl)).trans (h.bay h0 h1),
    fun x h0 h1 => (wo_ne (tg_ne rfl)).trans (h.bd h0 h1),
    fun x h0 h1 => (wo_ne (tg_ne rfl)).trans (h.so h0 h1),
    fun x h0 h1 => (wo_ne (tg_ne rfl)).trans (h.la h0 h1),
    (wo_ne (tg_ne rfl)).trans h.fl,
    fun hz => (wo_ne (tg_ne rfl)).trans (h.fa hz),
    h.fc,
    (wo_ne (tg_ne rfl)).trans h.gt,
    (wo_ne (tg_ne rfl)).trans h.oo,
    fun x h0 h1 => (wo_ne (tg_ne rfl)).trans (h.op h0 h1),
    (wo_ne (tg_ne rfl)).trans h.tf,
    (wo_ne (tg_ne rfl)).trans h.ti⟩
theorem HasM.wDay (h : HasM G w σ ζ) (v : Int) : HasM G (w.1, uV w.2 (20, 0) (ob 4 [vI (ζ 0 0 0), .ref (w.1 (21, 0)), .ref (w.1 (27, 0)), .ref (w.1 (29, 0)), .ref (w.1 (30, 0)), vI v, vI (lim σ), .ref (w.1 (32, 0)), .ref (w.1 (33, 0))])) (uS σ 10 0 0 v) (ζ) :=
  ⟨by
      show uV w.2 (20, 0) _ (20, 0) = some (ob 4 [vI (ζ 0 0 0), .ref (w.1 (21, 0)), .ref (w.1 (27, 0)), .ref (w.1 (29, 0)), .ref (w.1 (30, 0)), vI (uS σ 10 0 0 v 10 0 0), vI (lim σ), .ref (w.1 (32, 0)), .ref (w.1 (33, 0))])
      rw [uS_at]
      exact uV_eq _ _ _,
    (wo_ne (tg_ne rfl)).trans h.bl,
    fun hz => (wo_ne (tg_ne rfl)).trans (h.ba hz),
    h.bc,
    fun x h0 h1 => (wo_ne (tg_ne rfl)).trans (h.bay h0 h1),
    fun x h0 h1 => (wo_ne (tg_ne rfl)).trans (h.bd h0 h1),
    fun x h0 h1 => (wo_ne (tg_ne rfl)).trans (h.so h0 h1),
    fun x h0 h1 => (wo_ne (tg_ne rfl)).trans (h.la h0 h1),
    (wo_ne (tg_ne rfl)).trans h.fl,
    fun hz => (wo_ne (tg_ne rfl)).trans (h.fa hz),
    h.fc,
    (wo_ne (tg_ne rfl)).trans h.gt,
    (wo_ne (tg_ne rfl)).trans h.oo,
    fun x h0 h1 => (wo_ne (tg_ne rfl)).trans (h.op h0 h1),
    (wo_ne (tg_ne rfl)).trans h.tf,
    (wo_ne (tg_ne rfl)).trans h.ti⟩
theorem HasM.wLim (h : HasM G w σ ζ) (v : Int) : HasM G (w.1, uV w.2 (20, 0) (ob 4 [vI (ζ 0 0 0), .ref (w.1 (21, 0)), .ref (w.1 (27, 0)), .ref (w.1 (29, 0)), .ref (w.1 (30, 0)), vI (day σ), vI v, .ref (w.1 (32, 0)), .ref (w.1 (33, 0))])) (uS σ 11 0 0 v) (ζ) :=
  ⟨by
      show uV w.2 (20, 0) _ (20, 0) = some (ob 4 [vI (ζ 0 0 0), .ref (w.1 (21, 0)), .ref (w.1 (27, 0)), .ref (w.1 (29, 0)), .ref (w.1 (30, 0)), vI (day σ), vI (uS σ 11 0 0 v 11 0 0), .ref (w.1 (32, 0)), .ref (w.1 (33, 0))])
      rw [uS_at]
      exact uV_eq _ _ _,
    (wo_ne (tg_ne rfl)).trans h.bl,
    fun hz => (wo_ne (tg_ne rfl)).trans (h.ba hz),
    h.bc,
    fun x h0 h1 => (wo_ne (tg_ne rfl)).trans (h.bay h0 h1),
    fun x h0 h1 => (wo_ne (tg_ne rfl)).trans (h.bd h0 h1),
    fun x h0 h1 => (wo_ne (tg_ne rfl)).trans (h.so h0 h1),
    fun x h0 h1 => (wo_ne (tg_ne rfl)).trans (h.la h0 h1),
    (wo_ne (tg_ne rfl)).trans h.fl,
    fun hz => (wo_ne (tg_ne rfl)).trans (h.fa hz),
    h.fc,
    (wo_ne (tg_ne rfl)).trans h.gt,
    (wo_ne (tg_ne rfl)).trans h.oo,
    fun x h0 h1 => (wo_ne (tg_ne rfl)).trans (h.op h0 h1),
    (wo_ne (tg_ne rfl)).trans h.tf,
    (wo_ne (tg_ne rfl)).trans h.ti⟩
theorem HasM.wLft (h : HasM G w σ ζ) (b v : Int) : HasM G (w.1, uV w.2 (23, b) (ob 5 [vI (bfc σ b), vI (b - first σ (bfc σ b)), .ref (w.1 (24, b)), .ref (w.1 (25, b)), .ref (w.1 (26, b)), vI v])) (uS σ 4 b 0 v) (ζ) :=
  ⟨(wo_ne (tg_ne rfl)).trans h.obj,
    (wo_ne (tg_ne rfl)).trans h.bl,
    fun hz => (wo_ne (tg_ne rfl)).trans (h.ba hz),
    h.bc,
    fun x h0 h1 => by
      by_cases hx : x = b
      · subst hx
        show uV w.2 (23, x) _ (23, x) = some (ob 5 [vI (bfc σ x), vI (x - first σ (bfc σ x)), .ref (w.1 (24, x)), .ref (w.1 (25, x)), .ref (w.1 (26, x)), vI (uS σ 4 x 0 v 4 x 0)])
        rw [uS_at]
        exact uV_eq _ _ _
      · show uV w.2 (23, b) _ (23, x) = some (ob 5 [vI (bfc σ x), vI (x - first σ (bfc σ x)), .ref (w.1 (24, x)), .ref (w.1 (25, x)), .ref (w.1 (26, x)), vI (uS σ 4 b 0 v 4 x 0)])
        rw [uS_i hx]
        exact (uV_ne (tg_ni hx)).trans (h.bay h0 h1),
    fun x h0 h1 => (wo_ne (tg_ne rfl)).trans (h.bd h0 h1),
    fun x h0 h1 => (wo_ne (tg_ne rfl)).trans (h.so h0 h1),
    fun x h0 h1 => (wo_ne (tg_ne rfl)).trans (h.la h0 h1),
    (wo_ne (tg_ne rfl)).trans h.fl,
    fun hz => (wo_ne (tg_ne rfl)).trans (h.fa hz),
    h.fc,
    (wo_ne (tg_ne rfl)).trans h.gt,
    (wo_ne (tg_ne rfl)).trans h.oo,
    fun x h0 h1 => (wo_ne (tg_ne rfl)).trans (h.op h0 h1),
    (wo_ne (tg_ne rfl)).trans h.tf,
    (wo_ne (tg_ne rfl)).trans h.ti⟩
theorem HasM.wBd (h : HasM G w σ ζ) (b l v : Int) : HasM G (w.1, uV w.2 (24, b) (aZ G 8 (up (fun l => σ 5 b l) l v))) (uS σ 5 b l v) (ζ) :=
  ⟨(wo_ne (tg_ne rfl)).trans h.obj,
    (wo_ne (tg_ne rfl)).trans h.bl,
    fun hz => (wo_ne (tg_ne rfl)).trans (h.ba hz),
    h.bc,
    fun x h0 h1 => (wo_ne (tg_ne rfl)).trans (h.bay h0 h1),
    fun x h0 h1 => by
      by_cases hx : x = b
      · subst hx
        show uV w.2 (24, x) _ (24, x) = some (aZ G 8 (fun l' => uS σ 5 x l v 5 x l'))
        rw [uS_up]
        exact uV_eq _ _ _
      · show uV w.2 (24, b) _ (24, x) = some (aZ G 8 (fun l' => uS σ 5 b l v 5 x l'))
        rw [uS_row hx]
        exact (uV_ne (tg_ni hx)).trans (h.bd h0 h1),
    fun x h0 h1 => (wo_ne (tg_ne rfl)).trans (h.so h0 h1),
    fun x h0 h1 => (wo_ne (tg_ne rfl)).trans (h.la h0 h1),
    (wo_ne (tg_ne rfl)).trans h.fl,
    fun hz => (wo_ne (tg_ne rfl)).trans (h.fa hz),
    h.fc,
    (wo_ne (tg_ne rfl)).trans h.gt,
    (wo_ne (tg_ne rfl)).trans h.oo,
    fun x h0 h1 => (wo_ne (tg_ne rfl)).trans (h.op h0 h1),
    (wo_ne (tg_ne rfl)).trans h.tf,
    (wo_ne (tg_ne rfl)).trans h.ti⟩
theorem HasM.wSo (h : HasM G w σ ζ) (b l v : Int) : HasM G (w.1, uV w.2 (25, b) (aI G 8 (up (fun l => σ 6 b l) l v))) (uS σ 6 b l v) (ζ) :=
  ⟨(wo_ne (tg_ne rfl)).trans h.obj,
    (wo_ne (tg_ne rfl)).trans h.bl,
    fun hz => (wo_ne (tg_ne rfl)).trans (h.ba hz),
    h.bc,
    fun x h0 h1 => (wo_ne (tg_ne rfl)).trans (h.bay h0 h1),
    fun x h0 h1 => (wo_ne (tg_ne rfl)).trans (h.bd h0 h1),
    fun x h0 h1 => by
      by_cases hx : x = b
      · subst hx
        show uV w.2 (25, x) _ (25, x) = some (aI G 8 (fun l' => uS σ 6 x l v 6 x l'))
        rw [uS_up]
        exact uV_eq _ _ _
      · show uV w.2 (25, b) _ (25, x) = some (aI G 8 (fun l' => uS σ 6 b l v 6 x l'))
        rw [uS_row hx]
        exact (uV_ne (tg_ni hx)).trans (h.so h0 h1),
    fun x h0 h1 => (wo_ne (tg_ne rfl)).trans (h.la h0 h1),
    (wo_ne (tg_ne rfl)).trans h.fl,
    fun hz => (wo_ne (tg_ne rfl)).trans (h.fa hz),
    h.fc,
    (wo_ne (tg_ne rfl)).trans h.gt,
    (wo_ne (tg_ne rfl)).trans h.oo,
    fun x h0 h1 => (wo_ne (tg_ne rfl)).trans (h.op h0 h1),
    (wo_ne (tg_ne rfl)).trans h.tf,
    (wo_ne (tg_ne rfl)).trans h.ti⟩
theorem HasM.wLa (h : HasM G w σ ζ) (b l v : Int) : HasM G (w.1, uV w.2 (26, b) (aI G 8 (up (fun l => σ 7 b l) l v))) (uS σ 7 b l v) (ζ) :=
  ⟨(wo_ne (tg_ne rfl)).trans h.obj,
    (wo_ne (tg_ne rfl)).trans h.bl,
    fun hz => (wo_ne (tg_ne rfl)).trans (h.ba hz),
    h.bc,
    fun x h0 h1 => (wo_ne (tg_ne rfl)).trans (h.bay h0 h1),
    fun x h0 h1 => (wo_ne (tg_ne rfl)).trans (h.bd h0 h1),
    fun x h0 h1 => (wo_ne (tg_ne rfl)).trans (h.so h0 h1),
    fun x h0 h1 => by
      by_cases hx : x = b
      · subst hx
        show uV w.2 (26, x) _ (26, x) = some (aI G 8 (fun l' => uS σ 7 x l v 7 x l'))
        rw [uS_up]
        exact uV_eq _ _ _
      · show uV w.2 (26, b) _ (26, x) = some (aI G 8 (fun l' => uS σ 7 b l v 7 x l'))
        rw [uS_row hx]
        exact (uV_ne (tg_ni hx)).trans (h.la h0 h1),
    (wo_ne (tg_ne rfl)).trans h.fl,
    fun hz => (wo_ne (tg_ne rfl)).trans (h.fa hz),
    h.fc,
    (wo_ne (tg_ne rfl)).trans h.gt,
    (wo_ne (tg_ne rfl)).trans h.oo,
    fun x h0 h1 => (wo_ne (tg_ne rfl)).trans (h.op h0 h1),
    (wo_ne (tg_ne rfl)).trans h.tf,
    (wo_ne (tg_ne rfl)).trans h.ti⟩
theorem HasM.wOp (h : HasM G w σ ζ) (p l v : Int) : HasM G (w.1, uV w.2 (31, p) (aZ G 8 (up (fun l => σ 8 l p) l v))) (uS σ 8 l p v) (ζ) :=
  ⟨(wo_ne (tg_ne rfl)).trans h.obj,
    (wo_ne (tg_ne rfl)).trans h.bl,
    fun hz => (wo_ne (tg_ne rfl)).trans (h.ba hz),
    h.bc,
    fun x h0 h1 => (wo_ne (tg_ne rfl)).trans (h.bay h0 h1),
    fun x h0 h1 => (wo_ne (tg_ne rfl)).trans (h.bd h0 h1),
    fun x h0 h1 => (wo_ne (tg_ne rfl)).trans (h.so h0 h1),
    fun x h0 h1 => (wo_ne (tg_ne rfl)).trans (h.la h0 h1),
    (wo_ne (tg_ne rfl)).trans h.fl,
    fun hz => (wo_ne (tg_ne rfl)).trans (h.fa hz),
    h.fc,
    (wo_ne (tg_ne rfl)).trans h.gt,
    (wo_ne (tg_ne rfl)).trans h.oo,
    fun x h0 h1 => by
      by_cases hx : x = p
      · subst hx
        show uV w.2 (31, x) _ (31, x) = some (aZ G 8 (fun l' => uS σ 8 l x v 8 l' x))
        rw [uS_upI]
        exact uV_eq _ _ _
      · show uV w.2 (31, p) _ (31, x) = some (aZ G 8 (fun l' => uS σ 8 l p v 8 l' x))
        rw [uS_rowI hx]
        exact (uV_ne (tg_ni hx)).trans (h.op h0 h1),
    (wo_ne (tg_ne rfl)).trans h.tf,
    (wo_ne (tg_ne rfl)).trans h.ti⟩
theorem HasM.wTf (h : HasM G w σ ζ) (p v : Int) : HasM G (w.1, uV w.2 (32, 0) (aI G 25 (up (fun p => ζ 5 p 0) p v))) (σ) (uS ζ 5 p 0 v) :=
  ⟨(wo_ne (tg_ne rfl)).trans h.obj,
    (wo_ne (tg_ne rfl)).trans h.bl,
    fun hz => (wo_ne (tg_ne rfl)).trans (h.ba hz),
    h.bc,
    fun x h0 h1 => (wo_ne (tg_ne rfl)).trans (h.bay h0 h1),
    fun x h0 h1 => (wo_ne (tg_ne rfl)).trans (h.bd h0 h1),
    fun x h0 h1 => (wo_ne (tg_ne rfl)).trans (h.so h0 h1),
    fun x h0 h1 => (wo_ne (tg_ne rfl)).trans (h.la h0 h1),
    (wo_ne (tg_ne rfl)).trans h.fl,
    fun hz => (wo_ne (tg_ne rfl)).trans (h.fa hz),
    h.fc,
    (wo_ne (tg_ne rfl)).trans h.gt,
    (wo_ne (tg_ne rfl)).trans h.oo,
    fun x h0 h1 => (wo_ne (tg_ne rfl)).trans (h.op h0 h1),
    by
      show uV w.2 (32, 0) _ (32, 0) = some (aI G 25 (fun p' => uS ζ 5 p 0 v 5 p' 0))
      rw [uS_upI]
      exact uV_eq _ _ _,
    (wo_ne (tg_ne rfl)).trans h.ti⟩
theorem HasM.wTi (h : HasM G w σ ζ) (p v : Int) : HasM G (w.1, uV w.2 (33, 0) (aZ G 25 (up (fun p => ζ 6 p 0) p v))) (σ) (uS ζ 6 p 0 v) :=
  ⟨(wo_ne (tg_ne rfl)).trans h.obj,
    (wo_ne (tg_ne rfl)).trans h.bl,
    fun hz => (wo_ne (tg_ne rfl)).trans (h.ba hz),
    h.bc,
    fun x h0 h1 => (wo_ne (tg_ne rfl)).trans (h.bay h0 h1),
    fun x h0 h1 => (wo_ne (tg_ne rfl)).trans (h.bd h0 h1),
    fun x h0 h1 => (wo_ne (tg_ne rfl)).trans (h.so h0 h1),
    fun x h0 h1 => (wo_ne (tg_ne rfl)).trans (h.la h0 h1),
    (wo_ne (tg_ne rfl)).trans h.fl,
    fun hz => (wo_ne (tg_ne rfl)).trans (h.fa hz),
    h.fc,
    (wo_ne (tg_ne rfl)).trans h.gt,
    (wo_ne (tg_ne rfl)).trans h.oo,
    fun x h0 h1 => (wo_ne (tg_ne rfl)).trans (h.op h0 h1),
    (wo_ne (tg_ne rfl)).trans h.tf,
    by
      show uV w.2 (33, 0) _ (33, 0) = some (aZ G 25 (fun p' => uS ζ 6 p 0 v 6 p' 0))
      rw [uS_upI]
      exact uV_eq _ _ _⟩
theorem HasM.wGrn (h : HasM G w σ ζ) (f v : Int) (hf : f < nF σ) : HasM G (w.1, uV w.2 (29, 0) (aI G 5 (up (fun f => if f < nF σ then grn σ f else ζ 7 f 0) f v))) (uS σ 9 f 0 v) (ζ) :=
  ⟨(wo_ne (tg_ne rfl)).trans h.obj,
    (wo_ne (tg_ne rfl)).trans h.bl,
    fun hz => (wo_ne (tg_ne rfl)).trans (h.ba hz),
    h.bc,
    fun x h0 h1 => (wo_ne (tg_ne rfl)).trans (h.bay h0 h1),
    fun x h0 h1 => (wo_ne (tg_ne rfl)).trans (h.bd h0 h1),
    fun x h0 h1 => (wo_ne (tg_ne rfl)).trans (h.so h0 h1),
    fun x h0 h1 => (wo_ne (tg_ne rfl)).trans (h.la h0 h1),
    (wo_ne (tg_ne rfl)).trans h.fl,
    fun hz => (wo_ne (tg_ne rfl)).trans (h.fa hz),
    h.fc,
    by
      show uV w.2 (29, 0) _ (29, 0) = some (aI G 5 (fun g => if g < nF σ then uS σ 9 f 0 v 9 g 0 else ζ 7 g 0))
      rw [show (fun g => if g < nF σ then uS σ 9 f 0 v 9 g 0 else ζ 7 g 0) = up (fun f => if f < nF σ then grn σ f else ζ 7 f 0) f v from funext fun g => by
        by_cases hg : g = f
        · subst hg; rw [up_eq, if_pos hf, uS_at]
        · rw [up_ne hg, uS_i hg]]
      exact uV_eq _ _ _,
    (wo_ne (tg_ne rfl)).trans h.oo,
    fun x h0 h1 => (wo_ne (tg_ne rfl)).trans (h.op h0 h1),
    (wo_ne (tg_ne rfl)).trans h.tf,
    (wo_ne (tg_ne rfl)).trans h.ti⟩
theorem HasM.wGrz (h : HasM G w σ ζ) (f v : Int) (hf : ¬ f < nF σ) : HasM G (w.1, uV w.2 (29, 0) (aI G 5 (up (fun f => if f < nF σ then grn σ f else ζ 7 f 0) f v))) (σ) (uS ζ 7 f 0 v) :=
  ⟨(wo_ne (tg_ne rfl)).trans h.obj,
    (wo_ne (tg_ne rfl)).trans h.bl,
    fun hz => (wo_ne (tg_ne rfl)).trans (h.ba hz),
    h.bc,
    fun x h0 h1 => (wo_ne (tg_ne rfl)).trans (h.bay h0 h1),
    fun x h0 h1 => (wo_ne (tg_ne rfl)).trans (h.bd h0 h1),
    fun x h0 h1 => (wo_ne (tg_ne rfl)).trans (h.so h0 h1),
    fun x h0 h1 => (wo_ne (tg_ne rfl)).trans (h.la h0 h1),
    (wo_ne (tg_ne rfl)).trans h.fl,
    fun hz => (wo_ne (tg_ne rfl)).trans (h.fa hz),
    h.fc,
    by
      show uV w.2 (29, 0) _ (29, 0) = some (aI G 5 (fun g => if g < nF σ then grn σ g else uS ζ 7 f 0 v 7 g 0))
      rw [show (fun g => if g < nF σ then grn σ g else uS ζ 7 f 0 v 7 g 0) = up (fun f => if f < nF σ then grn σ f else ζ 7 f 0) f v from funext fun g => by
        by_cases hg : g = f
        · subst hg; rw [up_eq, if_neg hf, uS_at]
        · rw [up_ne hg, uS_i hg]]
      exact uV_eq _ _ _,
    (wo_ne (tg_ne rfl)).trans h.oo,
    fun x h0 h1 => (wo_ne (tg_ne rfl)).trans (h.op h0 h1),
    (wo_ne (tg_ne rfl)).trans h.tf,
    (wo_ne (tg_ne rfl)).trans h.ti⟩
end HM
