/-! MY LAYER: worlds by tags, a judgement WG over the kit's W, contracts Ct -/
set_option maxRecDepth 100000
/-- an int value by its number -/
def vI (z : Int) : Value := .int (Int32.ofInt z)
def InR (z : Int) : Prop := -2147483648 ≤ z ∧ z < 2147483648
theorem i_toInt {z : Int} (h : InR z) : (Int32.ofInt z).toInt = z := by
  unfold InR at h
  exact Int32.toInt_ofInt_of_le (by omega) (by omega)
theorem i_lt {a b : Int} (ha : InR a) (hb : InR b) : (Int32.ofInt a < Int32.ofInt b) ↔ a < b := by
  rw [Int32.lt_iff_toInt_lt, i_toInt ha, i_toInt hb]
theorem i_le {a b : Int} (ha : InR a) (hb : InR b) : (Int32.ofInt a ≤ Int32.ofInt b) ↔ a ≤ b := by
  rw [Int32.le_iff_toInt_le, i_toInt ha, i_toInt hb]
theorem i_eq {a b : Int} (ha : InR a) (hb : InR b) : (Int32.ofInt a = Int32.ofInt b) ↔ a = b := by
  rw [← Int32.toInt_inj, i_toInt ha, i_toInt hb]
theorem InR0 : InR 0 := by unfold InR; omega
theorem i_0 : Int32.ofInt 0 = 0 := by decide
theorem i_of (x : Int32) : ∃ z : Int, InR z ∧ x = Int32.ofInt z := by
  refine ⟨x.toInt, ?_, (Int32.ofInt_toInt x).symm⟩
  have h1 := x.le_toInt
  have h2 := x.toInt_lt
  unfold InR
  omega
theorem i_cl {z : Int} (h0 : 0 ≤ z) (h : z < 2147483648) : (Int32.ofInt z).toNatClampNeg = z.toNat := Int32.toNatClampNeg_ofInt_of_le (by omega) (by omega)
theorem i_vp {z : Int} {n : Nat} (h0 : 0 ≤ z) (hn : z < n) (hN : n < 2147483648) : vp_in (Int32.ofInt z) n := by
  have h : InR z := by unfold InR; omega
  exact vp_in_iff.mpr (by rw [i_toInt h]; exact ⟨h0, hn⟩)
theorem i_nat (n : Nat) : Int32.ofNat n = Int32.ofInt (n : Int) := Int32.ofInt_eq_ofNat.symm
/-- arrays' contents by Int places -/
def fA (g : Int → Int) : Nat → Int32 := fun j => Int32.ofInt (g (j : Int))
def up (g : Int → Int) (k v : Int) : Int → Int := fun j => if j = k then v else g j
theorem up_eq (g : Int → Int) (k v : Int) : up g k v k = v := by simp [up]
theorem up_ne {g : Int → Int} {k v j : Int} (h : j ≠ k) : up g k v j = g j := by simp [up, h]
theorem fA_up {g : Int → Int} {k v : Int} (h0 : 0 ≤ k) : upd (fA g) k.toNat (Int32.ofInt v) = fA (up g k v) := by
  funext j
  show (if j = k.toNat then Int32.ofInt v else Int32.ofInt (g j)) = Int32.ofInt (if (j : Int) = k then v else g j)
  by_cases hj : j = k.toNat
  · rw [if_pos hj, if_pos (by omega)]
  · rw [if_neg hj, if_neg (by omega)]
def upR (r : Int → Option Nat) (k : Int) (a : Nat) : Int → Option Nat := fun j => if j = k then some a else r j
theorem upR_eq (r : Int → Option Nat) (k : Int) (a : Nat) : upR r k a k = some a := by simp [upR]
theorem upR_ne {r : Int → Option Nat} {k : Int} {a : Nat} {j : Int} (h : j ≠ k) : upR r k a j = r j := by simp [upR, h]
theorem upR_up {r : Int → Option Nat} {k : Int} {a : Nat} (h0 : 0 ≤ k) : va_up (fun j : Nat => r (j : Int)) k.toNat (some a) = fun j : Nat => upR r k a (j : Int) := by
  funext j
  show (if j = k.toNat then some a else r j) = (if (j : Int) = k then some a else r j)
  by_cases hj : j = k.toNat
  · rw [if_pos hj, if_pos (by omega)]
  · rw [if_neg hj, if_neg (by omega)]
abbrev Tg : Type := Nat × Int
abbrev Wo : Type := (Tg → Nat) × (Tg → Option va_E)
abbrev Gm : Type := Launch × Nat × va_G × (Nat → ClassId) × (Nat → Nat)
abbrev gL (G : Gm) : Launch := G.1
abbrev gB (G : Gm) : Nat := G.2.1
abbrev gD (G : Gm) : va_G := G.2.2.1
abbrev gC (G : Gm) : Nat → ClassId := G.2.2.2.1
abbrev gS (G : Gm) : Nat → Nat := G.2.2.2.2
/-- the cells that the law's run may change: those made in it -/
abbrev gF (G : Gm) : Nat → Prop := fun q => G.2.1 ≤ q
abbrev clsX : List vw_C := [(RX1, TX1, 7), (RJ2, TJ2, 3), (RX3, TX3, 5), (RX4, TX4, 6), (RX2, TX2, 9), (RX5, TX5, 6), (RX6, TX6, 2)]
def gT (G : Gm) : List (ClassId × FieldType) := [(gC G 0, .int), (gC G 1, .boolean), (gC G 2, .long), (gC G 3, .object "java/lang/Object"), (gC G 4, .array .boolean), (gC G 5, .array .int)]
/-- cells: int arrays, boolean arrays, arrays of references (class c of gT), objects -/
def aI (G : Gm) (n : Nat) (g : Int → Int) : va_E := .inl (gC G 0, n, .inl (fA g))
def aZ (G : Gm) (n : Nat) (g : Int → Int) : va_E := .inl (gC G 1, n, .inl (fA g))
def aJ (G : Gm) (n : Nat) (g : Int → Int64) : va_E := .inl (gC G 2, n, .inr (.inl (fun j => g (j : Int))))
def aR (G : Gm) (c n : Nat) (r : Int → Option Nat) : va_E := .inl (gC G c, n, .inr (.inr (.inr (.inr (fun j => r (j : Int))))))
def ob (c : Nat) (fs : List Value) : va_E := .inr (c, fs)
def uV (V : Tg → Option va_E) (t : Tg) (e : va_E) : Tg → Option va_E := fun u => if u = t then some e else V u
def uA (A : Tg → Nat) (t : Tg) (q : Nat) : Tg → Nat := fun u => if u = t then q else A u
theorem uV_eq (V : Tg → Option va_E) (t : Tg) (e : va_E) : uV V t e t = some e := by simp [uV]
theorem uV_ne {V : Tg → Option va_E} {t u : Tg} {e : va_E} (h : u ≠ t) : uV V t e u = V u := by simp [uV, h]
theorem uA_eq (A : Tg → Nat) (t : Tg) (q : Nat) : uA A t q t = q := by simp [uA]
theorem uA_ne {A : Tg → Nat} {t u : Tg} {q : Nat} (h : u ≠ t) : uA A t q u = A u := by simp [uA, h]
theorem uV_uV (V : Tg → Option va_E) (t : Tg) (e f : va_E) : uV (uV V t e) t f = uV V t f := by
  funext u
  by_cases h : u = t
  · subst h; simp [uV]
  · simp [uV, h]
/-- the heap holds the world -/
def HP (G : Gm) (w : Wo) (H : Heap) : Prop :=
  (∀ (t : Tg) (e : va_E), w.2 t = some e → va_at (gD G) clsX (w.1 t, e) H ∧ gF G (w.1 t)) ∧ ∀ (t u : Tg) (e f : va_E), w.2 t = some e → w.2 u = some f → w.1 t = w.1 u → t = u
theorem HP.put {G : Gm} {w : Wo} {H H1 : Heap} {t : Tg} {e0 e : va_E} (h : HP G w H) (ht : w.2 t = some e0) (he : va_at (gD G) clsX (w.1 t, e) H1) (oq : ∀ q : Nat, q ≠ w.1 t → H1[q]? = H[q]?) : HP G (w.1, uV w.2 t e) H1 := by
  refine ⟨fun u f hu => ?_, fun u x f g hu hx hux => ?_⟩
  · by_cases hut : u = t
    · subst hut
      simp only [uV_eq] at hu
      cases hu
      exact ⟨he, (h.1 u e0 ht).2⟩
    · rw [show (w.1, uV w.2 t e).2 u = w.2 u from uV_ne hut] at hu
      exact ⟨(h.1 u f hu).1.kept (oq _ (fun z => hut (h.2 u t f e0 hu ht z))), (h.1 u f hu).2⟩
  · have key : ∀ (y : Tg) (f : va_E), (w.1, uV w.2 t e).2 y = some f → ∃ f', w.2 y = some f' := by
      intro y f hy
      by_cases hyt : y = t
      · subst hyt; exact ⟨e0, ht⟩
      · rw [show (w.1, uV w.2 t e).2 y = w.2 y from uV_ne hyt] at hy
        exact ⟨f, hy⟩
    obtain ⟨f', h1⟩ := key u f hu
    obtain ⟨g', h2⟩ := key x g hx
    exact h.2 u x f' g' h1 h2 hux
theorem HP.new {G : Gm} {w : Wo} {H H1 : Heap} (t : Tg) {e : va_E} (h : HP G w H) (he : va_at (gD G) clsX (H.size, e) H1) (hB : gB G ≤ H.size) (oq : ∀ q : Nat, q < H.size → H1[q]? = H[q]?) : HP G (uA w.1 t H.size, uV w.2 t e) H1 := by
  have key : ∀ (y : Tg) (f : va_E), y ≠ t → uV w.2 t e y = some f → w.2 y = some f ∧ uA w.1 t H.size y = w.1 y ∧ w.1 y < H.size := by
    intro y f hy hf
    rw [uV_ne hy] at hf
    exact ⟨hf, uA_ne hy, (h.1 y f hf).1.lt⟩
  refine ⟨fun u f hu => ?_, fun u x f g hu hx hux => ?_⟩
  · by_cases hut : u = t
    · subst hut
      simp only [uV_eq] at hu
      cases hu
      show va_at (gD G) clsX (uA w.1 u H.size u, e) H1 ∧ gB G ≤ uA w.1 u H.size u
      rw [uA_eq]
      exact ⟨he, hB⟩
    · obtain ⟨h1, h2, h3⟩ := key u f hut hu
      show va_at (gD G) clsX (uA w.1 t H.size u, f) H1 ∧ gB G ≤ uA w.1 t H.size u
      rw [h2]
      exact ⟨(h.1 u f h1).1.kept (oq _ h3), (h.1 u f h1).2⟩
  · change uV w.2 t e u = some f at hu
    change uV w.2 t e x = some g at hx
    change uA w.1 t H.size u = uA w.1 t H.size x at hux
    by_cases hut : u = t
    · by_cases hxt : x = t
      · rw [hut, hxt]
      · obtain ⟨h1, h2, h3⟩ := key x g hxt hx
        rw [hut, uA_eq, h2] at hux
        omega
    · obtain ⟨h1, h2, h3⟩ := key u f hut hu
      by_cases hxt : x = t
      · rw [hxt, uA_eq, h2] at hux
        omega
      · obtain ⟨g1, g2, g3⟩ := key x g hxt hx
        rw [h2, g2] at hux
        exact h.2 u x f g h1 g1 hux
theorem HP.sub {G : Gm} {w w' : Wo} {H : Heap} (h : HP G w H) (hs : ∀ (t : Tg) (e : va_E), w'.2 t = some e → w.2 t = some e ∧ w'.1 t = w.1 t) : HP G w' H := by
  refine ⟨fun t e ht => ?_, fun t u e f ht hu htu => ?_⟩
  · obtain ⟨h1, h2⟩ := hs t e ht
    rw [h2]
    exact h.1 t e h1
  · obtain ⟨h1, h2⟩ := hs t e ht
    obtain ⟨h3, h4⟩ := hs u f hu
    rw [h2, h4] at htu
    exact h.2 t u e f h1 h3 htu
/-! permanents: tables' words that don't ride in the lists, statics that nobody writes -/
def AOa (t : FieldType) (U : State) : Prop := (Cond.arrayOver (.array t)).before #[] U = true
theorem AOa.of {t : FieldType} {A : Array Value} {U : State} (h : (Cond.arrayOver (.array t)).before A U = true) : AOa t U := h
theorem AOa.use {t : FieldType} {A : Array Value} {U : State} (h : AOa t U) : (Cond.arrayOver (.array t)).before A U = true := h
theorem AOa.spec {t : FieldType} {U : State} (h : AOa t U) : ∃ comp c k, U.vm.findClass (FieldType.array t).toString = some comp ∧ (U.vm.classes.findIdx? fun (x : Class) => match x.kind with | .array component _ => component == comp | _ => false) = some c ∧ U.vm.classes[c]? = some k ∧ k.kind = .array comp (.array t) ∧ U.vm.findClass ("[" ++ (FieldType.array t).toString) = some c := by
  unfold AOa Cond.before at h
  simp only [Cond.holds, Cond.value, beq_iff_eq] at h
  cases hc : U.vm.findClass (FieldType.array t).toString with
  | none => simp [hc] at h
  | some comp =>
    simp only [hc, Option.bind_some, Option.bind_eq_some_iff, Option.map_eq_some_iff] at h
    obtain ⟨c, hi, k, hk, hb⟩ := h
    obtain ⟨hlt, hp, -⟩ := Array.findIdx?_eq_some_iff_getElem.mp hi
    have hkk : U.vm.classes[c] = k := (Array.getElem?_eq_some_iff.mp hk).2
    rw [hkk] at hp
    cases hkind : k.kind with
    | array component ty =>
      rw [hkind] at hb hp
      simp at hb hp
      exact ⟨comp, c, k, rfl, hi, hk, by rw [hkind, hp, hb.1], hb.2⟩
    | _ => rw [hkind] at hb; simp at hb
theorem AOa.moved {t : FieldType} {u U : State} (hvm : u.vm.Alike U.vm) (h : AOa t u) : AOa t U := by
  obtain ⟨comp, c, k, h1, h2, h3, h4, h5⟩ := AOa.spec h
  obtain ⟨k', hk', he⟩ := hvm.2.2 _ _ h3
  have hi : (U.vm.classes.findIdx? fun (x : Class) => match x.kind with | .array component _ => component == comp | _ => false) = some c := by
    have e1 := va_idx_bare U.vm comp
    have e0 := va_idx_bare u.vm comp
    have hb : U.vm.bare = u.vm.bare := by first | exact hvm.bare_eq | exact hvm.bare_eq.symm
    rw [hb] at e1
    exact e1.symm.trans (e0.trans h2)
  have hkind : k'.kind = .array comp (.array t) := by rw [he]; exact h4
  have f1 : U.vm.findClass (FieldType.array t).toString = some comp := by rw [hvm.findClass]; exact h1
  have f2 : U.vm.findClass ("[" ++ (FieldType.array t).toString) = some c := by rw [hvm.findClass]; exact h5
  unfold AOa Cond.before Cond.holds
  simp only [Cond.value]
  rw [f1, Option.bind_some]
  refine (congrArg (fun o : Option Nat => (o.bind (fun c => (U.vm.classes[c]?).map fun (k : Class) => match k.kind with | .array _ ty => decide (ty = FieldType.array t) && decide (U.vm.findClass ("[" ++ (FieldType.array t).toString) = some c) | _ => false) == some true)) hi).trans ?_
  simp [hk', hkind, f2]
abbrev NwF : Type := String × Nat × String × String × String × String
abbrev NwM : Type := String × Nat × MethodName × String
def nwF (a : NwF) : Cond := .fieldLinkNest a.1 a.2.1 a.2.2.1 a.2.2.2.1 a.2.2.2.2.1 a.2.2.2.2.2
def nwM (a : NwM) : Cond := .methodLinkNest a.1 a.2.1 a.2.2.1 a.2.2.2
def nestF : List NwF := [("Scaffolder", 270, "Scaffolder$Walk", "counts", "[I", "Scaffolder"), ("Scaffolder", 194, "Scaffolder$Face", "number", "I", "Scaffolder"), ("Scaffolder", 158, "Scaffolder$Face", "first", "I", "Scaffolder"), ("Scaffolder", 247, "Scaffolder$Face", "greenUntil", "I", "Scaffolder"), ("Scaffolder", 84, "Scaffolder$Bay", "number", "I", "Scaffolder"), ("Scaffolder", 46, "Scaffolder$Bay", "of", "LScaffolder$Face;", "Scaffolder"), ("Scaffolder", 213, "Scaffolder$Bay", "isBoarded", "[Z", "Scaffolder"), ("Scaffolder", 220, "Scaffolder$Bay", "sorts", "[I", "Scaffolder"), ("Scaffolder", 224, "Scaffolder$Bay", "laid", "[I", "Scaffolder"), ("Scaffolder", 50, "Scaffolder$Bay", "lifts", "I", "Scaffolder"), ("ScaffolderModel", 96, "ScaffolderModel$Bay", "face", "I", "ScaffolderModel"), ("ScaffolderModel", 195, "ScaffolderModel$Bay", "number", "I", "ScaffolderModel"), ("ScaffolderModel", 139, "ScaffolderModel$Bay", "boarded", "[Z", "ScaffolderModel"), ("ScaffolderModel", 145, "ScaffolderModel$Bay", "sort", "[I", "ScaffolderModel"), ("ScaffolderModel", 154, "ScaffolderModel$Bay", "laid", "[I", "ScaffolderModel"), ("ScaffolderModel", 105, "ScaffolderModel$Bay", "lifts", "I", "ScaffolderModel"), ("Scaffolder$Face", 28, "Scaffolder", "today", "I", "Scaffolder"), ("ScaffolderModel$Bay", 36, "ScaffolderModel", "BEARS", "[I", "ScaffolderModel"), ("Scaffolder$Walk", 31, "Scaffolder", "bays", "Ljava/util/List;", "Scaffolder"), ("Scaffolder$Walk", 57, "Scaffolder", "ties", "[[Z", "Scaffolder"), ("Scaffolder$Walk", 69, "Scaffolder$Bay", "number", "I", "Scaffolder"), ("Scaffolder$Walk", 65, "Scaffolder$Bay", "of", "LScaffolder$Face;", "Scaffolder"), ("Scaffolder$Walk", 61, "Scaffolder$Bay", "isBoarded", "[Z", "Scaffolder")]
def nestM : List NwM := [("Scaffolder", 264, ⟨"Scaffolder$Walk", "<init>", "(LScaffolder;)V"⟩, "Scaffolder"), ("Scaffolder$Face", 35, ⟨"Scaffolder", "inRange", "(III)Z"⟩, "Scaffolder"), ("Scaffolder$Bay", 37, ⟨"Scaffolder", "bornBy", "(I)I"⟩, "Scaffolder"), ("ScaffolderModel$Bay", 32, ⟨"ScaffolderModel", "in", "(III)Z"⟩, "ScaffolderModel"), ("Scaffolder$Walk", 19, ⟨"Scaffolder", "positions", "()I"⟩, "Scaffolder"), ("Scaffolder$Walk", 23, ⟨"Scaffolder", "hasLevel", "(II)Z"⟩, "Scaffolder"), ("Scaffolder$Walk", 54, ⟨"Scaffolder", "isBetween", "(I)Z"⟩, "Scaffolder")]
def castL : List (String × String) := [("java/lang/Integer", "java/lang/Object"), ("java/lang/IllegalStateException", "java/lang/IllegalStateException"), ("java/lang/IllegalStateException", "java/lang/Object"), ("java/util/ArrayList", "java/util/List"), ("java/util/ArrayList", "java/lang/Object"), ("java/lang/IndexOutOfBoundsException", "java/lang/IndexOutOfBoundsException"), ("java/lang/IndexOutOfBoundsException", "java/lang/Object"), ("java/lang/ArrayIndexOutOfBoundsException", "java/lang/ArrayIndexOutOfBoundsException"), ("java/lang/ArrayIndexOutOfBoundsException", "java/lang/IndexOutOfBoundsException"), ("java/lang/ArrayIndexOutOfBoundsException", "java/lang/Object"), ("java/lang/Throwable", "java/lang/Object"), ("java/lang/IllegalArgumentException", "java/lang/IllegalArgumentException"), ("java/lang/IllegalArgumentException", "java/lang/Object"), ("java/lang/StringBuilder", "java/lang/Object"), ("java/lang/String", "java/lang/Object"), ("Scaffolder", "java/lang/Object"), ("ScaffolderModel", "java/lang/Object"), ("Scaffolder$Face", "java/lang/Object"), ("Scaffolder$Bay", "java/lang/Object"), ("ScaffolderModel$Bay", "java/lang/Object"), ("Scaffolder$Walk", "java/lang/Object"), ("[B", "java/lang/Cloneable"), ("[B", "java/lang/Object"), ("[I", "java/lang/Object"), ("[J", "java/lang/Object"), ("[Ljava/lang/Object;", "java/lang/Object"), ("[Z", "java/lang/Object"), ("[[I", "java/lang/Object"), ("[[Z", "java/lang/Object")]
def faceL : List (MethodName × MethodName) := [(⟨"java/util/List", "isEmpty", "()Z"⟩, ⟨"java/util/ArrayList", "isEmpty", "()Z"⟩), (⟨"java/util/List", "size", "()I"⟩, ⟨"java/util/ArrayList", "size", "()I"⟩), (⟨"java/util/List", "get", "(I)Ljava/lang/Object;"⟩, ⟨"java/util/ArrayList", "get", "(I)Ljava/lang/Object;"⟩), (⟨"java/util/List", "add", "(Ljava/lang/Object;)Z"⟩, ⟨"java/util/ArrayList", "add", "(Ljava/lang/Object;)Z"⟩)]
def dclL : List MethodName := [⟨"java/lang/RuntimeException", "<init>", "()V"⟩, ⟨"java/lang/Exception", "<init>", "()V"⟩, ⟨"java/lang/Throwable", "<init>", "()V"⟩]
/-- of the tables alone -/
def PmT (G : Gm) (U : State) : Prop :=
  va_K (gD G) clsX (gT G) U ∧ (∀ a ∈ nestF, va_Nw (nwF a) U) ∧ (∀ a ∈ nestM, va_Nw (nwM a) U) ∧ (∀ a ∈ castL, va_Nw (.castable a.1 a.2) U) ∧ (∀ a ∈ faceL, va_Fw "java/util/ArrayList" a.1 a.2 U) ∧ va_AO "java/lang/Object" U ∧ AOa .boolean U ∧ AOa .int U ∧ va_Dc U ∧ va_Mi "[Ljava/lang/Object;" (gS G 3) U ∧ va_Nc "java/lang/IllegalStateException" "java/lang/IllegalArgumentException" U ∧ va_Nc "java/lang/IllegalStateException" "java/lang/IndexOutOfBoundsException" U ∧ va_Nc "java/lang/IllegalArgumentException" "java/lang/IndexOutOfBoundsException" U ∧ (∀ a ∈ dclL, va_Nw (.declares a) U) ∧ (gL G).stackTraces = false
def bears (k : Int) : Int := if k = 0 then 0 else if k = 1 then 75 else if k = 2 then 150 else if k = 3 then 200 else if k = 4 then 300 else if k = 5 then 450 else 600
abbrev nmB : String := "ScaffolderModel"
abbrev nmO : String := "java/lang/Object"
abbrev nmL : String := "java/util/ArrayList"
abbrev nmN : String := "java/lang/Integer"
abbrev nmQ : String := "java/lang/Integer$IntegerCache"
/-- of cells that were there before the law began: statics, the cache of Integers -/
def PmS (G : Gm) (U : State) (H : Heap) : Prop :=
  va_Z nmB "BEARS" "[I" (.ref (gS G 0)) (gF G) U H ∧ va_T .int (gS G 0) 7 (fun j => vI (bears (j : Int))) (gF G) U H ∧ va_Z nmL "DEFAULTCAPACITY_EMPTY_ELEMENTDATA" "[Ljava/lang/Object;" (.ref (gS G 1)) (gF G) U H ∧ va_T (.object nmO) (gS G 1) 0 (fun _ => .null) (gF G) U H ∧ va_Z nmQ "high" "I" (vI 127) (gF G) U H ∧ va_Z nmQ "cache" "[Ljava/lang/Integer;" (.ref (gS G 2)) (gF G) U H ∧ va_T (.object nmN) (gS G 2) 256 (fun k => .ref (gS G (10 + k))) (gF G) U H ∧ vb_C (fun k => gS G (10 + k)) (gF G) U H ∧ vx_Zq Bundle.tN "UNASSIGNED_STACK" Bundle.steD (gF G) U H ∧ vx_Zq Bundle.tN "SUPPRESSED_SENTINEL" Bundle.listD (gF G) U H
def Pm (G : Gm) (U : State) (H : Heap) : Prop := PmT G U ∧ PmS G U H
theorem PmS.moved {G : Gm} {u U : State} {H : Heap} (hvm : u.vm.Alike U.vm) (h : PmS G u H) : PmS G U H := by
  obtain ⟨h1, h2, h3, h4, h5, h6, h7, h8, h9, h10⟩ := h
  exact ⟨h1.moved hvm, h2.moved hvm, h3.moved hvm, h4.moved hvm, h5.moved hvm, h6.moved hvm, h7.moved hvm, h8.moved hvm, h9.moved hvm, h10.moved hvm⟩
theorem PmS.kept {G : Gm} {U : State} {H H1 : Heap} (hq : ∀ a : Nat, a < H.size → ¬ gF G a → H1[a]? = H[a]?) (h : PmS G U H) : PmS G U H1 := by
  obtain ⟨h1, h2, h3, h4, h5, h6, h7, h8, h9, h10⟩ := h
  exact ⟨h1.kept hq, h2.kept hq, h3.kept hq, h4.kept hq, h5.kept hq, h6.kept hq, h7.kept hq, h8.kept hq, h9.kept hq, h10.kept hq⟩
theorem faceOk : ∀ a ∈ faceL, a.1.cls ≠ "java/lang/invoke/MethodHandle" ∧ a.1.cls ≠ "java/lang/invoke/VarHandle" := by decide +kernel
theorem PmT.warm {G : Gm} {u U : State} (hW : u.WarmedH U.vm) (h : PmT G u) : PmT G U := by
  obtain ⟨h1, h2, h3, h4, h5, h6, h7, h8, h9, h10, h11, h12, h13, h14, h15⟩ := h
  exact ⟨h1.moved hW.alike, fun a ha => va_Nw.warmF hW (h2 a ha), fun a ha => va_Nw.warmM hW (h3 a ha), fun a ha => va_Nw.warmC hW (h4 a ha), fun a ha => (h5 a ha).moved (faceOk a ha) hW.alike, h6.moved hW.alike, h7.moved hW.alike, h8.moved hW.alike, h9.moved hW.alike, h10.moved hW.alike, h11.moved hW.alike, h12.moved hW.alike, h13.moved hW.alike, fun a ha => va_Nw.warmD hW (h14 a ha), h15⟩
theorem PmT.same {G : Gm} {u U : State} (hv : u.vm = U.vm) (h : PmT G u) : PmT G U := by
  obtain ⟨h1, h2, h3, h4, h5, h6, h7, h8, h9, h10, h11, h12, h13, h14, h15⟩ := h
  have hA : u.vm.Alike U.vm := by rw [hv]; exact Vm.Alike.refl U.vm
  exact ⟨h1.moved hA, fun a ha => va_Nw.same rfl hv (h2 a ha), fun a ha => va_Nw.same rfl hv (h3 a ha), fun a ha => va_Nw.same rfl hv (h4 a ha), fun a ha => (h5 a ha).moved (faceOk a ha) hA, h6.moved hA, h7.moved hA, h8.moved hA, h9.moved hA, h10.moved hA, h11.moved hA, h12.moved hA, h13.moved hA, fun a ha => va_Nw.same rfl hv (h14 a ha), h15⟩
/-! the context of a method's walk -/
abbrev Cx : Type := Gm × Program × Env × Room × State × MethodId × Array Value × List Frame × Method × Code × (State → Prop)
abbrev xG (X : Cx) : Gm := X.1
abbrev xP (X : Cx) : Program := X.2.1
abbrev xE (X : Cx) : Env := X.2.2.1
abbrev xR (X : Cx) : Room := X.2.2.2.1
abbrev xS (X : Cx) : State := X.2.2.2.2.1
abbrev xM (X : Cx) : MethodId := X.2.2.2.2.2.1
abbrev xA (X : Cx) : Array Value := X.2.2.2.2.2.2.1
abbrev xB (X : Cx) : List Frame := X.2.2.2.2.2.2.2.1
abbrev xMe (X : Cx) : Method := X.2.2.2.2.2.2.2.2.1
abbrev xC (X : Cx) : Code := X.2.2.2.2.2.2.2.2.2.1
abbrev xQ (X : Cx) : State → Prop := X.2.2.2.2.2.2.2.2.2.2
def CxOk (X : Cx) (cc : ByteArray) (nL : Nat) (own : String) (ret : Option FieldType) (d : Nat) : Prop :=
  (xP X).tables.exec = Jvm.exec ∧ (xC X).code = cc ∧ (xC X).maxLocals = nL ∧ (xS X).vm.findClass own = some (xM X).cls ∧ (∀ w ∈ lw_all, w.before (xA X) (xS X) = true) ∧ Pm (xG X) (xS X) (xS X).heap ∧ gB (xG X) ≤ (xS X).heap.size ∧ (xMe X).sig.returnType = ret ∧ (xMe X).locks = false ∧ d ≤ (xR X).frames ∧ 40 * d ≤ (xR X).locals
section CXA
variable {X : Cx} {cc : ByteArray} {nL : Nat} {own : String} {ret : Option FieldType} {d : Nat}
theorem CxOk.hx (C : CxOk X cc nL own ret d) : (xP X).tables.exec = Jvm.exec := C.1
theorem CxOk.hb (C : CxOk X cc nL own ret d) : (xC X).code = cc := C.2.1
theorem CxOk.hml (C : CxOk X cc nL own ret d) : (xC X).maxLocals = nL := C.2.2.1
theorem CxOk.hown (C : CxOk X cc nL own ret d) : (xS X).vm.findClass own = some (xM X).cls := C.2.2.2.1
theorem CxOk.hts (C : CxOk X cc nL own ret d) : ∀ w ∈ lw_all, w.before (xA X) (xS X) = true := C.2.2.2.2.1
theorem CxOk.pm (C : CxOk X cc nL own ret d) : Pm (xG X) (xS X) (xS X).heap := C.2.2.2.2.2.1
theorem CxOk.hK (C : CxOk X cc nL own ret d) : va_K (gD (xG X)) clsX (gT (xG X)) (xS X) := C.2.2.2.2.2.1.1.1
theorem CxOk.hB (C : CxOk X cc nL own ret d) : gB (xG X) ≤ (xS X).heap.size := C.2.2.2.2.2.2.1
theorem CxOk.hr (C : CxOk X cc nL own ret d) : (xMe X).sig.returnType = ret := C.2.2.2.2.2.2.2.1
theorem CxOk.hlk (C : CxOk X cc nL own ret d) : (xMe X).locks = false := C.2.2.2.2.2.2.2.2.1
theorem CxOk.hfr (C : CxOk X cc nL own ret d) : d ≤ (xR X).frames := C.2.2.2.2.2.2.2.2.2.1
theorem CxOk.hlo (C : CxOk X cc nL own ret d) : 40 * d ≤ (xR X).locals := C.2.2.2.2.2.2.2.2.2.2
end CXA
def LV (ls : Array Slot) (lv : List (Option Value)) : Prop := ∃ l : List (Nat × Value), lv_has ls lv.length l ∧ ∀ (i : Nat) (v : Value), lv[i]? = some (some v) → (i, v) ∈ l
theorem LV.get {ls : Array Slot} {lv : List (Option Value)} {i : Nat} {v : Value} (h : LV ls lv) (hv : lv[i]? = some (some v)) : ls[i]? = some (.val v) := by
  obtain ⟨l, h1, h2⟩ := h
  exact h1.2.2 (i, v) (h2 i v hv)
theorem LV.size {ls : Array Slot} {lv : List (Option Value)} (h : LV ls lv) : ls.size = lv.length := by
  obtain ⟨l, h1, h2⟩ := h
  exact h1.1
def pk1 (o : Option Value) : Bool := match o with
  | some v => v.category == 1
  | none => true
def pkAt (lv : List (Option Value)) (i : Nat) : Bool := match i with
  | 0 => true
  | j + 1 => match lv[j]? with
    | some o => pk1 o
    | none => true
theorem pkAt_ok {lv : List (Option Value)} {i j : Nat} {v : Value} (h : pkAt lv i = true) (hv : lv[j]? = some (some v)) (hj : j + 1 = i) : v.category = 1 := by
  subst hj
  simpa [pkAt, hv, pk1] using h
theorem LV.st {ls' : Array Slot} {lv : List (Option Value)} {l : List (Nat × Value)} {i : Nat} {v : Value} (hl : ∀ (i : Nat) (v : Value), lv[i]? = some (some v) → (i, v) ∈ l) (hp : pkAt lv i = true) (hi : i < lv.length) (h : lv_has ls' lv.length ((i, v) :: l.filter (fun q => !(q.1 == i) && !(q.1 + 1 == i && q.2.category == 2)))) : LV ls' (lv.set i (some v)) := by
  refine ⟨_, by rw [List.length_set]; exact h, fun j u hj => ?_⟩
  by_cases hij : i = j
  · subst hij
    rw [List.getElem?_set_self hi] at hj
    cases hj
    exact List.mem_cons_self
  · rw [List.getElem?_set_ne hij] at hj
    refine List.mem_cons_of_mem _ (List.mem_filter.mpr ⟨hl j u hj, ?_⟩)
    have h1 : ¬ j = i := fun q => hij q.symm
    by_cases h2 : j + 1 = i
    · have h3 := pkAt_ok hp hj h2
      simp [h1, h3]
    · simp [h1, h2]
theorem LV.st2 {ls' : Array Slot} {lv : List (Option Value)} {l : List (Nat × Value)} {i : Nat} {v : Value} (hl : ∀ (i : Nat) (v : Value), lv[i]? = some (some v) → (i, v) ∈ l) (hp : pkAt lv i = true) (hi : i + 1 < lv.length) (h : lv_has ls' lv.length ((i, v) :: l.filter (fun q => !(q.1 == i) && (!(q.1 == i + 1) && !(q.1 + 1 == i && q.2.category == 2))))) : LV ls' ((lv.set i (some v)).set (i + 1) none) := by
  refine ⟨_, by rw [List.length_set, List.length_set]; exact h, fun j u hj => ?_⟩
  by_cases hk : i + 1 = j
  · subst hk
    rw [List.getElem?_set_self (by rw [List.length_set]; exact hi)] at hj
    cases hj
  · rw [List.getElem?_set_ne hk] at hj
    by_cases hij : i = j
    · subst hij
      rw [List.getElem?_set_self (by omega)] at hj
      cases hj
      exact List.mem_cons_self
    · rw [List.getElem?_set_ne hij] at hj
      refine List.mem_cons_of_mem _ (List.mem_filter.mpr ⟨hl j u hj, ?_⟩)
      have h1 : ¬ j = i := fun q => hij q.symm
      have h4 : ¬ j = i + 1 := fun q => hk q.symm
      by_cases h2 : j + 1 = i
      · have h3 := pkAt_ok hp hj h2
        simp [h1, h3, h4]
      · simp [h1, h2, h4]
/-- from the frame at pc, with these locals and stack, from any heap that holds the world w, with k cells and n slots still to make at most, the machine comes to the end that X asks -/
def WG (X : Cx) (pc : Nat) (lv : List (Option Value)) (stk : List Value) (w : Wo) (k n : Nat) : Prop :=
  ∀ (H : Heap) (locs : List Loc) (ls : Array Slot) (c0 s0 : Nat), c0 + k ≤ (xR X).cells → s0 + n ≤ (xR X).slots → HP (xG X) w H → va_S (gF (xG X)) (xS X).heap H locs → LV ls lv → W (xP X) (gL (xG X)) (xE X) (xR X) (xS X) (xM X) (xA X) (xB X) (xMe X) (xC X) H locs c0 s0 (xQ X) (F0 (xM X) pc ls stk)
theorem WG.widen {X : Cx} {pc : Nat} {lv : List (Option Value)} {stk : List Value} {w : Wo} {k n k' n' : Nat} (h1 : k' ≤ k) (h2 : n' ≤ n) (h : WG X pc lv stk w k' n') : WG X pc lv stk w k n :=
  fun H locs ls c0 s0 hc hs hP hS hl => h H locs ls c0 s0 (by omega) (by omega) hP hS hl
theorem WG.forget {X : Cx} {pc : Nat} {lv : List (Option Value)} {stk : List Value} {w w' : Wo} {k n : Nat} (hs : ∀ (t : Tg) (e : va_E), w'.2 t = some e → w.2 t = some e ∧ w'.1 t = w.1 t) (h : WG X pc lv stk w' k n) : WG X pc lv stk w k n :=
  fun H locs ls c0 s0 hc hs' hP hS hl => h H locs ls c0 s0 hc hs' (hP.sub hs) hS hl
theorem WG.loc {X : Cx} {pc : Nat} {lv lv' : List (Option Value)} {stk : List Value} {w : Wo} {k n : Nat} (hlen : lv'.length = lv.length) (hl : ∀ (i : Nat) (v : Value), lv'[i]? = some (some v) → lv[i]? = some (some v)) (h : WG X pc lv' stk w k n) : WG X pc lv stk w k n :=
  fun H locs ls c0 s0 hc hs hP hS hlv => h H locs ls c0 s0 hc hs hP hS (by
    obtain ⟨l, h1, h2⟩ := hlv
    exact ⟨l, by rw [hlen]; exact h1, fun i v hi => h2 i v (hl i v hi)⟩)
/-- locals forgotten: by a mask -/
def lvF : List (Option Value) → List Bool → List (Option Value)
  | [], _ => []
  | a :: r, [] => a :: r
  | a :: r, b :: m => (if b then a else none) :: lvF r m
theorem lvF_len (lv : List (Option Value)) (m : List Bool) : (lvF lv m).length = lv.length := by
  induction lv generalizing m with
  | nil => cases m <;> rfl
  | cons a r ih =>
    cases m with
    | nil => rfl
    | cons b m => simp [lvF, ih]
theorem lvF_get (lv : List (Option Value)) (m : List Bool) (i : Nat) (v : Value) (h : (lvF lv m)[i]? = some (some v)) : lv[i]? = some (some v) := by
  induction lv generalizing m i with
  | nil => cases m <;> simpa [lvF] using h
  | cons a r ih =>
    cases m with
    | nil => simpa [lvF] using h
    | cons b m =>
      cases i with
      | zero => cases b <;> simp [lvF] at h ⊢; exact h
      | succ i => exact ih m i (by simpa [lvF] using h)
theorem WG.mask {X : Cx} {pc : Nat} {lv lv' : List (Option Value)} {stk : List Value} {w : Wo} {k n : Nat} (m : List Bool) (he : lvF lv m = lv') (h : WG X pc lv' stk w k n) : WG X pc lv stk w k n := by
  subst he
  exact WG.loc (lvF_len lv m) (lvF_get lv m) h
theorem WG.at {X : Cx} {pc pc' : Nat} {lv lv' : List (Option Value)} {stk stk' : List Value} {w w' : Wo} {k n : Nat} (h : WG X pc' lv' stk' w' k n) (h1 : pc = pc') (h2 : lv = lv') (h3 : stk = stk') (h4 : w = w') : WG X pc lv stk w k n := by
  subst h1; subst h2; subst h3; subst h4; exact h
