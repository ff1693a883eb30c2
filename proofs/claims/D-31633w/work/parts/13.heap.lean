/-! heap rows over WG: fields, arrays, new cells, statics, casts, calls through List -/
set_option maxRecDepth 100000
section WGH
variable {X : Cx} {cc : ByteArray} {nL : Nat} {own : String} {ret : Option FieldType} {d : Nat} {pc : Nat} {lv : List (Option Value)} {stk : List Value} {w : Wo} {k n : Nat}
theorem hp_one {G : Gm} {w : Wo} {H : Heap} (hP : HP G w H) {t : Tg} {e : va_E} (hV : w.2 t = some e) : va_P (gD G) clsX [(w.1 t, e)] H := fun j x hj => by
  have h1 := (List.getElem?_eq_some_iff.mp hj).1
  have : j = 0 := by simpa using h1
  subst this
  cases hj
  exact (hP.1 t _ hV).1
theorem wg_get {ref Cn host : String} {T : u_T} {N ci idx : Nat} {t : Tg} {a : Nat} {fs : List Value} {v : Value} (fi : Nat) (C : CxOk X cc nL own ret d) (hin : ∀ x ∈ u_ws Cn T N, x ∈ lw_all) (hcl : clsX[ci]? = some (Cn, T, N)) (hlk : Cond.fieldLink own idx ref (T fi).2.1 (T fi).2.2.1 ∈ lw_all) (hsame : ∀ x, (xS X).fieldFound? (T fi).1 (T fi).2.1 (T fi).2.2.1 = some x → (xS X).fieldFound? ref (T fi).2.1 (T fi).2.2.1 = some x) (hk : fi < N) (hV : w.2 t = some (ob ci fs)) (ha : w.1 t = a) (hv : fs[fi]? = some v) (hd : decode cc pc = .ok (.getfield idx, 3)) (kk : WG X (pc + 3) lv (v :: stk) w k n) : WG X pc lv (.ref a :: stk) w k n := by
  subst ha
  exact fun H locs ls c0 s0 hc hs hP hS hl => va_get C.hx C.hb C.hts hin C.hown C.hK (hp_one hP hV) 0 rfl hcl fi hk (C.hts _ hlk) hsame hv hd (kk H locs ls c0 s0 hc hs hP hS hl)
theorem wg_getN {ref Cn host : String} {T : u_T} {N ci idx : Nat} {t : Tg} {a : Nat} {fs : List Value} {v : Value} (fi : Nat) (C : CxOk X cc nL own ret d) (hin : ∀ x ∈ u_ws Cn T N, x ∈ lw_all) (hcl : clsX[ci]? = some (Cn, T, N)) (hlk : va_Nw (.fieldLinkNest own idx ref (T fi).2.1 (T fi).2.2.1 host) (xS X)) (hsame : ∀ x, (xS X).fieldFound? (T fi).1 (T fi).2.1 (T fi).2.2.1 = some x → (xS X).fieldFound? ref (T fi).2.1 (T fi).2.2.1 = some x) (hk : fi < N) (hV : w.2 t = some (ob ci fs)) (ha : w.1 t = a) (hv : fs[fi]? = some v) (hd : decode cc pc = .ok (.getfield idx, 3)) (kk : WG X (pc + 3) lv (v :: stk) w k n) : WG X pc lv (.ref a :: stk) w k n := by
  subst ha
  exact fun H locs ls c0 s0 hc hs hP hS hl => va_getN C.hx C.hb C.hts hin C.hown C.hK (hp_one hP hV) 0 rfl hcl fi hk (va_Nw.use rfl hlk) hsame hv hd (kk H locs ls c0 s0 hc hs hP hS hl)
theorem wg_put {ref Cn host : String} {T : u_T} {N ci idx : Nat} {t : Tg} {a : Nat} {fs : List Value} {v : Value} {ty : FieldType} {ty0 : Nat → FieldType} (fi : Nat) (C : CxOk X cc nL own ret d) (hin : ∀ x ∈ u_ws Cn T N, x ∈ lw_all) (hty : ∀ k, k < N → parseFieldDescriptor (T k).2.2.1 = some (ty0 k)) (hnm : ∀ a, a < N → ∀ b, b < N → a ≠ b → (T a).2.1 ≠ (T b).2.1) (hcl : clsX[ci]? = some (Cn, T, N)) (hlk : Cond.fieldLink own idx ref (T fi).2.1 (T fi).2.2.1 ∈ lw_all) (hsame : ∀ x, (xS X).fieldFound? (T fi).1 (T fi).2.1 (T fi).2.2.1 = some x → (xS X).fieldFound? ref (T fi).2.1 (T fi).2.2.1 = some x) (hk : fi < N) (hfin : (T fi).2.2.2 = false) (hdsc : parseFieldDescriptor (T fi).2.2.1 = some ty) (hn : narrow ty v = v) (hfit : fits ty v = true) (hV : w.2 t = some (ob ci fs)) (ha : w.1 t = a) (hl : fi < fs.length) (hd : decode cc pc = .ok (.putfield idx, 3)) (kk : WG X (pc + 3) lv stk (w.1, uV w.2 t (ob ci (fs.set fi v))) k n) : WG X pc lv (v :: .ref a :: stk) w k n := by
  subst ha
  intro H locs ls c0 s0 hc hs hP hS hlv
  have hap := va_apart (own := own) C.hts hin ty0 hty hnm C.hK hcl
  obtain ⟨r, h1, cell, q1, q2, q3, q4⟩ := (hP.1 t _ hV).1
  have hr : r = (Cn, T, N) := Option.some.inj (h1.symm.trans hcl)
  subst hr
  obtain ⟨hSl, hfc, kC, hkC, hkind⟩ := C.hK.1 ci _ hcl
  obtain ⟨cf, kf, fi', f, hi, hsl⟩ := hSl fi hk
  have hlay := C.hts _ (hin _ (u_in_lay hk))
  unfold u_lay at hlay
  have hst := (u_facts hfc hkC (u_lays C.hts hin hk) hi).1
  rw [if_neg (by rw [hfin]; decide)] at hlay
  have h6 := u_store hfc hkC hkind hlay hi hdsc hn hfit
  refine W.putK C.hx C.hb (f := f) ⟨C.hown, C.hts _ hlk, ⟨_, _, _, hsame _ hi⟩, hst⟩ (by rw [q2]; exact h6) q1 q3 (by rw [hsl]; exact k2_hasslot (q4 fi hk)) rfl rfl hd fun H' e1 e2 e3 => ?_
  rw [hsl] at e1 ⊢
  exact kk H' _ ls c0 s0 hc hs (hP.put hV ⟨_, hcl, t_OB.to (V := updV (vp_V fs) fi v) ⟨_, e1, q2, q3, t_set q4 hap hk v⟩ (fun j _ => vp_updV_set hl v j)⟩ e3) (hS.put e2 e3 (hP.1 t _ hV).2) hlv
theorem wg_putF {ref Cn host : String} {T : u_T} {N ci idx : Nat} {t : Tg} {a : Nat} {fs : List Value} {v : Value} {ty : FieldType} {ty0 : Nat → FieldType} (fi : Nat) (C : CxOk X cc nL own ret d) (hin : ∀ x ∈ u_ws Cn T N, x ∈ lw_all) (hty : ∀ k, k < N → parseFieldDescriptor (T k).2.2.1 = some (ty0 k)) (hnm : ∀ a, a < N → ∀ b, b < N → a ≠ b → (T a).2.1 ≠ (T b).2.1) (hcl : clsX[ci]? = some (Cn, T, N)) (hlk : Cond.fieldLink own idx ref (T fi).2.1 (T fi).2.2.1 ∈ lw_all) (hsame : ∀ x, (xS X).fieldFound? (T fi).1 (T fi).2.1 (T fi).2.2.1 = some x → (xS X).fieldFound? ref (T fi).2.1 (T fi).2.2.1 = some x) (hk : fi < N) (hfin : (T fi).2.2.2 = true) (hin2 : (xMe X).name = "<init>") (hdecl : (T fi).1 = own) (hdsc : parseFieldDescriptor (T fi).2.2.1 = some ty) (hn : narrow ty v = v) (hfit : fits ty v = true) (hV : w.2 t = some (ob ci fs)) (ha : w.1 t = a) (hl : fi < fs.length) (hd : decode cc pc = .ok (.putfield idx, 3)) (kk : WG X (pc + 3) lv stk (w.1, uV w.2 t (ob ci (fs.set fi v))) k n) : WG X pc lv (v :: .ref a :: stk) w k n := by
  subst ha
  intro H locs ls c0 s0 hc hs hP hS hlv
  have hap := va_apart (own := own) C.hts hin ty0 hty hnm C.hK hcl
  obtain ⟨r, h1, cell, q1, q2, q3, q4⟩ := (hP.1 t _ hV).1
  have hr : r = (Cn, T, N) := Option.some.inj (h1.symm.trans hcl)
  subst hr
  obtain ⟨hSl, hfc, kC, hkC, hkind⟩ := C.hK.1 ci _ hcl
  obtain ⟨cf, kf, fi', f, hi, hsl⟩ := hSl fi hk
  have hlay := C.hts _ (hin _ (u_in_lay hk))
  unfold u_lay at hlay
  have hst := (u_facts hfc hkC (u_lays C.hts hin hk) hi).1
  rw [if_pos hfin] at hlay
  have hcf : (xM X).cls = cf := by
    obtain ⟨_, _, c', _, _, _, -, -, hf', -, -, -, hown2, -⟩ := Cond.laysFinal_spec hlay
    have e1 : c' = cf := by have := hi.symm.trans hf'; simp at this; exact this.1.symm
    rw [hdecl] at hown2
    rw [← e1]; exact Option.some.inj (C.hown.symm.trans hown2)
  have h6 := u_fits hfc hkC hkind (Or.inr hlay) hi hdsc hn hfit
  refine W.putFinK C.hx C.hb C.hown (C.hts _ hlk) (hsame _ hi) hst hcf hin2 (by rw [q2]; exact h6) q1 q3 (by rw [hsl]; exact k2_hasslot (q4 fi hk)) rfl rfl hd fun H' e1 e2 e3 => ?_
  rw [hsl] at e1 ⊢
  exact kk H' _ ls c0 s0 hc hs (hP.put hV ⟨_, hcl, t_OB.to (V := updV (vp_V fs) fi v) ⟨_, e1, q2, q3, t_set q4 hap hk v⟩ (fun j _ => vp_updV_set hl v j)⟩ e3) (hS.put e2 e3 (hP.1 t _ hV).2) hlv
theorem wg_putN {ref Cn host : String} {T : u_T} {N ci idx : Nat} {t : Tg} {a : Nat} {fs : List Value} {v : Value} {ty : FieldType} {ty0 : Nat → FieldType} (fi : Nat) (C : CxOk X cc nL own ret d) (hin : ∀ x ∈ u_ws Cn T N, x ∈ lw_all) (hty : ∀ k, k < N → parseFieldDescriptor (T k).2.2.1 = some (ty0 k)) (hnm : ∀ a, a < N → ∀ b, b < N → a ≠ b → (T a).2.1 ≠ (T b).2.1) (hcl : clsX[ci]? = some (Cn, T, N)) (hlk : va_Nw (.fieldLinkNest own idx ref (T fi).2.1 (T fi).2.2.1 host) (xS X)) (hsame : ∀ x, (xS X).fieldFound? (T fi).1 (T fi).2.1 (T fi).2.2.1 = some x → (xS X).fieldFound? ref (T fi).2.1 (T fi).2.2.1 = some x) (hk : fi < N) (hfin : (T fi).2.2.2 = false) (hdsc : parseFieldDescriptor (T fi).2.2.1 = some ty) (hn : narrow ty v = v) (hfit : fits ty v = true) (hV : w.2 t = some (ob ci fs)) (ha : w.1 t = a) (hl : fi < fs.length) (hd : decode cc pc = .ok (.putfield idx, 3)) (kk : WG X (pc + 3) lv stk (w.1, uV w.2 t (ob ci (fs.set fi v))) k n) : WG X pc lv (v :: .ref a :: stk) w k n := by
  subst ha
  intro H locs ls c0 s0 hc hs hP hS hlv
  have hap := va_apart (own := own) C.hts hin ty0 hty hnm C.hK hcl
  obtain ⟨r, h1, cell, q1, q2, q3, q4⟩ := (hP.1 t _ hV).1
  have hr : r = (Cn, T, N) := Option.some.inj (h1.symm.trans hcl)
  subst hr
  obtain ⟨hSl, hfc, kC, hkC, hkind⟩ := C.hK.1 ci _ hcl
  obtain ⟨cf, kf, fi', f, hi, hsl⟩ := hSl fi hk
  have hlay := C.hts _ (hin _ (u_in_lay hk))
  unfold u_lay at hlay
  have hst := (u_facts hfc hkC (u_lays C.hts hin hk) hi).1
  rw [if_neg (by rw [hfin]; decide)] at hlay
  have h6 := u_store hfc hkC hkind hlay hi hdsc hn hfit
  refine va_WputK C.hx C.hb (f := f) C.hown (va_Nw.use rfl hlk) (hsame _ hi) hst (by rw [q2]; exact h6) q1 q3 (by rw [hsl]; exact k2_hasslot (q4 fi hk)) rfl rfl hd fun H' e1 e2 e3 => ?_
  rw [hsl] at e1 ⊢
  exact kk H' _ ls c0 s0 hc hs (hP.put hV ⟨_, hcl, t_OB.to (V := updV (vp_V fs) fi v) ⟨_, e1, q2, q3, t_set q4 hap hk v⟩ (fun j _ => vp_updV_set hl v j)⟩ e3) (hS.put e2 e3 (hP.1 t _ hV).2) hlv
theorem fA_at {g : Int → Int} {i : Int} (h0 : 0 ≤ i) (h1 : i < 2147483648) : (Value.int (fA g (Int32.ofInt i).toNatClampNeg)) = vI (g i) := by
  rw [i_cl h0 h1]
  show Value.int (Int32.ofInt (g ((i.toNat : Nat) : Int))) = Value.int (Int32.ofInt (g i))
  rw [Int.toNat_of_nonneg h0]
theorem wg_iald {t : Tg} {a nn : Nat} {g : Int → Int} {i : Int} (C : CxOk X cc nL own ret d) (hV : w.2 t = some (aI (xG X) nn g)) (ha : w.1 t = a) (h0 : 0 ≤ i) (h1 : i < nn) (hN : nn < 2147483648) (hd : decode cc pc = .ok (.iaload, 1)) (kk : WG X (pc + 1) lv (vI (g i) :: stk) w k n) : WG X pc lv (vI i :: .ref a :: stk) w k n := by
  subst ha
  exact fun H locs ls c0 s0 hc hs hP hS hl => va_iald C.hx C.hb C.hK (hp_one hP hV) 0 0 rfl rfl (i_vp h0 h1 hN) hd (by rw [fA_at h0 (by omega)]; exact kk H locs ls c0 s0 hc hs hP hS hl)
theorem wg_zald {t : Tg} {a nn : Nat} {g : Int → Int} {i : Int} (C : CxOk X cc nL own ret d) (hV : w.2 t = some (aZ (xG X) nn g)) (ha : w.1 t = a) (h0 : 0 ≤ i) (h1 : i < nn) (hN : nn < 2147483648) (hd : decode cc pc = .ok (.baload, 1)) (kk : WG X (pc + 1) lv (vI (g i) :: stk) w k n) : WG X pc lv (vI i :: .ref a :: stk) w k n := by
  subst ha
  exact fun H locs ls c0 s0 hc hs hP hS hl => va_zald C.hx C.hb C.hK (hp_one hP hV) 0 1 rfl rfl (i_vp h0 h1 hN) hd (by rw [fA_at h0 (by omega)]; exact kk H locs ls c0 s0 hc hs hP hS hl)
theorem wg_jald {t : Tg} {a nn : Nat} {g : Int → Int64} {i : Int} (C : CxOk X cc nL own ret d) (hV : w.2 t = some (aJ (xG X) nn g)) (ha : w.1 t = a) (h0 : 0 ≤ i) (h1 : i < nn) (hN : nn < 2147483648) (hd : decode cc pc = .ok (.laload, 1)) (kk : WG X (pc + 1) lv (.long (g i) :: stk) w k n) : WG X pc lv (vI i :: .ref a :: stk) w k n := by
  subst ha
  exact fun H locs ls c0 s0 hc hs hP hS hl => va_lald C.hx C.hb C.hK (hp_one hP hV) 0 2 rfl rfl (i_vp h0 h1 hN) hd (by
    rw [i_cl h0 (by omega)]
    show W _ _ _ _ _ _ _ _ _ _ _ _ _ _ _ (F0 _ _ _ (.long (g ((i.toNat : Nat) : Int)) :: _))
    rw [Int.toNat_of_nonneg h0]
    exact kk H locs ls c0 s0 hc hs hP hS hl)
theorem wg_aald {t : Tg} {a nn ty y : Nat} {fty : FieldType} {r : Int → Option Nat} {i : Int} (C : CxOk X cc nL own ret d) (hty : (gT (xG X))[ty]? = some (gC (xG X) ty, fty)) (href : fty.isReference = true) (hV : w.2 t = some (aR (xG X) ty nn r)) (ha : w.1 t = a) (h0 : 0 ≤ i) (h1 : i < nn) (hN : nn < 2147483648) (hr : r i = some y) (hd : decode cc pc = .ok (.aaload, 1)) (kk : WG X (pc + 1) lv (.ref y :: stk) w k n) : WG X pc lv (vI i :: .ref a :: stk) w k n := by
  subst ha
  intro H locs ls c0 s0 hc hs hP hS hl
  have hin := i_vp h0 h1 hN
  have hlt : (Int32.ofInt i).toNatClampNeg < nn := Nat.not_le.mp fun q => hin (Or.inr q)
  have hcell : H[w.1 t]? = some (vp_cell (gC (xG X) ty) (nn, .inr (.inr (.inr (.inr (fun j => r (j : Int))))))) := (hP.1 t _ hV).1
  have e : va_rf (r (((Int32.ofInt i).toNatClampNeg : Nat) : Int)) = .ref y := by rw [i_cl h0 (by omega), Int.toNat_of_nonneg h0, hr]; rfl
  exact W.aald (v := .ref y) (ty := fty) C.hx C.hb hcell ((C.hK.2 ty _ hty).1 nn (fun j => va_rf (r (j : Int)))) href (fun q => by cases q) (by show ¬ (_ ∨ (arrV _ _ _).slots.size ≤ _); rw [arrV_size]; exact hin) (by show (arrV _ _ _).slots[_]? = _; rw [arrV_read _ _ hlt, e]) rfl rfl hd (kk H locs ls c0 s0 hc hs hP hS hl)
theorem wg_iast {t : Tg} {a nn : Nat} {g : Int → Int} {i v : Int} (C : CxOk X cc nL own ret d) (hV : w.2 t = some (aI (xG X) nn g)) (ha : w.1 t = a) (h0 : 0 ≤ i) (h1 : i < nn) (hN : nn < 2147483648) (hd : decode cc pc = .ok (.iastore, 1)) (kk : WG X (pc + 1) lv stk (w.1, uV w.2 t (aI (xG X) nn (up g i v))) k n) : WG X pc lv (vI v :: vI i :: .ref a :: stk) w k n := by
  subst ha
  intro H locs ls c0 s0 hc hs hP hS hl
  have hin := i_vp h0 h1 hN
  have hcell : H[w.1 t]? = some (vp_cell (gC (xG X) 0) (nn, .inl (fA g))) := (hP.1 t _ hV).1
  refine W.iast C.hx C.hb hcell ((C.hK.2 0 _ rfl).1 nn (fun j => .int (fA g j))) (fun q => by cases q) (by show ¬ (_ ∨ (arrV _ _ _).slots.size ≤ _); rw [arrV_size]; exact hin) rfl rfl hd fun H1 e z oq => ?_
  refine kk H1 _ ls c0 s0 hc hs (hP.put hV ?_ oq) (hS.put z oq (hP.1 t _ hV).2) hl
  show H1[w.1 t]? = some (vp_cell _ (nn, .inl (fA (up g i v))))
  rw [e, vp_cell_i, vp_cell_i, arrV_store, ← fA_up h0, i_cl h0 (by omega)]
  congr 2
  funext q
  by_cases hq : q = i.toNat
  · subst hq
    simp [updV, upd]
  · simp [updV, upd, hq]
theorem wg_zast {t : Tg} {a nn : Nat} {g : Int → Int} {i v : Int} (C : CxOk X cc nL own ret d) (hV : w.2 t = some (aZ (xG X) nn g)) (ha : w.1 t = a) (h0 : 0 ≤ i) (h1 : i < nn) (hN : nn < 2147483648) (hz : v = 0 ∨ v = 1) (hd : decode cc pc = .ok (.bastore, 1)) (kk : WG X (pc + 1) lv stk (w.1, uV w.2 t (aZ (xG X) nn (up g i v))) k n) : WG X pc lv (vI v :: vI i :: .ref a :: stk) w k n := by
  subst ha
  intro H locs ls c0 s0 hc hs hP hS hl
  have hin := i_vp h0 h1 hN
  have hcell : H[w.1 t]? = some (vp_cell (gC (xG X) 1) (nn, .inl (fA g))) := (hP.1 t _ hV).1
  refine W.zast C.hx C.hb hcell ((C.hK.2 1 _ rfl).1 nn (fun j => .int (fA g j))) (fun q => by cases q) (by show ¬ (_ ∨ (arrV _ _ _).slots.size ≤ _); rw [arrV_size]; exact hin) rfl rfl hd fun H1 e z oq => ?_
  refine kk H1 _ ls c0 s0 hc hs (hP.put hV ?_ oq) (hS.put z oq (hP.1 t _ hV).2) hl
  show H1[w.1 t]? = some (vp_cell _ (nn, .inl (fA (up g i v))))
  have hnar : narrow .boolean (.int (Int32.ofInt v)) = .int (Int32.ofInt v) := i_nar01 hz
  rw [e, hnar, vp_cell_i, vp_cell_i, arrV_store, ← fA_up h0, i_cl h0 (by omega)]
  congr 2
  funext q
  by_cases hq : q = i.toNat
  · subst hq
    simp [updV, upd]
  · simp [updV, upd, hq]
theorem wg_aast {t : Tg} {a nn y : Nat} {r : Int → Option Nat} {i : Int} {Cn : String} (C : CxOk X cc nL own ret d) (hV : w.2 t = some (aR (xG X) 3 nn r)) (ha : w.1 t = a) (h0 : 0 ≤ i) (h1 : i < nn) (hN : nn < 2147483648) (hrc : Rc X w y Cn) (hcast : (Cn, "java/lang/Object") ∈ castL) (hd : decode cc pc = .ok (.aastore, 1)) (kk : WG X (pc + 1) lv stk (w.1, uV w.2 t (aR (xG X) 3 nn (upR r i y))) k n) : WG X pc lv (.ref y :: vI i :: .ref a :: stk) w k n := by
  subst ha
  intro H locs ls c0 s0 hc hs hP hS hl
  have hin := i_vp h0 h1 hN
  have hlt : (Int32.ofInt i).toNatClampNeg < nn := Nat.not_le.mp fun q => hin (Or.inr q)
  have hn0 : ¬ Int32.ofInt i < 0 := fun q => hin (Or.inl q)
  have hcell : H[w.1 t]? = some (vp_cell (gC (xG X) 3) (nn, .inr (.inr (.inr (.inr (fun j => r (j : Int))))))) := (hP.1 t _ hV).1
  obtain ⟨cellV, g1, g3, g2⟩ := hrc H locs hP hS
  obtain ⟨kA, comp, k1, k2, k3, -⟩ := (C.hK.2 3 _ rfl).2
  obtain ⟨kE, hkE, -⟩ := Vm.findClass_spec k3
  obtain ⟨kC, hkC, -⟩ := Vm.findClass_spec g2
  refine W.aast C.hx C.hb hcell (fun q h => by cases h) (fun h => by cases h) k1 k2 rfl hkE ⟨hn0, by show _ < (arrV _ _ _).slots.size; rw [arrV_size]; exact hlt⟩ g1 (fun q h => by rw [h] at g3; cases g3) hkC (vb_asgC (C.pm.1.2.2.2.1 _ hcast) _ _ k3 g2) rfl rfl hd fun H1 e z oq => ?_
  refine kk H1 _ ls c0 s0 hc hs (hP.put hV ?_ oq) (hS.put z oq (hP.1 t _ hV).2) hl
  show H1[w.1 t]? = some (vp_cell _ (nn, .inr (.inr (.inr (.inr (fun j : Nat => upR r i y (j : Int)))))))
  rw [← upR_up h0, e, vp_cell_q, vp_cell_q, arrV_store, i_cl h0 (by omega)]
  congr 2
  funext q
  by_cases hq : q = i.toNat
  · subst hq
    simp [updV, va_up, va_rf]
  · simp [updV, va_up, hq]
theorem wg_jast {t : Tg} {a nn : Nat} {g : Int → Int64} {i : Int} {v : Int64} (C : CxOk X cc nL own ret d) (hV : w.2 t = some (aJ (xG X) nn g)) (ha : w.1 t = a) (h0 : 0 ≤ i) (h1 : i < nn) (hN : nn < 2147483648) (hd : decode cc pc = .ok (.lastore, 1)) (kk : WG X (pc + 1) lv stk (w.1, uV w.2 t (aJ (xG X) nn (fun j => if j = i then v else g j))) k n) : WG X pc lv (.long v :: vI i :: .ref a :: stk) w k n := by
  subst ha
  intro H locs ls c0 s0 hc hs hP hS hl
  have hin := i_vp h0 h1 hN
  have hcell : H[w.1 t]? = some (vp_cell (gC (xG X) 2) (nn, .inr (.inl (fun j => g (j : Int))))) := (hP.1 t _ hV).1
  refine W.last C.hx C.hb hcell ((C.hK.2 2 _ rfl).1 nn (fun j => .long (g (j : Int)))) (fun q => by cases q) (by show ¬ (_ ∨ (arrV _ _ _).slots.size ≤ _); rw [arrV_size]; exact hin) rfl rfl hd fun H1 e z oq => ?_
  refine kk H1 _ ls c0 s0 hc hs (hP.put hV ?_ oq) (hS.put z oq (hP.1 t _ hV).2) hl
  show H1[w.1 t]? = some (vp_cell _ (nn, .inr (.inl (fun j : Nat => if (j : Int) = i then v else g (j : Int)))))
  rw [e, vp_cell_l, vp_cell_l, arrV_store, i_cl h0 (by omega)]
  congr 2
  funext q
  by_cases hq : q = i.toNat
  · have hq2 : ((q : Nat) : Int) = i := by omega
    simp [updV, hq, hq2, Int.toNat_of_nonneg h0]
  · have hq2 : ¬ ((q : Nat) : Int) = i := by omega
    simp [updV, hq, hq2]
theorem wg_alen {t : Tg} {a nn ty : Nat} {fty : FieldType} {r : Int → Option Nat} (C : CxOk X cc nL own ret d) (hty : (gT (xG X))[ty]? = some (gC (xG X) ty, fty)) (hV : w.2 t = some (aR (xG X) ty nn r)) (ha : w.1 t = a) (hd : decode cc pc = .ok (.arraylength, 1)) (kk : WG X (pc + 1) lv (vI nn :: stk) w k n) : WG X pc lv (.ref a :: stk) w k n := by
  subst ha
  exact fun H locs ls c0 s0 hc hs hP hS hl => va_alen C.hx C.hb C.hK (hp_one hP hV) 0 ty rfl hty (i_nat nn) hd (kk H locs ls c0 s0 hc hs hP hS hl)
/-! new cells: the address of the new tag is known only behind the row -/
theorem va_S.new {A : Nat → Prop} {H0 H H1 : Heap} {locs : List Loc} (hS : va_S A H0 H locs) (z : H1.size = H.size + 1) (oq : ∀ q : Nat, q < H.size → H1[q]? = H[q]?) : va_S A H0 H1 locs :=
  ⟨Nat.le_trans hS.1 (by omega), fun q h1 h2 => (oq q (Nat.lt_of_lt_of_le h1 hS.1)).trans (hS.2.1 q h1 h2), hS.2.2⟩
theorem wg_new {Cn : String} {T : u_T} {N ci idx : Nat} {fs : List Value} {ty0 : Nat → FieldType} {k' n' : Nat} (t : Tg) (C : CxOk X cc nL own ret d) (hin : ∀ x ∈ u_ws Cn T N, x ∈ lw_all) (hty : ∀ k, k < N → parseFieldDescriptor (T k).2.2.1 = some (ty0 k)) (hcl : clsX[ci]? = some (Cn, T, N)) (hlk : Cond.classLink own idx Cn ∈ lw_all) (hinst : Cond.instantiable Cn N ∈ lw_all) (hini : Cond.initialized Cn ∈ lw_all) (hfs : ∀ j, j < N → defaultValue (ty0 j) = vp_V fs j) (hd : decode cc pc = .ok (.new idx, 3)) (hk : 1 + k' ≤ k) (hn2 : N + n' ≤ n)
    (kk : ∀ (ad' : Tg → Nat) (q : Nat), ad' t = q → (∀ u : Tg, u ≠ t → ad' u = w.1 u) → WG X (pc + 3) lv (.ref q :: stk) (ad', uV w.2 t (ob ci fs)) k' n') : WG X pc lv stk w k n := by
  intro H locs ls c0 s0 hc hs hP hS hl
  have hKn := C.hK.1 ci _ hcl
  refine W.newcK C.hx C.hb C.hown (C.hts _ hlk) (C.hts _ hinst) (C.hts _ hini) rfl hd (by omega) (by omega) hKn.2.1 rfl fun H1 kC hkC e1 z1 o1 => ?_
  exact kk (uA w.1 t H.size) H.size (uA_eq _ _ _) (fun u hu => uA_ne hu) H1 locs ls (c0 + 1) (s0 + N) (by omega) (by omega) (hP.new t ⟨_, hcl, (u_born ty0 C.hts hin hKn hkC e1 hty).to hfs⟩ (Nat.le_trans C.hB hS.1) o1) (hS.new z1 o1) hl
theorem wg_newaI {z : Int} {nn : Nat} {k' n' : Nat} (t : Tg) (C : CxOk X cc nL own ret d) (hq : Cond.arrayClass .int ∈ lw_all) (hz : z = nn) (hN : nn < 100000) (hd : decode cc pc = .ok (.newarray .int, 2)) (hk : 1 + k' ≤ k) (hn2 : nn + n' ≤ n)
    (kk : ∀ (ad' : Tg → Nat) (q : Nat), ad' t = q → (∀ u : Tg, u ≠ t → ad' u = w.1 u) → WG X (pc + 2) lv (.ref q :: stk) (ad', uV w.2 t (aI (xG X) nn (fun _ => 0))) k' n') : WG X pc lv (vI z :: stk) w k n := by
  intro H locs ls c0 s0 hc hs hP hS hl
  have hz0 : (Int32.ofInt z).toNatClampNeg = nn := by rw [i_cl (by omega) (by omega)]; omega
  have hb : componentBytes .int = 4 := rfl
  refine va_newaK C.hx C.hb (atype := .int) (C.hts _ hq) rfl hd (n := Int32.ofInt z) rfl (by rw [← i_0, i_lt (by unfold InR; omega) InR0]; omega) hz0 (by show nn * 4 ≤ _; omega) (by omega) (by omega) rfl fun H1 cA e1 z1 o1 _ hNm => ?_
  have hcA : cA = gC (xG X) 0 := Option.some.inj (hNm.symm.trans (C.hK.2 0 _ rfl).2)
  subst hcA
  exact kk (uA w.1 t H.size) H.size (uA_eq _ _ _) (fun u hu => uA_ne hu) H1 locs ls (c0 + 1) (s0 + nn) (by omega) (by omega) (hP.new t e1 (Nat.le_trans C.hB hS.1) o1) (hS.new z1 o1) hl
theorem wg_newaZ {z : Int} {nn : Nat} {k' n' : Nat} (t : Tg) (C : CxOk X cc nL own ret d) (hq : Cond.arrayClass .boolean ∈ lw_all) (hz : z = nn) (hN : nn < 100000) (hd : decode cc pc = .ok (.newarray .boolean, 2)) (hk : 1 + k' ≤ k) (hn2 : nn + n' ≤ n)
    (kk : ∀ (ad' : Tg → Nat) (q : Nat), ad' t = q → (∀ u : Tg, u ≠ t → ad' u = w.1 u) → WG X (pc + 2) lv (.ref q :: stk) (ad', uV w.2 t (aZ (xG X) nn (fun _ => 0))) k' n') : WG X pc lv (vI z :: stk) w k n := by
  intro H locs ls c0 s0 hc hs hP hS hl
  have hz0 : (Int32.ofInt z).toNatClampNeg = nn := by rw [i_cl (by omega) (by omega)]; omega
  refine va_newaK C.hx C.hb (atype := .boolean) (C.hts _ hq) rfl hd (n := Int32.ofInt z) rfl (by rw [← i_0, i_lt (by unfold InR; omega) InR0]; omega) hz0 (by show nn * 1 ≤ _; omega) (by omega) (by omega) rfl fun H1 cA e1 z1 o1 _ hNm => ?_
  have hcA : cA = gC (xG X) 1 := Option.some.inj (hNm.symm.trans (C.hK.2 1 _ rfl).2)
  subst hcA
  exact kk (uA w.1 t H.size) H.size (uA_eq _ _ _) (fun u hu => uA_ne hu) H1 locs ls (c0 + 1) (s0 + nn) (by omega) (by omega) (hP.new t e1 (Nat.le_trans C.hB hS.1) o1) (hS.new z1 o1) hl
theorem wg_newaJ {z : Int} {nn : Nat} {k' n' : Nat} (t : Tg) (C : CxOk X cc nL own ret d) (hq : Cond.arrayClass .long ∈ lw_all) (hz : z = nn) (hN : nn < 100000) (hd : decode cc pc = .ok (.newarray .long, 2)) (hk : 1 + k' ≤ k) (hn2 : nn + n' ≤ n)
    (kk : ∀ (ad' : Tg → Nat) (q : Nat), ad' t = q → (∀ u : Tg, u ≠ t → ad' u = w.1 u) → WG X (pc + 2) lv (.ref q :: stk) (ad', uV w.2 t (aJ (xG X) nn (fun _ => 0))) k' n') : WG X pc lv (vI z :: stk) w k n := by
  intro H locs ls c0 s0 hc hs hP hS hl
  have hz0 : (Int32.ofInt z).toNatClampNeg = nn := by rw [i_cl (by omega) (by omega)]; omega
  refine va_newaK C.hx C.hb (atype := .long) (C.hts _ hq) rfl hd (n := Int32.ofInt z) rfl (by rw [← i_0, i_lt (by unfold InR; omega) InR0]; omega) hz0 (by show nn * 8 ≤ _; omega) (by omega) (by omega) rfl fun H1 cA e1 z1 o1 _ hNm => ?_
  have hcA : cA = gC (xG X) 2 := Option.some.inj (hNm.symm.trans (C.hK.2 2 _ rfl).2)
  subst hcA
  exact kk (uA w.1 t H.size) H.size (uA_eq _ _ _) (fun u hu => uA_ne hu) H1 locs ls (c0 + 1) (s0 + nn) (by omega) (by omega) (hP.new t e1 (Nat.le_trans C.hB hS.1) o1) (hS.new z1 o1) hl
theorem wg_newO {z : Int} {nn idx : Nat} {k' n' : Nat} (t : Tg) (C : CxOk X cc nL own ret d) (hlk : Cond.classLink own idx "java/lang/Object" ∈ lw_all) (hz : z = nn) (hN : nn < 100000) (hd : decode cc pc = .ok (.anewarray idx, 3)) (hk : 1 + k' ≤ k) (hn2 : nn + n' ≤ n)
    (kk : ∀ (ad' : Tg → Nat) (q : Nat), ad' t = q → (∀ u : Tg, u ≠ t → ad' u = w.1 u) → WG X (pc + 3) lv (.ref q :: stk) (ad', uV w.2 t (aR (xG X) 3 nn (fun _ => none))) k' n') : WG X pc lv (vI z :: stk) w k n := by
  intro H locs ls c0 s0 hc hs hP hS hl
  have hz0 : (Int32.ofInt z).toNatClampNeg = nn := by rw [i_cl (by omega) (by omega)]; omega
  refine W.anew C.hx C.hb C.hown (C.hts _ hlk) (va_AO.use C.pm.1.2.2.2.2.2.1) rfl hd (n := Int32.ofInt z) rfl (by rw [← i_0, i_lt (by unfold InR; omega) InR0]; omega) (by rw [hz0]; omega) (by omega) (by rw [hz0]; omega) fun cA kA comp f1 f2 f3 f4 => ?_
  have hcA : cA = gC (xG X) 3 := by
    obtain ⟨_, _, _, _, _, h4⟩ := (C.hK.2 3 _ rfl).2
    exact Option.some.inj (f1.symm.trans h4)
  subst hcA
  rw [hz0]
  generalize hH1 : H.push ({ cls := gC (xG X) 3, slots := Array.replicate nn .null, vm := .none } : Cell) = H1
  have z1 : H1.size = H.size + 1 := by rw [← hH1, Array.size_push]
  have e1 : H1[H.size]? = some (arrV (gC (xG X) 3) nn (fun _ => .null)) := by rw [← hH1, Array.getElem?_push_size, ← arrV_new]
  have o1 : ∀ q : Nat, q < H.size → H1[q]? = H[q]? := fun q hq => by rw [← hH1, Array.getElem?_push, if_neg (Nat.ne_of_lt hq)]
  exact kk (uA w.1 t H.size) H.size (uA_eq _ _ _) (fun u hu => uA_ne hu) H1 locs ls (c0 + 1) (s0 + nn) (by omega) (by omega) (hP.new t e1 (Nat.le_trans C.hB hS.1) o1) (hS.new z1 o1) hl
/-! statics, tables, casts, Object.<init> -/
theorem wg_gets {Cn nm ds ref : String} {idx : Nat} {v : Value} (C : CxOk X cc nL own ret d) (hZ : va_Z Cn nm ds v (gF (xG X)) (xS X) (xS X).heap) (hlk : Cond.fieldLink own idx ref nm ds ∈ lw_all) (hsame : ∀ x, (xS X).fieldFound? Cn nm ds = some x → (xS X).fieldFound? ref nm ds = some x) (hd : decode cc pc = .ok (.getstatic idx, 3)) (kk : WG X (pc + 3) lv (v :: stk) w k n) : WG X pc lv stk w k n :=
  fun H locs ls c0 s0 hc hs hP hS hl => va_gets C.hx C.hb hZ hS C.hown (C.hts _ hlk) hsame hd (kk H locs ls c0 s0 hc hs hP hS hl)
theorem wg_getsN {Cn nm ds ref host : String} {idx : Nat} {v : Value} (C : CxOk X cc nL own ret d) (hZ : va_Z Cn nm ds v (gF (xG X)) (xS X) (xS X).heap) (hlk : va_Nw (.fieldLinkNest own idx ref nm ds host) (xS X)) (hsame : ∀ x, (xS X).fieldFound? Cn nm ds = some x → (xS X).fieldFound? ref nm ds = some x) (hd : decode cc pc = .ok (.getstatic idx, 3)) (kk : WG X (pc + 3) lv (v :: stk) w k n) : WG X pc lv stk w k n :=
  fun H locs ls c0 s0 hc hs hP hS hl => va_getsN C.hx C.hb hZ hS C.hown (va_Nw.use rfl hlk) hsame hd (kk H locs ls c0 s0 hc hs hP hS hl)
theorem wg_bears {i : Int} (C : CxOk X cc nL own ret d) (h0 : 0 ≤ i) (h1 : i < 7) (hd : decode cc pc = .ok (.iaload, 1)) (kk : WG X (pc + 1) lv (vI (bears i) :: stk) w k n) : WG X pc lv (vI i :: .ref (gS (xG X) 0) :: stk) w k n :=
  fun H locs ls c0 s0 hc hs hP hS hl => va_ti C.hx C.hb C.pm.2.2.1 hS (i_vp h0 h1 (by decide)) (by rw [i_cl h0 (by omega), Int.toNat_of_nonneg h0]) hd (kk H locs ls c0 s0 hc hs hP hS hl)
theorem wg_cast {idx a : Nat} {q : vw_C} {ci : Nat} (C : CxOk X cc nL own ret d) (hcl : clsX[ci]? = some q) (hlk : Cond.classLink own idx q.1 ∈ lw_all) (hrc : Rc X w a q.1) (hd : decode cc pc = .ok (.checkcast idx, 3)) (kk : WG X (pc + 3) lv (.ref a :: stk) w k n) : WG X pc lv (.ref a :: stk) w k n :=
  fun H locs ls c0 s0 hc hs hP hS hl => va_castS C.hx C.hb C.hown (C.hts _ hlk) (C.hK.1 ci _ hcl).2 (hrc H locs hP hS) hd (kk H locs ls c0 s0 hc hs hP hS hl)
theorem wg_objInit {idx a : Nat} (C : CxOk X cc nL own ret d) (hlk : Cond.methodLink own idx objectInit ∈ lw_all) (hi : Cond.instanceMethod objectInit ∈ lw_all) (hcd : Cond.code objectInit ⟨#[0xb1]⟩ 1 none ∈ lw_all) (hd : decode cc pc = .ok (.invokespecial idx, 3)) (hf : 1 ≤ d) (hrest : (stk.map fun v => v.category).sum ≤ 8) (hlv : lv.length = nL) (kk : WG X (pc + 3) lv stk w k n) : WG X pc lv (.ref a :: stk) w k n := by
  intro H locs ls c0 s0 hc hs hP hS hl
  have h1 := C.hfr
  have h2 := C.hlo
  exact W.objInit C.hx C.hb C.hown (C.hts _ hlk) (C.hts _ hi) (C.hts _ hcd) (g := F0 (xM X) pc ls (.ref a :: stk)) rfl (by rw [C.hml]; exact hl.size.trans hlv) rfl hd (by omega) (by show 2 * 0 + _ + 12 ≤ _; omega) (kk H locs ls c0 s0 hc hs hP hS hl)
/-! calls of constructors, calls through List -/
theorem wg_callI (C : CxOk X cc nL own ret d) {M : Mth} {k' n' : Nat} {post : PostT} {d' mc ms nA idx : Nat} {b : Nat} {as rest : List Value} (hcal : CalI M nA) (hlk : Cond.methodLink own idx M.1 ∈ lw_all) (hct : Ct (xG X) M d' mc ms w (.ref b :: as) post) (hd : decode cc pc = .ok (.invokespecial idx, 3)) (hst : as.reverse ++ .ref b :: rest = stk) (hn : as.length = nA) (hrest : (rest.map fun v => v.category).sum ≤ 8) (hlv : lv.length = nL) (hdd : d' + 1 ≤ d) (hk : mc + k' ≤ k) (hn2 : ms + n' ≤ n) (kk : ∀ (v : Option Value) (w' : Wo), post v w' → WG X (pc + 3) lv (v.toList ++ rest) w' k' n') : WG X pc lv stk w k n := by
  intro H locs ls c0 s0 hc hs hP hS hl
  obtain ⟨c1, c2, c3, c4, c5, c6, c7⟩ := hcal
  have hct' : Met (gL (xG X)) M.1 (ws_ M.1 M.2.1 M.2.2.1 none) (rm_ d' mc ms) (pcW (xG X) w (.ref b :: as)) (qc (xG X) post) mc ms (gF (xG X)) := by
    have h := hct
    unfold Ct at h
    rw [c7] at h
    exact h
  exact wgp_run (va_runI (As := as) (rest := rest) ⟨C.hx, C.hb, C.hml, C.hown, C.hts⟩ hct' (cwI nA C.hts (lw_meth c3) rfl rfl rfl (C.hts _ c2) (C.hts _ hlk) (C.hts _ c1) c6 c4 (wgp_room C hdd c5)) ⟨pcW.blind _ _ _, wgp_pre C hP hS (.ref b :: as)⟩ rfl hn (by rw [show (F0 (xM X) pc ls stk).locals = ls from rfl, hl.size]; exact hlv) hst.symm (lv_room hrest) hd ⟨by omega, by omega⟩) hS (fun v w' H1 locs1 hp hP1 hS1 => kk v w' hp H1 locs1 ls (c0 + mc) (s0 + ms) (by omega) (by omega) hP1 hS1 hl)
theorem wg_callIN (C : CxOk X cc nL own ret d) {M : Mth} {k' n' : Nat} {post : PostT} {d' mc ms nA idx : Nat} {host : String} {b : Nat} {as rest : List Value} (hcal : CalI M nA) (hlk : va_Nw (.methodLinkNest own idx M.1 host) (xS X)) (hct : Ct (xG X) M d' mc ms w (.ref b :: as) post) (hd : decode cc pc = .ok (.invokespecial idx, 3)) (hst : as.reverse ++ .ref b :: rest = stk) (hn : as.length = nA) (hrest : (rest.map fun v => v.category).sum ≤ 8) (hlv : lv.length = nL) (hdd : d' + 1 ≤ d) (hk : mc + k' ≤ k) (hn2 : ms + n' ≤ n) (kk : ∀ (v : Option Value) (w' : Wo), post v w' → WG X (pc + 3) lv (v.toList ++ rest) w' k' n') : WG X pc lv stk w k n := by
  intro H locs ls c0 s0 hc hs hP hS hl
  obtain ⟨c1, c2, c3, c4, c5, c6, c7⟩ := hcal
  have hct' : Met (gL (xG X)) M.1 (ws_ M.1 M.2.1 M.2.2.1 none) (rm_ d' mc ms) (pcW (xG X) w (.ref b :: as)) (qc (xG X) post) mc ms (gF (xG X)) := by
    have h := hct
    unfold Ct at h
    rw [c7] at h
    exact h
  exact wgp_run (va_runIN (As := as) (rest := rest) ⟨C.hx, C.hb, C.hml, C.hown, C.hts⟩ hct' ⟨va_cnB nA C.hts (lw_meth c3) rfl rfl rfl hlk (C.hts _ c2) c4 (wgp_room C hdd c5), c6, C.hts _ c1⟩ ⟨pcW.blind _ _ _, wgp_pre C hP hS (.ref b :: as)⟩ rfl hn (by rw [show (F0 (xM X) pc ls stk).locals = ls from rfl, hl.size]; exact hlv) hst.symm (lv_room hrest) hd ⟨by omega, by omega⟩) hS (fun v w' H1 locs1 hp hP1 hS1 => kk v w' hp H1 locs1 ls (c0 + mc) (s0 + ms) (by omega) (by omega) hP1 hS1 hl)
theorem lw_F {own : String} {idx : Nat} {Cn : String} {x y : MethodName} {b : ByteArray} {L : Nat} {r : Option FieldType} (h1 : Cond.methodLink own idx x ∈ lw_all) (h2 : Cond.selects Cn x y ∈ lw_all) (h3 : Cond.instanceMethod y ∈ lw_all) (h4 : Cond.initialized y.cls ∈ lw_all) (h5 : Cond.code y b L r ∈ lw_all) : GoodIn lw_all (va_wsF own idx Cn x y (ws_ y b L r)) := by
  refine lw_app ?_ (lw_meth h5)
  intro w hw
  simp only [List.mem_cons, List.not_mem_nil, or_false] at hw
  rcases hw with e | e | e | e
  · rw [e]; exact h1
  · rw [e]; exact h2
  · rw [e]; exact h3
  · rw [e]; exact h4
def CalF (x : MethodName) (M : Mth) (nA : Nat) : Prop := (x, M.1) ∈ faceL ∧ Cond.selects "java/util/ArrayList" x M.1 ∈ lw_all ∧ Cond.instanceMethod M.1 ∈ lw_all ∧ Cond.initialized M.1.cls ∈ lw_all ∧ Cond.code M.1 M.2.1 M.2.2.1 M.2.2.2 ∈ lw_all ∧ mdOk x nA ∧ M.2.2.1 ≤ 21
theorem wg_callF (C : CxOk X cc nL own ret d) {x : MethodName} {M : Mth} {k' n' : Nat} {post : PostT} {d' mc ms nA idx cnt : Nat} {b : Nat} {as rest : List Value} (hcal : CalF x M nA) (hlk : Cond.methodLink own idx x ∈ lw_all) (hct : Ct (xG X) M d' mc ms w (.ref b :: as) post) (hrc : Rc X w b "java/util/ArrayList") (hd : decode cc pc = .ok (.invokeinterface idx cnt, 5)) (hst : as.reverse ++ .ref b :: rest = stk) (hn : as.length = nA) (hrest : (rest.map fun v => v.category).sum ≤ 8) (hlv : lv.length = nL) (hdd : d' + 1 ≤ d) (hk : mc + k' ≤ k) (hn2 : ms + n' ≤ n) (kk : ∀ (v : Option Value) (w' : Wo), post v w' → WG X (pc + 5) lv (v.toList ++ rest) w' k' n') : WG X pc lv stk w k n := by
  intro H locs ls c0 s0 hc hs hP hS hl
  obtain ⟨c1, c2, c3, c4, c5, c6, c7⟩ := hcal
  exact wgp_run5 (va_runF (As := as) (rest := rest) (C.hK.1 1 _ rfl).2 ⟨C.hx, C.hb, C.hml, C.hown, C.hts⟩ hct (va_cwF nA C.hts (lw_F hlk c2 c3 c4 c5) rfl rfl rfl (C.pm.1.2.2.2.2.1 _ c1) c6 (wgp_room C hdd c7)) ⟨pcW.blind _ _ _, hrc H locs hP hS, wgp_pre C hP hS (.ref b :: as)⟩ rfl hn (by rw [show (F0 (xM X) pc ls stk).locals = ls from rfl, hl.size]; exact hlv) hst.symm (lv_room hrest) hd ⟨by omega, by omega⟩) hS (fun v w' H1 locs1 hp hP1 hS1 => kk v w' hp H1 locs1 ls (c0 + mc) (s0 + ms) (by omega) (by omega) hP1 hS1 hl)
theorem wg_callFP (C : CxOk X cc nL own ret d) {x : MethodName} {M : Mth} {r : Value} {F : Prop} {d' nA idx cnt : Nat} {b : Nat} {as rest : List Value} (hcal : CalF x M nA) (hlk : Cond.methodLink own idx x ∈ lw_all) (hct : PCt (xG X) M d' w (.ref b :: as) r F) (hrc : Rc X w b "java/util/ArrayList") (hd : decode cc pc = .ok (.invokeinterface idx cnt, 5)) (hst : as.reverse ++ .ref b :: rest = stk) (hn : as.length = nA) (hrest : (rest.map fun v => v.category).sum ≤ 8) (hlv : lv.length = nL) (hdd : d' + 1 ≤ d) (kk : F → WG X (pc + 5) lv (r :: rest) w k n) : WG X pc lv stk w k n :=
  wg_callF C (k' := k) (n' := n) hcal hlk hct.1 hrc hd hst hn hrest hlv hdd (by omega) (by omega) (fun v w' h => by
    obtain ⟨h1, h2⟩ := h
    subst h1
    subst h2
    exact kk hct.2)
end WGH
