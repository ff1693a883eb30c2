/-! boxes of the cache -/
set_option maxRecDepth 100000
set_option maxHeartbeats 4000000
theorem vbc_i (k : Nat) : Value.int (vb_c k) = vI ((k : Int) - 128) := by
  unfold vb_c vI
  rw [i_nat, Int32.ofInt_sub]
  rfl
section BXR
variable {X : Cx} {cc : ByteArray} {nL : Nat} {own : String} {ret : Option FieldType} {d : Nat} {pc : Nat} {lv : List (Option Value)} {stk : List Value} {w : Wo} {k n : Nat}
theorem wg_castQ {idx a : Nat} {nm : String} (C : CxOk X cc nL own ret d) (hlk : Cond.classLink own idx nm ∈ lw_all) (hrc : Rc X w a nm) (hd : decode cc pc = .ok (.checkcast idx, 3)) (kk : WG X (pc + 3) lv (.ref a :: stk) w k n) : WG X pc lv (.ref a :: stk) w k n :=
  fun H locs ls c0 s0 hc hs hP hS hl => va_castE C.hx C.hb C.hown (C.hts _ hlk) (hrc H locs hP hS) hd (kk H locs ls c0 s0 hc hs hP hS hl)
theorem CxOk.pv (C : CxOk X cc nL own ret d) : vb_C (fun k => gS (xG X) (10 + k)) (gF (xG X)) (xS X) (xS X).heap := C.pm.2.2.2.2.2.2.2.2.1
theorem wg_boxV {idx i : Nat} {ref : String} (C : CxOk X cc nL own ret d) (hi : i < 256) (hlk : Cond.fieldLink own idx ref "value" "I" ∈ lw_all) (hsame : ∀ x, (xS X).fieldFound? "java/lang/Integer" "value" "I" = some x → (xS X).fieldFound? ref "value" "I" = some x) (hd : decode cc pc = .ok (.getfield idx, 3)) (kk : WG X (pc + 3) lv (vI ((i : Int) - 128) :: stk) w k n) : WG X pc lv (.ref (gS (xG X) (10 + i)) :: stk) w k n := by
  intro H locs ls c0 s0 hc hs hP hS hl
  refine va_getX (i := i) (v := fun k => .int (vb_c k)) (ad := fun k => gS (xG X) (10 + k)) C.hx C.hb C.pv.2 hi hS C.hown (C.hts _ hlk) hsame hd ?_
  show W _ _ _ _ _ _ _ _ _ _ _ _ _ _ _ (F0 (xM X) (pc + 3) ls (Value.int (vb_c i) :: stk))
  rw [vbc_i]
  exact kk H locs ls c0 s0 hc hs hP hS hl
theorem wg_cacheLd {i : Int} (C : CxOk X cc nL own ret d) (h0 : 0 ≤ i) (h1 : i < 256) (hd : decode cc pc = .ok (.aaload, 1)) (kk : WG X (pc + 1) lv (.ref (gS (xG X) (10 + i.toNat)) :: stk) w k n) : WG X pc lv (vI i :: .ref (gS (xG X) 2) :: stk) w k n := by
  intro H locs ls c0 s0 hc hs hP hS hl
  exact vb_tq C.hx C.hb C.pm.2.2.2.2.2.2.2.1 hS (i_vp h0 h1 (by decide)) (by rw [i_cl h0 (by omega)]) hd (kk H locs ls c0 s0 hc hs hP hS hl)
end BXR
theorem bxs_at {G : Gm} {σ : St} {f : Int} (h0 : 0 ≤ f) (h1 : f < nF σ) : bxs G σ f = some (gS G (10 + (first σ f + 128).toNat)) := if_pos ⟨h0, h1⟩
theorem HasM.blA {G : Gm} {w : Wo} {σ ζ : St} (h : HasM G w σ ζ) (hB : 0 < nB σ) : w.2 (21, 0) = some (ob 1 [vI (ζ 1 0 0), .ref (w.1 (22, 0)), vI (nB σ)]) := by
  have h1 := h.bc
  have h2 := h.bl
  unfold mBl at h2
  rwa [if_neg (by omega)] at h2
theorem HasM.baA {G : Gm} {w : Wo} {σ ζ : St} (h : HasM G w σ ζ) (hB : 0 < nB σ) : w.2 (22, 0) = some (aR G 3 (ζ 3 0 0).toNat (rws w.1 23 (nB σ))) := by
  have h1 := h.bc
  exact h.ba (by omega)
theorem HasM.flA {G : Gm} {w : Wo} {σ ζ : St} (h : HasM G w σ ζ) (hB : 0 < nF σ) : w.2 (27, 0) = some (ob 1 [vI (ζ 2 0 0), .ref (w.1 (28, 0)), vI (nF σ)]) := by
  have h1 := h.fc
  have h2 := h.fl
  unfold mFl at h2
  rwa [if_neg (by omega)] at h2
theorem HasM.faA {G : Gm} {w : Wo} {σ ζ : St} (h : HasM G w σ ζ) (hB : 0 < nF σ) : w.2 (28, 0) = some (aR G 3 (ζ 4 0 0).toNat (bxs G σ)) := by
  have h1 := h.fc
  exact h.fa (by omega)
