/-! a throw of a new exception without text -/
set_option maxRecDepth 100000
theorem HP.kept {G : Gm} {w : Wo} {H H1 : Heap} (h : HP G w H) (oq : ∀ q : Nat, q < H.size → H1[q]? = H[q]?) : HP G w H1 :=
  ⟨fun t e ht => ⟨(h.1 t e ht).1.kept (oq _ (h.1 t e ht).1.lt), (h.1 t e ht).2⟩, h.2⟩
abbrev exN : List String := ["java/lang/RuntimeException", "java/lang/Exception"]
abbrev eI : String := "java/lang/IndexOutOfBoundsException"
abbrev eA : String := "java/lang/IllegalArgumentException"
abbrev eS : String := "java/lang/IllegalStateException"
def exB (cls : String) : List Cond := [Cond.castable cls cls, Cond.declares ⟨"java/lang/RuntimeException", "<init>", "()V"⟩, Cond.declares ⟨"java/lang/Exception", "<init>", "()V"⟩, Cond.declares ⟨"java/lang/Throwable", "<init>", "()V"⟩]
def ThW (own : String) (ik ic : Nat) (cls : String) : Prop :=
  Cond.classLink own ik cls ∈ lw_all ∧ Cond.initialized cls ∈ lw_all ∧ (∀ w ∈ (vx_at0 own ic cls exN).filter goodWord, w ∈ lw_tbl) ∧ (∀ w ∈ (vx_at0 own ic cls exN).filter (fun w => !goodWord w), w ∈ exB cls) ∧ (cls, cls) ∈ castL ∧ Bundle.fit cls = true ∧ ∀ w ∈ Cond.classLink own ik cls :: Cond.initialized cls :: vx_at0 own ic cls exN, vx_ot w = true
theorem thI : ThW RX1 1 3 eI := ⟨q882, lw_g (by decide +kernel) (by decide +kernel), by decide +kernel, by decide +kernel, by decide +kernel, by decide +kernel, by decide +kernel⟩
theorem thA : ThW RX1 7 9 eA := ⟨q698, lw_g (by decide +kernel) (by decide +kernel), by decide +kernel, by decide +kernel, by decide +kernel, by decide +kernel, by decide +kernel⟩
theorem thS : ThW RX1 10 12 eS := ⟨q712, lw_g (by decide +kernel) (by decide +kernel), by decide +kernel, by decide +kernel, by decide +kernel, by decide +kernel, by decide +kernel⟩
section THR
variable {X : Cx} {cc : ByteArray} {nL : Nat} {own : String} {ret : Option FieldType} {d : Nat} {pc : Nat} {lv : List (Option Value)} {stk : List Value} {w : Wo} {k n mc ms : Nat} {post : PostT} {px : String → Wo → Prop}
theorem wg_throw0 {cls : String} {ik ic : Nat} (C : CxOk X cc nL own ret d) (hw : ThW own ik ic cls) (hQ : QOk X post mc ms) (hno : ∀ x ∈ (xC X).exceptionTable.toList, False) (hqe : xQ X = vx_MQ (xB X) (qc (xG X) post) (xc (xG X) px) (xA X) (xS X) mc ms (gF (xG X)))
    (d0 : decode cc pc = .ok (.new ik, 3)) (d3 : decode cc (pc + 3) = .ok (.dup, 1)) (d4 : decode cc (pc + 4) = .ok (.invokespecial ic, 3)) (d7 : decode cc (pc + 7) = .ok (.athrow, 1)) (hdd : 6 ≤ d) (hk : 1 ≤ k) (hn : 6 ≤ n) (hrest : (stk.map fun v => v.category).sum ≤ 8) (hlv : lv.length = nL) (hpx : px cls w) : WG X pc lv stk w k n := by
  intro H locs ls c0 s0 hc hs hP hS hl
  have h1 := C.hfr
  have h2 := C.hlo
  have e1 := hQ.1
  have e2 := hQ.2.1
  obtain ⟨w1, w2, w3, w4, w5, w6, w7⟩ := hw
  have hpm := C.pm
  have hbad : ∀ v ∈ exB cls, v.before (xA X) (xS X) = true := by
    intro v hv
    have t4 := hpm.1.2.2.2.1
    have t14 := hpm.1.2.2.2.2.2.2.2.2.2.2.2.2.2.1
    rcases List.mem_cons.mp hv with rfl | hv
    · exact va_Nw.use rfl (t4 (cls, cls) w5)
    · rcases List.mem_cons.mp hv with rfl | hv
      · exact va_Nw.use rfl (t14 _ (by decide +kernel))
      · rcases List.mem_cons.mp hv with rfl | hv
        · exact va_Nw.use rfl (t14 _ (by decide +kernel))
        · rcases List.mem_cons.mp hv with rfl | hv
          · exact va_Nw.use rfl (t14 _ (by decide +kernel))
          · exact absurd hv List.not_mem_nil
  rw [hqe]
  exact vx_throw0 (A := gF (xG X)) (names := exN) (cls := cls) (ik := ik) (ic := ic) (own := own) C.hx C.hb hpm.1.2.2.2.2.2.2.2.2.2.2.2.2.2.2 C.hown w6 (by decide +kernel) (C.hts _ w1) (C.hts _ w2)
    (vx_hat (fun v hv => C.hts v (lw_g (w3 v hv) (List.mem_filter.mp hv).2)) w4 hbad) w7 hpm.2.2.2.2.2.2.2.2.2.1 hpm.2.2.2.2.2.2.2.2.2.2 hS (by rw [C.hml, hl.size]; exact hlv) d0 d3 d4 d7 (fun x hx => (hno x hx).elim)
    (by show 2 + 3 < _; omega) (by show _ + (13 * (2 + 1) + 42) ≤ _; omega) (by omega) (by omega) C.hlk
    (fun t _ g1 g2 => ⟨⟨w, hpx, hP.kept g2⟩, Nat.le_trans hS.1 g1, fun q hq hnq => (g2 q (Nat.lt_of_lt_of_le hq hS.1)).trans (hS.2.1 q hq hnq)⟩) hS.2.2 (by omega) (by omega)
end THR
