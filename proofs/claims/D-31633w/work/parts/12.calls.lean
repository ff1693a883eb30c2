/-! contracts over worlds; calls; returns -/
set_option maxRecDepth 100000
def rm_ (d mc ms : Nat) : Room := { frames := d, cells := mc, slots := ms, locals := 40 * d }
abbrev Mth : Type := MethodName × ByteArray × Nat × Option FieldType
abbrev PostT : Type := Option Value → Wo → Prop
def pcW (G : Gm) (w : Wo) (as : List Value) : Array Value → State → Prop := va_Pc as (fun U => HP G w U.heap ∧ Pm G U U.heap ∧ gB G ≤ U.heap.size)
def qc (G : Gm) (post : PostT) : Array Value → State → Outcome → State → Prop := fun _ st oc t => (∃ (v : Option Value) (w' : Wo), oc = .returned v ∧ post v w' ∧ HP G w' t.heap) ∧ va_F (gF G) st t
def xc (G : Gm) (px : String → Wo → Prop) : String → State → State → Prop := fun E st t => (∃ w' : Wo, px E w' ∧ HP G w' t.heap) ∧ va_F (gF G) st t
/-- a contract: the method M, called with as in the world w, returns with post; d: its depth; mc, ms: what it makes at most -/
def Ct (G : Gm) (M : Mth) (d mc ms : Nat) (w : Wo) (as : List Value) (post : PostT) : Prop := Met (gL G) M.1 (ws_ M.1 M.2.1 M.2.2.1 M.2.2.2) (rm_ d mc ms) (pcW G w as) (qc G post) mc ms (gF G)
/-- it returns or throws -/
def Cxt (G : Gm) (M : Mth) (d mc ms : Nat) (w : Wo) (as : List Value) (post : PostT) (px : String → Wo → Prop) : Prop := vx_Met (gL G) M.1 (ws_ M.1 M.2.1 M.2.2.1 M.2.2.2) (rm_ d mc ms) (pcW G w as) (qc G post) (xc G px) mc ms (gF G)
/-- it returns r, the world stays; F: what is known of r beside -/
def PCt (G : Gm) (M : Mth) (d : Nat) (w : Wo) (as : List Value) (r : Value) (F : Prop) : Prop := Ct G M d 0 0 w as (fun v w' => v = some r ∧ w' = w) ∧ F
theorem Pm.step {G : Gm} {s U : State} {H : Heap} {locs : List Loc} (h : Pm G s s.heap) (hW : s.WarmedH U.vm) (hS : va_S (gF G) s.heap H locs) (hU : U.heap = H) : Pm G U U.heap := by
  rw [hU]
  exact ⟨h.1.warm hW, (h.2.kept hS.2.1).moved hW.alike⟩
theorem pcW.blind (G : Gm) (w : Wo) (as : List Value) : FrameBlind (pcW G w as) := fun a U g mk h =>
  ⟨h.1, h.2.1, ⟨PmT.same (u := U) (U := U.calling g mk a) rfl h.2.2.1.1, PmS.moved (u := U) (U := U.calling g mk a) (Vm.Alike.refl U.vm) h.2.2.1.2⟩, h.2.2.2⟩
def QOk (X : Cx) (post : PostT) (mc ms : Nat) : Prop := (xR X).cells = mc ∧ (xR X).slots = ms ∧ ∀ (H : Heap) (locs : List Loc) (g : JFrame), W (xP X) (gL (xG X)) (xE X) (xR X) (xS X) (xM X) (xA X) (xB X) (xMe X) (xC X) H locs mc ms (MQ (xB X) (qc (xG X) post) (xA X) (xS X) mc ms (gF (xG X))) g → W (xP X) (gL (xG X)) (xE X) (xR X) (xS X) (xM X) (xA X) (xB X) (xMe X) (xC X) H locs mc ms (xQ X) g
/-- an exception of class E is on its way out of the instruction at pc -/
def WGX (X : Cx) (pc : Nat) (lv : List (Option Value)) (w : Wo) (E : String) (k n : Nat) : Prop :=
  ∀ (H : Heap) (locs : List Loc) (ls : Array Slot) (rest : List Value) (c0 s0 : Nat) (ce : Cell) (q : Addr), c0 + k ≤ (xR X).cells → s0 + n ≤ (xR X).slots → HP (xG X) w H → va_S (gF (xG X)) (xS X).heap H locs → LV ls lv → H[q]? = some ce → ce.vm = .none → (xS X).vm.findClass E = some ce.cls → vx_W (xP X) (gL (xG X)) (xE X) (xR X) (xS X) (xM X) (xA X) (xB X) (xMe X) (xC X) H locs c0 s0 (xQ X) (F0 (xM X) pc ls rest) q
def QXk (X : Cx) (px : String → Wo → Prop) : Prop := ∀ (pc : Nat) (lv : List (Option Value)) (w : Wo) (E : String) (k n : Nat), px E w → WGX X pc lv w E k n
/-! the beginning of a method -/
theorem lvA_mem : ∀ (as : List Value) (k i : Nat) (v : Value), as.all (fun v => v.category == 1) = true → as[i]? = some v → (k + i, v) ∈ lv_args k as
  | [], k, i, v, _, h => by simp at h
  | a :: r, k, i, v, hc, h => by
    simp only [List.all_cons, Bool.and_eq_true, beq_iff_eq] at hc
    have h2 : ¬ a.category = 2 := by omega
    unfold lv_args
    rw [if_neg h2]
    cases i with
    | zero =>
      simp at h
      subst h
      exact List.mem_cons_self
    | succ i =>
      have h3 := lvA_mem r (k + 1) i v hc.2 (by simpa using h)
      rw [show k + 1 + i = k + (i + 1) by omega] at h3
      exact List.mem_cons_of_mem _ h3
theorem lg_sl_len : ∀ (as : List Value), as.all (fun v => v.category == 1) = true → (lg_sl as).length = as.length
  | [], _ => rfl
  | a :: r, hc => by
    simp only [List.all_cons, Bool.and_eq_true, beq_iff_eq] at hc
    have h2 : ¬ a.category = 2 := by omega
    have h3 := lg_sl_len r hc.2
    unfold lg_sl at h3 ⊢
    simp [List.flatMap_cons, h2, h3]
theorem LV.entry {as : List Value} {nL : Nat} (hc : as.all (fun v => v.category == 1) = true) (hL : as.length ≤ nL) : LV ((lg_sl as ++ List.replicate (nL - (lg_sl as).length) Slot.unset).toArray) (as.map some ++ List.replicate (nL - as.length) none) := by
  have h1 := lv_entry as (n := nL) (by rw [lg_sl_len as hc]; exact hL)
  refine ⟨lv_args 0 as, ?_, fun i v hi => ?_⟩
  · have e : (as.map some ++ List.replicate (nL - as.length) (none : Option Value)).length = nL := by simp; omega
    rw [e]
    exact h1
  · by_cases hlt : i < as.length
    · rw [List.getElem?_append_left (by simpa using hlt)] at hi
      simp at hi
      have := lvA_mem as 0 i v hc hi
      rwa [Nat.zero_add] at this
    · rw [List.getElem?_append_right (by simpa using Nat.not_lt.mp hlt)] at hi
      simp [List.getElem?_replicate] at hi
theorem ct_of {G : Gm} {M : Mth} {d mc ms : Nat} {w : Wo} {as : List Value} {post : PostT} (lv : List (Option Value)) (hy : plainName M.1.cls = true) (hc : as.all (fun v => v.category == 1) = true) (hL : as.length ≤ M.2.2.1) (hlv : as.map some ++ List.replicate (M.2.2.1 - as.length) none = lv)
    (body : ∀ X : Cx, xG X = G → CxOk X M.2.1 M.2.2.1 M.1.cls M.2.2.2 d → (xMe X).name = M.1.name → QOk X post mc ms → WG X 0 lv [] w mc ms) : Ct G M d mc ms w as post := by
  refine Met.ofW (cc := M.2.1) (maxL := M.2.2.1) (ret := M.2.2.2) hy rfl ?_
  intro p e s m args below meth c s₁ B hml hv
  obtain ⟨rfl, hP, hPm, hB⟩ := hv
  have hts := atoms_spec (ws := ws_ M.1 M.2.1 M.2.2.1 M.2.2.2) B.pre
  rw [lg_entry_eq]
  subst hlv
  exact body (G, p, e, (headSpec (ws_ M.1 M.2.1 M.2.2.1 M.2.2.2) (rm_ d mc ms)).room, s, m, as.toArray, below, meth, c, MQ below (qc G post) as.toArray s mc ms (gF G)) rfl
    ⟨B.exec, B.bytes, hml, findClass_of_methodNamed B.named, fun w h => hts w (List.mem_cons_of_mem _ h), hPm, hB, B.returns, B.notSynchronized, Nat.le_refl d, Nat.le_refl (40 * d)⟩
    (name_of_methodNamed B.named B.method).1 ⟨rfl, rfl, fun H locs g h => h⟩ s.heap [] _ 0 0 (by show 0 + mc ≤ mc; omega) (by show 0 + ms ≤ ms; omega) hP va_S.rf (LV.entry hc hL)
theorem ctx_of {G : Gm} {M : Mth} {d mc ms : Nat} {w : Wo} {as : List Value} {post : PostT} {px : String → Wo → Prop} (lv : List (Option Value)) (hy : plainName M.1.cls = true) (hc : as.all (fun v => v.category == 1) = true) (hL : as.length ≤ M.2.2.1) (hlv : as.map some ++ List.replicate (M.2.2.1 - as.length) none = lv)
    (body : ∀ X : Cx, xG X = G → CxOk X M.2.1 M.2.2.1 M.1.cls M.2.2.2 d → (xMe X).name = M.1.name → QOk X post mc ms → QXk X px → (∀ x ∈ (xC X).exceptionTable.toList, False) → xQ X = vx_MQ (xB X) (qc (xG X) post) (xc (xG X) px) (xA X) (xS X) mc ms (gF (xG X)) → WG X 0 lv [] w mc ms) : Cxt G M d mc ms w as post px := by
  refine vx_ofW (cc := M.2.1) (maxL := M.2.2.1) (ret := M.2.2.2) hy rfl ?_
  intro p e s m args below meth c s₁ B hml hno hv
  obtain ⟨rfl, hP, hPm, hB⟩ := hv
  have hts := atoms_spec (ws := ws_ M.1 M.2.1 M.2.2.1 M.2.2.2) B.pre
  rw [lg_entry_eq]
  subst hlv
  exact body (G, p, e, (headSpec (ws_ M.1 M.2.1 M.2.2.1 M.2.2.2) (rm_ d mc ms)).room, s, m, as.toArray, below, meth, c, vx_MQ below (qc G post) (xc G px) as.toArray s mc ms (gF G)) rfl
    ⟨B.exec, B.bytes, hml, findClass_of_methodNamed B.named, fun w h => hts w (List.mem_cons_of_mem _ h), hPm, hB, B.returns, B.notSynchronized, Nat.le_refl d, Nat.le_refl (40 * d)⟩
    (name_of_methodNamed B.named B.method).1 ⟨rfl, rfl, fun H locs g h => vx_ret h⟩
    (fun pc lv w E k n hpx H locs ls rest c0 s0 ce q hc hs hP hS hl hce hcv hcl => vx_out (fun x hx => (hno x hx).elim) B.notSynchronized hce hcv hcl (fun t ht hA => ⟨⟨w, hpx, by rw [ht]; exact hP⟩, hS.F ht⟩) hS.2.2 (show c0 ≤ mc by have : c0 + k ≤ mc := hc; omega) (show s0 ≤ ms by have : s0 + n ≤ ms := hs; omega))
    hno rfl s.heap [] _ 0 0 (by show 0 + mc ≤ mc; omega) (by show 0 + ms ≤ ms; omega) hP va_S.rf (LV.entry hc hL)
section RET
variable {X : Cx} {cc : ByteArray} {nL : Nat} {own : String} {ret : Option FieldType} {d : Nat} {pc : Nat} {lv : List (Option Value)} {stk : List Value} {w : Wo} {k n mc ms : Nat} {post : PostT}
theorem wg_iret (C : CxOk X cc nL own (some .int) d) {z : Int} (hQ : QOk X post mc ms) (hd : decode cc pc = .ok (.ireturn, 1)) (h : post (some (vI z)) w) : WG X pc lv [vI z] w k n :=
  fun H locs ls c0 s0 hc hs hP hS hl => W.widen (by have := hQ.1; omega) (by have := hQ.2.1; omega) (hQ.2.2 _ _ _ (W.iret C.hx C.hb C.hr (fun t ht hW => ⟨⟨_, w, rfl, h, by rw [ht]; exact hP⟩, hS.F ht⟩) hS.2.2 hd C.hlk))
theorem i_nar01 {z : Int} (h : z = 0 ∨ z = 1) : narrow .boolean (vI z) = vI z := by
  rcases h with rfl | rfl <;> decide +kernel
theorem wg_zret (C : CxOk X cc nL own (some .boolean) d) {z : Int} (hQ : QOk X post mc ms) (hd : decode cc pc = .ok (.ireturn, 1)) (hz : z = 0 ∨ z = 1) (h : post (some (vI z)) w) : WG X pc lv [vI z] w k n :=
  fun H locs ls c0 s0 hc hs hP hS hl => W.widen (by have := hQ.1; omega) (by have := hQ.2.1; omega) (hQ.2.2 _ _ _ (W.zret C.hx C.hb C.hr (i_nar01 hz) (fun t ht hW => ⟨⟨_, w, rfl, h, by rw [ht]; exact hP⟩, hS.F ht⟩) hS.2.2 hd C.hlk))
theorem wg_vret (C : CxOk X cc nL own none d) (hQ : QOk X post mc ms) (hd : decode cc pc = .ok (.return_, 1)) (h : post none w) : WG X pc lv [] w k n :=
  fun H locs ls c0 s0 hc hs hP hS hl => W.widen (by have := hQ.1; omega) (by have := hQ.2.1; omega) (hQ.2.2 _ _ _ (W.vret C.hx C.hb C.hr (fun t ht hW => ⟨⟨_, w, rfl, h, by rw [ht]; exact hP⟩, hS.F ht⟩) hS.2.2 hd C.hlk))
theorem wg_aret {rt : FieldType} (C : CxOk X cc nL own (some rt) d) {a : Nat} (hrt : (∃ n, rt = .object n) ∨ ∃ t, rt = .array t) (hQ : QOk X post mc ms) (hd : decode cc pc = .ok (.areturn, 1)) (h : post (some (.ref a)) w) : WG X pc lv [.ref a] w k n :=
  fun H locs ls c0 s0 hc hs hP hS hl => W.widen (by have := hQ.1; omega) (by have := hQ.2.1; omega) (hQ.2.2 _ _ _ (W.aret C.hx C.hb C.hr hrt (Or.inr ⟨a, rfl⟩) (fun t ht hW => ⟨⟨_, w, rfl, h, by rw [ht]; exact hP⟩, hS.F ht⟩) hS.2.2 hd C.hlk))
theorem wg_dret (C : CxOk X cc nL own (some .double) d) {x : UInt64} (hQ : QOk X post mc ms) (hd : decode cc pc = .ok (.dreturn, 1)) (h : post (some (.double x)) w) : WG X pc lv [.double x] w k n :=
  fun H locs ls c0 s0 hc hs hP hS hl => W.widen (by have := hQ.1; omega) (by have := hQ.2.1; omega) (hQ.2.2 _ _ _ (W.dret C.hx C.hb C.hr (fun t ht hW => ⟨⟨_, w, rfl, h, by rw [ht]; exact hP⟩, hS.F ht⟩) hS.2.2 hd C.hlk))
theorem wg_fret (C : CxOk X cc nL own (some .float) d) {x : UInt32} (hQ : QOk X post mc ms) (hd : decode cc pc = .ok (.freturn, 1)) (h : post (some (.float x)) w) : WG X pc lv [.float x] w k n :=
  fun H locs ls c0 s0 hc hs hP hS hl => W.widen (by have := hQ.1; omega) (by have := hQ.2.1; omega) (hQ.2.2 _ _ _ (W.fret C.hx C.hb C.hr (fun t ht hW => ⟨⟨_, w, rfl, h, by rw [ht]; exact hP⟩, hS.F ht⟩) hS.2.2 hd C.hlk))
end RET
/-! calls -/
def mdOk (y : MethodName) (nA : Nat) : Prop := y.cls ≠ "java/lang/invoke/MethodHandle" ∧ y.cls ≠ "java/lang/invoke/VarHandle" ∧ (parseMethodDescriptor y.desc).map (fun d => d.parameters.length) = some nA
def CalV (M : Mth) (nA : Nat) : Prop := Cond.instanceMethod M.1 ∈ lw_all ∧ Cond.selects M.1.cls M.1 M.1 ∈ lw_all ∧ Cond.initialized M.1.cls ∈ lw_all ∧ Cond.code M.1 M.2.1 M.2.2.1 M.2.2.2 ∈ lw_all ∧ mdOk M.1 nA ∧ M.2.2.1 ≤ 21
def CalS (M : Mth) (nA : Nat) : Prop := Cond.static M.1 ∈ lw_all ∧ Cond.initialized M.1.cls ∈ lw_all ∧ Cond.code M.1 M.2.1 M.2.2.1 M.2.2.2 ∈ lw_all ∧ mdOk M.1 nA ∧ M.2.2.1 ≤ 21
def CalI (M : Mth) (nA : Nat) : Prop := Cond.instanceMethod M.1 ∈ lw_all ∧ Cond.initialized M.1.cls ∈ lw_all ∧ Cond.code M.1 M.2.1 M.2.2.1 none ∈ lw_all ∧ mdOk M.1 nA ∧ M.2.2.1 ≤ 21 ∧ M.1.name = "<init>" ∧ M.2.2.2 = none
/-- the receiver -/
def Rc (X : Cx) (w : Wo) (b : Nat) (Cn : String) : Prop := ∀ (H : Heap) (locs : List Loc), HP (xG X) w H → va_S (gF (xG X)) (xS X).heap H locs → ∃ cell : Cell, H[b]? = some cell ∧ cell.vm.isStatics = false ∧ (xS X).vm.findClass Cn = some cell.cls
section CALLS
variable {X : Cx} {cc : ByteArray} {nL : Nat} {own : String} {ret : Option FieldType} {d : Nat} {pc : Nat} {lv : List (Option Value)} {stk : List Value} {w : Wo} {k n : Nat}
theorem rc_of (C : CxOk X cc nL own ret d) {t : Tg} {ci : Nat} {fs : List Value} {q : vw_C} (hV : w.2 t = some (ob ci fs)) (hc : clsX[ci]? = some q) : Rc X w (w.1 t) q.1 := by
  intro H locs hP hS
  exact va_recv C.hK (ws := [(w.1 t, ob ci fs)]) (fun j x hj => by
    have : j = 0 := by
      have h1 := (List.getElem?_eq_some_iff.mp hj).1
      simp at h1
      exact h1
    subst this
    cases hj
    exact (hP.1 t _ hV).1) hc (q0 := 0) rfl
theorem wgp_pre (C : CxOk X cc nL own ret d) {H : Heap} {locs : List Loc} (hP : HP (xG X) w H) (hS : va_S (gF (xG X)) (xS X).heap H locs) (as : List Value) : ∀ U : State, U.heap = H → (xS X).WarmedH U.vm → pcW (xG X) w as as.toArray U := by
  intro U hU hW
  refine ⟨rfl, by rw [hU]; exact hP, C.pm.step hW hS hU, ?_⟩
  rw [hU]
  exact Nat.le_trans C.hB hS.1
theorem wgp_room (C : CxOk X cc nL own ret d) {d' mc ms mL : Nat} (hdd : d' + 1 ≤ d) (hm : mL ≤ 21) : (rm_ d' mc ms).frames + 1 ≤ (xR X).frames ∧ 8 + (mL + 11) + (rm_ d' mc ms).locals ≤ (xR X).locals := by
  have h1 := C.hfr
  have h2 := C.hlo
  refine ⟨?_, ?_⟩
  · show d' + 1 ≤ _
    omega
  · show 8 + (mL + 11) + 40 * d' ≤ _
    omega
theorem wgp_run {H : Heap} {locs : List Loc} {ls : Array Slot} {c0 s0 mc ms : Nat} {st0 rest : List Value} {post : PostT} {a : Array Value} (hr : va_Run (xP X) (gL (xG X)) (xE X) (xR X) (xS X) (xM X) (xA X) (xB X) (xMe X) (xC X) H locs c0 s0 mc ms (F0 (xM X) pc ls st0) rest (qc (xG X) post a) (gF (xG X))) (hS : va_S (gF (xG X)) (xS X).heap H locs)
    (kk : ∀ (v : Option Value) (w' : Wo) (H1 : Heap) (locs1 : List Loc), post v w' → HP (xG X) w' H1 → va_S (gF (xG X)) (xS X).heap H1 locs1 → W (xP X) (gL (xG X)) (xE X) (xR X) (xS X) (xM X) (xA X) (xB X) (xMe X) (xC X) H1 locs1 (c0 + mc) (s0 + ms) (xQ X) (F0 (xM X) (pc + 3) ls (v.toList ++ rest))) : W (xP X) (gL (xG X)) (xE X) (xR X) (xS X) (xM X) (xA X) (xB X) (xMe X) (xC X) H locs c0 s0 (xQ X) (F0 (xM X) pc ls st0) := by
  intro T hT Y
  obtain ⟨v, st₀, t, T', L, h0, Y', hL, e1, e2, ⟨⟨v', w', hv, hp, hb⟩, hz, hk⟩, st⟩ := hr T hT Y
  cases hv
  rw [h0] at hz hk
  obtain ⟨t2, a1, b1⟩ := kk v w' T'.heap (locs ++ L) hp (by rw [e1]; exact hb) ⟨Nat.le_trans hS.1 (by rw [e1]; exact hz), fun q h1 h2 => by rw [e1, hk q (Nat.lt_of_lt_of_le h1 hS.1) h2]; exact hS.2.1 q h1 h2, fun q hq => by
      rcases List.mem_append.mp hq with h | h
      · exact hS.2.2 q h
      · exact hL q h⟩ T' rfl Y'
  exact ⟨t2, st t2 a1, b1⟩
theorem wgp_runX {H : Heap} {locs : List Loc} {ls : Array Slot} {c0 s0 mc ms : Nat} {st0 rest : List Value} {post : PostT} {px : String → Wo → Prop} {a : Array Value} (hr : vx_Run (xP X) (gL (xG X)) (xE X) (xR X) (xS X) (xM X) (xA X) (xB X) (xMe X) (xC X) H locs c0 s0 mc ms (F0 (xM X) pc ls st0) rest (qc (xG X) post a) (xc (xG X) px) (gF (xG X))) (hS : va_S (gF (xG X)) (xS X).heap H locs)
    (kx : ∀ (E : String) (ce : Cell) (q : Addr) (w' : Wo) (H1 : Heap) (locs1 : List Loc), px E w' → HP (xG X) w' H1 → va_S (gF (xG X)) (xS X).heap H1 locs1 → H1[q]? = some ce → ce.vm = .none → (xS X).vm.findClass E = some ce.cls → vx_W (xP X) (gL (xG X)) (xE X) (xR X) (xS X) (xM X) (xA X) (xB X) (xMe X) (xC X) H1 locs1 (c0 + mc) (s0 + ms) (xQ X) (F0 (xM X) pc ls rest) q)
    (kk : ∀ (v : Option Value) (w' : Wo) (H1 : Heap) (locs1 : List Loc), post v w' → HP (xG X) w' H1 → va_S (gF (xG X)) (xS X).heap H1 locs1 → W (xP X) (gL (xG X)) (xE X) (xR X) (xS X) (xM X) (xA X) (xB X) (xMe X) (xC X) H1 locs1 (c0 + mc) (s0 + ms) (xQ X) (F0 (xM X) (pc + 3) ls (v.toList ++ rest))) : W (xP X) (gL (xG X)) (xE X) (xR X) (xS X) (xM X) (xA X) (xB X) (xMe X) (xC X) H locs c0 s0 (xQ X) (F0 (xM X) pc ls st0) := by
  intro T hT Y
  rcases hr T hT Y with ⟨v, st₀, t, T', L, h0, Y', hL, e1, e2, ⟨⟨v', w', hv, hp, hb⟩, hF⟩, st⟩ | ⟨q, st₀, t, T', L, E, ce, h0, Y', hL, e1, e2, ⟨⟨w', hp, hb⟩, hF⟩, hce, hcv, hcl, st⟩
  · cases hv
    obtain ⟨k1, k2, k3⟩ := vx_keep (A1 := gF (xG X)) h0 e1 hS (fun _ _ h => h) (fun _ h => h) hL hF
    obtain ⟨t2, a1, b1⟩ := kk v w' T'.heap (locs ++ L) hp (by rw [e1]; exact hb) k3 T' rfl Y'
    exact ⟨t2, st t2 a1, b1⟩
  · obtain ⟨k1, k2, k3⟩ := vx_keep (A1 := gF (xG X)) h0 e1 hS (fun _ _ h => h) (fun _ h => h) hL hF
    obtain ⟨t2, a1, b1⟩ := kx E ce q w' T'.heap (locs ++ L) hp (by rw [e1]; exact hb) k3 (by rw [e1]; exact hce) hcv hcl T' rfl Y'
    exact ⟨t2, st.trans a1, b1⟩
theorem wgp_run5 {H : Heap} {locs : List Loc} {ls : Array Slot} {c0 s0 mc ms : Nat} {st0 rest : List Value} {post : PostT} {a : Array Value} (hr : va_Run5 (xP X) (gL (xG X)) (xE X) (xR X) (xS X) (xM X) (xA X) (xB X) (xMe X) (xC X) H locs c0 s0 mc ms (F0 (xM X) pc ls st0) rest (qc (xG X) post a) (gF (xG X))) (hS : va_S (gF (xG X)) (xS X).heap H locs)
    (kk : ∀ (v : Option Value) (w' : Wo) (H1 : Heap) (locs1 : List Loc), post v w' → HP (xG X) w' H1 → va_S (gF (xG X)) (xS X).heap H1 locs1 → W (xP X) (gL (xG X)) (xE X) (xR X) (xS X) (xM X) (xA X) (xB X) (xMe X) (xC X) H1 locs1 (c0 + mc) (s0 + ms) (xQ X) (F0 (xM X) (pc + 5) ls (v.toList ++ rest))) : W (xP X) (gL (xG X)) (xE X) (xR X) (xS X) (xM X) (xA X) (xB X) (xMe X) (xC X) H locs c0 s0 (xQ X) (F0 (xM X) pc ls st0) := by
  intro T hT Y
  obtain ⟨v, st₀, t, T', L, h0, Y', hL, e1, e2, ⟨⟨v', w', hv, hp, hb⟩, hz, hk⟩, st⟩ := hr T hT Y
  cases hv
  rw [h0] at hz hk
  obtain ⟨t2, a1, b1⟩ := kk v w' T'.heap (locs ++ L) hp (by rw [e1]; exact hb) ⟨Nat.le_trans hS.1 (by rw [e1]; exact hz), fun q h1 h2 => by rw [e1, hk q (Nat.lt_of_lt_of_le h1 hS.1) h2]; exact hS.2.1 q h1 h2, fun q hq => by
      rcases List.mem_append.mp hq with h | h
      · exact hS.2.2 q h
      · exact hL q h⟩ T' rfl Y'
  exact ⟨t2, st t2 a1, b1⟩
theorem wgp_runX5 {H : Heap} {locs : List Loc} {ls : Array Slot} {c0 s0 mc ms : Nat} {st0 rest : List Value} {post : PostT} {px : String → Wo → Prop} {a : Array Value} (hr : vx_Run5 (xP X) (gL (xG X)) (xE X) (xR X) (xS X) (xM X) (xA X) (xB X) (xMe X) (xC X) H locs c0 s0 mc ms (F0 (xM X) pc ls st0) rest (qc (xG X) post a) (xc (xG X) px) (gF (xG X))) (hS : va_S (gF (xG X)) (xS X).heap H locs)
    (kx : ∀ (E : String) (ce : Cell) (q : Addr) (w' : Wo) (H1 : Heap) (locs1 : List Loc), px E w' → HP (xG X) w' H1 → va_S (gF (xG X)) (xS X).heap H1 locs1 → H1[q]? = some ce → ce.vm = .none → (xS X).vm.findClass E = some ce.cls → vx_W (xP X) (gL (xG X)) (xE X) (xR X) (xS X) (xM X) (xA X) (xB X) (xMe X) (xC X) H1 locs1 (c0 + mc) (s0 + ms) (xQ X) (F0 (xM X) pc ls rest) q)
    (kk : ∀ (v : Option Value) (w' : Wo) (H1 : Heap) (locs1 : List Loc), post v w' → HP (xG X) w' H1 → va_S (gF (xG X)) (xS X).heap H1 locs1 → W (xP X) (gL (xG X)) (xE X) (xR X) (xS X) (xM X) (xA X) (xB X) (xMe X) (xC X) H1 locs1 (c0 + mc) (s0 + ms) (xQ X) (F0 (xM X) (pc + 5) ls (v.toList ++ rest))) : W (xP X) (gL (xG X)) (xE X) (xR X) (xS X) (xM X) (xA X) (xB X) (xMe X) (xC X) H locs c0 s0 (xQ X) (F0 (xM X) pc ls st0) := by
  intro T hT Y
  rcases hr T hT Y with ⟨v, st₀, t, T', L, h0, Y', hL, e1, e2, ⟨⟨v', w', hv, hp, hb⟩, hF⟩, st⟩ | ⟨q, st₀, t, T', L, E, ce, h0, Y', hL, e1, e2, ⟨⟨w', hp, hb⟩, hF⟩, hce, hcv, hcl, st⟩
  · cases hv
    obtain ⟨k1, k2, k3⟩ := vx_keep (A1 := gF (xG X)) h0 e1 hS (fun _ _ h => h) (fun _ h => h) hL hF
    obtain ⟨t2, a1, b1⟩ := kk v w' T'.heap (locs ++ L) hp (by rw [e1]; exact hb) k3 T' rfl Y'
    exact ⟨t2, st t2 a1, b1⟩
  · obtain ⟨k1, k2, k3⟩ := vx_keep (A1 := gF (xG X)) h0 e1 hS (fun _ _ h => h) (fun _ h => h) hL hF
    obtain ⟨t2, a1, b1⟩ := kx E ce q w' T'.heap (locs ++ L) hp (by rw [e1]; exact hb) k3 (by rw [e1]; exact hce) hcv hcl T' rfl Y'
    exact ⟨t2, st.trans a1, b1⟩
theorem wg_callV (C : CxOk X cc nL own ret d) {M : Mth} {k' n' : Nat} {post : PostT} {d' mc ms nA idx : Nat} {b : Nat} {as rest : List Value} (hcal : CalV M nA) (hlk : Cond.methodLink own idx M.1 ∈ lw_all) (hct : Ct (xG X) M d' mc ms w (.ref b :: as) post) (hrc : Rc X w b M.1.cls) (hd : decode cc pc = .ok (.invokevirtual idx, 3)) (hst : as.reverse ++ .ref b :: rest = stk) (hn : as.length = nA) (hrest : (rest.map fun v => v.category).sum ≤ 8) (hlv : lv.length = nL) (hdd : d' + 1 ≤ d) (hk : mc + k' ≤ k) (hn2 : ms + n' ≤ n) (kk : ∀ (v : Option Value) (w' : Wo), post v w' → WG X (pc + 3) lv (v.toList ++ rest) w' k' n') : WG X pc lv stk w k n := by
  intro H locs ls c0 s0 hc hs hP hS hl
  have hk : mc ≤ k := by omega
  have hn2 : ms ≤ n := by omega
  exact wgp_run (va_runV (As := as) (rest := rest) ⟨C.hx, C.hb, C.hml, C.hown, C.hts⟩ hct (cwV nA C.hts (lw_V hlk hcal.1 hcal.2.1 hcal.2.2.1 hcal.2.2.2.1) rfl rfl rfl ⟨rfl, hcal.2.2.2.2.1⟩ (wgp_room C hdd hcal.2.2.2.2.2)) ⟨pcW.blind _ _ _, hrc H locs hP hS, wgp_pre C hP hS (.ref b :: as)⟩ rfl hn (by rw [show (F0 (xM X) pc ls stk).locals = ls from rfl, hl.size]; exact hlv) hst.symm (lv_room hrest) hd ⟨Nat.le_trans (Nat.add_le_add_left hk _) hc, Nat.le_trans (Nat.add_le_add_left hn2 _) hs⟩) hS (fun v w' H1 locs1 hp hP1 hS1 => kk v w' hp H1 locs1 ls (c0 + mc) (s0 + ms) (by omega) (by omega) hP1 hS1 hl)
theorem wg_callVP (C : CxOk X cc nL own ret d) {M : Mth} {r : Value} {F : Prop} {d' nA idx : Nat} {b : Nat} {as rest : List Value} (hcal : CalV M nA) (hlk : Cond.methodLink own idx M.1 ∈ lw_all) (hct : PCt (xG X) M d' w (.ref b :: as) r F) (hrc : Rc X w b M.1.cls) (hd : decode cc pc = .ok (.invokevirtual idx, 3)) (hst : as.reverse ++ .ref b :: rest = stk) (hn : as.length = nA) (hrest : (rest.map fun v => v.category).sum ≤ 8) (hlv : lv.length = nL) (hdd : d' + 1 ≤ d) (kk : F → WG X (pc + 3) lv (r :: rest) w k n) : WG X pc lv stk w k n :=
  wg_callV C (k' := k) (n' := n) hcal hlk hct.1 hrc hd hst hn hrest hlv hdd (by omega) (by omega) (fun v w' h => by
    obtain ⟨h1, h2⟩ := h
    subst h1
    subst h2
    exact kk hct.2)
theorem wg_callVX (C : CxOk X cc nL own ret d) {M : Mth} {k' n' : Nat} {post : PostT} {px : String → Wo → Prop} {d' mc ms nA idx : Nat} {b : Nat} {as rest : List Value} (hcal : CalV M nA) (hlk : Cond.methodLink own idx M.1 ∈ lw_all) (hct : Cxt (xG X) M d' mc ms w (.ref b :: as) post px) (hrc : Rc X w b M.1.cls) (hd : decode cc pc = .ok (.invokevirtual idx, 3)) (hst : as.reverse ++ .ref b :: rest = stk) (hn : as.length = nA) (hrest : (rest.map fun v => v.category).sum ≤ 8) (hlv : lv.length = nL) (hdd : d' + 1 ≤ d) (hk : mc + k' ≤ k) (hn2 : ms + n' ≤ n) (kx : ∀ (E : String) (w' : Wo), px E w' → WGX X pc lv w' E k' n') (kk : ∀ (v : Option Value) (w' : Wo), post v w' → WG X (pc + 3) lv (v.toList ++ rest) w' k' n') : WG X pc lv stk w k n := by
  intro H locs ls c0 s0 hc hs hP hS hl
  have hk : mc ≤ k := by omega
  have hn2 : ms ≤ n := by omega
  exact wgp_runX (vx_runV (As := as) (rest := rest) ⟨C.hx, C.hb, C.hml, C.hown, C.hts⟩ hct (cwV nA C.hts (lw_V hlk hcal.1 hcal.2.1 hcal.2.2.1 hcal.2.2.2.1) rfl rfl rfl ⟨rfl, hcal.2.2.2.2.1⟩ (wgp_room C hdd hcal.2.2.2.2.2)) ⟨pcW.blind _ _ _, hrc H locs hP hS, wgp_pre C hP hS (.ref b :: as)⟩ rfl hn (by rw [show (F0 (xM X) pc ls stk).locals = ls from rfl, hl.size]; exact hlv) hst.symm (lv_room hrest) hd ⟨Nat.le_trans (Nat.add_le_add_left hk _) hc, Nat.le_trans (Nat.add_le_add_left hn2 _) hs⟩) hS (fun E ce q w' H1 locs1 hp hP1 hS1 h1 h2 h3 => kx E w' hp H1 locs1 ls rest (c0 + mc) (s0 + ms) ce q (by omega) (by omega) hP1 hS1 hl h1 h2 h3) (fun v w' H1 locs1 hp hP1 hS1 => kk v w' hp H1 locs1 ls (c0 + mc) (s0 + ms) (by omega) (by omega) hP1 hS1 hl)
theorem wg_callS (C : CxOk X cc nL own ret d) {M : Mth} {k' n' : Nat} {post : PostT} {d' mc ms nA idx : Nat} {as rest : List Value} (hcal : CalS M nA) (hlk : Cond.methodLink own idx M.1 ∈ lw_all) (hct : Ct (xG X) M d' mc ms w as post) (hd : decode cc pc = .ok (.invokestatic idx, 3)) (hst : as.reverse ++ rest = stk) (hn : as.length = nA) (hrest : (rest.map fun v => v.category).sum ≤ 8) (hlv : lv.length = nL) (hdd : d' + 1 ≤ d) (hk : mc + k' ≤ k) (hn2 : ms + n' ≤ n) (kk : ∀ (v : Option Value) (w' : Wo), post v w' → WG X (pc + 3) lv (v.toList ++ rest) w' k' n') : WG X pc lv stk w k n := by
  intro H locs ls c0 s0 hc hs hP hS hl
  have hk : mc ≤ k := by omega
  have hn2 : ms ≤ n := by omega
  exact wgp_run (va_runS (As := as) (rest := rest) ⟨C.hx, C.hb, C.hml, C.hown, C.hts⟩ hct (va_cwS nA C.hts (lw_S hlk hcal.1 hcal.2.1 hcal.2.2.1) rfl rfl rfl hcal.2.2.2.1 (wgp_room C hdd hcal.2.2.2.2)) ⟨pcW.blind _ _ _, wgp_pre C hP hS as⟩ rfl hn (by rw [show (F0 (xM X) pc ls stk).locals = ls from rfl, hl.size]; exact hlv) hst.symm (lv_room hrest) hd ⟨Nat.le_trans (Nat.add_le_add_left hk _) hc, Nat.le_trans (Nat.add_le_add_left hn2 _) hs⟩) hS (fun v w' H1 locs1 hp hP1 hS1 => kk v w' hp H1 locs1 ls (c0 + mc) (s0 + ms) (by omega) (by omega) hP1 hS1 hl)
theorem wg_callSP (C : CxOk X cc nL own ret d) {M : Mth} {r : Value} {F : Prop} {d' nA idx : Nat} {as rest : List Value} (hcal : CalS M nA) (hlk : Cond.methodLink own idx M.1 ∈ lw_all) (hct : PCt (xG X) M d' w as r F) (hd : decode cc pc = .ok (.invokestatic idx, 3)) (hst : as.reverse ++ rest = stk) (hn : as.length = nA) (hrest : (rest.map fun v => v.category).sum ≤ 8) (hlv : lv.length = nL) (hdd : d' + 1 ≤ d) (kk : F → WG X (pc + 3) lv (r :: rest) w k n) : WG X pc lv stk w k n :=
  wg_callS C (k' := k) (n' := n) hcal hlk hct.1 hd hst hn hrest hlv hdd (by omega) (by omega) (fun v w' h => by
    obtain ⟨h1, h2⟩ := h
    subst h1
    subst h2
    exact kk hct.2)
theorem wg_callSX (C : CxOk X cc nL own ret d) {M : Mth} {k' n' : Nat} {post : PostT} {px : String → Wo → Prop} {d' mc ms nA idx : Nat} {as rest : List Value} (hcal : CalS M nA) (hlk : Cond.methodLink own idx M.1 ∈ lw_all) (hct : Cxt (xG X) M d' mc ms w as post px) (hd : decode cc pc = .ok (.invokestatic idx, 3)) (hst : as.reverse ++ rest = stk) (hn : as.length = nA) (hrest : (rest.map fun v => v.category).sum ≤ 8) (hlv : lv.length = nL) (hdd : d' + 1 ≤ d) (hk : mc + k' ≤ k) (hn2 : ms + n' ≤ n) (kx : ∀ (E : String) (w' : Wo), px E w' → WGX X pc lv w' E k' n') (kk : ∀ (v : Option Value) (w' : Wo), post v w' → WG X (pc + 3) lv (v.toList ++ rest) w' k' n') : WG X pc lv stk w k n := by
  intro H locs ls c0 s0 hc hs hP hS hl
  have hk : mc ≤ k := by omega
  have hn2 : ms ≤ n := by omega
  exact wgp_runX (vx_runS (As := as) (rest := rest) ⟨C.hx, C.hb, C.hml, C.hown, C.hts⟩ hct (va_cwS nA C.hts (lw_S hlk hcal.1 hcal.2.1 hcal.2.2.1) rfl rfl rfl hcal.2.2.2.1 (wgp_room C hdd hcal.2.2.2.2)) ⟨pcW.blind _ _ _, wgp_pre C hP hS as⟩ rfl hn (by rw [show (F0 (xM X) pc ls stk).locals = ls from rfl, hl.size]; exact hlv) hst.symm (lv_room hrest) hd ⟨Nat.le_trans (Nat.add_le_add_left hk _) hc, Nat.le_trans (Nat.add_le_add_left hn2 _) hs⟩) hS (fun E ce q w' H1 locs1 hp hP1 hS1 h1 h2 h3 => kx E w' hp H1 locs1 ls rest (c0 + mc) (s0 + ms) ce q (by omega) (by omega) hP1 hS1 hl h1 h2 h3) (fun v w' H1 locs1 hp hP1 hS1 => kk v w' hp H1 locs1 ls (c0 + mc) (s0 + ms) (by omega) (by omega) hP1 hS1 hl)
theorem wg_callVN (C : CxOk X cc nL own ret d) {M : Mth} {k' n' : Nat} {post : PostT} {d' mc ms nA idx : Nat} {host : String} {b : Nat} {as rest : List Value} (hcal : CalV M nA) (hlk : va_Nw (.methodLinkNest own idx M.1 host) (xS X)) (hct : Ct (xG X) M d' mc ms w (.ref b :: as) post) (hrc : Rc X w b M.1.cls) (hd : decode cc pc = .ok (.invokevirtual idx, 3)) (hst : as.reverse ++ .ref b :: rest = stk) (hn : as.length = nA) (hrest : (rest.map fun v => v.category).sum ≤ 8) (hlv : lv.length = nL) (hdd : d' + 1 ≤ d) (hk : mc + k' ≤ k) (hn2 : ms + n' ≤ n) (kk : ∀ (v : Option Value) (w' : Wo), post v w' → WG X (pc + 3) lv (v.toList ++ rest) w' k' n') : WG X pc lv stk w k n := by
  intro H locs ls c0 s0 hc hs hP hS hl
  have hk : mc ≤ k := by omega
  have hn2 : ms ≤ n := by omega
  exact wgp_run (va_runVN (As := as) (rest := rest) ⟨C.hx, C.hb, C.hml, C.hown, C.hts⟩ hct ⟨va_cnB nA C.hts (lw_meth hcal.2.2.2.1) rfl rfl rfl hlk (C.hts _ hcal.2.2.1) hcal.2.2.2.2.1 (wgp_room C hdd hcal.2.2.2.2.2), C.hts _ hcal.1, C.hts _ hcal.2.1⟩ ⟨pcW.blind _ _ _, hrc H locs hP hS, wgp_pre C hP hS (.ref b :: as)⟩ rfl hn (by rw [show (F0 (xM X) pc ls stk).locals = ls from rfl, hl.size]; exact hlv) hst.symm (lv_room hrest) hd ⟨Nat.le_trans (Nat.add_le_add_left hk _) hc, Nat.le_trans (Nat.add_le_add_left hn2 _) hs⟩) hS (fun v w' H1 locs1 hp hP1 hS1 => kk v w' hp H1 locs1 ls (c0 + mc) (s0 + ms) (by omega) (by omega) hP1 hS1 hl)
theorem wg_callVNP (C : CxOk X cc nL own ret d) {M : Mth} {r : Value} {F : Prop} {d' nA idx : Nat} {host : String} {b : Nat} {as rest : List Value} (hcal : CalV M nA) (hlk : va_Nw (.methodLinkNest own idx M.1 host) (xS X)) (hct : PCt (xG X) M d' w (.ref b :: as) r F) (hrc : Rc X w b M.1.cls) (hd : decode cc pc = .ok (.invokevirtual idx, 3)) (hst : as.reverse ++ .ref b :: rest = stk) (hn : as.length = nA) (hrest : (rest.map fun v => v.category).sum ≤ 8) (hlv : lv.length = nL) (hdd : d' + 1 ≤ d) (kk : F → WG X (pc + 3) lv (r :: rest) w k n) : WG X pc lv stk w k n :=
  wg_callVN C (k' := k) (n' := n) hcal hlk hct.1 hrc hd hst hn hrest hlv hdd (by omega) (by omega) (fun v w' h => by
    obtain ⟨h1, h2⟩ := h
    subst h1
    subst h2
    exact kk hct.2)
theorem wg_callSN (C : CxOk X cc nL own ret d) {M : Mth} {k' n' : Nat} {post : PostT} {d' mc ms nA idx : Nat} {host : String} {as rest : List Value} (hcal : CalS M nA) (hlk : va_Nw (.methodLinkNest own idx M.1 host) (xS X)) (hct : Ct (xG X) M d' mc ms w as post) (hd : decode cc pc = .ok (.invokestatic idx, 3)) (hst : as.reverse ++ rest = stk) (hn : as.length = nA) (hrest : (rest.map fun v => v.category).sum ≤ 8) (hlv : lv.length = nL) (hdd : d' + 1 ≤ d) (hk : mc + k' ≤ k) (hn2 : ms + n' ≤ n) (kk : ∀ (v : Option Value) (w' : Wo), post v w' → WG X (pc + 3) lv (v.toList ++ rest) w' k' n') : WG X pc lv stk w k n := by
  intro H locs ls c0 s0 hc hs hP hS hl
  have hk : mc ≤ k := by omega
  have hn2 : ms ≤ n := by omega
  exact wgp_run (va_runSN (As := as) (rest := rest) ⟨C.hx, C.hb, C.hml, C.hown, C.hts⟩ hct ⟨va_cnB nA C.hts (lw_meth hcal.2.2.1) rfl rfl rfl hlk (C.hts _ hcal.2.1) hcal.2.2.2.1 (wgp_room C hdd hcal.2.2.2.2), C.hts _ hcal.1, trivial⟩ ⟨pcW.blind _ _ _, wgp_pre C hP hS as⟩ rfl hn (by rw [show (F0 (xM X) pc ls stk).locals = ls from rfl, hl.size]; exact hlv) hst.symm (lv_room hrest) hd ⟨Nat.le_trans (Nat.add_le_add_left hk _) hc, Nat.le_trans (Nat.add_le_add_left hn2 _) hs⟩) hS (fun v w' H1 locs1 hp hP1 hS1 => kk v w' hp H1 locs1 ls (c0 + mc) (s0 + ms) (by omega) (by omega) hP1 hS1 hl)
theorem wg_callSNP (C : CxOk X cc nL own ret d) {M : Mth} {r : Value} {F : Prop} {d' nA idx : Nat} {host : String} {as rest : List Value} (hcal : CalS M nA) (hlk : va_Nw (.methodLinkNest own idx M.1 host) (xS X)) (hct : PCt (xG X) M d' w as r F) (hd : decode cc pc = .ok (.invokestatic idx, 3)) (hst : as.reverse ++ rest = stk) (hn : as.length = nA) (hrest : (rest.map fun v => v.category).sum ≤ 8) (hlv : lv.length = nL) (hdd : d' + 1 ≤ d) (kk : F → WG X (pc + 3) lv (r :: rest) w k n) : WG X pc lv stk w k n :=
  wg_callSN C (k' := k) (n' := n) hcal hlk hct.1 hd hst hn hrest hlv hdd (by omega) (by omega) (fun v w' h => by
    obtain ⟨h1, h2⟩ := h
    subst h1
    subst h2
    exact kk hct.2)
end CALLS
