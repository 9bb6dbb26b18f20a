/-! EXCEPTIONS over Z: thrown, caught, out, calls that may throw, entry -/
set_option maxRecDepth 100000
section EXR
variable {X : ZE} {Y : ZY} {G : ZG} {k n : Nat} {ws : va_W} {pc : Nat} {lv : List (Nat × Value)} {st rest st0 : List Value}
/-- q, of the class E, has been thrown over this frame -/
def ZT (X : ZE) (Y : ZY) (G : ZG) (k n : Nat) (ws : va_W) (pc : Nat) (lv : List (Nat × Value)) (rest : List Value) (E : String) (q : Nat) : Prop :=
  ∀ (H : Heap) (locs : List Loc) (ls : Array Slot), va_P (zD G) CL ws H → va_D (zA Y) ws → va_S (zA Y) (zs X).heap H locs → lv_has ls (znL Y) lv →
    (∃ ce : Cell, H[q]? = some ce ∧ ce.vm = .none ∧ (zs X).vm.findClass E = some ce.cls) →
    vx_W X.1 (zl X) X.2.2.1 (zR Y) (zs X) (zm X) (zar X) (zbl X) (zme X) (zc X) H locs k n (zQ X) (F0 (zm X) pc ls rest) q
/-- rows of a table that don't take E at pc -/
def ZPass (X : ZE) (Y : ZY) (E : String) (pc : Nat) (l : List ExceptionTableEntry) : Prop := ∀ z ∈ l, covers z pc = false ∨ (z.catchType ≠ 0 ∧ ∃ nm : String, (Cond.classLink (zow Y) z.catchType nm).before (zar X) (zs X) = true ∧ va_Nc E nm (zs X))
theorem zp_nil {E : String} : ZPass X Y E pc [] := fun _ h => nomatch h
theorem zp_out {E : String} {z : ExceptionTableEntry} {l : List ExceptionTableEntry} (h : covers z pc = false) (t : ZPass X Y E pc l) : ZPass X Y E pc (z :: l) := fun y hy => (List.mem_cons.mp hy).elim (fun e => by rw [e]; exact Or.inl h) (t y)
theorem zp_no {E nm : String} {z : ExceptionTableEntry} {l : List ExceptionTableEntry} (C : CX X Y G) (CE : CXX X Y) (h0 : z.catchType ≠ 0) (hl : Cond.classLink (zow Y) z.catchType nm ∈ lw_all) (hn : (E, nm) ∈ ncl) (t : ZPass X Y E pc l) : ZPass X Y E pc (z :: l) := fun y hy => (List.mem_cons.mp hy).elim (fun e => by rw [e]; exact Or.inr ⟨h0, nm, C.ts _ hl, CE.1.2.2 _ hn⟩) (t y)
theorem zt_catch (C : CX X Y G) (CE : CXX X Y) {pre suf : List ExceptionTableEntry} {x : ExceptionTableEntry} {E name : String} {q : Nat} (htab : (zc X).exceptionTable.toList = pre ++ x :: suf) (hp : ZPass X Y E pc pre) (hx : covers x pc = true) (h0 : x.catchType ≠ 0) (hl : Cond.classLink (zow Y) x.catchType name ∈ lw_all) (hc : XW (Cond.castable E name)) (z : Z X Y G k n ws x.handlerPc lv [.ref q]) : ZT X Y G k n ws pc lv rest E q := by
  rintro H locs ls hP hD hS hl2 ⟨ce, h1, h2, h3⟩
  exact vx_catch (own := zow Y) (name := name) C.own pre x suf htab hp hx h0 (C.ts _ hl) (CE.1.use hc rfl) h1 h2 h3 (z H locs ls hP hD hS hl2)
theorem zt_out {S : Type} {pE : String → S → Prop} {wf : S → Nat → va_W} {wc : va_W} {Qf : QF} {E : String} {q : Nat} (C : CX X Y G) (hA : zA Y = va_A wc (zs X).heap.size) (hQ : zEndX X Y Qf (Xx G wc pE wf)) (hp : ZPass X Y E pc (zc X).exceptionTable.toList) (u : S) (hu : pE E u) (hw : SB ws (wf u q)) (hk : k ≤ (zR Y).cells) (hn : n ≤ (zR Y).slots) : ZT X Y G k n ws pc lv rest E q := by
  rintro H locs ls hP hD hS hl2 ⟨ce, h1, h2, h3⟩
  rw [show zQ X = _ from hQ]
  exact vx_outP C.own C.lk hp h1 h2 h3 (fun t ht hW => ⟨u, trivial, ⟨hu, by rw [ht]; exact hw.P hP, by rw [← hA]; exact hw.D hD⟩, by rw [← hA]; exact hS.F ht⟩) hS.2.2 hk hn
theorem zt_wsEq {ws' : va_W} {E : String} {q : Nat} (h : ws = ws') (z : ZT X Y G k n ws' pc lv rest E q) : ZT X Y G k n ws pc lv rest E q := h ▸ z
/-- the state of X, with the end of one that only returns -/
abbrev zX (X : ZE) (Y : ZY) (Qf : QF) : ZE := (X.1, zl X, X.2.2.1, zs X, zm X, zar X, zbl X, zme X, zc X, MQ (zbl X) (Qf (zs X).heap.size) (zar X) (zs X) (zR Y).cells (zR Y).slots (zA Y))
theorem z_retx {Qf : QF} {Xf : XF} (hQ : zEndX X Y Qf Xf) (z : Z (zX X Y Qf) Y G k n ws pc lv st) : Z X Y G k n ws pc lv st := by
  intro H locs ls hP hD hS hl2
  show W _ _ _ _ _ _ _ _ _ _ _ _ _ _ (zQ X) _
  rw [show zQ X = _ from hQ]
  exact vx_ret (z H locs ls hP hD hS hl2)
theorem CX.zx {Qf : QF} (C : CX X Y G) : CX (zX X Y Qf) Y G := C
theorem zx_end {Qf : QF} : zEnd (zX X Y Qf) Y Qf := rfl
theorem zPcX_blind {as : List Value} {wc : va_W} {sz : Nat} : FrameBlind (zPcX G as wc sz) := by
  intro a U g mk q
  obtain ⟨q0, q1, qP, qK, qD, qH, qZ⟩ := q
  exact ⟨q0, q1, qP, qK.same rfl, qD, HX.same (s := U) rfl qH, qZ.1.moved (Vm.Alike.refl _), qZ.2.moved (Vm.Alike.refl _)⟩
theorem zPcX_pre {as : List Value} {ws wc : va_W} {A : Nat → Prop} {s : State} {H : Heap} {locs : List Loc} (hs : SB ws wc) (hP : va_P (zD G) CL ws H) (hD : va_D A ws) (hS : va_S A s.heap H locs) (hA : ∀ q, s.heap.size ≤ q → A q) (hK : GK G s) (hX : HX s) (hu : uZ A s s.heap) : ∀ U : State, U.heap = H → s.WarmedH U.vm → zPcX G as wc H.size as.toArray U := by
  intro U hU hW
  refine ⟨rfl, by rw [hU], by rw [hU]; exact hs.P hP, hK.warm hW, (hs.D hD).weaken (fun _ _ _ _ => trivial), hX.warm hW, ?_, ?_⟩
  · rw [hU]
    exact (((hu.1.kept hS.2.1).moved hW.alike).narrow (hs.free hD hS hA))
  · rw [hU]
    exact (((hu.2.kept hS.2.1).moved hW.alike).narrow (hs.free hD hS hA))
theorem z_metX {l : Launch} {y : MethodName} {b : ByteArray} {L : Nat} {r : Option FieldType} {rm : Room} {as : List Value} {wc : va_W} {Qf : QF} {Xf : XF} (hy : plainName y.cls = true) (hL : (lg_sl as).length ≤ L) (hl : l.stackTraces = false)
    (body : ∀ (X : ZE) (A : Nat → Prop), zl X = l → A = va_A wc (zs X).heap.size → CX X (b, L, y.cls, r, rm, A) G → CXX X (b, L, y.cls, r, rm, A) → zEndX X (b, L, y.cls, r, rm, A) Qf Xf → (zme X).name = y.name → (zc X).exceptionTable.toList = [] → Z X (b, L, y.cls, r, rm, A) G 0 0 wc 0 (lv_args 0 as) []) : CTX l y (Cond.code y b L r) rm G as wc Qf Xf := by
  intro sz
  refine vx_ofW (cc := b) (maxL := L) (ret := r) hy rfl ?_
  intro p e s m args below meth c s₁ B hml htab hv
  obtain ⟨rfl, hsz, hP, hK, hD0, hX, hU⟩ := hv
  have hts := atoms_spec (ws := Cond.code y b L r :: lw_all) B.pre
  subst hsz
  have h := body (p, l, e, s, m, as.toArray, below, meth, c, vx_MQ below (Qf s.heap.size) (Xf s.heap.size) as.toArray s rm.cells rm.slots (va_A wc s.heap.size)) (va_A wc s.heap.size) rfl rfl
    ⟨B.exec, B.bytes, hml, findClass_of_methodNamed B.named, fun w h => hts w (List.mem_cons_of_mem _ h), B.notSynchronized, B.returns, fun q h => Or.inr h, hK⟩ ⟨hX, hU, hl⟩ rfl (name_of_methodNamed B.named B.method).1 (List.eq_nil_iff_forall_not_mem.mpr htab)
  have hl := lv_entry as (n := L) hL
  rw [lg_entry_eq]
  exact h s.heap [] _ hP hD0.self va_S.rf hl
theorem z_metXW {l : Launch} {y : MethodName} {b : ByteArray} {L : Nat} {r : Option FieldType} {hh : List (Nat × Nat × Nat × Nat)} {rm : Room} {as : List Value} {wc : va_W} {Qf : QF} {Xf : XF} (hy : plainName y.cls = true) (hL : (lg_sl as).length ≤ L) (hl : l.stackTraces = false)
    (body : ∀ (X : ZE) (A : Nat → Prop), zl X = l → A = va_A wc (zs X).heap.size → CX X (b, L, y.cls, r, rm, A) G → CXX X (b, L, y.cls, r, rm, A) → zEndX X (b, L, y.cls, r, rm, A) Qf Xf → (zme X).name = y.name → (zc X).exceptionTable.toList = tableOf hh → Z X (b, L, y.cls, r, rm, A) G 0 0 wc 0 (lv_args 0 as) []) : CTX l y (Cond.codeWith y b L r hh) rm G as wc Qf Xf := by
  intro sz
  refine vx_ofWH (cc := b) (maxL := L) (ret := r) (hh := hh) hy rfl ?_
  intro p e s m args below meth c s₁ B hml hv
  obtain ⟨rfl, hsz, hP, hK, hD0, hX, hU⟩ := hv
  have hts := atoms_spec (ws := Cond.codeWith y b L r hh :: lw_all) B.pre
  subst hsz
  have h := body (p, l, e, s, m, as.toArray, below, meth, c, vx_MQ below (Qf s.heap.size) (Xf s.heap.size) as.toArray s rm.cells rm.slots (va_A wc s.heap.size)) (va_A wc s.heap.size) rfl rfl
    ⟨B.exec, B.bytes, hml, findClass_of_methodNamed B.named, fun w h => hts w (List.mem_cons_of_mem _ h), B.notSynchronized, B.returns, fun q h => Or.inr h, hK⟩ ⟨hX, hU, hl⟩ rfl (name_of_methodNamed B.named B.method).1 (vx_table (x := y) B (hts _ List.mem_cons_self))
  have hl := lv_entry as (n := L) hL
  rw [lg_entry_eq]
  exact h s.heap [] _ hP hD0.self va_S.rf hl
/-- a call that may throw -/
def CRX (X : ZE) (Y : ZY) (G : ZG) (k n : Nat) (ws : va_W) (pc : Nat) (lv : List (Nat × Value)) (st0 rest : List Value) (mc ms : Nat) (wc : va_W) (Qf : QF) (Xf : XF) : Prop :=
  SB ws wc ∧ ∀ (H : Heap) (locs : List Loc) (ls : Array Slot), va_P (zD G) CL ws H → va_D (zA Y) ws → va_S (zA Y) (zs X).heap H locs → lv_has ls (znL Y) lv →
    ∃ a, vx_Run X.1 (zl X) X.2.2.1 (zR Y) (zs X) (zm X) (zar X) (zbl X) (zme X) (zc X) H locs k n mc ms (F0 (zm X) pc ls st0) rest (Qf H.size a) (Xf H.size) (va_A wc H.size)
theorem CRX.cr {mc ms : Nat} {wc : va_W} {Qf : QF} (h : CRX X Y G k n ws pc lv st0 rest mc ms wc Qf X0) : CR X Y G k n ws pc lv st0 rest mc ms wc Qf := by
  refine ⟨h.1, fun H locs ls hP hD hS hl => ?_⟩
  obtain ⟨a, hr⟩ := h.2 H locs ls hP hD hS hl
  refine ⟨a, fun T hT X9 => ?_⟩
  rcases hr T hT X9 with h | ⟨_, _, _, _, _, _, _, _, _, _, _, _, hx, _⟩
  · exact h
  · exact absurd hx id
section CALLS
variable {wc : va_W} {Qf : QF} {Xf : XF} {y : MethodName} {b : ByteArray} {L idx : Nat} {r : Option FieldType} {rm : Room}
theorem zx_runV {na : Nat} (C : CX X Y G) (CE : CXX X Y) {a q ci N : Nat} {T : u_T} {fs : List Value} {As : List Value} (hM : CTX (zl X) y (Cond.code y b L r) rm G (.ref a :: As) wc Qf Xf) (hw : GoodIn lw_all (wsV (zow Y) idx y.cls y (ws_ y b L r))) (he : ws[q]? = some (a, .inr (ci, fs))) (hc : CL[ci]? = some (y.cls, T, N)) (hs : SB ws wc) (hd : y.cls ≠ "java/lang/invoke/MethodHandle" ∧ y.cls ≠ "java/lang/invoke/VarHandle" ∧ (parseMethodDescriptor y.desc).map (fun d => d.parameters.length) = some na) (hna : As.length = na) (hR : zRoom Y rm L k n) (hst : st0 = As.reverse ++ .ref a :: rest) (hcat : (rest.map fun v => v.category).sum ≤ 8) (d : decode (zcc Y) pc = .ok (.invokevirtual idx, 3)) : CRX X Y G k n ws pc lv st0 rest rm.cells rm.slots wc Qf Xf := by
  subst hna
  refine ⟨hs, fun H locs ls hP hD hS hl => ⟨_, vx_runV (As := As) (rest := rest) ⟨C.x, C.b, C.ml, C.own, C.ts⟩ (hM H.size) (cwV As.length C.ts hw rfl rfl rfl ⟨rfl, hd⟩ hR.1) ⟨zPcX_blind, va_recv C.K hP hc he, zPcX_pre hs hP hD hS C.hA C.gk CE.1 CE.2.1⟩ rfl rfl hl.1 hst (lv_room hcat) d hR.2⟩⟩
theorem zx_runVW {na : Nat} {hh : List (Nat × Nat × Nat × Nat)} (C : CX X Y G) (CE : CXX X Y) {a q ci N : Nat} {T : u_T} {fs : List Value} {As : List Value} (hM : CTX (zl X) y (Cond.codeWith y b L r hh) rm G (.ref a :: As) wc Qf Xf) (hw : GoodIn lw_all (wsV (zow Y) idx y.cls y (wsW_ y b L r hh))) (he : ws[q]? = some (a, .inr (ci, fs))) (hc : CL[ci]? = some (y.cls, T, N)) (hs : SB ws wc) (hd : y.cls ≠ "java/lang/invoke/MethodHandle" ∧ y.cls ≠ "java/lang/invoke/VarHandle" ∧ (parseMethodDescriptor y.desc).map (fun d => d.parameters.length) = some na) (hna : As.length = na) (hR : zRoom Y rm L k n) (hst : st0 = As.reverse ++ .ref a :: rest) (hcat : (rest.map fun v => v.category).sum ≤ 8) (d : decode (zcc Y) pc = .ok (.invokevirtual idx, 3)) : CRX X Y G k n ws pc lv st0 rest rm.cells rm.slots wc Qf Xf := by
  subst hna
  refine ⟨hs, fun H locs ls hP hD hS hl => ⟨_, vx_runVX (hh := hh) (As := As) (rest := rest) ⟨C.x, C.b, C.ml, C.own, C.ts⟩ (hM H.size) (vx_cwVW As.length C.ts hw rfl rfl rfl ⟨rfl, hd⟩ hR.1) ⟨zPcX_blind, va_recv C.K hP hc he, zPcX_pre hs hP hD hS C.hA C.gk CE.1 CE.2.1⟩ rfl rfl hl.1 hst (lv_room hcat) d hR.2⟩⟩
theorem zx_runSW {na : Nat} {hh : List (Nat × Nat × Nat × Nat)} (C : CX X Y G) (CE : CXX X Y) {As : List Value} (hM : CTX (zl X) y (Cond.codeWith y b L r hh) rm G As wc Qf Xf) (hw : GoodIn lw_all (va_wsS (zow Y) idx y (wsW_ y b L r hh))) (hs : SB ws wc) (hd : y.cls ≠ "java/lang/invoke/MethodHandle" ∧ y.cls ≠ "java/lang/invoke/VarHandle" ∧ (parseMethodDescriptor y.desc).map (fun d => d.parameters.length) = some na) (hna : As.length = na) (hR : zRoom Y rm L k n) (hst : st0 = As.reverse ++ rest) (hcat : (rest.map fun v => v.category).sum ≤ 8) (d : decode (zcc Y) pc = .ok (.invokestatic idx, 3)) : CRX X Y G k n ws pc lv st0 rest rm.cells rm.slots wc Qf Xf := by
  subst hna
  refine ⟨hs, fun H locs ls hP hD hS hl => ⟨_, vx_runSX (hh := hh) (As := As) (rest := rest) ⟨C.x, C.b, C.ml, C.own, C.ts⟩ (hM H.size) (vx_cwSW As.length C.ts hw rfl rfl rfl hd hR.1) ⟨zPcX_blind, zPcX_pre hs hP hD hS C.hA C.gk CE.1 CE.2.1⟩ rfl rfl hl.1 hst (lv_room hcat) d hR.2⟩⟩
end CALLS
section GOON
variable {S SX : Type} {mc ms : Nat} {wc : va_W} {pE : String → SX → Prop} {wx wsx : SX → Nat → va_W}
theorem zx_i (C : CX X Y G) {post : Int32 → S → Prop} {wf ws' : S → va_W} (hr : CRX X Y G k n ws pc lv st0 rest mc ms wc (Qi G wc post wf) (Xx G wc pE wx)) (hj : ∀ u, JN ws wc (wf u) (ws' u)) (hjx : ∀ u q, JN ws wc (wx u q) (wsx u q))
    (zx : ∀ (E : String) (q : Nat) (u : SX), pE E u → ZT X Y G (k + mc) (n + ms) (wsx u q) pc lv rest E q) (z : ∀ (v : Int32) (u : S), post v u → Z X Y G (k + mc) (n + ms) (ws' u) (pc + 3) lv (.int v :: rest)) : Z X Y G k n ws pc lv st0 := by
  intro H locs ls hP hD hS hl
  obtain ⟨a, hrun⟩ := hr.2 H locs ls hP hD hS hl
  have hF := hr.1.free hD hS C.hA
  refine vx_calli hrun hS (fun q _ h => hF q h) hF (fun q _ h => hF q h) (fun E ce q9 u t H1 locs1 ht hvm hp hB hz hk hS1 hce hcv hcl => ?_) (fun v u t H1 locs1 ht hvm hp hB hz hk hS1 => ?_)
  · obtain ⟨hE, hP1, hD1⟩ := hB
    rw [ht] at hP1
    obtain ⟨a1, a2⟩ := hjx u q9 G H H1 _ hP hD hk hF hP1 hD1
    exact zx E q9 u hE H1 locs1 ls a1 a2 hS1 hl ⟨ce, hce, hcv, hcl⟩
  · obtain ⟨hP1, hD1⟩ := hB
    rw [ht] at hP1
    obtain ⟨a1, a2⟩ := hj u G H H1 _ hP hD hk hF hP1 hD1
    exact z v u hp H1 locs1 ls a1 a2 hS1 hl
theorem zx_l (C : CX X Y G) {post : Int64 → S → Prop} {wf ws' : S → va_W} (hr : CRX X Y G k n ws pc lv st0 rest mc ms wc (Ql G wc post wf) (Xx G wc pE wx)) (hj : ∀ u, JN ws wc (wf u) (ws' u)) (hjx : ∀ u q, JN ws wc (wx u q) (wsx u q))
    (zx : ∀ (E : String) (q : Nat) (u : SX), pE E u → ZT X Y G (k + mc) (n + ms) (wsx u q) pc lv rest E q) (z : ∀ (v : Int64) (u : S), post v u → Z X Y G (k + mc) (n + ms) (ws' u) (pc + 3) lv (.long v :: rest)) : Z X Y G k n ws pc lv st0 := by
  intro H locs ls hP hD hS hl
  obtain ⟨a, hrun⟩ := hr.2 H locs ls hP hD hS hl
  have hF := hr.1.free hD hS C.hA
  refine vx_calll hrun hS (fun q _ h => hF q h) hF (fun q _ h => hF q h) (fun E ce q9 u t H1 locs1 ht hvm hp hB hz hk hS1 hce hcv hcl => ?_) (fun v u t H1 locs1 ht hvm hp hB hz hk hS1 => ?_)
  · obtain ⟨hE, hP1, hD1⟩ := hB
    rw [ht] at hP1
    obtain ⟨a1, a2⟩ := hjx u q9 G H H1 _ hP hD hk hF hP1 hD1
    exact zx E q9 u hE H1 locs1 ls a1 a2 hS1 hl ⟨ce, hce, hcv, hcl⟩
  · obtain ⟨hP1, hD1⟩ := hB
    rw [ht] at hP1
    obtain ⟨a1, a2⟩ := hj u G H H1 _ hP hD hk hF hP1 hD1
    exact z v u hp H1 locs1 ls a1 a2 hS1 hl
theorem zx_v (C : CX X Y G) {post : S → Prop} {wf ws' : S → va_W} (hr : CRX X Y G k n ws pc lv st0 rest mc ms wc (Qv G wc post wf) (Xx G wc pE wx)) (hj : ∀ u, JN ws wc (wf u) (ws' u)) (hjx : ∀ u q, JN ws wc (wx u q) (wsx u q))
    (zx : ∀ (E : String) (q : Nat) (u : SX), pE E u → ZT X Y G (k + mc) (n + ms) (wsx u q) pc lv rest E q) (z : ∀ (u : S), post u → Z X Y G (k + mc) (n + ms) (ws' u) (pc + 3) lv rest) : Z X Y G k n ws pc lv st0 := by
  intro H locs ls hP hD hS hl
  obtain ⟨a, hrun⟩ := hr.2 H locs ls hP hD hS hl
  have hF := hr.1.free hD hS C.hA
  refine vx_callv hrun hS (fun q _ h => hF q h) hF (fun q _ h => hF q h) (fun E ce q9 u t H1 locs1 ht hvm hp hB hz hk hS1 hce hcv hcl => ?_) (fun u t H1 locs1 ht hvm hp hB hz hk hS1 => ?_)
  · obtain ⟨hE, hP1, hD1⟩ := hB
    rw [ht] at hP1
    obtain ⟨a1, a2⟩ := hjx u q9 G H H1 _ hP hD hk hF hP1 hD1
    exact zx E q9 u hE H1 locs1 ls a1 a2 hS1 hl ⟨ce, hce, hcv, hcl⟩
  · obtain ⟨hP1, hD1⟩ := hB
    rw [ht] at hP1
    obtain ⟨a1, a2⟩ := hj u G H H1 _ hP hD hk hF hP1 hD1
    exact z u hp H1 locs1 ls a1 a2 hS1 hl
theorem zx_q (C : CX X Y G) {post : Option Nat → S → Prop} {wf ws' : S → va_W} (hr : CRX X Y G k n ws pc lv st0 rest mc ms wc (Qq G wc post wf) (Xx G wc pE wx)) (hj : ∀ u, JN ws wc (wf u) (ws' u)) (hjx : ∀ u q, JN ws wc (wx u q) (wsx u q))
    (zx : ∀ (E : String) (q : Nat) (u : SX), pE E u → ZT X Y G (k + mc) (n + ms) (wsx u q) pc lv rest E q) (z : ∀ (a : Option Nat) (u : S), post a u → Z X Y G (k + mc) (n + ms) (ws' u) (pc + 3) lv (va_rf a :: rest)) : Z X Y G k n ws pc lv st0 := by
  intro H locs ls hP hD hS hl
  obtain ⟨a, hrun⟩ := hr.2 H locs ls hP hD hS hl
  have hF := hr.1.free hD hS C.hA
  refine vx_callq hrun hS (fun q _ h => hF q h) hF (fun q _ h => hF q h) (fun E ce q9 u t H1 locs1 ht hvm hp hB hz hk hS1 hce hcv hcl => ?_) (fun v u t H1 locs1 ht hvm hp hB hz hk hS1 => ?_)
  · obtain ⟨hE, hP1, hD1⟩ := hB
    rw [ht] at hP1
    obtain ⟨a1, a2⟩ := hjx u q9 G H H1 _ hP hD hk hF hP1 hD1
    exact zx E q9 u hE H1 locs1 ls a1 a2 hS1 hl ⟨ce, hce, hcv, hcl⟩
  · obtain ⟨hP1, hD1⟩ := hB
    rw [ht] at hP1
    obtain ⟨a1, a2⟩ := hj u G H H1 _ hP hD hk hF hP1 hD1
    exact z v u hp H1 locs1 ls a1 a2 hS1 hl
end GOON
/-- throw of an object of the world -/
theorem z_athrow (C : CX X Y G) {q i ci N : Nat} {E : String} {T : u_T} {fs : List Value} (hc : CL[ci]? = some (E, T, N)) (he : ws[i]? = some (q, .inr (ci, fs))) (d : decode (zcc Y) pc = .ok (.athrow, 1)) (z : ZT X Y G k n ws pc lv rest E q) : Z X Y G k n ws pc lv (.ref q :: rest) := by
  intro H locs ls hP hD hS hl
  obtain ⟨q1, h1, ce, h2, h3, h4, h5⟩ := hP i _ he
  have h6 : q1 = (E, T, N) := Option.some.inj (h1.symm.trans hc)
  subst h6
  refine vx_athrow C.x C.b d (z H locs ls hP hD hS hl ⟨ce, h2, h4, ?_⟩)
  rw [h3]
  exact (C.K.1 ci _ hc).2.1
end EXR
