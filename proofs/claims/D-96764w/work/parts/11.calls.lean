/-! CONTRACTS, CALLS, ENTRY, RETURNS over Z -/
set_option maxRecDepth 100000
/-- the part of the world that a callee gets -/
def SB (ws wc : va_W) : Prop := ∃ g : Nat → Nat, (∀ (k : Nat) (q : Nat × va_E), wc[k]? = some q → ws[g k]? = some q) ∧ ∀ i j : Nat, i < wc.length → j < wc.length → g i = g j → i = j
theorem va_nd_i : ∀ (l : List Nat), va_nd l = true → ∀ (i j : Nat), i < l.length → j < l.length → l.getD i 0 = l.getD j 0 → i = j := by
  intro l h i j hi hj e
  refine va_nd_inj l h i j (l.getD i 0) ?_ ?_
  · rw [List.getD_eq_getElem?_getD, List.getElem?_eq_getElem hi]; rfl
  · rw [e, List.getD_eq_getElem?_getD, List.getElem?_eq_getElem hj]; rfl
theorem sb_e {ws wc : va_W} (is : List Nat) (h : is.map (fun i => ws[i]?) = wc.map some) (hn : va_nd is = true) : SB ws wc := by
  have hlen : is.length = wc.length := by
    have := congrArg List.length h
    simpa using this
  refine ⟨fun k => is.getD k 0, fun k q hk => ?_, fun i j hi hj e => va_nd_i is hn i j (by omega) (by omega) e⟩
  have hl : k < is.length := by rw [hlen]; exact (List.getElem?_eq_some_iff.mp hk).1
  have h1 : (is.map (fun i => ws[i]?))[k]? = some (some q) := by rw [h, List.getElem?_map, hk]; rfl
  rw [List.getElem?_map, List.getElem?_eq_getElem hl] at h1
  show ws[is.getD k 0]? = some q
  rw [List.getD_eq_getElem?_getD, List.getElem?_eq_getElem hl]
  exact Option.some.inj h1
theorem sb_p {L Lc P : va_W} (is : List Nat) (h : is.map (fun i => L[i]?) = Lc.map some) (hn : va_nd is = true) : SB (L ++ P) (Lc ++ P) := by
  have hlen : is.length = Lc.length := by
    have := congrArg List.length h
    simpa using this
  refine ⟨fun k => if k < Lc.length then (is[k]?).getD 0 else L.length + (k - Lc.length), va_part is h, fun i j hi hj e => ?_⟩
  have hb : ∀ k, k < Lc.length → (is[k]?).getD 0 < L.length := by
    intro k hk
    have h1 : (is.map (fun i => L[i]?))[k]? = some (some Lc[k]) := by rw [h, List.getElem?_map, List.getElem?_eq_getElem hk]; rfl
    rw [List.getElem?_map, List.getElem?_eq_getElem (by omega)] at h1
    rw [List.getElem?_eq_getElem (by omega : k < is.length)]
    exact (List.getElem?_eq_some_iff.mp (Option.some.inj h1)).1
  by_cases h1 : i < Lc.length <;> by_cases h2 : j < Lc.length
  · simp only [h1, h2, if_true] at e
    refine va_nd_i is hn i j (by omega) (by omega) ?_
    rw [List.getD_eq_getElem?_getD, List.getD_eq_getElem?_getD]
    exact e
  · simp only [h1, h2, if_true, if_false] at e
    have := hb i h1
    omega
  · simp only [h1, h2, if_true, if_false] at e
    have := hb j h2
    omega
  · simp only [h1, h2, if_false] at e
    omega
theorem SB.P {G : ZG} {ws wc : va_W} {H : Heap} (h : SB ws wc) (hP : va_P (zD G) CL ws H) : va_P (zD G) CL wc H := by
  obtain ⟨g, h1, h2⟩ := h
  exact hP.by g h1
theorem SB.D {A : Nat → Prop} {ws wc : va_W} (h : SB ws wc) (hD : va_D A ws) : va_D A wc := by
  obtain ⟨g, h1, h2⟩ := h
  exact hD.by g h1 h2
theorem SB.free {A0 : Nat → Prop} {ws wc : va_W} {H0 H : Heap} {locs : List Loc} (h : SB ws wc) (hD : va_D A0 ws) (hS : va_S A0 H0 H locs) (hA : ∀ q, H0.size ≤ q → A0 q) : ∀ q, va_A wc H.size q → A0 q := by
  intro q hq
  rcases hq with ⟨k, e, hq⟩ | hq
  · exact (h.D hD).2 k (q, e) hq
  · exact hA q (Nat.le_trans hS.1 hq)
/-- how a call turns the caller's world ws into ws', when the callee had wc and leaves wf -/
def JN (ws wc wf ws' : va_W) : Prop := ∀ (G : ZG) (H H1 : Heap) (A0 : Nat → Prop), va_P (zD G) CL ws H → va_D A0 ws → (∀ q : Nat, q < H.size → ¬ va_A wc H.size q → H1[q]? = H[q]?) → (∀ q, va_A wc H.size q → A0 q) → va_P (zD G) CL wf H1 → va_D (va_A wc H.size) wf → va_P (zD G) CL ws' H1 ∧ va_D A0 ws'
/-- the callee leaves its world as it was -/
theorem jn_ro {ws wc : va_W} (hs : SB ws wc) : JN ws wc wc ws := by
  intro G H H1 A0 hP hD hk hF hP1 hD1
  refine ⟨fun k q hq => ?_, hD⟩
  by_cases hc : va_A wc H.size q.1
  · rcases hc with ⟨j, e, hj⟩ | hc
    · obtain ⟨g, h1, h2⟩ := hs
      have hg := h1 j _ hj
      have hkg := hD.1 k (g j) q (q.1, e) hq hg rfl
      subst hkg
      have he : q = (q.1, e) := Option.some.inj (hq.symm.trans hg)
      rw [he]
      exact hP1 j _ hj
    · exact absurd (hP k q hq).lt (by omega)
  · exact (hP k q hq).kept (hk q.1 (hP k q hq).lt hc)
theorem jn_e {ws wc wf wr ws' : va_W} (isC isR js : List Nat) (hC : isC.map (fun i => ws[i]?) = wc.map some) (hR : isR.map (fun i => ws[i]?) = wr.map some) (hn : va_nd isR = true) (hdis : ∀ i ∈ isR, i ∉ isC) (hj : js.map (fun i => (wr ++ wf)[i]?) = ws'.map some) (hnj : va_nd js = true) : JN ws wc wf ws' := by
  intro G H H1 A0 hP hD hk hF hP1 hD1
  obtain ⟨a, b⟩ := va_join hP hD isC isR hC hR hn hdis hk hF hP1 hD1
  exact ⟨a.sub js (zw_fm hj), b.sub js hnj hj⟩
/-- .. with a pool behind, that the callee had and leaves (perhaps grown) -/
theorem jn_p {L Lc Lf Lr L' P P1 : va_W} (isC isR js : List Nat) (hC : isC.map (fun i => L[i]?) = Lc.map some) (hR : isR.map (fun i => L[i]?) = Lr.map some) (hn : va_nd isR = true) (hdis : ∀ i ∈ isR, i ∉ isC) (hj : js.map (fun i => (Lr ++ Lf)[i]?) = L'.map some) (hnj : va_nd js = true) : JN (L ++ P) (Lc ++ P) (Lf ++ P1) (L' ++ P1) := by
  intro G H H1 A0 hP hD hk hF hP1 hD1
  obtain ⟨a, b⟩ := va_joinP hP hD isC isR hC hR hn hdis hk hF hP1 hD1
  exact ⟨a.part js hj, b.part js hnj hj⟩
/-- .. with a pool behind that the callee had not -/
theorem jn_q {L Lc Lf Lr L' P : va_W} (isC isR js : List Nat) (hC : isC.map (fun i => L[i]?) = Lc.map some) (hR : isR.map (fun i => L[i]?) = Lr.map some) (hn : va_nd isR = true) (hdis : ∀ i ∈ isR, i ∉ isC) (hj : js.map (fun i => (Lr ++ Lf)[i]?) = L'.map some) (hnj : va_nd js = true) : JN (L ++ P) Lc Lf (L' ++ P) := by
  intro G H H1 A0 hP hD hk hF hP1 hD1
  obtain ⟨a, b⟩ := va_joinQ hP hD isC isR hC hR hn hdis hk hF hP1 hD1
  exact ⟨a.part js hj, b.part js hnj hj⟩
def zPc (G : ZG) (as : List Value) (wc : va_W) (sz : Nat) : Array Value → State → Prop := va_Pc as (fun U => U.heap.size = sz ∧ va_P (zD G) CL wc U.heap ∧ GK G U ∧ va_D (fun _ => True) wc)
def zB {S : Type} (G : ZG) (wf : S → va_W) (A : Nat → Prop) : S → State → Prop := fun u t => va_P (zD G) CL (wf u) t.heap ∧ va_D A (wf u)
def zBr {S : Type} (G : ZG) (wf : S → Nat → va_W) (A : Nat → Prop) : S → Nat → State → Prop := fun u a t => va_P (zD G) CL (wf u a) t.heap ∧ va_D A (wf u a)
abbrev QF : Type := Nat → Array Value → State → Outcome → State → Prop
def Qi {S : Type} (G : ZG) (wc : va_W) (post : Int32 → S → Prop) (wf : S → va_W) : QF := fun sz => va_Qi post (zB G wf (va_A wc sz)) (va_A wc sz)
def Ql {S : Type} (G : ZG) (wc : va_W) (post : Int64 → S → Prop) (wf : S → va_W) : QF := fun sz => va_Ql post (zB G wf (va_A wc sz)) (va_A wc sz)
def Qv {S : Type} (G : ZG) (wc : va_W) (post : S → Prop) (wf : S → va_W) : QF := fun sz => va_Qv post (zB G wf (va_A wc sz)) (va_A wc sz)
def Qr {S : Type} (G : ZG) (wc : va_W) (post : S → Prop) (wf : S → Nat → va_W) : QF := fun sz => va_Qr post (zBr G wf (va_A wc sz)) (va_A wc sz)
def Qq {S : Type} (G : ZG) (wc : va_W) (post : Option Nat → S → Prop) (wf : S → va_W) : QF := fun sz => va_Qq post (zB G wf (va_A wc sz)) (va_A wc sz)
/-- a contract: method y with code b, L locals, answer r, room rm, at the arguments as and the world wc -/
def CT (l : Launch) (y : MethodName) (b : ByteArray) (L : Nat) (r : Option FieldType) (rm : Room) (G : ZG) (as : List Value) (wc : va_W) (Qf : QF) : Prop := ∀ sz : Nat, Met l y (ws_ y b L r) rm (zPc G as wc sz) (Qf sz) rm.cells rm.slots (va_A wc sz)
/-- the end of a body -/
def zEnd (X : ZE) (Y : ZY) (Qf : QF) : Prop := zQ X = MQ (zbl X) (Qf (zs X).heap.size) (zar X) (zs X) (zR Y).cells (zR Y).slots (zA Y)
theorem z_met {l : Launch} {y : MethodName} {b : ByteArray} {L : Nat} {r : Option FieldType} {rm : Room} {G : ZG} {as : List Value} {wc : va_W} {Qf : QF} (hy : plainName y.cls = true) (hL : (lg_sl as).length ≤ L)
    (body : ∀ (X : ZE) (A : Nat → Prop), zl X = l → A = va_A wc (zs X).heap.size → CX X (b, L, y.cls, r, rm, A) G → zEnd X (b, L, y.cls, r, rm, A) Qf → (zme X).name = y.name → Z X (b, L, y.cls, r, rm, A) G 0 0 wc 0 (lv_args 0 as) []) : CT l y b L r rm G as wc Qf := by
  intro sz
  refine Met.ofW (cc := b) (maxL := L) (ret := r) hy rfl ?_
  intro p e s m args below meth c s₁ B hml hv
  obtain ⟨rfl, hsz, hP, hK, hD0⟩ := hv
  have hts := atoms_spec (ws := ws_ y b L r) B.pre
  subst hsz
  have h := body (p, l, e, s, m, as.toArray, below, meth, c, MQ below (Qf s.heap.size) as.toArray s rm.cells rm.slots (va_A wc s.heap.size)) (va_A wc s.heap.size) rfl rfl
    ⟨B.exec, B.bytes, hml, findClass_of_methodNamed B.named, fun w h => hts w (List.mem_cons_of_mem _ h), B.notSynchronized, B.returns, fun q h => Or.inr h, hK⟩ rfl (name_of_methodNamed B.named B.method).1
  have hl := lv_entry as (n := L) hL
  rw [lg_entry_eq]
  exact h s.heap [] _ hP hD0.self va_S.rf hl
section ZRET
variable {X : ZE} {Y : ZY} {G : ZG} {k n : Nat} {ws : va_W} {pc : Nat} {lv : List (Nat × Value)} {st : List Value} {S : Type} {wc : va_W}
theorem z_iret (C : CX X Y G) {post : Int32 → S → Prop} {wf : S → va_W} (hA : zA Y = va_A wc (zs X).heap.size) (hQ : zEnd X Y (Qi G wc post wf)) (hr : zrt Y = some .int) (hk : k ≤ (zR Y).cells) (hn : n ≤ (zR Y).slots) {v : Int32} (u : S) (hp : post v u) (hw : SB ws (wf u)) (d : decode (zcc Y) pc = .ok (.ireturn, 1)) : Z X Y G k n ws pc lv [.int v] := by
  intro H locs ls hP hD hS hl
  refine W.widen hk hn ?_
  rw [show zQ X = _ from hQ]
  refine W.iret C.x C.b (C.rt.trans hr) (fun t ht hW => ⟨⟨v, u, rfl, hp, by rw [ht]; exact hw.P hP, by rw [← hA]; exact hw.D hD⟩, by rw [← hA]; exact hS.F ht⟩) hS.2.2 d C.lk
theorem z_zret (C : CX X Y G) {post : Int32 → S → Prop} {wf : S → va_W} (hA : zA Y = va_A wc (zs X).heap.size) (hQ : zEnd X Y (Qi G wc post wf)) (hr : zrt Y = some .boolean) (hk : k ≤ (zR Y).cells) (hn : n ≤ (zR Y).slots) {v : Int32} (u : S) (hp : post v u) (hb : narrow .boolean (.int v) = .int v) (hw : SB ws (wf u)) (d : decode (zcc Y) pc = .ok (.ireturn, 1)) : Z X Y G k n ws pc lv [.int v] := by
  intro H locs ls hP hD hS hl
  refine W.widen hk hn ?_
  rw [show zQ X = _ from hQ]
  refine W.zret C.x C.b (C.rt.trans hr) hb (fun t ht hW => ⟨⟨v, u, rfl, hp, by rw [ht]; exact hw.P hP, by rw [← hA]; exact hw.D hD⟩, by rw [← hA]; exact hS.F ht⟩) hS.2.2 d C.lk
theorem z_lret (C : CX X Y G) {post : Int64 → S → Prop} {wf : S → va_W} (hA : zA Y = va_A wc (zs X).heap.size) (hQ : zEnd X Y (Ql G wc post wf)) (hr : zrt Y = some .long) (hk : k ≤ (zR Y).cells) (hn : n ≤ (zR Y).slots) {v : Int64} (u : S) (hp : post v u) (hw : SB ws (wf u)) (d : decode (zcc Y) pc = .ok (.lreturn, 1)) : Z X Y G k n ws pc lv [.long v] := by
  intro H locs ls hP hD hS hl
  refine W.widen hk hn ?_
  rw [show zQ X = _ from hQ]
  refine W.lret C.x C.b (C.rt.trans hr) (fun t ht hW => ⟨⟨v, u, rfl, hp, by rw [ht]; exact hw.P hP, by rw [← hA]; exact hw.D hD⟩, by rw [← hA]; exact hS.F ht⟩) hS.2.2 d C.lk
theorem z_vret (C : CX X Y G) {post : S → Prop} {wf : S → va_W} (hA : zA Y = va_A wc (zs X).heap.size) (hQ : zEnd X Y (Qv G wc post wf)) (hr : zrt Y = none) (hk : k ≤ (zR Y).cells) (hn : n ≤ (zR Y).slots) (u : S) (hp : post u) (hw : SB ws (wf u)) (d : decode (zcc Y) pc = .ok (.return_, 1)) : Z X Y G k n ws pc lv [] := by
  intro H locs ls hP hD hS hl
  refine W.widen hk hn ?_
  rw [show zQ X = _ from hQ]
  refine W.vret C.x C.b (C.rt.trans hr) (fun t ht hW => ⟨⟨u, rfl, hp, by rw [ht]; exact hw.P hP, by rw [← hA]; exact hw.D hD⟩, by rw [← hA]; exact hS.F ht⟩) hS.2.2 d C.lk
theorem z_aret (C : CX X Y G) {post : S → Prop} {wf : S → Nat → va_W} {rt : FieldType} (hA : zA Y = va_A wc (zs X).heap.size) (hQ : zEnd X Y (Qr G wc post wf)) (hr : zrt Y = some rt) (hrt : (∃ n, rt = .object n) ∨ ∃ t, rt = .array t) (hk : k ≤ (zR Y).cells) (hn : n ≤ (zR Y).slots) {a : Nat} (u : S) (hp : post u) (hw : SB ws (wf u a)) (d : decode (zcc Y) pc = .ok (.areturn, 1)) : Z X Y G k n ws pc lv [.ref a] := by
  intro H locs ls hP hD hS hl
  refine W.widen hk hn ?_
  rw [show zQ X = _ from hQ]
  refine W.aret C.x C.b (C.rt.trans hr) hrt (Or.inr ⟨a, rfl⟩) (fun t ht hW => ⟨⟨u, a, rfl, hp, by rw [ht]; exact hw.P hP, by rw [← hA]; exact hw.D hD⟩, by rw [← hA]; exact hS.F ht⟩) hS.2.2 d C.lk
theorem z_qret (C : CX X Y G) {post : Option Nat → S → Prop} {wf : S → va_W} {rt : FieldType} (hA : zA Y = va_A wc (zs X).heap.size) (hQ : zEnd X Y (Qq G wc post wf)) (hr : zrt Y = some rt) (hrt : (∃ n, rt = .object n) ∨ ∃ t, rt = .array t) (hk : k ≤ (zR Y).cells) (hn : n ≤ (zR Y).slots) {v : Value} (a : Option Nat) (hv : v = va_rf a) (u : S) (hp : post a u) (hw : SB ws (wf u)) (d : decode (zcc Y) pc = .ok (.areturn, 1)) : Z X Y G k n ws pc lv [v] := by
  subst hv
  intro H locs ls hP hD hS hl
  refine W.widen hk hn ?_
  rw [show zQ X = _ from hQ]
  refine W.aret C.x C.b (C.rt.trans hr) hrt (va_rf_or a) (fun t ht hW => ⟨⟨a, u, rfl, hp, by rw [ht]; exact hw.P hP, by rw [← hA]; exact hw.D hD⟩, by rw [← hA]; exact hS.F ht⟩) hS.2.2 d C.lk
end ZRET
/-- a call that is made from pc with the stack st0, whose callee has the world wc and leaves rest on the stack -/
def CR (X : ZE) (Y : ZY) (G : ZG) (k n : Nat) (ws : va_W) (pc : Nat) (lv : List (Nat × Value)) (st0 rest : List Value) (mc ms : Nat) (wc : va_W) (Qf : QF) : Prop :=
  SB ws wc ∧ ∀ (H : Heap) (locs : List Loc) (ls : Array Slot), va_P (zD G) CL ws H → va_D (zA Y) ws → va_S (zA Y) (zs X).heap H locs → lv_has ls (znL Y) lv →
    ∃ a, va_Run X.1 (zl X) X.2.2.1 (zR Y) (zs X) (zm X) (zar X) (zbl X) (zme X) (zc X) H locs k n mc ms (F0 (zm X) pc ls st0) rest (Qf H.size a) (va_A wc H.size)
theorem zPc_blind {G : ZG} {as : List Value} {wc : va_W} {sz : Nat} : FrameBlind (zPc G as wc sz) := by
  intro a U g mk q
  obtain ⟨q0, q1, qP, qK, qD⟩ := q
  exact ⟨q0, q1, qP, qK.same rfl, qD⟩
theorem zPc_pre {G : ZG} {as : List Value} {ws wc : va_W} {A : Nat → Prop} {s : State} {H : Heap} (hs : SB ws wc) (hP : va_P (zD G) CL ws H) (hD : va_D A ws) (hK : GK G s) : ∀ U : State, U.heap = H → s.WarmedH U.vm → zPc G as wc H.size as.toArray U := by
  intro U hU hW
  exact ⟨rfl, by rw [hU], by rw [hU]; exact hs.P hP, hK.warm hW, (hs.D hD).weaken (fun _ _ _ _ => trivial)⟩
section ZCALL
variable {X : ZE} {Y : ZY} {G : ZG} {k n : Nat} {ws : va_W} {pc : Nat} {lv : List (Nat × Value)} {st0 rest : List Value} {wc : va_W} {Qf : QF}
variable {y : MethodName} {b : ByteArray} {L idx : Nat} {r : Option FieldType} {rm : Room}
abbrev zRoom (Y : ZY) (rm : Room) (L k n : Nat) : Prop := (rm.frames + 1 ≤ (zR Y).frames ∧ 8 + (L + 11) + rm.locals ≤ (zR Y).locals) ∧ k + rm.cells ≤ (zR Y).cells ∧ n + rm.slots ≤ (zR Y).slots
abbrev notMH (c : String) : Prop := c ≠ "java/lang/invoke/MethodHandle" ∧ c ≠ "java/lang/invoke/VarHandle"
theorem z_runV {na : Nat} (C : CX X Y G) {a q ci N : Nat} {T : u_T} {fs : List Value} {As : List Value} (hM : CT (zl X) y b L r rm G (.ref a :: As) wc Qf) (hw : GoodIn lw_all (wsV (zow Y) idx y.cls y (ws_ y b L r))) (he : ws[q]? = some (a, .inr (ci, fs))) (hc : CL[ci]? = some (y.cls, T, N)) (hs : SB ws wc) (hd : y.cls ≠ "java/lang/invoke/MethodHandle" ∧ y.cls ≠ "java/lang/invoke/VarHandle" ∧ (parseMethodDescriptor y.desc).map (fun d => d.parameters.length) = some na) (hna : As.length = na) (hR : zRoom Y rm L k n) (hst : st0 = As.reverse ++ .ref a :: rest) (hcat : (rest.map fun v => v.category).sum ≤ 8) (d : decode (zcc Y) pc = .ok (.invokevirtual idx, 3)) : CR X Y G k n ws pc lv st0 rest rm.cells rm.slots wc Qf := by
  subst hna
  refine ⟨hs, fun H locs ls hP hD hS hl => ⟨_, va_runV (As := As) (rest := rest) ⟨C.x, C.b, C.ml, C.own, C.ts⟩ (hM H.size) (cwV As.length C.ts hw rfl rfl rfl ⟨rfl, hd⟩ hR.1) ⟨zPc_blind, va_recv C.K hP hc he, zPc_pre hs hP hD C.gk⟩ rfl rfl hl.1 hst (lv_room hcat) d hR.2⟩⟩
theorem z_runS {na : Nat} (C : CX X Y G) {As : List Value} (hM : CT (zl X) y b L r rm G As wc Qf) (hw : GoodIn lw_all (va_wsS (zow Y) idx y (ws_ y b L r))) (hs : SB ws wc) (hd : y.cls ≠ "java/lang/invoke/MethodHandle" ∧ y.cls ≠ "java/lang/invoke/VarHandle" ∧ (parseMethodDescriptor y.desc).map (fun d => d.parameters.length) = some na) (hna : As.length = na) (hR : zRoom Y rm L k n) (hst : st0 = As.reverse ++ rest) (hcat : (rest.map fun v => v.category).sum ≤ 8) (d : decode (zcc Y) pc = .ok (.invokestatic idx, 3)) : CR X Y G k n ws pc lv st0 rest rm.cells rm.slots wc Qf := by
  subst hna
  refine ⟨hs, fun H locs ls hP hD hS hl => ⟨_, va_runS (As := As) (rest := rest) ⟨C.x, C.b, C.ml, C.own, C.ts⟩ (hM H.size) (va_cwS As.length C.ts hw rfl rfl rfl hd hR.1) ⟨zPc_blind, zPc_pre hs hP hD C.gk⟩ rfl rfl hl.1 hst (lv_room hcat) d hR.2⟩⟩
theorem z_runI {na : Nat} (C : CX X Y G) {a : Nat} {As : List Value} (hM : CT (zl X) y b L none rm G (.ref a :: As) wc Qf) (hcode : Cond.code y b L none ∈ lw_all) (hini : Cond.initialized y.cls ∈ lw_all) (hlink : Cond.methodLink (zow Y) idx y ∈ lw_all) (hinst : Cond.instanceMethod y ∈ lw_all) (hs : SB ws wc) (hd : y.name = "<init>" ∧ y.cls ≠ "java/lang/invoke/MethodHandle" ∧ y.cls ≠ "java/lang/invoke/VarHandle" ∧ (parseMethodDescriptor y.desc).map (fun d => d.parameters.length) = some na) (hna : As.length = na) (hR : zRoom Y rm L k n) (hst : st0 = As.reverse ++ .ref a :: rest) (hcat : (rest.map fun v => v.category).sum ≤ 8) (d : decode (zcc Y) pc = .ok (.invokespecial idx, 3)) : CR X Y G k n ws pc lv st0 rest rm.cells rm.slots wc Qf := by
  subst hna
  refine ⟨hs, fun H locs ls hP hD hS hl => ⟨_, va_runI (As := As) (rest := rest) ⟨C.x, C.b, C.ml, C.own, C.ts⟩ (hM H.size) (cwI As.length C.ts (lw_meth hcode) rfl rfl rfl (C.ts _ hini) (C.ts _ hlink) (C.ts _ hinst) hd.1 hd.2 hR.1) ⟨zPc_blind, zPc_pre hs hP hD C.gk⟩ rfl rfl hl.1 hst (lv_room hcat) d hR.2⟩⟩
/-- static, private, of a nest mate -/
theorem z_runSN {na : Nat} (C : CX X Y G) {host : String} {As : List Value} (hM : CT (zl X) y b L r rm G As wc Qf) (hcode : Cond.code y b L r ∈ lw_all) (hini : Cond.initialized y.cls ∈ lw_all) (hstat : Cond.static y ∈ lw_all) (hl0 : va_Nw (.methodLinkNest (zow Y) idx y host) (zs X)) (hs : SB ws wc) (hd : y.cls ≠ "java/lang/invoke/MethodHandle" ∧ y.cls ≠ "java/lang/invoke/VarHandle" ∧ (parseMethodDescriptor y.desc).map (fun d => d.parameters.length) = some na) (hna : As.length = na) (hR : zRoom Y rm L k n) (hst : st0 = As.reverse ++ rest) (hcat : (rest.map fun v => v.category).sum ≤ 8) (d : decode (zcc Y) pc = .ok (.invokestatic idx, 3)) : CR X Y G k n ws pc lv st0 rest rm.cells rm.slots wc Qf := by
  subst hna
  refine ⟨hs, fun H locs ls hP hD hS hl => ⟨_, va_runSN (As := As) (rest := rest) ⟨C.x, C.b, C.ml, C.own, C.ts⟩ (hM H.size) ⟨va_cnB As.length C.ts (lw_meth hcode) rfl rfl rfl hl0 (C.ts _ hini) hd hR.1, C.ts _ hstat, trivial⟩ ⟨zPc_blind, zPc_pre hs hP hD C.gk⟩ rfl rfl hl.1 hst (lv_room hcat) d hR.2⟩⟩
/-- a private constructor of a nest mate -/
theorem z_runIN {na : Nat} (C : CX X Y G) {host : String} {a : Nat} {As : List Value} (hM : CT (zl X) y b L none rm G (.ref a :: As) wc Qf) (hcode : Cond.code y b L none ∈ lw_all) (hini : Cond.initialized y.cls ∈ lw_all) (hinst : Cond.instanceMethod y ∈ lw_all) (hl0 : va_Nw (.methodLinkNest (zow Y) idx y host) (zs X)) (hs : SB ws wc) (hd : y.name = "<init>" ∧ y.cls ≠ "java/lang/invoke/MethodHandle" ∧ y.cls ≠ "java/lang/invoke/VarHandle" ∧ (parseMethodDescriptor y.desc).map (fun d => d.parameters.length) = some na) (hna : As.length = na) (hR : zRoom Y rm L k n) (hst : st0 = As.reverse ++ .ref a :: rest) (hcat : (rest.map fun v => v.category).sum ≤ 8) (d : decode (zcc Y) pc = .ok (.invokespecial idx, 3)) : CR X Y G k n ws pc lv st0 rest rm.cells rm.slots wc Qf := by
  subst hna
  refine ⟨hs, fun H locs ls hP hD hS hl => ⟨_, va_runIN (As := As) (rest := rest) ⟨C.x, C.b, C.ml, C.own, C.ts⟩ (hM H.size) ⟨va_cnB As.length C.ts (lw_meth hcode) rfl rfl rfl hl0 (C.ts _ hini) hd.2 hR.1, hd.1, C.ts _ hinst⟩ ⟨zPc_blind, zPc_pre hs hP hD C.gk⟩ rfl rfl hl.1 hst (lv_room hcat) d hR.2⟩⟩
/-- a method of the superclass itself, by super -/
theorem z_runSU {na : Nat} (C : CX X Y G) {a q ci N : Nat} {Cn : String} {T : u_T} {fs : List Value} {As : List Value} (hM : CT (zl X) y b L r rm G (.ref a :: As) wc Qf) (hw : GoodIn lw_all (va_wsSU (zow Y) idx y (ws_ y b L r))) (he : ws[q]? = some (a, .inr (ci, fs))) (hc : CL[ci]? = some (Cn, T, N)) (hs : SB ws wc) (hd : y.name ≠ "<init>" ∧ (parseMethodDescriptor y.desc).map (fun d => d.parameters.length) = some na) (hna : As.length = na) (hR : zRoom Y rm L k n) (hst : st0 = As.reverse ++ .ref a :: rest) (hcat : (rest.map fun v => v.category).sum ≤ 8) (d : decode (zcc Y) pc = .ok (.invokespecial idx, 3)) : CR X Y G k n ws pc lv st0 rest rm.cells rm.slots wc Qf := by
  subst hna
  refine ⟨hs, fun H locs ls hP hD hS hl => ⟨_, va_runSU (As := As) (rest := rest) (C := Cn) (C.K.1 ci _ hc).2 ⟨C.x, C.b, C.ml, C.own, C.ts⟩ (hM H.size) (va_cwSU As.length C.ts hw rfl rfl rfl hd hR.1) ⟨zPc_blind, va_recv C.K hP hc he, zPc_pre hs hP hD C.gk⟩ rfl rfl hl.1 hst (lv_room hcat) d hR.2⟩⟩
/-- an inherited or overriding method; owner: the class that declares what the reference names -/
theorem z_runU {na : Nat} (C : CX X Y G) {a q ci N : Nat} {Cn owner : String} {x : MethodName} {T : u_T} {fs : List Value} {As : List Value} (hM : CT (zl X) y b L r rm G (.ref a :: As) wc Qf) (hcode : Cond.code y b L r ∈ lw_all) (hlink : (Cond.methodLink (zow Y) idx x).before (zar X) (zs X) = true) (hsame : (Cond.sameMethod x.cls owner x.name x.desc).before (zar X) (zs X) = true) (hdecl : va_Decl (zs X) ⟨owner, x.name, x.desc⟩) (hsel : (Cond.selects Cn x y).before (zar X) (zs X) = true) (hinst : Cond.instanceMethod y ∈ lw_all) (hini : Cond.initialized y.cls ∈ lw_all) (he : ws[q]? = some (a, .inr (ci, fs))) (hc : CL[ci]? = some (Cn, T, N)) (hs : SB ws wc) (hd : owner ≠ "java/lang/invoke/MethodHandle" ∧ owner ≠ "java/lang/invoke/VarHandle" ∧ (parseMethodDescriptor x.desc).map (fun d => d.parameters.length) = some na) (hna : As.length = na) (hR : zRoom Y rm L k n) (hst : st0 = As.reverse ++ .ref a :: rest) (hcat : (rest.map fun v => v.category).sum ≤ 8) (d : decode (zcc Y) pc = .ok (.invokevirtual idx, 3)) : CR X Y G k n ws pc lv st0 rest rm.cells rm.slots wc Qf := by
  subst hna
  have hG : GoodIn lw_all (ws_ y b L r) := lw_meth hcode
  have cw : va_CU (zR Y) (zs X) (zar X) (zow Y) Cn owner idx x y b L r (ws_ y b L r) rm rm.cells rm.slots As.length := by
    refine ⟨⟨rfl, rfl, hR.1.1, hR.1.2, pay_in C.ts hG, List.mem_cons_self⟩, C.ts _ hcode, C.ts _ hini, ⟨hd.1, hd.2.1⟩, fun sig h => ?_, hlink, hsame, hdecl, hsel, C.ts _ hinst⟩
    have h2 := hd.2.2
    rw [h] at h2
    exact (Option.some.inj h2).symm
  exact ⟨hs, fun H locs ls hP hD hS hl => ⟨_, va_runU (As := As) (rest := rest) ⟨C.x, C.b, C.ml, C.own, C.ts⟩ (hM H.size) cw ⟨zPc_blind, va_recv C.K hP hc he, zPc_pre hs hP hD C.gk⟩ rfl rfl hl.1 hst (lv_room hcat) d hR.2⟩⟩
variable {S : Type} {mc ms : Nat}
theorem z_i (C : CX X Y G) {post : Int32 → S → Prop} {wf ws' : S → va_W} (hr : CR X Y G k n ws pc lv st0 rest mc ms wc (Qi G wc post wf)) (hj : ∀ u, JN ws wc (wf u) (ws' u)) (z : ∀ (v : Int32) (u : S), post v u → Z X Y G (k + mc) (n + ms) (ws' u) (pc + 3) lv (.int v :: rest)) : Z X Y G k n ws pc lv st0 := by
  intro H locs ls hP hD hS hl
  obtain ⟨a, hrun⟩ := hr.2 H locs ls hP hD hS hl
  have hF := hr.1.free hD hS C.hA
  refine va_calli hrun hS (fun q _ h => hF q h) hF (fun v u t H1 locs1 ht hvm hp hB hz hk hS1 => ?_)
  obtain ⟨hP1, hD1⟩ := hB
  rw [ht] at hP1
  obtain ⟨a1, a2⟩ := hj u G H H1 _ hP hD hk hF hP1 hD1
  exact z v u hp H1 locs1 ls a1 a2 hS1 hl
theorem z_l (C : CX X Y G) {post : Int64 → S → Prop} {wf ws' : S → va_W} (hr : CR X Y G k n ws pc lv st0 rest mc ms wc (Ql G wc post wf)) (hj : ∀ u, JN ws wc (wf u) (ws' u)) (z : ∀ (v : Int64) (u : S), post v u → Z X Y G (k + mc) (n + ms) (ws' u) (pc + 3) lv (.long v :: rest)) : Z X Y G k n ws pc lv st0 := by
  intro H locs ls hP hD hS hl
  obtain ⟨a, hrun⟩ := hr.2 H locs ls hP hD hS hl
  have hF := hr.1.free hD hS C.hA
  refine va_calll hrun hS (fun q _ h => hF q h) hF (fun v u t H1 locs1 ht hvm hp hB hz hk hS1 => ?_)
  obtain ⟨hP1, hD1⟩ := hB
  rw [ht] at hP1
  obtain ⟨a1, a2⟩ := hj u G H H1 _ hP hD hk hF hP1 hD1
  exact z v u hp H1 locs1 ls a1 a2 hS1 hl
theorem z_v (C : CX X Y G) {post : S → Prop} {wf ws' : S → va_W} (hr : CR X Y G k n ws pc lv st0 rest mc ms wc (Qv G wc post wf)) (hj : ∀ u, JN ws wc (wf u) (ws' u)) (z : ∀ (u : S), post u → Z X Y G (k + mc) (n + ms) (ws' u) (pc + 3) lv rest) : Z X Y G k n ws pc lv st0 := by
  intro H locs ls hP hD hS hl
  obtain ⟨a, hrun⟩ := hr.2 H locs ls hP hD hS hl
  have hF := hr.1.free hD hS C.hA
  refine va_callv hrun hS (fun q _ h => hF q h) hF (fun u t H1 locs1 ht hvm hp hB hz hk hS1 => ?_)
  obtain ⟨hP1, hD1⟩ := hB
  rw [ht] at hP1
  obtain ⟨a1, a2⟩ := hj u G H H1 _ hP hD hk hF hP1 hD1
  exact z u hp H1 locs1 ls a1 a2 hS1 hl
theorem z_r (C : CX X Y G) {post : S → Prop} {wf ws' : S → Nat → va_W} (hr : CR X Y G k n ws pc lv st0 rest mc ms wc (Qr G wc post wf)) (hj : ∀ u a, JN ws wc (wf u a) (ws' u a)) (z : ∀ (u : S) (a : Nat), post u → Z X Y G (k + mc) (n + ms) (ws' u a) (pc + 3) lv (.ref a :: rest)) : Z X Y G k n ws pc lv st0 := by
  intro H locs ls hP hD hS hl
  obtain ⟨a, hrun⟩ := hr.2 H locs ls hP hD hS hl
  have hF := hr.1.free hD hS C.hA
  refine va_callr hrun hS (fun q _ h => hF q h) hF (fun u ra t H1 locs1 ht hvm hp hB hz hk hS1 => ?_)
  obtain ⟨hP1, hD1⟩ := hB
  rw [ht] at hP1
  obtain ⟨a1, a2⟩ := hj u ra G H H1 _ hP hD hk hF hP1 hD1
  exact z u ra hp H1 locs1 ls a1 a2 hS1 hl
theorem z_q (C : CX X Y G) {post : Option Nat → S → Prop} {wf ws' : S → va_W} (hr : CR X Y G k n ws pc lv st0 rest mc ms wc (Qq G wc post wf)) (hj : ∀ u, JN ws wc (wf u) (ws' u)) (z : ∀ (a : Option Nat) (u : S), post a u → Z X Y G (k + mc) (n + ms) (ws' u) (pc + 3) lv (va_rf a :: rest)) : Z X Y G k n ws pc lv st0 := by
  intro H locs ls hP hD hS hl
  obtain ⟨a, hrun⟩ := hr.2 H locs ls hP hD hS hl
  have hF := hr.1.free hD hS C.hA
  refine va_callq hrun hS (fun q _ h => hF q h) hF (fun ra u t H1 locs1 ht hvm hp hB hz hk hS1 => ?_)
  obtain ⟨hP1, hD1⟩ := hB
  rw [ht] at hP1
  obtain ⟨a1, a2⟩ := hj u G H H1 _ hP hD hk hF hP1 hD1
  exact z ra u hp H1 locs1 ls a1 a2 hS1 hl
end ZCALL
