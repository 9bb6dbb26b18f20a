/-! MORE RULES: worlds by another spelling, rooms, longs, super calls (also to a default method of an interface) -/
set_option maxRecDepth 100000
section MR
variable {X : ZE} {Y : ZY} {G : ZG} {k n : Nat} {ws : va_W} {pc : Nat} {lv : List (Nat × Value)} {st : List Value}
theorem z_wsEq {ws' : va_W} (h : ws = ws') (z : Z X Y G k n ws' pc lv st) : Z X Y G k n ws pc lv st := h ▸ z
theorem nb {a b : Nat} (h : a ≤ b) : Nat.ble a b = true := Nat.ble_eq_true_of_le h
theorem zrm {rm : Room} {L : Nat} (h1 : Nat.ble (rm.frames + 1) (zR Y).frames = true) (h2 : Nat.ble (8 + (L + 11) + rm.locals) (zR Y).locals = true) (h3 : Nat.ble (k + rm.cells) (zR Y).cells = true) (h4 : Nat.ble (n + rm.slots) (zR Y).slots = true) : zRoom Y rm L k n :=
  ⟨⟨Nat.le_of_ble_eq_true h1, Nat.le_of_ble_eq_true h2⟩, Nat.le_of_ble_eq_true h3, Nat.le_of_ble_eq_true h4⟩
theorem zL_toInt {a : Int} (h : -9223372036854775808 ≤ a ∧ a ≤ 9223372036854775807) : (zL a).toInt = a := by
  unfold zL
  rw [Int64.toInt_ofInt]
  show Int.bmod a 18446744073709551616 = a
  rw [Int.bmod_def]
  omega
theorem zL_add (a b : Int) : zL a + zL b = zL (a + b) := (Int64.ofInt_add a b).symm
theorem zL_sub (a b : Int) : zL a - zL b = zL (a - b) := (Int64.ofInt_sub a b).symm
theorem zL_mul (a b : Int) : zL a * zL b = zL (a * b) := (Int64.ofInt_mul a b).symm
theorem zL_lt {a b : Int} (ha : -9223372036854775808 ≤ a ∧ a ≤ 9223372036854775807) (hb : -9223372036854775808 ≤ b ∧ b ≤ 9223372036854775807) : zL a < zL b ↔ a < b := by
  rw [Int64.lt_iff_toInt_lt, zL_toInt ha, zL_toInt hb]
theorem zL_eq {a b : Int} (ha : -9223372036854775808 ≤ a ∧ a ≤ 9223372036854775807) (hb : -9223372036854775808 ≤ b ∧ b ≤ 9223372036854775807) : zL a = zL b ↔ a = b := by
  rw [← Int64.toInt_inj, zL_toInt ha, zL_toInt hb]
theorem zI_l {a : Int} (h : -2147483648 ≤ a ∧ a ≤ 2147483647) : (zI a).toInt64 = zL a := by
  apply Int64.toInt_inj.mp
  rw [Int32.toInt_toInt64, zI_toInt h, zL_toInt (by omega)]
theorem zL_i {a : Int} (h : -2147483648 ≤ a ∧ a ≤ 2147483647) : (zL a).toInt32 = zI a := by
  apply Int32.toInt_inj.mp
  rw [Int64.toInt_toInt32, zI_toInt h, zL_toInt (by omega)]
  show Int.bmod a 4294967296 = a
  rw [Int.bmod_def]
  omega
def lcmpZ (a b : Int) : Int := if b < a then 1 else if a = b then 0 else -1
theorem zL_cmp {a b : Int} (ha : -9223372036854775808 ≤ a ∧ a ≤ 9223372036854775807) (hb : -9223372036854775808 ≤ b ∧ b ≤ 9223372036854775807) : lg_cmp (zL a) (zL b) = zI (lcmpZ a b) := by
  unfold lg_cmp lcmpZ
  simp only [gt_iff_lt, zL_lt hb ha, zL_eq ha hb]
  split
  · rfl
  · split <;> rfl
theorem lcmpZ_r (a b : Int) : -1 ≤ lcmpZ a b ∧ lcmpZ a b ≤ 1 := by unfold lcmpZ; split <;> (try split) <;> omega
theorem lcmpZ_lt (a b : Int) : lcmpZ a b < 0 ↔ a < b := by unfold lcmpZ; split <;> (try split) <;> omega
theorem lcmpZ_gt (a b : Int) : 0 < lcmpZ a b ↔ b < a := by unfold lcmpZ; split <;> (try split) <;> omega
theorem lcmpZ_eq (a b : Int) : lcmpZ a b = 0 ↔ a = b := by unfold lcmpZ; split <;> (try split) <;> omega
theorem y_i2l (C : CX X Y G) {a : Int} (ha : -2147483648 ≤ a ∧ a ≤ 2147483647) (d : decode (zcc Y) pc = .ok (.i2l, 1)) (z : Z X Y G k n ws (pc + 1) lv (.long (zL a) :: st)) : Z X Y G k n ws pc lv (.int (zI a) :: st) := z_i2l C d (zI_l ha) z
theorem y_l2i (C : CX X Y G) {a : Int} (ha : -2147483648 ≤ a ∧ a ≤ 2147483647) (d : decode (zcc Y) pc = .ok (.l2i, 1)) (z : Z X Y G k n ws (pc + 1) lv (.int (zI a) :: st)) : Z X Y G k n ws pc lv (.long (zL a) :: st) := z_l2i C d (zL_i ha) z
theorem y_ladd (C : CX X Y G) {a b : Int} (d : decode (zcc Y) pc = .ok (.ladd, 1)) (z : Z X Y G k n ws (pc + 1) lv (.long (zL (a + b)) :: st)) : Z X Y G k n ws pc lv (.long (zL b) :: .long (zL a) :: st) := z_ladd C d (zL_add a b) z
theorem y_lsub (C : CX X Y G) {a b : Int} (d : decode (zcc Y) pc = .ok (.lsub, 1)) (z : Z X Y G k n ws (pc + 1) lv (.long (zL (a - b)) :: st)) : Z X Y G k n ws pc lv (.long (zL b) :: .long (zL a) :: st) := z_lsub C d (zL_sub a b) z
theorem y_lmul (C : CX X Y G) {a b : Int} (d : decode (zcc Y) pc = .ok (.lmul, 1)) (z : Z X Y G k n ws (pc + 1) lv (.long (zL (a * b)) :: st)) : Z X Y G k n ws pc lv (.long (zL b) :: .long (zL a) :: st) := z_lmul C d (zL_mul a b) z
theorem y_lcmp (C : CX X Y G) {a b : Int} (ha : -9223372036854775808 ≤ a ∧ a ≤ 9223372036854775807) (hb : -9223372036854775808 ≤ b ∧ b ≤ 9223372036854775807) (d : decode (zcc Y) pc = .ok (.lcmp, 1)) (z : Z X Y G k n ws (pc + 1) lv (.int (zI (lcmpZ a b)) :: st)) : Z X Y G k n ws pc lv (.long (zL b) :: .long (zL a) :: st) := z_lcmp C d (zL_cmp ha hb) z
end MR
theorem lw_SU {own : String} {idx : Nat} {y : MethodName} {b : ByteArray} {L : Nat} {r : Option FieldType} (h1 : Cond.methodLink own idx y ∈ lw_all) (h2 : Cond.sameMethod y.cls y.cls y.name y.desc ∈ lw_all) (h3 : Cond.superclass own y.cls ∈ lw_all) (h4 : Cond.instanceMethod y ∈ lw_all) (h5 : Cond.initialized y.cls ∈ lw_all) (h6 : Cond.code y b L r ∈ lw_all) : GoodIn lw_all (va_wsSU own idx y (ws_ y b L r)) := by
  refine lw_app ?_ (lw_meth h6)
  intro w hw
  simp only [List.mem_cons, List.not_mem_nil, or_false] at hw
  rcases hw with e | e | e | e | e
  · rw [e]; exact h1
  · rw [e]; exact h2
  · rw [e]; exact h3
  · rw [e]; exact h4
  · rw [e]; exact h5
/-! super calls whose method stands higher up, or is an interface's default -/
theorem zpig : ∀ (n : Nat) (g : Nat → Nat), (∀ i, i ≤ n → g i < n) → ∃ i j, i < j ∧ j ≤ n ∧ g i = g j := by
  intro n
  induction n with
  | zero => intro g h; exact absurd (h 0 (Nat.le_refl 0)) (by omega)
  | succ n ih =>
    intro g h
    by_cases hx : ∃ i, i ≤ n ∧ g i = g (n + 1)
    · obtain ⟨i, h1, h2⟩ := hx
      exact ⟨i, n + 1, by omega, Nat.le_refl _, h2⟩
    · have hno : ∀ i, i ≤ n → g i ≠ g (n + 1) := fun i hi e => hx ⟨i, hi, e⟩
      obtain ⟨i, j, h1, h2, h3⟩ := ih (fun i => if g i = n then g (n + 1) else g i) (fun i hi => by
        have a1 := h i (by omega)
        have a2 := h (n + 1) (Nat.le_refl _)
        have a3 := hno i hi
        show (if g i = n then g (n + 1) else g i) < n
        split <;> omega)
      refine ⟨i, j, h1, by omega, ?_⟩
      have b1 := hno i (by omega)
      have b2 := hno j (by omega)
      have h3 : (if g i = n then g (n + 1) else g i) = (if g j = n then g (n + 1) else g j) := h3
      split at h3 <;> split at h3 <;> omega
def zit (vm : Vm) : Nat → ClassId → Option ClassId
  | 0, c => some c
  | n + 1, c => (vm.classes[c]?.bind (·.super)).bind (zit vm n)
theorem zit_add (vm : Vm) (i j : Nat) (c : ClassId) : zit vm (i + j) c = (zit vm i c).bind (zit vm j) := by
  induction i generalizing c with
  | zero => rw [Nat.zero_add]; rfl
  | succ i ih =>
    rw [Nat.succ_add]
    show (vm.classes[c]?.bind (·.super)).bind (zit vm (i + j)) = ((vm.classes[c]?.bind (·.super)).bind (zit vm i)).bind (zit vm j)
    cases vm.classes[c]?.bind (·.super) with
    | none => rfl
    | some q => exact ih q
theorem zit_lt (vm : Vm) {i n : Nat} {c : ClassId} (h : (zit vm n c).isSome) (hi : i < n) : ∃ a, zit vm i c = some a ∧ a < vm.classes.size := by
  obtain ⟨m, rfl⟩ : ∃ m, n = i + (m + 1) := ⟨n - i - 1, by omega⟩
  rw [zit_add] at h
  cases ha : zit vm i c with
  | none => rw [ha] at h; cases h
  | some a =>
    rw [ha] at h
    refine ⟨a, rfl, ?_⟩
    have h1 : ((vm.classes[a]?.bind (·.super)).bind (zit vm m)).isSome := h
    cases hk : vm.classes[a]? with
    | none => rw [hk] at h1; cases h1
    | some k => exact (Array.getElem?_eq_some_iff.mp hk).1
/-- what stands on the chain stands there early -/
theorem zit_early (vm : Vm) {c q : ClassId} (h : zit vm (vm.classes.size + 1) c = some q) : ∃ i, i ≤ vm.classes.size ∧ zit vm i c = some q := by
  have hs : (zit vm (vm.classes.size + 1) c).isSome := by rw [h]; rfl
  obtain ⟨i, j, h1, h2, h3⟩ := zpig vm.classes.size (fun i => (zit vm i c).getD 0) (fun i hi => by
    obtain ⟨a, ha, hl⟩ := zit_lt vm hs (show i < vm.classes.size + 1 by omega)
    show (zit vm i c).getD 0 < _
    rw [ha]
    exact hl)
  obtain ⟨a, ha, -⟩ := zit_lt vm hs (show i < vm.classes.size + 1 by omega)
  obtain ⟨b, hb, -⟩ := zit_lt vm hs (show j < vm.classes.size + 1 by omega)
  simp only [ha, hb, Option.getD_some] at h3
  subst h3
  refine ⟨i + (vm.classes.size + 1 - j), by omega, ?_⟩
  rw [zit_add, ha]
  have h4 : zit vm (j + (vm.classes.size + 1 - j)) c = some q := by rw [show j + (vm.classes.size + 1 - j) = vm.classes.size + 1 by omega]; exact h
  rw [zit_add, hb] at h4
  exact h4
theorem zlook_none (vm : Vm) (name desc : String) : ∀ (n : Nat) (c : ClassId), lookupInSuperclasses vm name desc n c = none → ∀ i, i < n → ∀ q, zit vm i c = some q → ownMethod vm name desc q = none := by
  intro n
  induction n with
  | zero => intro c h i hi; omega
  | succ n ih =>
    intro c h i hi q hq
    unfold lookupInSuperclasses at h
    cases hk : vm.classes[c]? with
    | none =>
      cases i with
      | zero => cases hq; simp [ownMethod, hk]
      | succ i => simp [zit, hk] at hq
    | some k =>
      simp only [hk, Option.bind_eq_bind, Option.bind_some] at h
      cases hf : k.findMethod name desc with
      | some j => rw [hf] at h; cases h
      | none =>
        rw [hf] at h
        cases i with
        | zero => cases hq; simp [ownMethod, hk, hf]
        | succ i =>
          cases hs : k.super with
          | none => simp [zit, hk, hs] at hq
          | some p =>
            rw [hs] at h
            simp only [zit, hk, hs, Option.bind_some] at hq
            exact ih p h i (by omega) q hq
theorem zsup_mem (vm : Vm) : ∀ (n : Nat) (c q : ClassId), q ∈ vm.superclassesAux n c → ∃ i, i ≤ n ∧ zit vm i c = some q := by
  intro n
  induction n with
  | zero => intro c q h; simp [Vm.superclassesAux] at h
  | succ n ih =>
    intro c q h
    unfold Vm.superclassesAux at h
    cases hp : vm.classes[c]?.bind (·.super) with
    | none => rw [hp] at h; cases h
    | some p =>
      rw [hp] at h
      rcases List.mem_cons.mp h with e | e
      · exact ⟨1, by omega, by rw [e]; show (vm.classes[c]?.bind (·.super)).bind (zit vm 0) = _; rw [hp]; rfl⟩
      · obtain ⟨i, h1, h2⟩ := ih p q e
        exact ⟨i + 1, by omega, by show (vm.classes[c]?.bind (·.super)).bind (zit vm i) = _; rw [hp]; exact h2⟩
theorem zchain_nil {vm : Vm} {name desc : String} {c : ClassId} (h : lookupInSuperclasses vm name desc (vm.classes.size + 1) c = none) : ownMethod vm name desc c = none ∧ superclassMethods vm c name desc = [] := by
  have key : ∀ i, i ≤ vm.classes.size + 1 → ∀ q, zit vm i c = some q → ownMethod vm name desc q = none := by
    intro i hi q hq
    by_cases hl : i = vm.classes.size + 1
    · subst hl
      obtain ⟨j, h1, h2⟩ := zit_early vm hq
      exact zlook_none vm name desc _ c h j (by omega) q h2
    · exact zlook_none vm name desc _ c h i (by omega) q hq
  refine ⟨key 0 (by omega) c rfl, ?_⟩
  unfold superclassMethods Vm.superclasses
  apply List.filterMap_eq_nil_iff.mpr
  intro q hq
  obtain ⟨i, h1, h2⟩ := zsup_mem vm _ c q hq
  exact key i h1 q h2
theorem zsel_none (vm : Vm) (m : MethodId) (name desc : String) : ∀ (n : Nat) (c : ClassId), lookupInSuperclasses vm name desc n c = none → selectInSuperclasses vm m name desc n c = none := by
  intro n
  induction n with
  | zero => intro c h; rfl
  | succ n ih =>
    intro c h
    unfold lookupInSuperclasses at h
    unfold selectInSuperclasses
    cases hk : vm.classes[c]? with
    | none => rfl
    | some k =>
      simp only [hk, Option.bind_eq_bind, Option.bind_some] at h ⊢
      cases hf : k.findMethod name desc with
      | some j => rw [hf] at h; cases h
      | none =>
        rw [hf] at h
        simp only [Option.bind_none]
        cases hs : k.super with
        | none => rfl
        | some p =>
          rw [hs] at h
          simp only [Option.bind_some] at h ⊢
          rw [ih p h]
          rfl
theorem zspecial_default {vm : Vm} {c : ClassId} {k mk : Class} {m : MethodId} {r : Method} {name desc : String} (hk : vm.classes[c]? = some k) (hni : k.isInterface = false) (hup : vm.lookupUp c name desc = some m) (hm : vm.method? m = some r) (hst : r.isStatic = false) (hrn : r.name = name) (hrd : r.desc = desc) (hsel : selectMethod {} vm c m = .method m) (hmk : vm.classes[m.cls]? = some mk) (hmi : mk.isInterface = true) : lookupSpecial vm c name desc = .method m := by
  cases hl : lookupInSuperclasses vm name desc (vm.classes.size + 1) c with
  | some x =>
    have : x = m := by simpa [Vm.lookupUp, hl] using hup
    subst this
    exact lookupSpecial_of_superclasses hk hni hl hm hst
  | none =>
    have hi : lookupInSuperinterfaces vm c name desc = some m := by simpa [Vm.lookupUp, hl] using hup
    obtain ⟨mm, h1, h2⟩ := mem_superinterfaceMethods (lookupInSuperinterfaces_mem hi)
    cases hm.symm.trans h1
    obtain ⟨e1, e2⟩ := zchain_nil hl
    have e3 := zsel_none vm m name desc _ c hl
    have hlist : (maximallySpecific vm c name desc).filter (fun m => (vm.method? m).any (!·.isAbstract)) = [m] := by
      unfold selectMethod at hsel
      simp only [hm, h2, hrn, hrd, hmk, hmi, Option.any_some, Bool.not_true, Bool.and_false, Bool.false_eq_true, if_false, e3] at hsel
      split at hsel
      · cases hsel
      · split at hsel
        · rename_i heq
          cases hsel
          exact heq
        · cases hsel
        · cases hsel
    unfold lookupSpecial
    have e1' : (vm.classes[c]?.bind (·.findMethod name desc)).map (fun i => (⟨c, i⟩ : MethodId)) = none := e1
    simp only [e1', e2, hlist, Option.toList_none, List.filter_nil, List.append_nil, List.find?_nil]
section SUD
variable {p : Program} {l : Launch} {e : Env} {R : Room} {s : State} {m : MethodId} {args : Array Value} {below : List Frame} {meth : Method} {c : Code} {T : State} {locs : List Loc} {cells slots : Nat}
/-- super.x(), where x is found above the superclass: in a class (hfound by lookupSpecial_of_declared) or as a default -/
theorem zspecialUp (X : Stand p l e R s m args below meth c T locs cells slots) (hexec : p.tables.exec = Jvm.exec)
    {own owner : String} {index : Nat} {x : MethodName} (hown : s.vm.findClass own = some m.cls) (hlink : (Cond.methodLink own index x).before args s = true)
    (hsame : (Cond.sameMethod x.cls owner x.name x.desc).before args s = true)
    {r0 : MethodId} {r : Method} (hn : s.methodNamed? ⟨owner, x.name, x.desc⟩ = some r0) (hrm : s.vm.method? r0 = some r) (hstatic : r.isStatic = false) (habs : r.isAbstract = false) (hnoinit : x.name ≠ "<init>")
    {dk : Class} {cn : ClassId} (hd : s.vm.classes[m.cls]? = some dk) (hnid : dk.isInterface = false) (hcn : s.vm.findClass x.cls = some cn) (hsuper : dk.super = some cn)
    (hfound0 : ∀ ck, s.vm.classes[cn]? = some ck → ck.isInterface = false → s.vm.lookupUp cn x.name x.desc = some r0 → lookupSpecial s.vm cn x.name x.desc = .method r0)
    {a : Addr} {cell : Cell} {kcell : Class} (hcell : T.heap[a]? = some cell) (hobj : ∀ c, cell.vm ≠ .statics c) (hkcell : s.vm.classes[cell.cls]? = some kcell)
    {g : JFrame} (hg : g.method = m) {argsL rest : List Value} (hlen : argsL.length = r.sig.parameters.length) (hstack : g.stack = argsL.reverse ++ .ref a :: rest)
    (hdg : decode c.code g.pc = .ok (.invokespecial index, 3)) :
    ∃ vm', Stand p l e R s m args below meth c (T.setVm vm') locs cells slots ∧
      ∀ target, Steps p.tables e below (doInvoke e ((T.setVm vm').setTop { g with stack := rest }) [] r0 (.ref a :: argsL).toArray).1 target → Steps p.tables e below (T.setTop g) target := by
  have hpl : e.platform.magicAccessors = ({} : Platform).magicAccessors := by rw [X.admits.platform]
  obtain ⟨cn', ck, r1, hcn', hck, hni, hf, hn1⟩ := Cond.sameMethod_found hsame
  cases hn.symm.trans hn1
  cases hcn.symm.trans hcn'
  obtain ⟨ci, hl, hright⟩ := Cond.methodLink_specUp hown hcn hck hni hf hlink e.platform hpl (by rw [X.admits.platform])
  obtain ⟨kr, hkr, -⟩ := className_of_methodNamed hn
  obtain ⟨hrn, hrd⟩ := name_of_methodNamed hn hrm
  obtain ⟨dk₀, cfile, nt, _, _, ck₀, _, _, hd₀, hcf, hcp, -, -, -, hc₀, -, hpoly, -⟩ := hl.here
  cases hd.symm.trans hd₀
  cases hck.symm.trans hc₀
  have hup : s.vm.lookupUp cn x.name x.desc = some r0 := ((State.methodFound?_class hcn hck hni hpoly r0).mp hf).1
  have hf0 : lookupSpecial s.vm cn x.name x.desc = .method r0 := hfound0 ck hck hni hup
  subst hg
  obtain ⟨vm', hW', st⟩ := Steps.invokeSuperColdArgs (tb := p.tables) (e := e) (s₀ := s) (U := T) (f := g) (args := argsL) (rest := rest) (a := a) (cell := cell) (m := r0) X.here hexec hdg X.warmed hl hright hd hcf hcp hrm hck
    (by rw [hrn]; simp [hnoinit]) hstatic (by rw [hrn, hrd, hsuper]; simpa using hf0) hnid hkr habs hlen hstack hcell hobj hkcell
  exact ⟨vm', X.noted hW', st⟩
end SUD
section ZSUP
variable {X : ZE} {Y : ZY} {G : ZG} {k n : Nat} {ws : va_W} {pc : Nat} {lv : List (Nat × Value)} {st0 rest : List Value} {wc : va_W} {Qf : QF}
variable {y : MethodName} {b : ByteArray} {L idx : Nat} {r : Option FieldType} {rm : Room}
/-- super.x() at own, the link by x (a method of the superclass), run: y, that stands in owner -/
theorem z_runUp {na : Nat} (C : CX X Y G) {a q ci N : Nat} {Cn owner : String} {x : MethodName} {T : u_T} {fs : List Value} {As : List Value} (hM : CT (zl X) y b L r rm G (.ref a :: As) wc Qf) (hy : y = ⟨owner, x.name, x.desc⟩) (hcode : Cond.code y b L r ∈ lw_all) (hini : Cond.initialized y.cls ∈ lw_all) (hinst : Cond.instanceMethod y ∈ lw_all) (hlink : (Cond.methodLink (zow Y) idx x).before (zar X) (zs X) = true) (hsame : (Cond.sameMethod x.cls owner x.name x.desc).before (zar X) (zs X) = true) (hsup : Cond.superclass (zow Y) x.cls ∈ lw_all)
    (hfound : ∀ cn ck r0 rr, (zs X).vm.findClass x.cls = some cn → (zs X).vm.classes[cn]? = some ck → ck.isInterface = false → (zs X).vm.lookupUp cn x.name x.desc = some r0 → (zs X).methodNamed? y = some r0 → (zs X).vm.method? r0 = some rr → rr.isStatic = false → lookupSpecial (zs X).vm cn x.name x.desc = .method r0)
    (he : ws[q]? = some (a, .inr (ci, fs))) (hc : CL[ci]? = some (Cn, T, N)) (hs : SB ws wc) (hd : x.name ≠ "<init>" ∧ (parseMethodDescriptor y.desc).map (fun d => d.parameters.length) = some na) (hna : As.length = na) (hR : zRoom Y rm L k n) (hst : st0 = As.reverse ++ .ref a :: rest) (hcat : (rest.map fun v => v.category).sum ≤ 8) (d : decode (zcc Y) pc = .ok (.invokespecial idx, 3)) : CR X Y G k n ws pc lv st0 rest rm.cells rm.slots wc Qf := by
  subst hna
  have hG : GoodIn lw_all (ws_ y b L r) := lw_meth hcode
  refine ⟨hs, fun H locs ls hP hD hS hl => ⟨(Value.ref a :: As).toArray, ?_⟩⟩
  obtain ⟨cell, hcell, hobj, hcls⟩ := va_recv C.K hP hc he
  obtain ⟨hfc, kB, hkB, -⟩ := (C.K.1 ci _ hc).2
  have hcB : (zD G).1 ci = cell.cls := Option.some.inj (hfc.symm.trans hcls)
  have hK : Back (zl X) (zR Y) X.1 X.2.2.1 (zbl X) (zs X) (zar X) y 3 8 (PreOf (zR Y) rm.cells rm.slots (zPc G (.ref a :: As) wc H.size)) (PostOf (Qf H.size) rm.cells rm.slots (va_A wc H.size)) := back_of (bytes := b) (maxL := L) (ret := r) (hM H.size) zPc_blind rfl rfl hR.1.1 hR.1.2 (pay_in C.ts hG) List.mem_cons_self (fun a' U hW => word_at hW (Or.inl (by first | rfl | simp [Cond.onTables, Cond.keeps, Cond.steady])) (C.ts _ hini))
  intro T' hT X'
  obtain ⟨mk, methM, hnamed, hmethM, hstM, habM⟩ := Cond.instanceMethod_spec (C.ts _ hinst)
  obtain ⟨methM', cM, hmethM', -, -, -, -, -, -, hsigM⟩ := Cond.code_spec hnamed (C.ts _ hcode)
  cases hmethM.symm.trans hmethM'
  obtain ⟨pS, kS, kp, g1, g2, g3, g4, g5, g6, g7⟩ := Cond.superclass_spec C.own (C.ts _ hsup)
  have hlen : As.length = methM.sig.parameters.length := by
    have h2 := hd.2
    rw [hsigM] at h2
    exact (Option.some.inj h2).symm
  obtain ⟨vm₁, X₁, hstep₁⟩ := zspecialUp X' C.x C.own hlink hsame (r0 := mk) (r := methM) (by rw [← hy]; exact hnamed) hmethM hstM habM hd.1 g2 g7 g1 g4 (fun ck h1 h2 h3 => hfound pS ck mk methM g1 h1 h2 h3 hnamed hmethM hstM) (a := a) (cell := cell) (kcell := kB) (by rw [hT]; exact hcell) (fun z h => by rw [h] at hobj; cases hobj) (by rw [← hcB]; exact hkB) (g := F0 (zm X) pc ls st0) rfl (argsL := As) (rest := rest) hlen hst (by rw [C.b]; exact d)
  obtain ⟨v, B, X2, hpost, hsteps⟩ := hK (zm X) (zme X) (zc X) ⟨T'.setVm vm₁, locs, k, n⟩ { F0 (zm X) pc ls st0 with stack := rest } (.invokespecial idx) mk (Value.ref a :: As).toArray X₁ rfl (hl.1.trans C.ml.symm) (by rw [C.b]; exact d) (lv_room hcat) (X₁.named hnamed) ⟨hR.2.1, hR.2.2, zPc_pre hs hP hD C.gk (T'.setVm vm₁) hT X₁.warmed⟩
  obtain ⟨g', mk', t, L', e1, e2, hq, h1, hL, h2, h3⟩ := hpost
  obtain ⟨U', l2, c2, s2⟩ := B
  dsimp only [Pt.U, Pt.locs, Pt.cells, Pt.slots] at X2 e1 e2 h1 h2 h3 hsteps
  subst h1; subst h2; subst h3
  exact ⟨v, (T'.setVm vm₁).calling g' mk' (Value.ref a :: As).toArray, t, U', L', hT, X2, hL, e1, e2, hq, fun target h => hstep₁ _ (by rw [doInvoke_state]; exact hsteps.trans h)⟩
end ZSUP
