/-! WHAT THE MACHINE THROWS, over Z -/
set_option maxRecDepth 100000
section CAST
theorem dotted_len (s : String) : (dotted s).toList.length = s.toList.length := by
  unfold dotted turned
  rw [String.toList_ofList, List.length_map]
def ModsOk (vm : Vm) : Prop := ∀ m ∈ vm.modules, m.loader.isSome = true ∨ m.name = "java.base" ∨ m.packages.contains "" = false
theorem mods_ok {s : State} (h : modulesRight_1 s = true) : ModsOk s.vm := by
  intro m hm
  have h1 := List.all_eq_true.mp h m hm
  simp only [castPackages_1, Bool.or_eq_true, beq_iff_eq, Bool.not_eq_true', List.any_cons, Bool.or_eq_false_iff] at h1
  rcases h1 with (h1 | h1) | h1
  · exact Or.inl h1
  · exact Or.inr (Or.inl h1)
  · exact Or.inr (Or.inr h1.1)
theorem home_len {vm : Vm} {k : Class} (hm : ModsOk vm) (hl : k.loader = none) (hp : packageOf k.name = "") : (vm.home k).toList.length ≤ 38 := by
  unfold Vm.home
  rw [hl]
  have e2 : (vm.loaderName none).toList.length = 11 := (by decide : ("'bootstrap'").toList.length = 11)
  have e3 : (" of loader ").toList.length = 11 := by decide
  cases h : vm.moduleOf k with
  | none =>
    have e1 : ("unnamed module").toList.length = 14 := by decide
    simp only [String.toList_append, List.length_append]
    omega
  | some m =>
    have hn : m.name = "java.base" := by
      unfold Vm.moduleOf at h
      split at h
      · have := List.find?_some h
        simpa using this
      · have h1 := List.find?_some h
        have h2 := List.mem_of_find?_eq_some h
        simp only [Bool.and_eq_true, beq_iff_eq, hl, hp] at h1
        rcases hm m h2 with h3 | h3 | h3
        · rw [h1.1] at h3; cases h3
        · exact h3
        · rw [h1.2] at h3; cases h3
    have e1 : ("module " ++ "java.base").toList.length = 16 := by decide
    simp only [hn]
    simp only [String.toList_append, List.length_append] at e1 ⊢
    omega
theorem found_own {vm : Vm} {name : String} {c : ClassId} (h : vm.findClass name = some c) : ∃ k, vm.classes[c]? = some k ∧ k.name = name ∧ k.hidden = none ∧ k.loader = none := by
  obtain ⟨hlt, hp, _⟩ := Array.findIdx?_eq_some_iff_getElem.mp h
  refine ⟨vm.classes[c], by simp [hlt], ?_⟩
  simp only [Bool.and_eq_true, beq_iff_eq, Option.isNone_iff_eq_none] at hp
  exact ⟨hp.1.1.1, hp.1.1.2, hp.2⟩
theorem shown_len {k : Class} (h : k.hidden = none) : k.shown.toList.length = k.name.toList.length := by
  unfold Class.shown
  rw [h]
  exact dotted_len _
theorem homes_len {vm : Vm} {a b : Class} (hm : ModsOk vm) (ha : a.hidden = none ∧ a.loader = none ∧ packageOf a.name = "") (hb : b.hidden = none ∧ b.loader = none ∧ packageOf b.name = "") (la : a.name.toList.length ≤ 24) (lb : b.name.toList.length ≤ 24) : (vm.homes a b).toList.length ≤ 150 := by
  have h1 := home_len hm ha.2.1 ha.2.2
  have h2 := home_len hm hb.2.1 hb.2.2
  have h3 := shown_len ha.1
  have h4 := shown_len hb.1
  unfold Vm.homes
  split
  · show (toString a.shown ++ toString " and " ++ toString b.shown ++ toString " are in " ++ toString (vm.home a)).toList.length ≤ 150
    have a1 : (toString " and ").toList.length = 5 := by decide
    have a2 : (toString " are in ").toList.length = 8 := by decide
    simp only [String.toList_append, List.length_append]
    show a.shown.toList.length + _ + b.shown.toList.length + _ + (vm.home a).toList.length ≤ 150
    omega
  · show (toString a.shown ++ toString " is in " ++ toString (vm.home a) ++ toString "; " ++ toString b.shown ++ toString " is in " ++ toString (vm.home b)).toList.length ≤ 150
    have a1 : (toString " is in ").toList.length = 7 := by decide
    have a2 : (toString "; ").toList.length = 2 := by decide
    simp only [String.toList_append, List.length_append]
    show a.shown.toList.length + _ + (vm.home a).toList.length + _ + b.shown.toList.length + _ + (vm.home b).toList.length ≤ 150
    omega
theorem cast_text {vm : Vm} {a b : Class} (hm : ModsOk vm) (ha : a.hidden = none ∧ a.loader = none ∧ packageOf a.name = "") (hb : b.hidden = none ∧ b.loader = none ∧ packageOf b.name = "") (la : a.name.toList.length ≤ 24) (lb : b.name.toList.length ≤ 24) :
    (Op.checkcast.message vm a b == notModelled) = false ∧ (stringBytes (stringToUtf16 (Op.checkcast.message vm a b))).size ≤ 1000 := by
  have h5 := homes_len hm ha hb la lb
  have h3 := shown_len ha.1
  have h4 := shown_len hb.1
  have e : (Op.checkcast.message vm a b).toList = 'c' :: ("lass ".toList ++ a.shown.toList ++ " cannot be cast to class ".toList ++ b.shown.toList ++ " (".toList ++ (vm.homes a b).toList ++ ")".toList) := by
    show (toString "class " ++ toString a.shown ++ toString " cannot be cast to class " ++ toString b.shown ++ toString " (" ++ toString (vm.homes a b) ++ toString ")").toList = _
    simp only [String.toList_append]
    rfl
  constructor
  · rw [beq_eq_false_iff_ne]
    intro h
    have h2 := congrArg String.toList h
    rw [e] at h2
    have h9 : notModelled.toList = '\u0000' :: " a message that is not modelled".toList := by decide
    rw [h9] at h2
    simp at h2
  · have b1 := stringBytes_size_le (stringToUtf16 (Op.checkcast.message vm a b))
    have b2 := utf16_size_le (Op.checkcast.message vm a b)
    have a1 : ("lass ").toList.length = 5 := by decide
    have a2 : (" cannot be cast to class ").toList.length = 25 := by decide
    have a3 : (" (").toList.length = 2 := by decide
    have a4 : (")").toList.length = 1 := by decide
    have b3 : (Op.checkcast.message vm a b).toList.length ≤ 250 := by
      rw [e]
      simp only [List.length_cons, List.length_append]
      omega
    omega
/-- names of the classes that are cast here: no package, short -/
def CastNm (n : String) : Prop := packageOf n = "" ∧ n.toList.length ≤ 24
theorem vx_castNo {p : Program} {l : Launch} {e : Env} {R : Room} {s : State} {m : MethodId} {args : Array Value} {below : List Frame} {meth : Method} {c : Code} {H : Heap} {locs : List Loc} {cells slots : Nat} {Q : State → Prop} {cc : ByteArray} {pc : Nat} {ls : Array Slot} {rest : List Value} (hexec : p.tables.exec = Jvm.exec) (hb : c.code = cc) {own nm Cn : String} {index : Nat} (hown : s.vm.findClass own = some m.cls) (hlink : (Cond.classLink own index nm).before args s = true) (hno : va_Nc Cn nm s) (hmod : ModsOk s.vm) (hn1 : CastNm Cn) (hn2 : CastNm nm) {a : Addr} {cell : Cell} (hcell : H[a]? = some cell) (hv : cell.vm.isStatics = false) (hcl : s.vm.findClass Cn = some cell.cls) (hdg : decode cc pc = .ok (.checkcast index, 3))
    (k : ∀ tx : String, (tx == notModelled) = false → (stringBytes (stringToUtf16 tx)).size ≤ 1000 → vx_Note p l e R s m args below meth c H locs cells slots Q (F0 m pc ls (.ref a :: rest)) "java/lang/ClassCastException" tx) : W p l e R s m args below meth c H locs cells slots Q (F0 m pc ls (.ref a :: rest)) := by
  intro T hT X
  have hpl : e.platform.magicAccessors = ({} : Platform).magicAccessors := by rw [X.admits.platform]
  obtain ⟨cT, hc', hcl'⟩ := Cond.classLink_spec hown hlink e.platform hpl
  obtain ⟨a8, b8, h1, h2, h3⟩ := hno
  cases Option.some.inj (h1.symm.trans hcl)
  cases Option.some.inj (h2.symm.trans hc')
  obtain ⟨dk, _, _, kt, hd, _, _, _, _, hkt, _, hopen⟩ := hcl'.here
  have hcl₀ := X.warmed.classLinks hcl'
  have hW' : s.WarmedH (T.vm.noted m.cls index (.cls cT)) := X.warmed.noted hd hopen (State.rightAt_cls hcl')
  obtain ⟨ks', hks', n1, d1, l1⟩ := found_own (vm := T.vm.noted m.cls index (.cls cT)) (name := Cn) (by rw [hW'.alike.findClass]; exact hcl)
  obtain ⟨kt', hkt', n2, d2, l2⟩ := found_own (vm := T.vm.noted m.cls index (.cls cT)) (name := nm) (by rw [hW'.alike.findClass]; exact hc')
  have hmod' : ModsOk (T.vm.noted m.cls index (.cls cT)) := by
    intro x hx
    refine hmod x ?_
    rw [hW'.alike.1] at hx
    exact hx
  obtain ⟨t1, t2⟩ := cast_text (vm := T.vm.noted m.cls index (.cls cT)) (a := ks') (b := kt') hmod' ⟨d1, l1, by rw [n1]; exact hn1.1⟩ ⟨d2, l2, by rw [n2]; exact hn2.1⟩ (by rw [n1]; exact hn1.2) (by rw [n2]; exact hn2.2)
  obtain ⟨t, st, q⟩ := k _ t1 t2 (T.setVm (T.vm.noted m.cls index (.cls cT))) hT (X.noted hW')
  refine ⟨t, ?_, q⟩
  have hdg' : decode c.code pc = .ok (.checkcast index, 3) := by rw [hb]; exact hdg
  jvm_step X.here [hexec, hdg', checkcast.wp_cold (e := e) (s := T) (f := F0 m pc ls (.ref a :: rest)) X.here.top rfl (resolveClass_links e.toSetting hcl₀) hcl₀.ready,
    checkcast.wp_ready (e := e) (s := T.setVm (T.vm.noted m.cls index (.cls cT))) (f := F0 m pc ls (.ref a :: rest)) X.here.top hcl₀.ready rfl]
  refine ⟨cell, (by show T.heap[a]? = _; rw [hT]; exact hcell), (fun z hz => by rw [hz] at hv; cases hv), ks', hks', kt', hkt', ?_⟩
  rw [if_neg (by rw [hW'.alike.assignable, h3]; exact Bool.false_ne_true)]
  exact st
end CAST
