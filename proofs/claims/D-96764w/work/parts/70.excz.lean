/-! EXCEPTIONS over Z -/
set_option maxRecDepth 100000
/-- a word that stays under warmer tables -/
def xgood (w : Cond) : Bool := goodWord w || (w.onTables && w.keepsFace)
def XW (w : Cond) : Prop := w ∈ lw_tbl ∧ xgood w = true
theorem xw_in (ws : List Cond) (ps : List Nat) (hp : ws = ps.filterMap (fun i => lw_tbl[i]?)) (hg : ws.all xgood = true) : ∀ w ∈ ws, XW w := by
  intro w h
  have h1 := List.all_eq_true.mp hg w h
  rw [hp] at h
  obtain ⟨i, -, hi⟩ := List.mem_filterMap.mp h
  exact ⟨List.mem_of_getElem? hi, h1⟩
theorem XW.ot {w : Cond} (h : XW w) : vx_ot w = true := by
  have h2 := h.2
  simp only [xgood, vx_ot, Bool.or_eq_true, Bool.and_eq_true] at h2 ⊢
  rcases h2 with h2 | h2
  · exact Or.inr h2
  · exact Or.inl h2.1
/-- pairs that are not castable -/
def ncl : List (String × String) := [("HiredByLonging$Broken", "java/lang/ClassCastException"), ("java/lang/ArrayIndexOutOfBoundsException", "java/lang/ClassCastException"), ("java/lang/ClassCastException", "java/lang/NullPointerException"), ("java/lang/ArrayIndexOutOfBoundsException", "java/lang/NullPointerException"), ("java/lang/NullPointerException", "HiredByLonging$Tossed"), ("java/lang/ClassCastException", "HiredByLonging$Tossed"), ("java/lang/IllegalStateException", "java/lang/IllegalArgumentException")]
/-- what the tables say beside GK, for whoever throws -/
def HX (U : State) : Prop := (∀ w, XW w → w.before #[] U = true) ∧ modulesRight_1 U = true ∧ ∀ q ∈ ncl, va_Nc q.1 q.2 U
theorem HX.warm {s U : State} (hW : s.WarmedH U.vm) (h : HX s) : HX U := by
  obtain ⟨h1, h2, h3⟩ := h
  refine ⟨fun w hw => ?_, ?_, fun q hq => (h3 q hq).moved hW.alike⟩
  · have h9 := h1 w hw
    have h8 := hw.2
    simp only [xgood, Bool.or_eq_true, Bool.and_eq_true] at h8
    rcases h8 with h8 | h8
    · exact word_at hW (good_of_word h8) h9
    · exact va_tabs h8.1 (rfl : (s.setVm U.vm).vm = U.vm) (Cond.before_shiftedFace (State.Shifted.of_warmed hW) w h8.2 h9)
  · have h9 : U.vm.modules = s.vm.modules := by
      have := hW.alike.1
      rw [this]
    unfold modulesRight_1 at h2 ⊢
    rw [h9]
    exact h2
theorem HX.same {s U : State} (hv : s.vm = U.vm) (h : HX s) : HX U := h.warm (by rw [← hv]; exact State.WarmedH.refl s)
theorem HX.use {U : State} (h : HX U) {w : Cond} (hw : XW w) (hg : w.onTables = true) {A : Array Value} : w.before A U = true := va_tabs hg rfl (h.1 w hw)
theorem HX.words {U : State} (h : HX U) {L : List Cond} (hL : ∀ w ∈ L, XW w) {A : Array Value} : ∀ w ∈ L, w.before A U = true := fun w hw => vx_ot_at (State.WarmedH.refl U) rfl (hL w hw).ot (h.1 w (hL w hw))
abbrev uZ (A : Nat → Prop) (U : State) (H : Heap) : Prop := vx_Zq Bundle.tN "UNASSIGNED_STACK" Bundle.steD A U H ∧ vx_Zq Bundle.tN "SUPPRESSED_SENTINEL" Bundle.listD A U H
def GX (wc : va_W) (sz : Nat) (U : State) : Prop := HX U ∧ uZ (va_A wc sz) U U.heap
def zPcX (G : ZG) (as : List Value) (wc : va_W) (sz : Nat) : Array Value → State → Prop := va_Pc as (fun U => U.heap.size = sz ∧ va_P (zD G) CL wc U.heap ∧ GK G U ∧ va_D (fun _ => True) wc ∧ GX wc sz U)
/-- what stays in a body that may throw -/
def CXX (X : ZE) (Y : ZY) : Prop := HX (zs X) ∧ uZ (zA Y) (zs X) (zs X).heap ∧ (zl X).stackTraces = false
abbrev XF : Type := Nat → String → Addr → State → State → Prop
def zBX {S : Type} (G : ZG) (pE : String → S → Prop) (wf : S → Nat → va_W) (A : Nat → Prop) : String → Addr → S → State → Prop := fun E q u t => pE E u ∧ va_P (zD G) CL (wf u q) t.heap ∧ va_D A (wf u q)
def Xx {S : Type} (G : ZG) (wc : va_W) (pE : String → S → Prop) (wf : S → Nat → va_W) : XF := fun sz => vx_X (fun _ => True) (zBX G pE wf (va_A wc sz)) (va_A wc sz)
/-- it throws nothing -/
def X0 : XF := fun _ _ _ _ _ => False
def CTX (l : Launch) (y : MethodName) (w : Cond) (rm : Room) (G : ZG) (as : List Value) (wc : va_W) (Qf : QF) (Xf : XF) : Prop := ∀ sz : Nat, vx_Met l y (w :: lw_all) rm (zPcX G as wc sz) (Qf sz) (Xf sz) rm.cells rm.slots (va_A wc sz)
def zEndX (X : ZE) (Y : ZY) (Qf : QF) (Xf : XF) : Prop := zQ X = vx_MQ (zbl X) (Qf (zs X).heap.size) (Xf (zs X).heap.size) (zar X) (zs X) (zR Y).cells (zR Y).slots (zA Y)
theorem at_cce : ∀ w ∈ vx_atM "java/lang/ClassCastException" ["java/lang/RuntimeException", "java/lang/Exception"], XW w := xw_in _ [62, 174, 113, 136, 139, 141, 175, 176, 106, 107, 105, 112, 137, 144, 168, 145, 169, 146, 170, 108, 110, 171, 103, 104, 143, 171, 94, 95, 96, 97, 162, 97, 98, 99, 100, 164, 100, 101, 102, 103, 166, 66, 177, 178, 179, 181, 180, 182, 65, 93, 160, 167, 118, 151, 153, 157, 149, 142, 172, 147] (by decide +kernel) (by decide +kernel)
theorem at_aio : ∀ w ∈ vx_atM "java/lang/ArrayIndexOutOfBoundsException" ["java/lang/IndexOutOfBoundsException", "java/lang/RuntimeException", "java/lang/Exception"], XW w := xw_in _ [62, 174, 113, 136, 139, 141, 175, 176, 106, 107, 105, 112, 137, 144, 168, 145, 169, 146, 170, 108, 110, 171, 103, 104, 143, 171, 943, 944, 945, 946, 958, 946, 947, 948, 97, 162, 97, 98, 99, 100, 164, 100, 101, 102, 103, 166, 66, 177, 178, 179, 181, 180, 182, 83, 942, 956, 959, 117, 951, 952, 954, 950, 142, 172, 949] (by decide +kernel) (by decide +kernel)
theorem at_nas : ∀ w ∈ vx_atM "java/lang/NegativeArraySizeException" ["java/lang/RuntimeException", "java/lang/Exception"], XW w := xw_in _ [62, 174, 113, 136, 139, 141, 175, 176, 106, 107, 105, 112, 137, 144, 168, 145, 169, 146, 170, 108, 110, 171, 103, 104, 143, 171, 924, 925, 926, 97, 162, 97, 98, 99, 100, 164, 100, 101, 102, 103, 166, 66, 177, 178, 179, 181, 180, 182, 81, 923, 934, 935, 121, 929, 930, 932, 928, 142, 172, 927] (by decide +kernel) (by decide +kernel)
theorem at_npe : ∀ w ∈ vx_atN 8, XW w := xw_in _ [62, 174, 113, 136, 139, 141, 175, 176, 106, 107, 105, 112, 137, 144, 168, 145, 169, 146, 170, 108, 110, 171, 133, 123, 124, 977, 979, 130, 131, 991, 971, 972, 973, 974, 161, 974, 975, 976, 272, 163, 272, 273, 274, 175, 165, 84, 128, 989, 990, 122, 985, 986, 988, 142, 172, 983] (by decide +kernel) (by decide +kernel)
theorem at_iae : ∀ w ∈ Cond.classLink "HiredByLonging" 316 "java/lang/IllegalArgumentException" :: Cond.initialized "java/lang/IllegalArgumentException" :: vx_at0 "HiredByLonging" 318 "java/lang/IllegalArgumentException" ["java/lang/RuntimeException", "java/lang/Exception"], XW w := xw_in _ [1051, 85, 62, 174, 113, 136, 139, 141, 175, 176, 106, 107, 105, 112, 137, 144, 168, 145, 169, 146, 170, 108, 110, 171, 1061, 1062, 1063, 974, 161, 974, 975, 976, 272, 163, 272, 273, 274, 175, 165, 1060, 1052, 1053, 1054, 119, 1055, 1056, 1057, 1058, 142, 172, 1059] (by decide +kernel) (by decide +kernel)
theorem at_ise : ∀ w ∈ Cond.classLink "HiredByLonging" 321 "java/lang/IllegalStateException" :: Cond.initialized "java/lang/IllegalStateException" :: vx_at0 "HiredByLonging" 323 "java/lang/IllegalStateException" ["java/lang/RuntimeException", "java/lang/Exception"], XW w := xw_in _ [1066, 86, 62, 174, 113, 136, 139, 141, 175, 176, 106, 107, 105, 112, 137, 144, 168, 145, 169, 146, 170, 108, 110, 171, 1076, 1077, 1078, 974, 161, 974, 975, 976, 272, 163, 272, 273, 274, 175, 165, 1075, 1067, 1068, 1069, 120, 1070, 1071, 1072, 1073, 142, 172, 1074] (by decide +kernel) (by decide +kernel)
