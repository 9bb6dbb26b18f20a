theorem q178 : (Jvm.Cond.arrayClass Jvm.ClassFile.FieldType.byte) ∈ lw_all := lw_g (lw_at lw_m1 121 rfl) rfl
set_option maxRecDepth 100000
theorem q245 : (Jvm.Cond.arrayClass Jvm.ClassFile.FieldType.int) ∈ lw_all := lw_g (lw_at lw_m1 188 rfl) rfl
theorem q836 : (Jvm.Cond.arrayOver (Jvm.ClassFile.FieldType.object "HiredByLonging$Horse")) ∈ lw_tbl := lw_at lw_m4 59 rfl
theorem q867 : (Jvm.Cond.arrayOver (Jvm.ClassFile.FieldType.object "HiredByLonging$Told")) ∈ lw_tbl := lw_at lw_m4 90 rfl
theorem q868 : (Jvm.Cond.arrayOver (Jvm.ClassFile.FieldType.object "HiredByLonging$Land")) ∈ lw_tbl := lw_at lw_m4 91 rfl
theorem q870 : (Jvm.Cond.arrayOver (Jvm.ClassFile.FieldType.object "HiredByLonging$Shelf")) ∈ lw_tbl := lw_at lw_m4 93 rfl
theorem q936 : (Jvm.Cond.arrayClass Jvm.ClassFile.FieldType.short) ∈ lw_all := lw_g (lw_at lw_m4 159 rfl) rfl
theorem q1193 : (Jvm.Cond.arrayClass Jvm.ClassFile.FieldType.long) ∈ lw_all := lw_g (lw_at lw_m5 176 rfl) rfl
theorem q70 : (Jvm.Cond.initialized "java/lang/System") ∈ lw_all := lw_g (lw_at lw_m1 13 rfl) rfl
set_option maxRecDepth 100000
theorem q290 : (Jvm.Cond.static ({ cls := "java/lang/System", name := "arraycopy", desc := "(Ljava/lang/Object;ILjava/lang/Object;II)V" } : Jvm.MethodName)) ∈ lw_all := lw_g (lw_at lw_m1 233 rfl) rfl
theorem q291 : (Jvm.Cond.native ({ cls := "java/lang/System", name := "arraycopy", desc := "(Ljava/lang/Object;ILjava/lang/Object;II)V" } : Jvm.MethodName)) ∈ lw_all := lw_g (lw_at lw_m1 234 rfl) rfl
/-! java/lang/Throwable -/
set_option maxRecDepth 100000
def RJ0 : String := "java/lang/Throwable"
def TJ0 : u_T := fun k => match k with
  | 0 => ("java/lang/Throwable", "cause", "Ljava/lang/Throwable;", false)
  | 1 => ("java/lang/Throwable", "stackTrace", "[Ljava/lang/StackTraceElement;", false)
  | 2 => ("java/lang/Throwable", "suppressedExceptions", "Ljava/util/List;", false)
  | 3 => ("java/lang/Throwable", "detailMessage", "Ljava/lang/String;", false)
  | _ => ("java/lang/Throwable", "backtrace", "Ljava/lang/Object;", false)
def tyJ0 : Nat → FieldType := fun k => match k with
  | 0 => .object "java/lang/Throwable"
  | 1 => .array (.object "java/lang/StackTraceElement")
  | 2 => .object "java/util/List"
  | 3 => .object "java/lang/String"
  | _ => .object "java/lang/Object"
abbrev wsJ00 : List Cond := u_ws RJ0 TJ0 5
theorem nmJ0 : ∀ a, a < 5 → ∀ b, b < 5 → a ≠ b → (TJ0 a).2.1 ≠ (TJ0 b).2.1 := by decide +kernel
theorem tyJ0_ok : ∀ k, k < 5 → parseFieldDescriptor (TJ0 k).2.2.1 = some (tyJ0 k) := by decide +kernel
abbrev cJ0_init : ByteArray := prog_35_method_2_code
def yJ0_init : MethodName := ⟨RJ0, "<init>", "(Ljava/lang/String;)V"⟩
def dkwJ0_init_1 : List UInt8 := [182, 0, 27, 87, 42, 43, 181, 0, 31, 177]
abbrev dktJ0_init_1 : List UInt8 := dkwJ0_init_1 ++ []
def dkwJ0_init_0 : List UInt8 := [42, 183, 0, 1, 42, 42, 181, 0, 7, 42, 178, 0, 13, 181, 0, 17, 42, 178, 0, 20, 181, 0, 24, 42]
abbrev dktJ0_init_0 : List UInt8 := dkwJ0_init_0 ++ dktJ0_init_1
theorem dksJ0_init_0 : cJ0_init.data.toList.drop 0 = dktJ0_init_0 := by decide +kernel
theorem dksJ0_init_1 : cJ0_init.data.toList.drop 24 = dktJ0_init_1 := dk_seg dksJ0_init_0 24 rfl rfl
theorem dJ0_init_0 : decode cJ0_init 0 = .ok (.aload_n 0, 1) := dk_42 (dk_at dksJ0_init_0 0 rfl rfl)
theorem dJ0_init_1 : decode cJ0_init 1 = .ok (.invokespecial 1, 3) := dk_183 0 1 (dk_at dksJ0_init_0 1 rfl rfl)
theorem dJ0_init_4 : decode cJ0_init 4 = .ok (.aload_n 0, 1) := dk_42 (dk_at dksJ0_init_0 4 rfl rfl)
theorem dJ0_init_5 : decode cJ0_init 5 = .ok (.aload_n 0, 1) := dk_42 (dk_at dksJ0_init_0 5 rfl rfl)
theorem dJ0_init_6 : decode cJ0_init 6 = .ok (.putfield 7, 3) := dk_181 0 7 (dk_at dksJ0_init_0 6 rfl rfl)
theorem dJ0_init_9 : decode cJ0_init 9 = .ok (.aload_n 0, 1) := dk_42 (dk_at dksJ0_init_0 9 rfl rfl)
theorem dJ0_init_10 : decode cJ0_init 10 = .ok (.getstatic 13, 3) := dk_178 0 13 (dk_at dksJ0_init_0 10 rfl rfl)
theorem dJ0_init_13 : decode cJ0_init 13 = .ok (.putfield 17, 3) := dk_181 0 17 (dk_at dksJ0_init_0 13 rfl rfl)
theorem dJ0_init_16 : decode cJ0_init 16 = .ok (.aload_n 0, 1) := dk_42 (dk_at dksJ0_init_0 16 rfl rfl)
theorem dJ0_init_17 : decode cJ0_init 17 = .ok (.getstatic 20, 3) := dk_178 0 20 (dk_at dksJ0_init_0 17 rfl rfl)
theorem dJ0_init_20 : decode cJ0_init 20 = .ok (.putfield 24, 3) := dk_181 0 24 (dk_at dksJ0_init_0 20 rfl rfl)
theorem dJ0_init_23 : decode cJ0_init 23 = .ok (.aload_n 0, 1) := dk_42 (dk_at dksJ0_init_0 23 rfl rfl)
theorem dJ0_init_24 : decode cJ0_init 24 = .ok (.invokevirtual 27, 3) := dk_182 0 27 (dk_at dksJ0_init_1 0 rfl rfl)
theorem dJ0_init_27 : decode cJ0_init 27 = .ok (.pop, 1) := dk_87 (dk_at dksJ0_init_1 3 rfl rfl)
theorem dJ0_init_28 : decode cJ0_init 28 = .ok (.aload_n 0, 1) := dk_42 (dk_at dksJ0_init_1 4 rfl rfl)
theorem dJ0_init_29 : decode cJ0_init 29 = .ok (.aload_n 1, 1) := dk_43 (dk_at dksJ0_init_1 5 rfl rfl)
theorem dJ0_init_30 : decode cJ0_init 30 = .ok (.putfield 31, 3) := dk_181 0 31 (dk_at dksJ0_init_1 6 rfl rfl)
theorem dJ0_init_33 : decode cJ0_init 33 = .ok (.return_, 1) := dk_177 (dk_at dksJ0_init_1 9 rfl rfl)
abbrev cJ0_init_2 : ByteArray := prog_35_method_1_code
def yJ0_init_2 : MethodName := ⟨RJ0, "<init>", "()V"⟩
def dkwJ0_init_2_1 : List UInt8 := [182, 0, 27, 87, 177]
abbrev dktJ0_init_2_1 : List UInt8 := dkwJ0_init_2_1 ++ []
def dkwJ0_init_2_0 : List UInt8 := [42, 183, 0, 1, 42, 42, 181, 0, 7, 42, 178, 0, 13, 181, 0, 17, 42, 178, 0, 20, 181, 0, 24, 42]
abbrev dktJ0_init_2_0 : List UInt8 := dkwJ0_init_2_0 ++ dktJ0_init_2_1
theorem dksJ0_init_2_0 : cJ0_init_2.data.toList.drop 0 = dktJ0_init_2_0 := by decide +kernel
theorem dksJ0_init_2_1 : cJ0_init_2.data.toList.drop 24 = dktJ0_init_2_1 := dk_seg dksJ0_init_2_0 24 rfl rfl
theorem dJ0_init_2_0 : decode cJ0_init_2 0 = .ok (.aload_n 0, 1) := dk_42 (dk_at dksJ0_init_2_0 0 rfl rfl)
theorem dJ0_init_2_1 : decode cJ0_init_2 1 = .ok (.invokespecial 1, 3) := dk_183 0 1 (dk_at dksJ0_init_2_0 1 rfl rfl)
theorem dJ0_init_2_4 : decode cJ0_init_2 4 = .ok (.aload_n 0, 1) := dk_42 (dk_at dksJ0_init_2_0 4 rfl rfl)
theorem dJ0_init_2_5 : decode cJ0_init_2 5 = .ok (.aload_n 0, 1) := dk_42 (dk_at dksJ0_init_2_0 5 rfl rfl)
theorem dJ0_init_2_6 : decode cJ0_init_2 6 = .ok (.putfield 7, 3) := dk_181 0 7 (dk_at dksJ0_init_2_0 6 rfl rfl)
theorem dJ0_init_2_9 : decode cJ0_init_2 9 = .ok (.aload_n 0, 1) := dk_42 (dk_at dksJ0_init_2_0 9 rfl rfl)
theorem dJ0_init_2_10 : decode cJ0_init_2 10 = .ok (.getstatic 13, 3) := dk_178 0 13 (dk_at dksJ0_init_2_0 10 rfl rfl)
theorem dJ0_init_2_13 : decode cJ0_init_2 13 = .ok (.putfield 17, 3) := dk_181 0 17 (dk_at dksJ0_init_2_0 13 rfl rfl)
theorem dJ0_init_2_16 : decode cJ0_init_2 16 = .ok (.aload_n 0, 1) := dk_42 (dk_at dksJ0_init_2_0 16 rfl rfl)
theorem dJ0_init_2_17 : decode cJ0_init_2 17 = .ok (.getstatic 20, 3) := dk_178 0 20 (dk_at dksJ0_init_2_0 17 rfl rfl)
theorem dJ0_init_2_20 : decode cJ0_init_2 20 = .ok (.putfield 24, 3) := dk_181 0 24 (dk_at dksJ0_init_2_0 20 rfl rfl)
theorem dJ0_init_2_23 : decode cJ0_init_2 23 = .ok (.aload_n 0, 1) := dk_42 (dk_at dksJ0_init_2_0 23 rfl rfl)
theorem dJ0_init_2_24 : decode cJ0_init_2 24 = .ok (.invokevirtual 27, 3) := dk_182 0 27 (dk_at dksJ0_init_2_1 0 rfl rfl)
theorem dJ0_init_2_27 : decode cJ0_init_2 27 = .ok (.pop, 1) := dk_87 (dk_at dksJ0_init_2_1 3 rfl rfl)
theorem dJ0_init_2_28 : decode cJ0_init_2 28 = .ok (.return_, 1) := dk_177 (dk_at dksJ0_init_2_1 4 rfl rfl)
theorem q62 : (Jvm.Cond.initialized "java/lang/Throwable") ∈ lw_all := lw_g (lw_at lw_m1 5 rfl) rfl
theorem q103 : (Jvm.Cond.instanceMethod ({ cls := "java/lang/Throwable", name := "<init>", desc := "(Ljava/lang/String;)V" } : Jvm.MethodName)) ∈ lw_all := lw_g (lw_at lw_m1 46 rfl) rfl
theorem q104 : (Jvm.Cond.code ({ cls := "java/lang/Throwable", name := "<init>", desc := "(Ljava/lang/String;)V" } : Jvm.MethodName) prog_35_method_2_code (2 : Nat) (Option.none : Option Jvm.ClassFile.FieldType)) ∈ lw_all := lw_g (lw_at lw_m1 47 rfl) rfl
theorem q105 : (Jvm.Cond.methodLink "java/lang/Throwable" (1 : Nat) ({ cls := "java/lang/Object", name := "<init>", desc := "()V" } : Jvm.MethodName)) ∈ lw_all := lw_g (lw_at lw_m1 48 rfl) rfl
theorem q108 : (Jvm.Cond.fieldLink "java/lang/Throwable" (13 : Nat) "java/lang/Throwable" "UNASSIGNED_STACK" "[Ljava/lang/StackTraceElement;") ∈ lw_all := lw_g (lw_at lw_m1 51 rfl) rfl
theorem q109 : (Jvm.Cond.laysStatic "java/lang/Throwable" "UNASSIGNED_STACK" "[Ljava/lang/StackTraceElement;") ∈ lw_tbl := lw_at lw_m1 52 rfl
theorem q110 : (Jvm.Cond.fieldLink "java/lang/Throwable" (20 : Nat) "java/lang/Throwable" "SUPPRESSED_SENTINEL" "Ljava/util/List;") ∈ lw_all := lw_g (lw_at lw_m1 53 rfl) rfl
theorem q111 : (Jvm.Cond.laysStatic "java/lang/Throwable" "SUPPRESSED_SENTINEL" "Ljava/util/List;") ∈ lw_tbl := lw_at lw_m1 54 rfl
theorem q112 : (Jvm.Cond.methodLink "java/lang/Throwable" (27 : Nat) ({ cls := "java/lang/Throwable", name := "fillInStackTrace", desc := "()Ljava/lang/Throwable;" } : Jvm.MethodName)) ∈ lw_all := lw_g (lw_at lw_m1 55 rfl) rfl
theorem q113 : (Jvm.Cond.instanceMethod ({ cls := "java/lang/Throwable", name := "fillInStackTrace", desc := "()Ljava/lang/Throwable;" } : Jvm.MethodName)) ∈ lw_all := lw_g (lw_at lw_m1 56 rfl) rfl
theorem q114 : (Jvm.Cond.sameMethod "java/lang/Throwable" "java/lang/Throwable" "fillInStackTrace" "()Ljava/lang/Throwable;") ∈ lw_all := lw_g (lw_at lw_m1 57 rfl) rfl
theorem q132 : (Jvm.Cond.declares ({ cls := "java/lang/Throwable", name := "fillInStackTrace", desc := "()Ljava/lang/Throwable;" } : Jvm.MethodName)) ∈ lw_tbl := lw_at lw_m1 75 rfl
theorem q136 : (Jvm.Cond.codeSync ({ cls := "java/lang/Throwable", name := "fillInStackTrace", desc := "()Ljava/lang/Throwable;" } : Jvm.MethodName) prog_35_method_18_code (1 : Nat) (Option.some (Jvm.ClassFile.FieldType.object "java/lang/Throwable"))) ∈ lw_all := lw_g (lw_at lw_m1 79 rfl) rfl
theorem q137 : (Jvm.Cond.methodLink "java/lang/Throwable" (202 : Nat) ({ cls := "java/lang/Throwable", name := "fillInStackTrace", desc := "(I)Ljava/lang/Throwable;" } : Jvm.MethodName)) ∈ lw_all := lw_g (lw_at lw_m1 80 rfl) rfl
theorem q138 : (Jvm.Cond.privateMethod ({ cls := "java/lang/Throwable", name := "fillInStackTrace", desc := "(I)Ljava/lang/Throwable;" } : Jvm.MethodName)) ∈ lw_tbl := lw_at lw_m1 81 rfl
theorem q139 : (Jvm.Cond.instanceMethod ({ cls := "java/lang/Throwable", name := "fillInStackTrace", desc := "(I)Ljava/lang/Throwable;" } : Jvm.MethodName)) ∈ lw_all := lw_g (lw_at lw_m1 82 rfl) rfl
theorem q140 : (Jvm.Cond.instantiable "java/lang/Throwable" (6 : Nat)) ∈ lw_all := lw_g (lw_at lw_m1 83 rfl) rfl
theorem q141 : (Jvm.Cond.native ({ cls := "java/lang/Throwable", name := "fillInStackTrace", desc := "(I)Ljava/lang/Throwable;" } : Jvm.MethodName)) ∈ lw_all := lw_g (lw_at lw_m1 84 rfl) rfl
theorem q142 : (Jvm.Cond.fieldLink "java/lang/Throwable" (198 : Nat) "java/lang/Throwable" "backtrace" "Ljava/lang/Object;") ∈ lw_all := lw_g (lw_at lw_m1 85 rfl) rfl
theorem q143 : (Jvm.Cond.fieldLink "java/lang/Throwable" (31 : Nat) "java/lang/Throwable" "detailMessage" "Ljava/lang/String;") ∈ lw_all := lw_g (lw_at lw_m1 86 rfl) rfl
theorem q144 : (Jvm.Cond.fieldLink "java/lang/Throwable" (7 : Nat) "java/lang/Throwable" "cause" "Ljava/lang/Throwable;") ∈ lw_all := lw_g (lw_at lw_m1 87 rfl) rfl
theorem q145 : (Jvm.Cond.fieldLink "java/lang/Throwable" (17 : Nat) "java/lang/Throwable" "stackTrace" "[Ljava/lang/StackTraceElement;") ∈ lw_all := lw_g (lw_at lw_m1 88 rfl) rfl
theorem q146 : (Jvm.Cond.fieldLink "java/lang/Throwable" (24 : Nat) "java/lang/Throwable" "suppressedExceptions" "Ljava/util/List;") ∈ lw_all := lw_g (lw_at lw_m1 89 rfl) rfl
theorem q148 : (Jvm.Cond.soleField "java/lang/Throwable" "backtrace") ∈ lw_all := lw_g (lw_at lw_m1 91 rfl) rfl
theorem q150 : (Jvm.Cond.soleField "java/lang/Throwable" "detailMessage") ∈ lw_all := lw_g (lw_at lw_m1 93 rfl) rfl
theorem q152 : (Jvm.Cond.soleField "java/lang/Throwable" "cause") ∈ lw_all := lw_g (lw_at lw_m1 95 rfl) rfl
theorem q154 : (Jvm.Cond.soleField "java/lang/Throwable" "stackTrace") ∈ lw_all := lw_g (lw_at lw_m1 97 rfl) rfl
theorem q156 : (Jvm.Cond.soleField "java/lang/Throwable" "depth") ∈ lw_all := lw_g (lw_at lw_m1 99 rfl) rfl
theorem q158 : (Jvm.Cond.soleField "java/lang/Throwable" "suppressedExceptions") ∈ lw_all := lw_g (lw_at lw_m1 101 rfl) rfl
theorem q165 : (Jvm.Cond.declares ({ cls := "java/lang/Throwable", name := "<init>", desc := "()V" } : Jvm.MethodName)) ∈ lw_tbl := lw_at lw_m1 108 rfl
theorem q166 : (Jvm.Cond.declares ({ cls := "java/lang/Throwable", name := "<init>", desc := "(Ljava/lang/String;)V" } : Jvm.MethodName)) ∈ lw_tbl := lw_at lw_m1 109 rfl
theorem q168 : (Jvm.Cond.lays "java/lang/Throwable" "java/lang/Throwable" "cause" "Ljava/lang/Throwable;") ∈ lw_all := lw_g (lw_at lw_m1 111 rfl) rfl
theorem q169 : (Jvm.Cond.lays "java/lang/Throwable" "java/lang/Throwable" "stackTrace" "[Ljava/lang/StackTraceElement;") ∈ lw_all := lw_g (lw_at lw_m1 112 rfl) rfl
theorem q170 : (Jvm.Cond.lays "java/lang/Throwable" "java/lang/Throwable" "suppressedExceptions" "Ljava/util/List;") ∈ lw_all := lw_g (lw_at lw_m1 113 rfl) rfl
theorem q171 : (Jvm.Cond.lays "java/lang/Throwable" "java/lang/Throwable" "detailMessage" "Ljava/lang/String;") ∈ lw_all := lw_g (lw_at lw_m1 114 rfl) rfl
theorem q172 : (Jvm.Cond.lays "java/lang/Throwable" "java/lang/Throwable" "backtrace" "Ljava/lang/Object;") ∈ lw_all := lw_g (lw_at lw_m1 115 rfl) rfl
theorem q173 : (Jvm.Cond.fieldLink "java/lang/Throwable" (198 : Nat) "java/lang/Throwable" "backtrace" "Ljava/lang/Object;") ∈ lw_all := lw_g (lw_at lw_m1 116 rfl) rfl
theorem q174 : (Jvm.Cond.superclass "java/lang/Throwable" "java/lang/Object") ∈ lw_all := lw_g (lw_at lw_m1 117 rfl) rfl
theorem q175 : (Jvm.Cond.instanceMethod ({ cls := "java/lang/Throwable", name := "<init>", desc := "()V" } : Jvm.MethodName)) ∈ lw_all := lw_g (lw_at lw_m1 118 rfl) rfl
theorem q176 : (Jvm.Cond.code ({ cls := "java/lang/Throwable", name := "<init>", desc := "()V" } : Jvm.MethodName) prog_35_method_1_code (1 : Nat) (Option.none : Option Jvm.ClassFile.FieldType)) ∈ lw_all := lw_g (lw_at lw_m1 119 rfl) rfl
theorem q1545 : (Jvm.Cond.sameMethod "java/lang/Throwable" "java/lang/Throwable" "fillInStackTrace" "(I)Ljava/lang/Throwable;") ∈ lw_all := lw_g (lw_at lw_m7 48 rfl) rfl
theorem in_J0 : ∀ w ∈ wsJ00, w ∈ lw_all := lw_in wsJ00 [168, 169, 170, 171, 172] (by decide +kernel) (by decide +kernel)
/-! java/lang/Exception -/
set_option maxRecDepth 100000
def RJ1 : String := "java/lang/Exception"
abbrev cJ1_init : ByteArray := prog_24_method_2_code
def yJ1_init : MethodName := ⟨RJ1, "<init>", "(Ljava/lang/String;)V"⟩
def dkwJ1_init_0 : List UInt8 := [42, 43, 183, 0, 7, 177]
abbrev dktJ1_init_0 : List UInt8 := dkwJ1_init_0 ++ []
theorem dksJ1_init_0 : cJ1_init.data.toList.drop 0 = dktJ1_init_0 := by decide +kernel
theorem dJ1_init_0 : decode cJ1_init 0 = .ok (.aload_n 0, 1) := dk_42 (dk_at dksJ1_init_0 0 rfl rfl)
theorem dJ1_init_1 : decode cJ1_init 1 = .ok (.aload_n 1, 1) := dk_43 (dk_at dksJ1_init_0 1 rfl rfl)
theorem dJ1_init_2 : decode cJ1_init 2 = .ok (.invokespecial 7, 3) := dk_183 0 7 (dk_at dksJ1_init_0 2 rfl rfl)
theorem dJ1_init_5 : decode cJ1_init 5 = .ok (.return_, 1) := dk_177 (dk_at dksJ1_init_0 5 rfl rfl)
abbrev cJ1_init_2 : ByteArray := prog_24_method_1_code
def yJ1_init_2 : MethodName := ⟨RJ1, "<init>", "()V"⟩
theorem dJ1_init_2_0 : decode cJ1_init_2 0 = .ok (.aload_n 0, 1) := by decide +kernel
theorem dJ1_init_2_1 : decode cJ1_init_2 1 = .ok (.invokespecial 1, 3) := by decide +kernel
theorem dJ1_init_2_4 : decode cJ1_init_2 4 = .ok (.return_, 1) := by decide +kernel
theorem q63 : (Jvm.Cond.initialized "java/lang/Exception") ∈ lw_all := lw_g (lw_at lw_m1 6 rfl) rfl
theorem q100 : (Jvm.Cond.instanceMethod ({ cls := "java/lang/Exception", name := "<init>", desc := "(Ljava/lang/String;)V" } : Jvm.MethodName)) ∈ lw_all := lw_g (lw_at lw_m1 43 rfl) rfl
theorem q101 : (Jvm.Cond.code ({ cls := "java/lang/Exception", name := "<init>", desc := "(Ljava/lang/String;)V" } : Jvm.MethodName) prog_24_method_2_code (2 : Nat) (Option.none : Option Jvm.ClassFile.FieldType)) ∈ lw_all := lw_g (lw_at lw_m1 44 rfl) rfl
theorem q102 : (Jvm.Cond.methodLink "java/lang/Exception" (7 : Nat) ({ cls := "java/lang/Throwable", name := "<init>", desc := "(Ljava/lang/String;)V" } : Jvm.MethodName)) ∈ lw_all := lw_g (lw_at lw_m1 45 rfl) rfl
theorem q135 : (Jvm.Cond.superclass "java/lang/Exception" "java/lang/Throwable") ∈ lw_all := lw_g (lw_at lw_m1 78 rfl) rfl
theorem q163 : (Jvm.Cond.declares ({ cls := "java/lang/Exception", name := "<init>", desc := "()V" } : Jvm.MethodName)) ∈ lw_tbl := lw_at lw_m1 106 rfl
theorem q164 : (Jvm.Cond.declares ({ cls := "java/lang/Exception", name := "<init>", desc := "(Ljava/lang/String;)V" } : Jvm.MethodName)) ∈ lw_tbl := lw_at lw_m1 107 rfl
theorem q272 : (Jvm.Cond.instanceMethod ({ cls := "java/lang/Exception", name := "<init>", desc := "()V" } : Jvm.MethodName)) ∈ lw_all := lw_g (lw_at lw_m1 215 rfl) rfl
theorem q273 : (Jvm.Cond.code ({ cls := "java/lang/Exception", name := "<init>", desc := "()V" } : Jvm.MethodName) prog_24_method_1_code (1 : Nat) (Option.none : Option Jvm.ClassFile.FieldType)) ∈ lw_all := lw_g (lw_at lw_m1 216 rfl) rfl
theorem q274 : (Jvm.Cond.methodLink "java/lang/Exception" (1 : Nat) ({ cls := "java/lang/Throwable", name := "<init>", desc := "()V" } : Jvm.MethodName)) ∈ lw_all := lw_g (lw_at lw_m1 217 rfl) rfl
/-! java/lang/NullPointerException -/
set_option maxRecDepth 100000
def RJ10 : String := "java/lang/NullPointerException"
def TJ10 : u_T := fun k => match k with
  | 0 => ("java/lang/Throwable", "backtrace", "Ljava/lang/Object;", false)
  | 1 => ("java/lang/Throwable", "detailMessage", "Ljava/lang/String;", false)
  | 2 => ("java/lang/Throwable", "cause", "Ljava/lang/Throwable;", false)
  | 3 => ("java/lang/Throwable", "stackTrace", "[Ljava/lang/StackTraceElement;", false)
  | 4 => ("java/lang/Throwable", "depth", "I", false)
  | 5 => ("java/lang/Throwable", "suppressedExceptions", "Ljava/util/List;", false)
  | 6 => ("java/lang/NullPointerException", "extendedMessageState", "I", false)
  | _ => ("java/lang/NullPointerException", "extendedMessage", "Ljava/lang/String;", false)
def tyJ10 : Nat → FieldType := fun k => match k with
  | 0 => .object "java/lang/Object"
  | 1 => .object "java/lang/String"
  | 2 => .object "java/lang/Throwable"
  | 3 => .array (.object "java/lang/StackTraceElement")
  | 4 => .int
  | 5 => .object "java/util/List"
  | 6 => .int
  | _ => .object "java/lang/String"
abbrev wsJ100 : List Cond := u_ws RJ10 TJ10 8
theorem nmJ10 : ∀ a, a < 8 → ∀ b, b < 8 → a ≠ b → (TJ10 a).2.1 ≠ (TJ10 b).2.1 := by decide +kernel
theorem tyJ10_ok : ∀ k, k < 8 → parseFieldDescriptor (TJ10 k).2.2.1 = some (tyJ10 k) := by decide +kernel
abbrev cJ10_init : ByteArray := prog_31_method_1_code
def yJ10_init : MethodName := ⟨RJ10, "<init>", "()V"⟩
theorem dJ10_init_0 : decode cJ10_init 0 = .ok (.aload_n 0, 1) := by decide +kernel
theorem dJ10_init_1 : decode cJ10_init 1 = .ok (.invokespecial 1, 3) := by decide +kernel
theorem dJ10_init_4 : decode cJ10_init 4 = .ok (.return_, 1) := by decide +kernel
theorem q84 : (Jvm.Cond.initialized "java/lang/NullPointerException") ∈ lw_all := lw_g (lw_at lw_m1 27 rfl) rfl
theorem q122 : (Jvm.Cond.selects "java/lang/NullPointerException" ({ cls := "java/lang/Throwable", name := "fillInStackTrace", desc := "()Ljava/lang/Throwable;" } : Jvm.MethodName) ({ cls := "java/lang/NullPointerException", name := "fillInStackTrace", desc := "()Ljava/lang/Throwable;" } : Jvm.MethodName)) ∈ lw_all := lw_g (lw_at lw_m1 65 rfl) rfl
theorem q123 : (Jvm.Cond.instanceMethod ({ cls := "java/lang/NullPointerException", name := "fillInStackTrace", desc := "()Ljava/lang/Throwable;" } : Jvm.MethodName)) ∈ lw_all := lw_g (lw_at lw_m1 66 rfl) rfl
theorem q124 : (Jvm.Cond.codeSync ({ cls := "java/lang/NullPointerException", name := "fillInStackTrace", desc := "()Ljava/lang/Throwable;" } : Jvm.MethodName) prog_31_method_3_code (1 : Nat) (Option.some (Jvm.ClassFile.FieldType.object "java/lang/Throwable"))) ∈ lw_all := lw_g (lw_at lw_m1 67 rfl) rfl
theorem q125 : (Jvm.Cond.methodLink "java/lang/NullPointerException" (16 : Nat) ({ cls := "java/lang/NullPointerException", name := "getExtendedNPEMessage", desc := "()Ljava/lang/String;" } : Jvm.MethodName)) ∈ lw_all := lw_g (lw_at lw_m1 68 rfl) rfl
theorem q126 : (Jvm.Cond.privateMethod ({ cls := "java/lang/NullPointerException", name := "getExtendedNPEMessage", desc := "()Ljava/lang/String;" } : Jvm.MethodName)) ∈ lw_tbl := lw_at lw_m1 69 rfl
theorem q127 : (Jvm.Cond.instanceMethod ({ cls := "java/lang/NullPointerException", name := "getExtendedNPEMessage", desc := "()Ljava/lang/String;" } : Jvm.MethodName)) ∈ lw_all := lw_g (lw_at lw_m1 70 rfl) rfl
theorem q128 : (Jvm.Cond.instantiable "java/lang/NullPointerException" (8 : Nat)) ∈ lw_all := lw_g (lw_at lw_m1 71 rfl) rfl
theorem q129 : (Jvm.Cond.native ({ cls := "java/lang/NullPointerException", name := "getExtendedNPEMessage", desc := "()Ljava/lang/String;" } : Jvm.MethodName)) ∈ lw_all := lw_g (lw_at lw_m1 72 rfl) rfl
theorem q130 : (Jvm.Cond.methodLink "java/lang/NullPointerException" (24 : Nat) ({ cls := "java/lang/RuntimeException", name := "fillInStackTrace", desc := "()Ljava/lang/Throwable;" } : Jvm.MethodName)) ∈ lw_all := lw_g (lw_at lw_m1 73 rfl) rfl
theorem q133 : (Jvm.Cond.superclass "java/lang/NullPointerException" "java/lang/RuntimeException") ∈ lw_all := lw_g (lw_at lw_m1 76 rfl) rfl
theorem q971 : (Jvm.Cond.instanceMethod ({ cls := "java/lang/NullPointerException", name := "<init>", desc := "()V" } : Jvm.MethodName)) ∈ lw_all := lw_g (lw_at lw_m4 194 rfl) rfl
theorem q972 : (Jvm.Cond.code ({ cls := "java/lang/NullPointerException", name := "<init>", desc := "()V" } : Jvm.MethodName) prog_31_method_1_code (1 : Nat) (Option.none : Option Jvm.ClassFile.FieldType)) ∈ lw_all := lw_g (lw_at lw_m4 195 rfl) rfl
theorem q973 : (Jvm.Cond.methodLink "java/lang/NullPointerException" (1 : Nat) ({ cls := "java/lang/RuntimeException", name := "<init>", desc := "()V" } : Jvm.MethodName)) ∈ lw_all := lw_g (lw_at lw_m4 196 rfl) rfl
theorem q977 : (Jvm.Cond.fieldLink "java/lang/NullPointerException" (10 : Nat) "java/lang/NullPointerException" "extendedMessageState" "I") ∈ lw_all := lw_g (lw_at lw_m4 200 rfl) rfl
theorem q978 : (Jvm.Cond.fieldLink "java/lang/NullPointerException" (20 : Nat) "java/lang/NullPointerException" "extendedMessage" "Ljava/lang/String;") ∈ lw_all := lw_g (lw_at lw_m4 201 rfl) rfl
theorem q979 : (Jvm.Cond.lays "java/lang/NullPointerException" "java/lang/NullPointerException" "extendedMessageState" "I") ∈ lw_all := lw_g (lw_at lw_m4 202 rfl) rfl
theorem q980 : (Jvm.Cond.soleField "java/lang/NullPointerException" "extendedMessageState") ∈ lw_all := lw_g (lw_at lw_m4 203 rfl) rfl
theorem q981 : (Jvm.Cond.lays "java/lang/NullPointerException" "java/lang/NullPointerException" "extendedMessage" "Ljava/lang/String;") ∈ lw_all := lw_g (lw_at lw_m4 204 rfl) rfl
theorem q982 : (Jvm.Cond.soleField "java/lang/NullPointerException" "extendedMessage") ∈ lw_all := lw_g (lw_at lw_m4 205 rfl) rfl
theorem q983 : (Jvm.Cond.lays "java/lang/NullPointerException" "java/lang/Throwable" "backtrace" "Ljava/lang/Object;") ∈ lw_all := lw_g (lw_at lw_m4 206 rfl) rfl
theorem q984 : (Jvm.Cond.lays "java/lang/NullPointerException" "java/lang/Throwable" "detailMessage" "Ljava/lang/String;") ∈ lw_all := lw_g (lw_at lw_m4 207 rfl) rfl
theorem q985 : (Jvm.Cond.lays "java/lang/NullPointerException" "java/lang/Throwable" "cause" "Ljava/lang/Throwable;") ∈ lw_all := lw_g (lw_at lw_m4 208 rfl) rfl
theorem q986 : (Jvm.Cond.lays "java/lang/NullPointerException" "java/lang/Throwable" "stackTrace" "[Ljava/lang/StackTraceElement;") ∈ lw_all := lw_g (lw_at lw_m4 209 rfl) rfl
theorem q987 : (Jvm.Cond.lays "java/lang/NullPointerException" "java/lang/Throwable" "depth" "I") ∈ lw_all := lw_g (lw_at lw_m4 210 rfl) rfl
theorem q988 : (Jvm.Cond.lays "java/lang/NullPointerException" "java/lang/Throwable" "suppressedExceptions" "Ljava/util/List;") ∈ lw_all := lw_g (lw_at lw_m4 211 rfl) rfl
theorem q989 : (Jvm.Cond.castable "java/lang/NullPointerException" "java/lang/NullPointerException") ∈ lw_tbl := lw_at lw_m4 212 rfl
theorem q990 : (Jvm.Cond.selects "java/lang/NullPointerException" ({ cls := "java/lang/Throwable", name := "fillInStackTrace", desc := "(I)Ljava/lang/Throwable;" } : Jvm.MethodName) ({ cls := "java/lang/Throwable", name := "fillInStackTrace", desc := "(I)Ljava/lang/Throwable;" } : Jvm.MethodName)) ∈ lw_all := lw_g (lw_at lw_m4 213 rfl) rfl
theorem in_J10 : ∀ w ∈ wsJ100, w ∈ lw_all := lw_in wsJ100 [983, 984, 985, 986, 987, 988, 979, 981] (by decide +kernel) (by decide +kernel)
/-! java/lang/IllegalArgumentException -/
set_option maxRecDepth 100000
def RJ11 : String := "java/lang/IllegalArgumentException"
def TJ11 : u_T := fun k => match k with
  | 0 => ("java/lang/Throwable", "cause", "Ljava/lang/Throwable;", false)
  | 1 => ("java/lang/Throwable", "stackTrace", "[Ljava/lang/StackTraceElement;", false)
  | 2 => ("java/lang/Throwable", "suppressedExceptions", "Ljava/util/List;", false)
  | 3 => ("java/lang/Throwable", "detailMessage", "Ljava/lang/String;", false)
  | 4 => ("java/lang/Throwable", "backtrace", "Ljava/lang/Object;", false)
  | _ => ("java/lang/Throwable", "depth", "I", false)
def tyJ11 : Nat → FieldType := fun k => match k with
  | 0 => .object "java/lang/Throwable"
  | 1 => .array (.object "java/lang/StackTraceElement")
  | 2 => .object "java/util/List"
  | 3 => .object "java/lang/String"
  | 4 => .object "java/lang/Object"
  | _ => .int
abbrev wsJ110 : List Cond := u_ws RJ11 TJ11 6
theorem nmJ11 : ∀ a, a < 6 → ∀ b, b < 6 → a ≠ b → (TJ11 a).2.1 ≠ (TJ11 b).2.1 := by decide +kernel
theorem tyJ11_ok : ∀ k, k < 6 → parseFieldDescriptor (TJ11 k).2.2.1 = some (tyJ11 k) := by decide +kernel
abbrev cJ11_init : ByteArray := prog_25_method_1_code
def yJ11_init : MethodName := ⟨RJ11, "<init>", "()V"⟩
theorem dJ11_init_0 : decode cJ11_init 0 = .ok (.aload_n 0, 1) := by decide +kernel
theorem dJ11_init_1 : decode cJ11_init 1 = .ok (.invokespecial 1, 3) := by decide +kernel
theorem dJ11_init_4 : decode cJ11_init 4 = .ok (.return_, 1) := by decide +kernel
theorem q85 : (Jvm.Cond.initialized "java/lang/IllegalArgumentException") ∈ lw_all := lw_g (lw_at lw_m1 28 rfl) rfl
theorem q119 : (Jvm.Cond.selects "java/lang/IllegalArgumentException" ({ cls := "java/lang/Throwable", name := "fillInStackTrace", desc := "()Ljava/lang/Throwable;" } : Jvm.MethodName) ({ cls := "java/lang/Throwable", name := "fillInStackTrace", desc := "()Ljava/lang/Throwable;" } : Jvm.MethodName)) ∈ lw_all := lw_g (lw_at lw_m1 62 rfl) rfl
theorem q1052 : (Jvm.Cond.instantiable "java/lang/IllegalArgumentException" (6 : Nat)) ∈ lw_all := lw_g (lw_at lw_m5 35 rfl) rfl
theorem q1053 : (Jvm.Cond.castable "java/lang/IllegalArgumentException" "java/lang/IllegalArgumentException") ∈ lw_tbl := lw_at lw_m5 36 rfl
theorem q1054 : (Jvm.Cond.selects "java/lang/IllegalArgumentException" ({ cls := "java/lang/Throwable", name := "fillInStackTrace", desc := "(I)Ljava/lang/Throwable;" } : Jvm.MethodName) ({ cls := "java/lang/Throwable", name := "fillInStackTrace", desc := "(I)Ljava/lang/Throwable;" } : Jvm.MethodName)) ∈ lw_all := lw_g (lw_at lw_m5 37 rfl) rfl
theorem q1055 : (Jvm.Cond.lays "java/lang/IllegalArgumentException" "java/lang/Throwable" "cause" "Ljava/lang/Throwable;") ∈ lw_all := lw_g (lw_at lw_m5 38 rfl) rfl
theorem q1056 : (Jvm.Cond.lays "java/lang/IllegalArgumentException" "java/lang/Throwable" "stackTrace" "[Ljava/lang/StackTraceElement;") ∈ lw_all := lw_g (lw_at lw_m5 39 rfl) rfl
theorem q1057 : (Jvm.Cond.lays "java/lang/IllegalArgumentException" "java/lang/Throwable" "suppressedExceptions" "Ljava/util/List;") ∈ lw_all := lw_g (lw_at lw_m5 40 rfl) rfl
theorem q1058 : (Jvm.Cond.lays "java/lang/IllegalArgumentException" "java/lang/Throwable" "detailMessage" "Ljava/lang/String;") ∈ lw_all := lw_g (lw_at lw_m5 41 rfl) rfl
theorem q1059 : (Jvm.Cond.lays "java/lang/IllegalArgumentException" "java/lang/Throwable" "backtrace" "Ljava/lang/Object;") ∈ lw_all := lw_g (lw_at lw_m5 42 rfl) rfl
theorem q1061 : (Jvm.Cond.instanceMethod ({ cls := "java/lang/IllegalArgumentException", name := "<init>", desc := "()V" } : Jvm.MethodName)) ∈ lw_all := lw_g (lw_at lw_m5 44 rfl) rfl
theorem q1062 : (Jvm.Cond.code ({ cls := "java/lang/IllegalArgumentException", name := "<init>", desc := "()V" } : Jvm.MethodName) prog_25_method_1_code (1 : Nat) (Option.none : Option Jvm.ClassFile.FieldType)) ∈ lw_all := lw_g (lw_at lw_m5 45 rfl) rfl
theorem q1063 : (Jvm.Cond.methodLink "java/lang/IllegalArgumentException" (1 : Nat) ({ cls := "java/lang/RuntimeException", name := "<init>", desc := "()V" } : Jvm.MethodName)) ∈ lw_all := lw_g (lw_at lw_m5 46 rfl) rfl
theorem q1064 : (Jvm.Cond.lays "java/lang/IllegalArgumentException" "java/lang/Throwable" "depth" "I") ∈ lw_all := lw_g (lw_at lw_m5 47 rfl) rfl
theorem q1065 : (Jvm.Cond.superclass "java/lang/IllegalArgumentException" "java/lang/RuntimeException") ∈ lw_all := lw_g (lw_at lw_m5 48 rfl) rfl
theorem in_J11 : ∀ w ∈ wsJ110, w ∈ lw_all := lw_in wsJ110 [1055, 1056, 1057, 1058, 1059, 1064] (by decide +kernel) (by decide +kernel)
/-! java/lang/IllegalStateException -/
set_option maxRecDepth 100000
def RJ12 : String := "java/lang/IllegalStateException"
def TJ12 : u_T := fun k => match k with
  | 0 => ("java/lang/Throwable", "cause", "Ljava/lang/Throwable;", false)
  | 1 => ("java/lang/Throwable", "stackTrace", "[Ljava/lang/StackTraceElement;", false)
  | 2 => ("java/lang/Throwable", "suppressedExceptions", "Ljava/util/List;", false)
  | 3 => ("java/lang/Throwable", "detailMessage", "Ljava/lang/String;", false)
  | 4 => ("java/lang/Throwable", "backtrace", "Ljava/lang/Object;", false)
  | _ => ("java/lang/Throwable", "depth", "I", false)
def tyJ12 : Nat → FieldType := fun k => match k with
  | 0 => .object "java/lang/Throwable"
  | 1 => .array (.object "java/lang/StackTraceElement")
  | 2 => .object "java/util/List"
  | 3 => .object "java/lang/String"
  | 4 => .object "java/lang/Object"
  | _ => .int
abbrev wsJ120 : List Cond := u_ws RJ12 TJ12 6
theorem nmJ12 : ∀ a, a < 6 → ∀ b, b < 6 → a ≠ b → (TJ12 a).2.1 ≠ (TJ12 b).2.1 := by decide +kernel
theorem tyJ12_ok : ∀ k, k < 6 → parseFieldDescriptor (TJ12 k).2.2.1 = some (tyJ12 k) := by decide +kernel
abbrev cJ12_init : ByteArray := prog_26_method_1_code
def yJ12_init : MethodName := ⟨RJ12, "<init>", "()V"⟩
theorem dJ12_init_0 : decode cJ12_init 0 = .ok (.aload_n 0, 1) := by decide +kernel
theorem dJ12_init_1 : decode cJ12_init 1 = .ok (.invokespecial 1, 3) := by decide +kernel
theorem dJ12_init_4 : decode cJ12_init 4 = .ok (.return_, 1) := by decide +kernel
theorem q86 : (Jvm.Cond.initialized "java/lang/IllegalStateException") ∈ lw_all := lw_g (lw_at lw_m1 29 rfl) rfl
theorem q120 : (Jvm.Cond.selects "java/lang/IllegalStateException" ({ cls := "java/lang/Throwable", name := "fillInStackTrace", desc := "()Ljava/lang/Throwable;" } : Jvm.MethodName) ({ cls := "java/lang/Throwable", name := "fillInStackTrace", desc := "()Ljava/lang/Throwable;" } : Jvm.MethodName)) ∈ lw_all := lw_g (lw_at lw_m1 63 rfl) rfl
theorem q1067 : (Jvm.Cond.instantiable "java/lang/IllegalStateException" (6 : Nat)) ∈ lw_all := lw_g (lw_at lw_m5 50 rfl) rfl
theorem q1068 : (Jvm.Cond.castable "java/lang/IllegalStateException" "java/lang/IllegalStateException") ∈ lw_tbl := lw_at lw_m5 51 rfl
theorem q1069 : (Jvm.Cond.selects "java/lang/IllegalStateException" ({ cls := "java/lang/Throwable", name := "fillInStackTrace", desc := "(I)Ljava/lang/Throwable;" } : Jvm.MethodName) ({ cls := "java/lang/Throwable", name := "fillInStackTrace", desc := "(I)Ljava/lang/Throwable;" } : Jvm.MethodName)) ∈ lw_all := lw_g (lw_at lw_m5 52 rfl) rfl
theorem q1070 : (Jvm.Cond.lays "java/lang/IllegalStateException" "java/lang/Throwable" "cause" "Ljava/lang/Throwable;") ∈ lw_all := lw_g (lw_at lw_m5 53 rfl) rfl
theorem q1071 : (Jvm.Cond.lays "java/lang/IllegalStateException" "java/lang/Throwable" "stackTrace" "[Ljava/lang/StackTraceElement;") ∈ lw_all := lw_g (lw_at lw_m5 54 rfl) rfl
theorem q1072 : (Jvm.Cond.lays "java/lang/IllegalStateException" "java/lang/Throwable" "suppressedExceptions" "Ljava/util/List;") ∈ lw_all := lw_g (lw_at lw_m5 55 rfl) rfl
theorem q1073 : (Jvm.Cond.lays "java/lang/IllegalStateException" "java/lang/Throwable" "detailMessage" "Ljava/lang/String;") ∈ lw_all := lw_g (lw_at lw_m5 56 rfl) rfl
theorem q1074 : (Jvm.Cond.lays "java/lang/IllegalStateException" "java/lang/Throwable" "backtrace" "Ljava/lang/Object;") ∈ lw_all := lw_g (lw_at lw_m5 57 rfl) rfl
theorem q1076 : (Jvm.Cond.instanceMethod ({ cls := "java/lang/IllegalStateException", name := "<init>", desc := "()V" } : Jvm.MethodName)) ∈ lw_all := lw_g (lw_at lw_m5 59 rfl) rfl
theorem q1077 : (Jvm.Cond.code ({ cls := "java/lang/IllegalStateException", name := "<init>", desc := "()V" } : Jvm.MethodName) prog_26_method_1_code (1 : Nat) (Option.none : Option Jvm.ClassFile.FieldType)) ∈ lw_all := lw_g (lw_at lw_m5 60 rfl) rfl
theorem q1078 : (Jvm.Cond.methodLink "java/lang/IllegalStateException" (1 : Nat) ({ cls := "java/lang/RuntimeException", name := "<init>", desc := "()V" } : Jvm.MethodName)) ∈ lw_all := lw_g (lw_at lw_m5 61 rfl) rfl
theorem q1079 : (Jvm.Cond.lays "java/lang/IllegalStateException" "java/lang/Throwable" "depth" "I") ∈ lw_all := lw_g (lw_at lw_m5 62 rfl) rfl
theorem q1080 : (Jvm.Cond.superclass "java/lang/IllegalStateException" "java/lang/RuntimeException") ∈ lw_all := lw_g (lw_at lw_m5 63 rfl) rfl
theorem in_J12 : ∀ w ∈ wsJ120, w ∈ lw_all := lw_in wsJ120 [1070, 1071, 1072, 1073, 1074, 1079] (by decide +kernel) (by decide +kernel)
/-! java/lang/Object -/
set_option maxRecDepth 100000
def RJ13 : String := "java/lang/Object"
abbrev cJ13_init : ByteArray := object_method_1_code
def yJ13_init : MethodName := ⟨RJ13, "<init>", "()V"⟩
theorem dJ13_init_0 : decode cJ13_init 0 = .ok (.return_, 1) := by decide +kernel
theorem q106 : (Jvm.Cond.instanceMethod ({ cls := "java/lang/Object", name := "<init>", desc := "()V" } : Jvm.MethodName)) ∈ lw_all := lw_g (lw_at lw_m1 49 rfl) rfl
theorem q107 : (Jvm.Cond.code ({ cls := "java/lang/Object", name := "<init>", desc := "()V" } : Jvm.MethodName) object_method_1_code (1 : Nat) (Option.none : Option Jvm.ClassFile.FieldType)) ∈ lw_all := lw_g (lw_at lw_m1 50 rfl) rfl
/-! java/lang/RuntimeException -/
set_option maxRecDepth 100000
def RJ2 : String := "java/lang/RuntimeException"
abbrev cJ2_init : ByteArray := prog_32_method_2_code
def yJ2_init : MethodName := ⟨RJ2, "<init>", "(Ljava/lang/String;)V"⟩
def dkwJ2_init_0 : List UInt8 := [42, 43, 183, 0, 7, 177]
abbrev dktJ2_init_0 : List UInt8 := dkwJ2_init_0 ++ []
theorem dksJ2_init_0 : cJ2_init.data.toList.drop 0 = dktJ2_init_0 := by decide +kernel
theorem dJ2_init_0 : decode cJ2_init 0 = .ok (.aload_n 0, 1) := dk_42 (dk_at dksJ2_init_0 0 rfl rfl)
theorem dJ2_init_1 : decode cJ2_init 1 = .ok (.aload_n 1, 1) := dk_43 (dk_at dksJ2_init_0 1 rfl rfl)
theorem dJ2_init_2 : decode cJ2_init 2 = .ok (.invokespecial 7, 3) := dk_183 0 7 (dk_at dksJ2_init_0 2 rfl rfl)
theorem dJ2_init_5 : decode cJ2_init 5 = .ok (.return_, 1) := dk_177 (dk_at dksJ2_init_0 5 rfl rfl)
abbrev cJ2_init_2 : ByteArray := prog_32_method_1_code
def yJ2_init_2 : MethodName := ⟨RJ2, "<init>", "()V"⟩
theorem dJ2_init_2_0 : decode cJ2_init_2 0 = .ok (.aload_n 0, 1) := by decide +kernel
theorem dJ2_init_2_1 : decode cJ2_init_2 1 = .ok (.invokespecial 1, 3) := by decide +kernel
theorem dJ2_init_2_4 : decode cJ2_init_2 4 = .ok (.return_, 1) := by decide +kernel
theorem q64 : (Jvm.Cond.initialized "java/lang/RuntimeException") ∈ lw_all := lw_g (lw_at lw_m1 7 rfl) rfl
theorem q97 : (Jvm.Cond.instanceMethod ({ cls := "java/lang/RuntimeException", name := "<init>", desc := "(Ljava/lang/String;)V" } : Jvm.MethodName)) ∈ lw_all := lw_g (lw_at lw_m1 40 rfl) rfl
theorem q98 : (Jvm.Cond.code ({ cls := "java/lang/RuntimeException", name := "<init>", desc := "(Ljava/lang/String;)V" } : Jvm.MethodName) prog_32_method_2_code (2 : Nat) (Option.none : Option Jvm.ClassFile.FieldType)) ∈ lw_all := lw_g (lw_at lw_m1 41 rfl) rfl
theorem q99 : (Jvm.Cond.methodLink "java/lang/RuntimeException" (7 : Nat) ({ cls := "java/lang/Exception", name := "<init>", desc := "(Ljava/lang/String;)V" } : Jvm.MethodName)) ∈ lw_all := lw_g (lw_at lw_m1 42 rfl) rfl
theorem q131 : (Jvm.Cond.sameMethod "java/lang/RuntimeException" "java/lang/Throwable" "fillInStackTrace" "()Ljava/lang/Throwable;") ∈ lw_all := lw_g (lw_at lw_m1 74 rfl) rfl
theorem q134 : (Jvm.Cond.superclass "java/lang/RuntimeException" "java/lang/Exception") ∈ lw_all := lw_g (lw_at lw_m1 77 rfl) rfl
theorem q161 : (Jvm.Cond.declares ({ cls := "java/lang/RuntimeException", name := "<init>", desc := "()V" } : Jvm.MethodName)) ∈ lw_tbl := lw_at lw_m1 104 rfl
theorem q162 : (Jvm.Cond.declares ({ cls := "java/lang/RuntimeException", name := "<init>", desc := "(Ljava/lang/String;)V" } : Jvm.MethodName)) ∈ lw_tbl := lw_at lw_m1 105 rfl
theorem q974 : (Jvm.Cond.instanceMethod ({ cls := "java/lang/RuntimeException", name := "<init>", desc := "()V" } : Jvm.MethodName)) ∈ lw_all := lw_g (lw_at lw_m4 197 rfl) rfl
theorem q975 : (Jvm.Cond.code ({ cls := "java/lang/RuntimeException", name := "<init>", desc := "()V" } : Jvm.MethodName) prog_32_method_1_code (1 : Nat) (Option.none : Option Jvm.ClassFile.FieldType)) ∈ lw_all := lw_g (lw_at lw_m4 198 rfl) rfl
theorem q976 : (Jvm.Cond.methodLink "java/lang/RuntimeException" (1 : Nat) ({ cls := "java/lang/Exception", name := "<init>", desc := "()V" } : Jvm.MethodName)) ∈ lw_all := lw_g (lw_at lw_m4 199 rfl) rfl
theorem q991 : (Jvm.Cond.castable "java/lang/RuntimeException" "java/lang/Throwable") ∈ lw_tbl := lw_at lw_m4 214 rfl
/-! java/lang/ClassCastException -/
set_option maxRecDepth 100000
def RJ3 : String := "java/lang/ClassCastException"
def TJ3 : u_T := fun k => match k with
  | 0 => ("java/lang/Throwable", "backtrace", "Ljava/lang/Object;", false)
  | 1 => ("java/lang/Throwable", "detailMessage", "Ljava/lang/String;", false)
  | 2 => ("java/lang/Throwable", "cause", "Ljava/lang/Throwable;", false)
  | 3 => ("java/lang/Throwable", "stackTrace", "[Ljava/lang/StackTraceElement;", false)
  | 4 => ("java/lang/Throwable", "depth", "I", false)
  | _ => ("java/lang/Throwable", "suppressedExceptions", "Ljava/util/List;", false)
def tyJ3 : Nat → FieldType := fun k => match k with
  | 0 => .object "java/lang/Object"
  | 1 => .object "java/lang/String"
  | 2 => .object "java/lang/Throwable"
  | 3 => .array (.object "java/lang/StackTraceElement")
  | 4 => .int
  | _ => .object "java/util/List"
abbrev wsJ30 : List Cond := u_ws RJ3 TJ3 6
theorem nmJ3 : ∀ a, a < 6 → ∀ b, b < 6 → a ≠ b → (TJ3 a).2.1 ≠ (TJ3 b).2.1 := by decide +kernel
theorem tyJ3_ok : ∀ k, k < 6 → parseFieldDescriptor (TJ3 k).2.2.1 = some (tyJ3 k) := by decide +kernel
abbrev cJ3_init : ByteArray := prog_23_method_2_code
def yJ3_init : MethodName := ⟨RJ3, "<init>", "(Ljava/lang/String;)V"⟩
def dkwJ3_init_0 : List UInt8 := [42, 43, 183, 0, 7, 177]
abbrev dktJ3_init_0 : List UInt8 := dkwJ3_init_0 ++ []
theorem dksJ3_init_0 : cJ3_init.data.toList.drop 0 = dktJ3_init_0 := by decide +kernel
theorem dJ3_init_0 : decode cJ3_init 0 = .ok (.aload_n 0, 1) := dk_42 (dk_at dksJ3_init_0 0 rfl rfl)
theorem dJ3_init_1 : decode cJ3_init 1 = .ok (.aload_n 1, 1) := dk_43 (dk_at dksJ3_init_0 1 rfl rfl)
theorem dJ3_init_2 : decode cJ3_init 2 = .ok (.invokespecial 7, 3) := dk_183 0 7 (dk_at dksJ3_init_0 2 rfl rfl)
theorem dJ3_init_5 : decode cJ3_init 5 = .ok (.return_, 1) := dk_177 (dk_at dksJ3_init_0 5 rfl rfl)
theorem q65 : (Jvm.Cond.initialized "java/lang/ClassCastException") ∈ lw_all := lw_g (lw_at lw_m1 8 rfl) rfl
theorem q93 : (Jvm.Cond.instantiable "java/lang/ClassCastException" (6 : Nat)) ∈ lw_all := lw_g (lw_at lw_m1 36 rfl) rfl
theorem q94 : (Jvm.Cond.instanceMethod ({ cls := "java/lang/ClassCastException", name := "<init>", desc := "(Ljava/lang/String;)V" } : Jvm.MethodName)) ∈ lw_all := lw_g (lw_at lw_m1 37 rfl) rfl
theorem q95 : (Jvm.Cond.code ({ cls := "java/lang/ClassCastException", name := "<init>", desc := "(Ljava/lang/String;)V" } : Jvm.MethodName) prog_23_method_2_code (2 : Nat) (Option.none : Option Jvm.ClassFile.FieldType)) ∈ lw_all := lw_g (lw_at lw_m1 38 rfl) rfl
theorem q96 : (Jvm.Cond.methodLink "java/lang/ClassCastException" (7 : Nat) ({ cls := "java/lang/RuntimeException", name := "<init>", desc := "(Ljava/lang/String;)V" } : Jvm.MethodName)) ∈ lw_all := lw_g (lw_at lw_m1 39 rfl) rfl
theorem q118 : (Jvm.Cond.selects "java/lang/ClassCastException" ({ cls := "java/lang/Throwable", name := "fillInStackTrace", desc := "()Ljava/lang/Throwable;" } : Jvm.MethodName) ({ cls := "java/lang/Throwable", name := "fillInStackTrace", desc := "()Ljava/lang/Throwable;" } : Jvm.MethodName)) ∈ lw_all := lw_g (lw_at lw_m1 61 rfl) rfl
theorem q147 : (Jvm.Cond.lays "java/lang/ClassCastException" "java/lang/Throwable" "backtrace" "Ljava/lang/Object;") ∈ lw_all := lw_g (lw_at lw_m1 90 rfl) rfl
theorem q149 : (Jvm.Cond.lays "java/lang/ClassCastException" "java/lang/Throwable" "detailMessage" "Ljava/lang/String;") ∈ lw_all := lw_g (lw_at lw_m1 92 rfl) rfl
theorem q151 : (Jvm.Cond.lays "java/lang/ClassCastException" "java/lang/Throwable" "cause" "Ljava/lang/Throwable;") ∈ lw_all := lw_g (lw_at lw_m1 94 rfl) rfl
theorem q153 : (Jvm.Cond.lays "java/lang/ClassCastException" "java/lang/Throwable" "stackTrace" "[Ljava/lang/StackTraceElement;") ∈ lw_all := lw_g (lw_at lw_m1 96 rfl) rfl
theorem q155 : (Jvm.Cond.lays "java/lang/ClassCastException" "java/lang/Throwable" "depth" "I") ∈ lw_all := lw_g (lw_at lw_m1 98 rfl) rfl
theorem q157 : (Jvm.Cond.lays "java/lang/ClassCastException" "java/lang/Throwable" "suppressedExceptions" "Ljava/util/List;") ∈ lw_all := lw_g (lw_at lw_m1 100 rfl) rfl
theorem q159 : (Jvm.Cond.superclass "java/lang/ClassCastException" "java/lang/RuntimeException") ∈ lw_all := lw_g (lw_at lw_m1 102 rfl) rfl
theorem q160 : (Jvm.Cond.castable "java/lang/ClassCastException" "java/lang/ClassCastException") ∈ lw_tbl := lw_at lw_m1 103 rfl
theorem q167 : (Jvm.Cond.selects "java/lang/ClassCastException" ({ cls := "java/lang/Throwable", name := "fillInStackTrace", desc := "(I)Ljava/lang/Throwable;" } : Jvm.MethodName) ({ cls := "java/lang/Throwable", name := "fillInStackTrace", desc := "(I)Ljava/lang/Throwable;" } : Jvm.MethodName)) ∈ lw_all := lw_g (lw_at lw_m1 110 rfl) rfl
theorem in_J3 : ∀ w ∈ wsJ30, w ∈ lw_all := lw_in wsJ30 [147, 149, 151, 153, 155, 157] (by decide +kernel) (by decide +kernel)
/-! java/lang/String -/
set_option maxRecDepth 100000
def RJ4 : String := "java/lang/String"
def TJ4 : u_T := fun k => match k with
  | 0 => ("java/lang/String", "value", "[B", true)
  | _ => ("java/lang/String", "coder", "B", true)
def tyJ4 : Nat → FieldType := fun k => match k with
  | 0 => .array .byte
  | _ => .byte
abbrev wsJ40 : List Cond := u_ws RJ4 TJ4 2
theorem nmJ4 : ∀ a, a < 2 → ∀ b, b < 2 → a ≠ b → (TJ4 a).2.1 ≠ (TJ4 b).2.1 := by decide +kernel
theorem tyJ4_ok : ∀ k, k < 2 → parseFieldDescriptor (TJ4 k).2.2.1 = some (tyJ4 k) := by decide +kernel
theorem q66 : (Jvm.Cond.initialized "java/lang/String") ∈ lw_all := lw_g (lw_at lw_m1 9 rfl) rfl
theorem q177 : (Jvm.Cond.instantiable "java/lang/String" (4 : Nat)) ∈ lw_all := lw_g (lw_at lw_m1 120 rfl) rfl
theorem q179 : (Jvm.Cond.laysFinal "java/lang/String" "java/lang/String" "value" "[B") ∈ lw_all := lw_g (lw_at lw_m1 122 rfl) rfl
theorem q180 : (Jvm.Cond.soleField "java/lang/String" "value") ∈ lw_all := lw_g (lw_at lw_m1 123 rfl) rfl
theorem q181 : (Jvm.Cond.laysFinal "java/lang/String" "java/lang/String" "coder" "B") ∈ lw_all := lw_g (lw_at lw_m1 124 rfl) rfl
theorem q182 : (Jvm.Cond.soleField "java/lang/String" "coder") ∈ lw_all := lw_g (lw_at lw_m1 125 rfl) rfl
theorem in_J4 : ∀ w ∈ wsJ40, w ∈ lw_all := lw_in wsJ40 [179, 181] (by decide +kernel) (by decide +kernel)
/-! java/lang/Integer -/
set_option maxRecDepth 100000
def RJ5 : String := "java/lang/Integer"
abbrev cJ5_compare : ByteArray := prog_28_method_40_code
def yJ5_compare : MethodName := ⟨RJ5, "compare", "(II)I"⟩
def dkwJ5_compare_0 : List UInt8 := [26, 27, 162, 0, 7, 2, 167, 0, 13, 26, 27, 160, 0, 7, 3, 167, 0, 4, 4, 172]
abbrev dktJ5_compare_0 : List UInt8 := dkwJ5_compare_0 ++ []
theorem dksJ5_compare_0 : cJ5_compare.data.toList.drop 0 = dktJ5_compare_0 := by decide +kernel
theorem dJ5_compare_0 : decode cJ5_compare 0 = .ok (.iload_n 0, 1) := dk_26 (dk_at dksJ5_compare_0 0 rfl rfl)
theorem dJ5_compare_1 : decode cJ5_compare 1 = .ok (.iload_n 1, 1) := dk_27 (dk_at dksJ5_compare_0 1 rfl rfl)
theorem dJ5_compare_2 : decode cJ5_compare 2 = .ok (.if_icmp .ge 7, 3) := dk_162 0 7 (dk_at dksJ5_compare_0 2 rfl rfl)
theorem dJ5_compare_5 : decode cJ5_compare 5 = .ok (.iconst (-1), 1) := dk_2 (dk_at dksJ5_compare_0 5 rfl rfl)
theorem dJ5_compare_6 : decode cJ5_compare 6 = .ok (.goto 13, 3) := dk_167 0 13 (dk_at dksJ5_compare_0 6 rfl rfl)
theorem dJ5_compare_9 : decode cJ5_compare 9 = .ok (.iload_n 0, 1) := dk_26 (dk_at dksJ5_compare_0 9 rfl rfl)
theorem dJ5_compare_10 : decode cJ5_compare 10 = .ok (.iload_n 1, 1) := dk_27 (dk_at dksJ5_compare_0 10 rfl rfl)
theorem dJ5_compare_11 : decode cJ5_compare 11 = .ok (.if_icmp .ne 7, 3) := dk_160 0 7 (dk_at dksJ5_compare_0 11 rfl rfl)
theorem dJ5_compare_14 : decode cJ5_compare 14 = .ok (.iconst 0, 1) := dk_3 (dk_at dksJ5_compare_0 14 rfl rfl)
theorem dJ5_compare_15 : decode cJ5_compare 15 = .ok (.goto 4, 3) := dk_167 0 4 (dk_at dksJ5_compare_0 15 rfl rfl)
theorem dJ5_compare_18 : decode cJ5_compare 18 = .ok (.iconst 1, 1) := dk_4 (dk_at dksJ5_compare_0 18 rfl rfl)
theorem dJ5_compare_19 : decode cJ5_compare 19 = .ok (.ireturn, 1) := dk_172 (dk_at dksJ5_compare_0 19 rfl rfl)
abbrev cJ5_bitCount : ByteArray := prog_28_method_49_code
def yJ5_bitCount : MethodName := ⟨RJ5, "bitCount", "(I)I"⟩
def dkwJ5_bitCount_2 : List UInt8 := [26, 16, 63, 126, 172]
abbrev dktJ5_bitCount_2 : List UInt8 := dkwJ5_bitCount_2 ++ []
def dkwJ5_bitCount_1 : List UInt8 := [26, 26, 7, 124, 96, 19, 1, 11, 126, 59, 26, 26, 16, 8, 124, 96, 59, 26, 26, 16, 16, 124, 96, 59]
abbrev dktJ5_bitCount_1 : List UInt8 := dkwJ5_bitCount_1 ++ dktJ5_bitCount_2
def dkwJ5_bitCount_0 : List UInt8 := [26, 26, 4, 124, 19, 1, 9, 126, 100, 59, 26, 19, 1, 10, 126, 26, 5, 124, 19, 1, 10, 126, 96, 59]
abbrev dktJ5_bitCount_0 : List UInt8 := dkwJ5_bitCount_0 ++ dktJ5_bitCount_1
theorem dksJ5_bitCount_0 : cJ5_bitCount.data.toList.drop 0 = dktJ5_bitCount_0 := by decide +kernel
theorem dksJ5_bitCount_1 : cJ5_bitCount.data.toList.drop 24 = dktJ5_bitCount_1 := dk_seg dksJ5_bitCount_0 24 rfl rfl
theorem dksJ5_bitCount_2 : cJ5_bitCount.data.toList.drop 48 = dktJ5_bitCount_2 := dk_seg dksJ5_bitCount_1 24 rfl rfl
theorem dJ5_bitCount_0 : decode cJ5_bitCount 0 = .ok (.iload_n 0, 1) := dk_26 (dk_at dksJ5_bitCount_0 0 rfl rfl)
theorem dJ5_bitCount_1 : decode cJ5_bitCount 1 = .ok (.iload_n 0, 1) := dk_26 (dk_at dksJ5_bitCount_0 1 rfl rfl)
theorem dJ5_bitCount_2 : decode cJ5_bitCount 2 = .ok (.iconst 1, 1) := dk_4 (dk_at dksJ5_bitCount_0 2 rfl rfl)
theorem dJ5_bitCount_3 : decode cJ5_bitCount 3 = .ok (.iushr, 1) := dk_124 (dk_at dksJ5_bitCount_0 3 rfl rfl)
theorem dJ5_bitCount_4 : decode cJ5_bitCount 4 = .ok (.ldc_w 265, 3) := dk_19 1 9 (dk_at dksJ5_bitCount_0 4 rfl rfl)
theorem dJ5_bitCount_7 : decode cJ5_bitCount 7 = .ok (.iand, 1) := dk_126 (dk_at dksJ5_bitCount_0 7 rfl rfl)
theorem dJ5_bitCount_8 : decode cJ5_bitCount 8 = .ok (.isub, 1) := dk_100 (dk_at dksJ5_bitCount_0 8 rfl rfl)
theorem dJ5_bitCount_9 : decode cJ5_bitCount 9 = .ok (.istore_n 0, 1) := dk_59 (dk_at dksJ5_bitCount_0 9 rfl rfl)
theorem dJ5_bitCount_10 : decode cJ5_bitCount 10 = .ok (.iload_n 0, 1) := dk_26 (dk_at dksJ5_bitCount_0 10 rfl rfl)
theorem dJ5_bitCount_11 : decode cJ5_bitCount 11 = .ok (.ldc_w 266, 3) := dk_19 1 10 (dk_at dksJ5_bitCount_0 11 rfl rfl)
theorem dJ5_bitCount_14 : decode cJ5_bitCount 14 = .ok (.iand, 1) := dk_126 (dk_at dksJ5_bitCount_0 14 rfl rfl)
theorem dJ5_bitCount_15 : decode cJ5_bitCount 15 = .ok (.iload_n 0, 1) := dk_26 (dk_at dksJ5_bitCount_0 15 rfl rfl)
theorem dJ5_bitCount_16 : decode cJ5_bitCount 16 = .ok (.iconst 2, 1) := dk_5 (dk_at dksJ5_bitCount_0 16 rfl rfl)
theorem dJ5_bitCount_17 : decode cJ5_bitCount 17 = .ok (.iushr, 1) := dk_124 (dk_at dksJ5_bitCount_0 17 rfl rfl)
theorem dJ5_bitCount_18 : decode cJ5_bitCount 18 = .ok (.ldc_w 266, 3) := dk_19 1 10 (dk_at dksJ5_bitCount_0 18 rfl rfl)
theorem dJ5_bitCount_21 : decode cJ5_bitCount 21 = .ok (.iand, 1) := dk_126 (dk_at dksJ5_bitCount_0 21 rfl rfl)
theorem dJ5_bitCount_22 : decode cJ5_bitCount 22 = .ok (.iadd, 1) := dk_96 (dk_at dksJ5_bitCount_0 22 rfl rfl)
theorem dJ5_bitCount_23 : decode cJ5_bitCount 23 = .ok (.istore_n 0, 1) := dk_59 (dk_at dksJ5_bitCount_0 23 rfl rfl)
theorem dJ5_bitCount_24 : decode cJ5_bitCount 24 = .ok (.iload_n 0, 1) := dk_26 (dk_at dksJ5_bitCount_1 0 rfl rfl)
theorem dJ5_bitCount_25 : decode cJ5_bitCount 25 = .ok (.iload_n 0, 1) := dk_26 (dk_at dksJ5_bitCount_1 1 rfl rfl)
theorem dJ5_bitCount_26 : decode cJ5_bitCount 26 = .ok (.iconst 4, 1) := dk_7 (dk_at dksJ5_bitCount_1 2 rfl rfl)
theorem dJ5_bitCount_27 : decode cJ5_bitCount 27 = .ok (.iushr, 1) := dk_124 (dk_at dksJ5_bitCount_1 3 rfl rfl)
theorem dJ5_bitCount_28 : decode cJ5_bitCount 28 = .ok (.iadd, 1) := dk_96 (dk_at dksJ5_bitCount_1 4 rfl rfl)
theorem dJ5_bitCount_29 : decode cJ5_bitCount 29 = .ok (.ldc_w 267, 3) := dk_19 1 11 (dk_at dksJ5_bitCount_1 5 rfl rfl)
theorem dJ5_bitCount_32 : decode cJ5_bitCount 32 = .ok (.iand, 1) := dk_126 (dk_at dksJ5_bitCount_1 8 rfl rfl)
theorem dJ5_bitCount_33 : decode cJ5_bitCount 33 = .ok (.istore_n 0, 1) := dk_59 (dk_at dksJ5_bitCount_1 9 rfl rfl)
theorem dJ5_bitCount_34 : decode cJ5_bitCount 34 = .ok (.iload_n 0, 1) := dk_26 (dk_at dksJ5_bitCount_1 10 rfl rfl)
theorem dJ5_bitCount_35 : decode cJ5_bitCount 35 = .ok (.iload_n 0, 1) := dk_26 (dk_at dksJ5_bitCount_1 11 rfl rfl)
theorem dJ5_bitCount_36 : decode cJ5_bitCount 36 = .ok (.bipush 8, 2) := dk_16 8 (dk_at dksJ5_bitCount_1 12 rfl rfl)
theorem dJ5_bitCount_38 : decode cJ5_bitCount 38 = .ok (.iushr, 1) := dk_124 (dk_at dksJ5_bitCount_1 14 rfl rfl)
theorem dJ5_bitCount_39 : decode cJ5_bitCount 39 = .ok (.iadd, 1) := dk_96 (dk_at dksJ5_bitCount_1 15 rfl rfl)
theorem dJ5_bitCount_40 : decode cJ5_bitCount 40 = .ok (.istore_n 0, 1) := dk_59 (dk_at dksJ5_bitCount_1 16 rfl rfl)
theorem dJ5_bitCount_41 : decode cJ5_bitCount 41 = .ok (.iload_n 0, 1) := dk_26 (dk_at dksJ5_bitCount_1 17 rfl rfl)
theorem dJ5_bitCount_42 : decode cJ5_bitCount 42 = .ok (.iload_n 0, 1) := dk_26 (dk_at dksJ5_bitCount_1 18 rfl rfl)
theorem dJ5_bitCount_43 : decode cJ5_bitCount 43 = .ok (.bipush 16, 2) := dk_16 16 (dk_at dksJ5_bitCount_1 19 rfl rfl)
theorem dJ5_bitCount_45 : decode cJ5_bitCount 45 = .ok (.iushr, 1) := dk_124 (dk_at dksJ5_bitCount_1 21 rfl rfl)
theorem dJ5_bitCount_46 : decode cJ5_bitCount 46 = .ok (.iadd, 1) := dk_96 (dk_at dksJ5_bitCount_1 22 rfl rfl)
theorem dJ5_bitCount_47 : decode cJ5_bitCount 47 = .ok (.istore_n 0, 1) := dk_59 (dk_at dksJ5_bitCount_1 23 rfl rfl)
theorem dJ5_bitCount_48 : decode cJ5_bitCount 48 = .ok (.iload_n 0, 1) := dk_26 (dk_at dksJ5_bitCount_2 0 rfl rfl)
theorem dJ5_bitCount_49 : decode cJ5_bitCount 49 = .ok (.bipush 63, 2) := dk_16 63 (dk_at dksJ5_bitCount_2 1 rfl rfl)
theorem dJ5_bitCount_51 : decode cJ5_bitCount 51 = .ok (.iand, 1) := dk_126 (dk_at dksJ5_bitCount_2 3 rfl rfl)
theorem dJ5_bitCount_52 : decode cJ5_bitCount 52 = .ok (.ireturn, 1) := dk_172 (dk_at dksJ5_bitCount_2 4 rfl rfl)
theorem q79 : (Jvm.Cond.initialized "java/lang/Integer") ∈ lw_all := lw_g (lw_at lw_m1 22 rfl) rfl
theorem q402 : (Jvm.Cond.static ({ cls := "java/lang/Integer", name := "compare", desc := "(II)I" } : Jvm.MethodName)) ∈ lw_all := lw_g (lw_at lw_m2 105 rfl) rfl
theorem q403 : (Jvm.Cond.code ({ cls := "java/lang/Integer", name := "compare", desc := "(II)I" } : Jvm.MethodName) prog_28_method_40_code (2 : Nat) (Option.some Jvm.ClassFile.FieldType.int)) ∈ lw_all := lw_g (lw_at lw_m2 106 rfl) rfl
theorem q754 : (Jvm.Cond.static ({ cls := "java/lang/Integer", name := "bitCount", desc := "(I)I" } : Jvm.MethodName)) ∈ lw_all := lw_g (lw_at lw_m3 217 rfl) rfl
theorem q755 : (Jvm.Cond.code ({ cls := "java/lang/Integer", name := "bitCount", desc := "(I)I" } : Jvm.MethodName) prog_28_method_49_code (1 : Nat) (Option.some Jvm.ClassFile.FieldType.int)) ∈ lw_all := lw_g (lw_at lw_m3 218 rfl) rfl
theorem q756 : (Jvm.Cond.constant "java/lang/Integer" (265 : Nat) (1431655765 : Int32)) ∈ lw_all := lw_g (lw_at lw_m3 219 rfl) rfl
theorem q757 : (Jvm.Cond.constant "java/lang/Integer" (266 : Nat) (858993459 : Int32)) ∈ lw_all := lw_g (lw_at lw_m3 220 rfl) rfl
theorem q758 : (Jvm.Cond.constant "java/lang/Integer" (267 : Nat) (252645135 : Int32)) ∈ lw_all := lw_g (lw_at lw_m3 221 rfl) rfl
/-! java/lang/Math -/
set_option maxRecDepth 100000
def RJ6 : String := "java/lang/Math"
abbrev cJ6_abs : ByteArray := prog_29_method_59_code
def yJ6_abs : MethodName := ⟨RJ6, "abs", "(I)I"⟩
def dkwJ6_abs_0 : List UInt8 := [26, 156, 0, 8, 26, 116, 167, 0, 4, 26, 172]
abbrev dktJ6_abs_0 : List UInt8 := dkwJ6_abs_0 ++ []
theorem dksJ6_abs_0 : cJ6_abs.data.toList.drop 0 = dktJ6_abs_0 := by decide +kernel
theorem dJ6_abs_0 : decode cJ6_abs 0 = .ok (.iload_n 0, 1) := dk_26 (dk_at dksJ6_abs_0 0 rfl rfl)
theorem dJ6_abs_1 : decode cJ6_abs 1 = .ok (.ifCond .ge 8, 3) := dk_156 0 8 (dk_at dksJ6_abs_0 1 rfl rfl)
theorem dJ6_abs_4 : decode cJ6_abs 4 = .ok (.iload_n 0, 1) := dk_26 (dk_at dksJ6_abs_0 4 rfl rfl)
theorem dJ6_abs_5 : decode cJ6_abs 5 = .ok (.ineg, 1) := dk_116 (dk_at dksJ6_abs_0 5 rfl rfl)
theorem dJ6_abs_6 : decode cJ6_abs 6 = .ok (.goto 4, 3) := dk_167 0 4 (dk_at dksJ6_abs_0 6 rfl rfl)
theorem dJ6_abs_9 : decode cJ6_abs 9 = .ok (.iload_n 0, 1) := dk_26 (dk_at dksJ6_abs_0 9 rfl rfl)
theorem dJ6_abs_10 : decode cJ6_abs 10 = .ok (.ireturn, 1) := dk_172 (dk_at dksJ6_abs_0 10 rfl rfl)
abbrev cJ6_min : ByteArray := prog_29_method_69_code
def yJ6_min : MethodName := ⟨RJ6, "min", "(II)I"⟩
def dkwJ6_min_0 : List UInt8 := [26, 27, 163, 0, 7, 26, 167, 0, 4, 27, 172]
abbrev dktJ6_min_0 : List UInt8 := dkwJ6_min_0 ++ []
theorem dksJ6_min_0 : cJ6_min.data.toList.drop 0 = dktJ6_min_0 := by decide +kernel
theorem dJ6_min_0 : decode cJ6_min 0 = .ok (.iload_n 0, 1) := dk_26 (dk_at dksJ6_min_0 0 rfl rfl)
theorem dJ6_min_1 : decode cJ6_min 1 = .ok (.iload_n 1, 1) := dk_27 (dk_at dksJ6_min_0 1 rfl rfl)
theorem dJ6_min_2 : decode cJ6_min 2 = .ok (.if_icmp .gt 7, 3) := dk_163 0 7 (dk_at dksJ6_min_0 2 rfl rfl)
theorem dJ6_min_5 : decode cJ6_min 5 = .ok (.iload_n 0, 1) := dk_26 (dk_at dksJ6_min_0 5 rfl rfl)
theorem dJ6_min_6 : decode cJ6_min 6 = .ok (.goto 4, 3) := dk_167 0 4 (dk_at dksJ6_min_0 6 rfl rfl)
theorem dJ6_min_9 : decode cJ6_min 9 = .ok (.iload_n 1, 1) := dk_27 (dk_at dksJ6_min_0 9 rfl rfl)
theorem dJ6_min_10 : decode cJ6_min 10 = .ok (.ireturn, 1) := dk_172 (dk_at dksJ6_min_0 10 rfl rfl)
theorem q80 : (Jvm.Cond.initialized "java/lang/Math") ∈ lw_all := lw_g (lw_at lw_m1 23 rfl) rfl
theorem q405 : (Jvm.Cond.static ({ cls := "java/lang/Math", name := "abs", desc := "(I)I" } : Jvm.MethodName)) ∈ lw_all := lw_g (lw_at lw_m2 108 rfl) rfl
theorem q406 : (Jvm.Cond.code ({ cls := "java/lang/Math", name := "abs", desc := "(I)I" } : Jvm.MethodName) prog_29_method_59_code (1 : Nat) (Option.some Jvm.ClassFile.FieldType.int)) ∈ lw_all := lw_g (lw_at lw_m2 109 rfl) rfl
theorem q470 : (Jvm.Cond.static ({ cls := "java/lang/Math", name := "min", desc := "(II)I" } : Jvm.MethodName)) ∈ lw_all := lw_g (lw_at lw_m2 173 rfl) rfl
theorem q471 : (Jvm.Cond.code ({ cls := "java/lang/Math", name := "min", desc := "(II)I" } : Jvm.MethodName) prog_29_method_69_code (2 : Nat) (Option.some Jvm.ClassFile.FieldType.int)) ∈ lw_all := lw_g (lw_at lw_m2 174 rfl) rfl
/-! java/lang/NegativeArraySizeException -/
set_option maxRecDepth 100000
def RJ7 : String := "java/lang/NegativeArraySizeException"
def TJ7 : u_T := fun k => match k with
  | 0 => ("java/lang/Throwable", "backtrace", "Ljava/lang/Object;", false)
  | 1 => ("java/lang/Throwable", "detailMessage", "Ljava/lang/String;", false)
  | 2 => ("java/lang/Throwable", "cause", "Ljava/lang/Throwable;", false)
  | 3 => ("java/lang/Throwable", "stackTrace", "[Ljava/lang/StackTraceElement;", false)
  | 4 => ("java/lang/Throwable", "depth", "I", false)
  | _ => ("java/lang/Throwable", "suppressedExceptions", "Ljava/util/List;", false)
def tyJ7 : Nat → FieldType := fun k => match k with
  | 0 => .object "java/lang/Object"
  | 1 => .object "java/lang/String"
  | 2 => .object "java/lang/Throwable"
  | 3 => .array (.object "java/lang/StackTraceElement")
  | 4 => .int
  | _ => .object "java/util/List"
abbrev wsJ70 : List Cond := u_ws RJ7 TJ7 6
theorem nmJ7 : ∀ a, a < 6 → ∀ b, b < 6 → a ≠ b → (TJ7 a).2.1 ≠ (TJ7 b).2.1 := by decide +kernel
theorem tyJ7_ok : ∀ k, k < 6 → parseFieldDescriptor (TJ7 k).2.2.1 = some (tyJ7 k) := by decide +kernel
abbrev cJ7_init : ByteArray := prog_30_method_2_code
def yJ7_init : MethodName := ⟨RJ7, "<init>", "(Ljava/lang/String;)V"⟩
def dkwJ7_init_0 : List UInt8 := [42, 43, 183, 0, 7, 177]
abbrev dktJ7_init_0 : List UInt8 := dkwJ7_init_0 ++ []
theorem dksJ7_init_0 : cJ7_init.data.toList.drop 0 = dktJ7_init_0 := by decide +kernel
theorem dJ7_init_0 : decode cJ7_init 0 = .ok (.aload_n 0, 1) := dk_42 (dk_at dksJ7_init_0 0 rfl rfl)
theorem dJ7_init_1 : decode cJ7_init 1 = .ok (.aload_n 1, 1) := dk_43 (dk_at dksJ7_init_0 1 rfl rfl)
theorem dJ7_init_2 : decode cJ7_init 2 = .ok (.invokespecial 7, 3) := dk_183 0 7 (dk_at dksJ7_init_0 2 rfl rfl)
theorem dJ7_init_5 : decode cJ7_init 5 = .ok (.return_, 1) := dk_177 (dk_at dksJ7_init_0 5 rfl rfl)
theorem q81 : (Jvm.Cond.initialized "java/lang/NegativeArraySizeException") ∈ lw_all := lw_g (lw_at lw_m1 24 rfl) rfl
theorem q121 : (Jvm.Cond.selects "java/lang/NegativeArraySizeException" ({ cls := "java/lang/Throwable", name := "fillInStackTrace", desc := "()Ljava/lang/Throwable;" } : Jvm.MethodName) ({ cls := "java/lang/Throwable", name := "fillInStackTrace", desc := "()Ljava/lang/Throwable;" } : Jvm.MethodName)) ∈ lw_all := lw_g (lw_at lw_m1 64 rfl) rfl
theorem q923 : (Jvm.Cond.instantiable "java/lang/NegativeArraySizeException" (6 : Nat)) ∈ lw_all := lw_g (lw_at lw_m4 146 rfl) rfl
theorem q924 : (Jvm.Cond.instanceMethod ({ cls := "java/lang/NegativeArraySizeException", name := "<init>", desc := "(Ljava/lang/String;)V" } : Jvm.MethodName)) ∈ lw_all := lw_g (lw_at lw_m4 147 rfl) rfl
theorem q925 : (Jvm.Cond.code ({ cls := "java/lang/NegativeArraySizeException", name := "<init>", desc := "(Ljava/lang/String;)V" } : Jvm.MethodName) prog_30_method_2_code (2 : Nat) (Option.none : Option Jvm.ClassFile.FieldType)) ∈ lw_all := lw_g (lw_at lw_m4 148 rfl) rfl
theorem q926 : (Jvm.Cond.methodLink "java/lang/NegativeArraySizeException" (7 : Nat) ({ cls := "java/lang/RuntimeException", name := "<init>", desc := "(Ljava/lang/String;)V" } : Jvm.MethodName)) ∈ lw_all := lw_g (lw_at lw_m4 149 rfl) rfl
theorem q927 : (Jvm.Cond.lays "java/lang/NegativeArraySizeException" "java/lang/Throwable" "backtrace" "Ljava/lang/Object;") ∈ lw_all := lw_g (lw_at lw_m4 150 rfl) rfl
theorem q928 : (Jvm.Cond.lays "java/lang/NegativeArraySizeException" "java/lang/Throwable" "detailMessage" "Ljava/lang/String;") ∈ lw_all := lw_g (lw_at lw_m4 151 rfl) rfl
theorem q929 : (Jvm.Cond.lays "java/lang/NegativeArraySizeException" "java/lang/Throwable" "cause" "Ljava/lang/Throwable;") ∈ lw_all := lw_g (lw_at lw_m4 152 rfl) rfl
theorem q930 : (Jvm.Cond.lays "java/lang/NegativeArraySizeException" "java/lang/Throwable" "stackTrace" "[Ljava/lang/StackTraceElement;") ∈ lw_all := lw_g (lw_at lw_m4 153 rfl) rfl
theorem q931 : (Jvm.Cond.lays "java/lang/NegativeArraySizeException" "java/lang/Throwable" "depth" "I") ∈ lw_all := lw_g (lw_at lw_m4 154 rfl) rfl
theorem q932 : (Jvm.Cond.lays "java/lang/NegativeArraySizeException" "java/lang/Throwable" "suppressedExceptions" "Ljava/util/List;") ∈ lw_all := lw_g (lw_at lw_m4 155 rfl) rfl
theorem q933 : (Jvm.Cond.superclass "java/lang/NegativeArraySizeException" "java/lang/RuntimeException") ∈ lw_all := lw_g (lw_at lw_m4 156 rfl) rfl
theorem q934 : (Jvm.Cond.castable "java/lang/NegativeArraySizeException" "java/lang/NegativeArraySizeException") ∈ lw_tbl := lw_at lw_m4 157 rfl
theorem q935 : (Jvm.Cond.selects "java/lang/NegativeArraySizeException" ({ cls := "java/lang/Throwable", name := "fillInStackTrace", desc := "(I)Ljava/lang/Throwable;" } : Jvm.MethodName) ({ cls := "java/lang/Throwable", name := "fillInStackTrace", desc := "(I)Ljava/lang/Throwable;" } : Jvm.MethodName)) ∈ lw_all := lw_g (lw_at lw_m4 158 rfl) rfl
theorem in_J7 : ∀ w ∈ wsJ70, w ∈ lw_all := lw_in wsJ70 [927, 928, 929, 930, 931, 932] (by decide +kernel) (by decide +kernel)
/-! java/lang/IndexOutOfBoundsException -/
set_option maxRecDepth 100000
def RJ8 : String := "java/lang/IndexOutOfBoundsException"
abbrev cJ8_init : ByteArray := prog_27_method_2_code
def yJ8_init : MethodName := ⟨RJ8, "<init>", "(Ljava/lang/String;)V"⟩
def dkwJ8_init_0 : List UInt8 := [42, 43, 183, 0, 7, 177]
abbrev dktJ8_init_0 : List UInt8 := dkwJ8_init_0 ++ []
theorem dksJ8_init_0 : cJ8_init.data.toList.drop 0 = dktJ8_init_0 := by decide +kernel
theorem dJ8_init_0 : decode cJ8_init 0 = .ok (.aload_n 0, 1) := dk_42 (dk_at dksJ8_init_0 0 rfl rfl)
theorem dJ8_init_1 : decode cJ8_init 1 = .ok (.aload_n 1, 1) := dk_43 (dk_at dksJ8_init_0 1 rfl rfl)
theorem dJ8_init_2 : decode cJ8_init 2 = .ok (.invokespecial 7, 3) := dk_183 0 7 (dk_at dksJ8_init_0 2 rfl rfl)
theorem dJ8_init_5 : decode cJ8_init 5 = .ok (.return_, 1) := dk_177 (dk_at dksJ8_init_0 5 rfl rfl)
theorem q82 : (Jvm.Cond.initialized "java/lang/IndexOutOfBoundsException") ∈ lw_all := lw_g (lw_at lw_m1 25 rfl) rfl
theorem q946 : (Jvm.Cond.instanceMethod ({ cls := "java/lang/IndexOutOfBoundsException", name := "<init>", desc := "(Ljava/lang/String;)V" } : Jvm.MethodName)) ∈ lw_all := lw_g (lw_at lw_m4 169 rfl) rfl
theorem q947 : (Jvm.Cond.code ({ cls := "java/lang/IndexOutOfBoundsException", name := "<init>", desc := "(Ljava/lang/String;)V" } : Jvm.MethodName) prog_27_method_2_code (2 : Nat) (Option.none : Option Jvm.ClassFile.FieldType)) ∈ lw_all := lw_g (lw_at lw_m4 170 rfl) rfl
theorem q948 : (Jvm.Cond.methodLink "java/lang/IndexOutOfBoundsException" (7 : Nat) ({ cls := "java/lang/RuntimeException", name := "<init>", desc := "(Ljava/lang/String;)V" } : Jvm.MethodName)) ∈ lw_all := lw_g (lw_at lw_m4 171 rfl) rfl
theorem q957 : (Jvm.Cond.declares ({ cls := "java/lang/IndexOutOfBoundsException", name := "<init>", desc := "()V" } : Jvm.MethodName)) ∈ lw_tbl := lw_at lw_m4 180 rfl
theorem q958 : (Jvm.Cond.declares ({ cls := "java/lang/IndexOutOfBoundsException", name := "<init>", desc := "(Ljava/lang/String;)V" } : Jvm.MethodName)) ∈ lw_tbl := lw_at lw_m4 181 rfl
/-! java/lang/ArrayIndexOutOfBoundsException -/
set_option maxRecDepth 100000
def RJ9 : String := "java/lang/ArrayIndexOutOfBoundsException"
def TJ9 : u_T := fun k => match k with
  | 0 => ("java/lang/Throwable", "backtrace", "Ljava/lang/Object;", false)
  | 1 => ("java/lang/Throwable", "detailMessage", "Ljava/lang/String;", false)
  | 2 => ("java/lang/Throwable", "cause", "Ljava/lang/Throwable;", false)
  | 3 => ("java/lang/Throwable", "stackTrace", "[Ljava/lang/StackTraceElement;", false)
  | 4 => ("java/lang/Throwable", "depth", "I", false)
  | _ => ("java/lang/Throwable", "suppressedExceptions", "Ljava/util/List;", false)
def tyJ9 : Nat → FieldType := fun k => match k with
  | 0 => .object "java/lang/Object"
  | 1 => .object "java/lang/String"
  | 2 => .object "java/lang/Throwable"
  | 3 => .array (.object "java/lang/StackTraceElement")
  | 4 => .int
  | _ => .object "java/util/List"
abbrev wsJ90 : List Cond := u_ws RJ9 TJ9 6
theorem nmJ9 : ∀ a, a < 6 → ∀ b, b < 6 → a ≠ b → (TJ9 a).2.1 ≠ (TJ9 b).2.1 := by decide +kernel
theorem tyJ9_ok : ∀ k, k < 6 → parseFieldDescriptor (TJ9 k).2.2.1 = some (tyJ9 k) := by decide +kernel
abbrev cJ9_init : ByteArray := prog_22_method_2_code
def yJ9_init : MethodName := ⟨RJ9, "<init>", "(Ljava/lang/String;)V"⟩
def dkwJ9_init_0 : List UInt8 := [42, 43, 183, 0, 7, 177]
abbrev dktJ9_init_0 : List UInt8 := dkwJ9_init_0 ++ []
theorem dksJ9_init_0 : cJ9_init.data.toList.drop 0 = dktJ9_init_0 := by decide +kernel
theorem dJ9_init_0 : decode cJ9_init 0 = .ok (.aload_n 0, 1) := dk_42 (dk_at dksJ9_init_0 0 rfl rfl)
theorem dJ9_init_1 : decode cJ9_init 1 = .ok (.aload_n 1, 1) := dk_43 (dk_at dksJ9_init_0 1 rfl rfl)
theorem dJ9_init_2 : decode cJ9_init 2 = .ok (.invokespecial 7, 3) := dk_183 0 7 (dk_at dksJ9_init_0 2 rfl rfl)
theorem dJ9_init_5 : decode cJ9_init 5 = .ok (.return_, 1) := dk_177 (dk_at dksJ9_init_0 5 rfl rfl)
theorem q83 : (Jvm.Cond.initialized "java/lang/ArrayIndexOutOfBoundsException") ∈ lw_all := lw_g (lw_at lw_m1 26 rfl) rfl
theorem q117 : (Jvm.Cond.selects "java/lang/ArrayIndexOutOfBoundsException" ({ cls := "java/lang/Throwable", name := "fillInStackTrace", desc := "()Ljava/lang/Throwable;" } : Jvm.MethodName) ({ cls := "java/lang/Throwable", name := "fillInStackTrace", desc := "()Ljava/lang/Throwable;" } : Jvm.MethodName)) ∈ lw_all := lw_g (lw_at lw_m1 60 rfl) rfl
theorem q942 : (Jvm.Cond.instantiable "java/lang/ArrayIndexOutOfBoundsException" (6 : Nat)) ∈ lw_all := lw_g (lw_at lw_m4 165 rfl) rfl
theorem q943 : (Jvm.Cond.instanceMethod ({ cls := "java/lang/ArrayIndexOutOfBoundsException", name := "<init>", desc := "(Ljava/lang/String;)V" } : Jvm.MethodName)) ∈ lw_all := lw_g (lw_at lw_m4 166 rfl) rfl
theorem q944 : (Jvm.Cond.code ({ cls := "java/lang/ArrayIndexOutOfBoundsException", name := "<init>", desc := "(Ljava/lang/String;)V" } : Jvm.MethodName) prog_22_method_2_code (2 : Nat) (Option.none : Option Jvm.ClassFile.FieldType)) ∈ lw_all := lw_g (lw_at lw_m4 167 rfl) rfl
theorem q945 : (Jvm.Cond.methodLink "java/lang/ArrayIndexOutOfBoundsException" (7 : Nat) ({ cls := "java/lang/IndexOutOfBoundsException", name := "<init>", desc := "(Ljava/lang/String;)V" } : Jvm.MethodName)) ∈ lw_all := lw_g (lw_at lw_m4 168 rfl) rfl
theorem q949 : (Jvm.Cond.lays "java/lang/ArrayIndexOutOfBoundsException" "java/lang/Throwable" "backtrace" "Ljava/lang/Object;") ∈ lw_all := lw_g (lw_at lw_m4 172 rfl) rfl
theorem q950 : (Jvm.Cond.lays "java/lang/ArrayIndexOutOfBoundsException" "java/lang/Throwable" "detailMessage" "Ljava/lang/String;") ∈ lw_all := lw_g (lw_at lw_m4 173 rfl) rfl
theorem q951 : (Jvm.Cond.lays "java/lang/ArrayIndexOutOfBoundsException" "java/lang/Throwable" "cause" "Ljava/lang/Throwable;") ∈ lw_all := lw_g (lw_at lw_m4 174 rfl) rfl
theorem q952 : (Jvm.Cond.lays "java/lang/ArrayIndexOutOfBoundsException" "java/lang/Throwable" "stackTrace" "[Ljava/lang/StackTraceElement;") ∈ lw_all := lw_g (lw_at lw_m4 175 rfl) rfl
theorem q953 : (Jvm.Cond.lays "java/lang/ArrayIndexOutOfBoundsException" "java/lang/Throwable" "depth" "I") ∈ lw_all := lw_g (lw_at lw_m4 176 rfl) rfl
theorem q954 : (Jvm.Cond.lays "java/lang/ArrayIndexOutOfBoundsException" "java/lang/Throwable" "suppressedExceptions" "Ljava/util/List;") ∈ lw_all := lw_g (lw_at lw_m4 177 rfl) rfl
theorem q955 : (Jvm.Cond.superclass "java/lang/ArrayIndexOutOfBoundsException" "java/lang/IndexOutOfBoundsException") ∈ lw_all := lw_g (lw_at lw_m4 178 rfl) rfl
theorem q956 : (Jvm.Cond.castable "java/lang/ArrayIndexOutOfBoundsException" "java/lang/ArrayIndexOutOfBoundsException") ∈ lw_tbl := lw_at lw_m4 179 rfl
theorem q959 : (Jvm.Cond.selects "java/lang/ArrayIndexOutOfBoundsException" ({ cls := "java/lang/Throwable", name := "fillInStackTrace", desc := "(I)Ljava/lang/Throwable;" } : Jvm.MethodName) ({ cls := "java/lang/Throwable", name := "fillInStackTrace", desc := "(I)Ljava/lang/Throwable;" } : Jvm.MethodName)) ∈ lw_all := lw_g (lw_at lw_m4 182 rfl) rfl
theorem q1553 : (Jvm.Cond.castable "java/lang/ArrayIndexOutOfBoundsException" "java/lang/IndexOutOfBoundsException") ∈ lw_tbl := lw_at lw_m7 56 rfl
theorem in_J9 : ∀ w ∈ wsJ90, w ∈ lw_all := lw_in wsJ90 [949, 950, 951, 952, 953, 954] (by decide +kernel) (by decide +kernel)
/-! HiredByLonging$Shelf -/
set_option maxRecDepth 100000
def RX3 : String := "HiredByLonging$Shelf"
def TX3 : u_T := fun k => match k with
  | _ => ("HiredByLonging$Shelf", "held", "Ljava/lang/Object;", false)
def tyX3 : Nat → FieldType := fun k => match k with
  | _ => .object "java/lang/Object"
abbrev wsX30 : List Cond := u_ws RX3 TX3 1
theorem nmX3 : ∀ a, a < 1 → ∀ b, b < 1 → a ≠ b → (TX3 a).2.1 ≠ (TX3 b).2.1 := by decide +kernel
theorem tyX3_ok : ∀ k, k < 1 → parseFieldDescriptor (TX3 k).2.2.1 = some (tyX3 k) := by decide +kernel
abbrev cX3_init : ByteArray := prog_15_method_1_code
def yX3_init : MethodName := ⟨RX3, "<init>", "()V"⟩
theorem dX3_init_0 : decode cX3_init 0 = .ok (.aload_n 0, 1) := by decide +kernel
theorem dX3_init_1 : decode cX3_init 1 = .ok (.invokespecial 1, 3) := by decide +kernel
theorem dX3_init_4 : decode cX3_init 4 = .ok (.return_, 1) := by decide +kernel
theorem q60 : (Jvm.Cond.initialized "HiredByLonging$Shelf") ∈ lw_all := lw_g (lw_at lw_m1 3 rfl) rfl
theorem q871 : (Jvm.Cond.instantiable "HiredByLonging$Shelf" (1 : Nat)) ∈ lw_all := lw_g (lw_at lw_m4 94 rfl) rfl
theorem q873 : (Jvm.Cond.instanceMethod ({ cls := "HiredByLonging$Shelf", name := "<init>", desc := "()V" } : Jvm.MethodName)) ∈ lw_all := lw_g (lw_at lw_m4 96 rfl) rfl
theorem q874 : (Jvm.Cond.code ({ cls := "HiredByLonging$Shelf", name := "<init>", desc := "()V" } : Jvm.MethodName) prog_15_method_1_code (1 : Nat) (Option.none : Option Jvm.ClassFile.FieldType)) ∈ lw_all := lw_g (lw_at lw_m4 97 rfl) rfl
theorem q875 : (Jvm.Cond.methodLink "HiredByLonging$Shelf" (1 : Nat) ({ cls := "java/lang/Object", name := "<init>", desc := "()V" } : Jvm.MethodName)) ∈ lw_all := lw_g (lw_at lw_m4 98 rfl) rfl
theorem q877 : (Jvm.Cond.lays "HiredByLonging$Shelf" "HiredByLonging$Shelf" "held" "Ljava/lang/Object;") ∈ lw_all := lw_g (lw_at lw_m4 100 rfl) rfl
theorem q878 : (Jvm.Cond.soleField "HiredByLonging$Shelf" "held") ∈ lw_all := lw_g (lw_at lw_m4 101 rfl) rfl
theorem q879 : (Jvm.Cond.superclass "HiredByLonging$Shelf" "java/lang/Object") ∈ lw_all := lw_g (lw_at lw_m4 102 rfl) rfl
theorem in_X3 : ∀ w ∈ wsX30, w ∈ lw_all := lw_in wsX30 [877] (by decide +kernel) (by decide +kernel)
/-! HiredByLonging$Land -/
set_option maxRecDepth 100000
def RX2 : String := "HiredByLonging$Land"
def TX2 : u_T := fun k => match k with
  | 0 => ("HiredByLonging$Land", "horse", "[LHiredByLonging$Horse;", true)
  | 1 => ("HiredByLonging$Land", "home", "[I", true)
  | 2 => ("HiredByLonging$Land", "at", "[I", true)
  | 3 => ("HiredByLonging$Land", "longing", "[I", true)
  | 4 => ("HiredByLonging$Land", "horses", "I", false)
  | 5 => ("HiredByLonging$Land", "oats", "I", false)
  | _ => ("HiredByLonging$Land", "day", "I", false)
def tyX2 : Nat → FieldType := fun k => match k with
  | 0 => .array (.object "HiredByLonging$Horse")
  | 1 => .array .int
  | 2 => .array .int
  | 3 => .array .int
  | 4 => .int
  | 5 => .int
  | _ => .int
abbrev wsX20 : List Cond := u_ws RX2 TX2 7
theorem nmX2 : ∀ a, a < 7 → ∀ b, b < 7 → a ≠ b → (TX2 a).2.1 ≠ (TX2 b).2.1 := by decide +kernel
theorem tyX2_ok : ∀ k, k < 7 → parseFieldDescriptor (TX2 k).2.2.1 = some (tyX2 k) := by decide +kernel
abbrev cX2_takes : ByteArray := prog_10_method_3_code
def yX2_takes : MethodName := ⟨RX2, "takes", "(LHiredByLonging$Land;)V"⟩
def dkwX2_takes_3 : List UInt8 := [181, 0, 44, 177]
abbrev dktX2_takes_3 : List UInt8 := dkwX2_takes_3 ++ []
def dkwX2_takes_2 : List UInt8 := [184, 0, 33, 42, 43, 180, 0, 37, 181, 0, 37, 42, 43, 180, 0, 41, 181, 0, 41, 42, 43, 180, 0, 44]
abbrev dktX2_takes_2 : List UInt8 := dkwX2_takes_2 ++ dktX2_takes_3
def dkwX2_takes_1 : List UInt8 := [184, 0, 33, 43, 180, 0, 21, 42, 180, 0, 21, 184, 0, 33, 43, 180, 0, 24, 42, 180, 0, 24]
abbrev dktX2_takes_1 : List UInt8 := dkwX2_takes_1 ++ dktX2_takes_2
def dkwX2_takes_0 : List UInt8 := [43, 180, 0, 11, 3, 42, 180, 0, 11, 3, 16, 7, 184, 0, 27, 43, 180, 0, 17, 42, 180, 0, 17]
abbrev dktX2_takes_0 : List UInt8 := dkwX2_takes_0 ++ dktX2_takes_1
theorem dksX2_takes_0 : cX2_takes.data.toList.drop 0 = dktX2_takes_0 := by decide +kernel
theorem dksX2_takes_1 : cX2_takes.data.toList.drop 23 = dktX2_takes_1 := dk_seg dksX2_takes_0 23 rfl rfl
theorem dksX2_takes_2 : cX2_takes.data.toList.drop 45 = dktX2_takes_2 := dk_seg dksX2_takes_1 22 rfl rfl
theorem dksX2_takes_3 : cX2_takes.data.toList.drop 69 = dktX2_takes_3 := dk_seg dksX2_takes_2 24 rfl rfl
theorem dX2_takes_0 : decode cX2_takes 0 = .ok (.aload_n 1, 1) := dk_43 (dk_at dksX2_takes_0 0 rfl rfl)
theorem dX2_takes_1 : decode cX2_takes 1 = .ok (.getfield 11, 3) := dk_180 0 11 (dk_at dksX2_takes_0 1 rfl rfl)
theorem dX2_takes_4 : decode cX2_takes 4 = .ok (.iconst 0, 1) := dk_3 (dk_at dksX2_takes_0 4 rfl rfl)
theorem dX2_takes_5 : decode cX2_takes 5 = .ok (.aload_n 0, 1) := dk_42 (dk_at dksX2_takes_0 5 rfl rfl)
theorem dX2_takes_6 : decode cX2_takes 6 = .ok (.getfield 11, 3) := dk_180 0 11 (dk_at dksX2_takes_0 6 rfl rfl)
theorem dX2_takes_9 : decode cX2_takes 9 = .ok (.iconst 0, 1) := dk_3 (dk_at dksX2_takes_0 9 rfl rfl)
theorem dX2_takes_10 : decode cX2_takes 10 = .ok (.bipush 7, 2) := dk_16 7 (dk_at dksX2_takes_0 10 rfl rfl)
theorem dX2_takes_12 : decode cX2_takes 12 = .ok (.invokestatic 27, 3) := dk_184 0 27 (dk_at dksX2_takes_0 12 rfl rfl)
theorem dX2_takes_15 : decode cX2_takes 15 = .ok (.aload_n 1, 1) := dk_43 (dk_at dksX2_takes_0 15 rfl rfl)
theorem dX2_takes_16 : decode cX2_takes 16 = .ok (.getfield 17, 3) := dk_180 0 17 (dk_at dksX2_takes_0 16 rfl rfl)
theorem dX2_takes_19 : decode cX2_takes 19 = .ok (.aload_n 0, 1) := dk_42 (dk_at dksX2_takes_0 19 rfl rfl)
theorem dX2_takes_20 : decode cX2_takes 20 = .ok (.getfield 17, 3) := dk_180 0 17 (dk_at dksX2_takes_0 20 rfl rfl)
theorem dX2_takes_23 : decode cX2_takes 23 = .ok (.invokestatic 33, 3) := dk_184 0 33 (dk_at dksX2_takes_1 0 rfl rfl)
theorem dX2_takes_26 : decode cX2_takes 26 = .ok (.aload_n 1, 1) := dk_43 (dk_at dksX2_takes_1 3 rfl rfl)
theorem dX2_takes_27 : decode cX2_takes 27 = .ok (.getfield 21, 3) := dk_180 0 21 (dk_at dksX2_takes_1 4 rfl rfl)
theorem dX2_takes_30 : decode cX2_takes 30 = .ok (.aload_n 0, 1) := dk_42 (dk_at dksX2_takes_1 7 rfl rfl)
theorem dX2_takes_31 : decode cX2_takes 31 = .ok (.getfield 21, 3) := dk_180 0 21 (dk_at dksX2_takes_1 8 rfl rfl)
theorem dX2_takes_34 : decode cX2_takes 34 = .ok (.invokestatic 33, 3) := dk_184 0 33 (dk_at dksX2_takes_1 11 rfl rfl)
theorem dX2_takes_37 : decode cX2_takes 37 = .ok (.aload_n 1, 1) := dk_43 (dk_at dksX2_takes_1 14 rfl rfl)
theorem dX2_takes_38 : decode cX2_takes 38 = .ok (.getfield 24, 3) := dk_180 0 24 (dk_at dksX2_takes_1 15 rfl rfl)
theorem dX2_takes_41 : decode cX2_takes 41 = .ok (.aload_n 0, 1) := dk_42 (dk_at dksX2_takes_1 18 rfl rfl)
theorem dX2_takes_42 : decode cX2_takes 42 = .ok (.getfield 24, 3) := dk_180 0 24 (dk_at dksX2_takes_1 19 rfl rfl)
theorem dX2_takes_45 : decode cX2_takes 45 = .ok (.invokestatic 33, 3) := dk_184 0 33 (dk_at dksX2_takes_2 0 rfl rfl)
theorem dX2_takes_48 : decode cX2_takes 48 = .ok (.aload_n 0, 1) := dk_42 (dk_at dksX2_takes_2 3 rfl rfl)
theorem dX2_takes_49 : decode cX2_takes 49 = .ok (.aload_n 1, 1) := dk_43 (dk_at dksX2_takes_2 4 rfl rfl)
theorem dX2_takes_50 : decode cX2_takes 50 = .ok (.getfield 37, 3) := dk_180 0 37 (dk_at dksX2_takes_2 5 rfl rfl)
theorem dX2_takes_53 : decode cX2_takes 53 = .ok (.putfield 37, 3) := dk_181 0 37 (dk_at dksX2_takes_2 8 rfl rfl)
theorem dX2_takes_56 : decode cX2_takes 56 = .ok (.aload_n 0, 1) := dk_42 (dk_at dksX2_takes_2 11 rfl rfl)
theorem dX2_takes_57 : decode cX2_takes 57 = .ok (.aload_n 1, 1) := dk_43 (dk_at dksX2_takes_2 12 rfl rfl)
theorem dX2_takes_58 : decode cX2_takes 58 = .ok (.getfield 41, 3) := dk_180 0 41 (dk_at dksX2_takes_2 13 rfl rfl)
theorem dX2_takes_61 : decode cX2_takes 61 = .ok (.putfield 41, 3) := dk_181 0 41 (dk_at dksX2_takes_2 16 rfl rfl)
theorem dX2_takes_64 : decode cX2_takes 64 = .ok (.aload_n 0, 1) := dk_42 (dk_at dksX2_takes_2 19 rfl rfl)
theorem dX2_takes_65 : decode cX2_takes 65 = .ok (.aload_n 1, 1) := dk_43 (dk_at dksX2_takes_2 20 rfl rfl)
theorem dX2_takes_66 : decode cX2_takes 66 = .ok (.getfield 44, 3) := dk_180 0 44 (dk_at dksX2_takes_2 21 rfl rfl)
theorem dX2_takes_69 : decode cX2_takes 69 = .ok (.putfield 44, 3) := dk_181 0 44 (dk_at dksX2_takes_3 0 rfl rfl)
theorem dX2_takes_72 : decode cX2_takes 72 = .ok (.return_, 1) := dk_177 (dk_at dksX2_takes_3 3 rfl rfl)
abbrev cX2_copies : ByteArray := prog_10_method_2_code
def yX2_copies : MethodName := ⟨RX2, "copies", "([I[I)V"⟩
def dkwX2_copies_0 : List UInt8 := [42, 3, 43, 3, 16, 7, 184, 0, 27, 177]
abbrev dktX2_copies_0 : List UInt8 := dkwX2_copies_0 ++ []
theorem dksX2_copies_0 : cX2_copies.data.toList.drop 0 = dktX2_copies_0 := by decide +kernel
theorem dX2_copies_0 : decode cX2_copies 0 = .ok (.aload_n 0, 1) := dk_42 (dk_at dksX2_copies_0 0 rfl rfl)
theorem dX2_copies_1 : decode cX2_copies 1 = .ok (.iconst 0, 1) := dk_3 (dk_at dksX2_copies_0 1 rfl rfl)
theorem dX2_copies_2 : decode cX2_copies 2 = .ok (.aload_n 1, 1) := dk_43 (dk_at dksX2_copies_0 2 rfl rfl)
theorem dX2_copies_3 : decode cX2_copies 3 = .ok (.iconst 0, 1) := dk_3 (dk_at dksX2_copies_0 3 rfl rfl)
theorem dX2_copies_4 : decode cX2_copies 4 = .ok (.bipush 7, 2) := dk_16 7 (dk_at dksX2_copies_0 4 rfl rfl)
theorem dX2_copies_6 : decode cX2_copies 6 = .ok (.invokestatic 27, 3) := dk_184 0 27 (dk_at dksX2_copies_0 6 rfl rfl)
theorem dX2_copies_9 : decode cX2_copies 9 = .ok (.return_, 1) := dk_177 (dk_at dksX2_copies_0 9 rfl rfl)
abbrev cX2_comes : ByteArray := prog_10_method_5_code
def yX2_comes : MethodName := ⟨RX2, "comes", "(LHiredByLonging$Horse;II)I"⟩
def dkwX2_comes_2 : List UInt8 := [181, 0, 37, 42, 180, 0, 37, 4, 100, 172]
abbrev dktX2_comes_2 : List UInt8 := dkwX2_comes_2 ++ []
def dkwX2_comes_1 : List UInt8 := [42, 180, 0, 37, 29, 79, 42, 180, 0, 24, 42, 180, 0, 37, 3, 79, 42, 89, 180, 0, 37, 4, 96]
abbrev dktX2_comes_1 : List UInt8 := dkwX2_comes_1 ++ dktX2_comes_2
def dkwX2_comes_0 : List UInt8 := [42, 180, 0, 11, 42, 180, 0, 37, 43, 83, 42, 180, 0, 17, 42, 180, 0, 37, 28, 79, 42, 180, 0, 21]
abbrev dktX2_comes_0 : List UInt8 := dkwX2_comes_0 ++ dktX2_comes_1
theorem dksX2_comes_0 : cX2_comes.data.toList.drop 0 = dktX2_comes_0 := by decide +kernel
theorem dksX2_comes_1 : cX2_comes.data.toList.drop 24 = dktX2_comes_1 := dk_seg dksX2_comes_0 24 rfl rfl
theorem dksX2_comes_2 : cX2_comes.data.toList.drop 47 = dktX2_comes_2 := dk_seg dksX2_comes_1 23 rfl rfl
theorem dX2_comes_0 : decode cX2_comes 0 = .ok (.aload_n 0, 1) := dk_42 (dk_at dksX2_comes_0 0 rfl rfl)
theorem dX2_comes_1 : decode cX2_comes 1 = .ok (.getfield 11, 3) := dk_180 0 11 (dk_at dksX2_comes_0 1 rfl rfl)
theorem dX2_comes_4 : decode cX2_comes 4 = .ok (.aload_n 0, 1) := dk_42 (dk_at dksX2_comes_0 4 rfl rfl)
theorem dX2_comes_5 : decode cX2_comes 5 = .ok (.getfield 37, 3) := dk_180 0 37 (dk_at dksX2_comes_0 5 rfl rfl)
theorem dX2_comes_8 : decode cX2_comes 8 = .ok (.aload_n 1, 1) := dk_43 (dk_at dksX2_comes_0 8 rfl rfl)
theorem dX2_comes_9 : decode cX2_comes 9 = .ok (.aastore, 1) := dk_83 (dk_at dksX2_comes_0 9 rfl rfl)
theorem dX2_comes_10 : decode cX2_comes 10 = .ok (.aload_n 0, 1) := dk_42 (dk_at dksX2_comes_0 10 rfl rfl)
theorem dX2_comes_11 : decode cX2_comes 11 = .ok (.getfield 17, 3) := dk_180 0 17 (dk_at dksX2_comes_0 11 rfl rfl)
theorem dX2_comes_14 : decode cX2_comes 14 = .ok (.aload_n 0, 1) := dk_42 (dk_at dksX2_comes_0 14 rfl rfl)
theorem dX2_comes_15 : decode cX2_comes 15 = .ok (.getfield 37, 3) := dk_180 0 37 (dk_at dksX2_comes_0 15 rfl rfl)
theorem dX2_comes_18 : decode cX2_comes 18 = .ok (.iload_n 2, 1) := dk_28 (dk_at dksX2_comes_0 18 rfl rfl)
theorem dX2_comes_19 : decode cX2_comes 19 = .ok (.iastore, 1) := dk_79 (dk_at dksX2_comes_0 19 rfl rfl)
theorem dX2_comes_20 : decode cX2_comes 20 = .ok (.aload_n 0, 1) := dk_42 (dk_at dksX2_comes_0 20 rfl rfl)
theorem dX2_comes_21 : decode cX2_comes 21 = .ok (.getfield 21, 3) := dk_180 0 21 (dk_at dksX2_comes_0 21 rfl rfl)
theorem dX2_comes_24 : decode cX2_comes 24 = .ok (.aload_n 0, 1) := dk_42 (dk_at dksX2_comes_1 0 rfl rfl)
theorem dX2_comes_25 : decode cX2_comes 25 = .ok (.getfield 37, 3) := dk_180 0 37 (dk_at dksX2_comes_1 1 rfl rfl)
theorem dX2_comes_28 : decode cX2_comes 28 = .ok (.iload_n 3, 1) := dk_29 (dk_at dksX2_comes_1 4 rfl rfl)
theorem dX2_comes_29 : decode cX2_comes 29 = .ok (.iastore, 1) := dk_79 (dk_at dksX2_comes_1 5 rfl rfl)
theorem dX2_comes_30 : decode cX2_comes 30 = .ok (.aload_n 0, 1) := dk_42 (dk_at dksX2_comes_1 6 rfl rfl)
theorem dX2_comes_31 : decode cX2_comes 31 = .ok (.getfield 24, 3) := dk_180 0 24 (dk_at dksX2_comes_1 7 rfl rfl)
theorem dX2_comes_34 : decode cX2_comes 34 = .ok (.aload_n 0, 1) := dk_42 (dk_at dksX2_comes_1 10 rfl rfl)
theorem dX2_comes_35 : decode cX2_comes 35 = .ok (.getfield 37, 3) := dk_180 0 37 (dk_at dksX2_comes_1 11 rfl rfl)
theorem dX2_comes_38 : decode cX2_comes 38 = .ok (.iconst 0, 1) := dk_3 (dk_at dksX2_comes_1 14 rfl rfl)
theorem dX2_comes_39 : decode cX2_comes 39 = .ok (.iastore, 1) := dk_79 (dk_at dksX2_comes_1 15 rfl rfl)
theorem dX2_comes_40 : decode cX2_comes 40 = .ok (.aload_n 0, 1) := dk_42 (dk_at dksX2_comes_1 16 rfl rfl)
theorem dX2_comes_41 : decode cX2_comes 41 = .ok (.dup, 1) := dk_89 (dk_at dksX2_comes_1 17 rfl rfl)
theorem dX2_comes_42 : decode cX2_comes 42 = .ok (.getfield 37, 3) := dk_180 0 37 (dk_at dksX2_comes_1 18 rfl rfl)
theorem dX2_comes_45 : decode cX2_comes 45 = .ok (.iconst 1, 1) := dk_4 (dk_at dksX2_comes_1 21 rfl rfl)
theorem dX2_comes_46 : decode cX2_comes 46 = .ok (.iadd, 1) := dk_96 (dk_at dksX2_comes_1 22 rfl rfl)
theorem dX2_comes_47 : decode cX2_comes 47 = .ok (.putfield 37, 3) := dk_181 0 37 (dk_at dksX2_comes_2 0 rfl rfl)
theorem dX2_comes_50 : decode cX2_comes 50 = .ok (.aload_n 0, 1) := dk_42 (dk_at dksX2_comes_2 3 rfl rfl)
theorem dX2_comes_51 : decode cX2_comes 51 = .ok (.getfield 37, 3) := dk_180 0 37 (dk_at dksX2_comes_2 4 rfl rfl)
theorem dX2_comes_54 : decode cX2_comes 54 = .ok (.iconst 1, 1) := dk_4 (dk_at dksX2_comes_2 7 rfl rfl)
theorem dX2_comes_55 : decode cX2_comes 55 = .ok (.isub, 1) := dk_100 (dk_at dksX2_comes_2 8 rfl rfl)
theorem dX2_comes_56 : decode cX2_comes 56 = .ok (.ireturn, 1) := dk_172 (dk_at dksX2_comes_2 9 rfl rfl)
abbrev cX2_isHorse : ByteArray := prog_10_method_4_code
def yX2_isHorse : MethodName := ⟨RX2, "isHorse", "(I)Z"⟩
def dkwX2_isHorse_0 : List UInt8 := [27, 3, 42, 180, 0, 37, 4, 100, 184, 0, 47, 172]
abbrev dktX2_isHorse_0 : List UInt8 := dkwX2_isHorse_0 ++ []
theorem dksX2_isHorse_0 : cX2_isHorse.data.toList.drop 0 = dktX2_isHorse_0 := by decide +kernel
theorem dX2_isHorse_0 : decode cX2_isHorse 0 = .ok (.iload_n 1, 1) := dk_27 (dk_at dksX2_isHorse_0 0 rfl rfl)
theorem dX2_isHorse_1 : decode cX2_isHorse 1 = .ok (.iconst 0, 1) := dk_3 (dk_at dksX2_isHorse_0 1 rfl rfl)
theorem dX2_isHorse_2 : decode cX2_isHorse 2 = .ok (.aload_n 0, 1) := dk_42 (dk_at dksX2_isHorse_0 2 rfl rfl)
theorem dX2_isHorse_3 : decode cX2_isHorse 3 = .ok (.getfield 37, 3) := dk_180 0 37 (dk_at dksX2_isHorse_0 3 rfl rfl)
theorem dX2_isHorse_6 : decode cX2_isHorse 6 = .ok (.iconst 1, 1) := dk_4 (dk_at dksX2_isHorse_0 6 rfl rfl)
theorem dX2_isHorse_7 : decode cX2_isHorse 7 = .ok (.isub, 1) := dk_100 (dk_at dksX2_isHorse_0 7 rfl rfl)
theorem dX2_isHorse_8 : decode cX2_isHorse 8 = .ok (.invokestatic 47, 3) := dk_184 0 47 (dk_at dksX2_isHorse_0 8 rfl rfl)
theorem dX2_isHorse_11 : decode cX2_isHorse 11 = .ok (.ireturn, 1) := dk_172 (dk_at dksX2_isHorse_0 11 rfl rfl)
abbrev cX2_rides : ByteArray := prog_10_method_13_code
def yX2_rides : MethodName := ⟨RX2, "rides", "(II)I"⟩
def dkwX2_rides_1 : List UInt8 := [132, 3, 1, 167, 255, 232, 29, 172]
abbrev dktX2_rides_1 : List UInt8 := dkwX2_rides_1 ++ []
def dkwX2_rides_0 : List UInt8 := [3, 62, 42, 180, 0, 21, 27, 46, 28, 159, 0, 20, 42, 27, 28, 182, 0, 95, 42, 3, 182, 0, 81]
abbrev dktX2_rides_0 : List UInt8 := dkwX2_rides_0 ++ dktX2_rides_1
theorem dksX2_rides_0 : cX2_rides.data.toList.drop 0 = dktX2_rides_0 := by decide +kernel
theorem dksX2_rides_1 : cX2_rides.data.toList.drop 23 = dktX2_rides_1 := dk_seg dksX2_rides_0 23 rfl rfl
theorem dX2_rides_0 : decode cX2_rides 0 = .ok (.iconst 0, 1) := dk_3 (dk_at dksX2_rides_0 0 rfl rfl)
theorem dX2_rides_1 : decode cX2_rides 1 = .ok (.istore_n 3, 1) := dk_62 (dk_at dksX2_rides_0 1 rfl rfl)
theorem dX2_rides_2 : decode cX2_rides 2 = .ok (.aload_n 0, 1) := dk_42 (dk_at dksX2_rides_0 2 rfl rfl)
theorem dX2_rides_3 : decode cX2_rides 3 = .ok (.getfield 21, 3) := dk_180 0 21 (dk_at dksX2_rides_0 3 rfl rfl)
theorem dX2_rides_6 : decode cX2_rides 6 = .ok (.iload_n 1, 1) := dk_27 (dk_at dksX2_rides_0 6 rfl rfl)
theorem dX2_rides_7 : decode cX2_rides 7 = .ok (.iaload, 1) := dk_46 (dk_at dksX2_rides_0 7 rfl rfl)
theorem dX2_rides_8 : decode cX2_rides 8 = .ok (.iload_n 2, 1) := dk_28 (dk_at dksX2_rides_0 8 rfl rfl)
theorem dX2_rides_9 : decode cX2_rides 9 = .ok (.if_icmp .eq 20, 3) := dk_159 0 20 (dk_at dksX2_rides_0 9 rfl rfl)
theorem dX2_rides_12 : decode cX2_rides 12 = .ok (.aload_n 0, 1) := dk_42 (dk_at dksX2_rides_0 12 rfl rfl)
theorem dX2_rides_13 : decode cX2_rides 13 = .ok (.iload_n 1, 1) := dk_27 (dk_at dksX2_rides_0 13 rfl rfl)
theorem dX2_rides_14 : decode cX2_rides 14 = .ok (.iload_n 2, 1) := dk_28 (dk_at dksX2_rides_0 14 rfl rfl)
theorem dX2_rides_15 : decode cX2_rides 15 = .ok (.invokevirtual 95, 3) := dk_182 0 95 (dk_at dksX2_rides_0 15 rfl rfl)
theorem dX2_rides_18 : decode cX2_rides 18 = .ok (.aload_n 0, 1) := dk_42 (dk_at dksX2_rides_0 18 rfl rfl)
theorem dX2_rides_19 : decode cX2_rides 19 = .ok (.iconst 0, 1) := dk_3 (dk_at dksX2_rides_0 19 rfl rfl)
theorem dX2_rides_20 : decode cX2_rides 20 = .ok (.invokevirtual 81, 3) := dk_182 0 81 (dk_at dksX2_rides_0 20 rfl rfl)
theorem dX2_rides_23 : decode cX2_rides 23 = .ok (.iinc 3 1, 3) := dk_132 3 1 (dk_at dksX2_rides_1 0 rfl rfl)
theorem dX2_rides_26 : decode cX2_rides 26 = .ok (.goto (-24), 3) := dk_167 255 232 (dk_at dksX2_rides_1 3 rfl rfl)
theorem dX2_rides_29 : decode cX2_rides 29 = .ok (.iload_n 3, 1) := dk_29 (dk_at dksX2_rides_1 6 rfl rfl)
theorem dX2_rides_30 : decode cX2_rides 30 = .ok (.ireturn, 1) := dk_172 (dk_at dksX2_rides_1 7 rfl rfl)
abbrev cX2_stepsTo : ByteArray := prog_10_method_12_code
def yX2_stepsTo : MethodName := ⟨RX2, "stepsTo", "(II)V"⟩
def dkwX2_stepsTo_4 : List UInt8 := [29, 21, 7, 21, 4, 184, 0, 73, 104, 96, 79, 177]
abbrev dktX2_stepsTo_4 : List UInt8 := dkwX2_stepsTo_4 ++ []
def dkwX2_stepsTo_3 : List UInt8 := [184, 0, 73, 167, 0, 12, 42, 180, 0, 11, 27, 50, 182, 0, 91, 54, 7, 42, 180, 0, 21, 27, 92, 46]
abbrev dktX2_stepsTo_3 : List UInt8 := dkwX2_stepsTo_3 ++ dktX2_stepsTo_4
def dkwX2_stepsTo_2 : List UInt8 := [4, 167, 0, 4, 3, 54, 6, 21, 6, 153, 0, 19, 42, 27, 182, 0, 90, 21, 5, 184, 0, 65]
abbrev dktX2_stepsTo_2 : List UInt8 := dkwX2_stepsTo_2 ++ dktX2_stepsTo_3
def dkwX2_stepsTo_1 : List UInt8 := [42, 27, 182, 0, 59, 42, 180, 0, 21, 27, 46, 100, 54, 5, 21, 5, 3, 184, 0, 85, 29, 160, 0, 7]
abbrev dktX2_stepsTo_1 : List UInt8 := dkwX2_stepsTo_1 ++ dktX2_stepsTo_2
def dkwX2_stepsTo_0 : List UInt8 := [28, 42, 180, 0, 21, 27, 46, 184, 0, 85, 62, 28, 42, 180, 0, 21, 27, 46, 100, 184, 0, 65, 54, 4]
abbrev dktX2_stepsTo_0 : List UInt8 := dkwX2_stepsTo_0 ++ dktX2_stepsTo_1
theorem dksX2_stepsTo_0 : cX2_stepsTo.data.toList.drop 0 = dktX2_stepsTo_0 := by decide +kernel
theorem dksX2_stepsTo_1 : cX2_stepsTo.data.toList.drop 24 = dktX2_stepsTo_1 := dk_seg dksX2_stepsTo_0 24 rfl rfl
theorem dksX2_stepsTo_2 : cX2_stepsTo.data.toList.drop 48 = dktX2_stepsTo_2 := dk_seg dksX2_stepsTo_1 24 rfl rfl
theorem dksX2_stepsTo_3 : cX2_stepsTo.data.toList.drop 70 = dktX2_stepsTo_3 := dk_seg dksX2_stepsTo_2 22 rfl rfl
theorem dksX2_stepsTo_4 : cX2_stepsTo.data.toList.drop 94 = dktX2_stepsTo_4 := dk_seg dksX2_stepsTo_3 24 rfl rfl
theorem dX2_stepsTo_0 : decode cX2_stepsTo 0 = .ok (.iload_n 2, 1) := dk_28 (dk_at dksX2_stepsTo_0 0 rfl rfl)
theorem dX2_stepsTo_1 : decode cX2_stepsTo 1 = .ok (.aload_n 0, 1) := dk_42 (dk_at dksX2_stepsTo_0 1 rfl rfl)
theorem dX2_stepsTo_2 : decode cX2_stepsTo 2 = .ok (.getfield 21, 3) := dk_180 0 21 (dk_at dksX2_stepsTo_0 2 rfl rfl)
theorem dX2_stepsTo_5 : decode cX2_stepsTo 5 = .ok (.iload_n 1, 1) := dk_27 (dk_at dksX2_stepsTo_0 5 rfl rfl)
theorem dX2_stepsTo_6 : decode cX2_stepsTo 6 = .ok (.iaload, 1) := dk_46 (dk_at dksX2_stepsTo_0 6 rfl rfl)
theorem dX2_stepsTo_7 : decode cX2_stepsTo 7 = .ok (.invokestatic 85, 3) := dk_184 0 85 (dk_at dksX2_stepsTo_0 7 rfl rfl)
theorem dX2_stepsTo_10 : decode cX2_stepsTo 10 = .ok (.istore_n 3, 1) := dk_62 (dk_at dksX2_stepsTo_0 10 rfl rfl)
theorem dX2_stepsTo_11 : decode cX2_stepsTo 11 = .ok (.iload_n 2, 1) := dk_28 (dk_at dksX2_stepsTo_0 11 rfl rfl)
theorem dX2_stepsTo_12 : decode cX2_stepsTo 12 = .ok (.aload_n 0, 1) := dk_42 (dk_at dksX2_stepsTo_0 12 rfl rfl)
theorem dX2_stepsTo_13 : decode cX2_stepsTo 13 = .ok (.getfield 21, 3) := dk_180 0 21 (dk_at dksX2_stepsTo_0 13 rfl rfl)
theorem dX2_stepsTo_16 : decode cX2_stepsTo 16 = .ok (.iload_n 1, 1) := dk_27 (dk_at dksX2_stepsTo_0 16 rfl rfl)
theorem dX2_stepsTo_17 : decode cX2_stepsTo 17 = .ok (.iaload, 1) := dk_46 (dk_at dksX2_stepsTo_0 17 rfl rfl)
theorem dX2_stepsTo_18 : decode cX2_stepsTo 18 = .ok (.isub, 1) := dk_100 (dk_at dksX2_stepsTo_0 18 rfl rfl)
theorem dX2_stepsTo_19 : decode cX2_stepsTo 19 = .ok (.invokestatic 65, 3) := dk_184 0 65 (dk_at dksX2_stepsTo_0 19 rfl rfl)
theorem dX2_stepsTo_22 : decode cX2_stepsTo 22 = .ok (.istore 4, 2) := dk_54 4 (dk_at dksX2_stepsTo_0 22 rfl rfl)
theorem dX2_stepsTo_24 : decode cX2_stepsTo 24 = .ok (.aload_n 0, 1) := dk_42 (dk_at dksX2_stepsTo_1 0 rfl rfl)
theorem dX2_stepsTo_25 : decode cX2_stepsTo 25 = .ok (.iload_n 1, 1) := dk_27 (dk_at dksX2_stepsTo_1 1 rfl rfl)
theorem dX2_stepsTo_26 : decode cX2_stepsTo 26 = .ok (.invokevirtual 59, 3) := dk_182 0 59 (dk_at dksX2_stepsTo_1 2 rfl rfl)
theorem dX2_stepsTo_29 : decode cX2_stepsTo 29 = .ok (.aload_n 0, 1) := dk_42 (dk_at dksX2_stepsTo_1 5 rfl rfl)
theorem dX2_stepsTo_30 : decode cX2_stepsTo 30 = .ok (.getfield 21, 3) := dk_180 0 21 (dk_at dksX2_stepsTo_1 6 rfl rfl)
theorem dX2_stepsTo_33 : decode cX2_stepsTo 33 = .ok (.iload_n 1, 1) := dk_27 (dk_at dksX2_stepsTo_1 9 rfl rfl)
theorem dX2_stepsTo_34 : decode cX2_stepsTo 34 = .ok (.iaload, 1) := dk_46 (dk_at dksX2_stepsTo_1 10 rfl rfl)
theorem dX2_stepsTo_35 : decode cX2_stepsTo 35 = .ok (.isub, 1) := dk_100 (dk_at dksX2_stepsTo_1 11 rfl rfl)
theorem dX2_stepsTo_36 : decode cX2_stepsTo 36 = .ok (.istore 5, 2) := dk_54 5 (dk_at dksX2_stepsTo_1 12 rfl rfl)
theorem dX2_stepsTo_38 : decode cX2_stepsTo 38 = .ok (.iload 5, 2) := dk_21 5 (dk_at dksX2_stepsTo_1 14 rfl rfl)
theorem dX2_stepsTo_40 : decode cX2_stepsTo 40 = .ok (.iconst 0, 1) := dk_3 (dk_at dksX2_stepsTo_1 16 rfl rfl)
theorem dX2_stepsTo_41 : decode cX2_stepsTo 41 = .ok (.invokestatic 85, 3) := dk_184 0 85 (dk_at dksX2_stepsTo_1 17 rfl rfl)
theorem dX2_stepsTo_44 : decode cX2_stepsTo 44 = .ok (.iload_n 3, 1) := dk_29 (dk_at dksX2_stepsTo_1 20 rfl rfl)
theorem dX2_stepsTo_45 : decode cX2_stepsTo 45 = .ok (.if_icmp .ne 7, 3) := dk_160 0 7 (dk_at dksX2_stepsTo_1 21 rfl rfl)
theorem dX2_stepsTo_48 : decode cX2_stepsTo 48 = .ok (.iconst 1, 1) := dk_4 (dk_at dksX2_stepsTo_2 0 rfl rfl)
theorem dX2_stepsTo_49 : decode cX2_stepsTo 49 = .ok (.goto 4, 3) := dk_167 0 4 (dk_at dksX2_stepsTo_2 1 rfl rfl)
theorem dX2_stepsTo_52 : decode cX2_stepsTo 52 = .ok (.iconst 0, 1) := dk_3 (dk_at dksX2_stepsTo_2 4 rfl rfl)
theorem dX2_stepsTo_53 : decode cX2_stepsTo 53 = .ok (.istore 6, 2) := dk_54 6 (dk_at dksX2_stepsTo_2 5 rfl rfl)
theorem dX2_stepsTo_55 : decode cX2_stepsTo 55 = .ok (.iload 6, 2) := dk_21 6 (dk_at dksX2_stepsTo_2 7 rfl rfl)
theorem dX2_stepsTo_57 : decode cX2_stepsTo 57 = .ok (.ifCond .eq 19, 3) := dk_153 0 19 (dk_at dksX2_stepsTo_2 9 rfl rfl)
theorem dX2_stepsTo_60 : decode cX2_stepsTo 60 = .ok (.aload_n 0, 1) := dk_42 (dk_at dksX2_stepsTo_2 12 rfl rfl)
theorem dX2_stepsTo_61 : decode cX2_stepsTo 61 = .ok (.iload_n 1, 1) := dk_27 (dk_at dksX2_stepsTo_2 13 rfl rfl)
theorem dX2_stepsTo_62 : decode cX2_stepsTo 62 = .ok (.invokevirtual 90, 3) := dk_182 0 90 (dk_at dksX2_stepsTo_2 14 rfl rfl)
theorem dX2_stepsTo_65 : decode cX2_stepsTo 65 = .ok (.iload 5, 2) := dk_21 5 (dk_at dksX2_stepsTo_2 17 rfl rfl)
theorem dX2_stepsTo_67 : decode cX2_stepsTo 67 = .ok (.invokestatic 65, 3) := dk_184 0 65 (dk_at dksX2_stepsTo_2 19 rfl rfl)
theorem dX2_stepsTo_70 : decode cX2_stepsTo 70 = .ok (.invokestatic 73, 3) := dk_184 0 73 (dk_at dksX2_stepsTo_3 0 rfl rfl)
theorem dX2_stepsTo_73 : decode cX2_stepsTo 73 = .ok (.goto 12, 3) := dk_167 0 12 (dk_at dksX2_stepsTo_3 3 rfl rfl)
theorem dX2_stepsTo_76 : decode cX2_stepsTo 76 = .ok (.aload_n 0, 1) := dk_42 (dk_at dksX2_stepsTo_3 6 rfl rfl)
theorem dX2_stepsTo_77 : decode cX2_stepsTo 77 = .ok (.getfield 11, 3) := dk_180 0 11 (dk_at dksX2_stepsTo_3 7 rfl rfl)
theorem dX2_stepsTo_80 : decode cX2_stepsTo 80 = .ok (.iload_n 1, 1) := dk_27 (dk_at dksX2_stepsTo_3 10 rfl rfl)
theorem dX2_stepsTo_81 : decode cX2_stepsTo 81 = .ok (.aaload, 1) := dk_50 (dk_at dksX2_stepsTo_3 11 rfl rfl)
theorem dX2_stepsTo_82 : decode cX2_stepsTo 82 = .ok (.invokevirtual 91, 3) := dk_182 0 91 (dk_at dksX2_stepsTo_3 12 rfl rfl)
theorem dX2_stepsTo_85 : decode cX2_stepsTo 85 = .ok (.istore 7, 2) := dk_54 7 (dk_at dksX2_stepsTo_3 15 rfl rfl)
theorem dX2_stepsTo_87 : decode cX2_stepsTo 87 = .ok (.aload_n 0, 1) := dk_42 (dk_at dksX2_stepsTo_3 17 rfl rfl)
theorem dX2_stepsTo_88 : decode cX2_stepsTo 88 = .ok (.getfield 21, 3) := dk_180 0 21 (dk_at dksX2_stepsTo_3 18 rfl rfl)
theorem dX2_stepsTo_91 : decode cX2_stepsTo 91 = .ok (.iload_n 1, 1) := dk_27 (dk_at dksX2_stepsTo_3 21 rfl rfl)
theorem dX2_stepsTo_92 : decode cX2_stepsTo 92 = .ok (.dup2, 1) := dk_92 (dk_at dksX2_stepsTo_3 22 rfl rfl)
theorem dX2_stepsTo_93 : decode cX2_stepsTo 93 = .ok (.iaload, 1) := dk_46 (dk_at dksX2_stepsTo_3 23 rfl rfl)
theorem dX2_stepsTo_94 : decode cX2_stepsTo 94 = .ok (.iload_n 3, 1) := dk_29 (dk_at dksX2_stepsTo_4 0 rfl rfl)
theorem dX2_stepsTo_95 : decode cX2_stepsTo 95 = .ok (.iload 7, 2) := dk_21 7 (dk_at dksX2_stepsTo_4 1 rfl rfl)
theorem dX2_stepsTo_97 : decode cX2_stepsTo 97 = .ok (.iload 4, 2) := dk_21 4 (dk_at dksX2_stepsTo_4 3 rfl rfl)
theorem dX2_stepsTo_99 : decode cX2_stepsTo 99 = .ok (.invokestatic 73, 3) := dk_184 0 73 (dk_at dksX2_stepsTo_4 5 rfl rfl)
theorem dX2_stepsTo_102 : decode cX2_stepsTo 102 = .ok (.imul, 1) := dk_104 (dk_at dksX2_stepsTo_4 8 rfl rfl)
theorem dX2_stepsTo_103 : decode cX2_stepsTo 103 = .ok (.iadd, 1) := dk_96 (dk_at dksX2_stepsTo_4 9 rfl rfl)
theorem dX2_stepsTo_104 : decode cX2_stepsTo 104 = .ok (.iastore, 1) := dk_79 (dk_at dksX2_stepsTo_4 10 rfl rfl)
theorem dX2_stepsTo_105 : decode cX2_stepsTo 105 = .ok (.return_, 1) := dk_177 (dk_at dksX2_stepsTo_4 11 rfl rfl)
abbrev cX2_goal : ByteArray := prog_10_method_6_code
def yX2_goal : MethodName := ⟨RX2, "goal", "(I)I"⟩
def dkwX2_goal_1 : List UInt8 := [182, 0, 51, 172]
abbrev dktX2_goal_1 : List UInt8 := dkwX2_goal_1 ++ []
def dkwX2_goal_0 : List UInt8 := [42, 180, 0, 11, 27, 50, 42, 180, 0, 17, 27, 46, 42, 180, 0, 21, 27, 46, 42, 180, 0, 41]
abbrev dktX2_goal_0 : List UInt8 := dkwX2_goal_0 ++ dktX2_goal_1
theorem dksX2_goal_0 : cX2_goal.data.toList.drop 0 = dktX2_goal_0 := by decide +kernel
theorem dksX2_goal_1 : cX2_goal.data.toList.drop 22 = dktX2_goal_1 := dk_seg dksX2_goal_0 22 rfl rfl
theorem dX2_goal_0 : decode cX2_goal 0 = .ok (.aload_n 0, 1) := dk_42 (dk_at dksX2_goal_0 0 rfl rfl)
theorem dX2_goal_1 : decode cX2_goal 1 = .ok (.getfield 11, 3) := dk_180 0 11 (dk_at dksX2_goal_0 1 rfl rfl)
theorem dX2_goal_4 : decode cX2_goal 4 = .ok (.iload_n 1, 1) := dk_27 (dk_at dksX2_goal_0 4 rfl rfl)
theorem dX2_goal_5 : decode cX2_goal 5 = .ok (.aaload, 1) := dk_50 (dk_at dksX2_goal_0 5 rfl rfl)
theorem dX2_goal_6 : decode cX2_goal 6 = .ok (.aload_n 0, 1) := dk_42 (dk_at dksX2_goal_0 6 rfl rfl)
theorem dX2_goal_7 : decode cX2_goal 7 = .ok (.getfield 17, 3) := dk_180 0 17 (dk_at dksX2_goal_0 7 rfl rfl)
theorem dX2_goal_10 : decode cX2_goal 10 = .ok (.iload_n 1, 1) := dk_27 (dk_at dksX2_goal_0 10 rfl rfl)
theorem dX2_goal_11 : decode cX2_goal 11 = .ok (.iaload, 1) := dk_46 (dk_at dksX2_goal_0 11 rfl rfl)
theorem dX2_goal_12 : decode cX2_goal 12 = .ok (.aload_n 0, 1) := dk_42 (dk_at dksX2_goal_0 12 rfl rfl)
theorem dX2_goal_13 : decode cX2_goal 13 = .ok (.getfield 21, 3) := dk_180 0 21 (dk_at dksX2_goal_0 13 rfl rfl)
theorem dX2_goal_16 : decode cX2_goal 16 = .ok (.iload_n 1, 1) := dk_27 (dk_at dksX2_goal_0 16 rfl rfl)
theorem dX2_goal_17 : decode cX2_goal 17 = .ok (.iaload, 1) := dk_46 (dk_at dksX2_goal_0 17 rfl rfl)
theorem dX2_goal_18 : decode cX2_goal 18 = .ok (.aload_n 0, 1) := dk_42 (dk_at dksX2_goal_0 18 rfl rfl)
theorem dX2_goal_19 : decode cX2_goal 19 = .ok (.getfield 41, 3) := dk_180 0 41 (dk_at dksX2_goal_0 19 rfl rfl)
theorem dX2_goal_22 : decode cX2_goal 22 = .ok (.invokevirtual 51, 3) := dk_182 0 51 (dk_at dksX2_goal_1 0 rfl rfl)
theorem dX2_goal_25 : decode cX2_goal 25 = .ok (.ireturn, 1) := dk_172 (dk_at dksX2_goal_1 3 rfl rfl)
abbrev cX2_pace : ByteArray := prog_10_method_7_code
def yX2_pace : MethodName := ⟨RX2, "pace", "(I)I"⟩
def dkwX2_pace_0 : List UInt8 := [42, 180, 0, 11, 27, 50, 42, 180, 0, 24, 27, 46, 182, 0, 55, 172]
abbrev dktX2_pace_0 : List UInt8 := dkwX2_pace_0 ++ []
theorem dksX2_pace_0 : cX2_pace.data.toList.drop 0 = dktX2_pace_0 := by decide +kernel
theorem dX2_pace_0 : decode cX2_pace 0 = .ok (.aload_n 0, 1) := dk_42 (dk_at dksX2_pace_0 0 rfl rfl)
theorem dX2_pace_1 : decode cX2_pace 1 = .ok (.getfield 11, 3) := dk_180 0 11 (dk_at dksX2_pace_0 1 rfl rfl)
theorem dX2_pace_4 : decode cX2_pace 4 = .ok (.iload_n 1, 1) := dk_27 (dk_at dksX2_pace_0 4 rfl rfl)
theorem dX2_pace_5 : decode cX2_pace 5 = .ok (.aaload, 1) := dk_50 (dk_at dksX2_pace_0 5 rfl rfl)
theorem dX2_pace_6 : decode cX2_pace 6 = .ok (.aload_n 0, 1) := dk_42 (dk_at dksX2_pace_0 6 rfl rfl)
theorem dX2_pace_7 : decode cX2_pace 7 = .ok (.getfield 24, 3) := dk_180 0 24 (dk_at dksX2_pace_0 7 rfl rfl)
theorem dX2_pace_10 : decode cX2_pace 10 = .ok (.iload_n 1, 1) := dk_27 (dk_at dksX2_pace_0 10 rfl rfl)
theorem dX2_pace_11 : decode cX2_pace 11 = .ok (.iaload, 1) := dk_46 (dk_at dksX2_pace_0 11 rfl rfl)
theorem dX2_pace_12 : decode cX2_pace 12 = .ok (.invokevirtual 55, 3) := dk_182 0 55 (dk_at dksX2_pace_0 12 rfl rfl)
theorem dX2_pace_15 : decode cX2_pace 15 = .ok (.ireturn, 1) := dk_172 (dk_at dksX2_pace_0 15 rfl rfl)
abbrev cX2_goesDay : ByteArray := prog_10_method_10_code
def yX2_goesDay : MethodName := ⟨RX2, "goesDay", "(Z)V"⟩
def dkwX2_goesDay_1 : List UInt8 := [42, 28, 182, 0, 77, 132, 2, 1, 167, 255, 236, 177]
abbrev dktX2_goesDay_1 : List UInt8 := dkwX2_goesDay_1 ++ []
def dkwX2_goesDay_0 : List UInt8 := [42, 89, 180, 0, 44, 4, 96, 181, 0, 44, 3, 61, 28, 42, 180, 0, 37, 162, 0, 18, 27, 154, 0, 14]
abbrev dktX2_goesDay_0 : List UInt8 := dkwX2_goesDay_0 ++ dktX2_goesDay_1
theorem dksX2_goesDay_0 : cX2_goesDay.data.toList.drop 0 = dktX2_goesDay_0 := by decide +kernel
theorem dksX2_goesDay_1 : cX2_goesDay.data.toList.drop 24 = dktX2_goesDay_1 := dk_seg dksX2_goesDay_0 24 rfl rfl
theorem dX2_goesDay_0 : decode cX2_goesDay 0 = .ok (.aload_n 0, 1) := dk_42 (dk_at dksX2_goesDay_0 0 rfl rfl)
theorem dX2_goesDay_1 : decode cX2_goesDay 1 = .ok (.dup, 1) := dk_89 (dk_at dksX2_goesDay_0 1 rfl rfl)
theorem dX2_goesDay_2 : decode cX2_goesDay 2 = .ok (.getfield 44, 3) := dk_180 0 44 (dk_at dksX2_goesDay_0 2 rfl rfl)
theorem dX2_goesDay_5 : decode cX2_goesDay 5 = .ok (.iconst 1, 1) := dk_4 (dk_at dksX2_goesDay_0 5 rfl rfl)
theorem dX2_goesDay_6 : decode cX2_goesDay 6 = .ok (.iadd, 1) := dk_96 (dk_at dksX2_goesDay_0 6 rfl rfl)
theorem dX2_goesDay_7 : decode cX2_goesDay 7 = .ok (.putfield 44, 3) := dk_181 0 44 (dk_at dksX2_goesDay_0 7 rfl rfl)
theorem dX2_goesDay_10 : decode cX2_goesDay 10 = .ok (.iconst 0, 1) := dk_3 (dk_at dksX2_goesDay_0 10 rfl rfl)
theorem dX2_goesDay_11 : decode cX2_goesDay 11 = .ok (.istore_n 2, 1) := dk_61 (dk_at dksX2_goesDay_0 11 rfl rfl)
theorem dX2_goesDay_12 : decode cX2_goesDay 12 = .ok (.iload_n 2, 1) := dk_28 (dk_at dksX2_goesDay_0 12 rfl rfl)
theorem dX2_goesDay_13 : decode cX2_goesDay 13 = .ok (.aload_n 0, 1) := dk_42 (dk_at dksX2_goesDay_0 13 rfl rfl)
theorem dX2_goesDay_14 : decode cX2_goesDay 14 = .ok (.getfield 37, 3) := dk_180 0 37 (dk_at dksX2_goesDay_0 14 rfl rfl)
theorem dX2_goesDay_17 : decode cX2_goesDay 17 = .ok (.if_icmp .ge 18, 3) := dk_162 0 18 (dk_at dksX2_goesDay_0 17 rfl rfl)
theorem dX2_goesDay_20 : decode cX2_goesDay 20 = .ok (.iload_n 1, 1) := dk_27 (dk_at dksX2_goesDay_0 20 rfl rfl)
theorem dX2_goesDay_21 : decode cX2_goesDay 21 = .ok (.ifCond .ne 14, 3) := dk_154 0 14 (dk_at dksX2_goesDay_0 21 rfl rfl)
theorem dX2_goesDay_24 : decode cX2_goesDay 24 = .ok (.aload_n 0, 1) := dk_42 (dk_at dksX2_goesDay_1 0 rfl rfl)
theorem dX2_goesDay_25 : decode cX2_goesDay 25 = .ok (.iload_n 2, 1) := dk_28 (dk_at dksX2_goesDay_1 1 rfl rfl)
theorem dX2_goesDay_26 : decode cX2_goesDay 26 = .ok (.invokevirtual 77, 3) := dk_182 0 77 (dk_at dksX2_goesDay_1 2 rfl rfl)
theorem dX2_goesDay_29 : decode cX2_goesDay 29 = .ok (.iinc 2 1, 3) := dk_132 2 1 (dk_at dksX2_goesDay_1 5 rfl rfl)
theorem dX2_goesDay_32 : decode cX2_goesDay 32 = .ok (.goto (-20), 3) := dk_167 255 236 (dk_at dksX2_goesDay_1 8 rfl rfl)
theorem dX2_goesDay_35 : decode cX2_goesDay 35 = .ok (.return_, 1) := dk_177 (dk_at dksX2_goesDay_1 11 rfl rfl)
abbrev cX2_pinesOne : ByteArray := prog_10_method_9_code
def yX2_pinesOne : MethodName := ⟨RX2, "pinesOne", "(I)V"⟩
def dkwX2_pinesOne_2 : List UInt8 := [180, 0, 21, 27, 46, 100, 184, 0, 65, 182, 0, 70, 96, 184, 0, 73, 79, 177]
abbrev dktX2_pinesOne_2 : List UInt8 := dkwX2_pinesOne_2 ++ []
def dkwX2_pinesOne_1 : List UInt8 := [180, 0, 24, 27, 16, 99, 42, 180, 0, 24, 27, 46, 42, 180, 0, 11, 27, 50, 42, 27, 182, 0, 59, 42]
abbrev dktX2_pinesOne_1 : List UInt8 := dkwX2_pinesOne_1 ++ dktX2_pinesOne_2
def dkwX2_pinesOne_0 : List UInt8 := [42, 27, 182, 0, 61, 153, 0, 16, 42, 180, 0, 24, 27, 92, 46, 5, 108, 79, 167, 0, 45, 42]
abbrev dktX2_pinesOne_0 : List UInt8 := dkwX2_pinesOne_0 ++ dktX2_pinesOne_1
theorem dksX2_pinesOne_0 : cX2_pinesOne.data.toList.drop 0 = dktX2_pinesOne_0 := by decide +kernel
theorem dksX2_pinesOne_1 : cX2_pinesOne.data.toList.drop 22 = dktX2_pinesOne_1 := dk_seg dksX2_pinesOne_0 22 rfl rfl
theorem dksX2_pinesOne_2 : cX2_pinesOne.data.toList.drop 46 = dktX2_pinesOne_2 := dk_seg dksX2_pinesOne_1 24 rfl rfl
theorem dX2_pinesOne_0 : decode cX2_pinesOne 0 = .ok (.aload_n 0, 1) := dk_42 (dk_at dksX2_pinesOne_0 0 rfl rfl)
theorem dX2_pinesOne_1 : decode cX2_pinesOne 1 = .ok (.iload_n 1, 1) := dk_27 (dk_at dksX2_pinesOne_0 1 rfl rfl)
theorem dX2_pinesOne_2 : decode cX2_pinesOne 2 = .ok (.invokevirtual 61, 3) := dk_182 0 61 (dk_at dksX2_pinesOne_0 2 rfl rfl)
theorem dX2_pinesOne_5 : decode cX2_pinesOne 5 = .ok (.ifCond .eq 16, 3) := dk_153 0 16 (dk_at dksX2_pinesOne_0 5 rfl rfl)
theorem dX2_pinesOne_8 : decode cX2_pinesOne 8 = .ok (.aload_n 0, 1) := dk_42 (dk_at dksX2_pinesOne_0 8 rfl rfl)
theorem dX2_pinesOne_9 : decode cX2_pinesOne 9 = .ok (.getfield 24, 3) := dk_180 0 24 (dk_at dksX2_pinesOne_0 9 rfl rfl)
theorem dX2_pinesOne_12 : decode cX2_pinesOne 12 = .ok (.iload_n 1, 1) := dk_27 (dk_at dksX2_pinesOne_0 12 rfl rfl)
theorem dX2_pinesOne_13 : decode cX2_pinesOne 13 = .ok (.dup2, 1) := dk_92 (dk_at dksX2_pinesOne_0 13 rfl rfl)
theorem dX2_pinesOne_14 : decode cX2_pinesOne 14 = .ok (.iaload, 1) := dk_46 (dk_at dksX2_pinesOne_0 14 rfl rfl)
theorem dX2_pinesOne_15 : decode cX2_pinesOne 15 = .ok (.iconst 2, 1) := dk_5 (dk_at dksX2_pinesOne_0 15 rfl rfl)
theorem dX2_pinesOne_16 : decode cX2_pinesOne 16 = .ok (.idiv, 1) := dk_108 (dk_at dksX2_pinesOne_0 16 rfl rfl)
theorem dX2_pinesOne_17 : decode cX2_pinesOne 17 = .ok (.iastore, 1) := dk_79 (dk_at dksX2_pinesOne_0 17 rfl rfl)
theorem dX2_pinesOne_18 : decode cX2_pinesOne 18 = .ok (.goto 45, 3) := dk_167 0 45 (dk_at dksX2_pinesOne_0 18 rfl rfl)
theorem dX2_pinesOne_21 : decode cX2_pinesOne 21 = .ok (.aload_n 0, 1) := dk_42 (dk_at dksX2_pinesOne_0 21 rfl rfl)
theorem dX2_pinesOne_22 : decode cX2_pinesOne 22 = .ok (.getfield 24, 3) := dk_180 0 24 (dk_at dksX2_pinesOne_1 0 rfl rfl)
theorem dX2_pinesOne_25 : decode cX2_pinesOne 25 = .ok (.iload_n 1, 1) := dk_27 (dk_at dksX2_pinesOne_1 3 rfl rfl)
theorem dX2_pinesOne_26 : decode cX2_pinesOne 26 = .ok (.bipush 99, 2) := dk_16 99 (dk_at dksX2_pinesOne_1 4 rfl rfl)
theorem dX2_pinesOne_28 : decode cX2_pinesOne 28 = .ok (.aload_n 0, 1) := dk_42 (dk_at dksX2_pinesOne_1 6 rfl rfl)
theorem dX2_pinesOne_29 : decode cX2_pinesOne 29 = .ok (.getfield 24, 3) := dk_180 0 24 (dk_at dksX2_pinesOne_1 7 rfl rfl)
theorem dX2_pinesOne_32 : decode cX2_pinesOne 32 = .ok (.iload_n 1, 1) := dk_27 (dk_at dksX2_pinesOne_1 10 rfl rfl)
theorem dX2_pinesOne_33 : decode cX2_pinesOne 33 = .ok (.iaload, 1) := dk_46 (dk_at dksX2_pinesOne_1 11 rfl rfl)
theorem dX2_pinesOne_34 : decode cX2_pinesOne 34 = .ok (.aload_n 0, 1) := dk_42 (dk_at dksX2_pinesOne_1 12 rfl rfl)
theorem dX2_pinesOne_35 : decode cX2_pinesOne 35 = .ok (.getfield 11, 3) := dk_180 0 11 (dk_at dksX2_pinesOne_1 13 rfl rfl)
theorem dX2_pinesOne_38 : decode cX2_pinesOne 38 = .ok (.iload_n 1, 1) := dk_27 (dk_at dksX2_pinesOne_1 16 rfl rfl)
theorem dX2_pinesOne_39 : decode cX2_pinesOne 39 = .ok (.aaload, 1) := dk_50 (dk_at dksX2_pinesOne_1 17 rfl rfl)
theorem dX2_pinesOne_40 : decode cX2_pinesOne 40 = .ok (.aload_n 0, 1) := dk_42 (dk_at dksX2_pinesOne_1 18 rfl rfl)
theorem dX2_pinesOne_41 : decode cX2_pinesOne 41 = .ok (.iload_n 1, 1) := dk_27 (dk_at dksX2_pinesOne_1 19 rfl rfl)
theorem dX2_pinesOne_42 : decode cX2_pinesOne 42 = .ok (.invokevirtual 59, 3) := dk_182 0 59 (dk_at dksX2_pinesOne_1 20 rfl rfl)
theorem dX2_pinesOne_45 : decode cX2_pinesOne 45 = .ok (.aload_n 0, 1) := dk_42 (dk_at dksX2_pinesOne_1 23 rfl rfl)
theorem dX2_pinesOne_46 : decode cX2_pinesOne 46 = .ok (.getfield 21, 3) := dk_180 0 21 (dk_at dksX2_pinesOne_2 0 rfl rfl)
theorem dX2_pinesOne_49 : decode cX2_pinesOne 49 = .ok (.iload_n 1, 1) := dk_27 (dk_at dksX2_pinesOne_2 3 rfl rfl)
theorem dX2_pinesOne_50 : decode cX2_pinesOne 50 = .ok (.iaload, 1) := dk_46 (dk_at dksX2_pinesOne_2 4 rfl rfl)
theorem dX2_pinesOne_51 : decode cX2_pinesOne 51 = .ok (.isub, 1) := dk_100 (dk_at dksX2_pinesOne_2 5 rfl rfl)
theorem dX2_pinesOne_52 : decode cX2_pinesOne 52 = .ok (.invokestatic 65, 3) := dk_184 0 65 (dk_at dksX2_pinesOne_2 6 rfl rfl)
theorem dX2_pinesOne_55 : decode cX2_pinesOne 55 = .ok (.invokevirtual 70, 3) := dk_182 0 70 (dk_at dksX2_pinesOne_2 9 rfl rfl)
theorem dX2_pinesOne_58 : decode cX2_pinesOne 58 = .ok (.iadd, 1) := dk_96 (dk_at dksX2_pinesOne_2 12 rfl rfl)
theorem dX2_pinesOne_59 : decode cX2_pinesOne 59 = .ok (.invokestatic 73, 3) := dk_184 0 73 (dk_at dksX2_pinesOne_2 13 rfl rfl)
theorem dX2_pinesOne_62 : decode cX2_pinesOne 62 = .ok (.iastore, 1) := dk_79 (dk_at dksX2_pinesOne_2 16 rfl rfl)
theorem dX2_pinesOne_63 : decode cX2_pinesOne 63 = .ok (.return_, 1) := dk_177 (dk_at dksX2_pinesOne_2 17 rfl rfl)
abbrev cX2_isAtGoal : ByteArray := prog_10_method_8_code
def yX2_isAtGoal : MethodName := ⟨RX2, "isAtGoal", "(I)Z"⟩
def dkwX2_isAtGoal_0 : List UInt8 := [42, 180, 0, 21, 27, 46, 42, 27, 182, 0, 59, 160, 0, 7, 4, 167, 0, 4, 3, 172]
abbrev dktX2_isAtGoal_0 : List UInt8 := dkwX2_isAtGoal_0 ++ []
theorem dksX2_isAtGoal_0 : cX2_isAtGoal.data.toList.drop 0 = dktX2_isAtGoal_0 := by decide +kernel
theorem dX2_isAtGoal_0 : decode cX2_isAtGoal 0 = .ok (.aload_n 0, 1) := dk_42 (dk_at dksX2_isAtGoal_0 0 rfl rfl)
theorem dX2_isAtGoal_1 : decode cX2_isAtGoal 1 = .ok (.getfield 21, 3) := dk_180 0 21 (dk_at dksX2_isAtGoal_0 1 rfl rfl)
theorem dX2_isAtGoal_4 : decode cX2_isAtGoal 4 = .ok (.iload_n 1, 1) := dk_27 (dk_at dksX2_isAtGoal_0 4 rfl rfl)
theorem dX2_isAtGoal_5 : decode cX2_isAtGoal 5 = .ok (.iaload, 1) := dk_46 (dk_at dksX2_isAtGoal_0 5 rfl rfl)
theorem dX2_isAtGoal_6 : decode cX2_isAtGoal 6 = .ok (.aload_n 0, 1) := dk_42 (dk_at dksX2_isAtGoal_0 6 rfl rfl)
theorem dX2_isAtGoal_7 : decode cX2_isAtGoal 7 = .ok (.iload_n 1, 1) := dk_27 (dk_at dksX2_isAtGoal_0 7 rfl rfl)
theorem dX2_isAtGoal_8 : decode cX2_isAtGoal 8 = .ok (.invokevirtual 59, 3) := dk_182 0 59 (dk_at dksX2_isAtGoal_0 8 rfl rfl)
theorem dX2_isAtGoal_11 : decode cX2_isAtGoal 11 = .ok (.if_icmp .ne 7, 3) := dk_160 0 7 (dk_at dksX2_isAtGoal_0 11 rfl rfl)
theorem dX2_isAtGoal_14 : decode cX2_isAtGoal 14 = .ok (.iconst 1, 1) := dk_4 (dk_at dksX2_isAtGoal_0 14 rfl rfl)
theorem dX2_isAtGoal_15 : decode cX2_isAtGoal 15 = .ok (.goto 4, 3) := dk_167 0 4 (dk_at dksX2_isAtGoal_0 15 rfl rfl)
theorem dX2_isAtGoal_18 : decode cX2_isAtGoal 18 = .ok (.iconst 0, 1) := dk_3 (dk_at dksX2_isAtGoal_0 18 rfl rfl)
theorem dX2_isAtGoal_19 : decode cX2_isAtGoal 19 = .ok (.ireturn, 1) := dk_172 (dk_at dksX2_isAtGoal_0 19 rfl rfl)
abbrev cX2_goes : ByteArray := prog_10_method_11_code
def yX2_goes : MethodName := ⟨RX2, "goes", "(I)V"⟩
def dkwX2_goes_0 : List UInt8 := [3, 61, 28, 27, 162, 0, 14, 42, 3, 182, 0, 81, 132, 2, 1, 167, 255, 243, 177]
abbrev dktX2_goes_0 : List UInt8 := dkwX2_goes_0 ++ []
theorem dksX2_goes_0 : cX2_goes.data.toList.drop 0 = dktX2_goes_0 := by decide +kernel
theorem dX2_goes_0 : decode cX2_goes 0 = .ok (.iconst 0, 1) := dk_3 (dk_at dksX2_goes_0 0 rfl rfl)
theorem dX2_goes_1 : decode cX2_goes 1 = .ok (.istore_n 2, 1) := dk_61 (dk_at dksX2_goes_0 1 rfl rfl)
theorem dX2_goes_2 : decode cX2_goes 2 = .ok (.iload_n 2, 1) := dk_28 (dk_at dksX2_goes_0 2 rfl rfl)
theorem dX2_goes_3 : decode cX2_goes 3 = .ok (.iload_n 1, 1) := dk_27 (dk_at dksX2_goes_0 3 rfl rfl)
theorem dX2_goes_4 : decode cX2_goes 4 = .ok (.if_icmp .ge 14, 3) := dk_162 0 14 (dk_at dksX2_goes_0 4 rfl rfl)
theorem dX2_goes_7 : decode cX2_goes 7 = .ok (.aload_n 0, 1) := dk_42 (dk_at dksX2_goes_0 7 rfl rfl)
theorem dX2_goes_8 : decode cX2_goes 8 = .ok (.iconst 0, 1) := dk_3 (dk_at dksX2_goes_0 8 rfl rfl)
theorem dX2_goes_9 : decode cX2_goes 9 = .ok (.invokevirtual 81, 3) := dk_182 0 81 (dk_at dksX2_goes_0 9 rfl rfl)
theorem dX2_goes_12 : decode cX2_goes 12 = .ok (.iinc 2 1, 3) := dk_132 2 1 (dk_at dksX2_goes_0 12 rfl rfl)
theorem dX2_goes_15 : decode cX2_goes 15 = .ok (.goto (-13), 3) := dk_167 255 243 (dk_at dksX2_goes_0 15 rfl rfl)
theorem dX2_goes_18 : decode cX2_goes 18 = .ok (.return_, 1) := dk_177 (dk_at dksX2_goes_0 18 rfl rfl)
abbrev cX2_allLonging : ByteArray := prog_10_method_14_code
def yX2_allLonging : MethodName := ⟨RX2, "allLonging", "()I"⟩
def dkwX2_allLonging_1 : List UInt8 := [167, 255, 236, 27, 172]
abbrev dktX2_allLonging_1 : List UInt8 := dkwX2_allLonging_1 ++ []
def dkwX2_allLonging_0 : List UInt8 := [3, 60, 3, 61, 28, 42, 180, 0, 37, 162, 0, 18, 27, 42, 180, 0, 24, 28, 46, 96, 60, 132, 2, 1]
abbrev dktX2_allLonging_0 : List UInt8 := dkwX2_allLonging_0 ++ dktX2_allLonging_1
theorem dksX2_allLonging_0 : cX2_allLonging.data.toList.drop 0 = dktX2_allLonging_0 := by decide +kernel
theorem dksX2_allLonging_1 : cX2_allLonging.data.toList.drop 24 = dktX2_allLonging_1 := dk_seg dksX2_allLonging_0 24 rfl rfl
theorem dX2_allLonging_0 : decode cX2_allLonging 0 = .ok (.iconst 0, 1) := dk_3 (dk_at dksX2_allLonging_0 0 rfl rfl)
theorem dX2_allLonging_1 : decode cX2_allLonging 1 = .ok (.istore_n 1, 1) := dk_60 (dk_at dksX2_allLonging_0 1 rfl rfl)
theorem dX2_allLonging_2 : decode cX2_allLonging 2 = .ok (.iconst 0, 1) := dk_3 (dk_at dksX2_allLonging_0 2 rfl rfl)
theorem dX2_allLonging_3 : decode cX2_allLonging 3 = .ok (.istore_n 2, 1) := dk_61 (dk_at dksX2_allLonging_0 3 rfl rfl)
theorem dX2_allLonging_4 : decode cX2_allLonging 4 = .ok (.iload_n 2, 1) := dk_28 (dk_at dksX2_allLonging_0 4 rfl rfl)
theorem dX2_allLonging_5 : decode cX2_allLonging 5 = .ok (.aload_n 0, 1) := dk_42 (dk_at dksX2_allLonging_0 5 rfl rfl)
theorem dX2_allLonging_6 : decode cX2_allLonging 6 = .ok (.getfield 37, 3) := dk_180 0 37 (dk_at dksX2_allLonging_0 6 rfl rfl)
theorem dX2_allLonging_9 : decode cX2_allLonging 9 = .ok (.if_icmp .ge 18, 3) := dk_162 0 18 (dk_at dksX2_allLonging_0 9 rfl rfl)
theorem dX2_allLonging_12 : decode cX2_allLonging 12 = .ok (.iload_n 1, 1) := dk_27 (dk_at dksX2_allLonging_0 12 rfl rfl)
theorem dX2_allLonging_13 : decode cX2_allLonging 13 = .ok (.aload_n 0, 1) := dk_42 (dk_at dksX2_allLonging_0 13 rfl rfl)
theorem dX2_allLonging_14 : decode cX2_allLonging 14 = .ok (.getfield 24, 3) := dk_180 0 24 (dk_at dksX2_allLonging_0 14 rfl rfl)
theorem dX2_allLonging_17 : decode cX2_allLonging 17 = .ok (.iload_n 2, 1) := dk_28 (dk_at dksX2_allLonging_0 17 rfl rfl)
theorem dX2_allLonging_18 : decode cX2_allLonging 18 = .ok (.iaload, 1) := dk_46 (dk_at dksX2_allLonging_0 18 rfl rfl)
theorem dX2_allLonging_19 : decode cX2_allLonging 19 = .ok (.iadd, 1) := dk_96 (dk_at dksX2_allLonging_0 19 rfl rfl)
theorem dX2_allLonging_20 : decode cX2_allLonging 20 = .ok (.istore_n 1, 1) := dk_60 (dk_at dksX2_allLonging_0 20 rfl rfl)
theorem dX2_allLonging_21 : decode cX2_allLonging 21 = .ok (.iinc 2 1, 3) := dk_132 2 1 (dk_at dksX2_allLonging_0 21 rfl rfl)
theorem dX2_allLonging_24 : decode cX2_allLonging 24 = .ok (.goto (-20), 3) := dk_167 255 236 (dk_at dksX2_allLonging_1 0 rfl rfl)
theorem dX2_allLonging_27 : decode cX2_allLonging 27 = .ok (.iload_n 1, 1) := dk_27 (dk_at dksX2_allLonging_1 3 rfl rfl)
theorem dX2_allLonging_28 : decode cX2_allLonging 28 = .ok (.ireturn, 1) := dk_172 (dk_at dksX2_allLonging_1 4 rfl rfl)
abbrev cX2_manyAtGoals : ByteArray := prog_10_method_15_code
def yX2_manyAtGoals : MethodName := ⟨RX2, "manyAtGoals", "()I"⟩
def dkwX2_manyAtGoals_1 : List UInt8 := [167, 0, 4, 3, 96, 60, 132, 2, 1, 167, 255, 229, 27, 172]
abbrev dktX2_manyAtGoals_1 : List UInt8 := dkwX2_manyAtGoals_1 ++ []
def dkwX2_manyAtGoals_0 : List UInt8 := [3, 60, 3, 61, 28, 42, 180, 0, 37, 162, 0, 25, 27, 42, 28, 182, 0, 61, 153, 0, 7, 4]
abbrev dktX2_manyAtGoals_0 : List UInt8 := dkwX2_manyAtGoals_0 ++ dktX2_manyAtGoals_1
theorem dksX2_manyAtGoals_0 : cX2_manyAtGoals.data.toList.drop 0 = dktX2_manyAtGoals_0 := by decide +kernel
theorem dksX2_manyAtGoals_1 : cX2_manyAtGoals.data.toList.drop 22 = dktX2_manyAtGoals_1 := dk_seg dksX2_manyAtGoals_0 22 rfl rfl
theorem dX2_manyAtGoals_0 : decode cX2_manyAtGoals 0 = .ok (.iconst 0, 1) := dk_3 (dk_at dksX2_manyAtGoals_0 0 rfl rfl)
theorem dX2_manyAtGoals_1 : decode cX2_manyAtGoals 1 = .ok (.istore_n 1, 1) := dk_60 (dk_at dksX2_manyAtGoals_0 1 rfl rfl)
theorem dX2_manyAtGoals_2 : decode cX2_manyAtGoals 2 = .ok (.iconst 0, 1) := dk_3 (dk_at dksX2_manyAtGoals_0 2 rfl rfl)
theorem dX2_manyAtGoals_3 : decode cX2_manyAtGoals 3 = .ok (.istore_n 2, 1) := dk_61 (dk_at dksX2_manyAtGoals_0 3 rfl rfl)
theorem dX2_manyAtGoals_4 : decode cX2_manyAtGoals 4 = .ok (.iload_n 2, 1) := dk_28 (dk_at dksX2_manyAtGoals_0 4 rfl rfl)
theorem dX2_manyAtGoals_5 : decode cX2_manyAtGoals 5 = .ok (.aload_n 0, 1) := dk_42 (dk_at dksX2_manyAtGoals_0 5 rfl rfl)
theorem dX2_manyAtGoals_6 : decode cX2_manyAtGoals 6 = .ok (.getfield 37, 3) := dk_180 0 37 (dk_at dksX2_manyAtGoals_0 6 rfl rfl)
theorem dX2_manyAtGoals_9 : decode cX2_manyAtGoals 9 = .ok (.if_icmp .ge 25, 3) := dk_162 0 25 (dk_at dksX2_manyAtGoals_0 9 rfl rfl)
theorem dX2_manyAtGoals_12 : decode cX2_manyAtGoals 12 = .ok (.iload_n 1, 1) := dk_27 (dk_at dksX2_manyAtGoals_0 12 rfl rfl)
theorem dX2_manyAtGoals_13 : decode cX2_manyAtGoals 13 = .ok (.aload_n 0, 1) := dk_42 (dk_at dksX2_manyAtGoals_0 13 rfl rfl)
theorem dX2_manyAtGoals_14 : decode cX2_manyAtGoals 14 = .ok (.iload_n 2, 1) := dk_28 (dk_at dksX2_manyAtGoals_0 14 rfl rfl)
theorem dX2_manyAtGoals_15 : decode cX2_manyAtGoals 15 = .ok (.invokevirtual 61, 3) := dk_182 0 61 (dk_at dksX2_manyAtGoals_0 15 rfl rfl)
theorem dX2_manyAtGoals_18 : decode cX2_manyAtGoals 18 = .ok (.ifCond .eq 7, 3) := dk_153 0 7 (dk_at dksX2_manyAtGoals_0 18 rfl rfl)
theorem dX2_manyAtGoals_21 : decode cX2_manyAtGoals 21 = .ok (.iconst 1, 1) := dk_4 (dk_at dksX2_manyAtGoals_0 21 rfl rfl)
theorem dX2_manyAtGoals_22 : decode cX2_manyAtGoals 22 = .ok (.goto 4, 3) := dk_167 0 4 (dk_at dksX2_manyAtGoals_1 0 rfl rfl)
theorem dX2_manyAtGoals_25 : decode cX2_manyAtGoals 25 = .ok (.iconst 0, 1) := dk_3 (dk_at dksX2_manyAtGoals_1 3 rfl rfl)
theorem dX2_manyAtGoals_26 : decode cX2_manyAtGoals 26 = .ok (.iadd, 1) := dk_96 (dk_at dksX2_manyAtGoals_1 4 rfl rfl)
theorem dX2_manyAtGoals_27 : decode cX2_manyAtGoals 27 = .ok (.istore_n 1, 1) := dk_60 (dk_at dksX2_manyAtGoals_1 5 rfl rfl)
theorem dX2_manyAtGoals_28 : decode cX2_manyAtGoals 28 = .ok (.iinc 2 1, 3) := dk_132 2 1 (dk_at dksX2_manyAtGoals_1 6 rfl rfl)
theorem dX2_manyAtGoals_31 : decode cX2_manyAtGoals 31 = .ok (.goto (-27), 3) := dk_167 255 229 (dk_at dksX2_manyAtGoals_1 9 rfl rfl)
theorem dX2_manyAtGoals_34 : decode cX2_manyAtGoals 34 = .ok (.iload_n 1, 1) := dk_27 (dk_at dksX2_manyAtGoals_1 12 rfl rfl)
theorem dX2_manyAtGoals_35 : decode cX2_manyAtGoals 35 = .ok (.ireturn, 1) := dk_172 (dk_at dksX2_manyAtGoals_1 13 rfl rfl)
abbrev cX2_init : ByteArray := prog_10_method_1_code
def yX2_init : MethodName := ⟨RX2, "<init>", "()V"⟩
def dkwX2_init_1 : List UInt8 := [188, 10, 181, 0, 21, 42, 16, 7, 188, 10, 181, 0, 24, 177]
abbrev dktX2_init_1 : List UInt8 := dkwX2_init_1 ++ []
def dkwX2_init_0 : List UInt8 := [42, 183, 0, 3, 42, 16, 7, 189, 0, 9, 181, 0, 11, 42, 16, 7, 188, 10, 181, 0, 17, 42, 16, 7]
abbrev dktX2_init_0 : List UInt8 := dkwX2_init_0 ++ dktX2_init_1
theorem dksX2_init_0 : cX2_init.data.toList.drop 0 = dktX2_init_0 := by decide +kernel
theorem dksX2_init_1 : cX2_init.data.toList.drop 24 = dktX2_init_1 := dk_seg dksX2_init_0 24 rfl rfl
theorem dX2_init_0 : decode cX2_init 0 = .ok (.aload_n 0, 1) := dk_42 (dk_at dksX2_init_0 0 rfl rfl)
theorem dX2_init_1 : decode cX2_init 1 = .ok (.invokespecial 3, 3) := dk_183 0 3 (dk_at dksX2_init_0 1 rfl rfl)
theorem dX2_init_4 : decode cX2_init 4 = .ok (.aload_n 0, 1) := dk_42 (dk_at dksX2_init_0 4 rfl rfl)
theorem dX2_init_5 : decode cX2_init 5 = .ok (.bipush 7, 2) := dk_16 7 (dk_at dksX2_init_0 5 rfl rfl)
theorem dX2_init_7 : decode cX2_init 7 = .ok (.anewarray 9, 3) := dk_189 0 9 (dk_at dksX2_init_0 7 rfl rfl)
theorem dX2_init_10 : decode cX2_init 10 = .ok (.putfield 11, 3) := dk_181 0 11 (dk_at dksX2_init_0 10 rfl rfl)
theorem dX2_init_13 : decode cX2_init 13 = .ok (.aload_n 0, 1) := dk_42 (dk_at dksX2_init_0 13 rfl rfl)
theorem dX2_init_14 : decode cX2_init 14 = .ok (.bipush 7, 2) := dk_16 7 (dk_at dksX2_init_0 14 rfl rfl)
theorem dX2_init_16 : decode cX2_init 16 = .ok (.newarray .int, 2) := dk_188_10 (dk_at dksX2_init_0 16 rfl rfl)
theorem dX2_init_18 : decode cX2_init 18 = .ok (.putfield 17, 3) := dk_181 0 17 (dk_at dksX2_init_0 18 rfl rfl)
theorem dX2_init_21 : decode cX2_init 21 = .ok (.aload_n 0, 1) := dk_42 (dk_at dksX2_init_0 21 rfl rfl)
theorem dX2_init_22 : decode cX2_init 22 = .ok (.bipush 7, 2) := dk_16 7 (dk_at dksX2_init_0 22 rfl rfl)
theorem dX2_init_24 : decode cX2_init 24 = .ok (.newarray .int, 2) := dk_188_10 (dk_at dksX2_init_1 0 rfl rfl)
theorem dX2_init_26 : decode cX2_init 26 = .ok (.putfield 21, 3) := dk_181 0 21 (dk_at dksX2_init_1 2 rfl rfl)
theorem dX2_init_29 : decode cX2_init 29 = .ok (.aload_n 0, 1) := dk_42 (dk_at dksX2_init_1 5 rfl rfl)
theorem dX2_init_30 : decode cX2_init 30 = .ok (.bipush 7, 2) := dk_16 7 (dk_at dksX2_init_1 6 rfl rfl)
theorem dX2_init_32 : decode cX2_init 32 = .ok (.newarray .int, 2) := dk_188_10 (dk_at dksX2_init_1 8 rfl rfl)
theorem dX2_init_34 : decode cX2_init 34 = .ok (.putfield 24, 3) := dk_181 0 24 (dk_at dksX2_init_1 10 rfl rfl)
theorem dX2_init_37 : decode cX2_init 37 = .ok (.return_, 1) := dk_177 (dk_at dksX2_init_1 13 rfl rfl)
theorem q59 : (Jvm.Cond.initialized "HiredByLonging$Land") ∈ lw_all := lw_g (lw_at lw_m1 2 rfl) rfl
theorem q286 : (Jvm.Cond.instanceMethod ({ cls := "HiredByLonging$Land", name := "takes", desc := "(LHiredByLonging$Land;)V" } : Jvm.MethodName)) ∈ lw_all := lw_g (lw_at lw_m1 229 rfl) rfl
theorem q287 : (Jvm.Cond.selects "HiredByLonging$Land" ({ cls := "HiredByLonging$Land", name := "takes", desc := "(LHiredByLonging$Land;)V" } : Jvm.MethodName) ({ cls := "HiredByLonging$Land", name := "takes", desc := "(LHiredByLonging$Land;)V" } : Jvm.MethodName)) ∈ lw_all := lw_g (lw_at lw_m1 230 rfl) rfl
theorem q288 : (Jvm.Cond.code ({ cls := "HiredByLonging$Land", name := "takes", desc := "(LHiredByLonging$Land;)V" } : Jvm.MethodName) prog_10_method_3_code (2 : Nat) (Option.none : Option Jvm.ClassFile.FieldType)) ∈ lw_all := lw_g (lw_at lw_m1 231 rfl) rfl
theorem q289 : (Jvm.Cond.methodLink "HiredByLonging$Land" (27 : Nat) ({ cls := "java/lang/System", name := "arraycopy", desc := "(Ljava/lang/Object;ILjava/lang/Object;II)V" } : Jvm.MethodName)) ∈ lw_all := lw_g (lw_at lw_m1 232 rfl) rfl
theorem q292 : (Jvm.Cond.methodLink "HiredByLonging$Land" (33 : Nat) ({ cls := "HiredByLonging$Land", name := "copies", desc := "([I[I)V" } : Jvm.MethodName)) ∈ lw_all := lw_g (lw_at lw_m1 235 rfl) rfl
theorem q293 : (Jvm.Cond.static ({ cls := "HiredByLonging$Land", name := "copies", desc := "([I[I)V" } : Jvm.MethodName)) ∈ lw_all := lw_g (lw_at lw_m1 236 rfl) rfl
theorem q294 : (Jvm.Cond.code ({ cls := "HiredByLonging$Land", name := "copies", desc := "([I[I)V" } : Jvm.MethodName) prog_10_method_2_code (2 : Nat) (Option.none : Option Jvm.ClassFile.FieldType)) ∈ lw_all := lw_g (lw_at lw_m1 237 rfl) rfl
theorem q385 : (Jvm.Cond.instanceMethod ({ cls := "HiredByLonging$Land", name := "comes", desc := "(LHiredByLonging$Horse;II)I" } : Jvm.MethodName)) ∈ lw_all := lw_g (lw_at lw_m2 88 rfl) rfl
theorem q386 : (Jvm.Cond.selects "HiredByLonging$Land" ({ cls := "HiredByLonging$Land", name := "comes", desc := "(LHiredByLonging$Horse;II)I" } : Jvm.MethodName) ({ cls := "HiredByLonging$Land", name := "comes", desc := "(LHiredByLonging$Horse;II)I" } : Jvm.MethodName)) ∈ lw_all := lw_g (lw_at lw_m2 89 rfl) rfl
theorem q387 : (Jvm.Cond.code ({ cls := "HiredByLonging$Land", name := "comes", desc := "(LHiredByLonging$Horse;II)I" } : Jvm.MethodName) prog_10_method_5_code (4 : Nat) (Option.some Jvm.ClassFile.FieldType.int)) ∈ lw_all := lw_g (lw_at lw_m2 90 rfl) rfl
theorem q389 : (Jvm.Cond.instanceMethod ({ cls := "HiredByLonging$Land", name := "isHorse", desc := "(I)Z" } : Jvm.MethodName)) ∈ lw_all := lw_g (lw_at lw_m2 92 rfl) rfl
theorem q390 : (Jvm.Cond.selects "HiredByLonging$Land" ({ cls := "HiredByLonging$Land", name := "isHorse", desc := "(I)Z" } : Jvm.MethodName) ({ cls := "HiredByLonging$Land", name := "isHorse", desc := "(I)Z" } : Jvm.MethodName)) ∈ lw_all := lw_g (lw_at lw_m2 93 rfl) rfl
theorem q391 : (Jvm.Cond.code ({ cls := "HiredByLonging$Land", name := "isHorse", desc := "(I)Z" } : Jvm.MethodName) prog_10_method_4_code (2 : Nat) (Option.some Jvm.ClassFile.FieldType.boolean)) ∈ lw_all := lw_g (lw_at lw_m2 94 rfl) rfl
theorem q392 : (Jvm.Cond.methodLinkNest "HiredByLonging$Land" (47 : Nat) ({ cls := "HiredByLonging", name := "isIn", desc := "(III)Z" } : Jvm.MethodName) "HiredByLonging") ∈ lw_tbl := lw_at lw_m2 95 rfl
theorem q394 : (Jvm.Cond.instanceMethod ({ cls := "HiredByLonging$Land", name := "rides", desc := "(II)I" } : Jvm.MethodName)) ∈ lw_all := lw_g (lw_at lw_m2 97 rfl) rfl
theorem q395 : (Jvm.Cond.selects "HiredByLonging$Land" ({ cls := "HiredByLonging$Land", name := "rides", desc := "(II)I" } : Jvm.MethodName) ({ cls := "HiredByLonging$Land", name := "rides", desc := "(II)I" } : Jvm.MethodName)) ∈ lw_all := lw_g (lw_at lw_m2 98 rfl) rfl
theorem q396 : (Jvm.Cond.code ({ cls := "HiredByLonging$Land", name := "rides", desc := "(II)I" } : Jvm.MethodName) prog_10_method_13_code (4 : Nat) (Option.some Jvm.ClassFile.FieldType.int)) ∈ lw_all := lw_g (lw_at lw_m2 99 rfl) rfl
theorem q397 : (Jvm.Cond.methodLink "HiredByLonging$Land" (95 : Nat) ({ cls := "HiredByLonging$Land", name := "stepsTo", desc := "(II)V" } : Jvm.MethodName)) ∈ lw_all := lw_g (lw_at lw_m2 100 rfl) rfl
theorem q398 : (Jvm.Cond.instanceMethod ({ cls := "HiredByLonging$Land", name := "stepsTo", desc := "(II)V" } : Jvm.MethodName)) ∈ lw_all := lw_g (lw_at lw_m2 101 rfl) rfl
theorem q399 : (Jvm.Cond.selects "HiredByLonging$Land" ({ cls := "HiredByLonging$Land", name := "stepsTo", desc := "(II)V" } : Jvm.MethodName) ({ cls := "HiredByLonging$Land", name := "stepsTo", desc := "(II)V" } : Jvm.MethodName)) ∈ lw_all := lw_g (lw_at lw_m2 102 rfl) rfl
theorem q400 : (Jvm.Cond.code ({ cls := "HiredByLonging$Land", name := "stepsTo", desc := "(II)V" } : Jvm.MethodName) prog_10_method_12_code (8 : Nat) (Option.none : Option Jvm.ClassFile.FieldType)) ∈ lw_all := lw_g (lw_at lw_m2 103 rfl) rfl
theorem q401 : (Jvm.Cond.methodLink "HiredByLonging$Land" (85 : Nat) ({ cls := "java/lang/Integer", name := "compare", desc := "(II)I" } : Jvm.MethodName)) ∈ lw_all := lw_g (lw_at lw_m2 104 rfl) rfl
theorem q404 : (Jvm.Cond.methodLink "HiredByLonging$Land" (65 : Nat) ({ cls := "java/lang/Math", name := "abs", desc := "(I)I" } : Jvm.MethodName)) ∈ lw_all := lw_g (lw_at lw_m2 107 rfl) rfl
theorem q407 : (Jvm.Cond.methodLink "HiredByLonging$Land" (59 : Nat) ({ cls := "HiredByLonging$Land", name := "goal", desc := "(I)I" } : Jvm.MethodName)) ∈ lw_all := lw_g (lw_at lw_m2 110 rfl) rfl
theorem q408 : (Jvm.Cond.instanceMethod ({ cls := "HiredByLonging$Land", name := "goal", desc := "(I)I" } : Jvm.MethodName)) ∈ lw_all := lw_g (lw_at lw_m2 111 rfl) rfl
theorem q409 : (Jvm.Cond.selects "HiredByLonging$Land" ({ cls := "HiredByLonging$Land", name := "goal", desc := "(I)I" } : Jvm.MethodName) ({ cls := "HiredByLonging$Land", name := "goal", desc := "(I)I" } : Jvm.MethodName)) ∈ lw_all := lw_g (lw_at lw_m2 112 rfl) rfl
theorem q410 : (Jvm.Cond.code ({ cls := "HiredByLonging$Land", name := "goal", desc := "(I)I" } : Jvm.MethodName) prog_10_method_6_code (2 : Nat) (Option.some Jvm.ClassFile.FieldType.int)) ∈ lw_all := lw_g (lw_at lw_m2 113 rfl) rfl
theorem q411 : (Jvm.Cond.methodLink "HiredByLonging$Land" (51 : Nat) ({ cls := "HiredByLonging$Horse", name := "goal", desc := "(III)I" } : Jvm.MethodName)) ∈ lw_all := lw_g (lw_at lw_m2 114 rfl) rfl
theorem q438 : (Jvm.Cond.methodLink "HiredByLonging$Land" (90 : Nat) ({ cls := "HiredByLonging$Land", name := "pace", desc := "(I)I" } : Jvm.MethodName)) ∈ lw_all := lw_g (lw_at lw_m2 141 rfl) rfl
theorem q439 : (Jvm.Cond.instanceMethod ({ cls := "HiredByLonging$Land", name := "pace", desc := "(I)I" } : Jvm.MethodName)) ∈ lw_all := lw_g (lw_at lw_m2 142 rfl) rfl
theorem q440 : (Jvm.Cond.selects "HiredByLonging$Land" ({ cls := "HiredByLonging$Land", name := "pace", desc := "(I)I" } : Jvm.MethodName) ({ cls := "HiredByLonging$Land", name := "pace", desc := "(I)I" } : Jvm.MethodName)) ∈ lw_all := lw_g (lw_at lw_m2 143 rfl) rfl
theorem q441 : (Jvm.Cond.code ({ cls := "HiredByLonging$Land", name := "pace", desc := "(I)I" } : Jvm.MethodName) prog_10_method_7_code (2 : Nat) (Option.some Jvm.ClassFile.FieldType.int)) ∈ lw_all := lw_g (lw_at lw_m2 144 rfl) rfl
theorem q442 : (Jvm.Cond.methodLink "HiredByLonging$Land" (55 : Nat) ({ cls := "HiredByLonging$Horse", name := "pace", desc := "(I)I" } : Jvm.MethodName)) ∈ lw_all := lw_g (lw_at lw_m2 145 rfl) rfl
theorem q469 : (Jvm.Cond.methodLink "HiredByLonging$Land" (73 : Nat) ({ cls := "java/lang/Math", name := "min", desc := "(II)I" } : Jvm.MethodName)) ∈ lw_all := lw_g (lw_at lw_m2 172 rfl) rfl
theorem q491 : (Jvm.Cond.methodLink "HiredByLonging$Land" (81 : Nat) ({ cls := "HiredByLonging$Land", name := "goesDay", desc := "(Z)V" } : Jvm.MethodName)) ∈ lw_all := lw_g (lw_at lw_m2 194 rfl) rfl
theorem q492 : (Jvm.Cond.instanceMethod ({ cls := "HiredByLonging$Land", name := "goesDay", desc := "(Z)V" } : Jvm.MethodName)) ∈ lw_all := lw_g (lw_at lw_m2 195 rfl) rfl
theorem q493 : (Jvm.Cond.selects "HiredByLonging$Land" ({ cls := "HiredByLonging$Land", name := "goesDay", desc := "(Z)V" } : Jvm.MethodName) ({ cls := "HiredByLonging$Land", name := "goesDay", desc := "(Z)V" } : Jvm.MethodName)) ∈ lw_all := lw_g (lw_at lw_m2 196 rfl) rfl
theorem q494 : (Jvm.Cond.code ({ cls := "HiredByLonging$Land", name := "goesDay", desc := "(Z)V" } : Jvm.MethodName) prog_10_method_10_code (3 : Nat) (Option.none : Option Jvm.ClassFile.FieldType)) ∈ lw_all := lw_g (lw_at lw_m2 197 rfl) rfl
theorem q495 : (Jvm.Cond.methodLink "HiredByLonging$Land" (77 : Nat) ({ cls := "HiredByLonging$Land", name := "pinesOne", desc := "(I)V" } : Jvm.MethodName)) ∈ lw_all := lw_g (lw_at lw_m2 198 rfl) rfl
theorem q496 : (Jvm.Cond.privateMethod ({ cls := "HiredByLonging$Land", name := "pinesOne", desc := "(I)V" } : Jvm.MethodName)) ∈ lw_tbl := lw_at lw_m2 199 rfl
theorem q497 : (Jvm.Cond.instanceMethod ({ cls := "HiredByLonging$Land", name := "pinesOne", desc := "(I)V" } : Jvm.MethodName)) ∈ lw_all := lw_g (lw_at lw_m2 200 rfl) rfl
theorem q498 : (Jvm.Cond.instantiable "HiredByLonging$Land" (7 : Nat)) ∈ lw_all := lw_g (lw_at lw_m2 201 rfl) rfl
theorem q499 : (Jvm.Cond.code ({ cls := "HiredByLonging$Land", name := "pinesOne", desc := "(I)V" } : Jvm.MethodName) prog_10_method_9_code (2 : Nat) (Option.none : Option Jvm.ClassFile.FieldType)) ∈ lw_all := lw_g (lw_at lw_m2 202 rfl) rfl
theorem q500 : (Jvm.Cond.methodLink "HiredByLonging$Land" (61 : Nat) ({ cls := "HiredByLonging$Land", name := "isAtGoal", desc := "(I)Z" } : Jvm.MethodName)) ∈ lw_all := lw_g (lw_at lw_m2 203 rfl) rfl
theorem q501 : (Jvm.Cond.instanceMethod ({ cls := "HiredByLonging$Land", name := "isAtGoal", desc := "(I)Z" } : Jvm.MethodName)) ∈ lw_all := lw_g (lw_at lw_m2 204 rfl) rfl
theorem q502 : (Jvm.Cond.selects "HiredByLonging$Land" ({ cls := "HiredByLonging$Land", name := "isAtGoal", desc := "(I)Z" } : Jvm.MethodName) ({ cls := "HiredByLonging$Land", name := "isAtGoal", desc := "(I)Z" } : Jvm.MethodName)) ∈ lw_all := lw_g (lw_at lw_m2 205 rfl) rfl
theorem q503 : (Jvm.Cond.code ({ cls := "HiredByLonging$Land", name := "isAtGoal", desc := "(I)Z" } : Jvm.MethodName) prog_10_method_8_code (2 : Nat) (Option.some Jvm.ClassFile.FieldType.boolean)) ∈ lw_all := lw_g (lw_at lw_m2 206 rfl) rfl
theorem q504 : (Jvm.Cond.methodLink "HiredByLonging$Land" (70 : Nat) ({ cls := "HiredByLonging$Horse", name := "pines", desc := "(I)I" } : Jvm.MethodName)) ∈ lw_all := lw_g (lw_at lw_m2 207 rfl) rfl
theorem q533 : (Jvm.Cond.instanceMethod ({ cls := "HiredByLonging$Land", name := "goes", desc := "(I)V" } : Jvm.MethodName)) ∈ lw_all := lw_g (lw_at lw_m2 236 rfl) rfl
theorem q534 : (Jvm.Cond.selects "HiredByLonging$Land" ({ cls := "HiredByLonging$Land", name := "goes", desc := "(I)V" } : Jvm.MethodName) ({ cls := "HiredByLonging$Land", name := "goes", desc := "(I)V" } : Jvm.MethodName)) ∈ lw_all := lw_g (lw_at lw_m2 237 rfl) rfl
theorem q535 : (Jvm.Cond.code ({ cls := "HiredByLonging$Land", name := "goes", desc := "(I)V" } : Jvm.MethodName) prog_10_method_11_code (3 : Nat) (Option.none : Option Jvm.ClassFile.FieldType)) ∈ lw_all := lw_g (lw_at lw_m2 238 rfl) rfl
theorem q598 : (Jvm.Cond.instanceMethod ({ cls := "HiredByLonging$Land", name := "allLonging", desc := "()I" } : Jvm.MethodName)) ∈ lw_all := lw_g (lw_at lw_m3 61 rfl) rfl
theorem q599 : (Jvm.Cond.selects "HiredByLonging$Land" ({ cls := "HiredByLonging$Land", name := "allLonging", desc := "()I" } : Jvm.MethodName) ({ cls := "HiredByLonging$Land", name := "allLonging", desc := "()I" } : Jvm.MethodName)) ∈ lw_all := lw_g (lw_at lw_m3 62 rfl) rfl
theorem q600 : (Jvm.Cond.code ({ cls := "HiredByLonging$Land", name := "allLonging", desc := "()I" } : Jvm.MethodName) prog_10_method_14_code (3 : Nat) (Option.some Jvm.ClassFile.FieldType.int)) ∈ lw_all := lw_g (lw_at lw_m3 63 rfl) rfl
theorem q810 : (Jvm.Cond.instanceMethod ({ cls := "HiredByLonging$Land", name := "manyAtGoals", desc := "()I" } : Jvm.MethodName)) ∈ lw_all := lw_g (lw_at lw_m4 33 rfl) rfl
theorem q811 : (Jvm.Cond.selects "HiredByLonging$Land" ({ cls := "HiredByLonging$Land", name := "manyAtGoals", desc := "()I" } : Jvm.MethodName) ({ cls := "HiredByLonging$Land", name := "manyAtGoals", desc := "()I" } : Jvm.MethodName)) ∈ lw_all := lw_g (lw_at lw_m4 34 rfl) rfl
theorem q812 : (Jvm.Cond.code ({ cls := "HiredByLonging$Land", name := "manyAtGoals", desc := "()I" } : Jvm.MethodName) prog_10_method_15_code (3 : Nat) (Option.some Jvm.ClassFile.FieldType.int)) ∈ lw_all := lw_g (lw_at lw_m4 35 rfl) rfl
theorem q832 : (Jvm.Cond.instanceMethod ({ cls := "HiredByLonging$Land", name := "<init>", desc := "()V" } : Jvm.MethodName)) ∈ lw_all := lw_g (lw_at lw_m4 55 rfl) rfl
theorem q833 : (Jvm.Cond.code ({ cls := "HiredByLonging$Land", name := "<init>", desc := "()V" } : Jvm.MethodName) prog_10_method_1_code (1 : Nat) (Option.none : Option Jvm.ClassFile.FieldType)) ∈ lw_all := lw_g (lw_at lw_m4 56 rfl) rfl
theorem q834 : (Jvm.Cond.methodLink "HiredByLonging$Land" (3 : Nat) ({ cls := "java/lang/Object", name := "<init>", desc := "()V" } : Jvm.MethodName)) ∈ lw_all := lw_g (lw_at lw_m4 57 rfl) rfl
theorem q835 : (Jvm.Cond.classLink "HiredByLonging$Land" (9 : Nat) "HiredByLonging$Horse") ∈ lw_all := lw_g (lw_at lw_m4 58 rfl) rfl
theorem q837 : (Jvm.Cond.fieldLink "HiredByLonging$Land" (11 : Nat) "HiredByLonging$Land" "horse" "[LHiredByLonging$Horse;") ∈ lw_all := lw_g (lw_at lw_m4 60 rfl) rfl
theorem q839 : (Jvm.Cond.fieldLink "HiredByLonging$Land" (17 : Nat) "HiredByLonging$Land" "home" "[I") ∈ lw_all := lw_g (lw_at lw_m4 62 rfl) rfl
theorem q841 : (Jvm.Cond.fieldLink "HiredByLonging$Land" (21 : Nat) "HiredByLonging$Land" "at" "[I") ∈ lw_all := lw_g (lw_at lw_m4 64 rfl) rfl
theorem q843 : (Jvm.Cond.fieldLink "HiredByLonging$Land" (24 : Nat) "HiredByLonging$Land" "longing" "[I") ∈ lw_all := lw_g (lw_at lw_m4 66 rfl) rfl
theorem q845 : (Jvm.Cond.fieldLink "HiredByLonging$Land" (37 : Nat) "HiredByLonging$Land" "horses" "I") ∈ lw_all := lw_g (lw_at lw_m4 68 rfl) rfl
theorem q847 : (Jvm.Cond.fieldLink "HiredByLonging$Land" (41 : Nat) "HiredByLonging$Land" "oats" "I") ∈ lw_all := lw_g (lw_at lw_m4 70 rfl) rfl
theorem q849 : (Jvm.Cond.fieldLink "HiredByLonging$Land" (44 : Nat) "HiredByLonging$Land" "day" "I") ∈ lw_all := lw_g (lw_at lw_m4 72 rfl) rfl
theorem q851 : (Jvm.Cond.laysFinal "HiredByLonging$Land" "HiredByLonging$Land" "horse" "[LHiredByLonging$Horse;") ∈ lw_all := lw_g (lw_at lw_m4 74 rfl) rfl
theorem q852 : (Jvm.Cond.soleField "HiredByLonging$Land" "horse") ∈ lw_all := lw_g (lw_at lw_m4 75 rfl) rfl
theorem q853 : (Jvm.Cond.laysFinal "HiredByLonging$Land" "HiredByLonging$Land" "home" "[I") ∈ lw_all := lw_g (lw_at lw_m4 76 rfl) rfl
theorem q854 : (Jvm.Cond.soleField "HiredByLonging$Land" "home") ∈ lw_all := lw_g (lw_at lw_m4 77 rfl) rfl
theorem q855 : (Jvm.Cond.laysFinal "HiredByLonging$Land" "HiredByLonging$Land" "at" "[I") ∈ lw_all := lw_g (lw_at lw_m4 78 rfl) rfl
theorem q856 : (Jvm.Cond.soleField "HiredByLonging$Land" "at") ∈ lw_all := lw_g (lw_at lw_m4 79 rfl) rfl
theorem q857 : (Jvm.Cond.laysFinal "HiredByLonging$Land" "HiredByLonging$Land" "longing" "[I") ∈ lw_all := lw_g (lw_at lw_m4 80 rfl) rfl
theorem q858 : (Jvm.Cond.soleField "HiredByLonging$Land" "longing") ∈ lw_all := lw_g (lw_at lw_m4 81 rfl) rfl
theorem q859 : (Jvm.Cond.lays "HiredByLonging$Land" "HiredByLonging$Land" "horses" "I") ∈ lw_all := lw_g (lw_at lw_m4 82 rfl) rfl
theorem q860 : (Jvm.Cond.soleField "HiredByLonging$Land" "horses") ∈ lw_all := lw_g (lw_at lw_m4 83 rfl) rfl
theorem q861 : (Jvm.Cond.lays "HiredByLonging$Land" "HiredByLonging$Land" "oats" "I") ∈ lw_all := lw_g (lw_at lw_m4 84 rfl) rfl
theorem q862 : (Jvm.Cond.soleField "HiredByLonging$Land" "oats") ∈ lw_all := lw_g (lw_at lw_m4 85 rfl) rfl
theorem q863 : (Jvm.Cond.lays "HiredByLonging$Land" "HiredByLonging$Land" "day" "I") ∈ lw_all := lw_g (lw_at lw_m4 86 rfl) rfl
theorem q864 : (Jvm.Cond.soleField "HiredByLonging$Land" "day") ∈ lw_all := lw_g (lw_at lw_m4 87 rfl) rfl
theorem q865 : (Jvm.Cond.superclass "HiredByLonging$Land" "java/lang/Object") ∈ lw_all := lw_g (lw_at lw_m4 88 rfl) rfl
theorem in_X2 : ∀ w ∈ wsX20, w ∈ lw_all := lw_in wsX20 [851, 853, 855, 857, 859, 861, 863] (by decide +kernel) (by decide +kernel)
/-! HiredByLonging$LandReader -/
set_option maxRecDepth 100000
def RX5 : String := "HiredByLonging$LandReader"
def TX5 : u_T := fun k => match k with
  | 0 => ("HiredByLonging$LandReader", "text", "[B", true)
  | _ => ("HiredByLonging$LandReader", "at", "I", false)
def tyX5 : Nat → FieldType := fun k => match k with
  | 0 => .array .byte
  | _ => .int
abbrev wsX50 : List Cond := u_ws RX5 TX5 2
theorem nmX5 : ∀ a, a < 2 → ∀ b, b < 2 → a ≠ b → (TX5 a).2.1 ≠ (TX5 b).2.1 := by decide +kernel
theorem tyX5_ok : ∀ k, k < 2 → parseFieldDescriptor (TX5 k).2.2.1 = some (tyX5 k) := by decide +kernel
abbrev cX5_init : ByteArray := prog_11_method_1_code
def yX5_init : MethodName := ⟨RX5, "<init>", "([B)V"⟩
def dkwX5_init_0 : List UInt8 := [42, 183, 0, 3, 42, 43, 181, 0, 9, 177]
abbrev dktX5_init_0 : List UInt8 := dkwX5_init_0 ++ []
theorem dksX5_init_0 : cX5_init.data.toList.drop 0 = dktX5_init_0 := by decide +kernel
theorem dX5_init_0 : decode cX5_init 0 = .ok (.aload_n 0, 1) := dk_42 (dk_at dksX5_init_0 0 rfl rfl)
theorem dX5_init_1 : decode cX5_init 1 = .ok (.invokespecial 3, 3) := dk_183 0 3 (dk_at dksX5_init_0 1 rfl rfl)
theorem dX5_init_4 : decode cX5_init 4 = .ok (.aload_n 0, 1) := dk_42 (dk_at dksX5_init_0 4 rfl rfl)
theorem dX5_init_5 : decode cX5_init 5 = .ok (.aload_n 1, 1) := dk_43 (dk_at dksX5_init_0 5 rfl rfl)
theorem dX5_init_6 : decode cX5_init 6 = .ok (.putfield 9, 3) := dk_181 0 9 (dk_at dksX5_init_0 6 rfl rfl)
theorem dX5_init_9 : decode cX5_init 9 = .ok (.return_, 1) := dk_177 (dk_at dksX5_init_0 9 rfl rfl)
abbrev cX5_whole : ByteArray := prog_11_method_7_code
def yX5_whole : MethodName := ⟨RX5, "whole", "([LHiredByLonging$Told;)I"⟩
def dkwX5_whole_1 : List UInt8 := [28, 172]
abbrev dktX5_whole_1 : List UInt8 := dkwX5_whole_1 ++ []
def dkwX5_whole_0 : List UInt8 := [3, 61, 43, 28, 42, 182, 0, 55, 83, 132, 2, 1, 42, 180, 0, 15, 42, 180, 0, 9, 190, 161, 255, 237]
abbrev dktX5_whole_0 : List UInt8 := dkwX5_whole_0 ++ dktX5_whole_1
theorem dksX5_whole_0 : cX5_whole.data.toList.drop 0 = dktX5_whole_0 := by decide +kernel
theorem dksX5_whole_1 : cX5_whole.data.toList.drop 24 = dktX5_whole_1 := dk_seg dksX5_whole_0 24 rfl rfl
theorem dX5_whole_0 : decode cX5_whole 0 = .ok (.iconst 0, 1) := dk_3 (dk_at dksX5_whole_0 0 rfl rfl)
theorem dX5_whole_1 : decode cX5_whole 1 = .ok (.istore_n 2, 1) := dk_61 (dk_at dksX5_whole_0 1 rfl rfl)
theorem dX5_whole_2 : decode cX5_whole 2 = .ok (.aload_n 1, 1) := dk_43 (dk_at dksX5_whole_0 2 rfl rfl)
theorem dX5_whole_3 : decode cX5_whole 3 = .ok (.iload_n 2, 1) := dk_28 (dk_at dksX5_whole_0 3 rfl rfl)
theorem dX5_whole_4 : decode cX5_whole 4 = .ok (.aload_n 0, 1) := dk_42 (dk_at dksX5_whole_0 4 rfl rfl)
theorem dX5_whole_5 : decode cX5_whole 5 = .ok (.invokevirtual 55, 3) := dk_182 0 55 (dk_at dksX5_whole_0 5 rfl rfl)
theorem dX5_whole_8 : decode cX5_whole 8 = .ok (.aastore, 1) := dk_83 (dk_at dksX5_whole_0 8 rfl rfl)
theorem dX5_whole_9 : decode cX5_whole 9 = .ok (.iinc 2 1, 3) := dk_132 2 1 (dk_at dksX5_whole_0 9 rfl rfl)
theorem dX5_whole_12 : decode cX5_whole 12 = .ok (.aload_n 0, 1) := dk_42 (dk_at dksX5_whole_0 12 rfl rfl)
theorem dX5_whole_13 : decode cX5_whole 13 = .ok (.getfield 15, 3) := dk_180 0 15 (dk_at dksX5_whole_0 13 rfl rfl)
theorem dX5_whole_16 : decode cX5_whole 16 = .ok (.aload_n 0, 1) := dk_42 (dk_at dksX5_whole_0 16 rfl rfl)
theorem dX5_whole_17 : decode cX5_whole 17 = .ok (.getfield 9, 3) := dk_180 0 9 (dk_at dksX5_whole_0 17 rfl rfl)
theorem dX5_whole_20 : decode cX5_whole 20 = .ok (.arraylength, 1) := dk_190 (dk_at dksX5_whole_0 20 rfl rfl)
theorem dX5_whole_21 : decode cX5_whole 21 = .ok (.if_icmp .lt (-19), 3) := dk_161 255 237 (dk_at dksX5_whole_0 21 rfl rfl)
theorem dX5_whole_24 : decode cX5_whole 24 = .ok (.iload_n 2, 1) := dk_28 (dk_at dksX5_whole_1 0 rfl rfl)
theorem dX5_whole_25 : decode cX5_whole 25 = .ok (.ireturn, 1) := dk_172 (dk_at dksX5_whole_1 1 rfl rfl)
abbrev cX5_statement : ByteArray := prog_11_method_6_code
def yX5_statement : MethodName := ⟨RX5, "statement", "()LHiredByLonging$Told;"⟩
def dkwX5_statement_2 : List UInt8 := [180, 0, 15, 4, 96, 181, 0, 15, 43, 176]
abbrev dktX5_statement_2 : List UInt8 := dkwX5_statement_2 ++ []
def dkwX5_statement_1 : List UInt8 := [181, 0, 15, 42, 43, 182, 0, 51, 42, 182, 0, 24, 16, 59, 159, 0, 8, 42, 182, 0, 32, 191, 42, 89]
abbrev dktX5_statement_1 : List UInt8 := dkwX5_statement_1 ++ dktX5_statement_2
def dkwX5_statement_0 : List UInt8 := [187, 0, 37, 89, 42, 182, 0, 24, 42, 180, 0, 15, 183, 0, 48, 76, 42, 89, 180, 0, 15, 4, 96]
abbrev dktX5_statement_0 : List UInt8 := dkwX5_statement_0 ++ dktX5_statement_1
theorem dksX5_statement_0 : cX5_statement.data.toList.drop 0 = dktX5_statement_0 := by decide +kernel
theorem dksX5_statement_1 : cX5_statement.data.toList.drop 23 = dktX5_statement_1 := dk_seg dksX5_statement_0 23 rfl rfl
theorem dksX5_statement_2 : cX5_statement.data.toList.drop 47 = dktX5_statement_2 := dk_seg dksX5_statement_1 24 rfl rfl
theorem dX5_statement_0 : decode cX5_statement 0 = .ok (.new 37, 3) := dk_187 0 37 (dk_at dksX5_statement_0 0 rfl rfl)
theorem dX5_statement_3 : decode cX5_statement 3 = .ok (.dup, 1) := dk_89 (dk_at dksX5_statement_0 3 rfl rfl)
theorem dX5_statement_4 : decode cX5_statement 4 = .ok (.aload_n 0, 1) := dk_42 (dk_at dksX5_statement_0 4 rfl rfl)
theorem dX5_statement_5 : decode cX5_statement 5 = .ok (.invokevirtual 24, 3) := dk_182 0 24 (dk_at dksX5_statement_0 5 rfl rfl)
theorem dX5_statement_8 : decode cX5_statement 8 = .ok (.aload_n 0, 1) := dk_42 (dk_at dksX5_statement_0 8 rfl rfl)
theorem dX5_statement_9 : decode cX5_statement 9 = .ok (.getfield 15, 3) := dk_180 0 15 (dk_at dksX5_statement_0 9 rfl rfl)
theorem dX5_statement_12 : decode cX5_statement 12 = .ok (.invokespecial 48, 3) := dk_183 0 48 (dk_at dksX5_statement_0 12 rfl rfl)
theorem dX5_statement_15 : decode cX5_statement 15 = .ok (.astore_n 1, 1) := dk_76 (dk_at dksX5_statement_0 15 rfl rfl)
theorem dX5_statement_16 : decode cX5_statement 16 = .ok (.aload_n 0, 1) := dk_42 (dk_at dksX5_statement_0 16 rfl rfl)
theorem dX5_statement_17 : decode cX5_statement 17 = .ok (.dup, 1) := dk_89 (dk_at dksX5_statement_0 17 rfl rfl)
theorem dX5_statement_18 : decode cX5_statement 18 = .ok (.getfield 15, 3) := dk_180 0 15 (dk_at dksX5_statement_0 18 rfl rfl)
theorem dX5_statement_21 : decode cX5_statement 21 = .ok (.iconst 1, 1) := dk_4 (dk_at dksX5_statement_0 21 rfl rfl)
theorem dX5_statement_22 : decode cX5_statement 22 = .ok (.iadd, 1) := dk_96 (dk_at dksX5_statement_0 22 rfl rfl)
theorem dX5_statement_23 : decode cX5_statement 23 = .ok (.putfield 15, 3) := dk_181 0 15 (dk_at dksX5_statement_1 0 rfl rfl)
theorem dX5_statement_26 : decode cX5_statement 26 = .ok (.aload_n 0, 1) := dk_42 (dk_at dksX5_statement_1 3 rfl rfl)
theorem dX5_statement_27 : decode cX5_statement 27 = .ok (.aload_n 1, 1) := dk_43 (dk_at dksX5_statement_1 4 rfl rfl)
theorem dX5_statement_28 : decode cX5_statement 28 = .ok (.invokevirtual 51, 3) := dk_182 0 51 (dk_at dksX5_statement_1 5 rfl rfl)
theorem dX5_statement_31 : decode cX5_statement 31 = .ok (.aload_n 0, 1) := dk_42 (dk_at dksX5_statement_1 8 rfl rfl)
theorem dX5_statement_32 : decode cX5_statement 32 = .ok (.invokevirtual 24, 3) := dk_182 0 24 (dk_at dksX5_statement_1 9 rfl rfl)
theorem dX5_statement_35 : decode cX5_statement 35 = .ok (.bipush 59, 2) := dk_16 59 (dk_at dksX5_statement_1 12 rfl rfl)
theorem dX5_statement_37 : decode cX5_statement 37 = .ok (.if_icmp .eq 8, 3) := dk_159 0 8 (dk_at dksX5_statement_1 14 rfl rfl)
theorem dX5_statement_40 : decode cX5_statement 40 = .ok (.aload_n 0, 1) := dk_42 (dk_at dksX5_statement_1 17 rfl rfl)
theorem dX5_statement_41 : decode cX5_statement 41 = .ok (.invokevirtual 32, 3) := dk_182 0 32 (dk_at dksX5_statement_1 18 rfl rfl)
theorem dX5_statement_44 : decode cX5_statement 44 = .ok (.athrow, 1) := dk_191 (dk_at dksX5_statement_1 21 rfl rfl)
theorem dX5_statement_45 : decode cX5_statement 45 = .ok (.aload_n 0, 1) := dk_42 (dk_at dksX5_statement_1 22 rfl rfl)
theorem dX5_statement_46 : decode cX5_statement 46 = .ok (.dup, 1) := dk_89 (dk_at dksX5_statement_1 23 rfl rfl)
theorem dX5_statement_47 : decode cX5_statement 47 = .ok (.getfield 15, 3) := dk_180 0 15 (dk_at dksX5_statement_2 0 rfl rfl)
theorem dX5_statement_50 : decode cX5_statement 50 = .ok (.iconst 1, 1) := dk_4 (dk_at dksX5_statement_2 3 rfl rfl)
theorem dX5_statement_51 : decode cX5_statement 51 = .ok (.iadd, 1) := dk_96 (dk_at dksX5_statement_2 4 rfl rfl)
theorem dX5_statement_52 : decode cX5_statement 52 = .ok (.putfield 15, 3) := dk_181 0 15 (dk_at dksX5_statement_2 5 rfl rfl)
theorem dX5_statement_55 : decode cX5_statement 55 = .ok (.aload_n 1, 1) := dk_43 (dk_at dksX5_statement_2 8 rfl rfl)
theorem dX5_statement_56 : decode cX5_statement 56 = .ok (.areturn, 1) := dk_176 (dk_at dksX5_statement_2 9 rfl rfl)
abbrev cX5_sign : ByteArray := prog_11_method_2_code
def yX5_sign : MethodName := ⟨RX5, "sign", "()I"⟩
def dkwX5_sign_1 : List UInt8 := [2, 172]
abbrev dktX5_sign_1 : List UInt8 := dkwX5_sign_1 ++ []
def dkwX5_sign_0 : List UInt8 := [42, 180, 0, 15, 42, 180, 0, 9, 190, 162, 0, 15, 42, 180, 0, 9, 42, 180, 0, 15, 51, 167, 0, 4]
abbrev dktX5_sign_0 : List UInt8 := dkwX5_sign_0 ++ dktX5_sign_1
theorem dksX5_sign_0 : cX5_sign.data.toList.drop 0 = dktX5_sign_0 := by decide +kernel
theorem dksX5_sign_1 : cX5_sign.data.toList.drop 24 = dktX5_sign_1 := dk_seg dksX5_sign_0 24 rfl rfl
theorem dX5_sign_0 : decode cX5_sign 0 = .ok (.aload_n 0, 1) := dk_42 (dk_at dksX5_sign_0 0 rfl rfl)
theorem dX5_sign_1 : decode cX5_sign 1 = .ok (.getfield 15, 3) := dk_180 0 15 (dk_at dksX5_sign_0 1 rfl rfl)
theorem dX5_sign_4 : decode cX5_sign 4 = .ok (.aload_n 0, 1) := dk_42 (dk_at dksX5_sign_0 4 rfl rfl)
theorem dX5_sign_5 : decode cX5_sign 5 = .ok (.getfield 9, 3) := dk_180 0 9 (dk_at dksX5_sign_0 5 rfl rfl)
theorem dX5_sign_8 : decode cX5_sign 8 = .ok (.arraylength, 1) := dk_190 (dk_at dksX5_sign_0 8 rfl rfl)
theorem dX5_sign_9 : decode cX5_sign 9 = .ok (.if_icmp .ge 15, 3) := dk_162 0 15 (dk_at dksX5_sign_0 9 rfl rfl)
theorem dX5_sign_12 : decode cX5_sign 12 = .ok (.aload_n 0, 1) := dk_42 (dk_at dksX5_sign_0 12 rfl rfl)
theorem dX5_sign_13 : decode cX5_sign 13 = .ok (.getfield 9, 3) := dk_180 0 9 (dk_at dksX5_sign_0 13 rfl rfl)
theorem dX5_sign_16 : decode cX5_sign 16 = .ok (.aload_n 0, 1) := dk_42 (dk_at dksX5_sign_0 16 rfl rfl)
theorem dX5_sign_17 : decode cX5_sign 17 = .ok (.getfield 15, 3) := dk_180 0 15 (dk_at dksX5_sign_0 17 rfl rfl)
theorem dX5_sign_20 : decode cX5_sign 20 = .ok (.baload, 1) := dk_51 (dk_at dksX5_sign_0 20 rfl rfl)
theorem dX5_sign_21 : decode cX5_sign 21 = .ok (.goto 4, 3) := dk_167 0 4 (dk_at dksX5_sign_0 21 rfl rfl)
theorem dX5_sign_24 : decode cX5_sign 24 = .ok (.iconst (-1), 1) := dk_2 (dk_at dksX5_sign_1 0 rfl rfl)
theorem dX5_sign_25 : decode cX5_sign 25 = .ok (.ireturn, 1) := dk_172 (dk_at dksX5_sign_1 1 rfl rfl)
abbrev cX5_reads : ByteArray := prog_11_method_5_code
def yX5_reads : MethodName := ⟨RX5, "reads", "(LHiredByLonging$Told;)V"⟩
def dkwX5_reads_5 : List UInt8 := [180, 0, 15, 4, 100, 181, 0, 15, 42, 182, 0, 32, 191, 177]
abbrev dktX5_reads_5 : List UInt8 := dkwX5_reads_5 ++ []
def dkwX5_reads_4 : List UInt8 := [182, 0, 41, 182, 0, 45, 167, 0, 30, 43, 42, 5, 182, 0, 41, 182, 0, 45, 167, 0, 18, 42, 89]
abbrev dktX5_reads_4 : List UInt8 := dkwX5_reads_4 ++ dktX5_reads_5
def dkwX5_reads_3 : List UInt8 := [182, 0, 45, 132, 2, 1, 167, 255, 230, 167, 0, 51, 43, 42, 4, 182, 0, 41, 182, 0, 45, 43, 42, 5]
abbrev dktX5_reads_3 : List UInt8 := dkwX5_reads_3 ++ dktX5_reads_4
def dkwX5_reads_2 : List UInt8 := [3, 61, 28, 7, 162, 0, 27, 43, 42, 28, 5, 162, 0, 7, 4, 167, 0, 4, 5, 182, 0, 41]
abbrev dktX5_reads_2 : List UInt8 := dkwX5_reads_2 ++ dktX5_reads_3
def dkwX5_reads_1 : List UInt8 := [170, 0, 0, 0, 0, 0, 0, 143, 0, 0, 0, 100, 0, 0, 0, 114, 0, 0, 0, 131, 0, 0, 0, 143, 0, 0, 0, 143, 0, 0, 0, 143, 0, 0, 0, 76, 0, 0, 0, 143, 0, 0, 0, 143, 0, 0, 0, 143, 0, 0, 0, 110, 0, 0, 0, 143, 0, 0, 0, 143, 0, 0, 0, 131, 0, 0, 0, 143, 0, 0, 0, 143, 0, 0, 0, 110]
abbrev dktX5_reads_1 : List UInt8 := dkwX5_reads_1 ++ dktX5_reads_2
def dkwX5_reads_0 : List UInt8 := [43, 180, 0, 36]
abbrev dktX5_reads_0 : List UInt8 := dkwX5_reads_0 ++ dktX5_reads_1
theorem dksX5_reads_0 : cX5_reads.data.toList.drop 0 = dktX5_reads_0 := by decide +kernel
theorem dksX5_reads_1 : cX5_reads.data.toList.drop 4 = dktX5_reads_1 := dk_seg dksX5_reads_0 4 rfl rfl
theorem dksX5_reads_2 : cX5_reads.data.toList.drop 80 = dktX5_reads_2 := dk_seg dksX5_reads_1 76 rfl rfl
theorem dksX5_reads_3 : cX5_reads.data.toList.drop 102 = dktX5_reads_3 := dk_seg dksX5_reads_2 22 rfl rfl
theorem dksX5_reads_4 : cX5_reads.data.toList.drop 126 = dktX5_reads_4 := dk_seg dksX5_reads_3 24 rfl rfl
theorem dksX5_reads_5 : cX5_reads.data.toList.drop 149 = dktX5_reads_5 := dk_seg dksX5_reads_4 23 rfl rfl
theorem dX5_reads_0 : decode cX5_reads 0 = .ok (.aload_n 1, 1) := dk_43 (dk_at dksX5_reads_0 0 rfl rfl)
theorem dX5_reads_1 : decode cX5_reads 1 = .ok (.getfield 36, 3) := dk_180 0 36 (dk_at dksX5_reads_0 1 rfl rfl)
theorem dX5_reads_4 : decode cX5_reads 4 = .ok (.tableswitch 143 100 114 #[131, 143, 143, 143, 76, 143, 143, 143, 110, 143, 143, 131, 143, 143, 110], 76) := by decide +kernel
theorem dX5_reads_80 : decode cX5_reads 80 = .ok (.iconst 0, 1) := dk_3 (dk_at dksX5_reads_2 0 rfl rfl)
theorem dX5_reads_81 : decode cX5_reads 81 = .ok (.istore_n 2, 1) := dk_61 (dk_at dksX5_reads_2 1 rfl rfl)
theorem dX5_reads_82 : decode cX5_reads 82 = .ok (.iload_n 2, 1) := dk_28 (dk_at dksX5_reads_2 2 rfl rfl)
theorem dX5_reads_83 : decode cX5_reads 83 = .ok (.iconst 4, 1) := dk_7 (dk_at dksX5_reads_2 3 rfl rfl)
theorem dX5_reads_84 : decode cX5_reads 84 = .ok (.if_icmp .ge 27, 3) := dk_162 0 27 (dk_at dksX5_reads_2 4 rfl rfl)
theorem dX5_reads_87 : decode cX5_reads 87 = .ok (.aload_n 1, 1) := dk_43 (dk_at dksX5_reads_2 7 rfl rfl)
theorem dX5_reads_88 : decode cX5_reads 88 = .ok (.aload_n 0, 1) := dk_42 (dk_at dksX5_reads_2 8 rfl rfl)
theorem dX5_reads_89 : decode cX5_reads 89 = .ok (.iload_n 2, 1) := dk_28 (dk_at dksX5_reads_2 9 rfl rfl)
theorem dX5_reads_90 : decode cX5_reads 90 = .ok (.iconst 2, 1) := dk_5 (dk_at dksX5_reads_2 10 rfl rfl)
theorem dX5_reads_91 : decode cX5_reads 91 = .ok (.if_icmp .ge 7, 3) := dk_162 0 7 (dk_at dksX5_reads_2 11 rfl rfl)
theorem dX5_reads_94 : decode cX5_reads 94 = .ok (.iconst 1, 1) := dk_4 (dk_at dksX5_reads_2 14 rfl rfl)
theorem dX5_reads_95 : decode cX5_reads 95 = .ok (.goto 4, 3) := dk_167 0 4 (dk_at dksX5_reads_2 15 rfl rfl)
theorem dX5_reads_98 : decode cX5_reads 98 = .ok (.iconst 2, 1) := dk_5 (dk_at dksX5_reads_2 18 rfl rfl)
theorem dX5_reads_99 : decode cX5_reads 99 = .ok (.invokevirtual 41, 3) := dk_182 0 41 (dk_at dksX5_reads_2 19 rfl rfl)
theorem dX5_reads_102 : decode cX5_reads 102 = .ok (.invokevirtual 45, 3) := dk_182 0 45 (dk_at dksX5_reads_3 0 rfl rfl)
theorem dX5_reads_105 : decode cX5_reads 105 = .ok (.iinc 2 1, 3) := dk_132 2 1 (dk_at dksX5_reads_3 3 rfl rfl)
theorem dX5_reads_108 : decode cX5_reads 108 = .ok (.goto (-26), 3) := dk_167 255 230 (dk_at dksX5_reads_3 6 rfl rfl)
theorem dX5_reads_111 : decode cX5_reads 111 = .ok (.goto 51, 3) := dk_167 0 51 (dk_at dksX5_reads_3 9 rfl rfl)
theorem dX5_reads_114 : decode cX5_reads 114 = .ok (.aload_n 1, 1) := dk_43 (dk_at dksX5_reads_3 12 rfl rfl)
theorem dX5_reads_115 : decode cX5_reads 115 = .ok (.aload_n 0, 1) := dk_42 (dk_at dksX5_reads_3 13 rfl rfl)
theorem dX5_reads_116 : decode cX5_reads 116 = .ok (.iconst 1, 1) := dk_4 (dk_at dksX5_reads_3 14 rfl rfl)
theorem dX5_reads_117 : decode cX5_reads 117 = .ok (.invokevirtual 41, 3) := dk_182 0 41 (dk_at dksX5_reads_3 15 rfl rfl)
theorem dX5_reads_120 : decode cX5_reads 120 = .ok (.invokevirtual 45, 3) := dk_182 0 45 (dk_at dksX5_reads_3 18 rfl rfl)
theorem dX5_reads_123 : decode cX5_reads 123 = .ok (.aload_n 1, 1) := dk_43 (dk_at dksX5_reads_3 21 rfl rfl)
theorem dX5_reads_124 : decode cX5_reads 124 = .ok (.aload_n 0, 1) := dk_42 (dk_at dksX5_reads_3 22 rfl rfl)
theorem dX5_reads_125 : decode cX5_reads 125 = .ok (.iconst 2, 1) := dk_5 (dk_at dksX5_reads_3 23 rfl rfl)
theorem dX5_reads_126 : decode cX5_reads 126 = .ok (.invokevirtual 41, 3) := dk_182 0 41 (dk_at dksX5_reads_4 0 rfl rfl)
theorem dX5_reads_129 : decode cX5_reads 129 = .ok (.invokevirtual 45, 3) := dk_182 0 45 (dk_at dksX5_reads_4 3 rfl rfl)
theorem dX5_reads_132 : decode cX5_reads 132 = .ok (.goto 30, 3) := dk_167 0 30 (dk_at dksX5_reads_4 6 rfl rfl)
theorem dX5_reads_135 : decode cX5_reads 135 = .ok (.aload_n 1, 1) := dk_43 (dk_at dksX5_reads_4 9 rfl rfl)
theorem dX5_reads_136 : decode cX5_reads 136 = .ok (.aload_n 0, 1) := dk_42 (dk_at dksX5_reads_4 10 rfl rfl)
theorem dX5_reads_137 : decode cX5_reads 137 = .ok (.iconst 2, 1) := dk_5 (dk_at dksX5_reads_4 11 rfl rfl)
theorem dX5_reads_138 : decode cX5_reads 138 = .ok (.invokevirtual 41, 3) := dk_182 0 41 (dk_at dksX5_reads_4 12 rfl rfl)
theorem dX5_reads_141 : decode cX5_reads 141 = .ok (.invokevirtual 45, 3) := dk_182 0 45 (dk_at dksX5_reads_4 15 rfl rfl)
theorem dX5_reads_144 : decode cX5_reads 144 = .ok (.goto 18, 3) := dk_167 0 18 (dk_at dksX5_reads_4 18 rfl rfl)
theorem dX5_reads_147 : decode cX5_reads 147 = .ok (.aload_n 0, 1) := dk_42 (dk_at dksX5_reads_4 21 rfl rfl)
theorem dX5_reads_148 : decode cX5_reads 148 = .ok (.dup, 1) := dk_89 (dk_at dksX5_reads_4 22 rfl rfl)
theorem dX5_reads_149 : decode cX5_reads 149 = .ok (.getfield 15, 3) := dk_180 0 15 (dk_at dksX5_reads_5 0 rfl rfl)
theorem dX5_reads_152 : decode cX5_reads 152 = .ok (.iconst 1, 1) := dk_4 (dk_at dksX5_reads_5 3 rfl rfl)
theorem dX5_reads_153 : decode cX5_reads 153 = .ok (.isub, 1) := dk_100 (dk_at dksX5_reads_5 4 rfl rfl)
theorem dX5_reads_154 : decode cX5_reads 154 = .ok (.putfield 15, 3) := dk_181 0 15 (dk_at dksX5_reads_5 5 rfl rfl)
theorem dX5_reads_157 : decode cX5_reads 157 = .ok (.aload_n 0, 1) := dk_42 (dk_at dksX5_reads_5 8 rfl rfl)
theorem dX5_reads_158 : decode cX5_reads 158 = .ok (.invokevirtual 32, 3) := dk_182 0 32 (dk_at dksX5_reads_5 9 rfl rfl)
theorem dX5_reads_161 : decode cX5_reads 161 = .ok (.athrow, 1) := dk_191 (dk_at dksX5_reads_5 12 rfl rfl)
theorem dX5_reads_162 : decode cX5_reads 162 = .ok (.return_, 1) := dk_177 (dk_at dksX5_reads_5 13 rfl rfl)
abbrev cX5_number : ByteArray := prog_11_method_4_code
def yX5_number : MethodName := ⟨RX5, "number", "(I)I"⟩
def dkwX5_number_2 : List UInt8 := [181, 0, 15, 132, 3, 1, 167, 255, 206, 28, 172]
abbrev dktX5_number_2 : List UInt8 := dkwX5_number_2 ++ []
def dkwX5_number_1 : List UInt8 := [182, 0, 32, 191, 16, 10, 28, 104, 42, 182, 0, 24, 96, 16, 48, 100, 61, 42, 89, 180, 0, 15, 4, 96]
abbrev dktX5_number_1 : List UInt8 := dkwX5_number_1 ++ dktX5_number_2
def dkwX5_number_0 : List UInt8 := [3, 61, 3, 62, 29, 27, 162, 0, 51, 42, 182, 0, 24, 16, 48, 16, 57, 184, 0, 28, 154, 0, 8, 42]
abbrev dktX5_number_0 : List UInt8 := dkwX5_number_0 ++ dktX5_number_1
theorem dksX5_number_0 : cX5_number.data.toList.drop 0 = dktX5_number_0 := by decide +kernel
theorem dksX5_number_1 : cX5_number.data.toList.drop 24 = dktX5_number_1 := dk_seg dksX5_number_0 24 rfl rfl
theorem dksX5_number_2 : cX5_number.data.toList.drop 48 = dktX5_number_2 := dk_seg dksX5_number_1 24 rfl rfl
theorem dX5_number_0 : decode cX5_number 0 = .ok (.iconst 0, 1) := dk_3 (dk_at dksX5_number_0 0 rfl rfl)
theorem dX5_number_1 : decode cX5_number 1 = .ok (.istore_n 2, 1) := dk_61 (dk_at dksX5_number_0 1 rfl rfl)
theorem dX5_number_2 : decode cX5_number 2 = .ok (.iconst 0, 1) := dk_3 (dk_at dksX5_number_0 2 rfl rfl)
theorem dX5_number_3 : decode cX5_number 3 = .ok (.istore_n 3, 1) := dk_62 (dk_at dksX5_number_0 3 rfl rfl)
theorem dX5_number_4 : decode cX5_number 4 = .ok (.iload_n 3, 1) := dk_29 (dk_at dksX5_number_0 4 rfl rfl)
theorem dX5_number_5 : decode cX5_number 5 = .ok (.iload_n 1, 1) := dk_27 (dk_at dksX5_number_0 5 rfl rfl)
theorem dX5_number_6 : decode cX5_number 6 = .ok (.if_icmp .ge 51, 3) := dk_162 0 51 (dk_at dksX5_number_0 6 rfl rfl)
theorem dX5_number_9 : decode cX5_number 9 = .ok (.aload_n 0, 1) := dk_42 (dk_at dksX5_number_0 9 rfl rfl)
theorem dX5_number_10 : decode cX5_number 10 = .ok (.invokevirtual 24, 3) := dk_182 0 24 (dk_at dksX5_number_0 10 rfl rfl)
theorem dX5_number_13 : decode cX5_number 13 = .ok (.bipush 48, 2) := dk_16 48 (dk_at dksX5_number_0 13 rfl rfl)
theorem dX5_number_15 : decode cX5_number 15 = .ok (.bipush 57, 2) := dk_16 57 (dk_at dksX5_number_0 15 rfl rfl)
theorem dX5_number_17 : decode cX5_number 17 = .ok (.invokestatic 28, 3) := dk_184 0 28 (dk_at dksX5_number_0 17 rfl rfl)
theorem dX5_number_20 : decode cX5_number 20 = .ok (.ifCond .ne 8, 3) := dk_154 0 8 (dk_at dksX5_number_0 20 rfl rfl)
theorem dX5_number_23 : decode cX5_number 23 = .ok (.aload_n 0, 1) := dk_42 (dk_at dksX5_number_0 23 rfl rfl)
theorem dX5_number_24 : decode cX5_number 24 = .ok (.invokevirtual 32, 3) := dk_182 0 32 (dk_at dksX5_number_1 0 rfl rfl)
theorem dX5_number_27 : decode cX5_number 27 = .ok (.athrow, 1) := dk_191 (dk_at dksX5_number_1 3 rfl rfl)
theorem dX5_number_28 : decode cX5_number 28 = .ok (.bipush 10, 2) := dk_16 10 (dk_at dksX5_number_1 4 rfl rfl)
theorem dX5_number_30 : decode cX5_number 30 = .ok (.iload_n 2, 1) := dk_28 (dk_at dksX5_number_1 6 rfl rfl)
theorem dX5_number_31 : decode cX5_number 31 = .ok (.imul, 1) := dk_104 (dk_at dksX5_number_1 7 rfl rfl)
theorem dX5_number_32 : decode cX5_number 32 = .ok (.aload_n 0, 1) := dk_42 (dk_at dksX5_number_1 8 rfl rfl)
theorem dX5_number_33 : decode cX5_number 33 = .ok (.invokevirtual 24, 3) := dk_182 0 24 (dk_at dksX5_number_1 9 rfl rfl)
theorem dX5_number_36 : decode cX5_number 36 = .ok (.iadd, 1) := dk_96 (dk_at dksX5_number_1 12 rfl rfl)
theorem dX5_number_37 : decode cX5_number 37 = .ok (.bipush 48, 2) := dk_16 48 (dk_at dksX5_number_1 13 rfl rfl)
theorem dX5_number_39 : decode cX5_number 39 = .ok (.isub, 1) := dk_100 (dk_at dksX5_number_1 15 rfl rfl)
theorem dX5_number_40 : decode cX5_number 40 = .ok (.istore_n 2, 1) := dk_61 (dk_at dksX5_number_1 16 rfl rfl)
theorem dX5_number_41 : decode cX5_number 41 = .ok (.aload_n 0, 1) := dk_42 (dk_at dksX5_number_1 17 rfl rfl)
theorem dX5_number_42 : decode cX5_number 42 = .ok (.dup, 1) := dk_89 (dk_at dksX5_number_1 18 rfl rfl)
theorem dX5_number_43 : decode cX5_number 43 = .ok (.getfield 15, 3) := dk_180 0 15 (dk_at dksX5_number_1 19 rfl rfl)
theorem dX5_number_46 : decode cX5_number 46 = .ok (.iconst 1, 1) := dk_4 (dk_at dksX5_number_1 22 rfl rfl)
theorem dX5_number_47 : decode cX5_number 47 = .ok (.iadd, 1) := dk_96 (dk_at dksX5_number_1 23 rfl rfl)
theorem dX5_number_48 : decode cX5_number 48 = .ok (.putfield 15, 3) := dk_181 0 15 (dk_at dksX5_number_2 0 rfl rfl)
theorem dX5_number_51 : decode cX5_number 51 = .ok (.iinc 3 1, 3) := dk_132 3 1 (dk_at dksX5_number_2 3 rfl rfl)
theorem dX5_number_54 : decode cX5_number 54 = .ok (.goto (-50), 3) := dk_167 255 206 (dk_at dksX5_number_2 6 rfl rfl)
theorem dX5_number_57 : decode cX5_number 57 = .ok (.iload_n 2, 1) := dk_28 (dk_at dksX5_number_2 9 rfl rfl)
theorem dX5_number_58 : decode cX5_number 58 = .ok (.ireturn, 1) := dk_172 (dk_at dksX5_number_2 10 rfl rfl)
abbrev cX5_broken : ByteArray := prog_11_method_3_code
def yX5_broken : MethodName := ⟨RX5, "broken", "()LHiredByLonging$Broken;"⟩
def dkwX5_broken_0 : List UInt8 := [187, 0, 19, 89, 17, 252, 24, 42, 180, 0, 15, 100, 183, 0, 21, 176]
abbrev dktX5_broken_0 : List UInt8 := dkwX5_broken_0 ++ []
theorem dksX5_broken_0 : cX5_broken.data.toList.drop 0 = dktX5_broken_0 := by decide +kernel
theorem dX5_broken_0 : decode cX5_broken 0 = .ok (.new 19, 3) := dk_187 0 19 (dk_at dksX5_broken_0 0 rfl rfl)
theorem dX5_broken_3 : decode cX5_broken 3 = .ok (.dup, 1) := dk_89 (dk_at dksX5_broken_0 3 rfl rfl)
theorem dX5_broken_4 : decode cX5_broken 4 = .ok (.sipush (-1000), 3) := dk_17 252 24 (dk_at dksX5_broken_0 4 rfl rfl)
theorem dX5_broken_7 : decode cX5_broken 7 = .ok (.aload_n 0, 1) := dk_42 (dk_at dksX5_broken_0 7 rfl rfl)
theorem dX5_broken_8 : decode cX5_broken 8 = .ok (.getfield 15, 3) := dk_180 0 15 (dk_at dksX5_broken_0 8 rfl rfl)
theorem dX5_broken_11 : decode cX5_broken 11 = .ok (.isub, 1) := dk_100 (dk_at dksX5_broken_0 11 rfl rfl)
theorem dX5_broken_12 : decode cX5_broken 12 = .ok (.invokespecial 21, 3) := dk_183 0 21 (dk_at dksX5_broken_0 12 rfl rfl)
theorem dX5_broken_15 : decode cX5_broken 15 = .ok (.areturn, 1) := dk_176 (dk_at dksX5_broken_0 15 rfl rfl)
theorem q67 : (Jvm.Cond.initialized "HiredByLonging$LandReader") ∈ lw_all := lw_g (lw_at lw_m1 10 rfl) rfl
theorem q198 : (Jvm.Cond.instantiable "HiredByLonging$LandReader" (2 : Nat)) ∈ lw_all := lw_g (lw_at lw_m1 141 rfl) rfl
theorem q200 : (Jvm.Cond.instanceMethod ({ cls := "HiredByLonging$LandReader", name := "<init>", desc := "([B)V" } : Jvm.MethodName)) ∈ lw_all := lw_g (lw_at lw_m1 143 rfl) rfl
theorem q201 : (Jvm.Cond.code ({ cls := "HiredByLonging$LandReader", name := "<init>", desc := "([B)V" } : Jvm.MethodName) prog_11_method_1_code (2 : Nat) (Option.none : Option Jvm.ClassFile.FieldType)) ∈ lw_all := lw_g (lw_at lw_m1 144 rfl) rfl
theorem q202 : (Jvm.Cond.methodLink "HiredByLonging$LandReader" (3 : Nat) ({ cls := "java/lang/Object", name := "<init>", desc := "()V" } : Jvm.MethodName)) ∈ lw_all := lw_g (lw_at lw_m1 145 rfl) rfl
theorem q203 : (Jvm.Cond.fieldLink "HiredByLonging$LandReader" (9 : Nat) "HiredByLonging$LandReader" "text" "[B") ∈ lw_all := lw_g (lw_at lw_m1 146 rfl) rfl
theorem q204 : (Jvm.Cond.fieldLink "HiredByLonging$LandReader" (15 : Nat) "HiredByLonging$LandReader" "at" "I") ∈ lw_all := lw_g (lw_at lw_m1 147 rfl) rfl
theorem q205 : (Jvm.Cond.laysFinal "HiredByLonging$LandReader" "HiredByLonging$LandReader" "text" "[B") ∈ lw_all := lw_g (lw_at lw_m1 148 rfl) rfl
theorem q206 : (Jvm.Cond.soleField "HiredByLonging$LandReader" "text") ∈ lw_all := lw_g (lw_at lw_m1 149 rfl) rfl
theorem q207 : (Jvm.Cond.lays "HiredByLonging$LandReader" "HiredByLonging$LandReader" "at" "I") ∈ lw_all := lw_g (lw_at lw_m1 150 rfl) rfl
theorem q208 : (Jvm.Cond.soleField "HiredByLonging$LandReader" "at") ∈ lw_all := lw_g (lw_at lw_m1 151 rfl) rfl
theorem q209 : (Jvm.Cond.superclass "HiredByLonging$LandReader" "java/lang/Object") ∈ lw_all := lw_g (lw_at lw_m1 152 rfl) rfl
theorem q211 : (Jvm.Cond.instanceMethod ({ cls := "HiredByLonging$LandReader", name := "whole", desc := "([LHiredByLonging$Told;)I" } : Jvm.MethodName)) ∈ lw_all := lw_g (lw_at lw_m1 154 rfl) rfl
theorem q212 : (Jvm.Cond.selects "HiredByLonging$LandReader" ({ cls := "HiredByLonging$LandReader", name := "whole", desc := "([LHiredByLonging$Told;)I" } : Jvm.MethodName) ({ cls := "HiredByLonging$LandReader", name := "whole", desc := "([LHiredByLonging$Told;)I" } : Jvm.MethodName)) ∈ lw_all := lw_g (lw_at lw_m1 155 rfl) rfl
theorem q213 : (Jvm.Cond.code ({ cls := "HiredByLonging$LandReader", name := "whole", desc := "([LHiredByLonging$Told;)I" } : Jvm.MethodName) prog_11_method_7_code (3 : Nat) (Option.some Jvm.ClassFile.FieldType.int)) ∈ lw_all := lw_g (lw_at lw_m1 156 rfl) rfl
theorem q214 : (Jvm.Cond.methodLink "HiredByLonging$LandReader" (55 : Nat) ({ cls := "HiredByLonging$LandReader", name := "statement", desc := "()LHiredByLonging$Told;" } : Jvm.MethodName)) ∈ lw_all := lw_g (lw_at lw_m1 157 rfl) rfl
theorem q215 : (Jvm.Cond.privateMethod ({ cls := "HiredByLonging$LandReader", name := "statement", desc := "()LHiredByLonging$Told;" } : Jvm.MethodName)) ∈ lw_tbl := lw_at lw_m1 158 rfl
theorem q216 : (Jvm.Cond.instanceMethod ({ cls := "HiredByLonging$LandReader", name := "statement", desc := "()LHiredByLonging$Told;" } : Jvm.MethodName)) ∈ lw_all := lw_g (lw_at lw_m1 159 rfl) rfl
theorem q217 : (Jvm.Cond.code ({ cls := "HiredByLonging$LandReader", name := "statement", desc := "()LHiredByLonging$Told;" } : Jvm.MethodName) prog_11_method_6_code (2 : Nat) (Option.some (Jvm.ClassFile.FieldType.object "HiredByLonging$Told"))) ∈ lw_all := lw_g (lw_at lw_m1 160 rfl) rfl
theorem q218 : (Jvm.Cond.classLink "HiredByLonging$LandReader" (37 : Nat) "HiredByLonging$Told") ∈ lw_all := lw_g (lw_at lw_m1 161 rfl) rfl
theorem q220 : (Jvm.Cond.methodLink "HiredByLonging$LandReader" (24 : Nat) ({ cls := "HiredByLonging$LandReader", name := "sign", desc := "()I" } : Jvm.MethodName)) ∈ lw_all := lw_g (lw_at lw_m1 163 rfl) rfl
theorem q221 : (Jvm.Cond.privateMethod ({ cls := "HiredByLonging$LandReader", name := "sign", desc := "()I" } : Jvm.MethodName)) ∈ lw_tbl := lw_at lw_m1 164 rfl
theorem q222 : (Jvm.Cond.instanceMethod ({ cls := "HiredByLonging$LandReader", name := "sign", desc := "()I" } : Jvm.MethodName)) ∈ lw_all := lw_g (lw_at lw_m1 165 rfl) rfl
theorem q223 : (Jvm.Cond.code ({ cls := "HiredByLonging$LandReader", name := "sign", desc := "()I" } : Jvm.MethodName) prog_11_method_2_code (1 : Nat) (Option.some Jvm.ClassFile.FieldType.int)) ∈ lw_all := lw_g (lw_at lw_m1 166 rfl) rfl
theorem q224 : (Jvm.Cond.methodLink "HiredByLonging$LandReader" (48 : Nat) ({ cls := "HiredByLonging$Told", name := "<init>", desc := "(II)V" } : Jvm.MethodName)) ∈ lw_all := lw_g (lw_at lw_m1 167 rfl) rfl
theorem q229 : (Jvm.Cond.fieldLink "HiredByLonging$LandReader" (36 : Nat) "HiredByLonging$Told" "letter" "I") ∈ lw_all := lw_g (lw_at lw_m1 172 rfl) rfl
theorem q246 : (Jvm.Cond.methodLink "HiredByLonging$LandReader" (51 : Nat) ({ cls := "HiredByLonging$LandReader", name := "reads", desc := "(LHiredByLonging$Told;)V" } : Jvm.MethodName)) ∈ lw_all := lw_g (lw_at lw_m1 189 rfl) rfl
theorem q247 : (Jvm.Cond.privateMethod ({ cls := "HiredByLonging$LandReader", name := "reads", desc := "(LHiredByLonging$Told;)V" } : Jvm.MethodName)) ∈ lw_tbl := lw_at lw_m1 190 rfl
theorem q248 : (Jvm.Cond.instanceMethod ({ cls := "HiredByLonging$LandReader", name := "reads", desc := "(LHiredByLonging$Told;)V" } : Jvm.MethodName)) ∈ lw_all := lw_g (lw_at lw_m1 191 rfl) rfl
theorem q249 : (Jvm.Cond.code ({ cls := "HiredByLonging$LandReader", name := "reads", desc := "(LHiredByLonging$Told;)V" } : Jvm.MethodName) prog_11_method_5_code (3 : Nat) (Option.none : Option Jvm.ClassFile.FieldType)) ∈ lw_all := lw_g (lw_at lw_m1 192 rfl) rfl
theorem q250 : (Jvm.Cond.methodLink "HiredByLonging$LandReader" (41 : Nat) ({ cls := "HiredByLonging$LandReader", name := "number", desc := "(I)I" } : Jvm.MethodName)) ∈ lw_all := lw_g (lw_at lw_m1 193 rfl) rfl
theorem q251 : (Jvm.Cond.privateMethod ({ cls := "HiredByLonging$LandReader", name := "number", desc := "(I)I" } : Jvm.MethodName)) ∈ lw_tbl := lw_at lw_m1 194 rfl
theorem q252 : (Jvm.Cond.instanceMethod ({ cls := "HiredByLonging$LandReader", name := "number", desc := "(I)I" } : Jvm.MethodName)) ∈ lw_all := lw_g (lw_at lw_m1 195 rfl) rfl
theorem q253 : (Jvm.Cond.code ({ cls := "HiredByLonging$LandReader", name := "number", desc := "(I)I" } : Jvm.MethodName) prog_11_method_4_code (4 : Nat) (Option.some Jvm.ClassFile.FieldType.int)) ∈ lw_all := lw_g (lw_at lw_m1 196 rfl) rfl
theorem q254 : (Jvm.Cond.methodLinkNest "HiredByLonging$LandReader" (28 : Nat) ({ cls := "HiredByLonging", name := "isIn", desc := "(III)Z" } : Jvm.MethodName) "HiredByLonging") ∈ lw_tbl := lw_at lw_m1 197 rfl
theorem q255 : (Jvm.Cond.methodLink "HiredByLonging$LandReader" (32 : Nat) ({ cls := "HiredByLonging$LandReader", name := "broken", desc := "()LHiredByLonging$Broken;" } : Jvm.MethodName)) ∈ lw_all := lw_g (lw_at lw_m1 198 rfl) rfl
theorem q256 : (Jvm.Cond.privateMethod ({ cls := "HiredByLonging$LandReader", name := "broken", desc := "()LHiredByLonging$Broken;" } : Jvm.MethodName)) ∈ lw_tbl := lw_at lw_m1 199 rfl
theorem q257 : (Jvm.Cond.instanceMethod ({ cls := "HiredByLonging$LandReader", name := "broken", desc := "()LHiredByLonging$Broken;" } : Jvm.MethodName)) ∈ lw_all := lw_g (lw_at lw_m1 200 rfl) rfl
theorem q258 : (Jvm.Cond.code ({ cls := "HiredByLonging$LandReader", name := "broken", desc := "()LHiredByLonging$Broken;" } : Jvm.MethodName) prog_11_method_3_code (1 : Nat) (Option.some (Jvm.ClassFile.FieldType.object "HiredByLonging$Broken"))) ∈ lw_all := lw_g (lw_at lw_m1 201 rfl) rfl
theorem q259 : (Jvm.Cond.classLink "HiredByLonging$LandReader" (19 : Nat) "HiredByLonging$Broken") ∈ lw_all := lw_g (lw_at lw_m1 202 rfl) rfl
theorem q268 : (Jvm.Cond.methodLink "HiredByLonging$LandReader" (21 : Nat) ({ cls := "HiredByLonging$Broken", name := "<init>", desc := "(I)V" } : Jvm.MethodName)) ∈ lw_all := lw_g (lw_at lw_m1 211 rfl) rfl
theorem q281 : (Jvm.Cond.methodLink "HiredByLonging$LandReader" (45 : Nat) ({ cls := "HiredByLonging$Told", name := "tells", desc := "(I)V" } : Jvm.MethodName)) ∈ lw_all := lw_g (lw_at lw_m1 224 rfl) rfl
theorem in_X5 : ∀ w ∈ wsX50, w ∈ lw_all := lw_in wsX50 [205, 207] (by decide +kernel) (by decide +kernel)
/-! HiredByLonging$Told -/
set_option maxRecDepth 100000
def RX6 : String := "HiredByLonging$Told"
def TX6 : u_T := fun k => match k with
  | 0 => ("HiredByLonging$Told", "letter", "I", true)
  | 1 => ("HiredByLonging$Told", "at", "I", true)
  | 2 => ("HiredByLonging$Told", "numbers", "[I", true)
  | _ => ("HiredByLonging$Told", "many", "I", false)
def tyX6 : Nat → FieldType := fun k => match k with
  | 0 => .int
  | 1 => .int
  | 2 => .array .int
  | _ => .int
abbrev wsX60 : List Cond := u_ws RX6 TX6 4
theorem nmX6 : ∀ a, a < 4 → ∀ b, b < 4 → a ≠ b → (TX6 a).2.1 ≠ (TX6 b).2.1 := by decide +kernel
theorem tyX6_ok : ∀ k, k < 4 → parseFieldDescriptor (TX6 k).2.2.1 = some (tyX6 k) := by decide +kernel
abbrev cX6_init : ByteArray := prog_16_method_1_code
def yX6_init : MethodName := ⟨RX6, "<init>", "(II)V"⟩
def dkwX6_init_0 : List UInt8 := [42, 183, 0, 1, 42, 7, 188, 10, 181, 0, 7, 42, 27, 181, 0, 13, 42, 28, 181, 0, 17, 177]
abbrev dktX6_init_0 : List UInt8 := dkwX6_init_0 ++ []
theorem dksX6_init_0 : cX6_init.data.toList.drop 0 = dktX6_init_0 := by decide +kernel
theorem dX6_init_0 : decode cX6_init 0 = .ok (.aload_n 0, 1) := dk_42 (dk_at dksX6_init_0 0 rfl rfl)
theorem dX6_init_1 : decode cX6_init 1 = .ok (.invokespecial 1, 3) := dk_183 0 1 (dk_at dksX6_init_0 1 rfl rfl)
theorem dX6_init_4 : decode cX6_init 4 = .ok (.aload_n 0, 1) := dk_42 (dk_at dksX6_init_0 4 rfl rfl)
theorem dX6_init_5 : decode cX6_init 5 = .ok (.iconst 4, 1) := dk_7 (dk_at dksX6_init_0 5 rfl rfl)
theorem dX6_init_6 : decode cX6_init 6 = .ok (.newarray .int, 2) := dk_188_10 (dk_at dksX6_init_0 6 rfl rfl)
theorem dX6_init_8 : decode cX6_init 8 = .ok (.putfield 7, 3) := dk_181 0 7 (dk_at dksX6_init_0 8 rfl rfl)
theorem dX6_init_11 : decode cX6_init 11 = .ok (.aload_n 0, 1) := dk_42 (dk_at dksX6_init_0 11 rfl rfl)
theorem dX6_init_12 : decode cX6_init 12 = .ok (.iload_n 1, 1) := dk_27 (dk_at dksX6_init_0 12 rfl rfl)
theorem dX6_init_13 : decode cX6_init 13 = .ok (.putfield 13, 3) := dk_181 0 13 (dk_at dksX6_init_0 13 rfl rfl)
theorem dX6_init_16 : decode cX6_init 16 = .ok (.aload_n 0, 1) := dk_42 (dk_at dksX6_init_0 16 rfl rfl)
theorem dX6_init_17 : decode cX6_init 17 = .ok (.iload_n 2, 1) := dk_28 (dk_at dksX6_init_0 17 rfl rfl)
theorem dX6_init_18 : decode cX6_init 18 = .ok (.putfield 17, 3) := dk_181 0 17 (dk_at dksX6_init_0 18 rfl rfl)
theorem dX6_init_21 : decode cX6_init 21 = .ok (.return_, 1) := dk_177 (dk_at dksX6_init_0 21 rfl rfl)
abbrev cX6_tells : ByteArray := prog_16_method_2_code
def yX6_tells : MethodName := ⟨RX6, "tells", "(I)V"⟩
def dkwX6_tells_0 : List UInt8 := [42, 180, 0, 7, 42, 180, 0, 20, 27, 79, 42, 89, 180, 0, 20, 4, 96, 181, 0, 20, 177]
abbrev dktX6_tells_0 : List UInt8 := dkwX6_tells_0 ++ []
theorem dksX6_tells_0 : cX6_tells.data.toList.drop 0 = dktX6_tells_0 := by decide +kernel
theorem dX6_tells_0 : decode cX6_tells 0 = .ok (.aload_n 0, 1) := dk_42 (dk_at dksX6_tells_0 0 rfl rfl)
theorem dX6_tells_1 : decode cX6_tells 1 = .ok (.getfield 7, 3) := dk_180 0 7 (dk_at dksX6_tells_0 1 rfl rfl)
theorem dX6_tells_4 : decode cX6_tells 4 = .ok (.aload_n 0, 1) := dk_42 (dk_at dksX6_tells_0 4 rfl rfl)
theorem dX6_tells_5 : decode cX6_tells 5 = .ok (.getfield 20, 3) := dk_180 0 20 (dk_at dksX6_tells_0 5 rfl rfl)
theorem dX6_tells_8 : decode cX6_tells 8 = .ok (.iload_n 1, 1) := dk_27 (dk_at dksX6_tells_0 8 rfl rfl)
theorem dX6_tells_9 : decode cX6_tells 9 = .ok (.iastore, 1) := dk_79 (dk_at dksX6_tells_0 9 rfl rfl)
theorem dX6_tells_10 : decode cX6_tells 10 = .ok (.aload_n 0, 1) := dk_42 (dk_at dksX6_tells_0 10 rfl rfl)
theorem dX6_tells_11 : decode cX6_tells 11 = .ok (.dup, 1) := dk_89 (dk_at dksX6_tells_0 11 rfl rfl)
theorem dX6_tells_12 : decode cX6_tells 12 = .ok (.getfield 20, 3) := dk_180 0 20 (dk_at dksX6_tells_0 12 rfl rfl)
theorem dX6_tells_15 : decode cX6_tells 15 = .ok (.iconst 1, 1) := dk_4 (dk_at dksX6_tells_0 15 rfl rfl)
theorem dX6_tells_16 : decode cX6_tells 16 = .ok (.iadd, 1) := dk_96 (dk_at dksX6_tells_0 16 rfl rfl)
theorem dX6_tells_17 : decode cX6_tells 17 = .ok (.putfield 20, 3) := dk_181 0 20 (dk_at dksX6_tells_0 17 rfl rfl)
theorem dX6_tells_20 : decode cX6_tells 20 = .ok (.return_, 1) := dk_177 (dk_at dksX6_tells_0 20 rfl rfl)
theorem q68 : (Jvm.Cond.initialized "HiredByLonging$Told") ∈ lw_all := lw_g (lw_at lw_m1 11 rfl) rfl
theorem q219 : (Jvm.Cond.instantiable "HiredByLonging$Told" (4 : Nat)) ∈ lw_all := lw_g (lw_at lw_m1 162 rfl) rfl
theorem q225 : (Jvm.Cond.instanceMethod ({ cls := "HiredByLonging$Told", name := "<init>", desc := "(II)V" } : Jvm.MethodName)) ∈ lw_all := lw_g (lw_at lw_m1 168 rfl) rfl
theorem q226 : (Jvm.Cond.code ({ cls := "HiredByLonging$Told", name := "<init>", desc := "(II)V" } : Jvm.MethodName) prog_16_method_1_code (3 : Nat) (Option.none : Option Jvm.ClassFile.FieldType)) ∈ lw_all := lw_g (lw_at lw_m1 169 rfl) rfl
theorem q227 : (Jvm.Cond.methodLink "HiredByLonging$Told" (1 : Nat) ({ cls := "java/lang/Object", name := "<init>", desc := "()V" } : Jvm.MethodName)) ∈ lw_all := lw_g (lw_at lw_m1 170 rfl) rfl
theorem q228 : (Jvm.Cond.fieldLink "HiredByLonging$Told" (13 : Nat) "HiredByLonging$Told" "letter" "I") ∈ lw_all := lw_g (lw_at lw_m1 171 rfl) rfl
theorem q231 : (Jvm.Cond.fieldLink "HiredByLonging$Told" (17 : Nat) "HiredByLonging$Told" "at" "I") ∈ lw_all := lw_g (lw_at lw_m1 174 rfl) rfl
theorem q233 : (Jvm.Cond.fieldLink "HiredByLonging$Told" (7 : Nat) "HiredByLonging$Told" "numbers" "[I") ∈ lw_all := lw_g (lw_at lw_m1 176 rfl) rfl
theorem q235 : (Jvm.Cond.fieldLink "HiredByLonging$Told" (20 : Nat) "HiredByLonging$Told" "many" "I") ∈ lw_all := lw_g (lw_at lw_m1 178 rfl) rfl
theorem q236 : (Jvm.Cond.laysFinal "HiredByLonging$Told" "HiredByLonging$Told" "letter" "I") ∈ lw_all := lw_g (lw_at lw_m1 179 rfl) rfl
theorem q237 : (Jvm.Cond.soleField "HiredByLonging$Told" "letter") ∈ lw_all := lw_g (lw_at lw_m1 180 rfl) rfl
theorem q238 : (Jvm.Cond.laysFinal "HiredByLonging$Told" "HiredByLonging$Told" "at" "I") ∈ lw_all := lw_g (lw_at lw_m1 181 rfl) rfl
theorem q239 : (Jvm.Cond.soleField "HiredByLonging$Told" "at") ∈ lw_all := lw_g (lw_at lw_m1 182 rfl) rfl
theorem q240 : (Jvm.Cond.laysFinal "HiredByLonging$Told" "HiredByLonging$Told" "numbers" "[I") ∈ lw_all := lw_g (lw_at lw_m1 183 rfl) rfl
theorem q241 : (Jvm.Cond.soleField "HiredByLonging$Told" "numbers") ∈ lw_all := lw_g (lw_at lw_m1 184 rfl) rfl
theorem q242 : (Jvm.Cond.lays "HiredByLonging$Told" "HiredByLonging$Told" "many" "I") ∈ lw_all := lw_g (lw_at lw_m1 185 rfl) rfl
theorem q243 : (Jvm.Cond.soleField "HiredByLonging$Told" "many") ∈ lw_all := lw_g (lw_at lw_m1 186 rfl) rfl
theorem q244 : (Jvm.Cond.superclass "HiredByLonging$Told" "java/lang/Object") ∈ lw_all := lw_g (lw_at lw_m1 187 rfl) rfl
theorem q282 : (Jvm.Cond.instanceMethod ({ cls := "HiredByLonging$Told", name := "tells", desc := "(I)V" } : Jvm.MethodName)) ∈ lw_all := lw_g (lw_at lw_m1 225 rfl) rfl
theorem q283 : (Jvm.Cond.selects "HiredByLonging$Told" ({ cls := "HiredByLonging$Told", name := "tells", desc := "(I)V" } : Jvm.MethodName) ({ cls := "HiredByLonging$Told", name := "tells", desc := "(I)V" } : Jvm.MethodName)) ∈ lw_all := lw_g (lw_at lw_m1 226 rfl) rfl
theorem q284 : (Jvm.Cond.code ({ cls := "HiredByLonging$Told", name := "tells", desc := "(I)V" } : Jvm.MethodName) prog_16_method_2_code (2 : Nat) (Option.none : Option Jvm.ClassFile.FieldType)) ∈ lw_all := lw_g (lw_at lw_m1 227 rfl) rfl
theorem in_X6 : ∀ w ∈ wsX60, w ∈ lw_all := lw_in wsX60 [236, 238, 240, 242] (by decide +kernel) (by decide +kernel)
/-! HiredByLonging$Broken -/
set_option maxRecDepth 100000
def RX7 : String := "HiredByLonging$Broken"
def TX7 : u_T := fun k => match k with
  | 0 => ("java/lang/Throwable", "cause", "Ljava/lang/Throwable;", false)
  | 1 => ("java/lang/Throwable", "stackTrace", "[Ljava/lang/StackTraceElement;", false)
  | 2 => ("java/lang/Throwable", "suppressedExceptions", "Ljava/util/List;", false)
  | 3 => ("java/lang/Throwable", "detailMessage", "Ljava/lang/String;", false)
  | 4 => ("java/lang/Throwable", "backtrace", "Ljava/lang/Object;", false)
  | 5 => ("java/lang/Throwable", "depth", "I", false)
  | _ => ("HiredByLonging$Broken", "code", "I", true)
def tyX7 : Nat → FieldType := fun k => match k with
  | 0 => .object "java/lang/Throwable"
  | 1 => .array (.object "java/lang/StackTraceElement")
  | 2 => .object "java/util/List"
  | 3 => .object "java/lang/String"
  | 4 => .object "java/lang/Object"
  | 5 => .int
  | _ => .int
abbrev wsX70 : List Cond := u_ws RX7 TX7 7
theorem nmX7 : ∀ a, a < 7 → ∀ b, b < 7 → a ≠ b → (TX7 a).2.1 ≠ (TX7 b).2.1 := by decide +kernel
theorem tyX7_ok : ∀ k, k < 7 → parseFieldDescriptor (TX7 k).2.2.1 = some (tyX7 k) := by decide +kernel
abbrev cX7_init : ByteArray := prog_3_method_1_code
def yX7_init : MethodName := ⟨RX7, "<init>", "(I)V"⟩
def dkwX7_init_0 : List UInt8 := [42, 183, 0, 1, 42, 27, 181, 0, 7, 177]
abbrev dktX7_init_0 : List UInt8 := dkwX7_init_0 ++ []
theorem dksX7_init_0 : cX7_init.data.toList.drop 0 = dktX7_init_0 := by decide +kernel
theorem dX7_init_0 : decode cX7_init 0 = .ok (.aload_n 0, 1) := dk_42 (dk_at dksX7_init_0 0 rfl rfl)
theorem dX7_init_1 : decode cX7_init 1 = .ok (.invokespecial 1, 3) := dk_183 0 1 (dk_at dksX7_init_0 1 rfl rfl)
theorem dX7_init_4 : decode cX7_init 4 = .ok (.aload_n 0, 1) := dk_42 (dk_at dksX7_init_0 4 rfl rfl)
theorem dX7_init_5 : decode cX7_init 5 = .ok (.iload_n 1, 1) := dk_27 (dk_at dksX7_init_0 5 rfl rfl)
theorem dX7_init_6 : decode cX7_init 6 = .ok (.putfield 7, 3) := dk_181 0 7 (dk_at dksX7_init_0 6 rfl rfl)
theorem dX7_init_9 : decode cX7_init 9 = .ok (.return_, 1) := dk_177 (dk_at dksX7_init_0 9 rfl rfl)
theorem q69 : (Jvm.Cond.initialized "HiredByLonging$Broken") ∈ lw_all := lw_g (lw_at lw_m1 12 rfl) rfl
theorem q115 : (Jvm.Cond.selects "HiredByLonging$Broken" ({ cls := "java/lang/Throwable", name := "fillInStackTrace", desc := "()Ljava/lang/Throwable;" } : Jvm.MethodName) ({ cls := "java/lang/Throwable", name := "fillInStackTrace", desc := "()Ljava/lang/Throwable;" } : Jvm.MethodName)) ∈ lw_all := lw_g (lw_at lw_m1 58 rfl) rfl
theorem q260 : (Jvm.Cond.instantiable "HiredByLonging$Broken" (7 : Nat)) ∈ lw_all := lw_g (lw_at lw_m1 203 rfl) rfl
theorem q261 : (Jvm.Cond.castable "HiredByLonging$Broken" "HiredByLonging$Broken") ∈ lw_tbl := lw_at lw_m1 204 rfl
theorem q262 : (Jvm.Cond.selects "HiredByLonging$Broken" ({ cls := "java/lang/Throwable", name := "fillInStackTrace", desc := "(I)Ljava/lang/Throwable;" } : Jvm.MethodName) ({ cls := "java/lang/Throwable", name := "fillInStackTrace", desc := "(I)Ljava/lang/Throwable;" } : Jvm.MethodName)) ∈ lw_all := lw_g (lw_at lw_m1 205 rfl) rfl
theorem q263 : (Jvm.Cond.lays "HiredByLonging$Broken" "java/lang/Throwable" "cause" "Ljava/lang/Throwable;") ∈ lw_all := lw_g (lw_at lw_m1 206 rfl) rfl
theorem q264 : (Jvm.Cond.lays "HiredByLonging$Broken" "java/lang/Throwable" "stackTrace" "[Ljava/lang/StackTraceElement;") ∈ lw_all := lw_g (lw_at lw_m1 207 rfl) rfl
theorem q265 : (Jvm.Cond.lays "HiredByLonging$Broken" "java/lang/Throwable" "suppressedExceptions" "Ljava/util/List;") ∈ lw_all := lw_g (lw_at lw_m1 208 rfl) rfl
theorem q266 : (Jvm.Cond.lays "HiredByLonging$Broken" "java/lang/Throwable" "detailMessage" "Ljava/lang/String;") ∈ lw_all := lw_g (lw_at lw_m1 209 rfl) rfl
theorem q267 : (Jvm.Cond.lays "HiredByLonging$Broken" "java/lang/Throwable" "backtrace" "Ljava/lang/Object;") ∈ lw_all := lw_g (lw_at lw_m1 210 rfl) rfl
theorem q269 : (Jvm.Cond.instanceMethod ({ cls := "HiredByLonging$Broken", name := "<init>", desc := "(I)V" } : Jvm.MethodName)) ∈ lw_all := lw_g (lw_at lw_m1 212 rfl) rfl
theorem q270 : (Jvm.Cond.code ({ cls := "HiredByLonging$Broken", name := "<init>", desc := "(I)V" } : Jvm.MethodName) prog_3_method_1_code (2 : Nat) (Option.none : Option Jvm.ClassFile.FieldType)) ∈ lw_all := lw_g (lw_at lw_m1 213 rfl) rfl
theorem q271 : (Jvm.Cond.methodLink "HiredByLonging$Broken" (1 : Nat) ({ cls := "java/lang/Exception", name := "<init>", desc := "()V" } : Jvm.MethodName)) ∈ lw_all := lw_g (lw_at lw_m1 214 rfl) rfl
theorem q275 : (Jvm.Cond.fieldLink "HiredByLonging$Broken" (7 : Nat) "HiredByLonging$Broken" "code" "I") ∈ lw_all := lw_g (lw_at lw_m1 218 rfl) rfl
theorem q277 : (Jvm.Cond.laysFinal "HiredByLonging$Broken" "HiredByLonging$Broken" "code" "I") ∈ lw_all := lw_g (lw_at lw_m1 220 rfl) rfl
theorem q278 : (Jvm.Cond.soleField "HiredByLonging$Broken" "code") ∈ lw_all := lw_g (lw_at lw_m1 221 rfl) rfl
theorem q279 : (Jvm.Cond.lays "HiredByLonging$Broken" "java/lang/Throwable" "depth" "I") ∈ lw_all := lw_g (lw_at lw_m1 222 rfl) rfl
theorem q280 : (Jvm.Cond.superclass "HiredByLonging$Broken" "java/lang/Exception") ∈ lw_all := lw_g (lw_at lw_m1 223 rfl) rfl
theorem in_X7 : ∀ w ∈ wsX70, w ∈ lw_all := lw_in wsX70 [263, 264, 265, 266, 267, 279, 277] (by decide +kernel) (by decide +kernel)
/-! HiredByLonging$Horse -/
set_option maxRecDepth 100000
def RX8 : String := "HiredByLonging$Horse"
def TX8 : u_T := fun k => match k with
  | _ => ("HiredByLonging$Horse", "figure", "I", true)
def tyX8 : Nat → FieldType := fun k => match k with
  | _ => .int
abbrev wsX80 : List Cond := u_ws RX8 TX8 1
theorem nmX8 : ∀ a, a < 1 → ∀ b, b < 1 → a ≠ b → (TX8 a).2.1 ≠ (TX8 b).2.1 := by decide +kernel
theorem tyX8_ok : ∀ k, k < 1 → parseFieldDescriptor (TX8 k).2.2.1 = some (tyX8 k) := by decide +kernel
abbrev cX8_init : ByteArray := prog_9_method_1_code
def yX8_init : MethodName := ⟨RX8, "<init>", "(I)V"⟩
def dkwX8_init_0 : List UInt8 := [42, 183, 0, 1, 42, 27, 181, 0, 7, 177]
abbrev dktX8_init_0 : List UInt8 := dkwX8_init_0 ++ []
theorem dksX8_init_0 : cX8_init.data.toList.drop 0 = dktX8_init_0 := by decide +kernel
theorem dX8_init_0 : decode cX8_init 0 = .ok (.aload_n 0, 1) := dk_42 (dk_at dksX8_init_0 0 rfl rfl)
theorem dX8_init_1 : decode cX8_init 1 = .ok (.invokespecial 1, 3) := dk_183 0 1 (dk_at dksX8_init_0 1 rfl rfl)
theorem dX8_init_4 : decode cX8_init 4 = .ok (.aload_n 0, 1) := dk_42 (dk_at dksX8_init_0 4 rfl rfl)
theorem dX8_init_5 : decode cX8_init 5 = .ok (.iload_n 1, 1) := dk_27 (dk_at dksX8_init_0 5 rfl rfl)
theorem dX8_init_6 : decode cX8_init 6 = .ok (.putfield 7, 3) := dk_181 0 7 (dk_at dksX8_init_0 6 rfl rfl)
theorem dX8_init_9 : decode cX8_init 9 = .ok (.return_, 1) := dk_177 (dk_at dksX8_init_0 9 rfl rfl)
abbrev cX8_goal : ByteArray := prog_9_method_3_code
def yX8_goal : MethodName := ⟨RX8, "goal", "(III)I"⟩
theorem dX8_goal_0 : decode cX8_goal 0 = .ok (.iload_n 1, 1) := by decide +kernel
theorem dX8_goal_1 : decode cX8_goal 1 = .ok (.ireturn, 1) := by decide +kernel
abbrev cX8_pace : ByteArray := prog_9_method_5_code
def yX8_pace : MethodName := ⟨RX8, "pace", "(I)I"⟩
def dkwX8_pace_0 : List UInt8 := [4, 27, 7, 108, 96, 172]
abbrev dktX8_pace_0 : List UInt8 := dkwX8_pace_0 ++ []
theorem dksX8_pace_0 : cX8_pace.data.toList.drop 0 = dktX8_pace_0 := by decide +kernel
theorem dX8_pace_0 : decode cX8_pace 0 = .ok (.iconst 1, 1) := dk_4 (dk_at dksX8_pace_0 0 rfl rfl)
theorem dX8_pace_1 : decode cX8_pace 1 = .ok (.iload_n 1, 1) := dk_27 (dk_at dksX8_pace_0 1 rfl rfl)
theorem dX8_pace_2 : decode cX8_pace 2 = .ok (.iconst 4, 1) := dk_7 (dk_at dksX8_pace_0 2 rfl rfl)
theorem dX8_pace_3 : decode cX8_pace 3 = .ok (.idiv, 1) := dk_108 (dk_at dksX8_pace_0 3 rfl rfl)
theorem dX8_pace_4 : decode cX8_pace 4 = .ok (.iadd, 1) := dk_96 (dk_at dksX8_pace_0 4 rfl rfl)
theorem dX8_pace_5 : decode cX8_pace 5 = .ok (.ireturn, 1) := dk_172 (dk_at dksX8_pace_0 5 rfl rfl)
abbrev cX8_pines : ByteArray := prog_9_method_4_code
def yX8_pines : MethodName := ⟨RX8, "pines", "(I)I"⟩
def dkwX8_pines_0 : List UInt8 := [4, 27, 8, 108, 96, 172]
abbrev dktX8_pines_0 : List UInt8 := dkwX8_pines_0 ++ []
theorem dksX8_pines_0 : cX8_pines.data.toList.drop 0 = dktX8_pines_0 := by decide +kernel
theorem dX8_pines_0 : decode cX8_pines 0 = .ok (.iconst 1, 1) := dk_4 (dk_at dksX8_pines_0 0 rfl rfl)
theorem dX8_pines_1 : decode cX8_pines 1 = .ok (.iload_n 1, 1) := dk_27 (dk_at dksX8_pines_0 1 rfl rfl)
theorem dX8_pines_2 : decode cX8_pines 2 = .ok (.iconst 5, 1) := dk_8 (dk_at dksX8_pines_0 2 rfl rfl)
theorem dX8_pines_3 : decode cX8_pines 3 = .ok (.idiv, 1) := dk_108 (dk_at dksX8_pines_0 3 rfl rfl)
theorem dX8_pines_4 : decode cX8_pines 4 = .ok (.iadd, 1) := dk_96 (dk_at dksX8_pines_0 4 rfl rfl)
theorem dX8_pines_5 : decode cX8_pines 5 = .ok (.ireturn, 1) := dk_172 (dk_at dksX8_pines_0 5 rfl rfl)
abbrev cX8_kind : ByteArray := prog_9_method_2_code
def yX8_kind : MethodName := ⟨RX8, "kind", "()I"⟩
theorem dX8_kind_0 : decode cX8_kind 0 = .ok (.iconst 0, 1) := by decide +kernel
theorem dX8_kind_1 : decode cX8_kind 1 = .ok (.ireturn, 1) := by decide +kernel
abbrev cX8_cost : ByteArray := prog_9_method_6_code
def yX8_cost : MethodName := ⟨RX8, "cost", "()I"⟩
theorem dX8_cost_0 : decode cX8_cost 0 = .ok (.iconst 2, 1) := by decide +kernel
theorem dX8_cost_1 : decode cX8_cost 1 = .ok (.ireturn, 1) := by decide +kernel
abbrev cX8_failure : ByteArray := prog_9_method_7_code
def yX8_failure : MethodName := ⟨RX8, "failure", "()LHiredByLonging$Tossed;"⟩
def dkwX8_failure_0 : List UInt8 := [42, 180, 0, 7, 154, 0, 7, 1, 167, 0, 14, 187, 0, 13, 89, 42, 180, 0, 7, 183, 0, 15, 176]
abbrev dktX8_failure_0 : List UInt8 := dkwX8_failure_0 ++ []
theorem dksX8_failure_0 : cX8_failure.data.toList.drop 0 = dktX8_failure_0 := by decide +kernel
theorem dX8_failure_0 : decode cX8_failure 0 = .ok (.aload_n 0, 1) := dk_42 (dk_at dksX8_failure_0 0 rfl rfl)
theorem dX8_failure_1 : decode cX8_failure 1 = .ok (.getfield 7, 3) := dk_180 0 7 (dk_at dksX8_failure_0 1 rfl rfl)
theorem dX8_failure_4 : decode cX8_failure 4 = .ok (.ifCond .ne 7, 3) := dk_154 0 7 (dk_at dksX8_failure_0 4 rfl rfl)
theorem dX8_failure_7 : decode cX8_failure 7 = .ok (.aconst_null, 1) := dk_1 (dk_at dksX8_failure_0 7 rfl rfl)
theorem dX8_failure_8 : decode cX8_failure 8 = .ok (.goto 14, 3) := dk_167 0 14 (dk_at dksX8_failure_0 8 rfl rfl)
theorem dX8_failure_11 : decode cX8_failure 11 = .ok (.new 13, 3) := dk_187 0 13 (dk_at dksX8_failure_0 11 rfl rfl)
theorem dX8_failure_14 : decode cX8_failure 14 = .ok (.dup, 1) := dk_89 (dk_at dksX8_failure_0 14 rfl rfl)
theorem dX8_failure_15 : decode cX8_failure 15 = .ok (.aload_n 0, 1) := dk_42 (dk_at dksX8_failure_0 15 rfl rfl)
theorem dX8_failure_16 : decode cX8_failure 16 = .ok (.getfield 7, 3) := dk_180 0 7 (dk_at dksX8_failure_0 16 rfl rfl)
theorem dX8_failure_19 : decode cX8_failure 19 = .ok (.invokespecial 15, 3) := dk_183 0 15 (dk_at dksX8_failure_0 19 rfl rfl)
theorem dX8_failure_22 : decode cX8_failure 22 = .ok (.areturn, 1) := dk_176 (dk_at dksX8_failure_0 22 rfl rfl)
theorem q71 : (Jvm.Cond.initialized "HiredByLonging$Horse") ∈ lw_all := lw_g (lw_at lw_m1 14 rfl) rfl
theorem q310 : (Jvm.Cond.instantiable "HiredByLonging$Horse" (1 : Nat)) ∈ lw_all := lw_g (lw_at lw_m2 13 rfl) rfl
theorem q312 : (Jvm.Cond.instanceMethod ({ cls := "HiredByLonging$Horse", name := "<init>", desc := "(I)V" } : Jvm.MethodName)) ∈ lw_all := lw_g (lw_at lw_m2 15 rfl) rfl
theorem q313 : (Jvm.Cond.code ({ cls := "HiredByLonging$Horse", name := "<init>", desc := "(I)V" } : Jvm.MethodName) prog_9_method_1_code (2 : Nat) (Option.none : Option Jvm.ClassFile.FieldType)) ∈ lw_all := lw_g (lw_at lw_m2 16 rfl) rfl
theorem q314 : (Jvm.Cond.methodLink "HiredByLonging$Horse" (1 : Nat) ({ cls := "java/lang/Object", name := "<init>", desc := "()V" } : Jvm.MethodName)) ∈ lw_all := lw_g (lw_at lw_m2 17 rfl) rfl
theorem q315 : (Jvm.Cond.fieldLink "HiredByLonging$Horse" (7 : Nat) "HiredByLonging$Horse" "figure" "I") ∈ lw_all := lw_g (lw_at lw_m2 18 rfl) rfl
theorem q325 : (Jvm.Cond.laysFinal "HiredByLonging$Horse" "HiredByLonging$Horse" "figure" "I") ∈ lw_all := lw_g (lw_at lw_m2 28 rfl) rfl
theorem q326 : (Jvm.Cond.soleField "HiredByLonging$Horse" "figure") ∈ lw_all := lw_g (lw_at lw_m2 29 rfl) rfl
theorem q327 : (Jvm.Cond.superclass "HiredByLonging$Horse" "java/lang/Object") ∈ lw_all := lw_g (lw_at lw_m2 30 rfl) rfl
theorem q412 : (Jvm.Cond.instanceMethod ({ cls := "HiredByLonging$Horse", name := "goal", desc := "(III)I" } : Jvm.MethodName)) ∈ lw_all := lw_g (lw_at lw_m2 115 rfl) rfl
theorem q413 : (Jvm.Cond.selects "HiredByLonging$Horse" ({ cls := "HiredByLonging$Horse", name := "goal", desc := "(III)I" } : Jvm.MethodName) ({ cls := "HiredByLonging$Horse", name := "goal", desc := "(III)I" } : Jvm.MethodName)) ∈ lw_all := lw_g (lw_at lw_m2 116 rfl) rfl
theorem q414 : (Jvm.Cond.sameMethod "HiredByLonging$Horse" "HiredByLonging$Horse" "goal" "(III)I") ∈ lw_all := lw_g (lw_at lw_m2 117 rfl) rfl
theorem q437 : (Jvm.Cond.code ({ cls := "HiredByLonging$Horse", name := "goal", desc := "(III)I" } : Jvm.MethodName) prog_9_method_3_code (4 : Nat) (Option.some Jvm.ClassFile.FieldType.int)) ∈ lw_all := lw_g (lw_at lw_m2 140 rfl) rfl
theorem q443 : (Jvm.Cond.instanceMethod ({ cls := "HiredByLonging$Horse", name := "pace", desc := "(I)I" } : Jvm.MethodName)) ∈ lw_all := lw_g (lw_at lw_m2 146 rfl) rfl
theorem q444 : (Jvm.Cond.selects "HiredByLonging$Horse" ({ cls := "HiredByLonging$Horse", name := "pace", desc := "(I)I" } : Jvm.MethodName) ({ cls := "HiredByLonging$Horse", name := "pace", desc := "(I)I" } : Jvm.MethodName)) ∈ lw_all := lw_g (lw_at lw_m2 147 rfl) rfl
theorem q445 : (Jvm.Cond.sameMethod "HiredByLonging$Horse" "HiredByLonging$Horse" "pace" "(I)I") ∈ lw_all := lw_g (lw_at lw_m2 148 rfl) rfl
theorem q457 : (Jvm.Cond.code ({ cls := "HiredByLonging$Horse", name := "pace", desc := "(I)I" } : Jvm.MethodName) prog_9_method_5_code (2 : Nat) (Option.some Jvm.ClassFile.FieldType.int)) ∈ lw_all := lw_g (lw_at lw_m2 160 rfl) rfl
theorem q467 : (Jvm.Cond.declares ({ cls := "HiredByLonging$Horse", name := "pace", desc := "(I)I" } : Jvm.MethodName)) ∈ lw_tbl := lw_at lw_m2 170 rfl
theorem q485 : (Jvm.Cond.unhidden "HiredByLonging$Horse" "walk" "()I") ∈ lw_tbl := lw_at lw_m2 188 rfl
theorem q505 : (Jvm.Cond.instanceMethod ({ cls := "HiredByLonging$Horse", name := "pines", desc := "(I)I" } : Jvm.MethodName)) ∈ lw_all := lw_g (lw_at lw_m2 208 rfl) rfl
theorem q506 : (Jvm.Cond.selects "HiredByLonging$Horse" ({ cls := "HiredByLonging$Horse", name := "pines", desc := "(I)I" } : Jvm.MethodName) ({ cls := "HiredByLonging$Horse", name := "pines", desc := "(I)I" } : Jvm.MethodName)) ∈ lw_all := lw_g (lw_at lw_m2 209 rfl) rfl
theorem q507 : (Jvm.Cond.sameMethod "HiredByLonging$Horse" "HiredByLonging$Horse" "pines" "(I)I") ∈ lw_all := lw_g (lw_at lw_m2 210 rfl) rfl
theorem q512 : (Jvm.Cond.code ({ cls := "HiredByLonging$Horse", name := "pines", desc := "(I)I" } : Jvm.MethodName) prog_9_method_4_code (2 : Nat) (Option.some Jvm.ClassFile.FieldType.int)) ∈ lw_all := lw_g (lw_at lw_m2 215 rfl) rfl
theorem q530 : (Jvm.Cond.declares ({ cls := "HiredByLonging$Horse", name := "pines", desc := "(I)I" } : Jvm.MethodName)) ∈ lw_tbl := lw_at lw_m2 233 rfl
theorem q542 : (Jvm.Cond.instanceMethod ({ cls := "HiredByLonging$Horse", name := "kind", desc := "()I" } : Jvm.MethodName)) ∈ lw_all := lw_g (lw_at lw_m3 5 rfl) rfl
theorem q543 : (Jvm.Cond.selects "HiredByLonging$Horse" ({ cls := "HiredByLonging$Horse", name := "kind", desc := "()I" } : Jvm.MethodName) ({ cls := "HiredByLonging$Horse", name := "kind", desc := "()I" } : Jvm.MethodName)) ∈ lw_all := lw_g (lw_at lw_m3 6 rfl) rfl
theorem q544 : (Jvm.Cond.sameMethod "HiredByLonging$Horse" "HiredByLonging$Horse" "kind" "()I") ∈ lw_all := lw_g (lw_at lw_m3 7 rfl) rfl
theorem q566 : (Jvm.Cond.code ({ cls := "HiredByLonging$Horse", name := "kind", desc := "()I" } : Jvm.MethodName) prog_9_method_2_code (1 : Nat) (Option.some Jvm.ClassFile.FieldType.int)) ∈ lw_all := lw_g (lw_at lw_m3 29 rfl) rfl
theorem q692 : (Jvm.Cond.instanceMethod ({ cls := "HiredByLonging$Horse", name := "cost", desc := "()I" } : Jvm.MethodName)) ∈ lw_all := lw_g (lw_at lw_m3 155 rfl) rfl
theorem q693 : (Jvm.Cond.selects "HiredByLonging$Horse" ({ cls := "HiredByLonging$Horse", name := "cost", desc := "()I" } : Jvm.MethodName) ({ cls := "HiredByLonging$Horse", name := "cost", desc := "()I" } : Jvm.MethodName)) ∈ lw_all := lw_g (lw_at lw_m3 156 rfl) rfl
theorem q694 : (Jvm.Cond.sameMethod "HiredByLonging$Horse" "HiredByLonging$Horse" "cost" "()I") ∈ lw_all := lw_g (lw_at lw_m3 157 rfl) rfl
theorem q699 : (Jvm.Cond.code ({ cls := "HiredByLonging$Horse", name := "cost", desc := "()I" } : Jvm.MethodName) prog_9_method_6_code (1 : Nat) (Option.some Jvm.ClassFile.FieldType.int)) ∈ lw_all := lw_g (lw_at lw_m3 162 rfl) rfl
theorem q998 : (Jvm.Cond.instanceMethod ({ cls := "HiredByLonging$Horse", name := "failure", desc := "()LHiredByLonging$Tossed;" } : Jvm.MethodName)) ∈ lw_all := lw_g (lw_at lw_m4 221 rfl) rfl
theorem q999 : (Jvm.Cond.selects "HiredByLonging$Horse" ({ cls := "HiredByLonging$Horse", name := "failure", desc := "()LHiredByLonging$Tossed;" } : Jvm.MethodName) ({ cls := "HiredByLonging$Horse", name := "failure", desc := "()LHiredByLonging$Tossed;" } : Jvm.MethodName)) ∈ lw_all := lw_g (lw_at lw_m4 222 rfl) rfl
theorem q1000 : (Jvm.Cond.sameMethod "HiredByLonging$Horse" "HiredByLonging$Horse" "failure" "()LHiredByLonging$Tossed;") ∈ lw_all := lw_g (lw_at lw_m4 223 rfl) rfl
theorem q1015 : (Jvm.Cond.code ({ cls := "HiredByLonging$Horse", name := "failure", desc := "()LHiredByLonging$Tossed;" } : Jvm.MethodName) prog_9_method_7_code (1 : Nat) (Option.some (Jvm.ClassFile.FieldType.object "HiredByLonging$Tossed"))) ∈ lw_all := lw_g (lw_at lw_m4 238 rfl) rfl
theorem q1016 : (Jvm.Cond.classLink "HiredByLonging$Horse" (13 : Nat) "HiredByLonging$Tossed") ∈ lw_all := lw_g (lw_at lw_m4 239 rfl) rfl
theorem q1025 : (Jvm.Cond.methodLink "HiredByLonging$Horse" (15 : Nat) ({ cls := "HiredByLonging$Tossed", name := "<init>", desc := "(I)V" } : Jvm.MethodName)) ∈ lw_all := lw_g (lw_at lw_m5 8 rfl) rfl
theorem in_X8 : ∀ w ∈ wsX80, w ∈ lw_all := lw_in wsX80 [325] (by decide +kernel) (by decide +kernel)
/-! HiredByLonging$Content -/
set_option maxRecDepth 100000
def RX9 : String := "HiredByLonging$Content"
def TX9 : u_T := fun k => match k with
  | _ => ("HiredByLonging$Horse", "figure", "I", true)
def tyX9 : Nat → FieldType := fun k => match k with
  | _ => .int
abbrev wsX90 : List Cond := u_ws RX9 TX9 1
theorem nmX9 : ∀ a, a < 1 → ∀ b, b < 1 → a ≠ b → (TX9 a).2.1 ≠ (TX9 b).2.1 := by decide +kernel
theorem tyX9_ok : ∀ k, k < 1 → parseFieldDescriptor (TX9 k).2.2.1 = some (tyX9 k) := by decide +kernel
abbrev cX9_init : ByteArray := prog_4_method_1_code
def yX9_init : MethodName := ⟨RX9, "<init>", "(I)V"⟩
def dkwX9_init_0 : List UInt8 := [42, 27, 183, 0, 3, 177]
abbrev dktX9_init_0 : List UInt8 := dkwX9_init_0 ++ []
theorem dksX9_init_0 : cX9_init.data.toList.drop 0 = dktX9_init_0 := by decide +kernel
theorem dX9_init_0 : decode cX9_init 0 = .ok (.aload_n 0, 1) := dk_42 (dk_at dksX9_init_0 0 rfl rfl)
theorem dX9_init_1 : decode cX9_init 1 = .ok (.iload_n 1, 1) := dk_27 (dk_at dksX9_init_0 1 rfl rfl)
theorem dX9_init_2 : decode cX9_init 2 = .ok (.invokespecial 3, 3) := dk_183 0 3 (dk_at dksX9_init_0 2 rfl rfl)
theorem dX9_init_5 : decode cX9_init 5 = .ok (.return_, 1) := dk_177 (dk_at dksX9_init_0 5 rfl rfl)
abbrev cX9_goal : ByteArray := prog_4_method_3_code
def yX9_goal : MethodName := ⟨RX9, "goal", "(III)I"⟩
theorem dX9_goal_0 : decode cX9_goal 0 = .ok (.iload_n 2, 1) := by decide +kernel
theorem dX9_goal_1 : decode cX9_goal 1 = .ok (.ireturn, 1) := by decide +kernel
abbrev cX9_pace : ByteArray := prog_4_method_5_code
def yX9_pace : MethodName := ⟨RX9, "pace", "(I)I"⟩
theorem dX9_pace_0 : decode cX9_pace 0 = .ok (.iconst 2, 1) := by decide +kernel
theorem dX9_pace_1 : decode cX9_pace 1 = .ok (.ireturn, 1) := by decide +kernel
abbrev cX9_walk : ByteArray := prog_4_method_6_code
def yX9_walk : MethodName := ⟨RX9, "walk", "()I"⟩
def dkwX9_walk_0 : List UInt8 := [42, 183, 0, 9, 4, 96, 172]
abbrev dktX9_walk_0 : List UInt8 := dkwX9_walk_0 ++ []
theorem dksX9_walk_0 : cX9_walk.data.toList.drop 0 = dktX9_walk_0 := by decide +kernel
theorem dX9_walk_0 : decode cX9_walk 0 = .ok (.aload_n 0, 1) := dk_42 (dk_at dksX9_walk_0 0 rfl rfl)
theorem dX9_walk_1 : decode cX9_walk 1 = .ok (.invokespecial 9, 3) := dk_183 0 9 (dk_at dksX9_walk_0 1 rfl rfl)
theorem dX9_walk_4 : decode cX9_walk 4 = .ok (.iconst 1, 1) := dk_4 (dk_at dksX9_walk_0 4 rfl rfl)
theorem dX9_walk_5 : decode cX9_walk 5 = .ok (.iadd, 1) := dk_96 (dk_at dksX9_walk_0 5 rfl rfl)
theorem dX9_walk_6 : decode cX9_walk 6 = .ok (.ireturn, 1) := dk_172 (dk_at dksX9_walk_0 6 rfl rfl)
abbrev cX9_pines : ByteArray := prog_4_method_4_code
def yX9_pines : MethodName := ⟨RX9, "pines", "(I)I"⟩
theorem dX9_pines_0 : decode cX9_pines 0 = .ok (.iconst 0, 1) := by decide +kernel
theorem dX9_pines_1 : decode cX9_pines 1 = .ok (.ireturn, 1) := by decide +kernel
abbrev cX9_kind : ByteArray := prog_4_method_2_code
def yX9_kind : MethodName := ⟨RX9, "kind", "()I"⟩
theorem dX9_kind_0 : decode cX9_kind 0 = .ok (.iconst 1, 1) := by decide +kernel
theorem dX9_kind_1 : decode cX9_kind 1 = .ok (.ireturn, 1) := by decide +kernel
abbrev cX9_cost : ByteArray := prog_4_method_7_code
def yX9_cost : MethodName := ⟨RX9, "cost", "()I"⟩
theorem dX9_cost_0 : decode cX9_cost 0 = .ok (.iconst 1, 1) := by decide +kernel
theorem dX9_cost_1 : decode cX9_cost 1 = .ok (.ireturn, 1) := by decide +kernel
abbrev cX9_failure : ByteArray := prog_4_method_8_code
def yX9_failure : MethodName := ⟨RX9, "failure", "()LHiredByLonging$Tossed;"⟩
theorem dX9_failure_0 : decode cX9_failure 0 = .ok (.aconst_null, 1) := by decide +kernel
theorem dX9_failure_1 : decode cX9_failure 1 = .ok (.areturn, 1) := by decide +kernel
theorem q72 : (Jvm.Cond.initialized "HiredByLonging$Content") ∈ lw_all := lw_g (lw_at lw_m1 15 rfl) rfl
theorem q329 : (Jvm.Cond.instantiable "HiredByLonging$Content" (1 : Nat)) ∈ lw_all := lw_g (lw_at lw_m2 32 rfl) rfl
theorem q331 : (Jvm.Cond.instanceMethod ({ cls := "HiredByLonging$Content", name := "<init>", desc := "(I)V" } : Jvm.MethodName)) ∈ lw_all := lw_g (lw_at lw_m2 34 rfl) rfl
theorem q332 : (Jvm.Cond.code ({ cls := "HiredByLonging$Content", name := "<init>", desc := "(I)V" } : Jvm.MethodName) prog_4_method_1_code (2 : Nat) (Option.none : Option Jvm.ClassFile.FieldType)) ∈ lw_all := lw_g (lw_at lw_m2 35 rfl) rfl
theorem q333 : (Jvm.Cond.methodLink "HiredByLonging$Content" (3 : Nat) ({ cls := "HiredByLonging$Horse", name := "<init>", desc := "(I)V" } : Jvm.MethodName)) ∈ lw_all := lw_g (lw_at lw_m2 36 rfl) rfl
theorem q334 : (Jvm.Cond.laysFinal "HiredByLonging$Content" "HiredByLonging$Horse" "figure" "I") ∈ lw_all := lw_g (lw_at lw_m2 37 rfl) rfl
theorem q335 : (Jvm.Cond.superclass "HiredByLonging$Content" "HiredByLonging$Horse") ∈ lw_all := lw_g (lw_at lw_m2 38 rfl) rfl
theorem q418 : (Jvm.Cond.selects "HiredByLonging$Content" ({ cls := "HiredByLonging$Horse", name := "goal", desc := "(III)I" } : Jvm.MethodName) ({ cls := "HiredByLonging$Content", name := "goal", desc := "(III)I" } : Jvm.MethodName)) ∈ lw_all := lw_g (lw_at lw_m2 121 rfl) rfl
theorem q419 : (Jvm.Cond.instanceMethod ({ cls := "HiredByLonging$Content", name := "goal", desc := "(III)I" } : Jvm.MethodName)) ∈ lw_all := lw_g (lw_at lw_m2 122 rfl) rfl
theorem q420 : (Jvm.Cond.code ({ cls := "HiredByLonging$Content", name := "goal", desc := "(III)I" } : Jvm.MethodName) prog_4_method_3_code (4 : Nat) (Option.some Jvm.ClassFile.FieldType.int)) ∈ lw_all := lw_g (lw_at lw_m2 123 rfl) rfl
theorem q449 : (Jvm.Cond.selects "HiredByLonging$Content" ({ cls := "HiredByLonging$Horse", name := "pace", desc := "(I)I" } : Jvm.MethodName) ({ cls := "HiredByLonging$Content", name := "pace", desc := "(I)I" } : Jvm.MethodName)) ∈ lw_all := lw_g (lw_at lw_m2 152 rfl) rfl
theorem q450 : (Jvm.Cond.instanceMethod ({ cls := "HiredByLonging$Content", name := "pace", desc := "(I)I" } : Jvm.MethodName)) ∈ lw_all := lw_g (lw_at lw_m2 153 rfl) rfl
theorem q451 : (Jvm.Cond.code ({ cls := "HiredByLonging$Content", name := "pace", desc := "(I)I" } : Jvm.MethodName) prog_4_method_5_code (2 : Nat) (Option.some Jvm.ClassFile.FieldType.int)) ∈ lw_all := lw_g (lw_at lw_m2 154 rfl) rfl
theorem q474 : (Jvm.Cond.selects "HiredByLonging$Content" ({ cls := "HiredByLonging$Runs", name := "walk", desc := "()I" } : Jvm.MethodName) ({ cls := "HiredByLonging$Content", name := "walk", desc := "()I" } : Jvm.MethodName)) ∈ lw_all := lw_g (lw_at lw_m2 177 rfl) rfl
theorem q475 : (Jvm.Cond.instanceMethod ({ cls := "HiredByLonging$Content", name := "walk", desc := "()I" } : Jvm.MethodName)) ∈ lw_all := lw_g (lw_at lw_m2 178 rfl) rfl
theorem q476 : (Jvm.Cond.code ({ cls := "HiredByLonging$Content", name := "walk", desc := "()I" } : Jvm.MethodName) prog_4_method_6_code (1 : Nat) (Option.some Jvm.ClassFile.FieldType.int)) ∈ lw_all := lw_g (lw_at lw_m2 179 rfl) rfl
theorem q513 : (Jvm.Cond.selects "HiredByLonging$Content" ({ cls := "HiredByLonging$Horse", name := "pines", desc := "(I)I" } : Jvm.MethodName) ({ cls := "HiredByLonging$Content", name := "pines", desc := "(I)I" } : Jvm.MethodName)) ∈ lw_all := lw_g (lw_at lw_m2 216 rfl) rfl
theorem q514 : (Jvm.Cond.instanceMethod ({ cls := "HiredByLonging$Content", name := "pines", desc := "(I)I" } : Jvm.MethodName)) ∈ lw_all := lw_g (lw_at lw_m2 217 rfl) rfl
theorem q515 : (Jvm.Cond.code ({ cls := "HiredByLonging$Content", name := "pines", desc := "(I)I" } : Jvm.MethodName) prog_4_method_4_code (2 : Nat) (Option.some Jvm.ClassFile.FieldType.int)) ∈ lw_all := lw_g (lw_at lw_m2 218 rfl) rfl
theorem q548 : (Jvm.Cond.selects "HiredByLonging$Content" ({ cls := "HiredByLonging$Horse", name := "kind", desc := "()I" } : Jvm.MethodName) ({ cls := "HiredByLonging$Content", name := "kind", desc := "()I" } : Jvm.MethodName)) ∈ lw_all := lw_g (lw_at lw_m3 11 rfl) rfl
theorem q549 : (Jvm.Cond.instanceMethod ({ cls := "HiredByLonging$Content", name := "kind", desc := "()I" } : Jvm.MethodName)) ∈ lw_all := lw_g (lw_at lw_m3 12 rfl) rfl
theorem q550 : (Jvm.Cond.code ({ cls := "HiredByLonging$Content", name := "kind", desc := "()I" } : Jvm.MethodName) prog_4_method_2_code (1 : Nat) (Option.some Jvm.ClassFile.FieldType.int)) ∈ lw_all := lw_g (lw_at lw_m3 13 rfl) rfl
theorem q700 : (Jvm.Cond.selects "HiredByLonging$Content" ({ cls := "HiredByLonging$Horse", name := "cost", desc := "()I" } : Jvm.MethodName) ({ cls := "HiredByLonging$Content", name := "cost", desc := "()I" } : Jvm.MethodName)) ∈ lw_all := lw_g (lw_at lw_m3 163 rfl) rfl
theorem q701 : (Jvm.Cond.instanceMethod ({ cls := "HiredByLonging$Content", name := "cost", desc := "()I" } : Jvm.MethodName)) ∈ lw_all := lw_g (lw_at lw_m3 164 rfl) rfl
theorem q702 : (Jvm.Cond.code ({ cls := "HiredByLonging$Content", name := "cost", desc := "()I" } : Jvm.MethodName) prog_4_method_7_code (1 : Nat) (Option.some Jvm.ClassFile.FieldType.int)) ∈ lw_all := lw_g (lw_at lw_m3 165 rfl) rfl
theorem q1002 : (Jvm.Cond.selects "HiredByLonging$Content" ({ cls := "HiredByLonging$Horse", name := "failure", desc := "()LHiredByLonging$Tossed;" } : Jvm.MethodName) ({ cls := "HiredByLonging$Content", name := "failure", desc := "()LHiredByLonging$Tossed;" } : Jvm.MethodName)) ∈ lw_all := lw_g (lw_at lw_m4 225 rfl) rfl
theorem q1003 : (Jvm.Cond.instanceMethod ({ cls := "HiredByLonging$Content", name := "failure", desc := "()LHiredByLonging$Tossed;" } : Jvm.MethodName)) ∈ lw_all := lw_g (lw_at lw_m4 226 rfl) rfl
theorem q1004 : (Jvm.Cond.code ({ cls := "HiredByLonging$Content", name := "failure", desc := "()LHiredByLonging$Tossed;" } : Jvm.MethodName) prog_4_method_8_code (1 : Nat) (Option.some (Jvm.ClassFile.FieldType.object "HiredByLonging$Tossed"))) ∈ lw_all := lw_g (lw_at lw_m4 227 rfl) rfl
theorem q1546 : (Jvm.Cond.sameMethod "HiredByLonging$Content" "HiredByLonging$Content" "pace" "(I)I") ∈ lw_all := lw_g (lw_at lw_m7 49 rfl) rfl
theorem q1547 : (Jvm.Cond.sameMethod "HiredByLonging$Content" "HiredByLonging$Content" "walk" "()I") ∈ lw_all := lw_g (lw_at lw_m7 50 rfl) rfl
theorem q1548 : (Jvm.Cond.sameMethod "HiredByLonging$Content" "HiredByLonging$Content" "cost" "()I") ∈ lw_all := lw_g (lw_at lw_m7 51 rfl) rfl
theorem q1555 : (Jvm.Cond.castable "HiredByLonging$Content" "HiredByLonging$Horse") ∈ lw_tbl := lw_at lw_m7 58 rfl
theorem in_X9 : ∀ w ∈ wsX90, w ∈ lw_all := lw_in wsX90 [334] (by decide +kernel) (by decide +kernel)
/-! HiredByLonging$Blind -/
set_option maxRecDepth 100000
def RX10 : String := "HiredByLonging$Blind"
def TX10 : u_T := fun k => match k with
  | _ => ("HiredByLonging$Horse", "figure", "I", true)
def tyX10 : Nat → FieldType := fun k => match k with
  | _ => .int
abbrev wsX100 : List Cond := u_ws RX10 TX10 1
theorem nmX10 : ∀ a, a < 1 → ∀ b, b < 1 → a ≠ b → (TX10 a).2.1 ≠ (TX10 b).2.1 := by decide +kernel
theorem tyX10_ok : ∀ k, k < 1 → parseFieldDescriptor (TX10 k).2.2.1 = some (tyX10 k) := by decide +kernel
abbrev cX10_init : ByteArray := prog_2_method_1_code
def yX10_init : MethodName := ⟨RX10, "<init>", "(I)V"⟩
def dkwX10_init_0 : List UInt8 := [42, 27, 183, 0, 3, 177]
abbrev dktX10_init_0 : List UInt8 := dkwX10_init_0 ++ []
theorem dksX10_init_0 : cX10_init.data.toList.drop 0 = dktX10_init_0 := by decide +kernel
theorem dX10_init_0 : decode cX10_init 0 = .ok (.aload_n 0, 1) := dk_42 (dk_at dksX10_init_0 0 rfl rfl)
theorem dX10_init_1 : decode cX10_init 1 = .ok (.iload_n 1, 1) := dk_27 (dk_at dksX10_init_0 1 rfl rfl)
theorem dX10_init_2 : decode cX10_init 2 = .ok (.invokespecial 3, 3) := dk_183 0 3 (dk_at dksX10_init_0 2 rfl rfl)
theorem dX10_init_5 : decode cX10_init 5 = .ok (.return_, 1) := dk_177 (dk_at dksX10_init_0 5 rfl rfl)
abbrev cX10_goal : ByteArray := prog_2_method_3_code
def yX10_goal : MethodName := ⟨RX10, "goal", "(III)I"⟩
def dkwX10_goal_0 : List UInt8 := [16, 20, 27, 100, 172]
abbrev dktX10_goal_0 : List UInt8 := dkwX10_goal_0 ++ []
theorem dksX10_goal_0 : cX10_goal.data.toList.drop 0 = dktX10_goal_0 := by decide +kernel
theorem dX10_goal_0 : decode cX10_goal 0 = .ok (.bipush 20, 2) := dk_16 20 (dk_at dksX10_goal_0 0 rfl rfl)
theorem dX10_goal_2 : decode cX10_goal 2 = .ok (.iload_n 1, 1) := dk_27 (dk_at dksX10_goal_0 2 rfl rfl)
theorem dX10_goal_3 : decode cX10_goal 3 = .ok (.isub, 1) := dk_100 (dk_at dksX10_goal_0 3 rfl rfl)
theorem dX10_goal_4 : decode cX10_goal 4 = .ok (.ireturn, 1) := dk_172 (dk_at dksX10_goal_0 4 rfl rfl)
abbrev cX10_pace : ByteArray := prog_2_method_5_code
def yX10_pace : MethodName := ⟨RX10, "pace", "(I)I"⟩
def dkwX10_pace_0 : List UInt8 := [4, 27, 5, 108, 96, 172]
abbrev dktX10_pace_0 : List UInt8 := dkwX10_pace_0 ++ []
theorem dksX10_pace_0 : cX10_pace.data.toList.drop 0 = dktX10_pace_0 := by decide +kernel
theorem dX10_pace_0 : decode cX10_pace 0 = .ok (.iconst 1, 1) := dk_4 (dk_at dksX10_pace_0 0 rfl rfl)
theorem dX10_pace_1 : decode cX10_pace 1 = .ok (.iload_n 1, 1) := dk_27 (dk_at dksX10_pace_0 1 rfl rfl)
theorem dX10_pace_2 : decode cX10_pace 2 = .ok (.iconst 2, 1) := dk_5 (dk_at dksX10_pace_0 2 rfl rfl)
theorem dX10_pace_3 : decode cX10_pace 3 = .ok (.idiv, 1) := dk_108 (dk_at dksX10_pace_0 3 rfl rfl)
theorem dX10_pace_4 : decode cX10_pace 4 = .ok (.iadd, 1) := dk_96 (dk_at dksX10_pace_0 4 rfl rfl)
theorem dX10_pace_5 : decode cX10_pace 5 = .ok (.ireturn, 1) := dk_172 (dk_at dksX10_pace_0 5 rfl rfl)
abbrev cX10_pines : ByteArray := prog_2_method_4_code
def yX10_pines : MethodName := ⟨RX10, "pines", "(I)I"⟩
def dkwX10_pines_0 : List UInt8 := [5, 42, 27, 183, 0, 9, 104, 172]
abbrev dktX10_pines_0 : List UInt8 := dkwX10_pines_0 ++ []
theorem dksX10_pines_0 : cX10_pines.data.toList.drop 0 = dktX10_pines_0 := by decide +kernel
theorem dX10_pines_0 : decode cX10_pines 0 = .ok (.iconst 2, 1) := dk_5 (dk_at dksX10_pines_0 0 rfl rfl)
theorem dX10_pines_1 : decode cX10_pines 1 = .ok (.aload_n 0, 1) := dk_42 (dk_at dksX10_pines_0 1 rfl rfl)
theorem dX10_pines_2 : decode cX10_pines 2 = .ok (.iload_n 1, 1) := dk_27 (dk_at dksX10_pines_0 2 rfl rfl)
theorem dX10_pines_3 : decode cX10_pines 3 = .ok (.invokespecial 9, 3) := dk_183 0 9 (dk_at dksX10_pines_0 3 rfl rfl)
theorem dX10_pines_6 : decode cX10_pines 6 = .ok (.imul, 1) := dk_104 (dk_at dksX10_pines_0 6 rfl rfl)
theorem dX10_pines_7 : decode cX10_pines 7 = .ok (.ireturn, 1) := dk_172 (dk_at dksX10_pines_0 7 rfl rfl)
abbrev cX10_kind : ByteArray := prog_2_method_2_code
def yX10_kind : MethodName := ⟨RX10, "kind", "()I"⟩
theorem dX10_kind_0 : decode cX10_kind 0 = .ok (.iconst 2, 1) := by decide +kernel
theorem dX10_kind_1 : decode cX10_kind 1 = .ok (.ireturn, 1) := by decide +kernel
abbrev cX10_cost : ByteArray := prog_2_method_6_code
def yX10_cost : MethodName := ⟨RX10, "cost", "()I"⟩
def dkwX10_cost_0 : List UInt8 := [42, 183, 0, 13, 42, 180, 0, 17, 96, 172]
abbrev dktX10_cost_0 : List UInt8 := dkwX10_cost_0 ++ []
theorem dksX10_cost_0 : cX10_cost.data.toList.drop 0 = dktX10_cost_0 := by decide +kernel
theorem dX10_cost_0 : decode cX10_cost 0 = .ok (.aload_n 0, 1) := dk_42 (dk_at dksX10_cost_0 0 rfl rfl)
theorem dX10_cost_1 : decode cX10_cost 1 = .ok (.invokespecial 13, 3) := dk_183 0 13 (dk_at dksX10_cost_0 1 rfl rfl)
theorem dX10_cost_4 : decode cX10_cost 4 = .ok (.aload_n 0, 1) := dk_42 (dk_at dksX10_cost_0 4 rfl rfl)
theorem dX10_cost_5 : decode cX10_cost 5 = .ok (.getfield 17, 3) := dk_180 0 17 (dk_at dksX10_cost_0 5 rfl rfl)
theorem dX10_cost_8 : decode cX10_cost 8 = .ok (.iadd, 1) := dk_96 (dk_at dksX10_cost_0 8 rfl rfl)
theorem dX10_cost_9 : decode cX10_cost 9 = .ok (.ireturn, 1) := dk_172 (dk_at dksX10_cost_0 9 rfl rfl)
theorem q73 : (Jvm.Cond.initialized "HiredByLonging$Blind") ∈ lw_all := lw_g (lw_at lw_m1 16 rfl) rfl
theorem q322 : (Jvm.Cond.fieldLink "HiredByLonging$Blind" (17 : Nat) "HiredByLonging$Blind" "figure" "I") ∈ lw_all := lw_g (lw_at lw_m2 25 rfl) rfl
theorem q323 : (Jvm.Cond.sameField "HiredByLonging$Blind" "HiredByLonging$Horse" "figure" "I") ∈ lw_all := lw_g (lw_at lw_m2 26 rfl) rfl
theorem q337 : (Jvm.Cond.instantiable "HiredByLonging$Blind" (1 : Nat)) ∈ lw_all := lw_g (lw_at lw_m2 40 rfl) rfl
theorem q339 : (Jvm.Cond.instanceMethod ({ cls := "HiredByLonging$Blind", name := "<init>", desc := "(I)V" } : Jvm.MethodName)) ∈ lw_all := lw_g (lw_at lw_m2 42 rfl) rfl
theorem q340 : (Jvm.Cond.code ({ cls := "HiredByLonging$Blind", name := "<init>", desc := "(I)V" } : Jvm.MethodName) prog_2_method_1_code (2 : Nat) (Option.none : Option Jvm.ClassFile.FieldType)) ∈ lw_all := lw_g (lw_at lw_m2 43 rfl) rfl
theorem q341 : (Jvm.Cond.methodLink "HiredByLonging$Blind" (3 : Nat) ({ cls := "HiredByLonging$Horse", name := "<init>", desc := "(I)V" } : Jvm.MethodName)) ∈ lw_all := lw_g (lw_at lw_m2 44 rfl) rfl
theorem q342 : (Jvm.Cond.laysFinal "HiredByLonging$Blind" "HiredByLonging$Horse" "figure" "I") ∈ lw_all := lw_g (lw_at lw_m2 45 rfl) rfl
theorem q343 : (Jvm.Cond.superclass "HiredByLonging$Blind" "HiredByLonging$Horse") ∈ lw_all := lw_g (lw_at lw_m2 46 rfl) rfl
theorem q415 : (Jvm.Cond.selects "HiredByLonging$Blind" ({ cls := "HiredByLonging$Horse", name := "goal", desc := "(III)I" } : Jvm.MethodName) ({ cls := "HiredByLonging$Blind", name := "goal", desc := "(III)I" } : Jvm.MethodName)) ∈ lw_all := lw_g (lw_at lw_m2 118 rfl) rfl
theorem q416 : (Jvm.Cond.instanceMethod ({ cls := "HiredByLonging$Blind", name := "goal", desc := "(III)I" } : Jvm.MethodName)) ∈ lw_all := lw_g (lw_at lw_m2 119 rfl) rfl
theorem q417 : (Jvm.Cond.code ({ cls := "HiredByLonging$Blind", name := "goal", desc := "(III)I" } : Jvm.MethodName) prog_2_method_3_code (4 : Nat) (Option.some Jvm.ClassFile.FieldType.int)) ∈ lw_all := lw_g (lw_at lw_m2 120 rfl) rfl
theorem q446 : (Jvm.Cond.selects "HiredByLonging$Blind" ({ cls := "HiredByLonging$Horse", name := "pace", desc := "(I)I" } : Jvm.MethodName) ({ cls := "HiredByLonging$Blind", name := "pace", desc := "(I)I" } : Jvm.MethodName)) ∈ lw_all := lw_g (lw_at lw_m2 149 rfl) rfl
theorem q447 : (Jvm.Cond.instanceMethod ({ cls := "HiredByLonging$Blind", name := "pace", desc := "(I)I" } : Jvm.MethodName)) ∈ lw_all := lw_g (lw_at lw_m2 150 rfl) rfl
theorem q448 : (Jvm.Cond.code ({ cls := "HiredByLonging$Blind", name := "pace", desc := "(I)I" } : Jvm.MethodName) prog_2_method_5_code (2 : Nat) (Option.some Jvm.ClassFile.FieldType.int)) ∈ lw_all := lw_g (lw_at lw_m2 151 rfl) rfl
theorem q473 : (Jvm.Cond.unhidden "HiredByLonging$Blind" "walk" "()I") ∈ lw_tbl := lw_at lw_m2 176 rfl
theorem q508 : (Jvm.Cond.selects "HiredByLonging$Blind" ({ cls := "HiredByLonging$Horse", name := "pines", desc := "(I)I" } : Jvm.MethodName) ({ cls := "HiredByLonging$Blind", name := "pines", desc := "(I)I" } : Jvm.MethodName)) ∈ lw_all := lw_g (lw_at lw_m2 211 rfl) rfl
theorem q509 : (Jvm.Cond.instanceMethod ({ cls := "HiredByLonging$Blind", name := "pines", desc := "(I)I" } : Jvm.MethodName)) ∈ lw_all := lw_g (lw_at lw_m2 212 rfl) rfl
theorem q510 : (Jvm.Cond.code ({ cls := "HiredByLonging$Blind", name := "pines", desc := "(I)I" } : Jvm.MethodName) prog_2_method_4_code (2 : Nat) (Option.some Jvm.ClassFile.FieldType.int)) ∈ lw_all := lw_g (lw_at lw_m2 213 rfl) rfl
theorem q511 : (Jvm.Cond.methodLink "HiredByLonging$Blind" (9 : Nat) ({ cls := "HiredByLonging$Horse", name := "pines", desc := "(I)I" } : Jvm.MethodName)) ∈ lw_all := lw_g (lw_at lw_m2 214 rfl) rfl
theorem q545 : (Jvm.Cond.selects "HiredByLonging$Blind" ({ cls := "HiredByLonging$Horse", name := "kind", desc := "()I" } : Jvm.MethodName) ({ cls := "HiredByLonging$Blind", name := "kind", desc := "()I" } : Jvm.MethodName)) ∈ lw_all := lw_g (lw_at lw_m3 8 rfl) rfl
theorem q546 : (Jvm.Cond.instanceMethod ({ cls := "HiredByLonging$Blind", name := "kind", desc := "()I" } : Jvm.MethodName)) ∈ lw_all := lw_g (lw_at lw_m3 9 rfl) rfl
theorem q547 : (Jvm.Cond.code ({ cls := "HiredByLonging$Blind", name := "kind", desc := "()I" } : Jvm.MethodName) prog_2_method_2_code (1 : Nat) (Option.some Jvm.ClassFile.FieldType.int)) ∈ lw_all := lw_g (lw_at lw_m3 10 rfl) rfl
theorem q695 : (Jvm.Cond.selects "HiredByLonging$Blind" ({ cls := "HiredByLonging$Horse", name := "cost", desc := "()I" } : Jvm.MethodName) ({ cls := "HiredByLonging$Blind", name := "cost", desc := "()I" } : Jvm.MethodName)) ∈ lw_all := lw_g (lw_at lw_m3 158 rfl) rfl
theorem q696 : (Jvm.Cond.instanceMethod ({ cls := "HiredByLonging$Blind", name := "cost", desc := "()I" } : Jvm.MethodName)) ∈ lw_all := lw_g (lw_at lw_m3 159 rfl) rfl
theorem q697 : (Jvm.Cond.code ({ cls := "HiredByLonging$Blind", name := "cost", desc := "()I" } : Jvm.MethodName) prog_2_method_6_code (1 : Nat) (Option.some Jvm.ClassFile.FieldType.int)) ∈ lw_all := lw_g (lw_at lw_m3 160 rfl) rfl
theorem q698 : (Jvm.Cond.methodLink "HiredByLonging$Blind" (13 : Nat) ({ cls := "HiredByLonging$Horse", name := "cost", desc := "()I" } : Jvm.MethodName)) ∈ lw_all := lw_g (lw_at lw_m3 161 rfl) rfl
theorem q1001 : (Jvm.Cond.selects "HiredByLonging$Blind" ({ cls := "HiredByLonging$Horse", name := "failure", desc := "()LHiredByLonging$Tossed;" } : Jvm.MethodName) ({ cls := "HiredByLonging$Horse", name := "failure", desc := "()LHiredByLonging$Tossed;" } : Jvm.MethodName)) ∈ lw_all := lw_g (lw_at lw_m4 224 rfl) rfl
theorem q1554 : (Jvm.Cond.castable "HiredByLonging$Blind" "HiredByLonging$Horse") ∈ lw_tbl := lw_at lw_m7 57 rfl
theorem in_X10 : ∀ w ∈ wsX100, w ∈ lw_all := lw_in wsX100 [342] (by decide +kernel) (by decide +kernel)
/-! HiredByLonging$Two -/
set_option maxRecDepth 100000
def RX11 : String := "HiredByLonging$Two"
def TX11 : u_T := fun k => match k with
  | _ => ("HiredByLonging$Horse", "figure", "I", true)
def tyX11 : Nat → FieldType := fun k => match k with
  | _ => .int
abbrev wsX110 : List Cond := u_ws RX11 TX11 1
theorem nmX11 : ∀ a, a < 1 → ∀ b, b < 1 → a ≠ b → (TX11 a).2.1 ≠ (TX11 b).2.1 := by decide +kernel
theorem tyX11_ok : ∀ k, k < 1 → parseFieldDescriptor (TX11 k).2.2.1 = some (tyX11 k) := by decide +kernel
abbrev cX11_init : ByteArray := prog_18_method_1_code
def yX11_init : MethodName := ⟨RX11, "<init>", "(I)V"⟩
def dkwX11_init_0 : List UInt8 := [42, 27, 183, 0, 3, 177]
abbrev dktX11_init_0 : List UInt8 := dkwX11_init_0 ++ []
theorem dksX11_init_0 : cX11_init.data.toList.drop 0 = dktX11_init_0 := by decide +kernel
theorem dX11_init_0 : decode cX11_init 0 = .ok (.aload_n 0, 1) := dk_42 (dk_at dksX11_init_0 0 rfl rfl)
theorem dX11_init_1 : decode cX11_init 1 = .ok (.iload_n 1, 1) := dk_27 (dk_at dksX11_init_0 1 rfl rfl)
theorem dX11_init_2 : decode cX11_init 2 = .ok (.invokespecial 3, 3) := dk_183 0 3 (dk_at dksX11_init_0 2 rfl rfl)
theorem dX11_init_5 : decode cX11_init 5 = .ok (.return_, 1) := dk_177 (dk_at dksX11_init_0 5 rfl rfl)
abbrev cX11_goal : ByteArray := prog_18_method_4_code
def yX11_goal : MethodName := ⟨RX11, "goal", "(III)I"⟩
def dkwX11_goal_0 : List UInt8 := [27, 28, 184, 0, 15, 153, 0, 7, 27, 167, 0, 7, 16, 20, 27, 100, 172]
abbrev dktX11_goal_0 : List UInt8 := dkwX11_goal_0 ++ []
theorem dksX11_goal_0 : cX11_goal.data.toList.drop 0 = dktX11_goal_0 := by decide +kernel
theorem dX11_goal_0 : decode cX11_goal 0 = .ok (.iload_n 1, 1) := dk_27 (dk_at dksX11_goal_0 0 rfl rfl)
theorem dX11_goal_1 : decode cX11_goal 1 = .ok (.iload_n 2, 1) := dk_28 (dk_at dksX11_goal_0 1 rfl rfl)
theorem dX11_goal_2 : decode cX11_goal 2 = .ok (.invokestatic 15, 3) := dk_184 0 15 (dk_at dksX11_goal_0 2 rfl rfl)
theorem dX11_goal_5 : decode cX11_goal 5 = .ok (.ifCond .eq 7, 3) := dk_153 0 7 (dk_at dksX11_goal_0 5 rfl rfl)
theorem dX11_goal_8 : decode cX11_goal 8 = .ok (.iload_n 1, 1) := dk_27 (dk_at dksX11_goal_0 8 rfl rfl)
theorem dX11_goal_9 : decode cX11_goal 9 = .ok (.goto 7, 3) := dk_167 0 7 (dk_at dksX11_goal_0 9 rfl rfl)
theorem dX11_goal_12 : decode cX11_goal 12 = .ok (.bipush 20, 2) := dk_16 20 (dk_at dksX11_goal_0 12 rfl rfl)
theorem dX11_goal_14 : decode cX11_goal 14 = .ok (.iload_n 1, 1) := dk_27 (dk_at dksX11_goal_0 14 rfl rfl)
theorem dX11_goal_15 : decode cX11_goal 15 = .ok (.isub, 1) := dk_100 (dk_at dksX11_goal_0 15 rfl rfl)
theorem dX11_goal_16 : decode cX11_goal 16 = .ok (.ireturn, 1) := dk_172 (dk_at dksX11_goal_0 16 rfl rfl)
abbrev cX11_isHomeNearer : ByteArray := prog_18_method_3_code
def yX11_isHomeNearer : MethodName := ⟨RX11, "isHomeNearer", "(II)Z"⟩
def dkwX11_isHomeNearer_0 : List UInt8 := [26, 27, 100, 184, 0, 9, 16, 20, 26, 100, 27, 100, 184, 0, 9, 163, 0, 7, 4, 167, 0, 4, 3, 172]
abbrev dktX11_isHomeNearer_0 : List UInt8 := dkwX11_isHomeNearer_0 ++ []
theorem dksX11_isHomeNearer_0 : cX11_isHomeNearer.data.toList.drop 0 = dktX11_isHomeNearer_0 := by decide +kernel
theorem dX11_isHomeNearer_0 : decode cX11_isHomeNearer 0 = .ok (.iload_n 0, 1) := dk_26 (dk_at dksX11_isHomeNearer_0 0 rfl rfl)
theorem dX11_isHomeNearer_1 : decode cX11_isHomeNearer 1 = .ok (.iload_n 1, 1) := dk_27 (dk_at dksX11_isHomeNearer_0 1 rfl rfl)
theorem dX11_isHomeNearer_2 : decode cX11_isHomeNearer 2 = .ok (.isub, 1) := dk_100 (dk_at dksX11_isHomeNearer_0 2 rfl rfl)
theorem dX11_isHomeNearer_3 : decode cX11_isHomeNearer 3 = .ok (.invokestatic 9, 3) := dk_184 0 9 (dk_at dksX11_isHomeNearer_0 3 rfl rfl)
theorem dX11_isHomeNearer_6 : decode cX11_isHomeNearer 6 = .ok (.bipush 20, 2) := dk_16 20 (dk_at dksX11_isHomeNearer_0 6 rfl rfl)
theorem dX11_isHomeNearer_8 : decode cX11_isHomeNearer 8 = .ok (.iload_n 0, 1) := dk_26 (dk_at dksX11_isHomeNearer_0 8 rfl rfl)
theorem dX11_isHomeNearer_9 : decode cX11_isHomeNearer 9 = .ok (.isub, 1) := dk_100 (dk_at dksX11_isHomeNearer_0 9 rfl rfl)
theorem dX11_isHomeNearer_10 : decode cX11_isHomeNearer 10 = .ok (.iload_n 1, 1) := dk_27 (dk_at dksX11_isHomeNearer_0 10 rfl rfl)
theorem dX11_isHomeNearer_11 : decode cX11_isHomeNearer 11 = .ok (.isub, 1) := dk_100 (dk_at dksX11_isHomeNearer_0 11 rfl rfl)
theorem dX11_isHomeNearer_12 : decode cX11_isHomeNearer 12 = .ok (.invokestatic 9, 3) := dk_184 0 9 (dk_at dksX11_isHomeNearer_0 12 rfl rfl)
theorem dX11_isHomeNearer_15 : decode cX11_isHomeNearer 15 = .ok (.if_icmp .gt 7, 3) := dk_163 0 7 (dk_at dksX11_isHomeNearer_0 15 rfl rfl)
theorem dX11_isHomeNearer_18 : decode cX11_isHomeNearer 18 = .ok (.iconst 1, 1) := dk_4 (dk_at dksX11_isHomeNearer_0 18 rfl rfl)
theorem dX11_isHomeNearer_19 : decode cX11_isHomeNearer 19 = .ok (.goto 4, 3) := dk_167 0 4 (dk_at dksX11_isHomeNearer_0 19 rfl rfl)
theorem dX11_isHomeNearer_22 : decode cX11_isHomeNearer 22 = .ok (.iconst 0, 1) := dk_3 (dk_at dksX11_isHomeNearer_0 22 rfl rfl)
theorem dX11_isHomeNearer_23 : decode cX11_isHomeNearer 23 = .ok (.ireturn, 1) := dk_172 (dk_at dksX11_isHomeNearer_0 23 rfl rfl)
abbrev cX11_kind : ByteArray := prog_18_method_2_code
def yX11_kind : MethodName := ⟨RX11, "kind", "()I"⟩
theorem dX11_kind_0 : decode cX11_kind 0 = .ok (.iconst 3, 1) := by decide +kernel
theorem dX11_kind_1 : decode cX11_kind 1 = .ok (.ireturn, 1) := by decide +kernel
abbrev cX11_cost : ByteArray := prog_18_method_5_code
def yX11_cost : MethodName := ⟨RX11, "cost", "()I"⟩
def dkwX11_cost_0 : List UInt8 := [5, 42, 183, 0, 21, 104, 172]
abbrev dktX11_cost_0 : List UInt8 := dkwX11_cost_0 ++ []
theorem dksX11_cost_0 : cX11_cost.data.toList.drop 0 = dktX11_cost_0 := by decide +kernel
theorem dX11_cost_0 : decode cX11_cost 0 = .ok (.iconst 2, 1) := dk_5 (dk_at dksX11_cost_0 0 rfl rfl)
theorem dX11_cost_1 : decode cX11_cost 1 = .ok (.aload_n 0, 1) := dk_42 (dk_at dksX11_cost_0 1 rfl rfl)
theorem dX11_cost_2 : decode cX11_cost 2 = .ok (.invokespecial 21, 3) := dk_183 0 21 (dk_at dksX11_cost_0 2 rfl rfl)
theorem dX11_cost_5 : decode cX11_cost 5 = .ok (.imul, 1) := dk_104 (dk_at dksX11_cost_0 5 rfl rfl)
theorem dX11_cost_6 : decode cX11_cost 6 = .ok (.ireturn, 1) := dk_172 (dk_at dksX11_cost_0 6 rfl rfl)
abbrev cX11_failure : ByteArray := prog_18_method_6_code
def yX11_failure : MethodName := ⟨RX11, "failure", "()LHiredByLonging$Tossed;"⟩
def dkwX11_failure_1 : List UInt8 := [183, 0, 35, 176]
abbrev dktX11_failure_1 : List UInt8 := dkwX11_failure_1 ++ []
def dkwX11_failure_0 : List UInt8 := [42, 183, 0, 25, 76, 43, 199, 0, 7, 1, 167, 0, 17, 187, 0, 29, 89, 43, 180, 0, 31, 16, 100, 96]
abbrev dktX11_failure_0 : List UInt8 := dkwX11_failure_0 ++ dktX11_failure_1
theorem dksX11_failure_0 : cX11_failure.data.toList.drop 0 = dktX11_failure_0 := by decide +kernel
theorem dksX11_failure_1 : cX11_failure.data.toList.drop 24 = dktX11_failure_1 := dk_seg dksX11_failure_0 24 rfl rfl
theorem dX11_failure_0 : decode cX11_failure 0 = .ok (.aload_n 0, 1) := dk_42 (dk_at dksX11_failure_0 0 rfl rfl)
theorem dX11_failure_1 : decode cX11_failure 1 = .ok (.invokespecial 25, 3) := dk_183 0 25 (dk_at dksX11_failure_0 1 rfl rfl)
theorem dX11_failure_4 : decode cX11_failure 4 = .ok (.astore_n 1, 1) := dk_76 (dk_at dksX11_failure_0 4 rfl rfl)
theorem dX11_failure_5 : decode cX11_failure 5 = .ok (.aload_n 1, 1) := dk_43 (dk_at dksX11_failure_0 5 rfl rfl)
theorem dX11_failure_6 : decode cX11_failure 6 = .ok (.ifnonnull 7, 3) := dk_199 0 7 (dk_at dksX11_failure_0 6 rfl rfl)
theorem dX11_failure_9 : decode cX11_failure 9 = .ok (.aconst_null, 1) := dk_1 (dk_at dksX11_failure_0 9 rfl rfl)
theorem dX11_failure_10 : decode cX11_failure 10 = .ok (.goto 17, 3) := dk_167 0 17 (dk_at dksX11_failure_0 10 rfl rfl)
theorem dX11_failure_13 : decode cX11_failure 13 = .ok (.new 29, 3) := dk_187 0 29 (dk_at dksX11_failure_0 13 rfl rfl)
theorem dX11_failure_16 : decode cX11_failure 16 = .ok (.dup, 1) := dk_89 (dk_at dksX11_failure_0 16 rfl rfl)
theorem dX11_failure_17 : decode cX11_failure 17 = .ok (.aload_n 1, 1) := dk_43 (dk_at dksX11_failure_0 17 rfl rfl)
theorem dX11_failure_18 : decode cX11_failure 18 = .ok (.getfield 31, 3) := dk_180 0 31 (dk_at dksX11_failure_0 18 rfl rfl)
theorem dX11_failure_21 : decode cX11_failure 21 = .ok (.bipush 100, 2) := dk_16 100 (dk_at dksX11_failure_0 21 rfl rfl)
theorem dX11_failure_23 : decode cX11_failure 23 = .ok (.iadd, 1) := dk_96 (dk_at dksX11_failure_0 23 rfl rfl)
theorem dX11_failure_24 : decode cX11_failure 24 = .ok (.invokespecial 35, 3) := dk_183 0 35 (dk_at dksX11_failure_1 0 rfl rfl)
theorem dX11_failure_27 : decode cX11_failure 27 = .ok (.areturn, 1) := dk_176 (dk_at dksX11_failure_1 3 rfl rfl)
theorem q74 : (Jvm.Cond.initialized "HiredByLonging$Two") ∈ lw_all := lw_g (lw_at lw_m1 17 rfl) rfl
theorem q345 : (Jvm.Cond.instantiable "HiredByLonging$Two" (1 : Nat)) ∈ lw_all := lw_g (lw_at lw_m2 48 rfl) rfl
theorem q347 : (Jvm.Cond.instanceMethod ({ cls := "HiredByLonging$Two", name := "<init>", desc := "(I)V" } : Jvm.MethodName)) ∈ lw_all := lw_g (lw_at lw_m2 50 rfl) rfl
theorem q348 : (Jvm.Cond.code ({ cls := "HiredByLonging$Two", name := "<init>", desc := "(I)V" } : Jvm.MethodName) prog_18_method_1_code (2 : Nat) (Option.none : Option Jvm.ClassFile.FieldType)) ∈ lw_all := lw_g (lw_at lw_m2 51 rfl) rfl
theorem q349 : (Jvm.Cond.methodLink "HiredByLonging$Two" (3 : Nat) ({ cls := "HiredByLonging$Horse", name := "<init>", desc := "(I)V" } : Jvm.MethodName)) ∈ lw_all := lw_g (lw_at lw_m2 52 rfl) rfl
theorem q350 : (Jvm.Cond.laysFinal "HiredByLonging$Two" "HiredByLonging$Horse" "figure" "I") ∈ lw_all := lw_g (lw_at lw_m2 53 rfl) rfl
theorem q351 : (Jvm.Cond.superclass "HiredByLonging$Two" "HiredByLonging$Horse") ∈ lw_all := lw_g (lw_at lw_m2 54 rfl) rfl
theorem q430 : (Jvm.Cond.selects "HiredByLonging$Two" ({ cls := "HiredByLonging$Horse", name := "goal", desc := "(III)I" } : Jvm.MethodName) ({ cls := "HiredByLonging$Two", name := "goal", desc := "(III)I" } : Jvm.MethodName)) ∈ lw_all := lw_g (lw_at lw_m2 133 rfl) rfl
theorem q431 : (Jvm.Cond.instanceMethod ({ cls := "HiredByLonging$Two", name := "goal", desc := "(III)I" } : Jvm.MethodName)) ∈ lw_all := lw_g (lw_at lw_m2 134 rfl) rfl
theorem q432 : (Jvm.Cond.code ({ cls := "HiredByLonging$Two", name := "goal", desc := "(III)I" } : Jvm.MethodName) prog_18_method_4_code (4 : Nat) (Option.some Jvm.ClassFile.FieldType.int)) ∈ lw_all := lw_g (lw_at lw_m2 135 rfl) rfl
theorem q433 : (Jvm.Cond.methodLink "HiredByLonging$Two" (15 : Nat) ({ cls := "HiredByLonging$Two", name := "isHomeNearer", desc := "(II)Z" } : Jvm.MethodName)) ∈ lw_all := lw_g (lw_at lw_m2 136 rfl) rfl
theorem q434 : (Jvm.Cond.static ({ cls := "HiredByLonging$Two", name := "isHomeNearer", desc := "(II)Z" } : Jvm.MethodName)) ∈ lw_all := lw_g (lw_at lw_m2 137 rfl) rfl
theorem q435 : (Jvm.Cond.code ({ cls := "HiredByLonging$Two", name := "isHomeNearer", desc := "(II)Z" } : Jvm.MethodName) prog_18_method_3_code (2 : Nat) (Option.some Jvm.ClassFile.FieldType.boolean)) ∈ lw_all := lw_g (lw_at lw_m2 138 rfl) rfl
theorem q436 : (Jvm.Cond.methodLink "HiredByLonging$Two" (9 : Nat) ({ cls := "java/lang/Math", name := "abs", desc := "(I)I" } : Jvm.MethodName)) ∈ lw_all := lw_g (lw_at lw_m2 139 rfl) rfl
theorem q466 : (Jvm.Cond.sameMethod "HiredByLonging$Two" "HiredByLonging$Horse" "pace" "(I)I") ∈ lw_all := lw_g (lw_at lw_m2 169 rfl) rfl
theorem q468 : (Jvm.Cond.selects "HiredByLonging$Two" ({ cls := "HiredByLonging$Horse", name := "pace", desc := "(I)I" } : Jvm.MethodName) ({ cls := "HiredByLonging$Horse", name := "pace", desc := "(I)I" } : Jvm.MethodName)) ∈ lw_all := lw_g (lw_at lw_m2 171 rfl) rfl
theorem q489 : (Jvm.Cond.unhidden "HiredByLonging$Two" "walk" "()I") ∈ lw_tbl := lw_at lw_m2 192 rfl
theorem q529 : (Jvm.Cond.sameMethod "HiredByLonging$Two" "HiredByLonging$Horse" "pines" "(I)I") ∈ lw_all := lw_g (lw_at lw_m2 232 rfl) rfl
theorem q531 : (Jvm.Cond.selects "HiredByLonging$Two" ({ cls := "HiredByLonging$Horse", name := "pines", desc := "(I)I" } : Jvm.MethodName) ({ cls := "HiredByLonging$Horse", name := "pines", desc := "(I)I" } : Jvm.MethodName)) ∈ lw_all := lw_g (lw_at lw_m2 234 rfl) rfl
theorem q563 : (Jvm.Cond.selects "HiredByLonging$Two" ({ cls := "HiredByLonging$Horse", name := "kind", desc := "()I" } : Jvm.MethodName) ({ cls := "HiredByLonging$Two", name := "kind", desc := "()I" } : Jvm.MethodName)) ∈ lw_all := lw_g (lw_at lw_m3 26 rfl) rfl
theorem q564 : (Jvm.Cond.instanceMethod ({ cls := "HiredByLonging$Two", name := "kind", desc := "()I" } : Jvm.MethodName)) ∈ lw_all := lw_g (lw_at lw_m3 27 rfl) rfl
theorem q565 : (Jvm.Cond.code ({ cls := "HiredByLonging$Two", name := "kind", desc := "()I" } : Jvm.MethodName) prog_18_method_2_code (1 : Nat) (Option.some Jvm.ClassFile.FieldType.int)) ∈ lw_all := lw_g (lw_at lw_m3 28 rfl) rfl
theorem q718 : (Jvm.Cond.instanceMethod ({ cls := "HiredByLonging$Two", name := "cost", desc := "()I" } : Jvm.MethodName)) ∈ lw_all := lw_g (lw_at lw_m3 181 rfl) rfl
theorem q719 : (Jvm.Cond.code ({ cls := "HiredByLonging$Two", name := "cost", desc := "()I" } : Jvm.MethodName) prog_18_method_5_code (1 : Nat) (Option.some Jvm.ClassFile.FieldType.int)) ∈ lw_all := lw_g (lw_at lw_m3 182 rfl) rfl
theorem q720 : (Jvm.Cond.methodLink "HiredByLonging$Two" (21 : Nat) ({ cls := "HiredByLonging$Horse", name := "cost", desc := "()I" } : Jvm.MethodName)) ∈ lw_all := lw_g (lw_at lw_m3 183 rfl) rfl
theorem q721 : (Jvm.Cond.selects "HiredByLonging$Two" ({ cls := "HiredByLonging$Horse", name := "cost", desc := "()I" } : Jvm.MethodName) ({ cls := "HiredByLonging$Two", name := "cost", desc := "()I" } : Jvm.MethodName)) ∈ lw_all := lw_g (lw_at lw_m3 184 rfl) rfl
theorem q1012 : (Jvm.Cond.instanceMethod ({ cls := "HiredByLonging$Two", name := "failure", desc := "()LHiredByLonging$Tossed;" } : Jvm.MethodName)) ∈ lw_all := lw_g (lw_at lw_m4 235 rfl) rfl
theorem q1013 : (Jvm.Cond.code ({ cls := "HiredByLonging$Two", name := "failure", desc := "()LHiredByLonging$Tossed;" } : Jvm.MethodName) prog_18_method_6_code (2 : Nat) (Option.some (Jvm.ClassFile.FieldType.object "HiredByLonging$Tossed"))) ∈ lw_all := lw_g (lw_at lw_m4 236 rfl) rfl
theorem q1014 : (Jvm.Cond.methodLink "HiredByLonging$Two" (25 : Nat) ({ cls := "HiredByLonging$Horse", name := "failure", desc := "()LHiredByLonging$Tossed;" } : Jvm.MethodName)) ∈ lw_all := lw_g (lw_at lw_m4 237 rfl) rfl
theorem q1030 : (Jvm.Cond.fieldLink "HiredByLonging$Two" (31 : Nat) "HiredByLonging$Tossed" "n" "I") ∈ lw_all := lw_g (lw_at lw_m5 13 rfl) rfl
theorem q1036 : (Jvm.Cond.classLink "HiredByLonging$Two" (29 : Nat) "HiredByLonging$Tossed") ∈ lw_all := lw_g (lw_at lw_m5 19 rfl) rfl
theorem q1037 : (Jvm.Cond.methodLink "HiredByLonging$Two" (35 : Nat) ({ cls := "HiredByLonging$Tossed", name := "<init>", desc := "(I)V" } : Jvm.MethodName)) ∈ lw_all := lw_g (lw_at lw_m5 20 rfl) rfl
theorem q1041 : (Jvm.Cond.selects "HiredByLonging$Two" ({ cls := "HiredByLonging$Horse", name := "failure", desc := "()LHiredByLonging$Tossed;" } : Jvm.MethodName) ({ cls := "HiredByLonging$Two", name := "failure", desc := "()LHiredByLonging$Tossed;" } : Jvm.MethodName)) ∈ lw_all := lw_g (lw_at lw_m5 24 rfl) rfl
theorem q1549 : (Jvm.Cond.sameMethod "HiredByLonging$Two" "HiredByLonging$Two" "cost" "()I") ∈ lw_all := lw_g (lw_at lw_m7 52 rfl) rfl
theorem q1550 : (Jvm.Cond.sameMethod "HiredByLonging$Two" "HiredByLonging$Two" "failure" "()LHiredByLonging$Tossed;") ∈ lw_all := lw_g (lw_at lw_m7 53 rfl) rfl
theorem q1560 : (Jvm.Cond.castable "HiredByLonging$Two" "HiredByLonging$Horse") ∈ lw_tbl := lw_at lw_m7 63 rfl
theorem in_X11 : ∀ w ∈ wsX110, w ∈ lw_all := lw_in wsX110 [350] (by decide +kernel) (by decide +kernel)
/-! HiredByLonging$Drowned -/
set_option maxRecDepth 100000
def RX12 : String := "HiredByLonging$Drowned"
def TX12 : u_T := fun k => match k with
  | _ => ("HiredByLonging$Horse", "figure", "I", true)
def tyX12 : Nat → FieldType := fun k => match k with
  | _ => .int
abbrev wsX120 : List Cond := u_ws RX12 TX12 1
theorem nmX12 : ∀ a, a < 1 → ∀ b, b < 1 → a ≠ b → (TX12 a).2.1 ≠ (TX12 b).2.1 := by decide +kernel
theorem tyX12_ok : ∀ k, k < 1 → parseFieldDescriptor (TX12 k).2.2.1 = some (tyX12 k) := by decide +kernel
abbrev cX12_init : ByteArray := prog_5_method_1_code
def yX12_init : MethodName := ⟨RX12, "<init>", "(I)V"⟩
def dkwX12_init_0 : List UInt8 := [42, 27, 183, 0, 3, 177]
abbrev dktX12_init_0 : List UInt8 := dkwX12_init_0 ++ []
theorem dksX12_init_0 : cX12_init.data.toList.drop 0 = dktX12_init_0 := by decide +kernel
theorem dX12_init_0 : decode cX12_init 0 = .ok (.aload_n 0, 1) := dk_42 (dk_at dksX12_init_0 0 rfl rfl)
theorem dX12_init_1 : decode cX12_init 1 = .ok (.iload_n 1, 1) := dk_27 (dk_at dksX12_init_0 1 rfl rfl)
theorem dX12_init_2 : decode cX12_init 2 = .ok (.invokespecial 3, 3) := dk_183 0 3 (dk_at dksX12_init_0 2 rfl rfl)
theorem dX12_init_5 : decode cX12_init 5 = .ok (.return_, 1) := dk_177 (dk_at dksX12_init_0 5 rfl rfl)
abbrev cX12_pines : ByteArray := prog_5_method_3_code
def yX12_pines : MethodName := ⟨RX12, "pines", "(I)I"⟩
def dkwX12_pines_0 : List UInt8 := [42, 27, 183, 0, 9, 42, 180, 0, 13, 96, 172]
abbrev dktX12_pines_0 : List UInt8 := dkwX12_pines_0 ++ []
theorem dksX12_pines_0 : cX12_pines.data.toList.drop 0 = dktX12_pines_0 := by decide +kernel
theorem dX12_pines_0 : decode cX12_pines 0 = .ok (.aload_n 0, 1) := dk_42 (dk_at dksX12_pines_0 0 rfl rfl)
theorem dX12_pines_1 : decode cX12_pines 1 = .ok (.iload_n 1, 1) := dk_27 (dk_at dksX12_pines_0 1 rfl rfl)
theorem dX12_pines_2 : decode cX12_pines 2 = .ok (.invokespecial 9, 3) := dk_183 0 9 (dk_at dksX12_pines_0 2 rfl rfl)
theorem dX12_pines_5 : decode cX12_pines 5 = .ok (.aload_n 0, 1) := dk_42 (dk_at dksX12_pines_0 5 rfl rfl)
theorem dX12_pines_6 : decode cX12_pines 6 = .ok (.getfield 13, 3) := dk_180 0 13 (dk_at dksX12_pines_0 6 rfl rfl)
theorem dX12_pines_9 : decode cX12_pines 9 = .ok (.iadd, 1) := dk_96 (dk_at dksX12_pines_0 9 rfl rfl)
theorem dX12_pines_10 : decode cX12_pines 10 = .ok (.ireturn, 1) := dk_172 (dk_at dksX12_pines_0 10 rfl rfl)
abbrev cX12_kind : ByteArray := prog_5_method_2_code
def yX12_kind : MethodName := ⟨RX12, "kind", "()I"⟩
theorem dX12_kind_0 : decode cX12_kind 0 = .ok (.iconst 4, 1) := by decide +kernel
theorem dX12_kind_1 : decode cX12_kind 1 = .ok (.ireturn, 1) := by decide +kernel
abbrev cX12_cost : ByteArray := prog_5_method_4_code
def yX12_cost : MethodName := ⟨RX12, "cost", "()I"⟩
theorem dX12_cost_0 : decode cX12_cost 0 = .ok (.bipush 7, 2) := by decide +kernel
theorem dX12_cost_2 : decode cX12_cost 2 = .ok (.ireturn, 1) := by decide +kernel
theorem q75 : (Jvm.Cond.initialized "HiredByLonging$Drowned") ∈ lw_all := lw_g (lw_at lw_m1 18 rfl) rfl
theorem q316 : (Jvm.Cond.fieldLink "HiredByLonging$Drowned" (13 : Nat) "HiredByLonging$Drowned" "figure" "I") ∈ lw_all := lw_g (lw_at lw_m2 19 rfl) rfl
theorem q317 : (Jvm.Cond.sameField "HiredByLonging$Drowned" "HiredByLonging$Horse" "figure" "I") ∈ lw_all := lw_g (lw_at lw_m2 20 rfl) rfl
theorem q353 : (Jvm.Cond.instantiable "HiredByLonging$Drowned" (1 : Nat)) ∈ lw_all := lw_g (lw_at lw_m2 56 rfl) rfl
theorem q355 : (Jvm.Cond.instanceMethod ({ cls := "HiredByLonging$Drowned", name := "<init>", desc := "(I)V" } : Jvm.MethodName)) ∈ lw_all := lw_g (lw_at lw_m2 58 rfl) rfl
theorem q356 : (Jvm.Cond.code ({ cls := "HiredByLonging$Drowned", name := "<init>", desc := "(I)V" } : Jvm.MethodName) prog_5_method_1_code (2 : Nat) (Option.none : Option Jvm.ClassFile.FieldType)) ∈ lw_all := lw_g (lw_at lw_m2 59 rfl) rfl
theorem q357 : (Jvm.Cond.methodLink "HiredByLonging$Drowned" (3 : Nat) ({ cls := "HiredByLonging$Horse", name := "<init>", desc := "(I)V" } : Jvm.MethodName)) ∈ lw_all := lw_g (lw_at lw_m2 60 rfl) rfl
theorem q358 : (Jvm.Cond.laysFinal "HiredByLonging$Drowned" "HiredByLonging$Horse" "figure" "I") ∈ lw_all := lw_g (lw_at lw_m2 61 rfl) rfl
theorem q359 : (Jvm.Cond.superclass "HiredByLonging$Drowned" "HiredByLonging$Horse") ∈ lw_all := lw_g (lw_at lw_m2 62 rfl) rfl
theorem q421 : (Jvm.Cond.selects "HiredByLonging$Drowned" ({ cls := "HiredByLonging$Horse", name := "goal", desc := "(III)I" } : Jvm.MethodName) ({ cls := "HiredByLonging$Horse", name := "goal", desc := "(III)I" } : Jvm.MethodName)) ∈ lw_all := lw_g (lw_at lw_m2 124 rfl) rfl
theorem q452 : (Jvm.Cond.selects "HiredByLonging$Drowned" ({ cls := "HiredByLonging$Horse", name := "pace", desc := "(I)I" } : Jvm.MethodName) ({ cls := "HiredByLonging$Horse", name := "pace", desc := "(I)I" } : Jvm.MethodName)) ∈ lw_all := lw_g (lw_at lw_m2 155 rfl) rfl
theorem q479 : (Jvm.Cond.unhidden "HiredByLonging$Drowned" "walk" "()I") ∈ lw_tbl := lw_at lw_m2 182 rfl
theorem q516 : (Jvm.Cond.selects "HiredByLonging$Drowned" ({ cls := "HiredByLonging$Horse", name := "pines", desc := "(I)I" } : Jvm.MethodName) ({ cls := "HiredByLonging$Drowned", name := "pines", desc := "(I)I" } : Jvm.MethodName)) ∈ lw_all := lw_g (lw_at lw_m2 219 rfl) rfl
theorem q517 : (Jvm.Cond.instanceMethod ({ cls := "HiredByLonging$Drowned", name := "pines", desc := "(I)I" } : Jvm.MethodName)) ∈ lw_all := lw_g (lw_at lw_m2 220 rfl) rfl
theorem q518 : (Jvm.Cond.code ({ cls := "HiredByLonging$Drowned", name := "pines", desc := "(I)I" } : Jvm.MethodName) prog_5_method_3_code (2 : Nat) (Option.some Jvm.ClassFile.FieldType.int)) ∈ lw_all := lw_g (lw_at lw_m2 221 rfl) rfl
theorem q519 : (Jvm.Cond.methodLink "HiredByLonging$Drowned" (9 : Nat) ({ cls := "HiredByLonging$Horse", name := "pines", desc := "(I)I" } : Jvm.MethodName)) ∈ lw_all := lw_g (lw_at lw_m2 222 rfl) rfl
theorem q551 : (Jvm.Cond.selects "HiredByLonging$Drowned" ({ cls := "HiredByLonging$Horse", name := "kind", desc := "()I" } : Jvm.MethodName) ({ cls := "HiredByLonging$Drowned", name := "kind", desc := "()I" } : Jvm.MethodName)) ∈ lw_all := lw_g (lw_at lw_m3 14 rfl) rfl
theorem q552 : (Jvm.Cond.instanceMethod ({ cls := "HiredByLonging$Drowned", name := "kind", desc := "()I" } : Jvm.MethodName)) ∈ lw_all := lw_g (lw_at lw_m3 15 rfl) rfl
theorem q553 : (Jvm.Cond.code ({ cls := "HiredByLonging$Drowned", name := "kind", desc := "()I" } : Jvm.MethodName) prog_5_method_2_code (1 : Nat) (Option.some Jvm.ClassFile.FieldType.int)) ∈ lw_all := lw_g (lw_at lw_m3 16 rfl) rfl
theorem q703 : (Jvm.Cond.selects "HiredByLonging$Drowned" ({ cls := "HiredByLonging$Horse", name := "cost", desc := "()I" } : Jvm.MethodName) ({ cls := "HiredByLonging$Drowned", name := "cost", desc := "()I" } : Jvm.MethodName)) ∈ lw_all := lw_g (lw_at lw_m3 166 rfl) rfl
theorem q704 : (Jvm.Cond.instanceMethod ({ cls := "HiredByLonging$Drowned", name := "cost", desc := "()I" } : Jvm.MethodName)) ∈ lw_all := lw_g (lw_at lw_m3 167 rfl) rfl
theorem q705 : (Jvm.Cond.code ({ cls := "HiredByLonging$Drowned", name := "cost", desc := "()I" } : Jvm.MethodName) prog_5_method_4_code (1 : Nat) (Option.some Jvm.ClassFile.FieldType.int)) ∈ lw_all := lw_g (lw_at lw_m3 168 rfl) rfl
theorem q1005 : (Jvm.Cond.selects "HiredByLonging$Drowned" ({ cls := "HiredByLonging$Horse", name := "failure", desc := "()LHiredByLonging$Tossed;" } : Jvm.MethodName) ({ cls := "HiredByLonging$Horse", name := "failure", desc := "()LHiredByLonging$Tossed;" } : Jvm.MethodName)) ∈ lw_all := lw_g (lw_at lw_m4 228 rfl) rfl
theorem q1556 : (Jvm.Cond.castable "HiredByLonging$Drowned" "HiredByLonging$Horse") ∈ lw_tbl := lw_at lw_m7 59 rfl
theorem in_X12 : ∀ w ∈ wsX120, w ∈ lw_all := lw_in wsX120 [358] (by decide +kernel) (by decide +kernel)
/-! HiredByLonging$Foal -/
set_option maxRecDepth 100000
def RX13 : String := "HiredByLonging$Foal"
def TX13 : u_T := fun k => match k with
  | _ => ("HiredByLonging$Horse", "figure", "I", true)
def tyX13 : Nat → FieldType := fun k => match k with
  | _ => .int
abbrev wsX130 : List Cond := u_ws RX13 TX13 1
theorem nmX13 : ∀ a, a < 1 → ∀ b, b < 1 → a ≠ b → (TX13 a).2.1 ≠ (TX13 b).2.1 := by decide +kernel
theorem tyX13_ok : ∀ k, k < 1 → parseFieldDescriptor (TX13 k).2.2.1 = some (tyX13 k) := by decide +kernel
abbrev cX13_init : ByteArray := prog_7_method_1_code
def yX13_init : MethodName := ⟨RX13, "<init>", "(I)V"⟩
def dkwX13_init_0 : List UInt8 := [42, 27, 183, 0, 3, 177]
abbrev dktX13_init_0 : List UInt8 := dkwX13_init_0 ++ []
theorem dksX13_init_0 : cX13_init.data.toList.drop 0 = dktX13_init_0 := by decide +kernel
theorem dX13_init_0 : decode cX13_init 0 = .ok (.aload_n 0, 1) := dk_42 (dk_at dksX13_init_0 0 rfl rfl)
theorem dX13_init_1 : decode cX13_init 1 = .ok (.iload_n 1, 1) := dk_27 (dk_at dksX13_init_0 1 rfl rfl)
theorem dX13_init_2 : decode cX13_init 2 = .ok (.invokespecial 3, 3) := dk_183 0 3 (dk_at dksX13_init_0 2 rfl rfl)
theorem dX13_init_5 : decode cX13_init 5 = .ok (.return_, 1) := dk_177 (dk_at dksX13_init_0 5 rfl rfl)
abbrev cX13_goal : ByteArray := prog_7_method_3_code
def yX13_goal : MethodName := ⟨RX13, "goal", "(III)I"⟩
theorem dX13_goal_0 : decode cX13_goal 0 = .ok (.iload_n 3, 1) := by decide +kernel
theorem dX13_goal_1 : decode cX13_goal 1 = .ok (.ireturn, 1) := by decide +kernel
abbrev cX13_pace : ByteArray := prog_7_method_5_code
def yX13_pace : MethodName := ⟨RX13, "pace", "(I)I"⟩
def dkwX13_pace_0 : List UInt8 := [42, 27, 183, 0, 19, 4, 96, 172]
abbrev dktX13_pace_0 : List UInt8 := dkwX13_pace_0 ++ []
theorem dksX13_pace_0 : cX13_pace.data.toList.drop 0 = dktX13_pace_0 := by decide +kernel
theorem dX13_pace_0 : decode cX13_pace 0 = .ok (.aload_n 0, 1) := dk_42 (dk_at dksX13_pace_0 0 rfl rfl)
theorem dX13_pace_1 : decode cX13_pace 1 = .ok (.iload_n 1, 1) := dk_27 (dk_at dksX13_pace_0 1 rfl rfl)
theorem dX13_pace_2 : decode cX13_pace 2 = .ok (.invokespecial 19, 3) := dk_183 0 19 (dk_at dksX13_pace_0 2 rfl rfl)
theorem dX13_pace_5 : decode cX13_pace 5 = .ok (.iconst 1, 1) := dk_4 (dk_at dksX13_pace_0 5 rfl rfl)
theorem dX13_pace_6 : decode cX13_pace 6 = .ok (.iadd, 1) := dk_96 (dk_at dksX13_pace_0 6 rfl rfl)
theorem dX13_pace_7 : decode cX13_pace 7 = .ok (.ireturn, 1) := dk_172 (dk_at dksX13_pace_0 7 rfl rfl)
abbrev cX13_pines : ByteArray := prog_7_method_4_code
def yX13_pines : MethodName := ⟨RX13, "pines", "(I)I"⟩
def dkwX13_pines_0 : List UInt8 := [42, 27, 183, 0, 9, 42, 180, 0, 13, 5, 108, 96, 172]
abbrev dktX13_pines_0 : List UInt8 := dkwX13_pines_0 ++ []
theorem dksX13_pines_0 : cX13_pines.data.toList.drop 0 = dktX13_pines_0 := by decide +kernel
theorem dX13_pines_0 : decode cX13_pines 0 = .ok (.aload_n 0, 1) := dk_42 (dk_at dksX13_pines_0 0 rfl rfl)
theorem dX13_pines_1 : decode cX13_pines 1 = .ok (.iload_n 1, 1) := dk_27 (dk_at dksX13_pines_0 1 rfl rfl)
theorem dX13_pines_2 : decode cX13_pines 2 = .ok (.invokespecial 9, 3) := dk_183 0 9 (dk_at dksX13_pines_0 2 rfl rfl)
theorem dX13_pines_5 : decode cX13_pines 5 = .ok (.aload_n 0, 1) := dk_42 (dk_at dksX13_pines_0 5 rfl rfl)
theorem dX13_pines_6 : decode cX13_pines 6 = .ok (.getfield 13, 3) := dk_180 0 13 (dk_at dksX13_pines_0 6 rfl rfl)
theorem dX13_pines_9 : decode cX13_pines 9 = .ok (.iconst 2, 1) := dk_5 (dk_at dksX13_pines_0 9 rfl rfl)
theorem dX13_pines_10 : decode cX13_pines 10 = .ok (.idiv, 1) := dk_108 (dk_at dksX13_pines_0 10 rfl rfl)
theorem dX13_pines_11 : decode cX13_pines 11 = .ok (.iadd, 1) := dk_96 (dk_at dksX13_pines_0 11 rfl rfl)
theorem dX13_pines_12 : decode cX13_pines 12 = .ok (.ireturn, 1) := dk_172 (dk_at dksX13_pines_0 12 rfl rfl)
abbrev cX13_kind : ByteArray := prog_7_method_2_code
def yX13_kind : MethodName := ⟨RX13, "kind", "()I"⟩
theorem dX13_kind_0 : decode cX13_kind 0 = .ok (.iconst 5, 1) := by decide +kernel
theorem dX13_kind_1 : decode cX13_kind 1 = .ok (.ireturn, 1) := by decide +kernel
abbrev cX13_cost : ByteArray := prog_7_method_6_code
def yX13_cost : MethodName := ⟨RX13, "cost", "()I"⟩
def dkwX13_cost_0 : List UInt8 := [42, 183, 0, 22, 4, 100, 172]
abbrev dktX13_cost_0 : List UInt8 := dkwX13_cost_0 ++ []
theorem dksX13_cost_0 : cX13_cost.data.toList.drop 0 = dktX13_cost_0 := by decide +kernel
theorem dX13_cost_0 : decode cX13_cost 0 = .ok (.aload_n 0, 1) := dk_42 (dk_at dksX13_cost_0 0 rfl rfl)
theorem dX13_cost_1 : decode cX13_cost 1 = .ok (.invokespecial 22, 3) := dk_183 0 22 (dk_at dksX13_cost_0 1 rfl rfl)
theorem dX13_cost_4 : decode cX13_cost 4 = .ok (.iconst 1, 1) := dk_4 (dk_at dksX13_cost_0 4 rfl rfl)
theorem dX13_cost_5 : decode cX13_cost 5 = .ok (.isub, 1) := dk_100 (dk_at dksX13_cost_0 5 rfl rfl)
theorem dX13_cost_6 : decode cX13_cost 6 = .ok (.ireturn, 1) := dk_172 (dk_at dksX13_cost_0 6 rfl rfl)
theorem q76 : (Jvm.Cond.initialized "HiredByLonging$Foal") ∈ lw_all := lw_g (lw_at lw_m1 19 rfl) rfl
theorem q318 : (Jvm.Cond.fieldLink "HiredByLonging$Foal" (13 : Nat) "HiredByLonging$Foal" "figure" "I") ∈ lw_all := lw_g (lw_at lw_m2 21 rfl) rfl
theorem q319 : (Jvm.Cond.sameField "HiredByLonging$Foal" "HiredByLonging$Horse" "figure" "I") ∈ lw_all := lw_g (lw_at lw_m2 22 rfl) rfl
theorem q361 : (Jvm.Cond.instantiable "HiredByLonging$Foal" (1 : Nat)) ∈ lw_all := lw_g (lw_at lw_m2 64 rfl) rfl
theorem q363 : (Jvm.Cond.instanceMethod ({ cls := "HiredByLonging$Foal", name := "<init>", desc := "(I)V" } : Jvm.MethodName)) ∈ lw_all := lw_g (lw_at lw_m2 66 rfl) rfl
theorem q364 : (Jvm.Cond.code ({ cls := "HiredByLonging$Foal", name := "<init>", desc := "(I)V" } : Jvm.MethodName) prog_7_method_1_code (2 : Nat) (Option.none : Option Jvm.ClassFile.FieldType)) ∈ lw_all := lw_g (lw_at lw_m2 67 rfl) rfl
theorem q365 : (Jvm.Cond.methodLink "HiredByLonging$Foal" (3 : Nat) ({ cls := "HiredByLonging$Horse", name := "<init>", desc := "(I)V" } : Jvm.MethodName)) ∈ lw_all := lw_g (lw_at lw_m2 68 rfl) rfl
theorem q366 : (Jvm.Cond.laysFinal "HiredByLonging$Foal" "HiredByLonging$Horse" "figure" "I") ∈ lw_all := lw_g (lw_at lw_m2 69 rfl) rfl
theorem q367 : (Jvm.Cond.superclass "HiredByLonging$Foal" "HiredByLonging$Horse") ∈ lw_all := lw_g (lw_at lw_m2 70 rfl) rfl
theorem q422 : (Jvm.Cond.selects "HiredByLonging$Foal" ({ cls := "HiredByLonging$Horse", name := "goal", desc := "(III)I" } : Jvm.MethodName) ({ cls := "HiredByLonging$Foal", name := "goal", desc := "(III)I" } : Jvm.MethodName)) ∈ lw_all := lw_g (lw_at lw_m2 125 rfl) rfl
theorem q423 : (Jvm.Cond.instanceMethod ({ cls := "HiredByLonging$Foal", name := "goal", desc := "(III)I" } : Jvm.MethodName)) ∈ lw_all := lw_g (lw_at lw_m2 126 rfl) rfl
theorem q424 : (Jvm.Cond.code ({ cls := "HiredByLonging$Foal", name := "goal", desc := "(III)I" } : Jvm.MethodName) prog_7_method_3_code (4 : Nat) (Option.some Jvm.ClassFile.FieldType.int)) ∈ lw_all := lw_g (lw_at lw_m2 127 rfl) rfl
theorem q453 : (Jvm.Cond.selects "HiredByLonging$Foal" ({ cls := "HiredByLonging$Horse", name := "pace", desc := "(I)I" } : Jvm.MethodName) ({ cls := "HiredByLonging$Foal", name := "pace", desc := "(I)I" } : Jvm.MethodName)) ∈ lw_all := lw_g (lw_at lw_m2 156 rfl) rfl
theorem q454 : (Jvm.Cond.instanceMethod ({ cls := "HiredByLonging$Foal", name := "pace", desc := "(I)I" } : Jvm.MethodName)) ∈ lw_all := lw_g (lw_at lw_m2 157 rfl) rfl
theorem q455 : (Jvm.Cond.code ({ cls := "HiredByLonging$Foal", name := "pace", desc := "(I)I" } : Jvm.MethodName) prog_7_method_5_code (2 : Nat) (Option.some Jvm.ClassFile.FieldType.int)) ∈ lw_all := lw_g (lw_at lw_m2 158 rfl) rfl
theorem q456 : (Jvm.Cond.methodLink "HiredByLonging$Foal" (19 : Nat) ({ cls := "HiredByLonging$Horse", name := "pace", desc := "(I)I" } : Jvm.MethodName)) ∈ lw_all := lw_g (lw_at lw_m2 159 rfl) rfl
theorem q480 : (Jvm.Cond.unhidden "HiredByLonging$Foal" "walk" "()I") ∈ lw_tbl := lw_at lw_m2 183 rfl
theorem q520 : (Jvm.Cond.selects "HiredByLonging$Foal" ({ cls := "HiredByLonging$Horse", name := "pines", desc := "(I)I" } : Jvm.MethodName) ({ cls := "HiredByLonging$Foal", name := "pines", desc := "(I)I" } : Jvm.MethodName)) ∈ lw_all := lw_g (lw_at lw_m2 223 rfl) rfl
theorem q521 : (Jvm.Cond.instanceMethod ({ cls := "HiredByLonging$Foal", name := "pines", desc := "(I)I" } : Jvm.MethodName)) ∈ lw_all := lw_g (lw_at lw_m2 224 rfl) rfl
theorem q522 : (Jvm.Cond.code ({ cls := "HiredByLonging$Foal", name := "pines", desc := "(I)I" } : Jvm.MethodName) prog_7_method_4_code (2 : Nat) (Option.some Jvm.ClassFile.FieldType.int)) ∈ lw_all := lw_g (lw_at lw_m2 225 rfl) rfl
theorem q523 : (Jvm.Cond.methodLink "HiredByLonging$Foal" (9 : Nat) ({ cls := "HiredByLonging$Horse", name := "pines", desc := "(I)I" } : Jvm.MethodName)) ∈ lw_all := lw_g (lw_at lw_m2 226 rfl) rfl
theorem q554 : (Jvm.Cond.selects "HiredByLonging$Foal" ({ cls := "HiredByLonging$Horse", name := "kind", desc := "()I" } : Jvm.MethodName) ({ cls := "HiredByLonging$Foal", name := "kind", desc := "()I" } : Jvm.MethodName)) ∈ lw_all := lw_g (lw_at lw_m3 17 rfl) rfl
theorem q555 : (Jvm.Cond.instanceMethod ({ cls := "HiredByLonging$Foal", name := "kind", desc := "()I" } : Jvm.MethodName)) ∈ lw_all := lw_g (lw_at lw_m3 18 rfl) rfl
theorem q556 : (Jvm.Cond.code ({ cls := "HiredByLonging$Foal", name := "kind", desc := "()I" } : Jvm.MethodName) prog_7_method_2_code (1 : Nat) (Option.some Jvm.ClassFile.FieldType.int)) ∈ lw_all := lw_g (lw_at lw_m3 19 rfl) rfl
theorem q706 : (Jvm.Cond.selects "HiredByLonging$Foal" ({ cls := "HiredByLonging$Horse", name := "cost", desc := "()I" } : Jvm.MethodName) ({ cls := "HiredByLonging$Foal", name := "cost", desc := "()I" } : Jvm.MethodName)) ∈ lw_all := lw_g (lw_at lw_m3 169 rfl) rfl
theorem q707 : (Jvm.Cond.instanceMethod ({ cls := "HiredByLonging$Foal", name := "cost", desc := "()I" } : Jvm.MethodName)) ∈ lw_all := lw_g (lw_at lw_m3 170 rfl) rfl
theorem q708 : (Jvm.Cond.code ({ cls := "HiredByLonging$Foal", name := "cost", desc := "()I" } : Jvm.MethodName) prog_7_method_6_code (1 : Nat) (Option.some Jvm.ClassFile.FieldType.int)) ∈ lw_all := lw_g (lw_at lw_m3 171 rfl) rfl
theorem q709 : (Jvm.Cond.methodLink "HiredByLonging$Foal" (22 : Nat) ({ cls := "HiredByLonging$Horse", name := "cost", desc := "()I" } : Jvm.MethodName)) ∈ lw_all := lw_g (lw_at lw_m3 172 rfl) rfl
theorem q1006 : (Jvm.Cond.selects "HiredByLonging$Foal" ({ cls := "HiredByLonging$Horse", name := "failure", desc := "()LHiredByLonging$Tossed;" } : Jvm.MethodName) ({ cls := "HiredByLonging$Horse", name := "failure", desc := "()LHiredByLonging$Tossed;" } : Jvm.MethodName)) ∈ lw_all := lw_g (lw_at lw_m4 229 rfl) rfl
theorem q1557 : (Jvm.Cond.castable "HiredByLonging$Foal" "HiredByLonging$Horse") ∈ lw_tbl := lw_at lw_m7 60 rfl
theorem in_X13 : ∀ w ∈ wsX130, w ∈ lw_all := lw_in wsX130 [366] (by decide +kernel) (by decide +kernel)
/-! HiredByLonging$Mare -/
set_option maxRecDepth 100000
def RX14 : String := "HiredByLonging$Mare"
def TX14 : u_T := fun k => match k with
  | _ => ("HiredByLonging$Horse", "figure", "I", true)
def tyX14 : Nat → FieldType := fun k => match k with
  | _ => .int
abbrev wsX140 : List Cond := u_ws RX14 TX14 1
theorem nmX14 : ∀ a, a < 1 → ∀ b, b < 1 → a ≠ b → (TX14 a).2.1 ≠ (TX14 b).2.1 := by decide +kernel
theorem tyX14_ok : ∀ k, k < 1 → parseFieldDescriptor (TX14 k).2.2.1 = some (tyX14 k) := by decide +kernel
abbrev cX14_init : ByteArray := prog_12_method_1_code
def yX14_init : MethodName := ⟨RX14, "<init>", "(I)V"⟩
def dkwX14_init_0 : List UInt8 := [42, 27, 183, 0, 3, 177]
abbrev dktX14_init_0 : List UInt8 := dkwX14_init_0 ++ []
theorem dksX14_init_0 : cX14_init.data.toList.drop 0 = dktX14_init_0 := by decide +kernel
theorem dX14_init_0 : decode cX14_init 0 = .ok (.aload_n 0, 1) := dk_42 (dk_at dksX14_init_0 0 rfl rfl)
theorem dX14_init_1 : decode cX14_init 1 = .ok (.iload_n 1, 1) := dk_27 (dk_at dksX14_init_0 1 rfl rfl)
theorem dX14_init_2 : decode cX14_init 2 = .ok (.invokespecial 3, 3) := dk_183 0 3 (dk_at dksX14_init_0 2 rfl rfl)
theorem dX14_init_5 : decode cX14_init 5 = .ok (.return_, 1) := dk_177 (dk_at dksX14_init_0 5 rfl rfl)
abbrev cX14_goal : ByteArray := prog_12_method_3_code
def yX14_goal : MethodName := ⟨RX14, "goal", "(III)I"⟩
def dkwX14_goal_1 : List UInt8 := [27, 100, 172]
abbrev dktX14_goal_1 : List UInt8 := dkwX14_goal_1 ++ []
def dkwX14_goal_0 : List UInt8 := [27, 28, 100, 184, 0, 9, 16, 20, 27, 100, 28, 100, 184, 0, 9, 161, 0, 7, 27, 167, 0, 7, 16, 20]
abbrev dktX14_goal_0 : List UInt8 := dkwX14_goal_0 ++ dktX14_goal_1
theorem dksX14_goal_0 : cX14_goal.data.toList.drop 0 = dktX14_goal_0 := by decide +kernel
theorem dksX14_goal_1 : cX14_goal.data.toList.drop 24 = dktX14_goal_1 := dk_seg dksX14_goal_0 24 rfl rfl
theorem dX14_goal_0 : decode cX14_goal 0 = .ok (.iload_n 1, 1) := dk_27 (dk_at dksX14_goal_0 0 rfl rfl)
theorem dX14_goal_1 : decode cX14_goal 1 = .ok (.iload_n 2, 1) := dk_28 (dk_at dksX14_goal_0 1 rfl rfl)
theorem dX14_goal_2 : decode cX14_goal 2 = .ok (.isub, 1) := dk_100 (dk_at dksX14_goal_0 2 rfl rfl)
theorem dX14_goal_3 : decode cX14_goal 3 = .ok (.invokestatic 9, 3) := dk_184 0 9 (dk_at dksX14_goal_0 3 rfl rfl)
theorem dX14_goal_6 : decode cX14_goal 6 = .ok (.bipush 20, 2) := dk_16 20 (dk_at dksX14_goal_0 6 rfl rfl)
theorem dX14_goal_8 : decode cX14_goal 8 = .ok (.iload_n 1, 1) := dk_27 (dk_at dksX14_goal_0 8 rfl rfl)
theorem dX14_goal_9 : decode cX14_goal 9 = .ok (.isub, 1) := dk_100 (dk_at dksX14_goal_0 9 rfl rfl)
theorem dX14_goal_10 : decode cX14_goal 10 = .ok (.iload_n 2, 1) := dk_28 (dk_at dksX14_goal_0 10 rfl rfl)
theorem dX14_goal_11 : decode cX14_goal 11 = .ok (.isub, 1) := dk_100 (dk_at dksX14_goal_0 11 rfl rfl)
theorem dX14_goal_12 : decode cX14_goal 12 = .ok (.invokestatic 9, 3) := dk_184 0 9 (dk_at dksX14_goal_0 12 rfl rfl)
theorem dX14_goal_15 : decode cX14_goal 15 = .ok (.if_icmp .lt 7, 3) := dk_161 0 7 (dk_at dksX14_goal_0 15 rfl rfl)
theorem dX14_goal_18 : decode cX14_goal 18 = .ok (.iload_n 1, 1) := dk_27 (dk_at dksX14_goal_0 18 rfl rfl)
theorem dX14_goal_19 : decode cX14_goal 19 = .ok (.goto 7, 3) := dk_167 0 7 (dk_at dksX14_goal_0 19 rfl rfl)
theorem dX14_goal_22 : decode cX14_goal 22 = .ok (.bipush 20, 2) := dk_16 20 (dk_at dksX14_goal_0 22 rfl rfl)
theorem dX14_goal_24 : decode cX14_goal 24 = .ok (.iload_n 1, 1) := dk_27 (dk_at dksX14_goal_1 0 rfl rfl)
theorem dX14_goal_25 : decode cX14_goal 25 = .ok (.isub, 1) := dk_100 (dk_at dksX14_goal_1 1 rfl rfl)
theorem dX14_goal_26 : decode cX14_goal 26 = .ok (.ireturn, 1) := dk_172 (dk_at dksX14_goal_1 2 rfl rfl)
abbrev cX14_pace : ByteArray := prog_12_method_5_code
def yX14_pace : MethodName := ⟨RX14, "pace", "(I)I"⟩
def dkwX14_pace_0 : List UInt8 := [42, 27, 183, 0, 18, 42, 180, 0, 21, 6, 108, 96, 172]
abbrev dktX14_pace_0 : List UInt8 := dkwX14_pace_0 ++ []
theorem dksX14_pace_0 : cX14_pace.data.toList.drop 0 = dktX14_pace_0 := by decide +kernel
theorem dX14_pace_0 : decode cX14_pace 0 = .ok (.aload_n 0, 1) := dk_42 (dk_at dksX14_pace_0 0 rfl rfl)
theorem dX14_pace_1 : decode cX14_pace 1 = .ok (.iload_n 1, 1) := dk_27 (dk_at dksX14_pace_0 1 rfl rfl)
theorem dX14_pace_2 : decode cX14_pace 2 = .ok (.invokespecial 18, 3) := dk_183 0 18 (dk_at dksX14_pace_0 2 rfl rfl)
theorem dX14_pace_5 : decode cX14_pace 5 = .ok (.aload_n 0, 1) := dk_42 (dk_at dksX14_pace_0 5 rfl rfl)
theorem dX14_pace_6 : decode cX14_pace 6 = .ok (.getfield 21, 3) := dk_180 0 21 (dk_at dksX14_pace_0 6 rfl rfl)
theorem dX14_pace_9 : decode cX14_pace 9 = .ok (.iconst 3, 1) := dk_6 (dk_at dksX14_pace_0 9 rfl rfl)
theorem dX14_pace_10 : decode cX14_pace 10 = .ok (.idiv, 1) := dk_108 (dk_at dksX14_pace_0 10 rfl rfl)
theorem dX14_pace_11 : decode cX14_pace 11 = .ok (.iadd, 1) := dk_96 (dk_at dksX14_pace_0 11 rfl rfl)
theorem dX14_pace_12 : decode cX14_pace 12 = .ok (.ireturn, 1) := dk_172 (dk_at dksX14_pace_0 12 rfl rfl)
abbrev cX14_walk : ByteArray := prog_12_method_6_code
def yX14_walk : MethodName := ⟨RX14, "walk", "()I"⟩
def dkwX14_walk_0 : List UInt8 := [42, 183, 0, 27, 4, 96, 172]
abbrev dktX14_walk_0 : List UInt8 := dkwX14_walk_0 ++ []
theorem dksX14_walk_0 : cX14_walk.data.toList.drop 0 = dktX14_walk_0 := by decide +kernel
theorem dX14_walk_0 : decode cX14_walk 0 = .ok (.aload_n 0, 1) := dk_42 (dk_at dksX14_walk_0 0 rfl rfl)
theorem dX14_walk_1 : decode cX14_walk 1 = .ok (.invokespecial 27, 3) := dk_183 0 27 (dk_at dksX14_walk_0 1 rfl rfl)
theorem dX14_walk_4 : decode cX14_walk 4 = .ok (.iconst 1, 1) := dk_4 (dk_at dksX14_walk_0 4 rfl rfl)
theorem dX14_walk_5 : decode cX14_walk 5 = .ok (.iadd, 1) := dk_96 (dk_at dksX14_walk_0 5 rfl rfl)
theorem dX14_walk_6 : decode cX14_walk 6 = .ok (.ireturn, 1) := dk_172 (dk_at dksX14_walk_0 6 rfl rfl)
abbrev cX14_pines : ByteArray := prog_12_method_4_code
def yX14_pines : MethodName := ⟨RX14, "pines", "(I)I"⟩
def dkwX14_pines_0 : List UInt8 := [42, 27, 183, 0, 15, 4, 96, 172]
abbrev dktX14_pines_0 : List UInt8 := dkwX14_pines_0 ++ []
theorem dksX14_pines_0 : cX14_pines.data.toList.drop 0 = dktX14_pines_0 := by decide +kernel
theorem dX14_pines_0 : decode cX14_pines 0 = .ok (.aload_n 0, 1) := dk_42 (dk_at dksX14_pines_0 0 rfl rfl)
theorem dX14_pines_1 : decode cX14_pines 1 = .ok (.iload_n 1, 1) := dk_27 (dk_at dksX14_pines_0 1 rfl rfl)
theorem dX14_pines_2 : decode cX14_pines 2 = .ok (.invokespecial 15, 3) := dk_183 0 15 (dk_at dksX14_pines_0 2 rfl rfl)
theorem dX14_pines_5 : decode cX14_pines 5 = .ok (.iconst 1, 1) := dk_4 (dk_at dksX14_pines_0 5 rfl rfl)
theorem dX14_pines_6 : decode cX14_pines 6 = .ok (.iadd, 1) := dk_96 (dk_at dksX14_pines_0 6 rfl rfl)
theorem dX14_pines_7 : decode cX14_pines 7 = .ok (.ireturn, 1) := dk_172 (dk_at dksX14_pines_0 7 rfl rfl)
abbrev cX14_kind : ByteArray := prog_12_method_2_code
def yX14_kind : MethodName := ⟨RX14, "kind", "()I"⟩
theorem dX14_kind_0 : decode cX14_kind 0 = .ok (.bipush 6, 2) := by decide +kernel
theorem dX14_kind_2 : decode cX14_kind 2 = .ok (.ireturn, 1) := by decide +kernel
abbrev cX14_cost : ByteArray := prog_12_method_7_code
def yX14_cost : MethodName := ⟨RX14, "cost", "()I"⟩
def dkwX14_cost_0 : List UInt8 := [42, 183, 0, 31, 42, 180, 0, 21, 96, 172]
abbrev dktX14_cost_0 : List UInt8 := dkwX14_cost_0 ++ []
theorem dksX14_cost_0 : cX14_cost.data.toList.drop 0 = dktX14_cost_0 := by decide +kernel
theorem dX14_cost_0 : decode cX14_cost 0 = .ok (.aload_n 0, 1) := dk_42 (dk_at dksX14_cost_0 0 rfl rfl)
theorem dX14_cost_1 : decode cX14_cost 1 = .ok (.invokespecial 31, 3) := dk_183 0 31 (dk_at dksX14_cost_0 1 rfl rfl)
theorem dX14_cost_4 : decode cX14_cost 4 = .ok (.aload_n 0, 1) := dk_42 (dk_at dksX14_cost_0 4 rfl rfl)
theorem dX14_cost_5 : decode cX14_cost 5 = .ok (.getfield 21, 3) := dk_180 0 21 (dk_at dksX14_cost_0 5 rfl rfl)
theorem dX14_cost_8 : decode cX14_cost 8 = .ok (.iadd, 1) := dk_96 (dk_at dksX14_cost_0 8 rfl rfl)
theorem dX14_cost_9 : decode cX14_cost 9 = .ok (.ireturn, 1) := dk_172 (dk_at dksX14_cost_0 9 rfl rfl)
abbrev cX14_failure : ByteArray := prog_12_method_8_code
def yX14_failure : MethodName := ⟨RX14, "failure", "()LHiredByLonging$Tossed;"⟩
def dkwX14_failure_1 : List UInt8 := [183, 0, 41, 176]
abbrev dktX14_failure_1 : List UInt8 := dkwX14_failure_1 ++ []
def dkwX14_failure_0 : List UInt8 := [42, 183, 0, 34, 199, 0, 7, 1, 167, 0, 18, 187, 0, 38, 89, 17, 0, 200, 42, 182, 0, 40, 96]
abbrev dktX14_failure_0 : List UInt8 := dkwX14_failure_0 ++ dktX14_failure_1
theorem dksX14_failure_0 : cX14_failure.data.toList.drop 0 = dktX14_failure_0 := by decide +kernel
theorem dksX14_failure_1 : cX14_failure.data.toList.drop 23 = dktX14_failure_1 := dk_seg dksX14_failure_0 23 rfl rfl
theorem dX14_failure_0 : decode cX14_failure 0 = .ok (.aload_n 0, 1) := dk_42 (dk_at dksX14_failure_0 0 rfl rfl)
theorem dX14_failure_1 : decode cX14_failure 1 = .ok (.invokespecial 34, 3) := dk_183 0 34 (dk_at dksX14_failure_0 1 rfl rfl)
theorem dX14_failure_4 : decode cX14_failure 4 = .ok (.ifnonnull 7, 3) := dk_199 0 7 (dk_at dksX14_failure_0 4 rfl rfl)
theorem dX14_failure_7 : decode cX14_failure 7 = .ok (.aconst_null, 1) := dk_1 (dk_at dksX14_failure_0 7 rfl rfl)
theorem dX14_failure_8 : decode cX14_failure 8 = .ok (.goto 18, 3) := dk_167 0 18 (dk_at dksX14_failure_0 8 rfl rfl)
theorem dX14_failure_11 : decode cX14_failure 11 = .ok (.new 38, 3) := dk_187 0 38 (dk_at dksX14_failure_0 11 rfl rfl)
theorem dX14_failure_14 : decode cX14_failure 14 = .ok (.dup, 1) := dk_89 (dk_at dksX14_failure_0 14 rfl rfl)
theorem dX14_failure_15 : decode cX14_failure 15 = .ok (.sipush 200, 3) := dk_17 0 200 (dk_at dksX14_failure_0 15 rfl rfl)
theorem dX14_failure_18 : decode cX14_failure 18 = .ok (.aload_n 0, 1) := dk_42 (dk_at dksX14_failure_0 18 rfl rfl)
theorem dX14_failure_19 : decode cX14_failure 19 = .ok (.invokevirtual 40, 3) := dk_182 0 40 (dk_at dksX14_failure_0 19 rfl rfl)
theorem dX14_failure_22 : decode cX14_failure 22 = .ok (.iadd, 1) := dk_96 (dk_at dksX14_failure_0 22 rfl rfl)
theorem dX14_failure_23 : decode cX14_failure 23 = .ok (.invokespecial 41, 3) := dk_183 0 41 (dk_at dksX14_failure_1 0 rfl rfl)
theorem dX14_failure_26 : decode cX14_failure 26 = .ok (.areturn, 1) := dk_176 (dk_at dksX14_failure_1 3 rfl rfl)
theorem q77 : (Jvm.Cond.initialized "HiredByLonging$Mare") ∈ lw_all := lw_g (lw_at lw_m1 20 rfl) rfl
theorem q320 : (Jvm.Cond.fieldLink "HiredByLonging$Mare" (21 : Nat) "HiredByLonging$Mare" "figure" "I") ∈ lw_all := lw_g (lw_at lw_m2 23 rfl) rfl
theorem q321 : (Jvm.Cond.sameField "HiredByLonging$Mare" "HiredByLonging$Horse" "figure" "I") ∈ lw_all := lw_g (lw_at lw_m2 24 rfl) rfl
theorem q369 : (Jvm.Cond.instantiable "HiredByLonging$Mare" (1 : Nat)) ∈ lw_all := lw_g (lw_at lw_m2 72 rfl) rfl
theorem q371 : (Jvm.Cond.instanceMethod ({ cls := "HiredByLonging$Mare", name := "<init>", desc := "(I)V" } : Jvm.MethodName)) ∈ lw_all := lw_g (lw_at lw_m2 74 rfl) rfl
theorem q372 : (Jvm.Cond.code ({ cls := "HiredByLonging$Mare", name := "<init>", desc := "(I)V" } : Jvm.MethodName) prog_12_method_1_code (2 : Nat) (Option.none : Option Jvm.ClassFile.FieldType)) ∈ lw_all := lw_g (lw_at lw_m2 75 rfl) rfl
theorem q373 : (Jvm.Cond.methodLink "HiredByLonging$Mare" (3 : Nat) ({ cls := "HiredByLonging$Two", name := "<init>", desc := "(I)V" } : Jvm.MethodName)) ∈ lw_all := lw_g (lw_at lw_m2 76 rfl) rfl
theorem q374 : (Jvm.Cond.laysFinal "HiredByLonging$Mare" "HiredByLonging$Horse" "figure" "I") ∈ lw_all := lw_g (lw_at lw_m2 77 rfl) rfl
theorem q375 : (Jvm.Cond.superclass "HiredByLonging$Mare" "HiredByLonging$Two") ∈ lw_all := lw_g (lw_at lw_m2 78 rfl) rfl
theorem q426 : (Jvm.Cond.selects "HiredByLonging$Mare" ({ cls := "HiredByLonging$Horse", name := "goal", desc := "(III)I" } : Jvm.MethodName) ({ cls := "HiredByLonging$Mare", name := "goal", desc := "(III)I" } : Jvm.MethodName)) ∈ lw_all := lw_g (lw_at lw_m2 129 rfl) rfl
theorem q427 : (Jvm.Cond.instanceMethod ({ cls := "HiredByLonging$Mare", name := "goal", desc := "(III)I" } : Jvm.MethodName)) ∈ lw_all := lw_g (lw_at lw_m2 130 rfl) rfl
theorem q428 : (Jvm.Cond.code ({ cls := "HiredByLonging$Mare", name := "goal", desc := "(III)I" } : Jvm.MethodName) prog_12_method_3_code (4 : Nat) (Option.some Jvm.ClassFile.FieldType.int)) ∈ lw_all := lw_g (lw_at lw_m2 131 rfl) rfl
theorem q429 : (Jvm.Cond.methodLink "HiredByLonging$Mare" (9 : Nat) ({ cls := "java/lang/Math", name := "abs", desc := "(I)I" } : Jvm.MethodName)) ∈ lw_all := lw_g (lw_at lw_m2 132 rfl) rfl
theorem q462 : (Jvm.Cond.selects "HiredByLonging$Mare" ({ cls := "HiredByLonging$Horse", name := "pace", desc := "(I)I" } : Jvm.MethodName) ({ cls := "HiredByLonging$Mare", name := "pace", desc := "(I)I" } : Jvm.MethodName)) ∈ lw_all := lw_g (lw_at lw_m2 165 rfl) rfl
theorem q463 : (Jvm.Cond.instanceMethod ({ cls := "HiredByLonging$Mare", name := "pace", desc := "(I)I" } : Jvm.MethodName)) ∈ lw_all := lw_g (lw_at lw_m2 166 rfl) rfl
theorem q464 : (Jvm.Cond.code ({ cls := "HiredByLonging$Mare", name := "pace", desc := "(I)I" } : Jvm.MethodName) prog_12_method_5_code (2 : Nat) (Option.some Jvm.ClassFile.FieldType.int)) ∈ lw_all := lw_g (lw_at lw_m2 167 rfl) rfl
theorem q465 : (Jvm.Cond.methodLink "HiredByLonging$Mare" (18 : Nat) ({ cls := "HiredByLonging$Two", name := "pace", desc := "(I)I" } : Jvm.MethodName)) ∈ lw_all := lw_g (lw_at lw_m2 168 rfl) rfl
theorem q486 : (Jvm.Cond.selects "HiredByLonging$Mare" ({ cls := "HiredByLonging$Runs", name := "walk", desc := "()I" } : Jvm.MethodName) ({ cls := "HiredByLonging$Mare", name := "walk", desc := "()I" } : Jvm.MethodName)) ∈ lw_all := lw_g (lw_at lw_m2 189 rfl) rfl
theorem q487 : (Jvm.Cond.instanceMethod ({ cls := "HiredByLonging$Mare", name := "walk", desc := "()I" } : Jvm.MethodName)) ∈ lw_all := lw_g (lw_at lw_m2 190 rfl) rfl
theorem q488 : (Jvm.Cond.code ({ cls := "HiredByLonging$Mare", name := "walk", desc := "()I" } : Jvm.MethodName) prog_12_method_6_code (1 : Nat) (Option.some Jvm.ClassFile.FieldType.int)) ∈ lw_all := lw_g (lw_at lw_m2 191 rfl) rfl
theorem q525 : (Jvm.Cond.selects "HiredByLonging$Mare" ({ cls := "HiredByLonging$Horse", name := "pines", desc := "(I)I" } : Jvm.MethodName) ({ cls := "HiredByLonging$Mare", name := "pines", desc := "(I)I" } : Jvm.MethodName)) ∈ lw_all := lw_g (lw_at lw_m2 228 rfl) rfl
theorem q526 : (Jvm.Cond.instanceMethod ({ cls := "HiredByLonging$Mare", name := "pines", desc := "(I)I" } : Jvm.MethodName)) ∈ lw_all := lw_g (lw_at lw_m2 229 rfl) rfl
theorem q527 : (Jvm.Cond.code ({ cls := "HiredByLonging$Mare", name := "pines", desc := "(I)I" } : Jvm.MethodName) prog_12_method_4_code (2 : Nat) (Option.some Jvm.ClassFile.FieldType.int)) ∈ lw_all := lw_g (lw_at lw_m2 230 rfl) rfl
theorem q528 : (Jvm.Cond.methodLink "HiredByLonging$Mare" (15 : Nat) ({ cls := "HiredByLonging$Two", name := "pines", desc := "(I)I" } : Jvm.MethodName)) ∈ lw_all := lw_g (lw_at lw_m2 231 rfl) rfl
theorem q560 : (Jvm.Cond.selects "HiredByLonging$Mare" ({ cls := "HiredByLonging$Horse", name := "kind", desc := "()I" } : Jvm.MethodName) ({ cls := "HiredByLonging$Mare", name := "kind", desc := "()I" } : Jvm.MethodName)) ∈ lw_all := lw_g (lw_at lw_m3 23 rfl) rfl
theorem q561 : (Jvm.Cond.instanceMethod ({ cls := "HiredByLonging$Mare", name := "kind", desc := "()I" } : Jvm.MethodName)) ∈ lw_all := lw_g (lw_at lw_m3 24 rfl) rfl
theorem q562 : (Jvm.Cond.code ({ cls := "HiredByLonging$Mare", name := "kind", desc := "()I" } : Jvm.MethodName) prog_12_method_2_code (1 : Nat) (Option.some Jvm.ClassFile.FieldType.int)) ∈ lw_all := lw_g (lw_at lw_m3 25 rfl) rfl
theorem q714 : (Jvm.Cond.selects "HiredByLonging$Mare" ({ cls := "HiredByLonging$Horse", name := "cost", desc := "()I" } : Jvm.MethodName) ({ cls := "HiredByLonging$Mare", name := "cost", desc := "()I" } : Jvm.MethodName)) ∈ lw_all := lw_g (lw_at lw_m3 177 rfl) rfl
theorem q715 : (Jvm.Cond.instanceMethod ({ cls := "HiredByLonging$Mare", name := "cost", desc := "()I" } : Jvm.MethodName)) ∈ lw_all := lw_g (lw_at lw_m3 178 rfl) rfl
theorem q716 : (Jvm.Cond.code ({ cls := "HiredByLonging$Mare", name := "cost", desc := "()I" } : Jvm.MethodName) prog_12_method_7_code (1 : Nat) (Option.some Jvm.ClassFile.FieldType.int)) ∈ lw_all := lw_g (lw_at lw_m3 179 rfl) rfl
theorem q717 : (Jvm.Cond.methodLink "HiredByLonging$Mare" (31 : Nat) ({ cls := "HiredByLonging$Two", name := "cost", desc := "()I" } : Jvm.MethodName)) ∈ lw_all := lw_g (lw_at lw_m3 180 rfl) rfl
theorem q1008 : (Jvm.Cond.selects "HiredByLonging$Mare" ({ cls := "HiredByLonging$Horse", name := "failure", desc := "()LHiredByLonging$Tossed;" } : Jvm.MethodName) ({ cls := "HiredByLonging$Mare", name := "failure", desc := "()LHiredByLonging$Tossed;" } : Jvm.MethodName)) ∈ lw_all := lw_g (lw_at lw_m4 231 rfl) rfl
theorem q1009 : (Jvm.Cond.instanceMethod ({ cls := "HiredByLonging$Mare", name := "failure", desc := "()LHiredByLonging$Tossed;" } : Jvm.MethodName)) ∈ lw_all := lw_g (lw_at lw_m4 232 rfl) rfl
theorem q1010 : (Jvm.Cond.code ({ cls := "HiredByLonging$Mare", name := "failure", desc := "()LHiredByLonging$Tossed;" } : Jvm.MethodName) prog_12_method_8_code (1 : Nat) (Option.some (Jvm.ClassFile.FieldType.object "HiredByLonging$Tossed"))) ∈ lw_all := lw_g (lw_at lw_m4 233 rfl) rfl
theorem q1011 : (Jvm.Cond.methodLink "HiredByLonging$Mare" (34 : Nat) ({ cls := "HiredByLonging$Two", name := "failure", desc := "()LHiredByLonging$Tossed;" } : Jvm.MethodName)) ∈ lw_all := lw_g (lw_at lw_m4 234 rfl) rfl
theorem q1038 : (Jvm.Cond.classLink "HiredByLonging$Mare" (38 : Nat) "HiredByLonging$Tossed") ∈ lw_all := lw_g (lw_at lw_m5 21 rfl) rfl
theorem q1039 : (Jvm.Cond.methodLink "HiredByLonging$Mare" (40 : Nat) ({ cls := "HiredByLonging$Mare", name := "cost", desc := "()I" } : Jvm.MethodName)) ∈ lw_all := lw_g (lw_at lw_m5 22 rfl) rfl
theorem q1040 : (Jvm.Cond.methodLink "HiredByLonging$Mare" (41 : Nat) ({ cls := "HiredByLonging$Tossed", name := "<init>", desc := "(I)V" } : Jvm.MethodName)) ∈ lw_all := lw_g (lw_at lw_m5 23 rfl) rfl
theorem q1551 : (Jvm.Cond.selects "HiredByLonging$Mare" ({ cls := "HiredByLonging$Mare", name := "cost", desc := "()I" } : Jvm.MethodName) ({ cls := "HiredByLonging$Mare", name := "cost", desc := "()I" } : Jvm.MethodName)) ∈ lw_all := lw_g (lw_at lw_m7 54 rfl) rfl
theorem q1559 : (Jvm.Cond.castable "HiredByLonging$Mare" "HiredByLonging$Horse") ∈ lw_tbl := lw_at lw_m7 62 rfl
theorem in_X14 : ∀ w ∈ wsX140, w ∈ lw_all := lw_in wsX140 [374] (by decide +kernel) (by decide +kernel)
/-! HiredByLonging$Gelding -/
set_option maxRecDepth 100000
def RX15 : String := "HiredByLonging$Gelding"
def TX15 : u_T := fun k => match k with
  | _ => ("HiredByLonging$Horse", "figure", "I", true)
def tyX15 : Nat → FieldType := fun k => match k with
  | _ => .int
abbrev wsX150 : List Cond := u_ws RX15 TX15 1
theorem nmX15 : ∀ a, a < 1 → ∀ b, b < 1 → a ≠ b → (TX15 a).2.1 ≠ (TX15 b).2.1 := by decide +kernel
theorem tyX15_ok : ∀ k, k < 1 → parseFieldDescriptor (TX15 k).2.2.1 = some (tyX15 k) := by decide +kernel
abbrev cX15_init : ByteArray := prog_8_method_1_code
def yX15_init : MethodName := ⟨RX15, "<init>", "(I)V"⟩
def dkwX15_init_0 : List UInt8 := [42, 27, 183, 0, 1, 177]
abbrev dktX15_init_0 : List UInt8 := dkwX15_init_0 ++ []
theorem dksX15_init_0 : cX15_init.data.toList.drop 0 = dktX15_init_0 := by decide +kernel
theorem dX15_init_0 : decode cX15_init 0 = .ok (.aload_n 0, 1) := dk_42 (dk_at dksX15_init_0 0 rfl rfl)
theorem dX15_init_1 : decode cX15_init 1 = .ok (.iload_n 1, 1) := dk_27 (dk_at dksX15_init_0 1 rfl rfl)
theorem dX15_init_2 : decode cX15_init 2 = .ok (.invokespecial 1, 3) := dk_183 0 1 (dk_at dksX15_init_0 2 rfl rfl)
theorem dX15_init_5 : decode cX15_init 5 = .ok (.return_, 1) := dk_177 (dk_at dksX15_init_0 5 rfl rfl)
abbrev cX15_pace : ByteArray := prog_8_method_3_code
def yX15_pace : MethodName := ⟨RX15, "pace", "(I)I"⟩
def dkwX15_pace_0 : List UInt8 := [42, 27, 183, 0, 7, 4, 96, 172]
abbrev dktX15_pace_0 : List UInt8 := dkwX15_pace_0 ++ []
theorem dksX15_pace_0 : cX15_pace.data.toList.drop 0 = dktX15_pace_0 := by decide +kernel
theorem dX15_pace_0 : decode cX15_pace 0 = .ok (.aload_n 0, 1) := dk_42 (dk_at dksX15_pace_0 0 rfl rfl)
theorem dX15_pace_1 : decode cX15_pace 1 = .ok (.iload_n 1, 1) := dk_27 (dk_at dksX15_pace_0 1 rfl rfl)
theorem dX15_pace_2 : decode cX15_pace 2 = .ok (.invokespecial 7, 3) := dk_183 0 7 (dk_at dksX15_pace_0 2 rfl rfl)
theorem dX15_pace_5 : decode cX15_pace 5 = .ok (.iconst 1, 1) := dk_4 (dk_at dksX15_pace_0 5 rfl rfl)
theorem dX15_pace_6 : decode cX15_pace 6 = .ok (.iadd, 1) := dk_96 (dk_at dksX15_pace_0 6 rfl rfl)
theorem dX15_pace_7 : decode cX15_pace 7 = .ok (.ireturn, 1) := dk_172 (dk_at dksX15_pace_0 7 rfl rfl)
abbrev cX15_walk : ByteArray := prog_8_method_4_code
def yX15_walk : MethodName := ⟨RX15, "walk", "()I"⟩
def dkwX15_walk_0 : List UInt8 := [42, 183, 0, 11, 4, 96, 172]
abbrev dktX15_walk_0 : List UInt8 := dkwX15_walk_0 ++ []
theorem dksX15_walk_0 : cX15_walk.data.toList.drop 0 = dktX15_walk_0 := by decide +kernel
theorem dX15_walk_0 : decode cX15_walk 0 = .ok (.aload_n 0, 1) := dk_42 (dk_at dksX15_walk_0 0 rfl rfl)
theorem dX15_walk_1 : decode cX15_walk 1 = .ok (.invokespecial 11, 3) := dk_183 0 11 (dk_at dksX15_walk_0 1 rfl rfl)
theorem dX15_walk_4 : decode cX15_walk 4 = .ok (.iconst 1, 1) := dk_4 (dk_at dksX15_walk_0 4 rfl rfl)
theorem dX15_walk_5 : decode cX15_walk 5 = .ok (.iadd, 1) := dk_96 (dk_at dksX15_walk_0 5 rfl rfl)
theorem dX15_walk_6 : decode cX15_walk 6 = .ok (.ireturn, 1) := dk_172 (dk_at dksX15_walk_0 6 rfl rfl)
abbrev cX15_kind : ByteArray := prog_8_method_2_code
def yX15_kind : MethodName := ⟨RX15, "kind", "()I"⟩
theorem dX15_kind_0 : decode cX15_kind 0 = .ok (.bipush 7, 2) := by decide +kernel
theorem dX15_kind_2 : decode cX15_kind 2 = .ok (.ireturn, 1) := by decide +kernel
abbrev cX15_cost : ByteArray := prog_8_method_5_code
def yX15_cost : MethodName := ⟨RX15, "cost", "()I"⟩
def dkwX15_cost_0 : List UInt8 := [42, 183, 0, 15, 6, 96, 172]
abbrev dktX15_cost_0 : List UInt8 := dkwX15_cost_0 ++ []
theorem dksX15_cost_0 : cX15_cost.data.toList.drop 0 = dktX15_cost_0 := by decide +kernel
theorem dX15_cost_0 : decode cX15_cost 0 = .ok (.aload_n 0, 1) := dk_42 (dk_at dksX15_cost_0 0 rfl rfl)
theorem dX15_cost_1 : decode cX15_cost 1 = .ok (.invokespecial 15, 3) := dk_183 0 15 (dk_at dksX15_cost_0 1 rfl rfl)
theorem dX15_cost_4 : decode cX15_cost 4 = .ok (.iconst 3, 1) := dk_6 (dk_at dksX15_cost_0 4 rfl rfl)
theorem dX15_cost_5 : decode cX15_cost 5 = .ok (.iadd, 1) := dk_96 (dk_at dksX15_cost_0 5 rfl rfl)
theorem dX15_cost_6 : decode cX15_cost 6 = .ok (.ireturn, 1) := dk_172 (dk_at dksX15_cost_0 6 rfl rfl)
theorem q78 : (Jvm.Cond.initialized "HiredByLonging$Gelding") ∈ lw_all := lw_g (lw_at lw_m1 21 rfl) rfl
theorem q377 : (Jvm.Cond.instantiable "HiredByLonging$Gelding" (1 : Nat)) ∈ lw_all := lw_g (lw_at lw_m2 80 rfl) rfl
theorem q379 : (Jvm.Cond.instanceMethod ({ cls := "HiredByLonging$Gelding", name := "<init>", desc := "(I)V" } : Jvm.MethodName)) ∈ lw_all := lw_g (lw_at lw_m2 82 rfl) rfl
theorem q380 : (Jvm.Cond.code ({ cls := "HiredByLonging$Gelding", name := "<init>", desc := "(I)V" } : Jvm.MethodName) prog_8_method_1_code (2 : Nat) (Option.none : Option Jvm.ClassFile.FieldType)) ∈ lw_all := lw_g (lw_at lw_m2 83 rfl) rfl
theorem q381 : (Jvm.Cond.methodLink "HiredByLonging$Gelding" (1 : Nat) ({ cls := "HiredByLonging$Content", name := "<init>", desc := "(I)V" } : Jvm.MethodName)) ∈ lw_all := lw_g (lw_at lw_m2 84 rfl) rfl
theorem q382 : (Jvm.Cond.laysFinal "HiredByLonging$Gelding" "HiredByLonging$Horse" "figure" "I") ∈ lw_all := lw_g (lw_at lw_m2 85 rfl) rfl
theorem q383 : (Jvm.Cond.superclass "HiredByLonging$Gelding" "HiredByLonging$Content") ∈ lw_all := lw_g (lw_at lw_m2 86 rfl) rfl
theorem q425 : (Jvm.Cond.selects "HiredByLonging$Gelding" ({ cls := "HiredByLonging$Horse", name := "goal", desc := "(III)I" } : Jvm.MethodName) ({ cls := "HiredByLonging$Content", name := "goal", desc := "(III)I" } : Jvm.MethodName)) ∈ lw_all := lw_g (lw_at lw_m2 128 rfl) rfl
theorem q458 : (Jvm.Cond.selects "HiredByLonging$Gelding" ({ cls := "HiredByLonging$Horse", name := "pace", desc := "(I)I" } : Jvm.MethodName) ({ cls := "HiredByLonging$Gelding", name := "pace", desc := "(I)I" } : Jvm.MethodName)) ∈ lw_all := lw_g (lw_at lw_m2 161 rfl) rfl
theorem q459 : (Jvm.Cond.instanceMethod ({ cls := "HiredByLonging$Gelding", name := "pace", desc := "(I)I" } : Jvm.MethodName)) ∈ lw_all := lw_g (lw_at lw_m2 162 rfl) rfl
theorem q460 : (Jvm.Cond.code ({ cls := "HiredByLonging$Gelding", name := "pace", desc := "(I)I" } : Jvm.MethodName) prog_8_method_3_code (2 : Nat) (Option.some Jvm.ClassFile.FieldType.int)) ∈ lw_all := lw_g (lw_at lw_m2 163 rfl) rfl
theorem q461 : (Jvm.Cond.methodLink "HiredByLonging$Gelding" (7 : Nat) ({ cls := "HiredByLonging$Content", name := "pace", desc := "(I)I" } : Jvm.MethodName)) ∈ lw_all := lw_g (lw_at lw_m2 164 rfl) rfl
theorem q481 : (Jvm.Cond.selects "HiredByLonging$Gelding" ({ cls := "HiredByLonging$Runs", name := "walk", desc := "()I" } : Jvm.MethodName) ({ cls := "HiredByLonging$Gelding", name := "walk", desc := "()I" } : Jvm.MethodName)) ∈ lw_all := lw_g (lw_at lw_m2 184 rfl) rfl
theorem q482 : (Jvm.Cond.instanceMethod ({ cls := "HiredByLonging$Gelding", name := "walk", desc := "()I" } : Jvm.MethodName)) ∈ lw_all := lw_g (lw_at lw_m2 185 rfl) rfl
theorem q483 : (Jvm.Cond.code ({ cls := "HiredByLonging$Gelding", name := "walk", desc := "()I" } : Jvm.MethodName) prog_8_method_4_code (1 : Nat) (Option.some Jvm.ClassFile.FieldType.int)) ∈ lw_all := lw_g (lw_at lw_m2 186 rfl) rfl
theorem q484 : (Jvm.Cond.methodLink "HiredByLonging$Gelding" (11 : Nat) ({ cls := "HiredByLonging$Content", name := "walk", desc := "()I" } : Jvm.MethodName)) ∈ lw_all := lw_g (lw_at lw_m2 187 rfl) rfl
theorem q524 : (Jvm.Cond.selects "HiredByLonging$Gelding" ({ cls := "HiredByLonging$Horse", name := "pines", desc := "(I)I" } : Jvm.MethodName) ({ cls := "HiredByLonging$Content", name := "pines", desc := "(I)I" } : Jvm.MethodName)) ∈ lw_all := lw_g (lw_at lw_m2 227 rfl) rfl
theorem q557 : (Jvm.Cond.selects "HiredByLonging$Gelding" ({ cls := "HiredByLonging$Horse", name := "kind", desc := "()I" } : Jvm.MethodName) ({ cls := "HiredByLonging$Gelding", name := "kind", desc := "()I" } : Jvm.MethodName)) ∈ lw_all := lw_g (lw_at lw_m3 20 rfl) rfl
theorem q558 : (Jvm.Cond.instanceMethod ({ cls := "HiredByLonging$Gelding", name := "kind", desc := "()I" } : Jvm.MethodName)) ∈ lw_all := lw_g (lw_at lw_m3 21 rfl) rfl
theorem q559 : (Jvm.Cond.code ({ cls := "HiredByLonging$Gelding", name := "kind", desc := "()I" } : Jvm.MethodName) prog_8_method_2_code (1 : Nat) (Option.some Jvm.ClassFile.FieldType.int)) ∈ lw_all := lw_g (lw_at lw_m3 22 rfl) rfl
theorem q710 : (Jvm.Cond.selects "HiredByLonging$Gelding" ({ cls := "HiredByLonging$Horse", name := "cost", desc := "()I" } : Jvm.MethodName) ({ cls := "HiredByLonging$Gelding", name := "cost", desc := "()I" } : Jvm.MethodName)) ∈ lw_all := lw_g (lw_at lw_m3 173 rfl) rfl
theorem q711 : (Jvm.Cond.instanceMethod ({ cls := "HiredByLonging$Gelding", name := "cost", desc := "()I" } : Jvm.MethodName)) ∈ lw_all := lw_g (lw_at lw_m3 174 rfl) rfl
theorem q712 : (Jvm.Cond.code ({ cls := "HiredByLonging$Gelding", name := "cost", desc := "()I" } : Jvm.MethodName) prog_8_method_5_code (1 : Nat) (Option.some Jvm.ClassFile.FieldType.int)) ∈ lw_all := lw_g (lw_at lw_m3 175 rfl) rfl
theorem q713 : (Jvm.Cond.methodLink "HiredByLonging$Gelding" (15 : Nat) ({ cls := "HiredByLonging$Content", name := "cost", desc := "()I" } : Jvm.MethodName)) ∈ lw_all := lw_g (lw_at lw_m3 176 rfl) rfl
theorem q1007 : (Jvm.Cond.selects "HiredByLonging$Gelding" ({ cls := "HiredByLonging$Horse", name := "failure", desc := "()LHiredByLonging$Tossed;" } : Jvm.MethodName) ({ cls := "HiredByLonging$Content", name := "failure", desc := "()LHiredByLonging$Tossed;" } : Jvm.MethodName)) ∈ lw_all := lw_g (lw_at lw_m4 230 rfl) rfl
theorem q1558 : (Jvm.Cond.castable "HiredByLonging$Gelding" "HiredByLonging$Horse") ∈ lw_tbl := lw_at lw_m7 61 rfl
theorem in_X15 : ∀ w ∈ wsX150, w ∈ lw_all := lw_in wsX150 [382] (by decide +kernel) (by decide +kernel)
/-! HiredByLonging$Tossed -/
set_option maxRecDepth 100000
def RX16 : String := "HiredByLonging$Tossed"
def TX16 : u_T := fun k => match k with
  | 0 => ("java/lang/Throwable", "cause", "Ljava/lang/Throwable;", false)
  | 1 => ("java/lang/Throwable", "stackTrace", "[Ljava/lang/StackTraceElement;", false)
  | 2 => ("java/lang/Throwable", "suppressedExceptions", "Ljava/util/List;", false)
  | 3 => ("java/lang/Throwable", "detailMessage", "Ljava/lang/String;", false)
  | 4 => ("java/lang/Throwable", "backtrace", "Ljava/lang/Object;", false)
  | 5 => ("java/lang/Throwable", "depth", "I", false)
  | _ => ("HiredByLonging$Tossed", "n", "I", true)
def tyX16 : Nat → FieldType := fun k => match k with
  | 0 => .object "java/lang/Throwable"
  | 1 => .array (.object "java/lang/StackTraceElement")
  | 2 => .object "java/util/List"
  | 3 => .object "java/lang/String"
  | 4 => .object "java/lang/Object"
  | 5 => .int
  | _ => .int
abbrev wsX160 : List Cond := u_ws RX16 TX16 7
theorem nmX16 : ∀ a, a < 7 → ∀ b, b < 7 → a ≠ b → (TX16 a).2.1 ≠ (TX16 b).2.1 := by decide +kernel
theorem tyX16_ok : ∀ k, k < 7 → parseFieldDescriptor (TX16 k).2.2.1 = some (tyX16 k) := by decide +kernel
abbrev cX16_init : ByteArray := prog_17_method_1_code
def yX16_init : MethodName := ⟨RX16, "<init>", "(I)V"⟩
def dkwX16_init_0 : List UInt8 := [42, 183, 0, 1, 42, 27, 181, 0, 7, 177]
abbrev dktX16_init_0 : List UInt8 := dkwX16_init_0 ++ []
theorem dksX16_init_0 : cX16_init.data.toList.drop 0 = dktX16_init_0 := by decide +kernel
theorem dX16_init_0 : decode cX16_init 0 = .ok (.aload_n 0, 1) := dk_42 (dk_at dksX16_init_0 0 rfl rfl)
theorem dX16_init_1 : decode cX16_init 1 = .ok (.invokespecial 1, 3) := dk_183 0 1 (dk_at dksX16_init_0 1 rfl rfl)
theorem dX16_init_4 : decode cX16_init 4 = .ok (.aload_n 0, 1) := dk_42 (dk_at dksX16_init_0 4 rfl rfl)
theorem dX16_init_5 : decode cX16_init 5 = .ok (.iload_n 1, 1) := dk_27 (dk_at dksX16_init_0 5 rfl rfl)
theorem dX16_init_6 : decode cX16_init 6 = .ok (.putfield 7, 3) := dk_181 0 7 (dk_at dksX16_init_0 6 rfl rfl)
theorem dX16_init_9 : decode cX16_init 9 = .ok (.return_, 1) := dk_177 (dk_at dksX16_init_0 9 rfl rfl)
theorem q87 : (Jvm.Cond.initialized "HiredByLonging$Tossed") ∈ lw_all := lw_g (lw_at lw_m1 30 rfl) rfl
theorem q116 : (Jvm.Cond.selects "HiredByLonging$Tossed" ({ cls := "java/lang/Throwable", name := "fillInStackTrace", desc := "()Ljava/lang/Throwable;" } : Jvm.MethodName) ({ cls := "java/lang/Throwable", name := "fillInStackTrace", desc := "()Ljava/lang/Throwable;" } : Jvm.MethodName)) ∈ lw_all := lw_g (lw_at lw_m1 59 rfl) rfl
theorem q1017 : (Jvm.Cond.instantiable "HiredByLonging$Tossed" (7 : Nat)) ∈ lw_all := lw_g (lw_at lw_m5 0 rfl) rfl
theorem q1018 : (Jvm.Cond.castable "HiredByLonging$Tossed" "HiredByLonging$Tossed") ∈ lw_tbl := lw_at lw_m5 1 rfl
theorem q1019 : (Jvm.Cond.selects "HiredByLonging$Tossed" ({ cls := "java/lang/Throwable", name := "fillInStackTrace", desc := "(I)Ljava/lang/Throwable;" } : Jvm.MethodName) ({ cls := "java/lang/Throwable", name := "fillInStackTrace", desc := "(I)Ljava/lang/Throwable;" } : Jvm.MethodName)) ∈ lw_all := lw_g (lw_at lw_m5 2 rfl) rfl
theorem q1020 : (Jvm.Cond.lays "HiredByLonging$Tossed" "java/lang/Throwable" "cause" "Ljava/lang/Throwable;") ∈ lw_all := lw_g (lw_at lw_m5 3 rfl) rfl
theorem q1021 : (Jvm.Cond.lays "HiredByLonging$Tossed" "java/lang/Throwable" "stackTrace" "[Ljava/lang/StackTraceElement;") ∈ lw_all := lw_g (lw_at lw_m5 4 rfl) rfl
theorem q1022 : (Jvm.Cond.lays "HiredByLonging$Tossed" "java/lang/Throwable" "suppressedExceptions" "Ljava/util/List;") ∈ lw_all := lw_g (lw_at lw_m5 5 rfl) rfl
theorem q1023 : (Jvm.Cond.lays "HiredByLonging$Tossed" "java/lang/Throwable" "detailMessage" "Ljava/lang/String;") ∈ lw_all := lw_g (lw_at lw_m5 6 rfl) rfl
theorem q1024 : (Jvm.Cond.lays "HiredByLonging$Tossed" "java/lang/Throwable" "backtrace" "Ljava/lang/Object;") ∈ lw_all := lw_g (lw_at lw_m5 7 rfl) rfl
theorem q1026 : (Jvm.Cond.instanceMethod ({ cls := "HiredByLonging$Tossed", name := "<init>", desc := "(I)V" } : Jvm.MethodName)) ∈ lw_all := lw_g (lw_at lw_m5 9 rfl) rfl
theorem q1027 : (Jvm.Cond.code ({ cls := "HiredByLonging$Tossed", name := "<init>", desc := "(I)V" } : Jvm.MethodName) prog_17_method_1_code (2 : Nat) (Option.none : Option Jvm.ClassFile.FieldType)) ∈ lw_all := lw_g (lw_at lw_m5 10 rfl) rfl
theorem q1028 : (Jvm.Cond.methodLink "HiredByLonging$Tossed" (1 : Nat) ({ cls := "java/lang/RuntimeException", name := "<init>", desc := "()V" } : Jvm.MethodName)) ∈ lw_all := lw_g (lw_at lw_m5 11 rfl) rfl
theorem q1029 : (Jvm.Cond.fieldLink "HiredByLonging$Tossed" (7 : Nat) "HiredByLonging$Tossed" "n" "I") ∈ lw_all := lw_g (lw_at lw_m5 12 rfl) rfl
theorem q1032 : (Jvm.Cond.laysFinal "HiredByLonging$Tossed" "HiredByLonging$Tossed" "n" "I") ∈ lw_all := lw_g (lw_at lw_m5 15 rfl) rfl
theorem q1033 : (Jvm.Cond.soleField "HiredByLonging$Tossed" "n") ∈ lw_all := lw_g (lw_at lw_m5 16 rfl) rfl
theorem q1034 : (Jvm.Cond.lays "HiredByLonging$Tossed" "java/lang/Throwable" "depth" "I") ∈ lw_all := lw_g (lw_at lw_m5 17 rfl) rfl
theorem q1035 : (Jvm.Cond.superclass "HiredByLonging$Tossed" "java/lang/RuntimeException") ∈ lw_all := lw_g (lw_at lw_m5 18 rfl) rfl
theorem in_X16 : ∀ w ∈ wsX160, w ∈ lw_all := lw_in wsX160 [1020, 1021, 1022, 1023, 1024, 1034, 1032] (by decide +kernel) (by decide +kernel)
/-! HiredByLonging$Runs -/
set_option maxRecDepth 100000
def RX17 : String := "HiredByLonging$Runs"
abbrev cX17_walk : ByteArray := prog_14_method_2_code
def yX17_walk : MethodName := ⟨RX17, "walk", "()I"⟩
theorem dX17_walk_0 : decode cX17_walk 0 = .ok (.iconst 1, 1) := by decide +kernel
theorem dX17_walk_1 : decode cX17_walk 1 = .ok (.ireturn, 1) := by decide +kernel
theorem q472 : (Jvm.Cond.declares ({ cls := "HiredByLonging$Runs", name := "walk", desc := "()I" } : Jvm.MethodName)) ∈ lw_tbl := lw_at lw_m2 175 rfl
theorem q477 : (Jvm.Cond.instanceMethod ({ cls := "HiredByLonging$Runs", name := "walk", desc := "()I" } : Jvm.MethodName)) ∈ lw_all := lw_g (lw_at lw_m2 180 rfl) rfl
theorem q478 : (Jvm.Cond.code ({ cls := "HiredByLonging$Runs", name := "walk", desc := "()I" } : Jvm.MethodName) prog_14_method_2_code (1 : Nat) (Option.some Jvm.ClassFile.FieldType.int)) ∈ lw_all := lw_g (lw_at lw_m2 181 rfl) rfl
theorem q490 : (Jvm.Cond.publicMethod ({ cls := "HiredByLonging$Runs", name := "walk", desc := "()I" } : Jvm.MethodName)) ∈ lw_tbl := lw_at lw_m2 193 rfl
theorem q1552 : (Jvm.Cond.initialized "HiredByLonging$Runs") ∈ lw_all := lw_g (lw_at lw_m7 55 rfl) rfl
