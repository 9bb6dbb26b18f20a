/-! ROWS: what sort an array is -/
set_option maxRecDepth 100000
section ROWS
variable {X : ZE} {Y : ZY} {G : ZG} {k n : Nat} {ws : va_W} {pc : Nat} {lv : List (Nat × Value)} {st : List Value}
theorem va_nm_b {s : State} {cA : ClassId} (h : va_RA s cA .byte) : s.vm.findClass "[B" = some cA := by
  have e : "[" ++ FieldType.byte.toString = "[B" := by decide +kernel
  rw [← e]; exact h
theorem va_nm_s {s : State} {cA : ClassId} (h : va_RA s cA .short) : s.vm.findClass "[S" = some cA := by
  have e : "[" ++ FieldType.short.toString = "[S" := by decide +kernel
  rw [← e]; exact h
/-- the class of an array of a sort by its name -/
theorem z_nm (C : CX X Y G) {t0 : Nat} {cA : ClassId} : ((zT G)[t0]? = some (cA, .byte) → (zs X).vm.findClass "[B" = some cA) ∧ ((zT G)[t0]? = some (cA, .short) → (zs X).vm.findClass "[S" = some cA) ∧ ((zT G)[t0]? = some (cA, .int) → (zs X).vm.findClass "[I" = some cA) :=
  ⟨fun h => va_nm_b (C.K.2 _ _ h).2, fun h => va_nm_s (C.K.2 _ _ h).2, fun h => va_nm_int (C.K.2 _ _ h).2⟩
theorem z_castA (C : CX X Y G) {nm : String} {q a idx : Nat} {cA : ClassId} {x : vp_A} (hl : Cond.classLink (zow Y) idx nm ∈ lw_all) (he : ws[q]? = some (a, .inl (cA, x))) (hnm : (zs X).vm.findClass nm = some cA) (d : decode (zcc Y) pc = .ok (.checkcast idx, 3)) (z : Z X Y G k n ws (pc + 3) lv (.ref a :: st)) : Z X Y G k n ws pc lv (.ref a :: st) := fun H locs ls hP hD hS hl2 =>
  va_castA C.x C.b C.own (C.ts _ hl) hP q he hnm d (z H locs ls hP hD hS hl2)
theorem arr_cell {s : State} {H : Heap} {nm : String} {q a : Nat} {cA : ClassId} {x : vp_A} (hP : va_P (zD G) CL ws H) (he : ws[q]? = some (a, .inl (cA, x))) (hnm : s.vm.findClass nm = some cA) : ∃ cell : Cell, H[a]? = some cell ∧ cell.vm.isStatics = false ∧ s.vm.findClass nm = some cell.cls := by
  have hvm0 : (vp_cell cA x).vm = .none := by
    obtain ⟨n, f | f | f | f | f⟩ := x <;> rfl
  have hcl0 : (vp_cell cA x).cls = cA := by
    obtain ⟨n, f | f | f | f | f⟩ := x <;> rfl
  exact ⟨_, hP q _ he, by rw [hvm0]; rfl, by rw [hcl0]; exact hnm⟩
theorem z_instNo (C : CX X Y G) {Cn nm : String} {q a idx : Nat} {cA : ClassId} {x : vp_A} (hl : Cond.classLink (zow Y) idx nm ∈ lw_all) (he : ws[q]? = some (a, .inl (cA, x))) (hnm : (zs X).vm.findClass Cn = some cA) (hno : va_Nc Cn nm (zs X)) (d : decode (zcc Y) pc = .ok (.instanceof idx, 3)) (z : Z X Y G k n ws (pc + 3) lv (.int (zI 0) :: st)) : Z X Y G k n ws pc lv (.ref a :: st) := fun H locs ls hP hD hS hl2 =>
  va_instNo C.x C.b C.own (C.ts _ hl) hno (arr_cell hP he hnm) d (z H locs ls hP hD hS hl2)
end ROWS
section ROWS2
variable {X : ZE} {Y : ZY} {G : ZG} {k n : Nat} {ws : va_W} {pc : Nat} {lv : List (Nat × Value)} {st : List Value}
theorem va_instA {p : Program} {l : Launch} {e : Env} {R : Room} {s : State} {m : MethodId} {args : Array Value} {below : List Frame} {meth : Method} {c : Code} {H : Heap} {locs : List Loc} {cells slots : Nat} {Q : State → Prop} {cc : ByteArray} {pc : Nat} {ls : Array Slot} {rest : List Value} {a : Nat} {D : va_G} {cl : List vw_C} {ws : va_W} (hexec : p.tables.exec = Jvm.exec) (hb : c.code = cc) {own nm : String} {index : Nat} (hown : s.vm.findClass own = some m.cls) (hlink : (Cond.classLink own index nm).before args s = true) (hP : va_P D cl ws H) (q0 : Nat) {cA : ClassId} {x : vp_A} (ha : ws[q0]? = some (a, .inl (cA, x))) (hnm : s.vm.findClass nm = some cA) (hdg : decode cc pc = .ok (.instanceof index, 3))
    (k : W p l e R s m args below meth c H locs cells slots Q (F0 m (pc + 3) ls (.int 1 :: rest))) : W p l e R s m args below meth c H locs cells slots Q (F0 m pc ls (.ref a :: rest)) := by
  have hvm0 : (vp_cell cA x).vm = .none := by
    obtain ⟨n, f | f | f | f | f⟩ := x <;> rfl
  have hcl0 : (vp_cell cA x).cls = cA := by
    obtain ⟨n, f | f | f | f | f⟩ := x <;> rfl
  intro T hT X
  obtain ⟨vm', X', st⟩ := X.instanceofYes hexec hown hlink (by rw [hT]; exact hP q0 _ ha) (by rw [hvm0]; rfl) hnm (by rw [hcl0]; exact va_asg _ _) (g := F0 m pc ls (.ref a :: rest)) rfl rfl (by rw [hb]; exact hdg)
  obtain ⟨t, a1, b1⟩ := k (T.setVm vm') hT X'
  exact ⟨t, st t a1, b1⟩
theorem z_instA (C : CX X Y G) {nm : String} {q a idx : Nat} {cA : ClassId} {x : vp_A} (hl : Cond.classLink (zow Y) idx nm ∈ lw_all) (he : ws[q]? = some (a, .inl (cA, x))) (hnm : (zs X).vm.findClass nm = some cA) (d : decode (zcc Y) pc = .ok (.instanceof idx, 3)) (z : Z X Y G k n ws (pc + 3) lv (.int (zI 1) :: st)) : Z X Y G k n ws pc lv (.ref a :: st) := fun H locs ls hP hD hS hl2 =>
  va_instA C.x C.b C.own (C.ts _ hl) hP q he hnm d (z H locs ls hP hD hS hl2)
end ROWS2
