/-! INSTANCEOF OF OBJECTS -/
section INSTH
variable {X : ZE} {Y : ZY} {G : ZG} {k n : Nat} {ws : va_W} {pc : Nat} {lv : List (Nat × Value)} {st : List Value}
theorem z_instON (C : CX X Y G) {Cn nm : String} {T : u_T} {N q a idx ci : Nat} {fs : List Value} (hl : Cond.classLink (zow Y) idx nm ∈ lw_all) (hc : CL[ci]? = some (Cn, T, N)) (he : ws[q]? = some (a, .inr (ci, fs))) (hno : va_Nc Cn nm (zs X)) (d : decode (zcc Y) pc = .ok (.instanceof idx, 3)) (z : Z X Y G k n ws (pc + 3) lv (.int (zI 0) :: st)) : Z X Y G k n ws pc lv (.ref a :: st) := fun H locs ls hP hD hS hl2 =>
  va_instNo C.x C.b C.own (C.ts _ hl) hno (va_recv C.K hP hc he) d (z H locs ls hP hD hS hl2)
end INSTH
