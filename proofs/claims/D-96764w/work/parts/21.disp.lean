/-! a virtual call on a horse of any kind -/
set_option maxRecDepth 100000
theorem sb_1 {ws : va_W} {q : Nat} {x : Nat × va_E} (he : ws[q]? = some x) : SB ws [x] := sb_e [q] (by show [ws[q]?] = [some x]; rw [he]) rfl
theorem zsel_conv {s : State} {args : Array Value} {Cn owner : String} {x y : MethodName} (hne : owner ≠ "java/lang/invoke/MethodHandle" ∧ owner ≠ "java/lang/invoke/VarHandle") (hsame : (Cond.sameMethod x.cls owner x.name x.desc).before args s = true) (h : (Cond.selects Cn ⟨owner, x.name, x.desc⟩ y).before args s = true) : (Cond.selects Cn x y).before args s = true := by
  obtain ⟨c, ck, r, h1, h2, h3, h4, h5⟩ := Cond.sameMethod_found hsame
  have h6 : s.methodFound? owner x.name x.desc = some r := State.methodFound?_of_named (x := ⟨owner, x.name, x.desc⟩) h5 hne
  simp only [Cond.before, Cond.holds, Cond.value, h4, h6] at h ⊢
  exact h
section ZDEF
variable {X : ZE} {Y : ZY} {G : ZG} {k n : Nat} {ws : va_W} {pc : Nat} {lv : List (Nat × Value)} {st0 rest : List Value} {wc : va_W} {Qf : QF}
variable {y : MethodName} {b : ByteArray} {L idx : Nat} {r : Option FieldType} {rm : Room}
/-- a call that lands in an interface's default method -/
theorem z_runD {na : Nat} (C : CX X Y G) {a q ci N : Nat} {Cn owner : String} {x : MethodName} {T : u_T} {fs : List Value} {As : List Value} (hM : CT (zl X) y b L r rm G (.ref a :: As) wc Qf) (hcode : Cond.code y b L r ∈ lw_all) (hlink : (Cond.methodLink (zow Y) idx x).before (zar X) (zs X) = true) (hsame : (Cond.sameMethod x.cls owner x.name x.desc).before (zar X) (zs X) = true) (hdecl : (Cond.declares ⟨owner, x.name, x.desc⟩).before (zar X) (zs X) = true) (hlands : (Cond.landsInDefault Cn x y).before (zar X) (zs X) = true) (hinst : Cond.instanceMethod y ∈ lw_all) (hini : Cond.initialized y.cls ∈ lw_all) (he : ws[q]? = some (a, .inr (ci, fs))) (hc : CL[ci]? = some (Cn, T, N)) (hs : SB ws wc) (hd : owner ≠ "java/lang/invoke/MethodHandle" ∧ owner ≠ "java/lang/invoke/VarHandle" ∧ (parseMethodDescriptor x.desc).map (fun d => d.parameters.length) = some na) (hna : As.length = na) (hR : zRoom Y rm L k n) (hst : st0 = As.reverse ++ .ref a :: rest) (hcat : (rest.map fun v => v.category).sum ≤ 8) (d : decode (zcc Y) pc = .ok (.invokevirtual idx, 3)) : CR X Y G k n ws pc lv st0 rest rm.cells rm.slots wc Qf := by
  subst hna
  have hG : GoodIn lw_all (ws_ y b L r) := lw_meth hcode
  refine ⟨hs, fun H locs ls hP hD hS hl => ⟨(Value.ref a :: As).toArray, ?_⟩⟩
  obtain ⟨cell, hcell, hobj, hcls⟩ := va_recv C.K hP hc he
  have hK : Back (zl X) (zR Y) X.1 X.2.2.1 (zbl X) (zs X) (zar X) y 3 8 (PreOf (zR Y) rm.cells rm.slots (zPc G (.ref a :: As) wc H.size)) (PostOf (Qf H.size) rm.cells rm.slots (va_A wc H.size)) := back_of (bytes := b) (maxL := L) (ret := r) (hM H.size) zPc_blind rfl rfl hR.1.1 hR.1.2 (pay_in C.ts hG) List.mem_cons_self (fun a' U hW => word_at hW (Or.inl (by first | rfl | simp [Cond.onTables, Cond.keeps, Cond.steady])) (C.ts _ hini))
  intro T' hT X'
  have hlen : ∀ sig, parseMethodDescriptor x.desc = some sig → As.length = sig.parameters.length := by
    intro sig h
    have h2 := hd.2.2
    rw [h] at h2
    exact (Option.some.inj h2).symm
  obtain ⟨v, vm₁, B, hW, X2, hpost, hsteps⟩ := X'.virtualBackUpD C.x (C := Cn) (owner := owner) C.own hlink hsame hdecl ⟨hd.1, hd.2.1⟩ hlands (C.ts _ hinst) hK (b := a) (cB := cell.cls) hcls ⟨cell, by rw [hT]; exact hcell, rfl, hobj⟩ (g := F0 (zm X) pc ls st0) rfl (hl.1.trans C.ml.symm) (Steps.refl _) (argsL := As) (rest := rest) hlen hst (lv_room hcat) (by rw [C.b]; exact d) (fun vm₁ hW₁ => ⟨hR.2.1, hR.2.2, zPc_pre hs hP hD C.gk (T'.setVm vm₁) hT hW₁⟩)
  obtain ⟨g', mk', t, L', e1, e2, hq, h1, hL, h2, h3⟩ := hpost
  obtain ⟨U', l2, c2, s2⟩ := B
  dsimp only [Pt.U, Pt.locs, Pt.cells, Pt.slots] at X2 e1 e2 h1 h2 h3 hsteps
  subst h1; subst h2; subst h3
  exact ⟨v, (T'.setVm vm₁).calling g' mk' (Value.ref a :: As).toArray, t, U', L', hT, X2, hL, e1, e2, hq, fun target h => hsteps.trans h⟩
end ZDEF

theorem dsp_goal {X : ZE} {Y : ZY} {G : ZG} {k n : Nat} {ws : va_W} {pc : Nat} {lv : List (Nat × Value)} {rest : List Value} (C : CX X Y G) {idx q a kd : Nat} {f hm at_ oa : Int} (hkd : kd < 8) (he : ws[q]? = some (a, .inr (kd, [.int (zI f)]))) (hlink : (Cond.methodLink (zow Y) idx ⟨"HiredByLonging$Horse", "goal", "(III)I"⟩).before (zar X) (zs X) = true) (hhm : 0 ≤ hm ∧ hm ≤ 20) (hat : 0 ≤ at_ ∧ at_ ≤ 20) (hoa : 0 ≤ oa ∧ oa ≤ 20) (hF : 3 ≤ (zR Y).frames) (hLo : 58 ≤ (zR Y).locals) (hk : k ≤ (zR Y).cells) (hn : n ≤ (zR Y).slots) (hcat : (rest.map fun v => v.category).sum ≤ 8) (d : decode (zcc Y) pc = .ok (.invokevirtual idx, 3)) (z : Z X Y G k n ws (pc + 3) lv (.int (zI (goalZ kd hm at_ oa)) :: rest)) : Z X Y G k n ws pc lv (.int (zI oa) :: .int (zI at_) :: .int (zI hm) :: .ref a :: rest) := by
  rcases (show kd = 0 ∨ kd = 1 ∨ kd = 2 ∨ kd = 3 ∨ kd = 4 ∨ kd = 5 ∨ kd = 6 ∨ kd = 7 by omega) with rfl | rfl | rfl | rfl | rfl | rfl | rfl | rfl
  · refine z_i C (z_runU (q := q) (ci := 0) (As := [.int (zI hm), .int (zI at_), .int (zI oa)]) (rest := rest) (x := ⟨"HiredByLonging$Horse", "goal", "(III)I"⟩) (owner := "HiredByLonging$Horse") C (ct_X8_goal (zl X) G a hm at_ oa ) q437 hlink (C.ts _ q414) (va_Decl.of (C.ts _ q412) (C.ts _ q437)) (C.ts _ q413) q412 q71 he rfl (sb_e [] rfl rfl) (na := 3) (by decide +kernel) rfl ⟨⟨Nat.le_trans (Nat.le_of_ble_eq_true rfl) hF, Nat.le_trans (Nat.le_of_ble_eq_true rfl) hLo⟩, hk, hn⟩ rfl hcat d) (fun u => jn_ro (sb_e [] rfl rfl)) (fun r u hp => ?_)
    have hp : r = zI (hm) := hp
    have e : goalZ 0 hm at_ oa = hm := by simp [goalZ]
    rw [e] at z
    rw [hp]
    exact z
  · refine z_i C (z_runU (q := q) (ci := 1) (As := [.int (zI hm), .int (zI at_), .int (zI oa)]) (rest := rest) (x := ⟨"HiredByLonging$Horse", "goal", "(III)I"⟩) (owner := "HiredByLonging$Horse") C (ct_X9_goal (zl X) G a hm at_ oa ) q420 hlink (C.ts _ q414) (va_Decl.of (C.ts _ q412) (C.ts _ q437)) (C.ts _ q418) q419 q72 he rfl (sb_e [] rfl rfl) (na := 3) (by decide +kernel) rfl ⟨⟨Nat.le_trans (Nat.le_of_ble_eq_true rfl) hF, Nat.le_trans (Nat.le_of_ble_eq_true rfl) hLo⟩, hk, hn⟩ rfl hcat d) (fun u => jn_ro (sb_e [] rfl rfl)) (fun r u hp => ?_)
    have hp : r = zI (at_) := hp
    have e : goalZ 1 hm at_ oa = at_ := by simp [goalZ]
    rw [e] at z
    rw [hp]
    exact z
  · refine z_i C (z_runU (q := q) (ci := 2) (As := [.int (zI hm), .int (zI at_), .int (zI oa)]) (rest := rest) (x := ⟨"HiredByLonging$Horse", "goal", "(III)I"⟩) (owner := "HiredByLonging$Horse") C (ct_X10_goal (zl X) G a hm at_ oa ) q417 hlink (C.ts _ q414) (va_Decl.of (C.ts _ q412) (C.ts _ q437)) (C.ts _ q415) q416 q73 he rfl (sb_e [] rfl rfl) (na := 3) (by decide +kernel) rfl ⟨⟨Nat.le_trans (Nat.le_of_ble_eq_true rfl) hF, Nat.le_trans (Nat.le_of_ble_eq_true rfl) hLo⟩, hk, hn⟩ rfl hcat d) (fun u => jn_ro (sb_e [] rfl rfl)) (fun r u hp => ?_)
    have hp : r = zI (20 - hm) := hp
    have e : goalZ 2 hm at_ oa = 20 - hm := by simp [goalZ]
    rw [e] at z
    rw [hp]
    exact z
  · refine z_i C (z_runU (q := q) (ci := 3) (As := [.int (zI hm), .int (zI at_), .int (zI oa)]) (rest := rest) (x := ⟨"HiredByLonging$Horse", "goal", "(III)I"⟩) (owner := "HiredByLonging$Horse") C (ct_X11_goal (zl X) G a hm at_ oa (by assumption) (by assumption) (by assumption)) q432 hlink (C.ts _ q414) (va_Decl.of (C.ts _ q412) (C.ts _ q437)) (C.ts _ q430) q431 q74 he rfl (sb_e [] rfl rfl) (na := 3) (by decide +kernel) rfl ⟨⟨Nat.le_trans (Nat.le_of_ble_eq_true rfl) hF, Nat.le_trans (Nat.le_of_ble_eq_true rfl) hLo⟩, hk, hn⟩ rfl hcat d) (fun u => jn_ro (sb_e [] rfl rfl)) (fun r u hp => ?_)
    have hp : r = zI (if zAbs (hm - at_) ≤ zAbs (20 - hm - at_) then hm else 20 - hm) := hp
    have e : goalZ 3 hm at_ oa = if zAbs (hm - at_) ≤ zAbs (20 - hm - at_) then hm else 20 - hm := by simp [goalZ]
    rw [e] at z
    rw [hp]
    exact z
  · refine z_i C (z_runU (q := q) (ci := 4) (As := [.int (zI hm), .int (zI at_), .int (zI oa)]) (rest := rest) (x := ⟨"HiredByLonging$Horse", "goal", "(III)I"⟩) (owner := "HiredByLonging$Horse") C (ct_X8_goal (zl X) G a hm at_ oa ) q437 hlink (C.ts _ q414) (va_Decl.of (C.ts _ q412) (C.ts _ q437)) (C.ts _ q421) q412 q71 he rfl (sb_e [] rfl rfl) (na := 3) (by decide +kernel) rfl ⟨⟨Nat.le_trans (Nat.le_of_ble_eq_true rfl) hF, Nat.le_trans (Nat.le_of_ble_eq_true rfl) hLo⟩, hk, hn⟩ rfl hcat d) (fun u => jn_ro (sb_e [] rfl rfl)) (fun r u hp => ?_)
    have hp : r = zI (hm) := hp
    have e : goalZ 4 hm at_ oa = hm := by simp [goalZ]
    rw [e] at z
    rw [hp]
    exact z
  · refine z_i C (z_runU (q := q) (ci := 5) (As := [.int (zI hm), .int (zI at_), .int (zI oa)]) (rest := rest) (x := ⟨"HiredByLonging$Horse", "goal", "(III)I"⟩) (owner := "HiredByLonging$Horse") C (ct_X13_goal (zl X) G a hm at_ oa ) q424 hlink (C.ts _ q414) (va_Decl.of (C.ts _ q412) (C.ts _ q437)) (C.ts _ q422) q423 q76 he rfl (sb_e [] rfl rfl) (na := 3) (by decide +kernel) rfl ⟨⟨Nat.le_trans (Nat.le_of_ble_eq_true rfl) hF, Nat.le_trans (Nat.le_of_ble_eq_true rfl) hLo⟩, hk, hn⟩ rfl hcat d) (fun u => jn_ro (sb_e [] rfl rfl)) (fun r u hp => ?_)
    have hp : r = zI (oa) := hp
    have e : goalZ 5 hm at_ oa = oa := by simp [goalZ]
    rw [e] at z
    rw [hp]
    exact z
  · refine z_i C (z_runU (q := q) (ci := 6) (As := [.int (zI hm), .int (zI at_), .int (zI oa)]) (rest := rest) (x := ⟨"HiredByLonging$Horse", "goal", "(III)I"⟩) (owner := "HiredByLonging$Horse") C (ct_X14_goal (zl X) G a hm at_ oa (by assumption) (by assumption)) q428 hlink (C.ts _ q414) (va_Decl.of (C.ts _ q412) (C.ts _ q437)) (C.ts _ q426) q427 q77 he rfl (sb_e [] rfl rfl) (na := 3) (by decide +kernel) rfl ⟨⟨Nat.le_trans (Nat.le_of_ble_eq_true rfl) hF, Nat.le_trans (Nat.le_of_ble_eq_true rfl) hLo⟩, hk, hn⟩ rfl hcat d) (fun u => jn_ro (sb_e [] rfl rfl)) (fun r u hp => ?_)
    have hp : r = zI (if zAbs (20 - hm - at_) ≤ zAbs (hm - at_) then hm else 20 - hm) := hp
    have e : goalZ 6 hm at_ oa = if zAbs (20 - hm - at_) ≤ zAbs (hm - at_) then hm else 20 - hm := by simp [goalZ]
    rw [e] at z
    rw [hp]
    exact z
  · refine z_i C (z_runU (q := q) (ci := 7) (As := [.int (zI hm), .int (zI at_), .int (zI oa)]) (rest := rest) (x := ⟨"HiredByLonging$Horse", "goal", "(III)I"⟩) (owner := "HiredByLonging$Horse") C (ct_X9_goal (zl X) G a hm at_ oa ) q420 hlink (C.ts _ q414) (va_Decl.of (C.ts _ q412) (C.ts _ q437)) (C.ts _ q425) q419 q72 he rfl (sb_e [] rfl rfl) (na := 3) (by decide +kernel) rfl ⟨⟨Nat.le_trans (Nat.le_of_ble_eq_true rfl) hF, Nat.le_trans (Nat.le_of_ble_eq_true rfl) hLo⟩, hk, hn⟩ rfl hcat d) (fun u => jn_ro (sb_e [] rfl rfl)) (fun r u hp => ?_)
    have hp : r = zI (at_) := hp
    have e : goalZ 7 hm at_ oa = at_ := by simp [goalZ]
    rw [e] at z
    rw [hp]
    exact z

theorem dsp_pines {X : ZE} {Y : ZY} {G : ZG} {k n : Nat} {ws : va_W} {pc : Nat} {lv : List (Nat × Value)} {rest : List Value} (C : CX X Y G) {idx q a kd : Nat} {f mi : Int} (hkd : kd < 8) (he : ws[q]? = some (a, .inr (kd, [.int (zI f)]))) (hlink : (Cond.methodLink (zow Y) idx ⟨"HiredByLonging$Horse", "pines", "(I)I"⟩).before (zar X) (zs X) = true) (hmi : 0 ≤ mi ∧ mi ≤ 20) (hf : 0 ≤ f ∧ f ≤ 9) (hF : 2 ≤ (zR Y).frames) (hLo : 42 ≤ (zR Y).locals) (hk : k ≤ (zR Y).cells) (hn : n ≤ (zR Y).slots) (hcat : (rest.map fun v => v.category).sum ≤ 8) (d : decode (zcc Y) pc = .ok (.invokevirtual idx, 3)) (z : Z X Y G k n ws (pc + 3) lv (.int (zI (pinesZ kd f mi)) :: rest)) : Z X Y G k n ws pc lv (.int (zI mi) :: .ref a :: rest) := by
  rcases (show kd = 0 ∨ kd = 1 ∨ kd = 2 ∨ kd = 3 ∨ kd = 4 ∨ kd = 5 ∨ kd = 6 ∨ kd = 7 by omega) with rfl | rfl | rfl | rfl | rfl | rfl | rfl | rfl
  · refine z_i C (z_runU (q := q) (ci := 0) (As := [.int (zI mi)]) (rest := rest) (x := ⟨"HiredByLonging$Horse", "pines", "(I)I"⟩) (owner := "HiredByLonging$Horse") C (ct_X8_pines (zl X) G a mi (by assumption)) q512 hlink (C.ts _ q507) (va_Decl.of (C.ts _ q505) (C.ts _ q512)) (C.ts _ q506) q505 q71 he rfl (sb_e [] rfl rfl) (na := 1) (by decide +kernel) rfl ⟨⟨Nat.le_trans (Nat.le_of_ble_eq_true rfl) hF, Nat.le_trans (Nat.le_of_ble_eq_true rfl) hLo⟩, hk, hn⟩ rfl hcat d) (fun u => jn_ro (sb_e [] rfl rfl)) (fun r u hp => ?_)
    have hp : r = zI (1 + mi / 5) := hp
    have e : pinesZ 0 f mi = 1 + mi / 5 := by simp [pinesZ]
    rw [e] at z
    rw [hp]
    exact z
  · refine z_i C (z_runU (q := q) (ci := 1) (As := [.int (zI mi)]) (rest := rest) (x := ⟨"HiredByLonging$Horse", "pines", "(I)I"⟩) (owner := "HiredByLonging$Horse") C (ct_X9_pines (zl X) G a mi ) q515 hlink (C.ts _ q507) (va_Decl.of (C.ts _ q505) (C.ts _ q512)) (C.ts _ q513) q514 q72 he rfl (sb_e [] rfl rfl) (na := 1) (by decide +kernel) rfl ⟨⟨Nat.le_trans (Nat.le_of_ble_eq_true rfl) hF, Nat.le_trans (Nat.le_of_ble_eq_true rfl) hLo⟩, hk, hn⟩ rfl hcat d) (fun u => jn_ro (sb_e [] rfl rfl)) (fun r u hp => ?_)
    have hp : r = zI (0) := hp
    have e : pinesZ 1 f mi = 0 := by simp [pinesZ]
    rw [e] at z
    rw [hp]
    exact z
  · refine z_i C (z_runU (q := q) (ci := 2) (As := [.int (zI mi)]) (rest := rest) (x := ⟨"HiredByLonging$Horse", "pines", "(I)I"⟩) (owner := "HiredByLonging$Horse") C (ct_X10_pines (zl X) G a f mi (by assumption)) q510 hlink (C.ts _ q507) (va_Decl.of (C.ts _ q505) (C.ts _ q512)) (C.ts _ q508) q509 q73 he rfl (sb_1 he) (na := 1) (by decide +kernel) rfl ⟨⟨Nat.le_trans (Nat.le_of_ble_eq_true rfl) hF, Nat.le_trans (Nat.le_of_ble_eq_true rfl) hLo⟩, hk, hn⟩ rfl hcat d) (fun u => jn_ro (sb_1 he)) (fun r u hp => ?_)
    have hp : r = zI (2 * (1 + mi / 5)) := hp
    have e : pinesZ 2 f mi = 2 * (1 + mi / 5) := by simp [pinesZ]
    rw [e] at z
    rw [hp]
    exact z
  · refine z_i C (z_runU (q := q) (ci := 3) (As := [.int (zI mi)]) (rest := rest) (x := ⟨"HiredByLonging$Horse", "pines", "(I)I"⟩) (owner := "HiredByLonging$Horse") C (ct_X8_pines (zl X) G a mi (by assumption)) q512 hlink (C.ts _ q507) (va_Decl.of (C.ts _ q505) (C.ts _ q512)) (C.ts _ q531) q505 q71 he rfl (sb_e [] rfl rfl) (na := 1) (by decide +kernel) rfl ⟨⟨Nat.le_trans (Nat.le_of_ble_eq_true rfl) hF, Nat.le_trans (Nat.le_of_ble_eq_true rfl) hLo⟩, hk, hn⟩ rfl hcat d) (fun u => jn_ro (sb_e [] rfl rfl)) (fun r u hp => ?_)
    have hp : r = zI (1 + mi / 5) := hp
    have e : pinesZ 3 f mi = 1 + mi / 5 := by simp [pinesZ]
    rw [e] at z
    rw [hp]
    exact z
  · refine z_i C (z_runU (q := q) (ci := 4) (As := [.int (zI mi)]) (rest := rest) (x := ⟨"HiredByLonging$Horse", "pines", "(I)I"⟩) (owner := "HiredByLonging$Horse") C (ct_X12_pines (zl X) G a f mi (by assumption)) q518 hlink (C.ts _ q507) (va_Decl.of (C.ts _ q505) (C.ts _ q512)) (C.ts _ q516) q517 q75 he rfl (sb_1 he) (na := 1) (by decide +kernel) rfl ⟨⟨Nat.le_trans (Nat.le_of_ble_eq_true rfl) hF, Nat.le_trans (Nat.le_of_ble_eq_true rfl) hLo⟩, hk, hn⟩ rfl hcat d) (fun u => jn_ro (sb_1 he)) (fun r u hp => ?_)
    have hp : r = zI (1 + mi / 5 + f) := hp
    have e : pinesZ 4 f mi = 1 + mi / 5 + f := by simp [pinesZ]
    rw [e] at z
    rw [hp]
    exact z
  · refine z_i C (z_runU (q := q) (ci := 5) (As := [.int (zI mi)]) (rest := rest) (x := ⟨"HiredByLonging$Horse", "pines", "(I)I"⟩) (owner := "HiredByLonging$Horse") C (ct_X13_pines (zl X) G a f mi (by assumption) (by assumption)) q522 hlink (C.ts _ q507) (va_Decl.of (C.ts _ q505) (C.ts _ q512)) (C.ts _ q520) q521 q76 he rfl (sb_1 he) (na := 1) (by decide +kernel) rfl ⟨⟨Nat.le_trans (Nat.le_of_ble_eq_true rfl) hF, Nat.le_trans (Nat.le_of_ble_eq_true rfl) hLo⟩, hk, hn⟩ rfl hcat d) (fun u => jn_ro (sb_1 he)) (fun r u hp => ?_)
    have hp : r = zI (1 + mi / 5 + f / 2) := hp
    have e : pinesZ 5 f mi = 1 + mi / 5 + f / 2 := by simp [pinesZ]
    rw [e] at z
    rw [hp]
    exact z
  · refine z_i C (z_runU (q := q) (ci := 6) (As := [.int (zI mi)]) (rest := rest) (x := ⟨"HiredByLonging$Horse", "pines", "(I)I"⟩) (owner := "HiredByLonging$Horse") C (ct_X14_pines (zl X) G a f mi (by assumption)) q527 hlink (C.ts _ q507) (va_Decl.of (C.ts _ q505) (C.ts _ q512)) (C.ts _ q525) q526 q77 he rfl (sb_1 he) (na := 1) (by decide +kernel) rfl ⟨⟨Nat.le_trans (Nat.le_of_ble_eq_true rfl) hF, Nat.le_trans (Nat.le_of_ble_eq_true rfl) hLo⟩, hk, hn⟩ rfl hcat d) (fun u => jn_ro (sb_1 he)) (fun r u hp => ?_)
    have hp : r = zI (1 + mi / 5 + 1) := hp
    have e : pinesZ 6 f mi = 1 + mi / 5 + 1 := by simp [pinesZ]
    rw [e] at z
    rw [hp]
    exact z
  · refine z_i C (z_runU (q := q) (ci := 7) (As := [.int (zI mi)]) (rest := rest) (x := ⟨"HiredByLonging$Horse", "pines", "(I)I"⟩) (owner := "HiredByLonging$Horse") C (ct_X9_pines (zl X) G a mi ) q515 hlink (C.ts _ q507) (va_Decl.of (C.ts _ q505) (C.ts _ q512)) (C.ts _ q524) q514 q72 he rfl (sb_e [] rfl rfl) (na := 1) (by decide +kernel) rfl ⟨⟨Nat.le_trans (Nat.le_of_ble_eq_true rfl) hF, Nat.le_trans (Nat.le_of_ble_eq_true rfl) hLo⟩, hk, hn⟩ rfl hcat d) (fun u => jn_ro (sb_e [] rfl rfl)) (fun r u hp => ?_)
    have hp : r = zI (0) := hp
    have e : pinesZ 7 f mi = 0 := by simp [pinesZ]
    rw [e] at z
    rw [hp]
    exact z

theorem dsp_pace {X : ZE} {Y : ZY} {G : ZG} {k n : Nat} {ws : va_W} {pc : Nat} {lv : List (Nat × Value)} {rest : List Value} (C : CX X Y G) {idx q a kd : Nat} {f lg : Int} (hkd : kd < 8) (he : ws[q]? = some (a, .inr (kd, [.int (zI f)]))) (hlink : (Cond.methodLink (zow Y) idx ⟨"HiredByLonging$Horse", "pace", "(I)I"⟩).before (zar X) (zs X) = true) (hlg : 0 ≤ lg ∧ lg ≤ 99) (hf : 0 ≤ f ∧ f ≤ 9) (hF : 2 ≤ (zR Y).frames) (hLo : 42 ≤ (zR Y).locals) (hk : k ≤ (zR Y).cells) (hn : n ≤ (zR Y).slots) (hcat : (rest.map fun v => v.category).sum ≤ 8) (d : decode (zcc Y) pc = .ok (.invokevirtual idx, 3)) (z : Z X Y G k n ws (pc + 3) lv (.int (zI (paceZ kd f lg)) :: rest)) : Z X Y G k n ws pc lv (.int (zI lg) :: .ref a :: rest) := by
  rcases (show kd = 0 ∨ kd = 1 ∨ kd = 2 ∨ kd = 3 ∨ kd = 4 ∨ kd = 5 ∨ kd = 6 ∨ kd = 7 by omega) with rfl | rfl | rfl | rfl | rfl | rfl | rfl | rfl
  · refine z_i C (z_runU (q := q) (ci := 0) (As := [.int (zI lg)]) (rest := rest) (x := ⟨"HiredByLonging$Horse", "pace", "(I)I"⟩) (owner := "HiredByLonging$Horse") C (ct_X8_pace (zl X) G a lg (by assumption)) q457 hlink (C.ts _ q445) (va_Decl.of (C.ts _ q443) (C.ts _ q457)) (C.ts _ q444) q443 q71 he rfl (sb_e [] rfl rfl) (na := 1) (by decide +kernel) rfl ⟨⟨Nat.le_trans (Nat.le_of_ble_eq_true rfl) hF, Nat.le_trans (Nat.le_of_ble_eq_true rfl) hLo⟩, hk, hn⟩ rfl hcat d) (fun u => jn_ro (sb_e [] rfl rfl)) (fun r u hp => ?_)
    have hp : r = zI (1 + lg / 4) := hp
    have e : paceZ 0 f lg = 1 + lg / 4 := by simp [paceZ]
    rw [e] at z
    rw [hp]
    exact z
  · refine z_i C (z_runU (q := q) (ci := 1) (As := [.int (zI lg)]) (rest := rest) (x := ⟨"HiredByLonging$Horse", "pace", "(I)I"⟩) (owner := "HiredByLonging$Horse") C (ct_X9_pace (zl X) G a lg ) q451 hlink (C.ts _ q445) (va_Decl.of (C.ts _ q443) (C.ts _ q457)) (C.ts _ q449) q450 q72 he rfl (sb_e [] rfl rfl) (na := 1) (by decide +kernel) rfl ⟨⟨Nat.le_trans (Nat.le_of_ble_eq_true rfl) hF, Nat.le_trans (Nat.le_of_ble_eq_true rfl) hLo⟩, hk, hn⟩ rfl hcat d) (fun u => jn_ro (sb_e [] rfl rfl)) (fun r u hp => ?_)
    have hp : r = zI (2) := hp
    have e : paceZ 1 f lg = 2 := by simp [paceZ]
    rw [e] at z
    rw [hp]
    exact z
  · refine z_i C (z_runU (q := q) (ci := 2) (As := [.int (zI lg)]) (rest := rest) (x := ⟨"HiredByLonging$Horse", "pace", "(I)I"⟩) (owner := "HiredByLonging$Horse") C (ct_X10_pace (zl X) G a lg (by assumption)) q448 hlink (C.ts _ q445) (va_Decl.of (C.ts _ q443) (C.ts _ q457)) (C.ts _ q446) q447 q73 he rfl (sb_e [] rfl rfl) (na := 1) (by decide +kernel) rfl ⟨⟨Nat.le_trans (Nat.le_of_ble_eq_true rfl) hF, Nat.le_trans (Nat.le_of_ble_eq_true rfl) hLo⟩, hk, hn⟩ rfl hcat d) (fun u => jn_ro (sb_e [] rfl rfl)) (fun r u hp => ?_)
    have hp : r = zI (1 + lg / 2) := hp
    have e : paceZ 2 f lg = 1 + lg / 2 := by simp [paceZ]
    rw [e] at z
    rw [hp]
    exact z
  · refine z_i C (z_runU (q := q) (ci := 3) (As := [.int (zI lg)]) (rest := rest) (x := ⟨"HiredByLonging$Horse", "pace", "(I)I"⟩) (owner := "HiredByLonging$Horse") C (ct_X8_pace (zl X) G a lg (by assumption)) q457 hlink (C.ts _ q445) (va_Decl.of (C.ts _ q443) (C.ts _ q457)) (C.ts _ q468) q443 q71 he rfl (sb_e [] rfl rfl) (na := 1) (by decide +kernel) rfl ⟨⟨Nat.le_trans (Nat.le_of_ble_eq_true rfl) hF, Nat.le_trans (Nat.le_of_ble_eq_true rfl) hLo⟩, hk, hn⟩ rfl hcat d) (fun u => jn_ro (sb_e [] rfl rfl)) (fun r u hp => ?_)
    have hp : r = zI (1 + lg / 4) := hp
    have e : paceZ 3 f lg = 1 + lg / 4 := by simp [paceZ]
    rw [e] at z
    rw [hp]
    exact z
  · refine z_i C (z_runU (q := q) (ci := 4) (As := [.int (zI lg)]) (rest := rest) (x := ⟨"HiredByLonging$Horse", "pace", "(I)I"⟩) (owner := "HiredByLonging$Horse") C (ct_X8_pace (zl X) G a lg (by assumption)) q457 hlink (C.ts _ q445) (va_Decl.of (C.ts _ q443) (C.ts _ q457)) (C.ts _ q452) q443 q71 he rfl (sb_e [] rfl rfl) (na := 1) (by decide +kernel) rfl ⟨⟨Nat.le_trans (Nat.le_of_ble_eq_true rfl) hF, Nat.le_trans (Nat.le_of_ble_eq_true rfl) hLo⟩, hk, hn⟩ rfl hcat d) (fun u => jn_ro (sb_e [] rfl rfl)) (fun r u hp => ?_)
    have hp : r = zI (1 + lg / 4) := hp
    have e : paceZ 4 f lg = 1 + lg / 4 := by simp [paceZ]
    rw [e] at z
    rw [hp]
    exact z
  · refine z_i C (z_runU (q := q) (ci := 5) (As := [.int (zI lg)]) (rest := rest) (x := ⟨"HiredByLonging$Horse", "pace", "(I)I"⟩) (owner := "HiredByLonging$Horse") C (ct_X13_pace (zl X) G a f lg (by assumption)) q455 hlink (C.ts _ q445) (va_Decl.of (C.ts _ q443) (C.ts _ q457)) (C.ts _ q453) q454 q76 he rfl (sb_1 he) (na := 1) (by decide +kernel) rfl ⟨⟨Nat.le_trans (Nat.le_of_ble_eq_true rfl) hF, Nat.le_trans (Nat.le_of_ble_eq_true rfl) hLo⟩, hk, hn⟩ rfl hcat d) (fun u => jn_ro (sb_1 he)) (fun r u hp => ?_)
    have hp : r = zI (1 + lg / 4 + 1) := hp
    have e : paceZ 5 f lg = 1 + lg / 4 + 1 := by simp [paceZ]
    rw [e] at z
    rw [hp]
    exact z
  · refine z_i C (z_runU (q := q) (ci := 6) (As := [.int (zI lg)]) (rest := rest) (x := ⟨"HiredByLonging$Horse", "pace", "(I)I"⟩) (owner := "HiredByLonging$Horse") C (ct_X14_pace (zl X) G a f lg (by assumption) (by assumption)) q464 hlink (C.ts _ q445) (va_Decl.of (C.ts _ q443) (C.ts _ q457)) (C.ts _ q462) q463 q77 he rfl (sb_1 he) (na := 1) (by decide +kernel) rfl ⟨⟨Nat.le_trans (Nat.le_of_ble_eq_true rfl) hF, Nat.le_trans (Nat.le_of_ble_eq_true rfl) hLo⟩, hk, hn⟩ rfl hcat d) (fun u => jn_ro (sb_1 he)) (fun r u hp => ?_)
    have hp : r = zI (1 + lg / 4 + f / 3) := hp
    have e : paceZ 6 f lg = 1 + lg / 4 + f / 3 := by simp [paceZ]
    rw [e] at z
    rw [hp]
    exact z
  · refine z_i C (z_runU (q := q) (ci := 7) (As := [.int (zI lg)]) (rest := rest) (x := ⟨"HiredByLonging$Horse", "pace", "(I)I"⟩) (owner := "HiredByLonging$Horse") C (ct_X15_pace (zl X) G a f lg ) q460 hlink (C.ts _ q445) (va_Decl.of (C.ts _ q443) (C.ts _ q457)) (C.ts _ q458) q459 q78 he rfl (sb_1 he) (na := 1) (by decide +kernel) rfl ⟨⟨Nat.le_trans (Nat.le_of_ble_eq_true rfl) hF, Nat.le_trans (Nat.le_of_ble_eq_true rfl) hLo⟩, hk, hn⟩ rfl hcat d) (fun u => jn_ro (sb_1 he)) (fun r u hp => ?_)
    have hp : r = zI (2 + 1) := hp
    have e : paceZ 7 f lg = 2 + 1 := by simp [paceZ]
    rw [e] at z
    rw [hp]
    exact z

theorem dsp_kind {X : ZE} {Y : ZY} {G : ZG} {k n : Nat} {ws : va_W} {pc : Nat} {lv : List (Nat × Value)} {rest : List Value} (C : CX X Y G) {idx q a kd : Nat} {f : Int} (hkd : kd < 8) (he : ws[q]? = some (a, .inr (kd, [.int (zI f)]))) (hlink : (Cond.methodLink (zow Y) idx ⟨"HiredByLonging$Horse", "kind", "()I"⟩).before (zar X) (zs X) = true)  (hF : 1 ≤ (zR Y).frames) (hLo : 20 ≤ (zR Y).locals) (hk : k ≤ (zR Y).cells) (hn : n ≤ (zR Y).slots) (hcat : (rest.map fun v => v.category).sum ≤ 8) (d : decode (zcc Y) pc = .ok (.invokevirtual idx, 3)) (z : Z X Y G k n ws (pc + 3) lv (.int (zI ((kd : Int))) :: rest)) : Z X Y G k n ws pc lv (.ref a :: rest) := by
  rcases (show kd = 0 ∨ kd = 1 ∨ kd = 2 ∨ kd = 3 ∨ kd = 4 ∨ kd = 5 ∨ kd = 6 ∨ kd = 7 by omega) with rfl | rfl | rfl | rfl | rfl | rfl | rfl | rfl
  · refine z_i C (z_runU (q := q) (ci := 0) (As := []) (rest := rest) (x := ⟨"HiredByLonging$Horse", "kind", "()I"⟩) (owner := "HiredByLonging$Horse") C (ct_X8_kind (zl X) G a ) q566 hlink (C.ts _ q544) (va_Decl.of (C.ts _ q542) (C.ts _ q566)) (C.ts _ q543) q542 q71 he rfl (sb_e [] rfl rfl) (na := 0) (by decide +kernel) rfl ⟨⟨Nat.le_trans (Nat.le_of_ble_eq_true rfl) hF, Nat.le_trans (Nat.le_of_ble_eq_true rfl) hLo⟩, hk, hn⟩ rfl hcat d) (fun u => jn_ro (sb_e [] rfl rfl)) (fun r u hp => ?_)
    have hp : r = zI (0) := hp
    rw [hp]
    exact z
  · refine z_i C (z_runU (q := q) (ci := 1) (As := []) (rest := rest) (x := ⟨"HiredByLonging$Horse", "kind", "()I"⟩) (owner := "HiredByLonging$Horse") C (ct_X9_kind (zl X) G a ) q550 hlink (C.ts _ q544) (va_Decl.of (C.ts _ q542) (C.ts _ q566)) (C.ts _ q548) q549 q72 he rfl (sb_e [] rfl rfl) (na := 0) (by decide +kernel) rfl ⟨⟨Nat.le_trans (Nat.le_of_ble_eq_true rfl) hF, Nat.le_trans (Nat.le_of_ble_eq_true rfl) hLo⟩, hk, hn⟩ rfl hcat d) (fun u => jn_ro (sb_e [] rfl rfl)) (fun r u hp => ?_)
    have hp : r = zI (1) := hp
    rw [hp]
    exact z
  · refine z_i C (z_runU (q := q) (ci := 2) (As := []) (rest := rest) (x := ⟨"HiredByLonging$Horse", "kind", "()I"⟩) (owner := "HiredByLonging$Horse") C (ct_X10_kind (zl X) G a ) q547 hlink (C.ts _ q544) (va_Decl.of (C.ts _ q542) (C.ts _ q566)) (C.ts _ q545) q546 q73 he rfl (sb_e [] rfl rfl) (na := 0) (by decide +kernel) rfl ⟨⟨Nat.le_trans (Nat.le_of_ble_eq_true rfl) hF, Nat.le_trans (Nat.le_of_ble_eq_true rfl) hLo⟩, hk, hn⟩ rfl hcat d) (fun u => jn_ro (sb_e [] rfl rfl)) (fun r u hp => ?_)
    have hp : r = zI (2) := hp
    rw [hp]
    exact z
  · refine z_i C (z_runU (q := q) (ci := 3) (As := []) (rest := rest) (x := ⟨"HiredByLonging$Horse", "kind", "()I"⟩) (owner := "HiredByLonging$Horse") C (ct_X11_kind (zl X) G a ) q565 hlink (C.ts _ q544) (va_Decl.of (C.ts _ q542) (C.ts _ q566)) (C.ts _ q563) q564 q74 he rfl (sb_e [] rfl rfl) (na := 0) (by decide +kernel) rfl ⟨⟨Nat.le_trans (Nat.le_of_ble_eq_true rfl) hF, Nat.le_trans (Nat.le_of_ble_eq_true rfl) hLo⟩, hk, hn⟩ rfl hcat d) (fun u => jn_ro (sb_e [] rfl rfl)) (fun r u hp => ?_)
    have hp : r = zI (3) := hp
    rw [hp]
    exact z
  · refine z_i C (z_runU (q := q) (ci := 4) (As := []) (rest := rest) (x := ⟨"HiredByLonging$Horse", "kind", "()I"⟩) (owner := "HiredByLonging$Horse") C (ct_X12_kind (zl X) G a ) q553 hlink (C.ts _ q544) (va_Decl.of (C.ts _ q542) (C.ts _ q566)) (C.ts _ q551) q552 q75 he rfl (sb_e [] rfl rfl) (na := 0) (by decide +kernel) rfl ⟨⟨Nat.le_trans (Nat.le_of_ble_eq_true rfl) hF, Nat.le_trans (Nat.le_of_ble_eq_true rfl) hLo⟩, hk, hn⟩ rfl hcat d) (fun u => jn_ro (sb_e [] rfl rfl)) (fun r u hp => ?_)
    have hp : r = zI (4) := hp
    rw [hp]
    exact z
  · refine z_i C (z_runU (q := q) (ci := 5) (As := []) (rest := rest) (x := ⟨"HiredByLonging$Horse", "kind", "()I"⟩) (owner := "HiredByLonging$Horse") C (ct_X13_kind (zl X) G a ) q556 hlink (C.ts _ q544) (va_Decl.of (C.ts _ q542) (C.ts _ q566)) (C.ts _ q554) q555 q76 he rfl (sb_e [] rfl rfl) (na := 0) (by decide +kernel) rfl ⟨⟨Nat.le_trans (Nat.le_of_ble_eq_true rfl) hF, Nat.le_trans (Nat.le_of_ble_eq_true rfl) hLo⟩, hk, hn⟩ rfl hcat d) (fun u => jn_ro (sb_e [] rfl rfl)) (fun r u hp => ?_)
    have hp : r = zI (5) := hp
    rw [hp]
    exact z
  · refine z_i C (z_runU (q := q) (ci := 6) (As := []) (rest := rest) (x := ⟨"HiredByLonging$Horse", "kind", "()I"⟩) (owner := "HiredByLonging$Horse") C (ct_X14_kind (zl X) G a ) q562 hlink (C.ts _ q544) (va_Decl.of (C.ts _ q542) (C.ts _ q566)) (C.ts _ q560) q561 q77 he rfl (sb_e [] rfl rfl) (na := 0) (by decide +kernel) rfl ⟨⟨Nat.le_trans (Nat.le_of_ble_eq_true rfl) hF, Nat.le_trans (Nat.le_of_ble_eq_true rfl) hLo⟩, hk, hn⟩ rfl hcat d) (fun u => jn_ro (sb_e [] rfl rfl)) (fun r u hp => ?_)
    have hp : r = zI (6) := hp
    rw [hp]
    exact z
  · refine z_i C (z_runU (q := q) (ci := 7) (As := []) (rest := rest) (x := ⟨"HiredByLonging$Horse", "kind", "()I"⟩) (owner := "HiredByLonging$Horse") C (ct_X15_kind (zl X) G a ) q559 hlink (C.ts _ q544) (va_Decl.of (C.ts _ q542) (C.ts _ q566)) (C.ts _ q557) q558 q78 he rfl (sb_e [] rfl rfl) (na := 0) (by decide +kernel) rfl ⟨⟨Nat.le_trans (Nat.le_of_ble_eq_true rfl) hF, Nat.le_trans (Nat.le_of_ble_eq_true rfl) hLo⟩, hk, hn⟩ rfl hcat d) (fun u => jn_ro (sb_e [] rfl rfl)) (fun r u hp => ?_)
    have hp : r = zI (7) := hp
    rw [hp]
    exact z

theorem dsp_cost {X : ZE} {Y : ZY} {G : ZG} {k n : Nat} {ws : va_W} {pc : Nat} {lv : List (Nat × Value)} {rest : List Value} (C : CX X Y G) {idx q a kd : Nat} {f : Int} (hkd : kd < 8) (he : ws[q]? = some (a, .inr (kd, [.int (zI f)]))) (hlink : (Cond.methodLink (zow Y) idx ⟨"HiredByLonging$Horse", "cost", "()I"⟩).before (zar X) (zs X) = true)  (hF : 3 ≤ (zR Y).frames) (hLo : 60 ≤ (zR Y).locals) (hk : k ≤ (zR Y).cells) (hn : n ≤ (zR Y).slots) (hcat : (rest.map fun v => v.category).sum ≤ 8) (d : decode (zcc Y) pc = .ok (.invokevirtual idx, 3)) (z : Z X Y G k n ws (pc + 3) lv (.int (zI (costZ kd f)) :: rest)) : Z X Y G k n ws pc lv (.ref a :: rest) := by
  rcases (show kd = 0 ∨ kd = 1 ∨ kd = 2 ∨ kd = 3 ∨ kd = 4 ∨ kd = 5 ∨ kd = 6 ∨ kd = 7 by omega) with rfl | rfl | rfl | rfl | rfl | rfl | rfl | rfl
  · refine z_i C (z_runU (q := q) (ci := 0) (As := []) (rest := rest) (x := ⟨"HiredByLonging$Horse", "cost", "()I"⟩) (owner := "HiredByLonging$Horse") C (ct_X8_cost (zl X) G a ) q699 hlink (C.ts _ q694) (va_Decl.of (C.ts _ q692) (C.ts _ q699)) (C.ts _ q693) q692 q71 he rfl (sb_e [] rfl rfl) (na := 0) (by decide +kernel) rfl ⟨⟨Nat.le_trans (Nat.le_of_ble_eq_true rfl) hF, Nat.le_trans (Nat.le_of_ble_eq_true rfl) hLo⟩, hk, hn⟩ rfl hcat d) (fun u => jn_ro (sb_e [] rfl rfl)) (fun r u hp => ?_)
    have hp : r = zI (2) := hp
    have e : costZ 0 f = 2 := by simp [costZ]
    rw [e] at z
    rw [hp]
    exact z
  · refine z_i C (z_runU (q := q) (ci := 1) (As := []) (rest := rest) (x := ⟨"HiredByLonging$Horse", "cost", "()I"⟩) (owner := "HiredByLonging$Horse") C (ct_X9_cost (zl X) G a ) q702 hlink (C.ts _ q694) (va_Decl.of (C.ts _ q692) (C.ts _ q699)) (C.ts _ q700) q701 q72 he rfl (sb_e [] rfl rfl) (na := 0) (by decide +kernel) rfl ⟨⟨Nat.le_trans (Nat.le_of_ble_eq_true rfl) hF, Nat.le_trans (Nat.le_of_ble_eq_true rfl) hLo⟩, hk, hn⟩ rfl hcat d) (fun u => jn_ro (sb_e [] rfl rfl)) (fun r u hp => ?_)
    have hp : r = zI (1) := hp
    have e : costZ 1 f = 1 := by simp [costZ]
    rw [e] at z
    rw [hp]
    exact z
  · refine z_i C (z_runU (q := q) (ci := 2) (As := []) (rest := rest) (x := ⟨"HiredByLonging$Horse", "cost", "()I"⟩) (owner := "HiredByLonging$Horse") C (ct_X10_cost (zl X) G a f ) q697 hlink (C.ts _ q694) (va_Decl.of (C.ts _ q692) (C.ts _ q699)) (C.ts _ q695) q696 q73 he rfl (sb_1 he) (na := 0) (by decide +kernel) rfl ⟨⟨Nat.le_trans (Nat.le_of_ble_eq_true rfl) hF, Nat.le_trans (Nat.le_of_ble_eq_true rfl) hLo⟩, hk, hn⟩ rfl hcat d) (fun u => jn_ro (sb_1 he)) (fun r u hp => ?_)
    have hp : r = zI (2 + f) := hp
    have e : costZ 2 f = 2 + f := by simp [costZ]
    rw [e] at z
    rw [hp]
    exact z
  · refine z_i C (z_runU (q := q) (ci := 3) (As := []) (rest := rest) (x := ⟨"HiredByLonging$Horse", "cost", "()I"⟩) (owner := "HiredByLonging$Horse") C (ct_X11_cost (zl X) G a f 3 _ _ _ rfl) q719 hlink (C.ts _ q694) (va_Decl.of (C.ts _ q692) (C.ts _ q699)) (C.ts _ q721) q718 q74 he rfl (sb_1 he) (na := 0) (by decide +kernel) rfl ⟨⟨Nat.le_trans (Nat.le_of_ble_eq_true rfl) hF, Nat.le_trans (Nat.le_of_ble_eq_true rfl) hLo⟩, hk, hn⟩ rfl hcat d) (fun u => jn_ro (sb_1 he)) (fun r u hp => ?_)
    have hp : r = zI (2 * 2) := hp
    have e : costZ 3 f = 2 * 2 := by simp [costZ]
    rw [e] at z
    rw [hp]
    exact z
  · refine z_i C (z_runU (q := q) (ci := 4) (As := []) (rest := rest) (x := ⟨"HiredByLonging$Horse", "cost", "()I"⟩) (owner := "HiredByLonging$Horse") C (ct_X12_cost (zl X) G a ) q705 hlink (C.ts _ q694) (va_Decl.of (C.ts _ q692) (C.ts _ q699)) (C.ts _ q703) q704 q75 he rfl (sb_e [] rfl rfl) (na := 0) (by decide +kernel) rfl ⟨⟨Nat.le_trans (Nat.le_of_ble_eq_true rfl) hF, Nat.le_trans (Nat.le_of_ble_eq_true rfl) hLo⟩, hk, hn⟩ rfl hcat d) (fun u => jn_ro (sb_e [] rfl rfl)) (fun r u hp => ?_)
    have hp : r = zI (7) := hp
    have e : costZ 4 f = 7 := by simp [costZ]
    rw [e] at z
    rw [hp]
    exact z
  · refine z_i C (z_runU (q := q) (ci := 5) (As := []) (rest := rest) (x := ⟨"HiredByLonging$Horse", "cost", "()I"⟩) (owner := "HiredByLonging$Horse") C (ct_X13_cost (zl X) G a f ) q708 hlink (C.ts _ q694) (va_Decl.of (C.ts _ q692) (C.ts _ q699)) (C.ts _ q706) q707 q76 he rfl (sb_1 he) (na := 0) (by decide +kernel) rfl ⟨⟨Nat.le_trans (Nat.le_of_ble_eq_true rfl) hF, Nat.le_trans (Nat.le_of_ble_eq_true rfl) hLo⟩, hk, hn⟩ rfl hcat d) (fun u => jn_ro (sb_1 he)) (fun r u hp => ?_)
    have hp : r = zI (2 - 1) := hp
    have e : costZ 5 f = 2 - 1 := by simp [costZ]
    rw [e] at z
    rw [hp]
    exact z
  · refine z_i C (z_runU (q := q) (ci := 6) (As := []) (rest := rest) (x := ⟨"HiredByLonging$Horse", "cost", "()I"⟩) (owner := "HiredByLonging$Horse") C (ct_X14_cost (zl X) G a f ) q716 hlink (C.ts _ q694) (va_Decl.of (C.ts _ q692) (C.ts _ q699)) (C.ts _ q714) q715 q77 he rfl (sb_1 he) (na := 0) (by decide +kernel) rfl ⟨⟨Nat.le_trans (Nat.le_of_ble_eq_true rfl) hF, Nat.le_trans (Nat.le_of_ble_eq_true rfl) hLo⟩, hk, hn⟩ rfl hcat d) (fun u => jn_ro (sb_1 he)) (fun r u hp => ?_)
    have hp : r = zI (2 * 2 + f) := hp
    have e : costZ 6 f = 2 * 2 + f := by simp [costZ]
    rw [e] at z
    rw [hp]
    exact z
  · refine z_i C (z_runU (q := q) (ci := 7) (As := []) (rest := rest) (x := ⟨"HiredByLonging$Horse", "cost", "()I"⟩) (owner := "HiredByLonging$Horse") C (ct_X15_cost (zl X) G a f ) q712 hlink (C.ts _ q694) (va_Decl.of (C.ts _ q692) (C.ts _ q699)) (C.ts _ q710) q711 q78 he rfl (sb_1 he) (na := 0) (by decide +kernel) rfl ⟨⟨Nat.le_trans (Nat.le_of_ble_eq_true rfl) hF, Nat.le_trans (Nat.le_of_ble_eq_true rfl) hLo⟩, hk, hn⟩ rfl hcat d) (fun u => jn_ro (sb_1 he)) (fun r u hp => ?_)
    have hp : r = zI (1 + 3) := hp
    have e : costZ 7 f = 1 + 3 := by simp [costZ]
    rw [e] at z
    rw [hp]
    exact z

theorem dsp_walk {X : ZE} {Y : ZY} {G : ZG} {k n : Nat} {ws : va_W} {pc : Nat} {lv : List (Nat × Value)} {rest : List Value} (C : CX X Y G) {idx q a kd : Nat} {f : Int} (hkd : kd < 8) (he : ws[q]? = some (a, .inr (kd, [.int (zI f)]))) (hlink : (Cond.methodLink (zow Y) idx ⟨"HiredByLonging$Horse", "walk", "()I"⟩).before (zar X) (zs X) = true)  (hF : 3 ≤ (zR Y).frames) (hLo : 60 ≤ (zR Y).locals) (hk : k ≤ (zR Y).cells) (hn : n ≤ (zR Y).slots) (hcat : (rest.map fun v => v.category).sum ≤ 8) (d : decode (zcc Y) pc = .ok (.invokevirtual idx, 3)) (z : Z X Y G k n ws (pc + 3) lv (.int (zI (walkZ kd)) :: rest)) : Z X Y G k n ws pc lv (.ref a :: rest) := by
  rcases (show kd = 0 ∨ kd = 1 ∨ kd = 2 ∨ kd = 3 ∨ kd = 4 ∨ kd = 5 ∨ kd = 6 ∨ kd = 7 by omega) with rfl | rfl | rfl | rfl | rfl | rfl | rfl | rfl
  · refine z_i C (z_runD (q := q) (ci := 0) (As := []) (rest := rest) (x := ⟨"HiredByLonging$Horse", "walk", "()I"⟩) (owner := "HiredByLonging$Runs") C (ct_X17_walk (zl X) G a ) q478 hlink (gw_20 C.gk.2.1) (gw_4 C.gk.2.1) (gw_8 C.gk.2.1) q477 q1552 he rfl (sb_e [] rfl rfl) (na := 0) (by decide +kernel) rfl ⟨⟨Nat.le_trans (Nat.le_of_ble_eq_true rfl) hF, Nat.le_trans (Nat.le_of_ble_eq_true rfl) hLo⟩, hk, hn⟩ rfl hcat d) (fun u => jn_ro (sb_e [] rfl rfl)) (fun r u hp => ?_)
    have hp : r = zI (1) := hp
    have e : walkZ 0 = 1 := by simp [walkZ]
    rw [e] at z
    rw [hp]
    exact z
  · refine z_i C (z_runU (q := q) (ci := 1) (As := []) (rest := rest) (x := ⟨"HiredByLonging$Horse", "walk", "()I"⟩) (owner := "HiredByLonging$Runs") C (ct_X9_walk (zl X) G a f 1 _ _ _ rfl) q476 hlink (gw_20 C.gk.2.1) (va_Decl.abs (gw_4 (A := #[]) C.gk.2.1)) (zsel_conv (by decide +kernel) (gw_20 C.gk.2.1) (C.ts _ q474)) q475 q72 he rfl (sb_1 he) (na := 0) (by decide +kernel) rfl ⟨⟨Nat.le_trans (Nat.le_of_ble_eq_true rfl) hF, Nat.le_trans (Nat.le_of_ble_eq_true rfl) hLo⟩, hk, hn⟩ rfl hcat d) (fun u => jn_ro (sb_1 he)) (fun r u hp => ?_)
    have hp : r = zI (1 + 1) := hp
    have e : walkZ 1 = 1 + 1 := by simp [walkZ]
    rw [e] at z
    rw [hp]
    exact z
  · refine z_i C (z_runD (q := q) (ci := 2) (As := []) (rest := rest) (x := ⟨"HiredByLonging$Horse", "walk", "()I"⟩) (owner := "HiredByLonging$Runs") C (ct_X17_walk (zl X) G a ) q478 hlink (gw_20 C.gk.2.1) (gw_4 C.gk.2.1) (gw_7 C.gk.2.1) q477 q1552 he rfl (sb_e [] rfl rfl) (na := 0) (by decide +kernel) rfl ⟨⟨Nat.le_trans (Nat.le_of_ble_eq_true rfl) hF, Nat.le_trans (Nat.le_of_ble_eq_true rfl) hLo⟩, hk, hn⟩ rfl hcat d) (fun u => jn_ro (sb_e [] rfl rfl)) (fun r u hp => ?_)
    have hp : r = zI (1) := hp
    have e : walkZ 2 = 1 := by simp [walkZ]
    rw [e] at z
    rw [hp]
    exact z
  · refine z_i C (z_runD (q := q) (ci := 3) (As := []) (rest := rest) (x := ⟨"HiredByLonging$Horse", "walk", "()I"⟩) (owner := "HiredByLonging$Runs") C (ct_X17_walk (zl X) G a ) q478 hlink (gw_20 C.gk.2.1) (gw_4 C.gk.2.1) (gw_12 C.gk.2.1) q477 q1552 he rfl (sb_e [] rfl rfl) (na := 0) (by decide +kernel) rfl ⟨⟨Nat.le_trans (Nat.le_of_ble_eq_true rfl) hF, Nat.le_trans (Nat.le_of_ble_eq_true rfl) hLo⟩, hk, hn⟩ rfl hcat d) (fun u => jn_ro (sb_e [] rfl rfl)) (fun r u hp => ?_)
    have hp : r = zI (1) := hp
    have e : walkZ 3 = 1 := by simp [walkZ]
    rw [e] at z
    rw [hp]
    exact z
  · refine z_i C (z_runD (q := q) (ci := 4) (As := []) (rest := rest) (x := ⟨"HiredByLonging$Horse", "walk", "()I"⟩) (owner := "HiredByLonging$Runs") C (ct_X17_walk (zl X) G a ) q478 hlink (gw_20 C.gk.2.1) (gw_4 C.gk.2.1) (gw_9 C.gk.2.1) q477 q1552 he rfl (sb_e [] rfl rfl) (na := 0) (by decide +kernel) rfl ⟨⟨Nat.le_trans (Nat.le_of_ble_eq_true rfl) hF, Nat.le_trans (Nat.le_of_ble_eq_true rfl) hLo⟩, hk, hn⟩ rfl hcat d) (fun u => jn_ro (sb_e [] rfl rfl)) (fun r u hp => ?_)
    have hp : r = zI (1) := hp
    have e : walkZ 4 = 1 := by simp [walkZ]
    rw [e] at z
    rw [hp]
    exact z
  · refine z_i C (z_runD (q := q) (ci := 5) (As := []) (rest := rest) (x := ⟨"HiredByLonging$Horse", "walk", "()I"⟩) (owner := "HiredByLonging$Runs") C (ct_X17_walk (zl X) G a ) q478 hlink (gw_20 C.gk.2.1) (gw_4 C.gk.2.1) (gw_10 C.gk.2.1) q477 q1552 he rfl (sb_e [] rfl rfl) (na := 0) (by decide +kernel) rfl ⟨⟨Nat.le_trans (Nat.le_of_ble_eq_true rfl) hF, Nat.le_trans (Nat.le_of_ble_eq_true rfl) hLo⟩, hk, hn⟩ rfl hcat d) (fun u => jn_ro (sb_e [] rfl rfl)) (fun r u hp => ?_)
    have hp : r = zI (1) := hp
    have e : walkZ 5 = 1 := by simp [walkZ]
    rw [e] at z
    rw [hp]
    exact z
  · refine z_i C (z_runU (q := q) (ci := 6) (As := []) (rest := rest) (x := ⟨"HiredByLonging$Horse", "walk", "()I"⟩) (owner := "HiredByLonging$Runs") C (ct_X14_walk (zl X) G a f ) q488 hlink (gw_20 C.gk.2.1) (va_Decl.abs (gw_4 (A := #[]) C.gk.2.1)) (zsel_conv (by decide +kernel) (gw_20 C.gk.2.1) (C.ts _ q486)) q487 q77 he rfl (sb_1 he) (na := 0) (by decide +kernel) rfl ⟨⟨Nat.le_trans (Nat.le_of_ble_eq_true rfl) hF, Nat.le_trans (Nat.le_of_ble_eq_true rfl) hLo⟩, hk, hn⟩ rfl hcat d) (fun u => jn_ro (sb_1 he)) (fun r u hp => ?_)
    have hp : r = zI (1 + 1) := hp
    have e : walkZ 6 = 1 + 1 := by simp [walkZ]
    rw [e] at z
    rw [hp]
    exact z
  · refine z_i C (z_runU (q := q) (ci := 7) (As := []) (rest := rest) (x := ⟨"HiredByLonging$Horse", "walk", "()I"⟩) (owner := "HiredByLonging$Runs") C (ct_X15_walk (zl X) G a f ) q483 hlink (gw_20 C.gk.2.1) (va_Decl.abs (gw_4 (A := #[]) C.gk.2.1)) (zsel_conv (by decide +kernel) (gw_20 C.gk.2.1) (C.ts _ q481)) q482 q78 he rfl (sb_1 he) (na := 0) (by decide +kernel) rfl ⟨⟨Nat.le_trans (Nat.le_of_ble_eq_true rfl) hF, Nat.le_trans (Nat.le_of_ble_eq_true rfl) hLo⟩, hk, hn⟩ rfl hcat d) (fun u => jn_ro (sb_1 he)) (fun r u hp => ?_)
    have hp : r = zI (1 + 1 + 1) := hp
    have e : walkZ 7 = 1 + 1 + 1 := by simp [walkZ]
    rw [e] at z
    rw [hp]
    exact z

