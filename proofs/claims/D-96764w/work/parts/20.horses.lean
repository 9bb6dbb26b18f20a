/-! THE HORSES: pure laws and contracts of their classes' methods -/
set_option maxRecDepth 100000
def goalZ (k : Nat) (hm at_ oa : Int) : Int :=
  if k = 1 ∨ k = 7 then at_ else if k = 2 then 20 - hm else if k = 3 then (if zAbs (hm - at_) ≤ zAbs (20 - hm - at_) then hm else 20 - hm) else if k = 5 then oa else if k = 6 then (if zAbs (20 - hm - at_) ≤ zAbs (hm - at_) then hm else 20 - hm) else hm
def pinesZ (k : Nat) (f mi : Int) : Int :=
  if k = 1 ∨ k = 7 then 0 else if k = 2 then 2 * (1 + mi / 5) else if k = 4 then 1 + mi / 5 + f else if k = 5 then 1 + mi / 5 + f / 2 else if k = 6 then 1 + mi / 5 + 1 else 1 + mi / 5
def paceZ (k : Nat) (f lg : Int) : Int :=
  if k = 1 then 2 else if k = 2 then 1 + lg / 2 else if k = 5 then 1 + lg / 4 + 1 else if k = 6 then 1 + lg / 4 + f / 3 else if k = 7 then 3 else 1 + lg / 4
def walkZ (k : Nat) : Int := if k = 7 then 3 else if k = 1 ∨ k = 6 then 2 else 1
def costZ (k : Nat) (f : Int) : Int := if k = 1 ∨ k = 5 then 1 else if k = 2 then 2 + f else if k = 3 ∨ k = 7 then 4 else if k = 4 then 7 else if k = 6 then 4 + f else 2
/-- what a failure tells: 0 where there is none -/
def failZ (k : Nat) (f : Int) : Int := if k = 1 ∨ k = 7 ∨ f = 0 then 0 else if k = 3 then 100 + f else if k = 6 then 200 + (4 + f) else f
theorem goalZ_r {k : Nat} {hm at_ oa : Int} (h1 : 0 ≤ hm ∧ hm ≤ 20) (h2 : 0 ≤ at_ ∧ at_ ≤ 20) (h3 : 0 ≤ oa ∧ oa ≤ 20) : 0 ≤ goalZ k hm at_ oa ∧ goalZ k hm at_ oa ≤ 20 := by
  unfold goalZ
  repeat' split
  all_goals omega
theorem pinesZ_r {k : Nat} {f mi : Int} (h1 : 0 ≤ f ∧ f ≤ 9) (h2 : 0 ≤ mi ∧ mi ≤ 20) : 0 ≤ pinesZ k f mi ∧ pinesZ k f mi ≤ 20 := by
  unfold pinesZ
  repeat' split
  all_goals omega
theorem paceZ_r {k : Nat} {f lg : Int} (h1 : 0 ≤ f ∧ f ≤ 9) (h2 : 0 ≤ lg ∧ lg ≤ 99) : 1 ≤ paceZ k f lg ∧ paceZ k f lg ≤ 60 := by
  unfold paceZ
  repeat' split
  all_goals omega
theorem walkZ_r (k : Nat) : 1 ≤ walkZ k ∧ walkZ k ≤ 3 := by
  unfold walkZ
  repeat' split
  all_goals omega
theorem costZ_r {k : Nat} {f : Int} (h1 : 0 ≤ f ∧ f ≤ 9) : 1 ≤ costZ k f ∧ costZ k f ≤ 13 := by
  unfold costZ
  repeat' split
  all_goals omega
section FOUND
variable {s : State} {args : Array Value}
theorem zfound_def {Cn : String} {x y : MethodName} (hne : x.cls ≠ "java/lang/invoke/MethodHandle" ∧ x.cls ≠ "java/lang/invoke/VarHandle") (hl : (Cond.landsInDefault Cn x y).before args s = true) (hcl : x.cls = Cn) (hyn : y.name = x.name ∧ y.desc = x.desc) :
    ∀ cn ck r0 rr, s.vm.findClass x.cls = some cn → s.vm.classes[cn]? = some ck → ck.isInterface = false → s.vm.lookupUp cn x.name x.desc = some r0 → s.methodNamed? y = some r0 → s.vm.method? r0 = some rr → rr.isStatic = false → lookupSpecial s.vm cn x.name x.desc = .method r0 := by
  intro cn ck r0 rr h1 h2 h3 h4 h5 h6 h7
  obtain ⟨c, r, m, rm, q1, q2, q3, q4, q5, ⟨mk, q6, q7⟩, -, -⟩ := Cond.landsInDefault_spec hl
  cases h5.symm.trans q3
  rw [← hcl] at q1
  cases h1.symm.trans q1
  obtain ⟨hrn, hrd⟩ := name_of_methodNamed h5 h6
  have hr : r = r0 := by
    have hw : s.vm.lookupUp cn x.name x.desc = some r ∧ _ := (State.methodFound?_class h1 h2 h3 (fun w => by
      obtain ⟨k9, hk9, hn9⟩ := Vm.findClass_spec h1
      cases h2.symm.trans hk9
      simp [signaturePolymorphic, hn9, hne.1, hne.2]) r).mp q2
    exact Option.some.inj (hw.1.symm.trans h4)
  subst hr
  exact zspecial_default h2 h3 h4 h6 h7 (by rw [hrn, hyn.1]) (by rw [hrd, hyn.2]) q5 q6 q7
theorem zfound_cls {owner : String} {x : MethodName} (hsup : (Cond.superclass x.cls owner).before args s = true) :
    ∀ cn ck r0 rr, s.vm.findClass x.cls = some cn → s.vm.classes[cn]? = some ck → ck.isInterface = false → s.vm.lookupUp cn x.name x.desc = some r0 → s.methodNamed? ⟨owner, x.name, x.desc⟩ = some r0 → s.vm.method? r0 = some rr → rr.isStatic = false → lookupSpecial s.vm cn x.name x.desc = .method r0 := by
  intro cn ck r0 rr h1 h2 h3 h4 h5 h6 h7
  obtain ⟨p, k, kp, g1, g2, g3, g4, -, -, -⟩ := Cond.superclass_spec h1 hsup
  cases h2.symm.trans g2
  obtain ⟨kr, hkr, -⟩ := className_of_methodNamed h5
  have hc := findClass_of_methodNamed h5
  have hp : r0.cls = p := Option.some.inj (hc.symm.trans g1)
  have hdecl : kr.findMethod x.name x.desc = some r0.idx := by
    have h' := h5
    simp only [State.methodNamed?, hc, hkr, Option.bind_eq_bind, Option.bind_some, Option.bind_eq_some_iff, Option.pure_def, Option.some.injEq] at h'
    obtain ⟨i, hi, hmi⟩ := h'
    rw [← hmi]; exact hi
  refine lookupSpecial_of_declared h2 h3 h4 hkr hdecl ?_ h6 h7
  have hs : 0 < s.vm.classes.size := Nat.lt_of_le_of_lt (Nat.zero_le _) (Array.getElem?_eq_some_iff.mp h2).1
  obtain ⟨n, hn⟩ : ∃ n, s.vm.classes.size = n + 1 := ⟨s.vm.classes.size - 1, by omega⟩
  unfold Vm.isSubclass
  rw [hn]
  show (cn == r0.cls || _) = true
  simp only [Vm.isSubclassAux, h2, g4, hp]
  simp
end FOUND

set_option maxHeartbeats 4000000 in
theorem ct_X17_walk (l : Launch) (G : ZG) (h : Nat)  : CT l yX17_walk cX17_walk 1 (some .int) { frames := 0, cells := 0, slots := 0, locals := 0 } G [.ref h] [] (Qi G [] (fun (r : Int32) (u : Unit) => r = zI 1) (fun u => [])) := by
  refine z_met (by decide) (Nat.le_of_ble_eq_true rfl) ?_
  intro X A hl0 hA C hQ hin
  subst hl0
  show Z X _ G 0 0 _ 0 [(0, .ref h)] []
  refine y_iconst C dX17_walk_0 ?_
  exact z_iret C hA hQ rfl (Nat.le_of_ble_eq_true rfl) (Nat.le_of_ble_eq_true rfl) (()) (rfl) (sb_e [] rfl rfl) dX17_walk_1

set_option maxHeartbeats 4000000 in
theorem ct_X8_goal (l : Launch) (G : ZG) (h : Nat) (hm : Int) (at_ : Int) (oa : Int)  : CT l yX8_goal cX8_goal 4 (some .int) { frames := 0, cells := 0, slots := 0, locals := 0 } G [.ref h, .int (zI hm), .int (zI at_), .int (zI oa)] [] (Qi G [] (fun (r : Int32) (u : Unit) => r = zI hm) (fun u => [])) := by
  refine z_met (by decide) (Nat.le_of_ble_eq_true rfl) ?_
  intro X A hl0 hA C hQ hin
  subst hl0
  show Z X _ G 0 0 _ 0 [(0, .ref h), (1, .int (zI hm)), (2, .int (zI at_)), (3, .int (zI oa))] []
  refine z_iload_n C dX8_goal_0 rfl 1 rfl ?_
  exact z_iret C hA hQ rfl (Nat.le_of_ble_eq_true rfl) (Nat.le_of_ble_eq_true rfl) (()) (rfl) (sb_e [] rfl rfl) dX8_goal_1

set_option maxHeartbeats 4000000 in
theorem ct_X8_pines (l : Launch) (G : ZG) (h : Nat) (mi : Int) (hmi : 0 ≤ mi ∧ mi ≤ 20) : CT l yX8_pines cX8_pines 2 (some .int) { frames := 0, cells := 0, slots := 0, locals := 0 } G [.ref h, .int (zI mi)] [] (Qi G [] (fun (r : Int32) (u : Unit) => r = zI (1 + mi / 5)) (fun u => [])) := by
  refine z_met (by decide) (Nat.le_of_ble_eq_true rfl) ?_
  intro X A hl0 hA C hQ hin
  subst hl0
  show Z X _ G 0 0 _ 0 [(0, .ref h), (1, .int (zI mi))] []
  refine y_iconst C dX8_pines_0 ?_
  refine z_iload_n C dX8_pines_1 rfl 1 rfl ?_
  refine y_iconst C dX8_pines_2 ?_
  refine y_idiv C (by omega) (by omega) dX8_pines_3 ?_
  refine y_iadd C dX8_pines_4 ?_
  exact z_iret C hA hQ rfl (Nat.le_of_ble_eq_true rfl) (Nat.le_of_ble_eq_true rfl) (()) (rfl) (sb_e [] rfl rfl) dX8_pines_5

set_option maxHeartbeats 4000000 in
theorem ct_X8_pace (l : Launch) (G : ZG) (h : Nat) (lg : Int) (hlg : 0 ≤ lg ∧ lg ≤ 99) : CT l yX8_pace cX8_pace 2 (some .int) { frames := 0, cells := 0, slots := 0, locals := 0 } G [.ref h, .int (zI lg)] [] (Qi G [] (fun (r : Int32) (u : Unit) => r = zI (1 + lg / 4)) (fun u => [])) := by
  refine z_met (by decide) (Nat.le_of_ble_eq_true rfl) ?_
  intro X A hl0 hA C hQ hin
  subst hl0
  show Z X _ G 0 0 _ 0 [(0, .ref h), (1, .int (zI lg))] []
  refine y_iconst C dX8_pace_0 ?_
  refine z_iload_n C dX8_pace_1 rfl 1 rfl ?_
  refine y_iconst C dX8_pace_2 ?_
  refine y_idiv C (by omega) (by omega) dX8_pace_3 ?_
  refine y_iadd C dX8_pace_4 ?_
  exact z_iret C hA hQ rfl (Nat.le_of_ble_eq_true rfl) (Nat.le_of_ble_eq_true rfl) (()) (rfl) (sb_e [] rfl rfl) dX8_pace_5

set_option maxHeartbeats 4000000 in
theorem ct_X8_kind (l : Launch) (G : ZG) (h : Nat)  : CT l yX8_kind cX8_kind 1 (some .int) { frames := 0, cells := 0, slots := 0, locals := 0 } G [.ref h] [] (Qi G [] (fun (r : Int32) (u : Unit) => r = zI 0) (fun u => [])) := by
  refine z_met (by decide) (Nat.le_of_ble_eq_true rfl) ?_
  intro X A hl0 hA C hQ hin
  subst hl0
  show Z X _ G 0 0 _ 0 [(0, .ref h)] []
  refine y_iconst C dX8_kind_0 ?_
  exact z_iret C hA hQ rfl (Nat.le_of_ble_eq_true rfl) (Nat.le_of_ble_eq_true rfl) (()) (rfl) (sb_e [] rfl rfl) dX8_kind_1

set_option maxHeartbeats 4000000 in
theorem ct_X8_cost (l : Launch) (G : ZG) (h : Nat)  : CT l yX8_cost cX8_cost 1 (some .int) { frames := 0, cells := 0, slots := 0, locals := 0 } G [.ref h] [] (Qi G [] (fun (r : Int32) (u : Unit) => r = zI 2) (fun u => [])) := by
  refine z_met (by decide) (Nat.le_of_ble_eq_true rfl) ?_
  intro X A hl0 hA C hQ hin
  subst hl0
  show Z X _ G 0 0 _ 0 [(0, .ref h)] []
  refine y_iconst C dX8_cost_0 ?_
  exact z_iret C hA hQ rfl (Nat.le_of_ble_eq_true rfl) (Nat.le_of_ble_eq_true rfl) (()) (rfl) (sb_e [] rfl rfl) dX8_cost_1

set_option maxHeartbeats 4000000 in
theorem ct_X9_goal (l : Launch) (G : ZG) (h : Nat) (hm : Int) (at_ : Int) (oa : Int)  : CT l yX9_goal cX9_goal 4 (some .int) { frames := 0, cells := 0, slots := 0, locals := 0 } G [.ref h, .int (zI hm), .int (zI at_), .int (zI oa)] [] (Qi G [] (fun (r : Int32) (u : Unit) => r = zI at_) (fun u => [])) := by
  refine z_met (by decide) (Nat.le_of_ble_eq_true rfl) ?_
  intro X A hl0 hA C hQ hin
  subst hl0
  show Z X _ G 0 0 _ 0 [(0, .ref h), (1, .int (zI hm)), (2, .int (zI at_)), (3, .int (zI oa))] []
  refine z_iload_n C dX9_goal_0 rfl 2 rfl ?_
  exact z_iret C hA hQ rfl (Nat.le_of_ble_eq_true rfl) (Nat.le_of_ble_eq_true rfl) (()) (rfl) (sb_e [] rfl rfl) dX9_goal_1

set_option maxHeartbeats 4000000 in
theorem ct_X9_pines (l : Launch) (G : ZG) (h : Nat) (mi : Int)  : CT l yX9_pines cX9_pines 2 (some .int) { frames := 0, cells := 0, slots := 0, locals := 0 } G [.ref h, .int (zI mi)] [] (Qi G [] (fun (r : Int32) (u : Unit) => r = zI 0) (fun u => [])) := by
  refine z_met (by decide) (Nat.le_of_ble_eq_true rfl) ?_
  intro X A hl0 hA C hQ hin
  subst hl0
  show Z X _ G 0 0 _ 0 [(0, .ref h), (1, .int (zI mi))] []
  refine y_iconst C dX9_pines_0 ?_
  exact z_iret C hA hQ rfl (Nat.le_of_ble_eq_true rfl) (Nat.le_of_ble_eq_true rfl) (()) (rfl) (sb_e [] rfl rfl) dX9_pines_1

set_option maxHeartbeats 4000000 in
theorem ct_X9_pace (l : Launch) (G : ZG) (h : Nat) (lg : Int)  : CT l yX9_pace cX9_pace 2 (some .int) { frames := 0, cells := 0, slots := 0, locals := 0 } G [.ref h, .int (zI lg)] [] (Qi G [] (fun (r : Int32) (u : Unit) => r = zI 2) (fun u => [])) := by
  refine z_met (by decide) (Nat.le_of_ble_eq_true rfl) ?_
  intro X A hl0 hA C hQ hin
  subst hl0
  show Z X _ G 0 0 _ 0 [(0, .ref h), (1, .int (zI lg))] []
  refine y_iconst C dX9_pace_0 ?_
  exact z_iret C hA hQ rfl (Nat.le_of_ble_eq_true rfl) (Nat.le_of_ble_eq_true rfl) (()) (rfl) (sb_e [] rfl rfl) dX9_pace_1

set_option maxHeartbeats 4000000 in
theorem ct_X9_kind (l : Launch) (G : ZG) (h : Nat)  : CT l yX9_kind cX9_kind 1 (some .int) { frames := 0, cells := 0, slots := 0, locals := 0 } G [.ref h] [] (Qi G [] (fun (r : Int32) (u : Unit) => r = zI 1) (fun u => [])) := by
  refine z_met (by decide) (Nat.le_of_ble_eq_true rfl) ?_
  intro X A hl0 hA C hQ hin
  subst hl0
  show Z X _ G 0 0 _ 0 [(0, .ref h)] []
  refine y_iconst C dX9_kind_0 ?_
  exact z_iret C hA hQ rfl (Nat.le_of_ble_eq_true rfl) (Nat.le_of_ble_eq_true rfl) (()) (rfl) (sb_e [] rfl rfl) dX9_kind_1

set_option maxHeartbeats 4000000 in
theorem ct_X9_cost (l : Launch) (G : ZG) (h : Nat)  : CT l yX9_cost cX9_cost 1 (some .int) { frames := 0, cells := 0, slots := 0, locals := 0 } G [.ref h] [] (Qi G [] (fun (r : Int32) (u : Unit) => r = zI 1) (fun u => [])) := by
  refine z_met (by decide) (Nat.le_of_ble_eq_true rfl) ?_
  intro X A hl0 hA C hQ hin
  subst hl0
  show Z X _ G 0 0 _ 0 [(0, .ref h)] []
  refine y_iconst C dX9_cost_0 ?_
  exact z_iret C hA hQ rfl (Nat.le_of_ble_eq_true rfl) (Nat.le_of_ble_eq_true rfl) (()) (rfl) (sb_e [] rfl rfl) dX9_cost_1

set_option maxHeartbeats 4000000 in
theorem ct_X9_walk (l : Launch) (G : ZG) (h : Nat) (f : Int) (ci : Nat) (Cn : String) (Tn : u_T) (Nn : Nat) (hci : CL[ci]? = some (Cn, Tn, Nn)) : CT l yX9_walk cX9_walk 1 (some .int) { frames := 1, cells := 0, slots := 0, locals := 20 } G [.ref h] [(h, .inr (ci, [.int (zI f)]))] (Qi G [(h, .inr (ci, [.int (zI f)]))] (fun (r : Int32) (u : Unit) => r = zI (1 + 1)) (fun u => [(h, .inr (ci, [.int (zI f)]))])) := by
  refine z_met (by decide) (Nat.le_of_ble_eq_true rfl) ?_
  intro X A hl0 hA C hQ hin
  subst hl0
  show Z X _ G 0 0 _ 0 [(0, .ref h)] []
  refine z_aload_n C dX9_walk_0 rfl 0 rfl ?_
  refine z_i C (z_runUp (q := 0) (As := []) (rest := []) C (ct_X17_walk (zl X) G h ) rfl q478 q1552 q477 (gw_23 C.gk.2.1) (gw_20 C.gk.2.1) q335 (zfound_def (args := zar X) (by decide +kernel) (gw_8 C.gk.2.1) rfl ⟨rfl, rfl⟩) rfl hci (sb_e [] rfl rfl) (na := 0) (by decide +kernel) rfl (zrm rfl rfl (rfl) (rfl)) rfl (Nat.le_of_ble_eq_true rfl) dX9_walk_1) (fun u => jn_ro (sb_e [] rfl rfl)) (fun r_1 u hp_1 => ?_)
  have hp_1 : r_1 = zI 1 := hp_1
  subst hp_1
  refine y_iconst C dX9_walk_4 ?_
  refine y_iadd C dX9_walk_5 ?_
  exact z_iret C hA hQ rfl (Nat.le_of_ble_eq_true rfl) (Nat.le_of_ble_eq_true rfl) (()) (rfl) (sb_e [0] rfl rfl) dX9_walk_6

set_option maxHeartbeats 4000000 in
theorem ct_X10_goal (l : Launch) (G : ZG) (h : Nat) (hm : Int) (at_ : Int) (oa : Int)  : CT l yX10_goal cX10_goal 4 (some .int) { frames := 0, cells := 0, slots := 0, locals := 0 } G [.ref h, .int (zI hm), .int (zI at_), .int (zI oa)] [] (Qi G [] (fun (r : Int32) (u : Unit) => r = zI (20 - hm)) (fun u => [])) := by
  refine z_met (by decide) (Nat.le_of_ble_eq_true rfl) ?_
  intro X A hl0 hA C hQ hin
  subst hl0
  show Z X _ G 0 0 _ 0 [(0, .ref h), (1, .int (zI hm)), (2, .int (zI at_)), (3, .int (zI oa))] []
  refine y_bipush C dX10_goal_0 (by decide) ?_
  refine z_iload_n C dX10_goal_2 rfl 1 rfl ?_
  refine y_isub C dX10_goal_3 ?_
  exact z_iret C hA hQ rfl (Nat.le_of_ble_eq_true rfl) (Nat.le_of_ble_eq_true rfl) (()) (rfl) (sb_e [] rfl rfl) dX10_goal_4

set_option maxHeartbeats 4000000 in
theorem ct_X10_pines (l : Launch) (G : ZG) (h : Nat) (f : Int) (mi : Int) (hmi : 0 ≤ mi ∧ mi ≤ 20) : CT l yX10_pines cX10_pines 2 (some .int) { frames := 1, cells := 0, slots := 0, locals := 21 } G [.ref h, .int (zI mi)] [(h, .inr (2, [.int (zI f)]))] (Qi G [(h, .inr (2, [.int (zI f)]))] (fun (r : Int32) (u : Unit) => r = zI (2 * (1 + mi / 5))) (fun u => [(h, .inr (2, [.int (zI f)]))])) := by
  refine z_met (by decide) (Nat.le_of_ble_eq_true rfl) ?_
  intro X A hl0 hA C hQ hin
  subst hl0
  show Z X _ G 0 0 _ 0 [(0, .ref h), (1, .int (zI mi))] []
  refine y_iconst C dX10_pines_0 ?_
  refine z_aload_n C dX10_pines_1 rfl 0 rfl ?_
  refine z_iload_n C dX10_pines_2 rfl 1 rfl ?_
  refine z_i C (z_runSU (q := 0) (As := [.int (zI mi)]) (rest := [.int (zI 2)]) C (ct_X8_pines (zl X) G h mi (by assumption)) (lw_SU q511 q507 q343 q505 q71 q512) rfl rfl (sb_e [] rfl rfl) (na := 1) (by decide +kernel) rfl (zrm rfl rfl (rfl) (rfl)) rfl (Nat.le_of_ble_eq_true rfl) dX10_pines_3) (fun u => jn_ro (sb_e [] rfl rfl)) (fun r_3 u hp_3 => ?_)
  have hp_3 : r_3 = zI (1 + mi / 5) := hp_3
  subst hp_3
  refine y_imul C dX10_pines_6 ?_
  exact z_iret C hA hQ rfl (Nat.le_of_ble_eq_true rfl) (Nat.le_of_ble_eq_true rfl) (()) (rfl) (sb_e [0] rfl rfl) dX10_pines_7

set_option maxHeartbeats 4000000 in
theorem ct_X10_pace (l : Launch) (G : ZG) (h : Nat) (lg : Int) (hlg : 0 ≤ lg ∧ lg ≤ 99) : CT l yX10_pace cX10_pace 2 (some .int) { frames := 0, cells := 0, slots := 0, locals := 0 } G [.ref h, .int (zI lg)] [] (Qi G [] (fun (r : Int32) (u : Unit) => r = zI (1 + lg / 2)) (fun u => [])) := by
  refine z_met (by decide) (Nat.le_of_ble_eq_true rfl) ?_
  intro X A hl0 hA C hQ hin
  subst hl0
  show Z X _ G 0 0 _ 0 [(0, .ref h), (1, .int (zI lg))] []
  refine y_iconst C dX10_pace_0 ?_
  refine z_iload_n C dX10_pace_1 rfl 1 rfl ?_
  refine y_iconst C dX10_pace_2 ?_
  refine y_idiv C (by omega) (by omega) dX10_pace_3 ?_
  refine y_iadd C dX10_pace_4 ?_
  exact z_iret C hA hQ rfl (Nat.le_of_ble_eq_true rfl) (Nat.le_of_ble_eq_true rfl) (()) (rfl) (sb_e [] rfl rfl) dX10_pace_5

set_option maxHeartbeats 4000000 in
theorem ct_X10_kind (l : Launch) (G : ZG) (h : Nat)  : CT l yX10_kind cX10_kind 1 (some .int) { frames := 0, cells := 0, slots := 0, locals := 0 } G [.ref h] [] (Qi G [] (fun (r : Int32) (u : Unit) => r = zI 2) (fun u => [])) := by
  refine z_met (by decide) (Nat.le_of_ble_eq_true rfl) ?_
  intro X A hl0 hA C hQ hin
  subst hl0
  show Z X _ G 0 0 _ 0 [(0, .ref h)] []
  refine y_iconst C dX10_kind_0 ?_
  exact z_iret C hA hQ rfl (Nat.le_of_ble_eq_true rfl) (Nat.le_of_ble_eq_true rfl) (()) (rfl) (sb_e [] rfl rfl) dX10_kind_1

set_option maxHeartbeats 4000000 in
theorem ct_X10_cost (l : Launch) (G : ZG) (h : Nat) (f : Int)  : CT l yX10_cost cX10_cost 1 (some .int) { frames := 1, cells := 0, slots := 0, locals := 20 } G [.ref h] [(h, .inr (2, [.int (zI f)]))] (Qi G [(h, .inr (2, [.int (zI f)]))] (fun (r : Int32) (u : Unit) => r = zI (2 + f)) (fun u => [(h, .inr (2, [.int (zI f)]))])) := by
  refine z_met (by decide) (Nat.le_of_ble_eq_true rfl) ?_
  intro X A hl0 hA C hQ hin
  subst hl0
  show Z X _ G 0 0 _ 0 [(0, .ref h)] []
  refine z_aload_n C dX10_cost_0 rfl 0 rfl ?_
  refine z_i C (z_runSU (q := 0) (As := []) (rest := []) C (ct_X8_cost (zl X) G h ) (lw_SU q698 q694 q343 q692 q71 q699) rfl rfl (sb_e [] rfl rfl) (na := 0) (by decide +kernel) rfl (zrm rfl rfl (rfl) (rfl)) rfl (Nat.le_of_ble_eq_true rfl) dX10_cost_1) (fun u => jn_ro (sb_e [] rfl rfl)) (fun r_1 u hp_1 => ?_)
  have hp_1 : r_1 = zI 2 := hp_1
  subst hp_1
  refine z_aload_n C dX10_cost_4 rfl 0 rfl ?_
  refine z_get (q := 0) (kf := 0) (v := .int (zI f)) C rfl rfl in_X10 (by decide) q322 (Or.inr q323) rfl dX10_cost_5 ?_
  refine y_iadd C dX10_cost_8 ?_
  exact z_iret C hA hQ rfl (Nat.le_of_ble_eq_true rfl) (Nat.le_of_ble_eq_true rfl) (()) (rfl) (sb_e [0] rfl rfl) dX10_cost_9

set_option maxHeartbeats 4000000 in
theorem ct_X11_isHomeNearer (l : Launch) (G : ZG) (hm : Int) (at_ : Int) (hhm : 0 ≤ hm ∧ hm ≤ 20) (hat : 0 ≤ at_ ∧ at_ ≤ 20) : CT l yX11_isHomeNearer cX11_isHomeNearer 2 (some .boolean) { frames := 1, cells := 0, slots := 0, locals := 14 } G [.int (zI hm), .int (zI at_)] [] (Qi G [] (fun (r : Int32) (u : Unit) => r = zI (if zAbs (hm - at_) ≤ zAbs (20 - hm - at_) then 1 else 0)) (fun u => [])) := by
  refine z_met (by decide) (Nat.le_of_ble_eq_true rfl) ?_
  intro X A hl0 hA C hQ hin
  subst hl0
  show Z X _ G 0 0 _ 0 [(0, .int (zI hm)), (1, .int (zI at_))] []
  refine z_iload_n C dX11_isHomeNearer_0 rfl 0 rfl ?_
  refine z_iload_n C dX11_isHomeNearer_1 rfl 1 rfl ?_
  refine y_isub C dX11_isHomeNearer_2 ?_
  refine y_abs C q436 q405 q80 q406 (Nat.le_of_ble_eq_true rfl) (Nat.le_of_ble_eq_true rfl) (Nat.le_of_ble_eq_true rfl) (Nat.le_of_ble_eq_true rfl) (by omega) dX11_isHomeNearer_3 ?_
  refine y_bipush C dX11_isHomeNearer_6 (by decide) ?_
  refine z_iload_n C dX11_isHomeNearer_8 rfl 0 rfl ?_
  refine y_isub C dX11_isHomeNearer_9 ?_
  refine z_iload_n C dX11_isHomeNearer_10 rfl 1 rfl ?_
  refine y_isub C dX11_isHomeNearer_11 ?_
  refine y_abs C q436 q405 q80 q406 (Nat.le_of_ble_eq_true rfl) (Nat.le_of_ble_eq_true rfl) (Nat.le_of_ble_eq_true rfl) (Nat.le_of_ble_eq_true rfl) (by omega) dX11_isHomeNearer_12 ?_
  refine y_icmp_gt (tgt := 22) C (by have := zAbs_le (a := hm - at_) (m := 40); have := zAbs_le (a := 20 - hm - at_) (m := 40); have := zAbs_nn (hm - at_); have := zAbs_nn (20 - hm - at_); omega) (by have := zAbs_le (a := hm - at_) (m := 40); have := zAbs_le (a := 20 - hm - at_) (m := 40); have := zAbs_nn (hm - at_); have := zAbs_nn (20 - hm - at_); omega) dX11_isHomeNearer_15 (by decide) (fun c_15 => ?_) (fun c_15 => ?_)
  · skip
    refine y_iconst C dX11_isHomeNearer_22 ?_
    exact z_zret C hA hQ rfl (Nat.le_of_ble_eq_true rfl) (Nat.le_of_ble_eq_true rfl) (()) (by rw [if_neg (by omega)]) (rfl) (sb_e [] rfl rfl) dX11_isHomeNearer_23
  · skip
    refine y_iconst C dX11_isHomeNearer_18 ?_
    refine z_goto (tgt := 23) C dX11_isHomeNearer_19 (by decide) ?_
    exact z_zret C hA hQ rfl (Nat.le_of_ble_eq_true rfl) (Nat.le_of_ble_eq_true rfl) (()) (by rw [if_pos (by omega)]) (rfl) (sb_e [] rfl rfl) dX11_isHomeNearer_23

set_option maxHeartbeats 4000000 in
theorem ct_X11_goal (l : Launch) (G : ZG) (h : Nat) (hm : Int) (at_ : Int) (oa : Int) (hhm : 0 ≤ hm ∧ hm ≤ 20) (hat : 0 ≤ at_ ∧ at_ ≤ 20) (hoa : 0 ≤ oa ∧ oa ≤ 20) : CT l yX11_goal cX11_goal 4 (some .int) { frames := 2, cells := 0, slots := 0, locals := 35 } G [.ref h, .int (zI hm), .int (zI at_), .int (zI oa)] [] (Qi G [] (fun (r : Int32) (u : Unit) => r = zI (if zAbs (hm - at_) ≤ zAbs (20 - hm - at_) then hm else 20 - hm)) (fun u => [])) := by
  refine z_met (by decide) (Nat.le_of_ble_eq_true rfl) ?_
  intro X A hl0 hA C hQ hin
  subst hl0
  show Z X _ G 0 0 _ 0 [(0, .ref h), (1, .int (zI hm)), (2, .int (zI at_)), (3, .int (zI oa))] []
  refine z_iload_n C dX11_goal_0 rfl 1 rfl ?_
  refine z_iload_n C dX11_goal_1 rfl 2 rfl ?_
  refine z_i C (z_runS (As := [.int (zI hm), .int (zI at_)]) (rest := []) C (ct_X11_isHomeNearer (zl X) G hm at_ (by assumption) (by assumption)) (lw_S q433 q434 q74 q435) (sb_e [] rfl rfl) (na := 2) (by decide +kernel) rfl (zrm rfl rfl (rfl) (rfl)) rfl (Nat.le_of_ble_eq_true rfl) dX11_goal_2) (fun u => jn_ro (sb_e [] rfl rfl)) (fun r_2 u hp_2 => ?_)
  have hp_2 : r_2 = zI (if zAbs (hm - at_) ≤ zAbs (20 - hm - at_) then 1 else 0) := hp_2
  subst hp_2
  obtain ⟨bb, hbb⟩ : ∃ bb : Int, bb = (if zAbs (hm - at_) ≤ zAbs (20 - hm - at_) then 1 else 0) := ⟨_, rfl⟩
  rw [← hbb]
  have hb2 : (bb = 1 ∧ zAbs (hm - at_) ≤ zAbs (20 - hm - at_)) ∨ (bb = 0 ∧ ¬ zAbs (hm - at_) ≤ zAbs (20 - hm - at_)) := by rw [hbb]; split <;> simp_all
  refine y_if_eq (tgt := 12) C (by omega) dX11_goal_5 (by decide) (fun c_5 => ?_) (fun c_5 => ?_)
  · skip
    refine y_bipush C dX11_goal_12 (by decide) ?_
    refine z_iload_n C dX11_goal_14 rfl 1 rfl ?_
    refine y_isub C dX11_goal_15 ?_
    exact z_iret C hA hQ rfl (Nat.le_of_ble_eq_true rfl) (Nat.le_of_ble_eq_true rfl) (()) (by rw [if_neg (by omega)]) (sb_e [] rfl rfl) dX11_goal_16
  · skip
    refine z_iload_n C dX11_goal_8 rfl 1 rfl ?_
    refine z_goto (tgt := 16) C dX11_goal_9 (by decide) ?_
    exact z_iret C hA hQ rfl (Nat.le_of_ble_eq_true rfl) (Nat.le_of_ble_eq_true rfl) (()) (by rw [if_pos (by omega)]) (sb_e [] rfl rfl) dX11_goal_16

set_option maxHeartbeats 4000000 in
theorem ct_X11_kind (l : Launch) (G : ZG) (h : Nat)  : CT l yX11_kind cX11_kind 1 (some .int) { frames := 0, cells := 0, slots := 0, locals := 0 } G [.ref h] [] (Qi G [] (fun (r : Int32) (u : Unit) => r = zI 3) (fun u => [])) := by
  refine z_met (by decide) (Nat.le_of_ble_eq_true rfl) ?_
  intro X A hl0 hA C hQ hin
  subst hl0
  show Z X _ G 0 0 _ 0 [(0, .ref h)] []
  refine y_iconst C dX11_kind_0 ?_
  exact z_iret C hA hQ rfl (Nat.le_of_ble_eq_true rfl) (Nat.le_of_ble_eq_true rfl) (()) (rfl) (sb_e [] rfl rfl) dX11_kind_1

set_option maxHeartbeats 4000000 in
theorem ct_X11_cost (l : Launch) (G : ZG) (h : Nat) (f : Int) (ci : Nat) (Cn : String) (Tn : u_T) (Nn : Nat) (hci : CL[ci]? = some (Cn, Tn, Nn)) : CT l yX11_cost cX11_cost 1 (some .int) { frames := 1, cells := 0, slots := 0, locals := 20 } G [.ref h] [(h, .inr (ci, [.int (zI f)]))] (Qi G [(h, .inr (ci, [.int (zI f)]))] (fun (r : Int32) (u : Unit) => r = zI (2 * 2)) (fun u => [(h, .inr (ci, [.int (zI f)]))])) := by
  refine z_met (by decide) (Nat.le_of_ble_eq_true rfl) ?_
  intro X A hl0 hA C hQ hin
  subst hl0
  show Z X _ G 0 0 _ 0 [(0, .ref h)] []
  refine y_iconst C dX11_cost_0 ?_
  refine z_aload_n C dX11_cost_1 rfl 0 rfl ?_
  refine z_i C (z_runSU (q := 0) (As := []) (rest := [.int (zI 2)]) C (ct_X8_cost (zl X) G h ) (lw_SU q720 q694 q351 q692 q71 q699) rfl hci (sb_e [] rfl rfl) (na := 0) (by decide +kernel) rfl (zrm rfl rfl (rfl) (rfl)) rfl (Nat.le_of_ble_eq_true rfl) dX11_cost_2) (fun u => jn_ro (sb_e [] rfl rfl)) (fun r_2 u hp_2 => ?_)
  have hp_2 : r_2 = zI 2 := hp_2
  subst hp_2
  refine y_imul C dX11_cost_5 ?_
  exact z_iret C hA hQ rfl (Nat.le_of_ble_eq_true rfl) (Nat.le_of_ble_eq_true rfl) (()) (rfl) (sb_e [0] rfl rfl) dX11_cost_6

set_option maxHeartbeats 4000000 in
theorem ct_X12_pines (l : Launch) (G : ZG) (h : Nat) (f : Int) (mi : Int) (hmi : 0 ≤ mi ∧ mi ≤ 20) : CT l yX12_pines cX12_pines 2 (some .int) { frames := 1, cells := 0, slots := 0, locals := 21 } G [.ref h, .int (zI mi)] [(h, .inr (4, [.int (zI f)]))] (Qi G [(h, .inr (4, [.int (zI f)]))] (fun (r : Int32) (u : Unit) => r = zI (1 + mi / 5 + f)) (fun u => [(h, .inr (4, [.int (zI f)]))])) := by
  refine z_met (by decide) (Nat.le_of_ble_eq_true rfl) ?_
  intro X A hl0 hA C hQ hin
  subst hl0
  show Z X _ G 0 0 _ 0 [(0, .ref h), (1, .int (zI mi))] []
  refine z_aload_n C dX12_pines_0 rfl 0 rfl ?_
  refine z_iload_n C dX12_pines_1 rfl 1 rfl ?_
  refine z_i C (z_runSU (q := 0) (As := [.int (zI mi)]) (rest := []) C (ct_X8_pines (zl X) G h mi (by assumption)) (lw_SU q519 q507 q359 q505 q71 q512) rfl rfl (sb_e [] rfl rfl) (na := 1) (by decide +kernel) rfl (zrm rfl rfl (rfl) (rfl)) rfl (Nat.le_of_ble_eq_true rfl) dX12_pines_2) (fun u => jn_ro (sb_e [] rfl rfl)) (fun r_2 u hp_2 => ?_)
  have hp_2 : r_2 = zI (1 + mi / 5) := hp_2
  subst hp_2
  refine z_aload_n C dX12_pines_5 rfl 0 rfl ?_
  refine z_get (q := 0) (kf := 0) (v := .int (zI f)) C rfl rfl in_X12 (by decide) q316 (Or.inr q317) rfl dX12_pines_6 ?_
  refine y_iadd C dX12_pines_9 ?_
  exact z_iret C hA hQ rfl (Nat.le_of_ble_eq_true rfl) (Nat.le_of_ble_eq_true rfl) (()) (rfl) (sb_e [0] rfl rfl) dX12_pines_10

set_option maxHeartbeats 4000000 in
theorem ct_X12_kind (l : Launch) (G : ZG) (h : Nat)  : CT l yX12_kind cX12_kind 1 (some .int) { frames := 0, cells := 0, slots := 0, locals := 0 } G [.ref h] [] (Qi G [] (fun (r : Int32) (u : Unit) => r = zI 4) (fun u => [])) := by
  refine z_met (by decide) (Nat.le_of_ble_eq_true rfl) ?_
  intro X A hl0 hA C hQ hin
  subst hl0
  show Z X _ G 0 0 _ 0 [(0, .ref h)] []
  refine y_iconst C dX12_kind_0 ?_
  exact z_iret C hA hQ rfl (Nat.le_of_ble_eq_true rfl) (Nat.le_of_ble_eq_true rfl) (()) (rfl) (sb_e [] rfl rfl) dX12_kind_1

set_option maxHeartbeats 4000000 in
theorem ct_X12_cost (l : Launch) (G : ZG) (h : Nat)  : CT l yX12_cost cX12_cost 1 (some .int) { frames := 0, cells := 0, slots := 0, locals := 0 } G [.ref h] [] (Qi G [] (fun (r : Int32) (u : Unit) => r = zI 7) (fun u => [])) := by
  refine z_met (by decide) (Nat.le_of_ble_eq_true rfl) ?_
  intro X A hl0 hA C hQ hin
  subst hl0
  show Z X _ G 0 0 _ 0 [(0, .ref h)] []
  refine y_bipush C dX12_cost_0 (by decide) ?_
  exact z_iret C hA hQ rfl (Nat.le_of_ble_eq_true rfl) (Nat.le_of_ble_eq_true rfl) (()) (rfl) (sb_e [] rfl rfl) dX12_cost_2

set_option maxHeartbeats 4000000 in
theorem ct_X13_goal (l : Launch) (G : ZG) (h : Nat) (hm : Int) (at_ : Int) (oa : Int)  : CT l yX13_goal cX13_goal 4 (some .int) { frames := 0, cells := 0, slots := 0, locals := 0 } G [.ref h, .int (zI hm), .int (zI at_), .int (zI oa)] [] (Qi G [] (fun (r : Int32) (u : Unit) => r = zI oa) (fun u => [])) := by
  refine z_met (by decide) (Nat.le_of_ble_eq_true rfl) ?_
  intro X A hl0 hA C hQ hin
  subst hl0
  show Z X _ G 0 0 _ 0 [(0, .ref h), (1, .int (zI hm)), (2, .int (zI at_)), (3, .int (zI oa))] []
  refine z_iload_n C dX13_goal_0 rfl 3 rfl ?_
  exact z_iret C hA hQ rfl (Nat.le_of_ble_eq_true rfl) (Nat.le_of_ble_eq_true rfl) (()) (rfl) (sb_e [] rfl rfl) dX13_goal_1

set_option maxHeartbeats 4000000 in
theorem ct_X13_pace (l : Launch) (G : ZG) (h : Nat) (f : Int) (lg : Int) (hlg : 0 ≤ lg ∧ lg ≤ 99) : CT l yX13_pace cX13_pace 2 (some .int) { frames := 1, cells := 0, slots := 0, locals := 21 } G [.ref h, .int (zI lg)] [(h, .inr (5, [.int (zI f)]))] (Qi G [(h, .inr (5, [.int (zI f)]))] (fun (r : Int32) (u : Unit) => r = zI (1 + lg / 4 + 1)) (fun u => [(h, .inr (5, [.int (zI f)]))])) := by
  refine z_met (by decide) (Nat.le_of_ble_eq_true rfl) ?_
  intro X A hl0 hA C hQ hin
  subst hl0
  show Z X _ G 0 0 _ 0 [(0, .ref h), (1, .int (zI lg))] []
  refine z_aload_n C dX13_pace_0 rfl 0 rfl ?_
  refine z_iload_n C dX13_pace_1 rfl 1 rfl ?_
  refine z_i C (z_runSU (q := 0) (As := [.int (zI lg)]) (rest := []) C (ct_X8_pace (zl X) G h lg (by assumption)) (lw_SU q456 q445 q367 q443 q71 q457) rfl rfl (sb_e [] rfl rfl) (na := 1) (by decide +kernel) rfl (zrm rfl rfl (rfl) (rfl)) rfl (Nat.le_of_ble_eq_true rfl) dX13_pace_2) (fun u => jn_ro (sb_e [] rfl rfl)) (fun r_2 u hp_2 => ?_)
  have hp_2 : r_2 = zI (1 + lg / 4) := hp_2
  subst hp_2
  refine y_iconst C dX13_pace_5 ?_
  refine y_iadd C dX13_pace_6 ?_
  exact z_iret C hA hQ rfl (Nat.le_of_ble_eq_true rfl) (Nat.le_of_ble_eq_true rfl) (()) (rfl) (sb_e [0] rfl rfl) dX13_pace_7

set_option maxHeartbeats 4000000 in
theorem ct_X13_pines (l : Launch) (G : ZG) (h : Nat) (f : Int) (mi : Int) (hmi : 0 ≤ mi ∧ mi ≤ 20) (hf : 0 ≤ f ∧ f ≤ 9) : CT l yX13_pines cX13_pines 2 (some .int) { frames := 1, cells := 0, slots := 0, locals := 21 } G [.ref h, .int (zI mi)] [(h, .inr (5, [.int (zI f)]))] (Qi G [(h, .inr (5, [.int (zI f)]))] (fun (r : Int32) (u : Unit) => r = zI (1 + mi / 5 + f / 2)) (fun u => [(h, .inr (5, [.int (zI f)]))])) := by
  refine z_met (by decide) (Nat.le_of_ble_eq_true rfl) ?_
  intro X A hl0 hA C hQ hin
  subst hl0
  show Z X _ G 0 0 _ 0 [(0, .ref h), (1, .int (zI mi))] []
  refine z_aload_n C dX13_pines_0 rfl 0 rfl ?_
  refine z_iload_n C dX13_pines_1 rfl 1 rfl ?_
  refine z_i C (z_runSU (q := 0) (As := [.int (zI mi)]) (rest := []) C (ct_X8_pines (zl X) G h mi (by assumption)) (lw_SU q523 q507 q367 q505 q71 q512) rfl rfl (sb_e [] rfl rfl) (na := 1) (by decide +kernel) rfl (zrm rfl rfl (rfl) (rfl)) rfl (Nat.le_of_ble_eq_true rfl) dX13_pines_2) (fun u => jn_ro (sb_e [] rfl rfl)) (fun r_2 u hp_2 => ?_)
  have hp_2 : r_2 = zI (1 + mi / 5) := hp_2
  subst hp_2
  refine z_aload_n C dX13_pines_5 rfl 0 rfl ?_
  refine z_get (q := 0) (kf := 0) (v := .int (zI f)) C rfl rfl in_X13 (by decide) q318 (Or.inr q319) rfl dX13_pines_6 ?_
  refine y_iconst C dX13_pines_9 ?_
  refine y_idiv C (by omega) (by omega) dX13_pines_10 ?_
  refine y_iadd C dX13_pines_11 ?_
  exact z_iret C hA hQ rfl (Nat.le_of_ble_eq_true rfl) (Nat.le_of_ble_eq_true rfl) (()) (rfl) (sb_e [0] rfl rfl) dX13_pines_12

set_option maxHeartbeats 4000000 in
theorem ct_X13_kind (l : Launch) (G : ZG) (h : Nat)  : CT l yX13_kind cX13_kind 1 (some .int) { frames := 0, cells := 0, slots := 0, locals := 0 } G [.ref h] [] (Qi G [] (fun (r : Int32) (u : Unit) => r = zI 5) (fun u => [])) := by
  refine z_met (by decide) (Nat.le_of_ble_eq_true rfl) ?_
  intro X A hl0 hA C hQ hin
  subst hl0
  show Z X _ G 0 0 _ 0 [(0, .ref h)] []
  refine y_iconst C dX13_kind_0 ?_
  exact z_iret C hA hQ rfl (Nat.le_of_ble_eq_true rfl) (Nat.le_of_ble_eq_true rfl) (()) (rfl) (sb_e [] rfl rfl) dX13_kind_1

set_option maxHeartbeats 4000000 in
theorem ct_X13_cost (l : Launch) (G : ZG) (h : Nat) (f : Int)  : CT l yX13_cost cX13_cost 1 (some .int) { frames := 1, cells := 0, slots := 0, locals := 20 } G [.ref h] [(h, .inr (5, [.int (zI f)]))] (Qi G [(h, .inr (5, [.int (zI f)]))] (fun (r : Int32) (u : Unit) => r = zI (2 - 1)) (fun u => [(h, .inr (5, [.int (zI f)]))])) := by
  refine z_met (by decide) (Nat.le_of_ble_eq_true rfl) ?_
  intro X A hl0 hA C hQ hin
  subst hl0
  show Z X _ G 0 0 _ 0 [(0, .ref h)] []
  refine z_aload_n C dX13_cost_0 rfl 0 rfl ?_
  refine z_i C (z_runSU (q := 0) (As := []) (rest := []) C (ct_X8_cost (zl X) G h ) (lw_SU q709 q694 q367 q692 q71 q699) rfl rfl (sb_e [] rfl rfl) (na := 0) (by decide +kernel) rfl (zrm rfl rfl (rfl) (rfl)) rfl (Nat.le_of_ble_eq_true rfl) dX13_cost_1) (fun u => jn_ro (sb_e [] rfl rfl)) (fun r_1 u hp_1 => ?_)
  have hp_1 : r_1 = zI 2 := hp_1
  subst hp_1
  refine y_iconst C dX13_cost_4 ?_
  refine y_isub C dX13_cost_5 ?_
  exact z_iret C hA hQ rfl (Nat.le_of_ble_eq_true rfl) (Nat.le_of_ble_eq_true rfl) (()) (rfl) (sb_e [0] rfl rfl) dX13_cost_6

set_option maxHeartbeats 4000000 in
theorem ct_X14_goal (l : Launch) (G : ZG) (h : Nat) (hm : Int) (at_ : Int) (oa : Int) (hhm : 0 ≤ hm ∧ hm ≤ 20) (hat : 0 ≤ at_ ∧ at_ ≤ 20) : CT l yX14_goal cX14_goal 4 (some .int) { frames := 1, cells := 0, slots := 0, locals := 14 } G [.ref h, .int (zI hm), .int (zI at_), .int (zI oa)] [] (Qi G [] (fun (r : Int32) (u : Unit) => r = zI (if zAbs (20 - hm - at_) ≤ zAbs (hm - at_) then hm else 20 - hm)) (fun u => [])) := by
  refine z_met (by decide) (Nat.le_of_ble_eq_true rfl) ?_
  intro X A hl0 hA C hQ hin
  subst hl0
  show Z X _ G 0 0 _ 0 [(0, .ref h), (1, .int (zI hm)), (2, .int (zI at_)), (3, .int (zI oa))] []
  refine z_iload_n C dX14_goal_0 rfl 1 rfl ?_
  refine z_iload_n C dX14_goal_1 rfl 2 rfl ?_
  refine y_isub C dX14_goal_2 ?_
  refine y_abs C q429 q405 q80 q406 (Nat.le_of_ble_eq_true rfl) (Nat.le_of_ble_eq_true rfl) (Nat.le_of_ble_eq_true rfl) (Nat.le_of_ble_eq_true rfl) (by omega) dX14_goal_3 ?_
  refine y_bipush C dX14_goal_6 (by decide) ?_
  refine z_iload_n C dX14_goal_8 rfl 1 rfl ?_
  refine y_isub C dX14_goal_9 ?_
  refine z_iload_n C dX14_goal_10 rfl 2 rfl ?_
  refine y_isub C dX14_goal_11 ?_
  refine y_abs C q429 q405 q80 q406 (Nat.le_of_ble_eq_true rfl) (Nat.le_of_ble_eq_true rfl) (Nat.le_of_ble_eq_true rfl) (Nat.le_of_ble_eq_true rfl) (by omega) dX14_goal_12 ?_
  refine y_icmp_lt (tgt := 22) C (by have := zAbs_le (a := hm - at_) (m := 40); have := zAbs_le (a := 20 - hm - at_) (m := 40); have := zAbs_nn (hm - at_); have := zAbs_nn (20 - hm - at_); omega) (by have := zAbs_le (a := hm - at_) (m := 40); have := zAbs_le (a := 20 - hm - at_) (m := 40); have := zAbs_nn (hm - at_); have := zAbs_nn (20 - hm - at_); omega) dX14_goal_15 (by decide) (fun c_15 => ?_) (fun c_15 => ?_)
  · skip
    refine y_bipush C dX14_goal_22 (by decide) ?_
    refine z_iload_n C dX14_goal_24 rfl 1 rfl ?_
    refine y_isub C dX14_goal_25 ?_
    exact z_iret C hA hQ rfl (Nat.le_of_ble_eq_true rfl) (Nat.le_of_ble_eq_true rfl) (()) (by rw [if_neg (by omega)]) (sb_e [] rfl rfl) dX14_goal_26
  · skip
    refine z_iload_n C dX14_goal_18 rfl 1 rfl ?_
    refine z_goto (tgt := 26) C dX14_goal_19 (by decide) ?_
    exact z_iret C hA hQ rfl (Nat.le_of_ble_eq_true rfl) (Nat.le_of_ble_eq_true rfl) (()) (by rw [if_pos (by omega)]) (sb_e [] rfl rfl) dX14_goal_26

set_option maxHeartbeats 4000000 in
theorem ct_X14_pace (l : Launch) (G : ZG) (h : Nat) (f : Int) (lg : Int) (hlg : 0 ≤ lg ∧ lg ≤ 99) (hf : 0 ≤ f ∧ f ≤ 9) : CT l yX14_pace cX14_pace 2 (some .int) { frames := 1, cells := 0, slots := 0, locals := 21 } G [.ref h, .int (zI lg)] [(h, .inr (6, [.int (zI f)]))] (Qi G [(h, .inr (6, [.int (zI f)]))] (fun (r : Int32) (u : Unit) => r = zI (1 + lg / 4 + f / 3)) (fun u => [(h, .inr (6, [.int (zI f)]))])) := by
  refine z_met (by decide) (Nat.le_of_ble_eq_true rfl) ?_
  intro X A hl0 hA C hQ hin
  subst hl0
  show Z X _ G 0 0 _ 0 [(0, .ref h), (1, .int (zI lg))] []
  refine z_aload_n C dX14_pace_0 rfl 0 rfl ?_
  refine z_iload_n C dX14_pace_1 rfl 1 rfl ?_
  refine z_i C (z_runUp (q := 0) (As := [.int (zI lg)]) (rest := []) C (ct_X8_pace (zl X) G h lg (by assumption)) rfl q457 q71 q443 (C.ts _ q465) (C.ts _ q466) q375 (zfound_cls (args := zar X) (C.ts _ q351)) rfl rfl (sb_e [] rfl rfl) (na := 1) (by decide +kernel) rfl (zrm rfl rfl (rfl) (rfl)) rfl (Nat.le_of_ble_eq_true rfl) dX14_pace_2) (fun u => jn_ro (sb_e [] rfl rfl)) (fun r_2 u hp_2 => ?_)
  have hp_2 : r_2 = zI (1 + lg / 4) := hp_2
  subst hp_2
  refine z_aload_n C dX14_pace_5 rfl 0 rfl ?_
  refine z_get (q := 0) (kf := 0) (v := .int (zI f)) C rfl rfl in_X14 (by decide) q320 (Or.inr q321) rfl dX14_pace_6 ?_
  refine y_iconst C dX14_pace_9 ?_
  refine y_idiv C (by omega) (by omega) dX14_pace_10 ?_
  refine y_iadd C dX14_pace_11 ?_
  exact z_iret C hA hQ rfl (Nat.le_of_ble_eq_true rfl) (Nat.le_of_ble_eq_true rfl) (()) (rfl) (sb_e [0] rfl rfl) dX14_pace_12

set_option maxHeartbeats 4000000 in
theorem ct_X14_pines (l : Launch) (G : ZG) (h : Nat) (f : Int) (mi : Int) (hmi : 0 ≤ mi ∧ mi ≤ 20) : CT l yX14_pines cX14_pines 2 (some .int) { frames := 1, cells := 0, slots := 0, locals := 21 } G [.ref h, .int (zI mi)] [(h, .inr (6, [.int (zI f)]))] (Qi G [(h, .inr (6, [.int (zI f)]))] (fun (r : Int32) (u : Unit) => r = zI (1 + mi / 5 + 1)) (fun u => [(h, .inr (6, [.int (zI f)]))])) := by
  refine z_met (by decide) (Nat.le_of_ble_eq_true rfl) ?_
  intro X A hl0 hA C hQ hin
  subst hl0
  show Z X _ G 0 0 _ 0 [(0, .ref h), (1, .int (zI mi))] []
  refine z_aload_n C dX14_pines_0 rfl 0 rfl ?_
  refine z_iload_n C dX14_pines_1 rfl 1 rfl ?_
  refine z_i C (z_runUp (q := 0) (As := [.int (zI mi)]) (rest := []) C (ct_X8_pines (zl X) G h mi (by assumption)) rfl q512 q71 q505 (C.ts _ q528) (C.ts _ q529) q375 (zfound_cls (args := zar X) (C.ts _ q351)) rfl rfl (sb_e [] rfl rfl) (na := 1) (by decide +kernel) rfl (zrm rfl rfl (rfl) (rfl)) rfl (Nat.le_of_ble_eq_true rfl) dX14_pines_2) (fun u => jn_ro (sb_e [] rfl rfl)) (fun r_2 u hp_2 => ?_)
  have hp_2 : r_2 = zI (1 + mi / 5) := hp_2
  subst hp_2
  refine y_iconst C dX14_pines_5 ?_
  refine y_iadd C dX14_pines_6 ?_
  exact z_iret C hA hQ rfl (Nat.le_of_ble_eq_true rfl) (Nat.le_of_ble_eq_true rfl) (()) (rfl) (sb_e [0] rfl rfl) dX14_pines_7

set_option maxHeartbeats 4000000 in
theorem ct_X14_walk (l : Launch) (G : ZG) (h : Nat) (f : Int)  : CT l yX14_walk cX14_walk 1 (some .int) { frames := 1, cells := 0, slots := 0, locals := 20 } G [.ref h] [(h, .inr (6, [.int (zI f)]))] (Qi G [(h, .inr (6, [.int (zI f)]))] (fun (r : Int32) (u : Unit) => r = zI (1 + 1)) (fun u => [(h, .inr (6, [.int (zI f)]))])) := by
  refine z_met (by decide) (Nat.le_of_ble_eq_true rfl) ?_
  intro X A hl0 hA C hQ hin
  subst hl0
  show Z X _ G 0 0 _ 0 [(0, .ref h)] []
  refine z_aload_n C dX14_walk_0 rfl 0 rfl ?_
  refine z_i C (z_runUp (q := 0) (As := []) (rest := []) C (ct_X17_walk (zl X) G h ) rfl q478 q1552 q477 (gw_24 C.gk.2.1) (gw_21 C.gk.2.1) q375 (zfound_def (args := zar X) (by decide +kernel) (gw_11 C.gk.2.1) rfl ⟨rfl, rfl⟩) rfl rfl (sb_e [] rfl rfl) (na := 0) (by decide +kernel) rfl (zrm rfl rfl (rfl) (rfl)) rfl (Nat.le_of_ble_eq_true rfl) dX14_walk_1) (fun u => jn_ro (sb_e [] rfl rfl)) (fun r_1 u hp_1 => ?_)
  have hp_1 : r_1 = zI 1 := hp_1
  subst hp_1
  refine y_iconst C dX14_walk_4 ?_
  refine y_iadd C dX14_walk_5 ?_
  exact z_iret C hA hQ rfl (Nat.le_of_ble_eq_true rfl) (Nat.le_of_ble_eq_true rfl) (()) (rfl) (sb_e [0] rfl rfl) dX14_walk_6

set_option maxHeartbeats 4000000 in
theorem ct_X14_kind (l : Launch) (G : ZG) (h : Nat)  : CT l yX14_kind cX14_kind 1 (some .int) { frames := 0, cells := 0, slots := 0, locals := 0 } G [.ref h] [] (Qi G [] (fun (r : Int32) (u : Unit) => r = zI 6) (fun u => [])) := by
  refine z_met (by decide) (Nat.le_of_ble_eq_true rfl) ?_
  intro X A hl0 hA C hQ hin
  subst hl0
  show Z X _ G 0 0 _ 0 [(0, .ref h)] []
  refine y_bipush C dX14_kind_0 (by decide) ?_
  exact z_iret C hA hQ rfl (Nat.le_of_ble_eq_true rfl) (Nat.le_of_ble_eq_true rfl) (()) (rfl) (sb_e [] rfl rfl) dX14_kind_2

set_option maxHeartbeats 4000000 in
theorem ct_X14_cost (l : Launch) (G : ZG) (h : Nat) (f : Int)  : CT l yX14_cost cX14_cost 1 (some .int) { frames := 2, cells := 0, slots := 0, locals := 40 } G [.ref h] [(h, .inr (6, [.int (zI f)]))] (Qi G [(h, .inr (6, [.int (zI f)]))] (fun (r : Int32) (u : Unit) => r = zI (2 * 2 + f)) (fun u => [(h, .inr (6, [.int (zI f)]))])) := by
  refine z_met (by decide) (Nat.le_of_ble_eq_true rfl) ?_
  intro X A hl0 hA C hQ hin
  subst hl0
  show Z X _ G 0 0 _ 0 [(0, .ref h)] []
  refine z_aload_n C dX14_cost_0 rfl 0 rfl ?_
  refine z_i C (z_runSU (q := 0) (As := []) (rest := []) C (ct_X11_cost (zl X) G h f 6 RX14 TX14 1 (rfl)) (lw_SU q717 q1549 q375 q718 q74 q719) rfl rfl (sb_e [0] rfl rfl) (na := 0) (by decide +kernel) rfl (zrm rfl rfl (rfl) (rfl)) rfl (Nat.le_of_ble_eq_true rfl) dX14_cost_1) (fun u => jn_ro (sb_e [0] rfl rfl)) (fun r_1 u hp_1 => ?_)
  have hp_1 : r_1 = zI (2 * 2) := hp_1
  subst hp_1
  refine z_aload_n C dX14_cost_4 rfl 0 rfl ?_
  refine z_get (q := 0) (kf := 0) (v := .int (zI f)) C rfl rfl in_X14 (by decide) q320 (Or.inr q321) rfl dX14_cost_5 ?_
  refine y_iadd C dX14_cost_8 ?_
  exact z_iret C hA hQ rfl (Nat.le_of_ble_eq_true rfl) (Nat.le_of_ble_eq_true rfl) (()) (rfl) (sb_e [0] rfl rfl) dX14_cost_9

set_option maxHeartbeats 4000000 in
theorem ct_X15_pace (l : Launch) (G : ZG) (h : Nat) (f : Int) (lg : Int)  : CT l yX15_pace cX15_pace 2 (some .int) { frames := 1, cells := 0, slots := 0, locals := 21 } G [.ref h, .int (zI lg)] [(h, .inr (7, [.int (zI f)]))] (Qi G [(h, .inr (7, [.int (zI f)]))] (fun (r : Int32) (u : Unit) => r = zI (2 + 1)) (fun u => [(h, .inr (7, [.int (zI f)]))])) := by
  refine z_met (by decide) (Nat.le_of_ble_eq_true rfl) ?_
  intro X A hl0 hA C hQ hin
  subst hl0
  show Z X _ G 0 0 _ 0 [(0, .ref h), (1, .int (zI lg))] []
  refine z_aload_n C dX15_pace_0 rfl 0 rfl ?_
  refine z_iload_n C dX15_pace_1 rfl 1 rfl ?_
  refine z_i C (z_runSU (q := 0) (As := [.int (zI lg)]) (rest := []) C (ct_X9_pace (zl X) G h lg ) (lw_SU q461 q1546 q383 q450 q72 q451) rfl rfl (sb_e [] rfl rfl) (na := 1) (by decide +kernel) rfl (zrm rfl rfl (rfl) (rfl)) rfl (Nat.le_of_ble_eq_true rfl) dX15_pace_2) (fun u => jn_ro (sb_e [] rfl rfl)) (fun r_2 u hp_2 => ?_)
  have hp_2 : r_2 = zI 2 := hp_2
  subst hp_2
  refine y_iconst C dX15_pace_5 ?_
  refine y_iadd C dX15_pace_6 ?_
  exact z_iret C hA hQ rfl (Nat.le_of_ble_eq_true rfl) (Nat.le_of_ble_eq_true rfl) (()) (rfl) (sb_e [0] rfl rfl) dX15_pace_7

set_option maxHeartbeats 4000000 in
theorem ct_X15_walk (l : Launch) (G : ZG) (h : Nat) (f : Int)  : CT l yX15_walk cX15_walk 1 (some .int) { frames := 2, cells := 0, slots := 0, locals := 40 } G [.ref h] [(h, .inr (7, [.int (zI f)]))] (Qi G [(h, .inr (7, [.int (zI f)]))] (fun (r : Int32) (u : Unit) => r = zI (1 + 1 + 1)) (fun u => [(h, .inr (7, [.int (zI f)]))])) := by
  refine z_met (by decide) (Nat.le_of_ble_eq_true rfl) ?_
  intro X A hl0 hA C hQ hin
  subst hl0
  show Z X _ G 0 0 _ 0 [(0, .ref h)] []
  refine z_aload_n C dX15_walk_0 rfl 0 rfl ?_
  refine z_i C (z_runSU (q := 0) (As := []) (rest := []) C (ct_X9_walk (zl X) G h f 7 RX15 TX15 1 (rfl)) (lw_SU q484 q1547 q383 q475 q72 q476) rfl rfl (sb_e [0] rfl rfl) (na := 0) (by decide +kernel) rfl (zrm rfl rfl (rfl) (rfl)) rfl (Nat.le_of_ble_eq_true rfl) dX15_walk_1) (fun u => jn_ro (sb_e [0] rfl rfl)) (fun r_1 u hp_1 => ?_)
  have hp_1 : r_1 = zI (1 + 1) := hp_1
  subst hp_1
  refine y_iconst C dX15_walk_4 ?_
  refine y_iadd C dX15_walk_5 ?_
  exact z_iret C hA hQ rfl (Nat.le_of_ble_eq_true rfl) (Nat.le_of_ble_eq_true rfl) (()) (rfl) (sb_e [0] rfl rfl) dX15_walk_6

set_option maxHeartbeats 4000000 in
theorem ct_X15_kind (l : Launch) (G : ZG) (h : Nat)  : CT l yX15_kind cX15_kind 1 (some .int) { frames := 0, cells := 0, slots := 0, locals := 0 } G [.ref h] [] (Qi G [] (fun (r : Int32) (u : Unit) => r = zI 7) (fun u => [])) := by
  refine z_met (by decide) (Nat.le_of_ble_eq_true rfl) ?_
  intro X A hl0 hA C hQ hin
  subst hl0
  show Z X _ G 0 0 _ 0 [(0, .ref h)] []
  refine y_bipush C dX15_kind_0 (by decide) ?_
  exact z_iret C hA hQ rfl (Nat.le_of_ble_eq_true rfl) (Nat.le_of_ble_eq_true rfl) (()) (rfl) (sb_e [] rfl rfl) dX15_kind_2

set_option maxHeartbeats 4000000 in
theorem ct_X15_cost (l : Launch) (G : ZG) (h : Nat) (f : Int)  : CT l yX15_cost cX15_cost 1 (some .int) { frames := 1, cells := 0, slots := 0, locals := 20 } G [.ref h] [(h, .inr (7, [.int (zI f)]))] (Qi G [(h, .inr (7, [.int (zI f)]))] (fun (r : Int32) (u : Unit) => r = zI (1 + 3)) (fun u => [(h, .inr (7, [.int (zI f)]))])) := by
  refine z_met (by decide) (Nat.le_of_ble_eq_true rfl) ?_
  intro X A hl0 hA C hQ hin
  subst hl0
  show Z X _ G 0 0 _ 0 [(0, .ref h)] []
  refine z_aload_n C dX15_cost_0 rfl 0 rfl ?_
  refine z_i C (z_runSU (q := 0) (As := []) (rest := []) C (ct_X9_cost (zl X) G h ) (lw_SU q713 q1548 q383 q701 q72 q702) rfl rfl (sb_e [] rfl rfl) (na := 0) (by decide +kernel) rfl (zrm rfl rfl (rfl) (rfl)) rfl (Nat.le_of_ble_eq_true rfl) dX15_cost_1) (fun u => jn_ro (sb_e [] rfl rfl)) (fun r_1 u hp_1 => ?_)
  have hp_1 : r_1 = zI 1 := hp_1
  subst hp_1
  refine y_iconst C dX15_cost_4 ?_
  refine y_iadd C dX15_cost_5 ?_
  exact z_iret C hA hQ rfl (Nat.le_of_ble_eq_true rfl) (Nat.le_of_ble_eq_true rfl) (()) (rfl) (sb_e [0] rfl rfl) dX15_cost_6

