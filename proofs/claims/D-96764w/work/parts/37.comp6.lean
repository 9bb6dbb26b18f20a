/-! THE COMPONENT, 6: two, lands -/
set_option maxRecDepth 100000
theorem z_ldcw {X : ZE} {Y : ZY} {G : ZG} {k n : Nat} {ws : va_W} {pc : Nat} {lv : List (Nat × Value)} {st : List Value} (C : CX X Y G) {i : Nat} {v : Int32} (hc : Cond.constant (zow Y) i v ∈ lw_all) (d : decode (zcc Y) pc = .ok (.ldc_w i, 3)) (z : Z X Y G k n ws (pc + 3) lv (.int v :: st)) : Z X Y G k n ws pc lv st := fun H locs ls hP hD hS hl => lv_ldcw C.x C.b C.own (C.ts _ hc) d (z H locs ls hP hD hS hl)
def thF (kd : Nat → Nat) (fg hm at_ lg : Nat → Int) (n : Nat) (oa yard : Int) (j w : Nat) : Int := 5 * (w : Int) + tkB kd fg hm at_ lg n oa yard (5 * w) j
theorem thF_r (kd : Nat → Nat) (fg hm at_ lg : Nat → Int) (n : Nat) (oa yard : Int) (j w : Nat) : 0 ≤ thF kd fg hm at_ lg n oa yard j w ∧ thF kd fg hm at_ lg n oa yard j w ≤ 5 * (w : Int) + 20 := by
  have := tkB_r kd fg hm at_ lg n oa yard (5 * w) j
  unfold thF; omega
def getsF (kd : Nat → Nat) (fg hm at_ lg : Nat → Int) (n : Nat) (oa yard : Int) (j w j2 w2 : Nat) : Int := (if thF kd fg hm at_ lg n oa yard j w < thF kd fg hm at_ lg n oa yard j2 w2 then 3 else 0) + (w : Int)
theorem getsF_r (kd : Nat → Nat) (fg hm at_ lg : Nat → Int) (n : Nat) (oa yard : Int) (j w j2 w2 : Nat) : 0 ≤ getsF kd fg hm at_ lg n oa yard j w j2 w2 ∧ getsF kd fg hm at_ lg n oa yard j w j2 w2 ≤ 3 + (w : Int) := by
  unfold getsF; split <;> omega
def twoP (kd : Nat → Nat) (fg hm at_ lg : Nat → Int) (n : Nat) (oa yard : Int) (j j2 : Nat) (k : Nat) : Bool := decide (getsF kd fg hm at_ lg n oa yard j (1 - k / 2) j2 (k % 2) ≤ getsF kd fg hm at_ lg n oa yard j (k / 2) j2 (k % 2) ∧ getsF kd fg hm at_ lg n oa yard j2 (1 - k % 2) j (k / 2) ≤ getsF kd fg hm at_ lg n oa yard j2 (k % 2) j (k / 2))
def tenF (x : Int) : Int := if x < 0 then -4 else 10 * (x / 2) + x % 2
set_option maxHeartbeats 4000000 in
theorem ct_X1_thereBy (l : Launch) (G : ZG) (x : Nat) (b0 : Nat) (m0 : Nat) (tl : Nat) (le : Nat) (sh : Nat) (im : Int) (fw : Int) (fh : Int) (lo : Int) (a0 : Nat) (a1 : Nat) (a2 : Nat) (a3 : Nat) (a4 : Nat) (m1 : Nat) (m2 : Nat) (m3 : Nat) (m4 : Nat) (r : Nat → Option Nat) (hm : Nat → Int) (at_ : Nat → Int) (lg : Nat → Int) (n : Nat) (oa : Int) (dy : Int) (mr : Nat → Option Nat) (mhm : Nat → Int) (mat : Nat → Int) (mlg : Nat → Int) (mn : Nat) (moa : Int) (mdy : Int) (LP : List Nat) (hk : Nat → Nat) (hf : Nat → Int) (kd : Nat → Nat) (fg : Nat → Int) (j : Nat) (yard : Int) (w : Nat) (hH : HR LP hk hf r n kd fg) (hL : LK n kd fg hm at_ lg oa) (hK : PK LP hk hf) (hV : RV LP r) (hj : j < n) (hy : 0 ≤ yard ∧ yard ≤ 20) (hw : w ≤ 30) : CT l yX1_thereBy cX1_thereBy 4 (some .int) { frames := 9, cells := 0, slots := 0, locals := 189 } G [.ref x, .int (zI (j : Int)), .int (zI yard), .int (zI (w : Int))] ([(x, .inr (10, [.ref a0, .ref b0, .ref m0, .int (zI im), .ref tl, .ref le, .int (zI fw), .int (zI fh), .int (zI lo), .ref sh])), (a0, .inr (8, [.ref a1, .ref a2, .ref a3, .ref a4, .int (zI (n : Int)), .int (zI oa), .int (zI dy)])), (a1, AQ G 4 7 r), (a2, AI G 7 hm), (a3, AI G 7 at_), (a4, AI G 7 lg), (m0, .inr (8, [.ref m1, .ref m2, .ref m3, .ref m4, .int (zI (mn : Int)), .int (zI moa), .int (zI mdy)])), (m1, AQ G 4 7 mr), (m2, AI G 7 mhm), (m3, AI G 7 mat), (m4, AI G 7 mlg)] ++ PL LP hk hf) (Qi G ([(x, .inr (10, [.ref a0, .ref b0, .ref m0, .int (zI im), .ref tl, .ref le, .int (zI fw), .int (zI fh), .int (zI lo), .ref sh])), (a0, .inr (8, [.ref a1, .ref a2, .ref a3, .ref a4, .int (zI (n : Int)), .int (zI oa), .int (zI dy)])), (a1, AQ G 4 7 r), (a2, AI G 7 hm), (a3, AI G 7 at_), (a4, AI G 7 lg), (m0, .inr (8, [.ref m1, .ref m2, .ref m3, .ref m4, .int (zI (mn : Int)), .int (zI moa), .int (zI mdy)])), (m1, AQ G 4 7 mr), (m2, AI G 7 mhm), (m3, AI G 7 mat), (m4, AI G 7 mlg)] ++ PL LP hk hf) (fun (r : Int32) (u : (Nat → Option Nat) × (Nat → Int) × (Nat → Int) × (Nat → Int) × Nat × Int × Int) => r = zI (thF kd fg hm at_ lg n oa yard j w)) (fun u => ([(x, .inr (10, [.ref a0, .ref b0, .ref m0, .int (zI im), .ref tl, .ref le, .int (zI fw), .int (zI fh), .int (zI lo), .ref sh])), (a0, .inr (8, [.ref a1, .ref a2, .ref a3, .ref a4, .int (zI (n : Int)), .int (zI oa), .int (zI dy)])), (a1, AQ G 4 7 r), (a2, AI G 7 hm), (a3, AI G 7 at_), (a4, AI G 7 lg), (m0, .inr (8, [.ref m1, .ref m2, .ref m3, .ref m4, .int (zI (u.2.2.2.2.1 : Int)), .int (zI u.2.2.2.2.2.1), .int (zI u.2.2.2.2.2.2)])), (m1, AQ G 4 7 u.1), (m2, AI G 7 u.2.1), (m3, AI G 7 u.2.2.1), (m4, AI G 7 u.2.2.2.1)] ++ PL LP hk hf))) := by
  refine z_met (by decide) (Nat.le_of_ble_eq_true rfl) ?_
  intro X A hl0 hA C hQ hin
  subst hl0
  obtain ⟨hn7, hoa, hLj⟩ := id hL
  show Z X _ G 0 0 _ 0 [(0, .ref x), (1, .int (zI (j : Int))), (2, .int (zI yard)), (3, .int (zI (w : Int)))] []
  refine y_iconst C dX1_thereBy_0 ?_
  refine z_iload_n C dX1_thereBy_1 rfl 3 rfl ?_
  refine y_imul C dX1_thereBy_2 ?_
  refine z_aload_n C dX1_thereBy_3 rfl 0 rfl ?_
  refine z_iload_n C dX1_thereBy_4 rfl 1 rfl ?_
  refine z_iload_n C dX1_thereBy_5 rfl 2 rfl ?_
  refine y_iconst C dX1_thereBy_6 ?_
  refine z_iload_n C dX1_thereBy_7 rfl 3 rfl ?_
  refine y_imul C dX1_thereBy_8 ?_
  rw [show (5 * (w : Int) : Int) = ((5 * w : Nat) : Int) by omega]
  refine z_i (ws' := fun u => ([(x, .inr (10, [.ref a0, .ref b0, .ref m0, .int (zI im), .ref tl, .ref le, .int (zI fw), .int (zI fh), .int (zI lo), .ref sh])), (a0, .inr (8, [.ref a1, .ref a2, .ref a3, .ref a4, .int (zI (n : Int)), .int (zI oa), .int (zI dy)])), (a1, AQ G 4 7 r), (a2, AI G 7 hm), (a3, AI G 7 at_), (a4, AI G 7 lg), (m0, .inr (8, [.ref m1, .ref m2, .ref m3, .ref m4, .int (zI (u.2.2.2.2.1 : Int)), .int (zI u.2.2.2.2.2.1), .int (zI u.2.2.2.2.2.2)])), (m1, AQ G 4 7 u.1), (m2, AI G 7 u.2.1), (m3, AI G 7 u.2.2.1), (m4, AI G 7 u.2.2.2.1)] ++ PL LP hk hf)) C (z_runV (q := 0) (As := [.int (zI (j : Int)), .int (zI yard), .int (zI ((5 * w : Nat) : Int))]) (rest := [.int (zI ((5 * w : Nat) : Int))]) C (ct_X1_takesBehind (zl X) G x b0 m0 tl le sh im fw fh lo a0 a1 a2 a3 a4 m1 m2 m3 m4 r hm at_ lg n oa dy mr mhm mat mlg mn moa mdy LP hk hf kd fg j yard (5 * w : Nat) (by first | assumption | omega) (by first | assumption | omega) (by first | assumption | omega) (by first | assumption | omega) (by first | assumption | omega) (by first | assumption | omega) (by first | assumption | omega)) (lw_V q605 q607 qs13 q58 q608) rfl rfl (sb_p [0, 1, 2, 3, 4, 5, 6, 7, 8, 9, 10] rfl rfl) (na := 3) (by decide +kernel) rfl (zrm rfl rfl (rfl) (rfl)) rfl (Nat.le_of_ble_eq_true rfl) dX1_thereBy_9) (fun u => jn_p (Lr := []) [0, 1, 2, 3, 4, 5, 6, 7, 8, 9, 10] [] [0, 1, 2, 3, 4, 5, 6, 7, 8, 9, 10] rfl rfl rfl (by decide) rfl rfl) (fun r_9 u hp_9 => ?_)
  obtain ⟨mr9_9, mhm9_9, mat9_9, mlg9_9, mn9_9, moa9_9, mdy9_9⟩ := u
  have hp_9 : r_9 = zI (tkB kd fg hm at_ lg n oa yard (5 * w : Nat) j) := hp_9
  subst hp_9
  refine y_iadd C dX1_thereBy_12 ?_
  exact z_iret C hA hQ rfl (Nat.le_of_ble_eq_true rfl) (Nat.le_of_ble_eq_true rfl) ((mr9_9, mhm9_9, mat9_9, mlg9_9, mn9_9, moa9_9, mdy9_9)) (rfl) (sb_p [0, 1, 2, 3, 4, 5, 6, 7, 8, 9, 10] rfl rfl) dX1_thereBy_13

set_option maxHeartbeats 4000000 in
theorem ct_X1_gets (l : Launch) (G : ZG) (x : Nat) (b0 : Nat) (m0 : Nat) (tl : Nat) (le : Nat) (sh : Nat) (im : Int) (fw : Int) (fh : Int) (lo : Int) (a0 : Nat) (a1 : Nat) (a2 : Nat) (a3 : Nat) (a4 : Nat) (m1 : Nat) (m2 : Nat) (m3 : Nat) (m4 : Nat) (r : Nat → Option Nat) (hm : Nat → Int) (at_ : Nat → Int) (lg : Nat → Int) (n : Nat) (oa : Int) (dy : Int) (mr : Nat → Option Nat) (mhm : Nat → Int) (mat : Nat → Int) (mlg : Nat → Int) (mn : Nat) (moa : Int) (mdy : Int) (LP : List Nat) (hk : Nat → Nat) (hf : Nat → Int) (kd : Nat → Nat) (fg : Nat → Int) (j : Nat) (w : Nat) (j2 : Nat) (w2 : Nat) (yard : Int) (hH : HR LP hk hf r n kd fg) (hL : LK n kd fg hm at_ lg oa) (hK : PK LP hk hf) (hV : RV LP r) (hj : j < n) (hj2 : j2 < n) (hy : 0 ≤ yard ∧ yard ≤ 20) (hw : w ≤ 30) (hw2 : w2 ≤ 30) : CT l yX1_gets cX1_gets 6 (some .int) { frames := 10, cells := 0, slots := 0, locals := 212 } G [.ref x, .int (zI (j : Int)), .int (zI (w : Int)), .int (zI (j2 : Int)), .int (zI (w2 : Int)), .int (zI yard)] ([(x, .inr (10, [.ref a0, .ref b0, .ref m0, .int (zI im), .ref tl, .ref le, .int (zI fw), .int (zI fh), .int (zI lo), .ref sh])), (a0, .inr (8, [.ref a1, .ref a2, .ref a3, .ref a4, .int (zI (n : Int)), .int (zI oa), .int (zI dy)])), (a1, AQ G 4 7 r), (a2, AI G 7 hm), (a3, AI G 7 at_), (a4, AI G 7 lg), (m0, .inr (8, [.ref m1, .ref m2, .ref m3, .ref m4, .int (zI (mn : Int)), .int (zI moa), .int (zI mdy)])), (m1, AQ G 4 7 mr), (m2, AI G 7 mhm), (m3, AI G 7 mat), (m4, AI G 7 mlg)] ++ PL LP hk hf) (Qi G ([(x, .inr (10, [.ref a0, .ref b0, .ref m0, .int (zI im), .ref tl, .ref le, .int (zI fw), .int (zI fh), .int (zI lo), .ref sh])), (a0, .inr (8, [.ref a1, .ref a2, .ref a3, .ref a4, .int (zI (n : Int)), .int (zI oa), .int (zI dy)])), (a1, AQ G 4 7 r), (a2, AI G 7 hm), (a3, AI G 7 at_), (a4, AI G 7 lg), (m0, .inr (8, [.ref m1, .ref m2, .ref m3, .ref m4, .int (zI (mn : Int)), .int (zI moa), .int (zI mdy)])), (m1, AQ G 4 7 mr), (m2, AI G 7 mhm), (m3, AI G 7 mat), (m4, AI G 7 mlg)] ++ PL LP hk hf) (fun (r : Int32) (u : (Nat → Option Nat) × (Nat → Int) × (Nat → Int) × (Nat → Int) × Nat × Int × Int) => r = zI (getsF kd fg hm at_ lg n oa yard j w j2 w2)) (fun u => ([(x, .inr (10, [.ref a0, .ref b0, .ref m0, .int (zI im), .ref tl, .ref le, .int (zI fw), .int (zI fh), .int (zI lo), .ref sh])), (a0, .inr (8, [.ref a1, .ref a2, .ref a3, .ref a4, .int (zI (n : Int)), .int (zI oa), .int (zI dy)])), (a1, AQ G 4 7 r), (a2, AI G 7 hm), (a3, AI G 7 at_), (a4, AI G 7 lg), (m0, .inr (8, [.ref m1, .ref m2, .ref m3, .ref m4, .int (zI (u.2.2.2.2.1 : Int)), .int (zI u.2.2.2.2.2.1), .int (zI u.2.2.2.2.2.2)])), (m1, AQ G 4 7 u.1), (m2, AI G 7 u.2.1), (m3, AI G 7 u.2.2.1), (m4, AI G 7 u.2.2.2.1)] ++ PL LP hk hf))) := by
  refine z_met (by decide) (Nat.le_of_ble_eq_true rfl) ?_
  intro X A hl0 hA C hQ hin
  subst hl0
  obtain ⟨hn7, hoa, hLj⟩ := id hL
  show Z X _ G 0 0 _ 0 [(0, .ref x), (1, .int (zI (j : Int))), (2, .int (zI (w : Int))), (3, .int (zI (j2 : Int))), (4, .int (zI (w2 : Int))), (5, .int (zI yard))] []
  refine z_aload_n C dX1_gets_0 rfl 0 rfl ?_
  refine z_iload_n C dX1_gets_1 rfl 1 rfl ?_
  refine z_iload C dX1_gets_2 5 rfl ?_
  refine z_iload_n C dX1_gets_4 rfl 2 rfl ?_
  refine z_i (ws' := fun u => ([(x, .inr (10, [.ref a0, .ref b0, .ref m0, .int (zI im), .ref tl, .ref le, .int (zI fw), .int (zI fh), .int (zI lo), .ref sh])), (a0, .inr (8, [.ref a1, .ref a2, .ref a3, .ref a4, .int (zI (n : Int)), .int (zI oa), .int (zI dy)])), (a1, AQ G 4 7 r), (a2, AI G 7 hm), (a3, AI G 7 at_), (a4, AI G 7 lg), (m0, .inr (8, [.ref m1, .ref m2, .ref m3, .ref m4, .int (zI (u.2.2.2.2.1 : Int)), .int (zI u.2.2.2.2.2.1), .int (zI u.2.2.2.2.2.2)])), (m1, AQ G 4 7 u.1), (m2, AI G 7 u.2.1), (m3, AI G 7 u.2.2.1), (m4, AI G 7 u.2.2.2.1)] ++ PL LP hk hf)) C (z_runV (q := 0) (As := [.int (zI (j : Int)), .int (zI yard), .int (zI (w : Int))]) (rest := []) C (ct_X1_thereBy (zl X) G x b0 m0 tl le sh im fw fh lo a0 a1 a2 a3 a4 m1 m2 m3 m4 r hm at_ lg n oa dy mr mhm mat mlg mn moa mdy LP hk hf kd fg j yard w (by first | assumption | omega) (by first | assumption | omega) (by first | assumption | omega) (by first | assumption | omega) (by first | assumption | omega) (by first | assumption | omega) (by first | assumption | omega)) (lw_V q771 q773 qs21 q58 q774) rfl rfl (sb_p [0, 1, 2, 3, 4, 5, 6, 7, 8, 9, 10] rfl rfl) (na := 3) (by decide +kernel) rfl (zrm rfl rfl (rfl) (rfl)) rfl (Nat.le_of_ble_eq_true rfl) dX1_gets_5) (fun u => jn_p (Lr := []) [0, 1, 2, 3, 4, 5, 6, 7, 8, 9, 10] [] [0, 1, 2, 3, 4, 5, 6, 7, 8, 9, 10] rfl rfl rfl (by decide) rfl rfl) (fun r_5 u hp_5 => ?_)
  obtain ⟨mr9_5, mhm9_5, mat9_5, mlg9_5, mn9_5, moa9_5, mdy9_5⟩ := u
  have hp_5 : r_5 = zI (thF kd fg hm at_ lg n oa yard j w) := hp_5
  subst hp_5
  have ht1 := thF_r kd fg hm at_ lg n oa yard j w
  refine z_aload_n C dX1_gets_8 rfl 0 rfl ?_
  refine z_iload_n C dX1_gets_9 rfl 3 rfl ?_
  refine z_iload C dX1_gets_10 5 rfl ?_
  refine z_iload C dX1_gets_12 4 rfl ?_
  refine z_i (ws' := fun u => ([(x, .inr (10, [.ref a0, .ref b0, .ref m0, .int (zI im), .ref tl, .ref le, .int (zI fw), .int (zI fh), .int (zI lo), .ref sh])), (a0, .inr (8, [.ref a1, .ref a2, .ref a3, .ref a4, .int (zI (n : Int)), .int (zI oa), .int (zI dy)])), (a1, AQ G 4 7 r), (a2, AI G 7 hm), (a3, AI G 7 at_), (a4, AI G 7 lg), (m0, .inr (8, [.ref m1, .ref m2, .ref m3, .ref m4, .int (zI (u.2.2.2.2.1 : Int)), .int (zI u.2.2.2.2.2.1), .int (zI u.2.2.2.2.2.2)])), (m1, AQ G 4 7 u.1), (m2, AI G 7 u.2.1), (m3, AI G 7 u.2.2.1), (m4, AI G 7 u.2.2.2.1)] ++ PL LP hk hf)) C (z_runV (q := 0) (As := [.int (zI (j2 : Int)), .int (zI yard), .int (zI (w2 : Int))]) (rest := [.int (zI (thF kd fg hm at_ lg n oa yard j w))]) C (ct_X1_thereBy (zl X) G x b0 m0 tl le sh im fw fh lo a0 a1 a2 a3 a4 m1 m2 m3 m4 r hm at_ lg n oa dy mr9_5 mhm9_5 mat9_5 mlg9_5 mn9_5 moa9_5 mdy9_5 LP hk hf kd fg j2 yard w2 (by first | assumption | omega) (by first | assumption | omega) (by first | assumption | omega) (by first | assumption | omega) (by first | assumption | omega) (by first | assumption | omega) (by first | assumption | omega)) (lw_V q771 q773 qs21 q58 q774) rfl rfl (sb_p [0, 1, 2, 3, 4, 5, 6, 7, 8, 9, 10] rfl rfl) (na := 3) (by decide +kernel) rfl (zrm rfl rfl (rfl) (rfl)) rfl (Nat.le_of_ble_eq_true rfl) dX1_gets_14) (fun u => jn_p (Lr := []) [0, 1, 2, 3, 4, 5, 6, 7, 8, 9, 10] [] [0, 1, 2, 3, 4, 5, 6, 7, 8, 9, 10] rfl rfl rfl (by decide) rfl rfl) (fun r_14 u hp_14 => ?_)
  obtain ⟨mr9_14, mhm9_14, mat9_14, mlg9_14, mn9_14, moa9_14, mdy9_14⟩ := u
  have hp_14 : r_14 = zI (thF kd fg hm at_ lg n oa yard j2 w2) := hp_14
  subst hp_14
  have ht2 := thF_r kd fg hm at_ lg n oa yard j2 w2
  refine y_icmp_ge (tgt := 24) C (by omega) (by omega) dX1_gets_17 (by decide) (fun c_17 => ?_) (fun c_17 => ?_)
  · skip
    refine y_iconst C dX1_gets_24 ?_
    refine z_iload_n C dX1_gets_25 rfl 2 rfl ?_
    refine y_iadd C dX1_gets_26 ?_
    exact z_iret C hA hQ rfl (Nat.le_of_ble_eq_true rfl) (Nat.le_of_ble_eq_true rfl) ((mr9_14, mhm9_14, mat9_14, mlg9_14, mn9_14, moa9_14, mdy9_14)) (congrArg zI (by unfold getsF; first | rw [if_pos (by omega)] | rw [if_neg (by omega)])) (sb_p [0, 1, 2, 3, 4, 5, 6, 7, 8, 9, 10] rfl rfl) dX1_gets_27
  · skip
    refine y_iconst C dX1_gets_20 ?_
    refine z_goto (tgt := 25) C dX1_gets_21 (by decide) ?_
    refine z_iload_n C dX1_gets_25 rfl 2 rfl ?_
    refine y_iadd C dX1_gets_26 ?_
    exact z_iret C hA hQ rfl (Nat.le_of_ble_eq_true rfl) (Nat.le_of_ble_eq_true rfl) ((mr9_14, mhm9_14, mat9_14, mlg9_14, mn9_14, moa9_14, mdy9_14)) (congrArg zI (by unfold getsF; first | rw [if_pos (by omega)] | rw [if_neg (by omega)])) (sb_p [0, 1, 2, 3, 4, 5, 6, 7, 8, 9, 10] rfl rfl) dX1_gets_27

def oTwo (kd : Nat → Nat) (fg : Nat → Int) (hm : Nat → Int) (at_ : Nat → Int) (lg : Nat → Int) (n : Nat) (oa : Int) (h : Int) (k : Int) (yard : Int) : Int := if (0 ≤ h ∧ h ≤ (n : Int) - 1) ∧ (0 ≤ k ∧ k ≤ (n : Int) - 1) ∧ ¬ h = k ∧ (0 ≤ yard ∧ yard ≤ 20) then tenF (firstF (twoP kd fg hm at_ lg n oa yard h.toNat k.toNat) 4) else -1
set_option maxHeartbeats 4000000 in
theorem ct_X1_two (l : Launch) (G : ZG) (x : Nat) (b0 : Nat) (m0 : Nat) (tl : Nat) (le : Nat) (sh : Nat) (im : Int) (fw : Int) (fh : Int) (lo : Int) (a0 : Nat) (a1 : Nat) (a2 : Nat) (a3 : Nat) (a4 : Nat) (m1 : Nat) (m2 : Nat) (m3 : Nat) (m4 : Nat) (r : Nat → Option Nat) (hm : Nat → Int) (at_ : Nat → Int) (lg : Nat → Int) (n : Nat) (oa : Int) (dy : Int) (mr : Nat → Option Nat) (mhm : Nat → Int) (mat : Nat → Int) (mlg : Nat → Int) (mn : Nat) (moa : Int) (mdy : Int) (LP : List Nat) (hk : Nat → Nat) (hf : Nat → Int) (kd : Nat → Nat) (fg : Nat → Int) (h : Int) (k : Int) (yard : Int) (hH : HR LP hk hf r n kd fg) (hL : LK n kd fg hm at_ lg oa) (hK : PK LP hk hf) (hV : RV LP r) (rh : -2147483648 ≤ h ∧ h ≤ 2147483647) (rk : -2147483648 ≤ k ∧ k ≤ 2147483647) (ryard : -2147483648 ≤ yard ∧ yard ≤ 2147483647) : CT l yX1_two cX1_two 7 (some .int) { frames := 11, cells := 0, slots := 0, locals := 237 } G [.ref x, .int (zI h), .int (zI k), .int (zI yard)] ([(x, .inr (10, [.ref a0, .ref b0, .ref m0, .int (zI im), .ref tl, .ref le, .int (zI fw), .int (zI fh), .int (zI lo), .ref sh])), (a0, .inr (8, [.ref a1, .ref a2, .ref a3, .ref a4, .int (zI (n : Int)), .int (zI oa), .int (zI dy)])), (a1, AQ G 4 7 r), (a2, AI G 7 hm), (a3, AI G 7 at_), (a4, AI G 7 lg), (m0, .inr (8, [.ref m1, .ref m2, .ref m3, .ref m4, .int (zI (mn : Int)), .int (zI moa), .int (zI mdy)])), (m1, AQ G 4 7 mr), (m2, AI G 7 mhm), (m3, AI G 7 mat), (m4, AI G 7 mlg)] ++ PL LP hk hf) (Qi G ([(x, .inr (10, [.ref a0, .ref b0, .ref m0, .int (zI im), .ref tl, .ref le, .int (zI fw), .int (zI fh), .int (zI lo), .ref sh])), (a0, .inr (8, [.ref a1, .ref a2, .ref a3, .ref a4, .int (zI (n : Int)), .int (zI oa), .int (zI dy)])), (a1, AQ G 4 7 r), (a2, AI G 7 hm), (a3, AI G 7 at_), (a4, AI G 7 lg), (m0, .inr (8, [.ref m1, .ref m2, .ref m3, .ref m4, .int (zI (mn : Int)), .int (zI moa), .int (zI mdy)])), (m1, AQ G 4 7 mr), (m2, AI G 7 mhm), (m3, AI G 7 mat), (m4, AI G 7 mlg)] ++ PL LP hk hf) (fun (r : Int32) (u : (Nat → Option Nat) × (Nat → Int) × (Nat → Int) × (Nat → Int) × Nat × Int × Int) => r = zI (oTwo kd fg hm at_ lg n oa h k yard)) (fun u => ([(x, .inr (10, [.ref a0, .ref b0, .ref m0, .int (zI im), .ref tl, .ref le, .int (zI fw), .int (zI fh), .int (zI lo), .ref sh])), (a0, .inr (8, [.ref a1, .ref a2, .ref a3, .ref a4, .int (zI (n : Int)), .int (zI oa), .int (zI dy)])), (a1, AQ G 4 7 r), (a2, AI G 7 hm), (a3, AI G 7 at_), (a4, AI G 7 lg), (m0, .inr (8, [.ref m1, .ref m2, .ref m3, .ref m4, .int (zI (u.2.2.2.2.1 : Int)), .int (zI u.2.2.2.2.2.1), .int (zI u.2.2.2.2.2.2)])), (m1, AQ G 4 7 u.1), (m2, AI G 7 u.2.1), (m3, AI G 7 u.2.2.1), (m4, AI G 7 u.2.2.2.1)] ++ PL LP hk hf))) := by
  refine z_met (by decide) (Nat.le_of_ble_eq_true rfl) ?_
  intro X A hl0 hA C hQ hin
  subst hl0
  obtain ⟨hn7, hoa, hLj⟩ := id hL
  show Z X _ G 0 0 _ 0 [(0, .ref x), (1, .int (zI h)), (2, .int (zI k)), (3, .int (zI yard))] []
  refine z_aload_n C dX1_two_0 rfl 0 rfl ?_
  refine z_get (q := 0) (kf := 0) (v := .ref a0) C rfl rfl in_X1 (by decide) q880 (Or.inl rfl) rfl dX1_two_1 ?_
  refine z_iload_n C dX1_two_4 rfl 1 rfl ?_
  refine z_i C (z_runV (q := 1) (As := [.int (zI h)]) (rest := []) C (ct_X2_isHorse (zl X) G a0 a1 a2 a3 a4 n oa dy h (by first | assumption | omega) (by first | assumption | omega)) (lw_V q388 q389 q390 q59 q391) rfl rfl (sb_e [1] rfl rfl) (na := 1) (by decide +kernel) rfl (zrm rfl rfl (rfl) (rfl)) rfl (Nat.le_of_ble_eq_true rfl) dX1_two_5) (fun u => jn_ro (sb_e [1] rfl rfl)) (fun r_5 u hp_5 => ?_)
  have hp_5 : r_5 = zI (bI (0 ≤ h ∧ h ≤ (n : Int) - 1)) := hp_5
  subst hp_5
  refine y_beq (tgt := 34) C dX1_two_8 (by decide) (fun c_8 => ?_) (fun c_8 => ?_)
  · skip
    refine y_iconst C dX1_two_34 ?_
    exact z_iret C hA hQ rfl (Nat.le_of_ble_eq_true rfl) (Nat.le_of_ble_eq_true rfl) ((mr, mhm, mat, mlg, mn, moa, mdy)) (congrArg zI (by unfold oTwo; (try simp only [zTN]); (repeat (first | rw [if_pos (by omega)] | rw [if_neg (by omega)])); first | done | rfl)) (sb_p [0, 1, 2, 3, 4, 5, 6, 7, 8, 9, 10] rfl rfl) dX1_two_35
  · skip
    refine z_aload_n C dX1_two_11 rfl 0 rfl ?_
    refine z_get (q := 0) (kf := 0) (v := .ref a0) C rfl rfl in_X1 (by decide) q880 (Or.inl rfl) rfl dX1_two_12 ?_
    refine z_iload_n C dX1_two_15 rfl 2 rfl ?_
    refine z_i C (z_runV (q := 1) (As := [.int (zI k)]) (rest := []) C (ct_X2_isHorse (zl X) G a0 a1 a2 a3 a4 n oa dy k (by first | assumption | omega) (by first | assumption | omega)) (lw_V q388 q389 q390 q59 q391) rfl rfl (sb_e [1] rfl rfl) (na := 1) (by decide +kernel) rfl (zrm rfl rfl (rfl) (rfl)) rfl (Nat.le_of_ble_eq_true rfl) dX1_two_16) (fun u => jn_ro (sb_e [1] rfl rfl)) (fun r_16 u hp_16 => ?_)
    have hp_16 : r_16 = zI (bI (0 ≤ k ∧ k ≤ (n : Int) - 1)) := hp_16
    subst hp_16
    refine y_beq (tgt := 34) C dX1_two_19 (by decide) (fun c_19 => ?_) (fun c_19 => ?_)
    · skip
      refine y_iconst C dX1_two_34 ?_
      exact z_iret C hA hQ rfl (Nat.le_of_ble_eq_true rfl) (Nat.le_of_ble_eq_true rfl) ((mr, mhm, mat, mlg, mn, moa, mdy)) (congrArg zI (by unfold oTwo; (try simp only [zTN]); (repeat (first | rw [if_pos (by omega)] | rw [if_neg (by omega)])); first | done | rfl)) (sb_p [0, 1, 2, 3, 4, 5, 6, 7, 8, 9, 10] rfl rfl) dX1_two_35
    · skip
      refine z_iload_n C dX1_two_22 rfl 1 rfl ?_
      refine z_iload_n C dX1_two_23 rfl 2 rfl ?_
      refine y_icmp_eq (tgt := 34) C (by omega) (by omega) dX1_two_24 (by decide) (fun c_24 => ?_) (fun c_24 => ?_)
      · skip
        refine y_iconst C dX1_two_34 ?_
        exact z_iret C hA hQ rfl (Nat.le_of_ble_eq_true rfl) (Nat.le_of_ble_eq_true rfl) ((mr, mhm, mat, mlg, mn, moa, mdy)) (congrArg zI (by unfold oTwo; (try simp only [zTN]); (repeat (first | rw [if_pos (by omega)] | rw [if_neg (by omega)])); first | done | rfl)) (sb_p [0, 1, 2, 3, 4, 5, 6, 7, 8, 9, 10] rfl rfl) dX1_two_35
      · skip
        refine z_iload_n C dX1_two_27 rfl 3 rfl ?_
        refine z_i C (z_runS (As := [.int (zI yard)]) (rest := []) C (ct_X1_isYard (zl X) G yard (by first | assumption | omega)) (lw_S q303 q304 q58 q305) (sb_e [] rfl rfl) (na := 1) (by decide +kernel) rfl (zrm rfl rfl (rfl) (rfl)) rfl (Nat.le_of_ble_eq_true rfl) dX1_two_28) (fun u => jn_ro (sb_e [] rfl rfl)) (fun r_28 u hp_28 => ?_)
        have hp_28 : r_28 = zI (bI (0 ≤ yard ∧ yard ≤ 20)) := hp_28
        subst hp_28
        refine y_bne (tgt := 36) C dX1_two_31 (by decide) (fun c_31 => ?_) (fun c_31 => ?_)
        · skip
          have hne : ¬ h = k := by assumption
          obtain ⟨j, rfl⟩ := Int.eq_ofNat_of_zero_le (show 0 ≤ h by omega)
          obtain ⟨k0, rfl⟩ := Int.eq_ofNat_of_zero_le (show 0 ≤ k by omega)
          refine y_iconst C dX1_two_36 ?_
          refine z_istore (lv' := [(4, .int (zI 0)), (0, .ref x), (1, .int (zI (j : Int))), (2, .int (zI (k0 : Int))), (3, .int (zI yard))]) C dX1_two_37 (nlt rfl) rfl ?_
          have L_39 : ∀ (tt : Nat) (k : Nat) (mr : Nat → Option Nat) (mhm : Nat → Int) (mat : Nat → Int) (mlg : Nat → Int) (mn : Nat) (moa : Int) (mdy : Int), (k ≤ 4) → (∀ q : Nat, q < k → twoP kd fg hm at_ lg n oa yard j k0 q = false) → 4 - k = tt → Z X (cX1_two, 7, yX1_two.cls, (some .int), { frames := 11, cells := 0, slots := 0, locals := 237 }, A) G 0 0 ([(x, .inr (10, [.ref a0, .ref b0, .ref m0, .int (zI im), .ref tl, .ref le, .int (zI fw), .int (zI fh), .int (zI lo), .ref sh])), (a0, .inr (8, [.ref a1, .ref a2, .ref a3, .ref a4, .int (zI (n : Int)), .int (zI oa), .int (zI dy)])), (a1, AQ G 4 7 r), (a2, AI G 7 hm), (a3, AI G 7 at_), (a4, AI G 7 lg), (m0, .inr (8, [.ref m1, .ref m2, .ref m3, .ref m4, .int (zI (mn : Int)), .int (zI moa), .int (zI mdy)])), (m1, AQ G 4 7 mr), (m2, AI G 7 mhm), (m3, AI G 7 mat), (m4, AI G 7 mlg)] ++ PL LP hk hf) 39 [(4, .int (zI (k : Int))), (0, .ref x), (1, .int (zI (j : Int))), (2, .int (zI (k0 : Int))), (3, .int (zI yard))] [] := by
            intro tt
            induction tt using Nat.strongRecOn with
            | _ tt ih_39 =>
              intro k mr mhm mat mlg mn moa mdy hk4 hno ht_39
              refine z_iload C dX1_two_39 0 rfl ?_
              refine y_iconst C dX1_two_41 ?_
              refine y_icmp_ge (tgt := 126) C (by omega) (by omega) dX1_two_42 (by decide) (fun c_42 => ?_) (fun c_42 => ?_)
              · skip
                refine y_bipush C dX1_two_126 (by decide) ?_
                rw [show k = 4 by omega] at hno
                exact z_iret C hA hQ rfl (Nat.le_of_ble_eq_true rfl) (Nat.le_of_ble_eq_true rfl) ((mr, mhm, mat, mlg, mn, moa, mdy)) (congrArg zI (by unfold oTwo; rw [if_pos (by omega)]; simp only [zTN]; rw [firstF_no hno]; unfold tenF; first | rfl | (rw [if_neg (by omega)]; rfl))) (sb_p [0, 1, 2, 3, 4, 5, 6, 7, 8, 9, 10] rfl rfl) dX1_two_128
              · skip
                refine z_iload C dX1_two_45 0 rfl ?_
                refine y_iconst C dX1_two_47 ?_
                refine y_idiv C (by omega) (by omega) dX1_two_48 ?_
                rw [show ((k : Int) / 2 : Int) = ((k / 2 : Nat) : Int) by omega]
                refine z_istore (lv' := [(5, .int (zI ((k / 2 : Nat) : Int))), (4, .int (zI (k : Int))), (0, .ref x), (1, .int (zI (j : Int))), (2, .int (zI (k0 : Int))), (3, .int (zI yard))]) C dX1_two_49 (nlt rfl) rfl ?_
                refine z_iload C dX1_two_51 1 rfl ?_
                refine y_iconst C dX1_two_53 ?_
                refine y_irem C (by omega) (by omega) dX1_two_54 ?_
                rw [show ((k : Int) % 2 : Int) = ((k % 2 : Nat) : Int) by omega]
                refine z_istore (lv' := [(6, .int (zI ((k % 2 : Nat) : Int))), (5, .int (zI ((k / 2 : Nat) : Int))), (4, .int (zI (k : Int))), (0, .ref x), (1, .int (zI (j : Int))), (2, .int (zI (k0 : Int))), (3, .int (zI yard))]) C dX1_two_55 (nlt rfl) rfl ?_
                refine z_aload_n C dX1_two_57 rfl 3 rfl ?_
                refine z_iload_n C dX1_two_58 rfl 4 rfl ?_
                refine y_iconst C dX1_two_59 ?_
                refine z_iload C dX1_two_60 1 rfl ?_
                refine y_isub C dX1_two_62 ?_
                rw [show (1 - ((k / 2 : Nat) : Int) : Int) = ((1 - k / 2 : Nat) : Int) by omega]
                refine z_iload_n C dX1_two_63 rfl 5 rfl ?_
                refine z_iload C dX1_two_64 0 rfl ?_
                refine z_iload_n C dX1_two_66 rfl 6 rfl ?_
                refine z_i (ws' := fun u => ([(x, .inr (10, [.ref a0, .ref b0, .ref m0, .int (zI im), .ref tl, .ref le, .int (zI fw), .int (zI fh), .int (zI lo), .ref sh])), (a0, .inr (8, [.ref a1, .ref a2, .ref a3, .ref a4, .int (zI (n : Int)), .int (zI oa), .int (zI dy)])), (a1, AQ G 4 7 r), (a2, AI G 7 hm), (a3, AI G 7 at_), (a4, AI G 7 lg), (m0, .inr (8, [.ref m1, .ref m2, .ref m3, .ref m4, .int (zI (u.2.2.2.2.1 : Int)), .int (zI u.2.2.2.2.2.1), .int (zI u.2.2.2.2.2.2)])), (m1, AQ G 4 7 u.1), (m2, AI G 7 u.2.1), (m3, AI G 7 u.2.2.1), (m4, AI G 7 u.2.2.2.1)] ++ PL LP hk hf)) C (z_runV (q := 0) (As := [.int (zI (j : Int)), .int (zI ((1 - k / 2 : Nat) : Int)), .int (zI (k0 : Int)), .int (zI ((k % 2 : Nat) : Int)), .int (zI yard)]) (rest := []) C (ct_X1_gets (zl X) G x b0 m0 tl le sh im fw fh lo a0 a1 a2 a3 a4 m1 m2 m3 m4 r hm at_ lg n oa dy mr mhm mat mlg mn moa mdy LP hk hf kd fg j (1 - k / 2 : Nat) k0 (k % 2 : Nat) yard (by first | assumption | omega) (by first | assumption | omega) (by first | assumption | omega) (by first | assumption | omega) (by omega) (by omega) (by first | assumption | omega) (by first | assumption | omega) (by first | assumption | omega)) (lw_V q767 q769 qs20 q58 q770) rfl rfl (sb_p [0, 1, 2, 3, 4, 5, 6, 7, 8, 9, 10] rfl rfl) (na := 5) (by decide +kernel) rfl (zrm rfl rfl (rfl) (rfl)) rfl (Nat.le_of_ble_eq_true rfl) dX1_two_67) (fun u => jn_p (Lr := []) [0, 1, 2, 3, 4, 5, 6, 7, 8, 9, 10] [] [0, 1, 2, 3, 4, 5, 6, 7, 8, 9, 10] rfl rfl rfl (by decide) rfl rfl) (fun r_67 u hp_67 => ?_)
                obtain ⟨mr9_67, mhm9_67, mat9_67, mlg9_67, mn9_67, moa9_67, mdy9_67⟩ := u
                have hp_67 : r_67 = zI (getsF kd fg hm at_ lg n oa yard j (1 - k / 2 : Nat) k0 (k % 2 : Nat)) := hp_67
                subst hp_67
                have hg67 := getsF_r kd fg hm at_ lg n oa yard j (1 - k / 2) k0 (k % 2)
                refine z_aload_n C dX1_two_70 rfl 3 rfl ?_
                refine z_iload_n C dX1_two_71 rfl 4 rfl ?_
                refine z_iload C dX1_two_72 1 rfl ?_
                refine z_iload_n C dX1_two_74 rfl 5 rfl ?_
                refine z_iload C dX1_two_75 0 rfl ?_
                refine z_iload_n C dX1_two_77 rfl 6 rfl ?_
                refine z_i (ws' := fun u => ([(x, .inr (10, [.ref a0, .ref b0, .ref m0, .int (zI im), .ref tl, .ref le, .int (zI fw), .int (zI fh), .int (zI lo), .ref sh])), (a0, .inr (8, [.ref a1, .ref a2, .ref a3, .ref a4, .int (zI (n : Int)), .int (zI oa), .int (zI dy)])), (a1, AQ G 4 7 r), (a2, AI G 7 hm), (a3, AI G 7 at_), (a4, AI G 7 lg), (m0, .inr (8, [.ref m1, .ref m2, .ref m3, .ref m4, .int (zI (u.2.2.2.2.1 : Int)), .int (zI u.2.2.2.2.2.1), .int (zI u.2.2.2.2.2.2)])), (m1, AQ G 4 7 u.1), (m2, AI G 7 u.2.1), (m3, AI G 7 u.2.2.1), (m4, AI G 7 u.2.2.2.1)] ++ PL LP hk hf)) C (z_runV (q := 0) (As := [.int (zI (j : Int)), .int (zI ((k / 2 : Nat) : Int)), .int (zI (k0 : Int)), .int (zI ((k % 2 : Nat) : Int)), .int (zI yard)]) (rest := [.int (zI (getsF kd fg hm at_ lg n oa yard j (1 - k / 2 : Nat) k0 (k % 2 : Nat)))]) C (ct_X1_gets (zl X) G x b0 m0 tl le sh im fw fh lo a0 a1 a2 a3 a4 m1 m2 m3 m4 r hm at_ lg n oa dy mr9_67 mhm9_67 mat9_67 mlg9_67 mn9_67 moa9_67 mdy9_67 LP hk hf kd fg j (k / 2 : Nat) k0 (k % 2 : Nat) yard (by first | assumption | omega) (by first | assumption | omega) (by first | assumption | omega) (by first | assumption | omega) (by omega) (by omega) (by first | assumption | omega) (by first | assumption | omega) (by first | assumption | omega)) (lw_V q767 q769 qs20 q58 q770) rfl rfl (sb_p [0, 1, 2, 3, 4, 5, 6, 7, 8, 9, 10] rfl rfl) (na := 5) (by decide +kernel) rfl (zrm rfl rfl (rfl) (rfl)) rfl (Nat.le_of_ble_eq_true rfl) dX1_two_78) (fun u => jn_p (Lr := []) [0, 1, 2, 3, 4, 5, 6, 7, 8, 9, 10] [] [0, 1, 2, 3, 4, 5, 6, 7, 8, 9, 10] rfl rfl rfl (by decide) rfl rfl) (fun r_78 u hp_78 => ?_)
                obtain ⟨mr9_78, mhm9_78, mat9_78, mlg9_78, mn9_78, moa9_78, mdy9_78⟩ := u
                have hp_78 : r_78 = zI (getsF kd fg hm at_ lg n oa yard j (k / 2 : Nat) k0 (k % 2 : Nat)) := hp_78
                subst hp_78
                have hg78 := getsF_r kd fg hm at_ lg n oa yard j (k / 2) k0 (k % 2)
                refine y_icmp_gt (tgt := 120) C (by omega) (by omega) dX1_two_81 (by decide) (fun c_81 => ?_) (fun c_81 => ?_)
                · skip
                  refine y_iinc (lv' := [(4, .int (zI ((k : Int) + 1))), (6, .int (zI ((k % 2 : Nat) : Int))), (5, .int (zI ((k / 2 : Nat) : Int))), (0, .ref x), (1, .int (zI (j : Int))), (2, .int (zI (k0 : Int))), (3, .int (zI yard))]) C dX1_two_120 (q := 2) rfl (nlt rfl) rfl ?_
                  refine z_goto (tgt := 39) C dX1_two_123 (by decide) ?_
                  refine z_lv (lv' := [(4, .int (zI ((k : Int) + 1))), (0, .ref x), (1, .int (zI (j : Int))), (2, .int (zI (k0 : Int))), (3, .int (zI yard))]) [0, 3, 4, 5, 6] rfl ?_
                  exact ih_39 _ (by omega) (k + 1) mr9_78 mhm9_78 mat9_78 mlg9_78 mn9_78 moa9_78 mdy9_78 (by first | assumption | omega) (fun q hq => by
                    rcases Nat.lt_succ_iff_lt_or_eq.mp hq with c | c
                    · exact hno q c
                    · subst c; unfold twoP; exact decide_eq_false (by omega)) rfl
                · skip
                  refine z_aload_n C dX1_two_84 rfl 3 rfl ?_
                  refine z_iload_n C dX1_two_85 rfl 5 rfl ?_
                  refine y_iconst C dX1_two_86 ?_
                  refine z_iload C dX1_two_87 0 rfl ?_
                  refine y_isub C dX1_two_89 ?_
                  rw [show (1 - ((k % 2 : Nat) : Int) : Int) = ((1 - k % 2 : Nat) : Int) by omega]
                  refine z_iload_n C dX1_two_90 rfl 4 rfl ?_
                  refine z_iload C dX1_two_91 1 rfl ?_
                  refine z_iload_n C dX1_two_93 rfl 6 rfl ?_
                  refine z_i (ws' := fun u => ([(x, .inr (10, [.ref a0, .ref b0, .ref m0, .int (zI im), .ref tl, .ref le, .int (zI fw), .int (zI fh), .int (zI lo), .ref sh])), (a0, .inr (8, [.ref a1, .ref a2, .ref a3, .ref a4, .int (zI (n : Int)), .int (zI oa), .int (zI dy)])), (a1, AQ G 4 7 r), (a2, AI G 7 hm), (a3, AI G 7 at_), (a4, AI G 7 lg), (m0, .inr (8, [.ref m1, .ref m2, .ref m3, .ref m4, .int (zI (u.2.2.2.2.1 : Int)), .int (zI u.2.2.2.2.2.1), .int (zI u.2.2.2.2.2.2)])), (m1, AQ G 4 7 u.1), (m2, AI G 7 u.2.1), (m3, AI G 7 u.2.2.1), (m4, AI G 7 u.2.2.2.1)] ++ PL LP hk hf)) C (z_runV (q := 0) (As := [.int (zI (k0 : Int)), .int (zI ((1 - k % 2 : Nat) : Int)), .int (zI (j : Int)), .int (zI ((k / 2 : Nat) : Int)), .int (zI yard)]) (rest := []) C (ct_X1_gets (zl X) G x b0 m0 tl le sh im fw fh lo a0 a1 a2 a3 a4 m1 m2 m3 m4 r hm at_ lg n oa dy mr9_78 mhm9_78 mat9_78 mlg9_78 mn9_78 moa9_78 mdy9_78 LP hk hf kd fg k0 (1 - k % 2 : Nat) j (k / 2 : Nat) yard (by first | assumption | omega) (by first | assumption | omega) (by first | assumption | omega) (by first | assumption | omega) (by omega) (by omega) (by first | assumption | omega) (by first | assumption | omega) (by first | assumption | omega)) (lw_V q767 q769 qs20 q58 q770) rfl rfl (sb_p [0, 1, 2, 3, 4, 5, 6, 7, 8, 9, 10] rfl rfl) (na := 5) (by decide +kernel) rfl (zrm rfl rfl (rfl) (rfl)) rfl (Nat.le_of_ble_eq_true rfl) dX1_two_94) (fun u => jn_p (Lr := []) [0, 1, 2, 3, 4, 5, 6, 7, 8, 9, 10] [] [0, 1, 2, 3, 4, 5, 6, 7, 8, 9, 10] rfl rfl rfl (by decide) rfl rfl) (fun r_94 u hp_94 => ?_)
                  obtain ⟨mr9_94, mhm9_94, mat9_94, mlg9_94, mn9_94, moa9_94, mdy9_94⟩ := u
                  have hp_94 : r_94 = zI (getsF kd fg hm at_ lg n oa yard k0 (1 - k % 2 : Nat) j (k / 2 : Nat)) := hp_94
                  subst hp_94
                  have hg94 := getsF_r kd fg hm at_ lg n oa yard k0 (1 - k % 2) j (k / 2)
                  refine z_aload_n C dX1_two_97 rfl 3 rfl ?_
                  refine z_iload_n C dX1_two_98 rfl 5 rfl ?_
                  refine z_iload C dX1_two_99 0 rfl ?_
                  refine z_iload_n C dX1_two_101 rfl 4 rfl ?_
                  refine z_iload C dX1_two_102 1 rfl ?_
                  refine z_iload_n C dX1_two_104 rfl 6 rfl ?_
                  refine z_i (ws' := fun u => ([(x, .inr (10, [.ref a0, .ref b0, .ref m0, .int (zI im), .ref tl, .ref le, .int (zI fw), .int (zI fh), .int (zI lo), .ref sh])), (a0, .inr (8, [.ref a1, .ref a2, .ref a3, .ref a4, .int (zI (n : Int)), .int (zI oa), .int (zI dy)])), (a1, AQ G 4 7 r), (a2, AI G 7 hm), (a3, AI G 7 at_), (a4, AI G 7 lg), (m0, .inr (8, [.ref m1, .ref m2, .ref m3, .ref m4, .int (zI (u.2.2.2.2.1 : Int)), .int (zI u.2.2.2.2.2.1), .int (zI u.2.2.2.2.2.2)])), (m1, AQ G 4 7 u.1), (m2, AI G 7 u.2.1), (m3, AI G 7 u.2.2.1), (m4, AI G 7 u.2.2.2.1)] ++ PL LP hk hf)) C (z_runV (q := 0) (As := [.int (zI (k0 : Int)), .int (zI ((k % 2 : Nat) : Int)), .int (zI (j : Int)), .int (zI ((k / 2 : Nat) : Int)), .int (zI yard)]) (rest := [.int (zI (getsF kd fg hm at_ lg n oa yard k0 (1 - k % 2 : Nat) j (k / 2 : Nat)))]) C (ct_X1_gets (zl X) G x b0 m0 tl le sh im fw fh lo a0 a1 a2 a3 a4 m1 m2 m3 m4 r hm at_ lg n oa dy mr9_94 mhm9_94 mat9_94 mlg9_94 mn9_94 moa9_94 mdy9_94 LP hk hf kd fg k0 (k % 2 : Nat) j (k / 2 : Nat) yard (by first | assumption | omega) (by first | assumption | omega) (by first | assumption | omega) (by first | assumption | omega) (by omega) (by omega) (by first | assumption | omega) (by first | assumption | omega) (by first | assumption | omega)) (lw_V q767 q769 qs20 q58 q770) rfl rfl (sb_p [0, 1, 2, 3, 4, 5, 6, 7, 8, 9, 10] rfl rfl) (na := 5) (by decide +kernel) rfl (zrm rfl rfl (rfl) (rfl)) rfl (Nat.le_of_ble_eq_true rfl) dX1_two_105) (fun u => jn_p (Lr := []) [0, 1, 2, 3, 4, 5, 6, 7, 8, 9, 10] [] [0, 1, 2, 3, 4, 5, 6, 7, 8, 9, 10] rfl rfl rfl (by decide) rfl rfl) (fun r_105 u hp_105 => ?_)
                  obtain ⟨mr9_105, mhm9_105, mat9_105, mlg9_105, mn9_105, moa9_105, mdy9_105⟩ := u
                  have hp_105 : r_105 = zI (getsF kd fg hm at_ lg n oa yard k0 (k % 2 : Nat) j (k / 2 : Nat)) := hp_105
                  subst hp_105
                  have hg105 := getsF_r kd fg hm at_ lg n oa yard k0 (k % 2) j (k / 2)
                  refine y_icmp_gt (tgt := 120) C (by omega) (by omega) dX1_two_108 (by decide) (fun c_108 => ?_) (fun c_108 => ?_)
                  · skip
                    refine y_iinc (lv' := [(4, .int (zI ((k : Int) + 1))), (6, .int (zI ((k % 2 : Nat) : Int))), (5, .int (zI ((k / 2 : Nat) : Int))), (0, .ref x), (1, .int (zI (j : Int))), (2, .int (zI (k0 : Int))), (3, .int (zI yard))]) C dX1_two_120 (q := 2) rfl (nlt rfl) rfl ?_
                    refine z_goto (tgt := 39) C dX1_two_123 (by decide) ?_
                    refine z_lv (lv' := [(4, .int (zI ((k : Int) + 1))), (0, .ref x), (1, .int (zI (j : Int))), (2, .int (zI (k0 : Int))), (3, .int (zI yard))]) [0, 3, 4, 5, 6] rfl ?_
                    exact ih_39 _ (by omega) (k + 1) mr9_105 mhm9_105 mat9_105 mlg9_105 mn9_105 moa9_105 mdy9_105 (by first | assumption | omega) (fun q hq => by
                      rcases Nat.lt_succ_iff_lt_or_eq.mp hq with c | c
                      · exact hno q c
                      · subst c; unfold twoP; exact decide_eq_false (by omega)) rfl
                  · skip
                    refine y_bipush C dX1_two_111 (by decide) ?_
                    refine z_iload C dX1_two_113 1 rfl ?_
                    refine y_imul C dX1_two_115 ?_
                    refine z_iload C dX1_two_116 0 rfl ?_
                    refine y_iadd C dX1_two_118 ?_
                    exact z_iret C hA hQ rfl (Nat.le_of_ble_eq_true rfl) (Nat.le_of_ble_eq_true rfl) ((mr9_105, mhm9_105, mat9_105, mlg9_105, mn9_105, moa9_105, mdy9_105)) (congrArg zI (by unfold oTwo; rw [if_pos (by omega)]; simp only [zTN]; rw [firstF_at hno (i := k) (by unfold twoP; exact decide_eq_true (by omega)) (by omega)]; unfold tenF; first | rfl | (rw [if_neg (by omega)]; rfl))) (sb_p [0, 1, 2, 3, 4, 5, 6, 7, 8, 9, 10] rfl rfl) dX1_two_119
          exact L_39 _ 0 mr mhm mat mlg mn moa mdy (by first | assumption | omega) (fun q hq => absurd hq (Nat.not_lt_zero q)) rfl
        · skip
          refine y_iconst C dX1_two_34 ?_
          exact z_iret C hA hQ rfl (Nat.le_of_ble_eq_true rfl) (Nat.le_of_ble_eq_true rfl) ((mr, mhm, mat, mlg, mn, moa, mdy)) (congrArg zI (by unfold oTwo; (try simp only [zTN]); (repeat (first | rw [if_pos (by omega)] | rw [if_neg (by omega)])); first | done | rfl)) (sb_p [0, 1, 2, 3, 4, 5, 6, 7, 8, 9, 10] rfl rfl) dX1_two_35

theorem zI_and31 (a : Int) : zI a &&& zI 2147483647 = zI (a % 2147483648) := by
  apply Int32.toBitVec_inj.mp
  show (zI a).toBitVec &&& (zI 2147483647).toBitVec = (zI (a % 2147483648)).toBitVec
  have h1 : (zI 2147483647).toBitVec = 2147483647#32 := by decide
  rw [h1]
  have h2 : ∀ b : Int, (zI b).toBitVec = BitVec.ofInt 32 b := fun b => rfl
  rw [h2, h2]
  apply BitVec.eq_of_toNat_eq
  rw [BitVec.toNat_and, BitVec.toNat_ofInt, BitVec.toNat_ofInt]
  show (a % 4294967296).toNat &&& 2147483647 = (a % 2147483648 % 4294967296).toNat
  rw [show (2147483647 : Nat) = 2 ^ 31 - 1 by decide, Nat.and_two_pow_sub_one_eq_mod]
  omega
def nxL (l : Int) : Int := l * 1103515245 + 12345
def drL (l : Int) : Nat → Int
  | 0 => l
  | h + 1 => nxL (drL l h)
/-- where the h-th is put -/
def drP (l : Int) (h : Nat) : Int := nxL (drL l h) % 2147483648 / 65536 % 21
theorem drP_r (l : Int) (h : Nat) : 0 ≤ drP l h ∧ drP l h ≤ 20 := by unfold drP; omega
theorem LK.atm {n h : Nat} {kd : Nat → Nat} {fg hm at_ lg f : Nat → Int} {oa : Int} (hL : LK n kd fg hm at_ lg oa) (hf : ∀ j, 0 ≤ f j ∧ f j ≤ 20) : LK n kd fg hm (mixF h f at_) lg oa := by
  obtain ⟨h1, h2, h3⟩ := hL
  refine ⟨h1, h2, fun i hi => ?_⟩
  obtain ⟨a, b, c, d, e⟩ := h3 i hi
  refine ⟨a, b, c, ?_, e⟩
  unfold mixF
  split
  · exact hf i
  · exact d
/-- the seed, the sum of longings and the many at their goals after i lands -/
def ldsF (kd : Nat → Nat) (fg hm at_ lg : Nat → Int) (n : Nat) (oa : Int) (z : Int) : Nat → Int × Int × Int
  | 0 => (z, 0, 0)
  | i + 1 => (drL (ldsF kd fg hm at_ lg n oa z i).1 n, (ldsF kd fg hm at_ lg n oa z i).2.1 + sumL (goL kd fg hm (mixF n (drP (ldsF kd fg hm at_ lg n oa z i).1) at_) oa n 10 lg) n, (ldsF kd fg hm at_ lg n oa z i).2.2 + manyL kd hm (mixF n (drP (ldsF kd fg hm at_ lg n oa z i).1) at_) oa n)
theorem ldsF_s {kd : Nat → Nat} {fg hm at_ lg : Nat → Int} {n : Nat} {oa z l s t : Int} {i : Nat} (h : ldsF kd fg hm at_ lg n oa z i = (l, s, t)) : ldsF kd fg hm at_ lg n oa z (i + 1) = (drL l n, s + sumL (goL kd fg hm (mixF n (drP l) at_) oa n 10 lg) n, t + manyL kd hm (mixF n (drP l) at_) oa n) := by
  show (drL (ldsF kd fg hm at_ lg n oa z i).1 n, _, _) = _
  rw [h]
def oLands (kd : Nat → Nat) (fg : Nat → Int) (hm : Nat → Int) (at_ : Nat → Int) (lg : Nat → Int) (n : Nat) (oa : Int) (t : Int) (z : Int) (what : Int) : Int := if (1 ≤ t ∧ t ≤ 20) ∧ (0 ≤ what ∧ what ≤ 1) then (if what = 0 then (ldsF kd fg hm at_ lg n oa z t.toNat).2.1 else (ldsF kd fg hm at_ lg n oa z t.toNat).2.2) else -1
set_option maxHeartbeats 4000000 in
theorem ct_X1_draw (l : Launch) (G : ZG) (x : Nat) (b0 : Nat) (m0 : Nat) (tl : Nat) (le : Nat) (sh : Nat) (im : Int) (fw : Int) (fh : Int) (lo : Int) (a0 : Nat)  : CT l yX1_draw cX1_draw 2 (some .int) { frames := 0, cells := 0, slots := 0, locals := 0 } G [.ref x, .int (zI 21)] [(x, .inr (10, [.ref a0, .ref b0, .ref m0, .int (zI im), .ref tl, .ref le, .int (zI fw), .int (zI fh), .int (zI lo), .ref sh]))] (Qi G [(x, .inr (10, [.ref a0, .ref b0, .ref m0, .int (zI im), .ref tl, .ref le, .int (zI fw), .int (zI fh), .int (zI lo), .ref sh]))] (fun (r : Int32) (u : Unit) => r = zI (nxL lo % 2147483648 / 65536 % 21)) (fun u => [(x, .inr (10, [.ref a0, .ref b0, .ref m0, .int (zI im), .ref tl, .ref le, .int (zI fw), .int (zI fh), .int (zI (nxL lo)), .ref sh]))])) := by
  refine z_met (by decide) (Nat.le_of_ble_eq_true rfl) ?_
  intro X A hl0 hA C hQ hin
  subst hl0
  show Z X _ G 0 0 _ 0 [(0, .ref x), (1, .int (zI 21))] []
  refine z_aload_n C dX1_draw_0 rfl 0 rfl ?_
  refine z_aload_n C dX1_draw_1 rfl 0 rfl ?_
  refine z_get (q := 0) (kf := 8) (v := .int (zI lo)) C rfl rfl in_X1 (by decide) q888 (Or.inl rfl) rfl dX1_draw_2 ?_
  refine z_ldcw C q806 dX1_draw_5 ?_
  refine z_eqi (y := zI 1103515245) (by decide) ?_
  refine y_imul C dX1_draw_8 ?_
  refine y_sipush C dX1_draw_9 (by decide) ?_
  refine y_iadd C dX1_draw_12 ?_
  rw [show lo * 1103515245 + 12345 = nxL lo from rfl]
  refine z_put (q := 0) (kf := 8) (ws' := [(x, .inr (10, [.ref a0, .ref b0, .ref m0, .int (zI im), .ref tl, .ref le, .int (zI fw), .int (zI fh), .int (zI (nxL lo)), .ref sh]))]) C rfl rfl in_X1 tyX1_ok nmX1 (by decide) q888 rfl rfl rfl rfl rfl (nlt rfl) rfl dX1_draw_13 ?_
  refine z_aload_n C dX1_draw_16 rfl 0 rfl ?_
  refine z_get (q := 0) (kf := 8) (v := .int (zI (nxL lo))) C rfl rfl in_X1 (by decide) q888 (Or.inl rfl) rfl dX1_draw_17 ?_
  refine z_ldcw C q807 dX1_draw_20 ?_
  refine z_eqi (y := zI 2147483647) (by decide) ?_
  refine z_iand C dX1_draw_23 rfl ?_
  rw [zI_and31]
  refine z_ldcw C q808 dX1_draw_24 ?_
  refine z_eqi (y := zI 65536) (by decide) ?_
  refine y_idiv C (by omega) (by omega) dX1_draw_27 ?_
  refine z_iload_n C dX1_draw_28 rfl 1 rfl ?_
  refine y_irem C (by omega) (by omega) dX1_draw_29 ?_
  exact z_iret C hA hQ rfl (Nat.le_of_ble_eq_true rfl) (Nat.le_of_ble_eq_true rfl) (()) (rfl) (sb_e [0] rfl rfl) dX1_draw_30

set_option maxHeartbeats 4000000 in
theorem ct_X1_lands (l : Launch) (G : ZG) (x : Nat) (b0 : Nat) (m0 : Nat) (tl : Nat) (le : Nat) (sh : Nat) (im : Int) (fw : Int) (fh : Int) (lo : Int) (a0 : Nat) (a1 : Nat) (a2 : Nat) (a3 : Nat) (a4 : Nat) (m1 : Nat) (m2 : Nat) (m3 : Nat) (m4 : Nat) (r : Nat → Option Nat) (hm : Nat → Int) (at_ : Nat → Int) (lg : Nat → Int) (n : Nat) (oa : Int) (dy : Int) (mr : Nat → Option Nat) (mhm : Nat → Int) (mat : Nat → Int) (mlg : Nat → Int) (mn : Nat) (moa : Int) (mdy : Int) (LP : List Nat) (hk : Nat → Nat) (hf : Nat → Int) (kd : Nat → Nat) (fg : Nat → Int) (t : Int) (z : Int) (what : Int) (hH : HR LP hk hf r n kd fg) (hL : LK n kd fg hm at_ lg oa) (hK : PK LP hk hf) (hV : RV LP r) (rt : -2147483648 ≤ t ∧ t ≤ 2147483647) (rwhat : -2147483648 ≤ what ∧ what ≤ 2147483647) : CT l yX1_lands cX1_lands 8 (some .int) { frames := 8, cells := 0, slots := 0, locals := 165 } G [.ref x, .int (zI t), .int (zI z), .int (zI what)] ([(x, .inr (10, [.ref a0, .ref b0, .ref m0, .int (zI im), .ref tl, .ref le, .int (zI fw), .int (zI fh), .int (zI lo), .ref sh])), (a0, .inr (8, [.ref a1, .ref a2, .ref a3, .ref a4, .int (zI (n : Int)), .int (zI oa), .int (zI dy)])), (a1, AQ G 4 7 r), (a2, AI G 7 hm), (a3, AI G 7 at_), (a4, AI G 7 lg), (m0, .inr (8, [.ref m1, .ref m2, .ref m3, .ref m4, .int (zI (mn : Int)), .int (zI moa), .int (zI mdy)])), (m1, AQ G 4 7 mr), (m2, AI G 7 mhm), (m3, AI G 7 mat), (m4, AI G 7 mlg)] ++ PL LP hk hf) (Qi G ([(x, .inr (10, [.ref a0, .ref b0, .ref m0, .int (zI im), .ref tl, .ref le, .int (zI fw), .int (zI fh), .int (zI lo), .ref sh])), (a0, .inr (8, [.ref a1, .ref a2, .ref a3, .ref a4, .int (zI (n : Int)), .int (zI oa), .int (zI dy)])), (a1, AQ G 4 7 r), (a2, AI G 7 hm), (a3, AI G 7 at_), (a4, AI G 7 lg), (m0, .inr (8, [.ref m1, .ref m2, .ref m3, .ref m4, .int (zI (mn : Int)), .int (zI moa), .int (zI mdy)])), (m1, AQ G 4 7 mr), (m2, AI G 7 mhm), (m3, AI G 7 mat), (m4, AI G 7 mlg)] ++ PL LP hk hf) (fun (r : Int32) (u : Int × (Nat → Option Nat) × (Nat → Int) × (Nat → Int) × (Nat → Int) × Nat × Int × Int) => r = zI (oLands kd fg hm at_ lg n oa t z what)) (fun u => ([(x, .inr (10, [.ref a0, .ref b0, .ref m0, .int (zI im), .ref tl, .ref le, .int (zI fw), .int (zI fh), .int (zI u.1), .ref sh])), (a0, .inr (8, [.ref a1, .ref a2, .ref a3, .ref a4, .int (zI (n : Int)), .int (zI oa), .int (zI dy)])), (a1, AQ G 4 7 r), (a2, AI G 7 hm), (a3, AI G 7 at_), (a4, AI G 7 lg), (m0, .inr (8, [.ref m1, .ref m2, .ref m3, .ref m4, .int (zI (u.2.2.2.2.2.1 : Int)), .int (zI u.2.2.2.2.2.2.1), .int (zI u.2.2.2.2.2.2.2)])), (m1, AQ G 4 7 u.2.1), (m2, AI G 7 u.2.2.1), (m3, AI G 7 u.2.2.2.1), (m4, AI G 7 u.2.2.2.2.1)] ++ PL LP hk hf))) := by
  refine z_met (by decide) (Nat.le_of_ble_eq_true rfl) ?_
  intro X A hl0 hA C hQ hin
  subst hl0
  obtain ⟨hn7, hoa, hLj⟩ := id hL
  show Z X _ G 0 0 _ 0 [(0, .ref x), (1, .int (zI t)), (2, .int (zI z)), (3, .int (zI what))] []
  refine z_iload_n C dX1_lands_0 rfl 1 rfl ?_
  refine y_iconst C dX1_lands_1 ?_
  refine y_bipush C dX1_lands_2 (by decide) ?_
  refine z_i C (z_runS (As := [.int (zI t), .int (zI 1), .int (zI 20)]) (rest := []) C (ct_X1_isIn (zl X) G t 1 20 (by first | assumption | omega) (by first | assumption | omega) (by first | assumption | omega)) (lw_S q189 q190 q58 q191) (sb_e [] rfl rfl) (na := 3) (by decide +kernel) rfl (zrm rfl rfl (rfl) (rfl)) rfl (Nat.le_of_ble_eq_true rfl) dX1_lands_4) (fun u => jn_ro (sb_e [] rfl rfl)) (fun r_4 u hp_4 => ?_)
  have hp_4 : r_4 = zI (bI (1 ≤ t ∧ t ≤ 20)) := hp_4
  subst hp_4
  refine y_beq (tgt := 19) C dX1_lands_7 (by decide) (fun c_7 => ?_) (fun c_7 => ?_)
  · skip
    refine y_iconst C dX1_lands_19 ?_
    exact z_iret C hA hQ rfl (Nat.le_of_ble_eq_true rfl) (Nat.le_of_ble_eq_true rfl) ((lo, mr, mhm, mat, mlg, mn, moa, mdy)) (congrArg zI (by unfold oLands; (try simp only [zTN]); (repeat (first | rw [if_pos (by omega)] | rw [if_neg (by omega)])); first | done | rfl)) (sb_p [0, 1, 2, 3, 4, 5, 6, 7, 8, 9, 10] rfl rfl) dX1_lands_20
  · skip
    refine z_iload_n C dX1_lands_10 rfl 3 rfl ?_
    refine y_iconst C dX1_lands_11 ?_
    refine y_iconst C dX1_lands_12 ?_
    refine z_i C (z_runS (As := [.int (zI what), .int (zI 0), .int (zI 1)]) (rest := []) C (ct_X1_isIn (zl X) G what 0 1 (by first | assumption | omega) (by first | assumption | omega) (by first | assumption | omega)) (lw_S q189 q190 q58 q191) (sb_e [] rfl rfl) (na := 3) (by decide +kernel) rfl (zrm rfl rfl (rfl) (rfl)) rfl (Nat.le_of_ble_eq_true rfl) dX1_lands_13) (fun u => jn_ro (sb_e [] rfl rfl)) (fun r_13 u hp_13 => ?_)
    have hp_13 : r_13 = zI (bI (0 ≤ what ∧ what ≤ 1)) := hp_13
    subst hp_13
    refine y_bne (tgt := 21) C dX1_lands_16 (by decide) (fun c_16 => ?_) (fun c_16 => ?_)
    · skip
      obtain ⟨t0, rfl⟩ := Int.eq_ofNat_of_zero_le (show 0 ≤ t by omega)
      refine z_aload_n C dX1_lands_21 rfl 0 rfl ?_
      refine z_iload_n C dX1_lands_22 rfl 2 rfl ?_
      refine z_put (q := 0) (kf := 8) (ws' := ([(x, .inr (10, [.ref a0, .ref b0, .ref m0, .int (zI im), .ref tl, .ref le, .int (zI fw), .int (zI fh), .int (zI z), .ref sh])), (a0, .inr (8, [.ref a1, .ref a2, .ref a3, .ref a4, .int (zI (n : Int)), .int (zI oa), .int (zI dy)])), (a1, AQ G 4 7 r), (a2, AI G 7 hm), (a3, AI G 7 at_), (a4, AI G 7 lg), (m0, .inr (8, [.ref m1, .ref m2, .ref m3, .ref m4, .int (zI (mn : Int)), .int (zI moa), .int (zI mdy)])), (m1, AQ G 4 7 mr), (m2, AI G 7 mhm), (m3, AI G 7 mat), (m4, AI G 7 mlg)] ++ PL LP hk hf)) C rfl rfl in_X1 tyX1_ok nmX1 (by decide) q888 rfl rfl rfl rfl rfl (nlt rfl) rfl dX1_lands_23 ?_
      refine y_iconst C dX1_lands_26 ?_
      refine z_istore (lv' := [(4, .int (zI 0)), (0, .ref x), (1, .int (zI (t0 : Int))), (2, .int (zI z)), (3, .int (zI what))]) C dX1_lands_27 (nlt rfl) rfl ?_
      refine y_iconst C dX1_lands_29 ?_
      refine z_istore (lv' := [(5, .int (zI 0)), (4, .int (zI 0)), (0, .ref x), (1, .int (zI (t0 : Int))), (2, .int (zI z)), (3, .int (zI what))]) C dX1_lands_30 (nlt rfl) rfl ?_
      refine y_iconst C dX1_lands_32 ?_
      refine z_istore (lv' := [(6, .int (zI 0)), (5, .int (zI 0)), (4, .int (zI 0)), (0, .ref x), (1, .int (zI (t0 : Int))), (2, .int (zI z)), (3, .int (zI what))]) C dX1_lands_33 (nlt rfl) rfl ?_
      have L_35 : ∀ (tt : Nat) (i : Nat) (l1 : Int) (s1 : Int) (t1 : Int) (mr : Nat → Option Nat) (mhm : Nat → Int) (mat : Nat → Int) (mlg : Nat → Int) (mn : Nat) (moa : Int) (mdy : Int), (i ≤ t0) → (ldsF kd fg hm at_ lg n oa z i = (l1, s1, t1)) → t0 - i = tt → Z X (cX1_lands, 8, yX1_lands.cls, (some .int), { frames := 8, cells := 0, slots := 0, locals := 165 }, A) G 0 0 ([(x, .inr (10, [.ref a0, .ref b0, .ref m0, .int (zI im), .ref tl, .ref le, .int (zI fw), .int (zI fh), .int (zI l1), .ref sh])), (a0, .inr (8, [.ref a1, .ref a2, .ref a3, .ref a4, .int (zI (n : Int)), .int (zI oa), .int (zI dy)])), (a1, AQ G 4 7 r), (a2, AI G 7 hm), (a3, AI G 7 at_), (a4, AI G 7 lg), (m0, .inr (8, [.ref m1, .ref m2, .ref m3, .ref m4, .int (zI (mn : Int)), .int (zI moa), .int (zI mdy)])), (m1, AQ G 4 7 mr), (m2, AI G 7 mhm), (m3, AI G 7 mat), (m4, AI G 7 mlg)] ++ PL LP hk hf) 35 [(6, .int (zI (i : Int))), (5, .int (zI t1)), (4, .int (zI s1)), (0, .ref x), (1, .int (zI (t0 : Int))), (3, .int (zI what))] [] := by
        intro tt
        induction tt using Nat.strongRecOn with
        | _ tt ih_35 =>
          intro i l1 s1 t1 mr mhm mat mlg mn moa mdy hi hld ht_35
          refine z_iload C dX1_lands_35 0 rfl ?_
          refine z_iload_n C dX1_lands_37 rfl 4 rfl ?_
          refine y_icmp_ge (tgt := 121) C (by omega) (by omega) dX1_lands_38 (by decide) (fun c_38 => ?_) (fun c_38 => ?_)
          · skip
            refine z_iload_n C dX1_lands_121 rfl 5 rfl ?_
            refine y_if_ne (tgt := 130) C (by omega) dX1_lands_122 (by decide) (fun c_122 => ?_) (fun c_122 => ?_)
            · skip
              refine z_iload C dX1_lands_130 1 rfl ?_
              rw [show i = t0 by omega] at hld
              exact z_iret C hA hQ rfl (Nat.le_of_ble_eq_true rfl) (Nat.le_of_ble_eq_true rfl) ((l1, mr, mhm, mat, mlg, mn, moa, mdy)) (congrArg zI (by unfold oLands; rw [if_pos (by omega)]; simp only [zTN]; rw [hld]; first | rw [if_pos (by omega)] | rw [if_neg (by omega)])) (sb_p [0, 1, 2, 3, 4, 5, 6, 7, 8, 9, 10] rfl rfl) dX1_lands_132
            · skip
              refine z_iload C dX1_lands_125 2 rfl ?_
              refine z_goto (tgt := 132) C dX1_lands_127 (by decide) ?_
              rw [show i = t0 by omega] at hld
              exact z_iret C hA hQ rfl (Nat.le_of_ble_eq_true rfl) (Nat.le_of_ble_eq_true rfl) ((l1, mr, mhm, mat, mlg, mn, moa, mdy)) (congrArg zI (by unfold oLands; rw [if_pos (by omega)]; simp only [zTN]; rw [hld]; first | rw [if_pos (by omega)] | rw [if_neg (by omega)])) (sb_p [0, 1, 2, 3, 4, 5, 6, 7, 8, 9, 10] rfl rfl) dX1_lands_132
          · skip
            refine z_aload_n C dX1_lands_41 rfl 3 rfl ?_
            refine z_v (ws' := fun u => ([(x, .inr (10, [.ref a0, .ref b0, .ref m0, .int (zI im), .ref tl, .ref le, .int (zI fw), .int (zI fh), .int (zI l1), .ref sh])), (a0, .inr (8, [.ref a1, .ref a2, .ref a3, .ref a4, .int (zI (n : Int)), .int (zI oa), .int (zI dy)])), (a1, AQ G 4 7 r), (a2, AI G 7 hm), (a3, AI G 7 at_), (a4, AI G 7 lg), (m0, .inr (8, [.ref m1, .ref m2, .ref m3, .ref m4, .int (zI (n : Int)), .int (zI oa), .int (zI dy)])), (m1, AQ G 4 7 r), (m2, AI G 7 hm), (m3, AI G 7 at_), (m4, AI G 7 lg)] ++ PL LP hk hf)) C (z_runV (q := 0) (As := []) (rest := []) C (ct_X1_minds (zl X) G x b0 m0 tl le sh im fw fh l1 a0 a1 a2 a3 a4 m1 m2 m3 m4 r hm at_ lg n oa dy mr mhm mat mlg mn moa mdy LP hk hf kd fg (by first | assumption | omega) (by first | assumption | omega)) (lw_V q577 q579 qs12 q58 q580) rfl rfl (sb_p [0, 1, 2, 3, 4, 5, 6, 7, 8, 9, 10] rfl rfl) (na := 0) (by decide +kernel) rfl (zrm rfl rfl (rfl) (rfl)) rfl (Nat.le_of_ble_eq_true rfl) dX1_lands_42) (fun u => jn_p (Lr := []) [0, 1, 2, 3, 4, 5, 6, 7, 8, 9, 10] [] [0, 1, 2, 3, 4, 5, 6, 7, 8, 9, 10] rfl rfl rfl (by decide) rfl rfl) (fun u hp_42 => ?_)
            refine y_iconst C dX1_lands_45 ?_
            refine z_istore (lv' := [(7, .int (zI 0)), (6, .int (zI (i : Int))), (5, .int (zI t1)), (4, .int (zI s1)), (0, .ref x), (1, .int (zI (t0 : Int))), (3, .int (zI what))]) C dX1_lands_46 (nlt rfl) rfl ?_
            have L_48 : ∀ (tt : Nat) (h : Nat), (h ≤ n) → n - h = tt → Z X (cX1_lands, 8, yX1_lands.cls, (some .int), { frames := 8, cells := 0, slots := 0, locals := 165 }, A) G 0 0 ([(x, .inr (10, [.ref a0, .ref b0, .ref m0, .int (zI im), .ref tl, .ref le, .int (zI fw), .int (zI fh), .int (zI (drL l1 h)), .ref sh])), (a0, .inr (8, [.ref a1, .ref a2, .ref a3, .ref a4, .int (zI (n : Int)), .int (zI oa), .int (zI dy)])), (a1, AQ G 4 7 r), (a2, AI G 7 hm), (a3, AI G 7 at_), (a4, AI G 7 lg), (m0, .inr (8, [.ref m1, .ref m2, .ref m3, .ref m4, .int (zI (n : Int)), .int (zI oa), .int (zI dy)])), (m1, AQ G 4 7 r), (m2, AI G 7 hm), (m3, AI G 7 (mixF h (drP l1) at_)), (m4, AI G 7 lg)] ++ PL LP hk hf) 48 [(7, .int (zI (h : Int))), (6, .int (zI (i : Int))), (5, .int (zI t1)), (4, .int (zI s1)), (0, .ref x), (1, .int (zI (t0 : Int))), (3, .int (zI what))] [] := by
              intro tt
              induction tt using Nat.strongRecOn with
              | _ tt ih_48 =>
                intro h hh ht_48
                refine z_iload C dX1_lands_48 0 rfl ?_
                refine z_aload_n C dX1_lands_50 rfl 4 rfl ?_
                refine z_get (q := 0) (kf := 2) (v := .ref m0) C rfl rfl in_X1 (by decide) q882 (Or.inl rfl) rfl dX1_lands_51 ?_
                refine z_get (q := 6) (kf := 4) (v := .int (zI (n : Int))) C rfl rfl in_X2 (by decide) q846 (Or.inl rfl) rfl dX1_lands_54 ?_
                refine y_icmp_ge (tgt := 82) C (by omega) (by omega) dX1_lands_57 (by decide) (fun c_57 => ?_) (fun c_57 => ?_)
                · skip
                  rw [show (h : Nat) = n by omega]
                  refine z_aload_n C dX1_lands_82 rfl 4 rfl ?_
                  refine z_get (q := 0) (kf := 2) (v := .ref m0) C rfl rfl in_X1 (by decide) q882 (Or.inl rfl) rfl dX1_lands_83 ?_
                  refine y_bipush C dX1_lands_86 (by decide) ?_
                  refine z_v (ws' := fun u => ([(x, .inr (10, [.ref a0, .ref b0, .ref m0, .int (zI im), .ref tl, .ref le, .int (zI fw), .int (zI fh), .int (zI (drL l1 n)), .ref sh])), (a0, .inr (8, [.ref a1, .ref a2, .ref a3, .ref a4, .int (zI (n : Int)), .int (zI oa), .int (zI dy)])), (a1, AQ G 4 7 r), (a2, AI G 7 hm), (a3, AI G 7 at_), (a4, AI G 7 lg), (m0, .inr (8, [.ref m1, .ref m2, .ref m3, .ref m4, .int (zI (n : Int)), .int (zI oa), .int (zI (dy + (10 : Int)))])), (m1, AQ G 4 7 r), (m2, AI G 7 hm), (m3, AI G 7 (mixF n (drP l1) at_)), (m4, AI G 7 (goL kd fg hm (mixF n (drP l1) at_) oa n 10 lg))] ++ PL LP hk hf)) C (z_runV (q := 6) (As := [.int (zI 10)]) (rest := []) C (ct_X2_goes (zl X) G m0 m1 m2 m3 m4 r hm (mixF n (drP l1) at_) lg n oa dy LP hk hf kd fg 10 (by first | assumption | omega) (hL.atm (drP_r l1)) (by first | assumption | omega)) (lw_V q532 q533 q534 q59 q535) rfl rfl (sb_p [6, 7, 8, 9, 10] rfl rfl) (na := 1) (by decide +kernel) rfl (zrm rfl rfl (rfl) (rfl)) rfl (Nat.le_of_ble_eq_true rfl) dX1_lands_88) (fun u => jn_p (Lr := [(x, .inr (10, [.ref a0, .ref b0, .ref m0, .int (zI im), .ref tl, .ref le, .int (zI fw), .int (zI fh), .int (zI (drL l1 n)), .ref sh])), (a0, .inr (8, [.ref a1, .ref a2, .ref a3, .ref a4, .int (zI (n : Int)), .int (zI oa), .int (zI dy)])), (a1, AQ G 4 7 r), (a2, AI G 7 hm), (a3, AI G 7 at_), (a4, AI G 7 lg)]) [6, 7, 8, 9, 10] [0, 1, 2, 3, 4, 5] [0, 1, 2, 3, 4, 5, 6, 7, 8, 9, 10] rfl rfl rfl (by decide) rfl rfl) (fun u hp_88 => ?_)
                  refine z_iload C dX1_lands_91 3 rfl ?_
                  refine z_aload_n C dX1_lands_93 rfl 4 rfl ?_
                  refine z_get (q := 0) (kf := 2) (v := .ref m0) C rfl rfl in_X1 (by decide) q882 (Or.inl rfl) rfl dX1_lands_94 ?_
                  refine z_i C (z_runV (q := 6) (As := []) (rest := [.int (zI s1)]) C (ct_X2_allLonging (zl X) G m0 m1 m2 m3 m4 (goL kd fg hm (mixF n (drP l1) at_) oa n 10 lg) n oa (dy + (10 : Int)) (by first | assumption | omega)) (lw_V q597 q598 q599 q59 q600) rfl rfl (sb_e [6, 10] rfl rfl) (na := 0) (by decide +kernel) rfl (zrm rfl rfl (rfl) (rfl)) rfl (Nat.le_of_ble_eq_true rfl) dX1_lands_97) (fun u => jn_ro (sb_e [6, 10] rfl rfl)) (fun r_97 u hp_97 => ?_)
                  have hp_97 : r_97 = zI (sumL (goL kd fg hm (mixF n (drP l1) at_) oa n 10 lg) n) := hp_97
                  subst hp_97
                  refine y_iadd C dX1_lands_100 ?_
                  refine z_istore (lv' := [(4, .int (zI (s1 + (sumL (goL kd fg hm (mixF n (drP l1) at_) oa n 10 lg) n)))), (7, .int (zI (n : Int))), (6, .int (zI (i : Int))), (5, .int (zI t1)), (0, .ref x), (1, .int (zI (t0 : Int))), (3, .int (zI what))]) C dX1_lands_101 (nlt rfl) rfl ?_
                  refine z_iload C dX1_lands_103 3 rfl ?_
                  refine z_aload_n C dX1_lands_105 rfl 4 rfl ?_
                  refine z_get (q := 0) (kf := 2) (v := .ref m0) C rfl rfl in_X1 (by decide) q882 (Or.inl rfl) rfl dX1_lands_106 ?_
                  refine z_i C (z_runV (q := 6) (As := []) (rest := [.int (zI t1)]) C (ct_X2_manyAtGoals (zl X) G m0 m1 m2 m3 m4 r hm (mixF n (drP l1) at_) (goL kd fg hm (mixF n (drP l1) at_) oa n 10 lg) n oa (dy + (10 : Int)) LP hk hf kd fg (by first | assumption | omega) ((hL.atm (drP_r l1)).go 10)) (lw_V q809 q810 q811 q59 q812) rfl rfl (sb_p [6, 7, 8, 9, 10] rfl rfl) (na := 0) (by decide +kernel) rfl (zrm rfl rfl (rfl) (rfl)) rfl (Nat.le_of_ble_eq_true rfl) dX1_lands_109) (fun u => jn_ro (sb_p [6, 7, 8, 9, 10] rfl rfl)) (fun r_109 u hp_109 => ?_)
                  have hp_109 : r_109 = zI (manyL kd hm (mixF n (drP l1) at_) oa n) := hp_109
                  subst hp_109
                  refine y_iadd C dX1_lands_112 ?_
                  refine z_istore (lv' := [(5, .int (zI (t1 + (manyL kd hm (mixF n (drP l1) at_) oa n)))), (4, .int (zI (s1 + (sumL (goL kd fg hm (mixF n (drP l1) at_) oa n 10 lg) n)))), (7, .int (zI (n : Int))), (6, .int (zI (i : Int))), (0, .ref x), (1, .int (zI (t0 : Int))), (3, .int (zI what))]) C dX1_lands_113 (nlt rfl) rfl ?_
                  refine y_iinc (lv' := [(6, .int (zI ((i : Int) + 1))), (5, .int (zI (t1 + (manyL kd hm (mixF n (drP l1) at_) oa n)))), (4, .int (zI (s1 + (sumL (goL kd fg hm (mixF n (drP l1) at_) oa n 10 lg) n)))), (7, .int (zI (n : Int))), (0, .ref x), (1, .int (zI (t0 : Int))), (3, .int (zI what))]) C dX1_lands_115 (q := 3) rfl (nlt rfl) rfl ?_
                  refine z_goto (tgt := 35) C dX1_lands_118 (by decide) ?_
                  refine z_lv (lv' := [(6, .int (zI ((i : Int) + 1))), (5, .int (zI (t1 + (manyL kd hm (mixF n (drP l1) at_) oa n)))), (4, .int (zI (s1 + (sumL (goL kd fg hm (mixF n (drP l1) at_) oa n 10 lg) n)))), (0, .ref x), (1, .int (zI (t0 : Int))), (3, .int (zI what))]) [0, 1, 2, 4, 5, 6] rfl ?_
                  exact ih_35 _ (by omega) (i + 1) (drL l1 n) (s1 + (sumL (goL kd fg hm (mixF n (drP l1) at_) oa n 10 lg) n)) (t1 + (manyL kd hm (mixF n (drP l1) at_) oa n)) r hm (mixF n (drP l1) at_) (goL kd fg hm (mixF n (drP l1) at_) oa n 10 lg) n oa (dy + (10 : Int)) (by first | assumption | omega) (ldsF_s hld) rfl
                · skip
                  refine z_aload_n C dX1_lands_60 rfl 4 rfl ?_
                  refine z_get (q := 0) (kf := 2) (v := .ref m0) C rfl rfl in_X1 (by decide) q882 (Or.inl rfl) rfl dX1_lands_61 ?_
                  refine z_get (q := 6) (kf := 2) (v := .ref m3) C rfl rfl in_X2 (by decide) q842 (Or.inl rfl) rfl dX1_lands_64 ?_
                  refine z_iload C dX1_lands_67 0 rfl ?_
                  refine z_aload_n C dX1_lands_69 rfl 4 rfl ?_
                  refine y_bipush C dX1_lands_70 (by decide) ?_
                  refine z_i (ws' := fun u => ([(x, .inr (10, [.ref a0, .ref b0, .ref m0, .int (zI im), .ref tl, .ref le, .int (zI fw), .int (zI fh), .int (zI (nxL (drL l1 h))), .ref sh])), (a0, .inr (8, [.ref a1, .ref a2, .ref a3, .ref a4, .int (zI (n : Int)), .int (zI oa), .int (zI dy)])), (a1, AQ G 4 7 r), (a2, AI G 7 hm), (a3, AI G 7 at_), (a4, AI G 7 lg), (m0, .inr (8, [.ref m1, .ref m2, .ref m3, .ref m4, .int (zI (n : Int)), .int (zI oa), .int (zI dy)])), (m1, AQ G 4 7 r), (m2, AI G 7 hm), (m3, AI G 7 (mixF h (drP l1) at_)), (m4, AI G 7 lg)] ++ PL LP hk hf)) C (z_runV (q := 0) (As := [.int (zI 21)]) (rest := [.int (zI (h : Int)), .ref m3]) C (ct_X1_draw (zl X) G x b0 m0 tl le sh im fw fh (drL l1 h) a0 ) (lw_V q802 q804 qs22 q58 q805) rfl rfl (sb_e [0] rfl rfl) (na := 1) (by decide +kernel) rfl (zrm rfl rfl (rfl) (rfl)) rfl (Nat.le_of_ble_eq_true rfl) dX1_lands_72) (fun u => jn_q (Lr := [(a0, .inr (8, [.ref a1, .ref a2, .ref a3, .ref a4, .int (zI (n : Int)), .int (zI oa), .int (zI dy)])), (a1, AQ G 4 7 r), (a2, AI G 7 hm), (a3, AI G 7 at_), (a4, AI G 7 lg), (m0, .inr (8, [.ref m1, .ref m2, .ref m3, .ref m4, .int (zI (n : Int)), .int (zI oa), .int (zI dy)])), (m1, AQ G 4 7 r), (m2, AI G 7 hm), (m3, AI G 7 (mixF h (drP l1) at_)), (m4, AI G 7 lg)]) [0] [1, 2, 3, 4, 5, 6, 7, 8, 9, 10] [10, 0, 1, 2, 3, 4, 5, 6, 7, 8, 9] rfl rfl rfl (by decide) rfl rfl) (fun r_72 u hp_72 => ?_)
                  have hp_72 : r_72 = zI (nxL (drL l1 h) % 2147483648 / 65536 % 21) := hp_72
                  subst hp_72
                  refine y_iast (q := 9) (t0 := 0) (g := mixF (h + 1) (drP l1) at_) (ws' := ([(x, .inr (10, [.ref a0, .ref b0, .ref m0, .int (zI im), .ref tl, .ref le, .int (zI fw), .int (zI fh), .int (zI (nxL (drL l1 h))), .ref sh])), (a0, .inr (8, [.ref a1, .ref a2, .ref a3, .ref a4, .int (zI (n : Int)), .int (zI oa), .int (zI dy)])), (a1, AQ G 4 7 r), (a2, AI G 7 hm), (a3, AI G 7 at_), (a4, AI G 7 lg), (m0, .inr (8, [.ref m1, .ref m2, .ref m3, .ref m4, .int (zI (n : Int)), .int (zI oa), .int (zI dy)])), (m1, AQ G 4 7 r), (m2, AI G 7 hm), (m3, AI G 7 (mixF (h + 1) (drP l1) at_)), (m4, AI G 7 lg)] ++ PL LP hk hf)) C rfl rfl (by omega) (by decide) mixF_up rfl dX1_lands_75 ?_
                  refine y_iinc (lv' := [(7, .int (zI ((h : Int) + 1))), (6, .int (zI (i : Int))), (5, .int (zI t1)), (4, .int (zI s1)), (0, .ref x), (1, .int (zI (t0 : Int))), (3, .int (zI what))]) C dX1_lands_76 (q := 0) rfl (nlt rfl) rfl ?_
                  refine z_goto (tgt := 48) C dX1_lands_79 (by decide) ?_
                  exact ih_48 _ (by omega) (h + 1) (by first | assumption | omega) rfl
            refine z_wsEq (ws' := ([(x, .inr (10, [.ref a0, .ref b0, .ref m0, .int (zI im), .ref tl, .ref le, .int (zI fw), .int (zI fh), .int (zI (drL l1 0)), .ref sh])), (a0, .inr (8, [.ref a1, .ref a2, .ref a3, .ref a4, .int (zI (n : Int)), .int (zI oa), .int (zI dy)])), (a1, AQ G 4 7 r), (a2, AI G 7 hm), (a3, AI G 7 at_), (a4, AI G 7 lg), (m0, .inr (8, [.ref m1, .ref m2, .ref m3, .ref m4, .int (zI (n : Int)), .int (zI oa), .int (zI dy)])), (m1, AQ G 4 7 r), (m2, AI G 7 hm), (m3, AI G 7 (mixF 0 (drP l1) at_)), (m4, AI G 7 lg)] ++ PL LP hk hf)) (by rw [mixF_0]; rfl) ?_
            exact L_48 _ 0 (by first | assumption | omega) rfl
      refine z_lv (lv' := [(6, .int (zI 0)), (5, .int (zI 0)), (4, .int (zI 0)), (0, .ref x), (1, .int (zI (t0 : Int))), (3, .int (zI what))]) [0, 1, 2, 3, 4, 6] rfl ?_
      exact L_35 _ 0 z 0 0 mr mhm mat mlg mn moa mdy (by first | assumption | omega) (rfl) rfl
    · skip
      refine y_iconst C dX1_lands_19 ?_
      exact z_iret C hA hQ rfl (Nat.le_of_ble_eq_true rfl) (Nat.le_of_ble_eq_true rfl) ((lo, mr, mhm, mat, mlg, mn, moa, mdy)) (congrArg zI (by unfold oLands; (try simp only [zTN]); (repeat (first | rw [if_pos (by omega)] | rw [if_neg (by omega)])); first | done | rfl)) (sb_p [0, 1, 2, 3, 4, 5, 6, 7, 8, 9, 10] rfl rfl) dX1_lands_20

