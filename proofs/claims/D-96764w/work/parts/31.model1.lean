/-! THE MODEL, 1: horses by kinds, days, rides -/
set_option maxRecDepth 100000
set_option maxHeartbeats 4000000 in
theorem ct_X4_apart (l : Launch) (G : ZG) (p : Int) (q : Int) (hu : -2147483648 ≤ p ∧ p ≤ 2147483647) (hv : -2147483648 ≤ q ∧ q ≤ 2147483647) : CT l yX4_apart cX4_apart 2 (some .int) { frames := 0, cells := 0, slots := 0, locals := 0 } G [.int (zI p), .int (zI q)] [] (Qi G [] (fun (r : Int32) (u : Unit) => r = zI (zAbs (p - q))) (fun u => [])) := by
  refine z_met (by decide) (Nat.le_of_ble_eq_true rfl) ?_
  intro X A hl0 hA C hQ hin
  subst hl0
  show Z X _ G 0 0 _ 0 [(0, .int (zI p)), (1, .int (zI q))] []
  refine z_iload_n C dX4_apart_0 rfl 0 rfl ?_
  refine z_iload_n C dX4_apart_1 rfl 1 rfl ?_
  refine y_icmp_le (tgt := 11) C (by omega) (by omega) dX4_apart_2 (by decide) (fun c_2 => ?_) (fun c_2 => ?_)
  · skip
    refine z_iload_n C dX4_apart_11 rfl 1 rfl ?_
    refine z_iload_n C dX4_apart_12 rfl 0 rfl ?_
    refine y_isub C dX4_apart_13 ?_
    exact z_iret C hA hQ rfl (Nat.le_of_ble_eq_true rfl) (Nat.le_of_ble_eq_true rfl) (()) (congrArg zI (by unfold zAbs; first | (rw [if_pos (by omega)]; done) | (rw [if_neg (by omega)]; omega) | (split <;> omega))) (sb_e [] rfl rfl) dX4_apart_14
  · skip
    refine z_iload_n C dX4_apart_5 rfl 0 rfl ?_
    refine z_iload_n C dX4_apart_6 rfl 1 rfl ?_
    refine y_isub C dX4_apart_7 ?_
    refine z_goto (tgt := 14) C dX4_apart_8 (by decide) ?_
    exact z_iret C hA hQ rfl (Nat.le_of_ble_eq_true rfl) (Nat.le_of_ble_eq_true rfl) (()) (congrArg zI (by unfold zAbs; first | (rw [if_pos (by omega)]; done) | (rw [if_neg (by omega)]; omega) | (split <;> omega))) (sb_e [] rfl rfl) dX4_apart_14

set_option maxHeartbeats 4000000 in
theorem ct_X4_least (l : Launch) (G : ZG) (p : Int) (q : Int) (hu : -2147483648 ≤ p ∧ p ≤ 2147483647) (hv : -2147483648 ≤ q ∧ q ≤ 2147483647) : CT l yX4_least cX4_least 2 (some .int) { frames := 0, cells := 0, slots := 0, locals := 0 } G [.int (zI p), .int (zI q)] [] (Qi G [] (fun (r : Int32) (u : Unit) => r = zI (min p q)) (fun u => [])) := by
  refine z_met (by decide) (Nat.le_of_ble_eq_true rfl) ?_
  intro X A hl0 hA C hQ hin
  subst hl0
  show Z X _ G 0 0 _ 0 [(0, .int (zI p)), (1, .int (zI q))] []
  refine z_iload_n C dX4_least_0 rfl 0 rfl ?_
  refine z_iload_n C dX4_least_1 rfl 1 rfl ?_
  refine y_icmp_ge (tgt := 9) C (by omega) (by omega) dX4_least_2 (by decide) (fun c_2 => ?_) (fun c_2 => ?_)
  · skip
    refine z_iload_n C dX4_least_9 rfl 1 rfl ?_
    exact z_iret C hA hQ rfl (Nat.le_of_ble_eq_true rfl) (Nat.le_of_ble_eq_true rfl) (()) (congrArg zI (by omega)) (sb_e [] rfl rfl) dX4_least_10
  · skip
    refine z_iload_n C dX4_least_5 rfl 0 rfl ?_
    refine z_goto (tgt := 10) C dX4_least_6 (by decide) ?_
    exact z_iret C hA hQ rfl (Nat.le_of_ble_eq_true rfl) (Nat.le_of_ble_eq_true rfl) (()) (congrArg zI (by omega)) (sb_e [] rfl rfl) dX4_least_10

set_option maxHeartbeats 4000000 in
theorem ct_X4_in (l : Launch) (G : ZG) (v : Int) (lo : Int) (hi_ : Int) (hv : -9223372036854775808 ≤ v ∧ v ≤ 9223372036854775807) (hlo : -9223372036854775808 ≤ lo ∧ lo ≤ 9223372036854775807) (hhi : -9223372036854775808 ≤ hi_ ∧ hi_ ≤ 9223372036854775807) : CT l yX4_in cX4_in 6 (some .boolean) { frames := 0, cells := 0, slots := 0, locals := 0 } G [.long (zL v), .long (zL lo), .long (zL hi_)] [] (Qi G [] (fun (r : Int32) (u : Unit) => r = zI (bI (lo ≤ v ∧ v ≤ hi_))) (fun u => [])) := by
  refine z_met (by decide) (Nat.le_of_ble_eq_true rfl) ?_
  intro X A hl0 hA C hQ hin
  subst hl0
  show Z X _ G 0 0 _ 0 [(0, .long (zL v)), (2, .long (zL lo)), (4, .long (zL hi_))] []
  refine z_lload_n C dX4_in_0 rfl 0 rfl ?_
  refine z_lload_n C dX4_in_1 rfl 1 rfl ?_
  refine y_lcmp C (by omega) (by omega) dX4_in_2 ?_
  refine y_if_lt (tgt := 17) C (by have := lcmpZ_r v lo; omega) dX4_in_3 (by decide) (fun c_3 => ?_) (fun c_3 => ?_)
  · skip
    have e3 := (lcmpZ_lt v lo).mp (by omega)
    refine y_iconst C dX4_in_17 ?_
    exact z_zret C hA hQ rfl (Nat.le_of_ble_eq_true rfl) (Nat.le_of_ble_eq_true rfl) (()) (congrArg zI (bI_f (by omega)).symm) (rfl) (sb_e [] rfl rfl) dX4_in_18
  · skip
    have e3 : ¬ v < lo := fun q => by have := (lcmpZ_lt v lo).mpr q; omega
    refine z_lload_n C dX4_in_6 rfl 0 rfl ?_
    refine z_lload C dX4_in_7 2 rfl ?_
    refine y_lcmp C (by omega) (by omega) dX4_in_9 ?_
    refine y_if_gt (tgt := 17) C (by have := lcmpZ_r v hi_; omega) dX4_in_10 (by decide) (fun c_10 => ?_) (fun c_10 => ?_)
    · skip
      have e10 := (lcmpZ_gt v hi_).mp (by omega)
      refine y_iconst C dX4_in_17 ?_
      exact z_zret C hA hQ rfl (Nat.le_of_ble_eq_true rfl) (Nat.le_of_ble_eq_true rfl) (()) (congrArg zI (bI_f (by omega)).symm) (rfl) (sb_e [] rfl rfl) dX4_in_18
    · skip
      have e10 : ¬ hi_ < v := fun q => by have := (lcmpZ_gt v hi_).mpr q; omega
      refine y_iconst C dX4_in_13 ?_
      refine z_goto (tgt := 18) C dX4_in_14 (by decide) ?_
      exact z_zret C hA hQ rfl (Nat.le_of_ble_eq_true rfl) (Nat.le_of_ble_eq_true rfl) (()) (congrArg zI (bI_t (by omega)).symm) (rfl) (sb_e [] rfl rfl) dX4_in_18

set_option maxHeartbeats 4000000 in
theorem ct_X4_isYard (l : Launch) (G : ZG) (v : Int) (hv : -2147483648 ≤ v ∧ v ≤ 2147483647) : CT l yX4_isYard cX4_isYard 1 (some .boolean) { frames := 1, cells := 0, slots := 0, locals := 25 } G [.int (zI v)] [] (Qi G [] (fun (r : Int32) (u : Unit) => r = zI (bI (0 ≤ v ∧ v ≤ 20))) (fun u => [])) := by
  refine z_met (by decide) (Nat.le_of_ble_eq_true rfl) ?_
  intro X A hl0 hA C hQ hin
  subst hl0
  show Z X _ G 0 0 _ 0 [(0, .int (zI v))] []
  refine z_iload_n C dX4_isYard_0 rfl 0 rfl ?_
  refine y_i2l C (by omega) dX4_isYard_1 ?_
  refine z_lconst (v := zL 0) C dX4_isYard_2 (by decide) ?_
  refine z_ldc2 C q1254 dX4_isYard_3 ?_
  refine z_eql (y := zL 20) (by decide) ?_
  refine z_i C (z_runS (As := [.long (zL v), .long (zL 0), .long (zL 20)]) (rest := []) C (ct_X4_in (zl X) G v 0 20 (by first | assumption | omega) (by first | assumption | omega) (by first | assumption | omega)) (lw_S q1207 q1208 q61 q1209) (sb_e [] rfl rfl) (na := 3) (by decide +kernel) rfl (zrm rfl rfl (rfl) (rfl)) rfl (Nat.le_of_ble_eq_true rfl) dX4_isYard_6) (fun u => jn_ro (sb_e [] rfl rfl)) (fun r_6 u hp_6 => ?_)
  have hp_6 : r_6 = zI (bI (0 ≤ v ∧ v ≤ 20)) := hp_6
  subst hp_6
  exact z_zret C hA hQ rfl (Nat.le_of_ble_eq_true rfl) (Nat.le_of_ble_eq_true rfl) (()) (rfl) (bI_nar) (sb_e [] rfl rfl) dX4_isYard_9

set_option maxHeartbeats 4000000 in
theorem ct_X4_isHorse (l : Launch) (G : ZG) (m : Nat) (g1 : Nat) (g2 : Nat) (g3 : Nat) (g4 : Nat) (g5 : Nat) (n : Nat) (oa : Int) (dy : Int) (rs : List Value) (h : Int) (hn7 : n ≤ 7) (hh : -2147483648 ≤ h ∧ h ≤ 2147483647) : CT l yX4_isHorse cX4_isHorse 2 (some .boolean) { frames := 1, cells := 0, slots := 0, locals := 25 } G [.ref m, .int (zI h)] [(m, .inr (11, .int (zI (n : Int)) :: .ref g1 :: .ref g2 :: .ref g3 :: .ref g4 :: .ref g5 :: .int (zI oa) :: .int (zI dy) :: rs))] (Qi G [(m, .inr (11, .int (zI (n : Int)) :: .ref g1 :: .ref g2 :: .ref g3 :: .ref g4 :: .ref g5 :: .int (zI oa) :: .int (zI dy) :: rs))] (fun (r : Int32) (u : Unit) => r = zI (bI (0 ≤ h ∧ h ≤ (n : Int) - 1))) (fun u => [(m, .inr (11, .int (zI (n : Int)) :: .ref g1 :: .ref g2 :: .ref g3 :: .ref g4 :: .ref g5 :: .int (zI oa) :: .int (zI dy) :: rs))])) := by
  refine z_met (by decide) (Nat.le_of_ble_eq_true rfl) ?_
  intro X A hl0 hA C hQ hin
  subst hl0
  show Z X _ G 0 0 _ 0 [(0, .ref m), (1, .int (zI h))] []
  refine z_iload_n C dX4_isHorse_0 rfl 1 rfl ?_
  refine y_i2l C (by omega) dX4_isHorse_1 ?_
  refine z_lconst (v := zL 0) C dX4_isHorse_2 (by decide) ?_
  refine z_aload_n C dX4_isHorse_3 rfl 0 rfl ?_
  refine z_get (q := 0) (kf := 0) (v := .int (zI (n : Int))) C rfl rfl in_X4 (by decide) q1087 (Or.inl rfl) rfl dX4_isHorse_4 ?_
  refine y_iconst C dX4_isHorse_7 ?_
  refine y_isub C dX4_isHorse_8 ?_
  refine y_i2l C (by omega) dX4_isHorse_9 ?_
  refine z_i C (z_runS (As := [.long (zL h), .long (zL 0), .long (zL ((n : Int) - 1))]) (rest := []) C (ct_X4_in (zl X) G h 0 ((n : Int) - 1) (by first | assumption | omega) (by first | assumption | omega) (by first | assumption | omega)) (lw_S q1207 q1208 q61 q1209) (sb_e [] rfl rfl) (na := 3) (by decide +kernel) rfl (zrm rfl rfl (rfl) (rfl)) rfl (Nat.le_of_ble_eq_true rfl) dX4_isHorse_10) (fun u => jn_ro (sb_e [] rfl rfl)) (fun r_10 u hp_10 => ?_)
  have hp_10 : r_10 = zI (bI (0 ≤ h ∧ h ≤ ((n : Int) - 1))) := hp_10
  subst hp_10
  exact z_zret C hA hQ rfl (Nat.le_of_ble_eq_true rfl) (Nat.le_of_ble_eq_true rfl) (()) (rfl) (bI_nar) (sb_e [0] rfl rfl) dX4_isHorse_13

set_option maxHeartbeats 4000000 in
theorem ct_X4_hasBit (l : Launch) (G : ZG) (s : Int32) (k : Int)  : CT l yX4_hasBit cX4_hasBit 2 (some .boolean) { frames := 0, cells := 0, slots := 0, locals := 0 } G [.int s, .int (zI k)] [] (Qi G [] (fun (r : Int32) (u : Unit) => r = zI (hasQ s (zI k))) (fun u => [])) := by
  refine z_met (by decide) (Nat.le_of_ble_eq_true rfl) ?_
  intro X A hl0 hA C hQ hin
  subst hl0
  show Z X _ G 0 0 _ 0 [(0, .int s), (1, .int (zI k))] []
  refine z_iload_n C dX4_hasBit_0 rfl 0 rfl ?_
  refine z_iload_n C dX4_hasBit_1 rfl 1 rfl ?_
  refine z_ishr C dX4_hasBit_2 rfl ?_
  refine y_iconst C dX4_hasBit_3 ?_
  refine z_iand C dX4_hasBit_4 rfl ?_
  refine y_iconst C dX4_hasBit_5 ?_
  refine z_icmp_ne (tgt := 13) C dX4_hasBit_6 (by decide) (fun c_6 => ?_) (fun c_6 => ?_)
  · skip
    refine y_iconst C dX4_hasBit_13 ?_
    exact z_zret C hA hQ rfl (Nat.le_of_ble_eq_true rfl) (Nat.le_of_ble_eq_true rfl) (()) (congrArg zI (by unfold hasQ; first | rw [if_pos c_6] | rw [if_neg c_6])) (rfl) (sb_e [] rfl rfl) dX4_hasBit_14
  · skip
    refine y_iconst C dX4_hasBit_9 ?_
    refine z_goto (tgt := 14) C dX4_hasBit_10 (by decide) ?_
    exact z_zret C hA hQ rfl (Nat.le_of_ble_eq_true rfl) (Nat.le_of_ble_eq_true rfl) (()) (congrArg zI (by unfold hasQ; first | rw [if_pos c_6] | rw [if_neg c_6])) (rfl) (sb_e [] rfl rfl) dX4_hasBit_14

set_option maxHeartbeats 4000000 in
theorem ct_X4_costOf (l : Launch) (G : ZG) (k : Nat) (f : Int) (hk8 : k < 8) : CT l yX4_costOf cX4_costOf 2 (some .int) { frames := 0, cells := 0, slots := 0, locals := 0 } G [.int (zI (k : Int)), .int (zI f)] [] (Qi G [] (fun (r : Int32) (u : Unit) => r = zI (costZ k f)) (fun u => [])) := by
  refine z_met (by decide) (Nat.le_of_ble_eq_true rfl) ?_
  intro X A hl0 hA C hQ hin
  subst hl0
  show Z X _ G 0 0 _ 0 [(0, .int (zI (k : Int))), (1, .int (zI f))] []
  refine z_iload_n C dX4_costOf_0 rfl 0 rfl ?_
  rcases (by omega : ((k : Int) < 1 ∨ 7 < (k : Int)) ∨ (k : Int) = 1 ∨ (k : Int) = 2 ∨ (k : Int) = 3 ∨ (k : Int) = 4 ∨ (k : Int) = 5 ∨ (k : Int) = 6 ∨ (k : Int) = 7) with sw_1 | sw_1 | sw_1 | sw_1 | sw_1 | sw_1 | sw_1 | sw_1
  · skip
    refine y_tabOut (tgt := 59) C (by omega) dX4_costOf_1 sw_1 (by decide) ?_
    refine y_iconst C dX4_costOf_59 ?_
    exact z_iret C hA hQ rfl (Nat.le_of_ble_eq_true rfl) (Nat.le_of_ble_eq_true rfl) (()) (congrArg zI (by unfold costZ; repeat (first | rw [if_pos (by omega)] | rw [if_neg (by omega)]))) (sb_e [] rfl rfl) dX4_costOf_60
  · skip
    refine y_tabIn (off := 43) (tgt := 44) C (by omega) dX4_costOf_1 (by omega) (by rw [sw_1]; rfl) (by decide) ?_
    refine y_iconst C dX4_costOf_44 ?_
    exact z_iret C hA hQ rfl (Nat.le_of_ble_eq_true rfl) (Nat.le_of_ble_eq_true rfl) (()) (congrArg zI (by unfold costZ; repeat (first | rw [if_pos (by omega)] | rw [if_neg (by omega)]))) (sb_e [] rfl rfl) dX4_costOf_45
  · skip
    refine y_tabIn (off := 45) (tgt := 46) C (by omega) dX4_costOf_1 (by omega) (by rw [sw_1]; rfl) (by decide) ?_
    refine y_iconst C dX4_costOf_46 ?_
    refine z_iload_n C dX4_costOf_47 rfl 1 rfl ?_
    refine y_iadd C dX4_costOf_48 ?_
    exact z_iret C hA hQ rfl (Nat.le_of_ble_eq_true rfl) (Nat.le_of_ble_eq_true rfl) (()) (congrArg zI (by unfold costZ; repeat (first | rw [if_pos (by omega)] | rw [if_neg (by omega)]))) (sb_e [] rfl rfl) dX4_costOf_49
  · skip
    refine y_tabIn (off := 49) (tgt := 50) C (by omega) dX4_costOf_1 (by omega) (by rw [sw_1]; rfl) (by decide) ?_
    refine y_iconst C dX4_costOf_50 ?_
    exact z_iret C hA hQ rfl (Nat.le_of_ble_eq_true rfl) (Nat.le_of_ble_eq_true rfl) (()) (congrArg zI (by unfold costZ; repeat (first | rw [if_pos (by omega)] | rw [if_neg (by omega)]))) (sb_e [] rfl rfl) dX4_costOf_51
  · skip
    refine y_tabIn (off := 51) (tgt := 52) C (by omega) dX4_costOf_1 (by omega) (by rw [sw_1]; rfl) (by decide) ?_
    refine y_bipush C dX4_costOf_52 (by decide) ?_
    exact z_iret C hA hQ rfl (Nat.le_of_ble_eq_true rfl) (Nat.le_of_ble_eq_true rfl) (()) (congrArg zI (by unfold costZ; repeat (first | rw [if_pos (by omega)] | rw [if_neg (by omega)]))) (sb_e [] rfl rfl) dX4_costOf_54
  · skip
    refine y_tabIn (off := 43) (tgt := 44) C (by omega) dX4_costOf_1 (by omega) (by rw [sw_1]; rfl) (by decide) ?_
    refine y_iconst C dX4_costOf_44 ?_
    exact z_iret C hA hQ rfl (Nat.le_of_ble_eq_true rfl) (Nat.le_of_ble_eq_true rfl) (()) (congrArg zI (by unfold costZ; repeat (first | rw [if_pos (by omega)] | rw [if_neg (by omega)]))) (sb_e [] rfl rfl) dX4_costOf_45
  · skip
    refine y_tabIn (off := 54) (tgt := 55) C (by omega) dX4_costOf_1 (by omega) (by rw [sw_1]; rfl) (by decide) ?_
    refine y_iconst C dX4_costOf_55 ?_
    refine z_iload_n C dX4_costOf_56 rfl 1 rfl ?_
    refine y_iadd C dX4_costOf_57 ?_
    exact z_iret C hA hQ rfl (Nat.le_of_ble_eq_true rfl) (Nat.le_of_ble_eq_true rfl) (()) (congrArg zI (by unfold costZ; repeat (first | rw [if_pos (by omega)] | rw [if_neg (by omega)]))) (sb_e [] rfl rfl) dX4_costOf_58
  · skip
    refine y_tabIn (off := 49) (tgt := 50) C (by omega) dX4_costOf_1 (by omega) (by rw [sw_1]; rfl) (by decide) ?_
    refine y_iconst C dX4_costOf_50 ?_
    exact z_iret C hA hQ rfl (Nat.le_of_ble_eq_true rfl) (Nat.le_of_ble_eq_true rfl) (()) (congrArg zI (by unfold costZ; repeat (first | rw [if_pos (by omega)] | rw [if_neg (by omega)]))) (sb_e [] rfl rfl) dX4_costOf_51

set_option maxHeartbeats 4000000 in
theorem ct_X4_goalOf (l : Launch) (G : ZG) (m : Nat) (g1 : Nat) (g2 : Nat) (g3 : Nat) (g4 : Nat) (g5 : Nat) (kd : Nat → Nat) (fg : Nat → Int) (hm : Nat → Int) (at_ : Nat → Int) (lg : Nat → Int) (n : Nat) (oa : Int) (dy : Int) (rs : List Value) (j : Nat) (hL : LK n kd fg hm at_ lg oa) (hj : j < n) : CT l yX4_goalOf cX4_goalOf 6 (some .int) { frames := 1, cells := 0, slots := 0, locals := 21 } G [.ref m, .int (zI (j : Int))] [(m, .inr (11, .int (zI (n : Int)) :: .ref g1 :: .ref g2 :: .ref g3 :: .ref g4 :: .ref g5 :: .int (zI oa) :: .int (zI dy) :: rs)), (g1, AI G 7 (fun z_ => (kd z_ : Int))), (g2, AI G 7 fg), (g3, AI G 7 hm), (g4, AI G 7 at_), (g5, AI G 7 lg)] (Qi G [(m, .inr (11, .int (zI (n : Int)) :: .ref g1 :: .ref g2 :: .ref g3 :: .ref g4 :: .ref g5 :: .int (zI oa) :: .int (zI dy) :: rs)), (g1, AI G 7 (fun z_ => (kd z_ : Int))), (g2, AI G 7 fg), (g3, AI G 7 hm), (g4, AI G 7 at_), (g5, AI G 7 lg)] (fun (r : Int32) (u : Unit) => r = zI (goalZ (kd j) (hm j) (at_ j) oa)) (fun u => [(m, .inr (11, .int (zI (n : Int)) :: .ref g1 :: .ref g2 :: .ref g3 :: .ref g4 :: .ref g5 :: .int (zI oa) :: .int (zI dy) :: rs)), (g1, AI G 7 (fun z_ => (kd z_ : Int))), (g2, AI G 7 fg), (g3, AI G 7 hm), (g4, AI G 7 at_), (g5, AI G 7 lg)])) := by
  refine z_met (by decide) (Nat.le_of_ble_eq_true rfl) ?_
  intro X A hl0 hA C hQ hin
  subst hl0
  obtain ⟨hn7, hoa, hLj⟩ := id hL
  obtain ⟨hk1, hf1, hm1, ha1, hl1⟩ := hLj j hj
  have hg := goalZ_r (k := kd j) hm1 ha1 hoa
  show Z X _ G 0 0 _ 0 [(0, .ref m), (1, .int (zI (j : Int)))] []
  have hz1 := zAbs_nn (at_ j - hm j)
  have hz2 := zAbs_nn (at_ j - (20 - hm j))
  have hz3 := (zAbs_le (a := at_ j - hm j) (m := 20)).mpr ⟨by omega, by omega⟩
  have hz4 := (zAbs_le (a := at_ j - (20 - hm j)) (m := 20)).mpr ⟨by omega, by omega⟩
  have hz5 : zAbs (hm j - at_ j) = zAbs (at_ j - hm j) := by unfold zAbs; split <;> split <;> omega
  have hz6 : zAbs (20 - hm j - at_ j) = zAbs (at_ j - (20 - hm j)) := by unfold zAbs; split <;> split <;> omega
  refine z_aload_n C dX4_goalOf_0 rfl 0 rfl ?_
  refine z_get (q := 0) (kf := 3) (v := .ref g3) C rfl rfl in_X4 (by decide) q1090 (Or.inl rfl) rfl dX4_goalOf_1 ?_
  refine z_iload_n C dX4_goalOf_4 rfl 1 rfl ?_
  refine y_iald (q := 3) (t0 := 0) (v := hm j) C rfl rfl (by omega) (by decide) rfl dX4_goalOf_5 ?_
  refine z_istore_n (lv' := [(2, .int (zI (hm j))), (0, .ref m), (1, .int (zI (j : Int)))]) C dX4_goalOf_6 rfl (nlt rfl) rfl ?_
  refine y_bipush C dX4_goalOf_7 (by decide) ?_
  refine z_iload_n C dX4_goalOf_9 rfl 0 rfl ?_
  refine y_isub C dX4_goalOf_10 ?_
  refine z_istore_n (lv' := [(3, .int (zI (20 - (hm j)))), (2, .int (zI (hm j))), (0, .ref m), (1, .int (zI (j : Int)))]) C dX4_goalOf_11 rfl (nlt rfl) rfl ?_
  refine z_aload_n C dX4_goalOf_12 rfl 2 rfl ?_
  refine z_get (q := 0) (kf := 4) (v := .ref g4) C rfl rfl in_X4 (by decide) q1091 (Or.inl rfl) rfl dX4_goalOf_13 ?_
  refine z_iload_n C dX4_goalOf_16 rfl 3 rfl ?_
  refine y_iald (q := 4) (t0 := 0) (v := at_ j) C rfl rfl (by omega) (by decide) rfl dX4_goalOf_17 ?_
  refine z_iload_n C dX4_goalOf_18 rfl 1 rfl ?_
  refine z_i C (z_runS (As := [.int (zI (at_ j)), .int (zI (hm j))]) (rest := []) C (ct_X4_apart (zl X) G (at_ j) (hm j) (by first | assumption | omega) (by first | assumption | omega)) (lw_S q1271 q1272 q61 q1273) (sb_e [] rfl rfl) (na := 2) (by decide +kernel) rfl (zrm rfl rfl (rfl) (rfl)) rfl (Nat.le_of_ble_eq_true rfl) dX4_goalOf_19) (fun u => jn_ro (sb_e [] rfl rfl)) (fun r_19 u hp_19 => ?_)
  have hp_19 : r_19 = zI (zAbs ((at_ j) - (hm j))) := hp_19
  subst hp_19
  refine z_istore (lv' := [(4, .int (zI (zAbs ((at_ j) - (hm j))))), (3, .int (zI (20 - (hm j)))), (2, .int (zI (hm j))), (0, .ref m), (1, .int (zI (j : Int)))]) C dX4_goalOf_22 (nlt rfl) rfl ?_
  refine z_aload_n C dX4_goalOf_24 rfl 3 rfl ?_
  refine z_get (q := 0) (kf := 4) (v := .ref g4) C rfl rfl in_X4 (by decide) q1091 (Or.inl rfl) rfl dX4_goalOf_25 ?_
  refine z_iload_n C dX4_goalOf_28 rfl 4 rfl ?_
  refine y_iald (q := 4) (t0 := 0) (v := at_ j) C rfl rfl (by omega) (by decide) rfl dX4_goalOf_29 ?_
  refine z_iload_n C dX4_goalOf_30 rfl 1 rfl ?_
  refine z_i C (z_runS (As := [.int (zI (at_ j)), .int (zI (20 - (hm j)))]) (rest := []) C (ct_X4_apart (zl X) G (at_ j) (20 - (hm j)) (by first | assumption | omega) (by first | assumption | omega)) (lw_S q1271 q1272 q61 q1273) (sb_e [] rfl rfl) (na := 2) (by decide +kernel) rfl (zrm rfl rfl (rfl) (rfl)) rfl (Nat.le_of_ble_eq_true rfl) dX4_goalOf_31) (fun u => jn_ro (sb_e [] rfl rfl)) (fun r_31 u hp_31 => ?_)
  have hp_31 : r_31 = zI (zAbs ((at_ j) - (20 - (hm j)))) := hp_31
  subst hp_31
  refine z_istore (lv' := [(5, .int (zI (zAbs ((at_ j) - (20 - (hm j)))))), (4, .int (zI (zAbs ((at_ j) - (hm j))))), (3, .int (zI (20 - (hm j)))), (2, .int (zI (hm j))), (0, .ref m), (1, .int (zI (j : Int)))]) C dX4_goalOf_34 (nlt rfl) rfl ?_
  refine z_aload_n C dX4_goalOf_36 rfl 4 rfl ?_
  refine z_get (q := 0) (kf := 1) (v := .ref g1) C rfl rfl in_X4 (by decide) q1088 (Or.inl rfl) rfl dX4_goalOf_37 ?_
  refine z_iload_n C dX4_goalOf_40 rfl 5 rfl ?_
  refine y_iald (q := 1) (t0 := 0) (v := (kd j : Int)) C rfl rfl (by omega) (by decide) rfl dX4_goalOf_41 ?_
  rcases (by omega : ((kd j : Int) < 1 ∨ 7 < (kd j : Int)) ∨ (kd j : Int) = 1 ∨ (kd j : Int) = 2 ∨ (kd j : Int) = 3 ∨ (kd j : Int) = 4 ∨ (kd j : Int) = 5 ∨ (kd j : Int) = 6 ∨ (kd j : Int) = 7) with sw_42 | sw_42 | sw_42 | sw_42 | sw_42 | sw_42 | sw_42 | sw_42
  · skip
    refine y_tabOut (tgt := 124) C (by omega) dX4_goalOf_42 sw_42 (by decide) ?_
    refine z_iload_n C dX4_goalOf_124 rfl 3 rfl ?_
    exact z_iret C hA hQ rfl (Nat.le_of_ble_eq_true rfl) (Nat.le_of_ble_eq_true rfl) (()) (congrArg zI (by unfold goalZ; (try rw [hz5, hz6]); repeat (first | rw [if_pos (by omega)] | rw [if_neg (by omega)]))) (sb_e [0, 1, 2, 3, 4, 5] rfl rfl) dX4_goalOf_125
  · skip
    refine y_tabIn (off := 42) (tgt := 84) C (by omega) dX4_goalOf_42 (by omega) (by rw [sw_42]; rfl) (by decide) ?_
    refine z_aload_n C dX4_goalOf_84 rfl 4 rfl ?_
    refine z_get (q := 0) (kf := 4) (v := .ref g4) C rfl rfl in_X4 (by decide) q1091 (Or.inl rfl) rfl dX4_goalOf_85 ?_
    refine z_iload_n C dX4_goalOf_88 rfl 5 rfl ?_
    refine y_iald (q := 4) (t0 := 0) (v := at_ j) C rfl rfl (by omega) (by decide) rfl dX4_goalOf_89 ?_
    exact z_iret C hA hQ rfl (Nat.le_of_ble_eq_true rfl) (Nat.le_of_ble_eq_true rfl) (()) (congrArg zI (by unfold goalZ; (try rw [hz5, hz6]); repeat (first | rw [if_pos (by omega)] | rw [if_neg (by omega)]))) (sb_e [0, 1, 2, 3, 4, 5] rfl rfl) dX4_goalOf_90
  · skip
    refine y_tabIn (off := 49) (tgt := 91) C (by omega) dX4_goalOf_42 (by omega) (by rw [sw_42]; rfl) (by decide) ?_
    refine z_iload_n C dX4_goalOf_91 rfl 2 rfl ?_
    exact z_iret C hA hQ rfl (Nat.le_of_ble_eq_true rfl) (Nat.le_of_ble_eq_true rfl) (()) (congrArg zI (by unfold goalZ; (try rw [hz5, hz6]); repeat (first | rw [if_pos (by omega)] | rw [if_neg (by omega)]))) (sb_e [0, 1, 2, 3, 4, 5] rfl rfl) dX4_goalOf_92
  · skip
    refine y_tabIn (off := 51) (tgt := 93) C (by omega) dX4_goalOf_42 (by omega) (by rw [sw_42]; rfl) (by decide) ?_
    refine z_iload C dX4_goalOf_93 0 rfl ?_
    refine z_iload C dX4_goalOf_95 1 rfl ?_
    refine y_icmp_ge (tgt := 104) C (by omega) (by omega) dX4_goalOf_97 (by decide) (fun c_97 => ?_) (fun c_97 => ?_)
    · skip
      refine z_iload_n C dX4_goalOf_104 rfl 3 rfl ?_
      exact z_iret C hA hQ rfl (Nat.le_of_ble_eq_true rfl) (Nat.le_of_ble_eq_true rfl) (()) (congrArg zI (by unfold goalZ; (try rw [hz5, hz6]); repeat (first | rw [if_pos (by omega)] | rw [if_neg (by omega)]))) (sb_e [0, 1, 2, 3, 4, 5] rfl rfl) dX4_goalOf_105
    · skip
      refine z_iload_n C dX4_goalOf_100 rfl 2 rfl ?_
      refine z_goto (tgt := 105) C dX4_goalOf_101 (by decide) ?_
      exact z_iret C hA hQ rfl (Nat.le_of_ble_eq_true rfl) (Nat.le_of_ble_eq_true rfl) (()) (congrArg zI (by unfold goalZ; (try rw [hz5, hz6]); repeat (first | rw [if_pos (by omega)] | rw [if_neg (by omega)]))) (sb_e [0, 1, 2, 3, 4, 5] rfl rfl) dX4_goalOf_105
  · skip
    refine y_tabIn (off := 82) (tgt := 124) C (by omega) dX4_goalOf_42 (by omega) (by rw [sw_42]; rfl) (by decide) ?_
    refine z_iload_n C dX4_goalOf_124 rfl 3 rfl ?_
    exact z_iret C hA hQ rfl (Nat.le_of_ble_eq_true rfl) (Nat.le_of_ble_eq_true rfl) (()) (congrArg zI (by unfold goalZ; (try rw [hz5, hz6]); repeat (first | rw [if_pos (by omega)] | rw [if_neg (by omega)]))) (sb_e [0, 1, 2, 3, 4, 5] rfl rfl) dX4_goalOf_125
  · skip
    refine y_tabIn (off := 64) (tgt := 106) C (by omega) dX4_goalOf_42 (by omega) (by rw [sw_42]; rfl) (by decide) ?_
    refine z_aload_n C dX4_goalOf_106 rfl 4 rfl ?_
    refine z_get (q := 0) (kf := 6) (v := .int (zI oa)) C rfl rfl in_X4 (by decide) q1093 (Or.inl rfl) rfl dX4_goalOf_107 ?_
    exact z_iret C hA hQ rfl (Nat.le_of_ble_eq_true rfl) (Nat.le_of_ble_eq_true rfl) (()) (congrArg zI (by unfold goalZ; (try rw [hz5, hz6]); repeat (first | rw [if_pos (by omega)] | rw [if_neg (by omega)]))) (sb_e [0, 1, 2, 3, 4, 5] rfl rfl) dX4_goalOf_110
  · skip
    refine y_tabIn (off := 69) (tgt := 111) C (by omega) dX4_goalOf_42 (by omega) (by rw [sw_42]; rfl) (by decide) ?_
    refine z_iload C dX4_goalOf_111 0 rfl ?_
    refine z_iload C dX4_goalOf_113 1 rfl ?_
    refine y_icmp_le (tgt := 122) C (by omega) (by omega) dX4_goalOf_115 (by decide) (fun c_115 => ?_) (fun c_115 => ?_)
    · skip
      refine z_iload_n C dX4_goalOf_122 rfl 3 rfl ?_
      exact z_iret C hA hQ rfl (Nat.le_of_ble_eq_true rfl) (Nat.le_of_ble_eq_true rfl) (()) (congrArg zI (by unfold goalZ; (try rw [hz5, hz6]); repeat (first | rw [if_pos (by omega)] | rw [if_neg (by omega)]))) (sb_e [0, 1, 2, 3, 4, 5] rfl rfl) dX4_goalOf_123
    · skip
      refine z_iload_n C dX4_goalOf_118 rfl 2 rfl ?_
      refine z_goto (tgt := 123) C dX4_goalOf_119 (by decide) ?_
      exact z_iret C hA hQ rfl (Nat.le_of_ble_eq_true rfl) (Nat.le_of_ble_eq_true rfl) (()) (congrArg zI (by unfold goalZ; (try rw [hz5, hz6]); repeat (first | rw [if_pos (by omega)] | rw [if_neg (by omega)]))) (sb_e [0, 1, 2, 3, 4, 5] rfl rfl) dX4_goalOf_123
  · skip
    refine y_tabIn (off := 42) (tgt := 84) C (by omega) dX4_goalOf_42 (by omega) (by rw [sw_42]; rfl) (by decide) ?_
    refine z_aload_n C dX4_goalOf_84 rfl 4 rfl ?_
    refine z_get (q := 0) (kf := 4) (v := .ref g4) C rfl rfl in_X4 (by decide) q1091 (Or.inl rfl) rfl dX4_goalOf_85 ?_
    refine z_iload_n C dX4_goalOf_88 rfl 5 rfl ?_
    refine y_iald (q := 4) (t0 := 0) (v := at_ j) C rfl rfl (by omega) (by decide) rfl dX4_goalOf_89 ?_
    exact z_iret C hA hQ rfl (Nat.le_of_ble_eq_true rfl) (Nat.le_of_ble_eq_true rfl) (()) (congrArg zI (by unfold goalZ; (try rw [hz5, hz6]); repeat (first | rw [if_pos (by omega)] | rw [if_neg (by omega)]))) (sb_e [0, 1, 2, 3, 4, 5] rfl rfl) dX4_goalOf_90

set_option maxHeartbeats 4000000 in
theorem ct_X4_pinesOf (l : Launch) (G : ZG) (m : Nat) (g1 : Nat) (g2 : Nat) (g3 : Nat) (g4 : Nat) (g5 : Nat) (kd : Nat → Nat) (fg : Nat → Int) (hm : Nat → Int) (at_ : Nat → Int) (lg : Nat → Int) (n : Nat) (oa : Int) (dy : Int) (rs : List Value) (j : Nat) (hL : LK n kd fg hm at_ lg oa) (hj : j < n) : CT l yX4_pinesOf cX4_pinesOf 3 (some .int) { frames := 2, cells := 0, slots := 0, locals := 46 } G [.ref m, .int (zI (j : Int))] [(m, .inr (11, .int (zI (n : Int)) :: .ref g1 :: .ref g2 :: .ref g3 :: .ref g4 :: .ref g5 :: .int (zI oa) :: .int (zI dy) :: rs)), (g1, AI G 7 (fun z_ => (kd z_ : Int))), (g2, AI G 7 fg), (g3, AI G 7 hm), (g4, AI G 7 at_), (g5, AI G 7 lg)] (Qi G [(m, .inr (11, .int (zI (n : Int)) :: .ref g1 :: .ref g2 :: .ref g3 :: .ref g4 :: .ref g5 :: .int (zI oa) :: .int (zI dy) :: rs)), (g1, AI G 7 (fun z_ => (kd z_ : Int))), (g2, AI G 7 fg), (g3, AI G 7 hm), (g4, AI G 7 at_), (g5, AI G 7 lg)] (fun (r : Int32) (u : Unit) => r = zI (pinesZ (kd j) (fg j) (zAbs (at_ j - goalZ (kd j) (hm j) (at_ j) oa)))) (fun u => [(m, .inr (11, .int (zI (n : Int)) :: .ref g1 :: .ref g2 :: .ref g3 :: .ref g4 :: .ref g5 :: .int (zI oa) :: .int (zI dy) :: rs)), (g1, AI G 7 (fun z_ => (kd z_ : Int))), (g2, AI G 7 fg), (g3, AI G 7 hm), (g4, AI G 7 at_), (g5, AI G 7 lg)])) := by
  refine z_met (by decide) (Nat.le_of_ble_eq_true rfl) ?_
  intro X A hl0 hA C hQ hin
  subst hl0
  obtain ⟨hn7, hoa, hLj⟩ := id hL
  obtain ⟨hk1, hf1, hm1, ha1, hl1⟩ := hLj j hj
  have hg := goalZ_r (k := kd j) hm1 ha1 hoa
  show Z X _ G 0 0 _ 0 [(0, .ref m), (1, .int (zI (j : Int)))] []
  refine y_iconst C dX4_pinesOf_0 ?_
  refine z_aload_n C dX4_pinesOf_1 rfl 0 rfl ?_
  refine z_get (q := 0) (kf := 4) (v := .ref g4) C rfl rfl in_X4 (by decide) q1091 (Or.inl rfl) rfl dX4_pinesOf_2 ?_
  refine z_iload_n C dX4_pinesOf_5 rfl 1 rfl ?_
  refine y_iald (q := 4) (t0 := 0) (v := at_ j) C rfl rfl (by omega) (by decide) rfl dX4_pinesOf_6 ?_
  refine z_aload_n C dX4_pinesOf_7 rfl 0 rfl ?_
  refine z_iload_n C dX4_pinesOf_8 rfl 1 rfl ?_
  refine z_i C (z_runV (q := 0) (As := [.int (zI (j : Int))]) (rest := [.int (zI (at_ j)), .int (zI 1)]) C (ct_X4_goalOf (zl X) G m g1 g2 g3 g4 g5 kd fg hm at_ lg n oa dy rs j (by first | assumption | omega) (by first | assumption | omega)) (lw_V q1267 q1269 qs36 q61 q1270) rfl rfl (sb_e [0, 1, 2, 3, 4, 5] rfl rfl) (na := 1) (by decide +kernel) rfl (zrm rfl rfl (rfl) (rfl)) rfl (Nat.le_of_ble_eq_true rfl) dX4_pinesOf_9) (fun u => jn_ro (sb_e [0, 1, 2, 3, 4, 5] rfl rfl)) (fun r_9 u hp_9 => ?_)
  have hp_9 : r_9 = zI (goalZ (kd j) (hm j) (at_ j) oa) := hp_9
  subst hp_9
  have hz7 := zAbs_nn (at_ j - goalZ (kd j) (hm j) (at_ j) oa)
  have hz8 := (zAbs_le (a := at_ j - goalZ (kd j) (hm j) (at_ j) oa) (m := 20)).mpr ⟨by omega, by omega⟩
  refine z_i C (z_runS (As := [.int (zI (at_ j)), .int (zI (goalZ (kd j) (hm j) (at_ j) oa))]) (rest := [.int (zI 1)]) C (ct_X4_apart (zl X) G (at_ j) (goalZ (kd j) (hm j) (at_ j) oa) (by first | assumption | omega) (by first | assumption | omega)) (lw_S q1271 q1272 q61 q1273) (sb_e [] rfl rfl) (na := 2) (by decide +kernel) rfl (zrm rfl rfl (rfl) (rfl)) rfl (Nat.le_of_ble_eq_true rfl) dX4_pinesOf_12) (fun u => jn_ro (sb_e [] rfl rfl)) (fun r_12 u hp_12 => ?_)
  have hp_12 : r_12 = zI (zAbs ((at_ j) - (goalZ (kd j) (hm j) (at_ j) oa))) := hp_12
  subst hp_12
  refine y_iconst C dX4_pinesOf_15 ?_
  refine y_idiv C (by omega) (by omega) dX4_pinesOf_16 ?_
  refine y_iadd C dX4_pinesOf_17 ?_
  refine z_istore_n (lv' := [(2, .int (zI (1 + ((zAbs ((at_ j) - (goalZ (kd j) (hm j) (at_ j) oa))) / 5)))), (0, .ref m), (1, .int (zI (j : Int)))]) C dX4_pinesOf_18 rfl (nlt rfl) rfl ?_
  refine z_aload_n C dX4_pinesOf_19 rfl 1 rfl ?_
  refine z_get (q := 0) (kf := 1) (v := .ref g1) C rfl rfl in_X4 (by decide) q1088 (Or.inl rfl) rfl dX4_pinesOf_20 ?_
  refine z_iload_n C dX4_pinesOf_23 rfl 2 rfl ?_
  refine y_iald (q := 1) (t0 := 0) (v := (kd j : Int)) C rfl rfl (by omega) (by decide) rfl dX4_pinesOf_24 ?_
  rcases (by omega : ((kd j : Int) < 1 ∨ 7 < (kd j : Int)) ∨ (kd j : Int) = 1 ∨ (kd j : Int) = 2 ∨ (kd j : Int) = 3 ∨ (kd j : Int) = 4 ∨ (kd j : Int) = 5 ∨ (kd j : Int) = 6 ∨ (kd j : Int) = 7) with sw_25 | sw_25 | sw_25 | sw_25 | sw_25 | sw_25 | sw_25 | sw_25
  · skip
    refine y_tabOut (tgt := 98) C (by omega) dX4_pinesOf_25 sw_25 (by decide) ?_
    refine z_iload_n C dX4_pinesOf_98 rfl 0 rfl ?_
    exact z_iret C hA hQ rfl (Nat.le_of_ble_eq_true rfl) (Nat.le_of_ble_eq_true rfl) (()) (congrArg zI (by unfold pinesZ; repeat (first | rw [if_pos (by omega)] | rw [if_neg (by omega)]))) (sb_e [0, 1, 2, 3, 4, 5] rfl rfl) dX4_pinesOf_99
  · skip
    refine y_tabIn (off := 43) (tgt := 68) C (by omega) dX4_pinesOf_25 (by omega) (by rw [sw_25]; rfl) (by decide) ?_
    refine y_iconst C dX4_pinesOf_68 ?_
    exact z_iret C hA hQ rfl (Nat.le_of_ble_eq_true rfl) (Nat.le_of_ble_eq_true rfl) (()) (congrArg zI (by unfold pinesZ; repeat (first | rw [if_pos (by omega)] | rw [if_neg (by omega)]))) (sb_e [0, 1, 2, 3, 4, 5] rfl rfl) dX4_pinesOf_69
  · skip
    refine y_tabIn (off := 45) (tgt := 70) C (by omega) dX4_pinesOf_25 (by omega) (by rw [sw_25]; rfl) (by decide) ?_
    refine y_iconst C dX4_pinesOf_70 ?_
    refine z_iload_n C dX4_pinesOf_71 rfl 0 rfl ?_
    refine y_imul C dX4_pinesOf_72 ?_
    exact z_iret C hA hQ rfl (Nat.le_of_ble_eq_true rfl) (Nat.le_of_ble_eq_true rfl) (()) (congrArg zI (by unfold pinesZ; repeat (first | rw [if_pos (by omega)] | rw [if_neg (by omega)]))) (sb_e [0, 1, 2, 3, 4, 5] rfl rfl) dX4_pinesOf_73
  · skip
    refine y_tabIn (off := 73) (tgt := 98) C (by omega) dX4_pinesOf_25 (by omega) (by rw [sw_25]; rfl) (by decide) ?_
    refine z_iload_n C dX4_pinesOf_98 rfl 0 rfl ?_
    exact z_iret C hA hQ rfl (Nat.le_of_ble_eq_true rfl) (Nat.le_of_ble_eq_true rfl) (()) (congrArg zI (by unfold pinesZ; repeat (first | rw [if_pos (by omega)] | rw [if_neg (by omega)]))) (sb_e [0, 1, 2, 3, 4, 5] rfl rfl) dX4_pinesOf_99
  · skip
    refine y_tabIn (off := 49) (tgt := 74) C (by omega) dX4_pinesOf_25 (by omega) (by rw [sw_25]; rfl) (by decide) ?_
    refine z_iload_n C dX4_pinesOf_74 rfl 0 rfl ?_
    refine z_aload_n C dX4_pinesOf_75 rfl 1 rfl ?_
    refine z_get (q := 0) (kf := 2) (v := .ref g2) C rfl rfl in_X4 (by decide) q1089 (Or.inl rfl) rfl dX4_pinesOf_76 ?_
    refine z_iload_n C dX4_pinesOf_79 rfl 2 rfl ?_
    refine y_iald (q := 2) (t0 := 0) (v := fg j) C rfl rfl (by omega) (by decide) rfl dX4_pinesOf_80 ?_
    refine y_iadd C dX4_pinesOf_81 ?_
    exact z_iret C hA hQ rfl (Nat.le_of_ble_eq_true rfl) (Nat.le_of_ble_eq_true rfl) (()) (congrArg zI (by unfold pinesZ; repeat (first | rw [if_pos (by omega)] | rw [if_neg (by omega)]))) (sb_e [0, 1, 2, 3, 4, 5] rfl rfl) dX4_pinesOf_82
  · skip
    refine y_tabIn (off := 58) (tgt := 83) C (by omega) dX4_pinesOf_25 (by omega) (by rw [sw_25]; rfl) (by decide) ?_
    refine z_iload_n C dX4_pinesOf_83 rfl 0 rfl ?_
    refine z_aload_n C dX4_pinesOf_84 rfl 1 rfl ?_
    refine z_get (q := 0) (kf := 2) (v := .ref g2) C rfl rfl in_X4 (by decide) q1089 (Or.inl rfl) rfl dX4_pinesOf_85 ?_
    refine z_iload_n C dX4_pinesOf_88 rfl 2 rfl ?_
    refine y_iald (q := 2) (t0 := 0) (v := fg j) C rfl rfl (by omega) (by decide) rfl dX4_pinesOf_89 ?_
    refine y_iconst C dX4_pinesOf_90 ?_
    refine y_idiv C (by omega) (by omega) dX4_pinesOf_91 ?_
    refine y_iadd C dX4_pinesOf_92 ?_
    exact z_iret C hA hQ rfl (Nat.le_of_ble_eq_true rfl) (Nat.le_of_ble_eq_true rfl) (()) (congrArg zI (by unfold pinesZ; repeat (first | rw [if_pos (by omega)] | rw [if_neg (by omega)]))) (sb_e [0, 1, 2, 3, 4, 5] rfl rfl) dX4_pinesOf_93
  · skip
    refine y_tabIn (off := 69) (tgt := 94) C (by omega) dX4_pinesOf_25 (by omega) (by rw [sw_25]; rfl) (by decide) ?_
    refine z_iload_n C dX4_pinesOf_94 rfl 0 rfl ?_
    refine y_iconst C dX4_pinesOf_95 ?_
    refine y_iadd C dX4_pinesOf_96 ?_
    exact z_iret C hA hQ rfl (Nat.le_of_ble_eq_true rfl) (Nat.le_of_ble_eq_true rfl) (()) (congrArg zI (by unfold pinesZ; repeat (first | rw [if_pos (by omega)] | rw [if_neg (by omega)]))) (sb_e [0, 1, 2, 3, 4, 5] rfl rfl) dX4_pinesOf_97
  · skip
    refine y_tabIn (off := 43) (tgt := 68) C (by omega) dX4_pinesOf_25 (by omega) (by rw [sw_25]; rfl) (by decide) ?_
    refine y_iconst C dX4_pinesOf_68 ?_
    exact z_iret C hA hQ rfl (Nat.le_of_ble_eq_true rfl) (Nat.le_of_ble_eq_true rfl) (()) (congrArg zI (by unfold pinesZ; repeat (first | rw [if_pos (by omega)] | rw [if_neg (by omega)]))) (sb_e [0, 1, 2, 3, 4, 5] rfl rfl) dX4_pinesOf_69

set_option maxHeartbeats 4000000 in
theorem ct_X4_paceOf (l : Launch) (G : ZG) (m : Nat) (g1 : Nat) (g2 : Nat) (g3 : Nat) (g4 : Nat) (g5 : Nat) (kd : Nat → Nat) (fg : Nat → Int) (hm : Nat → Int) (at_ : Nat → Int) (lg : Nat → Int) (n : Nat) (oa : Int) (dy : Int) (rs : List Value) (j : Nat) (hL : LK n kd fg hm at_ lg oa) (hj : j < n) : CT l yX4_paceOf cX4_paceOf 3 (some .int) { frames := 0, cells := 0, slots := 0, locals := 0 } G [.ref m, .int (zI (j : Int))] [(m, .inr (11, .int (zI (n : Int)) :: .ref g1 :: .ref g2 :: .ref g3 :: .ref g4 :: .ref g5 :: .int (zI oa) :: .int (zI dy) :: rs)), (g1, AI G 7 (fun z_ => (kd z_ : Int))), (g2, AI G 7 fg), (g3, AI G 7 hm), (g4, AI G 7 at_), (g5, AI G 7 lg)] (Qi G [(m, .inr (11, .int (zI (n : Int)) :: .ref g1 :: .ref g2 :: .ref g3 :: .ref g4 :: .ref g5 :: .int (zI oa) :: .int (zI dy) :: rs)), (g1, AI G 7 (fun z_ => (kd z_ : Int))), (g2, AI G 7 fg), (g3, AI G 7 hm), (g4, AI G 7 at_), (g5, AI G 7 lg)] (fun (r : Int32) (u : Unit) => r = zI (paceZ (kd j) (fg j) (lg j))) (fun u => [(m, .inr (11, .int (zI (n : Int)) :: .ref g1 :: .ref g2 :: .ref g3 :: .ref g4 :: .ref g5 :: .int (zI oa) :: .int (zI dy) :: rs)), (g1, AI G 7 (fun z_ => (kd z_ : Int))), (g2, AI G 7 fg), (g3, AI G 7 hm), (g4, AI G 7 at_), (g5, AI G 7 lg)])) := by
  refine z_met (by decide) (Nat.le_of_ble_eq_true rfl) ?_
  intro X A hl0 hA C hQ hin
  subst hl0
  obtain ⟨hn7, hoa, hLj⟩ := id hL
  obtain ⟨hk1, hf1, hm1, ha1, hl1⟩ := hLj j hj
  have hg := goalZ_r (k := kd j) hm1 ha1 hoa
  show Z X _ G 0 0 _ 0 [(0, .ref m), (1, .int (zI (j : Int)))] []
  refine y_iconst C dX4_paceOf_0 ?_
  refine z_aload_n C dX4_paceOf_1 rfl 0 rfl ?_
  refine z_get (q := 0) (kf := 5) (v := .ref g5) C rfl rfl in_X4 (by decide) q1092 (Or.inl rfl) rfl dX4_paceOf_2 ?_
  refine z_iload_n C dX4_paceOf_5 rfl 1 rfl ?_
  refine y_iald (q := 5) (t0 := 0) (v := lg j) C rfl rfl (by omega) (by decide) rfl dX4_paceOf_6 ?_
  refine y_iconst C dX4_paceOf_7 ?_
  refine y_idiv C (by omega) (by omega) dX4_paceOf_8 ?_
  refine y_iadd C dX4_paceOf_9 ?_
  refine z_istore_n (lv' := [(2, .int (zI (1 + ((lg j) / 4)))), (0, .ref m), (1, .int (zI (j : Int)))]) C dX4_paceOf_10 rfl (nlt rfl) rfl ?_
  refine z_aload_n C dX4_paceOf_11 rfl 1 rfl ?_
  refine z_get (q := 0) (kf := 1) (v := .ref g1) C rfl rfl in_X4 (by decide) q1088 (Or.inl rfl) rfl dX4_paceOf_12 ?_
  refine z_iload_n C dX4_paceOf_15 rfl 2 rfl ?_
  refine y_iald (q := 1) (t0 := 0) (v := (kd j : Int)) C rfl rfl (by omega) (by decide) rfl dX4_paceOf_16 ?_
  rcases (by omega : ((kd j : Int) < 1 ∨ 7 < (kd j : Int)) ∨ (kd j : Int) = 1 ∨ (kd j : Int) = 2 ∨ (kd j : Int) = 3 ∨ (kd j : Int) = 4 ∨ (kd j : Int) = 5 ∨ (kd j : Int) = 6 ∨ (kd j : Int) = 7) with sw_17 | sw_17 | sw_17 | sw_17 | sw_17 | sw_17 | sw_17 | sw_17
  · skip
    refine y_tabOut (tgt := 90) C (by omega) dX4_paceOf_17 sw_17 (by decide) ?_
    refine z_iload_n C dX4_paceOf_90 rfl 0 rfl ?_
    exact z_iret C hA hQ rfl (Nat.le_of_ble_eq_true rfl) (Nat.le_of_ble_eq_true rfl) (()) (congrArg zI (by unfold paceZ; repeat (first | rw [if_pos (by omega)] | rw [if_neg (by omega)]))) (sb_e [0, 1, 2, 3, 4, 5] rfl rfl) dX4_paceOf_91
  · skip
    refine y_tabIn (off := 43) (tgt := 60) C (by omega) dX4_paceOf_17 (by omega) (by rw [sw_17]; rfl) (by decide) ?_
    refine y_iconst C dX4_paceOf_60 ?_
    exact z_iret C hA hQ rfl (Nat.le_of_ble_eq_true rfl) (Nat.le_of_ble_eq_true rfl) (()) (congrArg zI (by unfold paceZ; repeat (first | rw [if_pos (by omega)] | rw [if_neg (by omega)]))) (sb_e [0, 1, 2, 3, 4, 5] rfl rfl) dX4_paceOf_61
  · skip
    refine y_tabIn (off := 45) (tgt := 62) C (by omega) dX4_paceOf_17 (by omega) (by rw [sw_17]; rfl) (by decide) ?_
    refine y_iconst C dX4_paceOf_62 ?_
    refine z_aload_n C dX4_paceOf_63 rfl 1 rfl ?_
    refine z_get (q := 0) (kf := 5) (v := .ref g5) C rfl rfl in_X4 (by decide) q1092 (Or.inl rfl) rfl dX4_paceOf_64 ?_
    refine z_iload_n C dX4_paceOf_67 rfl 2 rfl ?_
    refine y_iald (q := 5) (t0 := 0) (v := lg j) C rfl rfl (by omega) (by decide) rfl dX4_paceOf_68 ?_
    refine y_iconst C dX4_paceOf_69 ?_
    refine y_idiv C (by omega) (by omega) dX4_paceOf_70 ?_
    refine y_iadd C dX4_paceOf_71 ?_
    exact z_iret C hA hQ rfl (Nat.le_of_ble_eq_true rfl) (Nat.le_of_ble_eq_true rfl) (()) (congrArg zI (by unfold paceZ; repeat (first | rw [if_pos (by omega)] | rw [if_neg (by omega)]))) (sb_e [0, 1, 2, 3, 4, 5] rfl rfl) dX4_paceOf_72
  · skip
    refine y_tabIn (off := 73) (tgt := 90) C (by omega) dX4_paceOf_17 (by omega) (by rw [sw_17]; rfl) (by decide) ?_
    refine z_iload_n C dX4_paceOf_90 rfl 0 rfl ?_
    exact z_iret C hA hQ rfl (Nat.le_of_ble_eq_true rfl) (Nat.le_of_ble_eq_true rfl) (()) (congrArg zI (by unfold paceZ; repeat (first | rw [if_pos (by omega)] | rw [if_neg (by omega)]))) (sb_e [0, 1, 2, 3, 4, 5] rfl rfl) dX4_paceOf_91
  · skip
    refine y_tabIn (off := 73) (tgt := 90) C (by omega) dX4_paceOf_17 (by omega) (by rw [sw_17]; rfl) (by decide) ?_
    refine z_iload_n C dX4_paceOf_90 rfl 0 rfl ?_
    exact z_iret C hA hQ rfl (Nat.le_of_ble_eq_true rfl) (Nat.le_of_ble_eq_true rfl) (()) (congrArg zI (by unfold paceZ; repeat (first | rw [if_pos (by omega)] | rw [if_neg (by omega)]))) (sb_e [0, 1, 2, 3, 4, 5] rfl rfl) dX4_paceOf_91
  · skip
    refine y_tabIn (off := 56) (tgt := 73) C (by omega) dX4_paceOf_17 (by omega) (by rw [sw_17]; rfl) (by decide) ?_
    refine z_iload_n C dX4_paceOf_73 rfl 0 rfl ?_
    refine y_iconst C dX4_paceOf_74 ?_
    refine y_iadd C dX4_paceOf_75 ?_
    exact z_iret C hA hQ rfl (Nat.le_of_ble_eq_true rfl) (Nat.le_of_ble_eq_true rfl) (()) (congrArg zI (by unfold paceZ; repeat (first | rw [if_pos (by omega)] | rw [if_neg (by omega)]))) (sb_e [0, 1, 2, 3, 4, 5] rfl rfl) dX4_paceOf_76
  · skip
    refine y_tabIn (off := 60) (tgt := 77) C (by omega) dX4_paceOf_17 (by omega) (by rw [sw_17]; rfl) (by decide) ?_
    refine z_iload_n C dX4_paceOf_77 rfl 0 rfl ?_
    refine z_aload_n C dX4_paceOf_78 rfl 1 rfl ?_
    refine z_get (q := 0) (kf := 2) (v := .ref g2) C rfl rfl in_X4 (by decide) q1089 (Or.inl rfl) rfl dX4_paceOf_79 ?_
    refine z_iload_n C dX4_paceOf_82 rfl 2 rfl ?_
    refine y_iald (q := 2) (t0 := 0) (v := fg j) C rfl rfl (by omega) (by decide) rfl dX4_paceOf_83 ?_
    refine y_iconst C dX4_paceOf_84 ?_
    refine y_idiv C (by omega) (by omega) dX4_paceOf_85 ?_
    refine y_iadd C dX4_paceOf_86 ?_
    exact z_iret C hA hQ rfl (Nat.le_of_ble_eq_true rfl) (Nat.le_of_ble_eq_true rfl) (()) (congrArg zI (by unfold paceZ; repeat (first | rw [if_pos (by omega)] | rw [if_neg (by omega)]))) (sb_e [0, 1, 2, 3, 4, 5] rfl rfl) dX4_paceOf_87
  · skip
    refine y_tabIn (off := 71) (tgt := 88) C (by omega) dX4_paceOf_17 (by omega) (by rw [sw_17]; rfl) (by decide) ?_
    refine y_iconst C dX4_paceOf_88 ?_
    exact z_iret C hA hQ rfl (Nat.le_of_ble_eq_true rfl) (Nat.le_of_ble_eq_true rfl) (()) (congrArg zI (by unfold paceZ; repeat (first | rw [if_pos (by omega)] | rw [if_neg (by omega)]))) (sb_e [0, 1, 2, 3, 4, 5] rfl rfl) dX4_paceOf_89

set_option maxHeartbeats 4000000 in
theorem ct_X4_walkOf (l : Launch) (G : ZG) (m : Nat) (g1 : Nat) (g2 : Nat) (g3 : Nat) (g4 : Nat) (g5 : Nat) (kd : Nat → Nat) (fg : Nat → Int) (hm : Nat → Int) (at_ : Nat → Int) (lg : Nat → Int) (n : Nat) (oa : Int) (dy : Int) (rs : List Value) (j : Nat) (hL : LK n kd fg hm at_ lg oa) (hj : j < n) : CT l yX4_walkOf cX4_walkOf 2 (some .int) { frames := 0, cells := 0, slots := 0, locals := 0 } G [.ref m, .int (zI (j : Int))] [(m, .inr (11, .int (zI (n : Int)) :: .ref g1 :: .ref g2 :: .ref g3 :: .ref g4 :: .ref g5 :: .int (zI oa) :: .int (zI dy) :: rs)), (g1, AI G 7 (fun z_ => (kd z_ : Int))), (g2, AI G 7 fg), (g3, AI G 7 hm), (g4, AI G 7 at_), (g5, AI G 7 lg)] (Qi G [(m, .inr (11, .int (zI (n : Int)) :: .ref g1 :: .ref g2 :: .ref g3 :: .ref g4 :: .ref g5 :: .int (zI oa) :: .int (zI dy) :: rs)), (g1, AI G 7 (fun z_ => (kd z_ : Int))), (g2, AI G 7 fg), (g3, AI G 7 hm), (g4, AI G 7 at_), (g5, AI G 7 lg)] (fun (r : Int32) (u : Unit) => r = zI (walkZ (kd j))) (fun u => [(m, .inr (11, .int (zI (n : Int)) :: .ref g1 :: .ref g2 :: .ref g3 :: .ref g4 :: .ref g5 :: .int (zI oa) :: .int (zI dy) :: rs)), (g1, AI G 7 (fun z_ => (kd z_ : Int))), (g2, AI G 7 fg), (g3, AI G 7 hm), (g4, AI G 7 at_), (g5, AI G 7 lg)])) := by
  refine z_met (by decide) (Nat.le_of_ble_eq_true rfl) ?_
  intro X A hl0 hA C hQ hin
  subst hl0
  obtain ⟨hn7, hoa, hLj⟩ := id hL
  obtain ⟨hk1, hf1, hm1, ha1, hl1⟩ := hLj j hj
  have hg := goalZ_r (k := kd j) hm1 ha1 hoa
  show Z X _ G 0 0 _ 0 [(0, .ref m), (1, .int (zI (j : Int)))] []
  refine z_aload_n C dX4_walkOf_0 rfl 0 rfl ?_
  refine z_get (q := 0) (kf := 1) (v := .ref g1) C rfl rfl in_X4 (by decide) q1088 (Or.inl rfl) rfl dX4_walkOf_1 ?_
  refine z_iload_n C dX4_walkOf_4 rfl 1 rfl ?_
  refine y_iald (q := 1) (t0 := 0) (v := (kd j : Int)) C rfl rfl (by omega) (by decide) rfl dX4_walkOf_5 ?_
  refine y_bipush C dX4_walkOf_6 (by decide) ?_
  refine y_icmp_ne (tgt := 15) C (by omega) (by omega) dX4_walkOf_8 (by decide) (fun c_8 => ?_) (fun c_8 => ?_)
  · skip
    refine z_aload_n C dX4_walkOf_15 rfl 0 rfl ?_
    refine z_get (q := 0) (kf := 1) (v := .ref g1) C rfl rfl in_X4 (by decide) q1088 (Or.inl rfl) rfl dX4_walkOf_16 ?_
    refine z_iload_n C dX4_walkOf_19 rfl 1 rfl ?_
    refine y_iald (q := 1) (t0 := 0) (v := (kd j : Int)) C rfl rfl (by omega) (by decide) rfl dX4_walkOf_20 ?_
    refine y_iconst C dX4_walkOf_21 ?_
    refine y_icmp_eq (tgt := 36) C (by omega) (by omega) dX4_walkOf_22 (by decide) (fun c_22 => ?_) (fun c_22 => ?_)
    · skip
      refine y_iconst C dX4_walkOf_36 ?_
      refine z_goto (tgt := 41) C dX4_walkOf_37 (by decide) ?_
      exact z_iret C hA hQ rfl (Nat.le_of_ble_eq_true rfl) (Nat.le_of_ble_eq_true rfl) (()) (congrArg zI (by unfold walkZ; repeat (first | rw [if_pos (by omega)] | rw [if_neg (by omega)]))) (sb_e [0, 1, 2, 3, 4, 5] rfl rfl) dX4_walkOf_41
    · skip
      refine z_aload_n C dX4_walkOf_25 rfl 0 rfl ?_
      refine z_get (q := 0) (kf := 1) (v := .ref g1) C rfl rfl in_X4 (by decide) q1088 (Or.inl rfl) rfl dX4_walkOf_26 ?_
      refine z_iload_n C dX4_walkOf_29 rfl 1 rfl ?_
      refine y_iald (q := 1) (t0 := 0) (v := (kd j : Int)) C rfl rfl (by omega) (by decide) rfl dX4_walkOf_30 ?_
      refine y_bipush C dX4_walkOf_31 (by decide) ?_
      refine y_icmp_ne (tgt := 40) C (by omega) (by omega) dX4_walkOf_33 (by decide) (fun c_33 => ?_) (fun c_33 => ?_)
      · skip
        refine y_iconst C dX4_walkOf_40 ?_
        exact z_iret C hA hQ rfl (Nat.le_of_ble_eq_true rfl) (Nat.le_of_ble_eq_true rfl) (()) (congrArg zI (by unfold walkZ; repeat (first | rw [if_pos (by omega)] | rw [if_neg (by omega)]))) (sb_e [0, 1, 2, 3, 4, 5] rfl rfl) dX4_walkOf_41
      · skip
        refine y_iconst C dX4_walkOf_36 ?_
        refine z_goto (tgt := 41) C dX4_walkOf_37 (by decide) ?_
        exact z_iret C hA hQ rfl (Nat.le_of_ble_eq_true rfl) (Nat.le_of_ble_eq_true rfl) (()) (congrArg zI (by unfold walkZ; repeat (first | rw [if_pos (by omega)] | rw [if_neg (by omega)]))) (sb_e [0, 1, 2, 3, 4, 5] rfl rfl) dX4_walkOf_41
  · skip
    refine y_iconst C dX4_walkOf_11 ?_
    refine z_goto (tgt := 41) C dX4_walkOf_12 (by decide) ?_
    exact z_iret C hA hQ rfl (Nat.le_of_ble_eq_true rfl) (Nat.le_of_ble_eq_true rfl) (()) (congrArg zI (by unfold walkZ; repeat (first | rw [if_pos (by omega)] | rw [if_neg (by omega)]))) (sb_e [0, 1, 2, 3, 4, 5] rfl rfl) dX4_walkOf_41

set_option maxHeartbeats 4000000 in
theorem ct_X4_dayBy (l : Launch) (G : ZG) (m : Nat) (g1 : Nat) (g2 : Nat) (g3 : Nat) (g4 : Nat) (g5 : Nat) (kd : Nat → Nat) (fg : Nat → Int) (hm : Nat → Int) (at_ : Nat → Int) (lg : Nat → Int) (n : Nat) (oa : Int) (dy : Int) (rs : List Value) (b : Int) (hL : LK n kd fg hm at_ lg oa) (hb : 0 ≤ b ∧ b ≤ 1) : CT l yX4_dayBy cX4_dayBy 4 none { frames := 3, cells := 0, slots := 0, locals := 68 } G [.ref m, .int (zI b)] [(m, .inr (11, .int (zI (n : Int)) :: .ref g1 :: .ref g2 :: .ref g3 :: .ref g4 :: .ref g5 :: .int (zI oa) :: .int (zI dy) :: rs)), (g1, AI G 7 (fun z_ => (kd z_ : Int))), (g2, AI G 7 fg), (g3, AI G 7 hm), (g4, AI G 7 at_), (g5, AI G 7 lg)] (Qv G [(m, .inr (11, .int (zI (n : Int)) :: .ref g1 :: .ref g2 :: .ref g3 :: .ref g4 :: .ref g5 :: .int (zI oa) :: .int (zI dy) :: rs)), (g1, AI G 7 (fun z_ => (kd z_ : Int))), (g2, AI G 7 fg), (g3, AI G 7 hm), (g4, AI G 7 at_), (g5, AI G 7 lg)] (fun (u : Unit) => True) (fun u => [(m, .inr (11, .int (zI (n : Int)) :: .ref g1 :: .ref g2 :: .ref g3 :: .ref g4 :: .ref g5 :: .int (zI oa) :: .int (zI (dy + 1)) :: rs)), (g1, AI G 7 (fun z_ => (kd z_ : Int))), (g2, AI G 7 fg), (g3, AI G 7 hm), (g4, AI G 7 at_), (g5, AI G 7 (dayB b kd fg hm at_ oa n lg))])) := by
  refine z_met (by decide) (Nat.le_of_ble_eq_true rfl) ?_
  intro X A hl0 hA C hQ hin
  subst hl0
  obtain ⟨hn7, hoa, hLj⟩ := id hL
  show Z X _ G 0 0 _ 0 [(0, .ref m), (1, .int (zI b))] []
  refine z_aload_n C dX4_dayBy_0 rfl 0 rfl ?_
  refine z_dup C dX4_dayBy_1 rfl ?_
  refine z_get (q := 0) (kf := 7) (v := .int (zI dy)) C rfl rfl in_X4 (by decide) q1094 (Or.inl rfl) rfl dX4_dayBy_2 ?_
  refine y_iconst C dX4_dayBy_5 ?_
  refine y_iadd C dX4_dayBy_6 ?_
  refine z_put (q := 0) (kf := 7) (ws' := [(m, .inr (11, .int (zI (n : Int)) :: .ref g1 :: .ref g2 :: .ref g3 :: .ref g4 :: .ref g5 :: .int (zI oa) :: .int (zI (dy + 1)) :: rs)), (g1, AI G 7 (fun z_ => (kd z_ : Int))), (g2, AI G 7 fg), (g3, AI G 7 hm), (g4, AI G 7 at_), (g5, AI G 7 lg)]) C rfl rfl in_X4 tyX4_ok nmX4 (by decide) q1094 rfl rfl rfl rfl rfl (nlt rfl) rfl dX4_dayBy_7 ?_
  refine y_iconst C dX4_dayBy_10 ?_
  refine z_istore_n (lv' := [(2, .int (zI 0)), (0, .ref m), (1, .int (zI b))]) C dX4_dayBy_11 rfl (nlt rfl) rfl ?_
  have L_12 : ∀ (tt : Nat) (i : Nat), (i ≤ n) → (b = 0 ∨ i = 0) → n - i = tt → Z X (cX4_dayBy, 4, yX4_dayBy.cls, none, { frames := 3, cells := 0, slots := 0, locals := 68 }, A) G 0 0 [(m, .inr (11, .int (zI (n : Int)) :: .ref g1 :: .ref g2 :: .ref g3 :: .ref g4 :: .ref g5 :: .int (zI oa) :: .int (zI (dy + 1)) :: rs)), (g1, AI G 7 (fun z_ => (kd z_ : Int))), (g2, AI G 7 fg), (g3, AI G 7 hm), (g4, AI G 7 at_), (g5, AI G 7 (dayL kd fg hm at_ oa i lg))] 12 [(0, .ref m), (1, .int (zI b)), (2, .int (zI (i : Int)))] [] := by
    intro tt
    induction tt using Nat.strongRecOn with
    | _ tt ih_12 =>
      intro i hi hbi ht_12
      refine z_iload_n C dX4_dayBy_12 rfl 2 rfl ?_
      refine z_aload_n C dX4_dayBy_13 rfl 0 rfl ?_
      refine z_get (q := 0) (kf := 0) (v := .int (zI (n : Int))) C rfl rfl in_X4 (by decide) q1087 (Or.inl rfl) rfl dX4_dayBy_14 ?_
      refine y_icmp_ge (tgt := 88) C (by omega) (by omega) dX4_dayBy_17 (by decide) (fun c_17 => ?_) (fun c_17 => ?_)
      · skip
        have ee : dayL kd fg hm at_ oa i lg = dayB b kd fg hm at_ oa n lg := by
          unfold dayB
          rcases hbi with h | h
          · rw [if_pos h]; congr 1; omega
          · subst h; split
            · have : n = 0 := by omega
              subst this; rfl
            · exact dayL_0
        rw [ee]
        exact z_vret C hA hQ rfl (Nat.le_of_ble_eq_true rfl) (Nat.le_of_ble_eq_true rfl) (()) (trivial) (sb_e [0, 1, 2, 3, 4, 5] rfl rfl) dX4_dayBy_88
      · skip
        refine z_iload_n C dX4_dayBy_20 rfl 1 rfl ?_
        refine y_if_ne (tgt := 88) C (by omega) dX4_dayBy_21 (by decide) (fun c_21 => ?_) (fun c_21 => ?_)
        · skip
          have ee : dayL kd fg hm at_ oa i lg = dayB b kd fg hm at_ oa n lg := by
            unfold dayB
            rcases hbi with h | h
            · rw [if_pos h]; congr 1; omega
            · subst h; split
              · have : n = 0 := by omega
                subst this; rfl
              · exact dayL_0
          rw [ee]
          exact z_vret C hA hQ rfl (Nat.le_of_ble_eq_true rfl) (Nat.le_of_ble_eq_true rfl) (()) (trivial) (sb_e [0, 1, 2, 3, 4, 5] rfl rfl) dX4_dayBy_88
        · skip
          have elg : dayL kd fg hm at_ oa i lg i = lg i := by simp [dayL]
          obtain ⟨hk1, hf1, hm1, ha1, hl1⟩ := hLj i (by omega)
          have hg := goalZ_r (k := kd i) hm1 ha1 hoa
          refine z_aload_n C dX4_dayBy_24 rfl 0 rfl ?_
          refine z_get (q := 0) (kf := 4) (v := .ref g4) C rfl rfl in_X4 (by decide) q1091 (Or.inl rfl) rfl dX4_dayBy_25 ?_
          refine z_iload_n C dX4_dayBy_28 rfl 2 rfl ?_
          refine y_iald (q := 4) (t0 := 0) (v := at_ i) C rfl rfl (by omega) (by decide) rfl dX4_dayBy_29 ?_
          refine z_aload_n C dX4_dayBy_30 rfl 0 rfl ?_
          refine z_iload_n C dX4_dayBy_31 rfl 2 rfl ?_
          refine z_i C (z_runV (q := 0) (As := [.int (zI (i : Int))]) (rest := [.int (zI (at_ i))]) C (ct_X4_goalOf (zl X) G m g1 g2 g3 g4 g5 kd fg hm at_ (dayL kd fg hm at_ oa i lg) n oa (dy + 1) rs i (hL.day (m := i)) (by omega)) (lw_V q1267 q1269 qs36 q61 q1270) rfl rfl (sb_e [0, 1, 2, 3, 4, 5] rfl rfl) (na := 1) (by decide +kernel) rfl (zrm rfl rfl (rfl) (rfl)) rfl (Nat.le_of_ble_eq_true rfl) dX4_dayBy_32) (fun u => jn_ro (sb_e [0, 1, 2, 3, 4, 5] rfl rfl)) (fun r_32 u hp_32 => ?_)
          have hp_32 : r_32 = zI (goalZ (kd i) (hm i) (at_ i) oa) := hp_32
          subst hp_32
          refine y_icmp_ne (tgt := 42) C (by omega) (by omega) dX4_dayBy_35 (by decide) (fun c_35 => ?_) (fun c_35 => ?_)
          · skip
            refine y_iconst C dX4_dayBy_42 ?_
            refine z_istore_n (lv' := [(3, .int (zI 0)), (0, .ref m), (1, .int (zI b)), (2, .int (zI (i : Int)))]) C dX4_dayBy_43 rfl (nlt rfl) rfl ?_
            refine z_aload_n C dX4_dayBy_44 rfl 1 rfl ?_
            refine z_get (q := 0) (kf := 5) (v := .ref g5) C rfl rfl in_X4 (by decide) q1092 (Or.inl rfl) rfl dX4_dayBy_45 ?_
            refine z_iload_n C dX4_dayBy_48 rfl 3 rfl ?_
            refine z_iload_n C dX4_dayBy_49 rfl 0 rfl ?_
            refine y_if_eq (tgt := 64) C (by omega) dX4_dayBy_50 (by decide) (fun c_50 => ?_) (fun c_50 => ?_)
            · skip
              refine y_bipush C dX4_dayBy_64 (by decide) ?_
              refine z_aload_n C dX4_dayBy_66 rfl 1 rfl ?_
              refine z_get (q := 0) (kf := 5) (v := .ref g5) C rfl rfl in_X4 (by decide) q1092 (Or.inl rfl) rfl dX4_dayBy_67 ?_
              refine z_iload_n C dX4_dayBy_70 rfl 3 rfl ?_
              refine y_iald (q := 5) (t0 := 0) (v := (dayL kd fg hm at_ oa i lg) i) C rfl rfl (by omega) (by decide) rfl dX4_dayBy_71 ?_
              refine z_aload_n C dX4_dayBy_72 rfl 1 rfl ?_
              refine z_iload_n C dX4_dayBy_73 rfl 3 rfl ?_
              refine z_i C (z_runV (q := 0) (As := [.int (zI (i : Int))]) (rest := [.int (zI ((dayL kd fg hm at_ oa i lg) i)), .int (zI 99), .int (zI (i : Int)), .ref g5]) C (ct_X4_pinesOf (zl X) G m g1 g2 g3 g4 g5 kd fg hm at_ (dayL kd fg hm at_ oa i lg) n oa (dy + 1) rs i (hL.day (m := i)) (by omega)) (lw_V q1289 q1291 qs40 q61 q1292) rfl rfl (sb_e [0, 1, 2, 3, 4, 5] rfl rfl) (na := 1) (by decide +kernel) rfl (zrm rfl rfl (rfl) (rfl)) rfl (Nat.le_of_ble_eq_true rfl) dX4_dayBy_74) (fun u => jn_ro (sb_e [0, 1, 2, 3, 4, 5] rfl rfl)) (fun r_74 u hp_74 => ?_)
              have hp_74 : r_74 = zI (pinesZ (kd i) (fg i) (zAbs (at_ i - goalZ (kd i) (hm i) (at_ i) oa))) := hp_74
              subst hp_74
              have hz7 := zAbs_nn (at_ i - goalZ (kd i) (hm i) (at_ i) oa)
              have hz8 := (zAbs_le (a := at_ i - goalZ (kd i) (hm i) (at_ i) oa) (m := 20)).mpr ⟨by omega, by omega⟩
              have hsy : zAbs (at_ i - goalZ (kd i) (hm i) (at_ i) oa) = zAbs (goalZ (kd i) (hm i) (at_ i) oa - at_ i) := by unfold zAbs; split <;> split <;> omega
              have hpz := pinesZ_r (k := kd i) hf1 (mi := zAbs (at_ i - goalZ (kd i) (hm i) (at_ i) oa)) ⟨by omega, by omega⟩
              refine y_iadd C dX4_dayBy_77 ?_
              refine z_i C (z_runS (As := [.int (zI 99), .int (zI (((dayL kd fg hm at_ oa i lg) i) + (pinesZ (kd i) (fg i) (zAbs (at_ i - goalZ (kd i) (hm i) (at_ i) oa)))))]) (rest := [.int (zI (i : Int)), .ref g5]) C (ct_X4_least (zl X) G 99 (((dayL kd fg hm at_ oa i lg) i) + (pinesZ (kd i) (fg i) (zAbs (at_ i - goalZ (kd i) (hm i) (at_ i) oa)))) (by first | assumption | omega) (by first | assumption | omega)) (lw_S q1278 q1279 q61 q1280) (sb_e [] rfl rfl) (na := 2) (by decide +kernel) rfl (zrm rfl rfl (rfl) (rfl)) rfl (Nat.le_of_ble_eq_true rfl) dX4_dayBy_78) (fun u => jn_ro (sb_e [] rfl rfl)) (fun r_78 u hp_78 => ?_)
              have hp_78 : r_78 = zI (min 99 (((dayL kd fg hm at_ oa i lg) i) + (pinesZ (kd i) (fg i) (zAbs (at_ i - goalZ (kd i) (hm i) (at_ i) oa))))) := hp_78
              subst hp_78
              refine y_iast (q := 5) (t0 := 0) (g := dayL kd fg hm at_ oa (i + 1) lg) (ws' := [(m, .inr (11, .int (zI (n : Int)) :: .ref g1 :: .ref g2 :: .ref g3 :: .ref g4 :: .ref g5 :: .int (zI oa) :: .int (zI (dy + 1)) :: rs)), (g1, AI G 7 (fun z_ => (kd z_ : Int))), (g2, AI G 7 fg), (g3, AI G 7 hm), (g4, AI G 7 at_), (g5, AI G 7 (dayL kd fg hm at_ oa (i + 1) lg))]) C rfl rfl (by omega) (by decide) (by first | (exfalso; omega) | (rw [← dayL_succ, elg]; first | (rw [dayZ_t (by first | assumption | omega)]; rfl) | (rw [dayZ_f (by first | assumption | omega), ← hsy]; rfl))) rfl dX4_dayBy_81 ?_
              refine y_iinc (lv' := [(2, .int (zI ((i : Int) + 1))), (3, .int (zI 0)), (0, .ref m), (1, .int (zI b))]) C dX4_dayBy_82 (q := 3) rfl (nlt rfl) rfl ?_
              refine z_goto (tgt := 12) C dX4_dayBy_85 (by decide) ?_
              refine z_lv (lv' := [(0, .ref m), (1, .int (zI b)), (2, .int (zI ((i : Int) + 1)))]) [2, 3, 0] rfl ?_
              exact ih_12 _ (by omega) (i + 1) (by first | assumption | omega) (Or.inl (by omega)) rfl
            · skip
              refine z_aload_n C dX4_dayBy_53 rfl 1 rfl ?_
              refine z_get (q := 0) (kf := 5) (v := .ref g5) C rfl rfl in_X4 (by decide) q1092 (Or.inl rfl) rfl dX4_dayBy_54 ?_
              refine z_iload_n C dX4_dayBy_57 rfl 3 rfl ?_
              refine y_iald (q := 5) (t0 := 0) (v := (dayL kd fg hm at_ oa i lg) i) C rfl rfl (by omega) (by decide) rfl dX4_dayBy_58 ?_
              refine y_iconst C dX4_dayBy_59 ?_
              refine y_idiv C (by omega) (by omega) dX4_dayBy_60 ?_
              refine z_goto (tgt := 81) C dX4_dayBy_61 (by decide) ?_
              refine y_iast (q := 5) (t0 := 0) (g := dayL kd fg hm at_ oa (i + 1) lg) (ws' := [(m, .inr (11, .int (zI (n : Int)) :: .ref g1 :: .ref g2 :: .ref g3 :: .ref g4 :: .ref g5 :: .int (zI oa) :: .int (zI (dy + 1)) :: rs)), (g1, AI G 7 (fun z_ => (kd z_ : Int))), (g2, AI G 7 fg), (g3, AI G 7 hm), (g4, AI G 7 at_), (g5, AI G 7 (dayL kd fg hm at_ oa (i + 1) lg))]) C rfl rfl (by omega) (by decide) (by first | (exfalso; omega) | (rw [← dayL_succ, elg]; first | (rw [dayZ_t (by first | assumption | omega)]; rfl) | (rw [dayZ_f (by first | assumption | omega), ← hsy]; rfl))) rfl dX4_dayBy_81 ?_
              refine y_iinc (lv' := [(2, .int (zI ((i : Int) + 1))), (3, .int (zI 0)), (0, .ref m), (1, .int (zI b))]) C dX4_dayBy_82 (q := 3) rfl (nlt rfl) rfl ?_
              refine z_goto (tgt := 12) C dX4_dayBy_85 (by decide) ?_
              refine z_lv (lv' := [(0, .ref m), (1, .int (zI b)), (2, .int (zI ((i : Int) + 1)))]) [2, 3, 0] rfl ?_
              exact ih_12 _ (by omega) (i + 1) (by first | assumption | omega) (Or.inl (by omega)) rfl
          · skip
            refine y_iconst C dX4_dayBy_38 ?_
            refine z_goto (tgt := 43) C dX4_dayBy_39 (by decide) ?_
            refine z_istore_n (lv' := [(3, .int (zI 1)), (0, .ref m), (1, .int (zI b)), (2, .int (zI (i : Int)))]) C dX4_dayBy_43 rfl (nlt rfl) rfl ?_
            refine z_aload_n C dX4_dayBy_44 rfl 1 rfl ?_
            refine z_get (q := 0) (kf := 5) (v := .ref g5) C rfl rfl in_X4 (by decide) q1092 (Or.inl rfl) rfl dX4_dayBy_45 ?_
            refine z_iload_n C dX4_dayBy_48 rfl 3 rfl ?_
            refine z_iload_n C dX4_dayBy_49 rfl 0 rfl ?_
            refine y_if_eq (tgt := 64) C (by omega) dX4_dayBy_50 (by decide) (fun c_50 => ?_) (fun c_50 => ?_)
            · skip
              refine y_bipush C dX4_dayBy_64 (by decide) ?_
              refine z_aload_n C dX4_dayBy_66 rfl 1 rfl ?_
              refine z_get (q := 0) (kf := 5) (v := .ref g5) C rfl rfl in_X4 (by decide) q1092 (Or.inl rfl) rfl dX4_dayBy_67 ?_
              refine z_iload_n C dX4_dayBy_70 rfl 3 rfl ?_
              refine y_iald (q := 5) (t0 := 0) (v := (dayL kd fg hm at_ oa i lg) i) C rfl rfl (by omega) (by decide) rfl dX4_dayBy_71 ?_
              refine z_aload_n C dX4_dayBy_72 rfl 1 rfl ?_
              refine z_iload_n C dX4_dayBy_73 rfl 3 rfl ?_
              refine z_i C (z_runV (q := 0) (As := [.int (zI (i : Int))]) (rest := [.int (zI ((dayL kd fg hm at_ oa i lg) i)), .int (zI 99), .int (zI (i : Int)), .ref g5]) C (ct_X4_pinesOf (zl X) G m g1 g2 g3 g4 g5 kd fg hm at_ (dayL kd fg hm at_ oa i lg) n oa (dy + 1) rs i (hL.day (m := i)) (by omega)) (lw_V q1289 q1291 qs40 q61 q1292) rfl rfl (sb_e [0, 1, 2, 3, 4, 5] rfl rfl) (na := 1) (by decide +kernel) rfl (zrm rfl rfl (rfl) (rfl)) rfl (Nat.le_of_ble_eq_true rfl) dX4_dayBy_74) (fun u => jn_ro (sb_e [0, 1, 2, 3, 4, 5] rfl rfl)) (fun r_74 u hp_74 => ?_)
              have hp_74 : r_74 = zI (pinesZ (kd i) (fg i) (zAbs (at_ i - goalZ (kd i) (hm i) (at_ i) oa))) := hp_74
              subst hp_74
              have hz7 := zAbs_nn (at_ i - goalZ (kd i) (hm i) (at_ i) oa)
              have hz8 := (zAbs_le (a := at_ i - goalZ (kd i) (hm i) (at_ i) oa) (m := 20)).mpr ⟨by omega, by omega⟩
              have hsy : zAbs (at_ i - goalZ (kd i) (hm i) (at_ i) oa) = zAbs (goalZ (kd i) (hm i) (at_ i) oa - at_ i) := by unfold zAbs; split <;> split <;> omega
              have hpz := pinesZ_r (k := kd i) hf1 (mi := zAbs (at_ i - goalZ (kd i) (hm i) (at_ i) oa)) ⟨by omega, by omega⟩
              refine y_iadd C dX4_dayBy_77 ?_
              refine z_i C (z_runS (As := [.int (zI 99), .int (zI (((dayL kd fg hm at_ oa i lg) i) + (pinesZ (kd i) (fg i) (zAbs (at_ i - goalZ (kd i) (hm i) (at_ i) oa)))))]) (rest := [.int (zI (i : Int)), .ref g5]) C (ct_X4_least (zl X) G 99 (((dayL kd fg hm at_ oa i lg) i) + (pinesZ (kd i) (fg i) (zAbs (at_ i - goalZ (kd i) (hm i) (at_ i) oa)))) (by first | assumption | omega) (by first | assumption | omega)) (lw_S q1278 q1279 q61 q1280) (sb_e [] rfl rfl) (na := 2) (by decide +kernel) rfl (zrm rfl rfl (rfl) (rfl)) rfl (Nat.le_of_ble_eq_true rfl) dX4_dayBy_78) (fun u => jn_ro (sb_e [] rfl rfl)) (fun r_78 u hp_78 => ?_)
              have hp_78 : r_78 = zI (min 99 (((dayL kd fg hm at_ oa i lg) i) + (pinesZ (kd i) (fg i) (zAbs (at_ i - goalZ (kd i) (hm i) (at_ i) oa))))) := hp_78
              subst hp_78
              refine y_iast (q := 5) (t0 := 0) (g := dayL kd fg hm at_ oa (i + 1) lg) (ws' := [(m, .inr (11, .int (zI (n : Int)) :: .ref g1 :: .ref g2 :: .ref g3 :: .ref g4 :: .ref g5 :: .int (zI oa) :: .int (zI (dy + 1)) :: rs)), (g1, AI G 7 (fun z_ => (kd z_ : Int))), (g2, AI G 7 fg), (g3, AI G 7 hm), (g4, AI G 7 at_), (g5, AI G 7 (dayL kd fg hm at_ oa (i + 1) lg))]) C rfl rfl (by omega) (by decide) (by first | (exfalso; omega) | (rw [← dayL_succ, elg]; first | (rw [dayZ_t (by first | assumption | omega)]; rfl) | (rw [dayZ_f (by first | assumption | omega), ← hsy]; rfl))) rfl dX4_dayBy_81 ?_
              refine y_iinc (lv' := [(2, .int (zI ((i : Int) + 1))), (3, .int (zI 1)), (0, .ref m), (1, .int (zI b))]) C dX4_dayBy_82 (q := 3) rfl (nlt rfl) rfl ?_
              refine z_goto (tgt := 12) C dX4_dayBy_85 (by decide) ?_
              refine z_lv (lv' := [(0, .ref m), (1, .int (zI b)), (2, .int (zI ((i : Int) + 1)))]) [2, 3, 0] rfl ?_
              exact ih_12 _ (by omega) (i + 1) (by first | assumption | omega) (Or.inl (by omega)) rfl
            · skip
              refine z_aload_n C dX4_dayBy_53 rfl 1 rfl ?_
              refine z_get (q := 0) (kf := 5) (v := .ref g5) C rfl rfl in_X4 (by decide) q1092 (Or.inl rfl) rfl dX4_dayBy_54 ?_
              refine z_iload_n C dX4_dayBy_57 rfl 3 rfl ?_
              refine y_iald (q := 5) (t0 := 0) (v := (dayL kd fg hm at_ oa i lg) i) C rfl rfl (by omega) (by decide) rfl dX4_dayBy_58 ?_
              refine y_iconst C dX4_dayBy_59 ?_
              refine y_idiv C (by omega) (by omega) dX4_dayBy_60 ?_
              refine z_goto (tgt := 81) C dX4_dayBy_61 (by decide) ?_
              refine y_iast (q := 5) (t0 := 0) (g := dayL kd fg hm at_ oa (i + 1) lg) (ws' := [(m, .inr (11, .int (zI (n : Int)) :: .ref g1 :: .ref g2 :: .ref g3 :: .ref g4 :: .ref g5 :: .int (zI oa) :: .int (zI (dy + 1)) :: rs)), (g1, AI G 7 (fun z_ => (kd z_ : Int))), (g2, AI G 7 fg), (g3, AI G 7 hm), (g4, AI G 7 at_), (g5, AI G 7 (dayL kd fg hm at_ oa (i + 1) lg))]) C rfl rfl (by omega) (by decide) (by first | (exfalso; omega) | (rw [← dayL_succ, elg]; first | (rw [dayZ_t (by first | assumption | omega)]; rfl) | (rw [dayZ_f (by first | assumption | omega), ← hsy]; rfl))) rfl dX4_dayBy_81 ?_
              refine y_iinc (lv' := [(2, .int (zI ((i : Int) + 1))), (3, .int (zI 1)), (0, .ref m), (1, .int (zI b))]) C dX4_dayBy_82 (q := 3) rfl (nlt rfl) rfl ?_
              refine z_goto (tgt := 12) C dX4_dayBy_85 (by decide) ?_
              refine z_lv (lv' := [(0, .ref m), (1, .int (zI b)), (2, .int (zI ((i : Int) + 1)))]) [2, 3, 0] rfl ?_
              exact ih_12 _ (by omega) (i + 1) (by first | assumption | omega) (Or.inl (by omega)) rfl
  refine z_lv (lv' := [(0, .ref m), (1, .int (zI b)), (2, .int (zI 0))]) [1, 2, 0] rfl ?_
  rw [show lg = dayL kd fg hm at_ oa 0 lg from dayL_0.symm]
  exact L_12 _ 0 (by first | assumption | omega) (Or.inr rfl) rfl

set_option maxHeartbeats 4000000 in
theorem ct_X4_goDays (l : Launch) (G : ZG) (m : Nat) (g1 : Nat) (g2 : Nat) (g3 : Nat) (g4 : Nat) (g5 : Nat) (kd : Nat → Nat) (fg : Nat → Int) (hm : Nat → Int) (at_ : Nat → Int) (lg : Nat → Int) (n : Nat) (oa : Int) (dy : Int) (rs : List Value) (t0 : Nat) (hL : LK n kd fg hm at_ lg oa) (ht0 : t0 ≤ 1000) : CT l yX4_goDays cX4_goDays 3 none { frames := 4, cells := 0, slots := 0, locals := 91 } G [.ref m, .int (zI (t0 : Int))] [(m, .inr (11, .int (zI (n : Int)) :: .ref g1 :: .ref g2 :: .ref g3 :: .ref g4 :: .ref g5 :: .int (zI oa) :: .int (zI dy) :: rs)), (g1, AI G 7 (fun z_ => (kd z_ : Int))), (g2, AI G 7 fg), (g3, AI G 7 hm), (g4, AI G 7 at_), (g5, AI G 7 lg)] (Qv G [(m, .inr (11, .int (zI (n : Int)) :: .ref g1 :: .ref g2 :: .ref g3 :: .ref g4 :: .ref g5 :: .int (zI oa) :: .int (zI dy) :: rs)), (g1, AI G 7 (fun z_ => (kd z_ : Int))), (g2, AI G 7 fg), (g3, AI G 7 hm), (g4, AI G 7 at_), (g5, AI G 7 lg)] (fun (u : Unit) => True) (fun u => [(m, .inr (11, .int (zI (n : Int)) :: .ref g1 :: .ref g2 :: .ref g3 :: .ref g4 :: .ref g5 :: .int (zI oa) :: .int (zI (dy + (t0 : Int))) :: rs)), (g1, AI G 7 (fun z_ => (kd z_ : Int))), (g2, AI G 7 fg), (g3, AI G 7 hm), (g4, AI G 7 at_), (g5, AI G 7 (goL kd fg hm at_ oa n t0 lg))])) := by
  refine z_met (by decide) (Nat.le_of_ble_eq_true rfl) ?_
  intro X A hl0 hA C hQ hin
  subst hl0
  obtain ⟨hn7, hoa, hLj⟩ := id hL
  show Z X _ G 0 0 _ 0 [(0, .ref m), (1, .int (zI (t0 : Int)))] []
  refine y_iconst C dX4_goDays_0 ?_
  refine z_istore_n (lv' := [(2, .int (zI 0)), (0, .ref m), (1, .int (zI (t0 : Int)))]) C dX4_goDays_1 rfl (nlt rfl) rfl ?_
  have L_2 : ∀ (tt : Nat) (i : Nat), (i ≤ t0) → t0 - i = tt → Z X (cX4_goDays, 3, yX4_goDays.cls, none, { frames := 4, cells := 0, slots := 0, locals := 91 }, A) G 0 0 [(m, .inr (11, .int (zI (n : Int)) :: .ref g1 :: .ref g2 :: .ref g3 :: .ref g4 :: .ref g5 :: .int (zI oa) :: .int (zI (dy + (i : Int))) :: rs)), (g1, AI G 7 (fun z_ => (kd z_ : Int))), (g2, AI G 7 fg), (g3, AI G 7 hm), (g4, AI G 7 at_), (g5, AI G 7 (goL kd fg hm at_ oa n i lg))] 2 [(0, .ref m), (1, .int (zI (t0 : Int))), (2, .int (zI (i : Int)))] [] := by
    intro tt
    induction tt using Nat.strongRecOn with
    | _ tt ih_2 =>
      intro i hi ht_2
      refine z_iload_n C dX4_goDays_2 rfl 2 rfl ?_
      refine z_iload_n C dX4_goDays_3 rfl 1 rfl ?_
      refine y_icmp_ge (tgt := 18) C (by omega) (by omega) dX4_goDays_4 (by decide) (fun c_4 => ?_) (fun c_4 => ?_)
      · skip
        rw [show (i : Nat) = t0 by omega]
        exact z_vret C hA hQ rfl (Nat.le_of_ble_eq_true rfl) (Nat.le_of_ble_eq_true rfl) (()) (trivial) (sb_e [0, 1, 2, 3, 4, 5] rfl rfl) dX4_goDays_18
      · skip
        refine z_aload_n C dX4_goDays_7 rfl 0 rfl ?_
        refine y_iconst C dX4_goDays_8 ?_
        refine z_v (ws' := fun u => [(m, .inr (11, .int (zI (n : Int)) :: .ref g1 :: .ref g2 :: .ref g3 :: .ref g4 :: .ref g5 :: .int (zI oa) :: .int (zI ((dy + (i : Int)) + 1)) :: rs)), (g1, AI G 7 (fun z_ => (kd z_ : Int))), (g2, AI G 7 fg), (g3, AI G 7 hm), (g4, AI G 7 at_), (g5, AI G 7 (dayB 0 kd fg hm at_ oa n (goL kd fg hm at_ oa n i lg)))]) C (z_runV (q := 0) (As := [.int (zI 0)]) (rest := []) C (ct_X4_dayBy (zl X) G m g1 g2 g3 g4 g5 kd fg hm at_ (goL kd fg hm at_ oa n i lg) n oa (dy + (i : Int)) rs 0 (hL.go i) (by omega)) (lw_V q1285 q1287 qs39 q61 q1288) rfl rfl (sb_e [0, 1, 2, 3, 4, 5] rfl rfl) (na := 1) (by decide +kernel) rfl (zrm rfl rfl (rfl) (rfl)) rfl (Nat.le_of_ble_eq_true rfl) dX4_goDays_9) (fun u => jn_e (wr := []) [0, 1, 2, 3, 4, 5] [] [0, 1, 2, 3, 4, 5] rfl rfl rfl (by decide) rfl rfl) (fun u hp_9 => ?_)
        rw [show dayB 0 kd fg hm at_ oa n (goL kd fg hm at_ oa n i lg) = goL kd fg hm at_ oa n (i + 1) lg from rfl]
        refine y_iinc (lv' := [(2, .int (zI ((i : Int) + 1))), (0, .ref m), (1, .int (zI (t0 : Int)))]) C dX4_goDays_12 (q := 2) rfl (nlt rfl) rfl ?_
        refine z_goto (tgt := 2) C dX4_goDays_15 (by decide) ?_
        refine z_lv (lv' := [(0, .ref m), (1, .int (zI (t0 : Int))), (2, .int (zI ((i : Int) + 1)))]) [1, 2, 0] rfl ?_
        rw [show dy + (i : Int) + 1 = dy + ((i + 1 : Nat) : Int) by omega]
        exact ih_2 _ (by omega) (i + 1) (by first | assumption | omega) rfl
  refine z_lv (lv' := [(0, .ref m), (1, .int (zI (t0 : Int))), (2, .int (zI 0))]) [1, 2, 0] rfl ?_
  rw [show zI dy = zI (dy + ((0 : Nat) : Int)) from congrArg zI (by omega)]
  exact L_2 _ 0 (by first | assumption | omega) rfl

