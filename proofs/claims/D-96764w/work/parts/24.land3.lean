/-! LAND: rides, sums, copies, takes, comes, the constructor -/
set_option maxRecDepth 100000
set_option maxHeartbeats 4000000 in
theorem ct_X2_rides (l : Launch) (G : ZG) (a0 : Nat) (a1 : Nat) (a2 : Nat) (a3 : Nat) (a4 : Nat) (r : Nat → Option Nat) (hm : Nat → Int) (at_ : Nat → Int) (lg : Nat → Int) (n : Nat) (oa : Int) (dy : Int) (LP : List Nat) (hk : Nat → Nat) (hf : Nat → Int) (kd : Nat → Nat) (fg : Nat → Int) (j : Nat) (yard : Int) (hH : HR LP hk hf r n kd fg) (hL : LK n kd fg hm at_ lg oa) (hj : j < n) (hy : 0 ≤ yard ∧ yard ≤ 20) : CT l yX2_rides cX2_rides 4 (some .int) { frames := 7, cells := 0, slots := 0, locals := 143 } G [.ref a0, .int (zI (j : Int)), .int (zI yard)] ([(a0, .inr (8, [.ref a1, .ref a2, .ref a3, .ref a4, .int (zI (n : Int)), .int (zI oa), .int (zI dy)])), (a1, AQ G 4 7 r), (a2, AI G 7 hm), (a3, AI G 7 at_), (a4, AI G 7 lg)] ++ PL LP hk hf) (Qi G ([(a0, .inr (8, [.ref a1, .ref a2, .ref a3, .ref a4, .int (zI (n : Int)), .int (zI oa), .int (zI dy)])), (a1, AQ G 4 7 r), (a2, AI G 7 hm), (a3, AI G 7 at_), (a4, AI G 7 lg)] ++ PL LP hk hf) (fun (r : Int32) (u : Unit) => r = zI ((rdN kd fg hm oa n j yard at_ lg) : Int)) (fun u => ([(a0, .inr (8, [.ref a1, .ref a2, .ref a3, .ref a4, .int (zI (n : Int)), .int (zI oa), .int (zI (dy + ((rdN kd fg hm oa n j yard at_ lg) : Int)))])), (a1, AQ G 4 7 r), (a2, AI G 7 hm), (a3, AI G 7 (rdA kd fg hm oa n j yard at_ lg)), (a4, AI G 7 (rdL kd fg hm oa n j yard at_ lg))] ++ PL LP hk hf))) := by
  refine z_met (by decide) (Nat.le_of_ble_eq_true rfl) ?_
  intro X A hl0 hA C hQ hin
  subst hl0
  obtain ⟨hn7, hoa, hLj⟩ := id hL
  have hat0 := (hLj j hj).2.2.2.1
  show Z X _ G 0 0 _ 0 [(0, .ref a0), (1, .int (zI (j : Int))), (2, .int (zI yard))] []
  refine y_iconst C dX2_rides_0 ?_
  refine z_istore_n (lv' := [(3, .int (zI 0)), (0, .ref a0), (1, .int (zI (j : Int))), (2, .int (zI yard))]) C dX2_rides_1 rfl (nlt rfl) rfl ?_
  have L_2 : ∀ (t : Nat) (f : Nat) (i : Nat) (at1 : Nat → Int) (lg1 : Nat → Int), (LK n kd fg hm at1 lg1 oa) → ((at1 j - yard).natAbs ≤ f) → (i + f = 20) → (rideF kd fg hm oa n j yard 20 at_ lg = ((rideF kd fg hm oa n j yard f at1 lg1).1 + i, (rideF kd fg hm oa n j yard f at1 lg1).2)) → f = t → Z X (cX2_rides, 4, yX2_rides.cls, (some .int), { frames := 7, cells := 0, slots := 0, locals := 143 }, A) G 0 0 ([(a0, .inr (8, [.ref a1, .ref a2, .ref a3, .ref a4, .int (zI (n : Int)), .int (zI oa), .int (zI (dy + (i : Int)))])), (a1, AQ G 4 7 r), (a2, AI G 7 hm), (a3, AI G 7 at1), (a4, AI G 7 lg1)] ++ PL LP hk hf) 2 [(0, .ref a0), (1, .int (zI (j : Int))), (2, .int (zI yard)), (3, .int (zI (i : Int)))] [] := by
    intro t
    induction t using Nat.strongRecOn with
    | _ t ih_2 =>
      intro f i at1 lg1 hL1 hd hif hrel ht_2
      obtain ⟨hk1, hf1, hm1, ha1, hl1⟩ := hL1.2.2 j hj
      refine z_aload_n C dX2_rides_2 rfl 0 rfl ?_
      refine z_get (q := 0) (kf := 2) (v := .ref a3) C rfl rfl in_X2 (by decide) q841 (Or.inl rfl) rfl dX2_rides_3 ?_
      refine z_iload_n C dX2_rides_6 rfl 1 rfl ?_
      refine y_iald (q := 3) (t0 := 0) (v := at1 j) C rfl rfl (by omega) (by decide) rfl dX2_rides_7 ?_
      refine z_iload_n C dX2_rides_8 rfl 2 rfl ?_
      refine y_icmp_eq (tgt := 29) C (by omega) (by omega) dX2_rides_9 (by decide) (fun c_9 => ?_) (fun c_9 => ?_)
      · skip
        refine z_iload_n C dX2_rides_29 rfl 3 rfl ?_
        have hrr : rideF kd fg hm oa n j yard 20 at_ lg = (i, at1, lg1) := by rw [hrel, rideF_0 c_9]; exact Prod.ext (Nat.zero_add i) rfl
        rw [show (at1 : Nat → Int) = (rdA kd fg hm oa n j yard at_ lg) from (show at1 = (rideF kd fg hm oa n j yard 20 at_ lg).2.1 by rw [hrr])]
        rw [show (lg1 : Nat → Int) = (rdL kd fg hm oa n j yard at_ lg) from (show lg1 = (rideF kd fg hm oa n j yard 20 at_ lg).2.2 by rw [hrr])]
        rw [show (i : Nat) = (rdN kd fg hm oa n j yard at_ lg) from (show i = (rideF kd fg hm oa n j yard 20 at_ lg).1 by rw [hrr])]
        exact z_iret C hA hQ rfl (Nat.le_of_ble_eq_true rfl) (Nat.le_of_ble_eq_true rfl) (()) (rfl) (sb_p [0, 1, 2, 3, 4] rfl rfl) dX2_rides_30
      · skip
        have hst := stepZ_r (k := kd j) hf1 hm1 ha1 hoa hl1 hy
        have hnr := stepZ_near (k := kd j) hf1 hm1 ha1 hoa hl1 hy c_9
        refine z_aload_n C dX2_rides_12 rfl 0 rfl ?_
        refine z_iload_n C dX2_rides_13 rfl 1 rfl ?_
        refine z_iload_n C dX2_rides_14 rfl 2 rfl ?_
        refine z_v (ws' := fun u => ([(a0, .inr (8, [.ref a1, .ref a2, .ref a3, .ref a4, .int (zI (n : Int)), .int (zI oa), .int (zI (dy + (i : Int)))])), (a1, AQ G 4 7 r), (a2, AI G 7 hm), (a3, AI G 7 (va_up at1 j (stepZ (kd j) (fg j) (hm j) (at1 j) oa (lg1 j) yard))), (a4, AI G 7 lg1)] ++ PL LP hk hf)) C (z_runV (q := 0) (As := [.int (zI (j : Int)), .int (zI yard)]) (rest := []) C (ct_X2_stepsTo (zl X) G a0 a1 a2 a3 a4 r hm at1 lg1 n oa (dy + (i : Int)) LP hk hf kd fg j yard (by first | assumption | omega) (hL1) (by first | assumption | omega) (by first | assumption | omega) (c_9)) (lw_V q397 q398 q399 q59 q400) rfl rfl (sb_p [0, 1, 2, 3, 4] rfl rfl) (na := 2) (by decide +kernel) rfl (zrm rfl rfl (rfl) (rfl)) rfl (Nat.le_of_ble_eq_true rfl) dX2_rides_15) (fun u => jn_p (Lr := []) [0, 1, 2, 3, 4] [] [0, 1, 2, 3, 4] rfl rfl rfl (by decide) rfl rfl) (fun u hp_15 => ?_)
        refine z_aload_n C dX2_rides_18 rfl 0 rfl ?_
        refine y_iconst C dX2_rides_19 ?_
        refine z_v (ws' := fun u => ([(a0, .inr (8, [.ref a1, .ref a2, .ref a3, .ref a4, .int (zI (n : Int)), .int (zI oa), .int (zI ((dy + (i : Int)) + 1))])), (a1, AQ G 4 7 r), (a2, AI G 7 hm), (a3, AI G 7 (va_up at1 j (stepZ (kd j) (fg j) (hm j) (at1 j) oa (lg1 j) yard))), (a4, AI G 7 (dayB 0 kd fg hm (va_up at1 j (stepZ (kd j) (fg j) (hm j) (at1 j) oa (lg1 j) yard)) oa n lg1))] ++ PL LP hk hf)) C (z_runV (q := 0) (As := [.int (zI 0)]) (rest := []) C (ct_X2_goesDay (zl X) G a0 a1 a2 a3 a4 r hm (va_up at1 j (stepZ (kd j) (fg j) (hm j) (at1 j) oa (lg1 j) yard)) lg1 n oa (dy + (i : Int)) LP hk hf kd fg 0 (by first | assumption | omega) (hL1.at hst) (by omega)) (lw_V q491 q492 q493 q59 q494) rfl rfl (sb_p [0, 1, 2, 3, 4] rfl rfl) (na := 1) (by decide +kernel) rfl (zrm rfl rfl (rfl) (rfl)) rfl (Nat.le_of_ble_eq_true rfl) dX2_rides_20) (fun u => jn_p (Lr := []) [0, 1, 2, 3, 4] [] [0, 1, 2, 3, 4] rfl rfl rfl (by decide) rfl rfl) (fun u hp_20 => ?_)
        rw [show dayB 0 kd fg hm (va_up at1 j (stepZ (kd j) (fg j) (hm j) (at1 j) oa (lg1 j) yard)) oa n lg1 = dayL kd fg hm (va_up at1 j (stepZ (kd j) (fg j) (hm j) (at1 j) oa (lg1 j) yard)) oa n lg1 from rfl]
        refine y_iinc (lv' := [(3, .int (zI ((i : Int) + 1))), (0, .ref a0), (1, .int (zI (j : Int))), (2, .int (zI yard))]) C dX2_rides_23 (q := 3) rfl (nlt rfl) rfl ?_
        refine z_goto (tgt := 2) C dX2_rides_26 (by decide) ?_
        refine z_lv (lv' := [(0, .ref a0), (1, .int (zI (j : Int))), (2, .int (zI yard)), (3, .int (zI ((i : Int) + 1)))]) [1, 2, 3, 0] rfl ?_
        rw [show dy + (i : Int) + 1 = dy + ((i + 1 : Nat) : Int) by omega]
        exact ih_2 _ (by omega) (f - 1) (i + 1) (va_up at1 j (stepZ (kd j) (fg j) (hm j) (at1 j) oa (lg1 j) yard)) (dayL kd fg hm (va_up at1 j (stepZ (kd j) (fg j) (hm j) (at1 j) oa (lg1 j) yard)) oa n lg1) ((hL1.at hst).day) (by rw [show (va_up at1 j (stepZ (kd j) (fg j) (hm j) (at1 j) oa (lg1 j) yard)) j = stepZ (kd j) (fg j) (hm j) (at1 j) oa (lg1 j) yard from if_pos rfl]; omega) (by omega) (by rw [hrel, show f = (f - 1) + 1 by omega, rideF_s c_9]; rw [show f - 1 + 1 - 1 = f - 1 by omega]; exact Prod.ext (by show _ + 1 + i = _ + (i + 1); omega) rfl) rfl
  refine z_lv (lv' := [(0, .ref a0), (1, .int (zI (j : Int))), (2, .int (zI yard)), (3, .int (zI 0))]) [1, 2, 3, 0] rfl ?_
  rw [show zI dy = zI (dy + ((0 : Nat) : Int)) from congrArg zI (by omega)]
  exact L_2 _ 20 0 at_ lg (hL) (by omega) (rfl) (rfl) rfl

set_option maxHeartbeats 4000000 in
theorem ct_X2_allLonging (l : Launch) (G : ZG) (a0 : Nat) (a1 : Nat) (a2 : Nat) (a3 : Nat) (a4 : Nat) (lg : Nat → Int) (n : Nat) (oa : Int) (dy : Int) (hn7 : n ≤ 7) : CT l yX2_allLonging cX2_allLonging 3 (some .int) { frames := 0, cells := 0, slots := 0, locals := 0 } G [.ref a0] [(a0, .inr (8, [.ref a1, .ref a2, .ref a3, .ref a4, .int (zI (n : Int)), .int (zI oa), .int (zI dy)])), (a4, AI G 7 lg)] (Qi G [(a0, .inr (8, [.ref a1, .ref a2, .ref a3, .ref a4, .int (zI (n : Int)), .int (zI oa), .int (zI dy)])), (a4, AI G 7 lg)] (fun (r : Int32) (u : Unit) => r = zI (sumL lg n)) (fun u => [(a0, .inr (8, [.ref a1, .ref a2, .ref a3, .ref a4, .int (zI (n : Int)), .int (zI oa), .int (zI dy)])), (a4, AI G 7 lg)])) := by
  refine z_met (by decide) (Nat.le_of_ble_eq_true rfl) ?_
  intro X A hl0 hA C hQ hin
  subst hl0
  show Z X _ G 0 0 _ 0 [(0, .ref a0)] []
  refine y_iconst C dX2_allLonging_0 ?_
  refine z_istore_n (lv' := [(1, .int (zI 0)), (0, .ref a0)]) C dX2_allLonging_1 rfl (nlt rfl) rfl ?_
  refine y_iconst C dX2_allLonging_2 ?_
  refine z_istore_n (lv' := [(2, .int (zI 0)), (1, .int (zI 0)), (0, .ref a0)]) C dX2_allLonging_3 rfl (nlt rfl) rfl ?_
  have L_4 : ∀ (t : Nat) (i : Nat), (i ≤ n) → n - i = t → Z X (cX2_allLonging, 3, yX2_allLonging.cls, (some .int), { frames := 0, cells := 0, slots := 0, locals := 0 }, A) G 0 0 [(a0, .inr (8, [.ref a1, .ref a2, .ref a3, .ref a4, .int (zI (n : Int)), .int (zI oa), .int (zI dy)])), (a4, AI G 7 lg)] 4 [(0, .ref a0), (1, .int (zI (sumL lg i))), (2, .int (zI (i : Int)))] [] := by
    intro t
    induction t using Nat.strongRecOn with
    | _ t ih_4 =>
      intro i hi ht_4
      refine z_iload_n C dX2_allLonging_4 rfl 2 rfl ?_
      refine z_aload_n C dX2_allLonging_5 rfl 0 rfl ?_
      refine z_get (q := 0) (kf := 4) (v := .int (zI (n : Int))) C rfl rfl in_X2 (by decide) q845 (Or.inl rfl) rfl dX2_allLonging_6 ?_
      refine y_icmp_ge (tgt := 27) C (by omega) (by omega) dX2_allLonging_9 (by decide) (fun c_9 => ?_) (fun c_9 => ?_)
      · skip
        refine z_iload_n C dX2_allLonging_27 rfl 1 rfl ?_
        rw [show (i : Nat) = n by omega]
        exact z_iret C hA hQ rfl (Nat.le_of_ble_eq_true rfl) (Nat.le_of_ble_eq_true rfl) (()) (rfl) (sb_e [0, 1] rfl rfl) dX2_allLonging_28
      · skip
        refine z_iload_n C dX2_allLonging_12 rfl 1 rfl ?_
        refine z_aload_n C dX2_allLonging_13 rfl 0 rfl ?_
        refine z_get (q := 0) (kf := 3) (v := .ref a4) C rfl rfl in_X2 (by decide) q843 (Or.inl rfl) rfl dX2_allLonging_14 ?_
        refine z_iload_n C dX2_allLonging_17 rfl 2 rfl ?_
        refine y_iald (q := 1) (t0 := 0) (v := lg i) C rfl rfl (by omega) (by decide) rfl dX2_allLonging_18 ?_
        refine y_iadd C dX2_allLonging_19 ?_
        refine z_istore_n (lv' := [(1, .int (zI ((sumL lg i) + (lg i)))), (0, .ref a0), (2, .int (zI (i : Int)))]) C dX2_allLonging_20 rfl (nlt rfl) rfl ?_
        refine y_iinc (lv' := [(2, .int (zI ((i : Int) + 1))), (1, .int (zI ((sumL lg i) + (lg i)))), (0, .ref a0)]) C dX2_allLonging_21 (q := 2) rfl (nlt rfl) rfl ?_
        refine z_goto (tgt := 4) C dX2_allLonging_24 (by decide) ?_
        refine z_lv (lv' := [(0, .ref a0), (1, .int (zI ((sumL lg i) + (lg i)))), (2, .int (zI ((i : Int) + 1)))]) [2, 1, 0] rfl ?_
        rw [show sumL lg i + lg i = sumL lg (i + 1) from rfl]
        exact ih_4 _ (by omega) (i + 1) (by first | assumption | omega) rfl
  refine z_lv (lv' := [(0, .ref a0), (1, .int (zI 0)), (2, .int (zI 0))]) [2, 1, 0] rfl ?_
  exact L_4 _ 0 (by first | assumption | omega) rfl

set_option maxHeartbeats 4000000 in
theorem ct_X2_manyAtGoals (l : Launch) (G : ZG) (a0 : Nat) (a1 : Nat) (a2 : Nat) (a3 : Nat) (a4 : Nat) (r : Nat → Option Nat) (hm : Nat → Int) (at_ : Nat → Int) (lg : Nat → Int) (n : Nat) (oa : Int) (dy : Int) (LP : List Nat) (hk : Nat → Nat) (hf : Nat → Int) (kd : Nat → Nat) (fg : Nat → Int) (hH : HR LP hk hf r n kd fg) (hL : LK n kd fg hm at_ lg oa) : CT l yX2_manyAtGoals cX2_manyAtGoals 3 (some .int) { frames := 5, cells := 0, slots := 0, locals := 100 } G [.ref a0] ([(a0, .inr (8, [.ref a1, .ref a2, .ref a3, .ref a4, .int (zI (n : Int)), .int (zI oa), .int (zI dy)])), (a1, AQ G 4 7 r), (a2, AI G 7 hm), (a3, AI G 7 at_), (a4, AI G 7 lg)] ++ PL LP hk hf) (Qi G ([(a0, .inr (8, [.ref a1, .ref a2, .ref a3, .ref a4, .int (zI (n : Int)), .int (zI oa), .int (zI dy)])), (a1, AQ G 4 7 r), (a2, AI G 7 hm), (a3, AI G 7 at_), (a4, AI G 7 lg)] ++ PL LP hk hf) (fun (r : Int32) (u : Unit) => r = zI (manyL kd hm at_ oa n)) (fun u => ([(a0, .inr (8, [.ref a1, .ref a2, .ref a3, .ref a4, .int (zI (n : Int)), .int (zI oa), .int (zI dy)])), (a1, AQ G 4 7 r), (a2, AI G 7 hm), (a3, AI G 7 at_), (a4, AI G 7 lg)] ++ PL LP hk hf))) := by
  refine z_met (by decide) (Nat.le_of_ble_eq_true rfl) ?_
  intro X A hl0 hA C hQ hin
  subst hl0
  obtain ⟨hn7, hoa, hLj⟩ := id hL
  show Z X _ G 0 0 _ 0 [(0, .ref a0)] []
  refine y_iconst C dX2_manyAtGoals_0 ?_
  refine z_istore_n (lv' := [(1, .int (zI 0)), (0, .ref a0)]) C dX2_manyAtGoals_1 rfl (nlt rfl) rfl ?_
  refine y_iconst C dX2_manyAtGoals_2 ?_
  refine z_istore_n (lv' := [(2, .int (zI 0)), (1, .int (zI 0)), (0, .ref a0)]) C dX2_manyAtGoals_3 rfl (nlt rfl) rfl ?_
  have L_4 : ∀ (t : Nat) (i : Nat), (i ≤ n) → n - i = t → Z X (cX2_manyAtGoals, 3, yX2_manyAtGoals.cls, (some .int), { frames := 5, cells := 0, slots := 0, locals := 100 }, A) G 0 0 ([(a0, .inr (8, [.ref a1, .ref a2, .ref a3, .ref a4, .int (zI (n : Int)), .int (zI oa), .int (zI dy)])), (a1, AQ G 4 7 r), (a2, AI G 7 hm), (a3, AI G 7 at_), (a4, AI G 7 lg)] ++ PL LP hk hf) 4 [(0, .ref a0), (1, .int (zI (manyL kd hm at_ oa i))), (2, .int (zI (i : Int)))] [] := by
    intro t
    induction t using Nat.strongRecOn with
    | _ t ih_4 =>
      intro i hi ht_4
      refine z_iload_n C dX2_manyAtGoals_4 rfl 2 rfl ?_
      refine z_aload_n C dX2_manyAtGoals_5 rfl 0 rfl ?_
      refine z_get (q := 0) (kf := 4) (v := .int (zI (n : Int))) C rfl rfl in_X2 (by decide) q845 (Or.inl rfl) rfl dX2_manyAtGoals_6 ?_
      refine y_icmp_ge (tgt := 34) C (by omega) (by omega) dX2_manyAtGoals_9 (by decide) (fun c_9 => ?_) (fun c_9 => ?_)
      · skip
        refine z_iload_n C dX2_manyAtGoals_34 rfl 1 rfl ?_
        rw [show (i : Nat) = n by omega]
        exact z_iret C hA hQ rfl (Nat.le_of_ble_eq_true rfl) (Nat.le_of_ble_eq_true rfl) (()) (rfl) (sb_p [0, 1, 2, 3, 4] rfl rfl) dX2_manyAtGoals_35
      · skip
        refine z_iload_n C dX2_manyAtGoals_12 rfl 1 rfl ?_
        refine z_aload_n C dX2_manyAtGoals_13 rfl 0 rfl ?_
        refine z_iload_n C dX2_manyAtGoals_14 rfl 2 rfl ?_
        refine z_i C (z_runV (q := 0) (As := [.int (zI (i : Int))]) (rest := [.int (zI (manyL kd hm at_ oa i))]) C (ct_X2_isAtGoal (zl X) G a0 a1 a2 a3 a4 r hm at_ lg n oa dy LP hk hf kd fg i (by first | assumption | omega) (by first | assumption | omega) (by omega)) (lw_V q500 q501 q502 q59 q503) rfl rfl (sb_p [0, 1, 2, 3, 4] rfl rfl) (na := 1) (by decide +kernel) rfl (zrm rfl rfl (rfl) (rfl)) rfl (Nat.le_of_ble_eq_true rfl) dX2_manyAtGoals_15) (fun u => jn_ro (sb_p [0, 1, 2, 3, 4] rfl rfl)) (fun r_15 u hp_15 => ?_)
        have hp_15 : r_15 = zI (bI (at_ i = goalZ (kd i) (hm i) (at_ i) oa)) := hp_15
        subst hp_15
        refine y_beq (tgt := 25) C dX2_manyAtGoals_18 (by decide) (fun c_18 => ?_) (fun c_18 => ?_)
        · skip
          refine y_iconst C dX2_manyAtGoals_25 ?_
          refine y_iadd C dX2_manyAtGoals_26 ?_
          refine z_istore_n (lv' := [(1, .int (zI ((manyL kd hm at_ oa i) + 0))), (0, .ref a0), (2, .int (zI (i : Int)))]) C dX2_manyAtGoals_27 rfl (nlt rfl) rfl ?_
          refine y_iinc (lv' := [(2, .int (zI ((i : Int) + 1))), (1, .int (zI ((manyL kd hm at_ oa i) + 0))), (0, .ref a0)]) C dX2_manyAtGoals_28 (q := 2) rfl (nlt rfl) rfl ?_
          refine z_goto (tgt := 4) C dX2_manyAtGoals_31 (by decide) ?_
          refine z_lv (lv' := [(0, .ref a0), (1, .int (zI ((manyL kd hm at_ oa i) + 0))), (2, .int (zI ((i : Int) + 1)))]) [2, 1, 0] rfl ?_
          rw [show manyL kd hm at_ oa i + 0 = manyL kd hm at_ oa (i + 1) from by show _ = manyL kd hm at_ oa i + bI _; rw [bI_f c_18]]
          exact ih_4 _ (by omega) (i + 1) (by first | assumption | omega) rfl
        · skip
          refine y_iconst C dX2_manyAtGoals_21 ?_
          refine z_goto (tgt := 26) C dX2_manyAtGoals_22 (by decide) ?_
          refine y_iadd C dX2_manyAtGoals_26 ?_
          refine z_istore_n (lv' := [(1, .int (zI ((manyL kd hm at_ oa i) + 1))), (0, .ref a0), (2, .int (zI (i : Int)))]) C dX2_manyAtGoals_27 rfl (nlt rfl) rfl ?_
          refine y_iinc (lv' := [(2, .int (zI ((i : Int) + 1))), (1, .int (zI ((manyL kd hm at_ oa i) + 1))), (0, .ref a0)]) C dX2_manyAtGoals_28 (q := 2) rfl (nlt rfl) rfl ?_
          refine z_goto (tgt := 4) C dX2_manyAtGoals_31 (by decide) ?_
          refine z_lv (lv' := [(0, .ref a0), (1, .int (zI ((manyL kd hm at_ oa i) + 1))), (2, .int (zI ((i : Int) + 1)))]) [2, 1, 0] rfl ?_
          rw [show manyL kd hm at_ oa i + 1 = manyL kd hm at_ oa (i + 1) from by show _ = manyL kd hm at_ oa i + bI _; rw [bI_t c_18]]
          exact ih_4 _ (by omega) (i + 1) (by first | assumption | omega) rfl
  refine z_lv (lv' := [(0, .ref a0), (1, .int (zI 0)), (2, .int (zI 0))]) [2, 1, 0] rfl ?_
  exact L_4 _ 0 (by first | assumption | omega) rfl

set_option maxHeartbeats 4000000 in
theorem ct_X2_copies (l : Launch) (G : ZG) (a : Nat) (b : Nat) (f : Nat → Int) (g : Nat → Int)  : CT l yX2_copies cX2_copies 2 none { frames := 1, cells := 0, slots := 0, locals := 18 } G [.ref a, .ref b] [(a, AI G 7 f), (b, AI G 7 g)] (Qv G [(a, AI G 7 f), (b, AI G 7 g)] (fun (u : Unit) => True) (fun u => [(a, AI G 7 f), (b, AI G 7 f)])) := by
  refine z_met (by decide) (Nat.le_of_ble_eq_true rfl) ?_
  intro X A hl0 hA C hQ hin
  subst hl0
  show Z X _ G 0 0 _ 0 [(0, .ref a), (1, .ref b)] []
  refine z_aload_n C dX2_copies_0 rfl 0 rfl ?_
  refine y_iconst C dX2_copies_1 ?_
  refine z_aload_n C dX2_copies_2 rfl 1 rfl ?_
  refine y_iconst C dX2_copies_3 ?_
  refine y_bipush C dX2_copies_4 (by decide) ?_
  refine y_copyI (q0 := 0) (q1 := 1) (t0 := 0) (ws' := [(a, AI G 7 f), (b, AI G 7 f)]) C q289 rfl rfl rfl (by rfl) (by decide) (Nat.le_of_ble_eq_true rfl) (Nat.le_of_ble_eq_true rfl) rfl dX2_copies_6 ?_
  exact z_vret C hA hQ rfl (Nat.le_of_ble_eq_true rfl) (Nat.le_of_ble_eq_true rfl) (()) (trivial) (sb_e [0, 1] rfl rfl) dX2_copies_9

set_option maxHeartbeats 4000000 in
theorem ct_X2_takes (l : Launch) (G : ZG) (a0 : Nat) (a1 : Nat) (a2 : Nat) (a3 : Nat) (a4 : Nat) (b0 : Nat) (b1 : Nat) (b2 : Nat) (b3 : Nat) (b4 : Nat) (r2 : Nat → Option Nat) (hm2 : Nat → Int) (at2 : Nat → Int) (lg2 : Nat → Int) (n2 : Nat) (oa2 : Int) (dy2 : Int) (r : Nat → Option Nat) (hm : Nat → Int) (at_ : Nat → Int) (lg : Nat → Int) (n : Nat) (oa : Int) (dy : Int) (LP : List Nat) (hk : Nat → Nat) (hf : Nat → Int) (hK : PK LP hk hf) (hV : RV LP r) : CT l yX2_takes cX2_takes 2 none { frames := 2, cells := 0, slots := 0, locals := 39 } G [.ref a0, .ref b0] ([(a0, .inr (8, [.ref a1, .ref a2, .ref a3, .ref a4, .int (zI (n2 : Int)), .int (zI oa2), .int (zI dy2)])), (a1, AQ G 4 7 r2), (a2, AI G 7 hm2), (a3, AI G 7 at2), (a4, AI G 7 lg2), (b0, .inr (8, [.ref b1, .ref b2, .ref b3, .ref b4, .int (zI (n : Int)), .int (zI oa), .int (zI dy)])), (b1, AQ G 4 7 r), (b2, AI G 7 hm), (b3, AI G 7 at_), (b4, AI G 7 lg)] ++ PL LP hk hf) (Qv G ([(a0, .inr (8, [.ref a1, .ref a2, .ref a3, .ref a4, .int (zI (n2 : Int)), .int (zI oa2), .int (zI dy2)])), (a1, AQ G 4 7 r2), (a2, AI G 7 hm2), (a3, AI G 7 at2), (a4, AI G 7 lg2), (b0, .inr (8, [.ref b1, .ref b2, .ref b3, .ref b4, .int (zI (n : Int)), .int (zI oa), .int (zI dy)])), (b1, AQ G 4 7 r), (b2, AI G 7 hm), (b3, AI G 7 at_), (b4, AI G 7 lg)] ++ PL LP hk hf) (fun (u : Unit) => True) (fun u => ([(a0, .inr (8, [.ref a1, .ref a2, .ref a3, .ref a4, .int (zI (n : Int)), .int (zI oa), .int (zI dy)])), (a1, AQ G 4 7 r), (a2, AI G 7 hm), (a3, AI G 7 at_), (a4, AI G 7 lg), (b0, .inr (8, [.ref b1, .ref b2, .ref b3, .ref b4, .int (zI (n : Int)), .int (zI oa), .int (zI dy)])), (b1, AQ G 4 7 r), (b2, AI G 7 hm), (b3, AI G 7 at_), (b4, AI G 7 lg)] ++ PL LP hk hf))) := by
  refine z_met (by decide) (Nat.le_of_ble_eq_true rfl) ?_
  intro X A hl0 hA C hQ hin
  subst hl0
  show Z X _ G 0 0 _ 0 [(0, .ref a0), (1, .ref b0)] []
  refine z_aload_n C dX2_takes_0 rfl 1 rfl ?_
  refine z_get (q := 5) (kf := 0) (v := .ref b1) C rfl rfl in_X2 (by decide) q837 (Or.inl rfl) rfl dX2_takes_1 ?_
  refine y_iconst C dX2_takes_4 ?_
  refine z_aload_n C dX2_takes_5 rfl 0 rfl ?_
  refine z_get (q := 0) (kf := 0) (v := .ref a1) C rfl rfl in_X2 (by decide) q837 (Or.inl rfl) rfl dX2_takes_6 ?_
  refine y_iconst C dX2_takes_9 ?_
  refine y_bipush C dX2_takes_10 (by decide) ?_
  refine y_copyQ (q0 := 6) (q1 := 1) (t0 := 4) (ws' := ([(a0, .inr (8, [.ref a1, .ref a2, .ref a3, .ref a4, .int (zI (n2 : Int)), .int (zI oa2), .int (zI dy2)])), (a1, AQ G 4 7 r), (a2, AI G 7 hm2), (a3, AI G 7 at2), (a4, AI G 7 lg2), (b0, .inr (8, [.ref b1, .ref b2, .ref b3, .ref b4, .int (zI (n : Int)), .int (zI oa), .int (zI dy)])), (b1, AQ G 4 7 r), (b2, AI G 7 hm), (b3, AI G 7 at_), (b4, AI G 7 lg)] ++ PL LP hk hf)) C q289 rfl rfl rfl (by rfl) (by decide) (fun H hP i hi w hw => by obtain ⟨q9, hq9⟩ := pl_at (E := [(a0, .inr (8, [.ref a1, .ref a2, .ref a3, .ref a4, .int (zI (n2 : Int)), .int (zI oa2), .int (zI dy2)])), (a1, AQ G 4 7 r2), (a2, AI G 7 hm2), (a3, AI G 7 at2), (a4, AI G 7 lg2), (b0, .inr (8, [.ref b1, .ref b2, .ref b3, .ref b4, .int (zI (n : Int)), .int (zI oa), .int (zI dy)])), (b1, AQ G 4 7 r), (b2, AI G 7 hm), (b3, AI G 7 at_), (b4, AI G 7 lg)]) (hk := hk) (hf := hf) (hV i hi w hw); exact z_anyHorse C (hK w (hV i hi w hw)).1 hq9 hP) (Nat.le_of_ble_eq_true rfl) (Nat.le_of_ble_eq_true rfl) rfl dX2_takes_12 ?_
  refine z_aload_n C dX2_takes_15 rfl 1 rfl ?_
  refine z_get (q := 5) (kf := 1) (v := .ref b2) C rfl rfl in_X2 (by decide) q839 (Or.inl rfl) rfl dX2_takes_16 ?_
  refine z_aload_n C dX2_takes_19 rfl 0 rfl ?_
  refine z_get (q := 0) (kf := 1) (v := .ref a2) C rfl rfl in_X2 (by decide) q839 (Or.inl rfl) rfl dX2_takes_20 ?_
  refine z_v (ws' := fun u => ([(a0, .inr (8, [.ref a1, .ref a2, .ref a3, .ref a4, .int (zI (n2 : Int)), .int (zI oa2), .int (zI dy2)])), (a1, AQ G 4 7 r), (a2, AI G 7 hm), (a3, AI G 7 at2), (a4, AI G 7 lg2), (b0, .inr (8, [.ref b1, .ref b2, .ref b3, .ref b4, .int (zI (n : Int)), .int (zI oa), .int (zI dy)])), (b1, AQ G 4 7 r), (b2, AI G 7 hm), (b3, AI G 7 at_), (b4, AI G 7 lg)] ++ PL LP hk hf)) C (z_runS (As := [.ref b2, .ref a2]) (rest := []) C (ct_X2_copies (zl X) G b2 a2 hm hm2 ) (lw_S q292 q293 q59 q294) (sb_e [7, 2] rfl rfl) (na := 2) (by decide +kernel) rfl (zrm rfl rfl (rfl) (rfl)) rfl (Nat.le_of_ble_eq_true rfl) dX2_takes_23) (fun u => jn_q (Lr := [(a0, .inr (8, [.ref a1, .ref a2, .ref a3, .ref a4, .int (zI (n2 : Int)), .int (zI oa2), .int (zI dy2)])), (a1, AQ G 4 7 r), (a3, AI G 7 at2), (a4, AI G 7 lg2), (b0, .inr (8, [.ref b1, .ref b2, .ref b3, .ref b4, .int (zI (n : Int)), .int (zI oa), .int (zI dy)])), (b1, AQ G 4 7 r), (b3, AI G 7 at_), (b4, AI G 7 lg)]) [7, 2] [0, 1, 3, 4, 5, 6, 8, 9] [0, 1, 9, 2, 3, 4, 5, 8, 6, 7] rfl rfl rfl (by decide) rfl rfl) (fun u hp_23 => ?_)
  refine z_aload_n C dX2_takes_26 rfl 1 rfl ?_
  refine z_get (q := 5) (kf := 2) (v := .ref b3) C rfl rfl in_X2 (by decide) q841 (Or.inl rfl) rfl dX2_takes_27 ?_
  refine z_aload_n C dX2_takes_30 rfl 0 rfl ?_
  refine z_get (q := 0) (kf := 2) (v := .ref a3) C rfl rfl in_X2 (by decide) q841 (Or.inl rfl) rfl dX2_takes_31 ?_
  refine z_v (ws' := fun u => ([(a0, .inr (8, [.ref a1, .ref a2, .ref a3, .ref a4, .int (zI (n2 : Int)), .int (zI oa2), .int (zI dy2)])), (a1, AQ G 4 7 r), (a2, AI G 7 hm), (a3, AI G 7 at_), (a4, AI G 7 lg2), (b0, .inr (8, [.ref b1, .ref b2, .ref b3, .ref b4, .int (zI (n : Int)), .int (zI oa), .int (zI dy)])), (b1, AQ G 4 7 r), (b2, AI G 7 hm), (b3, AI G 7 at_), (b4, AI G 7 lg)] ++ PL LP hk hf)) C (z_runS (As := [.ref b3, .ref a3]) (rest := []) C (ct_X2_copies (zl X) G b3 a3 at_ at2 ) (lw_S q292 q293 q59 q294) (sb_e [8, 3] rfl rfl) (na := 2) (by decide +kernel) rfl (zrm rfl rfl (rfl) (rfl)) rfl (Nat.le_of_ble_eq_true rfl) dX2_takes_34) (fun u => jn_q (Lr := [(a0, .inr (8, [.ref a1, .ref a2, .ref a3, .ref a4, .int (zI (n2 : Int)), .int (zI oa2), .int (zI dy2)])), (a1, AQ G 4 7 r), (a2, AI G 7 hm), (a4, AI G 7 lg2), (b0, .inr (8, [.ref b1, .ref b2, .ref b3, .ref b4, .int (zI (n : Int)), .int (zI oa), .int (zI dy)])), (b1, AQ G 4 7 r), (b2, AI G 7 hm), (b4, AI G 7 lg)]) [8, 3] [0, 1, 2, 4, 5, 6, 7, 9] [0, 1, 2, 9, 3, 4, 5, 6, 8, 7] rfl rfl rfl (by decide) rfl rfl) (fun u hp_34 => ?_)
  refine z_aload_n C dX2_takes_37 rfl 1 rfl ?_
  refine z_get (q := 5) (kf := 3) (v := .ref b4) C rfl rfl in_X2 (by decide) q843 (Or.inl rfl) rfl dX2_takes_38 ?_
  refine z_aload_n C dX2_takes_41 rfl 0 rfl ?_
  refine z_get (q := 0) (kf := 3) (v := .ref a4) C rfl rfl in_X2 (by decide) q843 (Or.inl rfl) rfl dX2_takes_42 ?_
  refine z_v (ws' := fun u => ([(a0, .inr (8, [.ref a1, .ref a2, .ref a3, .ref a4, .int (zI (n2 : Int)), .int (zI oa2), .int (zI dy2)])), (a1, AQ G 4 7 r), (a2, AI G 7 hm), (a3, AI G 7 at_), (a4, AI G 7 lg), (b0, .inr (8, [.ref b1, .ref b2, .ref b3, .ref b4, .int (zI (n : Int)), .int (zI oa), .int (zI dy)])), (b1, AQ G 4 7 r), (b2, AI G 7 hm), (b3, AI G 7 at_), (b4, AI G 7 lg)] ++ PL LP hk hf)) C (z_runS (As := [.ref b4, .ref a4]) (rest := []) C (ct_X2_copies (zl X) G b4 a4 lg lg2 ) (lw_S q292 q293 q59 q294) (sb_e [9, 4] rfl rfl) (na := 2) (by decide +kernel) rfl (zrm rfl rfl (rfl) (rfl)) rfl (Nat.le_of_ble_eq_true rfl) dX2_takes_45) (fun u => jn_q (Lr := [(a0, .inr (8, [.ref a1, .ref a2, .ref a3, .ref a4, .int (zI (n2 : Int)), .int (zI oa2), .int (zI dy2)])), (a1, AQ G 4 7 r), (a2, AI G 7 hm), (a3, AI G 7 at_), (b0, .inr (8, [.ref b1, .ref b2, .ref b3, .ref b4, .int (zI (n : Int)), .int (zI oa), .int (zI dy)])), (b1, AQ G 4 7 r), (b2, AI G 7 hm), (b3, AI G 7 at_)]) [9, 4] [0, 1, 2, 3, 5, 6, 7, 8] [0, 1, 2, 3, 9, 4, 5, 6, 7, 8] rfl rfl rfl (by decide) rfl rfl) (fun u hp_45 => ?_)
  refine z_aload_n C dX2_takes_48 rfl 0 rfl ?_
  refine z_aload_n C dX2_takes_49 rfl 1 rfl ?_
  refine z_get (q := 5) (kf := 4) (v := .int (zI (n : Int))) C rfl rfl in_X2 (by decide) q845 (Or.inl rfl) rfl dX2_takes_50 ?_
  refine z_put (q := 0) (kf := 4) (ws' := ([(a0, .inr (8, [.ref a1, .ref a2, .ref a3, .ref a4, .int (zI (n : Int)), .int (zI oa2), .int (zI dy2)])), (a1, AQ G 4 7 r), (a2, AI G 7 hm), (a3, AI G 7 at_), (a4, AI G 7 lg), (b0, .inr (8, [.ref b1, .ref b2, .ref b3, .ref b4, .int (zI (n : Int)), .int (zI oa), .int (zI dy)])), (b1, AQ G 4 7 r), (b2, AI G 7 hm), (b3, AI G 7 at_), (b4, AI G 7 lg)] ++ PL LP hk hf)) C rfl rfl in_X2 tyX2_ok nmX2 (by decide) q845 rfl rfl rfl rfl rfl (nlt rfl) rfl dX2_takes_53 ?_
  refine z_aload_n C dX2_takes_56 rfl 0 rfl ?_
  refine z_aload_n C dX2_takes_57 rfl 1 rfl ?_
  refine z_get (q := 5) (kf := 5) (v := .int (zI oa)) C rfl rfl in_X2 (by decide) q847 (Or.inl rfl) rfl dX2_takes_58 ?_
  refine z_put (q := 0) (kf := 5) (ws' := ([(a0, .inr (8, [.ref a1, .ref a2, .ref a3, .ref a4, .int (zI (n : Int)), .int (zI oa), .int (zI dy2)])), (a1, AQ G 4 7 r), (a2, AI G 7 hm), (a3, AI G 7 at_), (a4, AI G 7 lg), (b0, .inr (8, [.ref b1, .ref b2, .ref b3, .ref b4, .int (zI (n : Int)), .int (zI oa), .int (zI dy)])), (b1, AQ G 4 7 r), (b2, AI G 7 hm), (b3, AI G 7 at_), (b4, AI G 7 lg)] ++ PL LP hk hf)) C rfl rfl in_X2 tyX2_ok nmX2 (by decide) q847 rfl rfl rfl rfl rfl (nlt rfl) rfl dX2_takes_61 ?_
  refine z_aload_n C dX2_takes_64 rfl 0 rfl ?_
  refine z_aload_n C dX2_takes_65 rfl 1 rfl ?_
  refine z_get (q := 5) (kf := 6) (v := .int (zI dy)) C rfl rfl in_X2 (by decide) q849 (Or.inl rfl) rfl dX2_takes_66 ?_
  refine z_put (q := 0) (kf := 6) (ws' := ([(a0, .inr (8, [.ref a1, .ref a2, .ref a3, .ref a4, .int (zI (n : Int)), .int (zI oa), .int (zI dy)])), (a1, AQ G 4 7 r), (a2, AI G 7 hm), (a3, AI G 7 at_), (a4, AI G 7 lg), (b0, .inr (8, [.ref b1, .ref b2, .ref b3, .ref b4, .int (zI (n : Int)), .int (zI oa), .int (zI dy)])), (b1, AQ G 4 7 r), (b2, AI G 7 hm), (b3, AI G 7 at_), (b4, AI G 7 lg)] ++ PL LP hk hf)) C rfl rfl in_X2 tyX2_ok nmX2 (by decide) q849 rfl rfl rfl rfl rfl (nlt rfl) rfl dX2_takes_69 ?_
  exact z_vret C hA hQ rfl (Nat.le_of_ble_eq_true rfl) (Nat.le_of_ble_eq_true rfl) (()) (trivial) (sb_p [0, 1, 2, 3, 4, 5, 6, 7, 8, 9] rfl rfl) dX2_takes_72

set_option maxHeartbeats 4000000 in
theorem ct_X2_comes (l : Launch) (G : ZG) (a0 : Nat) (a1 : Nat) (a2 : Nat) (a3 : Nat) (a4 : Nat) (r : Nat → Option Nat) (hm : Nat → Int) (at_ : Nat → Int) (lg : Nat → Int) (n : Nat) (oa : Int) (dy : Int) (LP : List Nat) (hk : Nat → Nat) (hf : Nat → Int) (y : Nat) (wh : Int) (pl : Int) (hK : PK LP hk hf) (hy : y ∈ LP) (hn : n < 7) : CT l yX2_comes cX2_comes 4 (some .int) { frames := 0, cells := 0, slots := 0, locals := 0 } G [.ref a0, .ref y, .int (zI wh), .int (zI pl)] ([(a0, .inr (8, [.ref a1, .ref a2, .ref a3, .ref a4, .int (zI (n : Int)), .int (zI oa), .int (zI dy)])), (a1, AQ G 4 7 r), (a2, AI G 7 hm), (a3, AI G 7 at_), (a4, AI G 7 lg)] ++ PL LP hk hf) (Qi G ([(a0, .inr (8, [.ref a1, .ref a2, .ref a3, .ref a4, .int (zI (n : Int)), .int (zI oa), .int (zI dy)])), (a1, AQ G 4 7 r), (a2, AI G 7 hm), (a3, AI G 7 at_), (a4, AI G 7 lg)] ++ PL LP hk hf) (fun (r : Int32) (u : Unit) => r = zI ((n : Nat) : Int)) (fun u => ([(a0, .inr (8, [.ref a1, .ref a2, .ref a3, .ref a4, .int (zI ((n + 1 : Nat) : Int)), .int (zI oa), .int (zI dy)])), (a1, AQ G 4 7 (va_up r n (some y))), (a2, AI G 7 (va_up hm n wh)), (a3, AI G 7 (va_up at_ n pl)), (a4, AI G 7 (va_up lg n 0))] ++ PL LP hk hf))) := by
  refine z_met (by decide) (Nat.le_of_ble_eq_true rfl) ?_
  intro X A hl0 hA C hQ hin
  subst hl0
  show Z X _ G 0 0 _ 0 [(0, .ref a0), (1, .ref y), (2, .int (zI wh)), (3, .int (zI pl))] []
  refine z_aload_n C dX2_comes_0 rfl 0 rfl ?_
  refine z_get (q := 0) (kf := 0) (v := .ref a1) C rfl rfl in_X2 (by decide) q837 (Or.inl rfl) rfl dX2_comes_1 ?_
  refine z_aload_n C dX2_comes_4 rfl 0 rfl ?_
  refine z_get (q := 0) (kf := 4) (v := .int (zI (n : Int))) C rfl rfl in_X2 (by decide) q845 (Or.inl rfl) rfl dX2_comes_5 ?_
  refine z_aload_n C dX2_comes_8 rfl 1 rfl ?_
  obtain ⟨q_9, hq_9⟩ := pl_at (E := [(a0, .inr (8, [.ref a1, .ref a2, .ref a3, .ref a4, .int (zI (n : Int)), .int (zI oa), .int (zI dy)])), (a1, AQ G 4 7 r), (a2, AI G 7 hm), (a3, AI G 7 at_), (a4, AI G 7 lg)]) (hk := hk) (hf := hf) hy
  refine y_astH (q := 1) (t0 := 4) (g := va_up r n (some y)) (ws' := ([(a0, .inr (8, [.ref a1, .ref a2, .ref a3, .ref a4, .int (zI (n : Int)), .int (zI oa), .int (zI dy)])), (a1, AQ G 4 7 (va_up r n (some y))), (a2, AI G 7 hm), (a3, AI G 7 at_), (a4, AI G 7 lg)] ++ PL LP hk hf)) C rfl rfl (hK y hy).1 hq_9 (by omega) (by decide) rfl rfl dX2_comes_9 ?_
  refine z_aload_n C dX2_comes_10 rfl 0 rfl ?_
  refine z_get (q := 0) (kf := 1) (v := .ref a2) C rfl rfl in_X2 (by decide) q839 (Or.inl rfl) rfl dX2_comes_11 ?_
  refine z_aload_n C dX2_comes_14 rfl 0 rfl ?_
  refine z_get (q := 0) (kf := 4) (v := .int (zI (n : Int))) C rfl rfl in_X2 (by decide) q845 (Or.inl rfl) rfl dX2_comes_15 ?_
  refine z_iload_n C dX2_comes_18 rfl 2 rfl ?_
  refine y_iast (q := 2) (t0 := 0) (g := va_up hm n wh) (ws' := ([(a0, .inr (8, [.ref a1, .ref a2, .ref a3, .ref a4, .int (zI (n : Int)), .int (zI oa), .int (zI dy)])), (a1, AQ G 4 7 (va_up r n (some y))), (a2, AI G 7 (va_up hm n wh)), (a3, AI G 7 at_), (a4, AI G 7 lg)] ++ PL LP hk hf)) C rfl rfl (by omega) (by decide) rfl rfl dX2_comes_19 ?_
  refine z_aload_n C dX2_comes_20 rfl 0 rfl ?_
  refine z_get (q := 0) (kf := 2) (v := .ref a3) C rfl rfl in_X2 (by decide) q841 (Or.inl rfl) rfl dX2_comes_21 ?_
  refine z_aload_n C dX2_comes_24 rfl 0 rfl ?_
  refine z_get (q := 0) (kf := 4) (v := .int (zI (n : Int))) C rfl rfl in_X2 (by decide) q845 (Or.inl rfl) rfl dX2_comes_25 ?_
  refine z_iload_n C dX2_comes_28 rfl 3 rfl ?_
  refine y_iast (q := 3) (t0 := 0) (g := va_up at_ n pl) (ws' := ([(a0, .inr (8, [.ref a1, .ref a2, .ref a3, .ref a4, .int (zI (n : Int)), .int (zI oa), .int (zI dy)])), (a1, AQ G 4 7 (va_up r n (some y))), (a2, AI G 7 (va_up hm n wh)), (a3, AI G 7 (va_up at_ n pl)), (a4, AI G 7 lg)] ++ PL LP hk hf)) C rfl rfl (by omega) (by decide) rfl rfl dX2_comes_29 ?_
  refine z_aload_n C dX2_comes_30 rfl 0 rfl ?_
  refine z_get (q := 0) (kf := 3) (v := .ref a4) C rfl rfl in_X2 (by decide) q843 (Or.inl rfl) rfl dX2_comes_31 ?_
  refine z_aload_n C dX2_comes_34 rfl 0 rfl ?_
  refine z_get (q := 0) (kf := 4) (v := .int (zI (n : Int))) C rfl rfl in_X2 (by decide) q845 (Or.inl rfl) rfl dX2_comes_35 ?_
  refine y_iconst C dX2_comes_38 ?_
  refine y_iast (q := 4) (t0 := 0) (g := va_up lg n 0) (ws' := ([(a0, .inr (8, [.ref a1, .ref a2, .ref a3, .ref a4, .int (zI (n : Int)), .int (zI oa), .int (zI dy)])), (a1, AQ G 4 7 (va_up r n (some y))), (a2, AI G 7 (va_up hm n wh)), (a3, AI G 7 (va_up at_ n pl)), (a4, AI G 7 (va_up lg n 0))] ++ PL LP hk hf)) C rfl rfl (by omega) (by decide) rfl rfl dX2_comes_39 ?_
  refine z_aload_n C dX2_comes_40 rfl 0 rfl ?_
  refine z_dup C dX2_comes_41 rfl ?_
  refine z_get (q := 0) (kf := 4) (v := .int (zI (n : Int))) C rfl rfl in_X2 (by decide) q845 (Or.inl rfl) rfl dX2_comes_42 ?_
  refine y_iconst C dX2_comes_45 ?_
  refine y_iadd C dX2_comes_46 ?_
  rw [show (n : Int) + 1 = ((n + 1 : Nat) : Int) by omega]
  refine z_put (q := 0) (kf := 4) (ws' := ([(a0, .inr (8, [.ref a1, .ref a2, .ref a3, .ref a4, .int (zI ((n + 1 : Nat) : Int)), .int (zI oa), .int (zI dy)])), (a1, AQ G 4 7 (va_up r n (some y))), (a2, AI G 7 (va_up hm n wh)), (a3, AI G 7 (va_up at_ n pl)), (a4, AI G 7 (va_up lg n 0))] ++ PL LP hk hf)) C rfl rfl in_X2 tyX2_ok nmX2 (by decide) q845 rfl rfl rfl rfl rfl (nlt rfl) rfl dX2_comes_47 ?_
  refine z_aload_n C dX2_comes_50 rfl 0 rfl ?_
  refine z_get (q := 0) (kf := 4) (v := .int (zI ((n + 1 : Nat) : Int))) C rfl rfl in_X2 (by decide) q845 (Or.inl rfl) rfl dX2_comes_51 ?_
  refine y_iconst C dX2_comes_54 ?_
  refine y_isub C dX2_comes_55 ?_
  rw [show ((n + 1 : Nat) : Int) - 1 = (n : Int) by omega]
  exact z_iret C hA hQ rfl (Nat.le_of_ble_eq_true rfl) (Nat.le_of_ble_eq_true rfl) (()) (rfl) (sb_p [0, 1, 2, 3, 4] rfl rfl) dX2_comes_56

