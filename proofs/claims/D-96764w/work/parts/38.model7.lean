/-! THE MODEL, 7: two, lands -/
set_option maxRecDepth 100000
def hbF (T : Nat → Int) (o w t : Nat) : Int := (if T (o + w) < T (2 - o + t) then 3 else 0) + (w : Int)
set_option maxHeartbeats 4000000 in
theorem ct_X4_hasBy (l : Launch) (G : ZG) (m : Nat) (g1 : Nat) (g2 : Nat) (g3 : Nat) (g4 : Nat) (g5 : Nat) (s1 : Nat) (s2 : Nat) (s3 : Nat) (s4 : Nat) (s5 : Nat) (s6 : Nat) (t1 : Nat) (t2 : Nat) (t3 : Nat) (c0 : Nat) (c1 : Nat) (c2 : Nat) (c3 : Nat) (y0 : Nat) (y1 : Nat) (thr : Int) (rdg : Int) (plc : Int) (ibd : Int) (stm : Int) (him : Int) (pl0 : Int) (itk : Int) (chd : Int) (chf : Int) (sd : Int) (ki : Value) (kd : Nat → Nat) (fg : Nat → Int) (hm : Nat → Int) (at_ : Nat → Int) (lg : Nat → Int) (n : Nat) (oa : Int) (dy : Int) (T : Nat → Int) (o : Nat) (w : Nat) (t : Nat) (ho : o = 0 ∨ o = 2) (hw : w ≤ 1) (ht : t ≤ 1) (hT : ∀ q, q < 4 → 0 ≤ T q ∧ T q ≤ 100) : CT l yX4_hasBy cX4_hasBy 4 (some .int) { frames := 0, cells := 0, slots := 0, locals := 0 } G [.ref m, .int (zI (o : Int)), .int (zI (w : Int)), .int (zI (t : Int))] [(m, .inr (11, [.int (zI (n : Int)), .ref g1, .ref g2, .ref g3, .ref g4, .ref g5, .int (zI oa), .int (zI dy), .ref s1, .ref s2, .ref s3, .ref s4, .ref s5, .ref s6, .int (zI thr), .int (zI rdg), .int (zI plc), .int (zI ibd), .int (zI stm), .ref t1, .ref t2, .ref t3, .ref c0, .ref c1, .ref c2, .ref c3, .int (zI him), .int (zI pl0), .int (zI itk), ki, .int (zI chd), .int (zI chf), .ref y0, .int (zI sd), .ref y1])), (y0, AI G 4 T)] (Qi G [(m, .inr (11, [.int (zI (n : Int)), .ref g1, .ref g2, .ref g3, .ref g4, .ref g5, .int (zI oa), .int (zI dy), .ref s1, .ref s2, .ref s3, .ref s4, .ref s5, .ref s6, .int (zI thr), .int (zI rdg), .int (zI plc), .int (zI ibd), .int (zI stm), .ref t1, .ref t2, .ref t3, .ref c0, .ref c1, .ref c2, .ref c3, .int (zI him), .int (zI pl0), .int (zI itk), ki, .int (zI chd), .int (zI chf), .ref y0, .int (zI sd), .ref y1])), (y0, AI G 4 T)] (fun (r : Int32) (u : Unit) => r = zI (hbF T o w t)) (fun u => [(m, .inr (11, [.int (zI (n : Int)), .ref g1, .ref g2, .ref g3, .ref g4, .ref g5, .int (zI oa), .int (zI dy), .ref s1, .ref s2, .ref s3, .ref s4, .ref s5, .ref s6, .int (zI thr), .int (zI rdg), .int (zI plc), .int (zI ibd), .int (zI stm), .ref t1, .ref t2, .ref t3, .ref c0, .ref c1, .ref c2, .ref c3, .int (zI him), .int (zI pl0), .int (zI itk), ki, .int (zI chd), .int (zI chf), .ref y0, .int (zI sd), .ref y1])), (y0, AI G 4 T)])) := by
  refine z_met (by decide) (Nat.le_of_ble_eq_true rfl) ?_
  intro X A hl0 hA C hQ hin
  subst hl0
  show Z X _ G 0 0 _ 0 [(0, .ref m), (1, .int (zI (o : Int))), (2, .int (zI (w : Int))), (3, .int (zI (t : Int)))] []
  refine z_aload_n C dX4_hasBy_0 rfl 0 rfl ?_
  refine z_get (q := 0) (kf := 32) (v := .ref y0) C rfl rfl in_X4 (by decide) q1119 (Or.inl rfl) rfl dX4_hasBy_1 ?_
  refine z_iload_n C dX4_hasBy_4 rfl 1 rfl ?_
  refine z_iload_n C dX4_hasBy_5 rfl 2 rfl ?_
  refine y_iadd C dX4_hasBy_6 ?_
  refine y_iald (q := 1) (t0 := 0) (v := T (o + w)) C rfl rfl (by omega) (by decide) (by rw [show ((o : Int) + (w : Int)).toNat = o + w by omega]) dX4_hasBy_7 ?_
  refine z_aload_n C dX4_hasBy_8 rfl 0 rfl ?_
  refine z_get (q := 0) (kf := 32) (v := .ref y0) C rfl rfl in_X4 (by decide) q1119 (Or.inl rfl) rfl dX4_hasBy_9 ?_
  refine y_iconst C dX4_hasBy_12 ?_
  refine z_iload_n C dX4_hasBy_13 rfl 1 rfl ?_
  refine y_isub C dX4_hasBy_14 ?_
  refine z_iload_n C dX4_hasBy_15 rfl 3 rfl ?_
  refine y_iadd C dX4_hasBy_16 ?_
  refine y_iald (q := 1) (t0 := 0) (v := T (2 - o + t)) C rfl rfl (by omega) (by decide) (by rw [show (2 - (o : Int) + (t : Int)).toNat = 2 - o + t by omega]) dX4_hasBy_17 ?_
  have hT1 := hT (o + w) (by omega)
  have hT2 := hT (2 - o + t) (by omega)
  refine y_icmp_ge (tgt := 25) C (by omega) (by omega) dX4_hasBy_18 (by decide) (fun c_18 => ?_) (fun c_18 => ?_)
  · skip
    refine y_iconst C dX4_hasBy_25 ?_
    refine z_iload_n C dX4_hasBy_26 rfl 2 rfl ?_
    refine y_iadd C dX4_hasBy_27 ?_
    exact z_iret C hA hQ rfl (Nat.le_of_ble_eq_true rfl) (Nat.le_of_ble_eq_true rfl) (()) (congrArg zI (by unfold hbF; first | rw [if_pos (by omega)] | rw [if_neg (by omega)])) (sb_e [0, 1] rfl rfl) dX4_hasBy_28
  · skip
    refine y_iconst C dX4_hasBy_21 ?_
    refine z_goto (tgt := 26) C dX4_hasBy_22 (by decide) ?_
    refine z_iload_n C dX4_hasBy_26 rfl 2 rfl ?_
    refine y_iadd C dX4_hasBy_27 ?_
    exact z_iret C hA hQ rfl (Nat.le_of_ble_eq_true rfl) (Nat.le_of_ble_eq_true rfl) (()) (congrArg zI (by unfold hbF; first | rw [if_pos (by omega)] | rw [if_neg (by omega)])) (sb_e [0, 1] rfl rfl) dX4_hasBy_28

set_option maxHeartbeats 4000000 in
theorem ct_X4_two (l : Launch) (G : ZG) (m : Nat) (g1 : Nat) (g2 : Nat) (g3 : Nat) (g4 : Nat) (g5 : Nat) (s1 : Nat) (s2 : Nat) (s3 : Nat) (s4 : Nat) (s5 : Nat) (s6 : Nat) (t1 : Nat) (t2 : Nat) (t3 : Nat) (c0 : Nat) (c1 : Nat) (c2 : Nat) (c3 : Nat) (y0 : Nat) (y1 : Nat) (thr : Int) (rdg : Int) (plc : Int) (ibd : Int) (stm : Int) (him : Int) (pl0 : Int) (itk : Int) (chd : Int) (chf : Int) (sd : Int) (ki : Value) (kd : Nat → Nat) (fg : Nat → Int) (hm : Nat → Int) (at_ : Nat → Int) (lg : Nat → Int) (n : Nat) (oa : Int) (dy : Int) (kc : Nat → Int) (T : Nat → Int) (h : Int) (k : Int) (yard : Int) (hL : LK n kd fg hm at_ lg oa) (rh : -2147483648 ≤ h ∧ h ≤ 2147483647) (rk : -2147483648 ≤ k ∧ k ≤ 2147483647) (ryard : -2147483648 ≤ yard ∧ yard ≤ 2147483647) : CT l yX4_two cX4_two 7 (some .int) { frames := 7, cells := 0, slots := 0, locals := 165 } G [.ref m, .int (zI h), .int (zI k), .int (zI yard)] [(m, .inr (11, [.int (zI (n : Int)), .ref g1, .ref g2, .ref g3, .ref g4, .ref g5, .int (zI oa), .int (zI dy), .ref s1, .ref s2, .ref s3, .ref s4, .ref s5, .ref s6, .int (zI thr), .int (zI rdg), .int (zI plc), .int (zI ibd), .int (zI stm), .ref t1, .ref t2, .ref t3, .ref c0, .ref c1, .ref c2, .ref c3, .int (zI him), .int (zI pl0), .int (zI itk), ki, .int (zI chd), .int (zI chf), .ref y0, .int (zI sd), .ref y1])), (g1, AI G 7 (fun z_ => (kd z_ : Int))), (g2, AI G 7 fg), (g3, AI G 7 hm), (g4, AI G 7 at_), (g5, AI G 7 lg), (c0, AI G 38 kc), (y0, AI G 4 T)] (Qi G [(m, .inr (11, [.int (zI (n : Int)), .ref g1, .ref g2, .ref g3, .ref g4, .ref g5, .int (zI oa), .int (zI dy), .ref s1, .ref s2, .ref s3, .ref s4, .ref s5, .ref s6, .int (zI thr), .int (zI rdg), .int (zI plc), .int (zI ibd), .int (zI stm), .ref t1, .ref t2, .ref t3, .ref c0, .ref c1, .ref c2, .ref c3, .int (zI him), .int (zI pl0), .int (zI itk), ki, .int (zI chd), .int (zI chf), .ref y0, .int (zI sd), .ref y1])), (g1, AI G 7 (fun z_ => (kd z_ : Int))), (g2, AI G 7 fg), (g3, AI G 7 hm), (g4, AI G 7 at_), (g5, AI G 7 lg), (c0, AI G 38 kc), (y0, AI G 4 T)] (fun (r : Int32) (u : Value × Int × Int × (Nat → Int) × (Nat → Int)) => r = zI (oTwo kd fg hm at_ lg n oa h k yard)) (fun u => [(m, .inr (11, [.int (zI (n : Int)), .ref g1, .ref g2, .ref g3, .ref g4, .ref g5, .int (zI oa), .int (zI dy), .ref s1, .ref s2, .ref s3, .ref s4, .ref s5, .ref s6, .int (zI 0), .int (zI rdg), .int (zI plc), .int (zI ibd), .int (zI stm), .ref t1, .ref t2, .ref t3, .ref c0, .ref c1, .ref c2, .ref c3, .int (zI him), .int (zI u.2.1), .int (zI u.2.2.1), u.1, .int (zI chd), .int (zI chf), .ref y0, .int (zI sd), .ref y1])), (g1, AI G 7 (fun z_ => (kd z_ : Int))), (g2, AI G 7 fg), (g3, AI G 7 hm), (g4, AI G 7 at_), (g5, AI G 7 lg), (c0, AI G 38 u.2.2.2.1), (y0, AI G 4 u.2.2.2.2)])) := by
  refine z_met (by decide) (Nat.le_of_ble_eq_true rfl) ?_
  intro X A hl0 hA C hQ hin
  subst hl0
  obtain ⟨hn7, hoa, hLj⟩ := id hL
  show Z X _ G 0 0 _ 0 [(0, .ref m), (1, .int (zI h)), (2, .int (zI k)), (3, .int (zI yard))] []
  refine z_aload_n C dX4_two_0 rfl 0 rfl ?_
  refine y_iconst C dX4_two_1 ?_
  refine z_put (q := 0) (kf := 14) (ws' := [(m, .inr (11, [.int (zI (n : Int)), .ref g1, .ref g2, .ref g3, .ref g4, .ref g5, .int (zI oa), .int (zI dy), .ref s1, .ref s2, .ref s3, .ref s4, .ref s5, .ref s6, .int (zI 0), .int (zI rdg), .int (zI plc), .int (zI ibd), .int (zI stm), .ref t1, .ref t2, .ref t3, .ref c0, .ref c1, .ref c2, .ref c3, .int (zI him), .int (zI pl0), .int (zI itk), ki, .int (zI chd), .int (zI chf), .ref y0, .int (zI sd), .ref y1])), (g1, AI G 7 (fun z_ => (kd z_ : Int))), (g2, AI G 7 fg), (g3, AI G 7 hm), (g4, AI G 7 at_), (g5, AI G 7 lg), (c0, AI G 38 kc), (y0, AI G 4 T)]) C rfl rfl in_X4 tyX4_ok nmX4 (by decide) q1101 rfl rfl rfl rfl rfl (nlt rfl) rfl dX4_two_2 ?_
  refine z_aload_n C dX4_two_5 rfl 0 rfl ?_
  refine z_iload_n C dX4_two_6 rfl 1 rfl ?_
  refine z_i C (z_runV (q := 0) (As := [.int (zI h)]) (rest := []) C (ct_X4_isHorse (zl X) G m g1 g2 g3 g4 g5 n oa dy ([.ref s1, .ref s2, .ref s3, .ref s4, .ref s5, .ref s6, .int (zI 0), .int (zI rdg), .int (zI plc), .int (zI ibd), .int (zI stm), .ref t1, .ref t2, .ref t3, .ref c0, .ref c1, .ref c2, .ref c3, .int (zI him), .int (zI pl0), .int (zI itk), ki, .int (zI chd), .int (zI chf), .ref y0, .int (zI sd), .ref y1]) h (by first | assumption | omega) (by first | assumption | omega)) (lw_V q1255 q1257 qs33 q61 q1258) rfl rfl (sb_e [0] rfl rfl) (na := 1) (by decide +kernel) rfl (zrm rfl rfl (rfl) (rfl)) rfl (Nat.le_of_ble_eq_true rfl) dX4_two_7) (fun u => jn_ro (sb_e [0] rfl rfl)) (fun r_7 u hp_7 => ?_)
  have hp_7 : r_7 = zI (bI (0 ≤ h ∧ h ≤ (n : Int) - 1)) := hp_7
  subst hp_7
  refine y_beq (tgt := 33) C dX4_two_10 (by decide) (fun c_10 => ?_) (fun c_10 => ?_)
  · skip
    refine y_iconst C dX4_two_33 ?_
    exact z_iret C hA hQ rfl (Nat.le_of_ble_eq_true rfl) (Nat.le_of_ble_eq_true rfl) ((ki, pl0, itk, kc, T)) (congrArg zI (by unfold oTwo; (try simp only [zTN]); (repeat (first | rw [if_pos (by omega)] | rw [if_neg (by omega)])); first | done | rfl)) (sb_e [0, 1, 2, 3, 4, 5, 6, 7] rfl rfl) dX4_two_34
  · skip
    refine z_aload_n C dX4_two_13 rfl 0 rfl ?_
    refine z_iload_n C dX4_two_14 rfl 2 rfl ?_
    refine z_i C (z_runV (q := 0) (As := [.int (zI k)]) (rest := []) C (ct_X4_isHorse (zl X) G m g1 g2 g3 g4 g5 n oa dy ([.ref s1, .ref s2, .ref s3, .ref s4, .ref s5, .ref s6, .int (zI 0), .int (zI rdg), .int (zI plc), .int (zI ibd), .int (zI stm), .ref t1, .ref t2, .ref t3, .ref c0, .ref c1, .ref c2, .ref c3, .int (zI him), .int (zI pl0), .int (zI itk), ki, .int (zI chd), .int (zI chf), .ref y0, .int (zI sd), .ref y1]) k (by first | assumption | omega) (by first | assumption | omega)) (lw_V q1255 q1257 qs33 q61 q1258) rfl rfl (sb_e [0] rfl rfl) (na := 1) (by decide +kernel) rfl (zrm rfl rfl (rfl) (rfl)) rfl (Nat.le_of_ble_eq_true rfl) dX4_two_15) (fun u => jn_ro (sb_e [0] rfl rfl)) (fun r_15 u hp_15 => ?_)
    have hp_15 : r_15 = zI (bI (0 ≤ k ∧ k ≤ (n : Int) - 1)) := hp_15
    subst hp_15
    refine y_beq (tgt := 33) C dX4_two_18 (by decide) (fun c_18 => ?_) (fun c_18 => ?_)
    · skip
      refine y_iconst C dX4_two_33 ?_
      exact z_iret C hA hQ rfl (Nat.le_of_ble_eq_true rfl) (Nat.le_of_ble_eq_true rfl) ((ki, pl0, itk, kc, T)) (congrArg zI (by unfold oTwo; (try simp only [zTN]); (repeat (first | rw [if_pos (by omega)] | rw [if_neg (by omega)])); first | done | rfl)) (sb_e [0, 1, 2, 3, 4, 5, 6, 7] rfl rfl) dX4_two_34
    · skip
      refine z_iload_n C dX4_two_21 rfl 1 rfl ?_
      refine z_iload_n C dX4_two_22 rfl 2 rfl ?_
      refine y_icmp_eq (tgt := 33) C (by omega) (by omega) dX4_two_23 (by decide) (fun c_23 => ?_) (fun c_23 => ?_)
      · skip
        refine y_iconst C dX4_two_33 ?_
        exact z_iret C hA hQ rfl (Nat.le_of_ble_eq_true rfl) (Nat.le_of_ble_eq_true rfl) ((ki, pl0, itk, kc, T)) (congrArg zI (by unfold oTwo; (try simp only [zTN]); (repeat (first | rw [if_pos (by omega)] | rw [if_neg (by omega)])); first | done | rfl)) (sb_e [0, 1, 2, 3, 4, 5, 6, 7] rfl rfl) dX4_two_34
      · skip
        refine z_iload_n C dX4_two_26 rfl 3 rfl ?_
        refine z_i C (z_runS (As := [.int (zI yard)]) (rest := []) C (ct_X4_isYard (zl X) G yard (by first | assumption | omega)) (lw_S q1251 q1252 q61 q1253) (sb_e [] rfl rfl) (na := 1) (by decide +kernel) rfl (zrm rfl rfl (rfl) (rfl)) rfl (Nat.le_of_ble_eq_true rfl) dX4_two_27) (fun u => jn_ro (sb_e [] rfl rfl)) (fun r_27 u hp_27 => ?_)
        have hp_27 : r_27 = zI (bI (0 ≤ yard ∧ yard ≤ 20)) := hp_27
        subst hp_27
        refine y_bne (tgt := 35) C dX4_two_30 (by decide) (fun c_30 => ?_) (fun c_30 => ?_)
        · skip
          have hne : ¬ h = k := by assumption
          obtain ⟨j, rfl⟩ := Int.eq_ofNat_of_zero_le (show 0 ≤ h by omega)
          obtain ⟨k0, rfl⟩ := Int.eq_ofNat_of_zero_le (show 0 ≤ k by omega)
          refine y_iconst C dX4_two_35 ?_
          refine z_istore (lv' := [(4, .int (zI 0)), (0, .ref m), (1, .int (zI (j : Int))), (2, .int (zI (k0 : Int))), (3, .int (zI yard))]) C dX4_two_36 (nlt rfl) rfl ?_
          have L_38 : ∀ (tt : Nat) (i : Nat) (T : Nat → Int) (kib : Value) (plb : Int) (itb : Int) (kcb : Nat → Int), (i ≤ 2) → (∀ q : Nat, q < i → T q = thF kd fg hm at_ lg n oa yard j q ∧ T (2 + q) = thF kd fg hm at_ lg n oa yard k0 q) → 2 - i = tt → Z X (cX4_two, 7, yX4_two.cls, (some .int), { frames := 7, cells := 0, slots := 0, locals := 165 }, A) G 0 0 [(m, .inr (11, [.int (zI (n : Int)), .ref g1, .ref g2, .ref g3, .ref g4, .ref g5, .int (zI oa), .int (zI dy), .ref s1, .ref s2, .ref s3, .ref s4, .ref s5, .ref s6, .int (zI 0), .int (zI rdg), .int (zI plc), .int (zI ibd), .int (zI stm), .ref t1, .ref t2, .ref t3, .ref c0, .ref c1, .ref c2, .ref c3, .int (zI him), .int (zI plb), .int (zI itb), kib, .int (zI chd), .int (zI chf), .ref y0, .int (zI sd), .ref y1])), (g1, AI G 7 (fun z_ => (kd z_ : Int))), (g2, AI G 7 fg), (g3, AI G 7 hm), (g4, AI G 7 at_), (g5, AI G 7 lg), (c0, AI G 38 kcb), (y0, AI G 4 T)] 38 [(4, .int (zI (i : Int))), (0, .ref m), (1, .int (zI (j : Int))), (2, .int (zI (k0 : Int))), (3, .int (zI yard))] [] := by
            intro tt
            induction tt using Nat.strongRecOn with
            | _ tt ih_38 =>
              intro i T kib plb itb kcb hi hTT ht_38
              refine z_iload C dX4_two_38 0 rfl ?_
              refine y_iconst C dX4_two_40 ?_
              refine y_icmp_ge (tgt := 82) C (by omega) (by omega) dX4_two_41 (by decide) (fun c_41 => ?_) (fun c_41 => ?_)
              · skip
                have hTa : ∀ q : Nat, q < 2 → thF kd fg hm at_ lg n oa yard j q = T (0 + q) := fun q hq => by rw [Nat.zero_add]; exact ((hTT q (by omega)).1).symm
                have hTb : ∀ q : Nat, q < 2 → thF kd fg hm at_ lg n oa yard k0 q = T (2 - 0 + q) := fun q hq => ((hTT q (by omega)).2).symm
                have hTr : ∀ q, q < 4 → 0 ≤ T q ∧ T q ≤ 100 := fun q hq => by
                  by_cases c : q < 2
                  · rw [(hTT q (by omega)).1]; have := thF_r kd fg hm at_ lg n oa yard j q; omega
                  · rw [show q = 2 + (q - 2) by omega, (hTT (q - 2) (by omega)).2]; have := thF_r kd fg hm at_ lg n oa yard k0 (q - 2); omega
                refine y_iconst C dX4_two_82 ?_
                refine z_istore (lv' := [(4, .int (zI 0)), (0, .ref m), (1, .int (zI (j : Int))), (2, .int (zI (k0 : Int))), (3, .int (zI yard))]) C dX4_two_83 (nlt rfl) rfl ?_
                have L_85 : ∀ (tt : Nat) (k : Nat), (k ≤ 4) → (∀ q : Nat, q < k → twoP kd fg hm at_ lg n oa yard j k0 q = false) → 4 - k = tt → Z X (cX4_two, 7, yX4_two.cls, (some .int), { frames := 7, cells := 0, slots := 0, locals := 165 }, A) G 0 0 [(m, .inr (11, [.int (zI (n : Int)), .ref g1, .ref g2, .ref g3, .ref g4, .ref g5, .int (zI oa), .int (zI dy), .ref s1, .ref s2, .ref s3, .ref s4, .ref s5, .ref s6, .int (zI 0), .int (zI rdg), .int (zI plc), .int (zI ibd), .int (zI stm), .ref t1, .ref t2, .ref t3, .ref c0, .ref c1, .ref c2, .ref c3, .int (zI him), .int (zI plb), .int (zI itb), kib, .int (zI chd), .int (zI chf), .ref y0, .int (zI sd), .ref y1])), (g1, AI G 7 (fun z_ => (kd z_ : Int))), (g2, AI G 7 fg), (g3, AI G 7 hm), (g4, AI G 7 at_), (g5, AI G 7 lg), (c0, AI G 38 kcb), (y0, AI G 4 T)] 85 [(4, .int (zI (k : Int))), (0, .ref m), (1, .int (zI (j : Int))), (2, .int (zI (k0 : Int))), (3, .int (zI yard))] [] := by
                  intro tt
                  induction tt using Nat.strongRecOn with
                  | _ tt ih_85 =>
                    intro k hk4 hno ht_85
                    refine z_iload C dX4_two_85 0 rfl ?_
                    refine y_iconst C dX4_two_87 ?_
                    refine y_icmp_ge (tgt := 164) C (by omega) (by omega) dX4_two_88 (by decide) (fun c_88 => ?_) (fun c_88 => ?_)
                    · skip
                      refine y_bipush C dX4_two_164 (by decide) ?_
                      rw [show k = 4 by omega] at hno
                      exact z_iret C hA hQ rfl (Nat.le_of_ble_eq_true rfl) (Nat.le_of_ble_eq_true rfl) ((kib, plb, itb, kcb, T)) (congrArg zI (by unfold oTwo; rw [if_pos (by omega)]; simp only [zTN]; rw [firstF_no hno]; unfold tenF; first | rfl | (rw [if_neg (by omega)]; rfl))) (sb_e [0, 1, 2, 3, 4, 5, 6, 7] rfl rfl) dX4_two_166
                    · skip
                      refine z_iload C dX4_two_91 0 rfl ?_
                      refine y_iconst C dX4_two_93 ?_
                      refine y_idiv C (by omega) (by omega) dX4_two_94 ?_
                      rw [show ((k : Int) / 2 : Int) = ((k / 2 : Nat) : Int) by omega]
                      refine z_istore (lv' := [(5, .int (zI ((k / 2 : Nat) : Int))), (4, .int (zI (k : Int))), (0, .ref m), (1, .int (zI (j : Int))), (2, .int (zI (k0 : Int))), (3, .int (zI yard))]) C dX4_two_95 (nlt rfl) rfl ?_
                      refine z_iload C dX4_two_97 1 rfl ?_
                      refine y_iconst C dX4_two_99 ?_
                      refine y_irem C (by omega) (by omega) dX4_two_100 ?_
                      rw [show ((k : Int) % 2 : Int) = ((k % 2 : Nat) : Int) by omega]
                      refine z_istore (lv' := [(6, .int (zI ((k % 2 : Nat) : Int))), (5, .int (zI ((k / 2 : Nat) : Int))), (4, .int (zI (k : Int))), (0, .ref m), (1, .int (zI (j : Int))), (2, .int (zI (k0 : Int))), (3, .int (zI yard))]) C dX4_two_101 (nlt rfl) rfl ?_
                      have e1 : getsF kd fg hm at_ lg n oa yard j (1 - k / 2) k0 (k % 2) = hbF T 0 (1 - k / 2) (k % 2) := by unfold getsF hbF; rw [hTa (1 - k / 2) (by omega), hTb (k % 2) (by omega)]
                      have e2 : getsF kd fg hm at_ lg n oa yard j (k / 2) k0 (k % 2) = hbF T 0 (k / 2) (k % 2) := by unfold getsF hbF; rw [hTa (k / 2) (by omega), hTb (k % 2) (by omega)]
                      have e3 : getsF kd fg hm at_ lg n oa yard k0 (1 - k % 2) j (k / 2) = hbF T 2 (1 - k % 2) (k / 2) := by unfold getsF hbF; rw [hTb (1 - k % 2) (by omega), hTa (k / 2) (by omega)]
                      have e4 : getsF kd fg hm at_ lg n oa yard k0 (k % 2) j (k / 2) = hbF T 2 (k % 2) (k / 2) := by unfold getsF hbF; rw [hTb (k % 2) (by omega), hTa (k / 2) (by omega)]
                      refine z_aload_n C dX4_two_103 rfl 3 rfl ?_
                      refine y_iconst C dX4_two_104 ?_
                      refine z_iload C dX4_two_105 1 rfl ?_
                      refine z_iload C dX4_two_107 0 rfl ?_
                      refine z_i C (z_runV (q := 0) (As := [.int (zI 0), .int (zI ((k / 2 : Nat) : Int)), .int (zI ((k % 2 : Nat) : Int))]) (rest := []) C (ct_X4_hasBy (zl X) G m g1 g2 g3 g4 g5 s1 s2 s3 s4 s5 s6 t1 t2 t3 c0 c1 c2 c3 y0 y1 0 rdg plc ibd stm him plb itb chd chf sd kib kd fg hm at_ lg n oa dy T 0 (k / 2 : Nat) (k % 2 : Nat) (by omega) (by omega) (by omega) (hTr)) (lw_V q1463 q1465 qs54 q61 q1466) rfl rfl (sb_e [0, 7] rfl rfl) (na := 3) (by decide +kernel) rfl (zrm rfl rfl (rfl) (rfl)) rfl (Nat.le_of_ble_eq_true rfl) dX4_two_109) (fun u => jn_ro (sb_e [0, 7] rfl rfl)) (fun r_109 u hp_109 => ?_)
                      have hp_109 : r_109 = zI (hbF T 0 (k / 2 : Nat) (k % 2 : Nat)) := hp_109
                      subst hp_109
                      have hg109 : 0 ≤ hbF T 0 (k / 2 : Nat) (k % 2 : Nat) ∧ hbF T 0 (k / 2 : Nat) (k % 2 : Nat) ≤ 4 := by unfold hbF; split <;> omega
                      refine z_aload_n C dX4_two_112 rfl 3 rfl ?_
                      refine y_iconst C dX4_two_113 ?_
                      refine y_iconst C dX4_two_114 ?_
                      refine z_iload C dX4_two_115 1 rfl ?_
                      refine y_isub C dX4_two_117 ?_
                      rw [show (1 - ((k / 2 : Nat) : Int) : Int) = ((1 - k / 2 : Nat) : Int) by omega]
                      refine z_iload C dX4_two_118 0 rfl ?_
                      refine z_i C (z_runV (q := 0) (As := [.int (zI 0), .int (zI ((1 - k / 2 : Nat) : Int)), .int (zI ((k % 2 : Nat) : Int))]) (rest := [.int (zI (hbF T 0 (k / 2 : Nat) (k % 2 : Nat)))]) C (ct_X4_hasBy (zl X) G m g1 g2 g3 g4 g5 s1 s2 s3 s4 s5 s6 t1 t2 t3 c0 c1 c2 c3 y0 y1 0 rdg plc ibd stm him plb itb chd chf sd kib kd fg hm at_ lg n oa dy T 0 (1 - k / 2 : Nat) (k % 2 : Nat) (by omega) (by omega) (by omega) (hTr)) (lw_V q1463 q1465 qs54 q61 q1466) rfl rfl (sb_e [0, 7] rfl rfl) (na := 3) (by decide +kernel) rfl (zrm rfl rfl (rfl) (rfl)) rfl (Nat.le_of_ble_eq_true rfl) dX4_two_120) (fun u => jn_ro (sb_e [0, 7] rfl rfl)) (fun r_120 u hp_120 => ?_)
                      have hp_120 : r_120 = zI (hbF T 0 (1 - k / 2 : Nat) (k % 2 : Nat)) := hp_120
                      subst hp_120
                      have hg120 : 0 ≤ hbF T 0 (1 - k / 2 : Nat) (k % 2 : Nat) ∧ hbF T 0 (1 - k / 2 : Nat) (k % 2 : Nat) ≤ 4 := by unfold hbF; split <;> omega
                      refine y_icmp_lt (tgt := 158) C (by omega) (by omega) dX4_two_123 (by decide) (fun c_123 => ?_) (fun c_123 => ?_)
                      · skip
                        refine y_iinc (lv' := [(4, .int (zI ((k : Int) + 1))), (6, .int (zI ((k % 2 : Nat) : Int))), (5, .int (zI ((k / 2 : Nat) : Int))), (0, .ref m), (1, .int (zI (j : Int))), (2, .int (zI (k0 : Int))), (3, .int (zI yard))]) C dX4_two_158 (q := 2) rfl (nlt rfl) rfl ?_
                        refine z_goto (tgt := 85) C dX4_two_161 (by decide) ?_
                        refine z_lv (lv' := [(4, .int (zI ((k : Int) + 1))), (0, .ref m), (1, .int (zI (j : Int))), (2, .int (zI (k0 : Int))), (3, .int (zI yard))]) [0, 3, 4, 5, 6] rfl ?_
                        exact ih_85 _ (by omega) (k + 1) (by first | assumption | omega) (fun q hq => by
                          rcases Nat.lt_succ_iff_lt_or_eq.mp hq with c | c
                          · exact hno q c
                          · subst c; unfold twoP; exact decide_eq_false (by rw [e1, e2, e3, e4]; omega)) rfl
                      · skip
                        refine z_aload_n C dX4_two_126 rfl 3 rfl ?_
                        refine y_iconst C dX4_two_127 ?_
                        refine z_iload C dX4_two_128 0 rfl ?_
                        refine z_iload C dX4_two_130 1 rfl ?_
                        refine z_i C (z_runV (q := 0) (As := [.int (zI 2), .int (zI ((k % 2 : Nat) : Int)), .int (zI ((k / 2 : Nat) : Int))]) (rest := []) C (ct_X4_hasBy (zl X) G m g1 g2 g3 g4 g5 s1 s2 s3 s4 s5 s6 t1 t2 t3 c0 c1 c2 c3 y0 y1 0 rdg plc ibd stm him plb itb chd chf sd kib kd fg hm at_ lg n oa dy T 2 (k % 2 : Nat) (k / 2 : Nat) (by omega) (by omega) (by omega) (hTr)) (lw_V q1463 q1465 qs54 q61 q1466) rfl rfl (sb_e [0, 7] rfl rfl) (na := 3) (by decide +kernel) rfl (zrm rfl rfl (rfl) (rfl)) rfl (Nat.le_of_ble_eq_true rfl) dX4_two_132) (fun u => jn_ro (sb_e [0, 7] rfl rfl)) (fun r_132 u hp_132 => ?_)
                        have hp_132 : r_132 = zI (hbF T 2 (k % 2 : Nat) (k / 2 : Nat)) := hp_132
                        subst hp_132
                        have hg132 : 0 ≤ hbF T 2 (k % 2 : Nat) (k / 2 : Nat) ∧ hbF T 2 (k % 2 : Nat) (k / 2 : Nat) ≤ 4 := by unfold hbF; split <;> omega
                        refine z_aload_n C dX4_two_135 rfl 3 rfl ?_
                        refine y_iconst C dX4_two_136 ?_
                        refine y_iconst C dX4_two_137 ?_
                        refine z_iload C dX4_two_138 0 rfl ?_
                        refine y_isub C dX4_two_140 ?_
                        rw [show (1 - ((k % 2 : Nat) : Int) : Int) = ((1 - k % 2 : Nat) : Int) by omega]
                        refine z_iload C dX4_two_141 1 rfl ?_
                        refine z_i C (z_runV (q := 0) (As := [.int (zI 2), .int (zI ((1 - k % 2 : Nat) : Int)), .int (zI ((k / 2 : Nat) : Int))]) (rest := [.int (zI (hbF T 2 (k % 2 : Nat) (k / 2 : Nat)))]) C (ct_X4_hasBy (zl X) G m g1 g2 g3 g4 g5 s1 s2 s3 s4 s5 s6 t1 t2 t3 c0 c1 c2 c3 y0 y1 0 rdg plc ibd stm him plb itb chd chf sd kib kd fg hm at_ lg n oa dy T 2 (1 - k % 2 : Nat) (k / 2 : Nat) (by omega) (by omega) (by omega) (hTr)) (lw_V q1463 q1465 qs54 q61 q1466) rfl rfl (sb_e [0, 7] rfl rfl) (na := 3) (by decide +kernel) rfl (zrm rfl rfl (rfl) (rfl)) rfl (Nat.le_of_ble_eq_true rfl) dX4_two_143) (fun u => jn_ro (sb_e [0, 7] rfl rfl)) (fun r_143 u hp_143 => ?_)
                        have hp_143 : r_143 = zI (hbF T 2 (1 - k % 2 : Nat) (k / 2 : Nat)) := hp_143
                        subst hp_143
                        have hg143 : 0 ≤ hbF T 2 (1 - k % 2 : Nat) (k / 2 : Nat) ∧ hbF T 2 (1 - k % 2 : Nat) (k / 2 : Nat) ≤ 4 := by unfold hbF; split <;> omega
                        refine y_icmp_lt (tgt := 158) C (by omega) (by omega) dX4_two_146 (by decide) (fun c_146 => ?_) (fun c_146 => ?_)
                        · skip
                          refine y_iinc (lv' := [(4, .int (zI ((k : Int) + 1))), (6, .int (zI ((k % 2 : Nat) : Int))), (5, .int (zI ((k / 2 : Nat) : Int))), (0, .ref m), (1, .int (zI (j : Int))), (2, .int (zI (k0 : Int))), (3, .int (zI yard))]) C dX4_two_158 (q := 2) rfl (nlt rfl) rfl ?_
                          refine z_goto (tgt := 85) C dX4_two_161 (by decide) ?_
                          refine z_lv (lv' := [(4, .int (zI ((k : Int) + 1))), (0, .ref m), (1, .int (zI (j : Int))), (2, .int (zI (k0 : Int))), (3, .int (zI yard))]) [0, 3, 4, 5, 6] rfl ?_
                          exact ih_85 _ (by omega) (k + 1) (by first | assumption | omega) (fun q hq => by
                            rcases Nat.lt_succ_iff_lt_or_eq.mp hq with c | c
                            · exact hno q c
                            · subst c; unfold twoP; exact decide_eq_false (by rw [e1, e2, e3, e4]; omega)) rfl
                        · skip
                          refine y_bipush C dX4_two_149 (by decide) ?_
                          refine z_iload C dX4_two_151 1 rfl ?_
                          refine y_imul C dX4_two_153 ?_
                          refine z_iload C dX4_two_154 0 rfl ?_
                          refine y_iadd C dX4_two_156 ?_
                          exact z_iret C hA hQ rfl (Nat.le_of_ble_eq_true rfl) (Nat.le_of_ble_eq_true rfl) ((kib, plb, itb, kcb, T)) (congrArg zI (by unfold oTwo; rw [if_pos (by omega)]; simp only [zTN]; rw [firstF_at hno (i := k) (by unfold twoP; exact decide_eq_true (by rw [e1, e2, e3, e4]; omega)) (by omega)]; unfold tenF; first | rfl | (rw [if_neg (by omega)]; rfl))) (sb_e [0, 1, 2, 3, 4, 5, 6, 7] rfl rfl) dX4_two_157
                exact L_85 _ 0 (by first | assumption | omega) (fun q hq => absurd hq (Nat.not_lt_zero q)) rfl
              · skip
                refine z_aload_n C dX4_two_44 rfl 1 rfl ?_
                refine z_get (q := 0) (kf := 32) (v := .ref y0) C rfl rfl in_X4 (by decide) q1119 (Or.inl rfl) rfl dX4_two_45 ?_
                refine z_iload C dX4_two_48 0 rfl ?_
                refine z_aload_n C dX4_two_50 rfl 1 rfl ?_
                refine z_iload_n C dX4_two_51 rfl 2 rfl ?_
                refine z_iload_n C dX4_two_52 rfl 4 rfl ?_
                refine z_iload C dX4_two_53 0 rfl ?_
                refine z_i (ws' := fun u => [(m, .inr (11, [.int (zI (n : Int)), .ref g1, .ref g2, .ref g3, .ref g4, .ref g5, .int (zI oa), .int (zI dy), .ref s1, .ref s2, .ref s3, .ref s4, .ref s5, .ref s6, .int (zI 0), .int (zI rdg), .int (zI plc), .int (zI ibd), .int (zI stm), .ref t1, .ref t2, .ref t3, .ref c0, .ref c1, .ref c2, .ref c3, .int (zI him), .int (zI u.2.1), .int (zI u.2.2.1), u.1, .int (zI chd), .int (zI chf), .ref y0, .int (zI sd), .ref y1])), (g1, AI G 7 (fun z_ => (kd z_ : Int))), (g2, AI G 7 fg), (g3, AI G 7 hm), (g4, AI G 7 at_), (g5, AI G 7 lg), (c0, AI G 38 u.2.2.2), (y0, AI G 4 T)]) C (z_runV (q := 0) (As := [.int (zI (j : Int)), .int (zI yard), .int (zI (i : Int))]) (rest := [.int (zI (i : Int)), .ref y0]) C (ct_X4_waitedRide (zl X) G m g1 g2 g3 g4 g5 s1 s2 s3 s4 s5 s6 t1 t2 t3 c0 c1 c2 c3 y0 y1 0 rdg plc ibd stm him plb itb chd chf sd kib kd fg hm at_ lg n oa dy kcb j yard i (by first | assumption | omega) (by omega) (by first | assumption | omega) (by first | assumption | omega)) (lw_V q1459 q1461 qs53 q61 q1462) rfl rfl (sb_e [0, 1, 2, 3, 4, 5, 6] rfl rfl) (na := 3) (by decide +kernel) rfl (zrm rfl rfl (rfl) (rfl)) rfl (Nat.le_of_ble_eq_true rfl) dX4_two_55) (fun u => jn_e (wr := [(y0, AI G 4 T)]) [0, 1, 2, 3, 4, 5, 6] [7] [1, 2, 3, 4, 5, 6, 7, 0] rfl rfl rfl (by decide) rfl rfl) (fun r_55 u hp_55 => ?_)
                obtain ⟨ki9_55, pl9_55, itk9_55, kc9_55⟩ := u
                have hp_55 : r_55 = zI (5 * (i : Int) + tkB kd fg hm at_ lg n oa yard (5 * i) j) := hp_55
                subst hp_55
                refine y_iast (q := 7) (t0 := 0) (g := va_up T i (5 * (i : Int) + tkB kd fg hm at_ lg n oa yard (5 * i) j)) (ws' := [(m, .inr (11, [.int (zI (n : Int)), .ref g1, .ref g2, .ref g3, .ref g4, .ref g5, .int (zI oa), .int (zI dy), .ref s1, .ref s2, .ref s3, .ref s4, .ref s5, .ref s6, .int (zI 0), .int (zI rdg), .int (zI plc), .int (zI ibd), .int (zI stm), .ref t1, .ref t2, .ref t3, .ref c0, .ref c1, .ref c2, .ref c3, .int (zI him), .int (zI pl9_55), .int (zI itk9_55), ki9_55, .int (zI chd), .int (zI chf), .ref y0, .int (zI sd), .ref y1])), (g1, AI G 7 (fun z_ => (kd z_ : Int))), (g2, AI G 7 fg), (g3, AI G 7 hm), (g4, AI G 7 at_), (g5, AI G 7 lg), (c0, AI G 38 kc9_55), (y0, AI G 4 (va_up T i (5 * (i : Int) + tkB kd fg hm at_ lg n oa yard (5 * i) j)))]) C rfl rfl (by omega) (by decide) rfl rfl dX4_two_58 ?_
                refine z_aload_n C dX4_two_59 rfl 1 rfl ?_
                refine z_get (q := 0) (kf := 32) (v := .ref y0) C rfl rfl in_X4 (by decide) q1119 (Or.inl rfl) rfl dX4_two_60 ?_
                refine y_iconst C dX4_two_63 ?_
                refine z_iload C dX4_two_64 0 rfl ?_
                refine y_iadd C dX4_two_66 ?_
                refine z_aload_n C dX4_two_67 rfl 1 rfl ?_
                refine z_iload_n C dX4_two_68 rfl 3 rfl ?_
                refine z_iload_n C dX4_two_69 rfl 4 rfl ?_
                refine z_iload C dX4_two_70 0 rfl ?_
                refine z_i (ws' := fun u => [(m, .inr (11, [.int (zI (n : Int)), .ref g1, .ref g2, .ref g3, .ref g4, .ref g5, .int (zI oa), .int (zI dy), .ref s1, .ref s2, .ref s3, .ref s4, .ref s5, .ref s6, .int (zI 0), .int (zI rdg), .int (zI plc), .int (zI ibd), .int (zI stm), .ref t1, .ref t2, .ref t3, .ref c0, .ref c1, .ref c2, .ref c3, .int (zI him), .int (zI u.2.1), .int (zI u.2.2.1), u.1, .int (zI chd), .int (zI chf), .ref y0, .int (zI sd), .ref y1])), (g1, AI G 7 (fun z_ => (kd z_ : Int))), (g2, AI G 7 fg), (g3, AI G 7 hm), (g4, AI G 7 at_), (g5, AI G 7 lg), (c0, AI G 38 u.2.2.2), (y0, AI G 4 (va_up T i (5 * (i : Int) + tkB kd fg hm at_ lg n oa yard (5 * i) j)))]) C (z_runV (q := 0) (As := [.int (zI (k0 : Int)), .int (zI yard), .int (zI (i : Int))]) (rest := [.int (zI (2 + (i : Int))), .ref y0]) C (ct_X4_waitedRide (zl X) G m g1 g2 g3 g4 g5 s1 s2 s3 s4 s5 s6 t1 t2 t3 c0 c1 c2 c3 y0 y1 0 rdg plc ibd stm him pl9_55 itk9_55 chd chf sd ki9_55 kd fg hm at_ lg n oa dy kc9_55 k0 yard i (by first | assumption | omega) (by omega) (by first | assumption | omega) (by first | assumption | omega)) (lw_V q1459 q1461 qs53 q61 q1462) rfl rfl (sb_e [0, 1, 2, 3, 4, 5, 6] rfl rfl) (na := 3) (by decide +kernel) rfl (zrm rfl rfl (rfl) (rfl)) rfl (Nat.le_of_ble_eq_true rfl) dX4_two_72) (fun u => jn_e (wr := [(y0, AI G 4 (va_up T i (5 * (i : Int) + tkB kd fg hm at_ lg n oa yard (5 * i) j)))]) [0, 1, 2, 3, 4, 5, 6] [7] [1, 2, 3, 4, 5, 6, 7, 0] rfl rfl rfl (by decide) rfl rfl) (fun r_72 u hp_72 => ?_)
                obtain ⟨ki9_72, pl9_72, itk9_72, kc9_72⟩ := u
                have hp_72 : r_72 = zI (5 * (i : Int) + tkB kd fg hm at_ lg n oa yard (5 * i) k0) := hp_72
                subst hp_72
                refine y_iast (q := 7) (t0 := 0) (g := va_up (va_up T i (5 * (i : Int) + tkB kd fg hm at_ lg n oa yard (5 * i) j)) (2 + i) (5 * (i : Int) + tkB kd fg hm at_ lg n oa yard (5 * i) k0)) (ws' := [(m, .inr (11, [.int (zI (n : Int)), .ref g1, .ref g2, .ref g3, .ref g4, .ref g5, .int (zI oa), .int (zI dy), .ref s1, .ref s2, .ref s3, .ref s4, .ref s5, .ref s6, .int (zI 0), .int (zI rdg), .int (zI plc), .int (zI ibd), .int (zI stm), .ref t1, .ref t2, .ref t3, .ref c0, .ref c1, .ref c2, .ref c3, .int (zI him), .int (zI pl9_72), .int (zI itk9_72), ki9_72, .int (zI chd), .int (zI chf), .ref y0, .int (zI sd), .ref y1])), (g1, AI G 7 (fun z_ => (kd z_ : Int))), (g2, AI G 7 fg), (g3, AI G 7 hm), (g4, AI G 7 at_), (g5, AI G 7 lg), (c0, AI G 38 kc9_72), (y0, AI G 4 (va_up (va_up T i (5 * (i : Int) + tkB kd fg hm at_ lg n oa yard (5 * i) j)) (2 + i) (5 * (i : Int) + tkB kd fg hm at_ lg n oa yard (5 * i) k0)))]) C rfl rfl (by omega) (by decide) (by rw [show (2 + (i : Int)).toNat = 2 + i by omega]) rfl dX4_two_75 ?_
                refine y_iinc (lv' := [(4, .int (zI ((i : Int) + 1))), (0, .ref m), (1, .int (zI (j : Int))), (2, .int (zI (k0 : Int))), (3, .int (zI yard))]) C dX4_two_76 (q := 0) rfl (nlt rfl) rfl ?_
                refine z_goto (tgt := 38) C dX4_two_79 (by decide) ?_
                exact ih_38 _ (by omega) (i + 1) (va_up (va_up T i (5 * (i : Int) + tkB kd fg hm at_ lg n oa yard (5 * i) j)) (2 + i) (5 * (i : Int) + tkB kd fg hm at_ lg n oa yard (5 * i) k0)) ki9_72 pl9_72 itk9_72 kc9_72 (by first | assumption | omega) (fun q hq => by
                  rcases Nat.lt_succ_iff_lt_or_eq.mp hq with c | c
                  · have h5 := hTT q c
                    constructor
                    · unfold va_up; rw [if_neg (by omega), if_neg (by omega)]; exact h5.1
                    · unfold va_up; rw [if_neg (by omega), if_neg (by omega)]; exact h5.2
                  · subst c
                    constructor
                    · unfold va_up; rw [if_neg (by omega), if_pos rfl]; rfl
                    · unfold va_up; rw [if_pos rfl]; rfl) rfl
          exact L_38 _ 0 T ki pl0 itk kc (by first | assumption | omega) (fun q hq => absurd hq (Nat.not_lt_zero q)) rfl
        · skip
          refine y_iconst C dX4_two_33 ?_
          exact z_iret C hA hQ rfl (Nat.le_of_ble_eq_true rfl) (Nat.le_of_ble_eq_true rfl) ((ki, pl0, itk, kc, T)) (congrArg zI (by unfold oTwo; (try simp only [zTN]); (repeat (first | rw [if_pos (by omega)] | rw [if_neg (by omega)])); first | done | rfl)) (sb_e [0, 1, 2, 3, 4, 5, 6, 7] rfl rfl) dX4_two_34

set_option maxHeartbeats 4000000 in
theorem ct_X4_drawBelow (l : Launch) (G : ZG) (m : Nat) (g1 : Nat) (g2 : Nat) (g3 : Nat) (g4 : Nat) (g5 : Nat) (s1 : Nat) (s2 : Nat) (s3 : Nat) (s4 : Nat) (s5 : Nat) (s6 : Nat) (t1 : Nat) (t2 : Nat) (t3 : Nat) (c0 : Nat) (c1 : Nat) (c2 : Nat) (c3 : Nat) (y0 : Nat) (y1 : Nat) (thr : Int) (rdg : Int) (plc : Int) (ibd : Int) (stm : Int) (him : Int) (pl0 : Int) (itk : Int) (chd : Int) (chf : Int) (sd : Int) (ki : Value) (kd : Nat → Nat) (fg : Nat → Int) (hm : Nat → Int) (at_ : Nat → Int) (lg : Nat → Int) (n : Nat) (oa : Int) (dy : Int)  : CT l yX4_drawBelow cX4_drawBelow 2 (some .int) { frames := 0, cells := 0, slots := 0, locals := 0 } G [.ref m, .int (zI 21)] [(m, .inr (11, [.int (zI (n : Int)), .ref g1, .ref g2, .ref g3, .ref g4, .ref g5, .int (zI oa), .int (zI dy), .ref s1, .ref s2, .ref s3, .ref s4, .ref s5, .ref s6, .int (zI thr), .int (zI rdg), .int (zI plc), .int (zI ibd), .int (zI stm), .ref t1, .ref t2, .ref t3, .ref c0, .ref c1, .ref c2, .ref c3, .int (zI him), .int (zI pl0), .int (zI itk), ki, .int (zI chd), .int (zI chf), .ref y0, .int (zI sd), .ref y1]))] (Qi G [(m, .inr (11, [.int (zI (n : Int)), .ref g1, .ref g2, .ref g3, .ref g4, .ref g5, .int (zI oa), .int (zI dy), .ref s1, .ref s2, .ref s3, .ref s4, .ref s5, .ref s6, .int (zI thr), .int (zI rdg), .int (zI plc), .int (zI ibd), .int (zI stm), .ref t1, .ref t2, .ref t3, .ref c0, .ref c1, .ref c2, .ref c3, .int (zI him), .int (zI pl0), .int (zI itk), ki, .int (zI chd), .int (zI chf), .ref y0, .int (zI sd), .ref y1]))] (fun (r : Int32) (u : Unit) => r = zI (nxL sd % 2147483648 / 65536 % 21)) (fun u => [(m, .inr (11, [.int (zI (n : Int)), .ref g1, .ref g2, .ref g3, .ref g4, .ref g5, .int (zI oa), .int (zI dy), .ref s1, .ref s2, .ref s3, .ref s4, .ref s5, .ref s6, .int (zI thr), .int (zI rdg), .int (zI plc), .int (zI ibd), .int (zI stm), .ref t1, .ref t2, .ref t3, .ref c0, .ref c1, .ref c2, .ref c3, .int (zI him), .int (zI pl0), .int (zI itk), ki, .int (zI chd), .int (zI chf), .ref y0, .int (zI (nxL sd)), .ref y1]))])) := by
  refine z_met (by decide) (Nat.le_of_ble_eq_true rfl) ?_
  intro X A hl0 hA C hQ hin
  subst hl0
  show Z X _ G 0 0 _ 0 [(0, .ref m), (1, .int (zI 21))] []
  refine z_aload_n C dX4_drawBelow_0 rfl 0 rfl ?_
  refine z_aload_n C dX4_drawBelow_1 rfl 0 rfl ?_
  refine z_get (q := 0) (kf := 33) (v := .int (zI sd)) C rfl rfl in_X4 (by decide) q1120 (Or.inl rfl) rfl dX4_drawBelow_2 ?_
  refine z_ldcw C q1502 dX4_drawBelow_5 ?_
  refine z_eqi (y := zI 1103515245) (by decide) ?_
  refine y_imul C dX4_drawBelow_8 ?_
  refine y_sipush C dX4_drawBelow_9 (by decide) ?_
  refine y_iadd C dX4_drawBelow_12 ?_
  rw [show sd * 1103515245 + 12345 = nxL sd from rfl]
  refine z_put (q := 0) (kf := 33) (ws' := [(m, .inr (11, [.int (zI (n : Int)), .ref g1, .ref g2, .ref g3, .ref g4, .ref g5, .int (zI oa), .int (zI dy), .ref s1, .ref s2, .ref s3, .ref s4, .ref s5, .ref s6, .int (zI thr), .int (zI rdg), .int (zI plc), .int (zI ibd), .int (zI stm), .ref t1, .ref t2, .ref t3, .ref c0, .ref c1, .ref c2, .ref c3, .int (zI him), .int (zI pl0), .int (zI itk), ki, .int (zI chd), .int (zI chf), .ref y0, .int (zI (nxL sd)), .ref y1]))]) C rfl rfl in_X4 tyX4_ok nmX4 (by decide) q1120 rfl rfl rfl rfl rfl (nlt rfl) rfl dX4_drawBelow_13 ?_
  refine z_aload_n C dX4_drawBelow_16 rfl 0 rfl ?_
  refine z_get (q := 0) (kf := 33) (v := .int (zI (nxL sd))) C rfl rfl in_X4 (by decide) q1120 (Or.inl rfl) rfl dX4_drawBelow_17 ?_
  refine z_ldcw C q1503 dX4_drawBelow_20 ?_
  refine z_eqi (y := zI 2147483647) (by decide) ?_
  refine z_iand C dX4_drawBelow_23 rfl ?_
  rw [zI_and31]
  refine z_ldcw C q1504 dX4_drawBelow_24 ?_
  refine z_eqi (y := zI 65536) (by decide) ?_
  refine y_idiv C (by omega) (by omega) dX4_drawBelow_27 ?_
  refine z_iload_n C dX4_drawBelow_28 rfl 1 rfl ?_
  refine y_irem C (by omega) (by omega) dX4_drawBelow_29 ?_
  exact z_iret C hA hQ rfl (Nat.le_of_ble_eq_true rfl) (Nat.le_of_ble_eq_true rfl) (()) (rfl) (sb_e [0] rfl rfl) dX4_drawBelow_30

set_option maxHeartbeats 4000000 in
theorem ct_X4_lands (l : Launch) (G : ZG) (m : Nat) (g1 : Nat) (g2 : Nat) (g3 : Nat) (g4 : Nat) (g5 : Nat) (s1 : Nat) (s2 : Nat) (s3 : Nat) (s4 : Nat) (s5 : Nat) (s6 : Nat) (t1 : Nat) (t2 : Nat) (t3 : Nat) (c0 : Nat) (c1 : Nat) (c2 : Nat) (c3 : Nat) (y0 : Nat) (y1 : Nat) (thr : Int) (rdg : Int) (plc : Int) (ibd : Int) (stm : Int) (him : Int) (pl0 : Int) (itk : Int) (chd : Int) (chf : Int) (sd : Int) (ki : Value) (kd : Nat → Nat) (fg : Nat → Int) (hm : Nat → Int) (at_ : Nat → Int) (lg : Nat → Int) (n : Nat) (oa : Int) (dy : Int) (kc : Nat → Int) (t : Int) (z : Int) (what : Int) (hL : LK n kd fg hm at_ lg oa) (rt : -2147483648 ≤ t ∧ t ≤ 2147483647) (rwhat : -2147483648 ≤ what ∧ what ≤ 2147483647) : CT l yX4_lands cX4_lands 7 (some .int) { frames := 5, cells := 0, slots := 0, locals := 113 } G [.ref m, .int (zI t), .int (zI z), .int (zI what)] [(m, .inr (11, [.int (zI (n : Int)), .ref g1, .ref g2, .ref g3, .ref g4, .ref g5, .int (zI oa), .int (zI dy), .ref s1, .ref s2, .ref s3, .ref s4, .ref s5, .ref s6, .int (zI thr), .int (zI rdg), .int (zI plc), .int (zI ibd), .int (zI stm), .ref t1, .ref t2, .ref t3, .ref c0, .ref c1, .ref c2, .ref c3, .int (zI him), .int (zI pl0), .int (zI itk), ki, .int (zI chd), .int (zI chf), .ref y0, .int (zI sd), .ref y1])), (g1, AI G 7 (fun z_ => (kd z_ : Int))), (g2, AI G 7 fg), (g3, AI G 7 hm), (g4, AI G 7 at_), (g5, AI G 7 lg), (c0, AI G 38 kc)] (Qi G [(m, .inr (11, [.int (zI (n : Int)), .ref g1, .ref g2, .ref g3, .ref g4, .ref g5, .int (zI oa), .int (zI dy), .ref s1, .ref s2, .ref s3, .ref s4, .ref s5, .ref s6, .int (zI thr), .int (zI rdg), .int (zI plc), .int (zI ibd), .int (zI stm), .ref t1, .ref t2, .ref t3, .ref c0, .ref c1, .ref c2, .ref c3, .int (zI him), .int (zI pl0), .int (zI itk), ki, .int (zI chd), .int (zI chf), .ref y0, .int (zI sd), .ref y1])), (g1, AI G 7 (fun z_ => (kd z_ : Int))), (g2, AI G 7 fg), (g3, AI G 7 hm), (g4, AI G 7 at_), (g5, AI G 7 lg), (c0, AI G 38 kc)] (fun (r : Int32) (u : Value × Int × Int × (Nat → Int) × Int) => r = zI (oLands kd fg hm at_ lg n oa t z what)) (fun u => [(m, .inr (11, [.int (zI (n : Int)), .ref g1, .ref g2, .ref g3, .ref g4, .ref g5, .int (zI oa), .int (zI dy), .ref s1, .ref s2, .ref s3, .ref s4, .ref s5, .ref s6, .int (zI 0), .int (zI rdg), .int (zI plc), .int (zI ibd), .int (zI stm), .ref t1, .ref t2, .ref t3, .ref c0, .ref c1, .ref c2, .ref c3, .int (zI him), .int (zI u.2.1), .int (zI u.2.2.1), u.1, .int (zI chd), .int (zI chf), .ref y0, .int (zI u.2.2.2.2), .ref y1])), (g1, AI G 7 (fun z_ => (kd z_ : Int))), (g2, AI G 7 fg), (g3, AI G 7 hm), (g4, AI G 7 at_), (g5, AI G 7 lg), (c0, AI G 38 u.2.2.2.1)])) := by
  refine z_met (by decide) (Nat.le_of_ble_eq_true rfl) ?_
  intro X A hl0 hA C hQ hin
  subst hl0
  obtain ⟨hn7, hoa, hLj⟩ := id hL
  show Z X _ G 0 0 _ 0 [(0, .ref m), (1, .int (zI t)), (2, .int (zI z)), (3, .int (zI what))] []
  refine z_aload_n C dX4_lands_0 rfl 0 rfl ?_
  refine y_iconst C dX4_lands_1 ?_
  refine z_put (q := 0) (kf := 14) (ws' := [(m, .inr (11, [.int (zI (n : Int)), .ref g1, .ref g2, .ref g3, .ref g4, .ref g5, .int (zI oa), .int (zI dy), .ref s1, .ref s2, .ref s3, .ref s4, .ref s5, .ref s6, .int (zI 0), .int (zI rdg), .int (zI plc), .int (zI ibd), .int (zI stm), .ref t1, .ref t2, .ref t3, .ref c0, .ref c1, .ref c2, .ref c3, .int (zI him), .int (zI pl0), .int (zI itk), ki, .int (zI chd), .int (zI chf), .ref y0, .int (zI sd), .ref y1])), (g1, AI G 7 (fun z_ => (kd z_ : Int))), (g2, AI G 7 fg), (g3, AI G 7 hm), (g4, AI G 7 at_), (g5, AI G 7 lg), (c0, AI G 38 kc)]) C rfl rfl in_X4 tyX4_ok nmX4 (by decide) q1101 rfl rfl rfl rfl rfl (nlt rfl) rfl dX4_lands_2 ?_
  refine z_iload_n C dX4_lands_5 rfl 1 rfl ?_
  refine y_i2l C (by omega) dX4_lands_6 ?_
  refine z_lconst (v := zL 1) C dX4_lands_7 (by decide) ?_
  refine z_ldc2 C q1254 dX4_lands_8 ?_
  refine z_eql (y := zL 20) (by decide) ?_
  refine z_i C (z_runS (As := [.long (zL t), .long (zL 1), .long (zL 20)]) (rest := []) C (ct_X4_in (zl X) G t 1 20 (by first | assumption | omega) (by first | assumption | omega) (by first | assumption | omega)) (lw_S q1207 q1208 q61 q1209) (sb_e [] rfl rfl) (na := 3) (by decide +kernel) rfl (zrm rfl rfl (rfl) (rfl)) rfl (Nat.le_of_ble_eq_true rfl) dX4_lands_11) (fun u => jn_ro (sb_e [] rfl rfl)) (fun r_11 u hp_11 => ?_)
  have hp_11 : r_11 = zI (bI (1 ≤ t ∧ t ≤ 20)) := hp_11
  subst hp_11
  refine y_beq (tgt := 27) C dX4_lands_14 (by decide) (fun c_14 => ?_) (fun c_14 => ?_)
  · skip
    refine y_iconst C dX4_lands_27 ?_
    exact z_iret C hA hQ rfl (Nat.le_of_ble_eq_true rfl) (Nat.le_of_ble_eq_true rfl) ((ki, pl0, itk, kc, sd)) (congrArg zI (by unfold oLands; (try simp only [zTN]); (repeat (first | rw [if_pos (by omega)] | rw [if_neg (by omega)])); first | done | rfl)) (sb_e [0, 1, 2, 3, 4, 5, 6] rfl rfl) dX4_lands_28
  · skip
    refine z_iload_n C dX4_lands_17 rfl 3 rfl ?_
    refine y_i2l C (by omega) dX4_lands_18 ?_
    refine z_lconst (v := zL 0) C dX4_lands_19 (by decide) ?_
    refine z_lconst (v := zL 1) C dX4_lands_20 (by decide) ?_
    refine z_i C (z_runS (As := [.long (zL what), .long (zL 0), .long (zL 1)]) (rest := []) C (ct_X4_in (zl X) G what 0 1 (by first | assumption | omega) (by first | assumption | omega) (by first | assumption | omega)) (lw_S q1207 q1208 q61 q1209) (sb_e [] rfl rfl) (na := 3) (by decide +kernel) rfl (zrm rfl rfl (rfl) (rfl)) rfl (Nat.le_of_ble_eq_true rfl) dX4_lands_21) (fun u => jn_ro (sb_e [] rfl rfl)) (fun r_21 u hp_21 => ?_)
    have hp_21 : r_21 = zI (bI (0 ≤ what ∧ what ≤ 1)) := hp_21
    subst hp_21
    refine y_bne (tgt := 29) C dX4_lands_24 (by decide) (fun c_24 => ?_) (fun c_24 => ?_)
    · skip
      obtain ⟨t0, rfl⟩ := Int.eq_ofNat_of_zero_le (show 0 ≤ t by omega)
      refine z_aload_n C dX4_lands_29 rfl 0 rfl ?_
      refine z_iload_n C dX4_lands_30 rfl 2 rfl ?_
      refine z_put (q := 0) (kf := 33) (ws' := [(m, .inr (11, [.int (zI (n : Int)), .ref g1, .ref g2, .ref g3, .ref g4, .ref g5, .int (zI oa), .int (zI dy), .ref s1, .ref s2, .ref s3, .ref s4, .ref s5, .ref s6, .int (zI 0), .int (zI rdg), .int (zI plc), .int (zI ibd), .int (zI stm), .ref t1, .ref t2, .ref t3, .ref c0, .ref c1, .ref c2, .ref c3, .int (zI him), .int (zI pl0), .int (zI itk), ki, .int (zI chd), .int (zI chf), .ref y0, .int (zI z), .ref y1])), (g1, AI G 7 (fun z_ => (kd z_ : Int))), (g2, AI G 7 fg), (g3, AI G 7 hm), (g4, AI G 7 at_), (g5, AI G 7 lg), (c0, AI G 38 kc)]) C rfl rfl in_X4 tyX4_ok nmX4 (by decide) q1120 rfl rfl rfl rfl rfl (nlt rfl) rfl dX4_lands_31 ?_
      refine y_iconst C dX4_lands_34 ?_
      refine z_istore (lv' := [(4, .int (zI 0)), (0, .ref m), (1, .int (zI (t0 : Int))), (2, .int (zI z)), (3, .int (zI what))]) C dX4_lands_35 (nlt rfl) rfl ?_
      refine z_aload_n C dX4_lands_37 rfl 1 rfl ?_
      refine z_v (ws' := fun u => [(m, .inr (11, [.int (zI (n : Int)), .ref g1, .ref g2, .ref g3, .ref g4, .ref g5, .int (zI oa), .int (zI dy), .ref s1, .ref s2, .ref s3, .ref s4, .ref s5, .ref s6, .int (zI 0), .int (zI rdg), .int (zI plc), .int (zI ibd), .int (zI stm), .ref t1, .ref t2, .ref t3, .ref c0, .ref c1, .ref c2, .ref c3, .int (zI him), .int (zI 38), .int (zI 1), .ref c0, .int (zI chd), .int (zI chf), .ref y0, .int (zI z), .ref y1])), (g1, AI G 7 (fun z_ => (kd z_ : Int))), (g2, AI G 7 fg), (g3, AI G 7 hm), (g4, AI G 7 at_), (g5, AI G 7 lg), (c0, AI G 38 (encF n oa dy kd fg hm at_ lg))]) C (z_runV (q := 0) (As := []) (rest := []) C (ct_X4_open (zl X) G m g1 g2 g3 g4 g5 s1 s2 s3 s4 s5 s6 t1 t2 t3 c0 c1 c2 c3 y0 y1 0 rdg plc ibd stm him pl0 itk chd chf z ki kd fg hm at_ lg n oa dy kc ) (lw_V q1231 q1233 qs28 q61 q1234) rfl rfl (sb_e [0, 1, 2, 3, 4, 5, 6] rfl rfl) (na := 0) (by decide +kernel) rfl (zrm rfl rfl (rfl) (rfl)) rfl (Nat.le_of_ble_eq_true rfl) dX4_lands_38) (fun u => jn_e (wr := []) [0, 1, 2, 3, 4, 5, 6] [] [0, 1, 2, 3, 4, 5, 6] rfl rfl rfl (by decide) rfl rfl) (fun u hp_38 => ?_)
      refine y_iconst C dX4_lands_41 ?_
      refine z_istore (lv' := [(5, .int (zI 0)), (4, .int (zI 0)), (0, .ref m), (1, .int (zI (t0 : Int))), (2, .int (zI z)), (3, .int (zI what))]) C dX4_lands_42 (nlt rfl) rfl ?_
      have L_44 : ∀ (tt : Nat) (i : Nat) (sm : Int) (l1 : Int) (sa1 : Int) (ta1 : Int) (itb : Int), (i ≤ t0) → (ldsF kd fg hm at_ lg n oa z i = (l1, sa1, ta1)) → (sm = (if what = 0 then sa1 else ta1)) → t0 - i = tt → Z X (cX4_lands, 7, yX4_lands.cls, (some .int), { frames := 5, cells := 0, slots := 0, locals := 113 }, A) G 0 0 [(m, .inr (11, [.int (zI (n : Int)), .ref g1, .ref g2, .ref g3, .ref g4, .ref g5, .int (zI oa), .int (zI dy), .ref s1, .ref s2, .ref s3, .ref s4, .ref s5, .ref s6, .int (zI 0), .int (zI rdg), .int (zI plc), .int (zI ibd), .int (zI stm), .ref t1, .ref t2, .ref t3, .ref c0, .ref c1, .ref c2, .ref c3, .int (zI him), .int (zI 38), .int (zI itb), .ref c0, .int (zI chd), .int (zI chf), .ref y0, .int (zI l1), .ref y1])), (g1, AI G 7 (fun z_ => (kd z_ : Int))), (g2, AI G 7 fg), (g3, AI G 7 hm), (g4, AI G 7 at_), (g5, AI G 7 lg), (c0, AI G 38 (encF n oa dy kd fg hm at_ lg))] 44 [(5, .int (zI (i : Int))), (4, .int (zI sm)), (0, .ref m), (1, .int (zI (t0 : Int))), (3, .int (zI what))] [] := by
        intro tt
        induction tt using Nat.strongRecOn with
        | _ tt ih_44 =>
          intro i sm l1 sa1 ta1 itb hi hld hsm ht_44
          refine z_iload C dX4_lands_44 0 rfl ?_
          refine z_iload_n C dX4_lands_46 rfl 3 rfl ?_
          refine y_icmp_ge (tgt := 117) C (by omega) (by omega) dX4_lands_47 (by decide) (fun c_47 => ?_) (fun c_47 => ?_)
          · skip
            refine z_iload C dX4_lands_117 1 rfl ?_
            rw [show i = t0 by omega] at hld
            exact z_iret C hA hQ rfl (Nat.le_of_ble_eq_true rfl) (Nat.le_of_ble_eq_true rfl) (((.ref c0), 38, itb, (encF n oa dy kd fg hm at_ lg), l1)) (congrArg zI (by unfold oLands; rw [if_pos (by omega)]; simp only [zTN]; rw [hld]; exact hsm)) (sb_e [0, 1, 2, 3, 4, 5, 6] rfl rfl) dX4_lands_119
          · skip
            refine y_iconst C dX4_lands_50 ?_
            refine z_istore (lv' := [(6, .int (zI 0)), (5, .int (zI (i : Int))), (4, .int (zI sm)), (0, .ref m), (1, .int (zI (t0 : Int))), (3, .int (zI what))]) C dX4_lands_51 (nlt rfl) rfl ?_
            have L_53 : ∀ (tt : Nat) (h : Nat), (h ≤ n) → n - h = tt → Z X (cX4_lands, 7, yX4_lands.cls, (some .int), { frames := 5, cells := 0, slots := 0, locals := 113 }, A) G 0 0 [(m, .inr (11, [.int (zI (n : Int)), .ref g1, .ref g2, .ref g3, .ref g4, .ref g5, .int (zI oa), .int (zI dy), .ref s1, .ref s2, .ref s3, .ref s4, .ref s5, .ref s6, .int (zI 0), .int (zI rdg), .int (zI plc), .int (zI ibd), .int (zI stm), .ref t1, .ref t2, .ref t3, .ref c0, .ref c1, .ref c2, .ref c3, .int (zI him), .int (zI 38), .int (zI itb), .ref c0, .int (zI chd), .int (zI chf), .ref y0, .int (zI (drL l1 h)), .ref y1])), (g1, AI G 7 (fun z_ => (kd z_ : Int))), (g2, AI G 7 fg), (g3, AI G 7 hm), (g4, AI G 7 (mixF h (drP l1) at_)), (g5, AI G 7 lg), (c0, AI G 38 (encF n oa dy kd fg hm at_ lg))] 53 [(6, .int (zI (h : Int))), (5, .int (zI (i : Int))), (4, .int (zI sm)), (0, .ref m), (1, .int (zI (t0 : Int))), (3, .int (zI what))] [] := by
              intro tt
              induction tt using Nat.strongRecOn with
              | _ tt ih_53 =>
                intro h hh ht_53
                refine z_iload C dX4_lands_53 0 rfl ?_
                refine z_aload_n C dX4_lands_55 rfl 3 rfl ?_
                refine z_get (q := 0) (kf := 0) (v := .int (zI (n : Int))) C rfl rfl in_X4 (by decide) q1087 (Or.inl rfl) rfl dX4_lands_56 ?_
                refine y_icmp_ge (tgt := 81) C (by omega) (by omega) dX4_lands_59 (by decide) (fun c_59 => ?_) (fun c_59 => ?_)
                · skip
                  rw [show (h : Nat) = n by omega]
                  refine z_aload_n C dX4_lands_81 rfl 3 rfl ?_
                  refine y_bipush C dX4_lands_82 (by decide) ?_
                  refine z_v (ws' := fun u => [(m, .inr (11, [.int (zI (n : Int)), .ref g1, .ref g2, .ref g3, .ref g4, .ref g5, .int (zI oa), .int (zI (dy + (10 : Int))), .ref s1, .ref s2, .ref s3, .ref s4, .ref s5, .ref s6, .int (zI 0), .int (zI rdg), .int (zI plc), .int (zI ibd), .int (zI stm), .ref t1, .ref t2, .ref t3, .ref c0, .ref c1, .ref c2, .ref c3, .int (zI him), .int (zI 38), .int (zI itb), .ref c0, .int (zI chd), .int (zI chf), .ref y0, .int (zI (drL l1 n)), .ref y1])), (g1, AI G 7 (fun z_ => (kd z_ : Int))), (g2, AI G 7 fg), (g3, AI G 7 hm), (g4, AI G 7 (mixF n (drP l1) at_)), (g5, AI G 7 (goL kd fg hm (mixF n (drP l1) at_) oa n 10 lg)), (c0, AI G 38 (encF n oa dy kd fg hm at_ lg))]) C (z_runV (q := 0) (As := [.int (zI 10)]) (rest := []) C (ct_X4_goDays (zl X) G m g1 g2 g3 g4 g5 kd fg hm (mixF n (drP l1) at_) lg n oa dy ([.ref s1, .ref s2, .ref s3, .ref s4, .ref s5, .ref s6, .int (zI 0), .int (zI rdg), .int (zI plc), .int (zI ibd), .int (zI stm), .ref t1, .ref t2, .ref t3, .ref c0, .ref c1, .ref c2, .ref c3, .int (zI him), .int (zI 38), .int (zI itb), .ref c0, .int (zI chd), .int (zI chf), .ref y0, .int (zI (drL l1 n)), .ref y1]) 10 (hL.atm (drP_r l1)) (by first | assumption | omega)) (lw_V q1298 q1300 qs42 q61 q1301) rfl rfl (sb_e [0, 1, 2, 3, 4, 5] rfl rfl) (na := 1) (by decide +kernel) rfl (zrm rfl rfl (rfl) (rfl)) rfl (Nat.le_of_ble_eq_true rfl) dX4_lands_84) (fun u => jn_e (wr := [(c0, AI G 38 (encF n oa dy kd fg hm at_ lg))]) [0, 1, 2, 3, 4, 5] [6] [1, 2, 3, 4, 5, 6, 0] rfl rfl rfl (by decide) rfl rfl) (fun u hp_84 => ?_)
                  refine z_iload C dX4_lands_87 2 rfl ?_
                  refine z_iload_n C dX4_lands_89 rfl 5 rfl ?_
                  refine y_if_ne (tgt := 100) C (by omega) dX4_lands_90 (by decide) (fun c_90 => ?_) (fun c_90 => ?_)
                  · skip
                    refine z_aload_n C dX4_lands_100 rfl 3 rfl ?_
                    refine z_i C (z_runV (q := 0) (As := []) (rest := [.int (zI sm)]) C (ct_X4_atGoals (zl X) G m g1 g2 g3 g4 g5 kd fg hm (mixF n (drP l1) at_) (goL kd fg hm (mixF n (drP l1) at_) oa n 10 lg) n oa (dy + (10 : Int)) ([.ref s1, .ref s2, .ref s3, .ref s4, .ref s5, .ref s6, .int (zI 0), .int (zI rdg), .int (zI plc), .int (zI ibd), .int (zI stm), .ref t1, .ref t2, .ref t3, .ref c0, .ref c1, .ref c2, .ref c3, .int (zI him), .int (zI 38), .int (zI itb), .ref c0, .int (zI chd), .int (zI chf), .ref y0, .int (zI (drL l1 n)), .ref y1]) ((hL.atm (drP_r l1)).go 10)) (lw_V q1505 q1507 qs56 q61 q1508) rfl rfl (sb_e [0, 1, 2, 3, 4, 5] rfl rfl) (na := 0) (by decide +kernel) rfl (zrm rfl rfl (rfl) (rfl)) rfl (Nat.le_of_ble_eq_true rfl) dX4_lands_101) (fun u => jn_ro (sb_e [0, 1, 2, 3, 4, 5] rfl rfl)) (fun r_101 u hp_101 => ?_)
                    have hp_101 : r_101 = zI (manyL kd hm (mixF n (drP l1) at_) oa n) := hp_101
                    subst hp_101
                    refine y_iadd C dX4_lands_104 ?_
                    refine z_istore (lv' := [(4, .int (zI (sm + (manyL kd hm (mixF n (drP l1) at_) oa n)))), (6, .int (zI (n : Int))), (5, .int (zI (i : Int))), (0, .ref m), (1, .int (zI (t0 : Int))), (3, .int (zI what))]) C dX4_lands_105 (nlt rfl) rfl ?_
                    refine z_aload_n C dX4_lands_107 rfl 3 rfl ?_
                    refine z_v (ws' := fun u => [(m, .inr (11, [.int (zI (n : Int)), .ref g1, .ref g2, .ref g3, .ref g4, .ref g5, .int (zI oa), .int (zI dy), .ref s1, .ref s2, .ref s3, .ref s4, .ref s5, .ref s6, .int (zI 0), .int (zI rdg), .int (zI plc), .int (zI ibd), .int (zI stm), .ref t1, .ref t2, .ref t3, .ref c0, .ref c1, .ref c2, .ref c3, .int (zI him), .int (zI 38), .int (zI 0), .ref c0, .int (zI chd), .int (zI chf), .ref y0, .int (zI (drL l1 n)), .ref y1])), (g1, AI G 7 (fun z_ => (kd z_ : Int))), (g2, AI G 7 fg), (g3, AI G 7 hm), (g4, AI G 7 at_), (g5, AI G 7 lg), (c0, AI G 38 (encF n oa dy kd fg hm at_ lg))]) C (z_runV (q := 0) (As := []) (rest := []) C (ct_X4_close (zl X) G m g1 g2 g3 g4 g5 s1 s2 s3 s4 s5 s6 t1 t2 t3 c0 c1 c2 c3 y0 y1 0 rdg plc ibd stm him 38 itb chd chf (drL l1 n) (.ref c0) (fun z_ => (kd z_ : Int)) fg hm (mixF n (drP l1) at_) (goL kd fg hm (mixF n (drP l1) at_) oa n 10 lg) n oa (dy + (10 : Int)) kd fg hm at_ lg n oa dy ) (lw_V q1302 q1304 qs43 q61 q1305) rfl rfl (sb_e [0, 1, 2, 3, 4, 5, 6] rfl rfl) (na := 0) (by decide +kernel) rfl (zrm rfl rfl (rfl) (rfl)) rfl (Nat.le_of_ble_eq_true rfl) dX4_lands_108) (fun u => jn_e (wr := []) [0, 1, 2, 3, 4, 5, 6] [] [0, 1, 2, 3, 4, 5, 6] rfl rfl rfl (by decide) rfl rfl) (fun u hp_108 => ?_)
                    refine y_iinc (lv' := [(5, .int (zI ((i : Int) + 1))), (4, .int (zI (sm + (manyL kd hm (mixF n (drP l1) at_) oa n)))), (6, .int (zI (n : Int))), (0, .ref m), (1, .int (zI (t0 : Int))), (3, .int (zI what))]) C dX4_lands_111 (q := 2) rfl (nlt rfl) rfl ?_
                    refine z_goto (tgt := 44) C dX4_lands_114 (by decide) ?_
                    refine z_lv (lv' := [(5, .int (zI ((i : Int) + 1))), (4, .int (zI (sm + (manyL kd hm (mixF n (drP l1) at_) oa n)))), (0, .ref m), (1, .int (zI (t0 : Int))), (3, .int (zI what))]) [0, 1, 3, 4, 5] rfl ?_
                    exact ih_44 _ (by omega) (i + 1) (sm + (manyL kd hm (mixF n (drP l1) at_) oa n)) (drL l1 n) (sa1 + sumL (goL kd fg hm (mixF n (drP l1) at_) oa n 10 lg) n) (ta1 + manyL kd hm (mixF n (drP l1) at_) oa n) 0 (by first | assumption | omega) (ldsF_s hld) (by rw [hsm]; first | (rw [if_pos (by omega), if_pos (by omega)]; done) | (rw [if_neg (by omega), if_neg (by omega)]; done)) rfl
                  · skip
                    refine z_aload_n C dX4_lands_93 rfl 3 rfl ?_
                    refine z_i C (z_runV (q := 0) (As := []) (rest := [.int (zI sm)]) C (ct_X4_allLonging (zl X) G m g1 g2 g3 g4 g5 kd fg hm (mixF n (drP l1) at_) (goL kd fg hm (mixF n (drP l1) at_) oa n 10 lg) n oa (dy + (10 : Int)) ([.ref s1, .ref s2, .ref s3, .ref s4, .ref s5, .ref s6, .int (zI 0), .int (zI rdg), .int (zI plc), .int (zI ibd), .int (zI stm), .ref t1, .ref t2, .ref t3, .ref c0, .ref c1, .ref c2, .ref c3, .int (zI him), .int (zI 38), .int (zI itb), .ref c0, .int (zI chd), .int (zI chf), .ref y0, .int (zI (drL l1 n)), .ref y1]) ((hL.atm (drP_r l1)).go 10)) (lw_V q1347 q1349 qs45 q61 q1350) rfl rfl (sb_e [0, 1, 2, 3, 4, 5] rfl rfl) (na := 0) (by decide +kernel) rfl (zrm rfl rfl (rfl) (rfl)) rfl (Nat.le_of_ble_eq_true rfl) dX4_lands_94) (fun u => jn_ro (sb_e [0, 1, 2, 3, 4, 5] rfl rfl)) (fun r_94 u hp_94 => ?_)
                    have hp_94 : r_94 = zI (sumL (goL kd fg hm (mixF n (drP l1) at_) oa n 10 lg) n) := hp_94
                    subst hp_94
                    refine z_goto (tgt := 104) C dX4_lands_97 (by decide) ?_
                    refine y_iadd C dX4_lands_104 ?_
                    refine z_istore (lv' := [(4, .int (zI (sm + (sumL (goL kd fg hm (mixF n (drP l1) at_) oa n 10 lg) n)))), (6, .int (zI (n : Int))), (5, .int (zI (i : Int))), (0, .ref m), (1, .int (zI (t0 : Int))), (3, .int (zI what))]) C dX4_lands_105 (nlt rfl) rfl ?_
                    refine z_aload_n C dX4_lands_107 rfl 3 rfl ?_
                    refine z_v (ws' := fun u => [(m, .inr (11, [.int (zI (n : Int)), .ref g1, .ref g2, .ref g3, .ref g4, .ref g5, .int (zI oa), .int (zI dy), .ref s1, .ref s2, .ref s3, .ref s4, .ref s5, .ref s6, .int (zI 0), .int (zI rdg), .int (zI plc), .int (zI ibd), .int (zI stm), .ref t1, .ref t2, .ref t3, .ref c0, .ref c1, .ref c2, .ref c3, .int (zI him), .int (zI 38), .int (zI 0), .ref c0, .int (zI chd), .int (zI chf), .ref y0, .int (zI (drL l1 n)), .ref y1])), (g1, AI G 7 (fun z_ => (kd z_ : Int))), (g2, AI G 7 fg), (g3, AI G 7 hm), (g4, AI G 7 at_), (g5, AI G 7 lg), (c0, AI G 38 (encF n oa dy kd fg hm at_ lg))]) C (z_runV (q := 0) (As := []) (rest := []) C (ct_X4_close (zl X) G m g1 g2 g3 g4 g5 s1 s2 s3 s4 s5 s6 t1 t2 t3 c0 c1 c2 c3 y0 y1 0 rdg plc ibd stm him 38 itb chd chf (drL l1 n) (.ref c0) (fun z_ => (kd z_ : Int)) fg hm (mixF n (drP l1) at_) (goL kd fg hm (mixF n (drP l1) at_) oa n 10 lg) n oa (dy + (10 : Int)) kd fg hm at_ lg n oa dy ) (lw_V q1302 q1304 qs43 q61 q1305) rfl rfl (sb_e [0, 1, 2, 3, 4, 5, 6] rfl rfl) (na := 0) (by decide +kernel) rfl (zrm rfl rfl (rfl) (rfl)) rfl (Nat.le_of_ble_eq_true rfl) dX4_lands_108) (fun u => jn_e (wr := []) [0, 1, 2, 3, 4, 5, 6] [] [0, 1, 2, 3, 4, 5, 6] rfl rfl rfl (by decide) rfl rfl) (fun u hp_108 => ?_)
                    refine y_iinc (lv' := [(5, .int (zI ((i : Int) + 1))), (4, .int (zI (sm + (sumL (goL kd fg hm (mixF n (drP l1) at_) oa n 10 lg) n)))), (6, .int (zI (n : Int))), (0, .ref m), (1, .int (zI (t0 : Int))), (3, .int (zI what))]) C dX4_lands_111 (q := 2) rfl (nlt rfl) rfl ?_
                    refine z_goto (tgt := 44) C dX4_lands_114 (by decide) ?_
                    refine z_lv (lv' := [(5, .int (zI ((i : Int) + 1))), (4, .int (zI (sm + (sumL (goL kd fg hm (mixF n (drP l1) at_) oa n 10 lg) n)))), (0, .ref m), (1, .int (zI (t0 : Int))), (3, .int (zI what))]) [0, 1, 3, 4, 5] rfl ?_
                    exact ih_44 _ (by omega) (i + 1) (sm + (sumL (goL kd fg hm (mixF n (drP l1) at_) oa n 10 lg) n)) (drL l1 n) (sa1 + sumL (goL kd fg hm (mixF n (drP l1) at_) oa n 10 lg) n) (ta1 + manyL kd hm (mixF n (drP l1) at_) oa n) 0 (by first | assumption | omega) (ldsF_s hld) (by rw [hsm]; first | (rw [if_pos (by omega), if_pos (by omega)]; done) | (rw [if_neg (by omega), if_neg (by omega)]; done)) rfl
                · skip
                  refine z_aload_n C dX4_lands_62 rfl 3 rfl ?_
                  refine z_get (q := 0) (kf := 4) (v := .ref g4) C rfl rfl in_X4 (by decide) q1091 (Or.inl rfl) rfl dX4_lands_63 ?_
                  refine z_iload C dX4_lands_66 0 rfl ?_
                  refine z_aload_n C dX4_lands_68 rfl 3 rfl ?_
                  refine y_bipush C dX4_lands_69 (by decide) ?_
                  refine z_i (ws' := fun u => [(m, .inr (11, [.int (zI (n : Int)), .ref g1, .ref g2, .ref g3, .ref g4, .ref g5, .int (zI oa), .int (zI dy), .ref s1, .ref s2, .ref s3, .ref s4, .ref s5, .ref s6, .int (zI 0), .int (zI rdg), .int (zI plc), .int (zI ibd), .int (zI stm), .ref t1, .ref t2, .ref t3, .ref c0, .ref c1, .ref c2, .ref c3, .int (zI him), .int (zI 38), .int (zI itb), .ref c0, .int (zI chd), .int (zI chf), .ref y0, .int (zI (nxL (drL l1 h))), .ref y1])), (g1, AI G 7 (fun z_ => (kd z_ : Int))), (g2, AI G 7 fg), (g3, AI G 7 hm), (g4, AI G 7 (mixF h (drP l1) at_)), (g5, AI G 7 lg), (c0, AI G 38 (encF n oa dy kd fg hm at_ lg))]) C (z_runV (q := 0) (As := [.int (zI 21)]) (rest := [.int (zI (h : Int)), .ref g4]) C (ct_X4_drawBelow (zl X) G m g1 g2 g3 g4 g5 s1 s2 s3 s4 s5 s6 t1 t2 t3 c0 c1 c2 c3 y0 y1 0 rdg plc ibd stm him 38 itb chd chf (drL l1 h) (.ref c0) kd fg hm at_ lg n oa dy ) (lw_V q1498 q1500 qs55 q61 q1501) rfl rfl (sb_e [0] rfl rfl) (na := 1) (by decide +kernel) rfl (zrm rfl rfl (rfl) (rfl)) rfl (Nat.le_of_ble_eq_true rfl) dX4_lands_71) (fun u => jn_e (wr := [(g1, AI G 7 (fun z_ => (kd z_ : Int))), (g2, AI G 7 fg), (g3, AI G 7 hm), (g4, AI G 7 (mixF h (drP l1) at_)), (g5, AI G 7 lg), (c0, AI G 38 (encF n oa dy kd fg hm at_ lg))]) [0] [1, 2, 3, 4, 5, 6] [6, 0, 1, 2, 3, 4, 5] rfl rfl rfl (by decide) rfl rfl) (fun r_71 u hp_71 => ?_)
                  have hp_71 : r_71 = zI (nxL (drL l1 h) % 2147483648 / 65536 % 21) := hp_71
                  subst hp_71
                  refine y_iast (q := 4) (t0 := 0) (g := mixF (h + 1) (drP l1) at_) (ws' := [(m, .inr (11, [.int (zI (n : Int)), .ref g1, .ref g2, .ref g3, .ref g4, .ref g5, .int (zI oa), .int (zI dy), .ref s1, .ref s2, .ref s3, .ref s4, .ref s5, .ref s6, .int (zI 0), .int (zI rdg), .int (zI plc), .int (zI ibd), .int (zI stm), .ref t1, .ref t2, .ref t3, .ref c0, .ref c1, .ref c2, .ref c3, .int (zI him), .int (zI 38), .int (zI itb), .ref c0, .int (zI chd), .int (zI chf), .ref y0, .int (zI (nxL (drL l1 h))), .ref y1])), (g1, AI G 7 (fun z_ => (kd z_ : Int))), (g2, AI G 7 fg), (g3, AI G 7 hm), (g4, AI G 7 (mixF (h + 1) (drP l1) at_)), (g5, AI G 7 lg), (c0, AI G 38 (encF n oa dy kd fg hm at_ lg))]) C rfl rfl (by omega) (by decide) mixF_up rfl dX4_lands_74 ?_
                  refine y_iinc (lv' := [(6, .int (zI ((h : Int) + 1))), (5, .int (zI (i : Int))), (4, .int (zI sm)), (0, .ref m), (1, .int (zI (t0 : Int))), (3, .int (zI what))]) C dX4_lands_75 (q := 0) rfl (nlt rfl) rfl ?_
                  refine z_goto (tgt := 53) C dX4_lands_78 (by decide) ?_
                  exact ih_53 _ (by omega) (h + 1) (by first | assumption | omega) rfl
            refine z_wsEq (ws' := [(m, .inr (11, [.int (zI (n : Int)), .ref g1, .ref g2, .ref g3, .ref g4, .ref g5, .int (zI oa), .int (zI dy), .ref s1, .ref s2, .ref s3, .ref s4, .ref s5, .ref s6, .int (zI 0), .int (zI rdg), .int (zI plc), .int (zI ibd), .int (zI stm), .ref t1, .ref t2, .ref t3, .ref c0, .ref c1, .ref c2, .ref c3, .int (zI him), .int (zI 38), .int (zI itb), .ref c0, .int (zI chd), .int (zI chf), .ref y0, .int (zI (drL l1 0)), .ref y1])), (g1, AI G 7 (fun z_ => (kd z_ : Int))), (g2, AI G 7 fg), (g3, AI G 7 hm), (g4, AI G 7 (mixF 0 (drP l1) at_)), (g5, AI G 7 lg), (c0, AI G 38 (encF n oa dy kd fg hm at_ lg))]) (by rw [mixF_0]; rfl) ?_
            exact L_53 _ 0 (by first | assumption | omega) rfl
      refine z_lv (lv' := [(5, .int (zI 0)), (4, .int (zI 0)), (0, .ref m), (1, .int (zI (t0 : Int))), (3, .int (zI what))]) [0, 1, 2, 3, 5] rfl ?_
      exact L_44 _ 0 0 z 0 0 1 (by first | assumption | omega) (rfl) (by split <;> rfl) rfl
    · skip
      refine y_iconst C dX4_lands_27 ?_
      exact z_iret C hA hQ rfl (Nat.le_of_ble_eq_true rfl) (Nat.le_of_ble_eq_true rfl) ((ki, pl0, itk, kc, sd)) (congrArg zI (by unfold oLands; (try simp only [zTN]); (repeat (first | rw [if_pos (by omega)] | rw [if_neg (by omega)])); first | done | rfl)) (sb_e [0, 1, 2, 3, 4, 5, 6] rfl rfl) dX4_lands_28

