/-! THE COMPONENT, 2: taken .. hang -/
set_option maxRecDepth 100000
abbrev tkOk (n : Nat) (h yard : Int) : Prop := (0 ≤ h ∧ h ≤ (n : Int) - 1) ∧ (0 ≤ yard ∧ yard ≤ 20)
abbrev lnOk (n : Nat) (h v : Int) : Prop := (0 ≤ h ∧ h ≤ (n : Int) - 1) ∧ (0 ≤ v ∧ v ≤ 99)
abbrev hgOk (yard : Int) : Prop := 0 ≤ yard ∧ yard ≤ 20
abbrev dsOk (dy t : Int) : Prop := (1 ≤ t ∧ t ≤ 60) ∧ dy + t ≤ 999
def oTaken (kd : Nat → Nat) (fg : Nat → Int) (hm : Nat → Int) (at_ : Nat → Int) (lg : Nat → Int) (n : Nat) (oa : Int) (h : Int) (yard : Int) : Int := if tkOk n h yard then at_ h.toNat else -1
def oLongs (kd : Nat → Nat) (fg : Nat → Int) (hm : Nat → Int) (at_ : Nat → Int) (lg : Nat → Int) (n : Nat) (oa : Int) (h : Int) (v : Int) : Int := if lnOk n h v then lg h.toNat else -1
def oHangs (kd : Nat → Nat) (fg : Nat → Int) (hm : Nat → Int) (at_ : Nat → Int) (lg : Nat → Int) (n : Nat) (oa : Int) (yard : Int) : Int := if hgOk yard then oa else -1
def oDays (kd : Nat → Nat) (fg : Nat → Int) (hm : Nat → Int) (at_ : Nat → Int) (lg : Nat → Int) (n : Nat) (oa : Int) (dy : Int) (t : Int) : Int := if 1 ≤ t ∧ t ≤ 60 then (if dy + t ≤ 999 then sumL (goL kd fg hm at_ oa n t.toNat lg) n else -3) else -1
set_option maxHeartbeats 4000000 in
theorem ct_X1_taken (l : Launch) (G : ZG) (x : Nat) (b0 : Nat) (m0 : Nat) (tl : Nat) (le : Nat) (sh : Nat) (im : Int) (fw : Int) (fh : Int) (lo : Int) (a0 : Nat) (a1 : Nat) (a2 : Nat) (a3 : Nat) (a4 : Nat) (r : Nat → Option Nat) (hm : Nat → Int) (at_ : Nat → Int) (lg : Nat → Int) (n : Nat) (oa : Int) (dy : Int) (LP : List Nat) (hk : Nat → Nat) (hf : Nat → Int) (kd : Nat → Nat) (fg : Nat → Int) (h : Int) (yard : Int) (hH : HR LP hk hf r n kd fg) (hL : LK n kd fg hm at_ lg oa) (rh : -2147483648 ≤ h ∧ h ≤ 2147483647) (ryard : -2147483648 ≤ yard ∧ yard ≤ 2147483647) : CT l yX1_taken cX1_taken 4 (some .int) { frames := 2, cells := 0, slots := 0, locals := 43 } G [.ref x, .int (zI h), .int (zI yard)] ([(x, .inr (10, [.ref a0, .ref b0, .ref m0, .int (zI im), .ref tl, .ref le, .int (zI fw), .int (zI fh), .int (zI lo), .ref sh])), (a0, .inr (8, [.ref a1, .ref a2, .ref a3, .ref a4, .int (zI (n : Int)), .int (zI oa), .int (zI dy)])), (a1, AQ G 4 7 r), (a2, AI G 7 hm), (a3, AI G 7 at_), (a4, AI G 7 lg)] ++ PL LP hk hf) (Qi G ([(x, .inr (10, [.ref a0, .ref b0, .ref m0, .int (zI im), .ref tl, .ref le, .int (zI fw), .int (zI fh), .int (zI lo), .ref sh])), (a0, .inr (8, [.ref a1, .ref a2, .ref a3, .ref a4, .int (zI (n : Int)), .int (zI oa), .int (zI dy)])), (a1, AQ G 4 7 r), (a2, AI G 7 hm), (a3, AI G 7 at_), (a4, AI G 7 lg)] ++ PL LP hk hf) (fun (r : Int32) (u : Unit) => r = zI (oTaken kd fg hm at_ lg n oa h yard)) (fun u => ([(x, .inr (10, [.ref a0, .ref b0, .ref m0, .int (zI im), .ref tl, .ref le, .int (zI fw), .int (zI fh), .int (zI lo), .ref sh])), (a0, .inr (8, [.ref a1, .ref a2, .ref a3, .ref a4, .int (zI (n : Int)), .int (zI oa), .int (zI dy)])), (a1, AQ G 4 7 r), (a2, AI G 7 hm), (a3, AI G 7 (if tkOk n h yard then va_up at_ h.toNat yard else at_)), (a4, AI G 7 lg)] ++ PL LP hk hf))) := by
  refine z_met (by decide) (Nat.le_of_ble_eq_true rfl) ?_
  intro X A hl0 hA C hQ hin
  subst hl0
  obtain ⟨hn7, hoa, hLj⟩ := id hL
  show Z X _ G 0 0 _ 0 [(0, .ref x), (1, .int (zI h)), (2, .int (zI yard))] []
  refine z_aload_n C dX1_taken_0 rfl 0 rfl ?_
  refine z_get (q := 0) (kf := 0) (v := .ref a0) C rfl rfl in_X1 (by decide) q880 (Or.inl rfl) rfl dX1_taken_1 ?_
  refine z_iload_n C dX1_taken_4 rfl 1 rfl ?_
  refine z_i C (z_runV (q := 1) (As := [.int (zI h)]) (rest := []) C (ct_X2_isHorse (zl X) G a0 a1 a2 a3 a4 n oa dy h (by first | assumption | omega) (by first | assumption | omega)) (lw_V q388 q389 q390 q59 q391) rfl rfl (sb_e [1] rfl rfl) (na := 1) (by decide +kernel) rfl (zrm rfl rfl (rfl) (rfl)) rfl (Nat.le_of_ble_eq_true rfl) dX1_taken_5) (fun u => jn_ro (sb_e [1] rfl rfl)) (fun r_5 u hp_5 => ?_)
  have hp_5 : r_5 = zI (bI (0 ≤ h ∧ h ≤ (n : Int) - 1)) := hp_5
  subst hp_5
  refine y_beq (tgt := 18) C dX1_taken_8 (by decide) (fun c_8 => ?_) (fun c_8 => ?_)
  · skip
    refine y_iconst C dX1_taken_18 ?_
    refine z_wsEq (ws' := ([(x, .inr (10, [.ref a0, .ref b0, .ref m0, .int (zI im), .ref tl, .ref le, .int (zI fw), .int (zI fh), .int (zI lo), .ref sh])), (a0, .inr (8, [.ref a1, .ref a2, .ref a3, .ref a4, .int (zI (n : Int)), .int (zI oa), .int (zI dy)])), (a1, AQ G 4 7 r), (a2, AI G 7 hm), (a3, AI G 7 (if tkOk n h yard then va_up at_ h.toNat yard else at_)), (a4, AI G 7 lg)] ++ PL LP hk hf)) (by simp only [if_neg (show ¬ (tkOk n h yard) from by simp only [tkOk, zTN]; omega), zTN]) ?_
    exact z_iret C hA hQ rfl (Nat.le_of_ble_eq_true rfl) (Nat.le_of_ble_eq_true rfl) (()) (congrArg zI (by unfold oTaken; (try simp only [zTN]); (repeat (first | rw [if_pos (by omega)] | rw [if_neg (by omega)])); first | done | rfl)) (sb_p [0, 1, 2, 3, 4, 5] rfl rfl) dX1_taken_19
  · skip
    refine z_iload_n C dX1_taken_11 rfl 2 rfl ?_
    refine z_i C (z_runS (As := [.int (zI yard)]) (rest := []) C (ct_X1_isYard (zl X) G yard (by first | assumption | omega)) (lw_S q303 q304 q58 q305) (sb_e [] rfl rfl) (na := 1) (by decide +kernel) rfl (zrm rfl rfl (rfl) (rfl)) rfl (Nat.le_of_ble_eq_true rfl) dX1_taken_12) (fun u => jn_ro (sb_e [] rfl rfl)) (fun r_12 u hp_12 => ?_)
    have hp_12 : r_12 = zI (bI (0 ≤ yard ∧ yard ≤ 20)) := hp_12
    subst hp_12
    refine y_bne (tgt := 20) C dX1_taken_15 (by decide) (fun c_15 => ?_) (fun c_15 => ?_)
    · skip
      obtain ⟨j, rfl⟩ := Int.eq_ofNat_of_zero_le (show 0 ≤ h by omega)
      refine z_aload_n C dX1_taken_20 rfl 0 rfl ?_
      refine z_get (q := 0) (kf := 0) (v := .ref a0) C rfl rfl in_X1 (by decide) q880 (Or.inl rfl) rfl dX1_taken_21 ?_
      refine z_get (q := 1) (kf := 2) (v := .ref a3) C rfl rfl in_X2 (by decide) q842 (Or.inl rfl) rfl dX1_taken_24 ?_
      refine z_iload_n C dX1_taken_27 rfl 1 rfl ?_
      refine y_iald (q := 4) (t0 := 0) (v := at_ j) C rfl rfl (by omega) (by decide) rfl dX1_taken_28 ?_
      refine z_istore_n (lv' := [(3, .int (zI (at_ j))), (0, .ref x), (1, .int (zI (j : Int))), (2, .int (zI yard))]) C dX1_taken_29 rfl (nlt rfl) rfl ?_
      refine z_aload_n C dX1_taken_30 rfl 1 rfl ?_
      refine z_get (q := 0) (kf := 0) (v := .ref a0) C rfl rfl in_X1 (by decide) q880 (Or.inl rfl) rfl dX1_taken_31 ?_
      refine z_get (q := 1) (kf := 2) (v := .ref a3) C rfl rfl in_X2 (by decide) q842 (Or.inl rfl) rfl dX1_taken_34 ?_
      refine z_iload_n C dX1_taken_37 rfl 2 rfl ?_
      refine z_iload_n C dX1_taken_38 rfl 3 rfl ?_
      refine y_iast (q := 4) (t0 := 0) (g := va_up at_ j yard) (ws' := ([(x, .inr (10, [.ref a0, .ref b0, .ref m0, .int (zI im), .ref tl, .ref le, .int (zI fw), .int (zI fh), .int (zI lo), .ref sh])), (a0, .inr (8, [.ref a1, .ref a2, .ref a3, .ref a4, .int (zI (n : Int)), .int (zI oa), .int (zI dy)])), (a1, AQ G 4 7 r), (a2, AI G 7 hm), (a3, AI G 7 (va_up at_ j yard)), (a4, AI G 7 lg)] ++ PL LP hk hf)) C rfl rfl (by omega) (by decide) rfl rfl dX1_taken_39 ?_
      refine z_iload_n C dX1_taken_40 rfl 0 rfl ?_
      refine z_wsEq (ws' := ([(x, .inr (10, [.ref a0, .ref b0, .ref m0, .int (zI im), .ref tl, .ref le, .int (zI fw), .int (zI fh), .int (zI lo), .ref sh])), (a0, .inr (8, [.ref a1, .ref a2, .ref a3, .ref a4, .int (zI (n : Int)), .int (zI oa), .int (zI dy)])), (a1, AQ G 4 7 r), (a2, AI G 7 hm), (a3, AI G 7 (if tkOk n (j : Int) yard then va_up at_ (j : Int).toNat yard else at_)), (a4, AI G 7 lg)] ++ PL LP hk hf)) (by simp only [if_pos (show (tkOk n (j : Int) yard) from by simp only [tkOk, zTN]; omega), zTN]) ?_
      exact z_iret C hA hQ rfl (Nat.le_of_ble_eq_true rfl) (Nat.le_of_ble_eq_true rfl) (()) (congrArg zI (by unfold oTaken; (try simp only [zTN]); (repeat (first | rw [if_pos (by omega)] | rw [if_neg (by omega)])); first | done | rfl)) (sb_p [0, 1, 2, 3, 4, 5] rfl rfl) dX1_taken_41
    · skip
      refine y_iconst C dX1_taken_18 ?_
      refine z_wsEq (ws' := ([(x, .inr (10, [.ref a0, .ref b0, .ref m0, .int (zI im), .ref tl, .ref le, .int (zI fw), .int (zI fh), .int (zI lo), .ref sh])), (a0, .inr (8, [.ref a1, .ref a2, .ref a3, .ref a4, .int (zI (n : Int)), .int (zI oa), .int (zI dy)])), (a1, AQ G 4 7 r), (a2, AI G 7 hm), (a3, AI G 7 (if tkOk n h yard then va_up at_ h.toNat yard else at_)), (a4, AI G 7 lg)] ++ PL LP hk hf)) (by simp only [if_neg (show ¬ (tkOk n h yard) from by simp only [tkOk, zTN]; omega), zTN]) ?_
      exact z_iret C hA hQ rfl (Nat.le_of_ble_eq_true rfl) (Nat.le_of_ble_eq_true rfl) (()) (congrArg zI (by unfold oTaken; (try simp only [zTN]); (repeat (first | rw [if_pos (by omega)] | rw [if_neg (by omega)])); first | done | rfl)) (sb_p [0, 1, 2, 3, 4, 5] rfl rfl) dX1_taken_19

set_option maxHeartbeats 4000000 in
theorem ct_X1_longs (l : Launch) (G : ZG) (x : Nat) (b0 : Nat) (m0 : Nat) (tl : Nat) (le : Nat) (sh : Nat) (im : Int) (fw : Int) (fh : Int) (lo : Int) (a0 : Nat) (a1 : Nat) (a2 : Nat) (a3 : Nat) (a4 : Nat) (r : Nat → Option Nat) (hm : Nat → Int) (at_ : Nat → Int) (lg : Nat → Int) (n : Nat) (oa : Int) (dy : Int) (LP : List Nat) (hk : Nat → Nat) (hf : Nat → Int) (kd : Nat → Nat) (fg : Nat → Int) (h : Int) (v : Int) (hH : HR LP hk hf r n kd fg) (hL : LK n kd fg hm at_ lg oa) (rh : -2147483648 ≤ h ∧ h ≤ 2147483647) (rv : -2147483648 ≤ v ∧ v ≤ 2147483647) : CT l yX1_longs cX1_longs 4 (some .int) { frames := 2, cells := 0, slots := 0, locals := 43 } G [.ref x, .int (zI h), .int (zI v)] ([(x, .inr (10, [.ref a0, .ref b0, .ref m0, .int (zI im), .ref tl, .ref le, .int (zI fw), .int (zI fh), .int (zI lo), .ref sh])), (a0, .inr (8, [.ref a1, .ref a2, .ref a3, .ref a4, .int (zI (n : Int)), .int (zI oa), .int (zI dy)])), (a1, AQ G 4 7 r), (a2, AI G 7 hm), (a3, AI G 7 at_), (a4, AI G 7 lg)] ++ PL LP hk hf) (Qi G ([(x, .inr (10, [.ref a0, .ref b0, .ref m0, .int (zI im), .ref tl, .ref le, .int (zI fw), .int (zI fh), .int (zI lo), .ref sh])), (a0, .inr (8, [.ref a1, .ref a2, .ref a3, .ref a4, .int (zI (n : Int)), .int (zI oa), .int (zI dy)])), (a1, AQ G 4 7 r), (a2, AI G 7 hm), (a3, AI G 7 at_), (a4, AI G 7 lg)] ++ PL LP hk hf) (fun (r : Int32) (u : Unit) => r = zI (oLongs kd fg hm at_ lg n oa h v)) (fun u => ([(x, .inr (10, [.ref a0, .ref b0, .ref m0, .int (zI im), .ref tl, .ref le, .int (zI fw), .int (zI fh), .int (zI lo), .ref sh])), (a0, .inr (8, [.ref a1, .ref a2, .ref a3, .ref a4, .int (zI (n : Int)), .int (zI oa), .int (zI dy)])), (a1, AQ G 4 7 r), (a2, AI G 7 hm), (a3, AI G 7 at_), (a4, AI G 7 (if lnOk n h v then va_up lg h.toNat v else lg))] ++ PL LP hk hf))) := by
  refine z_met (by decide) (Nat.le_of_ble_eq_true rfl) ?_
  intro X A hl0 hA C hQ hin
  subst hl0
  obtain ⟨hn7, hoa, hLj⟩ := id hL
  show Z X _ G 0 0 _ 0 [(0, .ref x), (1, .int (zI h)), (2, .int (zI v))] []
  refine z_aload_n C dX1_longs_0 rfl 0 rfl ?_
  refine z_get (q := 0) (kf := 0) (v := .ref a0) C rfl rfl in_X1 (by decide) q880 (Or.inl rfl) rfl dX1_longs_1 ?_
  refine z_iload_n C dX1_longs_4 rfl 1 rfl ?_
  refine z_i C (z_runV (q := 1) (As := [.int (zI h)]) (rest := []) C (ct_X2_isHorse (zl X) G a0 a1 a2 a3 a4 n oa dy h (by first | assumption | omega) (by first | assumption | omega)) (lw_V q388 q389 q390 q59 q391) rfl rfl (sb_e [1] rfl rfl) (na := 1) (by decide +kernel) rfl (zrm rfl rfl (rfl) (rfl)) rfl (Nat.le_of_ble_eq_true rfl) dX1_longs_5) (fun u => jn_ro (sb_e [1] rfl rfl)) (fun r_5 u hp_5 => ?_)
  have hp_5 : r_5 = zI (bI (0 ≤ h ∧ h ≤ (n : Int) - 1)) := hp_5
  subst hp_5
  refine y_beq (tgt := 21) C dX1_longs_8 (by decide) (fun c_8 => ?_) (fun c_8 => ?_)
  · skip
    refine y_iconst C dX1_longs_21 ?_
    refine z_wsEq (ws' := ([(x, .inr (10, [.ref a0, .ref b0, .ref m0, .int (zI im), .ref tl, .ref le, .int (zI fw), .int (zI fh), .int (zI lo), .ref sh])), (a0, .inr (8, [.ref a1, .ref a2, .ref a3, .ref a4, .int (zI (n : Int)), .int (zI oa), .int (zI dy)])), (a1, AQ G 4 7 r), (a2, AI G 7 hm), (a3, AI G 7 at_), (a4, AI G 7 (if lnOk n h v then va_up lg h.toNat v else lg))] ++ PL LP hk hf)) (by simp only [if_neg (show ¬ (lnOk n h v) from by simp only [lnOk, zTN]; omega), zTN]) ?_
    exact z_iret C hA hQ rfl (Nat.le_of_ble_eq_true rfl) (Nat.le_of_ble_eq_true rfl) (()) (congrArg zI (by unfold oLongs; (try simp only [zTN]); (repeat (first | rw [if_pos (by omega)] | rw [if_neg (by omega)])); first | done | rfl)) (sb_p [0, 1, 2, 3, 4, 5] rfl rfl) dX1_longs_22
  · skip
    refine z_iload_n C dX1_longs_11 rfl 2 rfl ?_
    refine y_iconst C dX1_longs_12 ?_
    refine y_bipush C dX1_longs_13 (by decide) ?_
    refine z_i C (z_runS (As := [.int (zI v), .int (zI 0), .int (zI 99)]) (rest := []) C (ct_X1_isIn (zl X) G v 0 99 (by first | assumption | omega) (by first | assumption | omega) (by first | assumption | omega)) (lw_S q189 q190 q58 q191) (sb_e [] rfl rfl) (na := 3) (by decide +kernel) rfl (zrm rfl rfl (rfl) (rfl)) rfl (Nat.le_of_ble_eq_true rfl) dX1_longs_15) (fun u => jn_ro (sb_e [] rfl rfl)) (fun r_15 u hp_15 => ?_)
    have hp_15 : r_15 = zI (bI (0 ≤ v ∧ v ≤ 99)) := hp_15
    subst hp_15
    refine y_bne (tgt := 23) C dX1_longs_18 (by decide) (fun c_18 => ?_) (fun c_18 => ?_)
    · skip
      obtain ⟨j, rfl⟩ := Int.eq_ofNat_of_zero_le (show 0 ≤ h by omega)
      refine z_aload_n C dX1_longs_23 rfl 0 rfl ?_
      refine z_get (q := 0) (kf := 0) (v := .ref a0) C rfl rfl in_X1 (by decide) q880 (Or.inl rfl) rfl dX1_longs_24 ?_
      refine z_get (q := 1) (kf := 3) (v := .ref a4) C rfl rfl in_X2 (by decide) q844 (Or.inl rfl) rfl dX1_longs_27 ?_
      refine z_iload_n C dX1_longs_30 rfl 1 rfl ?_
      refine y_iald (q := 5) (t0 := 0) (v := lg j) C rfl rfl (by omega) (by decide) rfl dX1_longs_31 ?_
      refine z_istore_n (lv' := [(3, .int (zI (lg j))), (0, .ref x), (1, .int (zI (j : Int))), (2, .int (zI v))]) C dX1_longs_32 rfl (nlt rfl) rfl ?_
      refine z_aload_n C dX1_longs_33 rfl 1 rfl ?_
      refine z_get (q := 0) (kf := 0) (v := .ref a0) C rfl rfl in_X1 (by decide) q880 (Or.inl rfl) rfl dX1_longs_34 ?_
      refine z_get (q := 1) (kf := 3) (v := .ref a4) C rfl rfl in_X2 (by decide) q844 (Or.inl rfl) rfl dX1_longs_37 ?_
      refine z_iload_n C dX1_longs_40 rfl 2 rfl ?_
      refine z_iload_n C dX1_longs_41 rfl 3 rfl ?_
      refine y_iast (q := 5) (t0 := 0) (g := va_up lg j v) (ws' := ([(x, .inr (10, [.ref a0, .ref b0, .ref m0, .int (zI im), .ref tl, .ref le, .int (zI fw), .int (zI fh), .int (zI lo), .ref sh])), (a0, .inr (8, [.ref a1, .ref a2, .ref a3, .ref a4, .int (zI (n : Int)), .int (zI oa), .int (zI dy)])), (a1, AQ G 4 7 r), (a2, AI G 7 hm), (a3, AI G 7 at_), (a4, AI G 7 (va_up lg j v))] ++ PL LP hk hf)) C rfl rfl (by omega) (by decide) rfl rfl dX1_longs_42 ?_
      refine z_iload_n C dX1_longs_43 rfl 0 rfl ?_
      refine z_wsEq (ws' := ([(x, .inr (10, [.ref a0, .ref b0, .ref m0, .int (zI im), .ref tl, .ref le, .int (zI fw), .int (zI fh), .int (zI lo), .ref sh])), (a0, .inr (8, [.ref a1, .ref a2, .ref a3, .ref a4, .int (zI (n : Int)), .int (zI oa), .int (zI dy)])), (a1, AQ G 4 7 r), (a2, AI G 7 hm), (a3, AI G 7 at_), (a4, AI G 7 (if lnOk n (j : Int) v then va_up lg (j : Int).toNat v else lg))] ++ PL LP hk hf)) (by simp only [if_pos (show (lnOk n (j : Int) v) from by simp only [lnOk, zTN]; omega), zTN]) ?_
      exact z_iret C hA hQ rfl (Nat.le_of_ble_eq_true rfl) (Nat.le_of_ble_eq_true rfl) (()) (congrArg zI (by unfold oLongs; (try simp only [zTN]); (repeat (first | rw [if_pos (by omega)] | rw [if_neg (by omega)])); first | done | rfl)) (sb_p [0, 1, 2, 3, 4, 5] rfl rfl) dX1_longs_44
    · skip
      refine y_iconst C dX1_longs_21 ?_
      refine z_wsEq (ws' := ([(x, .inr (10, [.ref a0, .ref b0, .ref m0, .int (zI im), .ref tl, .ref le, .int (zI fw), .int (zI fh), .int (zI lo), .ref sh])), (a0, .inr (8, [.ref a1, .ref a2, .ref a3, .ref a4, .int (zI (n : Int)), .int (zI oa), .int (zI dy)])), (a1, AQ G 4 7 r), (a2, AI G 7 hm), (a3, AI G 7 at_), (a4, AI G 7 (if lnOk n h v then va_up lg h.toNat v else lg))] ++ PL LP hk hf)) (by simp only [if_neg (show ¬ (lnOk n h v) from by simp only [lnOk, zTN]; omega), zTN]) ?_
      exact z_iret C hA hQ rfl (Nat.le_of_ble_eq_true rfl) (Nat.le_of_ble_eq_true rfl) (()) (congrArg zI (by unfold oLongs; (try simp only [zTN]); (repeat (first | rw [if_pos (by omega)] | rw [if_neg (by omega)])); first | done | rfl)) (sb_p [0, 1, 2, 3, 4, 5] rfl rfl) dX1_longs_22

set_option maxHeartbeats 4000000 in
theorem ct_X1_hangs (l : Launch) (G : ZG) (x : Nat) (b0 : Nat) (m0 : Nat) (tl : Nat) (le : Nat) (sh : Nat) (im : Int) (fw : Int) (fh : Int) (lo : Int) (a0 : Nat) (a1 : Nat) (a2 : Nat) (a3 : Nat) (a4 : Nat) (r : Nat → Option Nat) (hm : Nat → Int) (at_ : Nat → Int) (lg : Nat → Int) (n : Nat) (oa : Int) (dy : Int) (LP : List Nat) (hk : Nat → Nat) (hf : Nat → Int) (kd : Nat → Nat) (fg : Nat → Int) (yard : Int) (hH : HR LP hk hf r n kd fg) (hL : LK n kd fg hm at_ lg oa) (ryard : -2147483648 ≤ yard ∧ yard ≤ 2147483647) : CT l yX1_hangs cX1_hangs 3 (some .int) { frames := 2, cells := 0, slots := 0, locals := 42 } G [.ref x, .int (zI yard)] ([(x, .inr (10, [.ref a0, .ref b0, .ref m0, .int (zI im), .ref tl, .ref le, .int (zI fw), .int (zI fh), .int (zI lo), .ref sh])), (a0, .inr (8, [.ref a1, .ref a2, .ref a3, .ref a4, .int (zI (n : Int)), .int (zI oa), .int (zI dy)])), (a1, AQ G 4 7 r), (a2, AI G 7 hm), (a3, AI G 7 at_), (a4, AI G 7 lg)] ++ PL LP hk hf) (Qi G ([(x, .inr (10, [.ref a0, .ref b0, .ref m0, .int (zI im), .ref tl, .ref le, .int (zI fw), .int (zI fh), .int (zI lo), .ref sh])), (a0, .inr (8, [.ref a1, .ref a2, .ref a3, .ref a4, .int (zI (n : Int)), .int (zI oa), .int (zI dy)])), (a1, AQ G 4 7 r), (a2, AI G 7 hm), (a3, AI G 7 at_), (a4, AI G 7 lg)] ++ PL LP hk hf) (fun (r : Int32) (u : Unit) => r = zI (oHangs kd fg hm at_ lg n oa yard)) (fun u => ([(x, .inr (10, [.ref a0, .ref b0, .ref m0, .int (zI im), .ref tl, .ref le, .int (zI fw), .int (zI fh), .int (zI lo), .ref sh])), (a0, .inr (8, [.ref a1, .ref a2, .ref a3, .ref a4, .int (zI (n : Int)), .int (zI (if hgOk yard then yard else oa)), .int (zI dy)])), (a1, AQ G 4 7 r), (a2, AI G 7 hm), (a3, AI G 7 at_), (a4, AI G 7 lg)] ++ PL LP hk hf))) := by
  refine z_met (by decide) (Nat.le_of_ble_eq_true rfl) ?_
  intro X A hl0 hA C hQ hin
  subst hl0
  obtain ⟨hn7, hoa, hLj⟩ := id hL
  show Z X _ G 0 0 _ 0 [(0, .ref x), (1, .int (zI yard))] []
  refine z_iload_n C dX1_hangs_0 rfl 1 rfl ?_
  refine z_i C (z_runS (As := [.int (zI yard)]) (rest := []) C (ct_X1_isYard (zl X) G yard (by first | assumption | omega)) (lw_S q303 q304 q58 q305) (sb_e [] rfl rfl) (na := 1) (by decide +kernel) rfl (zrm rfl rfl (rfl) (rfl)) rfl (Nat.le_of_ble_eq_true rfl) dX1_hangs_1) (fun u => jn_ro (sb_e [] rfl rfl)) (fun r_1 u hp_1 => ?_)
  have hp_1 : r_1 = zI (bI (0 ≤ yard ∧ yard ≤ 20)) := hp_1
  subst hp_1
  refine y_bne (tgt := 9) C dX1_hangs_4 (by decide) (fun c_4 => ?_) (fun c_4 => ?_)
  · skip
    refine z_aload_n C dX1_hangs_9 rfl 0 rfl ?_
    refine z_get (q := 0) (kf := 0) (v := .ref a0) C rfl rfl in_X1 (by decide) q880 (Or.inl rfl) rfl dX1_hangs_10 ?_
    refine z_get (q := 1) (kf := 5) (v := .int (zI oa)) C rfl rfl in_X2 (by decide) q848 (Or.inl rfl) rfl dX1_hangs_13 ?_
    refine z_istore_n (lv' := [(2, .int (zI oa)), (0, .ref x), (1, .int (zI yard))]) C dX1_hangs_16 rfl (nlt rfl) rfl ?_
    refine z_aload_n C dX1_hangs_17 rfl 1 rfl ?_
    refine z_get (q := 0) (kf := 0) (v := .ref a0) C rfl rfl in_X1 (by decide) q880 (Or.inl rfl) rfl dX1_hangs_18 ?_
    refine z_iload_n C dX1_hangs_21 rfl 2 rfl ?_
    refine z_put (q := 1) (kf := 5) (ws' := ([(x, .inr (10, [.ref a0, .ref b0, .ref m0, .int (zI im), .ref tl, .ref le, .int (zI fw), .int (zI fh), .int (zI lo), .ref sh])), (a0, .inr (8, [.ref a1, .ref a2, .ref a3, .ref a4, .int (zI (n : Int)), .int (zI yard), .int (zI dy)])), (a1, AQ G 4 7 r), (a2, AI G 7 hm), (a3, AI G 7 at_), (a4, AI G 7 lg)] ++ PL LP hk hf)) C rfl rfl in_X2 tyX2_ok nmX2 (by decide) q848 rfl rfl rfl rfl rfl (nlt rfl) rfl dX1_hangs_22 ?_
    refine z_iload_n C dX1_hangs_25 rfl 0 rfl ?_
    refine z_wsEq (ws' := ([(x, .inr (10, [.ref a0, .ref b0, .ref m0, .int (zI im), .ref tl, .ref le, .int (zI fw), .int (zI fh), .int (zI lo), .ref sh])), (a0, .inr (8, [.ref a1, .ref a2, .ref a3, .ref a4, .int (zI (n : Int)), .int (zI (if hgOk yard then yard else oa)), .int (zI dy)])), (a1, AQ G 4 7 r), (a2, AI G 7 hm), (a3, AI G 7 at_), (a4, AI G 7 lg)] ++ PL LP hk hf)) (by simp only [if_pos (show (hgOk yard) from by simp only [hgOk, zTN]; omega), zTN]) ?_
    exact z_iret C hA hQ rfl (Nat.le_of_ble_eq_true rfl) (Nat.le_of_ble_eq_true rfl) (()) (congrArg zI (by unfold oHangs; (try simp only [zTN]); (repeat (first | rw [if_pos (by omega)] | rw [if_neg (by omega)])); first | done | rfl)) (sb_p [0, 1, 2, 3, 4, 5] rfl rfl) dX1_hangs_26
  · skip
    refine y_iconst C dX1_hangs_7 ?_
    refine z_wsEq (ws' := ([(x, .inr (10, [.ref a0, .ref b0, .ref m0, .int (zI im), .ref tl, .ref le, .int (zI fw), .int (zI fh), .int (zI lo), .ref sh])), (a0, .inr (8, [.ref a1, .ref a2, .ref a3, .ref a4, .int (zI (n : Int)), .int (zI (if hgOk yard then yard else oa)), .int (zI dy)])), (a1, AQ G 4 7 r), (a2, AI G 7 hm), (a3, AI G 7 at_), (a4, AI G 7 lg)] ++ PL LP hk hf)) (by simp only [if_neg (show ¬ (hgOk yard) from by simp only [hgOk, zTN]; omega), zTN]) ?_
    exact z_iret C hA hQ rfl (Nat.le_of_ble_eq_true rfl) (Nat.le_of_ble_eq_true rfl) (()) (congrArg zI (by unfold oHangs; (try simp only [zTN]); (repeat (first | rw [if_pos (by omega)] | rw [if_neg (by omega)])); first | done | rfl)) (sb_p [0, 1, 2, 3, 4, 5] rfl rfl) dX1_hangs_8

set_option maxHeartbeats 4000000 in
theorem ct_X1_days (l : Launch) (G : ZG) (x : Nat) (b0 : Nat) (m0 : Nat) (tl : Nat) (le : Nat) (sh : Nat) (im : Int) (fw : Int) (fh : Int) (lo : Int) (a0 : Nat) (a1 : Nat) (a2 : Nat) (a3 : Nat) (a4 : Nat) (r : Nat → Option Nat) (hm : Nat → Int) (at_ : Nat → Int) (lg : Nat → Int) (n : Nat) (oa : Int) (dy : Int) (LP : List Nat) (hk : Nat → Nat) (hf : Nat → Int) (kd : Nat → Nat) (fg : Nat → Int) (t : Int) (hH : HR LP hk hf r n kd fg) (hL : LK n kd fg hm at_ lg oa) (rt : -2147483648 ≤ t ∧ t ≤ 2147483647) (hdy : 0 ≤ dy ∧ dy ≤ 999) : CT l yX1_days cX1_days 2 (some .int) { frames := 8, cells := 0, slots := 0, locals := 165 } G [.ref x, .int (zI t)] ([(x, .inr (10, [.ref a0, .ref b0, .ref m0, .int (zI im), .ref tl, .ref le, .int (zI fw), .int (zI fh), .int (zI lo), .ref sh])), (a0, .inr (8, [.ref a1, .ref a2, .ref a3, .ref a4, .int (zI (n : Int)), .int (zI oa), .int (zI dy)])), (a1, AQ G 4 7 r), (a2, AI G 7 hm), (a3, AI G 7 at_), (a4, AI G 7 lg)] ++ PL LP hk hf) (Qi G ([(x, .inr (10, [.ref a0, .ref b0, .ref m0, .int (zI im), .ref tl, .ref le, .int (zI fw), .int (zI fh), .int (zI lo), .ref sh])), (a0, .inr (8, [.ref a1, .ref a2, .ref a3, .ref a4, .int (zI (n : Int)), .int (zI oa), .int (zI dy)])), (a1, AQ G 4 7 r), (a2, AI G 7 hm), (a3, AI G 7 at_), (a4, AI G 7 lg)] ++ PL LP hk hf) (fun (r : Int32) (u : Unit) => r = zI (oDays kd fg hm at_ lg n oa dy t)) (fun u => ([(x, .inr (10, [.ref a0, .ref b0, .ref m0, .int (zI im), .ref tl, .ref le, .int (zI fw), .int (zI fh), .int (zI lo), .ref sh])), (a0, .inr (8, [.ref a1, .ref a2, .ref a3, .ref a4, .int (zI (n : Int)), .int (zI oa), .int (zI (if dsOk dy t then dy + t else dy))])), (a1, AQ G 4 7 r), (a2, AI G 7 hm), (a3, AI G 7 at_), (a4, AI G 7 (if dsOk dy t then goL kd fg hm at_ oa n t.toNat lg else lg))] ++ PL LP hk hf))) := by
  refine z_met (by decide) (Nat.le_of_ble_eq_true rfl) ?_
  intro X A hl0 hA C hQ hin
  subst hl0
  obtain ⟨hn7, hoa, hLj⟩ := id hL
  show Z X _ G 0 0 _ 0 [(0, .ref x), (1, .int (zI t))] []
  refine z_iload_n C dX1_days_0 rfl 1 rfl ?_
  refine y_iconst C dX1_days_1 ?_
  refine y_bipush C dX1_days_2 (by decide) ?_
  refine z_i C (z_runS (As := [.int (zI t), .int (zI 1), .int (zI 60)]) (rest := []) C (ct_X1_isIn (zl X) G t 1 60 (by first | assumption | omega) (by first | assumption | omega) (by first | assumption | omega)) (lw_S q189 q190 q58 q191) (sb_e [] rfl rfl) (na := 3) (by decide +kernel) rfl (zrm rfl rfl (rfl) (rfl)) rfl (Nat.le_of_ble_eq_true rfl) dX1_days_4) (fun u => jn_ro (sb_e [] rfl rfl)) (fun r_4 u hp_4 => ?_)
  have hp_4 : r_4 = zI (bI (1 ≤ t ∧ t ≤ 60)) := hp_4
  subst hp_4
  refine y_bne (tgt := 12) C dX1_days_7 (by decide) (fun c_7 => ?_) (fun c_7 => ?_)
  · skip
    refine z_aload_n C dX1_days_12 rfl 0 rfl ?_
    refine z_get (q := 0) (kf := 0) (v := .ref a0) C rfl rfl in_X1 (by decide) q880 (Or.inl rfl) rfl dX1_days_13 ?_
    refine z_get (q := 1) (kf := 6) (v := .int (zI dy)) C rfl rfl in_X2 (by decide) q850 (Or.inl rfl) rfl dX1_days_16 ?_
    refine z_iload_n C dX1_days_19 rfl 1 rfl ?_
    refine y_iadd C dX1_days_20 ?_
    refine y_sipush C dX1_days_21 (by decide) ?_
    refine y_icmp_le (tgt := 30) C (by omega) (by omega) dX1_days_24 (by decide) (fun c_24 => ?_) (fun c_24 => ?_)
    · skip
      obtain ⟨t0, rfl⟩ := Int.eq_ofNat_of_zero_le (show 0 ≤ t by omega)
      refine z_aload_n C dX1_days_30 rfl 0 rfl ?_
      refine z_get (q := 0) (kf := 0) (v := .ref a0) C rfl rfl in_X1 (by decide) q880 (Or.inl rfl) rfl dX1_days_31 ?_
      refine z_iload_n C dX1_days_34 rfl 1 rfl ?_
      refine z_v (ws' := fun u => ([(x, .inr (10, [.ref a0, .ref b0, .ref m0, .int (zI im), .ref tl, .ref le, .int (zI fw), .int (zI fh), .int (zI lo), .ref sh])), (a0, .inr (8, [.ref a1, .ref a2, .ref a3, .ref a4, .int (zI (n : Int)), .int (zI oa), .int (zI (dy + (t0 : Int)))])), (a1, AQ G 4 7 r), (a2, AI G 7 hm), (a3, AI G 7 at_), (a4, AI G 7 (goL kd fg hm at_ oa n t0 lg))] ++ PL LP hk hf)) C (z_runV (q := 1) (As := [.int (zI (t0 : Int))]) (rest := []) C (ct_X2_goes (zl X) G a0 a1 a2 a3 a4 r hm at_ lg n oa dy LP hk hf kd fg t0 (by first | assumption | omega) (by first | assumption | omega) (by first | assumption | omega)) (lw_V q532 q533 q534 q59 q535) rfl rfl (sb_p [1, 2, 3, 4, 5] rfl rfl) (na := 1) (by decide +kernel) rfl (zrm rfl rfl (rfl) (rfl)) rfl (Nat.le_of_ble_eq_true rfl) dX1_days_35) (fun u => jn_p (Lr := [(x, .inr (10, [.ref a0, .ref b0, .ref m0, .int (zI im), .ref tl, .ref le, .int (zI fw), .int (zI fh), .int (zI lo), .ref sh]))]) [1, 2, 3, 4, 5] [0] [0, 1, 2, 3, 4, 5] rfl rfl rfl (by decide) rfl rfl) (fun u hp_35 => ?_)
      refine z_aload_n C dX1_days_38 rfl 0 rfl ?_
      refine z_get (q := 0) (kf := 0) (v := .ref a0) C rfl rfl in_X1 (by decide) q880 (Or.inl rfl) rfl dX1_days_39 ?_
      refine z_i C (z_runV (q := 1) (As := []) (rest := []) C (ct_X2_allLonging (zl X) G a0 a1 a2 a3 a4 (goL kd fg hm at_ oa n t0 lg) n oa (dy + (t0 : Int)) (by first | assumption | omega)) (lw_V q597 q598 q599 q59 q600) rfl rfl (sb_e [1, 5] rfl rfl) (na := 0) (by decide +kernel) rfl (zrm rfl rfl (rfl) (rfl)) rfl (Nat.le_of_ble_eq_true rfl) dX1_days_42) (fun u => jn_ro (sb_e [1, 5] rfl rfl)) (fun r_42 u hp_42 => ?_)
      have hp_42 : r_42 = zI (sumL (goL kd fg hm at_ oa n t0 lg) n) := hp_42
      subst hp_42
      refine z_wsEq (ws' := ([(x, .inr (10, [.ref a0, .ref b0, .ref m0, .int (zI im), .ref tl, .ref le, .int (zI fw), .int (zI fh), .int (zI lo), .ref sh])), (a0, .inr (8, [.ref a1, .ref a2, .ref a3, .ref a4, .int (zI (n : Int)), .int (zI oa), .int (zI (if dsOk dy (t0 : Int) then dy + (t0 : Int) else dy))])), (a1, AQ G 4 7 r), (a2, AI G 7 hm), (a3, AI G 7 at_), (a4, AI G 7 (if dsOk dy (t0 : Int) then goL kd fg hm at_ oa n (t0 : Int).toNat lg else lg))] ++ PL LP hk hf)) (by simp only [if_pos (show (dsOk dy (t0 : Int)) from by simp only [dsOk]; omega), zTN]) ?_
      exact z_iret C hA hQ rfl (Nat.le_of_ble_eq_true rfl) (Nat.le_of_ble_eq_true rfl) (()) (congrArg zI (by unfold oDays; (try simp only [zTN]); (repeat (first | rw [if_pos (by omega)] | rw [if_neg (by omega)])); first | done | rfl)) (sb_p [0, 1, 2, 3, 4, 5] rfl rfl) dX1_days_45
    · skip
      refine y_bipush C dX1_days_27 (by decide) ?_
      refine z_wsEq (ws' := ([(x, .inr (10, [.ref a0, .ref b0, .ref m0, .int (zI im), .ref tl, .ref le, .int (zI fw), .int (zI fh), .int (zI lo), .ref sh])), (a0, .inr (8, [.ref a1, .ref a2, .ref a3, .ref a4, .int (zI (n : Int)), .int (zI oa), .int (zI (if dsOk dy t then dy + t else dy))])), (a1, AQ G 4 7 r), (a2, AI G 7 hm), (a3, AI G 7 at_), (a4, AI G 7 (if dsOk dy t then goL kd fg hm at_ oa n t.toNat lg else lg))] ++ PL LP hk hf)) (by simp only [if_neg (show ¬ (dsOk dy t) from by simp only [dsOk, zTN]; omega), zTN]) ?_
      exact z_iret C hA hQ rfl (Nat.le_of_ble_eq_true rfl) (Nat.le_of_ble_eq_true rfl) (()) (congrArg zI (by unfold oDays; (try simp only [zTN]); (repeat (first | rw [if_pos (by omega)] | rw [if_neg (by omega)])); first | done | rfl)) (sb_p [0, 1, 2, 3, 4, 5] rfl rfl) dX1_days_29
  · skip
    refine y_iconst C dX1_days_10 ?_
    refine z_wsEq (ws' := ([(x, .inr (10, [.ref a0, .ref b0, .ref m0, .int (zI im), .ref tl, .ref le, .int (zI fw), .int (zI fh), .int (zI lo), .ref sh])), (a0, .inr (8, [.ref a1, .ref a2, .ref a3, .ref a4, .int (zI (n : Int)), .int (zI oa), .int (zI (if dsOk dy t then dy + t else dy))])), (a1, AQ G 4 7 r), (a2, AI G 7 hm), (a3, AI G 7 at_), (a4, AI G 7 (if dsOk dy t then goL kd fg hm at_ oa n t.toNat lg else lg))] ++ PL LP hk hf)) (by simp only [if_neg (show ¬ (dsOk dy t) from by simp only [dsOk, zTN]; omega), zTN]) ?_
    exact z_iret C hA hQ rfl (Nat.le_of_ble_eq_true rfl) (Nat.le_of_ble_eq_true rfl) (()) (congrArg zI (by unfold oDays; (try simp only [zTN]); (repeat (first | rw [if_pos (by omega)] | rw [if_neg (by omega)])); first | done | rfl)) (sb_p [0, 1, 2, 3, 4, 5] rfl rfl) dX1_days_11

def oHurry (kd : Nat → Nat) (fg : Nat → Int) (hm : Nat → Int) (at_ : Nat → Int) (lg : Nat → Int) (n : Nat) (oa : Int) (yard : Int) (what : Int) : Int := if (0 ≤ yard ∧ yard ≤ 20) ∧ (0 ≤ what ∧ what ≤ 1) then if what = 0 then (minF (tkB kd fg hm at_ lg n oa yard 0) n).1 else (minF (tkB kd fg hm at_ lg n oa yard 0) n).2 else -1
set_option maxHeartbeats 4000000 in
theorem ct_X1_hurry (l : Launch) (G : ZG) (x : Nat) (b0 : Nat) (m0 : Nat) (tl : Nat) (le : Nat) (sh : Nat) (im : Int) (fw : Int) (fh : Int) (lo : Int) (a0 : Nat) (a1 : Nat) (a2 : Nat) (a3 : Nat) (a4 : Nat) (m1 : Nat) (m2 : Nat) (m3 : Nat) (m4 : Nat) (r : Nat → Option Nat) (hm : Nat → Int) (at_ : Nat → Int) (lg : Nat → Int) (n : Nat) (oa : Int) (dy : Int) (mr : Nat → Option Nat) (mhm : Nat → Int) (mat : Nat → Int) (mlg : Nat → Int) (mn : Nat) (moa : Int) (mdy : Int) (LP : List Nat) (hk : Nat → Nat) (hf : Nat → Int) (kd : Nat → Nat) (fg : Nat → Int) (yard : Int) (what : Int) (hH : HR LP hk hf r n kd fg) (hL : LK n kd fg hm at_ lg oa) (hK : PK LP hk hf) (hV : RV LP r) (ryard : -2147483648 ≤ yard ∧ yard ≤ 2147483647) (rwhat : -2147483648 ≤ what ∧ what ≤ 2147483647) : CT l yX1_hurry cX1_hurry 7 (some .int) { frames := 9, cells := 0, slots := 0, locals := 189 } G [.ref x, .int (zI yard), .int (zI what)] ([(x, .inr (10, [.ref a0, .ref b0, .ref m0, .int (zI im), .ref tl, .ref le, .int (zI fw), .int (zI fh), .int (zI lo), .ref sh])), (a0, .inr (8, [.ref a1, .ref a2, .ref a3, .ref a4, .int (zI (n : Int)), .int (zI oa), .int (zI dy)])), (a1, AQ G 4 7 r), (a2, AI G 7 hm), (a3, AI G 7 at_), (a4, AI G 7 lg), (m0, .inr (8, [.ref m1, .ref m2, .ref m3, .ref m4, .int (zI (mn : Int)), .int (zI moa), .int (zI mdy)])), (m1, AQ G 4 7 mr), (m2, AI G 7 mhm), (m3, AI G 7 mat), (m4, AI G 7 mlg)] ++ PL LP hk hf) (Qi G ([(x, .inr (10, [.ref a0, .ref b0, .ref m0, .int (zI im), .ref tl, .ref le, .int (zI fw), .int (zI fh), .int (zI lo), .ref sh])), (a0, .inr (8, [.ref a1, .ref a2, .ref a3, .ref a4, .int (zI (n : Int)), .int (zI oa), .int (zI dy)])), (a1, AQ G 4 7 r), (a2, AI G 7 hm), (a3, AI G 7 at_), (a4, AI G 7 lg), (m0, .inr (8, [.ref m1, .ref m2, .ref m3, .ref m4, .int (zI (mn : Int)), .int (zI moa), .int (zI mdy)])), (m1, AQ G 4 7 mr), (m2, AI G 7 mhm), (m3, AI G 7 mat), (m4, AI G 7 mlg)] ++ PL LP hk hf) (fun (r : Int32) (u : (Nat → Option Nat) × (Nat → Int) × (Nat → Int) × (Nat → Int) × Nat × Int × Int) => r = zI (oHurry kd fg hm at_ lg n oa yard what)) (fun u => ([(x, .inr (10, [.ref a0, .ref b0, .ref m0, .int (zI im), .ref tl, .ref le, .int (zI fw), .int (zI fh), .int (zI lo), .ref sh])), (a0, .inr (8, [.ref a1, .ref a2, .ref a3, .ref a4, .int (zI (n : Int)), .int (zI oa), .int (zI dy)])), (a1, AQ G 4 7 r), (a2, AI G 7 hm), (a3, AI G 7 at_), (a4, AI G 7 lg), (m0, .inr (8, [.ref m1, .ref m2, .ref m3, .ref m4, .int (zI (u.2.2.2.2.1 : Int)), .int (zI u.2.2.2.2.2.1), .int (zI u.2.2.2.2.2.2)])), (m1, AQ G 4 7 u.1), (m2, AI G 7 u.2.1), (m3, AI G 7 u.2.2.1), (m4, AI G 7 u.2.2.2.1)] ++ PL LP hk hf))) := by
  refine z_met (by decide) (Nat.le_of_ble_eq_true rfl) ?_
  intro X A hl0 hA C hQ hin
  subst hl0
  obtain ⟨hn7, hoa, hLj⟩ := id hL
  show Z X _ G 0 0 _ 0 [(0, .ref x), (1, .int (zI yard)), (2, .int (zI what))] []
  refine z_iload_n C dX1_hurry_0 rfl 1 rfl ?_
  refine z_i C (z_runS (As := [.int (zI yard)]) (rest := []) C (ct_X1_isYard (zl X) G yard (by first | assumption | omega)) (lw_S q303 q304 q58 q305) (sb_e [] rfl rfl) (na := 1) (by decide +kernel) rfl (zrm rfl rfl (rfl) (rfl)) rfl (Nat.le_of_ble_eq_true rfl) dX1_hurry_1) (fun u => jn_ro (sb_e [] rfl rfl)) (fun r_1 u hp_1 => ?_)
  have hp_1 : r_1 = zI (bI (0 ≤ yard ∧ yard ≤ 20)) := hp_1
  subst hp_1
  refine y_beq (tgt := 16) C dX1_hurry_4 (by decide) (fun c_4 => ?_) (fun c_4 => ?_)
  · skip
    refine y_iconst C dX1_hurry_16 ?_
    exact z_iret C hA hQ rfl (Nat.le_of_ble_eq_true rfl) (Nat.le_of_ble_eq_true rfl) ((mr, mhm, mat, mlg, mn, moa, mdy)) (congrArg zI (by unfold oHurry; (try simp only [zTN]); (repeat (first | rw [if_pos (by omega)] | rw [if_neg (by omega)])); first | done | rfl)) (sb_p [0, 1, 2, 3, 4, 5, 6, 7, 8, 9, 10] rfl rfl) dX1_hurry_17
  · skip
    refine z_iload_n C dX1_hurry_7 rfl 2 rfl ?_
    refine y_iconst C dX1_hurry_8 ?_
    refine y_iconst C dX1_hurry_9 ?_
    refine z_i C (z_runS (As := [.int (zI what), .int (zI 0), .int (zI 1)]) (rest := []) C (ct_X1_isIn (zl X) G what 0 1 (by first | assumption | omega) (by first | assumption | omega) (by first | assumption | omega)) (lw_S q189 q190 q58 q191) (sb_e [] rfl rfl) (na := 3) (by decide +kernel) rfl (zrm rfl rfl (rfl) (rfl)) rfl (Nat.le_of_ble_eq_true rfl) dX1_hurry_10) (fun u => jn_ro (sb_e [] rfl rfl)) (fun r_10 u hp_10 => ?_)
    have hp_10 : r_10 = zI (bI (0 ≤ what ∧ what ≤ 1)) := hp_10
    subst hp_10
    refine y_bne (tgt := 18) C dX1_hurry_13 (by decide) (fun c_13 => ?_) (fun c_13 => ?_)
    · skip
      refine y_bipush C dX1_hurry_18 (by decide) ?_
      refine z_istore_n (lv' := [(3, .int (zI (-4))), (0, .ref x), (1, .int (zI yard)), (2, .int (zI what))]) C dX1_hurry_20 rfl (nlt rfl) rfl ?_
      refine y_bipush C dX1_hurry_21 (by decide) ?_
      refine z_istore (lv' := [(4, .int (zI (-4))), (3, .int (zI (-4))), (0, .ref x), (1, .int (zI yard)), (2, .int (zI what))]) C dX1_hurry_23 (nlt rfl) rfl ?_
      refine y_iconst C dX1_hurry_25 ?_
      refine z_istore (lv' := [(5, .int (zI 0)), (4, .int (zI (-4))), (3, .int (zI (-4))), (0, .ref x), (1, .int (zI yard)), (2, .int (zI what))]) C dX1_hurry_26 (nlt rfl) rfl ?_
      have L_28 : ∀ (t : Nat) (i : Nat) (bst : Int) (lst : Int) (mr : Nat → Option Nat) (mhm : Nat → Int) (mat : Nat → Int) (mlg : Nat → Int) (mn : Nat) (moa : Int) (mdy : Int), (i ≤ n) → (minF (tkB kd fg hm at_ lg n oa yard 0) i = (bst, lst)) → n - i = t → Z X (cX1_hurry, 7, yX1_hurry.cls, (some .int), { frames := 9, cells := 0, slots := 0, locals := 189 }, A) G 0 0 ([(x, .inr (10, [.ref a0, .ref b0, .ref m0, .int (zI im), .ref tl, .ref le, .int (zI fw), .int (zI fh), .int (zI lo), .ref sh])), (a0, .inr (8, [.ref a1, .ref a2, .ref a3, .ref a4, .int (zI (n : Int)), .int (zI oa), .int (zI dy)])), (a1, AQ G 4 7 r), (a2, AI G 7 hm), (a3, AI G 7 at_), (a4, AI G 7 lg), (m0, .inr (8, [.ref m1, .ref m2, .ref m3, .ref m4, .int (zI (mn : Int)), .int (zI moa), .int (zI mdy)])), (m1, AQ G 4 7 mr), (m2, AI G 7 mhm), (m3, AI G 7 mat), (m4, AI G 7 mlg)] ++ PL LP hk hf) 28 [(0, .ref x), (1, .int (zI yard)), (2, .int (zI what)), (3, .int (zI bst)), (4, .int (zI lst)), (5, .int (zI (i : Int)))] [] := by
        intro t
        induction t using Nat.strongRecOn with
        | _ t ih_28 =>
          intro i bst lst mr mhm mat mlg mn moa mdy hi hmf ht_28
          have hmb := minF_b hmf (fun j => tkB_r kd fg hm at_ lg n oa yard 0 j) (by omega)
          refine z_iload C dX1_hurry_28 5 rfl ?_
          refine z_aload_n C dX1_hurry_30 rfl 0 rfl ?_
          refine z_get (q := 0) (kf := 0) (v := .ref a0) C rfl rfl in_X1 (by decide) q880 (Or.inl rfl) rfl dX1_hurry_31 ?_
          refine z_get (q := 1) (kf := 4) (v := .int (zI (n : Int))) C rfl rfl in_X2 (by decide) q846 (Or.inl rfl) rfl dX1_hurry_34 ?_
          refine y_icmp_ge (tgt := 77) C (by omega) (by omega) dX1_hurry_37 (by decide) (fun c_37 => ?_) (fun c_37 => ?_)
          · skip
            rw [show i = n by omega] at hmf
            refine z_iload_n C dX1_hurry_77 rfl 2 rfl ?_
            refine y_if_ne (tgt := 85) C (by omega) dX1_hurry_78 (by decide) (fun c_78 => ?_) (fun c_78 => ?_)
            · skip
              refine z_iload C dX1_hurry_85 4 rfl ?_
              exact z_iret C hA hQ rfl (Nat.le_of_ble_eq_true rfl) (Nat.le_of_ble_eq_true rfl) ((mr, mhm, mat, mlg, mn, moa, mdy)) (congrArg zI (by unfold oHurry; rw [if_pos (by omega)]; rw [hmf]; first | rw [if_pos (by omega)] | rw [if_neg (by omega)])) (sb_p [0, 1, 2, 3, 4, 5, 6, 7, 8, 9, 10] rfl rfl) dX1_hurry_87
            · skip
              refine z_iload_n C dX1_hurry_81 rfl 3 rfl ?_
              refine z_goto (tgt := 87) C dX1_hurry_82 (by decide) ?_
              exact z_iret C hA hQ rfl (Nat.le_of_ble_eq_true rfl) (Nat.le_of_ble_eq_true rfl) ((mr, mhm, mat, mlg, mn, moa, mdy)) (congrArg zI (by unfold oHurry; rw [if_pos (by omega)]; rw [hmf]; first | rw [if_pos (by omega)] | rw [if_neg (by omega)])) (sb_p [0, 1, 2, 3, 4, 5, 6, 7, 8, 9, 10] rfl rfl) dX1_hurry_87
          · skip
            refine z_aload_n C dX1_hurry_40 rfl 0 rfl ?_
            refine z_iload C dX1_hurry_41 5 rfl ?_
            refine z_iload_n C dX1_hurry_43 rfl 1 rfl ?_
            refine y_iconst C dX1_hurry_44 ?_
            refine z_i (ws' := fun u => ([(x, .inr (10, [.ref a0, .ref b0, .ref m0, .int (zI im), .ref tl, .ref le, .int (zI fw), .int (zI fh), .int (zI lo), .ref sh])), (a0, .inr (8, [.ref a1, .ref a2, .ref a3, .ref a4, .int (zI (n : Int)), .int (zI oa), .int (zI dy)])), (a1, AQ G 4 7 r), (a2, AI G 7 hm), (a3, AI G 7 at_), (a4, AI G 7 lg), (m0, .inr (8, [.ref m1, .ref m2, .ref m3, .ref m4, .int (zI (u.2.2.2.2.1 : Int)), .int (zI u.2.2.2.2.2.1), .int (zI u.2.2.2.2.2.2)])), (m1, AQ G 4 7 u.1), (m2, AI G 7 u.2.1), (m3, AI G 7 u.2.2.1), (m4, AI G 7 u.2.2.2.1)] ++ PL LP hk hf)) C (z_runV (q := 0) (As := [.int (zI (i : Int)), .int (zI yard), .int (zI 0)]) (rest := []) C (ct_X1_takesBehind (zl X) G x b0 m0 tl le sh im fw fh lo a0 a1 a2 a3 a4 m1 m2 m3 m4 r hm at_ lg n oa dy mr mhm mat mlg mn moa mdy LP hk hf kd fg i yard 0 (by first | assumption | omega) (by first | assumption | omega) (by first | assumption | omega) (by first | assumption | omega) (by omega) (by first | assumption | omega) (by first | assumption | omega)) (lw_V q605 q607 qs13 q58 q608) rfl rfl (sb_p [0, 1, 2, 3, 4, 5, 6, 7, 8, 9, 10] rfl rfl) (na := 3) (by decide +kernel) rfl (zrm rfl rfl (rfl) (rfl)) rfl (Nat.le_of_ble_eq_true rfl) dX1_hurry_45) (fun u => jn_p (Lr := []) [0, 1, 2, 3, 4, 5, 6, 7, 8, 9, 10] [] [0, 1, 2, 3, 4, 5, 6, 7, 8, 9, 10] rfl rfl rfl (by decide) rfl rfl) (fun r_45 u hp_45 => ?_)
            obtain ⟨mr9_45, mhm9_45, mat9_45, mlg9_45, mn9_45, moa9_45, mdy9_45⟩ := u
            have hp_45 : r_45 = zI (tkB kd fg hm at_ lg n oa yard 0 i) := hp_45
            subst hp_45
            have htk := tkB_r kd fg hm at_ lg n oa yard 0 i
            refine z_istore (lv' := [(6, .int (zI (tkB kd fg hm at_ lg n oa yard 0 i))), (0, .ref x), (1, .int (zI yard)), (2, .int (zI what)), (3, .int (zI bst)), (4, .int (zI lst)), (5, .int (zI (i : Int)))]) C dX1_hurry_48 (nlt rfl) rfl ?_
            refine z_iload_n C dX1_hurry_50 rfl 4 rfl ?_
            refine y_if_lt (tgt := 64) C (by omega) dX1_hurry_51 (by decide) (fun c_51 => ?_) (fun c_51 => ?_)
            · skip
              refine z_iload C dX1_hurry_64 6 rfl ?_
              refine z_istore_n (lv' := [(3, .int (zI (i : Int))), (6, .int (zI (tkB kd fg hm at_ lg n oa yard 0 i))), (0, .ref x), (1, .int (zI yard)), (2, .int (zI what)), (4, .int (zI lst)), (5, .int (zI (i : Int)))]) C dX1_hurry_66 rfl (nlt rfl) rfl ?_
              refine z_iload C dX1_hurry_67 1 rfl ?_
              refine z_istore (lv' := [(4, .int (zI (tkB kd fg hm at_ lg n oa yard 0 i))), (3, .int (zI (i : Int))), (6, .int (zI (tkB kd fg hm at_ lg n oa yard 0 i))), (0, .ref x), (1, .int (zI yard)), (2, .int (zI what)), (5, .int (zI (i : Int)))]) C dX1_hurry_69 (nlt rfl) rfl ?_
              refine y_iinc (lv' := [(5, .int (zI ((i : Int) + 1))), (4, .int (zI (tkB kd fg hm at_ lg n oa yard 0 i))), (3, .int (zI (i : Int))), (6, .int (zI (tkB kd fg hm at_ lg n oa yard 0 i))), (0, .ref x), (1, .int (zI yard)), (2, .int (zI what))]) C dX1_hurry_71 (q := 6) rfl (nlt rfl) rfl ?_
              refine z_goto (tgt := 28) C dX1_hurry_74 (by decide) ?_
              refine z_lv (lv' := [(0, .ref x), (1, .int (zI yard)), (2, .int (zI what)), (3, .int (zI (i : Int))), (4, .int (zI (tkB kd fg hm at_ lg n oa yard 0 i))), (5, .int (zI ((i : Int) + 1)))]) [4, 5, 6, 2, 1, 0] rfl ?_
              exact ih_28 _ (by omega) (i + 1) (i : Int) (tkB kd fg hm at_ lg n oa yard 0 i) mr9_45 mhm9_45 mat9_45 mlg9_45 mn9_45 moa9_45 mdy9_45 (by first | assumption | omega) (by first | exact minF_t' hmf (by omega) | exact minF_f' hmf (by omega)) rfl
            · skip
              refine z_iload C dX1_hurry_54 0 rfl ?_
              refine z_iload C dX1_hurry_56 5 rfl ?_
              refine y_icmp_lt (tgt := 64) C (by omega) (by omega) dX1_hurry_58 (by decide) (fun c_58 => ?_) (fun c_58 => ?_)
              · skip
                refine z_iload C dX1_hurry_64 6 rfl ?_
                refine z_istore_n (lv' := [(3, .int (zI (i : Int))), (6, .int (zI (tkB kd fg hm at_ lg n oa yard 0 i))), (0, .ref x), (1, .int (zI yard)), (2, .int (zI what)), (4, .int (zI lst)), (5, .int (zI (i : Int)))]) C dX1_hurry_66 rfl (nlt rfl) rfl ?_
                refine z_iload C dX1_hurry_67 1 rfl ?_
                refine z_istore (lv' := [(4, .int (zI (tkB kd fg hm at_ lg n oa yard 0 i))), (3, .int (zI (i : Int))), (6, .int (zI (tkB kd fg hm at_ lg n oa yard 0 i))), (0, .ref x), (1, .int (zI yard)), (2, .int (zI what)), (5, .int (zI (i : Int)))]) C dX1_hurry_69 (nlt rfl) rfl ?_
                refine y_iinc (lv' := [(5, .int (zI ((i : Int) + 1))), (4, .int (zI (tkB kd fg hm at_ lg n oa yard 0 i))), (3, .int (zI (i : Int))), (6, .int (zI (tkB kd fg hm at_ lg n oa yard 0 i))), (0, .ref x), (1, .int (zI yard)), (2, .int (zI what))]) C dX1_hurry_71 (q := 6) rfl (nlt rfl) rfl ?_
                refine z_goto (tgt := 28) C dX1_hurry_74 (by decide) ?_
                refine z_lv (lv' := [(0, .ref x), (1, .int (zI yard)), (2, .int (zI what)), (3, .int (zI (i : Int))), (4, .int (zI (tkB kd fg hm at_ lg n oa yard 0 i))), (5, .int (zI ((i : Int) + 1)))]) [4, 5, 6, 2, 1, 0] rfl ?_
                exact ih_28 _ (by omega) (i + 1) (i : Int) (tkB kd fg hm at_ lg n oa yard 0 i) mr9_45 mhm9_45 mat9_45 mlg9_45 mn9_45 moa9_45 mdy9_45 (by first | assumption | omega) (by first | exact minF_t' hmf (by omega) | exact minF_f' hmf (by omega)) rfl
              · skip
                refine z_goto (tgt := 71) C dX1_hurry_61 (by decide) ?_
                refine y_iinc (lv' := [(5, .int (zI ((i : Int) + 1))), (6, .int (zI (tkB kd fg hm at_ lg n oa yard 0 i))), (0, .ref x), (1, .int (zI yard)), (2, .int (zI what)), (3, .int (zI bst)), (4, .int (zI lst))]) C dX1_hurry_71 (q := 6) rfl (nlt rfl) rfl ?_
                refine z_goto (tgt := 28) C dX1_hurry_74 (by decide) ?_
                refine z_lv (lv' := [(0, .ref x), (1, .int (zI yard)), (2, .int (zI what)), (3, .int (zI bst)), (4, .int (zI lst)), (5, .int (zI ((i : Int) + 1)))]) [2, 3, 4, 5, 6, 0] rfl ?_
                exact ih_28 _ (by omega) (i + 1) bst lst mr9_45 mhm9_45 mat9_45 mlg9_45 mn9_45 moa9_45 mdy9_45 (by first | assumption | omega) (by first | exact minF_t' hmf (by omega) | exact minF_f' hmf (by omega)) rfl
      refine z_lv (lv' := [(0, .ref x), (1, .int (zI yard)), (2, .int (zI what)), (3, .int (zI (-4))), (4, .int (zI (-4))), (5, .int (zI 0))]) [3, 4, 5, 2, 1, 0] rfl ?_
      exact L_28 _ 0 (-4) (-4) mr mhm mat mlg mn moa mdy (by first | assumption | omega) (rfl) rfl
    · skip
      refine y_iconst C dX1_hurry_16 ?_
      exact z_iret C hA hQ rfl (Nat.le_of_ble_eq_true rfl) (Nat.le_of_ble_eq_true rfl) ((mr, mhm, mat, mlg, mn, moa, mdy)) (congrArg zI (by unfold oHurry; (try simp only [zTN]); (repeat (first | rw [if_pos (by omega)] | rw [if_neg (by omega)])); first | done | rfl)) (sb_p [0, 1, 2, 3, 4, 5, 6, 7, 8, 9, 10] rfl rfl) dX1_hurry_17

def npF (kd : Nat → Nat) (fg lg : Nat → Int) (j : Nat) : Int := -(paceZ (kd j) (fg j) (lg j))
def oFastest (kd : Nat → Nat) (fg : Nat → Int) (hm : Nat → Int) (at_ : Nat → Int) (lg : Nat → Int) (n : Nat) (oa : Int) (t : Int) : Int := if (0 ≤ t ∧ t ≤ 60) then (minF (npF kd fg (goL kd fg hm at_ oa n t.toNat lg)) n).1 else -1
set_option maxHeartbeats 4000000 in
theorem ct_X1_fastest (l : Launch) (G : ZG) (x : Nat) (b0 : Nat) (m0 : Nat) (tl : Nat) (le : Nat) (sh : Nat) (im : Int) (fw : Int) (fh : Int) (lo : Int) (a0 : Nat) (a1 : Nat) (a2 : Nat) (a3 : Nat) (a4 : Nat) (m1 : Nat) (m2 : Nat) (m3 : Nat) (m4 : Nat) (r : Nat → Option Nat) (hm : Nat → Int) (at_ : Nat → Int) (lg : Nat → Int) (n : Nat) (oa : Int) (dy : Int) (mr : Nat → Option Nat) (mhm : Nat → Int) (mat : Nat → Int) (mlg : Nat → Int) (mn : Nat) (moa : Int) (mdy : Int) (LP : List Nat) (hk : Nat → Nat) (hf : Nat → Int) (kd : Nat → Nat) (fg : Nat → Int) (t : Int) (hH : HR LP hk hf r n kd fg) (hL : LK n kd fg hm at_ lg oa) (hK : PK LP hk hf) (hV : RV LP r) (rt : -2147483648 ≤ t ∧ t ≤ 2147483647) : CT l yX1_fastest cX1_fastest 4 (some .int) { frames := 8, cells := 0, slots := 0, locals := 165 } G [.ref x, .int (zI t)] ([(x, .inr (10, [.ref a0, .ref b0, .ref m0, .int (zI im), .ref tl, .ref le, .int (zI fw), .int (zI fh), .int (zI lo), .ref sh])), (a0, .inr (8, [.ref a1, .ref a2, .ref a3, .ref a4, .int (zI (n : Int)), .int (zI oa), .int (zI dy)])), (a1, AQ G 4 7 r), (a2, AI G 7 hm), (a3, AI G 7 at_), (a4, AI G 7 lg), (m0, .inr (8, [.ref m1, .ref m2, .ref m3, .ref m4, .int (zI (mn : Int)), .int (zI moa), .int (zI mdy)])), (m1, AQ G 4 7 mr), (m2, AI G 7 mhm), (m3, AI G 7 mat), (m4, AI G 7 mlg)] ++ PL LP hk hf) (Qi G ([(x, .inr (10, [.ref a0, .ref b0, .ref m0, .int (zI im), .ref tl, .ref le, .int (zI fw), .int (zI fh), .int (zI lo), .ref sh])), (a0, .inr (8, [.ref a1, .ref a2, .ref a3, .ref a4, .int (zI (n : Int)), .int (zI oa), .int (zI dy)])), (a1, AQ G 4 7 r), (a2, AI G 7 hm), (a3, AI G 7 at_), (a4, AI G 7 lg), (m0, .inr (8, [.ref m1, .ref m2, .ref m3, .ref m4, .int (zI (mn : Int)), .int (zI moa), .int (zI mdy)])), (m1, AQ G 4 7 mr), (m2, AI G 7 mhm), (m3, AI G 7 mat), (m4, AI G 7 mlg)] ++ PL LP hk hf) (fun (r : Int32) (u : (Nat → Option Nat) × (Nat → Int) × (Nat → Int) × (Nat → Int) × Nat × Int × Int) => r = zI (oFastest kd fg hm at_ lg n oa t)) (fun u => ([(x, .inr (10, [.ref a0, .ref b0, .ref m0, .int (zI im), .ref tl, .ref le, .int (zI fw), .int (zI fh), .int (zI lo), .ref sh])), (a0, .inr (8, [.ref a1, .ref a2, .ref a3, .ref a4, .int (zI (n : Int)), .int (zI oa), .int (zI dy)])), (a1, AQ G 4 7 r), (a2, AI G 7 hm), (a3, AI G 7 at_), (a4, AI G 7 lg), (m0, .inr (8, [.ref m1, .ref m2, .ref m3, .ref m4, .int (zI (u.2.2.2.2.1 : Int)), .int (zI u.2.2.2.2.2.1), .int (zI u.2.2.2.2.2.2)])), (m1, AQ G 4 7 u.1), (m2, AI G 7 u.2.1), (m3, AI G 7 u.2.2.1), (m4, AI G 7 u.2.2.2.1)] ++ PL LP hk hf))) := by
  refine z_met (by decide) (Nat.le_of_ble_eq_true rfl) ?_
  intro X A hl0 hA C hQ hin
  subst hl0
  obtain ⟨hn7, hoa, hLj⟩ := id hL
  show Z X _ G 0 0 _ 0 [(0, .ref x), (1, .int (zI t))] []
  refine z_iload_n C dX1_fastest_0 rfl 1 rfl ?_
  refine z_i C (z_runS (As := [.int (zI t)]) (rest := []) C (ct_X1_isLong (zl X) G t (by first | assumption | omega)) (lw_S q613 q614 q58 q615) (sb_e [] rfl rfl) (na := 1) (by decide +kernel) rfl (zrm rfl rfl (rfl) (rfl)) rfl (Nat.le_of_ble_eq_true rfl) dX1_fastest_1) (fun u => jn_ro (sb_e [] rfl rfl)) (fun r_1 u hp_1 => ?_)
  have hp_1 : r_1 = zI (bI (0 ≤ t ∧ t ≤ 60)) := hp_1
  subst hp_1
  refine y_bne (tgt := 9) C dX1_fastest_4 (by decide) (fun c_4 => ?_) (fun c_4 => ?_)
  · skip
    obtain ⟨t0, rfl⟩ := Int.eq_ofNat_of_zero_le (show 0 ≤ t by omega)
    refine z_aload_n C dX1_fastest_9 rfl 0 rfl ?_
    refine z_v (ws' := fun u => ([(x, .inr (10, [.ref a0, .ref b0, .ref m0, .int (zI im), .ref tl, .ref le, .int (zI fw), .int (zI fh), .int (zI lo), .ref sh])), (a0, .inr (8, [.ref a1, .ref a2, .ref a3, .ref a4, .int (zI (n : Int)), .int (zI oa), .int (zI dy)])), (a1, AQ G 4 7 r), (a2, AI G 7 hm), (a3, AI G 7 at_), (a4, AI G 7 lg), (m0, .inr (8, [.ref m1, .ref m2, .ref m3, .ref m4, .int (zI (n : Int)), .int (zI oa), .int (zI dy)])), (m1, AQ G 4 7 r), (m2, AI G 7 hm), (m3, AI G 7 at_), (m4, AI G 7 lg)] ++ PL LP hk hf)) C (z_runV (q := 0) (As := []) (rest := []) C (ct_X1_minds (zl X) G x b0 m0 tl le sh im fw fh lo a0 a1 a2 a3 a4 m1 m2 m3 m4 r hm at_ lg n oa dy mr mhm mat mlg mn moa mdy LP hk hf kd fg (by first | assumption | omega) (by first | assumption | omega)) (lw_V q577 q579 qs12 q58 q580) rfl rfl (sb_p [0, 1, 2, 3, 4, 5, 6, 7, 8, 9, 10] rfl rfl) (na := 0) (by decide +kernel) rfl (zrm rfl rfl (rfl) (rfl)) rfl (Nat.le_of_ble_eq_true rfl) dX1_fastest_10) (fun u => jn_p (Lr := []) [0, 1, 2, 3, 4, 5, 6, 7, 8, 9, 10] [] [0, 1, 2, 3, 4, 5, 6, 7, 8, 9, 10] rfl rfl rfl (by decide) rfl rfl) (fun u hp_10 => ?_)
    refine z_aload_n C dX1_fastest_13 rfl 0 rfl ?_
    refine z_get (q := 0) (kf := 2) (v := .ref m0) C rfl rfl in_X1 (by decide) q882 (Or.inl rfl) rfl dX1_fastest_14 ?_
    refine z_iload_n C dX1_fastest_17 rfl 1 rfl ?_
    refine z_v (ws' := fun u => ([(x, .inr (10, [.ref a0, .ref b0, .ref m0, .int (zI im), .ref tl, .ref le, .int (zI fw), .int (zI fh), .int (zI lo), .ref sh])), (a0, .inr (8, [.ref a1, .ref a2, .ref a3, .ref a4, .int (zI (n : Int)), .int (zI oa), .int (zI dy)])), (a1, AQ G 4 7 r), (a2, AI G 7 hm), (a3, AI G 7 at_), (a4, AI G 7 lg), (m0, .inr (8, [.ref m1, .ref m2, .ref m3, .ref m4, .int (zI (n : Int)), .int (zI oa), .int (zI (dy + (t0 : Int)))])), (m1, AQ G 4 7 r), (m2, AI G 7 hm), (m3, AI G 7 at_), (m4, AI G 7 (goL kd fg hm at_ oa n t0 lg))] ++ PL LP hk hf)) C (z_runV (q := 6) (As := [.int (zI (t0 : Int))]) (rest := []) C (ct_X2_goes (zl X) G m0 m1 m2 m3 m4 r hm at_ lg n oa dy LP hk hf kd fg t0 (by first | assumption | omega) (by first | assumption | omega) (by first | assumption | omega)) (lw_V q532 q533 q534 q59 q535) rfl rfl (sb_p [6, 7, 8, 9, 10] rfl rfl) (na := 1) (by decide +kernel) rfl (zrm rfl rfl (rfl) (rfl)) rfl (Nat.le_of_ble_eq_true rfl) dX1_fastest_18) (fun u => jn_p (Lr := [(x, .inr (10, [.ref a0, .ref b0, .ref m0, .int (zI im), .ref tl, .ref le, .int (zI fw), .int (zI fh), .int (zI lo), .ref sh])), (a0, .inr (8, [.ref a1, .ref a2, .ref a3, .ref a4, .int (zI (n : Int)), .int (zI oa), .int (zI dy)])), (a1, AQ G 4 7 r), (a2, AI G 7 hm), (a3, AI G 7 at_), (a4, AI G 7 lg)]) [6, 7, 8, 9, 10] [0, 1, 2, 3, 4, 5] [0, 1, 2, 3, 4, 5, 6, 7, 8, 9, 10] rfl rfl rfl (by decide) rfl rfl) (fun u hp_18 => ?_)
    refine y_bipush C dX1_fastest_21 (by decide) ?_
    refine z_istore_n (lv' := [(2, .int (zI (-4))), (0, .ref x), (1, .int (zI (t0 : Int)))]) C dX1_fastest_23 rfl (nlt rfl) rfl ?_
    refine y_iconst C dX1_fastest_24 ?_
    refine z_istore_n (lv' := [(3, .int (zI 0)), (2, .int (zI (-4))), (0, .ref x), (1, .int (zI (t0 : Int)))]) C dX1_fastest_25 rfl (nlt rfl) rfl ?_
    have L_26 : ∀ (t : Nat) (i : Nat) (bst : Int) (lst : Int), (i ≤ n) → (minF (npF kd fg (goL kd fg hm at_ oa n t0 lg)) i = (bst, lst)) → n - i = t → Z X (cX1_fastest, 4, yX1_fastest.cls, (some .int), { frames := 8, cells := 0, slots := 0, locals := 165 }, A) G 0 0 ([(x, .inr (10, [.ref a0, .ref b0, .ref m0, .int (zI im), .ref tl, .ref le, .int (zI fw), .int (zI fh), .int (zI lo), .ref sh])), (a0, .inr (8, [.ref a1, .ref a2, .ref a3, .ref a4, .int (zI (n : Int)), .int (zI oa), .int (zI dy)])), (a1, AQ G 4 7 r), (a2, AI G 7 hm), (a3, AI G 7 at_), (a4, AI G 7 lg), (m0, .inr (8, [.ref m1, .ref m2, .ref m3, .ref m4, .int (zI (n : Int)), .int (zI oa), .int (zI (dy + (t0 : Int)))])), (m1, AQ G 4 7 r), (m2, AI G 7 hm), (m3, AI G 7 at_), (m4, AI G 7 (goL kd fg hm at_ oa n t0 lg))] ++ PL LP hk hf) 26 [(0, .ref x), (1, .int (zI (t0 : Int))), (2, .int (zI bst)), (3, .int (zI (i : Int)))] [] := by
      intro t
      induction t using Nat.strongRecOn with
      | _ t ih_26 =>
        intro i bst lst hi hmf ht_26
        have hmw := minF_w _ _ _ _ hmf
        refine z_iload_n C dX1_fastest_26 rfl 3 rfl ?_
        refine z_aload_n C dX1_fastest_27 rfl 0 rfl ?_
        refine z_get (q := 0) (kf := 2) (v := .ref m0) C rfl rfl in_X1 (by decide) q882 (Or.inl rfl) rfl dX1_fastest_28 ?_
        refine z_get (q := 6) (kf := 4) (v := .int (zI (n : Int))) C rfl rfl in_X2 (by decide) q846 (Or.inl rfl) rfl dX1_fastest_31 ?_
        refine y_icmp_ge (tgt := 68) C (by omega) (by omega) dX1_fastest_34 (by decide) (fun c_34 => ?_) (fun c_34 => ?_)
        · skip
          rw [show i = n by omega] at hmf
          refine z_iload_n C dX1_fastest_68 rfl 2 rfl ?_
          exact z_iret C hA hQ rfl (Nat.le_of_ble_eq_true rfl) (Nat.le_of_ble_eq_true rfl) ((r, hm, at_, (goL kd fg hm at_ oa n t0 lg), n, oa, (dy + (t0 : Int)))) (congrArg zI (by unfold oFastest; rw [if_pos (by omega)]; simp only [zTN]; rw [hmf])) (sb_p [0, 1, 2, 3, 4, 5, 6, 7, 8, 9, 10] rfl rfl) dX1_fastest_69
        · skip
          refine z_iload_n C dX1_fastest_37 rfl 2 rfl ?_
          refine y_if_lt (tgt := 60) C (by omega) dX1_fastest_38 (by decide) (fun c_38 => ?_) (fun c_38 => ?_)
          · skip
            refine z_iload_n C dX1_fastest_60 rfl 3 rfl ?_
            refine z_istore_n (lv' := [(2, .int (zI (i : Int))), (0, .ref x), (1, .int (zI (t0 : Int))), (3, .int (zI (i : Int)))]) C dX1_fastest_61 rfl (nlt rfl) rfl ?_
            refine y_iinc (lv' := [(3, .int (zI ((i : Int) + 1))), (2, .int (zI (i : Int))), (0, .ref x), (1, .int (zI (t0 : Int)))]) C dX1_fastest_62 (q := 3) rfl (nlt rfl) rfl ?_
            refine z_goto (tgt := 26) C dX1_fastest_65 (by decide) ?_
            refine z_lv (lv' := [(0, .ref x), (1, .int (zI (t0 : Int))), (2, .int (zI (i : Int))), (3, .int (zI ((i : Int) + 1)))]) [2, 3, 1, 0] rfl ?_
            exact ih_26 _ (by omega) (i + 1) (i : Int) (npF kd fg (goL kd fg hm at_ oa n t0 lg) i) (by first | assumption | omega) (by first | exact minF_t' hmf (by unfold npF; omega) | exact minF_f' hmf (by unfold npF; omega)) rfl
          · skip
            obtain ⟨b, rfl⟩ := Int.eq_ofNat_of_zero_le (show 0 ≤ bst by omega)
            have hmw2 : (b : Nat) < i ∧ lst = -(paceZ (kd b) (fg b) (goL kd fg hm at_ oa n t0 lg b)) := by
              rcases hmw with ⟨q1, q2, q3⟩ | ⟨q1, q2, q3⟩
              · omega
              · exact ⟨by omega, q3⟩
            have hpi := (hL.go t0).pace (j := i) (by omega)
            have hpb := (hL.go t0).pace (j := b) (by omega)
            refine z_aload_n C dX1_fastest_41 rfl 0 rfl ?_
            refine z_get (q := 0) (kf := 2) (v := .ref m0) C rfl rfl in_X1 (by decide) q882 (Or.inl rfl) rfl dX1_fastest_42 ?_
            refine z_iload_n C dX1_fastest_45 rfl 3 rfl ?_
            refine z_i C (z_runV (q := 6) (As := [.int (zI (i : Int))]) (rest := []) C (ct_X2_pace (zl X) G m0 m1 m2 m3 m4 r hm at_ (goL kd fg hm at_ oa n t0 lg) n oa (dy + (t0 : Int)) LP hk hf kd fg i (by first | assumption | omega) (hL.go t0) (by omega)) (lw_V q568 q439 q440 q59 q441) rfl rfl (sb_p [6, 7, 8, 9, 10] rfl rfl) (na := 1) (by decide +kernel) rfl (zrm rfl rfl (rfl) (rfl)) rfl (Nat.le_of_ble_eq_true rfl) dX1_fastest_46) (fun u => jn_ro (sb_p [6, 7, 8, 9, 10] rfl rfl)) (fun r_46 u hp_46 => ?_)
            have hp_46 : r_46 = zI (paceZ (kd i) (fg i) ((goL kd fg hm at_ oa n t0 lg) i)) := hp_46
            subst hp_46
            refine z_aload_n C dX1_fastest_49 rfl 0 rfl ?_
            refine z_get (q := 0) (kf := 2) (v := .ref m0) C rfl rfl in_X1 (by decide) q882 (Or.inl rfl) rfl dX1_fastest_50 ?_
            refine z_iload_n C dX1_fastest_53 rfl 2 rfl ?_
            refine z_i C (z_runV (q := 6) (As := [.int (zI (b : Int))]) (rest := [.int (zI (paceZ (kd i) (fg i) ((goL kd fg hm at_ oa n t0 lg) i)))]) C (ct_X2_pace (zl X) G m0 m1 m2 m3 m4 r hm at_ (goL kd fg hm at_ oa n t0 lg) n oa (dy + (t0 : Int)) LP hk hf kd fg b (by first | assumption | omega) (hL.go t0) (by omega)) (lw_V q568 q439 q440 q59 q441) rfl rfl (sb_p [6, 7, 8, 9, 10] rfl rfl) (na := 1) (by decide +kernel) rfl (zrm rfl rfl (rfl) (rfl)) rfl (Nat.le_of_ble_eq_true rfl) dX1_fastest_54) (fun u => jn_ro (sb_p [6, 7, 8, 9, 10] rfl rfl)) (fun r_54 u hp_54 => ?_)
            have hp_54 : r_54 = zI (paceZ (kd b) (fg b) ((goL kd fg hm at_ oa n t0 lg) b)) := hp_54
            subst hp_54
            refine y_icmp_le (tgt := 62) C (by omega) (by omega) dX1_fastest_57 (by decide) (fun c_57 => ?_) (fun c_57 => ?_)
            · skip
              refine y_iinc (lv' := [(3, .int (zI ((i : Int) + 1))), (0, .ref x), (1, .int (zI (t0 : Int))), (2, .int (zI (b : Int)))]) C dX1_fastest_62 (q := 3) rfl (nlt rfl) rfl ?_
              refine z_goto (tgt := 26) C dX1_fastest_65 (by decide) ?_
              refine z_lv (lv' := [(0, .ref x), (1, .int (zI (t0 : Int))), (2, .int (zI (b : Int))), (3, .int (zI ((i : Int) + 1)))]) [1, 2, 3, 0] rfl ?_
              exact ih_26 _ (by omega) (i + 1) (b : Int) lst (by first | assumption | omega) (by first | exact minF_t' hmf (by unfold npF; omega) | exact minF_f' hmf (by unfold npF; omega)) rfl
            · skip
              refine z_iload_n C dX1_fastest_60 rfl 3 rfl ?_
              refine z_istore_n (lv' := [(2, .int (zI (i : Int))), (0, .ref x), (1, .int (zI (t0 : Int))), (3, .int (zI (i : Int)))]) C dX1_fastest_61 rfl (nlt rfl) rfl ?_
              refine y_iinc (lv' := [(3, .int (zI ((i : Int) + 1))), (2, .int (zI (i : Int))), (0, .ref x), (1, .int (zI (t0 : Int)))]) C dX1_fastest_62 (q := 3) rfl (nlt rfl) rfl ?_
              refine z_goto (tgt := 26) C dX1_fastest_65 (by decide) ?_
              refine z_lv (lv' := [(0, .ref x), (1, .int (zI (t0 : Int))), (2, .int (zI (i : Int))), (3, .int (zI ((i : Int) + 1)))]) [2, 3, 1, 0] rfl ?_
              exact ih_26 _ (by omega) (i + 1) (i : Int) (npF kd fg (goL kd fg hm at_ oa n t0 lg) i) (by first | assumption | omega) (by first | exact minF_t' hmf (by unfold npF; omega) | exact minF_f' hmf (by unfold npF; omega)) rfl
    refine z_lv (lv' := [(0, .ref x), (1, .int (zI (t0 : Int))), (2, .int (zI (-4))), (3, .int (zI 0))]) [2, 3, 1, 0] rfl ?_
    exact L_26 _ 0 (-4) (-4) (by first | assumption | omega) (rfl) rfl
  · skip
    refine y_iconst C dX1_fastest_7 ?_
    exact z_iret C hA hQ rfl (Nat.le_of_ble_eq_true rfl) (Nat.le_of_ble_eq_true rfl) ((mr, mhm, mat, mlg, mn, moa, mdy)) (congrArg zI (by unfold oFastest; (try simp only [zTN]); (repeat (first | rw [if_pos (by omega)] | rw [if_neg (by omega)])); first | done | rfl)) (sb_p [0, 1, 2, 3, 4, 5, 6, 7, 8, 9, 10] rfl rfl) dX1_fastest_8

def awayF (kd : Nat → Nat) (hm at_ : Nat → Int) (oa : Int) : Nat → Int32
  | 0 => zI 0
  | i + 1 => awayF kd hm at_ oa i ||| (if at_ i = goalZ (kd i) (hm i) (at_ i) oa then zI 0 else zI 1 <<< (zI (i : Int) &&& 31))
theorem awayF_t {kd : Nat → Nat} {hm at_ : Nat → Int} {oa : Int} {i : Nat} (h : at_ i = goalZ (kd i) (hm i) (at_ i) oa) : awayF kd hm at_ oa (i + 1) = awayF kd hm at_ oa i ||| zI 0 := by show _ ||| _ = _; rw [if_pos h]
theorem awayF_f {kd : Nat → Nat} {hm at_ : Nat → Int} {oa : Int} {i : Nat} (h : ¬ at_ i = goalZ (kd i) (hm i) (at_ i) oa) : awayF kd hm at_ oa (i + 1) = awayF kd hm at_ oa i ||| (zI 1 <<< (zI (i : Int) &&& 31)) := by show _ ||| _ = _; rw [if_neg h]
set_option maxHeartbeats 4000000 in
theorem ct_X1_away (l : Launch) (G : ZG) (x : Nat) (b0 : Nat) (m0 : Nat) (tl : Nat) (le : Nat) (sh : Nat) (im : Int) (fw : Int) (fh : Int) (lo : Int) (a0 : Nat) (a1 : Nat) (a2 : Nat) (a3 : Nat) (a4 : Nat) (r : Nat → Option Nat) (hm : Nat → Int) (at_ : Nat → Int) (lg : Nat → Int) (n : Nat) (oa : Int) (dy : Int) (LP : List Nat) (hk : Nat → Nat) (hf : Nat → Int) (kd : Nat → Nat) (fg : Nat → Int) (hH : HR LP hk hf r n kd fg) (hL : LK n kd fg hm at_ lg oa) : CT l yX1_away cX1_away 3 (some .int) { frames := 5, cells := 0, slots := 0, locals := 100 } G [.ref x] ([(x, .inr (10, [.ref a0, .ref b0, .ref m0, .int (zI im), .ref tl, .ref le, .int (zI fw), .int (zI fh), .int (zI lo), .ref sh])), (a0, .inr (8, [.ref a1, .ref a2, .ref a3, .ref a4, .int (zI (n : Int)), .int (zI oa), .int (zI dy)])), (a1, AQ G 4 7 r), (a2, AI G 7 hm), (a3, AI G 7 at_), (a4, AI G 7 lg)] ++ PL LP hk hf) (Qi G ([(x, .inr (10, [.ref a0, .ref b0, .ref m0, .int (zI im), .ref tl, .ref le, .int (zI fw), .int (zI fh), .int (zI lo), .ref sh])), (a0, .inr (8, [.ref a1, .ref a2, .ref a3, .ref a4, .int (zI (n : Int)), .int (zI oa), .int (zI dy)])), (a1, AQ G 4 7 r), (a2, AI G 7 hm), (a3, AI G 7 at_), (a4, AI G 7 lg)] ++ PL LP hk hf) (fun (r : Int32) (u : Unit) => r = awayF kd hm at_ oa n) (fun u => ([(x, .inr (10, [.ref a0, .ref b0, .ref m0, .int (zI im), .ref tl, .ref le, .int (zI fw), .int (zI fh), .int (zI lo), .ref sh])), (a0, .inr (8, [.ref a1, .ref a2, .ref a3, .ref a4, .int (zI (n : Int)), .int (zI oa), .int (zI dy)])), (a1, AQ G 4 7 r), (a2, AI G 7 hm), (a3, AI G 7 at_), (a4, AI G 7 lg)] ++ PL LP hk hf))) := by
  refine z_met (by decide) (Nat.le_of_ble_eq_true rfl) ?_
  intro X A hl0 hA C hQ hin
  subst hl0
  obtain ⟨hn7, hoa, hLj⟩ := id hL
  show Z X _ G 0 0 _ 0 [(0, .ref x)] []
  refine y_iconst C dX1_away_0 ?_
  refine z_istore_n (lv' := [(1, .int (zI 0)), (0, .ref x)]) C dX1_away_1 rfl (nlt rfl) rfl ?_
  refine y_iconst C dX1_away_2 ?_
  refine z_istore_n (lv' := [(2, .int (zI 0)), (1, .int (zI 0)), (0, .ref x)]) C dX1_away_3 rfl (nlt rfl) rfl ?_
  have L_4 : ∀ (t : Nat) (i : Nat) (set : Int32), (i ≤ n) → (set = awayF kd hm at_ oa i) → n - i = t → Z X (cX1_away, 3, yX1_away.cls, (some .int), { frames := 5, cells := 0, slots := 0, locals := 100 }, A) G 0 0 ([(x, .inr (10, [.ref a0, .ref b0, .ref m0, .int (zI im), .ref tl, .ref le, .int (zI fw), .int (zI fh), .int (zI lo), .ref sh])), (a0, .inr (8, [.ref a1, .ref a2, .ref a3, .ref a4, .int (zI (n : Int)), .int (zI oa), .int (zI dy)])), (a1, AQ G 4 7 r), (a2, AI G 7 hm), (a3, AI G 7 at_), (a4, AI G 7 lg)] ++ PL LP hk hf) 4 [(0, .ref x), (1, .int set), (2, .int (zI (i : Int)))] [] := by
    intro t
    induction t using Nat.strongRecOn with
    | _ t ih_4 =>
      intro i set hi hst ht_4
      refine z_iload_n C dX1_away_4 rfl 2 rfl ?_
      refine z_aload_n C dX1_away_5 rfl 0 rfl ?_
      refine z_get (q := 0) (kf := 0) (v := .ref a0) C rfl rfl in_X1 (by decide) q880 (Or.inl rfl) rfl dX1_away_6 ?_
      refine z_get (q := 1) (kf := 4) (v := .int (zI (n : Int))) C rfl rfl in_X2 (by decide) q846 (Or.inl rfl) rfl dX1_away_9 ?_
      refine y_icmp_ge (tgt := 42) C (by omega) (by omega) dX1_away_12 (by decide) (fun c_12 => ?_) (fun c_12 => ?_)
      · skip
        refine z_iload_n C dX1_away_42 rfl 1 rfl ?_
        rw [show i = n by omega] at hst
        exact z_iret C hA hQ rfl (Nat.le_of_ble_eq_true rfl) (Nat.le_of_ble_eq_true rfl) (()) (hst) (sb_p [0, 1, 2, 3, 4, 5] rfl rfl) dX1_away_43
      · skip
        refine z_iload_n C dX1_away_15 rfl 1 rfl ?_
        refine z_aload_n C dX1_away_16 rfl 0 rfl ?_
        refine z_get (q := 0) (kf := 0) (v := .ref a0) C rfl rfl in_X1 (by decide) q880 (Or.inl rfl) rfl dX1_away_17 ?_
        refine z_iload_n C dX1_away_20 rfl 2 rfl ?_
        refine z_i C (z_runV (q := 1) (As := [.int (zI (i : Int))]) (rest := [.int set]) C (ct_X2_isAtGoal (zl X) G a0 a1 a2 a3 a4 r hm at_ lg n oa dy LP hk hf kd fg i (by first | assumption | omega) (by first | assumption | omega) (by omega)) (lw_V q644 q501 q502 q59 q503) rfl rfl (sb_p [1, 2, 3, 4, 5] rfl rfl) (na := 1) (by decide +kernel) rfl (zrm rfl rfl (rfl) (rfl)) rfl (Nat.le_of_ble_eq_true rfl) dX1_away_21) (fun u => jn_ro (sb_p [1, 2, 3, 4, 5] rfl rfl)) (fun r_21 u hp_21 => ?_)
        have hp_21 : r_21 = zI (bI (at_ i = goalZ (kd i) (hm i) (at_ i) oa)) := hp_21
        subst hp_21
        refine y_beq (tgt := 31) C dX1_away_24 (by decide) (fun c_24 => ?_) (fun c_24 => ?_)
        · skip
          refine y_iconst C dX1_away_31 ?_
          refine z_iload_n C dX1_away_32 rfl 2 rfl ?_
          refine z_ishl C dX1_away_33 rfl ?_
          refine z_ior C dX1_away_34 rfl ?_
          refine z_istore_n (lv' := [(1, .int (set ||| ((zI 1) <<< ((zI (i : Int)) &&& 31)))), (0, .ref x), (2, .int (zI (i : Int)))]) C dX1_away_35 rfl (nlt rfl) rfl ?_
          refine y_iinc (lv' := [(2, .int (zI ((i : Int) + 1))), (1, .int (set ||| ((zI 1) <<< ((zI (i : Int)) &&& 31)))), (0, .ref x)]) C dX1_away_36 (q := 2) rfl (nlt rfl) rfl ?_
          refine z_goto (tgt := 4) C dX1_away_39 (by decide) ?_
          refine z_lv (lv' := [(0, .ref x), (1, .int (set ||| ((zI 1) <<< ((zI (i : Int)) &&& 31)))), (2, .int (zI ((i : Int) + 1)))]) [2, 1, 0] rfl ?_
          exact ih_4 _ (by omega) (i + 1) ((set ||| ((zI 1) <<< ((zI (i : Int)) &&& 31)))) (by first | assumption | omega) (by first | rw [hst, awayF_t c_24] | rw [hst, awayF_f c_24]) rfl
        · skip
          refine y_iconst C dX1_away_27 ?_
          refine z_goto (tgt := 34) C dX1_away_28 (by decide) ?_
          refine z_ior C dX1_away_34 rfl ?_
          refine z_istore_n (lv' := [(1, .int (set ||| (zI 0))), (0, .ref x), (2, .int (zI (i : Int)))]) C dX1_away_35 rfl (nlt rfl) rfl ?_
          refine y_iinc (lv' := [(2, .int (zI ((i : Int) + 1))), (1, .int (set ||| (zI 0))), (0, .ref x)]) C dX1_away_36 (q := 2) rfl (nlt rfl) rfl ?_
          refine z_goto (tgt := 4) C dX1_away_39 (by decide) ?_
          refine z_lv (lv' := [(0, .ref x), (1, .int (set ||| (zI 0))), (2, .int (zI ((i : Int) + 1)))]) [2, 1, 0] rfl ?_
          exact ih_4 _ (by omega) (i + 1) ((set ||| (zI 0))) (by first | assumption | omega) (by first | rw [hst, awayF_t c_24] | rw [hst, awayF_f c_24]) rfl
  refine z_lv (lv' := [(0, .ref x), (1, .int (zI 0)), (2, .int (zI 0))]) [2, 1, 0] rfl ?_
  exact L_4 _ 0 (zI 0) (by first | assumption | omega) (rfl) rfl

