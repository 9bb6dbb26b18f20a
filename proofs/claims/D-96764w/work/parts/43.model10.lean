/-! THE MODEL, 10: horses that come, rides by rows -/
set_option maxRecDepth 100000
abbrev hcOk (n : Nat) (kind wh pl : Int) : Prop := kind < 8 ∧ (0 ≤ wh ∧ wh ≤ 20) ∧ (0 ≤ pl ∧ pl ≤ 20) ∧ n < 7
abbrev cmOk (hw kk : Nat → Nat) (n : Nat) (d wh pl : Int) : Prop := 0 ≤ wkZ hw d ∧ hcOk n (kk d.toNat) wh pl
def oComes (hw : Nat → Nat) (n : Nat) (d wh pl : Int) : Int := if (0 ≤ wh ∧ wh ≤ 20) ∧ (0 ≤ pl ∧ pl ≤ 20) then (if wkZ hw d < 0 then wkZ hw d else if n < 7 then (n : Int) else -2) else -1
set_option maxHeartbeats 4000000 in
theorem ct_X4_horseComes (l : Launch) (G : ZG) (m : Nat) (g1 : Nat) (g2 : Nat) (g3 : Nat) (g4 : Nat) (g5 : Nat) (kd : Nat → Nat) (fg : Nat → Int) (hm : Nat → Int) (at_ : Nat → Int) (lg : Nat → Int) (n : Nat) (oa : Int) (dy : Int) (rs : List Value) (kind : Int) (fig : Int) (wh : Int) (pl : Int) (hL : LK n kd fg hm at_ lg oa) (hkd : 0 ≤ kind ∧ kind ≤ 2147483647) (rwh : -2147483648 ≤ wh ∧ wh ≤ 2147483647) (rpl : -2147483648 ≤ pl ∧ pl ≤ 2147483647) : CT l yX4_horseComes cX4_horseComes 6 (some .boolean) { frames := 2, cells := 0, slots := 0, locals := 45 } G [.ref m, .int (zI kind), .int (zI fig), .int (zI wh), .int (zI pl)] [(m, .inr (11, .int (zI (n : Int)) :: .ref g1 :: .ref g2 :: .ref g3 :: .ref g4 :: .ref g5 :: .int (zI oa) :: .int (zI dy) :: rs)), (g1, AI G 7 (fun z_ => (kd z_ : Int))), (g2, AI G 7 fg), (g3, AI G 7 hm), (g4, AI G 7 at_), (g5, AI G 7 lg)] (Qi G [(m, .inr (11, .int (zI (n : Int)) :: .ref g1 :: .ref g2 :: .ref g3 :: .ref g4 :: .ref g5 :: .int (zI oa) :: .int (zI dy) :: rs)), (g1, AI G 7 (fun z_ => (kd z_ : Int))), (g2, AI G 7 fg), (g3, AI G 7 hm), (g4, AI G 7 at_), (g5, AI G 7 lg)] (fun (r : Int32) (u : Unit) => r = zI (bI (hcOk n kind wh pl))) (fun u => [(m, .inr (11, .int (zI (((if hcOk n kind wh pl then n + 1 else n) : Nat) : Int)) :: .ref g1 :: .ref g2 :: .ref g3 :: .ref g4 :: .ref g5 :: .int (zI oa) :: .int (zI dy) :: rs)), (g1, AI G 7 (fun z_ => ((if hcOk n kind wh pl then upN kd n kind.toNat else kd) z_ : Int))), (g2, AI G 7 (if hcOk n kind wh pl then va_up fg n fig else fg)), (g3, AI G 7 (if hcOk n kind wh pl then va_up hm n wh else hm)), (g4, AI G 7 (if hcOk n kind wh pl then va_up at_ n pl else at_)), (g5, AI G 7 (if hcOk n kind wh pl then va_up lg n 0 else lg))])) := by
  refine z_met (by decide) (Nat.le_of_ble_eq_true rfl) ?_
  intro X A hl0 hA C hQ hin
  subst hl0
  obtain ⟨hn7, hoa, hLj⟩ := id hL
  show Z X _ G 0 0 _ 0 [(0, .ref m), (1, .int (zI kind)), (2, .int (zI fig)), (3, .int (zI wh)), (4, .int (zI pl))] []
  refine z_iload_n C dX4_horseComes_0 rfl 1 rfl ?_
  refine y_bipush C dX4_horseComes_1 (by decide) ?_
  refine y_icmp_ge (tgt := 34) C (by omega) (by omega) dX4_horseComes_3 (by decide) (fun c_3 => ?_) (fun c_3 => ?_)
  · skip
    refine y_iconst C dX4_horseComes_34 ?_
    refine z_istore (lv' := [(5, .int (zI 0)), (0, .ref m), (1, .int (zI kind)), (2, .int (zI fig)), (3, .int (zI wh)), (4, .int (zI pl))]) C dX4_horseComes_35 (nlt rfl) rfl ?_
    refine z_iload C dX4_horseComes_37 0 rfl ?_
    refine y_if_eq (tgt := 103) C (by omega) dX4_horseComes_39 (by decide) (fun c_39 => ?_) (fun c_39 => ?_)
    · skip
      refine z_iload C dX4_horseComes_103 0 rfl ?_
      refine z_wsEq (ws' := [(m, .inr (11, .int (zI (((if hcOk n kind wh pl then n + 1 else n) : Nat) : Int)) :: .ref g1 :: .ref g2 :: .ref g3 :: .ref g4 :: .ref g5 :: .int (zI oa) :: .int (zI dy) :: rs)), (g1, AI G 7 (fun z_ => ((if hcOk n kind wh pl then upN kd n kind.toNat else kd) z_ : Int))), (g2, AI G 7 (if hcOk n kind wh pl then va_up fg n fig else fg)), (g3, AI G 7 (if hcOk n kind wh pl then va_up hm n wh else hm)), (g4, AI G 7 (if hcOk n kind wh pl then va_up at_ n pl else at_)), (g5, AI G 7 (if hcOk n kind wh pl then va_up lg n 0 else lg))]) (by simp only [if_neg (show ¬ hcOk n kind wh pl from by simp only [hcOk]; omega)]) ?_
      exact z_zret C hA hQ rfl (Nat.le_of_ble_eq_true rfl) (Nat.le_of_ble_eq_true rfl) (()) (congrArg zI (bI_f (by simp only [hcOk]; omega)).symm) (rfl) (sb_e [0, 1, 2, 3, 4, 5] rfl rfl) dX4_horseComes_105
    · skip
      exact absurd rfl c_39
  · skip
    refine z_iload_n C dX4_horseComes_6 rfl 3 rfl ?_
    refine z_i C (z_runS (As := [.int (zI wh)]) (rest := []) C (ct_X4_isYard (zl X) G wh (by first | assumption | omega)) (lw_S q1251 q1252 q61 q1253) (sb_e [] rfl rfl) (na := 1) (by decide +kernel) rfl (zrm rfl rfl (rfl) (rfl)) rfl (Nat.le_of_ble_eq_true rfl) dX4_horseComes_7) (fun u => jn_ro (sb_e [] rfl rfl)) (fun r_7 u hp_7 => ?_)
    have hp_7 : r_7 = zI (bI (0 ≤ wh ∧ wh ≤ 20)) := hp_7
    subst hp_7
    refine y_beq (tgt := 34) C dX4_horseComes_10 (by decide) (fun c_10 => ?_) (fun c_10 => ?_)
    · skip
      refine y_iconst C dX4_horseComes_34 ?_
      refine z_istore (lv' := [(5, .int (zI 0)), (0, .ref m), (1, .int (zI kind)), (2, .int (zI fig)), (3, .int (zI wh)), (4, .int (zI pl))]) C dX4_horseComes_35 (nlt rfl) rfl ?_
      refine z_iload C dX4_horseComes_37 0 rfl ?_
      refine y_if_eq (tgt := 103) C (by omega) dX4_horseComes_39 (by decide) (fun c_39 => ?_) (fun c_39 => ?_)
      · skip
        refine z_iload C dX4_horseComes_103 0 rfl ?_
        refine z_wsEq (ws' := [(m, .inr (11, .int (zI (((if hcOk n kind wh pl then n + 1 else n) : Nat) : Int)) :: .ref g1 :: .ref g2 :: .ref g3 :: .ref g4 :: .ref g5 :: .int (zI oa) :: .int (zI dy) :: rs)), (g1, AI G 7 (fun z_ => ((if hcOk n kind wh pl then upN kd n kind.toNat else kd) z_ : Int))), (g2, AI G 7 (if hcOk n kind wh pl then va_up fg n fig else fg)), (g3, AI G 7 (if hcOk n kind wh pl then va_up hm n wh else hm)), (g4, AI G 7 (if hcOk n kind wh pl then va_up at_ n pl else at_)), (g5, AI G 7 (if hcOk n kind wh pl then va_up lg n 0 else lg))]) (by simp only [if_neg (show ¬ hcOk n kind wh pl from by simp only [hcOk]; omega)]) ?_
        exact z_zret C hA hQ rfl (Nat.le_of_ble_eq_true rfl) (Nat.le_of_ble_eq_true rfl) (()) (congrArg zI (bI_f (by simp only [hcOk]; omega)).symm) (rfl) (sb_e [0, 1, 2, 3, 4, 5] rfl rfl) dX4_horseComes_105
      · skip
        exact absurd rfl c_39
    · skip
      refine z_iload C dX4_horseComes_13 4 rfl ?_
      refine z_i C (z_runS (As := [.int (zI pl)]) (rest := []) C (ct_X4_isYard (zl X) G pl (by first | assumption | omega)) (lw_S q1251 q1252 q61 q1253) (sb_e [] rfl rfl) (na := 1) (by decide +kernel) rfl (zrm rfl rfl (rfl) (rfl)) rfl (Nat.le_of_ble_eq_true rfl) dX4_horseComes_15) (fun u => jn_ro (sb_e [] rfl rfl)) (fun r_15 u hp_15 => ?_)
      have hp_15 : r_15 = zI (bI (0 ≤ pl ∧ pl ≤ 20)) := hp_15
      subst hp_15
      refine y_beq (tgt := 34) C dX4_horseComes_18 (by decide) (fun c_18 => ?_) (fun c_18 => ?_)
      · skip
        refine y_iconst C dX4_horseComes_34 ?_
        refine z_istore (lv' := [(5, .int (zI 0)), (0, .ref m), (1, .int (zI kind)), (2, .int (zI fig)), (3, .int (zI wh)), (4, .int (zI pl))]) C dX4_horseComes_35 (nlt rfl) rfl ?_
        refine z_iload C dX4_horseComes_37 0 rfl ?_
        refine y_if_eq (tgt := 103) C (by omega) dX4_horseComes_39 (by decide) (fun c_39 => ?_) (fun c_39 => ?_)
        · skip
          refine z_iload C dX4_horseComes_103 0 rfl ?_
          refine z_wsEq (ws' := [(m, .inr (11, .int (zI (((if hcOk n kind wh pl then n + 1 else n) : Nat) : Int)) :: .ref g1 :: .ref g2 :: .ref g3 :: .ref g4 :: .ref g5 :: .int (zI oa) :: .int (zI dy) :: rs)), (g1, AI G 7 (fun z_ => ((if hcOk n kind wh pl then upN kd n kind.toNat else kd) z_ : Int))), (g2, AI G 7 (if hcOk n kind wh pl then va_up fg n fig else fg)), (g3, AI G 7 (if hcOk n kind wh pl then va_up hm n wh else hm)), (g4, AI G 7 (if hcOk n kind wh pl then va_up at_ n pl else at_)), (g5, AI G 7 (if hcOk n kind wh pl then va_up lg n 0 else lg))]) (by simp only [if_neg (show ¬ hcOk n kind wh pl from by simp only [hcOk]; omega)]) ?_
          exact z_zret C hA hQ rfl (Nat.le_of_ble_eq_true rfl) (Nat.le_of_ble_eq_true rfl) (()) (congrArg zI (bI_f (by simp only [hcOk]; omega)).symm) (rfl) (sb_e [0, 1, 2, 3, 4, 5] rfl rfl) dX4_horseComes_105
        · skip
          exact absurd rfl c_39
      · skip
        refine z_aload_n C dX4_horseComes_21 rfl 0 rfl ?_
        refine z_get (q := 0) (kf := 0) (v := .int (zI (n : Int))) C rfl rfl in_X4 (by decide) q1087 (Or.inl rfl) rfl dX4_horseComes_22 ?_
        refine y_bipush C dX4_horseComes_25 (by decide) ?_
        refine y_icmp_ge (tgt := 34) C (by omega) (by omega) dX4_horseComes_27 (by decide) (fun c_27 => ?_) (fun c_27 => ?_)
        · skip
          refine y_iconst C dX4_horseComes_34 ?_
          refine z_istore (lv' := [(5, .int (zI 0)), (0, .ref m), (1, .int (zI kind)), (2, .int (zI fig)), (3, .int (zI wh)), (4, .int (zI pl))]) C dX4_horseComes_35 (nlt rfl) rfl ?_
          refine z_iload C dX4_horseComes_37 0 rfl ?_
          refine y_if_eq (tgt := 103) C (by omega) dX4_horseComes_39 (by decide) (fun c_39 => ?_) (fun c_39 => ?_)
          · skip
            refine z_iload C dX4_horseComes_103 0 rfl ?_
            refine z_wsEq (ws' := [(m, .inr (11, .int (zI (((if hcOk n kind wh pl then n + 1 else n) : Nat) : Int)) :: .ref g1 :: .ref g2 :: .ref g3 :: .ref g4 :: .ref g5 :: .int (zI oa) :: .int (zI dy) :: rs)), (g1, AI G 7 (fun z_ => ((if hcOk n kind wh pl then upN kd n kind.toNat else kd) z_ : Int))), (g2, AI G 7 (if hcOk n kind wh pl then va_up fg n fig else fg)), (g3, AI G 7 (if hcOk n kind wh pl then va_up hm n wh else hm)), (g4, AI G 7 (if hcOk n kind wh pl then va_up at_ n pl else at_)), (g5, AI G 7 (if hcOk n kind wh pl then va_up lg n 0 else lg))]) (by simp only [if_neg (show ¬ hcOk n kind wh pl from by simp only [hcOk]; omega)]) ?_
            exact z_zret C hA hQ rfl (Nat.le_of_ble_eq_true rfl) (Nat.le_of_ble_eq_true rfl) (()) (congrArg zI (bI_f (by simp only [hcOk]; omega)).symm) (rfl) (sb_e [0, 1, 2, 3, 4, 5] rfl rfl) dX4_horseComes_105
          · skip
            exact absurd rfl c_39
        · skip
          refine y_iconst C dX4_horseComes_30 ?_
          refine z_goto (tgt := 35) C dX4_horseComes_31 (by decide) ?_
          refine z_istore (lv' := [(5, .int (zI 1)), (0, .ref m), (1, .int (zI kind)), (2, .int (zI fig)), (3, .int (zI wh)), (4, .int (zI pl))]) C dX4_horseComes_35 (nlt rfl) rfl ?_
          refine z_iload C dX4_horseComes_37 0 rfl ?_
          refine y_if_eq (tgt := 103) C (by omega) dX4_horseComes_39 (by decide) (fun c_39 => ?_) (fun c_39 => ?_)
          · skip
            exact absurd c_39 (by decide)
          · skip
            refine z_aload_n C dX4_horseComes_42 rfl 1 rfl ?_
            refine z_get (q := 0) (kf := 1) (v := .ref g1) C rfl rfl in_X4 (by decide) q1088 (Or.inl rfl) rfl dX4_horseComes_43 ?_
            refine z_aload_n C dX4_horseComes_46 rfl 1 rfl ?_
            refine z_get (q := 0) (kf := 0) (v := .int (zI (n : Int))) C rfl rfl in_X4 (by decide) q1087 (Or.inl rfl) rfl dX4_horseComes_47 ?_
            refine z_iload_n C dX4_horseComes_50 rfl 2 rfl ?_
            refine y_iast (q := 1) (t0 := 0) (g := fun z_ => (upN kd n kind.toNat z_ : Int)) (ws' := [(m, .inr (11, .int (zI (n : Int)) :: .ref g1 :: .ref g2 :: .ref g3 :: .ref g4 :: .ref g5 :: .int (zI oa) :: .int (zI dy) :: rs)), (g1, AI G 7 (fun z_ => (upN kd n kind.toNat z_ : Int))), (g2, AI G 7 fg), (g3, AI G 7 hm), (g4, AI G 7 at_), (g5, AI G 7 lg)]) C rfl rfl (by omega) (by decide) (by rw [← upN_c]; congr 1; omega) rfl dX4_horseComes_51 ?_
            refine z_aload_n C dX4_horseComes_52 rfl 1 rfl ?_
            refine z_get (q := 0) (kf := 2) (v := .ref g2) C rfl rfl in_X4 (by decide) q1089 (Or.inl rfl) rfl dX4_horseComes_53 ?_
            refine z_aload_n C dX4_horseComes_56 rfl 1 rfl ?_
            refine z_get (q := 0) (kf := 0) (v := .int (zI (n : Int))) C rfl rfl in_X4 (by decide) q1087 (Or.inl rfl) rfl dX4_horseComes_57 ?_
            refine z_iload_n C dX4_horseComes_60 rfl 3 rfl ?_
            refine y_iast (q := 2) (t0 := 0) (g := va_up fg n fig) (ws' := [(m, .inr (11, .int (zI (n : Int)) :: .ref g1 :: .ref g2 :: .ref g3 :: .ref g4 :: .ref g5 :: .int (zI oa) :: .int (zI dy) :: rs)), (g1, AI G 7 (fun z_ => (upN kd n kind.toNat z_ : Int))), (g2, AI G 7 (va_up fg n fig)), (g3, AI G 7 hm), (g4, AI G 7 at_), (g5, AI G 7 lg)]) C rfl rfl (by omega) (by decide) rfl rfl dX4_horseComes_61 ?_
            refine z_aload_n C dX4_horseComes_62 rfl 1 rfl ?_
            refine z_get (q := 0) (kf := 3) (v := .ref g3) C rfl rfl in_X4 (by decide) q1090 (Or.inl rfl) rfl dX4_horseComes_63 ?_
            refine z_aload_n C dX4_horseComes_66 rfl 1 rfl ?_
            refine z_get (q := 0) (kf := 0) (v := .int (zI (n : Int))) C rfl rfl in_X4 (by decide) q1087 (Or.inl rfl) rfl dX4_horseComes_67 ?_
            refine z_iload_n C dX4_horseComes_70 rfl 4 rfl ?_
            refine y_iast (q := 3) (t0 := 0) (g := va_up hm n wh) (ws' := [(m, .inr (11, .int (zI (n : Int)) :: .ref g1 :: .ref g2 :: .ref g3 :: .ref g4 :: .ref g5 :: .int (zI oa) :: .int (zI dy) :: rs)), (g1, AI G 7 (fun z_ => (upN kd n kind.toNat z_ : Int))), (g2, AI G 7 (va_up fg n fig)), (g3, AI G 7 (va_up hm n wh)), (g4, AI G 7 at_), (g5, AI G 7 lg)]) C rfl rfl (by omega) (by decide) rfl rfl dX4_horseComes_71 ?_
            refine z_aload_n C dX4_horseComes_72 rfl 1 rfl ?_
            refine z_get (q := 0) (kf := 4) (v := .ref g4) C rfl rfl in_X4 (by decide) q1091 (Or.inl rfl) rfl dX4_horseComes_73 ?_
            refine z_aload_n C dX4_horseComes_76 rfl 1 rfl ?_
            refine z_get (q := 0) (kf := 0) (v := .int (zI (n : Int))) C rfl rfl in_X4 (by decide) q1087 (Or.inl rfl) rfl dX4_horseComes_77 ?_
            refine z_iload C dX4_horseComes_80 5 rfl ?_
            refine y_iast (q := 4) (t0 := 0) (g := va_up at_ n pl) (ws' := [(m, .inr (11, .int (zI (n : Int)) :: .ref g1 :: .ref g2 :: .ref g3 :: .ref g4 :: .ref g5 :: .int (zI oa) :: .int (zI dy) :: rs)), (g1, AI G 7 (fun z_ => (upN kd n kind.toNat z_ : Int))), (g2, AI G 7 (va_up fg n fig)), (g3, AI G 7 (va_up hm n wh)), (g4, AI G 7 (va_up at_ n pl)), (g5, AI G 7 lg)]) C rfl rfl (by omega) (by decide) rfl rfl dX4_horseComes_82 ?_
            refine z_aload_n C dX4_horseComes_83 rfl 1 rfl ?_
            refine z_get (q := 0) (kf := 5) (v := .ref g5) C rfl rfl in_X4 (by decide) q1092 (Or.inl rfl) rfl dX4_horseComes_84 ?_
            refine z_aload_n C dX4_horseComes_87 rfl 1 rfl ?_
            refine z_get (q := 0) (kf := 0) (v := .int (zI (n : Int))) C rfl rfl in_X4 (by decide) q1087 (Or.inl rfl) rfl dX4_horseComes_88 ?_
            refine y_iconst C dX4_horseComes_91 ?_
            refine y_iast (q := 5) (t0 := 0) (g := va_up lg n 0) (ws' := [(m, .inr (11, .int (zI (n : Int)) :: .ref g1 :: .ref g2 :: .ref g3 :: .ref g4 :: .ref g5 :: .int (zI oa) :: .int (zI dy) :: rs)), (g1, AI G 7 (fun z_ => (upN kd n kind.toNat z_ : Int))), (g2, AI G 7 (va_up fg n fig)), (g3, AI G 7 (va_up hm n wh)), (g4, AI G 7 (va_up at_ n pl)), (g5, AI G 7 (va_up lg n 0))]) C rfl rfl (by omega) (by decide) rfl rfl dX4_horseComes_92 ?_
            refine z_aload_n C dX4_horseComes_93 rfl 1 rfl ?_
            refine z_dup C dX4_horseComes_94 rfl ?_
            refine z_get (q := 0) (kf := 0) (v := .int (zI (n : Int))) C rfl rfl in_X4 (by decide) q1087 (Or.inl rfl) rfl dX4_horseComes_95 ?_
            refine y_iconst C dX4_horseComes_98 ?_
            refine y_iadd C dX4_horseComes_99 ?_
            rw [show (n : Int) + 1 = ((n + 1 : Nat) : Int) from rfl]
            refine z_put (q := 0) (kf := 0) (ws' := [(m, .inr (11, .int (zI ((n + 1 : Nat) : Int)) :: .ref g1 :: .ref g2 :: .ref g3 :: .ref g4 :: .ref g5 :: .int (zI oa) :: .int (zI dy) :: rs)), (g1, AI G 7 (fun z_ => (upN kd n kind.toNat z_ : Int))), (g2, AI G 7 (va_up fg n fig)), (g3, AI G 7 (va_up hm n wh)), (g4, AI G 7 (va_up at_ n pl)), (g5, AI G 7 (va_up lg n 0))]) C rfl rfl in_X4 tyX4_ok nmX4 (by decide) q1087 rfl rfl rfl rfl rfl (nlt rfl) rfl dX4_horseComes_100 ?_
            refine z_iload C dX4_horseComes_103 0 rfl ?_
            refine z_wsEq (ws' := [(m, .inr (11, .int (zI (((if hcOk n kind wh pl then n + 1 else n) : Nat) : Int)) :: .ref g1 :: .ref g2 :: .ref g3 :: .ref g4 :: .ref g5 :: .int (zI oa) :: .int (zI dy) :: rs)), (g1, AI G 7 (fun z_ => ((if hcOk n kind wh pl then upN kd n kind.toNat else kd) z_ : Int))), (g2, AI G 7 (if hcOk n kind wh pl then va_up fg n fig else fg)), (g3, AI G 7 (if hcOk n kind wh pl then va_up hm n wh else hm)), (g4, AI G 7 (if hcOk n kind wh pl then va_up at_ n pl else at_)), (g5, AI G 7 (if hcOk n kind wh pl then va_up lg n 0 else lg))]) (by simp only [if_pos (show hcOk n kind wh pl from by simp only [hcOk]; omega)]) ?_
            exact z_zret C hA hQ rfl (Nat.le_of_ble_eq_true rfl) (Nat.le_of_ble_eq_true rfl) (()) (congrArg zI (bI_t (by simp only [hcOk]; omega)).symm) (rfl) (sb_e [0, 1, 2, 3, 4, 5] rfl rfl) dX4_horseComes_105

/-- where and how all are at the k-th day of a ride by a row -/
def seqF (kd : Nat → Nat) (fg hm : Nat → Int) (oa : Int) (n j : Nat) (yard : Int) (at_ lg : Nat → Int) : Nat → (Nat → Int) × (Nat → Int)
  | 0 => (at_, lg)
  | k + 1 => if (seqF kd fg hm oa n j yard at_ lg k).1 j = yard then seqF kd fg hm oa n j yard at_ lg k else
      (va_up (seqF kd fg hm oa n j yard at_ lg k).1 j (stepZ (kd j) (fg j) (hm j) ((seqF kd fg hm oa n j yard at_ lg k).1 j) oa ((seqF kd fg hm oa n j yard at_ lg k).2 j) yard),
       dayL kd fg hm (va_up (seqF kd fg hm oa n j yard at_ lg k).1 j (stepZ (kd j) (fg j) (hm j) ((seqF kd fg hm oa n j yard at_ lg k).1 j) oa ((seqF kd fg hm oa n j yard at_ lg k).2 j) yard)) oa n (seqF kd fg hm oa n j yard at_ lg k).2)
theorem seqF_t {kd : Nat → Nat} {fg hm : Nat → Int} {oa : Int} {n j : Nat} {yard : Int} {at_ lg : Nat → Int} {k : Nat} {p q : Nat → Int} (h : seqF kd fg hm oa n j yard at_ lg k = (p, q)) (c : p j = yard) : seqF kd fg hm oa n j yard at_ lg (k + 1) = (p, q) := by
  show (if _ then _ else _) = _
  rw [h]; exact if_pos c
theorem seqF_f {kd : Nat → Nat} {fg hm : Nat → Int} {oa : Int} {n j : Nat} {yard : Int} {at_ lg : Nat → Int} {k : Nat} {p q : Nat → Int} (h : seqF kd fg hm oa n j yard at_ lg k = (p, q)) (c : ¬ p j = yard) : seqF kd fg hm oa n j yard at_ lg (k + 1) = (va_up p j (stepZ (kd j) (fg j) (hm j) (p j) oa (q j) yard), dayL kd fg hm (va_up p j (stepZ (kd j) (fg j) (hm j) (p j) oa (q j) yard)) oa n q) := by
  show (if _ then _ else _) = _
  rw [h]; exact if_neg c
def skZ (s : Nat) : Int := if s = 0 then -128 else if s = 1 then -32768 else -2147483648
theorem skZ_r (s : Nat) : -2147483648 ≤ skZ s ∧ skZ s ≤ 0 := by unfold skZ; split <;> (try split) <;> omega
/-- whether the row f, of which sk is skipped, tells the first k days so -/
def rowB (f : Nat → Int) (sk : Int) (kd : Nat → Nat) (fg hm : Nat → Int) (oa : Int) (n j : Nat) (yard : Int) (at_ lg : Nat → Int) : Nat → Int
  | 0 => 1
  | k + 1 => if rowB f sk kd fg hm oa n j yard at_ lg k = 1 then (if f k = sk ∨ f k = (seqF kd fg hm oa n j yard at_ lg k).1 j then 1 else 0) else 0
theorem rowB_z {f : Nat → Int} {sk : Int} {kd : Nat → Nat} {fg hm : Nat → Int} {oa : Int} {n j : Nat} {yard : Int} {at_ lg : Nat → Int} {k : Nat} (h : rowB f sk kd fg hm oa n j yard at_ lg k = 0) : ∀ q, k ≤ q → rowB f sk kd fg hm oa n j yard at_ lg q = 0 := by
  intro q
  induction q with
  | zero => intro hq; rw [show k = 0 by omega] at h; exact h
  | succ q ih =>
    intro hq
    by_cases c : k = q + 1
    · rw [← c]; exact h
    · have := ih (by omega)
      show (if _ = 1 then _ else _) = _
      rw [if_neg (by omega)]
theorem rowB_s {f : Nat → Int} {sk : Int} {kd : Nat → Nat} {fg hm : Nat → Int} {oa : Int} {n j : Nat} {yard : Int} {at_ lg : Nat → Int} {k : Nat} {p q : Nat → Int} (h : rowB f sk kd fg hm oa n j yard at_ lg k = 1) (hs : seqF kd fg hm oa n j yard at_ lg k = (p, q)) : (f k = sk ∨ f k = p j → rowB f sk kd fg hm oa n j yard at_ lg (k + 1) = 1) ∧ (¬ (f k = sk ∨ f k = p j) → rowB f sk kd fg hm oa n j yard at_ lg (k + 1) = 0) := by
  have e : rowB f sk kd fg hm oa n j yard at_ lg (k + 1) = (if f k = sk ∨ f k = p j then 1 else 0) := by
    show (if _ = 1 then _ else _) = _
    rw [if_pos h, hs]
  rw [e]
  exact ⟨fun c => if_pos c, fun c => if_neg c⟩
set_option maxHeartbeats 4000000 in
theorem ct_X4_skipped (l : Launch) (G : ZG) (m : Nat) (g1 : Nat) (g2 : Nat) (g3 : Nat) (g4 : Nat) (g5 : Nat) (s1 : Nat) (s2 : Nat) (s3 : Nat) (s4 : Nat) (s5 : Nat) (s6 : Nat) (t1 : Nat) (t2 : Nat) (t3 : Nat) (c0 : Nat) (c1 : Nat) (c2 : Nat) (c3 : Nat) (y0 : Nat) (y1 : Nat) (thr : Int) (rdg : Int) (plc : Int) (ibd : Int) (stm : Int) (him : Int) (pl0 : Int) (itk : Int) (chd : Int) (chf : Int) (sd : Int) (ki : Value) (n : Nat) (oa : Int) (dy : Int) (hw : Nat → Nat) (kk : Nat → Nat) (rs : Nat → Nat) (rm : Nat → Nat) (kf : Nat → Int) (rw_ : Nat → Int) (e : Nat) (hS : SK hw kk rs rm kf rw_) (he : e < 8) : CT l yX4_skipped cX4_skipped 2 (some .long) { frames := 0, cells := 0, slots := 0, locals := 0 } G [.ref m, .int (zI (e : Int))] [(m, .inr (11, [.int (zI (n : Int)), .ref g1, .ref g2, .ref g3, .ref g4, .ref g5, .int (zI oa), .int (zI dy), .ref s1, .ref s2, .ref s3, .ref s4, .ref s5, .ref s6, .int (zI thr), .int (zI rdg), .int (zI plc), .int (zI ibd), .int (zI stm), .ref t1, .ref t2, .ref t3, .ref c0, .ref c1, .ref c2, .ref c3, .int (zI him), .int (zI pl0), .int (zI itk), ki, .int (zI chd), .int (zI chf), .ref y0, .int (zI sd), .ref y1])), (s1, AI G 8 (fun z_ => (hw z_ : Int))), (s2, AI G 8 (fun z_ => (kk z_ : Int))), (s3, AI G 8 kf), (s4, AI G 8 (fun z_ => (rs z_ : Int))), (s5, AI G 8 (fun z_ => (rm z_ : Int))), (s6, AL G 800 rw_)] (Ql G [(m, .inr (11, [.int (zI (n : Int)), .ref g1, .ref g2, .ref g3, .ref g4, .ref g5, .int (zI oa), .int (zI dy), .ref s1, .ref s2, .ref s3, .ref s4, .ref s5, .ref s6, .int (zI thr), .int (zI rdg), .int (zI plc), .int (zI ibd), .int (zI stm), .ref t1, .ref t2, .ref t3, .ref c0, .ref c1, .ref c2, .ref c3, .int (zI him), .int (zI pl0), .int (zI itk), ki, .int (zI chd), .int (zI chf), .ref y0, .int (zI sd), .ref y1])), (s1, AI G 8 (fun z_ => (hw z_ : Int))), (s2, AI G 8 (fun z_ => (kk z_ : Int))), (s3, AI G 8 kf), (s4, AI G 8 (fun z_ => (rs z_ : Int))), (s5, AI G 8 (fun z_ => (rm z_ : Int))), (s6, AL G 800 rw_)] (fun (r : Int64) (u : Unit) => r = zL (skZ (rs e))) (fun u => [(m, .inr (11, [.int (zI (n : Int)), .ref g1, .ref g2, .ref g3, .ref g4, .ref g5, .int (zI oa), .int (zI dy), .ref s1, .ref s2, .ref s3, .ref s4, .ref s5, .ref s6, .int (zI thr), .int (zI rdg), .int (zI plc), .int (zI ibd), .int (zI stm), .ref t1, .ref t2, .ref t3, .ref c0, .ref c1, .ref c2, .ref c3, .int (zI him), .int (zI pl0), .int (zI itk), ki, .int (zI chd), .int (zI chf), .ref y0, .int (zI sd), .ref y1])), (s1, AI G 8 (fun z_ => (hw z_ : Int))), (s2, AI G 8 (fun z_ => (kk z_ : Int))), (s3, AI G 8 kf), (s4, AI G 8 (fun z_ => (rs z_ : Int))), (s5, AI G 8 (fun z_ => (rm z_ : Int))), (s6, AL G 800 rw_)])) := by
  refine z_met (by decide) (Nat.le_of_ble_eq_true rfl) ?_
  intro X A hl0 hA C hQ hin
  subst hl0
  show Z X _ G 0 0 _ 0 [(0, .ref m), (1, .int (zI (e : Int)))] []
  have hSe := hS.1 e he
  refine z_aload_n C dX4_skipped_0 rfl 0 rfl ?_
  refine z_get (q := 0) (kf := 11) (v := .ref s4) C rfl rfl in_X4 (by decide) q1098 (Or.inl rfl) rfl dX4_skipped_1 ?_
  refine z_iload_n C dX4_skipped_4 rfl 1 rfl ?_
  refine y_iald (q := 4) (t0 := 0) (v := (rs e : Int)) C rfl rfl (by omega) (by decide) rfl dX4_skipped_5 ?_
  refine y_if_ne (tgt := 15) C (by omega) dX4_skipped_6 (by decide) (fun c_6 => ?_) (fun c_6 => ?_)
  · skip
    refine z_aload_n C dX4_skipped_15 rfl 0 rfl ?_
    refine z_get (q := 0) (kf := 11) (v := .ref s4) C rfl rfl in_X4 (by decide) q1098 (Or.inl rfl) rfl dX4_skipped_16 ?_
    refine z_iload_n C dX4_skipped_19 rfl 1 rfl ?_
    refine y_iald (q := 4) (t0 := 0) (v := (rs e : Int)) C rfl rfl (by omega) (by decide) rfl dX4_skipped_20 ?_
    refine y_iconst C dX4_skipped_21 ?_
    refine y_icmp_ne (tgt := 31) C (by omega) (by omega) dX4_skipped_22 (by decide) (fun c_22 => ?_) (fun c_22 => ?_)
    · skip
      refine z_ldc2 C q1450 dX4_skipped_31 ?_
      refine z_eql (y := zL (-2147483648)) (by decide) ?_
      exact z_lret C hA hQ rfl (Nat.le_of_ble_eq_true rfl) (Nat.le_of_ble_eq_true rfl) (()) (congrArg zL (by unfold skZ; repeat (first | rw [if_pos (by omega)] | rw [if_neg (by omega)]))) (sb_e [0, 1, 2, 3, 4, 5, 6] rfl rfl) dX4_skipped_34
    · skip
      refine z_ldc2 C q1449 dX4_skipped_25 ?_
      refine z_eql (y := zL (-32768)) (by decide) ?_
      refine z_goto (tgt := 34) C dX4_skipped_28 (by decide) ?_
      exact z_lret C hA hQ rfl (Nat.le_of_ble_eq_true rfl) (Nat.le_of_ble_eq_true rfl) (()) (congrArg zL (by unfold skZ; repeat (first | rw [if_pos (by omega)] | rw [if_neg (by omega)]))) (sb_e [0, 1, 2, 3, 4, 5, 6] rfl rfl) dX4_skipped_34
  · skip
    refine z_ldc2 C q1448 dX4_skipped_9 ?_
    refine z_eql (y := zL (-128)) (by decide) ?_
    refine z_goto (tgt := 34) C dX4_skipped_12 (by decide) ?_
    exact z_lret C hA hQ rfl (Nat.le_of_ble_eq_true rfl) (Nat.le_of_ble_eq_true rfl) (()) (congrArg zL (by unfold skZ; repeat (first | rw [if_pos (by omega)] | rw [if_neg (by omega)]))) (sb_e [0, 1, 2, 3, 4, 5, 6] rfl rfl) dX4_skipped_34

set_option maxHeartbeats 4000000 in
theorem ct_X4_comes (l : Launch) (G : ZG) (m : Nat) (g1 : Nat) (g2 : Nat) (g3 : Nat) (g4 : Nat) (g5 : Nat) (s1 : Nat) (s2 : Nat) (s3 : Nat) (s4 : Nat) (s5 : Nat) (s6 : Nat) (t1 : Nat) (t2 : Nat) (t3 : Nat) (c0 : Nat) (c1 : Nat) (c2 : Nat) (c3 : Nat) (y0 : Nat) (y1 : Nat) (thr : Int) (rdg : Int) (plc : Int) (ibd : Int) (stm : Int) (him : Int) (pl0 : Int) (itk : Int) (chd : Int) (chf : Int) (sd : Int) (ki : Value) (kd : Nat → Nat) (fg : Nat → Int) (hm : Nat → Int) (at_ : Nat → Int) (lg : Nat → Int) (n : Nat) (oa : Int) (dy : Int) (hw : Nat → Nat) (kk : Nat → Nat) (rs : Nat → Nat) (rm : Nat → Nat) (kf : Nat → Int) (rw_ : Nat → Int) (d : Int) (wh : Int) (pl : Int) (hL : LK n kd fg hm at_ lg oa) (hS : SK hw kk rs rm kf rw_) (rd : -2147483648 ≤ d ∧ d ≤ 2147483647) (rwh : -2147483648 ≤ wh ∧ wh ≤ 2147483647) (rpl : -2147483648 ≤ pl ∧ pl ≤ 2147483647) : CT l yX4_comes cX4_comes 5 (some .int) { frames := 3, cells := 0, slots := 0, locals := 70 } G [.ref m, .int (zI d), .int (zI wh), .int (zI pl)] [(m, .inr (11, [.int (zI (n : Int)), .ref g1, .ref g2, .ref g3, .ref g4, .ref g5, .int (zI oa), .int (zI dy), .ref s1, .ref s2, .ref s3, .ref s4, .ref s5, .ref s6, .int (zI thr), .int (zI rdg), .int (zI plc), .int (zI ibd), .int (zI stm), .ref t1, .ref t2, .ref t3, .ref c0, .ref c1, .ref c2, .ref c3, .int (zI him), .int (zI pl0), .int (zI itk), ki, .int (zI chd), .int (zI chf), .ref y0, .int (zI sd), .ref y1])), (g1, AI G 7 (fun z_ => (kd z_ : Int))), (g2, AI G 7 fg), (g3, AI G 7 hm), (g4, AI G 7 at_), (g5, AI G 7 lg), (s1, AI G 8 (fun z_ => (hw z_ : Int))), (s2, AI G 8 (fun z_ => (kk z_ : Int))), (s3, AI G 8 kf), (s4, AI G 8 (fun z_ => (rs z_ : Int))), (s5, AI G 8 (fun z_ => (rm z_ : Int))), (s6, AL G 800 rw_)] (Qi G [(m, .inr (11, [.int (zI (n : Int)), .ref g1, .ref g2, .ref g3, .ref g4, .ref g5, .int (zI oa), .int (zI dy), .ref s1, .ref s2, .ref s3, .ref s4, .ref s5, .ref s6, .int (zI thr), .int (zI rdg), .int (zI plc), .int (zI ibd), .int (zI stm), .ref t1, .ref t2, .ref t3, .ref c0, .ref c1, .ref c2, .ref c3, .int (zI him), .int (zI pl0), .int (zI itk), ki, .int (zI chd), .int (zI chf), .ref y0, .int (zI sd), .ref y1])), (g1, AI G 7 (fun z_ => (kd z_ : Int))), (g2, AI G 7 fg), (g3, AI G 7 hm), (g4, AI G 7 at_), (g5, AI G 7 lg), (s1, AI G 8 (fun z_ => (hw z_ : Int))), (s2, AI G 8 (fun z_ => (kk z_ : Int))), (s3, AI G 8 kf), (s4, AI G 8 (fun z_ => (rs z_ : Int))), (s5, AI G 8 (fun z_ => (rm z_ : Int))), (s6, AL G 800 rw_)] (fun (r : Int32) (u : Unit) => r = zI (oComes hw n d wh pl)) (fun u => [(m, .inr (11, [.int (zI (((if cmOk hw kk n d wh pl then n + 1 else n) : Nat) : Int)), .ref g1, .ref g2, .ref g3, .ref g4, .ref g5, .int (zI oa), .int (zI dy), .ref s1, .ref s2, .ref s3, .ref s4, .ref s5, .ref s6, .int (zI 0), .int (zI rdg), .int (zI plc), .int (zI ibd), .int (zI stm), .ref t1, .ref t2, .ref t3, .ref c0, .ref c1, .ref c2, .ref c3, .int (zI him), .int (zI pl0), .int (zI itk), ki, .int (zI chd), .int (zI chf), .ref y0, .int (zI sd), .ref y1])), (g1, AI G 7 (fun z_ => ((if cmOk hw kk n d wh pl then upN kd n (kk d.toNat) else kd) z_ : Int))), (g2, AI G 7 (if cmOk hw kk n d wh pl then va_up fg n (kf d.toNat) else fg)), (g3, AI G 7 (if cmOk hw kk n d wh pl then va_up hm n wh else hm)), (g4, AI G 7 (if cmOk hw kk n d wh pl then va_up at_ n pl else at_)), (g5, AI G 7 (if cmOk hw kk n d wh pl then va_up lg n 0 else lg)), (s1, AI G 8 (fun z_ => (hw z_ : Int))), (s2, AI G 8 (fun z_ => (kk z_ : Int))), (s3, AI G 8 kf), (s4, AI G 8 (fun z_ => (rs z_ : Int))), (s5, AI G 8 (fun z_ => (rm z_ : Int))), (s6, AL G 800 rw_)])) := by
  refine z_met (by decide) (Nat.le_of_ble_eq_true rfl) ?_
  intro X A hl0 hA C hQ hin
  subst hl0
  obtain ⟨hn7, hoa, hLj⟩ := id hL
  show Z X _ G 0 0 _ 0 [(0, .ref m), (1, .int (zI d)), (2, .int (zI wh)), (3, .int (zI pl))] []
  refine z_aload_n C dX4_comes_0 rfl 0 rfl ?_
  refine y_iconst C dX4_comes_1 ?_
  refine z_put (q := 0) (kf := 14) (ws' := [(m, .inr (11, [.int (zI (n : Int)), .ref g1, .ref g2, .ref g3, .ref g4, .ref g5, .int (zI oa), .int (zI dy), .ref s1, .ref s2, .ref s3, .ref s4, .ref s5, .ref s6, .int (zI 0), .int (zI rdg), .int (zI plc), .int (zI ibd), .int (zI stm), .ref t1, .ref t2, .ref t3, .ref c0, .ref c1, .ref c2, .ref c3, .int (zI him), .int (zI pl0), .int (zI itk), ki, .int (zI chd), .int (zI chf), .ref y0, .int (zI sd), .ref y1])), (g1, AI G 7 (fun z_ => (kd z_ : Int))), (g2, AI G 7 fg), (g3, AI G 7 hm), (g4, AI G 7 at_), (g5, AI G 7 lg), (s1, AI G 8 (fun z_ => (hw z_ : Int))), (s2, AI G 8 (fun z_ => (kk z_ : Int))), (s3, AI G 8 kf), (s4, AI G 8 (fun z_ => (rs z_ : Int))), (s5, AI G 8 (fun z_ => (rm z_ : Int))), (s6, AL G 800 rw_)]) C rfl rfl in_X4 tyX4_ok nmX4 (by decide) q1101 rfl rfl rfl rfl rfl (nlt rfl) rfl dX4_comes_2 ?_
  refine z_iload_n C dX4_comes_5 rfl 2 rfl ?_
  refine z_i C (z_runS (As := [.int (zI wh)]) (rest := []) C (ct_X4_isYard (zl X) G wh (by first | assumption | omega)) (lw_S q1251 q1252 q61 q1253) (sb_e [] rfl rfl) (na := 1) (by decide +kernel) rfl (zrm rfl rfl (rfl) (rfl)) rfl (Nat.le_of_ble_eq_true rfl) dX4_comes_6) (fun u => jn_ro (sb_e [] rfl rfl)) (fun r_6 u hp_6 => ?_)
  have hp_6 : r_6 = zI (bI (0 ≤ wh ∧ wh ≤ 20)) := hp_6
  subst hp_6
  refine y_beq (tgt := 27) C dX4_comes_9 (by decide) (fun c_9 => ?_) (fun c_9 => ?_)
  · skip
    refine y_iconst C dX4_comes_27 ?_
    refine z_istore (lv' := [(4, .int (zI (-1))), (0, .ref m), (1, .int (zI d)), (2, .int (zI wh)), (3, .int (zI pl))]) C dX4_comes_28 (nlt rfl) rfl ?_
    refine z_iload C dX4_comes_30 0 rfl ?_
    refine y_if_ge (tgt := 38) C (by omega) dX4_comes_32 (by decide) (fun c_32 => ?_) (fun c_32 => ?_)
    · skip
      have hwk0 : 0 ≤ wkZ hw d := by omega
      obtain ⟨hd1, hd2⟩ := wkZ_0 (hw := hw) (d := d) (by omega)
      obtain ⟨e, rfl⟩ := Int.eq_ofNat_of_zero_le (show 0 ≤ d by omega)
      simp only [zTN] at hd2
      obtain ⟨hS1, hS2⟩ := id hS
      have hSe := hS1 e (by omega)
      refine z_aload_n C dX4_comes_38 rfl 1 rfl ?_
      refine z_aload_n C dX4_comes_39 rfl 1 rfl ?_
      refine z_get (q := 0) (kf := 9) (v := .ref s2) C rfl rfl in_X4 (by decide) q1096 (Or.inl rfl) rfl dX4_comes_40 ?_
      refine z_iload_n C dX4_comes_43 rfl 2 rfl ?_
      refine y_iald (q := 7) (t0 := 0) (v := (kk e : Int)) C rfl rfl (by omega) (by decide) rfl dX4_comes_44 ?_
      refine z_aload_n C dX4_comes_45 rfl 1 rfl ?_
      refine z_get (q := 0) (kf := 10) (v := .ref s3) C rfl rfl in_X4 (by decide) q1097 (Or.inl rfl) rfl dX4_comes_46 ?_
      refine z_iload_n C dX4_comes_49 rfl 2 rfl ?_
      refine y_iald (q := 8) (t0 := 0) (v := kf e) C rfl rfl (by omega) (by decide) rfl dX4_comes_50 ?_
      refine z_iload_n C dX4_comes_51 rfl 3 rfl ?_
      refine z_iload_n C dX4_comes_52 rfl 4 rfl ?_
      refine z_i (ws' := fun u => [(m, .inr (11, [.int (zI (((if hcOk n (kk e : Int) wh pl then n + 1 else n) : Nat) : Int)), .ref g1, .ref g2, .ref g3, .ref g4, .ref g5, .int (zI oa), .int (zI dy), .ref s1, .ref s2, .ref s3, .ref s4, .ref s5, .ref s6, .int (zI 0), .int (zI rdg), .int (zI plc), .int (zI ibd), .int (zI stm), .ref t1, .ref t2, .ref t3, .ref c0, .ref c1, .ref c2, .ref c3, .int (zI him), .int (zI pl0), .int (zI itk), ki, .int (zI chd), .int (zI chf), .ref y0, .int (zI sd), .ref y1])), (g1, AI G 7 (fun z_ => ((if hcOk n (kk e : Int) wh pl then upN kd n (kk e : Int).toNat else kd) z_ : Int))), (g2, AI G 7 (if hcOk n (kk e : Int) wh pl then va_up fg n (kf e) else fg)), (g3, AI G 7 (if hcOk n (kk e : Int) wh pl then va_up hm n wh else hm)), (g4, AI G 7 (if hcOk n (kk e : Int) wh pl then va_up at_ n pl else at_)), (g5, AI G 7 (if hcOk n (kk e : Int) wh pl then va_up lg n 0 else lg)), (s1, AI G 8 (fun z_ => (hw z_ : Int))), (s2, AI G 8 (fun z_ => (kk z_ : Int))), (s3, AI G 8 kf), (s4, AI G 8 (fun z_ => (rs z_ : Int))), (s5, AI G 8 (fun z_ => (rm z_ : Int))), (s6, AL G 800 rw_)]) C (z_runV (q := 0) (As := [.int (zI (kk e : Int)), .int (zI (kf e)), .int (zI wh), .int (zI pl)]) (rest := []) C (ct_X4_horseComes (zl X) G m g1 g2 g3 g4 g5 kd fg hm at_ lg n oa dy ([.ref s1, .ref s2, .ref s3, .ref s4, .ref s5, .ref s6, .int (zI 0), .int (zI rdg), .int (zI plc), .int (zI ibd), .int (zI stm), .ref t1, .ref t2, .ref t3, .ref c0, .ref c1, .ref c2, .ref c3, .int (zI him), .int (zI pl0), .int (zI itk), ki, .int (zI chd), .int (zI chf), .ref y0, .int (zI sd), .ref y1]) (kk e : Int) (kf e) wh pl (by first | assumption | omega) (by omega) (by first | assumption | omega) (by first | assumption | omega)) (lw_V q1247 q1249 qs32 q61 q1250) rfl rfl (sb_e [0, 1, 2, 3, 4, 5] rfl rfl) (na := 4) (by decide +kernel) rfl (zrm rfl rfl (rfl) (rfl)) rfl (Nat.le_of_ble_eq_true rfl) dX4_comes_53) (fun u => jn_e (wr := [(s1, AI G 8 (fun z_ => (hw z_ : Int))), (s2, AI G 8 (fun z_ => (kk z_ : Int))), (s3, AI G 8 kf), (s4, AI G 8 (fun z_ => (rs z_ : Int))), (s5, AI G 8 (fun z_ => (rm z_ : Int))), (s6, AL G 800 rw_)]) [0, 1, 2, 3, 4, 5] [6, 7, 8, 9, 10, 11] [6, 7, 8, 9, 10, 11, 0, 1, 2, 3, 4, 5] rfl rfl rfl (by decide) rfl rfl) (fun r_53 u hp_53 => ?_)
      have hp_53 : r_53 = zI (bI (hcOk n (kk e : Int) wh pl)) := hp_53
      subst hp_53
      refine y_beq (tgt := 68) C dX4_comes_56 (by decide) (fun c_56 => ?_) (fun c_56 => ?_)
      · skip
        refine y_bipush C dX4_comes_68 (by decide) ?_
        refine z_wsEq (ws' := [(m, .inr (11, [.int (zI (((if cmOk hw kk n (e : Int) wh pl then n + 1 else n) : Nat) : Int)), .ref g1, .ref g2, .ref g3, .ref g4, .ref g5, .int (zI oa), .int (zI dy), .ref s1, .ref s2, .ref s3, .ref s4, .ref s5, .ref s6, .int (zI 0), .int (zI rdg), .int (zI plc), .int (zI ibd), .int (zI stm), .ref t1, .ref t2, .ref t3, .ref c0, .ref c1, .ref c2, .ref c3, .int (zI him), .int (zI pl0), .int (zI itk), ki, .int (zI chd), .int (zI chf), .ref y0, .int (zI sd), .ref y1])), (g1, AI G 7 (fun z_ => ((if cmOk hw kk n (e : Int) wh pl then upN kd n (kk (e : Int).toNat) else kd) z_ : Int))), (g2, AI G 7 (if cmOk hw kk n (e : Int) wh pl then va_up fg n (kf (e : Int).toNat) else fg)), (g3, AI G 7 (if cmOk hw kk n (e : Int) wh pl then va_up hm n wh else hm)), (g4, AI G 7 (if cmOk hw kk n (e : Int) wh pl then va_up at_ n pl else at_)), (g5, AI G 7 (if cmOk hw kk n (e : Int) wh pl then va_up lg n 0 else lg)), (s1, AI G 8 (fun z_ => (hw z_ : Int))), (s2, AI G 8 (fun z_ => (kk z_ : Int))), (s3, AI G 8 kf), (s4, AI G 8 (fun z_ => (rs z_ : Int))), (s5, AI G 8 (fun z_ => (rm z_ : Int))), (s6, AL G 800 rw_)]) (by simp only [if_neg c_56, if_neg (show ¬ cmOk hw kk n (e : Int) wh pl from fun z => c_56 z.2)]) ?_
        exact z_iret C hA hQ rfl (Nat.le_of_ble_eq_true rfl) (Nat.le_of_ble_eq_true rfl) (()) (congrArg zI (by first | (exfalso; omega) | (have c := c_56; simp only [hcOk] at c; unfold oComes; (try simp only [zTN]); repeat (first | rw [if_pos (by omega)] | rw [if_neg (by omega)])))) (sb_e [0, 1, 2, 3, 4, 5, 6, 7, 8, 9, 10, 11] rfl rfl) dX4_comes_70
      · skip
        refine z_aload_n C dX4_comes_59 rfl 1 rfl ?_
        refine z_get (q := 0) (kf := 0) (v := .int (zI (((if hcOk n (kk e : Int) wh pl then n + 1 else n) : Nat) : Int))) C rfl rfl in_X4 (by decide) q1087 (Or.inl rfl) rfl dX4_comes_60 ?_
        refine y_iconst C dX4_comes_63 ?_
        refine y_isub C dX4_comes_64 ?_
        refine z_goto (tgt := 70) C dX4_comes_65 (by decide) ?_
        refine z_wsEq (ws' := [(m, .inr (11, [.int (zI (((if cmOk hw kk n (e : Int) wh pl then n + 1 else n) : Nat) : Int)), .ref g1, .ref g2, .ref g3, .ref g4, .ref g5, .int (zI oa), .int (zI dy), .ref s1, .ref s2, .ref s3, .ref s4, .ref s5, .ref s6, .int (zI 0), .int (zI rdg), .int (zI plc), .int (zI ibd), .int (zI stm), .ref t1, .ref t2, .ref t3, .ref c0, .ref c1, .ref c2, .ref c3, .int (zI him), .int (zI pl0), .int (zI itk), ki, .int (zI chd), .int (zI chf), .ref y0, .int (zI sd), .ref y1])), (g1, AI G 7 (fun z_ => ((if cmOk hw kk n (e : Int) wh pl then upN kd n (kk (e : Int).toNat) else kd) z_ : Int))), (g2, AI G 7 (if cmOk hw kk n (e : Int) wh pl then va_up fg n (kf (e : Int).toNat) else fg)), (g3, AI G 7 (if cmOk hw kk n (e : Int) wh pl then va_up hm n wh else hm)), (g4, AI G 7 (if cmOk hw kk n (e : Int) wh pl then va_up at_ n pl else at_)), (g5, AI G 7 (if cmOk hw kk n (e : Int) wh pl then va_up lg n 0 else lg)), (s1, AI G 8 (fun z_ => (hw z_ : Int))), (s2, AI G 8 (fun z_ => (kk z_ : Int))), (s3, AI G 8 kf), (s4, AI G 8 (fun z_ => (rs z_ : Int))), (s5, AI G 8 (fun z_ => (rm z_ : Int))), (s6, AL G 800 rw_)]) (by simp only [if_pos c_56, if_pos (show cmOk hw kk n (e : Int) wh pl from ⟨hwk0, c_56⟩), zTN]) ?_
        exact z_iret C hA hQ rfl (Nat.le_of_ble_eq_true rfl) (Nat.le_of_ble_eq_true rfl) (()) (congrArg zI (by first | (exfalso; omega) | (have c := c_56; simp only [hcOk] at c; unfold oComes; simp only [if_pos c_56]; (repeat (first | rw [if_pos (by omega)] | rw [if_neg (by omega)])); omega))) (sb_e [0, 1, 2, 3, 4, 5, 6, 7, 8, 9, 10, 11] rfl rfl) dX4_comes_70
    · skip
      refine z_iload C dX4_comes_35 0 rfl ?_
      refine z_wsEq (ws' := [(m, .inr (11, [.int (zI (((if cmOk hw kk n d wh pl then n + 1 else n) : Nat) : Int)), .ref g1, .ref g2, .ref g3, .ref g4, .ref g5, .int (zI oa), .int (zI dy), .ref s1, .ref s2, .ref s3, .ref s4, .ref s5, .ref s6, .int (zI 0), .int (zI rdg), .int (zI plc), .int (zI ibd), .int (zI stm), .ref t1, .ref t2, .ref t3, .ref c0, .ref c1, .ref c2, .ref c3, .int (zI him), .int (zI pl0), .int (zI itk), ki, .int (zI chd), .int (zI chf), .ref y0, .int (zI sd), .ref y1])), (g1, AI G 7 (fun z_ => ((if cmOk hw kk n d wh pl then upN kd n (kk d.toNat) else kd) z_ : Int))), (g2, AI G 7 (if cmOk hw kk n d wh pl then va_up fg n (kf d.toNat) else fg)), (g3, AI G 7 (if cmOk hw kk n d wh pl then va_up hm n wh else hm)), (g4, AI G 7 (if cmOk hw kk n d wh pl then va_up at_ n pl else at_)), (g5, AI G 7 (if cmOk hw kk n d wh pl then va_up lg n 0 else lg)), (s1, AI G 8 (fun z_ => (hw z_ : Int))), (s2, AI G 8 (fun z_ => (kk z_ : Int))), (s3, AI G 8 kf), (s4, AI G 8 (fun z_ => (rs z_ : Int))), (s5, AI G 8 (fun z_ => (rm z_ : Int))), (s6, AL G 800 rw_)]) (by simp only [if_neg (show ¬ cmOk hw kk n d wh pl from by simp only [cmOk, hcOk, zTN]; omega)]) ?_
      exact z_iret C hA hQ rfl (Nat.le_of_ble_eq_true rfl) (Nat.le_of_ble_eq_true rfl) (()) (congrArg zI (by unfold oComes; repeat (first | rw [if_pos (by omega)] | rw [if_neg (by omega)]))) (sb_e [0, 1, 2, 3, 4, 5, 6, 7, 8, 9, 10, 11] rfl rfl) dX4_comes_37
  · skip
    refine z_iload_n C dX4_comes_12 rfl 3 rfl ?_
    refine z_i C (z_runS (As := [.int (zI pl)]) (rest := []) C (ct_X4_isYard (zl X) G pl (by first | assumption | omega)) (lw_S q1251 q1252 q61 q1253) (sb_e [] rfl rfl) (na := 1) (by decide +kernel) rfl (zrm rfl rfl (rfl) (rfl)) rfl (Nat.le_of_ble_eq_true rfl) dX4_comes_13) (fun u => jn_ro (sb_e [] rfl rfl)) (fun r_13 u hp_13 => ?_)
    have hp_13 : r_13 = zI (bI (0 ≤ pl ∧ pl ≤ 20)) := hp_13
    subst hp_13
    refine y_beq (tgt := 27) C dX4_comes_16 (by decide) (fun c_16 => ?_) (fun c_16 => ?_)
    · skip
      refine y_iconst C dX4_comes_27 ?_
      refine z_istore (lv' := [(4, .int (zI (-1))), (0, .ref m), (1, .int (zI d)), (2, .int (zI wh)), (3, .int (zI pl))]) C dX4_comes_28 (nlt rfl) rfl ?_
      refine z_iload C dX4_comes_30 0 rfl ?_
      refine y_if_ge (tgt := 38) C (by omega) dX4_comes_32 (by decide) (fun c_32 => ?_) (fun c_32 => ?_)
      · skip
        have hwk0 : 0 ≤ wkZ hw d := by omega
        obtain ⟨hd1, hd2⟩ := wkZ_0 (hw := hw) (d := d) (by omega)
        obtain ⟨e, rfl⟩ := Int.eq_ofNat_of_zero_le (show 0 ≤ d by omega)
        simp only [zTN] at hd2
        obtain ⟨hS1, hS2⟩ := id hS
        have hSe := hS1 e (by omega)
        refine z_aload_n C dX4_comes_38 rfl 1 rfl ?_
        refine z_aload_n C dX4_comes_39 rfl 1 rfl ?_
        refine z_get (q := 0) (kf := 9) (v := .ref s2) C rfl rfl in_X4 (by decide) q1096 (Or.inl rfl) rfl dX4_comes_40 ?_
        refine z_iload_n C dX4_comes_43 rfl 2 rfl ?_
        refine y_iald (q := 7) (t0 := 0) (v := (kk e : Int)) C rfl rfl (by omega) (by decide) rfl dX4_comes_44 ?_
        refine z_aload_n C dX4_comes_45 rfl 1 rfl ?_
        refine z_get (q := 0) (kf := 10) (v := .ref s3) C rfl rfl in_X4 (by decide) q1097 (Or.inl rfl) rfl dX4_comes_46 ?_
        refine z_iload_n C dX4_comes_49 rfl 2 rfl ?_
        refine y_iald (q := 8) (t0 := 0) (v := kf e) C rfl rfl (by omega) (by decide) rfl dX4_comes_50 ?_
        refine z_iload_n C dX4_comes_51 rfl 3 rfl ?_
        refine z_iload_n C dX4_comes_52 rfl 4 rfl ?_
        refine z_i (ws' := fun u => [(m, .inr (11, [.int (zI (((if hcOk n (kk e : Int) wh pl then n + 1 else n) : Nat) : Int)), .ref g1, .ref g2, .ref g3, .ref g4, .ref g5, .int (zI oa), .int (zI dy), .ref s1, .ref s2, .ref s3, .ref s4, .ref s5, .ref s6, .int (zI 0), .int (zI rdg), .int (zI plc), .int (zI ibd), .int (zI stm), .ref t1, .ref t2, .ref t3, .ref c0, .ref c1, .ref c2, .ref c3, .int (zI him), .int (zI pl0), .int (zI itk), ki, .int (zI chd), .int (zI chf), .ref y0, .int (zI sd), .ref y1])), (g1, AI G 7 (fun z_ => ((if hcOk n (kk e : Int) wh pl then upN kd n (kk e : Int).toNat else kd) z_ : Int))), (g2, AI G 7 (if hcOk n (kk e : Int) wh pl then va_up fg n (kf e) else fg)), (g3, AI G 7 (if hcOk n (kk e : Int) wh pl then va_up hm n wh else hm)), (g4, AI G 7 (if hcOk n (kk e : Int) wh pl then va_up at_ n pl else at_)), (g5, AI G 7 (if hcOk n (kk e : Int) wh pl then va_up lg n 0 else lg)), (s1, AI G 8 (fun z_ => (hw z_ : Int))), (s2, AI G 8 (fun z_ => (kk z_ : Int))), (s3, AI G 8 kf), (s4, AI G 8 (fun z_ => (rs z_ : Int))), (s5, AI G 8 (fun z_ => (rm z_ : Int))), (s6, AL G 800 rw_)]) C (z_runV (q := 0) (As := [.int (zI (kk e : Int)), .int (zI (kf e)), .int (zI wh), .int (zI pl)]) (rest := []) C (ct_X4_horseComes (zl X) G m g1 g2 g3 g4 g5 kd fg hm at_ lg n oa dy ([.ref s1, .ref s2, .ref s3, .ref s4, .ref s5, .ref s6, .int (zI 0), .int (zI rdg), .int (zI plc), .int (zI ibd), .int (zI stm), .ref t1, .ref t2, .ref t3, .ref c0, .ref c1, .ref c2, .ref c3, .int (zI him), .int (zI pl0), .int (zI itk), ki, .int (zI chd), .int (zI chf), .ref y0, .int (zI sd), .ref y1]) (kk e : Int) (kf e) wh pl (by first | assumption | omega) (by omega) (by first | assumption | omega) (by first | assumption | omega)) (lw_V q1247 q1249 qs32 q61 q1250) rfl rfl (sb_e [0, 1, 2, 3, 4, 5] rfl rfl) (na := 4) (by decide +kernel) rfl (zrm rfl rfl (rfl) (rfl)) rfl (Nat.le_of_ble_eq_true rfl) dX4_comes_53) (fun u => jn_e (wr := [(s1, AI G 8 (fun z_ => (hw z_ : Int))), (s2, AI G 8 (fun z_ => (kk z_ : Int))), (s3, AI G 8 kf), (s4, AI G 8 (fun z_ => (rs z_ : Int))), (s5, AI G 8 (fun z_ => (rm z_ : Int))), (s6, AL G 800 rw_)]) [0, 1, 2, 3, 4, 5] [6, 7, 8, 9, 10, 11] [6, 7, 8, 9, 10, 11, 0, 1, 2, 3, 4, 5] rfl rfl rfl (by decide) rfl rfl) (fun r_53 u hp_53 => ?_)
        have hp_53 : r_53 = zI (bI (hcOk n (kk e : Int) wh pl)) := hp_53
        subst hp_53
        refine y_beq (tgt := 68) C dX4_comes_56 (by decide) (fun c_56 => ?_) (fun c_56 => ?_)
        · skip
          refine y_bipush C dX4_comes_68 (by decide) ?_
          refine z_wsEq (ws' := [(m, .inr (11, [.int (zI (((if cmOk hw kk n (e : Int) wh pl then n + 1 else n) : Nat) : Int)), .ref g1, .ref g2, .ref g3, .ref g4, .ref g5, .int (zI oa), .int (zI dy), .ref s1, .ref s2, .ref s3, .ref s4, .ref s5, .ref s6, .int (zI 0), .int (zI rdg), .int (zI plc), .int (zI ibd), .int (zI stm), .ref t1, .ref t2, .ref t3, .ref c0, .ref c1, .ref c2, .ref c3, .int (zI him), .int (zI pl0), .int (zI itk), ki, .int (zI chd), .int (zI chf), .ref y0, .int (zI sd), .ref y1])), (g1, AI G 7 (fun z_ => ((if cmOk hw kk n (e : Int) wh pl then upN kd n (kk (e : Int).toNat) else kd) z_ : Int))), (g2, AI G 7 (if cmOk hw kk n (e : Int) wh pl then va_up fg n (kf (e : Int).toNat) else fg)), (g3, AI G 7 (if cmOk hw kk n (e : Int) wh pl then va_up hm n wh else hm)), (g4, AI G 7 (if cmOk hw kk n (e : Int) wh pl then va_up at_ n pl else at_)), (g5, AI G 7 (if cmOk hw kk n (e : Int) wh pl then va_up lg n 0 else lg)), (s1, AI G 8 (fun z_ => (hw z_ : Int))), (s2, AI G 8 (fun z_ => (kk z_ : Int))), (s3, AI G 8 kf), (s4, AI G 8 (fun z_ => (rs z_ : Int))), (s5, AI G 8 (fun z_ => (rm z_ : Int))), (s6, AL G 800 rw_)]) (by simp only [if_neg c_56, if_neg (show ¬ cmOk hw kk n (e : Int) wh pl from fun z => c_56 z.2)]) ?_
          exact z_iret C hA hQ rfl (Nat.le_of_ble_eq_true rfl) (Nat.le_of_ble_eq_true rfl) (()) (congrArg zI (by first | (exfalso; omega) | (have c := c_56; simp only [hcOk] at c; unfold oComes; (try simp only [zTN]); repeat (first | rw [if_pos (by omega)] | rw [if_neg (by omega)])))) (sb_e [0, 1, 2, 3, 4, 5, 6, 7, 8, 9, 10, 11] rfl rfl) dX4_comes_70
        · skip
          refine z_aload_n C dX4_comes_59 rfl 1 rfl ?_
          refine z_get (q := 0) (kf := 0) (v := .int (zI (((if hcOk n (kk e : Int) wh pl then n + 1 else n) : Nat) : Int))) C rfl rfl in_X4 (by decide) q1087 (Or.inl rfl) rfl dX4_comes_60 ?_
          refine y_iconst C dX4_comes_63 ?_
          refine y_isub C dX4_comes_64 ?_
          refine z_goto (tgt := 70) C dX4_comes_65 (by decide) ?_
          refine z_wsEq (ws' := [(m, .inr (11, [.int (zI (((if cmOk hw kk n (e : Int) wh pl then n + 1 else n) : Nat) : Int)), .ref g1, .ref g2, .ref g3, .ref g4, .ref g5, .int (zI oa), .int (zI dy), .ref s1, .ref s2, .ref s3, .ref s4, .ref s5, .ref s6, .int (zI 0), .int (zI rdg), .int (zI plc), .int (zI ibd), .int (zI stm), .ref t1, .ref t2, .ref t3, .ref c0, .ref c1, .ref c2, .ref c3, .int (zI him), .int (zI pl0), .int (zI itk), ki, .int (zI chd), .int (zI chf), .ref y0, .int (zI sd), .ref y1])), (g1, AI G 7 (fun z_ => ((if cmOk hw kk n (e : Int) wh pl then upN kd n (kk (e : Int).toNat) else kd) z_ : Int))), (g2, AI G 7 (if cmOk hw kk n (e : Int) wh pl then va_up fg n (kf (e : Int).toNat) else fg)), (g3, AI G 7 (if cmOk hw kk n (e : Int) wh pl then va_up hm n wh else hm)), (g4, AI G 7 (if cmOk hw kk n (e : Int) wh pl then va_up at_ n pl else at_)), (g5, AI G 7 (if cmOk hw kk n (e : Int) wh pl then va_up lg n 0 else lg)), (s1, AI G 8 (fun z_ => (hw z_ : Int))), (s2, AI G 8 (fun z_ => (kk z_ : Int))), (s3, AI G 8 kf), (s4, AI G 8 (fun z_ => (rs z_ : Int))), (s5, AI G 8 (fun z_ => (rm z_ : Int))), (s6, AL G 800 rw_)]) (by simp only [if_pos c_56, if_pos (show cmOk hw kk n (e : Int) wh pl from ⟨hwk0, c_56⟩), zTN]) ?_
          exact z_iret C hA hQ rfl (Nat.le_of_ble_eq_true rfl) (Nat.le_of_ble_eq_true rfl) (()) (congrArg zI (by first | (exfalso; omega) | (have c := c_56; simp only [hcOk] at c; unfold oComes; simp only [if_pos c_56]; (repeat (first | rw [if_pos (by omega)] | rw [if_neg (by omega)])); omega))) (sb_e [0, 1, 2, 3, 4, 5, 6, 7, 8, 9, 10, 11] rfl rfl) dX4_comes_70
      · skip
        refine z_iload C dX4_comes_35 0 rfl ?_
        refine z_wsEq (ws' := [(m, .inr (11, [.int (zI (((if cmOk hw kk n d wh pl then n + 1 else n) : Nat) : Int)), .ref g1, .ref g2, .ref g3, .ref g4, .ref g5, .int (zI oa), .int (zI dy), .ref s1, .ref s2, .ref s3, .ref s4, .ref s5, .ref s6, .int (zI 0), .int (zI rdg), .int (zI plc), .int (zI ibd), .int (zI stm), .ref t1, .ref t2, .ref t3, .ref c0, .ref c1, .ref c2, .ref c3, .int (zI him), .int (zI pl0), .int (zI itk), ki, .int (zI chd), .int (zI chf), .ref y0, .int (zI sd), .ref y1])), (g1, AI G 7 (fun z_ => ((if cmOk hw kk n d wh pl then upN kd n (kk d.toNat) else kd) z_ : Int))), (g2, AI G 7 (if cmOk hw kk n d wh pl then va_up fg n (kf d.toNat) else fg)), (g3, AI G 7 (if cmOk hw kk n d wh pl then va_up hm n wh else hm)), (g4, AI G 7 (if cmOk hw kk n d wh pl then va_up at_ n pl else at_)), (g5, AI G 7 (if cmOk hw kk n d wh pl then va_up lg n 0 else lg)), (s1, AI G 8 (fun z_ => (hw z_ : Int))), (s2, AI G 8 (fun z_ => (kk z_ : Int))), (s3, AI G 8 kf), (s4, AI G 8 (fun z_ => (rs z_ : Int))), (s5, AI G 8 (fun z_ => (rm z_ : Int))), (s6, AL G 800 rw_)]) (by simp only [if_neg (show ¬ cmOk hw kk n d wh pl from by simp only [cmOk, hcOk, zTN]; omega)]) ?_
        exact z_iret C hA hQ rfl (Nat.le_of_ble_eq_true rfl) (Nat.le_of_ble_eq_true rfl) (()) (congrArg zI (by unfold oComes; repeat (first | rw [if_pos (by omega)] | rw [if_neg (by omega)]))) (sb_e [0, 1, 2, 3, 4, 5, 6, 7, 8, 9, 10, 11] rfl rfl) dX4_comes_37
    · skip
      refine z_aload_n C dX4_comes_19 rfl 0 rfl ?_
      refine z_iload_n C dX4_comes_20 rfl 1 rfl ?_
      refine z_i C (z_runV (q := 0) (As := [.int (zI d)]) (rest := []) C (ct_X4_wrongKept (zl X) G m g1 g2 g3 g4 g5 s1 s2 s3 s4 s5 s6 t1 t2 t3 c0 c1 c2 c3 y0 y1 0 rdg plc ibd stm him pl0 itk chd chf sd ki n oa dy hw kk rs rm kf rw_ d (by first | assumption | omega) (by first | assumption | omega)) (lw_V q1322 q1324 qs44 q61 q1325) rfl rfl (sb_e [0, 6, 7, 8, 9, 10, 11] rfl rfl) (na := 1) (by decide +kernel) rfl (zrm rfl rfl (rfl) (rfl)) rfl (Nat.le_of_ble_eq_true rfl) dX4_comes_21) (fun u => jn_ro (sb_e [0, 6, 7, 8, 9, 10, 11] rfl rfl)) (fun r_21 u hp_21 => ?_)
      have hp_21 : r_21 = zI (wkZ hw d) := hp_21
      subst hp_21
      have hwk := wkZ_r hw d
      refine z_goto (tgt := 28) C dX4_comes_24 (by decide) ?_
      refine z_istore (lv' := [(4, .int (zI (wkZ hw d))), (0, .ref m), (1, .int (zI d)), (2, .int (zI wh)), (3, .int (zI pl))]) C dX4_comes_28 (nlt rfl) rfl ?_
      refine z_iload C dX4_comes_30 0 rfl ?_
      refine y_if_ge (tgt := 38) C (by omega) dX4_comes_32 (by decide) (fun c_32 => ?_) (fun c_32 => ?_)
      · skip
        have hwk0 : 0 ≤ wkZ hw d := by omega
        obtain ⟨hd1, hd2⟩ := wkZ_0 (hw := hw) (d := d) (by omega)
        obtain ⟨e, rfl⟩ := Int.eq_ofNat_of_zero_le (show 0 ≤ d by omega)
        simp only [zTN] at hd2
        obtain ⟨hS1, hS2⟩ := id hS
        have hSe := hS1 e (by omega)
        refine z_aload_n C dX4_comes_38 rfl 1 rfl ?_
        refine z_aload_n C dX4_comes_39 rfl 1 rfl ?_
        refine z_get (q := 0) (kf := 9) (v := .ref s2) C rfl rfl in_X4 (by decide) q1096 (Or.inl rfl) rfl dX4_comes_40 ?_
        refine z_iload_n C dX4_comes_43 rfl 2 rfl ?_
        refine y_iald (q := 7) (t0 := 0) (v := (kk e : Int)) C rfl rfl (by omega) (by decide) rfl dX4_comes_44 ?_
        refine z_aload_n C dX4_comes_45 rfl 1 rfl ?_
        refine z_get (q := 0) (kf := 10) (v := .ref s3) C rfl rfl in_X4 (by decide) q1097 (Or.inl rfl) rfl dX4_comes_46 ?_
        refine z_iload_n C dX4_comes_49 rfl 2 rfl ?_
        refine y_iald (q := 8) (t0 := 0) (v := kf e) C rfl rfl (by omega) (by decide) rfl dX4_comes_50 ?_
        refine z_iload_n C dX4_comes_51 rfl 3 rfl ?_
        refine z_iload_n C dX4_comes_52 rfl 4 rfl ?_
        refine z_i (ws' := fun u => [(m, .inr (11, [.int (zI (((if hcOk n (kk e : Int) wh pl then n + 1 else n) : Nat) : Int)), .ref g1, .ref g2, .ref g3, .ref g4, .ref g5, .int (zI oa), .int (zI dy), .ref s1, .ref s2, .ref s3, .ref s4, .ref s5, .ref s6, .int (zI 0), .int (zI rdg), .int (zI plc), .int (zI ibd), .int (zI stm), .ref t1, .ref t2, .ref t3, .ref c0, .ref c1, .ref c2, .ref c3, .int (zI him), .int (zI pl0), .int (zI itk), ki, .int (zI chd), .int (zI chf), .ref y0, .int (zI sd), .ref y1])), (g1, AI G 7 (fun z_ => ((if hcOk n (kk e : Int) wh pl then upN kd n (kk e : Int).toNat else kd) z_ : Int))), (g2, AI G 7 (if hcOk n (kk e : Int) wh pl then va_up fg n (kf e) else fg)), (g3, AI G 7 (if hcOk n (kk e : Int) wh pl then va_up hm n wh else hm)), (g4, AI G 7 (if hcOk n (kk e : Int) wh pl then va_up at_ n pl else at_)), (g5, AI G 7 (if hcOk n (kk e : Int) wh pl then va_up lg n 0 else lg)), (s1, AI G 8 (fun z_ => (hw z_ : Int))), (s2, AI G 8 (fun z_ => (kk z_ : Int))), (s3, AI G 8 kf), (s4, AI G 8 (fun z_ => (rs z_ : Int))), (s5, AI G 8 (fun z_ => (rm z_ : Int))), (s6, AL G 800 rw_)]) C (z_runV (q := 0) (As := [.int (zI (kk e : Int)), .int (zI (kf e)), .int (zI wh), .int (zI pl)]) (rest := []) C (ct_X4_horseComes (zl X) G m g1 g2 g3 g4 g5 kd fg hm at_ lg n oa dy ([.ref s1, .ref s2, .ref s3, .ref s4, .ref s5, .ref s6, .int (zI 0), .int (zI rdg), .int (zI plc), .int (zI ibd), .int (zI stm), .ref t1, .ref t2, .ref t3, .ref c0, .ref c1, .ref c2, .ref c3, .int (zI him), .int (zI pl0), .int (zI itk), ki, .int (zI chd), .int (zI chf), .ref y0, .int (zI sd), .ref y1]) (kk e : Int) (kf e) wh pl (by first | assumption | omega) (by omega) (by first | assumption | omega) (by first | assumption | omega)) (lw_V q1247 q1249 qs32 q61 q1250) rfl rfl (sb_e [0, 1, 2, 3, 4, 5] rfl rfl) (na := 4) (by decide +kernel) rfl (zrm rfl rfl (rfl) (rfl)) rfl (Nat.le_of_ble_eq_true rfl) dX4_comes_53) (fun u => jn_e (wr := [(s1, AI G 8 (fun z_ => (hw z_ : Int))), (s2, AI G 8 (fun z_ => (kk z_ : Int))), (s3, AI G 8 kf), (s4, AI G 8 (fun z_ => (rs z_ : Int))), (s5, AI G 8 (fun z_ => (rm z_ : Int))), (s6, AL G 800 rw_)]) [0, 1, 2, 3, 4, 5] [6, 7, 8, 9, 10, 11] [6, 7, 8, 9, 10, 11, 0, 1, 2, 3, 4, 5] rfl rfl rfl (by decide) rfl rfl) (fun r_53 u hp_53 => ?_)
        have hp_53 : r_53 = zI (bI (hcOk n (kk e : Int) wh pl)) := hp_53
        subst hp_53
        refine y_beq (tgt := 68) C dX4_comes_56 (by decide) (fun c_56 => ?_) (fun c_56 => ?_)
        · skip
          refine y_bipush C dX4_comes_68 (by decide) ?_
          refine z_wsEq (ws' := [(m, .inr (11, [.int (zI (((if cmOk hw kk n (e : Int) wh pl then n + 1 else n) : Nat) : Int)), .ref g1, .ref g2, .ref g3, .ref g4, .ref g5, .int (zI oa), .int (zI dy), .ref s1, .ref s2, .ref s3, .ref s4, .ref s5, .ref s6, .int (zI 0), .int (zI rdg), .int (zI plc), .int (zI ibd), .int (zI stm), .ref t1, .ref t2, .ref t3, .ref c0, .ref c1, .ref c2, .ref c3, .int (zI him), .int (zI pl0), .int (zI itk), ki, .int (zI chd), .int (zI chf), .ref y0, .int (zI sd), .ref y1])), (g1, AI G 7 (fun z_ => ((if cmOk hw kk n (e : Int) wh pl then upN kd n (kk (e : Int).toNat) else kd) z_ : Int))), (g2, AI G 7 (if cmOk hw kk n (e : Int) wh pl then va_up fg n (kf (e : Int).toNat) else fg)), (g3, AI G 7 (if cmOk hw kk n (e : Int) wh pl then va_up hm n wh else hm)), (g4, AI G 7 (if cmOk hw kk n (e : Int) wh pl then va_up at_ n pl else at_)), (g5, AI G 7 (if cmOk hw kk n (e : Int) wh pl then va_up lg n 0 else lg)), (s1, AI G 8 (fun z_ => (hw z_ : Int))), (s2, AI G 8 (fun z_ => (kk z_ : Int))), (s3, AI G 8 kf), (s4, AI G 8 (fun z_ => (rs z_ : Int))), (s5, AI G 8 (fun z_ => (rm z_ : Int))), (s6, AL G 800 rw_)]) (by simp only [if_neg c_56, if_neg (show ¬ cmOk hw kk n (e : Int) wh pl from fun z => c_56 z.2)]) ?_
          exact z_iret C hA hQ rfl (Nat.le_of_ble_eq_true rfl) (Nat.le_of_ble_eq_true rfl) (()) (congrArg zI (by first | (exfalso; omega) | (have c := c_56; simp only [hcOk] at c; unfold oComes; (try simp only [zTN]); repeat (first | rw [if_pos (by omega)] | rw [if_neg (by omega)])))) (sb_e [0, 1, 2, 3, 4, 5, 6, 7, 8, 9, 10, 11] rfl rfl) dX4_comes_70
        · skip
          refine z_aload_n C dX4_comes_59 rfl 1 rfl ?_
          refine z_get (q := 0) (kf := 0) (v := .int (zI (((if hcOk n (kk e : Int) wh pl then n + 1 else n) : Nat) : Int))) C rfl rfl in_X4 (by decide) q1087 (Or.inl rfl) rfl dX4_comes_60 ?_
          refine y_iconst C dX4_comes_63 ?_
          refine y_isub C dX4_comes_64 ?_
          refine z_goto (tgt := 70) C dX4_comes_65 (by decide) ?_
          refine z_wsEq (ws' := [(m, .inr (11, [.int (zI (((if cmOk hw kk n (e : Int) wh pl then n + 1 else n) : Nat) : Int)), .ref g1, .ref g2, .ref g3, .ref g4, .ref g5, .int (zI oa), .int (zI dy), .ref s1, .ref s2, .ref s3, .ref s4, .ref s5, .ref s6, .int (zI 0), .int (zI rdg), .int (zI plc), .int (zI ibd), .int (zI stm), .ref t1, .ref t2, .ref t3, .ref c0, .ref c1, .ref c2, .ref c3, .int (zI him), .int (zI pl0), .int (zI itk), ki, .int (zI chd), .int (zI chf), .ref y0, .int (zI sd), .ref y1])), (g1, AI G 7 (fun z_ => ((if cmOk hw kk n (e : Int) wh pl then upN kd n (kk (e : Int).toNat) else kd) z_ : Int))), (g2, AI G 7 (if cmOk hw kk n (e : Int) wh pl then va_up fg n (kf (e : Int).toNat) else fg)), (g3, AI G 7 (if cmOk hw kk n (e : Int) wh pl then va_up hm n wh else hm)), (g4, AI G 7 (if cmOk hw kk n (e : Int) wh pl then va_up at_ n pl else at_)), (g5, AI G 7 (if cmOk hw kk n (e : Int) wh pl then va_up lg n 0 else lg)), (s1, AI G 8 (fun z_ => (hw z_ : Int))), (s2, AI G 8 (fun z_ => (kk z_ : Int))), (s3, AI G 8 kf), (s4, AI G 8 (fun z_ => (rs z_ : Int))), (s5, AI G 8 (fun z_ => (rm z_ : Int))), (s6, AL G 800 rw_)]) (by simp only [if_pos c_56, if_pos (show cmOk hw kk n (e : Int) wh pl from ⟨hwk0, c_56⟩), zTN]) ?_
          exact z_iret C hA hQ rfl (Nat.le_of_ble_eq_true rfl) (Nat.le_of_ble_eq_true rfl) (()) (congrArg zI (by first | (exfalso; omega) | (have c := c_56; simp only [hcOk] at c; unfold oComes; simp only [if_pos c_56]; (repeat (first | rw [if_pos (by omega)] | rw [if_neg (by omega)])); omega))) (sb_e [0, 1, 2, 3, 4, 5, 6, 7, 8, 9, 10, 11] rfl rfl) dX4_comes_70
      · skip
        refine z_iload C dX4_comes_35 0 rfl ?_
        refine z_wsEq (ws' := [(m, .inr (11, [.int (zI (((if cmOk hw kk n d wh pl then n + 1 else n) : Nat) : Int)), .ref g1, .ref g2, .ref g3, .ref g4, .ref g5, .int (zI oa), .int (zI dy), .ref s1, .ref s2, .ref s3, .ref s4, .ref s5, .ref s6, .int (zI 0), .int (zI rdg), .int (zI plc), .int (zI ibd), .int (zI stm), .ref t1, .ref t2, .ref t3, .ref c0, .ref c1, .ref c2, .ref c3, .int (zI him), .int (zI pl0), .int (zI itk), ki, .int (zI chd), .int (zI chf), .ref y0, .int (zI sd), .ref y1])), (g1, AI G 7 (fun z_ => ((if cmOk hw kk n d wh pl then upN kd n (kk d.toNat) else kd) z_ : Int))), (g2, AI G 7 (if cmOk hw kk n d wh pl then va_up fg n (kf d.toNat) else fg)), (g3, AI G 7 (if cmOk hw kk n d wh pl then va_up hm n wh else hm)), (g4, AI G 7 (if cmOk hw kk n d wh pl then va_up at_ n pl else at_)), (g5, AI G 7 (if cmOk hw kk n d wh pl then va_up lg n 0 else lg)), (s1, AI G 8 (fun z_ => (hw z_ : Int))), (s2, AI G 8 (fun z_ => (kk z_ : Int))), (s3, AI G 8 kf), (s4, AI G 8 (fun z_ => (rs z_ : Int))), (s5, AI G 8 (fun z_ => (rm z_ : Int))), (s6, AL G 800 rw_)]) (by simp only [if_neg (show ¬ cmOk hw kk n d wh pl from by simp only [cmOk, hcOk, zTN]; omega)]) ?_
        exact z_iret C hA hQ rfl (Nat.le_of_ble_eq_true rfl) (Nat.le_of_ble_eq_true rfl) (()) (congrArg zI (by unfold oComes; repeat (first | rw [if_pos (by omega)] | rw [if_neg (by omega)]))) (sb_e [0, 1, 2, 3, 4, 5, 6, 7, 8, 9, 10, 11] rfl rfl) dX4_comes_37

