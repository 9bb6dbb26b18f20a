/-! THE MODEL, 9: rows, what is kept, horses that come -/
set_option maxRecDepth 100000
abbrev rwOk (d so c : Int) : Prop := (0 ≤ d ∧ d ≤ 7) ∧ (0 ≤ so ∧ so ≤ 2) ∧ 0 ≤ c ∧ c ≤ 100
def oRow (d so c : Int) : Int := if (0 ≤ d ∧ d ≤ 7) ∧ (0 ≤ so ∧ so ≤ 2) ∧ c ≤ 100 then (if c < 0 then -14 else 0) else -1
def zerF (rw_ : Nat → Int) (d i : Nat) : Nat → Int := fun q => if 100 * d ≤ q ∧ q < 100 * d + i then 0 else rw_ q
theorem zerF_0 {rw_ : Nat → Int} {d : Nat} : zerF rw_ d 0 = rw_ := by funext q; exact if_neg (by omega)
theorem zerF_s {rw_ : Nat → Int} {d i : Nat} : va_up (zerF rw_ d i) (100 * d + i) 0 = zerF rw_ d (i + 1) := by
  funext q
  unfold va_up zerF
  by_cases c : q = 100 * d + i
  · rw [if_pos c, if_pos (by omega)]
  · rw [if_neg c]
    by_cases c2 : 100 * d ≤ q ∧ q < 100 * d + i
    · rw [if_pos c2, if_pos (by omega)]
    · rw [if_neg c2, if_neg (by omega)]
set_option maxHeartbeats 4000000 in
theorem ct_X4_row (l : Launch) (G : ZG) (m : Nat) (g1 : Nat) (g2 : Nat) (g3 : Nat) (g4 : Nat) (g5 : Nat) (s1 : Nat) (s2 : Nat) (s3 : Nat) (s4 : Nat) (s5 : Nat) (s6 : Nat) (t1 : Nat) (t2 : Nat) (t3 : Nat) (c0 : Nat) (c1 : Nat) (c2 : Nat) (c3 : Nat) (y0 : Nat) (y1 : Nat) (thr : Int) (rdg : Int) (plc : Int) (ibd : Int) (stm : Int) (him : Int) (pl0 : Int) (itk : Int) (chd : Int) (chf : Int) (sd : Int) (ki : Value) (n : Nat) (oa : Int) (dy : Int) (hw : Nat → Nat) (kk : Nat → Nat) (rs : Nat → Nat) (rm : Nat → Nat) (kf : Nat → Int) (rw_ : Nat → Int) (d : Int) (so : Int) (c : Int) (hS : SK hw kk rs rm kf rw_) (rd : -2147483648 ≤ d ∧ d ≤ 2147483647) (rso : -2147483648 ≤ so ∧ so ≤ 2147483647) (rc : -2147483648 ≤ c ∧ c ≤ 2147483647) : CT l yX4_row cX4_row 5 (some .int) { frames := 1, cells := 0, slots := 0, locals := 25 } G [.ref m, .int (zI d), .int (zI so), .int (zI c)] [(m, .inr (11, [.int (zI (n : Int)), .ref g1, .ref g2, .ref g3, .ref g4, .ref g5, .int (zI oa), .int (zI dy), .ref s1, .ref s2, .ref s3, .ref s4, .ref s5, .ref s6, .int (zI thr), .int (zI rdg), .int (zI plc), .int (zI ibd), .int (zI stm), .ref t1, .ref t2, .ref t3, .ref c0, .ref c1, .ref c2, .ref c3, .int (zI him), .int (zI pl0), .int (zI itk), ki, .int (zI chd), .int (zI chf), .ref y0, .int (zI sd), .ref y1])), (s1, AI G 8 (fun z_ => (hw z_ : Int))), (s2, AI G 8 (fun z_ => (kk z_ : Int))), (s3, AI G 8 kf), (s4, AI G 8 (fun z_ => (rs z_ : Int))), (s5, AI G 8 (fun z_ => (rm z_ : Int))), (s6, AL G 800 rw_)] (Qi G [(m, .inr (11, [.int (zI (n : Int)), .ref g1, .ref g2, .ref g3, .ref g4, .ref g5, .int (zI oa), .int (zI dy), .ref s1, .ref s2, .ref s3, .ref s4, .ref s5, .ref s6, .int (zI thr), .int (zI rdg), .int (zI plc), .int (zI ibd), .int (zI stm), .ref t1, .ref t2, .ref t3, .ref c0, .ref c1, .ref c2, .ref c3, .int (zI him), .int (zI pl0), .int (zI itk), ki, .int (zI chd), .int (zI chf), .ref y0, .int (zI sd), .ref y1])), (s1, AI G 8 (fun z_ => (hw z_ : Int))), (s2, AI G 8 (fun z_ => (kk z_ : Int))), (s3, AI G 8 kf), (s4, AI G 8 (fun z_ => (rs z_ : Int))), (s5, AI G 8 (fun z_ => (rm z_ : Int))), (s6, AL G 800 rw_)] (fun (r : Int32) (u : Unit) => r = zI (oRow d so c)) (fun u => [(m, .inr (11, [.int (zI (n : Int)), .ref g1, .ref g2, .ref g3, .ref g4, .ref g5, .int (zI oa), .int (zI dy), .ref s1, .ref s2, .ref s3, .ref s4, .ref s5, .ref s6, .int (zI 0), .int (zI rdg), .int (zI plc), .int (zI ibd), .int (zI stm), .ref t1, .ref t2, .ref t3, .ref c0, .ref c1, .ref c2, .ref c3, .int (zI him), .int (zI pl0), .int (zI itk), ki, .int (zI chd), .int (zI chf), .ref y0, .int (zI sd), .ref y1])), (s1, AI G 8 (fun z_ => ((if rwOk d so c then upN hw d.toNat 2 else hw) z_ : Int))), (s2, AI G 8 (fun z_ => (kk z_ : Int))), (s3, AI G 8 kf), (s4, AI G 8 (fun z_ => ((if rwOk d so c then upN rs d.toNat so.toNat else rs) z_ : Int))), (s5, AI G 8 (fun z_ => ((if rwOk d so c then upN rm d.toNat c.toNat else rm) z_ : Int))), (s6, AL G 800 (if rwOk d so c then zerF rw_ d.toNat 100 else rw_))])) := by
  refine z_met (by decide) (Nat.le_of_ble_eq_true rfl) ?_
  intro X A hl0 hA C hQ hin
  subst hl0
  show Z X _ G 0 0 _ 0 [(0, .ref m), (1, .int (zI d)), (2, .int (zI so)), (3, .int (zI c))] []
  refine z_aload_n C dX4_row_0 rfl 0 rfl ?_
  refine y_iconst C dX4_row_1 ?_
  refine z_put (q := 0) (kf := 14) (ws' := [(m, .inr (11, [.int (zI (n : Int)), .ref g1, .ref g2, .ref g3, .ref g4, .ref g5, .int (zI oa), .int (zI dy), .ref s1, .ref s2, .ref s3, .ref s4, .ref s5, .ref s6, .int (zI 0), .int (zI rdg), .int (zI plc), .int (zI ibd), .int (zI stm), .ref t1, .ref t2, .ref t3, .ref c0, .ref c1, .ref c2, .ref c3, .int (zI him), .int (zI pl0), .int (zI itk), ki, .int (zI chd), .int (zI chf), .ref y0, .int (zI sd), .ref y1])), (s1, AI G 8 (fun z_ => (hw z_ : Int))), (s2, AI G 8 (fun z_ => (kk z_ : Int))), (s3, AI G 8 kf), (s4, AI G 8 (fun z_ => (rs z_ : Int))), (s5, AI G 8 (fun z_ => (rm z_ : Int))), (s6, AL G 800 rw_)]) C rfl rfl in_X4 tyX4_ok nmX4 (by decide) q1101 rfl rfl rfl rfl rfl (nlt rfl) rfl dX4_row_2 ?_
  refine z_iload_n C dX4_row_5 rfl 1 rfl ?_
  refine y_i2l C (by omega) dX4_row_6 ?_
  refine z_lconst (v := zL 0) C dX4_row_7 (by decide) ?_
  refine z_ldc2 C q1206 dX4_row_8 ?_
  refine z_eql (y := zL 7) (by decide) ?_
  refine z_i C (z_runS (As := [.long (zL d), .long (zL 0), .long (zL 7)]) (rest := []) C (ct_X4_in (zl X) G d 0 7 (by first | assumption | omega) (by first | assumption | omega) (by first | assumption | omega)) (lw_S q1207 q1208 q61 q1209) (sb_e [] rfl rfl) (na := 3) (by decide +kernel) rfl (zrm rfl rfl (rfl) (rfl)) rfl (Nat.le_of_ble_eq_true rfl) dX4_row_11) (fun u => jn_ro (sb_e [] rfl rfl)) (fun r_11 u hp_11 => ?_)
  have hp_11 : r_11 = zI (bI (0 ≤ d ∧ d ≤ 7)) := hp_11
  subst hp_11
  refine y_beq (tgt := 35) C dX4_row_14 (by decide) (fun c_14 => ?_) (fun c_14 => ?_)
  · skip
    refine y_iconst C dX4_row_35 ?_
    refine z_wsEq (ws' := [(m, .inr (11, [.int (zI (n : Int)), .ref g1, .ref g2, .ref g3, .ref g4, .ref g5, .int (zI oa), .int (zI dy), .ref s1, .ref s2, .ref s3, .ref s4, .ref s5, .ref s6, .int (zI 0), .int (zI rdg), .int (zI plc), .int (zI ibd), .int (zI stm), .ref t1, .ref t2, .ref t3, .ref c0, .ref c1, .ref c2, .ref c3, .int (zI him), .int (zI pl0), .int (zI itk), ki, .int (zI chd), .int (zI chf), .ref y0, .int (zI sd), .ref y1])), (s1, AI G 8 (fun z_ => ((if rwOk d so c then upN hw d.toNat 2 else hw) z_ : Int))), (s2, AI G 8 (fun z_ => (kk z_ : Int))), (s3, AI G 8 kf), (s4, AI G 8 (fun z_ => ((if rwOk d so c then upN rs d.toNat so.toNat else rs) z_ : Int))), (s5, AI G 8 (fun z_ => ((if rwOk d so c then upN rm d.toNat c.toNat else rm) z_ : Int))), (s6, AL G 800 (if rwOk d so c then zerF rw_ d.toNat 100 else rw_))]) (by simp only [if_neg (show ¬ rwOk d so c from by simp only [rwOk]; omega)]) ?_
    exact z_iret C hA hQ rfl (Nat.le_of_ble_eq_true rfl) (Nat.le_of_ble_eq_true rfl) (()) (congrArg zI (by unfold oRow; (try simp only [zTN]); repeat (first | rw [if_pos (by omega)] | rw [if_neg (by omega)]))) (sb_e [0, 1, 2, 3, 4, 5, 6] rfl rfl) dX4_row_36
  · skip
    refine z_iload_n C dX4_row_17 rfl 2 rfl ?_
    refine y_i2l C (by omega) dX4_row_18 ?_
    refine z_lconst (v := zL 0) C dX4_row_19 (by decide) ?_
    refine z_ldc2 C q1471 dX4_row_20 ?_
    refine z_eql (y := zL 2) (by decide) ?_
    refine z_i C (z_runS (As := [.long (zL so), .long (zL 0), .long (zL 2)]) (rest := []) C (ct_X4_in (zl X) G so 0 2 (by first | assumption | omega) (by first | assumption | omega) (by first | assumption | omega)) (lw_S q1207 q1208 q61 q1209) (sb_e [] rfl rfl) (na := 3) (by decide +kernel) rfl (zrm rfl rfl (rfl) (rfl)) rfl (Nat.le_of_ble_eq_true rfl) dX4_row_23) (fun u => jn_ro (sb_e [] rfl rfl)) (fun r_23 u hp_23 => ?_)
    have hp_23 : r_23 = zI (bI (0 ≤ so ∧ so ≤ 2)) := hp_23
    subst hp_23
    refine y_beq (tgt := 35) C dX4_row_26 (by decide) (fun c_26 => ?_) (fun c_26 => ?_)
    · skip
      refine y_iconst C dX4_row_35 ?_
      refine z_wsEq (ws' := [(m, .inr (11, [.int (zI (n : Int)), .ref g1, .ref g2, .ref g3, .ref g4, .ref g5, .int (zI oa), .int (zI dy), .ref s1, .ref s2, .ref s3, .ref s4, .ref s5, .ref s6, .int (zI 0), .int (zI rdg), .int (zI plc), .int (zI ibd), .int (zI stm), .ref t1, .ref t2, .ref t3, .ref c0, .ref c1, .ref c2, .ref c3, .int (zI him), .int (zI pl0), .int (zI itk), ki, .int (zI chd), .int (zI chf), .ref y0, .int (zI sd), .ref y1])), (s1, AI G 8 (fun z_ => ((if rwOk d so c then upN hw d.toNat 2 else hw) z_ : Int))), (s2, AI G 8 (fun z_ => (kk z_ : Int))), (s3, AI G 8 kf), (s4, AI G 8 (fun z_ => ((if rwOk d so c then upN rs d.toNat so.toNat else rs) z_ : Int))), (s5, AI G 8 (fun z_ => ((if rwOk d so c then upN rm d.toNat c.toNat else rm) z_ : Int))), (s6, AL G 800 (if rwOk d so c then zerF rw_ d.toNat 100 else rw_))]) (by simp only [if_neg (show ¬ rwOk d so c from by simp only [rwOk]; omega)]) ?_
      exact z_iret C hA hQ rfl (Nat.le_of_ble_eq_true rfl) (Nat.le_of_ble_eq_true rfl) (()) (congrArg zI (by unfold oRow; (try simp only [zTN]); repeat (first | rw [if_pos (by omega)] | rw [if_neg (by omega)]))) (sb_e [0, 1, 2, 3, 4, 5, 6] rfl rfl) dX4_row_36
    · skip
      refine z_iload_n C dX4_row_29 rfl 3 rfl ?_
      refine y_bipush C dX4_row_30 (by decide) ?_
      refine y_icmp_le (tgt := 37) C (by omega) (by omega) dX4_row_32 (by decide) (fun c_32 => ?_) (fun c_32 => ?_)
      · skip
        refine z_iload_n C dX4_row_37 rfl 3 rfl ?_
        refine y_if_ge (tgt := 44) C (by omega) dX4_row_38 (by decide) (fun c_38 => ?_) (fun c_38 => ?_)
        · skip
          obtain ⟨e, rfl⟩ := Int.eq_ofNat_of_zero_le (show 0 ≤ d by omega)
          obtain ⟨sN, rfl⟩ := Int.eq_ofNat_of_zero_le (show 0 ≤ so by omega)
          obtain ⟨cN, rfl⟩ := Int.eq_ofNat_of_zero_le (show 0 ≤ c by omega)
          refine z_aload_n C dX4_row_44 rfl 0 rfl ?_
          refine z_get (q := 0) (kf := 8) (v := .ref s1) C rfl rfl in_X4 (by decide) q1095 (Or.inl rfl) rfl dX4_row_45 ?_
          refine z_iload_n C dX4_row_48 rfl 1 rfl ?_
          refine y_iconst C dX4_row_49 ?_
          refine y_iast (q := 1) (t0 := 0) (g := fun z_ => (upN hw e 2 z_ : Int)) (ws' := [(m, .inr (11, [.int (zI (n : Int)), .ref g1, .ref g2, .ref g3, .ref g4, .ref g5, .int (zI oa), .int (zI dy), .ref s1, .ref s2, .ref s3, .ref s4, .ref s5, .ref s6, .int (zI 0), .int (zI rdg), .int (zI plc), .int (zI ibd), .int (zI stm), .ref t1, .ref t2, .ref t3, .ref c0, .ref c1, .ref c2, .ref c3, .int (zI him), .int (zI pl0), .int (zI itk), ki, .int (zI chd), .int (zI chf), .ref y0, .int (zI sd), .ref y1])), (s1, AI G 8 (fun z_ => (upN hw e 2 z_ : Int))), (s2, AI G 8 (fun z_ => (kk z_ : Int))), (s3, AI G 8 kf), (s4, AI G 8 (fun z_ => (rs z_ : Int))), (s5, AI G 8 (fun z_ => (rm z_ : Int))), (s6, AL G 800 rw_)]) C rfl rfl (by omega) (by decide) upN_c rfl dX4_row_50 ?_
          refine z_aload_n C dX4_row_51 rfl 0 rfl ?_
          refine z_get (q := 0) (kf := 11) (v := .ref s4) C rfl rfl in_X4 (by decide) q1098 (Or.inl rfl) rfl dX4_row_52 ?_
          refine z_iload_n C dX4_row_55 rfl 1 rfl ?_
          refine z_iload_n C dX4_row_56 rfl 2 rfl ?_
          refine y_iast (q := 4) (t0 := 0) (g := fun z_ => (upN rs e sN z_ : Int)) (ws' := [(m, .inr (11, [.int (zI (n : Int)), .ref g1, .ref g2, .ref g3, .ref g4, .ref g5, .int (zI oa), .int (zI dy), .ref s1, .ref s2, .ref s3, .ref s4, .ref s5, .ref s6, .int (zI 0), .int (zI rdg), .int (zI plc), .int (zI ibd), .int (zI stm), .ref t1, .ref t2, .ref t3, .ref c0, .ref c1, .ref c2, .ref c3, .int (zI him), .int (zI pl0), .int (zI itk), ki, .int (zI chd), .int (zI chf), .ref y0, .int (zI sd), .ref y1])), (s1, AI G 8 (fun z_ => (upN hw e 2 z_ : Int))), (s2, AI G 8 (fun z_ => (kk z_ : Int))), (s3, AI G 8 kf), (s4, AI G 8 (fun z_ => (upN rs e sN z_ : Int))), (s5, AI G 8 (fun z_ => (rm z_ : Int))), (s6, AL G 800 rw_)]) C rfl rfl (by omega) (by decide) upN_c rfl dX4_row_57 ?_
          refine z_aload_n C dX4_row_58 rfl 0 rfl ?_
          refine z_get (q := 0) (kf := 12) (v := .ref s5) C rfl rfl in_X4 (by decide) q1099 (Or.inl rfl) rfl dX4_row_59 ?_
          refine z_iload_n C dX4_row_62 rfl 1 rfl ?_
          refine z_iload_n C dX4_row_63 rfl 3 rfl ?_
          refine y_iast (q := 5) (t0 := 0) (g := fun z_ => (upN rm e cN z_ : Int)) (ws' := [(m, .inr (11, [.int (zI (n : Int)), .ref g1, .ref g2, .ref g3, .ref g4, .ref g5, .int (zI oa), .int (zI dy), .ref s1, .ref s2, .ref s3, .ref s4, .ref s5, .ref s6, .int (zI 0), .int (zI rdg), .int (zI plc), .int (zI ibd), .int (zI stm), .ref t1, .ref t2, .ref t3, .ref c0, .ref c1, .ref c2, .ref c3, .int (zI him), .int (zI pl0), .int (zI itk), ki, .int (zI chd), .int (zI chf), .ref y0, .int (zI sd), .ref y1])), (s1, AI G 8 (fun z_ => (upN hw e 2 z_ : Int))), (s2, AI G 8 (fun z_ => (kk z_ : Int))), (s3, AI G 8 kf), (s4, AI G 8 (fun z_ => (upN rs e sN z_ : Int))), (s5, AI G 8 (fun z_ => (upN rm e cN z_ : Int))), (s6, AL G 800 rw_)]) C rfl rfl (by omega) (by decide) upN_c rfl dX4_row_64 ?_
          refine y_iconst C dX4_row_65 ?_
          refine z_istore (lv' := [(4, .int (zI 0)), (0, .ref m), (1, .int (zI (e : Int))), (2, .int (zI (sN : Int))), (3, .int (zI (cN : Int)))]) C dX4_row_66 (nlt rfl) rfl ?_
          have L_68 : ∀ (tt : Nat) (i : Nat), (i ≤ 100) → 100 - i = tt → Z X (cX4_row, 5, yX4_row.cls, (some .int), { frames := 1, cells := 0, slots := 0, locals := 25 }, A) G 0 0 [(m, .inr (11, [.int (zI (n : Int)), .ref g1, .ref g2, .ref g3, .ref g4, .ref g5, .int (zI oa), .int (zI dy), .ref s1, .ref s2, .ref s3, .ref s4, .ref s5, .ref s6, .int (zI 0), .int (zI rdg), .int (zI plc), .int (zI ibd), .int (zI stm), .ref t1, .ref t2, .ref t3, .ref c0, .ref c1, .ref c2, .ref c3, .int (zI him), .int (zI pl0), .int (zI itk), ki, .int (zI chd), .int (zI chf), .ref y0, .int (zI sd), .ref y1])), (s1, AI G 8 (fun z_ => ((upN hw e 2) z_ : Int))), (s2, AI G 8 (fun z_ => (kk z_ : Int))), (s3, AI G 8 kf), (s4, AI G 8 (fun z_ => ((upN rs e sN) z_ : Int))), (s5, AI G 8 (fun z_ => ((upN rm e cN) z_ : Int))), (s6, AL G 800 (zerF rw_ e i))] 68 [(4, .int (zI (i : Int))), (0, .ref m), (1, .int (zI (e : Int)))] [] := by
            intro tt
            induction tt using Nat.strongRecOn with
            | _ tt ih_68 =>
              intro i hi ht_68
              refine z_iload C dX4_row_68 0 rfl ?_
              refine y_bipush C dX4_row_70 (by decide) ?_
              refine y_icmp_ge (tgt := 94) C (by omega) (by omega) dX4_row_72 (by decide) (fun c_72 => ?_) (fun c_72 => ?_)
              · skip
                rw [show (i : Nat) = 100 by omega]
                refine y_iconst C dX4_row_94 ?_
                refine z_wsEq (ws' := [(m, .inr (11, [.int (zI (n : Int)), .ref g1, .ref g2, .ref g3, .ref g4, .ref g5, .int (zI oa), .int (zI dy), .ref s1, .ref s2, .ref s3, .ref s4, .ref s5, .ref s6, .int (zI 0), .int (zI rdg), .int (zI plc), .int (zI ibd), .int (zI stm), .ref t1, .ref t2, .ref t3, .ref c0, .ref c1, .ref c2, .ref c3, .int (zI him), .int (zI pl0), .int (zI itk), ki, .int (zI chd), .int (zI chf), .ref y0, .int (zI sd), .ref y1])), (s1, AI G 8 (fun z_ => ((if rwOk (e : Int) (sN : Int) (cN : Int) then upN hw (e : Int).toNat 2 else hw) z_ : Int))), (s2, AI G 8 (fun z_ => (kk z_ : Int))), (s3, AI G 8 kf), (s4, AI G 8 (fun z_ => ((if rwOk (e : Int) (sN : Int) (cN : Int) then upN rs (e : Int).toNat (sN : Int).toNat else rs) z_ : Int))), (s5, AI G 8 (fun z_ => ((if rwOk (e : Int) (sN : Int) (cN : Int) then upN rm (e : Int).toNat (cN : Int).toNat else rm) z_ : Int))), (s6, AL G 800 (if rwOk (e : Int) (sN : Int) (cN : Int) then zerF rw_ (e : Int).toNat 100 else rw_))]) (by simp only [if_pos (show rwOk (e : Int) (sN : Int) (cN : Int) from by simp only [rwOk]; omega), zTN]) ?_
                exact z_iret C hA hQ rfl (Nat.le_of_ble_eq_true rfl) (Nat.le_of_ble_eq_true rfl) (()) (congrArg zI (by unfold oRow; (try simp only [zTN]); repeat (first | rw [if_pos (by omega)] | rw [if_neg (by omega)]))) (sb_e [0, 1, 2, 3, 4, 5, 6] rfl rfl) dX4_row_95
              · skip
                refine z_aload_n C dX4_row_75 rfl 1 rfl ?_
                refine z_get (q := 0) (kf := 13) (v := .ref s6) C rfl rfl in_X4 (by decide) q1100 (Or.inl rfl) rfl dX4_row_76 ?_
                refine y_bipush C dX4_row_79 (by decide) ?_
                refine z_iload_n C dX4_row_81 rfl 2 rfl ?_
                refine y_imul C dX4_row_82 ?_
                refine z_iload C dX4_row_83 0 rfl ?_
                refine y_iadd C dX4_row_85 ?_
                refine z_lconst (v := zL 0) C dX4_row_86 (by decide) ?_
                refine y_last (q := 6) (t0 := 1) (g := zerF rw_ e (i + 1)) (ws' := [(m, .inr (11, [.int (zI (n : Int)), .ref g1, .ref g2, .ref g3, .ref g4, .ref g5, .int (zI oa), .int (zI dy), .ref s1, .ref s2, .ref s3, .ref s4, .ref s5, .ref s6, .int (zI 0), .int (zI rdg), .int (zI plc), .int (zI ibd), .int (zI stm), .ref t1, .ref t2, .ref t3, .ref c0, .ref c1, .ref c2, .ref c3, .int (zI him), .int (zI pl0), .int (zI itk), ki, .int (zI chd), .int (zI chf), .ref y0, .int (zI sd), .ref y1])), (s1, AI G 8 (fun z_ => ((upN hw e 2) z_ : Int))), (s2, AI G 8 (fun z_ => (kk z_ : Int))), (s3, AI G 8 kf), (s4, AI G 8 (fun z_ => ((upN rs e sN) z_ : Int))), (s5, AI G 8 (fun z_ => ((upN rm e cN) z_ : Int))), (s6, AL G 800 (zerF rw_ e (i + 1)))]) C rfl rfl (by omega) (by decide) (by rw [show (100 * (e : Int) + (i : Int)).toNat = 100 * e + i by omega]; exact zerF_s) rfl dX4_row_87 ?_
                refine y_iinc (lv' := [(4, .int (zI ((i : Int) + 1))), (0, .ref m), (1, .int (zI (e : Int)))]) C dX4_row_88 (q := 0) rfl (nlt rfl) rfl ?_
                refine z_goto (tgt := 68) C dX4_row_91 (by decide) ?_
                exact ih_68 _ (by omega) (i + 1) (by first | assumption | omega) rfl
          refine z_lv (lv' := [(4, .int (zI 0)), (0, .ref m), (1, .int (zI (e : Int)))]) [0, 1, 2] rfl ?_
          rw [show rw_ = zerF rw_ e 0 from zerF_0.symm]
          exact L_68 _ 0 (by first | assumption | omega) rfl
        · skip
          refine y_bipush C dX4_row_41 (by decide) ?_
          refine z_wsEq (ws' := [(m, .inr (11, [.int (zI (n : Int)), .ref g1, .ref g2, .ref g3, .ref g4, .ref g5, .int (zI oa), .int (zI dy), .ref s1, .ref s2, .ref s3, .ref s4, .ref s5, .ref s6, .int (zI 0), .int (zI rdg), .int (zI plc), .int (zI ibd), .int (zI stm), .ref t1, .ref t2, .ref t3, .ref c0, .ref c1, .ref c2, .ref c3, .int (zI him), .int (zI pl0), .int (zI itk), ki, .int (zI chd), .int (zI chf), .ref y0, .int (zI sd), .ref y1])), (s1, AI G 8 (fun z_ => ((if rwOk d so c then upN hw d.toNat 2 else hw) z_ : Int))), (s2, AI G 8 (fun z_ => (kk z_ : Int))), (s3, AI G 8 kf), (s4, AI G 8 (fun z_ => ((if rwOk d so c then upN rs d.toNat so.toNat else rs) z_ : Int))), (s5, AI G 8 (fun z_ => ((if rwOk d so c then upN rm d.toNat c.toNat else rm) z_ : Int))), (s6, AL G 800 (if rwOk d so c then zerF rw_ d.toNat 100 else rw_))]) (by simp only [if_neg (show ¬ rwOk d so c from by simp only [rwOk]; omega)]) ?_
          exact z_iret C hA hQ rfl (Nat.le_of_ble_eq_true rfl) (Nat.le_of_ble_eq_true rfl) (()) (congrArg zI (by unfold oRow; (try simp only [zTN]); repeat (first | rw [if_pos (by omega)] | rw [if_neg (by omega)]))) (sb_e [0, 1, 2, 3, 4, 5, 6] rfl rfl) dX4_row_43
      · skip
        refine y_iconst C dX4_row_35 ?_
        refine z_wsEq (ws' := [(m, .inr (11, [.int (zI (n : Int)), .ref g1, .ref g2, .ref g3, .ref g4, .ref g5, .int (zI oa), .int (zI dy), .ref s1, .ref s2, .ref s3, .ref s4, .ref s5, .ref s6, .int (zI 0), .int (zI rdg), .int (zI plc), .int (zI ibd), .int (zI stm), .ref t1, .ref t2, .ref t3, .ref c0, .ref c1, .ref c2, .ref c3, .int (zI him), .int (zI pl0), .int (zI itk), ki, .int (zI chd), .int (zI chf), .ref y0, .int (zI sd), .ref y1])), (s1, AI G 8 (fun z_ => ((if rwOk d so c then upN hw d.toNat 2 else hw) z_ : Int))), (s2, AI G 8 (fun z_ => (kk z_ : Int))), (s3, AI G 8 kf), (s4, AI G 8 (fun z_ => ((if rwOk d so c then upN rs d.toNat so.toNat else rs) z_ : Int))), (s5, AI G 8 (fun z_ => ((if rwOk d so c then upN rm d.toNat c.toNat else rm) z_ : Int))), (s6, AL G 800 (if rwOk d so c then zerF rw_ d.toNat 100 else rw_))]) (by simp only [if_neg (show ¬ rwOk d so c from by simp only [rwOk]; omega)]) ?_
        exact z_iret C hA hQ rfl (Nat.le_of_ble_eq_true rfl) (Nat.le_of_ble_eq_true rfl) (()) (congrArg zI (by unfold oRow; (try simp only [zTN]); repeat (first | rw [if_pos (by omega)] | rw [if_neg (by omega)]))) (sb_e [0, 1, 2, 3, 4, 5, 6] rfl rfl) dX4_row_36

set_option maxHeartbeats 4000000 in
theorem ct_X4_narrowed (l : Launch) (G : ZG) (v : Int) (s : Nat) (rv : -2147483648 ≤ v ∧ v ≤ 2147483647) (hs : s ≤ 2) : CT l yX4_narrowed cX4_narrowed 2 (some .long) { frames := 0, cells := 0, slots := 0, locals := 0 } G [.int (zI v), .int (zI (s : Int))] [] (Ql G [] (fun (r : Int64) (u : Unit) => r = zL (narrowZ v s)) (fun u => [])) := by
  refine z_met (by decide) (Nat.le_of_ble_eq_true rfl) ?_
  intro X A hl0 hA C hQ hin
  subst hl0
  show Z X _ G 0 0 _ 0 [(0, .int (zI v)), (1, .int (zI (s : Int)))] []
  refine z_iload_n C dX4_narrowed_0 rfl 1 rfl ?_
  refine y_if_ne (tgt := 10) C (by omega) dX4_narrowed_1 (by decide) (fun c_1 => ?_) (fun c_1 => ?_)
  · skip
    refine z_iload_n C dX4_narrowed_10 rfl 1 rfl ?_
    refine y_iconst C dX4_narrowed_11 ?_
    refine y_icmp_ne (tgt := 21) C (by omega) (by omega) dX4_narrowed_12 (by decide) (fun c_12 => ?_) (fun c_12 => ?_)
    · skip
      refine z_iload_n C dX4_narrowed_21 rfl 0 rfl ?_
      refine y_i2l C (by omega) dX4_narrowed_22 ?_
      exact z_lret C hA hQ rfl (Nat.le_of_ble_eq_true rfl) (Nat.le_of_ble_eq_true rfl) (()) (congrArg zL (by unfold narrowZ; repeat (first | rw [if_pos (by omega)] | rw [if_neg (by omega)]))) (sb_e [] rfl rfl) dX4_narrowed_23
    · skip
      refine z_iload_n C dX4_narrowed_15 rfl 0 rfl ?_
      have h1 := nb16_r v
      refine y_i2s C dX4_narrowed_16 ?_
      refine y_i2l C (by omega) dX4_narrowed_17 ?_
      refine z_goto (tgt := 23) C dX4_narrowed_18 (by decide) ?_
      exact z_lret C hA hQ rfl (Nat.le_of_ble_eq_true rfl) (Nat.le_of_ble_eq_true rfl) (()) (congrArg zL (by unfold narrowZ; repeat (first | rw [if_pos (by omega)] | rw [if_neg (by omega)]))) (sb_e [] rfl rfl) dX4_narrowed_23
  · skip
    refine z_iload_n C dX4_narrowed_4 rfl 0 rfl ?_
    have h1 := nb8_r v
    refine y_i2b C dX4_narrowed_5 ?_
    refine y_i2l C (by omega) dX4_narrowed_6 ?_
    refine z_goto (tgt := 23) C dX4_narrowed_7 (by decide) ?_
    exact z_lret C hA hQ rfl (Nat.le_of_ble_eq_true rfl) (Nat.le_of_ble_eq_true rfl) (()) (congrArg zL (by unfold narrowZ; repeat (first | rw [if_pos (by omega)] | rw [if_neg (by omega)]))) (sb_e [] rfl rfl) dX4_narrowed_23

abbrev ptOk (hw rm : Nat → Nat) (d i : Int) : Prop := 0 ≤ wrZ hw d ∧ 0 ≤ i ∧ i ≤ (rm d.toNat : Int) - 1
def oPut (hw rm : Nat → Nat) (d i : Int) : Int := if wrZ hw d < 0 then wrZ hw d else if 0 ≤ i ∧ i ≤ (rm d.toNat : Int) - 1 then 0 else -13
set_option maxHeartbeats 4000000 in
theorem ct_X4_put (l : Launch) (G : ZG) (m : Nat) (g1 : Nat) (g2 : Nat) (g3 : Nat) (g4 : Nat) (g5 : Nat) (s1 : Nat) (s2 : Nat) (s3 : Nat) (s4 : Nat) (s5 : Nat) (s6 : Nat) (t1 : Nat) (t2 : Nat) (t3 : Nat) (c0 : Nat) (c1 : Nat) (c2 : Nat) (c3 : Nat) (y0 : Nat) (y1 : Nat) (thr : Int) (rdg : Int) (plc : Int) (ibd : Int) (stm : Int) (him : Int) (pl0 : Int) (itk : Int) (chd : Int) (chf : Int) (sd : Int) (ki : Value) (n : Nat) (oa : Int) (dy : Int) (hw : Nat → Nat) (kk : Nat → Nat) (rs : Nat → Nat) (rm : Nat → Nat) (kf : Nat → Int) (rw_ : Nat → Int) (d : Int) (i : Int) (v : Int) (hS : SK hw kk rs rm kf rw_) (rd : -2147483648 ≤ d ∧ d ≤ 2147483647) (ri : -2147483648 ≤ i ∧ i ≤ 2147483647) (rv : -2147483648 ≤ v ∧ v ≤ 2147483647) : CT l yX4_put cX4_put 5 (some .int) { frames := 2, cells := 0, slots := 0, locals := 46 } G [.ref m, .int (zI d), .int (zI i), .int (zI v)] [(m, .inr (11, [.int (zI (n : Int)), .ref g1, .ref g2, .ref g3, .ref g4, .ref g5, .int (zI oa), .int (zI dy), .ref s1, .ref s2, .ref s3, .ref s4, .ref s5, .ref s6, .int (zI thr), .int (zI rdg), .int (zI plc), .int (zI ibd), .int (zI stm), .ref t1, .ref t2, .ref t3, .ref c0, .ref c1, .ref c2, .ref c3, .int (zI him), .int (zI pl0), .int (zI itk), ki, .int (zI chd), .int (zI chf), .ref y0, .int (zI sd), .ref y1])), (s1, AI G 8 (fun z_ => (hw z_ : Int))), (s2, AI G 8 (fun z_ => (kk z_ : Int))), (s3, AI G 8 kf), (s4, AI G 8 (fun z_ => (rs z_ : Int))), (s5, AI G 8 (fun z_ => (rm z_ : Int))), (s6, AL G 800 rw_)] (Qi G [(m, .inr (11, [.int (zI (n : Int)), .ref g1, .ref g2, .ref g3, .ref g4, .ref g5, .int (zI oa), .int (zI dy), .ref s1, .ref s2, .ref s3, .ref s4, .ref s5, .ref s6, .int (zI thr), .int (zI rdg), .int (zI plc), .int (zI ibd), .int (zI stm), .ref t1, .ref t2, .ref t3, .ref c0, .ref c1, .ref c2, .ref c3, .int (zI him), .int (zI pl0), .int (zI itk), ki, .int (zI chd), .int (zI chf), .ref y0, .int (zI sd), .ref y1])), (s1, AI G 8 (fun z_ => (hw z_ : Int))), (s2, AI G 8 (fun z_ => (kk z_ : Int))), (s3, AI G 8 kf), (s4, AI G 8 (fun z_ => (rs z_ : Int))), (s5, AI G 8 (fun z_ => (rm z_ : Int))), (s6, AL G 800 rw_)] (fun (r : Int32) (u : Unit) => r = zI (oPut hw rm d i)) (fun u => [(m, .inr (11, [.int (zI (n : Int)), .ref g1, .ref g2, .ref g3, .ref g4, .ref g5, .int (zI oa), .int (zI dy), .ref s1, .ref s2, .ref s3, .ref s4, .ref s5, .ref s6, .int (zI 0), .int (zI rdg), .int (zI plc), .int (zI ibd), .int (zI stm), .ref t1, .ref t2, .ref t3, .ref c0, .ref c1, .ref c2, .ref c3, .int (zI him), .int (zI pl0), .int (zI itk), ki, .int (zI chd), .int (zI chf), .ref y0, .int (zI sd), .ref y1])), (s1, AI G 8 (fun z_ => (hw z_ : Int))), (s2, AI G 8 (fun z_ => (kk z_ : Int))), (s3, AI G 8 kf), (s4, AI G 8 (fun z_ => (rs z_ : Int))), (s5, AI G 8 (fun z_ => (rm z_ : Int))), (s6, AL G 800 (if ptOk hw rm d i then va_up rw_ (100 * d + i).toNat (narrowZ v (rs d.toNat)) else rw_))])) := by
  refine z_met (by decide) (Nat.le_of_ble_eq_true rfl) ?_
  intro X A hl0 hA C hQ hin
  subst hl0
  show Z X _ G 0 0 _ 0 [(0, .ref m), (1, .int (zI d)), (2, .int (zI i)), (3, .int (zI v))] []
  refine z_aload_n C dX4_put_0 rfl 0 rfl ?_
  refine y_iconst C dX4_put_1 ?_
  refine z_put (q := 0) (kf := 14) (ws' := [(m, .inr (11, [.int (zI (n : Int)), .ref g1, .ref g2, .ref g3, .ref g4, .ref g5, .int (zI oa), .int (zI dy), .ref s1, .ref s2, .ref s3, .ref s4, .ref s5, .ref s6, .int (zI 0), .int (zI rdg), .int (zI plc), .int (zI ibd), .int (zI stm), .ref t1, .ref t2, .ref t3, .ref c0, .ref c1, .ref c2, .ref c3, .int (zI him), .int (zI pl0), .int (zI itk), ki, .int (zI chd), .int (zI chf), .ref y0, .int (zI sd), .ref y1])), (s1, AI G 8 (fun z_ => (hw z_ : Int))), (s2, AI G 8 (fun z_ => (kk z_ : Int))), (s3, AI G 8 kf), (s4, AI G 8 (fun z_ => (rs z_ : Int))), (s5, AI G 8 (fun z_ => (rm z_ : Int))), (s6, AL G 800 rw_)]) C rfl rfl in_X4 tyX4_ok nmX4 (by decide) q1101 rfl rfl rfl rfl rfl (nlt rfl) rfl dX4_put_2 ?_
  refine z_aload_n C dX4_put_5 rfl 0 rfl ?_
  refine z_iload_n C dX4_put_6 rfl 1 rfl ?_
  refine z_i C (z_runV (q := 0) (As := [.int (zI d)]) (rest := []) C (ct_X4_wrongRow (zl X) G m g1 g2 g3 g4 g5 s1 s2 s3 s4 s5 s6 t1 t2 t3 c0 c1 c2 c3 y0 y1 0 rdg plc ibd stm him pl0 itk chd chf sd ki n oa dy hw kk rs rm kf rw_ d (by first | assumption | omega) (by first | assumption | omega)) (lw_V q1202 q1204 qs23 q61 q1205) rfl rfl (sb_e [0, 1, 2, 3, 4, 5, 6] rfl rfl) (na := 1) (by decide +kernel) rfl (zrm rfl rfl (rfl) (rfl)) rfl (Nat.le_of_ble_eq_true rfl) dX4_put_7) (fun u => jn_ro (sb_e [0, 1, 2, 3, 4, 5, 6] rfl rfl)) (fun r_7 u hp_7 => ?_)
  have hp_7 : r_7 = zI (wrZ hw d) := hp_7
  subst hp_7
  have hwr := wrZ_r hw d
  refine z_istore (lv' := [(4, .int (zI (wrZ hw d))), (0, .ref m), (1, .int (zI d)), (2, .int (zI i)), (3, .int (zI v))]) C dX4_put_10 (nlt rfl) rfl ?_
  refine z_iload C dX4_put_12 0 rfl ?_
  refine y_if_ge (tgt := 20) C (by omega) dX4_put_14 (by decide) (fun c_14 => ?_) (fun c_14 => ?_)
  · skip
    obtain ⟨hd1, hd2⟩ := wrZ_0 (hw := hw) (d := d) (by omega)
    obtain ⟨e, rfl⟩ := Int.eq_ofNat_of_zero_le (show 0 ≤ d by omega)
    simp only [zTN] at hd2
    obtain ⟨hS1, hS2⟩ := id hS
    have hSe := hS1 e (by omega)
    refine z_iload_n C dX4_put_20 rfl 3 rfl ?_
    refine y_i2l C (by omega) dX4_put_21 ?_
    refine z_lconst (v := zL 0) C dX4_put_22 (by decide) ?_
    refine z_aload_n C dX4_put_23 rfl 1 rfl ?_
    refine z_get (q := 0) (kf := 12) (v := .ref s5) C rfl rfl in_X4 (by decide) q1099 (Or.inl rfl) rfl dX4_put_24 ?_
    refine z_iload_n C dX4_put_27 rfl 2 rfl ?_
    refine y_iald (q := 5) (t0 := 0) (v := (rm e : Int)) C rfl rfl (by omega) (by decide) rfl dX4_put_28 ?_
    refine y_iconst C dX4_put_29 ?_
    refine y_isub C dX4_put_30 ?_
    refine y_i2l C (by omega) dX4_put_31 ?_
    refine z_i C (z_runS (As := [.long (zL i), .long (zL 0), .long (zL ((rm e : Int) - 1))]) (rest := []) C (ct_X4_in (zl X) G i 0 ((rm e : Int) - 1) (by first | assumption | omega) (by first | assumption | omega) (by first | assumption | omega)) (lw_S q1207 q1208 q61 q1209) (sb_e [] rfl rfl) (na := 3) (by decide +kernel) rfl (zrm rfl rfl (rfl) (rfl)) rfl (Nat.le_of_ble_eq_true rfl) dX4_put_32) (fun u => jn_ro (sb_e [] rfl rfl)) (fun r_32 u hp_32 => ?_)
    have hp_32 : r_32 = zI (bI (0 ≤ i ∧ i ≤ ((rm e : Int) - 1))) := hp_32
    subst hp_32
    refine y_bne (tgt := 41) C dX4_put_35 (by decide) (fun c_35 => ?_) (fun c_35 => ?_)
    · skip
      refine z_aload_n C dX4_put_41 rfl 1 rfl ?_
      refine z_get (q := 0) (kf := 13) (v := .ref s6) C rfl rfl in_X4 (by decide) q1100 (Or.inl rfl) rfl dX4_put_42 ?_
      refine y_bipush C dX4_put_45 (by decide) ?_
      refine z_iload_n C dX4_put_47 rfl 2 rfl ?_
      refine y_imul C dX4_put_48 ?_
      refine z_iload_n C dX4_put_49 rfl 3 rfl ?_
      refine y_iadd C dX4_put_50 ?_
      refine z_iload_n C dX4_put_51 rfl 4 rfl ?_
      refine z_aload_n C dX4_put_52 rfl 1 rfl ?_
      refine z_get (q := 0) (kf := 11) (v := .ref s4) C rfl rfl in_X4 (by decide) q1098 (Or.inl rfl) rfl dX4_put_53 ?_
      refine z_iload_n C dX4_put_56 rfl 2 rfl ?_
      refine y_iald (q := 4) (t0 := 0) (v := (rs e : Int)) C rfl rfl (by omega) (by decide) rfl dX4_put_57 ?_
      refine z_l C (z_runS (As := [.int (zI v), .int (zI (rs e : Int))]) (rest := [.int (zI ((100 * (e : Int)) + i)), .ref s6]) C (ct_X4_narrowed (zl X) G v (rs e) (by first | assumption | omega) (by first | assumption | omega)) (lw_S q1526 q1527 q61 q1528) (sb_e [] rfl rfl) (na := 2) (by decide +kernel) rfl (zrm rfl rfl (rfl) (rfl)) rfl (Nat.le_of_ble_eq_true rfl) dX4_put_58) (fun u => jn_ro (sb_e [] rfl rfl)) (fun r_58 u hp_58 => ?_)
      have hp_58 : r_58 = zL (narrowZ v (rs e)) := hp_58
      subst hp_58
      have hnz := narrowZ_r (rs e) rv
      refine y_last (q := 6) (t0 := 1) (g := va_up rw_ (100 * (e : Int) + i).toNat (narrowZ v (rs e))) (ws' := [(m, .inr (11, [.int (zI (n : Int)), .ref g1, .ref g2, .ref g3, .ref g4, .ref g5, .int (zI oa), .int (zI dy), .ref s1, .ref s2, .ref s3, .ref s4, .ref s5, .ref s6, .int (zI 0), .int (zI rdg), .int (zI plc), .int (zI ibd), .int (zI stm), .ref t1, .ref t2, .ref t3, .ref c0, .ref c1, .ref c2, .ref c3, .int (zI him), .int (zI pl0), .int (zI itk), ki, .int (zI chd), .int (zI chf), .ref y0, .int (zI sd), .ref y1])), (s1, AI G 8 (fun z_ => (hw z_ : Int))), (s2, AI G 8 (fun z_ => (kk z_ : Int))), (s3, AI G 8 kf), (s4, AI G 8 (fun z_ => (rs z_ : Int))), (s5, AI G 8 (fun z_ => (rm z_ : Int))), (s6, AL G 800 (va_up rw_ (100 * (e : Int) + i).toNat (narrowZ v (rs e))))]) C rfl rfl (by omega) (by decide) rfl rfl dX4_put_61 ?_
      refine y_iconst C dX4_put_62 ?_
      refine z_wsEq (ws' := [(m, .inr (11, [.int (zI (n : Int)), .ref g1, .ref g2, .ref g3, .ref g4, .ref g5, .int (zI oa), .int (zI dy), .ref s1, .ref s2, .ref s3, .ref s4, .ref s5, .ref s6, .int (zI 0), .int (zI rdg), .int (zI plc), .int (zI ibd), .int (zI stm), .ref t1, .ref t2, .ref t3, .ref c0, .ref c1, .ref c2, .ref c3, .int (zI him), .int (zI pl0), .int (zI itk), ki, .int (zI chd), .int (zI chf), .ref y0, .int (zI sd), .ref y1])), (s1, AI G 8 (fun z_ => (hw z_ : Int))), (s2, AI G 8 (fun z_ => (kk z_ : Int))), (s3, AI G 8 kf), (s4, AI G 8 (fun z_ => (rs z_ : Int))), (s5, AI G 8 (fun z_ => (rm z_ : Int))), (s6, AL G 800 (if ptOk hw rm (e : Int) i then va_up rw_ (100 * (e : Int) + i).toNat (narrowZ v (rs (e : Int).toNat)) else rw_))]) (by simp only [if_pos (show ptOk hw rm (e : Int) i from by simp only [ptOk, zTN]; omega), zTN]) ?_
      exact z_iret C hA hQ rfl (Nat.le_of_ble_eq_true rfl) (Nat.le_of_ble_eq_true rfl) (()) (congrArg zI (by unfold oPut; (try simp only [zTN]); repeat (first | rw [if_pos (by omega)] | rw [if_neg (by omega)]))) (sb_e [0, 1, 2, 3, 4, 5, 6] rfl rfl) dX4_put_63
    · skip
      refine y_bipush C dX4_put_38 (by decide) ?_
      refine z_wsEq (ws' := [(m, .inr (11, [.int (zI (n : Int)), .ref g1, .ref g2, .ref g3, .ref g4, .ref g5, .int (zI oa), .int (zI dy), .ref s1, .ref s2, .ref s3, .ref s4, .ref s5, .ref s6, .int (zI 0), .int (zI rdg), .int (zI plc), .int (zI ibd), .int (zI stm), .ref t1, .ref t2, .ref t3, .ref c0, .ref c1, .ref c2, .ref c3, .int (zI him), .int (zI pl0), .int (zI itk), ki, .int (zI chd), .int (zI chf), .ref y0, .int (zI sd), .ref y1])), (s1, AI G 8 (fun z_ => (hw z_ : Int))), (s2, AI G 8 (fun z_ => (kk z_ : Int))), (s3, AI G 8 kf), (s4, AI G 8 (fun z_ => (rs z_ : Int))), (s5, AI G 8 (fun z_ => (rm z_ : Int))), (s6, AL G 800 (if ptOk hw rm (e : Int) i then va_up rw_ (100 * (e : Int) + i).toNat (narrowZ v (rs (e : Int).toNat)) else rw_))]) (by simp only [if_neg (show ¬ ptOk hw rm (e : Int) i from by simp only [ptOk, zTN]; omega)]) ?_
      exact z_iret C hA hQ rfl (Nat.le_of_ble_eq_true rfl) (Nat.le_of_ble_eq_true rfl) (()) (congrArg zI (by unfold oPut; (try simp only [zTN]); repeat (first | rw [if_pos (by omega)] | rw [if_neg (by omega)]))) (sb_e [0, 1, 2, 3, 4, 5, 6] rfl rfl) dX4_put_40
  · skip
    refine z_iload C dX4_put_17 0 rfl ?_
    refine z_wsEq (ws' := [(m, .inr (11, [.int (zI (n : Int)), .ref g1, .ref g2, .ref g3, .ref g4, .ref g5, .int (zI oa), .int (zI dy), .ref s1, .ref s2, .ref s3, .ref s4, .ref s5, .ref s6, .int (zI 0), .int (zI rdg), .int (zI plc), .int (zI ibd), .int (zI stm), .ref t1, .ref t2, .ref t3, .ref c0, .ref c1, .ref c2, .ref c3, .int (zI him), .int (zI pl0), .int (zI itk), ki, .int (zI chd), .int (zI chf), .ref y0, .int (zI sd), .ref y1])), (s1, AI G 8 (fun z_ => (hw z_ : Int))), (s2, AI G 8 (fun z_ => (kk z_ : Int))), (s3, AI G 8 kf), (s4, AI G 8 (fun z_ => (rs z_ : Int))), (s5, AI G 8 (fun z_ => (rm z_ : Int))), (s6, AL G 800 (if ptOk hw rm d i then va_up rw_ (100 * d + i).toNat (narrowZ v (rs d.toNat)) else rw_))]) (by simp only [if_neg (show ¬ ptOk hw rm d i from by simp only [ptOk, zTN]; omega)]) ?_
    exact z_iret C hA hQ rfl (Nat.le_of_ble_eq_true rfl) (Nat.le_of_ble_eq_true rfl) (()) (congrArg zI (by unfold oPut; (try simp only [zTN]); repeat (first | rw [if_pos (by omega)] | rw [if_neg (by omega)]))) (sb_e [0, 1, 2, 3, 4, 5, 6] rfl rfl) dX4_put_19

def elT (hw rm : Nat → Nat) (d i : Int) : Int := if wrZ hw d = -1 then 1 else if wrZ hw d < 0 then 2 else if 0 ≤ i ∧ i ≤ (rm d.toNat : Int) - 1 then 0 else 2
def oElement (hw rm : Nat → Nat) (rw_ : Nat → Int) (d i : Int) : Int := if elT hw rm d i = 0 then rw_ (100 * d + i).toNat else 0
set_option maxHeartbeats 4000000 in
theorem ct_X4_element (l : Launch) (G : ZG) (m : Nat) (g1 : Nat) (g2 : Nat) (g3 : Nat) (g4 : Nat) (g5 : Nat) (s1 : Nat) (s2 : Nat) (s3 : Nat) (s4 : Nat) (s5 : Nat) (s6 : Nat) (t1 : Nat) (t2 : Nat) (t3 : Nat) (c0 : Nat) (c1 : Nat) (c2 : Nat) (c3 : Nat) (y0 : Nat) (y1 : Nat) (thr : Int) (rdg : Int) (plc : Int) (ibd : Int) (stm : Int) (him : Int) (pl0 : Int) (itk : Int) (chd : Int) (chf : Int) (sd : Int) (ki : Value) (n : Nat) (oa : Int) (dy : Int) (hw : Nat → Nat) (kk : Nat → Nat) (rs : Nat → Nat) (rm : Nat → Nat) (kf : Nat → Int) (rw_ : Nat → Int) (d : Int) (i : Int) (hS : SK hw kk rs rm kf rw_) (rd : -2147483648 ≤ d ∧ d ≤ 2147483647) (ri : -2147483648 ≤ i ∧ i ≤ 2147483647) : CT l yX4_element cX4_element 4 (some .long) { frames := 2, cells := 0, slots := 0, locals := 46 } G [.ref m, .int (zI d), .int (zI i)] [(m, .inr (11, [.int (zI (n : Int)), .ref g1, .ref g2, .ref g3, .ref g4, .ref g5, .int (zI oa), .int (zI dy), .ref s1, .ref s2, .ref s3, .ref s4, .ref s5, .ref s6, .int (zI thr), .int (zI rdg), .int (zI plc), .int (zI ibd), .int (zI stm), .ref t1, .ref t2, .ref t3, .ref c0, .ref c1, .ref c2, .ref c3, .int (zI him), .int (zI pl0), .int (zI itk), ki, .int (zI chd), .int (zI chf), .ref y0, .int (zI sd), .ref y1])), (s1, AI G 8 (fun z_ => (hw z_ : Int))), (s2, AI G 8 (fun z_ => (kk z_ : Int))), (s3, AI G 8 kf), (s4, AI G 8 (fun z_ => (rs z_ : Int))), (s5, AI G 8 (fun z_ => (rm z_ : Int))), (s6, AL G 800 rw_)] (Ql G [(m, .inr (11, [.int (zI (n : Int)), .ref g1, .ref g2, .ref g3, .ref g4, .ref g5, .int (zI oa), .int (zI dy), .ref s1, .ref s2, .ref s3, .ref s4, .ref s5, .ref s6, .int (zI thr), .int (zI rdg), .int (zI plc), .int (zI ibd), .int (zI stm), .ref t1, .ref t2, .ref t3, .ref c0, .ref c1, .ref c2, .ref c3, .int (zI him), .int (zI pl0), .int (zI itk), ki, .int (zI chd), .int (zI chf), .ref y0, .int (zI sd), .ref y1])), (s1, AI G 8 (fun z_ => (hw z_ : Int))), (s2, AI G 8 (fun z_ => (kk z_ : Int))), (s3, AI G 8 kf), (s4, AI G 8 (fun z_ => (rs z_ : Int))), (s5, AI G 8 (fun z_ => (rm z_ : Int))), (s6, AL G 800 rw_)] (fun (r : Int64) (u : Unit) => r = zL (oElement hw rm rw_ d i)) (fun u => [(m, .inr (11, [.int (zI (n : Int)), .ref g1, .ref g2, .ref g3, .ref g4, .ref g5, .int (zI oa), .int (zI dy), .ref s1, .ref s2, .ref s3, .ref s4, .ref s5, .ref s6, .int (zI (elT hw rm d i)), .int (zI rdg), .int (zI plc), .int (zI ibd), .int (zI stm), .ref t1, .ref t2, .ref t3, .ref c0, .ref c1, .ref c2, .ref c3, .int (zI him), .int (zI pl0), .int (zI itk), ki, .int (zI chd), .int (zI chf), .ref y0, .int (zI sd), .ref y1])), (s1, AI G 8 (fun z_ => (hw z_ : Int))), (s2, AI G 8 (fun z_ => (kk z_ : Int))), (s3, AI G 8 kf), (s4, AI G 8 (fun z_ => (rs z_ : Int))), (s5, AI G 8 (fun z_ => (rm z_ : Int))), (s6, AL G 800 rw_)])) := by
  refine z_met (by decide) (Nat.le_of_ble_eq_true rfl) ?_
  intro X A hl0 hA C hQ hin
  subst hl0
  show Z X _ G 0 0 _ 0 [(0, .ref m), (1, .int (zI d)), (2, .int (zI i))] []
  refine z_aload_n C dX4_element_0 rfl 0 rfl ?_
  refine z_iload_n C dX4_element_1 rfl 1 rfl ?_
  refine z_i C (z_runV (q := 0) (As := [.int (zI d)]) (rest := []) C (ct_X4_wrongRow (zl X) G m g1 g2 g3 g4 g5 s1 s2 s3 s4 s5 s6 t1 t2 t3 c0 c1 c2 c3 y0 y1 thr rdg plc ibd stm him pl0 itk chd chf sd ki n oa dy hw kk rs rm kf rw_ d (by first | assumption | omega) (by first | assumption | omega)) (lw_V q1202 q1204 qs23 q61 q1205) rfl rfl (sb_e [0, 1, 2, 3, 4, 5, 6] rfl rfl) (na := 1) (by decide +kernel) rfl (zrm rfl rfl (rfl) (rfl)) rfl (Nat.le_of_ble_eq_true rfl) dX4_element_2) (fun u => jn_ro (sb_e [0, 1, 2, 3, 4, 5, 6] rfl rfl)) (fun r_2 u hp_2 => ?_)
  have hp_2 : r_2 = zI (wrZ hw d) := hp_2
  subst hp_2
  have hwr := wrZ_r hw d
  refine z_istore_n (lv' := [(3, .int (zI (wrZ hw d))), (0, .ref m), (1, .int (zI d)), (2, .int (zI i))]) C dX4_element_5 rfl (nlt rfl) rfl ?_
  refine z_aload_n C dX4_element_6 rfl 1 rfl ?_
  refine z_iload_n C dX4_element_7 rfl 0 rfl ?_
  refine y_iconst C dX4_element_8 ?_
  refine y_icmp_ne (tgt := 16) C (by omega) (by omega) dX4_element_9 (by decide) (fun c_9 => ?_) (fun c_9 => ?_)
  · skip
    refine z_iload_n C dX4_element_16 rfl 0 rfl ?_
    refine y_if_lt (tgt := 38) C (by omega) dX4_element_17 (by decide) (fun c_17 => ?_) (fun c_17 => ?_)
    · skip
      refine y_iconst C dX4_element_38 ?_
      refine z_goto (tgt := 43) C dX4_element_39 (by decide) ?_
      refine z_put (q := 0) (kf := 14) (ws' := [(m, .inr (11, [.int (zI (n : Int)), .ref g1, .ref g2, .ref g3, .ref g4, .ref g5, .int (zI oa), .int (zI dy), .ref s1, .ref s2, .ref s3, .ref s4, .ref s5, .ref s6, .int (zI 2), .int (zI rdg), .int (zI plc), .int (zI ibd), .int (zI stm), .ref t1, .ref t2, .ref t3, .ref c0, .ref c1, .ref c2, .ref c3, .int (zI him), .int (zI pl0), .int (zI itk), ki, .int (zI chd), .int (zI chf), .ref y0, .int (zI sd), .ref y1])), (s1, AI G 8 (fun z_ => (hw z_ : Int))), (s2, AI G 8 (fun z_ => (kk z_ : Int))), (s3, AI G 8 kf), (s4, AI G 8 (fun z_ => (rs z_ : Int))), (s5, AI G 8 (fun z_ => (rm z_ : Int))), (s6, AL G 800 rw_)]) C rfl rfl in_X4 tyX4_ok nmX4 (by decide) q1101 rfl rfl rfl rfl rfl (nlt rfl) rfl dX4_element_43 ?_
      refine z_aload_n C dX4_element_46 rfl 1 rfl ?_
      refine z_get (q := 0) (kf := 14) (v := .int (zI 2)) C rfl rfl in_X4 (by decide) q1101 (Or.inl rfl) rfl dX4_element_47 ?_
      refine y_if_le (tgt := 57) C (by omega) dX4_element_50 (by decide) (fun c_50 => ?_) (fun c_50 => ?_)
      · skip
        exact absurd c_50 (by decide)
      · skip
        refine z_lconst (v := zL 0) C dX4_element_53 (by decide) ?_
        refine z_goto (tgt := 68) C dX4_element_54 (by decide) ?_
        refine z_wsEq (ws' := [(m, .inr (11, [.int (zI (n : Int)), .ref g1, .ref g2, .ref g3, .ref g4, .ref g5, .int (zI oa), .int (zI dy), .ref s1, .ref s2, .ref s3, .ref s4, .ref s5, .ref s6, .int (zI (elT hw rm d i)), .int (zI rdg), .int (zI plc), .int (zI ibd), .int (zI stm), .ref t1, .ref t2, .ref t3, .ref c0, .ref c1, .ref c2, .ref c3, .int (zI him), .int (zI pl0), .int (zI itk), ki, .int (zI chd), .int (zI chf), .ref y0, .int (zI sd), .ref y1])), (s1, AI G 8 (fun z_ => (hw z_ : Int))), (s2, AI G 8 (fun z_ => (kk z_ : Int))), (s3, AI G 8 kf), (s4, AI G 8 (fun z_ => (rs z_ : Int))), (s5, AI G 8 (fun z_ => (rm z_ : Int))), (s6, AL G 800 rw_)]) (by unfold elT; (try simp only [zTN]); repeat (first | rw [if_pos (by omega)] | rw [if_neg (by omega)])) ?_
        exact z_lret C hA hQ rfl (Nat.le_of_ble_eq_true rfl) (Nat.le_of_ble_eq_true rfl) (()) (congrArg zL (by unfold oElement elT; (try simp only [zTN]); repeat (first | rw [if_pos (by omega)] | rw [if_neg (by omega)]))) (sb_e [0, 1, 2, 3, 4, 5, 6] rfl rfl) dX4_element_68
    · skip
      obtain ⟨hd1, hd2⟩ := wrZ_0 (hw := hw) (d := d) (by omega)
      obtain ⟨e, rfl⟩ := Int.eq_ofNat_of_zero_le (show 0 ≤ d by omega)
      simp only [zTN] at hd2
      obtain ⟨hS1, hS2⟩ := id hS
      have hSe := hS1 e (by omega)
      refine z_iload_n C dX4_element_20 rfl 3 rfl ?_
      refine y_i2l C (by omega) dX4_element_21 ?_
      refine z_lconst (v := zL 0) C dX4_element_22 (by decide) ?_
      refine z_aload_n C dX4_element_23 rfl 1 rfl ?_
      refine z_get (q := 0) (kf := 12) (v := .ref s5) C rfl rfl in_X4 (by decide) q1099 (Or.inl rfl) rfl dX4_element_24 ?_
      refine z_iload_n C dX4_element_27 rfl 2 rfl ?_
      refine y_iald (q := 5) (t0 := 0) (v := (rm e : Int)) C rfl rfl (by omega) (by decide) rfl dX4_element_28 ?_
      refine y_iconst C dX4_element_29 ?_
      refine y_isub C dX4_element_30 ?_
      refine y_i2l C (by omega) dX4_element_31 ?_
      refine z_i C (z_runS (As := [.long (zL i), .long (zL 0), .long (zL ((rm e : Int) - 1))]) (rest := [.ref m]) C (ct_X4_in (zl X) G i 0 ((rm e : Int) - 1) (by first | assumption | omega) (by first | assumption | omega) (by first | assumption | omega)) (lw_S q1207 q1208 q61 q1209) (sb_e [] rfl rfl) (na := 3) (by decide +kernel) rfl (zrm rfl rfl (rfl) (rfl)) rfl (Nat.le_of_ble_eq_true rfl) dX4_element_32) (fun u => jn_ro (sb_e [] rfl rfl)) (fun r_32 u hp_32 => ?_)
      have hp_32 : r_32 = zI (bI (0 ≤ i ∧ i ≤ ((rm e : Int) - 1))) := hp_32
      subst hp_32
      refine y_bne (tgt := 42) C dX4_element_35 (by decide) (fun c_35 => ?_) (fun c_35 => ?_)
      · skip
        refine y_iconst C dX4_element_42 ?_
        refine z_put (q := 0) (kf := 14) (ws' := [(m, .inr (11, [.int (zI (n : Int)), .ref g1, .ref g2, .ref g3, .ref g4, .ref g5, .int (zI oa), .int (zI dy), .ref s1, .ref s2, .ref s3, .ref s4, .ref s5, .ref s6, .int (zI 0), .int (zI rdg), .int (zI plc), .int (zI ibd), .int (zI stm), .ref t1, .ref t2, .ref t3, .ref c0, .ref c1, .ref c2, .ref c3, .int (zI him), .int (zI pl0), .int (zI itk), ki, .int (zI chd), .int (zI chf), .ref y0, .int (zI sd), .ref y1])), (s1, AI G 8 (fun z_ => (hw z_ : Int))), (s2, AI G 8 (fun z_ => (kk z_ : Int))), (s3, AI G 8 kf), (s4, AI G 8 (fun z_ => (rs z_ : Int))), (s5, AI G 8 (fun z_ => (rm z_ : Int))), (s6, AL G 800 rw_)]) C rfl rfl in_X4 tyX4_ok nmX4 (by decide) q1101 rfl rfl rfl rfl rfl (nlt rfl) rfl dX4_element_43 ?_
        refine z_aload_n C dX4_element_46 rfl 1 rfl ?_
        refine z_get (q := 0) (kf := 14) (v := .int (zI 0)) C rfl rfl in_X4 (by decide) q1101 (Or.inl rfl) rfl dX4_element_47 ?_
        refine y_if_le (tgt := 57) C (by omega) dX4_element_50 (by decide) (fun c_50 => ?_) (fun c_50 => ?_)
        · skip
          refine z_aload_n C dX4_element_57 rfl 1 rfl ?_
          refine z_get (q := 0) (kf := 13) (v := .ref s6) C rfl rfl in_X4 (by decide) q1100 (Or.inl rfl) rfl dX4_element_58 ?_
          refine y_bipush C dX4_element_61 (by decide) ?_
          refine z_iload_n C dX4_element_63 rfl 2 rfl ?_
          refine y_imul C dX4_element_64 ?_
          refine z_iload_n C dX4_element_65 rfl 3 rfl ?_
          refine y_iadd C dX4_element_66 ?_
          refine y_lald (q := 6) (t0 := 1) (v := rw_ (100 * (e : Int) + i).toNat) C rfl rfl (by omega) (by decide) rfl dX4_element_67 ?_
          refine z_wsEq (ws' := [(m, .inr (11, [.int (zI (n : Int)), .ref g1, .ref g2, .ref g3, .ref g4, .ref g5, .int (zI oa), .int (zI dy), .ref s1, .ref s2, .ref s3, .ref s4, .ref s5, .ref s6, .int (zI (elT hw rm (e : Int) i)), .int (zI rdg), .int (zI plc), .int (zI ibd), .int (zI stm), .ref t1, .ref t2, .ref t3, .ref c0, .ref c1, .ref c2, .ref c3, .int (zI him), .int (zI pl0), .int (zI itk), ki, .int (zI chd), .int (zI chf), .ref y0, .int (zI sd), .ref y1])), (s1, AI G 8 (fun z_ => (hw z_ : Int))), (s2, AI G 8 (fun z_ => (kk z_ : Int))), (s3, AI G 8 kf), (s4, AI G 8 (fun z_ => (rs z_ : Int))), (s5, AI G 8 (fun z_ => (rm z_ : Int))), (s6, AL G 800 rw_)]) (by unfold elT; (try simp only [zTN]); repeat (first | rw [if_pos (by omega)] | rw [if_neg (by omega)])) ?_
          exact z_lret C hA hQ rfl (Nat.le_of_ble_eq_true rfl) (Nat.le_of_ble_eq_true rfl) (()) (congrArg zL (by unfold oElement elT; (try simp only [zTN]); repeat (first | rw [if_pos (by omega)] | rw [if_neg (by omega)]))) (sb_e [0, 1, 2, 3, 4, 5, 6] rfl rfl) dX4_element_68
        · skip
          exact absurd c_50 (by decide)
      · skip
        refine y_iconst C dX4_element_38 ?_
        refine z_goto (tgt := 43) C dX4_element_39 (by decide) ?_
        refine z_put (q := 0) (kf := 14) (ws' := [(m, .inr (11, [.int (zI (n : Int)), .ref g1, .ref g2, .ref g3, .ref g4, .ref g5, .int (zI oa), .int (zI dy), .ref s1, .ref s2, .ref s3, .ref s4, .ref s5, .ref s6, .int (zI 2), .int (zI rdg), .int (zI plc), .int (zI ibd), .int (zI stm), .ref t1, .ref t2, .ref t3, .ref c0, .ref c1, .ref c2, .ref c3, .int (zI him), .int (zI pl0), .int (zI itk), ki, .int (zI chd), .int (zI chf), .ref y0, .int (zI sd), .ref y1])), (s1, AI G 8 (fun z_ => (hw z_ : Int))), (s2, AI G 8 (fun z_ => (kk z_ : Int))), (s3, AI G 8 kf), (s4, AI G 8 (fun z_ => (rs z_ : Int))), (s5, AI G 8 (fun z_ => (rm z_ : Int))), (s6, AL G 800 rw_)]) C rfl rfl in_X4 tyX4_ok nmX4 (by decide) q1101 rfl rfl rfl rfl rfl (nlt rfl) rfl dX4_element_43 ?_
        refine z_aload_n C dX4_element_46 rfl 1 rfl ?_
        refine z_get (q := 0) (kf := 14) (v := .int (zI 2)) C rfl rfl in_X4 (by decide) q1101 (Or.inl rfl) rfl dX4_element_47 ?_
        refine y_if_le (tgt := 57) C (by omega) dX4_element_50 (by decide) (fun c_50 => ?_) (fun c_50 => ?_)
        · skip
          exact absurd c_50 (by decide)
        · skip
          refine z_lconst (v := zL 0) C dX4_element_53 (by decide) ?_
          refine z_goto (tgt := 68) C dX4_element_54 (by decide) ?_
          refine z_wsEq (ws' := [(m, .inr (11, [.int (zI (n : Int)), .ref g1, .ref g2, .ref g3, .ref g4, .ref g5, .int (zI oa), .int (zI dy), .ref s1, .ref s2, .ref s3, .ref s4, .ref s5, .ref s6, .int (zI (elT hw rm (e : Int) i)), .int (zI rdg), .int (zI plc), .int (zI ibd), .int (zI stm), .ref t1, .ref t2, .ref t3, .ref c0, .ref c1, .ref c2, .ref c3, .int (zI him), .int (zI pl0), .int (zI itk), ki, .int (zI chd), .int (zI chf), .ref y0, .int (zI sd), .ref y1])), (s1, AI G 8 (fun z_ => (hw z_ : Int))), (s2, AI G 8 (fun z_ => (kk z_ : Int))), (s3, AI G 8 kf), (s4, AI G 8 (fun z_ => (rs z_ : Int))), (s5, AI G 8 (fun z_ => (rm z_ : Int))), (s6, AL G 800 rw_)]) (by unfold elT; (try simp only [zTN]); repeat (first | rw [if_pos (by omega)] | rw [if_neg (by omega)])) ?_
          exact z_lret C hA hQ rfl (Nat.le_of_ble_eq_true rfl) (Nat.le_of_ble_eq_true rfl) (()) (congrArg zL (by unfold oElement elT; (try simp only [zTN]); repeat (first | rw [if_pos (by omega)] | rw [if_neg (by omega)]))) (sb_e [0, 1, 2, 3, 4, 5, 6] rfl rfl) dX4_element_68
  · skip
    refine y_iconst C dX4_element_12 ?_
    refine z_goto (tgt := 43) C dX4_element_13 (by decide) ?_
    refine z_put (q := 0) (kf := 14) (ws' := [(m, .inr (11, [.int (zI (n : Int)), .ref g1, .ref g2, .ref g3, .ref g4, .ref g5, .int (zI oa), .int (zI dy), .ref s1, .ref s2, .ref s3, .ref s4, .ref s5, .ref s6, .int (zI 1), .int (zI rdg), .int (zI plc), .int (zI ibd), .int (zI stm), .ref t1, .ref t2, .ref t3, .ref c0, .ref c1, .ref c2, .ref c3, .int (zI him), .int (zI pl0), .int (zI itk), ki, .int (zI chd), .int (zI chf), .ref y0, .int (zI sd), .ref y1])), (s1, AI G 8 (fun z_ => (hw z_ : Int))), (s2, AI G 8 (fun z_ => (kk z_ : Int))), (s3, AI G 8 kf), (s4, AI G 8 (fun z_ => (rs z_ : Int))), (s5, AI G 8 (fun z_ => (rm z_ : Int))), (s6, AL G 800 rw_)]) C rfl rfl in_X4 tyX4_ok nmX4 (by decide) q1101 rfl rfl rfl rfl rfl (nlt rfl) rfl dX4_element_43 ?_
    refine z_aload_n C dX4_element_46 rfl 1 rfl ?_
    refine z_get (q := 0) (kf := 14) (v := .int (zI 1)) C rfl rfl in_X4 (by decide) q1101 (Or.inl rfl) rfl dX4_element_47 ?_
    refine y_if_le (tgt := 57) C (by omega) dX4_element_50 (by decide) (fun c_50 => ?_) (fun c_50 => ?_)
    · skip
      exact absurd c_50 (by decide)
    · skip
      refine z_lconst (v := zL 0) C dX4_element_53 (by decide) ?_
      refine z_goto (tgt := 68) C dX4_element_54 (by decide) ?_
      refine z_wsEq (ws' := [(m, .inr (11, [.int (zI (n : Int)), .ref g1, .ref g2, .ref g3, .ref g4, .ref g5, .int (zI oa), .int (zI dy), .ref s1, .ref s2, .ref s3, .ref s4, .ref s5, .ref s6, .int (zI (elT hw rm d i)), .int (zI rdg), .int (zI plc), .int (zI ibd), .int (zI stm), .ref t1, .ref t2, .ref t3, .ref c0, .ref c1, .ref c2, .ref c3, .int (zI him), .int (zI pl0), .int (zI itk), ki, .int (zI chd), .int (zI chf), .ref y0, .int (zI sd), .ref y1])), (s1, AI G 8 (fun z_ => (hw z_ : Int))), (s2, AI G 8 (fun z_ => (kk z_ : Int))), (s3, AI G 8 kf), (s4, AI G 8 (fun z_ => (rs z_ : Int))), (s5, AI G 8 (fun z_ => (rm z_ : Int))), (s6, AL G 800 rw_)]) (by unfold elT; (try simp only [zTN]); repeat (first | rw [if_pos (by omega)] | rw [if_neg (by omega)])) ?_
      exact z_lret C hA hQ rfl (Nat.le_of_ble_eq_true rfl) (Nat.le_of_ble_eq_true rfl) (()) (congrArg zL (by unfold oElement elT; (try simp only [zTN]); repeat (first | rw [if_pos (by omega)] | rw [if_neg (by omega)]))) (sb_e [0, 1, 2, 3, 4, 5, 6] rfl rfl) dX4_element_68

def oCost (hw kk : Nat → Nat) (kf : Nat → Int) (d : Int) : Int := if wkZ hw d < 0 then wkZ hw d else costZ (kk d.toNat) (kf d.toNat)
def oToss (hw kk : Nat → Nat) (kf : Nat → Int) (d : Int) : Int := if wkZ hw d < 0 then wkZ hw d else if failZ (kk d.toNat) (kf d.toNat) = 0 then -15 else failZ (kk d.toNat) (kf d.toNat)
set_option maxHeartbeats 4000000 in
theorem ct_X4_cost (l : Launch) (G : ZG) (m : Nat) (g1 : Nat) (g2 : Nat) (g3 : Nat) (g4 : Nat) (g5 : Nat) (s1 : Nat) (s2 : Nat) (s3 : Nat) (s4 : Nat) (s5 : Nat) (s6 : Nat) (t1 : Nat) (t2 : Nat) (t3 : Nat) (c0 : Nat) (c1 : Nat) (c2 : Nat) (c3 : Nat) (y0 : Nat) (y1 : Nat) (thr : Int) (rdg : Int) (plc : Int) (ibd : Int) (stm : Int) (him : Int) (pl0 : Int) (itk : Int) (chd : Int) (chf : Int) (sd : Int) (ki : Value) (n : Nat) (oa : Int) (dy : Int) (hw : Nat → Nat) (kk : Nat → Nat) (rs : Nat → Nat) (rm : Nat → Nat) (kf : Nat → Int) (rw_ : Nat → Int) (d : Int) (hS : SK hw kk rs rm kf rw_) (rd : -2147483648 ≤ d ∧ d ≤ 2147483647) : CT l yX4_cost cX4_cost 2 (some .int) { frames := 2, cells := 0, slots := 0, locals := 46 } G [.ref m, .int (zI d)] [(m, .inr (11, [.int (zI (n : Int)), .ref g1, .ref g2, .ref g3, .ref g4, .ref g5, .int (zI oa), .int (zI dy), .ref s1, .ref s2, .ref s3, .ref s4, .ref s5, .ref s6, .int (zI thr), .int (zI rdg), .int (zI plc), .int (zI ibd), .int (zI stm), .ref t1, .ref t2, .ref t3, .ref c0, .ref c1, .ref c2, .ref c3, .int (zI him), .int (zI pl0), .int (zI itk), ki, .int (zI chd), .int (zI chf), .ref y0, .int (zI sd), .ref y1])), (s1, AI G 8 (fun z_ => (hw z_ : Int))), (s2, AI G 8 (fun z_ => (kk z_ : Int))), (s3, AI G 8 kf), (s4, AI G 8 (fun z_ => (rs z_ : Int))), (s5, AI G 8 (fun z_ => (rm z_ : Int))), (s6, AL G 800 rw_)] (Qi G [(m, .inr (11, [.int (zI (n : Int)), .ref g1, .ref g2, .ref g3, .ref g4, .ref g5, .int (zI oa), .int (zI dy), .ref s1, .ref s2, .ref s3, .ref s4, .ref s5, .ref s6, .int (zI thr), .int (zI rdg), .int (zI plc), .int (zI ibd), .int (zI stm), .ref t1, .ref t2, .ref t3, .ref c0, .ref c1, .ref c2, .ref c3, .int (zI him), .int (zI pl0), .int (zI itk), ki, .int (zI chd), .int (zI chf), .ref y0, .int (zI sd), .ref y1])), (s1, AI G 8 (fun z_ => (hw z_ : Int))), (s2, AI G 8 (fun z_ => (kk z_ : Int))), (s3, AI G 8 kf), (s4, AI G 8 (fun z_ => (rs z_ : Int))), (s5, AI G 8 (fun z_ => (rm z_ : Int))), (s6, AL G 800 rw_)] (fun (r : Int32) (u : Unit) => r = zI (oCost hw kk kf d)) (fun u => [(m, .inr (11, [.int (zI (n : Int)), .ref g1, .ref g2, .ref g3, .ref g4, .ref g5, .int (zI oa), .int (zI dy), .ref s1, .ref s2, .ref s3, .ref s4, .ref s5, .ref s6, .int (zI 0), .int (zI rdg), .int (zI plc), .int (zI ibd), .int (zI stm), .ref t1, .ref t2, .ref t3, .ref c0, .ref c1, .ref c2, .ref c3, .int (zI him), .int (zI pl0), .int (zI itk), ki, .int (zI chd), .int (zI chf), .ref y0, .int (zI sd), .ref y1])), (s1, AI G 8 (fun z_ => (hw z_ : Int))), (s2, AI G 8 (fun z_ => (kk z_ : Int))), (s3, AI G 8 kf), (s4, AI G 8 (fun z_ => (rs z_ : Int))), (s5, AI G 8 (fun z_ => (rm z_ : Int))), (s6, AL G 800 rw_)])) := by
  refine z_met (by decide) (Nat.le_of_ble_eq_true rfl) ?_
  intro X A hl0 hA C hQ hin
  subst hl0
  show Z X _ G 0 0 _ 0 [(0, .ref m), (1, .int (zI d))] []
  refine z_aload_n C dX4_cost_0 rfl 0 rfl ?_
  refine y_iconst C dX4_cost_1 ?_
  refine z_put (q := 0) (kf := 14) (ws' := [(m, .inr (11, [.int (zI (n : Int)), .ref g1, .ref g2, .ref g3, .ref g4, .ref g5, .int (zI oa), .int (zI dy), .ref s1, .ref s2, .ref s3, .ref s4, .ref s5, .ref s6, .int (zI 0), .int (zI rdg), .int (zI plc), .int (zI ibd), .int (zI stm), .ref t1, .ref t2, .ref t3, .ref c0, .ref c1, .ref c2, .ref c3, .int (zI him), .int (zI pl0), .int (zI itk), ki, .int (zI chd), .int (zI chf), .ref y0, .int (zI sd), .ref y1])), (s1, AI G 8 (fun z_ => (hw z_ : Int))), (s2, AI G 8 (fun z_ => (kk z_ : Int))), (s3, AI G 8 kf), (s4, AI G 8 (fun z_ => (rs z_ : Int))), (s5, AI G 8 (fun z_ => (rm z_ : Int))), (s6, AL G 800 rw_)]) C rfl rfl in_X4 tyX4_ok nmX4 (by decide) q1101 rfl rfl rfl rfl rfl (nlt rfl) rfl dX4_cost_2 ?_
  refine z_aload_n C dX4_cost_5 rfl 0 rfl ?_
  refine z_iload_n C dX4_cost_6 rfl 1 rfl ?_
  refine z_i C (z_runV (q := 0) (As := [.int (zI d)]) (rest := []) C (ct_X4_wrongKept (zl X) G m g1 g2 g3 g4 g5 s1 s2 s3 s4 s5 s6 t1 t2 t3 c0 c1 c2 c3 y0 y1 0 rdg plc ibd stm him pl0 itk chd chf sd ki n oa dy hw kk rs rm kf rw_ d (by first | assumption | omega) (by first | assumption | omega)) (lw_V q1322 q1324 qs44 q61 q1325) rfl rfl (sb_e [0, 1, 2, 3, 4, 5, 6] rfl rfl) (na := 1) (by decide +kernel) rfl (zrm rfl rfl (rfl) (rfl)) rfl (Nat.le_of_ble_eq_true rfl) dX4_cost_7) (fun u => jn_ro (sb_e [0, 1, 2, 3, 4, 5, 6] rfl rfl)) (fun r_7 u hp_7 => ?_)
  have hp_7 : r_7 = zI (wkZ hw d) := hp_7
  subst hp_7
  have hwk := wkZ_r hw d
  refine y_if_ge (tgt := 21) C (by omega) dX4_cost_10 (by decide) (fun c_10 => ?_) (fun c_10 => ?_)
  · skip
    obtain ⟨hd1, hd2⟩ := wkZ_0 (hw := hw) (d := d) (by omega)
    obtain ⟨e, rfl⟩ := Int.eq_ofNat_of_zero_le (show 0 ≤ d by omega)
    simp only [zTN] at hd2
    obtain ⟨hS1, hS2⟩ := id hS
    have hSe := hS1 e (by omega)
    refine z_aload_n C dX4_cost_21 rfl 0 rfl ?_
    refine z_get (q := 0) (kf := 9) (v := .ref s2) C rfl rfl in_X4 (by decide) q1096 (Or.inl rfl) rfl dX4_cost_22 ?_
    refine z_iload_n C dX4_cost_25 rfl 1 rfl ?_
    refine y_iald (q := 2) (t0 := 0) (v := (kk e : Int)) C rfl rfl (by omega) (by decide) rfl dX4_cost_26 ?_
    refine z_aload_n C dX4_cost_27 rfl 0 rfl ?_
    refine z_get (q := 0) (kf := 10) (v := .ref s3) C rfl rfl in_X4 (by decide) q1097 (Or.inl rfl) rfl dX4_cost_28 ?_
    refine z_iload_n C dX4_cost_31 rfl 1 rfl ?_
    refine y_iald (q := 3) (t0 := 0) (v := kf e) C rfl rfl (by omega) (by decide) rfl dX4_cost_32 ?_
    refine z_i C (z_runS (As := [.int (zI (kk e : Int)), .int (zI (kf e))]) (rest := []) C (ct_X4_costOf (zl X) G (kk e) (kf e) (by first | assumption | omega)) (lw_S q1433 q1434 q61 q1435) (sb_e [] rfl rfl) (na := 2) (by decide +kernel) rfl (zrm rfl rfl (rfl) (rfl)) rfl (Nat.le_of_ble_eq_true rfl) dX4_cost_33) (fun u => jn_ro (sb_e [] rfl rfl)) (fun r_33 u hp_33 => ?_)
    have hp_33 : r_33 = zI (costZ (kk e) (kf e)) := hp_33
    subst hp_33
    exact z_iret C hA hQ rfl (Nat.le_of_ble_eq_true rfl) (Nat.le_of_ble_eq_true rfl) (()) (congrArg zI (by unfold oCost; (try simp only [zTN]); repeat (first | rw [if_pos (by omega)] | rw [if_neg (by omega)]))) (sb_e [0, 1, 2, 3, 4, 5, 6] rfl rfl) dX4_cost_36
  · skip
    refine z_aload_n C dX4_cost_13 rfl 0 rfl ?_
    refine z_iload_n C dX4_cost_14 rfl 1 rfl ?_
    refine z_i C (z_runV (q := 0) (As := [.int (zI d)]) (rest := []) C (ct_X4_wrongKept (zl X) G m g1 g2 g3 g4 g5 s1 s2 s3 s4 s5 s6 t1 t2 t3 c0 c1 c2 c3 y0 y1 0 rdg plc ibd stm him pl0 itk chd chf sd ki n oa dy hw kk rs rm kf rw_ d (by first | assumption | omega) (by first | assumption | omega)) (lw_V q1322 q1324 qs44 q61 q1325) rfl rfl (sb_e [0, 1, 2, 3, 4, 5, 6] rfl rfl) (na := 1) (by decide +kernel) rfl (zrm rfl rfl (rfl) (rfl)) rfl (Nat.le_of_ble_eq_true rfl) dX4_cost_15) (fun u => jn_ro (sb_e [0, 1, 2, 3, 4, 5, 6] rfl rfl)) (fun r_15 u hp_15 => ?_)
    have hp_15 : r_15 = zI (wkZ hw d) := hp_15
    subst hp_15
    refine z_goto (tgt := 36) C dX4_cost_18 (by decide) ?_
    exact z_iret C hA hQ rfl (Nat.le_of_ble_eq_true rfl) (Nat.le_of_ble_eq_true rfl) (()) (congrArg zI (by unfold oCost; (try simp only [zTN]); repeat (first | rw [if_pos (by omega)] | rw [if_neg (by omega)]))) (sb_e [0, 1, 2, 3, 4, 5, 6] rfl rfl) dX4_cost_36

set_option maxHeartbeats 4000000 in
theorem ct_X4_toss (l : Launch) (G : ZG) (m : Nat) (g1 : Nat) (g2 : Nat) (g3 : Nat) (g4 : Nat) (g5 : Nat) (s1 : Nat) (s2 : Nat) (s3 : Nat) (s4 : Nat) (s5 : Nat) (s6 : Nat) (t1 : Nat) (t2 : Nat) (t3 : Nat) (c0 : Nat) (c1 : Nat) (c2 : Nat) (c3 : Nat) (y0 : Nat) (y1 : Nat) (thr : Int) (rdg : Int) (plc : Int) (ibd : Int) (stm : Int) (him : Int) (pl0 : Int) (itk : Int) (chd : Int) (chf : Int) (sd : Int) (ki : Value) (n : Nat) (oa : Int) (dy : Int) (hw : Nat → Nat) (kk : Nat → Nat) (rs : Nat → Nat) (rm : Nat → Nat) (kf : Nat → Int) (rw_ : Nat → Int) (d : Int) (hS : SK hw kk rs rm kf rw_) (rd : -2147483648 ≤ d ∧ d ≤ 2147483647) : CT l yX4_toss cX4_toss 4 (some .int) { frames := 2, cells := 0, slots := 0, locals := 46 } G [.ref m, .int (zI d)] [(m, .inr (11, [.int (zI (n : Int)), .ref g1, .ref g2, .ref g3, .ref g4, .ref g5, .int (zI oa), .int (zI dy), .ref s1, .ref s2, .ref s3, .ref s4, .ref s5, .ref s6, .int (zI thr), .int (zI rdg), .int (zI plc), .int (zI ibd), .int (zI stm), .ref t1, .ref t2, .ref t3, .ref c0, .ref c1, .ref c2, .ref c3, .int (zI him), .int (zI pl0), .int (zI itk), ki, .int (zI chd), .int (zI chf), .ref y0, .int (zI sd), .ref y1])), (s1, AI G 8 (fun z_ => (hw z_ : Int))), (s2, AI G 8 (fun z_ => (kk z_ : Int))), (s3, AI G 8 kf), (s4, AI G 8 (fun z_ => (rs z_ : Int))), (s5, AI G 8 (fun z_ => (rm z_ : Int))), (s6, AL G 800 rw_)] (Qi G [(m, .inr (11, [.int (zI (n : Int)), .ref g1, .ref g2, .ref g3, .ref g4, .ref g5, .int (zI oa), .int (zI dy), .ref s1, .ref s2, .ref s3, .ref s4, .ref s5, .ref s6, .int (zI thr), .int (zI rdg), .int (zI plc), .int (zI ibd), .int (zI stm), .ref t1, .ref t2, .ref t3, .ref c0, .ref c1, .ref c2, .ref c3, .int (zI him), .int (zI pl0), .int (zI itk), ki, .int (zI chd), .int (zI chf), .ref y0, .int (zI sd), .ref y1])), (s1, AI G 8 (fun z_ => (hw z_ : Int))), (s2, AI G 8 (fun z_ => (kk z_ : Int))), (s3, AI G 8 kf), (s4, AI G 8 (fun z_ => (rs z_ : Int))), (s5, AI G 8 (fun z_ => (rm z_ : Int))), (s6, AL G 800 rw_)] (fun (r : Int32) (u : Unit) => r = zI (oToss hw kk kf d)) (fun u => [(m, .inr (11, [.int (zI (n : Int)), .ref g1, .ref g2, .ref g3, .ref g4, .ref g5, .int (zI oa), .int (zI dy), .ref s1, .ref s2, .ref s3, .ref s4, .ref s5, .ref s6, .int (zI 0), .int (zI rdg), .int (zI plc), .int (zI ibd), .int (zI stm), .ref t1, .ref t2, .ref t3, .ref c0, .ref c1, .ref c2, .ref c3, .int (zI him), .int (zI pl0), .int (zI itk), ki, .int (zI chd), .int (zI chf), .ref y0, .int (zI sd), .ref y1])), (s1, AI G 8 (fun z_ => (hw z_ : Int))), (s2, AI G 8 (fun z_ => (kk z_ : Int))), (s3, AI G 8 kf), (s4, AI G 8 (fun z_ => (rs z_ : Int))), (s5, AI G 8 (fun z_ => (rm z_ : Int))), (s6, AL G 800 rw_)])) := by
  refine z_met (by decide) (Nat.le_of_ble_eq_true rfl) ?_
  intro X A hl0 hA C hQ hin
  subst hl0
  show Z X _ G 0 0 _ 0 [(0, .ref m), (1, .int (zI d))] []
  refine z_aload_n C dX4_toss_0 rfl 0 rfl ?_
  refine y_iconst C dX4_toss_1 ?_
  refine z_put (q := 0) (kf := 14) (ws' := [(m, .inr (11, [.int (zI (n : Int)), .ref g1, .ref g2, .ref g3, .ref g4, .ref g5, .int (zI oa), .int (zI dy), .ref s1, .ref s2, .ref s3, .ref s4, .ref s5, .ref s6, .int (zI 0), .int (zI rdg), .int (zI plc), .int (zI ibd), .int (zI stm), .ref t1, .ref t2, .ref t3, .ref c0, .ref c1, .ref c2, .ref c3, .int (zI him), .int (zI pl0), .int (zI itk), ki, .int (zI chd), .int (zI chf), .ref y0, .int (zI sd), .ref y1])), (s1, AI G 8 (fun z_ => (hw z_ : Int))), (s2, AI G 8 (fun z_ => (kk z_ : Int))), (s3, AI G 8 kf), (s4, AI G 8 (fun z_ => (rs z_ : Int))), (s5, AI G 8 (fun z_ => (rm z_ : Int))), (s6, AL G 800 rw_)]) C rfl rfl in_X4 tyX4_ok nmX4 (by decide) q1101 rfl rfl rfl rfl rfl (nlt rfl) rfl dX4_toss_2 ?_
  refine z_aload_n C dX4_toss_5 rfl 0 rfl ?_
  refine z_iload_n C dX4_toss_6 rfl 1 rfl ?_
  refine z_i C (z_runV (q := 0) (As := [.int (zI d)]) (rest := []) C (ct_X4_wrongKept (zl X) G m g1 g2 g3 g4 g5 s1 s2 s3 s4 s5 s6 t1 t2 t3 c0 c1 c2 c3 y0 y1 0 rdg plc ibd stm him pl0 itk chd chf sd ki n oa dy hw kk rs rm kf rw_ d (by first | assumption | omega) (by first | assumption | omega)) (lw_V q1322 q1324 qs44 q61 q1325) rfl rfl (sb_e [0, 1, 2, 3, 4, 5, 6] rfl rfl) (na := 1) (by decide +kernel) rfl (zrm rfl rfl (rfl) (rfl)) rfl (Nat.le_of_ble_eq_true rfl) dX4_toss_7) (fun u => jn_ro (sb_e [0, 1, 2, 3, 4, 5, 6] rfl rfl)) (fun r_7 u hp_7 => ?_)
  have hp_7 : r_7 = zI (wkZ hw d) := hp_7
  subst hp_7
  have hwk := wkZ_r hw d
  refine y_if_ge (tgt := 19) C (by omega) dX4_toss_10 (by decide) (fun c_10 => ?_) (fun c_10 => ?_)
  · skip
    obtain ⟨hd1, hd2⟩ := wkZ_0 (hw := hw) (d := d) (by omega)
    obtain ⟨e, rfl⟩ := Int.eq_ofNat_of_zero_le (show 0 ≤ d by omega)
    simp only [zTN] at hd2
    obtain ⟨hS1, hS2⟩ := id hS
    have hSe := hS1 e (by omega)
    refine z_aload_n C dX4_toss_19 rfl 0 rfl ?_
    refine z_get (q := 0) (kf := 9) (v := .ref s2) C rfl rfl in_X4 (by decide) q1096 (Or.inl rfl) rfl dX4_toss_20 ?_
    refine z_iload_n C dX4_toss_23 rfl 1 rfl ?_
    refine y_iald (q := 2) (t0 := 0) (v := (kk e : Int)) C rfl rfl (by omega) (by decide) rfl dX4_toss_24 ?_
    refine z_istore_n (lv' := [(2, .int (zI (kk e : Int))), (0, .ref m), (1, .int (zI (e : Int)))]) C dX4_toss_25 rfl (nlt rfl) rfl ?_
    refine z_aload_n C dX4_toss_26 rfl 1 rfl ?_
    refine z_get (q := 0) (kf := 10) (v := .ref s3) C rfl rfl in_X4 (by decide) q1097 (Or.inl rfl) rfl dX4_toss_27 ?_
    refine z_iload_n C dX4_toss_30 rfl 2 rfl ?_
    refine y_iald (q := 3) (t0 := 0) (v := kf e) C rfl rfl (by omega) (by decide) rfl dX4_toss_31 ?_
    refine z_istore_n (lv' := [(3, .int (zI (kf e))), (2, .int (zI (kk e : Int))), (0, .ref m), (1, .int (zI (e : Int)))]) C dX4_toss_32 rfl (nlt rfl) rfl ?_
    refine z_iload_n C dX4_toss_33 rfl 1 rfl ?_
    refine y_iconst C dX4_toss_34 ?_
    refine y_icmp_eq (tgt := 48) C (by omega) (by omega) dX4_toss_35 (by decide) (fun c_35 => ?_) (fun c_35 => ?_)
    · skip
      refine y_bipush C dX4_toss_48 (by decide) ?_
      exact z_iret C hA hQ rfl (Nat.le_of_ble_eq_true rfl) (Nat.le_of_ble_eq_true rfl) (()) (congrArg zI (by unfold oToss; (try simp only [zTN]); first | (rw [if_pos (by omega)]; done) | (rw [if_neg (by omega)]; unfold failZ; (try (rw [show costZ (kk e) (kf e) = 4 + kf e by unfold costZ; repeat (first | rw [if_pos (by omega)] | rw [if_neg (by omega)])])); repeat (first | rw [if_pos (by omega)] | rw [if_neg (by omega)])))) (sb_e [0, 1, 2, 3, 4, 5, 6] rfl rfl) dX4_toss_50
    · skip
      refine z_iload_n C dX4_toss_38 rfl 1 rfl ?_
      refine y_bipush C dX4_toss_39 (by decide) ?_
      refine y_icmp_eq (tgt := 48) C (by omega) (by omega) dX4_toss_41 (by decide) (fun c_41 => ?_) (fun c_41 => ?_)
      · skip
        refine y_bipush C dX4_toss_48 (by decide) ?_
        exact z_iret C hA hQ rfl (Nat.le_of_ble_eq_true rfl) (Nat.le_of_ble_eq_true rfl) (()) (congrArg zI (by unfold oToss; (try simp only [zTN]); first | (rw [if_pos (by omega)]; done) | (rw [if_neg (by omega)]; unfold failZ; (try (rw [show costZ (kk e) (kf e) = 4 + kf e by unfold costZ; repeat (first | rw [if_pos (by omega)] | rw [if_neg (by omega)])])); repeat (first | rw [if_pos (by omega)] | rw [if_neg (by omega)])))) (sb_e [0, 1, 2, 3, 4, 5, 6] rfl rfl) dX4_toss_50
      · skip
        refine z_iload_n C dX4_toss_44 rfl 0 rfl ?_
        refine y_if_ne (tgt := 51) C (by omega) dX4_toss_45 (by decide) (fun c_45 => ?_) (fun c_45 => ?_)
        · skip
          refine z_iload_n C dX4_toss_51 rfl 1 rfl ?_
          refine y_iconst C dX4_toss_52 ?_
          refine y_icmp_ne (tgt := 63) C (by omega) (by omega) dX4_toss_53 (by decide) (fun c_53 => ?_) (fun c_53 => ?_)
          · skip
            refine z_iload_n C dX4_toss_63 rfl 1 rfl ?_
            refine y_bipush C dX4_toss_64 (by decide) ?_
            refine y_icmp_ne (tgt := 81) C (by omega) (by omega) dX4_toss_66 (by decide) (fun c_66 => ?_) (fun c_66 => ?_)
            · skip
              refine z_iload_n C dX4_toss_81 rfl 0 rfl ?_
              exact z_iret C hA hQ rfl (Nat.le_of_ble_eq_true rfl) (Nat.le_of_ble_eq_true rfl) (()) (congrArg zI (by unfold oToss; (try simp only [zTN]); first | (rw [if_pos (by omega)]; done) | (rw [if_neg (by omega)]; unfold failZ; (try (rw [show costZ (kk e) (kf e) = 4 + kf e by unfold costZ; repeat (first | rw [if_pos (by omega)] | rw [if_neg (by omega)])])); repeat (first | rw [if_pos (by omega)] | rw [if_neg (by omega)])))) (sb_e [0, 1, 2, 3, 4, 5, 6] rfl rfl) dX4_toss_82
            · skip
              refine y_sipush C dX4_toss_69 (by decide) ?_
              refine z_iload_n C dX4_toss_72 rfl 1 rfl ?_
              refine z_iload_n C dX4_toss_73 rfl 0 rfl ?_
              refine z_i C (z_runS (As := [.int (zI (kk e : Int)), .int (zI (kf e))]) (rest := [.int (zI 200)]) C (ct_X4_costOf (zl X) G (kk e) (kf e) (by first | assumption | omega)) (lw_S q1433 q1434 q61 q1435) (sb_e [] rfl rfl) (na := 2) (by decide +kernel) rfl (zrm rfl rfl (rfl) (rfl)) rfl (Nat.le_of_ble_eq_true rfl) dX4_toss_74) (fun u => jn_ro (sb_e [] rfl rfl)) (fun r_74 u hp_74 => ?_)
              have hp_74 : r_74 = zI (costZ (kk e) (kf e)) := hp_74
              subst hp_74
              refine y_iadd C dX4_toss_77 ?_
              refine z_goto (tgt := 82) C dX4_toss_78 (by decide) ?_
              exact z_iret C hA hQ rfl (Nat.le_of_ble_eq_true rfl) (Nat.le_of_ble_eq_true rfl) (()) (congrArg zI (by unfold oToss; (try simp only [zTN]); first | (rw [if_pos (by omega)]; done) | (rw [if_neg (by omega)]; unfold failZ; (try (rw [show costZ (kk e) (kf e) = 4 + kf e by unfold costZ; repeat (first | rw [if_pos (by omega)] | rw [if_neg (by omega)])])); repeat (first | rw [if_pos (by omega)] | rw [if_neg (by omega)])))) (sb_e [0, 1, 2, 3, 4, 5, 6] rfl rfl) dX4_toss_82
          · skip
            refine y_bipush C dX4_toss_56 (by decide) ?_
            refine z_iload_n C dX4_toss_58 rfl 0 rfl ?_
            refine y_iadd C dX4_toss_59 ?_
            refine z_goto (tgt := 82) C dX4_toss_60 (by decide) ?_
            exact z_iret C hA hQ rfl (Nat.le_of_ble_eq_true rfl) (Nat.le_of_ble_eq_true rfl) (()) (congrArg zI (by unfold oToss; (try simp only [zTN]); first | (rw [if_pos (by omega)]; done) | (rw [if_neg (by omega)]; unfold failZ; (try (rw [show costZ (kk e) (kf e) = 4 + kf e by unfold costZ; repeat (first | rw [if_pos (by omega)] | rw [if_neg (by omega)])])); repeat (first | rw [if_pos (by omega)] | rw [if_neg (by omega)])))) (sb_e [0, 1, 2, 3, 4, 5, 6] rfl rfl) dX4_toss_82
        · skip
          refine y_bipush C dX4_toss_48 (by decide) ?_
          exact z_iret C hA hQ rfl (Nat.le_of_ble_eq_true rfl) (Nat.le_of_ble_eq_true rfl) (()) (congrArg zI (by unfold oToss; (try simp only [zTN]); first | (rw [if_pos (by omega)]; done) | (rw [if_neg (by omega)]; unfold failZ; (try (rw [show costZ (kk e) (kf e) = 4 + kf e by unfold costZ; repeat (first | rw [if_pos (by omega)] | rw [if_neg (by omega)])])); repeat (first | rw [if_pos (by omega)] | rw [if_neg (by omega)])))) (sb_e [0, 1, 2, 3, 4, 5, 6] rfl rfl) dX4_toss_50
  · skip
    refine z_aload_n C dX4_toss_13 rfl 0 rfl ?_
    refine z_iload_n C dX4_toss_14 rfl 1 rfl ?_
    refine z_i C (z_runV (q := 0) (As := [.int (zI d)]) (rest := []) C (ct_X4_wrongKept (zl X) G m g1 g2 g3 g4 g5 s1 s2 s3 s4 s5 s6 t1 t2 t3 c0 c1 c2 c3 y0 y1 0 rdg plc ibd stm him pl0 itk chd chf sd ki n oa dy hw kk rs rm kf rw_ d (by first | assumption | omega) (by first | assumption | omega)) (lw_V q1322 q1324 qs44 q61 q1325) rfl rfl (sb_e [0, 1, 2, 3, 4, 5, 6] rfl rfl) (na := 1) (by decide +kernel) rfl (zrm rfl rfl (rfl) (rfl)) rfl (Nat.le_of_ble_eq_true rfl) dX4_toss_15) (fun u => jn_ro (sb_e [0, 1, 2, 3, 4, 5, 6] rfl rfl)) (fun r_15 u hp_15 => ?_)
    have hp_15 : r_15 = zI (wkZ hw d) := hp_15
    subst hp_15
    exact z_iret C hA hQ rfl (Nat.le_of_ble_eq_true rfl) (Nat.le_of_ble_eq_true rfl) (()) (congrArg zI (by unfold oToss; (try simp only [zTN]); first | (rw [if_pos (by omega)]; done) | (rw [if_neg (by omega)]; unfold failZ; (try (rw [show costZ (kk e) (kf e) = 4 + kf e by unfold costZ; repeat (first | rw [if_pos (by omega)] | rw [if_neg (by omega)])])); repeat (first | rw [if_pos (by omega)] | rw [if_neg (by omega)])))) (sb_e [0, 1, 2, 3, 4, 5, 6] rfl rfl) dX4_toss_18

abbrev cpOk (hw rs rm : Nat → Nat) (d i f j c : Int) : Prop := ((0 ≤ d ∧ d ≤ 7) ∧ (0 ≤ f ∧ f ≤ 7)) ∧ (hw d.toNat = 2 ∧ hw f.toNat = 2 ∧ rs d.toNat = rs f.toNat) ∧ (0 ≤ c ∧ 0 ≤ i ∧ 0 ≤ j ∧ i ≤ (rm d.toNat : Int) - c ∧ j ≤ (rm f.toNat : Int) - c)
def oCopy (hw rs rm : Nat → Nat) (d i f j c : Int) : Int := if (0 ≤ d ∧ d ≤ 7) ∧ (0 ≤ f ∧ f ≤ 7) then (if hw d.toNat = 0 ∨ hw f.toNat = 0 then -11 else if hw d.toNat = 2 ∧ hw f.toNat = 2 ∧ rs d.toNat = rs f.toNat then (if 0 ≤ c ∧ 0 ≤ i ∧ 0 ≤ j ∧ i ≤ (rm d.toNat : Int) - c ∧ j ≤ (rm f.toNat : Int) - c then c else -13) else -12) else -1
/-- c of g from a on, put into f from b on -/
def cpyF (f g : Nat → Int) (a b c : Nat) : Nat → Int := fun q => if b ≤ q ∧ q < b + c then g (q - b + a) else f q
theorem cpyF_0 {f g : Nat → Int} {a b : Nat} : cpyF f g a b 0 = f := by funext q; exact if_neg (by omega)
theorem cpyF_s {f g : Nat → Int} {a b c : Nat} : va_up (cpyF f g a b c) (b + c) (g (a + c)) = cpyF f g a b (c + 1) := by
  funext q
  unfold va_up cpyF
  by_cases h : q = b + c
  · rw [if_pos h, if_pos (by omega), show q - b + a = a + c by omega]
  · rw [if_neg h]
    by_cases h2 : b ≤ q ∧ q < b + c
    · rw [if_pos h2, if_pos (by omega)]
    · rw [if_neg h2, if_neg (by omega)]
set_option maxHeartbeats 4000000 in
theorem ct_X4_copy (l : Launch) (G : ZG) (m : Nat) (g1 : Nat) (g2 : Nat) (g3 : Nat) (g4 : Nat) (g5 : Nat) (s1 : Nat) (s2 : Nat) (s3 : Nat) (s4 : Nat) (s5 : Nat) (s6 : Nat) (t1 : Nat) (t2 : Nat) (t3 : Nat) (c0 : Nat) (c1 : Nat) (c2 : Nat) (c3 : Nat) (y0 : Nat) (y1 : Nat) (thr : Int) (rdg : Int) (plc : Int) (ibd : Int) (stm : Int) (him : Int) (pl0 : Int) (itk : Int) (chd : Int) (chf : Int) (sd : Int) (ki : Value) (n : Nat) (oa : Int) (dy : Int) (hw : Nat → Nat) (kk : Nat → Nat) (rs : Nat → Nat) (rm : Nat → Nat) (kf : Nat → Int) (rw_ : Nat → Int) (bt : Nat → Int) (d : Int) (i : Int) (f : Int) (j : Int) (c : Int) (hS : SK hw kk rs rm kf rw_) (rd : -2147483648 ≤ d ∧ d ≤ 2147483647) (ri : -2147483648 ≤ i ∧ i ≤ 2147483647) (rf : -2147483648 ≤ f ∧ f ≤ 2147483647) (rj : -2147483648 ≤ j ∧ j ≤ 2147483647) (rc : -2147483648 ≤ c ∧ c ≤ 2147483647) : CT l yX4_copy cX4_copy 7 (some .int) { frames := 1, cells := 0, slots := 0, locals := 25 } G [.ref m, .int (zI d), .int (zI i), .int (zI f), .int (zI j), .int (zI c)] [(m, .inr (11, [.int (zI (n : Int)), .ref g1, .ref g2, .ref g3, .ref g4, .ref g5, .int (zI oa), .int (zI dy), .ref s1, .ref s2, .ref s3, .ref s4, .ref s5, .ref s6, .int (zI thr), .int (zI rdg), .int (zI plc), .int (zI ibd), .int (zI stm), .ref t1, .ref t2, .ref t3, .ref c0, .ref c1, .ref c2, .ref c3, .int (zI him), .int (zI pl0), .int (zI itk), ki, .int (zI chd), .int (zI chf), .ref y0, .int (zI sd), .ref y1])), (s1, AI G 8 (fun z_ => (hw z_ : Int))), (s2, AI G 8 (fun z_ => (kk z_ : Int))), (s3, AI G 8 kf), (s4, AI G 8 (fun z_ => (rs z_ : Int))), (s5, AI G 8 (fun z_ => (rm z_ : Int))), (s6, AL G 800 rw_), (y1, AL G 100 bt)] (Qi G [(m, .inr (11, [.int (zI (n : Int)), .ref g1, .ref g2, .ref g3, .ref g4, .ref g5, .int (zI oa), .int (zI dy), .ref s1, .ref s2, .ref s3, .ref s4, .ref s5, .ref s6, .int (zI thr), .int (zI rdg), .int (zI plc), .int (zI ibd), .int (zI stm), .ref t1, .ref t2, .ref t3, .ref c0, .ref c1, .ref c2, .ref c3, .int (zI him), .int (zI pl0), .int (zI itk), ki, .int (zI chd), .int (zI chf), .ref y0, .int (zI sd), .ref y1])), (s1, AI G 8 (fun z_ => (hw z_ : Int))), (s2, AI G 8 (fun z_ => (kk z_ : Int))), (s3, AI G 8 kf), (s4, AI G 8 (fun z_ => (rs z_ : Int))), (s5, AI G 8 (fun z_ => (rm z_ : Int))), (s6, AL G 800 rw_), (y1, AL G 100 bt)] (fun (r : Int32) (u : Nat → Int) => r = zI (oCopy hw rs rm d i f j c)) (fun u => [(m, .inr (11, [.int (zI (n : Int)), .ref g1, .ref g2, .ref g3, .ref g4, .ref g5, .int (zI oa), .int (zI dy), .ref s1, .ref s2, .ref s3, .ref s4, .ref s5, .ref s6, .int (zI 0), .int (zI rdg), .int (zI plc), .int (zI ibd), .int (zI stm), .ref t1, .ref t2, .ref t3, .ref c0, .ref c1, .ref c2, .ref c3, .int (zI him), .int (zI pl0), .int (zI itk), ki, .int (zI chd), .int (zI chf), .ref y0, .int (zI sd), .ref y1])), (s1, AI G 8 (fun z_ => (hw z_ : Int))), (s2, AI G 8 (fun z_ => (kk z_ : Int))), (s3, AI G 8 kf), (s4, AI G 8 (fun z_ => (rs z_ : Int))), (s5, AI G 8 (fun z_ => (rm z_ : Int))), (s6, AL G 800 (if cpOk hw rs rm d i f j c then cpyF rw_ rw_ (100 * d + i).toNat (100 * f + j).toNat c.toNat else rw_)), (y1, AL G 100 u)])) := by
  refine z_met (by decide) (Nat.le_of_ble_eq_true rfl) ?_
  intro X A hl0 hA C hQ hin
  subst hl0
  show Z X _ G 0 0 _ 0 [(0, .ref m), (1, .int (zI d)), (2, .int (zI i)), (3, .int (zI f)), (4, .int (zI j)), (5, .int (zI c))] []
  refine z_aload_n C dX4_copy_0 rfl 0 rfl ?_
  refine y_iconst C dX4_copy_1 ?_
  refine z_put (q := 0) (kf := 14) (ws' := [(m, .inr (11, [.int (zI (n : Int)), .ref g1, .ref g2, .ref g3, .ref g4, .ref g5, .int (zI oa), .int (zI dy), .ref s1, .ref s2, .ref s3, .ref s4, .ref s5, .ref s6, .int (zI 0), .int (zI rdg), .int (zI plc), .int (zI ibd), .int (zI stm), .ref t1, .ref t2, .ref t3, .ref c0, .ref c1, .ref c2, .ref c3, .int (zI him), .int (zI pl0), .int (zI itk), ki, .int (zI chd), .int (zI chf), .ref y0, .int (zI sd), .ref y1])), (s1, AI G 8 (fun z_ => (hw z_ : Int))), (s2, AI G 8 (fun z_ => (kk z_ : Int))), (s3, AI G 8 kf), (s4, AI G 8 (fun z_ => (rs z_ : Int))), (s5, AI G 8 (fun z_ => (rm z_ : Int))), (s6, AL G 800 rw_), (y1, AL G 100 bt)]) C rfl rfl in_X4 tyX4_ok nmX4 (by decide) q1101 rfl rfl rfl rfl rfl (nlt rfl) rfl dX4_copy_2 ?_
  refine z_iload_n C dX4_copy_5 rfl 1 rfl ?_
  refine y_i2l C (by omega) dX4_copy_6 ?_
  refine z_lconst (v := zL 0) C dX4_copy_7 (by decide) ?_
  refine z_ldc2 C q1206 dX4_copy_8 ?_
  refine z_eql (y := zL 7) (by decide) ?_
  refine z_i C (z_runS (As := [.long (zL d), .long (zL 0), .long (zL 7)]) (rest := []) C (ct_X4_in (zl X) G d 0 7 (by first | assumption | omega) (by first | assumption | omega) (by first | assumption | omega)) (lw_S q1207 q1208 q61 q1209) (sb_e [] rfl rfl) (na := 3) (by decide +kernel) rfl (zrm rfl rfl (rfl) (rfl)) rfl (Nat.le_of_ble_eq_true rfl) dX4_copy_11) (fun u => jn_ro (sb_e [] rfl rfl)) (fun r_11 u hp_11 => ?_)
  have hp_11 : r_11 = zI (bI (0 ≤ d ∧ d ≤ 7)) := hp_11
  subst hp_11
  refine y_beq (tgt := 29) C dX4_copy_14 (by decide) (fun c_14 => ?_) (fun c_14 => ?_)
  · skip
    refine y_iconst C dX4_copy_29 ?_
    refine z_wsEq (ws' := [(m, .inr (11, [.int (zI (n : Int)), .ref g1, .ref g2, .ref g3, .ref g4, .ref g5, .int (zI oa), .int (zI dy), .ref s1, .ref s2, .ref s3, .ref s4, .ref s5, .ref s6, .int (zI 0), .int (zI rdg), .int (zI plc), .int (zI ibd), .int (zI stm), .ref t1, .ref t2, .ref t3, .ref c0, .ref c1, .ref c2, .ref c3, .int (zI him), .int (zI pl0), .int (zI itk), ki, .int (zI chd), .int (zI chf), .ref y0, .int (zI sd), .ref y1])), (s1, AI G 8 (fun z_ => (hw z_ : Int))), (s2, AI G 8 (fun z_ => (kk z_ : Int))), (s3, AI G 8 kf), (s4, AI G 8 (fun z_ => (rs z_ : Int))), (s5, AI G 8 (fun z_ => (rm z_ : Int))), (s6, AL G 800 (if cpOk hw rs rm d i f j c then cpyF rw_ rw_ (100 * d + i).toNat (100 * f + j).toNat c.toNat else rw_)), (y1, AL G 100 bt)]) (by simp only [if_neg (show ¬ cpOk hw rs rm d i f j c from by simp only [cpOk, zTN]; omega)]) ?_
    exact z_iret C hA hQ rfl (Nat.le_of_ble_eq_true rfl) (Nat.le_of_ble_eq_true rfl) (bt) (congrArg zI (by unfold oCopy; (try simp only [zTN]); repeat (first | rw [if_pos (by omega)] | rw [if_neg (by omega)]))) (sb_e [0, 1, 2, 3, 4, 5, 6, 7] rfl rfl) dX4_copy_30
  · skip
    refine z_iload_n C dX4_copy_17 rfl 3 rfl ?_
    refine y_i2l C (by omega) dX4_copy_18 ?_
    refine z_lconst (v := zL 0) C dX4_copy_19 (by decide) ?_
    refine z_ldc2 C q1206 dX4_copy_20 ?_
    refine z_eql (y := zL 7) (by decide) ?_
    refine z_i C (z_runS (As := [.long (zL f), .long (zL 0), .long (zL 7)]) (rest := []) C (ct_X4_in (zl X) G f 0 7 (by first | assumption | omega) (by first | assumption | omega) (by first | assumption | omega)) (lw_S q1207 q1208 q61 q1209) (sb_e [] rfl rfl) (na := 3) (by decide +kernel) rfl (zrm rfl rfl (rfl) (rfl)) rfl (Nat.le_of_ble_eq_true rfl) dX4_copy_23) (fun u => jn_ro (sb_e [] rfl rfl)) (fun r_23 u hp_23 => ?_)
    have hp_23 : r_23 = zI (bI (0 ≤ f ∧ f ≤ 7)) := hp_23
    subst hp_23
    refine y_bne (tgt := 31) C dX4_copy_26 (by decide) (fun c_26 => ?_) (fun c_26 => ?_)
    · skip
      obtain ⟨dN, rfl⟩ := Int.eq_ofNat_of_zero_le (show 0 ≤ d by omega)
      obtain ⟨fN, rfl⟩ := Int.eq_ofNat_of_zero_le (show 0 ≤ f by omega)
      obtain ⟨hS1, hS2⟩ := id hS
      have hSd := hS1 dN (by omega)
      have hSf := hS1 fN (by omega)
      refine z_aload_n C dX4_copy_31 rfl 0 rfl ?_
      refine z_get (q := 0) (kf := 8) (v := .ref s1) C rfl rfl in_X4 (by decide) q1095 (Or.inl rfl) rfl dX4_copy_32 ?_
      refine z_iload_n C dX4_copy_35 rfl 1 rfl ?_
      refine y_iald (q := 1) (t0 := 0) (v := (hw dN : Int)) C rfl rfl (by omega) (by decide) rfl dX4_copy_36 ?_
      refine y_if_eq (tgt := 49) C (by omega) dX4_copy_37 (by decide) (fun c_37 => ?_) (fun c_37 => ?_)
      · skip
        refine y_bipush C dX4_copy_49 (by decide) ?_
        refine z_wsEq (ws' := [(m, .inr (11, [.int (zI (n : Int)), .ref g1, .ref g2, .ref g3, .ref g4, .ref g5, .int (zI oa), .int (zI dy), .ref s1, .ref s2, .ref s3, .ref s4, .ref s5, .ref s6, .int (zI 0), .int (zI rdg), .int (zI plc), .int (zI ibd), .int (zI stm), .ref t1, .ref t2, .ref t3, .ref c0, .ref c1, .ref c2, .ref c3, .int (zI him), .int (zI pl0), .int (zI itk), ki, .int (zI chd), .int (zI chf), .ref y0, .int (zI sd), .ref y1])), (s1, AI G 8 (fun z_ => (hw z_ : Int))), (s2, AI G 8 (fun z_ => (kk z_ : Int))), (s3, AI G 8 kf), (s4, AI G 8 (fun z_ => (rs z_ : Int))), (s5, AI G 8 (fun z_ => (rm z_ : Int))), (s6, AL G 800 (if cpOk hw rs rm (dN : Int) i (fN : Int) j c then cpyF rw_ rw_ (100 * (dN : Int) + i).toNat (100 * (fN : Int) + j).toNat c.toNat else rw_)), (y1, AL G 100 bt)]) (by simp only [if_neg (show ¬ cpOk hw rs rm (dN : Int) i (fN : Int) j c from by simp only [cpOk, zTN]; omega)]) ?_
        exact z_iret C hA hQ rfl (Nat.le_of_ble_eq_true rfl) (Nat.le_of_ble_eq_true rfl) (bt) (congrArg zI (by unfold oCopy; (try simp only [zTN]); repeat (first | rw [if_pos (by omega)] | rw [if_neg (by omega)]))) (sb_e [0, 1, 2, 3, 4, 5, 6, 7] rfl rfl) dX4_copy_51
      · skip
        refine z_aload_n C dX4_copy_40 rfl 0 rfl ?_
        refine z_get (q := 0) (kf := 8) (v := .ref s1) C rfl rfl in_X4 (by decide) q1095 (Or.inl rfl) rfl dX4_copy_41 ?_
        refine z_iload_n C dX4_copy_44 rfl 3 rfl ?_
        refine y_iald (q := 1) (t0 := 0) (v := (hw fN : Int)) C rfl rfl (by omega) (by decide) rfl dX4_copy_45 ?_
        refine y_if_ne (tgt := 52) C (by omega) dX4_copy_46 (by decide) (fun c_46 => ?_) (fun c_46 => ?_)
        · skip
          refine z_aload_n C dX4_copy_52 rfl 0 rfl ?_
          refine z_get (q := 0) (kf := 8) (v := .ref s1) C rfl rfl in_X4 (by decide) q1095 (Or.inl rfl) rfl dX4_copy_53 ?_
          refine z_iload_n C dX4_copy_56 rfl 1 rfl ?_
          refine y_iald (q := 1) (t0 := 0) (v := (hw dN : Int)) C rfl rfl (by omega) (by decide) rfl dX4_copy_57 ?_
          refine y_iconst C dX4_copy_58 ?_
          refine y_icmp_ne (tgt := 87) C (by omega) (by omega) dX4_copy_59 (by decide) (fun c_59 => ?_) (fun c_59 => ?_)
          · skip
            refine y_bipush C dX4_copy_87 (by decide) ?_
            refine z_wsEq (ws' := [(m, .inr (11, [.int (zI (n : Int)), .ref g1, .ref g2, .ref g3, .ref g4, .ref g5, .int (zI oa), .int (zI dy), .ref s1, .ref s2, .ref s3, .ref s4, .ref s5, .ref s6, .int (zI 0), .int (zI rdg), .int (zI plc), .int (zI ibd), .int (zI stm), .ref t1, .ref t2, .ref t3, .ref c0, .ref c1, .ref c2, .ref c3, .int (zI him), .int (zI pl0), .int (zI itk), ki, .int (zI chd), .int (zI chf), .ref y0, .int (zI sd), .ref y1])), (s1, AI G 8 (fun z_ => (hw z_ : Int))), (s2, AI G 8 (fun z_ => (kk z_ : Int))), (s3, AI G 8 kf), (s4, AI G 8 (fun z_ => (rs z_ : Int))), (s5, AI G 8 (fun z_ => (rm z_ : Int))), (s6, AL G 800 (if cpOk hw rs rm (dN : Int) i (fN : Int) j c then cpyF rw_ rw_ (100 * (dN : Int) + i).toNat (100 * (fN : Int) + j).toNat c.toNat else rw_)), (y1, AL G 100 bt)]) (by simp only [if_neg (show ¬ cpOk hw rs rm (dN : Int) i (fN : Int) j c from by simp only [cpOk, zTN]; omega)]) ?_
            exact z_iret C hA hQ rfl (Nat.le_of_ble_eq_true rfl) (Nat.le_of_ble_eq_true rfl) (bt) (congrArg zI (by unfold oCopy; (try simp only [zTN]); repeat (first | rw [if_pos (by omega)] | rw [if_neg (by omega)]))) (sb_e [0, 1, 2, 3, 4, 5, 6, 7] rfl rfl) dX4_copy_89
          · skip
            refine z_aload_n C dX4_copy_62 rfl 0 rfl ?_
            refine z_get (q := 0) (kf := 8) (v := .ref s1) C rfl rfl in_X4 (by decide) q1095 (Or.inl rfl) rfl dX4_copy_63 ?_
            refine z_iload_n C dX4_copy_66 rfl 3 rfl ?_
            refine y_iald (q := 1) (t0 := 0) (v := (hw fN : Int)) C rfl rfl (by omega) (by decide) rfl dX4_copy_67 ?_
            refine y_iconst C dX4_copy_68 ?_
            refine y_icmp_ne (tgt := 87) C (by omega) (by omega) dX4_copy_69 (by decide) (fun c_69 => ?_) (fun c_69 => ?_)
            · skip
              refine y_bipush C dX4_copy_87 (by decide) ?_
              refine z_wsEq (ws' := [(m, .inr (11, [.int (zI (n : Int)), .ref g1, .ref g2, .ref g3, .ref g4, .ref g5, .int (zI oa), .int (zI dy), .ref s1, .ref s2, .ref s3, .ref s4, .ref s5, .ref s6, .int (zI 0), .int (zI rdg), .int (zI plc), .int (zI ibd), .int (zI stm), .ref t1, .ref t2, .ref t3, .ref c0, .ref c1, .ref c2, .ref c3, .int (zI him), .int (zI pl0), .int (zI itk), ki, .int (zI chd), .int (zI chf), .ref y0, .int (zI sd), .ref y1])), (s1, AI G 8 (fun z_ => (hw z_ : Int))), (s2, AI G 8 (fun z_ => (kk z_ : Int))), (s3, AI G 8 kf), (s4, AI G 8 (fun z_ => (rs z_ : Int))), (s5, AI G 8 (fun z_ => (rm z_ : Int))), (s6, AL G 800 (if cpOk hw rs rm (dN : Int) i (fN : Int) j c then cpyF rw_ rw_ (100 * (dN : Int) + i).toNat (100 * (fN : Int) + j).toNat c.toNat else rw_)), (y1, AL G 100 bt)]) (by simp only [if_neg (show ¬ cpOk hw rs rm (dN : Int) i (fN : Int) j c from by simp only [cpOk, zTN]; omega)]) ?_
              exact z_iret C hA hQ rfl (Nat.le_of_ble_eq_true rfl) (Nat.le_of_ble_eq_true rfl) (bt) (congrArg zI (by unfold oCopy; (try simp only [zTN]); repeat (first | rw [if_pos (by omega)] | rw [if_neg (by omega)]))) (sb_e [0, 1, 2, 3, 4, 5, 6, 7] rfl rfl) dX4_copy_89
            · skip
              refine z_aload_n C dX4_copy_72 rfl 0 rfl ?_
              refine z_get (q := 0) (kf := 11) (v := .ref s4) C rfl rfl in_X4 (by decide) q1098 (Or.inl rfl) rfl dX4_copy_73 ?_
              refine z_iload_n C dX4_copy_76 rfl 1 rfl ?_
              refine y_iald (q := 4) (t0 := 0) (v := (rs dN : Int)) C rfl rfl (by omega) (by decide) rfl dX4_copy_77 ?_
              refine z_aload_n C dX4_copy_78 rfl 0 rfl ?_
              refine z_get (q := 0) (kf := 11) (v := .ref s4) C rfl rfl in_X4 (by decide) q1098 (Or.inl rfl) rfl dX4_copy_79 ?_
              refine z_iload_n C dX4_copy_82 rfl 3 rfl ?_
              refine y_iald (q := 4) (t0 := 0) (v := (rs fN : Int)) C rfl rfl (by omega) (by decide) rfl dX4_copy_83 ?_
              refine y_icmp_eq (tgt := 90) C (by omega) (by omega) dX4_copy_84 (by decide) (fun c_84 => ?_) (fun c_84 => ?_)
              · skip
                refine z_iload C dX4_copy_90 5 rfl ?_
                refine y_if_lt (tgt := 131) C (by omega) dX4_copy_92 (by decide) (fun c_92 => ?_) (fun c_92 => ?_)
                · skip
                  refine y_bipush C dX4_copy_131 (by decide) ?_
                  refine z_wsEq (ws' := [(m, .inr (11, [.int (zI (n : Int)), .ref g1, .ref g2, .ref g3, .ref g4, .ref g5, .int (zI oa), .int (zI dy), .ref s1, .ref s2, .ref s3, .ref s4, .ref s5, .ref s6, .int (zI 0), .int (zI rdg), .int (zI plc), .int (zI ibd), .int (zI stm), .ref t1, .ref t2, .ref t3, .ref c0, .ref c1, .ref c2, .ref c3, .int (zI him), .int (zI pl0), .int (zI itk), ki, .int (zI chd), .int (zI chf), .ref y0, .int (zI sd), .ref y1])), (s1, AI G 8 (fun z_ => (hw z_ : Int))), (s2, AI G 8 (fun z_ => (kk z_ : Int))), (s3, AI G 8 kf), (s4, AI G 8 (fun z_ => (rs z_ : Int))), (s5, AI G 8 (fun z_ => (rm z_ : Int))), (s6, AL G 800 (if cpOk hw rs rm (dN : Int) i (fN : Int) j c then cpyF rw_ rw_ (100 * (dN : Int) + i).toNat (100 * (fN : Int) + j).toNat c.toNat else rw_)), (y1, AL G 100 bt)]) (by simp only [if_neg (show ¬ cpOk hw rs rm (dN : Int) i (fN : Int) j c from by simp only [cpOk, zTN]; omega)]) ?_
                  exact z_iret C hA hQ rfl (Nat.le_of_ble_eq_true rfl) (Nat.le_of_ble_eq_true rfl) (bt) (congrArg zI (by unfold oCopy; (try simp only [zTN]); repeat (first | rw [if_pos (by omega)] | rw [if_neg (by omega)]))) (sb_e [0, 1, 2, 3, 4, 5, 6, 7] rfl rfl) dX4_copy_133
                · skip
                  refine z_iload_n C dX4_copy_95 rfl 2 rfl ?_
                  refine y_if_lt (tgt := 131) C (by omega) dX4_copy_96 (by decide) (fun c_96 => ?_) (fun c_96 => ?_)
                  · skip
                    refine y_bipush C dX4_copy_131 (by decide) ?_
                    refine z_wsEq (ws' := [(m, .inr (11, [.int (zI (n : Int)), .ref g1, .ref g2, .ref g3, .ref g4, .ref g5, .int (zI oa), .int (zI dy), .ref s1, .ref s2, .ref s3, .ref s4, .ref s5, .ref s6, .int (zI 0), .int (zI rdg), .int (zI plc), .int (zI ibd), .int (zI stm), .ref t1, .ref t2, .ref t3, .ref c0, .ref c1, .ref c2, .ref c3, .int (zI him), .int (zI pl0), .int (zI itk), ki, .int (zI chd), .int (zI chf), .ref y0, .int (zI sd), .ref y1])), (s1, AI G 8 (fun z_ => (hw z_ : Int))), (s2, AI G 8 (fun z_ => (kk z_ : Int))), (s3, AI G 8 kf), (s4, AI G 8 (fun z_ => (rs z_ : Int))), (s5, AI G 8 (fun z_ => (rm z_ : Int))), (s6, AL G 800 (if cpOk hw rs rm (dN : Int) i (fN : Int) j c then cpyF rw_ rw_ (100 * (dN : Int) + i).toNat (100 * (fN : Int) + j).toNat c.toNat else rw_)), (y1, AL G 100 bt)]) (by simp only [if_neg (show ¬ cpOk hw rs rm (dN : Int) i (fN : Int) j c from by simp only [cpOk, zTN]; omega)]) ?_
                    exact z_iret C hA hQ rfl (Nat.le_of_ble_eq_true rfl) (Nat.le_of_ble_eq_true rfl) (bt) (congrArg zI (by unfold oCopy; (try simp only [zTN]); repeat (first | rw [if_pos (by omega)] | rw [if_neg (by omega)]))) (sb_e [0, 1, 2, 3, 4, 5, 6, 7] rfl rfl) dX4_copy_133
                  · skip
                    refine z_iload C dX4_copy_99 4 rfl ?_
                    refine y_if_lt (tgt := 131) C (by omega) dX4_copy_101 (by decide) (fun c_101 => ?_) (fun c_101 => ?_)
                    · skip
                      refine y_bipush C dX4_copy_131 (by decide) ?_
                      refine z_wsEq (ws' := [(m, .inr (11, [.int (zI (n : Int)), .ref g1, .ref g2, .ref g3, .ref g4, .ref g5, .int (zI oa), .int (zI dy), .ref s1, .ref s2, .ref s3, .ref s4, .ref s5, .ref s6, .int (zI 0), .int (zI rdg), .int (zI plc), .int (zI ibd), .int (zI stm), .ref t1, .ref t2, .ref t3, .ref c0, .ref c1, .ref c2, .ref c3, .int (zI him), .int (zI pl0), .int (zI itk), ki, .int (zI chd), .int (zI chf), .ref y0, .int (zI sd), .ref y1])), (s1, AI G 8 (fun z_ => (hw z_ : Int))), (s2, AI G 8 (fun z_ => (kk z_ : Int))), (s3, AI G 8 kf), (s4, AI G 8 (fun z_ => (rs z_ : Int))), (s5, AI G 8 (fun z_ => (rm z_ : Int))), (s6, AL G 800 (if cpOk hw rs rm (dN : Int) i (fN : Int) j c then cpyF rw_ rw_ (100 * (dN : Int) + i).toNat (100 * (fN : Int) + j).toNat c.toNat else rw_)), (y1, AL G 100 bt)]) (by simp only [if_neg (show ¬ cpOk hw rs rm (dN : Int) i (fN : Int) j c from by simp only [cpOk, zTN]; omega)]) ?_
                      exact z_iret C hA hQ rfl (Nat.le_of_ble_eq_true rfl) (Nat.le_of_ble_eq_true rfl) (bt) (congrArg zI (by unfold oCopy; (try simp only [zTN]); repeat (first | rw [if_pos (by omega)] | rw [if_neg (by omega)]))) (sb_e [0, 1, 2, 3, 4, 5, 6, 7] rfl rfl) dX4_copy_133
                    · skip
                      refine z_iload_n C dX4_copy_104 rfl 2 rfl ?_
                      refine z_aload_n C dX4_copy_105 rfl 0 rfl ?_
                      refine z_get (q := 0) (kf := 12) (v := .ref s5) C rfl rfl in_X4 (by decide) q1099 (Or.inl rfl) rfl dX4_copy_106 ?_
                      refine z_iload_n C dX4_copy_109 rfl 1 rfl ?_
                      refine y_iald (q := 5) (t0 := 0) (v := (rm dN : Int)) C rfl rfl (by omega) (by decide) rfl dX4_copy_110 ?_
                      refine z_iload C dX4_copy_111 5 rfl ?_
                      refine y_isub C dX4_copy_113 ?_
                      refine y_icmp_gt (tgt := 131) C (by omega) (by omega) dX4_copy_114 (by decide) (fun c_114 => ?_) (fun c_114 => ?_)
                      · skip
                        refine y_bipush C dX4_copy_131 (by decide) ?_
                        refine z_wsEq (ws' := [(m, .inr (11, [.int (zI (n : Int)), .ref g1, .ref g2, .ref g3, .ref g4, .ref g5, .int (zI oa), .int (zI dy), .ref s1, .ref s2, .ref s3, .ref s4, .ref s5, .ref s6, .int (zI 0), .int (zI rdg), .int (zI plc), .int (zI ibd), .int (zI stm), .ref t1, .ref t2, .ref t3, .ref c0, .ref c1, .ref c2, .ref c3, .int (zI him), .int (zI pl0), .int (zI itk), ki, .int (zI chd), .int (zI chf), .ref y0, .int (zI sd), .ref y1])), (s1, AI G 8 (fun z_ => (hw z_ : Int))), (s2, AI G 8 (fun z_ => (kk z_ : Int))), (s3, AI G 8 kf), (s4, AI G 8 (fun z_ => (rs z_ : Int))), (s5, AI G 8 (fun z_ => (rm z_ : Int))), (s6, AL G 800 (if cpOk hw rs rm (dN : Int) i (fN : Int) j c then cpyF rw_ rw_ (100 * (dN : Int) + i).toNat (100 * (fN : Int) + j).toNat c.toNat else rw_)), (y1, AL G 100 bt)]) (by simp only [if_neg (show ¬ cpOk hw rs rm (dN : Int) i (fN : Int) j c from by simp only [cpOk, zTN]; omega)]) ?_
                        exact z_iret C hA hQ rfl (Nat.le_of_ble_eq_true rfl) (Nat.le_of_ble_eq_true rfl) (bt) (congrArg zI (by unfold oCopy; (try simp only [zTN]); repeat (first | rw [if_pos (by omega)] | rw [if_neg (by omega)]))) (sb_e [0, 1, 2, 3, 4, 5, 6, 7] rfl rfl) dX4_copy_133
                      · skip
                        refine z_iload C dX4_copy_117 4 rfl ?_
                        refine z_aload_n C dX4_copy_119 rfl 0 rfl ?_
                        refine z_get (q := 0) (kf := 12) (v := .ref s5) C rfl rfl in_X4 (by decide) q1099 (Or.inl rfl) rfl dX4_copy_120 ?_
                        refine z_iload_n C dX4_copy_123 rfl 3 rfl ?_
                        refine y_iald (q := 5) (t0 := 0) (v := (rm fN : Int)) C rfl rfl (by omega) (by decide) rfl dX4_copy_124 ?_
                        refine z_iload C dX4_copy_125 5 rfl ?_
                        refine y_isub C dX4_copy_127 ?_
                        refine y_icmp_le (tgt := 134) C (by omega) (by omega) dX4_copy_128 (by decide) (fun c_128 => ?_) (fun c_128 => ?_)
                        · skip
                          obtain ⟨iN, rfl⟩ := Int.eq_ofNat_of_zero_le (show 0 ≤ i by omega)
                          obtain ⟨jN, rfl⟩ := Int.eq_ofNat_of_zero_le (show 0 ≤ j by omega)
                          obtain ⟨cN, rfl⟩ := Int.eq_ofNat_of_zero_le (show 0 ≤ c by omega)
                          refine y_iconst C dX4_copy_134 ?_
                          refine z_istore (lv' := [(6, .int (zI 0)), (0, .ref m), (1, .int (zI (dN : Int))), (2, .int (zI (iN : Int))), (3, .int (zI (fN : Int))), (4, .int (zI (jN : Int))), (5, .int (zI (cN : Int)))]) C dX4_copy_135 (nlt rfl) rfl ?_
                          have L_137 : ∀ (tt : Nat) (q : Nat), (q ≤ cN) → cN - q = tt → Z X (cX4_copy, 7, yX4_copy.cls, (some .int), { frames := 1, cells := 0, slots := 0, locals := 25 }, A) G 0 0 [(m, .inr (11, [.int (zI (n : Int)), .ref g1, .ref g2, .ref g3, .ref g4, .ref g5, .int (zI oa), .int (zI dy), .ref s1, .ref s2, .ref s3, .ref s4, .ref s5, .ref s6, .int (zI 0), .int (zI rdg), .int (zI plc), .int (zI ibd), .int (zI stm), .ref t1, .ref t2, .ref t3, .ref c0, .ref c1, .ref c2, .ref c3, .int (zI him), .int (zI pl0), .int (zI itk), ki, .int (zI chd), .int (zI chf), .ref y0, .int (zI sd), .ref y1])), (s1, AI G 8 (fun z_ => (hw z_ : Int))), (s2, AI G 8 (fun z_ => (kk z_ : Int))), (s3, AI G 8 kf), (s4, AI G 8 (fun z_ => (rs z_ : Int))), (s5, AI G 8 (fun z_ => (rm z_ : Int))), (s6, AL G 800 rw_), (y1, AL G 100 (cpyF bt rw_ (100 * dN + iN) 0 q))] 137 [(6, .int (zI (q : Int))), (0, .ref m), (1, .int (zI (dN : Int))), (2, .int (zI (iN : Int))), (3, .int (zI (fN : Int))), (4, .int (zI (jN : Int))), (5, .int (zI (cN : Int)))] [] := by
                            intro tt
                            induction tt using Nat.strongRecOn with
                            | _ tt ih_137 =>
                              intro q hq ht_137
                              refine z_iload C dX4_copy_137 0 rfl ?_
                              refine z_iload C dX4_copy_139 6 rfl ?_
                              refine y_icmp_ge (tgt := 171) C (by omega) (by omega) dX4_copy_141 (by decide) (fun c_141 => ?_) (fun c_141 => ?_)
                              · skip
                                rw [show (q : Nat) = cN by omega]
                                refine y_iconst C dX4_copy_171 ?_
                                refine z_istore (lv' := [(6, .int (zI 0)), (0, .ref m), (1, .int (zI (dN : Int))), (2, .int (zI (iN : Int))), (3, .int (zI (fN : Int))), (4, .int (zI (jN : Int))), (5, .int (zI (cN : Int)))]) C dX4_copy_172 (nlt rfl) rfl ?_
                                have L_174 : ∀ (tt : Nat) (q : Nat), (q ≤ cN) → cN - q = tt → Z X (cX4_copy, 7, yX4_copy.cls, (some .int), { frames := 1, cells := 0, slots := 0, locals := 25 }, A) G 0 0 [(m, .inr (11, [.int (zI (n : Int)), .ref g1, .ref g2, .ref g3, .ref g4, .ref g5, .int (zI oa), .int (zI dy), .ref s1, .ref s2, .ref s3, .ref s4, .ref s5, .ref s6, .int (zI 0), .int (zI rdg), .int (zI plc), .int (zI ibd), .int (zI stm), .ref t1, .ref t2, .ref t3, .ref c0, .ref c1, .ref c2, .ref c3, .int (zI him), .int (zI pl0), .int (zI itk), ki, .int (zI chd), .int (zI chf), .ref y0, .int (zI sd), .ref y1])), (s1, AI G 8 (fun z_ => (hw z_ : Int))), (s2, AI G 8 (fun z_ => (kk z_ : Int))), (s3, AI G 8 kf), (s4, AI G 8 (fun z_ => (rs z_ : Int))), (s5, AI G 8 (fun z_ => (rm z_ : Int))), (s6, AL G 800 (cpyF rw_ rw_ (100 * dN + iN) (100 * fN + jN) q)), (y1, AL G 100 (cpyF bt rw_ (100 * dN + iN) 0 cN))] 174 [(6, .int (zI (q : Int))), (0, .ref m), (1, .int (zI (dN : Int))), (2, .int (zI (iN : Int))), (3, .int (zI (fN : Int))), (4, .int (zI (jN : Int))), (5, .int (zI (cN : Int)))] [] := by
                                  intro tt
                                  induction tt using Nat.strongRecOn with
                                  | _ tt ih_174 =>
                                    intro q hq ht_174
                                    refine z_iload C dX4_copy_174 0 rfl ?_
                                    refine z_iload C dX4_copy_176 6 rfl ?_
                                    refine y_icmp_ge (tgt := 209) C (by omega) (by omega) dX4_copy_178 (by decide) (fun c_178 => ?_) (fun c_178 => ?_)
                                    · skip
                                      rw [show (q : Nat) = cN by omega]
                                      refine z_iload C dX4_copy_209 6 rfl ?_
                                      refine z_wsEq (ws' := [(m, .inr (11, [.int (zI (n : Int)), .ref g1, .ref g2, .ref g3, .ref g4, .ref g5, .int (zI oa), .int (zI dy), .ref s1, .ref s2, .ref s3, .ref s4, .ref s5, .ref s6, .int (zI 0), .int (zI rdg), .int (zI plc), .int (zI ibd), .int (zI stm), .ref t1, .ref t2, .ref t3, .ref c0, .ref c1, .ref c2, .ref c3, .int (zI him), .int (zI pl0), .int (zI itk), ki, .int (zI chd), .int (zI chf), .ref y0, .int (zI sd), .ref y1])), (s1, AI G 8 (fun z_ => (hw z_ : Int))), (s2, AI G 8 (fun z_ => (kk z_ : Int))), (s3, AI G 8 kf), (s4, AI G 8 (fun z_ => (rs z_ : Int))), (s5, AI G 8 (fun z_ => (rm z_ : Int))), (s6, AL G 800 (if cpOk hw rs rm (dN : Int) (iN : Int) (fN : Int) (jN : Int) (cN : Int) then cpyF rw_ rw_ (100 * (dN : Int) + (iN : Int)).toNat (100 * (fN : Int) + (jN : Int)).toNat (cN : Int).toNat else rw_)), (y1, AL G 100 (cpyF bt rw_ (100 * dN + iN) 0 cN))]) (by simp only [if_pos (show cpOk hw rs rm (dN : Int) (iN : Int) (fN : Int) (jN : Int) (cN : Int) from by simp only [cpOk, zTN]; omega), zTN]; try first | rfl | (rw [show (100 * (dN : Int) + (iN : Int)).toNat = 100 * dN + iN by omega, show (100 * (fN : Int) + (jN : Int)).toNat = 100 * fN + jN by omega]; rfl)) ?_
                                      exact z_iret C hA hQ rfl (Nat.le_of_ble_eq_true rfl) (Nat.le_of_ble_eq_true rfl) ((cpyF bt rw_ (100 * dN + iN) 0 cN)) (congrArg zI (by unfold oCopy; (try simp only [zTN]); repeat (first | rw [if_pos (by omega)] | rw [if_neg (by omega)]))) (sb_e [0, 1, 2, 3, 4, 5, 6, 7] rfl rfl) dX4_copy_211
                                    · skip
                                      refine z_aload_n C dX4_copy_181 rfl 1 rfl ?_
                                      refine z_get (q := 0) (kf := 13) (v := .ref s6) C rfl rfl in_X4 (by decide) q1100 (Or.inl rfl) rfl dX4_copy_182 ?_
                                      refine y_bipush C dX4_copy_185 (by decide) ?_
                                      refine z_iload_n C dX4_copy_187 rfl 4 rfl ?_
                                      refine y_imul C dX4_copy_188 ?_
                                      refine z_iload C dX4_copy_189 5 rfl ?_
                                      refine y_iadd C dX4_copy_191 ?_
                                      refine z_iload C dX4_copy_192 0 rfl ?_
                                      refine y_iadd C dX4_copy_194 ?_
                                      refine z_aload_n C dX4_copy_195 rfl 1 rfl ?_
                                      refine z_get (q := 0) (kf := 34) (v := .ref y1) C rfl rfl in_X4 (by decide) q1121 (Or.inl rfl) rfl dX4_copy_196 ?_
                                      refine z_iload C dX4_copy_199 0 rfl ?_
                                      refine y_lald (q := 7) (t0 := 1) (v := rw_ (100 * dN + iN + q)) C rfl rfl (by omega) (by decide) (by rw [zTN]; unfold cpyF; rw [if_pos (by omega), show q - 0 + (100 * dN + iN) = 100 * dN + iN + q by omega]) dX4_copy_201 ?_
                                      refine y_last (q := 6) (t0 := 1) (g := cpyF rw_ rw_ (100 * dN + iN) (100 * fN + jN) (q + 1)) (ws' := [(m, .inr (11, [.int (zI (n : Int)), .ref g1, .ref g2, .ref g3, .ref g4, .ref g5, .int (zI oa), .int (zI dy), .ref s1, .ref s2, .ref s3, .ref s4, .ref s5, .ref s6, .int (zI 0), .int (zI rdg), .int (zI plc), .int (zI ibd), .int (zI stm), .ref t1, .ref t2, .ref t3, .ref c0, .ref c1, .ref c2, .ref c3, .int (zI him), .int (zI pl0), .int (zI itk), ki, .int (zI chd), .int (zI chf), .ref y0, .int (zI sd), .ref y1])), (s1, AI G 8 (fun z_ => (hw z_ : Int))), (s2, AI G 8 (fun z_ => (kk z_ : Int))), (s3, AI G 8 kf), (s4, AI G 8 (fun z_ => (rs z_ : Int))), (s5, AI G 8 (fun z_ => (rm z_ : Int))), (s6, AL G 800 (cpyF rw_ rw_ (100 * dN + iN) (100 * fN + jN) (q + 1))), (y1, AL G 100 (cpyF bt rw_ (100 * dN + iN) 0 cN))]) C rfl rfl (by omega) (by decide) (by rw [show (100 * (fN : Int) + (jN : Int) + (q : Int)).toNat = 100 * fN + jN + q by omega]; exact cpyF_s) rfl dX4_copy_202 ?_
                                      refine y_iinc (lv' := [(6, .int (zI ((q : Int) + 1))), (0, .ref m), (1, .int (zI (dN : Int))), (2, .int (zI (iN : Int))), (3, .int (zI (fN : Int))), (4, .int (zI (jN : Int))), (5, .int (zI (cN : Int)))]) C dX4_copy_203 (q := 0) rfl (nlt rfl) rfl ?_
                                      refine z_goto (tgt := 174) C dX4_copy_206 (by decide) ?_
                                      exact ih_174 _ (by omega) (q + 1) (by first | assumption | omega) rfl
                                refine z_wsEq (ws' := [(m, .inr (11, [.int (zI (n : Int)), .ref g1, .ref g2, .ref g3, .ref g4, .ref g5, .int (zI oa), .int (zI dy), .ref s1, .ref s2, .ref s3, .ref s4, .ref s5, .ref s6, .int (zI 0), .int (zI rdg), .int (zI plc), .int (zI ibd), .int (zI stm), .ref t1, .ref t2, .ref t3, .ref c0, .ref c1, .ref c2, .ref c3, .int (zI him), .int (zI pl0), .int (zI itk), ki, .int (zI chd), .int (zI chf), .ref y0, .int (zI sd), .ref y1])), (s1, AI G 8 (fun z_ => (hw z_ : Int))), (s2, AI G 8 (fun z_ => (kk z_ : Int))), (s3, AI G 8 kf), (s4, AI G 8 (fun z_ => (rs z_ : Int))), (s5, AI G 8 (fun z_ => (rm z_ : Int))), (s6, AL G 800 (cpyF rw_ rw_ (100 * dN + iN) (100 * fN + jN) 0)), (y1, AL G 100 (cpyF bt rw_ (100 * dN + iN) 0 cN))]) (by first | (rw [cpyF_0]; done) | (rw [cpyF_0]; rfl)) ?_
                                exact L_174 _ 0 (by first | assumption | omega) rfl
                              · skip
                                refine z_aload_n C dX4_copy_144 rfl 1 rfl ?_
                                refine z_get (q := 0) (kf := 34) (v := .ref y1) C rfl rfl in_X4 (by decide) q1121 (Or.inl rfl) rfl dX4_copy_145 ?_
                                refine z_iload C dX4_copy_148 0 rfl ?_
                                refine z_aload_n C dX4_copy_150 rfl 1 rfl ?_
                                refine z_get (q := 0) (kf := 13) (v := .ref s6) C rfl rfl in_X4 (by decide) q1100 (Or.inl rfl) rfl dX4_copy_151 ?_
                                refine y_bipush C dX4_copy_154 (by decide) ?_
                                refine z_iload_n C dX4_copy_156 rfl 2 rfl ?_
                                refine y_imul C dX4_copy_157 ?_
                                refine z_iload_n C dX4_copy_158 rfl 3 rfl ?_
                                refine y_iadd C dX4_copy_159 ?_
                                refine z_iload C dX4_copy_160 0 rfl ?_
                                refine y_iadd C dX4_copy_162 ?_
                                refine y_lald (q := 6) (t0 := 1) (v := rw_ (100 * dN + iN + q)) C rfl rfl (by omega) (by decide) (by rw [show (100 * (dN : Int) + (iN : Int) + (q : Int)).toNat = 100 * dN + iN + q by omega]) dX4_copy_163 ?_
                                refine y_last (q := 7) (t0 := 1) (g := cpyF bt rw_ (100 * dN + iN) 0 (q + 1)) (ws' := [(m, .inr (11, [.int (zI (n : Int)), .ref g1, .ref g2, .ref g3, .ref g4, .ref g5, .int (zI oa), .int (zI dy), .ref s1, .ref s2, .ref s3, .ref s4, .ref s5, .ref s6, .int (zI 0), .int (zI rdg), .int (zI plc), .int (zI ibd), .int (zI stm), .ref t1, .ref t2, .ref t3, .ref c0, .ref c1, .ref c2, .ref c3, .int (zI him), .int (zI pl0), .int (zI itk), ki, .int (zI chd), .int (zI chf), .ref y0, .int (zI sd), .ref y1])), (s1, AI G 8 (fun z_ => (hw z_ : Int))), (s2, AI G 8 (fun z_ => (kk z_ : Int))), (s3, AI G 8 kf), (s4, AI G 8 (fun z_ => (rs z_ : Int))), (s5, AI G 8 (fun z_ => (rm z_ : Int))), (s6, AL G 800 rw_), (y1, AL G 100 (cpyF bt rw_ (100 * dN + iN) 0 (q + 1)))]) C rfl rfl (by omega) (by decide) (by have h := cpyF_s (f := bt) (g := rw_) (a := 100 * dN + iN) (b := 0) (c := q); rw [Nat.zero_add] at h; exact h) rfl dX4_copy_164 ?_
                                refine y_iinc (lv' := [(6, .int (zI ((q : Int) + 1))), (0, .ref m), (1, .int (zI (dN : Int))), (2, .int (zI (iN : Int))), (3, .int (zI (fN : Int))), (4, .int (zI (jN : Int))), (5, .int (zI (cN : Int)))]) C dX4_copy_165 (q := 0) rfl (nlt rfl) rfl ?_
                                refine z_goto (tgt := 137) C dX4_copy_168 (by decide) ?_
                                exact ih_137 _ (by omega) (q + 1) (by first | assumption | omega) rfl
                          rw [show bt = cpyF bt rw_ (100 * dN + iN) 0 0 from cpyF_0.symm]
                          exact L_137 _ 0 (by first | assumption | omega) rfl
                        · skip
                          refine y_bipush C dX4_copy_131 (by decide) ?_
                          refine z_wsEq (ws' := [(m, .inr (11, [.int (zI (n : Int)), .ref g1, .ref g2, .ref g3, .ref g4, .ref g5, .int (zI oa), .int (zI dy), .ref s1, .ref s2, .ref s3, .ref s4, .ref s5, .ref s6, .int (zI 0), .int (zI rdg), .int (zI plc), .int (zI ibd), .int (zI stm), .ref t1, .ref t2, .ref t3, .ref c0, .ref c1, .ref c2, .ref c3, .int (zI him), .int (zI pl0), .int (zI itk), ki, .int (zI chd), .int (zI chf), .ref y0, .int (zI sd), .ref y1])), (s1, AI G 8 (fun z_ => (hw z_ : Int))), (s2, AI G 8 (fun z_ => (kk z_ : Int))), (s3, AI G 8 kf), (s4, AI G 8 (fun z_ => (rs z_ : Int))), (s5, AI G 8 (fun z_ => (rm z_ : Int))), (s6, AL G 800 (if cpOk hw rs rm (dN : Int) i (fN : Int) j c then cpyF rw_ rw_ (100 * (dN : Int) + i).toNat (100 * (fN : Int) + j).toNat c.toNat else rw_)), (y1, AL G 100 bt)]) (by simp only [if_neg (show ¬ cpOk hw rs rm (dN : Int) i (fN : Int) j c from by simp only [cpOk, zTN]; omega)]) ?_
                          exact z_iret C hA hQ rfl (Nat.le_of_ble_eq_true rfl) (Nat.le_of_ble_eq_true rfl) (bt) (congrArg zI (by unfold oCopy; (try simp only [zTN]); repeat (first | rw [if_pos (by omega)] | rw [if_neg (by omega)]))) (sb_e [0, 1, 2, 3, 4, 5, 6, 7] rfl rfl) dX4_copy_133
              · skip
                refine y_bipush C dX4_copy_87 (by decide) ?_
                refine z_wsEq (ws' := [(m, .inr (11, [.int (zI (n : Int)), .ref g1, .ref g2, .ref g3, .ref g4, .ref g5, .int (zI oa), .int (zI dy), .ref s1, .ref s2, .ref s3, .ref s4, .ref s5, .ref s6, .int (zI 0), .int (zI rdg), .int (zI plc), .int (zI ibd), .int (zI stm), .ref t1, .ref t2, .ref t3, .ref c0, .ref c1, .ref c2, .ref c3, .int (zI him), .int (zI pl0), .int (zI itk), ki, .int (zI chd), .int (zI chf), .ref y0, .int (zI sd), .ref y1])), (s1, AI G 8 (fun z_ => (hw z_ : Int))), (s2, AI G 8 (fun z_ => (kk z_ : Int))), (s3, AI G 8 kf), (s4, AI G 8 (fun z_ => (rs z_ : Int))), (s5, AI G 8 (fun z_ => (rm z_ : Int))), (s6, AL G 800 (if cpOk hw rs rm (dN : Int) i (fN : Int) j c then cpyF rw_ rw_ (100 * (dN : Int) + i).toNat (100 * (fN : Int) + j).toNat c.toNat else rw_)), (y1, AL G 100 bt)]) (by simp only [if_neg (show ¬ cpOk hw rs rm (dN : Int) i (fN : Int) j c from by simp only [cpOk, zTN]; omega)]) ?_
                exact z_iret C hA hQ rfl (Nat.le_of_ble_eq_true rfl) (Nat.le_of_ble_eq_true rfl) (bt) (congrArg zI (by unfold oCopy; (try simp only [zTN]); repeat (first | rw [if_pos (by omega)] | rw [if_neg (by omega)]))) (sb_e [0, 1, 2, 3, 4, 5, 6, 7] rfl rfl) dX4_copy_89
        · skip
          refine y_bipush C dX4_copy_49 (by decide) ?_
          refine z_wsEq (ws' := [(m, .inr (11, [.int (zI (n : Int)), .ref g1, .ref g2, .ref g3, .ref g4, .ref g5, .int (zI oa), .int (zI dy), .ref s1, .ref s2, .ref s3, .ref s4, .ref s5, .ref s6, .int (zI 0), .int (zI rdg), .int (zI plc), .int (zI ibd), .int (zI stm), .ref t1, .ref t2, .ref t3, .ref c0, .ref c1, .ref c2, .ref c3, .int (zI him), .int (zI pl0), .int (zI itk), ki, .int (zI chd), .int (zI chf), .ref y0, .int (zI sd), .ref y1])), (s1, AI G 8 (fun z_ => (hw z_ : Int))), (s2, AI G 8 (fun z_ => (kk z_ : Int))), (s3, AI G 8 kf), (s4, AI G 8 (fun z_ => (rs z_ : Int))), (s5, AI G 8 (fun z_ => (rm z_ : Int))), (s6, AL G 800 (if cpOk hw rs rm (dN : Int) i (fN : Int) j c then cpyF rw_ rw_ (100 * (dN : Int) + i).toNat (100 * (fN : Int) + j).toNat c.toNat else rw_)), (y1, AL G 100 bt)]) (by simp only [if_neg (show ¬ cpOk hw rs rm (dN : Int) i (fN : Int) j c from by simp only [cpOk, zTN]; omega)]) ?_
          exact z_iret C hA hQ rfl (Nat.le_of_ble_eq_true rfl) (Nat.le_of_ble_eq_true rfl) (bt) (congrArg zI (by unfold oCopy; (try simp only [zTN]); repeat (first | rw [if_pos (by omega)] | rw [if_neg (by omega)]))) (sb_e [0, 1, 2, 3, 4, 5, 6, 7] rfl rfl) dX4_copy_51
    · skip
      refine y_iconst C dX4_copy_29 ?_
      refine z_wsEq (ws' := [(m, .inr (11, [.int (zI (n : Int)), .ref g1, .ref g2, .ref g3, .ref g4, .ref g5, .int (zI oa), .int (zI dy), .ref s1, .ref s2, .ref s3, .ref s4, .ref s5, .ref s6, .int (zI 0), .int (zI rdg), .int (zI plc), .int (zI ibd), .int (zI stm), .ref t1, .ref t2, .ref t3, .ref c0, .ref c1, .ref c2, .ref c3, .int (zI him), .int (zI pl0), .int (zI itk), ki, .int (zI chd), .int (zI chf), .ref y0, .int (zI sd), .ref y1])), (s1, AI G 8 (fun z_ => (hw z_ : Int))), (s2, AI G 8 (fun z_ => (kk z_ : Int))), (s3, AI G 8 kf), (s4, AI G 8 (fun z_ => (rs z_ : Int))), (s5, AI G 8 (fun z_ => (rm z_ : Int))), (s6, AL G 800 (if cpOk hw rs rm d i f j c then cpyF rw_ rw_ (100 * d + i).toNat (100 * f + j).toNat c.toNat else rw_)), (y1, AL G 100 bt)]) (by simp only [if_neg (show ¬ cpOk hw rs rm d i f j c from by simp only [cpOk, zTN]; omega)]) ?_
      exact z_iret C hA hQ rfl (Nat.le_of_ble_eq_true rfl) (Nat.le_of_ble_eq_true rfl) (bt) (congrArg zI (by unfold oCopy; (try simp only [zTN]); repeat (first | rw [if_pos (by omega)] | rw [if_neg (by omega)]))) (sb_e [0, 1, 2, 3, 4, 5, 6, 7] rfl rfl) dX4_copy_30

