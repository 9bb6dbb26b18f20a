/-! THE MODEL, 12: what it is, judge -/
set_option maxRecDepth 100000
theorem LK.kdu {n : Nat} {kd : Nat → Nat} {fg hm at_ lg : Nat → Int} {oa : Int} {j v : Nat} (h : LK n kd fg hm at_ lg oa) (hy : v < 8) : LK n (upN kd j v) fg hm at_ lg oa := by
  obtain ⟨h1, h2, h3⟩ := h
  refine ⟨h1, h2, fun i hi => ?_⟩
  obtain ⟨a, b⟩ := h3 i hi
  refine ⟨?_, b⟩
  unfold upN
  split
  · exact hy
  · exact a
theorem LK.fgu {n : Nat} {kd : Nat → Nat} {fg hm at_ lg : Nat → Int} {oa y : Int} {j : Nat} (h : LK n kd fg hm at_ lg oa) (hy : 0 ≤ y ∧ y ≤ 9) : LK n kd (va_up fg j y) hm at_ lg oa := by
  obtain ⟨h1, h2, h3⟩ := h
  refine ⟨h1, h2, fun i hi => ?_⟩
  obtain ⟨a, b, c⟩ := h3 i hi
  refine ⟨a, ?_, c⟩
  unfold va_up
  split
  · exact hy
  · exact b
/-- whether one of kind v (or of figure v) would ride as the row tells -/
def whtB (f : Nat → Int) (sk : Int) (ml : Nat) (kd : Nat → Nat) (fg hm : Nat → Int) (oa : Int) (n j : Nat) (yard : Int) (at_ lg : Nat → Int) (what : Int) (v : Nat) : Int := if what = 0 then rowB f sk (upN kd j v) fg hm oa n j yard at_ lg ml else rowB f sk kd (va_up fg j (v : Int)) hm oa n j yard at_ lg ml
def oWhatIs (kd : Nat → Nat) (fg : Nat → Int) (hm : Nat → Int) (at_ : Nat → Int) (lg : Nat → Int) (n : Nat) (oa : Int) (hw : Nat → Nat) (kk : Nat → Nat) (rs : Nat → Nat) (rm : Nat → Nat) (kf : Nat → Int) (rw_ : Nat → Int) (d : Int) (h : Int) (yard : Int) (what : Int) : Int32 := if (0 ≤ h ∧ h ≤ (n : Int) - 1) ∧ (0 ≤ yard ∧ yard ≤ 20) ∧ (0 ≤ what ∧ what ≤ 1) then (if wrZ hw d < 0 then zI (wrZ hw d) else if what = 0 then bitsF (whtB (rowF rw_ d.toNat) (skZ (rs d.toNat)) (rm d.toNat) kd fg hm oa n h.toNat yard at_ lg what) 8 else bitsF (whtB (rowF rw_ d.toNat) (skZ (rs d.toNat)) (rm d.toNat) kd fg hm oa n h.toNat yard at_ lg what) 10) else zI (-1)
set_option maxHeartbeats 4000000 in
theorem ct_X4_whatIs (l : Launch) (G : ZG) (m : Nat) (g1 : Nat) (g2 : Nat) (g3 : Nat) (g4 : Nat) (g5 : Nat) (s1 : Nat) (s2 : Nat) (s3 : Nat) (s4 : Nat) (s5 : Nat) (s6 : Nat) (t1 : Nat) (t2 : Nat) (t3 : Nat) (c0 : Nat) (c1 : Nat) (c2 : Nat) (c3 : Nat) (y0 : Nat) (y1 : Nat) (thr : Int) (rdg : Int) (plc : Int) (ibd : Int) (stm : Int) (him : Int) (pl0 : Int) (itk : Int) (chd : Int) (chf : Int) (sd : Int) (ki : Value) (kd : Nat → Nat) (fg : Nat → Int) (hm : Nat → Int) (at_ : Nat → Int) (lg : Nat → Int) (n : Nat) (oa : Int) (dy : Int) (kc : Nat → Int) (hw : Nat → Nat) (kk : Nat → Nat) (rs : Nat → Nat) (rm : Nat → Nat) (kf : Nat → Int) (rw_ : Nat → Int) (d : Int) (h : Int) (yard : Int) (what : Int) (hL : LK n kd fg hm at_ lg oa) (hS : SK hw kk rs rm kf rw_) (rd : -2147483648 ≤ d ∧ d ≤ 2147483647) (rh : -2147483648 ≤ h ∧ h ≤ 2147483647) (ryard : -2147483648 ≤ yard ∧ yard ≤ 2147483647) (rwhat : -2147483648 ≤ what ∧ what ≤ 2147483647) : CT l yX4_whatIs cX4_whatIs 8 (some .int) { frames := 6, cells := 0, slots := 0, locals := 145 } G [.ref m, .int (zI d), .int (zI h), .int (zI yard), .int (zI what)] [(m, .inr (11, [.int (zI (n : Int)), .ref g1, .ref g2, .ref g3, .ref g4, .ref g5, .int (zI oa), .int (zI dy), .ref s1, .ref s2, .ref s3, .ref s4, .ref s5, .ref s6, .int (zI thr), .int (zI rdg), .int (zI plc), .int (zI ibd), .int (zI stm), .ref t1, .ref t2, .ref t3, .ref c0, .ref c1, .ref c2, .ref c3, .int (zI him), .int (zI pl0), .int (zI itk), ki, .int (zI chd), .int (zI chf), .ref y0, .int (zI sd), .ref y1])), (g1, AI G 7 (fun z_ => (kd z_ : Int))), (g2, AI G 7 fg), (g3, AI G 7 hm), (g4, AI G 7 at_), (g5, AI G 7 lg), (s1, AI G 8 (fun z_ => (hw z_ : Int))), (s2, AI G 8 (fun z_ => (kk z_ : Int))), (s3, AI G 8 kf), (s4, AI G 8 (fun z_ => (rs z_ : Int))), (s5, AI G 8 (fun z_ => (rm z_ : Int))), (s6, AL G 800 rw_), (c0, AI G 38 kc)] (Qi G [(m, .inr (11, [.int (zI (n : Int)), .ref g1, .ref g2, .ref g3, .ref g4, .ref g5, .int (zI oa), .int (zI dy), .ref s1, .ref s2, .ref s3, .ref s4, .ref s5, .ref s6, .int (zI thr), .int (zI rdg), .int (zI plc), .int (zI ibd), .int (zI stm), .ref t1, .ref t2, .ref t3, .ref c0, .ref c1, .ref c2, .ref c3, .int (zI him), .int (zI pl0), .int (zI itk), ki, .int (zI chd), .int (zI chf), .ref y0, .int (zI sd), .ref y1])), (g1, AI G 7 (fun z_ => (kd z_ : Int))), (g2, AI G 7 fg), (g3, AI G 7 hm), (g4, AI G 7 at_), (g5, AI G 7 lg), (s1, AI G 8 (fun z_ => (hw z_ : Int))), (s2, AI G 8 (fun z_ => (kk z_ : Int))), (s3, AI G 8 kf), (s4, AI G 8 (fun z_ => (rs z_ : Int))), (s5, AI G 8 (fun z_ => (rm z_ : Int))), (s6, AL G 800 rw_), (c0, AI G 38 kc)] (fun (r : Int32) (u : Value × Int × Int × (Nat → Int)) => r = oWhatIs kd fg hm at_ lg n oa hw kk rs rm kf rw_ d h yard what) (fun u => [(m, .inr (11, [.int (zI (n : Int)), .ref g1, .ref g2, .ref g3, .ref g4, .ref g5, .int (zI oa), .int (zI dy), .ref s1, .ref s2, .ref s3, .ref s4, .ref s5, .ref s6, .int (zI 0), .int (zI rdg), .int (zI plc), .int (zI ibd), .int (zI stm), .ref t1, .ref t2, .ref t3, .ref c0, .ref c1, .ref c2, .ref c3, .int (zI him), .int (zI u.2.1), .int (zI u.2.2.1), u.1, .int (zI chd), .int (zI chf), .ref y0, .int (zI sd), .ref y1])), (g1, AI G 7 (fun z_ => (kd z_ : Int))), (g2, AI G 7 fg), (g3, AI G 7 hm), (g4, AI G 7 at_), (g5, AI G 7 lg), (s1, AI G 8 (fun z_ => (hw z_ : Int))), (s2, AI G 8 (fun z_ => (kk z_ : Int))), (s3, AI G 8 kf), (s4, AI G 8 (fun z_ => (rs z_ : Int))), (s5, AI G 8 (fun z_ => (rm z_ : Int))), (s6, AL G 800 rw_), (c0, AI G 38 u.2.2.2)])) := by
  refine z_met (by decide) (Nat.le_of_ble_eq_true rfl) ?_
  intro X A hl0 hA C hQ hin
  subst hl0
  obtain ⟨hn7, hoa, hLj⟩ := id hL
  show Z X _ G 0 0 _ 0 [(0, .ref m), (1, .int (zI d)), (2, .int (zI h)), (3, .int (zI yard)), (4, .int (zI what))] []
  refine z_aload_n C dX4_whatIs_0 rfl 0 rfl ?_
  refine y_iconst C dX4_whatIs_1 ?_
  refine z_put (q := 0) (kf := 14) (ws' := [(m, .inr (11, [.int (zI (n : Int)), .ref g1, .ref g2, .ref g3, .ref g4, .ref g5, .int (zI oa), .int (zI dy), .ref s1, .ref s2, .ref s3, .ref s4, .ref s5, .ref s6, .int (zI 0), .int (zI rdg), .int (zI plc), .int (zI ibd), .int (zI stm), .ref t1, .ref t2, .ref t3, .ref c0, .ref c1, .ref c2, .ref c3, .int (zI him), .int (zI pl0), .int (zI itk), ki, .int (zI chd), .int (zI chf), .ref y0, .int (zI sd), .ref y1])), (g1, AI G 7 (fun z_ => (kd z_ : Int))), (g2, AI G 7 fg), (g3, AI G 7 hm), (g4, AI G 7 at_), (g5, AI G 7 lg), (s1, AI G 8 (fun z_ => (hw z_ : Int))), (s2, AI G 8 (fun z_ => (kk z_ : Int))), (s3, AI G 8 kf), (s4, AI G 8 (fun z_ => (rs z_ : Int))), (s5, AI G 8 (fun z_ => (rm z_ : Int))), (s6, AL G 800 rw_), (c0, AI G 38 kc)]) C rfl rfl in_X4 tyX4_ok nmX4 (by decide) q1101 rfl rfl rfl rfl rfl (nlt rfl) rfl dX4_whatIs_2 ?_
  refine z_aload_n C dX4_whatIs_5 rfl 0 rfl ?_
  refine z_iload_n C dX4_whatIs_6 rfl 2 rfl ?_
  refine z_i C (z_runV (q := 0) (As := [.int (zI h)]) (rest := []) C (ct_X4_isHorse (zl X) G m g1 g2 g3 g4 g5 n oa dy ([.ref s1, .ref s2, .ref s3, .ref s4, .ref s5, .ref s6, .int (zI 0), .int (zI rdg), .int (zI plc), .int (zI ibd), .int (zI stm), .ref t1, .ref t2, .ref t3, .ref c0, .ref c1, .ref c2, .ref c3, .int (zI him), .int (zI pl0), .int (zI itk), ki, .int (zI chd), .int (zI chf), .ref y0, .int (zI sd), .ref y1]) h (by first | assumption | omega) (by first | assumption | omega)) (lw_V q1255 q1257 qs33 q61 q1258) rfl rfl (sb_e [0] rfl rfl) (na := 1) (by decide +kernel) rfl (zrm rfl rfl (rfl) (rfl)) rfl (Nat.le_of_ble_eq_true rfl) dX4_whatIs_7) (fun u => jn_ro (sb_e [0] rfl rfl)) (fun r_7 u hp_7 => ?_)
  have hp_7 : r_7 = zI (bI (0 ≤ h ∧ h ≤ (n : Int) - 1)) := hp_7
  subst hp_7
  refine y_beq (tgt := 39) C dX4_whatIs_10 (by decide) (fun c_10 => ?_) (fun c_10 => ?_)
  · skip
    refine y_iconst C dX4_whatIs_39 ?_
    refine z_istore (lv' := [(5, .int (zI (-1))), (0, .ref m), (1, .int (zI d)), (2, .int (zI h)), (3, .int (zI yard)), (4, .int (zI what))]) C dX4_whatIs_40 (nlt rfl) rfl ?_
    refine z_iload C dX4_whatIs_42 0 rfl ?_
    refine y_if_ge (tgt := 50) C (by omega) dX4_whatIs_44 (by decide) (fun c_44 => ?_) (fun c_44 => ?_)
    · skip
      exact absurd c_44 (by decide)
    · skip
      refine z_iload C dX4_whatIs_47 0 rfl ?_
      exact z_iret C hA hQ rfl (Nat.le_of_ble_eq_true rfl) (Nat.le_of_ble_eq_true rfl) ((ki, pl0, itk, kc)) ((by unfold oWhatIs; repeat (first | rw [if_pos (by omega)] | rw [if_neg (by omega)]))) (sb_e [0, 1, 2, 3, 4, 5, 6, 7, 8, 9, 10, 11, 12] rfl rfl) dX4_whatIs_49
  · skip
    refine z_iload_n C dX4_whatIs_13 rfl 3 rfl ?_
    refine z_i C (z_runS (As := [.int (zI yard)]) (rest := []) C (ct_X4_isYard (zl X) G yard (by first | assumption | omega)) (lw_S q1251 q1252 q61 q1253) (sb_e [] rfl rfl) (na := 1) (by decide +kernel) rfl (zrm rfl rfl (rfl) (rfl)) rfl (Nat.le_of_ble_eq_true rfl) dX4_whatIs_14) (fun u => jn_ro (sb_e [] rfl rfl)) (fun r_14 u hp_14 => ?_)
    have hp_14 : r_14 = zI (bI (0 ≤ yard ∧ yard ≤ 20)) := hp_14
    subst hp_14
    refine y_beq (tgt := 39) C dX4_whatIs_17 (by decide) (fun c_17 => ?_) (fun c_17 => ?_)
    · skip
      refine y_iconst C dX4_whatIs_39 ?_
      refine z_istore (lv' := [(5, .int (zI (-1))), (0, .ref m), (1, .int (zI d)), (2, .int (zI h)), (3, .int (zI yard)), (4, .int (zI what))]) C dX4_whatIs_40 (nlt rfl) rfl ?_
      refine z_iload C dX4_whatIs_42 0 rfl ?_
      refine y_if_ge (tgt := 50) C (by omega) dX4_whatIs_44 (by decide) (fun c_44 => ?_) (fun c_44 => ?_)
      · skip
        exact absurd c_44 (by decide)
      · skip
        refine z_iload C dX4_whatIs_47 0 rfl ?_
        exact z_iret C hA hQ rfl (Nat.le_of_ble_eq_true rfl) (Nat.le_of_ble_eq_true rfl) ((ki, pl0, itk, kc)) ((by unfold oWhatIs; repeat (first | rw [if_pos (by omega)] | rw [if_neg (by omega)]))) (sb_e [0, 1, 2, 3, 4, 5, 6, 7, 8, 9, 10, 11, 12] rfl rfl) dX4_whatIs_49
    · skip
      refine z_iload C dX4_whatIs_20 4 rfl ?_
      refine y_i2l C (by omega) dX4_whatIs_22 ?_
      refine z_lconst (v := zL 0) C dX4_whatIs_23 (by decide) ?_
      refine z_lconst (v := zL 1) C dX4_whatIs_24 (by decide) ?_
      refine z_i C (z_runS (As := [.long (zL what), .long (zL 0), .long (zL 1)]) (rest := []) C (ct_X4_in (zl X) G what 0 1 (by first | assumption | omega) (by first | assumption | omega) (by first | assumption | omega)) (lw_S q1207 q1208 q61 q1209) (sb_e [] rfl rfl) (na := 3) (by decide +kernel) rfl (zrm rfl rfl (rfl) (rfl)) rfl (Nat.le_of_ble_eq_true rfl) dX4_whatIs_25) (fun u => jn_ro (sb_e [] rfl rfl)) (fun r_25 u hp_25 => ?_)
      have hp_25 : r_25 = zI (bI (0 ≤ what ∧ what ≤ 1)) := hp_25
      subst hp_25
      refine y_beq (tgt := 39) C dX4_whatIs_28 (by decide) (fun c_28 => ?_) (fun c_28 => ?_)
      · skip
        refine y_iconst C dX4_whatIs_39 ?_
        refine z_istore (lv' := [(5, .int (zI (-1))), (0, .ref m), (1, .int (zI d)), (2, .int (zI h)), (3, .int (zI yard)), (4, .int (zI what))]) C dX4_whatIs_40 (nlt rfl) rfl ?_
        refine z_iload C dX4_whatIs_42 0 rfl ?_
        refine y_if_ge (tgt := 50) C (by omega) dX4_whatIs_44 (by decide) (fun c_44 => ?_) (fun c_44 => ?_)
        · skip
          exact absurd c_44 (by decide)
        · skip
          refine z_iload C dX4_whatIs_47 0 rfl ?_
          exact z_iret C hA hQ rfl (Nat.le_of_ble_eq_true rfl) (Nat.le_of_ble_eq_true rfl) ((ki, pl0, itk, kc)) ((by unfold oWhatIs; repeat (first | rw [if_pos (by omega)] | rw [if_neg (by omega)]))) (sb_e [0, 1, 2, 3, 4, 5, 6, 7, 8, 9, 10, 11, 12] rfl rfl) dX4_whatIs_49
      · skip
        refine z_aload_n C dX4_whatIs_31 rfl 0 rfl ?_
        refine z_iload_n C dX4_whatIs_32 rfl 1 rfl ?_
        refine z_i C (z_runV (q := 0) (As := [.int (zI d)]) (rest := []) C (ct_X4_wrongRow (zl X) G m g1 g2 g3 g4 g5 s1 s2 s3 s4 s5 s6 t1 t2 t3 c0 c1 c2 c3 y0 y1 0 rdg plc ibd stm him pl0 itk chd chf sd ki n oa dy hw kk rs rm kf rw_ d (by first | assumption | omega) (by first | assumption | omega)) (lw_V q1202 q1204 qs23 q61 q1205) rfl rfl (sb_e [0, 6, 7, 8, 9, 10, 11] rfl rfl) (na := 1) (by decide +kernel) rfl (zrm rfl rfl (rfl) (rfl)) rfl (Nat.le_of_ble_eq_true rfl) dX4_whatIs_33) (fun u => jn_ro (sb_e [0, 6, 7, 8, 9, 10, 11] rfl rfl)) (fun r_33 u hp_33 => ?_)
        have hp_33 : r_33 = zI (wrZ hw d) := hp_33
        subst hp_33
        have hwr := wrZ_r hw d
        refine z_goto (tgt := 40) C dX4_whatIs_36 (by decide) ?_
        refine z_istore (lv' := [(5, .int (zI (wrZ hw d))), (0, .ref m), (1, .int (zI d)), (2, .int (zI h)), (3, .int (zI yard)), (4, .int (zI what))]) C dX4_whatIs_40 (nlt rfl) rfl ?_
        refine z_iload C dX4_whatIs_42 0 rfl ?_
        refine y_if_ge (tgt := 50) C (by omega) dX4_whatIs_44 (by decide) (fun c_44 => ?_) (fun c_44 => ?_)
        · skip
          obtain ⟨hd1, hd2⟩ := wrZ_0 (hw := hw) (d := d) (by omega)
          obtain ⟨e, rfl⟩ := Int.eq_ofNat_of_zero_le (show 0 ≤ d by omega)
          simp only [zTN] at hd2
          obtain ⟨hS1, hS2⟩ := id hS
          have hSe := hS1 e (by omega)
          obtain ⟨j, rfl⟩ := Int.eq_ofNat_of_zero_le (show 0 ≤ h by omega)
          refine y_iconst C dX4_whatIs_50 ?_
          refine z_istore (lv' := [(6, .int (zI 0)), (5, .int (zI (wrZ hw (e : Int)))), (0, .ref m), (1, .int (zI (e : Int))), (2, .int (zI (j : Int))), (3, .int (zI yard)), (4, .int (zI what))]) C dX4_whatIs_51 (nlt rfl) rfl ?_
          refine z_aload_n C dX4_whatIs_53 rfl 2 rfl ?_
          refine z_v (ws' := fun u => [(m, .inr (11, [.int (zI (n : Int)), .ref g1, .ref g2, .ref g3, .ref g4, .ref g5, .int (zI oa), .int (zI dy), .ref s1, .ref s2, .ref s3, .ref s4, .ref s5, .ref s6, .int (zI 0), .int (zI rdg), .int (zI plc), .int (zI ibd), .int (zI stm), .ref t1, .ref t2, .ref t3, .ref c0, .ref c1, .ref c2, .ref c3, .int (zI him), .int (zI 38), .int (zI 1), .ref c0, .int (zI chd), .int (zI chf), .ref y0, .int (zI sd), .ref y1])), (g1, AI G 7 (fun z_ => (kd z_ : Int))), (g2, AI G 7 fg), (g3, AI G 7 hm), (g4, AI G 7 at_), (g5, AI G 7 lg), (s1, AI G 8 (fun z_ => (hw z_ : Int))), (s2, AI G 8 (fun z_ => (kk z_ : Int))), (s3, AI G 8 kf), (s4, AI G 8 (fun z_ => (rs z_ : Int))), (s5, AI G 8 (fun z_ => (rm z_ : Int))), (s6, AL G 800 rw_), (c0, AI G 38 (encF n oa dy kd fg hm at_ lg))]) C (z_runV (q := 0) (As := []) (rest := []) C (ct_X4_open (zl X) G m g1 g2 g3 g4 g5 s1 s2 s3 s4 s5 s6 t1 t2 t3 c0 c1 c2 c3 y0 y1 0 rdg plc ibd stm him pl0 itk chd chf sd ki kd fg hm at_ lg n oa dy kc ) (lw_V q1231 q1233 qs28 q61 q1234) rfl rfl (sb_e [0, 1, 2, 3, 4, 5, 12] rfl rfl) (na := 0) (by decide +kernel) rfl (zrm rfl rfl (rfl) (rfl)) rfl (Nat.le_of_ble_eq_true rfl) dX4_whatIs_54) (fun u => jn_e (wr := [(s1, AI G 8 (fun z_ => (hw z_ : Int))), (s2, AI G 8 (fun z_ => (kk z_ : Int))), (s3, AI G 8 kf), (s4, AI G 8 (fun z_ => (rs z_ : Int))), (s5, AI G 8 (fun z_ => (rm z_ : Int))), (s6, AL G 800 rw_)]) [0, 1, 2, 3, 4, 5, 12] [6, 7, 8, 9, 10, 11] [6, 7, 8, 9, 10, 11, 0, 1, 2, 3, 4, 5, 12] rfl rfl rfl (by decide) rfl rfl) (fun u hp_54 => ?_)
          refine y_iconst C dX4_whatIs_57 ?_
          refine z_istore (lv' := [(7, .int (zI 0)), (6, .int (zI 0)), (5, .int (zI (wrZ hw (e : Int)))), (0, .ref m), (1, .int (zI (e : Int))), (2, .int (zI (j : Int))), (3, .int (zI yard)), (4, .int (zI what))]) C dX4_whatIs_58 (nlt rfl) rfl ?_
          have L_60 : ∀ (tt : Nat) (i : Nat) (set : Int32) (itb : Int), (i ≤ 10 ∧ (what = 0 → i ≤ 8)) → (set = bitsF (whtB (rowF rw_ e) (skZ (rs e)) (rm e) kd fg hm oa n j yard at_ lg what) i) → 10 - i = tt → Z X (cX4_whatIs, 8, yX4_whatIs.cls, (some .int), { frames := 6, cells := 0, slots := 0, locals := 145 }, A) G 0 0 [(m, .inr (11, [.int (zI (n : Int)), .ref g1, .ref g2, .ref g3, .ref g4, .ref g5, .int (zI oa), .int (zI dy), .ref s1, .ref s2, .ref s3, .ref s4, .ref s5, .ref s6, .int (zI 0), .int (zI rdg), .int (zI plc), .int (zI ibd), .int (zI stm), .ref t1, .ref t2, .ref t3, .ref c0, .ref c1, .ref c2, .ref c3, .int (zI him), .int (zI 38), .int (zI itb), .ref c0, .int (zI chd), .int (zI chf), .ref y0, .int (zI sd), .ref y1])), (g1, AI G 7 (fun z_ => (kd z_ : Int))), (g2, AI G 7 fg), (g3, AI G 7 hm), (g4, AI G 7 at_), (g5, AI G 7 lg), (s1, AI G 8 (fun z_ => (hw z_ : Int))), (s2, AI G 8 (fun z_ => (kk z_ : Int))), (s3, AI G 8 kf), (s4, AI G 8 (fun z_ => (rs z_ : Int))), (s5, AI G 8 (fun z_ => (rm z_ : Int))), (s6, AL G 800 rw_), (c0, AI G 38 (encF n oa dy kd fg hm at_ lg))] 60 [(7, .int (zI (i : Int))), (6, .int set), (0, .ref m), (1, .int (zI (e : Int))), (2, .int (zI (j : Int))), (3, .int (zI yard)), (4, .int (zI what))] [] := by
            intro tt
            induction tt using Nat.strongRecOn with
            | _ tt ih_60 =>
              intro i set itb hi hst ht_60
              refine z_iload C dX4_whatIs_60 0 rfl ?_
              refine z_iload C dX4_whatIs_62 6 rfl ?_
              refine y_if_ne (tgt := 72) C (by omega) dX4_whatIs_64 (by decide) (fun c_64 => ?_) (fun c_64 => ?_)
              · skip
                refine y_bipush C dX4_whatIs_72 (by decide) ?_
                refine y_icmp_ge (tgt := 151) C (by omega) (by omega) dX4_whatIs_74 (by decide) (fun c_74 => ?_) (fun c_74 => ?_)
                · skip
                  refine z_iload C dX4_whatIs_151 1 rfl ?_
                  have hdone : (what = 0 ∧ i = 8) ∨ (¬ what = 0 ∧ i = 10) := by omega
                  exact z_iret C hA hQ rfl (Nat.le_of_ble_eq_true rfl) (Nat.le_of_ble_eq_true rfl) (((.ref c0), 38, itb, (encF n oa dy kd fg hm at_ lg))) ((by unfold oWhatIs; rw [if_pos (by omega), if_neg (by omega)]; simp only [zTN]; rcases hdone with ⟨q1, q2⟩ | ⟨q1, q2⟩; (rw [if_pos q1, ← q2, ← hst]); (rw [if_neg q1, ← q2, ← hst]))) (sb_e [0, 1, 2, 3, 4, 5, 6, 7, 8, 9, 10, 11, 12] rfl rfl) dX4_whatIs_153
                · skip
                  refine z_aload_n C dX4_whatIs_77 rfl 2 rfl ?_
                  refine z_get (q := 0) (kf := 1) (v := .ref g1) C rfl rfl in_X4 (by decide) q1088 (Or.inl rfl) rfl dX4_whatIs_78 ?_
                  refine z_iload_n C dX4_whatIs_81 rfl 4 rfl ?_
                  refine z_iload C dX4_whatIs_82 6 rfl ?_
                  refine y_if_ne (tgt := 92) C (by omega) dX4_whatIs_84 (by decide) (fun c_84 => ?_) (fun c_84 => ?_)
                  · skip
                    refine z_aload_n C dX4_whatIs_92 rfl 2 rfl ?_
                    refine z_get (q := 0) (kf := 1) (v := .ref g1) C rfl rfl in_X4 (by decide) q1088 (Or.inl rfl) rfl dX4_whatIs_93 ?_
                    refine z_iload_n C dX4_whatIs_96 rfl 4 rfl ?_
                    refine y_iald (q := 1) (t0 := 0) (v := (kd j : Int)) C rfl rfl (by omega) (by decide) rfl dX4_whatIs_97 ?_
                    refine y_iast (q := 1) (t0 := 0) (g := fun z_ => (kd z_ : Int)) (ws' := [(m, .inr (11, [.int (zI (n : Int)), .ref g1, .ref g2, .ref g3, .ref g4, .ref g5, .int (zI oa), .int (zI dy), .ref s1, .ref s2, .ref s3, .ref s4, .ref s5, .ref s6, .int (zI 0), .int (zI rdg), .int (zI plc), .int (zI ibd), .int (zI stm), .ref t1, .ref t2, .ref t3, .ref c0, .ref c1, .ref c2, .ref c3, .int (zI him), .int (zI 38), .int (zI itb), .ref c0, .int (zI chd), .int (zI chf), .ref y0, .int (zI sd), .ref y1])), (g1, AI G 7 (fun z_ => (kd z_ : Int))), (g2, AI G 7 fg), (g3, AI G 7 hm), (g4, AI G 7 at_), (g5, AI G 7 lg), (s1, AI G 8 (fun z_ => (hw z_ : Int))), (s2, AI G 8 (fun z_ => (kk z_ : Int))), (s3, AI G 8 kf), (s4, AI G 8 (fun z_ => (rs z_ : Int))), (s5, AI G 8 (fun z_ => (rm z_ : Int))), (s6, AL G 800 rw_), (c0, AI G 38 (encF n oa dy kd fg hm at_ lg))]) C rfl rfl (by omega) (by decide) (by first | exact upN_c | exact va_upS rfl) rfl dX4_whatIs_98 ?_
                    refine z_aload_n C dX4_whatIs_99 rfl 2 rfl ?_
                    refine z_get (q := 0) (kf := 2) (v := .ref g2) C rfl rfl in_X4 (by decide) q1089 (Or.inl rfl) rfl dX4_whatIs_100 ?_
                    refine z_iload_n C dX4_whatIs_103 rfl 4 rfl ?_
                    refine z_iload C dX4_whatIs_104 6 rfl ?_
                    refine y_iconst C dX4_whatIs_106 ?_
                    refine y_icmp_ne (tgt := 115) C (by omega) (by omega) dX4_whatIs_107 (by decide) (fun c_107 => ?_) (fun c_107 => ?_)
                    · skip
                      exfalso; omega
                    · skip
                      refine z_iload C dX4_whatIs_110 0 rfl ?_
                      refine z_goto (tgt := 121) C dX4_whatIs_112 (by decide) ?_
                      refine y_iast (q := 2) (t0 := 0) (g := va_up fg j (i : Int)) (ws' := [(m, .inr (11, [.int (zI (n : Int)), .ref g1, .ref g2, .ref g3, .ref g4, .ref g5, .int (zI oa), .int (zI dy), .ref s1, .ref s2, .ref s3, .ref s4, .ref s5, .ref s6, .int (zI 0), .int (zI rdg), .int (zI plc), .int (zI ibd), .int (zI stm), .ref t1, .ref t2, .ref t3, .ref c0, .ref c1, .ref c2, .ref c3, .int (zI him), .int (zI 38), .int (zI itb), .ref c0, .int (zI chd), .int (zI chf), .ref y0, .int (zI sd), .ref y1])), (g1, AI G 7 (fun z_ => (kd z_ : Int))), (g2, AI G 7 (va_up fg j (i : Int))), (g3, AI G 7 hm), (g4, AI G 7 at_), (g5, AI G 7 lg), (s1, AI G 8 (fun z_ => (hw z_ : Int))), (s2, AI G 8 (fun z_ => (kk z_ : Int))), (s3, AI G 8 kf), (s4, AI G 8 (fun z_ => (rs z_ : Int))), (s5, AI G 8 (fun z_ => (rm z_ : Int))), (s6, AL G 800 rw_), (c0, AI G 38 (encF n oa dy kd fg hm at_ lg))]) C rfl rfl (by omega) (by decide) (by first | rfl | exact va_upS rfl) rfl dX4_whatIs_121 ?_
                      refine z_iload C dX4_whatIs_122 1 rfl ?_
                      refine z_aload_n C dX4_whatIs_124 rfl 2 rfl ?_
                      refine z_iload_n C dX4_whatIs_125 rfl 3 rfl ?_
                      refine z_iload_n C dX4_whatIs_126 rfl 4 rfl ?_
                      refine z_iload_n C dX4_whatIs_127 rfl 5 rfl ?_
                      refine z_i (ws' := fun u => [(m, .inr (11, [.int (zI (n : Int)), .ref g1, .ref g2, .ref g3, .ref g4, .ref g5, .int (zI oa), .int (zI dy), .ref s1, .ref s2, .ref s3, .ref s4, .ref s5, .ref s6, .int (zI 0), .int (zI rdg), .int (zI plc), .int (zI ibd), .int (zI stm), .ref t1, .ref t2, .ref t3, .ref c0, .ref c1, .ref c2, .ref c3, .int (zI him), .int (zI 38), .int (zI 0), .ref c0, .int (zI chd), .int (zI chf), .ref y0, .int (zI sd), .ref y1])), (g1, AI G 7 (fun z_ => (kd z_ : Int))), (g2, AI G 7 fg), (g3, AI G 7 hm), (g4, AI G 7 at_), (g5, AI G 7 lg), (s1, AI G 8 (fun z_ => (hw z_ : Int))), (s2, AI G 8 (fun z_ => (kk z_ : Int))), (s3, AI G 8 kf), (s4, AI G 8 (fun z_ => (rs z_ : Int))), (s5, AI G 8 (fun z_ => (rm z_ : Int))), (s6, AL G 800 rw_), (c0, AI G 38 (encF n oa dy kd fg hm at_ lg))]) C (z_runV (q := 0) (As := [.int (zI (e : Int)), .int (zI (j : Int)), .int (zI yard)]) (rest := [.int set]) C (ct_X4_isRow (zl X) G m g1 g2 g3 g4 g5 s1 s2 s3 s4 s5 s6 t1 t2 t3 c0 c1 c2 c3 y0 y1 0 rdg plc ibd stm him 38 itb chd chf sd (.ref c0) kd (va_up fg j (i : Int)) hm at_ lg n oa dy hw kk rs rm kf rw_ kd fg hm at_ lg n oa dy e j yard ((by first | exact hL.kdu (by omega) | exact hL.fgu (by omega))) (by first | assumption | omega) (by omega) (by omega) (by first | assumption | omega)) (lw_V q1440 q1442 qs51 q61 q1443) rfl rfl (sb_e [0, 1, 2, 3, 4, 5, 6, 7, 8, 9, 10, 11, 12] rfl rfl) (na := 3) (by decide +kernel) rfl (zrm rfl rfl (rfl) (rfl)) rfl (Nat.le_of_ble_eq_true rfl) dX4_whatIs_128) (fun u => jn_e (wr := []) [0, 1, 2, 3, 4, 5, 6, 7, 8, 9, 10, 11, 12] [] [0, 1, 2, 3, 4, 5, 6, 7, 8, 9, 10, 11, 12] rfl rfl rfl (by decide) rfl rfl) (fun r_128 u hp_128 => ?_)
                      have hp_128 : r_128 = zI (rowB (rowF rw_ e) (skZ (rs e)) kd (va_up fg j (i : Int)) hm oa n j yard at_ lg (rm e)) := hp_128
                      subst hp_128
                      rw [show rowB (rowF rw_ e) (skZ (rs e)) kd (va_up fg j (i : Int)) hm oa n j yard at_ lg (rm e) = whtB (rowF rw_ e) (skZ (rs e)) (rm e) kd fg hm oa n j yard at_ lg what i from by unfold whtB; first | rw [if_pos (by omega)] | rw [if_neg (by omega)]]
                      have h01 : whtB (rowF rw_ e) (skZ (rs e)) (rm e) kd fg hm oa n j yard at_ lg what i = 0 ∨ whtB (rowF rw_ e) (skZ (rs e)) (rm e) kd fg hm oa n j yard at_ lg what i = 1 := by unfold whtB; split <;> exact rowB_01 _
                      refine y_if_eq (tgt := 141) C (by omega) dX4_whatIs_131 (by decide) (fun hb0 => ?_) (fun hb0 => ?_)
                      · skip
                        refine y_iconst C dX4_whatIs_141 ?_
                        refine z_ior C dX4_whatIs_142 rfl ?_
                        refine z_istore (lv' := [(6, .int (set ||| (zI 0))), (7, .int (zI (i : Int))), (0, .ref m), (1, .int (zI (e : Int))), (2, .int (zI (j : Int))), (3, .int (zI yard)), (4, .int (zI what))]) C dX4_whatIs_143 (nlt rfl) rfl ?_
                        refine y_iinc (lv' := [(7, .int (zI ((i : Int) + 1))), (6, .int (set ||| (zI 0))), (0, .ref m), (1, .int (zI (e : Int))), (2, .int (zI (j : Int))), (3, .int (zI yard)), (4, .int (zI what))]) C dX4_whatIs_145 (q := 1) rfl (nlt rfl) rfl ?_
                        refine z_goto (tgt := 60) C dX4_whatIs_148 (by decide) ?_
                        exact ih_60 _ (by omega) (i + 1) ((set ||| (zI 0))) 0 (by first | assumption | omega) (by first | (rw [hst]; exact (bitsF_f hb0).symm) | (rw [hst]; exact (bitsF_t hb0).symm)) rfl
                      · skip
                        refine y_iconst C dX4_whatIs_134 ?_
                        refine z_iload C dX4_whatIs_135 0 rfl ?_
                        refine z_ishl C dX4_whatIs_137 rfl ?_
                        refine z_goto (tgt := 142) C dX4_whatIs_138 (by decide) ?_
                        refine z_ior C dX4_whatIs_142 rfl ?_
                        refine z_istore (lv' := [(6, .int (set ||| ((zI 1) <<< ((zI (i : Int)) &&& 31)))), (7, .int (zI (i : Int))), (0, .ref m), (1, .int (zI (e : Int))), (2, .int (zI (j : Int))), (3, .int (zI yard)), (4, .int (zI what))]) C dX4_whatIs_143 (nlt rfl) rfl ?_
                        refine y_iinc (lv' := [(7, .int (zI ((i : Int) + 1))), (6, .int (set ||| ((zI 1) <<< ((zI (i : Int)) &&& 31)))), (0, .ref m), (1, .int (zI (e : Int))), (2, .int (zI (j : Int))), (3, .int (zI yard)), (4, .int (zI what))]) C dX4_whatIs_145 (q := 1) rfl (nlt rfl) rfl ?_
                        refine z_goto (tgt := 60) C dX4_whatIs_148 (by decide) ?_
                        exact ih_60 _ (by omega) (i + 1) ((set ||| ((zI 1) <<< ((zI (i : Int)) &&& 31)))) 0 (by first | assumption | omega) (by first | (rw [hst]; exact (bitsF_f hb0).symm) | (rw [hst]; exact (bitsF_t hb0).symm)) rfl
                  · skip
                    exfalso; omega
              · skip
                refine y_bipush C dX4_whatIs_67 (by decide) ?_
                refine z_goto (tgt := 74) C dX4_whatIs_69 (by decide) ?_
                refine y_icmp_ge (tgt := 151) C (by omega) (by omega) dX4_whatIs_74 (by decide) (fun c_74 => ?_) (fun c_74 => ?_)
                · skip
                  refine z_iload C dX4_whatIs_151 1 rfl ?_
                  have hdone : (what = 0 ∧ i = 8) ∨ (¬ what = 0 ∧ i = 10) := by omega
                  exact z_iret C hA hQ rfl (Nat.le_of_ble_eq_true rfl) (Nat.le_of_ble_eq_true rfl) (((.ref c0), 38, itb, (encF n oa dy kd fg hm at_ lg))) ((by unfold oWhatIs; rw [if_pos (by omega), if_neg (by omega)]; simp only [zTN]; rcases hdone with ⟨q1, q2⟩ | ⟨q1, q2⟩; (rw [if_pos q1, ← q2, ← hst]); (rw [if_neg q1, ← q2, ← hst]))) (sb_e [0, 1, 2, 3, 4, 5, 6, 7, 8, 9, 10, 11, 12] rfl rfl) dX4_whatIs_153
                · skip
                  refine z_aload_n C dX4_whatIs_77 rfl 2 rfl ?_
                  refine z_get (q := 0) (kf := 1) (v := .ref g1) C rfl rfl in_X4 (by decide) q1088 (Or.inl rfl) rfl dX4_whatIs_78 ?_
                  refine z_iload_n C dX4_whatIs_81 rfl 4 rfl ?_
                  refine z_iload C dX4_whatIs_82 6 rfl ?_
                  refine y_if_ne (tgt := 92) C (by omega) dX4_whatIs_84 (by decide) (fun c_84 => ?_) (fun c_84 => ?_)
                  · skip
                    exfalso; omega
                  · skip
                    refine z_iload C dX4_whatIs_87 0 rfl ?_
                    refine z_goto (tgt := 98) C dX4_whatIs_89 (by decide) ?_
                    refine y_iast (q := 1) (t0 := 0) (g := fun z_ => (upN kd j i z_ : Int)) (ws' := [(m, .inr (11, [.int (zI (n : Int)), .ref g1, .ref g2, .ref g3, .ref g4, .ref g5, .int (zI oa), .int (zI dy), .ref s1, .ref s2, .ref s3, .ref s4, .ref s5, .ref s6, .int (zI 0), .int (zI rdg), .int (zI plc), .int (zI ibd), .int (zI stm), .ref t1, .ref t2, .ref t3, .ref c0, .ref c1, .ref c2, .ref c3, .int (zI him), .int (zI 38), .int (zI itb), .ref c0, .int (zI chd), .int (zI chf), .ref y0, .int (zI sd), .ref y1])), (g1, AI G 7 (fun z_ => (upN kd j i z_ : Int))), (g2, AI G 7 fg), (g3, AI G 7 hm), (g4, AI G 7 at_), (g5, AI G 7 lg), (s1, AI G 8 (fun z_ => (hw z_ : Int))), (s2, AI G 8 (fun z_ => (kk z_ : Int))), (s3, AI G 8 kf), (s4, AI G 8 (fun z_ => (rs z_ : Int))), (s5, AI G 8 (fun z_ => (rm z_ : Int))), (s6, AL G 800 rw_), (c0, AI G 38 (encF n oa dy kd fg hm at_ lg))]) C rfl rfl (by omega) (by decide) (by first | exact upN_c | exact va_upS rfl) rfl dX4_whatIs_98 ?_
                    refine z_aload_n C dX4_whatIs_99 rfl 2 rfl ?_
                    refine z_get (q := 0) (kf := 2) (v := .ref g2) C rfl rfl in_X4 (by decide) q1089 (Or.inl rfl) rfl dX4_whatIs_100 ?_
                    refine z_iload_n C dX4_whatIs_103 rfl 4 rfl ?_
                    refine z_iload C dX4_whatIs_104 6 rfl ?_
                    refine y_iconst C dX4_whatIs_106 ?_
                    refine y_icmp_ne (tgt := 115) C (by omega) (by omega) dX4_whatIs_107 (by decide) (fun c_107 => ?_) (fun c_107 => ?_)
                    · skip
                      refine z_aload_n C dX4_whatIs_115 rfl 2 rfl ?_
                      refine z_get (q := 0) (kf := 2) (v := .ref g2) C rfl rfl in_X4 (by decide) q1089 (Or.inl rfl) rfl dX4_whatIs_116 ?_
                      refine z_iload_n C dX4_whatIs_119 rfl 4 rfl ?_
                      refine y_iald (q := 2) (t0 := 0) (v := fg j) C rfl rfl (by omega) (by decide) rfl dX4_whatIs_120 ?_
                      refine y_iast (q := 2) (t0 := 0) (g := fg) (ws' := [(m, .inr (11, [.int (zI (n : Int)), .ref g1, .ref g2, .ref g3, .ref g4, .ref g5, .int (zI oa), .int (zI dy), .ref s1, .ref s2, .ref s3, .ref s4, .ref s5, .ref s6, .int (zI 0), .int (zI rdg), .int (zI plc), .int (zI ibd), .int (zI stm), .ref t1, .ref t2, .ref t3, .ref c0, .ref c1, .ref c2, .ref c3, .int (zI him), .int (zI 38), .int (zI itb), .ref c0, .int (zI chd), .int (zI chf), .ref y0, .int (zI sd), .ref y1])), (g1, AI G 7 (fun z_ => (upN kd j i z_ : Int))), (g2, AI G 7 fg), (g3, AI G 7 hm), (g4, AI G 7 at_), (g5, AI G 7 lg), (s1, AI G 8 (fun z_ => (hw z_ : Int))), (s2, AI G 8 (fun z_ => (kk z_ : Int))), (s3, AI G 8 kf), (s4, AI G 8 (fun z_ => (rs z_ : Int))), (s5, AI G 8 (fun z_ => (rm z_ : Int))), (s6, AL G 800 rw_), (c0, AI G 38 (encF n oa dy kd fg hm at_ lg))]) C rfl rfl (by omega) (by decide) (by first | rfl | exact va_upS rfl) rfl dX4_whatIs_121 ?_
                      refine z_iload C dX4_whatIs_122 1 rfl ?_
                      refine z_aload_n C dX4_whatIs_124 rfl 2 rfl ?_
                      refine z_iload_n C dX4_whatIs_125 rfl 3 rfl ?_
                      refine z_iload_n C dX4_whatIs_126 rfl 4 rfl ?_
                      refine z_iload_n C dX4_whatIs_127 rfl 5 rfl ?_
                      refine z_i (ws' := fun u => [(m, .inr (11, [.int (zI (n : Int)), .ref g1, .ref g2, .ref g3, .ref g4, .ref g5, .int (zI oa), .int (zI dy), .ref s1, .ref s2, .ref s3, .ref s4, .ref s5, .ref s6, .int (zI 0), .int (zI rdg), .int (zI plc), .int (zI ibd), .int (zI stm), .ref t1, .ref t2, .ref t3, .ref c0, .ref c1, .ref c2, .ref c3, .int (zI him), .int (zI 38), .int (zI 0), .ref c0, .int (zI chd), .int (zI chf), .ref y0, .int (zI sd), .ref y1])), (g1, AI G 7 (fun z_ => (kd z_ : Int))), (g2, AI G 7 fg), (g3, AI G 7 hm), (g4, AI G 7 at_), (g5, AI G 7 lg), (s1, AI G 8 (fun z_ => (hw z_ : Int))), (s2, AI G 8 (fun z_ => (kk z_ : Int))), (s3, AI G 8 kf), (s4, AI G 8 (fun z_ => (rs z_ : Int))), (s5, AI G 8 (fun z_ => (rm z_ : Int))), (s6, AL G 800 rw_), (c0, AI G 38 (encF n oa dy kd fg hm at_ lg))]) C (z_runV (q := 0) (As := [.int (zI (e : Int)), .int (zI (j : Int)), .int (zI yard)]) (rest := [.int set]) C (ct_X4_isRow (zl X) G m g1 g2 g3 g4 g5 s1 s2 s3 s4 s5 s6 t1 t2 t3 c0 c1 c2 c3 y0 y1 0 rdg plc ibd stm him 38 itb chd chf sd (.ref c0) (upN kd j i) fg hm at_ lg n oa dy hw kk rs rm kf rw_ kd fg hm at_ lg n oa dy e j yard ((by first | exact hL.kdu (by omega) | exact hL.fgu (by omega))) (by first | assumption | omega) (by omega) (by omega) (by first | assumption | omega)) (lw_V q1440 q1442 qs51 q61 q1443) rfl rfl (sb_e [0, 1, 2, 3, 4, 5, 6, 7, 8, 9, 10, 11, 12] rfl rfl) (na := 3) (by decide +kernel) rfl (zrm rfl rfl (rfl) (rfl)) rfl (Nat.le_of_ble_eq_true rfl) dX4_whatIs_128) (fun u => jn_e (wr := []) [0, 1, 2, 3, 4, 5, 6, 7, 8, 9, 10, 11, 12] [] [0, 1, 2, 3, 4, 5, 6, 7, 8, 9, 10, 11, 12] rfl rfl rfl (by decide) rfl rfl) (fun r_128 u hp_128 => ?_)
                      have hp_128 : r_128 = zI (rowB (rowF rw_ e) (skZ (rs e)) (upN kd j i) fg hm oa n j yard at_ lg (rm e)) := hp_128
                      subst hp_128
                      rw [show rowB (rowF rw_ e) (skZ (rs e)) (upN kd j i) fg hm oa n j yard at_ lg (rm e) = whtB (rowF rw_ e) (skZ (rs e)) (rm e) kd fg hm oa n j yard at_ lg what i from by unfold whtB; first | rw [if_pos (by omega)] | rw [if_neg (by omega)]]
                      have h01 : whtB (rowF rw_ e) (skZ (rs e)) (rm e) kd fg hm oa n j yard at_ lg what i = 0 ∨ whtB (rowF rw_ e) (skZ (rs e)) (rm e) kd fg hm oa n j yard at_ lg what i = 1 := by unfold whtB; split <;> exact rowB_01 _
                      refine y_if_eq (tgt := 141) C (by omega) dX4_whatIs_131 (by decide) (fun hb0 => ?_) (fun hb0 => ?_)
                      · skip
                        refine y_iconst C dX4_whatIs_141 ?_
                        refine z_ior C dX4_whatIs_142 rfl ?_
                        refine z_istore (lv' := [(6, .int (set ||| (zI 0))), (7, .int (zI (i : Int))), (0, .ref m), (1, .int (zI (e : Int))), (2, .int (zI (j : Int))), (3, .int (zI yard)), (4, .int (zI what))]) C dX4_whatIs_143 (nlt rfl) rfl ?_
                        refine y_iinc (lv' := [(7, .int (zI ((i : Int) + 1))), (6, .int (set ||| (zI 0))), (0, .ref m), (1, .int (zI (e : Int))), (2, .int (zI (j : Int))), (3, .int (zI yard)), (4, .int (zI what))]) C dX4_whatIs_145 (q := 1) rfl (nlt rfl) rfl ?_
                        refine z_goto (tgt := 60) C dX4_whatIs_148 (by decide) ?_
                        exact ih_60 _ (by omega) (i + 1) ((set ||| (zI 0))) 0 (by first | assumption | omega) (by first | (rw [hst]; exact (bitsF_f hb0).symm) | (rw [hst]; exact (bitsF_t hb0).symm)) rfl
                      · skip
                        refine y_iconst C dX4_whatIs_134 ?_
                        refine z_iload C dX4_whatIs_135 0 rfl ?_
                        refine z_ishl C dX4_whatIs_137 rfl ?_
                        refine z_goto (tgt := 142) C dX4_whatIs_138 (by decide) ?_
                        refine z_ior C dX4_whatIs_142 rfl ?_
                        refine z_istore (lv' := [(6, .int (set ||| ((zI 1) <<< ((zI (i : Int)) &&& 31)))), (7, .int (zI (i : Int))), (0, .ref m), (1, .int (zI (e : Int))), (2, .int (zI (j : Int))), (3, .int (zI yard)), (4, .int (zI what))]) C dX4_whatIs_143 (nlt rfl) rfl ?_
                        refine y_iinc (lv' := [(7, .int (zI ((i : Int) + 1))), (6, .int (set ||| ((zI 1) <<< ((zI (i : Int)) &&& 31)))), (0, .ref m), (1, .int (zI (e : Int))), (2, .int (zI (j : Int))), (3, .int (zI yard)), (4, .int (zI what))]) C dX4_whatIs_145 (q := 1) rfl (nlt rfl) rfl ?_
                        refine z_goto (tgt := 60) C dX4_whatIs_148 (by decide) ?_
                        exact ih_60 _ (by omega) (i + 1) ((set ||| ((zI 1) <<< ((zI (i : Int)) &&& 31)))) 0 (by first | assumption | omega) (by first | (rw [hst]; exact (bitsF_f hb0).symm) | (rw [hst]; exact (bitsF_t hb0).symm)) rfl
                    · skip
                      exfalso; omega
          refine z_lv (lv' := [(7, .int (zI 0)), (6, .int (zI 0)), (0, .ref m), (1, .int (zI (e : Int))), (2, .int (zI (j : Int))), (3, .int (zI yard)), (4, .int (zI what))]) [0, 1, 3, 4, 5, 6, 7] rfl ?_
          exact L_60 _ 0 (zI 0) 1 (by first | assumption | omega) (rfl) rfl
        · skip
          refine z_iload C dX4_whatIs_47 0 rfl ?_
          exact z_iret C hA hQ rfl (Nat.le_of_ble_eq_true rfl) (Nat.le_of_ble_eq_true rfl) ((ki, pl0, itk, kc)) ((by unfold oWhatIs; repeat (first | rw [if_pos (by omega)] | rw [if_neg (by omega)]))) (sb_e [0, 1, 2, 3, 4, 5, 6, 7, 8, 9, 10, 11, 12] rfl rfl) dX4_whatIs_49

/-- whether the row's k-th element is not all longing behind k days -/
def jdP (f : Nat → Int) (sk : Int) (kd : Nat → Nat) (fg hm at_ lg : Nat → Int) (n : Nat) (oa : Int) (k : Nat) : Bool := decide (¬ (f k = sk ∨ f k = sumL (goL kd fg hm at_ oa n k lg) n))
def oJudge (kd : Nat → Nat) (fg : Nat → Int) (hm : Nat → Int) (at_ : Nat → Int) (lg : Nat → Int) (n : Nat) (oa : Int) (hw : Nat → Nat) (kk : Nat → Nat) (rs : Nat → Nat) (rm : Nat → Nat) (kf : Nat → Int) (rw_ : Nat → Int) (d : Int) : Int := if wrZ hw d < 0 then wrZ hw d else firstF (jdP (rowF rw_ d.toNat) (skZ (rs d.toNat)) kd fg hm at_ lg n oa) (rm d.toNat)
set_option maxHeartbeats 4000000 in
theorem ct_X4_judge (l : Launch) (G : ZG) (m : Nat) (g1 : Nat) (g2 : Nat) (g3 : Nat) (g4 : Nat) (g5 : Nat) (s1 : Nat) (s2 : Nat) (s3 : Nat) (s4 : Nat) (s5 : Nat) (s6 : Nat) (t1 : Nat) (t2 : Nat) (t3 : Nat) (c0 : Nat) (c1 : Nat) (c2 : Nat) (c3 : Nat) (y0 : Nat) (y1 : Nat) (thr : Int) (rdg : Int) (plc : Int) (ibd : Int) (stm : Int) (him : Int) (pl0 : Int) (itk : Int) (chd : Int) (chf : Int) (sd : Int) (ki : Value) (kd : Nat → Nat) (fg : Nat → Int) (hm : Nat → Int) (at_ : Nat → Int) (lg : Nat → Int) (n : Nat) (oa : Int) (dy : Int) (kc : Nat → Int) (hw : Nat → Nat) (kk : Nat → Nat) (rs : Nat → Nat) (rm : Nat → Nat) (kf : Nat → Int) (rw_ : Nat → Int) (d : Int) (hL : LK n kd fg hm at_ lg oa) (hS : SK hw kk rs rm kf rw_) (rd : -2147483648 ≤ d ∧ d ≤ 2147483647) : CT l yX4_judge cX4_judge 7 (some .int) { frames := 4, cells := 0, slots := 0, locals := 91 } G [.ref m, .int (zI d)] [(m, .inr (11, [.int (zI (n : Int)), .ref g1, .ref g2, .ref g3, .ref g4, .ref g5, .int (zI oa), .int (zI dy), .ref s1, .ref s2, .ref s3, .ref s4, .ref s5, .ref s6, .int (zI thr), .int (zI rdg), .int (zI plc), .int (zI ibd), .int (zI stm), .ref t1, .ref t2, .ref t3, .ref c0, .ref c1, .ref c2, .ref c3, .int (zI him), .int (zI pl0), .int (zI itk), ki, .int (zI chd), .int (zI chf), .ref y0, .int (zI sd), .ref y1])), (g1, AI G 7 (fun z_ => (kd z_ : Int))), (g2, AI G 7 fg), (g3, AI G 7 hm), (g4, AI G 7 at_), (g5, AI G 7 lg), (s1, AI G 8 (fun z_ => (hw z_ : Int))), (s2, AI G 8 (fun z_ => (kk z_ : Int))), (s3, AI G 8 kf), (s4, AI G 8 (fun z_ => (rs z_ : Int))), (s5, AI G 8 (fun z_ => (rm z_ : Int))), (s6, AL G 800 rw_), (c0, AI G 38 kc)] (Qi G [(m, .inr (11, [.int (zI (n : Int)), .ref g1, .ref g2, .ref g3, .ref g4, .ref g5, .int (zI oa), .int (zI dy), .ref s1, .ref s2, .ref s3, .ref s4, .ref s5, .ref s6, .int (zI thr), .int (zI rdg), .int (zI plc), .int (zI ibd), .int (zI stm), .ref t1, .ref t2, .ref t3, .ref c0, .ref c1, .ref c2, .ref c3, .int (zI him), .int (zI pl0), .int (zI itk), ki, .int (zI chd), .int (zI chf), .ref y0, .int (zI sd), .ref y1])), (g1, AI G 7 (fun z_ => (kd z_ : Int))), (g2, AI G 7 fg), (g3, AI G 7 hm), (g4, AI G 7 at_), (g5, AI G 7 lg), (s1, AI G 8 (fun z_ => (hw z_ : Int))), (s2, AI G 8 (fun z_ => (kk z_ : Int))), (s3, AI G 8 kf), (s4, AI G 8 (fun z_ => (rs z_ : Int))), (s5, AI G 8 (fun z_ => (rm z_ : Int))), (s6, AL G 800 rw_), (c0, AI G 38 kc)] (fun (r : Int32) (u : Value × Int × Int × (Nat → Int)) => r = zI (oJudge kd fg hm at_ lg n oa hw kk rs rm kf rw_ d)) (fun u => [(m, .inr (11, [.int (zI (n : Int)), .ref g1, .ref g2, .ref g3, .ref g4, .ref g5, .int (zI oa), .int (zI dy), .ref s1, .ref s2, .ref s3, .ref s4, .ref s5, .ref s6, .int (zI 0), .int (zI rdg), .int (zI plc), .int (zI ibd), .int (zI stm), .ref t1, .ref t2, .ref t3, .ref c0, .ref c1, .ref c2, .ref c3, .int (zI him), .int (zI u.2.1), .int (zI u.2.2.1), u.1, .int (zI chd), .int (zI chf), .ref y0, .int (zI sd), .ref y1])), (g1, AI G 7 (fun z_ => (kd z_ : Int))), (g2, AI G 7 fg), (g3, AI G 7 hm), (g4, AI G 7 at_), (g5, AI G 7 lg), (s1, AI G 8 (fun z_ => (hw z_ : Int))), (s2, AI G 8 (fun z_ => (kk z_ : Int))), (s3, AI G 8 kf), (s4, AI G 8 (fun z_ => (rs z_ : Int))), (s5, AI G 8 (fun z_ => (rm z_ : Int))), (s6, AL G 800 rw_), (c0, AI G 38 u.2.2.2)])) := by
  refine z_met (by decide) (Nat.le_of_ble_eq_true rfl) ?_
  intro X A hl0 hA C hQ hin
  subst hl0
  obtain ⟨hn7, hoa, hLj⟩ := id hL
  show Z X _ G 0 0 _ 0 [(0, .ref m), (1, .int (zI d))] []
  refine z_aload_n C dX4_judge_0 rfl 0 rfl ?_
  refine y_iconst C dX4_judge_1 ?_
  refine z_put (q := 0) (kf := 14) (ws' := [(m, .inr (11, [.int (zI (n : Int)), .ref g1, .ref g2, .ref g3, .ref g4, .ref g5, .int (zI oa), .int (zI dy), .ref s1, .ref s2, .ref s3, .ref s4, .ref s5, .ref s6, .int (zI 0), .int (zI rdg), .int (zI plc), .int (zI ibd), .int (zI stm), .ref t1, .ref t2, .ref t3, .ref c0, .ref c1, .ref c2, .ref c3, .int (zI him), .int (zI pl0), .int (zI itk), ki, .int (zI chd), .int (zI chf), .ref y0, .int (zI sd), .ref y1])), (g1, AI G 7 (fun z_ => (kd z_ : Int))), (g2, AI G 7 fg), (g3, AI G 7 hm), (g4, AI G 7 at_), (g5, AI G 7 lg), (s1, AI G 8 (fun z_ => (hw z_ : Int))), (s2, AI G 8 (fun z_ => (kk z_ : Int))), (s3, AI G 8 kf), (s4, AI G 8 (fun z_ => (rs z_ : Int))), (s5, AI G 8 (fun z_ => (rm z_ : Int))), (s6, AL G 800 rw_), (c0, AI G 38 kc)]) C rfl rfl in_X4 tyX4_ok nmX4 (by decide) q1101 rfl rfl rfl rfl rfl (nlt rfl) rfl dX4_judge_2 ?_
  refine z_aload_n C dX4_judge_5 rfl 0 rfl ?_
  refine z_iload_n C dX4_judge_6 rfl 1 rfl ?_
  refine z_i C (z_runV (q := 0) (As := [.int (zI d)]) (rest := []) C (ct_X4_wrongRow (zl X) G m g1 g2 g3 g4 g5 s1 s2 s3 s4 s5 s6 t1 t2 t3 c0 c1 c2 c3 y0 y1 0 rdg plc ibd stm him pl0 itk chd chf sd ki n oa dy hw kk rs rm kf rw_ d (by first | assumption | omega) (by first | assumption | omega)) (lw_V q1202 q1204 qs23 q61 q1205) rfl rfl (sb_e [0, 6, 7, 8, 9, 10, 11] rfl rfl) (na := 1) (by decide +kernel) rfl (zrm rfl rfl (rfl) (rfl)) rfl (Nat.le_of_ble_eq_true rfl) dX4_judge_7) (fun u => jn_ro (sb_e [0, 6, 7, 8, 9, 10, 11] rfl rfl)) (fun r_7 u hp_7 => ?_)
  have hp_7 : r_7 = zI (wrZ hw d) := hp_7
  subst hp_7
  have hwr := wrZ_r hw d
  refine z_istore_n (lv' := [(2, .int (zI (wrZ hw d))), (0, .ref m), (1, .int (zI d))]) C dX4_judge_10 rfl (nlt rfl) rfl ?_
  refine z_iload_n C dX4_judge_11 rfl 0 rfl ?_
  refine y_if_ge (tgt := 17) C (by omega) dX4_judge_12 (by decide) (fun c_12 => ?_) (fun c_12 => ?_)
  · skip
    obtain ⟨hd1, hd2⟩ := wrZ_0 (hw := hw) (d := d) (by omega)
    obtain ⟨e, rfl⟩ := Int.eq_ofNat_of_zero_le (show 0 ≤ d by omega)
    simp only [zTN] at hd2
    obtain ⟨hS1, hS2⟩ := id hS
    have hSe := hS1 e (by omega)
    refine y_bipush C dX4_judge_17 (by decide) ?_
    refine z_istore_n (lv' := [(3, .int (zI (-4))), (2, .int (zI (wrZ hw (e : Int)))), (0, .ref m), (1, .int (zI (e : Int)))]) C dX4_judge_19 rfl (nlt rfl) rfl ?_
    refine z_aload_n C dX4_judge_20 rfl 2 rfl ?_
    refine z_v (ws' := fun u => [(m, .inr (11, [.int (zI (n : Int)), .ref g1, .ref g2, .ref g3, .ref g4, .ref g5, .int (zI oa), .int (zI dy), .ref s1, .ref s2, .ref s3, .ref s4, .ref s5, .ref s6, .int (zI 0), .int (zI rdg), .int (zI plc), .int (zI ibd), .int (zI stm), .ref t1, .ref t2, .ref t3, .ref c0, .ref c1, .ref c2, .ref c3, .int (zI him), .int (zI 38), .int (zI 1), .ref c0, .int (zI chd), .int (zI chf), .ref y0, .int (zI sd), .ref y1])), (g1, AI G 7 (fun z_ => (kd z_ : Int))), (g2, AI G 7 fg), (g3, AI G 7 hm), (g4, AI G 7 at_), (g5, AI G 7 lg), (s1, AI G 8 (fun z_ => (hw z_ : Int))), (s2, AI G 8 (fun z_ => (kk z_ : Int))), (s3, AI G 8 kf), (s4, AI G 8 (fun z_ => (rs z_ : Int))), (s5, AI G 8 (fun z_ => (rm z_ : Int))), (s6, AL G 800 rw_), (c0, AI G 38 (encF n oa dy kd fg hm at_ lg))]) C (z_runV (q := 0) (As := []) (rest := []) C (ct_X4_open (zl X) G m g1 g2 g3 g4 g5 s1 s2 s3 s4 s5 s6 t1 t2 t3 c0 c1 c2 c3 y0 y1 0 rdg plc ibd stm him pl0 itk chd chf sd ki kd fg hm at_ lg n oa dy kc ) (lw_V q1231 q1233 qs28 q61 q1234) rfl rfl (sb_e [0, 1, 2, 3, 4, 5, 12] rfl rfl) (na := 0) (by decide +kernel) rfl (zrm rfl rfl (rfl) (rfl)) rfl (Nat.le_of_ble_eq_true rfl) dX4_judge_21) (fun u => jn_e (wr := [(s1, AI G 8 (fun z_ => (hw z_ : Int))), (s2, AI G 8 (fun z_ => (kk z_ : Int))), (s3, AI G 8 kf), (s4, AI G 8 (fun z_ => (rs z_ : Int))), (s5, AI G 8 (fun z_ => (rm z_ : Int))), (s6, AL G 800 rw_)]) [0, 1, 2, 3, 4, 5, 12] [6, 7, 8, 9, 10, 11] [6, 7, 8, 9, 10, 11, 0, 1, 2, 3, 4, 5, 12] rfl rfl rfl (by decide) rfl rfl) (fun u hp_21 => ?_)
    refine y_iconst C dX4_judge_24 ?_
    refine z_istore (lv' := [(4, .int (zI 0)), (3, .int (zI (-4))), (2, .int (zI (wrZ hw (e : Int)))), (0, .ref m), (1, .int (zI (e : Int)))]) C dX4_judge_25 (nlt rfl) rfl ?_
    have L_27 : ∀ (tt : Nat) (k : Nat) (fnd : Int) (mdy : Int), (k ≤ rm e) → (FI (jdP (rowF rw_ e) (skZ (rs e)) kd fg hm at_ lg n oa) k fnd) → rm e - k = tt → Z X (cX4_judge, 7, yX4_judge.cls, (some .int), { frames := 4, cells := 0, slots := 0, locals := 91 }, A) G 0 0 [(m, .inr (11, [.int (zI (n : Int)), .ref g1, .ref g2, .ref g3, .ref g4, .ref g5, .int (zI oa), .int (zI mdy), .ref s1, .ref s2, .ref s3, .ref s4, .ref s5, .ref s6, .int (zI 0), .int (zI rdg), .int (zI plc), .int (zI ibd), .int (zI stm), .ref t1, .ref t2, .ref t3, .ref c0, .ref c1, .ref c2, .ref c3, .int (zI him), .int (zI 38), .int (zI 1), .ref c0, .int (zI chd), .int (zI chf), .ref y0, .int (zI sd), .ref y1])), (g1, AI G 7 (fun z_ => (kd z_ : Int))), (g2, AI G 7 fg), (g3, AI G 7 hm), (g4, AI G 7 at_), (g5, AI G 7 (goL kd fg hm at_ oa n k lg)), (s1, AI G 8 (fun z_ => (hw z_ : Int))), (s2, AI G 8 (fun z_ => (kk z_ : Int))), (s3, AI G 8 kf), (s4, AI G 8 (fun z_ => (rs z_ : Int))), (s5, AI G 8 (fun z_ => (rm z_ : Int))), (s6, AL G 800 rw_), (c0, AI G 38 (encF n oa dy kd fg hm at_ lg))] 27 [(4, .int (zI (k : Int))), (3, .int (zI fnd)), (0, .ref m), (1, .int (zI (e : Int)))] [] := by
      intro tt
      induction tt using Nat.strongRecOn with
      | _ tt ih_27 =>
        intro k fnd mdy hk0 hfi ht_27
        have hfb := FI_b hfi
        have hsk := skZ_r (rs e)
        have hrv := hS2 (100 * e + k)
        have hsl := (hL.go k).sum
        refine z_iload C dX4_judge_27 0 rfl ?_
        refine z_aload_n C dX4_judge_29 rfl 2 rfl ?_
        refine z_get (q := 0) (kf := 12) (v := .ref s5) C rfl rfl in_X4 (by decide) q1099 (Or.inl rfl) rfl dX4_judge_30 ?_
        refine z_iload_n C dX4_judge_33 rfl 3 rfl ?_
        refine y_iald (q := 10) (t0 := 0) (v := (rm e : Int)) C rfl rfl (by omega) (by decide) rfl dX4_judge_34 ?_
        refine y_icmp_ge (tgt := 97) C (by omega) (by omega) dX4_judge_35 (by decide) (fun c_35 => ?_) (fun c_35 => ?_)
        · skip
          refine z_aload_n C dX4_judge_97 rfl 2 rfl ?_
          refine z_v (ws' := fun u => [(m, .inr (11, [.int (zI (n : Int)), .ref g1, .ref g2, .ref g3, .ref g4, .ref g5, .int (zI oa), .int (zI dy), .ref s1, .ref s2, .ref s3, .ref s4, .ref s5, .ref s6, .int (zI 0), .int (zI rdg), .int (zI plc), .int (zI ibd), .int (zI stm), .ref t1, .ref t2, .ref t3, .ref c0, .ref c1, .ref c2, .ref c3, .int (zI him), .int (zI 38), .int (zI 0), .ref c0, .int (zI chd), .int (zI chf), .ref y0, .int (zI sd), .ref y1])), (g1, AI G 7 (fun z_ => (kd z_ : Int))), (g2, AI G 7 fg), (g3, AI G 7 hm), (g4, AI G 7 at_), (g5, AI G 7 lg), (s1, AI G 8 (fun z_ => (hw z_ : Int))), (s2, AI G 8 (fun z_ => (kk z_ : Int))), (s3, AI G 8 kf), (s4, AI G 8 (fun z_ => (rs z_ : Int))), (s5, AI G 8 (fun z_ => (rm z_ : Int))), (s6, AL G 800 rw_), (c0, AI G 38 (encF n oa dy kd fg hm at_ lg))]) C (z_runV (q := 0) (As := []) (rest := []) C (ct_X4_close (zl X) G m g1 g2 g3 g4 g5 s1 s2 s3 s4 s5 s6 t1 t2 t3 c0 c1 c2 c3 y0 y1 0 rdg plc ibd stm him 38 1 chd chf sd (.ref c0) (fun z_ => (kd z_ : Int)) fg hm at_ (goL kd fg hm at_ oa n k lg) n oa mdy kd fg hm at_ lg n oa dy ) (lw_V q1302 q1304 qs43 q61 q1305) rfl rfl (sb_e [0, 1, 2, 3, 4, 5, 12] rfl rfl) (na := 0) (by decide +kernel) rfl (zrm rfl rfl (rfl) (rfl)) rfl (Nat.le_of_ble_eq_true rfl) dX4_judge_98) (fun u => jn_e (wr := [(s1, AI G 8 (fun z_ => (hw z_ : Int))), (s2, AI G 8 (fun z_ => (kk z_ : Int))), (s3, AI G 8 kf), (s4, AI G 8 (fun z_ => (rs z_ : Int))), (s5, AI G 8 (fun z_ => (rm z_ : Int))), (s6, AL G 800 rw_)]) [0, 1, 2, 3, 4, 5, 12] [6, 7, 8, 9, 10, 11] [6, 7, 8, 9, 10, 11, 0, 1, 2, 3, 4, 5, 12] rfl rfl rfl (by decide) rfl rfl) (fun u hp_98 => ?_)
          refine z_iload_n C dX4_judge_101 rfl 1 rfl ?_
          exact z_iret C hA hQ rfl (Nat.le_of_ble_eq_true rfl) (Nat.le_of_ble_eq_true rfl) (((.ref c0), 38, 0, (encF n oa dy kd fg hm at_ lg))) (congrArg zI (by unfold oJudge; rw [if_neg (by omega)]; simp only [zTN]; exact (FI_e hfi hk0 (by omega)).symm)) (sb_e [0, 1, 2, 3, 4, 5, 6, 7, 8, 9, 10, 11, 12] rfl rfl) dX4_judge_102
        · skip
          refine z_iload_n C dX4_judge_38 rfl 1 rfl ?_
          refine y_if_ge (tgt := 97) C (by omega) dX4_judge_39 (by decide) (fun c_39 => ?_) (fun c_39 => ?_)
          · skip
            refine z_aload_n C dX4_judge_97 rfl 2 rfl ?_
            refine z_v (ws' := fun u => [(m, .inr (11, [.int (zI (n : Int)), .ref g1, .ref g2, .ref g3, .ref g4, .ref g5, .int (zI oa), .int (zI dy), .ref s1, .ref s2, .ref s3, .ref s4, .ref s5, .ref s6, .int (zI 0), .int (zI rdg), .int (zI plc), .int (zI ibd), .int (zI stm), .ref t1, .ref t2, .ref t3, .ref c0, .ref c1, .ref c2, .ref c3, .int (zI him), .int (zI 38), .int (zI 0), .ref c0, .int (zI chd), .int (zI chf), .ref y0, .int (zI sd), .ref y1])), (g1, AI G 7 (fun z_ => (kd z_ : Int))), (g2, AI G 7 fg), (g3, AI G 7 hm), (g4, AI G 7 at_), (g5, AI G 7 lg), (s1, AI G 8 (fun z_ => (hw z_ : Int))), (s2, AI G 8 (fun z_ => (kk z_ : Int))), (s3, AI G 8 kf), (s4, AI G 8 (fun z_ => (rs z_ : Int))), (s5, AI G 8 (fun z_ => (rm z_ : Int))), (s6, AL G 800 rw_), (c0, AI G 38 (encF n oa dy kd fg hm at_ lg))]) C (z_runV (q := 0) (As := []) (rest := []) C (ct_X4_close (zl X) G m g1 g2 g3 g4 g5 s1 s2 s3 s4 s5 s6 t1 t2 t3 c0 c1 c2 c3 y0 y1 0 rdg plc ibd stm him 38 1 chd chf sd (.ref c0) (fun z_ => (kd z_ : Int)) fg hm at_ (goL kd fg hm at_ oa n k lg) n oa mdy kd fg hm at_ lg n oa dy ) (lw_V q1302 q1304 qs43 q61 q1305) rfl rfl (sb_e [0, 1, 2, 3, 4, 5, 12] rfl rfl) (na := 0) (by decide +kernel) rfl (zrm rfl rfl (rfl) (rfl)) rfl (Nat.le_of_ble_eq_true rfl) dX4_judge_98) (fun u => jn_e (wr := [(s1, AI G 8 (fun z_ => (hw z_ : Int))), (s2, AI G 8 (fun z_ => (kk z_ : Int))), (s3, AI G 8 kf), (s4, AI G 8 (fun z_ => (rs z_ : Int))), (s5, AI G 8 (fun z_ => (rm z_ : Int))), (s6, AL G 800 rw_)]) [0, 1, 2, 3, 4, 5, 12] [6, 7, 8, 9, 10, 11] [6, 7, 8, 9, 10, 11, 0, 1, 2, 3, 4, 5, 12] rfl rfl rfl (by decide) rfl rfl) (fun u hp_98 => ?_)
            refine z_iload_n C dX4_judge_101 rfl 1 rfl ?_
            exact z_iret C hA hQ rfl (Nat.le_of_ble_eq_true rfl) (Nat.le_of_ble_eq_true rfl) (((.ref c0), 38, 0, (encF n oa dy kd fg hm at_ lg))) (congrArg zI (by unfold oJudge; rw [if_neg (by omega)]; simp only [zTN]; exact (FI_e hfi hk0 (by omega)).symm)) (sb_e [0, 1, 2, 3, 4, 5, 6, 7, 8, 9, 10, 11, 12] rfl rfl) dX4_judge_102
          · skip
            refine z_aload_n C dX4_judge_42 rfl 2 rfl ?_
            refine z_get (q := 0) (kf := 13) (v := .ref s6) C rfl rfl in_X4 (by decide) q1100 (Or.inl rfl) rfl dX4_judge_43 ?_
            refine y_bipush C dX4_judge_46 (by decide) ?_
            refine z_iload_n C dX4_judge_48 rfl 3 rfl ?_
            refine y_imul C dX4_judge_49 ?_
            refine z_iload C dX4_judge_50 0 rfl ?_
            refine y_iadd C dX4_judge_52 ?_
            refine y_lald (q := 11) (t0 := 1) (v := rw_ (100 * e + k)) C rfl rfl (by omega) (by decide) (by rw [show (100 * (e : Int) + (k : Int)).toNat = 100 * e + k by omega]) dX4_judge_53 ?_
            refine z_lstore (lv' := [(5, .long (zL (rw_ (100 * e + k)))), (4, .int (zI (k : Int))), (3, .int (zI fnd)), (0, .ref m), (1, .int (zI (e : Int)))]) C dX4_judge_54 (nlt rfl) rfl ?_
            refine z_lload C dX4_judge_56 0 rfl ?_
            refine z_aload_n C dX4_judge_58 rfl 3 rfl ?_
            refine z_iload_n C dX4_judge_59 rfl 4 rfl ?_
            refine z_l C (z_runV (q := 0) (As := [.int (zI (e : Int))]) (rest := [.long (zL (rw_ (100 * e + k)))]) C (ct_X4_skipped (zl X) G m g1 g2 g3 g4 g5 s1 s2 s3 s4 s5 s6 t1 t2 t3 c0 c1 c2 c3 y0 y1 0 rdg plc ibd stm him 38 1 chd chf sd (.ref c0) n oa mdy hw kk rs rm kf rw_ e (by first | assumption | omega) (by omega)) (lw_V q1444 q1446 qs52 q61 q1447) rfl rfl (sb_e [0, 6, 7, 8, 9, 10, 11] rfl rfl) (na := 1) (by decide +kernel) rfl (zrm rfl rfl (rfl) (rfl)) rfl (Nat.le_of_ble_eq_true rfl) dX4_judge_60) (fun u => jn_ro (sb_e [0, 6, 7, 8, 9, 10, 11] rfl rfl)) (fun r_60 u hp_60 => ?_)
            have hp_60 : r_60 = zL (skZ (rs e)) := hp_60
            subst hp_60
            refine y_lcmp C (by omega) (by omega) dX4_judge_63 ?_
            refine y_if_eq (tgt := 78) C (by have := lcmpZ_r (rw_ (100 * e + k)) (skZ (rs e)); omega) dX4_judge_64 (by decide) (fun c_64 => ?_) (fun c_64 => ?_)
            · skip
              refine y_bipush C dX4_judge_78 (by decide) ?_
              refine z_goto (tgt := 85) C dX4_judge_80 (by decide) ?_
              have hnew : FI (jdP (rowF rw_ e) (skZ (rs e)) kd fg hm at_ lg n oa) (k + 1) ((-4)) := by
                first
                | exact FI_f hfi (by omega) (by unfold jdP; exact decide_eq_false (fun z => z (by first | exact Or.inl ((lcmpZ_eq _ _).mp c_64) | exact Or.inr ((lcmpZ_eq _ _).mp c_75))))
                | exact FI_t hfi (by omega) (by unfold jdP; exact decide_eq_true (fun z => by
                    rcases z with z | z
                    · exact c_64 ((lcmpZ_eq _ _).mpr z)
                    · exact c_75 ((lcmpZ_eq _ _).mpr z)))
              refine z_istore_n (lv' := [(3, .int (zI (-4))), (5, .long (zL (rw_ (100 * e + k)))), (4, .int (zI (k : Int))), (0, .ref m), (1, .int (zI (e : Int)))]) C dX4_judge_85 rfl (nlt rfl) rfl ?_
              refine z_aload_n C dX4_judge_86 rfl 3 rfl ?_
              refine y_iconst C dX4_judge_87 ?_
              refine z_v (ws' := fun u => [(m, .inr (11, [.int (zI (n : Int)), .ref g1, .ref g2, .ref g3, .ref g4, .ref g5, .int (zI oa), .int (zI (mdy + 1)), .ref s1, .ref s2, .ref s3, .ref s4, .ref s5, .ref s6, .int (zI 0), .int (zI rdg), .int (zI plc), .int (zI ibd), .int (zI stm), .ref t1, .ref t2, .ref t3, .ref c0, .ref c1, .ref c2, .ref c3, .int (zI him), .int (zI 38), .int (zI 1), .ref c0, .int (zI chd), .int (zI chf), .ref y0, .int (zI sd), .ref y1])), (g1, AI G 7 (fun z_ => (kd z_ : Int))), (g2, AI G 7 fg), (g3, AI G 7 hm), (g4, AI G 7 at_), (g5, AI G 7 (dayB 0 kd fg hm at_ oa n (goL kd fg hm at_ oa n k lg))), (s1, AI G 8 (fun z_ => (hw z_ : Int))), (s2, AI G 8 (fun z_ => (kk z_ : Int))), (s3, AI G 8 kf), (s4, AI G 8 (fun z_ => (rs z_ : Int))), (s5, AI G 8 (fun z_ => (rm z_ : Int))), (s6, AL G 800 rw_), (c0, AI G 38 (encF n oa dy kd fg hm at_ lg))]) C (z_runV (q := 0) (As := [.int (zI 0)]) (rest := []) C (ct_X4_dayBy (zl X) G m g1 g2 g3 g4 g5 kd fg hm at_ (goL kd fg hm at_ oa n k lg) n oa mdy ([.ref s1, .ref s2, .ref s3, .ref s4, .ref s5, .ref s6, .int (zI 0), .int (zI rdg), .int (zI plc), .int (zI ibd), .int (zI stm), .ref t1, .ref t2, .ref t3, .ref c0, .ref c1, .ref c2, .ref c3, .int (zI him), .int (zI 38), .int (zI 1), .ref c0, .int (zI chd), .int (zI chf), .ref y0, .int (zI sd), .ref y1]) 0 (hL.go k) (by omega)) (lw_V q1285 q1287 qs39 q61 q1288) rfl rfl (sb_e [0, 1, 2, 3, 4, 5] rfl rfl) (na := 1) (by decide +kernel) rfl (zrm rfl rfl (rfl) (rfl)) rfl (Nat.le_of_ble_eq_true rfl) dX4_judge_88) (fun u => jn_e (wr := [(s1, AI G 8 (fun z_ => (hw z_ : Int))), (s2, AI G 8 (fun z_ => (kk z_ : Int))), (s3, AI G 8 kf), (s4, AI G 8 (fun z_ => (rs z_ : Int))), (s5, AI G 8 (fun z_ => (rm z_ : Int))), (s6, AL G 800 rw_), (c0, AI G 38 (encF n oa dy kd fg hm at_ lg))]) [0, 1, 2, 3, 4, 5] [6, 7, 8, 9, 10, 11, 12] [7, 8, 9, 10, 11, 12, 0, 1, 2, 3, 4, 5, 6] rfl rfl rfl (by decide) rfl rfl) (fun u hp_88 => ?_)
              rw [show dayB 0 kd fg hm at_ oa n (goL kd fg hm at_ oa n k lg) = goL kd fg hm at_ oa n (k + 1) lg from rfl]
              refine y_iinc (lv' := [(4, .int (zI ((k : Int) + 1))), (3, .int (zI (-4))), (5, .long (zL (rw_ (100 * e + k)))), (0, .ref m), (1, .int (zI (e : Int)))]) C dX4_judge_91 (q := 2) rfl (nlt rfl) rfl ?_
              refine z_goto (tgt := 27) C dX4_judge_94 (by decide) ?_
              refine z_lv (lv' := [(4, .int (zI ((k : Int) + 1))), (3, .int (zI (-4))), (0, .ref m), (1, .int (zI (e : Int)))]) [0, 1, 3, 4] rfl ?_
              exact ih_27 _ (by omega) (k + 1) (-4) (mdy + 1) (by first | assumption | omega) (hnew) rfl
            · skip
              refine z_lload C dX4_judge_67 0 rfl ?_
              refine z_aload_n C dX4_judge_69 rfl 3 rfl ?_
              refine z_i C (z_runV (q := 0) (As := []) (rest := [.long (zL (rw_ (100 * e + k)))]) C (ct_X4_allLonging (zl X) G m g1 g2 g3 g4 g5 kd fg hm at_ (goL kd fg hm at_ oa n k lg) n oa mdy ([.ref s1, .ref s2, .ref s3, .ref s4, .ref s5, .ref s6, .int (zI 0), .int (zI rdg), .int (zI plc), .int (zI ibd), .int (zI stm), .ref t1, .ref t2, .ref t3, .ref c0, .ref c1, .ref c2, .ref c3, .int (zI him), .int (zI 38), .int (zI 1), .ref c0, .int (zI chd), .int (zI chf), .ref y0, .int (zI sd), .ref y1]) (hL.go k)) (lw_V q1347 q1349 qs45 q61 q1350) rfl rfl (sb_e [0, 1, 2, 3, 4, 5] rfl rfl) (na := 0) (by decide +kernel) rfl (zrm rfl rfl (rfl) (rfl)) rfl (Nat.le_of_ble_eq_true rfl) dX4_judge_70) (fun u => jn_ro (sb_e [0, 1, 2, 3, 4, 5] rfl rfl)) (fun r_70 u hp_70 => ?_)
              have hp_70 : r_70 = zI (sumL (goL kd fg hm at_ oa n k lg) n) := hp_70
              subst hp_70
              refine y_i2l C (by omega) dX4_judge_73 ?_
              refine y_lcmp C (by omega) (by omega) dX4_judge_74 ?_
              refine y_if_ne (tgt := 83) C (by have := lcmpZ_r (rw_ (100 * e + k)) (sumL (goL kd fg hm at_ oa n k lg) n); omega) dX4_judge_75 (by decide) (fun c_75 => ?_) (fun c_75 => ?_)
              · skip
                refine z_iload C dX4_judge_83 1 rfl ?_
                have hnew : FI (jdP (rowF rw_ e) (skZ (rs e)) kd fg hm at_ lg n oa) (k + 1) ((k : Int)) := by
                  first
                  | exact FI_f hfi (by omega) (by unfold jdP; exact decide_eq_false (fun z => z (by first | exact Or.inl ((lcmpZ_eq _ _).mp c_64) | exact Or.inr ((lcmpZ_eq _ _).mp c_75))))
                  | exact FI_t hfi (by omega) (by unfold jdP; exact decide_eq_true (fun z => by
                      rcases z with z | z
                      · exact c_64 ((lcmpZ_eq _ _).mpr z)
                      · exact c_75 ((lcmpZ_eq _ _).mpr z)))
                refine z_istore_n (lv' := [(3, .int (zI (k : Int))), (5, .long (zL (rw_ (100 * e + k)))), (4, .int (zI (k : Int))), (0, .ref m), (1, .int (zI (e : Int)))]) C dX4_judge_85 rfl (nlt rfl) rfl ?_
                refine z_aload_n C dX4_judge_86 rfl 3 rfl ?_
                refine y_iconst C dX4_judge_87 ?_
                refine z_v (ws' := fun u => [(m, .inr (11, [.int (zI (n : Int)), .ref g1, .ref g2, .ref g3, .ref g4, .ref g5, .int (zI oa), .int (zI (mdy + 1)), .ref s1, .ref s2, .ref s3, .ref s4, .ref s5, .ref s6, .int (zI 0), .int (zI rdg), .int (zI plc), .int (zI ibd), .int (zI stm), .ref t1, .ref t2, .ref t3, .ref c0, .ref c1, .ref c2, .ref c3, .int (zI him), .int (zI 38), .int (zI 1), .ref c0, .int (zI chd), .int (zI chf), .ref y0, .int (zI sd), .ref y1])), (g1, AI G 7 (fun z_ => (kd z_ : Int))), (g2, AI G 7 fg), (g3, AI G 7 hm), (g4, AI G 7 at_), (g5, AI G 7 (dayB 0 kd fg hm at_ oa n (goL kd fg hm at_ oa n k lg))), (s1, AI G 8 (fun z_ => (hw z_ : Int))), (s2, AI G 8 (fun z_ => (kk z_ : Int))), (s3, AI G 8 kf), (s4, AI G 8 (fun z_ => (rs z_ : Int))), (s5, AI G 8 (fun z_ => (rm z_ : Int))), (s6, AL G 800 rw_), (c0, AI G 38 (encF n oa dy kd fg hm at_ lg))]) C (z_runV (q := 0) (As := [.int (zI 0)]) (rest := []) C (ct_X4_dayBy (zl X) G m g1 g2 g3 g4 g5 kd fg hm at_ (goL kd fg hm at_ oa n k lg) n oa mdy ([.ref s1, .ref s2, .ref s3, .ref s4, .ref s5, .ref s6, .int (zI 0), .int (zI rdg), .int (zI plc), .int (zI ibd), .int (zI stm), .ref t1, .ref t2, .ref t3, .ref c0, .ref c1, .ref c2, .ref c3, .int (zI him), .int (zI 38), .int (zI 1), .ref c0, .int (zI chd), .int (zI chf), .ref y0, .int (zI sd), .ref y1]) 0 (hL.go k) (by omega)) (lw_V q1285 q1287 qs39 q61 q1288) rfl rfl (sb_e [0, 1, 2, 3, 4, 5] rfl rfl) (na := 1) (by decide +kernel) rfl (zrm rfl rfl (rfl) (rfl)) rfl (Nat.le_of_ble_eq_true rfl) dX4_judge_88) (fun u => jn_e (wr := [(s1, AI G 8 (fun z_ => (hw z_ : Int))), (s2, AI G 8 (fun z_ => (kk z_ : Int))), (s3, AI G 8 kf), (s4, AI G 8 (fun z_ => (rs z_ : Int))), (s5, AI G 8 (fun z_ => (rm z_ : Int))), (s6, AL G 800 rw_), (c0, AI G 38 (encF n oa dy kd fg hm at_ lg))]) [0, 1, 2, 3, 4, 5] [6, 7, 8, 9, 10, 11, 12] [7, 8, 9, 10, 11, 12, 0, 1, 2, 3, 4, 5, 6] rfl rfl rfl (by decide) rfl rfl) (fun u hp_88 => ?_)
                rw [show dayB 0 kd fg hm at_ oa n (goL kd fg hm at_ oa n k lg) = goL kd fg hm at_ oa n (k + 1) lg from rfl]
                refine y_iinc (lv' := [(4, .int (zI ((k : Int) + 1))), (3, .int (zI (k : Int))), (5, .long (zL (rw_ (100 * e + k)))), (0, .ref m), (1, .int (zI (e : Int)))]) C dX4_judge_91 (q := 2) rfl (nlt rfl) rfl ?_
                refine z_goto (tgt := 27) C dX4_judge_94 (by decide) ?_
                refine z_lv (lv' := [(4, .int (zI ((k : Int) + 1))), (3, .int (zI (k : Int))), (0, .ref m), (1, .int (zI (e : Int)))]) [0, 1, 3, 4] rfl ?_
                exact ih_27 _ (by omega) (k + 1) (k : Int) (mdy + 1) (by first | assumption | omega) (hnew) rfl
              · skip
                refine y_bipush C dX4_judge_78 (by decide) ?_
                refine z_goto (tgt := 85) C dX4_judge_80 (by decide) ?_
                have hnew : FI (jdP (rowF rw_ e) (skZ (rs e)) kd fg hm at_ lg n oa) (k + 1) ((-4)) := by
                  first
                  | exact FI_f hfi (by omega) (by unfold jdP; exact decide_eq_false (fun z => z (by first | exact Or.inl ((lcmpZ_eq _ _).mp c_64) | exact Or.inr ((lcmpZ_eq _ _).mp c_75))))
                  | exact FI_t hfi (by omega) (by unfold jdP; exact decide_eq_true (fun z => by
                      rcases z with z | z
                      · exact c_64 ((lcmpZ_eq _ _).mpr z)
                      · exact c_75 ((lcmpZ_eq _ _).mpr z)))
                refine z_istore_n (lv' := [(3, .int (zI (-4))), (5, .long (zL (rw_ (100 * e + k)))), (4, .int (zI (k : Int))), (0, .ref m), (1, .int (zI (e : Int)))]) C dX4_judge_85 rfl (nlt rfl) rfl ?_
                refine z_aload_n C dX4_judge_86 rfl 3 rfl ?_
                refine y_iconst C dX4_judge_87 ?_
                refine z_v (ws' := fun u => [(m, .inr (11, [.int (zI (n : Int)), .ref g1, .ref g2, .ref g3, .ref g4, .ref g5, .int (zI oa), .int (zI (mdy + 1)), .ref s1, .ref s2, .ref s3, .ref s4, .ref s5, .ref s6, .int (zI 0), .int (zI rdg), .int (zI plc), .int (zI ibd), .int (zI stm), .ref t1, .ref t2, .ref t3, .ref c0, .ref c1, .ref c2, .ref c3, .int (zI him), .int (zI 38), .int (zI 1), .ref c0, .int (zI chd), .int (zI chf), .ref y0, .int (zI sd), .ref y1])), (g1, AI G 7 (fun z_ => (kd z_ : Int))), (g2, AI G 7 fg), (g3, AI G 7 hm), (g4, AI G 7 at_), (g5, AI G 7 (dayB 0 kd fg hm at_ oa n (goL kd fg hm at_ oa n k lg))), (s1, AI G 8 (fun z_ => (hw z_ : Int))), (s2, AI G 8 (fun z_ => (kk z_ : Int))), (s3, AI G 8 kf), (s4, AI G 8 (fun z_ => (rs z_ : Int))), (s5, AI G 8 (fun z_ => (rm z_ : Int))), (s6, AL G 800 rw_), (c0, AI G 38 (encF n oa dy kd fg hm at_ lg))]) C (z_runV (q := 0) (As := [.int (zI 0)]) (rest := []) C (ct_X4_dayBy (zl X) G m g1 g2 g3 g4 g5 kd fg hm at_ (goL kd fg hm at_ oa n k lg) n oa mdy ([.ref s1, .ref s2, .ref s3, .ref s4, .ref s5, .ref s6, .int (zI 0), .int (zI rdg), .int (zI plc), .int (zI ibd), .int (zI stm), .ref t1, .ref t2, .ref t3, .ref c0, .ref c1, .ref c2, .ref c3, .int (zI him), .int (zI 38), .int (zI 1), .ref c0, .int (zI chd), .int (zI chf), .ref y0, .int (zI sd), .ref y1]) 0 (hL.go k) (by omega)) (lw_V q1285 q1287 qs39 q61 q1288) rfl rfl (sb_e [0, 1, 2, 3, 4, 5] rfl rfl) (na := 1) (by decide +kernel) rfl (zrm rfl rfl (rfl) (rfl)) rfl (Nat.le_of_ble_eq_true rfl) dX4_judge_88) (fun u => jn_e (wr := [(s1, AI G 8 (fun z_ => (hw z_ : Int))), (s2, AI G 8 (fun z_ => (kk z_ : Int))), (s3, AI G 8 kf), (s4, AI G 8 (fun z_ => (rs z_ : Int))), (s5, AI G 8 (fun z_ => (rm z_ : Int))), (s6, AL G 800 rw_), (c0, AI G 38 (encF n oa dy kd fg hm at_ lg))]) [0, 1, 2, 3, 4, 5] [6, 7, 8, 9, 10, 11, 12] [7, 8, 9, 10, 11, 12, 0, 1, 2, 3, 4, 5, 6] rfl rfl rfl (by decide) rfl rfl) (fun u hp_88 => ?_)
                rw [show dayB 0 kd fg hm at_ oa n (goL kd fg hm at_ oa n k lg) = goL kd fg hm at_ oa n (k + 1) lg from rfl]
                refine y_iinc (lv' := [(4, .int (zI ((k : Int) + 1))), (3, .int (zI (-4))), (5, .long (zL (rw_ (100 * e + k)))), (0, .ref m), (1, .int (zI (e : Int)))]) C dX4_judge_91 (q := 2) rfl (nlt rfl) rfl ?_
                refine z_goto (tgt := 27) C dX4_judge_94 (by decide) ?_
                refine z_lv (lv' := [(4, .int (zI ((k : Int) + 1))), (3, .int (zI (-4))), (0, .ref m), (1, .int (zI (e : Int)))]) [0, 1, 3, 4] rfl ?_
                exact ih_27 _ (by omega) (k + 1) (-4) (mdy + 1) (by first | assumption | omega) (hnew) rfl
    refine z_lv (lv' := [(4, .int (zI 0)), (3, .int (zI (-4))), (0, .ref m), (1, .int (zI (e : Int)))]) [0, 1, 3, 4] rfl ?_
    exact L_27 _ 0 (-4) dy (by first | assumption | omega) (FI_0) rfl
  · skip
    refine z_iload_n C dX4_judge_15 rfl 0 rfl ?_
    exact z_iret C hA hQ rfl (Nat.le_of_ble_eq_true rfl) (Nat.le_of_ble_eq_true rfl) ((ki, pl0, itk, kc)) (congrArg zI (by unfold oJudge; rw [if_pos (by omega)])) (sb_e [0, 1, 2, 3, 4, 5, 6, 7, 8, 9, 10, 11, 12] rfl rfl) dX4_judge_16

