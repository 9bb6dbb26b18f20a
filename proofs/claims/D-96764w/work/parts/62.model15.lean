/-! THE MODEL, 15: a land by its text, the whole -/
set_option maxRecDepth 100000
set_option maxHeartbeats 4000000 in
theorem ct_X4_land (l : Launch) (G : ZG) (m : Nat) (g1 : Nat) (g2 : Nat) (g3 : Nat) (g4 : Nat) (g5 : Nat) (s1 : Nat) (s2 : Nat) (s3 : Nat) (s4 : Nat) (s5 : Nat) (s6 : Nat) (t1 : Nat) (t2 : Nat) (t3 : Nat) (c0 : Nat) (c1 : Nat) (c2 : Nat) (c3 : Nat) (y0 : Nat) (y1 : Nat) (rdg : Int) (plc : Int) (ibd : Int) (stm : Int) (him : Int) (pl0 : Int) (itk : Int) (chd : Int) (chf : Int) (sd : Int) (ki : Value) (kd : Nat → Nat) (fg : Nat → Int) (hm : Nat → Int) (at_ : Nat → Int) (lg : Nat → Int) (n : Nat) (oa : Int) (dy : Int) (kc : Nat → Int) (hw : Nat → Nat) (kk : Nat → Nat) (rs : Nat → Nat) (rm : Nat → Nat) (kf : Nat → Int) (rw_ : Nat → Int) (pf : Nat → Int) (lf : Nat → Int) (tf : Nat → Int) (d : Int) (thr : Int) (hL : LK n kd fg hm at_ lg oa) (hS : SK hw kk rs rm kf rw_) (rd : -2147483648 ≤ d ∧ d ≤ 2147483647) (hdy : 0 ≤ dy ∧ dy ≤ 999) : CT l yX4_land cX4_land 4 (some .int) { frames := 7, cells := 0, slots := 0, locals := 165 } G [.ref m, .int (zI d)] [(m, .inr (11, [.int (zI (n : Int)), .ref g1, .ref g2, .ref g3, .ref g4, .ref g5, .int (zI oa), .int (zI dy), .ref s1, .ref s2, .ref s3, .ref s4, .ref s5, .ref s6, .int (zI thr), .int (zI rdg), .int (zI plc), .int (zI ibd), .int (zI stm), .ref t1, .ref t2, .ref t3, .ref c0, .ref c1, .ref c2, .ref c3, .int (zI him), .int (zI pl0), .int (zI itk), ki, .int (zI chd), .int (zI chf), .ref y0, .int (zI sd), .ref y1])), (g1, AI G 7 (fun z_ => (kd z_ : Int))), (g2, AI G 7 fg), (g3, AI G 7 hm), (g4, AI G 7 at_), (g5, AI G 7 lg), (s1, AI G 8 (fun z_ => (hw z_ : Int))), (s2, AI G 8 (fun z_ => (kk z_ : Int))), (s3, AI G 8 kf), (s4, AI G 8 (fun z_ => (rs z_ : Int))), (s5, AI G 8 (fun z_ => (rm z_ : Int))), (s6, AL G 800 rw_), (t1, AI G 51 pf), (t2, AI G 51 lf), (t3, AI G 204 tf), (c0, AI G 38 kc)] (Qi G [(m, .inr (11, [.int (zI (n : Int)), .ref g1, .ref g2, .ref g3, .ref g4, .ref g5, .int (zI oa), .int (zI dy), .ref s1, .ref s2, .ref s3, .ref s4, .ref s5, .ref s6, .int (zI thr), .int (zI rdg), .int (zI plc), .int (zI ibd), .int (zI stm), .ref t1, .ref t2, .ref t3, .ref c0, .ref c1, .ref c2, .ref c3, .int (zI him), .int (zI pl0), .int (zI itk), ki, .int (zI chd), .int (zI chf), .ref y0, .int (zI sd), .ref y1])), (g1, AI G 7 (fun z_ => (kd z_ : Int))), (g2, AI G 7 fg), (g3, AI G 7 hm), (g4, AI G 7 at_), (g5, AI G 7 lg), (s1, AI G 8 (fun z_ => (hw z_ : Int))), (s2, AI G 8 (fun z_ => (kk z_ : Int))), (s3, AI G 8 kf), (s4, AI G 8 (fun z_ => (rs z_ : Int))), (s5, AI G 8 (fun z_ => (rm z_ : Int))), (s6, AL G 800 rw_), (t1, AI G 51 pf), (t2, AI G 51 lf), (t3, AI G 204 tf), (c0, AI G 38 kc)] (fun (r : Int32) (u : Int × Int × Int × Int × Value × Int × Int × Nat × (Nat → Nat) × (Nat → Int) × (Nat → Int) × (Nat → Int) × (Nat → Int) × Int × Int × (Nat → Int) × (Nat → Int) × (Nat → Int) × (Nat → Int)) => r = zI (oLand hw rs rm rw_ d (n, kd, fg, hm, at_, lg, oa, dy)).1 ∧ ldS (oLand hw rs rm rw_ d (n, kd, fg, hm, at_, lg, oa, dy)).2 (n, kd, fg, hm, at_, lg, oa, dy) = (u.2.2.2.2.2.2.2.1, u.2.2.2.2.2.2.2.2.1, u.2.2.2.2.2.2.2.2.2.1, u.2.2.2.2.2.2.2.2.2.2.1, u.2.2.2.2.2.2.2.2.2.2.2.1, u.2.2.2.2.2.2.2.2.2.2.2.2.1, u.2.2.2.2.2.2.2.2.2.2.2.2.2.1, u.2.2.2.2.2.2.2.2.2.2.2.2.2.2.1)) (fun u => [(m, .inr (11, [.int (zI (u.2.2.2.2.2.2.2.1 : Int)), .ref g1, .ref g2, .ref g3, .ref g4, .ref g5, .int (zI u.2.2.2.2.2.2.2.2.2.2.2.2.2.1), .int (zI u.2.2.2.2.2.2.2.2.2.2.2.2.2.2.1), .ref s1, .ref s2, .ref s3, .ref s4, .ref s5, .ref s6, .int (zI 0), .int (zI u.1), .int (zI u.2.1), .int (zI u.2.2.1), .int (zI u.2.2.2.1), .ref t1, .ref t2, .ref t3, .ref c0, .ref c1, .ref c2, .ref c3, .int (zI him), .int (zI u.2.2.2.2.2.1), .int (zI u.2.2.2.2.2.2.1), u.2.2.2.2.1, .int (zI chd), .int (zI chf), .ref y0, .int (zI sd), .ref y1])), (g1, AI G 7 (fun z_ => (u.2.2.2.2.2.2.2.2.1 z_ : Int))), (g2, AI G 7 u.2.2.2.2.2.2.2.2.2.1), (g3, AI G 7 u.2.2.2.2.2.2.2.2.2.2.1), (g4, AI G 7 u.2.2.2.2.2.2.2.2.2.2.2.1), (g5, AI G 7 u.2.2.2.2.2.2.2.2.2.2.2.2.1), (s1, AI G 8 (fun z_ => (hw z_ : Int))), (s2, AI G 8 (fun z_ => (kk z_ : Int))), (s3, AI G 8 kf), (s4, AI G 8 (fun z_ => (rs z_ : Int))), (s5, AI G 8 (fun z_ => (rm z_ : Int))), (s6, AL G 800 rw_), (t1, AI G 51 u.2.2.2.2.2.2.2.2.2.2.2.2.2.2.2.1), (t2, AI G 51 u.2.2.2.2.2.2.2.2.2.2.2.2.2.2.2.2.1), (t3, AI G 204 u.2.2.2.2.2.2.2.2.2.2.2.2.2.2.2.2.2.1), (c0, AI G 38 u.2.2.2.2.2.2.2.2.2.2.2.2.2.2.2.2.2.2)])) := by
  refine z_met (by decide) (Nat.le_of_ble_eq_true rfl) ?_
  intro X A hl0 hA C hQ hin
  subst hl0
  obtain ⟨hn7, hoa, hLj⟩ := id hL
  show Z X _ G 0 0 _ 0 [(0, .ref m), (1, .int (zI d))] []
  refine z_aload_n C dX4_land_0 rfl 0 rfl ?_
  refine y_iconst C dX4_land_1 ?_
  refine z_put (q := 0) (kf := 14) (ws' := [(m, .inr (11, [.int (zI (n : Int)), .ref g1, .ref g2, .ref g3, .ref g4, .ref g5, .int (zI oa), .int (zI dy), .ref s1, .ref s2, .ref s3, .ref s4, .ref s5, .ref s6, .int (zI 0), .int (zI rdg), .int (zI plc), .int (zI ibd), .int (zI stm), .ref t1, .ref t2, .ref t3, .ref c0, .ref c1, .ref c2, .ref c3, .int (zI him), .int (zI pl0), .int (zI itk), ki, .int (zI chd), .int (zI chf), .ref y0, .int (zI sd), .ref y1])), (g1, AI G 7 (fun z_ => (kd z_ : Int))), (g2, AI G 7 fg), (g3, AI G 7 hm), (g4, AI G 7 at_), (g5, AI G 7 lg), (s1, AI G 8 (fun z_ => (hw z_ : Int))), (s2, AI G 8 (fun z_ => (kk z_ : Int))), (s3, AI G 8 kf), (s4, AI G 8 (fun z_ => (rs z_ : Int))), (s5, AI G 8 (fun z_ => (rm z_ : Int))), (s6, AL G 800 rw_), (t1, AI G 51 pf), (t2, AI G 51 lf), (t3, AI G 204 tf), (c0, AI G 38 kc)]) C rfl rfl in_X4 tyX4_ok nmX4 (by decide) q1101 rfl rfl rfl rfl rfl (nlt rfl) rfl dX4_land_2 ?_
  refine z_aload_n C dX4_land_5 rfl 0 rfl ?_
  refine z_iload_n C dX4_land_6 rfl 1 rfl ?_
  refine z_i C (z_runV (q := 0) (As := [.int (zI d)]) (rest := []) C (ct_X4_wrongRow (zl X) G m g1 g2 g3 g4 g5 s1 s2 s3 s4 s5 s6 t1 t2 t3 c0 c1 c2 c3 y0 y1 0 rdg plc ibd stm him pl0 itk chd chf sd ki n oa dy hw kk rs rm kf rw_ d (by first | assumption | omega) (by first | assumption | omega)) (lw_V q1202 q1204 qs23 q61 q1205) rfl rfl (sb_e [0, 6, 7, 8, 9, 10, 11] rfl rfl) (na := 1) (by decide +kernel) rfl (zrm rfl rfl (rfl) (rfl)) rfl (Nat.le_of_ble_eq_true rfl) dX4_land_7) (fun u => jn_ro (sb_e [0, 6, 7, 8, 9, 10, 11] rfl rfl)) (fun r_7 u hp_7 => ?_)
  have hp_7 : r_7 = zI (wrZ hw d) := hp_7
  subst hp_7
  have hwr := wrZ_r hw d
  refine z_istore_n (lv' := [(2, .int (zI (wrZ hw d))), (0, .ref m), (1, .int (zI d))]) C dX4_land_10 rfl (nlt rfl) rfl ?_
  refine z_iload_n C dX4_land_11 rfl 0 rfl ?_
  refine y_if_ne (tgt := 29) C (by omega) dX4_land_12 (by decide) (fun c_12 => ?_) (fun c_12 => ?_)
  · skip
    refine z_iload_n C dX4_land_29 rfl 0 rfl ?_
    refine z_istore_n (lv' := [(2, .int (zI (wrZ hw d))), (0, .ref m), (1, .int (zI d))]) C dX4_land_30 rfl (nlt rfl) rfl ?_
    refine z_iload_n C dX4_land_31 rfl 0 rfl ?_
    refine y_if_ge (tgt := 37) C (by omega) dX4_land_32 (by decide) (fun c_32 => ?_) (fun c_32 => ?_)
    · skip
      exfalso; omega
    · skip
      refine z_iload_n C dX4_land_35 rfl 0 rfl ?_
      exact z_iret C hA hQ rfl (Nat.le_of_ble_eq_true rfl) (Nat.le_of_ble_eq_true rfl) ((rdg, plc, ibd, stm, ki, pl0, itk, n, kd, fg, hm, at_, lg, oa, dy, pf, lf, tf, kc)) (by rw [oLand_w (by omega)]; exact ⟨rfl, rfl⟩) (sb_e [0, 1, 2, 3, 4, 5, 6, 7, 8, 9, 10, 11, 12, 13, 14, 15] rfl rfl) dX4_land_36
  · skip
    obtain ⟨hd1, hd2⟩ := wrZ_0 (hw := hw) (d := d) (by omega)
    obtain ⟨e, rfl⟩ := Int.eq_ofNat_of_zero_le (show 0 ≤ d by omega)
    simp only [zTN] at hd2
    obtain ⟨hS1, hS2⟩ := id hS
    have hSe := hS1 e (by omega)
    have hM := hSe.2.2.2.2
    refine z_aload_n C dX4_land_15 rfl 1 rfl ?_
    refine z_get (q := 0) (kf := 11) (v := .ref s4) C rfl rfl in_X4 (by decide) q1098 (Or.inl rfl) rfl dX4_land_16 ?_
    refine z_iload_n C dX4_land_19 rfl 2 rfl ?_
    refine y_iald (q := 9) (t0 := 0) (v := (rs e : Int)) C rfl rfl (by omega) (by decide) rfl dX4_land_20 ?_
    refine y_if_eq (tgt := 29) C (by omega) dX4_land_21 (by decide) (fun c_21 => ?_) (fun c_21 => ?_)
    · skip
      refine z_iload_n C dX4_land_29 rfl 0 rfl ?_
      refine z_istore_n (lv' := [(2, .int (zI (wrZ hw (e : Int)))), (0, .ref m), (1, .int (zI (e : Int)))]) C dX4_land_30 rfl (nlt rfl) rfl ?_
      refine z_iload_n C dX4_land_31 rfl 0 rfl ?_
      refine y_if_ge (tgt := 37) C (by omega) dX4_land_32 (by decide) (fun c_32 => ?_) (fun c_32 => ?_)
      · skip
        refine z_aload_n C dX4_land_37 rfl 1 rfl ?_
        refine z_iload_n C dX4_land_38 rfl 2 rfl ?_
        refine z_put (q := 0) (kf := 15) (ws' := [(m, .inr (11, [.int (zI (n : Int)), .ref g1, .ref g2, .ref g3, .ref g4, .ref g5, .int (zI oa), .int (zI dy), .ref s1, .ref s2, .ref s3, .ref s4, .ref s5, .ref s6, .int (zI 0), .int (zI (e : Int)), .int (zI plc), .int (zI ibd), .int (zI stm), .ref t1, .ref t2, .ref t3, .ref c0, .ref c1, .ref c2, .ref c3, .int (zI him), .int (zI pl0), .int (zI itk), ki, .int (zI chd), .int (zI chf), .ref y0, .int (zI sd), .ref y1])), (g1, AI G 7 (fun z_ => (kd z_ : Int))), (g2, AI G 7 fg), (g3, AI G 7 hm), (g4, AI G 7 at_), (g5, AI G 7 lg), (s1, AI G 8 (fun z_ => (hw z_ : Int))), (s2, AI G 8 (fun z_ => (kk z_ : Int))), (s3, AI G 8 kf), (s4, AI G 8 (fun z_ => (rs z_ : Int))), (s5, AI G 8 (fun z_ => (rm z_ : Int))), (s6, AL G 800 rw_), (t1, AI G 51 pf), (t2, AI G 51 lf), (t3, AI G 204 tf), (c0, AI G 38 kc)]) C rfl rfl in_X4 tyX4_ok nmX4 (by decide) q1102 rfl rfl rfl rfl rfl (nlt rfl) rfl dX4_land_39 ?_
        refine z_aload_n C dX4_land_42 rfl 1 rfl ?_
        refine y_iconst C dX4_land_43 ?_
        refine z_put (q := 0) (kf := 16) (ws' := [(m, .inr (11, [.int (zI (n : Int)), .ref g1, .ref g2, .ref g3, .ref g4, .ref g5, .int (zI oa), .int (zI dy), .ref s1, .ref s2, .ref s3, .ref s4, .ref s5, .ref s6, .int (zI 0), .int (zI (e : Int)), .int (zI 0), .int (zI ibd), .int (zI stm), .ref t1, .ref t2, .ref t3, .ref c0, .ref c1, .ref c2, .ref c3, .int (zI him), .int (zI pl0), .int (zI itk), ki, .int (zI chd), .int (zI chf), .ref y0, .int (zI sd), .ref y1])), (g1, AI G 7 (fun z_ => (kd z_ : Int))), (g2, AI G 7 fg), (g3, AI G 7 hm), (g4, AI G 7 at_), (g5, AI G 7 lg), (s1, AI G 8 (fun z_ => (hw z_ : Int))), (s2, AI G 8 (fun z_ => (kk z_ : Int))), (s3, AI G 8 kf), (s4, AI G 8 (fun z_ => (rs z_ : Int))), (s5, AI G 8 (fun z_ => (rm z_ : Int))), (s6, AL G 800 rw_), (t1, AI G 51 pf), (t2, AI G 51 lf), (t3, AI G 204 tf), (c0, AI G 38 kc)]) C rfl rfl in_X4 tyX4_ok nmX4 (by decide) q1103 rfl rfl rfl rfl rfl (nlt rfl) rfl dX4_land_44 ?_
        refine z_aload_n C dX4_land_47 rfl 1 rfl ?_
        refine y_iconst C dX4_land_48 ?_
        refine z_put (q := 0) (kf := 17) (ws' := [(m, .inr (11, [.int (zI (n : Int)), .ref g1, .ref g2, .ref g3, .ref g4, .ref g5, .int (zI oa), .int (zI dy), .ref s1, .ref s2, .ref s3, .ref s4, .ref s5, .ref s6, .int (zI 0), .int (zI (e : Int)), .int (zI 0), .int (zI 0), .int (zI stm), .ref t1, .ref t2, .ref t3, .ref c0, .ref c1, .ref c2, .ref c3, .int (zI him), .int (zI pl0), .int (zI itk), ki, .int (zI chd), .int (zI chf), .ref y0, .int (zI sd), .ref y1])), (g1, AI G 7 (fun z_ => (kd z_ : Int))), (g2, AI G 7 fg), (g3, AI G 7 hm), (g4, AI G 7 at_), (g5, AI G 7 lg), (s1, AI G 8 (fun z_ => (hw z_ : Int))), (s2, AI G 8 (fun z_ => (kk z_ : Int))), (s3, AI G 8 kf), (s4, AI G 8 (fun z_ => (rs z_ : Int))), (s5, AI G 8 (fun z_ => (rm z_ : Int))), (s6, AL G 800 rw_), (t1, AI G 51 pf), (t2, AI G 51 lf), (t3, AI G 204 tf), (c0, AI G 38 kc)]) C rfl rfl in_X4 tyX4_ok nmX4 (by decide) q1104 rfl rfl rfl rfl rfl (nlt rfl) rfl dX4_land_49 ?_
        refine z_aload_n C dX4_land_52 rfl 1 rfl ?_
        refine y_iconst C dX4_land_53 ?_
        refine z_put (q := 0) (kf := 18) (ws' := [(m, .inr (11, [.int (zI (n : Int)), .ref g1, .ref g2, .ref g3, .ref g4, .ref g5, .int (zI oa), .int (zI dy), .ref s1, .ref s2, .ref s3, .ref s4, .ref s5, .ref s6, .int (zI 0), .int (zI (e : Int)), .int (zI 0), .int (zI 0), .int (zI 0), .ref t1, .ref t2, .ref t3, .ref c0, .ref c1, .ref c2, .ref c3, .int (zI him), .int (zI pl0), .int (zI itk), ki, .int (zI chd), .int (zI chf), .ref y0, .int (zI sd), .ref y1])), (g1, AI G 7 (fun z_ => (kd z_ : Int))), (g2, AI G 7 fg), (g3, AI G 7 hm), (g4, AI G 7 at_), (g5, AI G 7 lg), (s1, AI G 8 (fun z_ => (hw z_ : Int))), (s2, AI G 8 (fun z_ => (kk z_ : Int))), (s3, AI G 8 kf), (s4, AI G 8 (fun z_ => (rs z_ : Int))), (s5, AI G 8 (fun z_ => (rm z_ : Int))), (s6, AL G 800 rw_), (t1, AI G 51 pf), (t2, AI G 51 lf), (t3, AI G 204 tf), (c0, AI G 38 kc)]) C rfl rfl in_X4 tyX4_ok nmX4 (by decide) q1105 rfl rfl rfl rfl rfl (nlt rfl) rfl dX4_land_54 ?_
        have L_57 : ∀ (tt : Nat) (k : Nat) (p : Nat) (b : Int) (pf1 : Nat → Int) (lf1 : Nat → Int) (tf1 : Nat → Int), (rdS (rowF rw_ e) (rm e) k p b) → (∀ j, j < k → pf1 j = ((spF (rowF rw_ e) (rm e) j : Nat) : Int) ∧ (spF (rowF rw_ e) (rm e) j < rm e ∧ isL (rowF rw_ e (spF (rowF rw_ e) (rm e) j)) → lf1 j = rowF rw_ e (spF (rowF rw_ e) (rm e) j) ∧ tvF (rowF rw_ e) (rm e) (spF (rowF rw_ e) (rm e) j) tf1 (4 * j))) → 27 - k = tt → Z X (cX4_land, 4, yX4_land.cls, (some .int), { frames := 7, cells := 0, slots := 0, locals := 165 }, A) G 0 0 [(m, .inr (11, [.int (zI (n : Int)), .ref g1, .ref g2, .ref g3, .ref g4, .ref g5, .int (zI oa), .int (zI dy), .ref s1, .ref s2, .ref s3, .ref s4, .ref s5, .ref s6, .int (zI 0), .int (zI (e : Int)), .int (zI (p : Int)), .int (zI b), .int (zI (k : Int)), .ref t1, .ref t2, .ref t3, .ref c0, .ref c1, .ref c2, .ref c3, .int (zI him), .int (zI pl0), .int (zI itk), ki, .int (zI chd), .int (zI chf), .ref y0, .int (zI sd), .ref y1])), (g1, AI G 7 (fun z_ => (kd z_ : Int))), (g2, AI G 7 fg), (g3, AI G 7 hm), (g4, AI G 7 at_), (g5, AI G 7 lg), (s1, AI G 8 (fun z_ => (hw z_ : Int))), (s2, AI G 8 (fun z_ => (kk z_ : Int))), (s3, AI G 8 kf), (s4, AI G 8 (fun z_ => (rs z_ : Int))), (s5, AI G 8 (fun z_ => (rm z_ : Int))), (s6, AL G 800 rw_), (t1, AI G 51 pf1), (t2, AI G 51 lf1), (t3, AI G 204 tf1), (c0, AI G 38 kc)] 57 [(0, .ref m), (1, .int (zI (e : Int)))] [] := by
          intro tt
          induction tt using Nat.strongRecOn with
          | _ tt ih_57 =>
            intro k p b pf1 lf1 tf1 hrd hdat ht_57
            obtain ⟨hps, hk26, hpm, hb01⟩ := rdS_p hrd
            refine z_aload_n C dX4_land_57 rfl 0 rfl ?_
            refine z_get (q := 0) (kf := 17) (v := .int (zI b)) C rfl rfl in_X4 (by decide) q1104 (Or.inl rfl) rfl dX4_land_58 ?_
            refine y_if_ne (tgt := 91) C (by omega) dX4_land_61 (by decide) (fun c_61 => ?_) (fun c_61 => ?_)
            · skip
              refine z_aload_n C dX4_land_91 rfl 0 rfl ?_
              refine z_get (q := 0) (kf := 17) (v := .int (zI b)) C rfl rfl in_X4 (by decide) q1104 (Or.inl rfl) rfl dX4_land_92 ?_
              refine y_if_eq (tgt := 107) C (by omega) dX4_land_95 (by decide) (fun c_95 => ?_) (fun c_95 => ?_)
              · skip
                obtain ⟨k0, hk0, hcnt, hbk, hgd⟩ := rdS_end hrd (by omega)
                have hgood := hgd (by omega)
                have htx := txF_okC (s := (n, kd, fg, hm, at_, lg, oa, dy)) hcnt hbk (by omega)
                rw [← hk0] at htx
                refine z_aload_n C dX4_land_107 rfl 0 rfl ?_
                refine z_v (ws' := fun u => [(m, .inr (11, [.int (zI (n : Int)), .ref g1, .ref g2, .ref g3, .ref g4, .ref g5, .int (zI oa), .int (zI dy), .ref s1, .ref s2, .ref s3, .ref s4, .ref s5, .ref s6, .int (zI 0), .int (zI (e : Int)), .int (zI (p : Int)), .int (zI b), .int (zI (k : Int)), .ref t1, .ref t2, .ref t3, .ref c0, .ref c1, .ref c2, .ref c3, .int (zI him), .int (zI 38), .int (zI 1), .ref c0, .int (zI chd), .int (zI chf), .ref y0, .int (zI sd), .ref y1])), (g1, AI G 7 (fun z_ => (kd z_ : Int))), (g2, AI G 7 fg), (g3, AI G 7 hm), (g4, AI G 7 at_), (g5, AI G 7 lg), (s1, AI G 8 (fun z_ => (hw z_ : Int))), (s2, AI G 8 (fun z_ => (kk z_ : Int))), (s3, AI G 8 kf), (s4, AI G 8 (fun z_ => (rs z_ : Int))), (s5, AI G 8 (fun z_ => (rm z_ : Int))), (s6, AL G 800 rw_), (t1, AI G 51 pf1), (t2, AI G 51 lf1), (t3, AI G 204 tf1), (c0, AI G 38 (encF n oa dy kd fg hm at_ lg))]) C (z_runV (q := 0) (As := []) (rest := []) C (ct_X4_open (zl X) G m g1 g2 g3 g4 g5 s1 s2 s3 s4 s5 s6 t1 t2 t3 c0 c1 c2 c3 y0 y1 0 (e : Int) (p : Int) b (k : Int) him pl0 itk chd chf sd ki kd fg hm at_ lg n oa dy kc ) (lw_V q1231 q1233 qs28 q61 q1234) rfl rfl (sb_e [0, 1, 2, 3, 4, 5, 15] rfl rfl) (na := 0) (by decide +kernel) rfl (zrm rfl rfl (rfl) (rfl)) rfl (Nat.le_of_ble_eq_true rfl) dX4_land_108) (fun u => jn_e (wr := [(s1, AI G 8 (fun z_ => (hw z_ : Int))), (s2, AI G 8 (fun z_ => (kk z_ : Int))), (s3, AI G 8 kf), (s4, AI G 8 (fun z_ => (rs z_ : Int))), (s5, AI G 8 (fun z_ => (rm z_ : Int))), (s6, AL G 800 rw_), (t1, AI G 51 pf1), (t2, AI G 51 lf1), (t3, AI G 204 tf1)]) [0, 1, 2, 3, 4, 5, 15] [6, 7, 8, 9, 10, 11, 12, 13, 14] [9, 10, 11, 12, 13, 14, 0, 1, 2, 3, 4, 5, 6, 7, 8, 15] rfl rfl rfl (by decide) rfl rfl) (fun u hp_108 => ?_)
                refine y_iconst C dX4_land_111 ?_
                refine z_istore_n (lv' := [(3, .int (zI 0)), (0, .ref m), (1, .int (zI (e : Int)))]) C dX4_land_112 rfl (nlt rfl) rfl ?_
                have L_113 : ∀ (tt : Nat) (j : Nat) (n1 : Nat) (kd1 : Nat → Nat) (fg1 : Nat → Int) (hm1 : Nat → Int) (at1 : Nat → Int) (lg1 : Nat → Int) (oa1 : Int) (dy1 : Int) (ibx : Int), (j ≤ k) → (txF (rowF rw_ e) (rm e) (n, kd, fg, hm, at_, lg, oa, dy) = rnF (rowF rw_ e) (rm e) (k - j) j (n1, kd1, fg1, hm1, at1, lg1, oa1, dy1)) → (LK n1 kd1 fg1 hm1 at1 lg1 oa1) → (0 ≤ dy1 ∧ dy1 ≤ 999) → k - j = tt → Z X (cX4_land, 4, yX4_land.cls, (some .int), { frames := 7, cells := 0, slots := 0, locals := 165 }, A) G 0 0 [(m, .inr (11, [.int (zI (n1 : Int)), .ref g1, .ref g2, .ref g3, .ref g4, .ref g5, .int (zI oa1), .int (zI dy1), .ref s1, .ref s2, .ref s3, .ref s4, .ref s5, .ref s6, .int (zI 0), .int (zI (e : Int)), .int (zI (p : Int)), .int (zI ibx), .int (zI (k : Int)), .ref t1, .ref t2, .ref t3, .ref c0, .ref c1, .ref c2, .ref c3, .int (zI him), .int (zI 38), .int (zI 1), .ref c0, .int (zI chd), .int (zI chf), .ref y0, .int (zI sd), .ref y1])), (g1, AI G 7 (fun z_ => (kd1 z_ : Int))), (g2, AI G 7 fg1), (g3, AI G 7 hm1), (g4, AI G 7 at1), (g5, AI G 7 lg1), (s1, AI G 8 (fun z_ => (hw z_ : Int))), (s2, AI G 8 (fun z_ => (kk z_ : Int))), (s3, AI G 8 kf), (s4, AI G 8 (fun z_ => (rs z_ : Int))), (s5, AI G 8 (fun z_ => (rm z_ : Int))), (s6, AL G 800 rw_), (t1, AI G 51 pf1), (t2, AI G 51 lf1), (t3, AI G 204 tf1), (c0, AI G 38 (encF n oa dy kd fg hm at_ lg))] 113 [(3, .int (zI (j : Int))), (0, .ref m), (1, .int (zI (e : Int)))] [] := by
                  intro tt
                  induction tt using Nat.strongRecOn with
                  | _ tt ih_113 =>
                    intro j n1 kd1 fg1 hm1 at1 lg1 oa1 dy1 ibx hjk hrn hL1 hd1 ht_113
                    refine z_iload_n C dX4_land_113 rfl 0 rfl ?_
                    refine z_aload_n C dX4_land_114 rfl 1 rfl ?_
                    refine z_get (q := 0) (kf := 18) (v := .int (zI (k : Int))) C rfl rfl in_X4 (by decide) q1105 (Or.inl rfl) rfl dX4_land_115 ?_
                    refine y_icmp_ge (tgt := 150) C (by omega) (by omega) dX4_land_118 (by decide) (fun c_118 => ?_) (fun c_118 => ?_)
                    · skip
                      refine z_aload_n C dX4_land_150 rfl 1 rfl ?_
                      refine z_get (q := 0) (kf := 18) (v := .int (zI (k : Int))) C rfl rfl in_X4 (by decide) q1105 (Or.inl rfl) rfl dX4_land_151 ?_
                      rw [show j = k by omega, Nat.sub_self] at hrn
                      exact z_iret C hA hQ rfl (Nat.le_of_ble_eq_true rfl) (Nat.le_of_ble_eq_true rfl) (((e : Int), (p : Int), ibx, (k : Int), (.ref c0), 38, 1, n1, kd1, fg1, hm1, at1, lg1, oa1, dy1, pf1, lf1, tf1, (encF n oa dy kd fg hm at_ lg))) (by rw [oLand_t (show ¬ wrZ hw (e : Int) < 0 by omega) (by simp only [zTN]; omega), show txF (rowF rw_ ((e : Int).toNat)) (rm ((e : Int).toNat)) (n, kd, fg, hm, at_, lg, oa, dy) = _ from hrn]; exact ⟨rfl, rfl⟩) (sb_e [0, 1, 2, 3, 4, 5, 6, 7, 8, 9, 10, 11, 12, 13, 14, 15] rfl rfl) dX4_land_154
                    · skip
                      have hgj := hgood j (by omega)
                      obtain ⟨hpj, hdj⟩ := hdat j (by omega)
                      obtain ⟨c7, a7, b7, d7, e7, hlet7, hl7, hv0, hv1, hv2, ⟨hra, hrb, hrd7, hre⟩, hcme⟩ := cm_data hgj (hdj hgj).1 (hdj hgj).2
                      refine z_aload_n C dX4_land_121 rfl 1 rfl ?_
                      refine z_iload_n C dX4_land_122 rfl 0 rfl ?_
                      refine z_i (ws' := fun u => [(m, .inr (11, [.int (zI (u.2.1 : Int)), .ref g1, .ref g2, .ref g3, .ref g4, .ref g5, .int (zI u.2.2.2.2.2.2.2.1), .int (zI u.2.2.2.2.2.2.2.2), .ref s1, .ref s2, .ref s3, .ref s4, .ref s5, .ref s6, .int (zI 0), .int (zI (e : Int)), .int (zI (p : Int)), .int (zI ibx), .int (zI (k : Int)), .ref t1, .ref t2, .ref t3, .ref c0, .ref c1, .ref c2, .ref c3, .int (zI him), .int (zI 38), .int (zI 1), .ref c0, .int (zI chd), .int (zI chf), .ref y0, .int (zI sd), .ref y1])), (g1, AI G 7 (fun z_ => (u.2.2.1 z_ : Int))), (g2, AI G 7 u.2.2.2.1), (g3, AI G 7 u.2.2.2.2.1), (g4, AI G 7 u.2.2.2.2.2.1), (g5, AI G 7 u.2.2.2.2.2.2.1), (s1, AI G 8 (fun z_ => (hw z_ : Int))), (s2, AI G 8 (fun z_ => (kk z_ : Int))), (s3, AI G 8 kf), (s4, AI G 8 (fun z_ => (rs z_ : Int))), (s5, AI G 8 (fun z_ => (rm z_ : Int))), (s6, AL G 800 rw_), (t1, AI G 51 pf1), (t2, AI G 51 lf1), (t3, AI G 204 tf1), (c0, AI G 38 (encF n oa dy kd fg hm at_ lg))]) C (z_runV (q := 0) (As := [.int (zI (j : Int))]) (rest := []) C (ct_X4_comesTold (zl X) G m g1 g2 g3 g4 g5 s1 s2 s3 s4 s5 s6 t1 t2 t3 c0 c1 c2 c3 y0 y1 0 (e : Int) (p : Int) ibx (k : Int) him 38 1 chd chf sd (.ref c0) kd1 fg1 hm1 at1 lg1 n1 oa1 dy1 j c7 a7 b7 d7 e7 lf1 tf1 (hL1) (by first | assumption | omega) (hd1) (hlet7) (hl7) (hv0) (hv1) (hv2) (hra) (hrb) (hrd7) (hre)) (lw_V q1243 q1245 qs31 q61 q1246) rfl rfl (sb_e [0, 1, 2, 3, 4, 5, 13, 14] rfl rfl) (na := 1) (by decide +kernel) rfl (zrm rfl rfl (rfl) (rfl)) rfl (Nat.le_of_ble_eq_true rfl) dX4_land_123) (fun u => jn_e (wr := [(s1, AI G 8 (fun z_ => (hw z_ : Int))), (s2, AI G 8 (fun z_ => (kk z_ : Int))), (s3, AI G 8 kf), (s4, AI G 8 (fun z_ => (rs z_ : Int))), (s5, AI G 8 (fun z_ => (rm z_ : Int))), (s6, AL G 800 rw_), (t1, AI G 51 pf1), (c0, AI G 38 (encF n oa dy kd fg hm at_ lg))]) [0, 1, 2, 3, 4, 5, 13, 14] [6, 7, 8, 9, 10, 11, 12, 15] [8, 9, 10, 11, 12, 13, 0, 1, 2, 3, 4, 5, 6, 14, 15, 7] rfl rfl rfl (by decide) rfl rfl) (fun r_123 u hp_123 => ?_)
                      obtain ⟨g9_123, n9_123, kd9_123, fg9_123, hm9_123, at9_123, lg9_123, oa9_123, dy9_123⟩ := u
                      obtain ⟨hrv, hg01, hgy, hgn⟩ := hp_123
                      subst hrv
                      refine y_if_ne (tgt := 144) C (by omega) dX4_land_126 (by decide) (fun c_126 => ?_) (fun c_126 => ?_)
                      · skip
                        have hcm : cmK (rowF rw_ e) (rm e) j (n1, kd1, fg1, hm1, at1, lg1, oa1, dy1) = some (n9_123, kd9_123, fg9_123, hm9_123, at9_123, lg9_123, oa9_123, dy9_123) := (hcme _).trans (hgy (by omega))
                        have hok := (cmK_ok (LKS.mk hL1 hd1) hgj.2 hcm).d
                        refine y_iinc (lv' := [(3, .int (zI ((j : Int) + 1))), (0, .ref m), (1, .int (zI (e : Int)))]) C dX4_land_144 (q := 0) rfl (nlt rfl) rfl ?_
                        refine z_goto (tgt := 113) C dX4_land_147 (by decide) ?_
                        exact ih_113 _ (by omega) (j + 1) n9_123 kd9_123 fg9_123 hm9_123 at9_123 lg9_123 oa9_123 dy9_123 ibx (by first | assumption | omega) (by rw [hrn, show k - j = (k - (j + 1)) + 1 by omega]; exact rnF_on hcm) (hok.1) (hok.2) rfl
                      · skip
                        have hcn : cmK (rowF rw_ e) (rm e) j (n1, kd1, fg1, hm1, at1, lg1, oa1, dy1) = none := (hcme _).trans (hgn (by omega))
                        refine z_aload_n C dX4_land_129 rfl 1 rfl ?_
                        refine z_v (ws' := fun u => [(m, .inr (11, [.int (zI (n : Int)), .ref g1, .ref g2, .ref g3, .ref g4, .ref g5, .int (zI oa), .int (zI dy), .ref s1, .ref s2, .ref s3, .ref s4, .ref s5, .ref s6, .int (zI 0), .int (zI (e : Int)), .int (zI (p : Int)), .int (zI ibx), .int (zI (k : Int)), .ref t1, .ref t2, .ref t3, .ref c0, .ref c1, .ref c2, .ref c3, .int (zI him), .int (zI 38), .int (zI 0), .ref c0, .int (zI chd), .int (zI chf), .ref y0, .int (zI sd), .ref y1])), (g1, AI G 7 (fun z_ => (kd z_ : Int))), (g2, AI G 7 fg), (g3, AI G 7 hm), (g4, AI G 7 at_), (g5, AI G 7 lg), (s1, AI G 8 (fun z_ => (hw z_ : Int))), (s2, AI G 8 (fun z_ => (kk z_ : Int))), (s3, AI G 8 kf), (s4, AI G 8 (fun z_ => (rs z_ : Int))), (s5, AI G 8 (fun z_ => (rm z_ : Int))), (s6, AL G 800 rw_), (t1, AI G 51 pf1), (t2, AI G 51 lf1), (t3, AI G 204 tf1), (c0, AI G 38 (encF n oa dy kd fg hm at_ lg))]) C (z_runV (q := 0) (As := []) (rest := []) C (ct_X4_close (zl X) G m g1 g2 g3 g4 g5 s1 s2 s3 s4 s5 s6 t1 t2 t3 c0 c1 c2 c3 y0 y1 0 (e : Int) (p : Int) ibx (k : Int) him 38 1 chd chf sd (.ref c0) (fun z_ => (kd9_123 z_ : Int)) fg9_123 hm9_123 at9_123 lg9_123 n9_123 oa9_123 dy9_123 kd fg hm at_ lg n oa dy ) (lw_V q1302 q1304 qs43 q61 q1305) rfl rfl (sb_e [0, 1, 2, 3, 4, 5, 15] rfl rfl) (na := 0) (by decide +kernel) rfl (zrm rfl rfl (rfl) (rfl)) rfl (Nat.le_of_ble_eq_true rfl) dX4_land_130) (fun u => jn_e (wr := [(s1, AI G 8 (fun z_ => (hw z_ : Int))), (s2, AI G 8 (fun z_ => (kk z_ : Int))), (s3, AI G 8 kf), (s4, AI G 8 (fun z_ => (rs z_ : Int))), (s5, AI G 8 (fun z_ => (rm z_ : Int))), (s6, AL G 800 rw_), (t1, AI G 51 pf1), (t2, AI G 51 lf1), (t3, AI G 204 tf1)]) [0, 1, 2, 3, 4, 5, 15] [6, 7, 8, 9, 10, 11, 12, 13, 14] [9, 10, 11, 12, 13, 14, 0, 1, 2, 3, 4, 5, 6, 7, 8, 15] rfl rfl rfl (by decide) rfl rfl) (fun u hp_130 => ?_)
                        refine y_sipush C dX4_land_133 (by decide) ?_
                        refine z_aload_n C dX4_land_136 rfl 1 rfl ?_
                        refine z_get (q := 0) (kf := 19) (v := .ref t1) C rfl rfl in_X4 (by decide) q1106 (Or.inl rfl) rfl dX4_land_137 ?_
                        refine z_iload_n C dX4_land_140 rfl 0 rfl ?_
                        refine y_iald (q := 12) (t0 := 0) (v := pf1 j) C rfl rfl (by omega) (by decide) rfl dX4_land_141 ?_
                        refine y_isub C dX4_land_142 ?_
                        exact z_iret C hA hQ rfl (Nat.le_of_ble_eq_true rfl) (Nat.le_of_ble_eq_true rfl) (((e : Int), (p : Int), ibx, (k : Int), (.ref c0), 38, 0, n, kd, fg, hm, at_, lg, oa, dy, pf1, lf1, tf1, (encF n oa dy kd fg hm at_ lg))) (by rw [oLand_t (show ¬ wrZ hw (e : Int) < 0 by omega) (by simp only [zTN]; omega), show txF (rowF rw_ ((e : Int).toNat)) (rm ((e : Int).toNat)) (n, kd, fg, hm, at_, lg, oa, dy) = _ from hrn, show k - j = (k - (j + 1)) + 1 by omega, rnF_no hcn]; exact ⟨congrArg zI (by rw [hpj]), rfl⟩) (sb_e [0, 1, 2, 3, 4, 5, 6, 7, 8, 9, 10, 11, 12, 13, 14, 15] rfl rfl) dX4_land_143
                exact L_113 _ 0 n kd fg hm at_ lg oa dy b (by first | assumption | omega) (by rw [Nat.sub_zero]; exact htx) (hL) (hdy) rfl
              · skip
                refine y_sipush C dX4_land_98 (by decide) ?_
                refine z_aload_n C dX4_land_101 rfl 0 rfl ?_
                refine z_get (q := 0) (kf := 16) (v := .int (zI (p : Int))) C rfl rfl in_X4 (by decide) q1103 (Or.inl rfl) rfl dX4_land_102 ?_
                refine y_isub C dX4_land_105 ?_
                obtain ⟨k0, hk0, hcnt, hbk, -⟩ := rdS_end hrd (by omega)
                exact z_iret C hA hQ rfl (Nat.le_of_ble_eq_true rfl) (Nat.le_of_ble_eq_true rfl) (((e : Int), (p : Int), b, (k : Int), ki, pl0, itk, n, kd, fg, hm, at_, lg, oa, dy, pf1, lf1, tf1, kc)) (by rw [oLand_t (show ¬ wrZ hw (e : Int) < 0 by omega) (by simp only [zTN]; omega), show txF (rowF rw_ ((e : Int).toNat)) (rm ((e : Int).toNat)) (n, kd, fg, hm, at_, lg, oa, dy) = _ from txF_badC hcnt hbk (by omega)]; exact ⟨congrArg zI (by show -1000 - (p : Int) = -1000 - ((spF (rowF rw_ e) (rm e) (k0 + 1) : Nat) : Int); rw [hps, hk0]), rfl⟩) (sb_e [0, 1, 2, 3, 4, 5, 6, 7, 8, 9, 10, 11, 12, 13, 14, 15] rfl rfl) dX4_land_106
            · skip
              rw [show (b : Int) = 0 by omega]
              refine z_aload_n C dX4_land_64 rfl 0 rfl ?_
              refine z_get (q := 0) (kf := 18) (v := .int (zI (k : Int))) C rfl rfl in_X4 (by decide) q1105 (Or.inl rfl) rfl dX4_land_65 ?_
              refine y_if_eq (tgt := 84) C (by omega) dX4_land_68 (by decide) (fun c_68 => ?_) (fun c_68 => ?_)
              · skip
                refine z_aload_n C dX4_land_84 rfl 0 rfl ?_
                refine z_v (ws' := fun u => [(m, .inr (11, [.int (zI (n : Int)), .ref g1, .ref g2, .ref g3, .ref g4, .ref g5, .int (zI oa), .int (zI dy), .ref s1, .ref s2, .ref s3, .ref s4, .ref s5, .ref s6, .int (zI 0), .int (zI (e : Int)), .int (zI (u.1 : Int)), .int (zI u.2.1), .int (zI ((k + 1 : Nat) : Int)), .ref t1, .ref t2, .ref t3, .ref c0, .ref c1, .ref c2, .ref c3, .int (zI him), .int (zI pl0), .int (zI itk), ki, .int (zI chd), .int (zI chf), .ref y0, .int (zI sd), .ref y1])), (g1, AI G 7 (fun z_ => (kd z_ : Int))), (g2, AI G 7 fg), (g3, AI G 7 hm), (g4, AI G 7 at_), (g5, AI G 7 lg), (s1, AI G 8 (fun z_ => (hw z_ : Int))), (s2, AI G 8 (fun z_ => (kk z_ : Int))), (s3, AI G 8 kf), (s4, AI G 8 (fun z_ => (rs z_ : Int))), (s5, AI G 8 (fun z_ => (rm z_ : Int))), (s6, AL G 800 rw_), (t1, AI G 51 (va_up pf1 k (p : Int))), (t2, AI G 51 u.2.2.1), (t3, AI G 204 u.2.2.2), (c0, AI G 38 kc)]) C (z_runV (q := 0) (As := []) (rest := []) C (ct_X4_readStatement (zl X) G m g1 g2 g3 g4 g5 s1 s2 s3 s4 s5 s6 t1 t2 t3 c0 c1 c2 c3 y0 y1 0 him pl0 itk chd chf sd ki n oa dy hw kk rs rm kf rw_ e p k pf1 lf1 tf1 (by first | assumption | omega) (by first | assumption | omega) (by first | assumption | omega) (by first | assumption | omega)) (lw_V q1210 q1212 qs24 q61 q1213) rfl rfl (sb_e [0, 6, 7, 8, 9, 10, 11, 12, 13, 14] rfl rfl) (na := 0) (by decide +kernel) rfl (zrm rfl rfl (rfl) (rfl)) rfl (Nat.le_of_ble_eq_true rfl) dX4_land_85) (fun u => jn_e (wr := [(g1, AI G 7 (fun z_ => (kd z_ : Int))), (g2, AI G 7 fg), (g3, AI G 7 hm), (g4, AI G 7 at_), (g5, AI G 7 lg), (c0, AI G 38 kc)]) [0, 6, 7, 8, 9, 10, 11, 12, 13, 14] [1, 2, 3, 4, 5, 15] [6, 0, 1, 2, 3, 4, 7, 8, 9, 10, 11, 12, 13, 14, 15, 5] rfl rfl rfl (by decide) rfl rfl) (fun u hp_85 => ?_)
                obtain ⟨p9_85, b9_85, lf9_85, tf9_85⟩ := u
                obtain ⟨hst, hdt, hlj, htj⟩ := hp_85
                obtain ⟨hrd2, hk25, -⟩ := rdS_on hM hrd (by omega) (by omega) hst
                refine z_goto (tgt := 57) C dX4_land_88 (by decide) ?_
                exact ih_57 _ (by omega) (k + 1) p9_85 b9_85 (va_up pf1 k (p : Int)) lf9_85 tf9_85 (hrd2) (fun j hj => by
                  rcases Nat.lt_succ_iff_lt_or_eq.mp hj with c | c
                  · obtain ⟨q1, q2⟩ := hdat j c
                    exact ⟨by rw [up_ne (by omega)]; exact q1, fun z => ⟨(hlj j c).trans (q2 z).1, tvF_cg (q2 z).2 (fun i hi => htj i (by omega))⟩⟩
                  · rw [c, ← hps]
                    exact ⟨up_eq, hdt⟩) rfl
              · skip
                refine z_aload_n C dX4_land_71 rfl 0 rfl ?_
                refine z_get (q := 0) (kf := 16) (v := .int (zI (p : Int))) C rfl rfl in_X4 (by decide) q1103 (Or.inl rfl) rfl dX4_land_72 ?_
                refine z_aload_n C dX4_land_75 rfl 0 rfl ?_
                refine z_get (q := 0) (kf := 12) (v := .ref s5) C rfl rfl in_X4 (by decide) q1099 (Or.inl rfl) rfl dX4_land_76 ?_
                refine z_iload_n C dX4_land_79 rfl 1 rfl ?_
                refine y_iald (q := 10) (t0 := 0) (v := (rm e : Int)) C rfl rfl (by omega) (by decide) rfl dX4_land_80 ?_
                refine y_icmp_ge (tgt := 91) C (by omega) (by omega) dX4_land_81 (by decide) (fun c_81 => ?_) (fun c_81 => ?_)
                · skip
                  refine z_aload_n C dX4_land_91 rfl 0 rfl ?_
                  refine z_get (q := 0) (kf := 17) (v := .int (zI 0)) C rfl rfl in_X4 (by decide) q1104 (Or.inl rfl) rfl dX4_land_92 ?_
                  refine y_if_eq (tgt := 107) C (by omega) dX4_land_95 (by decide) (fun c_95 => ?_) (fun c_95 => ?_)
                  · skip
                    obtain ⟨k0, hk0, hcnt, hbk, hgd⟩ := rdS_end hrd (by omega)
                    have hgood := hgd (by omega)
                    have htx := txF_okC (s := (n, kd, fg, hm, at_, lg, oa, dy)) hcnt hbk (by omega)
                    rw [← hk0] at htx
                    refine z_aload_n C dX4_land_107 rfl 0 rfl ?_
                    refine z_v (ws' := fun u => [(m, .inr (11, [.int (zI (n : Int)), .ref g1, .ref g2, .ref g3, .ref g4, .ref g5, .int (zI oa), .int (zI dy), .ref s1, .ref s2, .ref s3, .ref s4, .ref s5, .ref s6, .int (zI 0), .int (zI (e : Int)), .int (zI (p : Int)), .int (zI 0), .int (zI (k : Int)), .ref t1, .ref t2, .ref t3, .ref c0, .ref c1, .ref c2, .ref c3, .int (zI him), .int (zI 38), .int (zI 1), .ref c0, .int (zI chd), .int (zI chf), .ref y0, .int (zI sd), .ref y1])), (g1, AI G 7 (fun z_ => (kd z_ : Int))), (g2, AI G 7 fg), (g3, AI G 7 hm), (g4, AI G 7 at_), (g5, AI G 7 lg), (s1, AI G 8 (fun z_ => (hw z_ : Int))), (s2, AI G 8 (fun z_ => (kk z_ : Int))), (s3, AI G 8 kf), (s4, AI G 8 (fun z_ => (rs z_ : Int))), (s5, AI G 8 (fun z_ => (rm z_ : Int))), (s6, AL G 800 rw_), (t1, AI G 51 pf1), (t2, AI G 51 lf1), (t3, AI G 204 tf1), (c0, AI G 38 (encF n oa dy kd fg hm at_ lg))]) C (z_runV (q := 0) (As := []) (rest := []) C (ct_X4_open (zl X) G m g1 g2 g3 g4 g5 s1 s2 s3 s4 s5 s6 t1 t2 t3 c0 c1 c2 c3 y0 y1 0 (e : Int) (p : Int) 0 (k : Int) him pl0 itk chd chf sd ki kd fg hm at_ lg n oa dy kc ) (lw_V q1231 q1233 qs28 q61 q1234) rfl rfl (sb_e [0, 1, 2, 3, 4, 5, 15] rfl rfl) (na := 0) (by decide +kernel) rfl (zrm rfl rfl (rfl) (rfl)) rfl (Nat.le_of_ble_eq_true rfl) dX4_land_108) (fun u => jn_e (wr := [(s1, AI G 8 (fun z_ => (hw z_ : Int))), (s2, AI G 8 (fun z_ => (kk z_ : Int))), (s3, AI G 8 kf), (s4, AI G 8 (fun z_ => (rs z_ : Int))), (s5, AI G 8 (fun z_ => (rm z_ : Int))), (s6, AL G 800 rw_), (t1, AI G 51 pf1), (t2, AI G 51 lf1), (t3, AI G 204 tf1)]) [0, 1, 2, 3, 4, 5, 15] [6, 7, 8, 9, 10, 11, 12, 13, 14] [9, 10, 11, 12, 13, 14, 0, 1, 2, 3, 4, 5, 6, 7, 8, 15] rfl rfl rfl (by decide) rfl rfl) (fun u hp_108 => ?_)
                    refine y_iconst C dX4_land_111 ?_
                    refine z_istore_n (lv' := [(3, .int (zI 0)), (0, .ref m), (1, .int (zI (e : Int)))]) C dX4_land_112 rfl (nlt rfl) rfl ?_
                    have L_113 : ∀ (tt : Nat) (j : Nat) (n1 : Nat) (kd1 : Nat → Nat) (fg1 : Nat → Int) (hm1 : Nat → Int) (at1 : Nat → Int) (lg1 : Nat → Int) (oa1 : Int) (dy1 : Int) (ibx : Int), (j ≤ k) → (txF (rowF rw_ e) (rm e) (n, kd, fg, hm, at_, lg, oa, dy) = rnF (rowF rw_ e) (rm e) (k - j) j (n1, kd1, fg1, hm1, at1, lg1, oa1, dy1)) → (LK n1 kd1 fg1 hm1 at1 lg1 oa1) → (0 ≤ dy1 ∧ dy1 ≤ 999) → k - j = tt → Z X (cX4_land, 4, yX4_land.cls, (some .int), { frames := 7, cells := 0, slots := 0, locals := 165 }, A) G 0 0 [(m, .inr (11, [.int (zI (n1 : Int)), .ref g1, .ref g2, .ref g3, .ref g4, .ref g5, .int (zI oa1), .int (zI dy1), .ref s1, .ref s2, .ref s3, .ref s4, .ref s5, .ref s6, .int (zI 0), .int (zI (e : Int)), .int (zI (p : Int)), .int (zI ibx), .int (zI (k : Int)), .ref t1, .ref t2, .ref t3, .ref c0, .ref c1, .ref c2, .ref c3, .int (zI him), .int (zI 38), .int (zI 1), .ref c0, .int (zI chd), .int (zI chf), .ref y0, .int (zI sd), .ref y1])), (g1, AI G 7 (fun z_ => (kd1 z_ : Int))), (g2, AI G 7 fg1), (g3, AI G 7 hm1), (g4, AI G 7 at1), (g5, AI G 7 lg1), (s1, AI G 8 (fun z_ => (hw z_ : Int))), (s2, AI G 8 (fun z_ => (kk z_ : Int))), (s3, AI G 8 kf), (s4, AI G 8 (fun z_ => (rs z_ : Int))), (s5, AI G 8 (fun z_ => (rm z_ : Int))), (s6, AL G 800 rw_), (t1, AI G 51 pf1), (t2, AI G 51 lf1), (t3, AI G 204 tf1), (c0, AI G 38 (encF n oa dy kd fg hm at_ lg))] 113 [(3, .int (zI (j : Int))), (0, .ref m), (1, .int (zI (e : Int)))] [] := by
                      intro tt
                      induction tt using Nat.strongRecOn with
                      | _ tt ih_113 =>
                        intro j n1 kd1 fg1 hm1 at1 lg1 oa1 dy1 ibx hjk hrn hL1 hd1 ht_113
                        refine z_iload_n C dX4_land_113 rfl 0 rfl ?_
                        refine z_aload_n C dX4_land_114 rfl 1 rfl ?_
                        refine z_get (q := 0) (kf := 18) (v := .int (zI (k : Int))) C rfl rfl in_X4 (by decide) q1105 (Or.inl rfl) rfl dX4_land_115 ?_
                        refine y_icmp_ge (tgt := 150) C (by omega) (by omega) dX4_land_118 (by decide) (fun c_118 => ?_) (fun c_118 => ?_)
                        · skip
                          refine z_aload_n C dX4_land_150 rfl 1 rfl ?_
                          refine z_get (q := 0) (kf := 18) (v := .int (zI (k : Int))) C rfl rfl in_X4 (by decide) q1105 (Or.inl rfl) rfl dX4_land_151 ?_
                          rw [show j = k by omega, Nat.sub_self] at hrn
                          exact z_iret C hA hQ rfl (Nat.le_of_ble_eq_true rfl) (Nat.le_of_ble_eq_true rfl) (((e : Int), (p : Int), ibx, (k : Int), (.ref c0), 38, 1, n1, kd1, fg1, hm1, at1, lg1, oa1, dy1, pf1, lf1, tf1, (encF n oa dy kd fg hm at_ lg))) (by rw [oLand_t (show ¬ wrZ hw (e : Int) < 0 by omega) (by simp only [zTN]; omega), show txF (rowF rw_ ((e : Int).toNat)) (rm ((e : Int).toNat)) (n, kd, fg, hm, at_, lg, oa, dy) = _ from hrn]; exact ⟨rfl, rfl⟩) (sb_e [0, 1, 2, 3, 4, 5, 6, 7, 8, 9, 10, 11, 12, 13, 14, 15] rfl rfl) dX4_land_154
                        · skip
                          have hgj := hgood j (by omega)
                          obtain ⟨hpj, hdj⟩ := hdat j (by omega)
                          obtain ⟨c7, a7, b7, d7, e7, hlet7, hl7, hv0, hv1, hv2, ⟨hra, hrb, hrd7, hre⟩, hcme⟩ := cm_data hgj (hdj hgj).1 (hdj hgj).2
                          refine z_aload_n C dX4_land_121 rfl 1 rfl ?_
                          refine z_iload_n C dX4_land_122 rfl 0 rfl ?_
                          refine z_i (ws' := fun u => [(m, .inr (11, [.int (zI (u.2.1 : Int)), .ref g1, .ref g2, .ref g3, .ref g4, .ref g5, .int (zI u.2.2.2.2.2.2.2.1), .int (zI u.2.2.2.2.2.2.2.2), .ref s1, .ref s2, .ref s3, .ref s4, .ref s5, .ref s6, .int (zI 0), .int (zI (e : Int)), .int (zI (p : Int)), .int (zI ibx), .int (zI (k : Int)), .ref t1, .ref t2, .ref t3, .ref c0, .ref c1, .ref c2, .ref c3, .int (zI him), .int (zI 38), .int (zI 1), .ref c0, .int (zI chd), .int (zI chf), .ref y0, .int (zI sd), .ref y1])), (g1, AI G 7 (fun z_ => (u.2.2.1 z_ : Int))), (g2, AI G 7 u.2.2.2.1), (g3, AI G 7 u.2.2.2.2.1), (g4, AI G 7 u.2.2.2.2.2.1), (g5, AI G 7 u.2.2.2.2.2.2.1), (s1, AI G 8 (fun z_ => (hw z_ : Int))), (s2, AI G 8 (fun z_ => (kk z_ : Int))), (s3, AI G 8 kf), (s4, AI G 8 (fun z_ => (rs z_ : Int))), (s5, AI G 8 (fun z_ => (rm z_ : Int))), (s6, AL G 800 rw_), (t1, AI G 51 pf1), (t2, AI G 51 lf1), (t3, AI G 204 tf1), (c0, AI G 38 (encF n oa dy kd fg hm at_ lg))]) C (z_runV (q := 0) (As := [.int (zI (j : Int))]) (rest := []) C (ct_X4_comesTold (zl X) G m g1 g2 g3 g4 g5 s1 s2 s3 s4 s5 s6 t1 t2 t3 c0 c1 c2 c3 y0 y1 0 (e : Int) (p : Int) ibx (k : Int) him 38 1 chd chf sd (.ref c0) kd1 fg1 hm1 at1 lg1 n1 oa1 dy1 j c7 a7 b7 d7 e7 lf1 tf1 (hL1) (by first | assumption | omega) (hd1) (hlet7) (hl7) (hv0) (hv1) (hv2) (hra) (hrb) (hrd7) (hre)) (lw_V q1243 q1245 qs31 q61 q1246) rfl rfl (sb_e [0, 1, 2, 3, 4, 5, 13, 14] rfl rfl) (na := 1) (by decide +kernel) rfl (zrm rfl rfl (rfl) (rfl)) rfl (Nat.le_of_ble_eq_true rfl) dX4_land_123) (fun u => jn_e (wr := [(s1, AI G 8 (fun z_ => (hw z_ : Int))), (s2, AI G 8 (fun z_ => (kk z_ : Int))), (s3, AI G 8 kf), (s4, AI G 8 (fun z_ => (rs z_ : Int))), (s5, AI G 8 (fun z_ => (rm z_ : Int))), (s6, AL G 800 rw_), (t1, AI G 51 pf1), (c0, AI G 38 (encF n oa dy kd fg hm at_ lg))]) [0, 1, 2, 3, 4, 5, 13, 14] [6, 7, 8, 9, 10, 11, 12, 15] [8, 9, 10, 11, 12, 13, 0, 1, 2, 3, 4, 5, 6, 14, 15, 7] rfl rfl rfl (by decide) rfl rfl) (fun r_123 u hp_123 => ?_)
                          obtain ⟨g9_123, n9_123, kd9_123, fg9_123, hm9_123, at9_123, lg9_123, oa9_123, dy9_123⟩ := u
                          obtain ⟨hrv, hg01, hgy, hgn⟩ := hp_123
                          subst hrv
                          refine y_if_ne (tgt := 144) C (by omega) dX4_land_126 (by decide) (fun c_126 => ?_) (fun c_126 => ?_)
                          · skip
                            have hcm : cmK (rowF rw_ e) (rm e) j (n1, kd1, fg1, hm1, at1, lg1, oa1, dy1) = some (n9_123, kd9_123, fg9_123, hm9_123, at9_123, lg9_123, oa9_123, dy9_123) := (hcme _).trans (hgy (by omega))
                            have hok := (cmK_ok (LKS.mk hL1 hd1) hgj.2 hcm).d
                            refine y_iinc (lv' := [(3, .int (zI ((j : Int) + 1))), (0, .ref m), (1, .int (zI (e : Int)))]) C dX4_land_144 (q := 0) rfl (nlt rfl) rfl ?_
                            refine z_goto (tgt := 113) C dX4_land_147 (by decide) ?_
                            exact ih_113 _ (by omega) (j + 1) n9_123 kd9_123 fg9_123 hm9_123 at9_123 lg9_123 oa9_123 dy9_123 ibx (by first | assumption | omega) (by rw [hrn, show k - j = (k - (j + 1)) + 1 by omega]; exact rnF_on hcm) (hok.1) (hok.2) rfl
                          · skip
                            have hcn : cmK (rowF rw_ e) (rm e) j (n1, kd1, fg1, hm1, at1, lg1, oa1, dy1) = none := (hcme _).trans (hgn (by omega))
                            refine z_aload_n C dX4_land_129 rfl 1 rfl ?_
                            refine z_v (ws' := fun u => [(m, .inr (11, [.int (zI (n : Int)), .ref g1, .ref g2, .ref g3, .ref g4, .ref g5, .int (zI oa), .int (zI dy), .ref s1, .ref s2, .ref s3, .ref s4, .ref s5, .ref s6, .int (zI 0), .int (zI (e : Int)), .int (zI (p : Int)), .int (zI ibx), .int (zI (k : Int)), .ref t1, .ref t2, .ref t3, .ref c0, .ref c1, .ref c2, .ref c3, .int (zI him), .int (zI 38), .int (zI 0), .ref c0, .int (zI chd), .int (zI chf), .ref y0, .int (zI sd), .ref y1])), (g1, AI G 7 (fun z_ => (kd z_ : Int))), (g2, AI G 7 fg), (g3, AI G 7 hm), (g4, AI G 7 at_), (g5, AI G 7 lg), (s1, AI G 8 (fun z_ => (hw z_ : Int))), (s2, AI G 8 (fun z_ => (kk z_ : Int))), (s3, AI G 8 kf), (s4, AI G 8 (fun z_ => (rs z_ : Int))), (s5, AI G 8 (fun z_ => (rm z_ : Int))), (s6, AL G 800 rw_), (t1, AI G 51 pf1), (t2, AI G 51 lf1), (t3, AI G 204 tf1), (c0, AI G 38 (encF n oa dy kd fg hm at_ lg))]) C (z_runV (q := 0) (As := []) (rest := []) C (ct_X4_close (zl X) G m g1 g2 g3 g4 g5 s1 s2 s3 s4 s5 s6 t1 t2 t3 c0 c1 c2 c3 y0 y1 0 (e : Int) (p : Int) ibx (k : Int) him 38 1 chd chf sd (.ref c0) (fun z_ => (kd9_123 z_ : Int)) fg9_123 hm9_123 at9_123 lg9_123 n9_123 oa9_123 dy9_123 kd fg hm at_ lg n oa dy ) (lw_V q1302 q1304 qs43 q61 q1305) rfl rfl (sb_e [0, 1, 2, 3, 4, 5, 15] rfl rfl) (na := 0) (by decide +kernel) rfl (zrm rfl rfl (rfl) (rfl)) rfl (Nat.le_of_ble_eq_true rfl) dX4_land_130) (fun u => jn_e (wr := [(s1, AI G 8 (fun z_ => (hw z_ : Int))), (s2, AI G 8 (fun z_ => (kk z_ : Int))), (s3, AI G 8 kf), (s4, AI G 8 (fun z_ => (rs z_ : Int))), (s5, AI G 8 (fun z_ => (rm z_ : Int))), (s6, AL G 800 rw_), (t1, AI G 51 pf1), (t2, AI G 51 lf1), (t3, AI G 204 tf1)]) [0, 1, 2, 3, 4, 5, 15] [6, 7, 8, 9, 10, 11, 12, 13, 14] [9, 10, 11, 12, 13, 14, 0, 1, 2, 3, 4, 5, 6, 7, 8, 15] rfl rfl rfl (by decide) rfl rfl) (fun u hp_130 => ?_)
                            refine y_sipush C dX4_land_133 (by decide) ?_
                            refine z_aload_n C dX4_land_136 rfl 1 rfl ?_
                            refine z_get (q := 0) (kf := 19) (v := .ref t1) C rfl rfl in_X4 (by decide) q1106 (Or.inl rfl) rfl dX4_land_137 ?_
                            refine z_iload_n C dX4_land_140 rfl 0 rfl ?_
                            refine y_iald (q := 12) (t0 := 0) (v := pf1 j) C rfl rfl (by omega) (by decide) rfl dX4_land_141 ?_
                            refine y_isub C dX4_land_142 ?_
                            exact z_iret C hA hQ rfl (Nat.le_of_ble_eq_true rfl) (Nat.le_of_ble_eq_true rfl) (((e : Int), (p : Int), ibx, (k : Int), (.ref c0), 38, 0, n, kd, fg, hm, at_, lg, oa, dy, pf1, lf1, tf1, (encF n oa dy kd fg hm at_ lg))) (by rw [oLand_t (show ¬ wrZ hw (e : Int) < 0 by omega) (by simp only [zTN]; omega), show txF (rowF rw_ ((e : Int).toNat)) (rm ((e : Int).toNat)) (n, kd, fg, hm, at_, lg, oa, dy) = _ from hrn, show k - j = (k - (j + 1)) + 1 by omega, rnF_no hcn]; exact ⟨congrArg zI (by rw [hpj]), rfl⟩) (sb_e [0, 1, 2, 3, 4, 5, 6, 7, 8, 9, 10, 11, 12, 13, 14, 15] rfl rfl) dX4_land_143
                    exact L_113 _ 0 n kd fg hm at_ lg oa dy 0 (by first | assumption | omega) (by rw [Nat.sub_zero]; exact htx) (hL) (hdy) rfl
                  · skip
                    refine y_sipush C dX4_land_98 (by decide) ?_
                    refine z_aload_n C dX4_land_101 rfl 0 rfl ?_
                    refine z_get (q := 0) (kf := 16) (v := .int (zI (p : Int))) C rfl rfl in_X4 (by decide) q1103 (Or.inl rfl) rfl dX4_land_102 ?_
                    refine y_isub C dX4_land_105 ?_
                    obtain ⟨k0, hk0, hcnt, hbk, -⟩ := rdS_end hrd (by omega)
                    exact z_iret C hA hQ rfl (Nat.le_of_ble_eq_true rfl) (Nat.le_of_ble_eq_true rfl) (((e : Int), (p : Int), 0, (k : Int), ki, pl0, itk, n, kd, fg, hm, at_, lg, oa, dy, pf1, lf1, tf1, kc)) (by rw [oLand_t (show ¬ wrZ hw (e : Int) < 0 by omega) (by simp only [zTN]; omega), show txF (rowF rw_ ((e : Int).toNat)) (rm ((e : Int).toNat)) (n, kd, fg, hm, at_, lg, oa, dy) = _ from txF_badC hcnt hbk (by omega)]; exact ⟨congrArg zI (by show -1000 - (p : Int) = -1000 - ((spF (rowF rw_ e) (rm e) (k0 + 1) : Nat) : Int); rw [hps, hk0]), rfl⟩) (sb_e [0, 1, 2, 3, 4, 5, 6, 7, 8, 9, 10, 11, 12, 13, 14, 15] rfl rfl) dX4_land_106
                · skip
                  refine z_aload_n C dX4_land_84 rfl 0 rfl ?_
                  refine z_v (ws' := fun u => [(m, .inr (11, [.int (zI (n : Int)), .ref g1, .ref g2, .ref g3, .ref g4, .ref g5, .int (zI oa), .int (zI dy), .ref s1, .ref s2, .ref s3, .ref s4, .ref s5, .ref s6, .int (zI 0), .int (zI (e : Int)), .int (zI (u.1 : Int)), .int (zI u.2.1), .int (zI ((k + 1 : Nat) : Int)), .ref t1, .ref t2, .ref t3, .ref c0, .ref c1, .ref c2, .ref c3, .int (zI him), .int (zI pl0), .int (zI itk), ki, .int (zI chd), .int (zI chf), .ref y0, .int (zI sd), .ref y1])), (g1, AI G 7 (fun z_ => (kd z_ : Int))), (g2, AI G 7 fg), (g3, AI G 7 hm), (g4, AI G 7 at_), (g5, AI G 7 lg), (s1, AI G 8 (fun z_ => (hw z_ : Int))), (s2, AI G 8 (fun z_ => (kk z_ : Int))), (s3, AI G 8 kf), (s4, AI G 8 (fun z_ => (rs z_ : Int))), (s5, AI G 8 (fun z_ => (rm z_ : Int))), (s6, AL G 800 rw_), (t1, AI G 51 (va_up pf1 k (p : Int))), (t2, AI G 51 u.2.2.1), (t3, AI G 204 u.2.2.2), (c0, AI G 38 kc)]) C (z_runV (q := 0) (As := []) (rest := []) C (ct_X4_readStatement (zl X) G m g1 g2 g3 g4 g5 s1 s2 s3 s4 s5 s6 t1 t2 t3 c0 c1 c2 c3 y0 y1 0 him pl0 itk chd chf sd ki n oa dy hw kk rs rm kf rw_ e p k pf1 lf1 tf1 (by first | assumption | omega) (by first | assumption | omega) (by first | assumption | omega) (by first | assumption | omega)) (lw_V q1210 q1212 qs24 q61 q1213) rfl rfl (sb_e [0, 6, 7, 8, 9, 10, 11, 12, 13, 14] rfl rfl) (na := 0) (by decide +kernel) rfl (zrm rfl rfl (rfl) (rfl)) rfl (Nat.le_of_ble_eq_true rfl) dX4_land_85) (fun u => jn_e (wr := [(g1, AI G 7 (fun z_ => (kd z_ : Int))), (g2, AI G 7 fg), (g3, AI G 7 hm), (g4, AI G 7 at_), (g5, AI G 7 lg), (c0, AI G 38 kc)]) [0, 6, 7, 8, 9, 10, 11, 12, 13, 14] [1, 2, 3, 4, 5, 15] [6, 0, 1, 2, 3, 4, 7, 8, 9, 10, 11, 12, 13, 14, 15, 5] rfl rfl rfl (by decide) rfl rfl) (fun u hp_85 => ?_)
                  obtain ⟨p9_85, b9_85, lf9_85, tf9_85⟩ := u
                  obtain ⟨hst, hdt, hlj, htj⟩ := hp_85
                  obtain ⟨hrd2, hk25, -⟩ := rdS_on hM hrd (by omega) (by omega) hst
                  refine z_goto (tgt := 57) C dX4_land_88 (by decide) ?_
                  exact ih_57 _ (by omega) (k + 1) p9_85 b9_85 (va_up pf1 k (p : Int)) lf9_85 tf9_85 (hrd2) (fun j hj => by
                    rcases Nat.lt_succ_iff_lt_or_eq.mp hj with c | c
                    · obtain ⟨q1, q2⟩ := hdat j c
                      exact ⟨by rw [up_ne (by omega)]; exact q1, fun z => ⟨(hlj j c).trans (q2 z).1, tvF_cg (q2 z).2 (fun i hi => htj i (by omega))⟩⟩
                    · rw [c, ← hps]
                      exact ⟨up_eq, hdt⟩) rfl
        refine z_lv (lv' := [(0, .ref m), (1, .int (zI (e : Int)))]) [1, 2] rfl ?_
        exact L_57 _ 0 0 0 pf lf tf (Or.inl ⟨rfl, rfl, rfl⟩) (fun j hj => absurd hj (Nat.not_lt_zero j)) rfl
      · skip
        exfalso; omega
    · skip
      refine y_bipush C dX4_land_24 (by decide) ?_
      refine z_goto (tgt := 30) C dX4_land_26 (by decide) ?_
      refine z_istore_n (lv' := [(2, .int (zI (-12))), (0, .ref m), (1, .int (zI (e : Int)))]) C dX4_land_30 rfl (nlt rfl) rfl ?_
      refine z_iload_n C dX4_land_31 rfl 0 rfl ?_
      refine y_if_ge (tgt := 37) C (by omega) dX4_land_32 (by decide) (fun c_32 => ?_) (fun c_32 => ?_)
      · skip
        exfalso; omega
      · skip
        refine z_iload_n C dX4_land_35 rfl 0 rfl ?_
        exact z_iret C hA hQ rfl (Nat.le_of_ble_eq_true rfl) (Nat.le_of_ble_eq_true rfl) ((rdg, plc, ibd, stm, ki, pl0, itk, n, kd, fg, hm, at_, lg, oa, dy, pf, lf, tf, kc)) (by rw [oLand_s (show ¬ wrZ hw (e : Int) < 0 by omega) (by simp only [zTN]; omega)]; exact ⟨rfl, rfl⟩) (sb_e [0, 1, 2, 3, 4, 5, 6, 7, 8, 9, 10, 11, 12, 13, 14, 15] rfl rfl) dX4_land_36

