/-! THE MODEL, 14: a land by its text -/
set_option maxRecDepth 100000
set_option maxHeartbeats 4000000 in
theorem ct_X4_here (l : Launch) (G : ZG) (m : Nat) (g1 : Nat) (g2 : Nat) (g3 : Nat) (g4 : Nat) (g5 : Nat) (s1 : Nat) (s2 : Nat) (s3 : Nat) (s4 : Nat) (s5 : Nat) (s6 : Nat) (t1 : Nat) (t2 : Nat) (t3 : Nat) (c0 : Nat) (c1 : Nat) (c2 : Nat) (c3 : Nat) (y0 : Nat) (y1 : Nat) (thr : Int) (ibd : Int) (stm : Int) (him : Int) (pl0 : Int) (itk : Int) (chd : Int) (chf : Int) (sd : Int) (ki : Value) (n : Nat) (oa : Int) (dy : Int) (hw : Nat → Nat) (kk : Nat → Nat) (rs : Nat → Nat) (rm : Nat → Nat) (kf : Nat → Int) (rw_ : Nat → Int) (e : Nat) (p : Nat) (hS : SK hw kk rs rm kf rw_) (he : e < 8) (hp : p ≤ 200) : CT l yX4_here cX4_here 1 (some .int) { frames := 0, cells := 0, slots := 0, locals := 0 } G [.ref m] [(m, .inr (11, [.int (zI (n : Int)), .ref g1, .ref g2, .ref g3, .ref g4, .ref g5, .int (zI oa), .int (zI dy), .ref s1, .ref s2, .ref s3, .ref s4, .ref s5, .ref s6, .int (zI thr), .int (zI (e : Int)), .int (zI (p : Int)), .int (zI ibd), .int (zI stm), .ref t1, .ref t2, .ref t3, .ref c0, .ref c1, .ref c2, .ref c3, .int (zI him), .int (zI pl0), .int (zI itk), ki, .int (zI chd), .int (zI chf), .ref y0, .int (zI sd), .ref y1])), (s1, AI G 8 (fun z_ => (hw z_ : Int))), (s2, AI G 8 (fun z_ => (kk z_ : Int))), (s3, AI G 8 kf), (s4, AI G 8 (fun z_ => (rs z_ : Int))), (s5, AI G 8 (fun z_ => (rm z_ : Int))), (s6, AL G 800 rw_)] (Qi G [(m, .inr (11, [.int (zI (n : Int)), .ref g1, .ref g2, .ref g3, .ref g4, .ref g5, .int (zI oa), .int (zI dy), .ref s1, .ref s2, .ref s3, .ref s4, .ref s5, .ref s6, .int (zI thr), .int (zI (e : Int)), .int (zI (p : Int)), .int (zI ibd), .int (zI stm), .ref t1, .ref t2, .ref t3, .ref c0, .ref c1, .ref c2, .ref c3, .int (zI him), .int (zI pl0), .int (zI itk), ki, .int (zI chd), .int (zI chf), .ref y0, .int (zI sd), .ref y1])), (s1, AI G 8 (fun z_ => (hw z_ : Int))), (s2, AI G 8 (fun z_ => (kk z_ : Int))), (s3, AI G 8 kf), (s4, AI G 8 (fun z_ => (rs z_ : Int))), (s5, AI G 8 (fun z_ => (rm z_ : Int))), (s6, AL G 800 rw_)] (fun (r : Int32) (u : Unit) => r = zI (hereF (rowF rw_ e) (rm e) p (-999))) (fun u => [(m, .inr (11, [.int (zI (n : Int)), .ref g1, .ref g2, .ref g3, .ref g4, .ref g5, .int (zI oa), .int (zI dy), .ref s1, .ref s2, .ref s3, .ref s4, .ref s5, .ref s6, .int (zI thr), .int (zI (e : Int)), .int (zI (p : Int)), .int (zI ibd), .int (zI stm), .ref t1, .ref t2, .ref t3, .ref c0, .ref c1, .ref c2, .ref c3, .int (zI him), .int (zI pl0), .int (zI itk), ki, .int (zI chd), .int (zI chf), .ref y0, .int (zI sd), .ref y1])), (s1, AI G 8 (fun z_ => (hw z_ : Int))), (s2, AI G 8 (fun z_ => (kk z_ : Int))), (s3, AI G 8 kf), (s4, AI G 8 (fun z_ => (rs z_ : Int))), (s5, AI G 8 (fun z_ => (rm z_ : Int))), (s6, AL G 800 rw_)])) := by
  refine z_met (by decide) (Nat.le_of_ble_eq_true rfl) ?_
  intro X A hl0 hA C hQ hin
  subst hl0
  have hSe := hS.1 e he
  show Z X _ G 0 0 _ 0 [(0, .ref m)] []
  refine z_aload_n C dX4_here_0 rfl 0 rfl ?_
  refine z_get (q := 0) (kf := 16) (v := .int (zI (p : Int))) C rfl rfl in_X4 (by decide) q1103 (Or.inl rfl) rfl dX4_here_1 ?_
  refine z_aload_n C dX4_here_4 rfl 0 rfl ?_
  refine z_get (q := 0) (kf := 12) (v := .ref s5) C rfl rfl in_X4 (by decide) q1099 (Or.inl rfl) rfl dX4_here_5 ?_
  refine z_aload_n C dX4_here_8 rfl 0 rfl ?_
  refine z_get (q := 0) (kf := 15) (v := .int (zI (e : Int))) C rfl rfl in_X4 (by decide) q1102 (Or.inl rfl) rfl dX4_here_9 ?_
  refine y_iald (q := 5) (t0 := 0) (v := (rm e : Int)) C rfl rfl (by omega) (by decide) rfl dX4_here_12 ?_
  refine y_icmp_ge (tgt := 37) C (by omega) (by omega) dX4_here_13 (by decide) (fun c_13 => ?_) (fun c_13 => ?_)
  · skip
    refine y_sipush C dX4_here_37 (by decide) ?_
    exact z_iret C hA hQ rfl (Nat.le_of_ble_eq_true rfl) (Nat.le_of_ble_eq_true rfl) (()) (congrArg zI (by unfold hereF; first | (rw [if_pos (by omega)]; done) | (rw [if_neg (by omega)]; done))) (sb_e [0, 1, 2, 3, 4, 5, 6] rfl rfl) dX4_here_40
  · skip
    refine z_aload_n C dX4_here_16 rfl 0 rfl ?_
    refine z_get (q := 0) (kf := 13) (v := .ref s6) C rfl rfl in_X4 (by decide) q1100 (Or.inl rfl) rfl dX4_here_17 ?_
    refine y_bipush C dX4_here_20 (by decide) ?_
    refine z_aload_n C dX4_here_22 rfl 0 rfl ?_
    refine z_get (q := 0) (kf := 15) (v := .int (zI (e : Int))) C rfl rfl in_X4 (by decide) q1102 (Or.inl rfl) rfl dX4_here_23 ?_
    refine y_imul C dX4_here_26 ?_
    refine z_aload_n C dX4_here_27 rfl 0 rfl ?_
    refine z_get (q := 0) (kf := 16) (v := .int (zI (p : Int))) C rfl rfl in_X4 (by decide) q1103 (Or.inl rfl) rfl dX4_here_28 ?_
    refine y_iadd C dX4_here_31 ?_
    refine y_lald (q := 6) (t0 := 1) (v := rowF rw_ e p) C rfl rfl (by omega) (by decide) (by rw [show (100 * (e : Int) + (p : Int)).toNat = 100 * e + p by omega]; rfl) dX4_here_32 ?_
    have hrv : -2147483648 ≤ rowF rw_ e p ∧ rowF rw_ e p ≤ 2147483647 := hS.2 (100 * e + p)
    refine y_l2i C (by omega) dX4_here_33 ?_
    refine z_goto (tgt := 40) C dX4_here_34 (by decide) ?_
    exact z_iret C hA hQ rfl (Nat.le_of_ble_eq_true rfl) (Nat.le_of_ble_eq_true rfl) (()) (congrArg zI (by unfold hereF; first | (rw [if_pos (by omega)]; done) | (rw [if_neg (by omega)]; done))) (sb_e [0, 1, 2, 3, 4, 5, 6] rfl rfl) dX4_here_40

set_option maxHeartbeats 4000000 in
theorem ct_X4_isLetter (l : Launch) (G : ZG) (c : Int) (rc : -2147483648 ≤ c ∧ c ≤ 2147483647) : CT l yX4_isLetter cX4_isLetter 1 (some .boolean) { frames := 0, cells := 0, slots := 0, locals := 0 } G [.int (zI c)] [] (Qi G [] (fun (r : Int32) (u : Unit) => r = zI (bI (isL c))) (fun u => [])) := by
  refine z_met (by decide) (Nat.le_of_ble_eq_true rfl) ?_
  intro X A hl0 hA C hQ hin
  subst hl0
  show Z X _ G 0 0 _ 0 [(0, .int (zI c))] []
  refine z_iload_n C dX4_isLetter_0 rfl 0 rfl ?_
  refine y_bipush C dX4_isLetter_1 (by decide) ?_
  refine y_icmp_eq (tgt := 30) C (by omega) (by omega) dX4_isLetter_3 (by decide) (fun c_3 => ?_) (fun c_3 => ?_)
  · skip
    refine y_iconst C dX4_isLetter_30 ?_
    refine z_goto (tgt := 35) C dX4_isLetter_31 (by decide) ?_
    exact z_zret C hA hQ rfl (Nat.le_of_ble_eq_true rfl) (Nat.le_of_ble_eq_true rfl) (()) (congrArg zI (bI_t (by omega)).symm) (rfl) (sb_e [] rfl rfl) dX4_isLetter_35
  · skip
    refine z_iload_n C dX4_isLetter_6 rfl 0 rfl ?_
    refine y_bipush C dX4_isLetter_7 (by decide) ?_
    refine y_icmp_eq (tgt := 30) C (by omega) (by omega) dX4_isLetter_9 (by decide) (fun c_9 => ?_) (fun c_9 => ?_)
    · skip
      refine y_iconst C dX4_isLetter_30 ?_
      refine z_goto (tgt := 35) C dX4_isLetter_31 (by decide) ?_
      exact z_zret C hA hQ rfl (Nat.le_of_ble_eq_true rfl) (Nat.le_of_ble_eq_true rfl) (()) (congrArg zI (bI_t (by omega)).symm) (rfl) (sb_e [] rfl rfl) dX4_isLetter_35
    · skip
      refine z_iload_n C dX4_isLetter_12 rfl 0 rfl ?_
      refine y_bipush C dX4_isLetter_13 (by decide) ?_
      refine y_icmp_eq (tgt := 30) C (by omega) (by omega) dX4_isLetter_15 (by decide) (fun c_15 => ?_) (fun c_15 => ?_)
      · skip
        refine y_iconst C dX4_isLetter_30 ?_
        refine z_goto (tgt := 35) C dX4_isLetter_31 (by decide) ?_
        exact z_zret C hA hQ rfl (Nat.le_of_ble_eq_true rfl) (Nat.le_of_ble_eq_true rfl) (()) (congrArg zI (bI_t (by omega)).symm) (rfl) (sb_e [] rfl rfl) dX4_isLetter_35
      · skip
        refine z_iload_n C dX4_isLetter_18 rfl 0 rfl ?_
        refine y_bipush C dX4_isLetter_19 (by decide) ?_
        refine y_icmp_eq (tgt := 30) C (by omega) (by omega) dX4_isLetter_21 (by decide) (fun c_21 => ?_) (fun c_21 => ?_)
        · skip
          refine y_iconst C dX4_isLetter_30 ?_
          refine z_goto (tgt := 35) C dX4_isLetter_31 (by decide) ?_
          exact z_zret C hA hQ rfl (Nat.le_of_ble_eq_true rfl) (Nat.le_of_ble_eq_true rfl) (()) (congrArg zI (bI_t (by omega)).symm) (rfl) (sb_e [] rfl rfl) dX4_isLetter_35
        · skip
          refine z_iload_n C dX4_isLetter_24 rfl 0 rfl ?_
          refine y_bipush C dX4_isLetter_25 (by decide) ?_
          refine y_icmp_ne (tgt := 34) C (by omega) (by omega) dX4_isLetter_27 (by decide) (fun c_27 => ?_) (fun c_27 => ?_)
          · skip
            refine y_iconst C dX4_isLetter_34 ?_
            exact z_zret C hA hQ rfl (Nat.le_of_ble_eq_true rfl) (Nat.le_of_ble_eq_true rfl) (()) (congrArg zI (bI_f (by omega)).symm) (rfl) (sb_e [] rfl rfl) dX4_isLetter_35
          · skip
            refine y_iconst C dX4_isLetter_30 ?_
            refine z_goto (tgt := 35) C dX4_isLetter_31 (by decide) ?_
            exact z_zret C hA hQ rfl (Nat.le_of_ble_eq_true rfl) (Nat.le_of_ble_eq_true rfl) (()) (congrArg zI (bI_t (by omega)).symm) (rfl) (sb_e [] rfl rfl) dX4_isLetter_35

set_option maxHeartbeats 4000000 in
theorem ct_X4_readDigits (l : Launch) (G : ZG) (m : Nat) (g1 : Nat) (g2 : Nat) (g3 : Nat) (g4 : Nat) (g5 : Nat) (s1 : Nat) (s2 : Nat) (s3 : Nat) (s4 : Nat) (s5 : Nat) (s6 : Nat) (t1 : Nat) (t2 : Nat) (t3 : Nat) (c0 : Nat) (c1 : Nat) (c2 : Nat) (c3 : Nat) (y0 : Nat) (y1 : Nat) (thr : Int) (ibd : Int) (stm : Int) (him : Int) (pl0 : Int) (itk : Int) (chd : Int) (chf : Int) (sd : Int) (ki : Value) (n : Nat) (oa : Int) (dy : Int) (hw : Nat → Nat) (kk : Nat → Nat) (rs : Nat → Nat) (rm : Nat → Nat) (kf : Nat → Int) (rw_ : Nat → Int) (e : Nat) (p : Nat) (k : Nat) (hS : SK hw kk rs rm kf rw_) (he : e < 8) (hp : p ≤ 120) (hk2 : k ≤ 2) (hibd : ibd = 0 ∨ ibd = 1) : CT l yX4_readDigits cX4_readDigits 4 (some .int) { frames := 1, cells := 0, slots := 0, locals := 25 } G [.ref m, .int (zI (k : Int))] [(m, .inr (11, [.int (zI (n : Int)), .ref g1, .ref g2, .ref g3, .ref g4, .ref g5, .int (zI oa), .int (zI dy), .ref s1, .ref s2, .ref s3, .ref s4, .ref s5, .ref s6, .int (zI thr), .int (zI (e : Int)), .int (zI (p : Int)), .int (zI ibd), .int (zI stm), .ref t1, .ref t2, .ref t3, .ref c0, .ref c1, .ref c2, .ref c3, .int (zI him), .int (zI pl0), .int (zI itk), ki, .int (zI chd), .int (zI chf), .ref y0, .int (zI sd), .ref y1])), (s1, AI G 8 (fun z_ => (hw z_ : Int))), (s2, AI G 8 (fun z_ => (kk z_ : Int))), (s3, AI G 8 kf), (s4, AI G 8 (fun z_ => (rs z_ : Int))), (s5, AI G 8 (fun z_ => (rm z_ : Int))), (s6, AL G 800 rw_)] (Qi G [(m, .inr (11, [.int (zI (n : Int)), .ref g1, .ref g2, .ref g3, .ref g4, .ref g5, .int (zI oa), .int (zI dy), .ref s1, .ref s2, .ref s3, .ref s4, .ref s5, .ref s6, .int (zI thr), .int (zI (e : Int)), .int (zI (p : Int)), .int (zI ibd), .int (zI stm), .ref t1, .ref t2, .ref t3, .ref c0, .ref c1, .ref c2, .ref c3, .int (zI him), .int (zI pl0), .int (zI itk), ki, .int (zI chd), .int (zI chf), .ref y0, .int (zI sd), .ref y1])), (s1, AI G 8 (fun z_ => (hw z_ : Int))), (s2, AI G 8 (fun z_ => (kk z_ : Int))), (s3, AI G 8 kf), (s4, AI G 8 (fun z_ => (rs z_ : Int))), (s5, AI G 8 (fun z_ => (rm z_ : Int))), (s6, AL G 800 rw_)] (fun (r : Int32) (u : Nat × Int × Int) => r = zI u.2.2 ∧ dgN (rowF rw_ e) (rm e) ibd p k = (u.1, u.2.1, u.2.2)) (fun u => [(m, .inr (11, [.int (zI (n : Int)), .ref g1, .ref g2, .ref g3, .ref g4, .ref g5, .int (zI oa), .int (zI dy), .ref s1, .ref s2, .ref s3, .ref s4, .ref s5, .ref s6, .int (zI thr), .int (zI (e : Int)), .int (zI (u.1 : Int)), .int (zI u.2.1), .int (zI stm), .ref t1, .ref t2, .ref t3, .ref c0, .ref c1, .ref c2, .ref c3, .int (zI him), .int (zI pl0), .int (zI itk), ki, .int (zI chd), .int (zI chf), .ref y0, .int (zI sd), .ref y1])), (s1, AI G 8 (fun z_ => (hw z_ : Int))), (s2, AI G 8 (fun z_ => (kk z_ : Int))), (s3, AI G 8 kf), (s4, AI G 8 (fun z_ => (rs z_ : Int))), (s5, AI G 8 (fun z_ => (rm z_ : Int))), (s6, AL G 800 rw_)])) := by
  refine z_met (by decide) (Nat.le_of_ble_eq_true rfl) ?_
  intro X A hl0 hA C hQ hin
  subst hl0
  show Z X _ G 0 0 _ 0 [(0, .ref m), (1, .int (zI (k : Int)))] []
  refine y_iconst C dX4_readDigits_0 ?_
  refine z_istore_n (lv' := [(2, .int (zI 0)), (0, .ref m), (1, .int (zI (k : Int)))]) C dX4_readDigits_1 rfl (nlt rfl) rfl ?_
  refine y_iconst C dX4_readDigits_2 ?_
  refine z_istore_n (lv' := [(3, .int (zI 0)), (2, .int (zI 0)), (0, .ref m), (1, .int (zI (k : Int)))]) C dX4_readDigits_3 rfl (nlt rfl) rfl ?_
  have L_4 : ∀ (tt : Nat) (i : Nat) (p1 : Nat) (b1 : Int) (v1 : Int), (i ≤ k) → (dgN (rowF rw_ e) (rm e) ibd p i = (p1, b1, v1)) → k - i = tt → Z X (cX4_readDigits, 4, yX4_readDigits.cls, (some .int), { frames := 1, cells := 0, slots := 0, locals := 25 }, A) G 0 0 [(m, .inr (11, [.int (zI (n : Int)), .ref g1, .ref g2, .ref g3, .ref g4, .ref g5, .int (zI oa), .int (zI dy), .ref s1, .ref s2, .ref s3, .ref s4, .ref s5, .ref s6, .int (zI thr), .int (zI (e : Int)), .int (zI (p1 : Int)), .int (zI b1), .int (zI stm), .ref t1, .ref t2, .ref t3, .ref c0, .ref c1, .ref c2, .ref c3, .int (zI him), .int (zI pl0), .int (zI itk), ki, .int (zI chd), .int (zI chf), .ref y0, .int (zI sd), .ref y1])), (s1, AI G 8 (fun z_ => (hw z_ : Int))), (s2, AI G 8 (fun z_ => (kk z_ : Int))), (s3, AI G 8 kf), (s4, AI G 8 (fun z_ => (rs z_ : Int))), (s5, AI G 8 (fun z_ => (rm z_ : Int))), (s6, AL G 800 rw_)] 4 [(3, .int (zI (i : Int))), (2, .int (zI v1)), (0, .ref m), (1, .int (zI (k : Int)))] [] := by
    intro tt
    induction tt using Nat.strongRecOn with
    | _ tt ih_4 =>
      intro i p1 b1 v1 hi hst ht_4
      obtain ⟨hb1, hpp, hpk, -, -, hv0, -, -, -⟩ := dgN_all hibd i p1 b1 v1 hst
      have hhr := hereF_r (f := (rowF rw_ e)) (m := (rm e)) (p := p1) (e := -999) (fun k => hS.2 (100 * e + k)) (by omega)
      refine z_iload_n C dX4_readDigits_4 rfl 0 rfl ?_
      refine z_iload_n C dX4_readDigits_5 rfl 3 rfl ?_
      refine y_icmp_ge (tgt := 93) C (by omega) (by omega) dX4_readDigits_6 (by decide) (fun c_6 => ?_) (fun c_6 => ?_)
      · skip
        refine z_iload_n C dX4_readDigits_93 rfl 1 rfl ?_
        rw [show i = k by omega] at hst
        exact z_iret C hA hQ rfl (Nat.le_of_ble_eq_true rfl) (Nat.le_of_ble_eq_true rfl) ((p1, b1, v1)) (⟨rfl, hst⟩) (sb_e [0, 1, 2, 3, 4, 5, 6] rfl rfl) dX4_readDigits_94
      · skip
        refine z_aload_n C dX4_readDigits_9 rfl 2 rfl ?_
        refine z_aload_n C dX4_readDigits_10 rfl 2 rfl ?_
        refine z_get (q := 0) (kf := 17) (v := .int (zI b1)) C rfl rfl in_X4 (by decide) q1104 (Or.inl rfl) rfl dX4_readDigits_11 ?_
        refine y_if_ne (tgt := 34) C (by omega) dX4_readDigits_14 (by decide) (fun c_14 => ?_) (fun c_14 => ?_)
        · skip
          refine y_iconst C dX4_readDigits_34 ?_
          refine z_goto (tgt := 39) C dX4_readDigits_35 (by decide) ?_
          refine z_put (q := 0) (kf := 17) (ws' := [(m, .inr (11, [.int (zI (n : Int)), .ref g1, .ref g2, .ref g3, .ref g4, .ref g5, .int (zI oa), .int (zI dy), .ref s1, .ref s2, .ref s3, .ref s4, .ref s5, .ref s6, .int (zI thr), .int (zI (e : Int)), .int (zI (p1 : Int)), .int (zI 1), .int (zI stm), .ref t1, .ref t2, .ref t3, .ref c0, .ref c1, .ref c2, .ref c3, .int (zI him), .int (zI pl0), .int (zI itk), ki, .int (zI chd), .int (zI chf), .ref y0, .int (zI sd), .ref y1])), (s1, AI G 8 (fun z_ => (hw z_ : Int))), (s2, AI G 8 (fun z_ => (kk z_ : Int))), (s3, AI G 8 kf), (s4, AI G 8 (fun z_ => (rs z_ : Int))), (s5, AI G 8 (fun z_ => (rm z_ : Int))), (s6, AL G 800 rw_)]) C rfl rfl in_X4 tyX4_ok nmX4 (by decide) q1104 rfl rfl rfl rfl rfl (nlt rfl) rfl dX4_readDigits_39 ?_
          refine z_aload_n C dX4_readDigits_42 rfl 2 rfl ?_
          refine z_get (q := 0) (kf := 17) (v := .int (zI 1)) C rfl rfl in_X4 (by decide) q1104 (Or.inl rfl) rfl dX4_readDigits_43 ?_
          refine y_if_eq (tgt := 53) C (by omega) dX4_readDigits_46 (by decide) (fun c_46 => ?_) (fun c_46 => ?_)
          · skip
            exact absurd c_46 (by decide)
          · skip
            refine y_iconst C dX4_readDigits_49 ?_
            refine z_goto (tgt := 65) C dX4_readDigits_50 (by decide) ?_
            refine z_istore_n (lv' := [(2, .int (zI 0)), (3, .int (zI (i : Int))), (0, .ref m), (1, .int (zI (k : Int)))]) C dX4_readDigits_65 rfl (nlt rfl) rfl ?_
            refine z_aload_n C dX4_readDigits_66 rfl 2 rfl ?_
            refine z_dup C dX4_readDigits_67 rfl ?_
            refine z_get (q := 0) (kf := 16) (v := .int (zI (p1 : Int))) C rfl rfl in_X4 (by decide) q1103 (Or.inl rfl) rfl dX4_readDigits_68 ?_
            refine z_aload_n C dX4_readDigits_71 rfl 2 rfl ?_
            refine z_get (q := 0) (kf := 17) (v := .int (zI 1)) C rfl rfl in_X4 (by decide) q1104 (Or.inl rfl) rfl dX4_readDigits_72 ?_
            refine y_if_eq (tgt := 82) C (by omega) dX4_readDigits_75 (by decide) (fun c_75 => ?_) (fun c_75 => ?_)
            · skip
              exact absurd c_75 (by decide)
            · skip
              refine y_iconst C dX4_readDigits_78 ?_
              refine z_goto (tgt := 83) C dX4_readDigits_79 (by decide) ?_
              refine y_iadd C dX4_readDigits_83 ?_
              rw [show ((p1 : Int) + 0 : Int) = (p1 : Int) by omega]
              refine z_put (q := 0) (kf := 16) (ws' := [(m, .inr (11, [.int (zI (n : Int)), .ref g1, .ref g2, .ref g3, .ref g4, .ref g5, .int (zI oa), .int (zI dy), .ref s1, .ref s2, .ref s3, .ref s4, .ref s5, .ref s6, .int (zI thr), .int (zI (e : Int)), .int (zI (p1 : Int)), .int (zI 1), .int (zI stm), .ref t1, .ref t2, .ref t3, .ref c0, .ref c1, .ref c2, .ref c3, .int (zI him), .int (zI pl0), .int (zI itk), ki, .int (zI chd), .int (zI chf), .ref y0, .int (zI sd), .ref y1])), (s1, AI G 8 (fun z_ => (hw z_ : Int))), (s2, AI G 8 (fun z_ => (kk z_ : Int))), (s3, AI G 8 kf), (s4, AI G 8 (fun z_ => (rs z_ : Int))), (s5, AI G 8 (fun z_ => (rm z_ : Int))), (s6, AL G 800 rw_)]) C rfl rfl in_X4 tyX4_ok nmX4 (by decide) q1103 rfl rfl rfl rfl rfl (nlt rfl) rfl dX4_readDigits_84 ?_
              refine y_iinc (lv' := [(3, .int (zI ((i : Int) + 1))), (2, .int (zI 0)), (0, .ref m), (1, .int (zI (k : Int)))]) C dX4_readDigits_87 (q := 1) rfl (nlt rfl) rfl ?_
              refine z_goto (tgt := 4) C dX4_readDigits_90 (by decide) ?_
              exact ih_4 _ (by omega) (i + 1) p1 1 0 (by first | assumption | omega) (by first | exact dgN_bad hst (Or.inl (by omega)) | exact dgN_bad hst (Or.inr hDb) | exact dgN_ok hst (by omega) hDg) rfl
        · skip
          refine z_aload_n C dX4_readDigits_17 rfl 2 rfl ?_
          refine z_i C (z_runV (q := 0) (As := []) (rest := [.ref m]) C (ct_X4_here (zl X) G m g1 g2 g3 g4 g5 s1 s2 s3 s4 s5 s6 t1 t2 t3 c0 c1 c2 c3 y0 y1 thr b1 stm him pl0 itk chd chf sd ki n oa dy hw kk rs rm kf rw_ e p1 (by first | assumption | omega) (by first | assumption | omega) (by first | assumption | omega)) (lw_V q1214 q1216 qs25 q61 q1217) rfl rfl (sb_e [0, 1, 2, 3, 4, 5, 6] rfl rfl) (na := 0) (by decide +kernel) rfl (zrm rfl rfl (rfl) (rfl)) rfl (Nat.le_of_ble_eq_true rfl) dX4_readDigits_18) (fun u => jn_ro (sb_e [0, 1, 2, 3, 4, 5, 6] rfl rfl)) (fun r_18 u hp_18 => ?_)
          have hp_18 : r_18 = zI (hereF (rowF rw_ e) (rm e) p1 (-999)) := hp_18
          subst hp_18
          refine y_i2l C (by omega) dX4_readDigits_21 ?_
          refine z_ldc2 C q1229 dX4_readDigits_22 ?_
          refine z_eql (y := zL 48) (by decide) ?_
          refine z_ldc2 C q1230 dX4_readDigits_25 ?_
          refine z_eql (y := zL 57) (by decide) ?_
          refine z_i C (z_runS (As := [.long (zL (hereF (rowF rw_ e) (rm e) p1 (-999))), .long (zL 48), .long (zL 57)]) (rest := [.ref m]) C (ct_X4_in (zl X) G (hereF (rowF rw_ e) (rm e) p1 (-999)) 48 57 (by first | assumption | omega) (by first | assumption | omega) (by first | assumption | omega)) (lw_S q1207 q1208 q61 q1209) (sb_e [] rfl rfl) (na := 3) (by decide +kernel) rfl (zrm rfl rfl (rfl) (rfl)) rfl (Nat.le_of_ble_eq_true rfl) dX4_readDigits_28) (fun u => jn_ro (sb_e [] rfl rfl)) (fun r_28 u hp_28 => ?_)
          have hp_28 : r_28 = zI (bI (48 ≤ (hereF (rowF rw_ e) (rm e) p1 (-999)) ∧ (hereF (rowF rw_ e) (rm e) p1 (-999)) ≤ 57)) := hp_28
          subst hp_28
          refine y_bne (tgt := 38) C dX4_readDigits_31 (by decide) (fun c_31 => ?_) (fun c_31 => ?_)
          · skip
            have hDg := (hereF_d (by decide)).mp c_31
            refine y_iconst C dX4_readDigits_38 ?_
            refine z_put (q := 0) (kf := 17) (ws' := [(m, .inr (11, [.int (zI (n : Int)), .ref g1, .ref g2, .ref g3, .ref g4, .ref g5, .int (zI oa), .int (zI dy), .ref s1, .ref s2, .ref s3, .ref s4, .ref s5, .ref s6, .int (zI thr), .int (zI (e : Int)), .int (zI (p1 : Int)), .int (zI 0), .int (zI stm), .ref t1, .ref t2, .ref t3, .ref c0, .ref c1, .ref c2, .ref c3, .int (zI him), .int (zI pl0), .int (zI itk), ki, .int (zI chd), .int (zI chf), .ref y0, .int (zI sd), .ref y1])), (s1, AI G 8 (fun z_ => (hw z_ : Int))), (s2, AI G 8 (fun z_ => (kk z_ : Int))), (s3, AI G 8 kf), (s4, AI G 8 (fun z_ => (rs z_ : Int))), (s5, AI G 8 (fun z_ => (rm z_ : Int))), (s6, AL G 800 rw_)]) C rfl rfl in_X4 tyX4_ok nmX4 (by decide) q1104 rfl rfl rfl rfl rfl (nlt rfl) rfl dX4_readDigits_39 ?_
            refine z_aload_n C dX4_readDigits_42 rfl 2 rfl ?_
            refine z_get (q := 0) (kf := 17) (v := .int (zI 0)) C rfl rfl in_X4 (by decide) q1104 (Or.inl rfl) rfl dX4_readDigits_43 ?_
            refine y_if_eq (tgt := 53) C (by omega) dX4_readDigits_46 (by decide) (fun c_46 => ?_) (fun c_46 => ?_)
            · skip
              refine y_bipush C dX4_readDigits_53 (by decide) ?_
              refine z_iload_n C dX4_readDigits_55 rfl 1 rfl ?_
              refine y_imul C dX4_readDigits_56 ?_
              refine z_aload_n C dX4_readDigits_57 rfl 2 rfl ?_
              refine z_i C (z_runV (q := 0) (As := []) (rest := [.int (zI (10 * v1))]) C (ct_X4_here (zl X) G m g1 g2 g3 g4 g5 s1 s2 s3 s4 s5 s6 t1 t2 t3 c0 c1 c2 c3 y0 y1 thr 0 stm him pl0 itk chd chf sd ki n oa dy hw kk rs rm kf rw_ e p1 (by first | assumption | omega) (by first | assumption | omega) (by first | assumption | omega)) (lw_V q1214 q1216 qs25 q61 q1217) rfl rfl (sb_e [0, 1, 2, 3, 4, 5, 6] rfl rfl) (na := 0) (by decide +kernel) rfl (zrm rfl rfl (rfl) (rfl)) rfl (Nat.le_of_ble_eq_true rfl) dX4_readDigits_58) (fun u => jn_ro (sb_e [0, 1, 2, 3, 4, 5, 6] rfl rfl)) (fun r_58 u hp_58 => ?_)
              have hp_58 : r_58 = zI (hereF (rowF rw_ e) (rm e) p1 (-999)) := hp_58
              subst hp_58
              rw [hereF_i hDg.1]
              refine y_iadd C dX4_readDigits_61 ?_
              refine y_bipush C dX4_readDigits_62 (by decide) ?_
              refine y_isub C dX4_readDigits_64 ?_
              refine z_istore_n (lv' := [(2, .int (zI (((10 * v1) + (rowF rw_ e p1)) - 48))), (3, .int (zI (i : Int))), (0, .ref m), (1, .int (zI (k : Int)))]) C dX4_readDigits_65 rfl (nlt rfl) rfl ?_
              refine z_aload_n C dX4_readDigits_66 rfl 2 rfl ?_
              refine z_dup C dX4_readDigits_67 rfl ?_
              refine z_get (q := 0) (kf := 16) (v := .int (zI (p1 : Int))) C rfl rfl in_X4 (by decide) q1103 (Or.inl rfl) rfl dX4_readDigits_68 ?_
              refine z_aload_n C dX4_readDigits_71 rfl 2 rfl ?_
              refine z_get (q := 0) (kf := 17) (v := .int (zI 0)) C rfl rfl in_X4 (by decide) q1104 (Or.inl rfl) rfl dX4_readDigits_72 ?_
              refine y_if_eq (tgt := 82) C (by omega) dX4_readDigits_75 (by decide) (fun c_75 => ?_) (fun c_75 => ?_)
              · skip
                refine y_iconst C dX4_readDigits_82 ?_
                refine y_iadd C dX4_readDigits_83 ?_
                rw [show ((p1 : Int) + 1 : Int) = ((p1 + 1 : Nat) : Int) by omega]
                refine z_put (q := 0) (kf := 16) (ws' := [(m, .inr (11, [.int (zI (n : Int)), .ref g1, .ref g2, .ref g3, .ref g4, .ref g5, .int (zI oa), .int (zI dy), .ref s1, .ref s2, .ref s3, .ref s4, .ref s5, .ref s6, .int (zI thr), .int (zI (e : Int)), .int (zI ((p1 + 1 : Nat) : Int)), .int (zI 0), .int (zI stm), .ref t1, .ref t2, .ref t3, .ref c0, .ref c1, .ref c2, .ref c3, .int (zI him), .int (zI pl0), .int (zI itk), ki, .int (zI chd), .int (zI chf), .ref y0, .int (zI sd), .ref y1])), (s1, AI G 8 (fun z_ => (hw z_ : Int))), (s2, AI G 8 (fun z_ => (kk z_ : Int))), (s3, AI G 8 kf), (s4, AI G 8 (fun z_ => (rs z_ : Int))), (s5, AI G 8 (fun z_ => (rm z_ : Int))), (s6, AL G 800 rw_)]) C rfl rfl in_X4 tyX4_ok nmX4 (by decide) q1103 rfl rfl rfl rfl rfl (nlt rfl) rfl dX4_readDigits_84 ?_
                refine y_iinc (lv' := [(3, .int (zI ((i : Int) + 1))), (2, .int (zI (((10 * v1) + (rowF rw_ e p1)) - 48))), (0, .ref m), (1, .int (zI (k : Int)))]) C dX4_readDigits_87 (q := 1) rfl (nlt rfl) rfl ?_
                refine z_goto (tgt := 4) C dX4_readDigits_90 (by decide) ?_
                exact ih_4 _ (by omega) (i + 1) (p1 + 1 : Nat) 0 (((10 * v1) + (rowF rw_ e p1)) - 48) (by first | assumption | omega) (by first | exact dgN_bad hst (Or.inl (by omega)) | exact dgN_bad hst (Or.inr hDb) | exact dgN_ok hst (by omega) hDg) rfl
              · skip
                exact absurd rfl c_75
            · skip
              exact absurd rfl c_46
          · skip
            have hDb : ¬ isD (rowF rw_ e) (rm e) p1 := fun z => c_31 ((hereF_d (by decide)).mpr z)
            refine y_iconst C dX4_readDigits_34 ?_
            refine z_goto (tgt := 39) C dX4_readDigits_35 (by decide) ?_
            refine z_put (q := 0) (kf := 17) (ws' := [(m, .inr (11, [.int (zI (n : Int)), .ref g1, .ref g2, .ref g3, .ref g4, .ref g5, .int (zI oa), .int (zI dy), .ref s1, .ref s2, .ref s3, .ref s4, .ref s5, .ref s6, .int (zI thr), .int (zI (e : Int)), .int (zI (p1 : Int)), .int (zI 1), .int (zI stm), .ref t1, .ref t2, .ref t3, .ref c0, .ref c1, .ref c2, .ref c3, .int (zI him), .int (zI pl0), .int (zI itk), ki, .int (zI chd), .int (zI chf), .ref y0, .int (zI sd), .ref y1])), (s1, AI G 8 (fun z_ => (hw z_ : Int))), (s2, AI G 8 (fun z_ => (kk z_ : Int))), (s3, AI G 8 kf), (s4, AI G 8 (fun z_ => (rs z_ : Int))), (s5, AI G 8 (fun z_ => (rm z_ : Int))), (s6, AL G 800 rw_)]) C rfl rfl in_X4 tyX4_ok nmX4 (by decide) q1104 rfl rfl rfl rfl rfl (nlt rfl) rfl dX4_readDigits_39 ?_
            refine z_aload_n C dX4_readDigits_42 rfl 2 rfl ?_
            refine z_get (q := 0) (kf := 17) (v := .int (zI 1)) C rfl rfl in_X4 (by decide) q1104 (Or.inl rfl) rfl dX4_readDigits_43 ?_
            refine y_if_eq (tgt := 53) C (by omega) dX4_readDigits_46 (by decide) (fun c_46 => ?_) (fun c_46 => ?_)
            · skip
              exact absurd c_46 (by decide)
            · skip
              refine y_iconst C dX4_readDigits_49 ?_
              refine z_goto (tgt := 65) C dX4_readDigits_50 (by decide) ?_
              refine z_istore_n (lv' := [(2, .int (zI 0)), (3, .int (zI (i : Int))), (0, .ref m), (1, .int (zI (k : Int)))]) C dX4_readDigits_65 rfl (nlt rfl) rfl ?_
              refine z_aload_n C dX4_readDigits_66 rfl 2 rfl ?_
              refine z_dup C dX4_readDigits_67 rfl ?_
              refine z_get (q := 0) (kf := 16) (v := .int (zI (p1 : Int))) C rfl rfl in_X4 (by decide) q1103 (Or.inl rfl) rfl dX4_readDigits_68 ?_
              refine z_aload_n C dX4_readDigits_71 rfl 2 rfl ?_
              refine z_get (q := 0) (kf := 17) (v := .int (zI 1)) C rfl rfl in_X4 (by decide) q1104 (Or.inl rfl) rfl dX4_readDigits_72 ?_
              refine y_if_eq (tgt := 82) C (by omega) dX4_readDigits_75 (by decide) (fun c_75 => ?_) (fun c_75 => ?_)
              · skip
                exact absurd c_75 (by decide)
              · skip
                refine y_iconst C dX4_readDigits_78 ?_
                refine z_goto (tgt := 83) C dX4_readDigits_79 (by decide) ?_
                refine y_iadd C dX4_readDigits_83 ?_
                rw [show ((p1 : Int) + 0 : Int) = (p1 : Int) by omega]
                refine z_put (q := 0) (kf := 16) (ws' := [(m, .inr (11, [.int (zI (n : Int)), .ref g1, .ref g2, .ref g3, .ref g4, .ref g5, .int (zI oa), .int (zI dy), .ref s1, .ref s2, .ref s3, .ref s4, .ref s5, .ref s6, .int (zI thr), .int (zI (e : Int)), .int (zI (p1 : Int)), .int (zI 1), .int (zI stm), .ref t1, .ref t2, .ref t3, .ref c0, .ref c1, .ref c2, .ref c3, .int (zI him), .int (zI pl0), .int (zI itk), ki, .int (zI chd), .int (zI chf), .ref y0, .int (zI sd), .ref y1])), (s1, AI G 8 (fun z_ => (hw z_ : Int))), (s2, AI G 8 (fun z_ => (kk z_ : Int))), (s3, AI G 8 kf), (s4, AI G 8 (fun z_ => (rs z_ : Int))), (s5, AI G 8 (fun z_ => (rm z_ : Int))), (s6, AL G 800 rw_)]) C rfl rfl in_X4 tyX4_ok nmX4 (by decide) q1103 rfl rfl rfl rfl rfl (nlt rfl) rfl dX4_readDigits_84 ?_
                refine y_iinc (lv' := [(3, .int (zI ((i : Int) + 1))), (2, .int (zI 0)), (0, .ref m), (1, .int (zI (k : Int)))]) C dX4_readDigits_87 (q := 1) rfl (nlt rfl) rfl ?_
                refine z_goto (tgt := 4) C dX4_readDigits_90 (by decide) ?_
                exact ih_4 _ (by omega) (i + 1) p1 1 0 (by first | assumption | omega) (by first | exact dgN_bad hst (Or.inl (by omega)) | exact dgN_bad hst (Or.inr hDb) | exact dgN_ok hst (by omega) hDg) rfl
  exact L_4 _ 0 p ibd 0 (by first | assumption | omega) (rfl) rfl

set_option maxHeartbeats 4000000 in
theorem ct_X4_readNumbers (l : Launch) (G : ZG) (m : Nat) (g1 : Nat) (g2 : Nat) (g3 : Nat) (g4 : Nat) (g5 : Nat) (s1 : Nat) (s2 : Nat) (s3 : Nat) (s4 : Nat) (s5 : Nat) (s6 : Nat) (t1 : Nat) (t2 : Nat) (t3 : Nat) (c0 : Nat) (c1 : Nat) (c2 : Nat) (c3 : Nat) (y0 : Nat) (y1 : Nat) (thr : Int) (stm : Int) (him : Int) (pl0 : Int) (itk : Int) (chd : Int) (chf : Int) (sd : Int) (ki : Value) (n : Nat) (oa : Int) (dy : Int) (hw : Nat → Nat) (kk : Nat → Nat) (rs : Nat → Nat) (rm : Nat → Nat) (kf : Nat → Int) (rw_ : Nat → Int) (e : Nat) (p : Nat) (c : Int) (q : Nat) (tf : Nat → Int) (hS : SK hw kk rs rm kf rw_) (he : e < 8) (hp : p ≤ 110) (hlet : isL c) (hq : q + 3 < 204) : CT l yX4_readNumbers cX4_readNumbers 3 none { frames := 2, cells := 0, slots := 0, locals := 48 } G [.ref m, .int (zI c), .int (zI (q : Int))] [(m, .inr (11, [.int (zI (n : Int)), .ref g1, .ref g2, .ref g3, .ref g4, .ref g5, .int (zI oa), .int (zI dy), .ref s1, .ref s2, .ref s3, .ref s4, .ref s5, .ref s6, .int (zI thr), .int (zI (e : Int)), .int (zI (p : Int)), .int (zI 0), .int (zI stm), .ref t1, .ref t2, .ref t3, .ref c0, .ref c1, .ref c2, .ref c3, .int (zI him), .int (zI pl0), .int (zI itk), ki, .int (zI chd), .int (zI chf), .ref y0, .int (zI sd), .ref y1])), (s1, AI G 8 (fun z_ => (hw z_ : Int))), (s2, AI G 8 (fun z_ => (kk z_ : Int))), (s3, AI G 8 kf), (s4, AI G 8 (fun z_ => (rs z_ : Int))), (s5, AI G 8 (fun z_ => (rm z_ : Int))), (s6, AL G 800 rw_), (t3, AI G 204 tf)] (Qv G [(m, .inr (11, [.int (zI (n : Int)), .ref g1, .ref g2, .ref g3, .ref g4, .ref g5, .int (zI oa), .int (zI dy), .ref s1, .ref s2, .ref s3, .ref s4, .ref s5, .ref s6, .int (zI thr), .int (zI (e : Int)), .int (zI (p : Int)), .int (zI 0), .int (zI stm), .ref t1, .ref t2, .ref t3, .ref c0, .ref c1, .ref c2, .ref c3, .int (zI him), .int (zI pl0), .int (zI itk), ki, .int (zI chd), .int (zI chf), .ref y0, .int (zI sd), .ref y1])), (s1, AI G 8 (fun z_ => (hw z_ : Int))), (s2, AI G 8 (fun z_ => (kk z_ : Int))), (s3, AI G 8 kf), (s4, AI G 8 (fun z_ => (rs z_ : Int))), (s5, AI G 8 (fun z_ => (rm z_ : Int))), (s6, AL G 800 rw_), (t3, AI G 204 tf)] (fun (u : Nat × Int × (Nat → Int)) => sN (rowF rw_ e) (rm e) c p 4 = (u.1, u.2.1) ∧ u.2.2 q = sV (rowF rw_ e) (rm e) c p 0 ∧ (c = 104 ∨ c = 114 ∨ c = 108 → u.2.2 (q + 1) = sV (rowF rw_ e) (rm e) c p 1) ∧ (c = 104 → u.2.2 (q + 2) = sV (rowF rw_ e) (rm e) c p 2 ∧ u.2.2 (q + 3) = sV (rowF rw_ e) (rm e) c p 3) ∧ ∀ j, j < q → u.2.2 j = tf j) (fun u => [(m, .inr (11, [.int (zI (n : Int)), .ref g1, .ref g2, .ref g3, .ref g4, .ref g5, .int (zI oa), .int (zI dy), .ref s1, .ref s2, .ref s3, .ref s4, .ref s5, .ref s6, .int (zI thr), .int (zI (e : Int)), .int (zI (u.1 : Int)), .int (zI u.2.1), .int (zI stm), .ref t1, .ref t2, .ref t3, .ref c0, .ref c1, .ref c2, .ref c3, .int (zI him), .int (zI pl0), .int (zI itk), ki, .int (zI chd), .int (zI chf), .ref y0, .int (zI sd), .ref y1])), (s1, AI G 8 (fun z_ => (hw z_ : Int))), (s2, AI G 8 (fun z_ => (kk z_ : Int))), (s3, AI G 8 kf), (s4, AI G 8 (fun z_ => (rs z_ : Int))), (s5, AI G 8 (fun z_ => (rm z_ : Int))), (s6, AL G 800 rw_), (t3, AI G 204 u.2.2)])) := by
  refine z_met (by decide) (Nat.le_of_ble_eq_true rfl) ?_
  intro X A hl0 hA C hQ hin
  subst hl0
  show Z X _ G 0 0 _ 0 [(0, .ref m), (1, .int (zI c)), (2, .int (zI (q : Int)))] []
  refine z_aload_n C dX4_readNumbers_0 rfl 0 rfl ?_
  refine z_get (q := 0) (kf := 21) (v := .ref t3) C rfl rfl in_X4 (by decide) q1108 (Or.inl rfl) rfl dX4_readNumbers_1 ?_
  refine z_iload_n C dX4_readNumbers_4 rfl 2 rfl ?_
  refine z_aload_n C dX4_readNumbers_5 rfl 0 rfl ?_
  refine z_iload_n C dX4_readNumbers_6 rfl 1 rfl ?_
  refine y_bipush C dX4_readNumbers_7 (by decide) ?_
  refine y_icmp_eq (tgt := 18) C (by omega) (by omega) dX4_readNumbers_9 (by decide) (fun c_9 => ?_) (fun c_9 => ?_)
  · skip
    refine y_iconst C dX4_readNumbers_18 ?_
    refine z_goto (tgt := 23) C dX4_readNumbers_19 (by decide) ?_
    refine z_i (ws' := fun u => [(m, .inr (11, [.int (zI (n : Int)), .ref g1, .ref g2, .ref g3, .ref g4, .ref g5, .int (zI oa), .int (zI dy), .ref s1, .ref s2, .ref s3, .ref s4, .ref s5, .ref s6, .int (zI thr), .int (zI (e : Int)), .int (zI (u.1 : Int)), .int (zI u.2.1), .int (zI stm), .ref t1, .ref t2, .ref t3, .ref c0, .ref c1, .ref c2, .ref c3, .int (zI him), .int (zI pl0), .int (zI itk), ki, .int (zI chd), .int (zI chf), .ref y0, .int (zI sd), .ref y1])), (s1, AI G 8 (fun z_ => (hw z_ : Int))), (s2, AI G 8 (fun z_ => (kk z_ : Int))), (s3, AI G 8 kf), (s4, AI G 8 (fun z_ => (rs z_ : Int))), (s5, AI G 8 (fun z_ => (rm z_ : Int))), (s6, AL G 800 rw_), (t3, AI G 204 tf)]) C (z_runV (q := 0) (As := [.int (zI 2)]) (rest := [.int (zI (q : Int)), .ref t3]) C (ct_X4_readDigits (zl X) G m g1 g2 g3 g4 g5 s1 s2 s3 s4 s5 s6 t1 t2 t3 c0 c1 c2 c3 y0 y1 thr 0 stm him pl0 itk chd chf sd ki n oa dy hw kk rs rm kf rw_ e p 2 (by first | assumption | omega) (by first | assumption | omega) (by first | assumption | omega) (by first | assumption | omega) ((Or.inl rfl))) (lw_V q1225 q1227 qs27 q61 q1228) rfl rfl (sb_e [0, 1, 2, 3, 4, 5, 6] rfl rfl) (na := 1) (by decide +kernel) rfl (zrm rfl rfl (rfl) (rfl)) rfl (Nat.le_of_ble_eq_true rfl) dX4_readNumbers_23) (fun u => jn_e (wr := [(t3, AI G 204 tf)]) [0, 1, 2, 3, 4, 5, 6] [7] [1, 2, 3, 4, 5, 6, 7, 0] rfl rfl rfl (by decide) rfl rfl) (fun r_23 u hp_23 => ?_)
    obtain ⟨p9_23, b9_23, v9_23⟩ := u
    obtain ⟨hrv, hd_23⟩ := hp_23
    subst hrv
    obtain ⟨hx_23, -, hy_23, -⟩ := dgN_all (Or.inl rfl) _ _ _ _ hd_23
    refine y_iast (q := 7) (t0 := 0) (g := va_up tf q v9_23) (ws' := [(m, .inr (11, [.int (zI (n : Int)), .ref g1, .ref g2, .ref g3, .ref g4, .ref g5, .int (zI oa), .int (zI dy), .ref s1, .ref s2, .ref s3, .ref s4, .ref s5, .ref s6, .int (zI thr), .int (zI (e : Int)), .int (zI (p9_23 : Int)), .int (zI b9_23), .int (zI stm), .ref t1, .ref t2, .ref t3, .ref c0, .ref c1, .ref c2, .ref c3, .int (zI him), .int (zI pl0), .int (zI itk), ki, .int (zI chd), .int (zI chf), .ref y0, .int (zI sd), .ref y1])), (s1, AI G 8 (fun z_ => (hw z_ : Int))), (s2, AI G 8 (fun z_ => (kk z_ : Int))), (s3, AI G 8 kf), (s4, AI G 8 (fun z_ => (rs z_ : Int))), (s5, AI G 8 (fun z_ => (rm z_ : Int))), (s6, AL G 800 rw_), (t3, AI G 204 (va_up tf q v9_23))]) C rfl rfl (by omega) (by decide) rfl rfl dX4_readNumbers_26 ?_
    refine z_iload_n C dX4_readNumbers_27 rfl 1 rfl ?_
    refine y_bipush C dX4_readNumbers_28 (by decide) ?_
    refine y_icmp_ne (tgt := 75) C (by omega) (by omega) dX4_readNumbers_30 (by decide) (fun c_30 => ?_) (fun c_30 => ?_)
    · skip
      refine z_iload_n C dX4_readNumbers_75 rfl 1 rfl ?_
      refine y_bipush C dX4_readNumbers_76 (by decide) ?_
      refine y_icmp_eq (tgt := 87) C (by omega) (by omega) dX4_readNumbers_78 (by decide) (fun c_78 => ?_) (fun c_78 => ?_)
      · skip
        refine z_aload_n C dX4_readNumbers_87 rfl 0 rfl ?_
        refine z_get (q := 0) (kf := 21) (v := .ref t3) C rfl rfl in_X4 (by decide) q1108 (Or.inl rfl) rfl dX4_readNumbers_88 ?_
        refine z_iload_n C dX4_readNumbers_91 rfl 2 rfl ?_
        refine y_iconst C dX4_readNumbers_92 ?_
        refine y_iadd C dX4_readNumbers_93 ?_
        refine z_aload_n C dX4_readNumbers_94 rfl 0 rfl ?_
        refine y_iconst C dX4_readNumbers_95 ?_
        refine z_i (ws' := fun u => [(m, .inr (11, [.int (zI (n : Int)), .ref g1, .ref g2, .ref g3, .ref g4, .ref g5, .int (zI oa), .int (zI dy), .ref s1, .ref s2, .ref s3, .ref s4, .ref s5, .ref s6, .int (zI thr), .int (zI (e : Int)), .int (zI (u.1 : Int)), .int (zI u.2.1), .int (zI stm), .ref t1, .ref t2, .ref t3, .ref c0, .ref c1, .ref c2, .ref c3, .int (zI him), .int (zI pl0), .int (zI itk), ki, .int (zI chd), .int (zI chf), .ref y0, .int (zI sd), .ref y1])), (s1, AI G 8 (fun z_ => (hw z_ : Int))), (s2, AI G 8 (fun z_ => (kk z_ : Int))), (s3, AI G 8 kf), (s4, AI G 8 (fun z_ => (rs z_ : Int))), (s5, AI G 8 (fun z_ => (rm z_ : Int))), (s6, AL G 800 rw_), (t3, AI G 204 (va_up tf q v9_23))]) C (z_runV (q := 0) (As := [.int (zI 2)]) (rest := [.int (zI ((q : Int) + 1)), .ref t3]) C (ct_X4_readDigits (zl X) G m g1 g2 g3 g4 g5 s1 s2 s3 s4 s5 s6 t1 t2 t3 c0 c1 c2 c3 y0 y1 thr b9_23 stm him pl0 itk chd chf sd ki n oa dy hw kk rs rm kf rw_ e p9_23 2 (by first | assumption | omega) (by first | assumption | omega) (by first | assumption | omega) (by first | assumption | omega) (hx_23)) (lw_V q1225 q1227 qs27 q61 q1228) rfl rfl (sb_e [0, 1, 2, 3, 4, 5, 6] rfl rfl) (na := 1) (by decide +kernel) rfl (zrm rfl rfl (rfl) (rfl)) rfl (Nat.le_of_ble_eq_true rfl) dX4_readNumbers_96) (fun u => jn_e (wr := [(t3, AI G 204 (va_up tf q v9_23))]) [0, 1, 2, 3, 4, 5, 6] [7] [1, 2, 3, 4, 5, 6, 7, 0] rfl rfl rfl (by decide) rfl rfl) (fun r_96 u hp_96 => ?_)
        obtain ⟨p9_96, b9_96, v9_96⟩ := u
        obtain ⟨hrv, hd_96⟩ := hp_96
        subst hrv
        obtain ⟨hx_96, -, hy_96, -⟩ := dgN_all hx_23 _ _ _ _ hd_96
        refine y_iast (q := 7) (t0 := 0) (g := va_up (va_up tf q v9_23) (q + 1) v9_96) (ws' := [(m, .inr (11, [.int (zI (n : Int)), .ref g1, .ref g2, .ref g3, .ref g4, .ref g5, .int (zI oa), .int (zI dy), .ref s1, .ref s2, .ref s3, .ref s4, .ref s5, .ref s6, .int (zI thr), .int (zI (e : Int)), .int (zI (p9_96 : Int)), .int (zI b9_96), .int (zI stm), .ref t1, .ref t2, .ref t3, .ref c0, .ref c1, .ref c2, .ref c3, .int (zI him), .int (zI pl0), .int (zI itk), ki, .int (zI chd), .int (zI chf), .ref y0, .int (zI sd), .ref y1])), (s1, AI G 8 (fun z_ => (hw z_ : Int))), (s2, AI G 8 (fun z_ => (kk z_ : Int))), (s3, AI G 8 kf), (s4, AI G 8 (fun z_ => (rs z_ : Int))), (s5, AI G 8 (fun z_ => (rm z_ : Int))), (s6, AL G 800 rw_), (t3, AI G 204 (va_up (va_up tf q v9_23) (q + 1) v9_96))]) C rfl rfl (by omega) (by decide) (by rw [show ((q : Int) + 1).toNat = q + 1 by omega]) rfl dX4_readNumbers_99 ?_
        exact z_vret C hA hQ rfl (Nat.le_of_ble_eq_true rfl) (Nat.le_of_ble_eq_true rfl) ((p9_96, b9_96, (va_up (va_up tf q v9_23) (q + 1) v9_96))) (by first | (exfalso; omega) | (obtain ⟨e0, e1, e2⟩ := nums_r (c := c) (by omega) hd_23 hd_96; exact ⟨e0, by (try dsimp only); rw [e1]; (try dsimp only); repeat (first | rw [up_eq] | rw [up_ne (by omega)]), fun _ => by (try dsimp only); rw [e2]; (try dsimp only); repeat (first | rw [up_eq] | rw [up_ne (by omega)]), fun z => by omega, fun j hj => by (try dsimp only); repeat (first | rw [up_eq] | rw [up_ne (by omega)])⟩)) (sb_e [0, 1, 2, 3, 4, 5, 6, 7] rfl rfl) dX4_readNumbers_100
      · skip
        refine z_iload_n C dX4_readNumbers_81 rfl 1 rfl ?_
        refine y_bipush C dX4_readNumbers_82 (by decide) ?_
        refine y_icmp_ne (tgt := 100) C (by omega) (by omega) dX4_readNumbers_84 (by decide) (fun c_84 => ?_) (fun c_84 => ?_)
        · skip
          exact z_vret C hA hQ rfl (Nat.le_of_ble_eq_true rfl) (Nat.le_of_ble_eq_true rfl) ((p9_23, b9_23, (va_up tf q v9_23))) (by first | (exfalso; omega) | (obtain ⟨e0, e1⟩ := nums_o (c := c) (by omega) hd_23; exact ⟨e0, by (try dsimp only); rw [e1]; (try dsimp only); repeat (first | rw [up_eq] | rw [up_ne (by omega)]), fun z => by omega, fun z => by omega, fun j hj => by (try dsimp only); repeat (first | rw [up_eq] | rw [up_ne (by omega)])⟩)) (sb_e [0, 1, 2, 3, 4, 5, 6, 7] rfl rfl) dX4_readNumbers_100
        · skip
          refine z_aload_n C dX4_readNumbers_87 rfl 0 rfl ?_
          refine z_get (q := 0) (kf := 21) (v := .ref t3) C rfl rfl in_X4 (by decide) q1108 (Or.inl rfl) rfl dX4_readNumbers_88 ?_
          refine z_iload_n C dX4_readNumbers_91 rfl 2 rfl ?_
          refine y_iconst C dX4_readNumbers_92 ?_
          refine y_iadd C dX4_readNumbers_93 ?_
          refine z_aload_n C dX4_readNumbers_94 rfl 0 rfl ?_
          refine y_iconst C dX4_readNumbers_95 ?_
          refine z_i (ws' := fun u => [(m, .inr (11, [.int (zI (n : Int)), .ref g1, .ref g2, .ref g3, .ref g4, .ref g5, .int (zI oa), .int (zI dy), .ref s1, .ref s2, .ref s3, .ref s4, .ref s5, .ref s6, .int (zI thr), .int (zI (e : Int)), .int (zI (u.1 : Int)), .int (zI u.2.1), .int (zI stm), .ref t1, .ref t2, .ref t3, .ref c0, .ref c1, .ref c2, .ref c3, .int (zI him), .int (zI pl0), .int (zI itk), ki, .int (zI chd), .int (zI chf), .ref y0, .int (zI sd), .ref y1])), (s1, AI G 8 (fun z_ => (hw z_ : Int))), (s2, AI G 8 (fun z_ => (kk z_ : Int))), (s3, AI G 8 kf), (s4, AI G 8 (fun z_ => (rs z_ : Int))), (s5, AI G 8 (fun z_ => (rm z_ : Int))), (s6, AL G 800 rw_), (t3, AI G 204 (va_up tf q v9_23))]) C (z_runV (q := 0) (As := [.int (zI 2)]) (rest := [.int (zI ((q : Int) + 1)), .ref t3]) C (ct_X4_readDigits (zl X) G m g1 g2 g3 g4 g5 s1 s2 s3 s4 s5 s6 t1 t2 t3 c0 c1 c2 c3 y0 y1 thr b9_23 stm him pl0 itk chd chf sd ki n oa dy hw kk rs rm kf rw_ e p9_23 2 (by first | assumption | omega) (by first | assumption | omega) (by first | assumption | omega) (by first | assumption | omega) (hx_23)) (lw_V q1225 q1227 qs27 q61 q1228) rfl rfl (sb_e [0, 1, 2, 3, 4, 5, 6] rfl rfl) (na := 1) (by decide +kernel) rfl (zrm rfl rfl (rfl) (rfl)) rfl (Nat.le_of_ble_eq_true rfl) dX4_readNumbers_96) (fun u => jn_e (wr := [(t3, AI G 204 (va_up tf q v9_23))]) [0, 1, 2, 3, 4, 5, 6] [7] [1, 2, 3, 4, 5, 6, 7, 0] rfl rfl rfl (by decide) rfl rfl) (fun r_96 u hp_96 => ?_)
          obtain ⟨p9_96, b9_96, v9_96⟩ := u
          obtain ⟨hrv, hd_96⟩ := hp_96
          subst hrv
          obtain ⟨hx_96, -, hy_96, -⟩ := dgN_all hx_23 _ _ _ _ hd_96
          refine y_iast (q := 7) (t0 := 0) (g := va_up (va_up tf q v9_23) (q + 1) v9_96) (ws' := [(m, .inr (11, [.int (zI (n : Int)), .ref g1, .ref g2, .ref g3, .ref g4, .ref g5, .int (zI oa), .int (zI dy), .ref s1, .ref s2, .ref s3, .ref s4, .ref s5, .ref s6, .int (zI thr), .int (zI (e : Int)), .int (zI (p9_96 : Int)), .int (zI b9_96), .int (zI stm), .ref t1, .ref t2, .ref t3, .ref c0, .ref c1, .ref c2, .ref c3, .int (zI him), .int (zI pl0), .int (zI itk), ki, .int (zI chd), .int (zI chf), .ref y0, .int (zI sd), .ref y1])), (s1, AI G 8 (fun z_ => (hw z_ : Int))), (s2, AI G 8 (fun z_ => (kk z_ : Int))), (s3, AI G 8 kf), (s4, AI G 8 (fun z_ => (rs z_ : Int))), (s5, AI G 8 (fun z_ => (rm z_ : Int))), (s6, AL G 800 rw_), (t3, AI G 204 (va_up (va_up tf q v9_23) (q + 1) v9_96))]) C rfl rfl (by omega) (by decide) (by rw [show ((q : Int) + 1).toNat = q + 1 by omega]) rfl dX4_readNumbers_99 ?_
          exact z_vret C hA hQ rfl (Nat.le_of_ble_eq_true rfl) (Nat.le_of_ble_eq_true rfl) ((p9_96, b9_96, (va_up (va_up tf q v9_23) (q + 1) v9_96))) (by first | (exfalso; omega) | (obtain ⟨e0, e1, e2⟩ := nums_r (c := c) (by omega) hd_23 hd_96; exact ⟨e0, by (try dsimp only); rw [e1]; (try dsimp only); repeat (first | rw [up_eq] | rw [up_ne (by omega)]), fun _ => by (try dsimp only); rw [e2]; (try dsimp only); repeat (first | rw [up_eq] | rw [up_ne (by omega)]), fun z => by omega, fun j hj => by (try dsimp only); repeat (first | rw [up_eq] | rw [up_ne (by omega)])⟩)) (sb_e [0, 1, 2, 3, 4, 5, 6, 7] rfl rfl) dX4_readNumbers_100
    · skip
      refine z_aload_n C dX4_readNumbers_33 rfl 0 rfl ?_
      refine z_get (q := 0) (kf := 21) (v := .ref t3) C rfl rfl in_X4 (by decide) q1108 (Or.inl rfl) rfl dX4_readNumbers_34 ?_
      refine z_iload_n C dX4_readNumbers_37 rfl 2 rfl ?_
      refine y_iconst C dX4_readNumbers_38 ?_
      refine y_iadd C dX4_readNumbers_39 ?_
      refine z_aload_n C dX4_readNumbers_40 rfl 0 rfl ?_
      refine y_iconst C dX4_readNumbers_41 ?_
      refine z_i (ws' := fun u => [(m, .inr (11, [.int (zI (n : Int)), .ref g1, .ref g2, .ref g3, .ref g4, .ref g5, .int (zI oa), .int (zI dy), .ref s1, .ref s2, .ref s3, .ref s4, .ref s5, .ref s6, .int (zI thr), .int (zI (e : Int)), .int (zI (u.1 : Int)), .int (zI u.2.1), .int (zI stm), .ref t1, .ref t2, .ref t3, .ref c0, .ref c1, .ref c2, .ref c3, .int (zI him), .int (zI pl0), .int (zI itk), ki, .int (zI chd), .int (zI chf), .ref y0, .int (zI sd), .ref y1])), (s1, AI G 8 (fun z_ => (hw z_ : Int))), (s2, AI G 8 (fun z_ => (kk z_ : Int))), (s3, AI G 8 kf), (s4, AI G 8 (fun z_ => (rs z_ : Int))), (s5, AI G 8 (fun z_ => (rm z_ : Int))), (s6, AL G 800 rw_), (t3, AI G 204 (va_up tf q v9_23))]) C (z_runV (q := 0) (As := [.int (zI 1)]) (rest := [.int (zI ((q : Int) + 1)), .ref t3]) C (ct_X4_readDigits (zl X) G m g1 g2 g3 g4 g5 s1 s2 s3 s4 s5 s6 t1 t2 t3 c0 c1 c2 c3 y0 y1 thr b9_23 stm him pl0 itk chd chf sd ki n oa dy hw kk rs rm kf rw_ e p9_23 1 (by first | assumption | omega) (by first | assumption | omega) (by first | assumption | omega) (by first | assumption | omega) (hx_23)) (lw_V q1225 q1227 qs27 q61 q1228) rfl rfl (sb_e [0, 1, 2, 3, 4, 5, 6] rfl rfl) (na := 1) (by decide +kernel) rfl (zrm rfl rfl (rfl) (rfl)) rfl (Nat.le_of_ble_eq_true rfl) dX4_readNumbers_42) (fun u => jn_e (wr := [(t3, AI G 204 (va_up tf q v9_23))]) [0, 1, 2, 3, 4, 5, 6] [7] [1, 2, 3, 4, 5, 6, 7, 0] rfl rfl rfl (by decide) rfl rfl) (fun r_42 u hp_42 => ?_)
      obtain ⟨p9_42, b9_42, v9_42⟩ := u
      obtain ⟨hrv, hd_42⟩ := hp_42
      subst hrv
      obtain ⟨hx_42, -, hy_42, -⟩ := dgN_all hx_23 _ _ _ _ hd_42
      refine y_iast (q := 7) (t0 := 0) (g := va_up (va_up tf q v9_23) (q + 1) v9_42) (ws' := [(m, .inr (11, [.int (zI (n : Int)), .ref g1, .ref g2, .ref g3, .ref g4, .ref g5, .int (zI oa), .int (zI dy), .ref s1, .ref s2, .ref s3, .ref s4, .ref s5, .ref s6, .int (zI thr), .int (zI (e : Int)), .int (zI (p9_42 : Int)), .int (zI b9_42), .int (zI stm), .ref t1, .ref t2, .ref t3, .ref c0, .ref c1, .ref c2, .ref c3, .int (zI him), .int (zI pl0), .int (zI itk), ki, .int (zI chd), .int (zI chf), .ref y0, .int (zI sd), .ref y1])), (s1, AI G 8 (fun z_ => (hw z_ : Int))), (s2, AI G 8 (fun z_ => (kk z_ : Int))), (s3, AI G 8 kf), (s4, AI G 8 (fun z_ => (rs z_ : Int))), (s5, AI G 8 (fun z_ => (rm z_ : Int))), (s6, AL G 800 rw_), (t3, AI G 204 (va_up (va_up tf q v9_23) (q + 1) v9_42))]) C rfl rfl (by omega) (by decide) (by rw [show ((q : Int) + 1).toNat = q + 1 by omega]) rfl dX4_readNumbers_45 ?_
      refine z_aload_n C dX4_readNumbers_46 rfl 0 rfl ?_
      refine z_get (q := 0) (kf := 21) (v := .ref t3) C rfl rfl in_X4 (by decide) q1108 (Or.inl rfl) rfl dX4_readNumbers_47 ?_
      refine z_iload_n C dX4_readNumbers_50 rfl 2 rfl ?_
      refine y_iconst C dX4_readNumbers_51 ?_
      refine y_iadd C dX4_readNumbers_52 ?_
      refine z_aload_n C dX4_readNumbers_53 rfl 0 rfl ?_
      refine y_iconst C dX4_readNumbers_54 ?_
      refine z_i (ws' := fun u => [(m, .inr (11, [.int (zI (n : Int)), .ref g1, .ref g2, .ref g3, .ref g4, .ref g5, .int (zI oa), .int (zI dy), .ref s1, .ref s2, .ref s3, .ref s4, .ref s5, .ref s6, .int (zI thr), .int (zI (e : Int)), .int (zI (u.1 : Int)), .int (zI u.2.1), .int (zI stm), .ref t1, .ref t2, .ref t3, .ref c0, .ref c1, .ref c2, .ref c3, .int (zI him), .int (zI pl0), .int (zI itk), ki, .int (zI chd), .int (zI chf), .ref y0, .int (zI sd), .ref y1])), (s1, AI G 8 (fun z_ => (hw z_ : Int))), (s2, AI G 8 (fun z_ => (kk z_ : Int))), (s3, AI G 8 kf), (s4, AI G 8 (fun z_ => (rs z_ : Int))), (s5, AI G 8 (fun z_ => (rm z_ : Int))), (s6, AL G 800 rw_), (t3, AI G 204 (va_up (va_up tf q v9_23) (q + 1) v9_42))]) C (z_runV (q := 0) (As := [.int (zI 2)]) (rest := [.int (zI ((q : Int) + 2)), .ref t3]) C (ct_X4_readDigits (zl X) G m g1 g2 g3 g4 g5 s1 s2 s3 s4 s5 s6 t1 t2 t3 c0 c1 c2 c3 y0 y1 thr b9_42 stm him pl0 itk chd chf sd ki n oa dy hw kk rs rm kf rw_ e p9_42 2 (by first | assumption | omega) (by first | assumption | omega) (by first | assumption | omega) (by first | assumption | omega) (hx_42)) (lw_V q1225 q1227 qs27 q61 q1228) rfl rfl (sb_e [0, 1, 2, 3, 4, 5, 6] rfl rfl) (na := 1) (by decide +kernel) rfl (zrm rfl rfl (rfl) (rfl)) rfl (Nat.le_of_ble_eq_true rfl) dX4_readNumbers_55) (fun u => jn_e (wr := [(t3, AI G 204 (va_up (va_up tf q v9_23) (q + 1) v9_42))]) [0, 1, 2, 3, 4, 5, 6] [7] [1, 2, 3, 4, 5, 6, 7, 0] rfl rfl rfl (by decide) rfl rfl) (fun r_55 u hp_55 => ?_)
      obtain ⟨p9_55, b9_55, v9_55⟩ := u
      obtain ⟨hrv, hd_55⟩ := hp_55
      subst hrv
      obtain ⟨hx_55, -, hy_55, -⟩ := dgN_all hx_42 _ _ _ _ hd_55
      refine y_iast (q := 7) (t0 := 0) (g := va_up (va_up (va_up tf q v9_23) (q + 1) v9_42) (q + 2) v9_55) (ws' := [(m, .inr (11, [.int (zI (n : Int)), .ref g1, .ref g2, .ref g3, .ref g4, .ref g5, .int (zI oa), .int (zI dy), .ref s1, .ref s2, .ref s3, .ref s4, .ref s5, .ref s6, .int (zI thr), .int (zI (e : Int)), .int (zI (p9_55 : Int)), .int (zI b9_55), .int (zI stm), .ref t1, .ref t2, .ref t3, .ref c0, .ref c1, .ref c2, .ref c3, .int (zI him), .int (zI pl0), .int (zI itk), ki, .int (zI chd), .int (zI chf), .ref y0, .int (zI sd), .ref y1])), (s1, AI G 8 (fun z_ => (hw z_ : Int))), (s2, AI G 8 (fun z_ => (kk z_ : Int))), (s3, AI G 8 kf), (s4, AI G 8 (fun z_ => (rs z_ : Int))), (s5, AI G 8 (fun z_ => (rm z_ : Int))), (s6, AL G 800 rw_), (t3, AI G 204 (va_up (va_up (va_up tf q v9_23) (q + 1) v9_42) (q + 2) v9_55))]) C rfl rfl (by omega) (by decide) (by rw [show ((q : Int) + 2).toNat = q + 2 by omega]) rfl dX4_readNumbers_58 ?_
      refine z_aload_n C dX4_readNumbers_59 rfl 0 rfl ?_
      refine z_get (q := 0) (kf := 21) (v := .ref t3) C rfl rfl in_X4 (by decide) q1108 (Or.inl rfl) rfl dX4_readNumbers_60 ?_
      refine z_iload_n C dX4_readNumbers_63 rfl 2 rfl ?_
      refine y_iconst C dX4_readNumbers_64 ?_
      refine y_iadd C dX4_readNumbers_65 ?_
      refine z_aload_n C dX4_readNumbers_66 rfl 0 rfl ?_
      refine y_iconst C dX4_readNumbers_67 ?_
      refine z_i (ws' := fun u => [(m, .inr (11, [.int (zI (n : Int)), .ref g1, .ref g2, .ref g3, .ref g4, .ref g5, .int (zI oa), .int (zI dy), .ref s1, .ref s2, .ref s3, .ref s4, .ref s5, .ref s6, .int (zI thr), .int (zI (e : Int)), .int (zI (u.1 : Int)), .int (zI u.2.1), .int (zI stm), .ref t1, .ref t2, .ref t3, .ref c0, .ref c1, .ref c2, .ref c3, .int (zI him), .int (zI pl0), .int (zI itk), ki, .int (zI chd), .int (zI chf), .ref y0, .int (zI sd), .ref y1])), (s1, AI G 8 (fun z_ => (hw z_ : Int))), (s2, AI G 8 (fun z_ => (kk z_ : Int))), (s3, AI G 8 kf), (s4, AI G 8 (fun z_ => (rs z_ : Int))), (s5, AI G 8 (fun z_ => (rm z_ : Int))), (s6, AL G 800 rw_), (t3, AI G 204 (va_up (va_up (va_up tf q v9_23) (q + 1) v9_42) (q + 2) v9_55))]) C (z_runV (q := 0) (As := [.int (zI 2)]) (rest := [.int (zI ((q : Int) + 3)), .ref t3]) C (ct_X4_readDigits (zl X) G m g1 g2 g3 g4 g5 s1 s2 s3 s4 s5 s6 t1 t2 t3 c0 c1 c2 c3 y0 y1 thr b9_55 stm him pl0 itk chd chf sd ki n oa dy hw kk rs rm kf rw_ e p9_55 2 (by first | assumption | omega) (by first | assumption | omega) (by first | assumption | omega) (by first | assumption | omega) (hx_55)) (lw_V q1225 q1227 qs27 q61 q1228) rfl rfl (sb_e [0, 1, 2, 3, 4, 5, 6] rfl rfl) (na := 1) (by decide +kernel) rfl (zrm rfl rfl (rfl) (rfl)) rfl (Nat.le_of_ble_eq_true rfl) dX4_readNumbers_68) (fun u => jn_e (wr := [(t3, AI G 204 (va_up (va_up (va_up tf q v9_23) (q + 1) v9_42) (q + 2) v9_55))]) [0, 1, 2, 3, 4, 5, 6] [7] [1, 2, 3, 4, 5, 6, 7, 0] rfl rfl rfl (by decide) rfl rfl) (fun r_68 u hp_68 => ?_)
      obtain ⟨p9_68, b9_68, v9_68⟩ := u
      obtain ⟨hrv, hd_68⟩ := hp_68
      subst hrv
      obtain ⟨hx_68, -, hy_68, -⟩ := dgN_all hx_55 _ _ _ _ hd_68
      refine y_iast (q := 7) (t0 := 0) (g := va_up (va_up (va_up (va_up tf q v9_23) (q + 1) v9_42) (q + 2) v9_55) (q + 3) v9_68) (ws' := [(m, .inr (11, [.int (zI (n : Int)), .ref g1, .ref g2, .ref g3, .ref g4, .ref g5, .int (zI oa), .int (zI dy), .ref s1, .ref s2, .ref s3, .ref s4, .ref s5, .ref s6, .int (zI thr), .int (zI (e : Int)), .int (zI (p9_68 : Int)), .int (zI b9_68), .int (zI stm), .ref t1, .ref t2, .ref t3, .ref c0, .ref c1, .ref c2, .ref c3, .int (zI him), .int (zI pl0), .int (zI itk), ki, .int (zI chd), .int (zI chf), .ref y0, .int (zI sd), .ref y1])), (s1, AI G 8 (fun z_ => (hw z_ : Int))), (s2, AI G 8 (fun z_ => (kk z_ : Int))), (s3, AI G 8 kf), (s4, AI G 8 (fun z_ => (rs z_ : Int))), (s5, AI G 8 (fun z_ => (rm z_ : Int))), (s6, AL G 800 rw_), (t3, AI G 204 (va_up (va_up (va_up (va_up tf q v9_23) (q + 1) v9_42) (q + 2) v9_55) (q + 3) v9_68))]) C rfl rfl (by omega) (by decide) (by rw [show ((q : Int) + 3).toNat = q + 3 by omega]) rfl dX4_readNumbers_71 ?_
      refine z_goto (tgt := 100) C dX4_readNumbers_72 (by decide) ?_
      exact z_vret C hA hQ rfl (Nat.le_of_ble_eq_true rfl) (Nat.le_of_ble_eq_true rfl) ((p9_68, b9_68, (va_up (va_up (va_up (va_up tf q v9_23) (q + 1) v9_42) (q + 2) v9_55) (q + 3) v9_68))) (by first | (exfalso; omega) | (obtain ⟨e0, e1, e2, e3, e4⟩ := nums_h (c := c) (by omega) hd_23 hd_42 hd_55 hd_68; exact ⟨e0, by (try dsimp only); rw [e1]; (try dsimp only); repeat (first | rw [up_eq] | rw [up_ne (by omega)]), fun _ => by (try dsimp only); rw [e2]; (try dsimp only); repeat (first | rw [up_eq] | rw [up_ne (by omega)]), fun _ => ⟨by (try dsimp only); rw [e3]; (try dsimp only); repeat (first | rw [up_eq] | rw [up_ne (by omega)]), by (try dsimp only); rw [e4]; (try dsimp only); repeat (first | rw [up_eq] | rw [up_ne (by omega)])⟩, fun j hj => by (try dsimp only); repeat (first | rw [up_eq] | rw [up_ne (by omega)])⟩)) (sb_e [0, 1, 2, 3, 4, 5, 6, 7] rfl rfl) dX4_readNumbers_100
  · skip
    refine z_iload_n C dX4_readNumbers_12 rfl 1 rfl ?_
    refine y_bipush C dX4_readNumbers_13 (by decide) ?_
    refine y_icmp_ne (tgt := 22) C (by omega) (by omega) dX4_readNumbers_15 (by decide) (fun c_15 => ?_) (fun c_15 => ?_)
    · skip
      refine y_iconst C dX4_readNumbers_22 ?_
      refine z_i (ws' := fun u => [(m, .inr (11, [.int (zI (n : Int)), .ref g1, .ref g2, .ref g3, .ref g4, .ref g5, .int (zI oa), .int (zI dy), .ref s1, .ref s2, .ref s3, .ref s4, .ref s5, .ref s6, .int (zI thr), .int (zI (e : Int)), .int (zI (u.1 : Int)), .int (zI u.2.1), .int (zI stm), .ref t1, .ref t2, .ref t3, .ref c0, .ref c1, .ref c2, .ref c3, .int (zI him), .int (zI pl0), .int (zI itk), ki, .int (zI chd), .int (zI chf), .ref y0, .int (zI sd), .ref y1])), (s1, AI G 8 (fun z_ => (hw z_ : Int))), (s2, AI G 8 (fun z_ => (kk z_ : Int))), (s3, AI G 8 kf), (s4, AI G 8 (fun z_ => (rs z_ : Int))), (s5, AI G 8 (fun z_ => (rm z_ : Int))), (s6, AL G 800 rw_), (t3, AI G 204 tf)]) C (z_runV (q := 0) (As := [.int (zI 1)]) (rest := [.int (zI (q : Int)), .ref t3]) C (ct_X4_readDigits (zl X) G m g1 g2 g3 g4 g5 s1 s2 s3 s4 s5 s6 t1 t2 t3 c0 c1 c2 c3 y0 y1 thr 0 stm him pl0 itk chd chf sd ki n oa dy hw kk rs rm kf rw_ e p 1 (by first | assumption | omega) (by first | assumption | omega) (by first | assumption | omega) (by first | assumption | omega) ((Or.inl rfl))) (lw_V q1225 q1227 qs27 q61 q1228) rfl rfl (sb_e [0, 1, 2, 3, 4, 5, 6] rfl rfl) (na := 1) (by decide +kernel) rfl (zrm rfl rfl (rfl) (rfl)) rfl (Nat.le_of_ble_eq_true rfl) dX4_readNumbers_23) (fun u => jn_e (wr := [(t3, AI G 204 tf)]) [0, 1, 2, 3, 4, 5, 6] [7] [1, 2, 3, 4, 5, 6, 7, 0] rfl rfl rfl (by decide) rfl rfl) (fun r_23 u hp_23 => ?_)
      obtain ⟨p9_23, b9_23, v9_23⟩ := u
      obtain ⟨hrv, hd_23⟩ := hp_23
      subst hrv
      obtain ⟨hx_23, -, hy_23, -⟩ := dgN_all (Or.inl rfl) _ _ _ _ hd_23
      refine y_iast (q := 7) (t0 := 0) (g := va_up tf q v9_23) (ws' := [(m, .inr (11, [.int (zI (n : Int)), .ref g1, .ref g2, .ref g3, .ref g4, .ref g5, .int (zI oa), .int (zI dy), .ref s1, .ref s2, .ref s3, .ref s4, .ref s5, .ref s6, .int (zI thr), .int (zI (e : Int)), .int (zI (p9_23 : Int)), .int (zI b9_23), .int (zI stm), .ref t1, .ref t2, .ref t3, .ref c0, .ref c1, .ref c2, .ref c3, .int (zI him), .int (zI pl0), .int (zI itk), ki, .int (zI chd), .int (zI chf), .ref y0, .int (zI sd), .ref y1])), (s1, AI G 8 (fun z_ => (hw z_ : Int))), (s2, AI G 8 (fun z_ => (kk z_ : Int))), (s3, AI G 8 kf), (s4, AI G 8 (fun z_ => (rs z_ : Int))), (s5, AI G 8 (fun z_ => (rm z_ : Int))), (s6, AL G 800 rw_), (t3, AI G 204 (va_up tf q v9_23))]) C rfl rfl (by omega) (by decide) rfl rfl dX4_readNumbers_26 ?_
      refine z_iload_n C dX4_readNumbers_27 rfl 1 rfl ?_
      refine y_bipush C dX4_readNumbers_28 (by decide) ?_
      refine y_icmp_ne (tgt := 75) C (by omega) (by omega) dX4_readNumbers_30 (by decide) (fun c_30 => ?_) (fun c_30 => ?_)
      · skip
        refine z_iload_n C dX4_readNumbers_75 rfl 1 rfl ?_
        refine y_bipush C dX4_readNumbers_76 (by decide) ?_
        refine y_icmp_eq (tgt := 87) C (by omega) (by omega) dX4_readNumbers_78 (by decide) (fun c_78 => ?_) (fun c_78 => ?_)
        · skip
          refine z_aload_n C dX4_readNumbers_87 rfl 0 rfl ?_
          refine z_get (q := 0) (kf := 21) (v := .ref t3) C rfl rfl in_X4 (by decide) q1108 (Or.inl rfl) rfl dX4_readNumbers_88 ?_
          refine z_iload_n C dX4_readNumbers_91 rfl 2 rfl ?_
          refine y_iconst C dX4_readNumbers_92 ?_
          refine y_iadd C dX4_readNumbers_93 ?_
          refine z_aload_n C dX4_readNumbers_94 rfl 0 rfl ?_
          refine y_iconst C dX4_readNumbers_95 ?_
          refine z_i (ws' := fun u => [(m, .inr (11, [.int (zI (n : Int)), .ref g1, .ref g2, .ref g3, .ref g4, .ref g5, .int (zI oa), .int (zI dy), .ref s1, .ref s2, .ref s3, .ref s4, .ref s5, .ref s6, .int (zI thr), .int (zI (e : Int)), .int (zI (u.1 : Int)), .int (zI u.2.1), .int (zI stm), .ref t1, .ref t2, .ref t3, .ref c0, .ref c1, .ref c2, .ref c3, .int (zI him), .int (zI pl0), .int (zI itk), ki, .int (zI chd), .int (zI chf), .ref y0, .int (zI sd), .ref y1])), (s1, AI G 8 (fun z_ => (hw z_ : Int))), (s2, AI G 8 (fun z_ => (kk z_ : Int))), (s3, AI G 8 kf), (s4, AI G 8 (fun z_ => (rs z_ : Int))), (s5, AI G 8 (fun z_ => (rm z_ : Int))), (s6, AL G 800 rw_), (t3, AI G 204 (va_up tf q v9_23))]) C (z_runV (q := 0) (As := [.int (zI 2)]) (rest := [.int (zI ((q : Int) + 1)), .ref t3]) C (ct_X4_readDigits (zl X) G m g1 g2 g3 g4 g5 s1 s2 s3 s4 s5 s6 t1 t2 t3 c0 c1 c2 c3 y0 y1 thr b9_23 stm him pl0 itk chd chf sd ki n oa dy hw kk rs rm kf rw_ e p9_23 2 (by first | assumption | omega) (by first | assumption | omega) (by first | assumption | omega) (by first | assumption | omega) (hx_23)) (lw_V q1225 q1227 qs27 q61 q1228) rfl rfl (sb_e [0, 1, 2, 3, 4, 5, 6] rfl rfl) (na := 1) (by decide +kernel) rfl (zrm rfl rfl (rfl) (rfl)) rfl (Nat.le_of_ble_eq_true rfl) dX4_readNumbers_96) (fun u => jn_e (wr := [(t3, AI G 204 (va_up tf q v9_23))]) [0, 1, 2, 3, 4, 5, 6] [7] [1, 2, 3, 4, 5, 6, 7, 0] rfl rfl rfl (by decide) rfl rfl) (fun r_96 u hp_96 => ?_)
          obtain ⟨p9_96, b9_96, v9_96⟩ := u
          obtain ⟨hrv, hd_96⟩ := hp_96
          subst hrv
          obtain ⟨hx_96, -, hy_96, -⟩ := dgN_all hx_23 _ _ _ _ hd_96
          refine y_iast (q := 7) (t0 := 0) (g := va_up (va_up tf q v9_23) (q + 1) v9_96) (ws' := [(m, .inr (11, [.int (zI (n : Int)), .ref g1, .ref g2, .ref g3, .ref g4, .ref g5, .int (zI oa), .int (zI dy), .ref s1, .ref s2, .ref s3, .ref s4, .ref s5, .ref s6, .int (zI thr), .int (zI (e : Int)), .int (zI (p9_96 : Int)), .int (zI b9_96), .int (zI stm), .ref t1, .ref t2, .ref t3, .ref c0, .ref c1, .ref c2, .ref c3, .int (zI him), .int (zI pl0), .int (zI itk), ki, .int (zI chd), .int (zI chf), .ref y0, .int (zI sd), .ref y1])), (s1, AI G 8 (fun z_ => (hw z_ : Int))), (s2, AI G 8 (fun z_ => (kk z_ : Int))), (s3, AI G 8 kf), (s4, AI G 8 (fun z_ => (rs z_ : Int))), (s5, AI G 8 (fun z_ => (rm z_ : Int))), (s6, AL G 800 rw_), (t3, AI G 204 (va_up (va_up tf q v9_23) (q + 1) v9_96))]) C rfl rfl (by omega) (by decide) (by rw [show ((q : Int) + 1).toNat = q + 1 by omega]) rfl dX4_readNumbers_99 ?_
          exact z_vret C hA hQ rfl (Nat.le_of_ble_eq_true rfl) (Nat.le_of_ble_eq_true rfl) ((p9_96, b9_96, (va_up (va_up tf q v9_23) (q + 1) v9_96))) (by first | (exfalso; omega) | (obtain ⟨e0, e1, e2⟩ := nums_r (c := c) (by omega) hd_23 hd_96; exact ⟨e0, by (try dsimp only); rw [e1]; (try dsimp only); repeat (first | rw [up_eq] | rw [up_ne (by omega)]), fun _ => by (try dsimp only); rw [e2]; (try dsimp only); repeat (first | rw [up_eq] | rw [up_ne (by omega)]), fun z => by omega, fun j hj => by (try dsimp only); repeat (first | rw [up_eq] | rw [up_ne (by omega)])⟩)) (sb_e [0, 1, 2, 3, 4, 5, 6, 7] rfl rfl) dX4_readNumbers_100
        · skip
          refine z_iload_n C dX4_readNumbers_81 rfl 1 rfl ?_
          refine y_bipush C dX4_readNumbers_82 (by decide) ?_
          refine y_icmp_ne (tgt := 100) C (by omega) (by omega) dX4_readNumbers_84 (by decide) (fun c_84 => ?_) (fun c_84 => ?_)
          · skip
            exact z_vret C hA hQ rfl (Nat.le_of_ble_eq_true rfl) (Nat.le_of_ble_eq_true rfl) ((p9_23, b9_23, (va_up tf q v9_23))) (by first | (exfalso; omega) | (obtain ⟨e0, e1⟩ := nums_o (c := c) (by omega) hd_23; exact ⟨e0, by (try dsimp only); rw [e1]; (try dsimp only); repeat (first | rw [up_eq] | rw [up_ne (by omega)]), fun z => by omega, fun z => by omega, fun j hj => by (try dsimp only); repeat (first | rw [up_eq] | rw [up_ne (by omega)])⟩)) (sb_e [0, 1, 2, 3, 4, 5, 6, 7] rfl rfl) dX4_readNumbers_100
          · skip
            refine z_aload_n C dX4_readNumbers_87 rfl 0 rfl ?_
            refine z_get (q := 0) (kf := 21) (v := .ref t3) C rfl rfl in_X4 (by decide) q1108 (Or.inl rfl) rfl dX4_readNumbers_88 ?_
            refine z_iload_n C dX4_readNumbers_91 rfl 2 rfl ?_
            refine y_iconst C dX4_readNumbers_92 ?_
            refine y_iadd C dX4_readNumbers_93 ?_
            refine z_aload_n C dX4_readNumbers_94 rfl 0 rfl ?_
            refine y_iconst C dX4_readNumbers_95 ?_
            refine z_i (ws' := fun u => [(m, .inr (11, [.int (zI (n : Int)), .ref g1, .ref g2, .ref g3, .ref g4, .ref g5, .int (zI oa), .int (zI dy), .ref s1, .ref s2, .ref s3, .ref s4, .ref s5, .ref s6, .int (zI thr), .int (zI (e : Int)), .int (zI (u.1 : Int)), .int (zI u.2.1), .int (zI stm), .ref t1, .ref t2, .ref t3, .ref c0, .ref c1, .ref c2, .ref c3, .int (zI him), .int (zI pl0), .int (zI itk), ki, .int (zI chd), .int (zI chf), .ref y0, .int (zI sd), .ref y1])), (s1, AI G 8 (fun z_ => (hw z_ : Int))), (s2, AI G 8 (fun z_ => (kk z_ : Int))), (s3, AI G 8 kf), (s4, AI G 8 (fun z_ => (rs z_ : Int))), (s5, AI G 8 (fun z_ => (rm z_ : Int))), (s6, AL G 800 rw_), (t3, AI G 204 (va_up tf q v9_23))]) C (z_runV (q := 0) (As := [.int (zI 2)]) (rest := [.int (zI ((q : Int) + 1)), .ref t3]) C (ct_X4_readDigits (zl X) G m g1 g2 g3 g4 g5 s1 s2 s3 s4 s5 s6 t1 t2 t3 c0 c1 c2 c3 y0 y1 thr b9_23 stm him pl0 itk chd chf sd ki n oa dy hw kk rs rm kf rw_ e p9_23 2 (by first | assumption | omega) (by first | assumption | omega) (by first | assumption | omega) (by first | assumption | omega) (hx_23)) (lw_V q1225 q1227 qs27 q61 q1228) rfl rfl (sb_e [0, 1, 2, 3, 4, 5, 6] rfl rfl) (na := 1) (by decide +kernel) rfl (zrm rfl rfl (rfl) (rfl)) rfl (Nat.le_of_ble_eq_true rfl) dX4_readNumbers_96) (fun u => jn_e (wr := [(t3, AI G 204 (va_up tf q v9_23))]) [0, 1, 2, 3, 4, 5, 6] [7] [1, 2, 3, 4, 5, 6, 7, 0] rfl rfl rfl (by decide) rfl rfl) (fun r_96 u hp_96 => ?_)
            obtain ⟨p9_96, b9_96, v9_96⟩ := u
            obtain ⟨hrv, hd_96⟩ := hp_96
            subst hrv
            obtain ⟨hx_96, -, hy_96, -⟩ := dgN_all hx_23 _ _ _ _ hd_96
            refine y_iast (q := 7) (t0 := 0) (g := va_up (va_up tf q v9_23) (q + 1) v9_96) (ws' := [(m, .inr (11, [.int (zI (n : Int)), .ref g1, .ref g2, .ref g3, .ref g4, .ref g5, .int (zI oa), .int (zI dy), .ref s1, .ref s2, .ref s3, .ref s4, .ref s5, .ref s6, .int (zI thr), .int (zI (e : Int)), .int (zI (p9_96 : Int)), .int (zI b9_96), .int (zI stm), .ref t1, .ref t2, .ref t3, .ref c0, .ref c1, .ref c2, .ref c3, .int (zI him), .int (zI pl0), .int (zI itk), ki, .int (zI chd), .int (zI chf), .ref y0, .int (zI sd), .ref y1])), (s1, AI G 8 (fun z_ => (hw z_ : Int))), (s2, AI G 8 (fun z_ => (kk z_ : Int))), (s3, AI G 8 kf), (s4, AI G 8 (fun z_ => (rs z_ : Int))), (s5, AI G 8 (fun z_ => (rm z_ : Int))), (s6, AL G 800 rw_), (t3, AI G 204 (va_up (va_up tf q v9_23) (q + 1) v9_96))]) C rfl rfl (by omega) (by decide) (by rw [show ((q : Int) + 1).toNat = q + 1 by omega]) rfl dX4_readNumbers_99 ?_
            exact z_vret C hA hQ rfl (Nat.le_of_ble_eq_true rfl) (Nat.le_of_ble_eq_true rfl) ((p9_96, b9_96, (va_up (va_up tf q v9_23) (q + 1) v9_96))) (by first | (exfalso; omega) | (obtain ⟨e0, e1, e2⟩ := nums_r (c := c) (by omega) hd_23 hd_96; exact ⟨e0, by (try dsimp only); rw [e1]; (try dsimp only); repeat (first | rw [up_eq] | rw [up_ne (by omega)]), fun _ => by (try dsimp only); rw [e2]; (try dsimp only); repeat (first | rw [up_eq] | rw [up_ne (by omega)]), fun z => by omega, fun j hj => by (try dsimp only); repeat (first | rw [up_eq] | rw [up_ne (by omega)])⟩)) (sb_e [0, 1, 2, 3, 4, 5, 6, 7] rfl rfl) dX4_readNumbers_100
      · skip
        refine z_aload_n C dX4_readNumbers_33 rfl 0 rfl ?_
        refine z_get (q := 0) (kf := 21) (v := .ref t3) C rfl rfl in_X4 (by decide) q1108 (Or.inl rfl) rfl dX4_readNumbers_34 ?_
        refine z_iload_n C dX4_readNumbers_37 rfl 2 rfl ?_
        refine y_iconst C dX4_readNumbers_38 ?_
        refine y_iadd C dX4_readNumbers_39 ?_
        refine z_aload_n C dX4_readNumbers_40 rfl 0 rfl ?_
        refine y_iconst C dX4_readNumbers_41 ?_
        refine z_i (ws' := fun u => [(m, .inr (11, [.int (zI (n : Int)), .ref g1, .ref g2, .ref g3, .ref g4, .ref g5, .int (zI oa), .int (zI dy), .ref s1, .ref s2, .ref s3, .ref s4, .ref s5, .ref s6, .int (zI thr), .int (zI (e : Int)), .int (zI (u.1 : Int)), .int (zI u.2.1), .int (zI stm), .ref t1, .ref t2, .ref t3, .ref c0, .ref c1, .ref c2, .ref c3, .int (zI him), .int (zI pl0), .int (zI itk), ki, .int (zI chd), .int (zI chf), .ref y0, .int (zI sd), .ref y1])), (s1, AI G 8 (fun z_ => (hw z_ : Int))), (s2, AI G 8 (fun z_ => (kk z_ : Int))), (s3, AI G 8 kf), (s4, AI G 8 (fun z_ => (rs z_ : Int))), (s5, AI G 8 (fun z_ => (rm z_ : Int))), (s6, AL G 800 rw_), (t3, AI G 204 (va_up tf q v9_23))]) C (z_runV (q := 0) (As := [.int (zI 1)]) (rest := [.int (zI ((q : Int) + 1)), .ref t3]) C (ct_X4_readDigits (zl X) G m g1 g2 g3 g4 g5 s1 s2 s3 s4 s5 s6 t1 t2 t3 c0 c1 c2 c3 y0 y1 thr b9_23 stm him pl0 itk chd chf sd ki n oa dy hw kk rs rm kf rw_ e p9_23 1 (by first | assumption | omega) (by first | assumption | omega) (by first | assumption | omega) (by first | assumption | omega) (hx_23)) (lw_V q1225 q1227 qs27 q61 q1228) rfl rfl (sb_e [0, 1, 2, 3, 4, 5, 6] rfl rfl) (na := 1) (by decide +kernel) rfl (zrm rfl rfl (rfl) (rfl)) rfl (Nat.le_of_ble_eq_true rfl) dX4_readNumbers_42) (fun u => jn_e (wr := [(t3, AI G 204 (va_up tf q v9_23))]) [0, 1, 2, 3, 4, 5, 6] [7] [1, 2, 3, 4, 5, 6, 7, 0] rfl rfl rfl (by decide) rfl rfl) (fun r_42 u hp_42 => ?_)
        obtain ⟨p9_42, b9_42, v9_42⟩ := u
        obtain ⟨hrv, hd_42⟩ := hp_42
        subst hrv
        obtain ⟨hx_42, -, hy_42, -⟩ := dgN_all hx_23 _ _ _ _ hd_42
        refine y_iast (q := 7) (t0 := 0) (g := va_up (va_up tf q v9_23) (q + 1) v9_42) (ws' := [(m, .inr (11, [.int (zI (n : Int)), .ref g1, .ref g2, .ref g3, .ref g4, .ref g5, .int (zI oa), .int (zI dy), .ref s1, .ref s2, .ref s3, .ref s4, .ref s5, .ref s6, .int (zI thr), .int (zI (e : Int)), .int (zI (p9_42 : Int)), .int (zI b9_42), .int (zI stm), .ref t1, .ref t2, .ref t3, .ref c0, .ref c1, .ref c2, .ref c3, .int (zI him), .int (zI pl0), .int (zI itk), ki, .int (zI chd), .int (zI chf), .ref y0, .int (zI sd), .ref y1])), (s1, AI G 8 (fun z_ => (hw z_ : Int))), (s2, AI G 8 (fun z_ => (kk z_ : Int))), (s3, AI G 8 kf), (s4, AI G 8 (fun z_ => (rs z_ : Int))), (s5, AI G 8 (fun z_ => (rm z_ : Int))), (s6, AL G 800 rw_), (t3, AI G 204 (va_up (va_up tf q v9_23) (q + 1) v9_42))]) C rfl rfl (by omega) (by decide) (by rw [show ((q : Int) + 1).toNat = q + 1 by omega]) rfl dX4_readNumbers_45 ?_
        refine z_aload_n C dX4_readNumbers_46 rfl 0 rfl ?_
        refine z_get (q := 0) (kf := 21) (v := .ref t3) C rfl rfl in_X4 (by decide) q1108 (Or.inl rfl) rfl dX4_readNumbers_47 ?_
        refine z_iload_n C dX4_readNumbers_50 rfl 2 rfl ?_
        refine y_iconst C dX4_readNumbers_51 ?_
        refine y_iadd C dX4_readNumbers_52 ?_
        refine z_aload_n C dX4_readNumbers_53 rfl 0 rfl ?_
        refine y_iconst C dX4_readNumbers_54 ?_
        refine z_i (ws' := fun u => [(m, .inr (11, [.int (zI (n : Int)), .ref g1, .ref g2, .ref g3, .ref g4, .ref g5, .int (zI oa), .int (zI dy), .ref s1, .ref s2, .ref s3, .ref s4, .ref s5, .ref s6, .int (zI thr), .int (zI (e : Int)), .int (zI (u.1 : Int)), .int (zI u.2.1), .int (zI stm), .ref t1, .ref t2, .ref t3, .ref c0, .ref c1, .ref c2, .ref c3, .int (zI him), .int (zI pl0), .int (zI itk), ki, .int (zI chd), .int (zI chf), .ref y0, .int (zI sd), .ref y1])), (s1, AI G 8 (fun z_ => (hw z_ : Int))), (s2, AI G 8 (fun z_ => (kk z_ : Int))), (s3, AI G 8 kf), (s4, AI G 8 (fun z_ => (rs z_ : Int))), (s5, AI G 8 (fun z_ => (rm z_ : Int))), (s6, AL G 800 rw_), (t3, AI G 204 (va_up (va_up tf q v9_23) (q + 1) v9_42))]) C (z_runV (q := 0) (As := [.int (zI 2)]) (rest := [.int (zI ((q : Int) + 2)), .ref t3]) C (ct_X4_readDigits (zl X) G m g1 g2 g3 g4 g5 s1 s2 s3 s4 s5 s6 t1 t2 t3 c0 c1 c2 c3 y0 y1 thr b9_42 stm him pl0 itk chd chf sd ki n oa dy hw kk rs rm kf rw_ e p9_42 2 (by first | assumption | omega) (by first | assumption | omega) (by first | assumption | omega) (by first | assumption | omega) (hx_42)) (lw_V q1225 q1227 qs27 q61 q1228) rfl rfl (sb_e [0, 1, 2, 3, 4, 5, 6] rfl rfl) (na := 1) (by decide +kernel) rfl (zrm rfl rfl (rfl) (rfl)) rfl (Nat.le_of_ble_eq_true rfl) dX4_readNumbers_55) (fun u => jn_e (wr := [(t3, AI G 204 (va_up (va_up tf q v9_23) (q + 1) v9_42))]) [0, 1, 2, 3, 4, 5, 6] [7] [1, 2, 3, 4, 5, 6, 7, 0] rfl rfl rfl (by decide) rfl rfl) (fun r_55 u hp_55 => ?_)
        obtain ⟨p9_55, b9_55, v9_55⟩ := u
        obtain ⟨hrv, hd_55⟩ := hp_55
        subst hrv
        obtain ⟨hx_55, -, hy_55, -⟩ := dgN_all hx_42 _ _ _ _ hd_55
        refine y_iast (q := 7) (t0 := 0) (g := va_up (va_up (va_up tf q v9_23) (q + 1) v9_42) (q + 2) v9_55) (ws' := [(m, .inr (11, [.int (zI (n : Int)), .ref g1, .ref g2, .ref g3, .ref g4, .ref g5, .int (zI oa), .int (zI dy), .ref s1, .ref s2, .ref s3, .ref s4, .ref s5, .ref s6, .int (zI thr), .int (zI (e : Int)), .int (zI (p9_55 : Int)), .int (zI b9_55), .int (zI stm), .ref t1, .ref t2, .ref t3, .ref c0, .ref c1, .ref c2, .ref c3, .int (zI him), .int (zI pl0), .int (zI itk), ki, .int (zI chd), .int (zI chf), .ref y0, .int (zI sd), .ref y1])), (s1, AI G 8 (fun z_ => (hw z_ : Int))), (s2, AI G 8 (fun z_ => (kk z_ : Int))), (s3, AI G 8 kf), (s4, AI G 8 (fun z_ => (rs z_ : Int))), (s5, AI G 8 (fun z_ => (rm z_ : Int))), (s6, AL G 800 rw_), (t3, AI G 204 (va_up (va_up (va_up tf q v9_23) (q + 1) v9_42) (q + 2) v9_55))]) C rfl rfl (by omega) (by decide) (by rw [show ((q : Int) + 2).toNat = q + 2 by omega]) rfl dX4_readNumbers_58 ?_
        refine z_aload_n C dX4_readNumbers_59 rfl 0 rfl ?_
        refine z_get (q := 0) (kf := 21) (v := .ref t3) C rfl rfl in_X4 (by decide) q1108 (Or.inl rfl) rfl dX4_readNumbers_60 ?_
        refine z_iload_n C dX4_readNumbers_63 rfl 2 rfl ?_
        refine y_iconst C dX4_readNumbers_64 ?_
        refine y_iadd C dX4_readNumbers_65 ?_
        refine z_aload_n C dX4_readNumbers_66 rfl 0 rfl ?_
        refine y_iconst C dX4_readNumbers_67 ?_
        refine z_i (ws' := fun u => [(m, .inr (11, [.int (zI (n : Int)), .ref g1, .ref g2, .ref g3, .ref g4, .ref g5, .int (zI oa), .int (zI dy), .ref s1, .ref s2, .ref s3, .ref s4, .ref s5, .ref s6, .int (zI thr), .int (zI (e : Int)), .int (zI (u.1 : Int)), .int (zI u.2.1), .int (zI stm), .ref t1, .ref t2, .ref t3, .ref c0, .ref c1, .ref c2, .ref c3, .int (zI him), .int (zI pl0), .int (zI itk), ki, .int (zI chd), .int (zI chf), .ref y0, .int (zI sd), .ref y1])), (s1, AI G 8 (fun z_ => (hw z_ : Int))), (s2, AI G 8 (fun z_ => (kk z_ : Int))), (s3, AI G 8 kf), (s4, AI G 8 (fun z_ => (rs z_ : Int))), (s5, AI G 8 (fun z_ => (rm z_ : Int))), (s6, AL G 800 rw_), (t3, AI G 204 (va_up (va_up (va_up tf q v9_23) (q + 1) v9_42) (q + 2) v9_55))]) C (z_runV (q := 0) (As := [.int (zI 2)]) (rest := [.int (zI ((q : Int) + 3)), .ref t3]) C (ct_X4_readDigits (zl X) G m g1 g2 g3 g4 g5 s1 s2 s3 s4 s5 s6 t1 t2 t3 c0 c1 c2 c3 y0 y1 thr b9_55 stm him pl0 itk chd chf sd ki n oa dy hw kk rs rm kf rw_ e p9_55 2 (by first | assumption | omega) (by first | assumption | omega) (by first | assumption | omega) (by first | assumption | omega) (hx_55)) (lw_V q1225 q1227 qs27 q61 q1228) rfl rfl (sb_e [0, 1, 2, 3, 4, 5, 6] rfl rfl) (na := 1) (by decide +kernel) rfl (zrm rfl rfl (rfl) (rfl)) rfl (Nat.le_of_ble_eq_true rfl) dX4_readNumbers_68) (fun u => jn_e (wr := [(t3, AI G 204 (va_up (va_up (va_up tf q v9_23) (q + 1) v9_42) (q + 2) v9_55))]) [0, 1, 2, 3, 4, 5, 6] [7] [1, 2, 3, 4, 5, 6, 7, 0] rfl rfl rfl (by decide) rfl rfl) (fun r_68 u hp_68 => ?_)
        obtain ⟨p9_68, b9_68, v9_68⟩ := u
        obtain ⟨hrv, hd_68⟩ := hp_68
        subst hrv
        obtain ⟨hx_68, -, hy_68, -⟩ := dgN_all hx_55 _ _ _ _ hd_68
        refine y_iast (q := 7) (t0 := 0) (g := va_up (va_up (va_up (va_up tf q v9_23) (q + 1) v9_42) (q + 2) v9_55) (q + 3) v9_68) (ws' := [(m, .inr (11, [.int (zI (n : Int)), .ref g1, .ref g2, .ref g3, .ref g4, .ref g5, .int (zI oa), .int (zI dy), .ref s1, .ref s2, .ref s3, .ref s4, .ref s5, .ref s6, .int (zI thr), .int (zI (e : Int)), .int (zI (p9_68 : Int)), .int (zI b9_68), .int (zI stm), .ref t1, .ref t2, .ref t3, .ref c0, .ref c1, .ref c2, .ref c3, .int (zI him), .int (zI pl0), .int (zI itk), ki, .int (zI chd), .int (zI chf), .ref y0, .int (zI sd), .ref y1])), (s1, AI G 8 (fun z_ => (hw z_ : Int))), (s2, AI G 8 (fun z_ => (kk z_ : Int))), (s3, AI G 8 kf), (s4, AI G 8 (fun z_ => (rs z_ : Int))), (s5, AI G 8 (fun z_ => (rm z_ : Int))), (s6, AL G 800 rw_), (t3, AI G 204 (va_up (va_up (va_up (va_up tf q v9_23) (q + 1) v9_42) (q + 2) v9_55) (q + 3) v9_68))]) C rfl rfl (by omega) (by decide) (by rw [show ((q : Int) + 3).toNat = q + 3 by omega]) rfl dX4_readNumbers_71 ?_
        refine z_goto (tgt := 100) C dX4_readNumbers_72 (by decide) ?_
        exact z_vret C hA hQ rfl (Nat.le_of_ble_eq_true rfl) (Nat.le_of_ble_eq_true rfl) ((p9_68, b9_68, (va_up (va_up (va_up (va_up tf q v9_23) (q + 1) v9_42) (q + 2) v9_55) (q + 3) v9_68))) (by first | (exfalso; omega) | (obtain ⟨e0, e1, e2, e3, e4⟩ := nums_h (c := c) (by omega) hd_23 hd_42 hd_55 hd_68; exact ⟨e0, by (try dsimp only); rw [e1]; (try dsimp only); repeat (first | rw [up_eq] | rw [up_ne (by omega)]), fun _ => by (try dsimp only); rw [e2]; (try dsimp only); repeat (first | rw [up_eq] | rw [up_ne (by omega)]), fun _ => ⟨by (try dsimp only); rw [e3]; (try dsimp only); repeat (first | rw [up_eq] | rw [up_ne (by omega)]), by (try dsimp only); rw [e4]; (try dsimp only); repeat (first | rw [up_eq] | rw [up_ne (by omega)])⟩, fun j hj => by (try dsimp only); repeat (first | rw [up_eq] | rw [up_ne (by omega)])⟩)) (sb_e [0, 1, 2, 3, 4, 5, 6, 7] rfl rfl) dX4_readNumbers_100
    · skip
      refine y_iconst C dX4_readNumbers_18 ?_
      refine z_goto (tgt := 23) C dX4_readNumbers_19 (by decide) ?_
      refine z_i (ws' := fun u => [(m, .inr (11, [.int (zI (n : Int)), .ref g1, .ref g2, .ref g3, .ref g4, .ref g5, .int (zI oa), .int (zI dy), .ref s1, .ref s2, .ref s3, .ref s4, .ref s5, .ref s6, .int (zI thr), .int (zI (e : Int)), .int (zI (u.1 : Int)), .int (zI u.2.1), .int (zI stm), .ref t1, .ref t2, .ref t3, .ref c0, .ref c1, .ref c2, .ref c3, .int (zI him), .int (zI pl0), .int (zI itk), ki, .int (zI chd), .int (zI chf), .ref y0, .int (zI sd), .ref y1])), (s1, AI G 8 (fun z_ => (hw z_ : Int))), (s2, AI G 8 (fun z_ => (kk z_ : Int))), (s3, AI G 8 kf), (s4, AI G 8 (fun z_ => (rs z_ : Int))), (s5, AI G 8 (fun z_ => (rm z_ : Int))), (s6, AL G 800 rw_), (t3, AI G 204 tf)]) C (z_runV (q := 0) (As := [.int (zI 2)]) (rest := [.int (zI (q : Int)), .ref t3]) C (ct_X4_readDigits (zl X) G m g1 g2 g3 g4 g5 s1 s2 s3 s4 s5 s6 t1 t2 t3 c0 c1 c2 c3 y0 y1 thr 0 stm him pl0 itk chd chf sd ki n oa dy hw kk rs rm kf rw_ e p 2 (by first | assumption | omega) (by first | assumption | omega) (by first | assumption | omega) (by first | assumption | omega) ((Or.inl rfl))) (lw_V q1225 q1227 qs27 q61 q1228) rfl rfl (sb_e [0, 1, 2, 3, 4, 5, 6] rfl rfl) (na := 1) (by decide +kernel) rfl (zrm rfl rfl (rfl) (rfl)) rfl (Nat.le_of_ble_eq_true rfl) dX4_readNumbers_23) (fun u => jn_e (wr := [(t3, AI G 204 tf)]) [0, 1, 2, 3, 4, 5, 6] [7] [1, 2, 3, 4, 5, 6, 7, 0] rfl rfl rfl (by decide) rfl rfl) (fun r_23 u hp_23 => ?_)
      obtain ⟨p9_23, b9_23, v9_23⟩ := u
      obtain ⟨hrv, hd_23⟩ := hp_23
      subst hrv
      obtain ⟨hx_23, -, hy_23, -⟩ := dgN_all (Or.inl rfl) _ _ _ _ hd_23
      refine y_iast (q := 7) (t0 := 0) (g := va_up tf q v9_23) (ws' := [(m, .inr (11, [.int (zI (n : Int)), .ref g1, .ref g2, .ref g3, .ref g4, .ref g5, .int (zI oa), .int (zI dy), .ref s1, .ref s2, .ref s3, .ref s4, .ref s5, .ref s6, .int (zI thr), .int (zI (e : Int)), .int (zI (p9_23 : Int)), .int (zI b9_23), .int (zI stm), .ref t1, .ref t2, .ref t3, .ref c0, .ref c1, .ref c2, .ref c3, .int (zI him), .int (zI pl0), .int (zI itk), ki, .int (zI chd), .int (zI chf), .ref y0, .int (zI sd), .ref y1])), (s1, AI G 8 (fun z_ => (hw z_ : Int))), (s2, AI G 8 (fun z_ => (kk z_ : Int))), (s3, AI G 8 kf), (s4, AI G 8 (fun z_ => (rs z_ : Int))), (s5, AI G 8 (fun z_ => (rm z_ : Int))), (s6, AL G 800 rw_), (t3, AI G 204 (va_up tf q v9_23))]) C rfl rfl (by omega) (by decide) rfl rfl dX4_readNumbers_26 ?_
      refine z_iload_n C dX4_readNumbers_27 rfl 1 rfl ?_
      refine y_bipush C dX4_readNumbers_28 (by decide) ?_
      refine y_icmp_ne (tgt := 75) C (by omega) (by omega) dX4_readNumbers_30 (by decide) (fun c_30 => ?_) (fun c_30 => ?_)
      · skip
        refine z_iload_n C dX4_readNumbers_75 rfl 1 rfl ?_
        refine y_bipush C dX4_readNumbers_76 (by decide) ?_
        refine y_icmp_eq (tgt := 87) C (by omega) (by omega) dX4_readNumbers_78 (by decide) (fun c_78 => ?_) (fun c_78 => ?_)
        · skip
          refine z_aload_n C dX4_readNumbers_87 rfl 0 rfl ?_
          refine z_get (q := 0) (kf := 21) (v := .ref t3) C rfl rfl in_X4 (by decide) q1108 (Or.inl rfl) rfl dX4_readNumbers_88 ?_
          refine z_iload_n C dX4_readNumbers_91 rfl 2 rfl ?_
          refine y_iconst C dX4_readNumbers_92 ?_
          refine y_iadd C dX4_readNumbers_93 ?_
          refine z_aload_n C dX4_readNumbers_94 rfl 0 rfl ?_
          refine y_iconst C dX4_readNumbers_95 ?_
          refine z_i (ws' := fun u => [(m, .inr (11, [.int (zI (n : Int)), .ref g1, .ref g2, .ref g3, .ref g4, .ref g5, .int (zI oa), .int (zI dy), .ref s1, .ref s2, .ref s3, .ref s4, .ref s5, .ref s6, .int (zI thr), .int (zI (e : Int)), .int (zI (u.1 : Int)), .int (zI u.2.1), .int (zI stm), .ref t1, .ref t2, .ref t3, .ref c0, .ref c1, .ref c2, .ref c3, .int (zI him), .int (zI pl0), .int (zI itk), ki, .int (zI chd), .int (zI chf), .ref y0, .int (zI sd), .ref y1])), (s1, AI G 8 (fun z_ => (hw z_ : Int))), (s2, AI G 8 (fun z_ => (kk z_ : Int))), (s3, AI G 8 kf), (s4, AI G 8 (fun z_ => (rs z_ : Int))), (s5, AI G 8 (fun z_ => (rm z_ : Int))), (s6, AL G 800 rw_), (t3, AI G 204 (va_up tf q v9_23))]) C (z_runV (q := 0) (As := [.int (zI 2)]) (rest := [.int (zI ((q : Int) + 1)), .ref t3]) C (ct_X4_readDigits (zl X) G m g1 g2 g3 g4 g5 s1 s2 s3 s4 s5 s6 t1 t2 t3 c0 c1 c2 c3 y0 y1 thr b9_23 stm him pl0 itk chd chf sd ki n oa dy hw kk rs rm kf rw_ e p9_23 2 (by first | assumption | omega) (by first | assumption | omega) (by first | assumption | omega) (by first | assumption | omega) (hx_23)) (lw_V q1225 q1227 qs27 q61 q1228) rfl rfl (sb_e [0, 1, 2, 3, 4, 5, 6] rfl rfl) (na := 1) (by decide +kernel) rfl (zrm rfl rfl (rfl) (rfl)) rfl (Nat.le_of_ble_eq_true rfl) dX4_readNumbers_96) (fun u => jn_e (wr := [(t3, AI G 204 (va_up tf q v9_23))]) [0, 1, 2, 3, 4, 5, 6] [7] [1, 2, 3, 4, 5, 6, 7, 0] rfl rfl rfl (by decide) rfl rfl) (fun r_96 u hp_96 => ?_)
          obtain ⟨p9_96, b9_96, v9_96⟩ := u
          obtain ⟨hrv, hd_96⟩ := hp_96
          subst hrv
          obtain ⟨hx_96, -, hy_96, -⟩ := dgN_all hx_23 _ _ _ _ hd_96
          refine y_iast (q := 7) (t0 := 0) (g := va_up (va_up tf q v9_23) (q + 1) v9_96) (ws' := [(m, .inr (11, [.int (zI (n : Int)), .ref g1, .ref g2, .ref g3, .ref g4, .ref g5, .int (zI oa), .int (zI dy), .ref s1, .ref s2, .ref s3, .ref s4, .ref s5, .ref s6, .int (zI thr), .int (zI (e : Int)), .int (zI (p9_96 : Int)), .int (zI b9_96), .int (zI stm), .ref t1, .ref t2, .ref t3, .ref c0, .ref c1, .ref c2, .ref c3, .int (zI him), .int (zI pl0), .int (zI itk), ki, .int (zI chd), .int (zI chf), .ref y0, .int (zI sd), .ref y1])), (s1, AI G 8 (fun z_ => (hw z_ : Int))), (s2, AI G 8 (fun z_ => (kk z_ : Int))), (s3, AI G 8 kf), (s4, AI G 8 (fun z_ => (rs z_ : Int))), (s5, AI G 8 (fun z_ => (rm z_ : Int))), (s6, AL G 800 rw_), (t3, AI G 204 (va_up (va_up tf q v9_23) (q + 1) v9_96))]) C rfl rfl (by omega) (by decide) (by rw [show ((q : Int) + 1).toNat = q + 1 by omega]) rfl dX4_readNumbers_99 ?_
          exact z_vret C hA hQ rfl (Nat.le_of_ble_eq_true rfl) (Nat.le_of_ble_eq_true rfl) ((p9_96, b9_96, (va_up (va_up tf q v9_23) (q + 1) v9_96))) (by first | (exfalso; omega) | (obtain ⟨e0, e1, e2⟩ := nums_r (c := c) (by omega) hd_23 hd_96; exact ⟨e0, by (try dsimp only); rw [e1]; (try dsimp only); repeat (first | rw [up_eq] | rw [up_ne (by omega)]), fun _ => by (try dsimp only); rw [e2]; (try dsimp only); repeat (first | rw [up_eq] | rw [up_ne (by omega)]), fun z => by omega, fun j hj => by (try dsimp only); repeat (first | rw [up_eq] | rw [up_ne (by omega)])⟩)) (sb_e [0, 1, 2, 3, 4, 5, 6, 7] rfl rfl) dX4_readNumbers_100
        · skip
          refine z_iload_n C dX4_readNumbers_81 rfl 1 rfl ?_
          refine y_bipush C dX4_readNumbers_82 (by decide) ?_
          refine y_icmp_ne (tgt := 100) C (by omega) (by omega) dX4_readNumbers_84 (by decide) (fun c_84 => ?_) (fun c_84 => ?_)
          · skip
            exact z_vret C hA hQ rfl (Nat.le_of_ble_eq_true rfl) (Nat.le_of_ble_eq_true rfl) ((p9_23, b9_23, (va_up tf q v9_23))) (by first | (exfalso; omega) | (obtain ⟨e0, e1⟩ := nums_o (c := c) (by omega) hd_23; exact ⟨e0, by (try dsimp only); rw [e1]; (try dsimp only); repeat (first | rw [up_eq] | rw [up_ne (by omega)]), fun z => by omega, fun z => by omega, fun j hj => by (try dsimp only); repeat (first | rw [up_eq] | rw [up_ne (by omega)])⟩)) (sb_e [0, 1, 2, 3, 4, 5, 6, 7] rfl rfl) dX4_readNumbers_100
          · skip
            refine z_aload_n C dX4_readNumbers_87 rfl 0 rfl ?_
            refine z_get (q := 0) (kf := 21) (v := .ref t3) C rfl rfl in_X4 (by decide) q1108 (Or.inl rfl) rfl dX4_readNumbers_88 ?_
            refine z_iload_n C dX4_readNumbers_91 rfl 2 rfl ?_
            refine y_iconst C dX4_readNumbers_92 ?_
            refine y_iadd C dX4_readNumbers_93 ?_
            refine z_aload_n C dX4_readNumbers_94 rfl 0 rfl ?_
            refine y_iconst C dX4_readNumbers_95 ?_
            refine z_i (ws' := fun u => [(m, .inr (11, [.int (zI (n : Int)), .ref g1, .ref g2, .ref g3, .ref g4, .ref g5, .int (zI oa), .int (zI dy), .ref s1, .ref s2, .ref s3, .ref s4, .ref s5, .ref s6, .int (zI thr), .int (zI (e : Int)), .int (zI (u.1 : Int)), .int (zI u.2.1), .int (zI stm), .ref t1, .ref t2, .ref t3, .ref c0, .ref c1, .ref c2, .ref c3, .int (zI him), .int (zI pl0), .int (zI itk), ki, .int (zI chd), .int (zI chf), .ref y0, .int (zI sd), .ref y1])), (s1, AI G 8 (fun z_ => (hw z_ : Int))), (s2, AI G 8 (fun z_ => (kk z_ : Int))), (s3, AI G 8 kf), (s4, AI G 8 (fun z_ => (rs z_ : Int))), (s5, AI G 8 (fun z_ => (rm z_ : Int))), (s6, AL G 800 rw_), (t3, AI G 204 (va_up tf q v9_23))]) C (z_runV (q := 0) (As := [.int (zI 2)]) (rest := [.int (zI ((q : Int) + 1)), .ref t3]) C (ct_X4_readDigits (zl X) G m g1 g2 g3 g4 g5 s1 s2 s3 s4 s5 s6 t1 t2 t3 c0 c1 c2 c3 y0 y1 thr b9_23 stm him pl0 itk chd chf sd ki n oa dy hw kk rs rm kf rw_ e p9_23 2 (by first | assumption | omega) (by first | assumption | omega) (by first | assumption | omega) (by first | assumption | omega) (hx_23)) (lw_V q1225 q1227 qs27 q61 q1228) rfl rfl (sb_e [0, 1, 2, 3, 4, 5, 6] rfl rfl) (na := 1) (by decide +kernel) rfl (zrm rfl rfl (rfl) (rfl)) rfl (Nat.le_of_ble_eq_true rfl) dX4_readNumbers_96) (fun u => jn_e (wr := [(t3, AI G 204 (va_up tf q v9_23))]) [0, 1, 2, 3, 4, 5, 6] [7] [1, 2, 3, 4, 5, 6, 7, 0] rfl rfl rfl (by decide) rfl rfl) (fun r_96 u hp_96 => ?_)
            obtain ⟨p9_96, b9_96, v9_96⟩ := u
            obtain ⟨hrv, hd_96⟩ := hp_96
            subst hrv
            obtain ⟨hx_96, -, hy_96, -⟩ := dgN_all hx_23 _ _ _ _ hd_96
            refine y_iast (q := 7) (t0 := 0) (g := va_up (va_up tf q v9_23) (q + 1) v9_96) (ws' := [(m, .inr (11, [.int (zI (n : Int)), .ref g1, .ref g2, .ref g3, .ref g4, .ref g5, .int (zI oa), .int (zI dy), .ref s1, .ref s2, .ref s3, .ref s4, .ref s5, .ref s6, .int (zI thr), .int (zI (e : Int)), .int (zI (p9_96 : Int)), .int (zI b9_96), .int (zI stm), .ref t1, .ref t2, .ref t3, .ref c0, .ref c1, .ref c2, .ref c3, .int (zI him), .int (zI pl0), .int (zI itk), ki, .int (zI chd), .int (zI chf), .ref y0, .int (zI sd), .ref y1])), (s1, AI G 8 (fun z_ => (hw z_ : Int))), (s2, AI G 8 (fun z_ => (kk z_ : Int))), (s3, AI G 8 kf), (s4, AI G 8 (fun z_ => (rs z_ : Int))), (s5, AI G 8 (fun z_ => (rm z_ : Int))), (s6, AL G 800 rw_), (t3, AI G 204 (va_up (va_up tf q v9_23) (q + 1) v9_96))]) C rfl rfl (by omega) (by decide) (by rw [show ((q : Int) + 1).toNat = q + 1 by omega]) rfl dX4_readNumbers_99 ?_
            exact z_vret C hA hQ rfl (Nat.le_of_ble_eq_true rfl) (Nat.le_of_ble_eq_true rfl) ((p9_96, b9_96, (va_up (va_up tf q v9_23) (q + 1) v9_96))) (by first | (exfalso; omega) | (obtain ⟨e0, e1, e2⟩ := nums_r (c := c) (by omega) hd_23 hd_96; exact ⟨e0, by (try dsimp only); rw [e1]; (try dsimp only); repeat (first | rw [up_eq] | rw [up_ne (by omega)]), fun _ => by (try dsimp only); rw [e2]; (try dsimp only); repeat (first | rw [up_eq] | rw [up_ne (by omega)]), fun z => by omega, fun j hj => by (try dsimp only); repeat (first | rw [up_eq] | rw [up_ne (by omega)])⟩)) (sb_e [0, 1, 2, 3, 4, 5, 6, 7] rfl rfl) dX4_readNumbers_100
      · skip
        refine z_aload_n C dX4_readNumbers_33 rfl 0 rfl ?_
        refine z_get (q := 0) (kf := 21) (v := .ref t3) C rfl rfl in_X4 (by decide) q1108 (Or.inl rfl) rfl dX4_readNumbers_34 ?_
        refine z_iload_n C dX4_readNumbers_37 rfl 2 rfl ?_
        refine y_iconst C dX4_readNumbers_38 ?_
        refine y_iadd C dX4_readNumbers_39 ?_
        refine z_aload_n C dX4_readNumbers_40 rfl 0 rfl ?_
        refine y_iconst C dX4_readNumbers_41 ?_
        refine z_i (ws' := fun u => [(m, .inr (11, [.int (zI (n : Int)), .ref g1, .ref g2, .ref g3, .ref g4, .ref g5, .int (zI oa), .int (zI dy), .ref s1, .ref s2, .ref s3, .ref s4, .ref s5, .ref s6, .int (zI thr), .int (zI (e : Int)), .int (zI (u.1 : Int)), .int (zI u.2.1), .int (zI stm), .ref t1, .ref t2, .ref t3, .ref c0, .ref c1, .ref c2, .ref c3, .int (zI him), .int (zI pl0), .int (zI itk), ki, .int (zI chd), .int (zI chf), .ref y0, .int (zI sd), .ref y1])), (s1, AI G 8 (fun z_ => (hw z_ : Int))), (s2, AI G 8 (fun z_ => (kk z_ : Int))), (s3, AI G 8 kf), (s4, AI G 8 (fun z_ => (rs z_ : Int))), (s5, AI G 8 (fun z_ => (rm z_ : Int))), (s6, AL G 800 rw_), (t3, AI G 204 (va_up tf q v9_23))]) C (z_runV (q := 0) (As := [.int (zI 1)]) (rest := [.int (zI ((q : Int) + 1)), .ref t3]) C (ct_X4_readDigits (zl X) G m g1 g2 g3 g4 g5 s1 s2 s3 s4 s5 s6 t1 t2 t3 c0 c1 c2 c3 y0 y1 thr b9_23 stm him pl0 itk chd chf sd ki n oa dy hw kk rs rm kf rw_ e p9_23 1 (by first | assumption | omega) (by first | assumption | omega) (by first | assumption | omega) (by first | assumption | omega) (hx_23)) (lw_V q1225 q1227 qs27 q61 q1228) rfl rfl (sb_e [0, 1, 2, 3, 4, 5, 6] rfl rfl) (na := 1) (by decide +kernel) rfl (zrm rfl rfl (rfl) (rfl)) rfl (Nat.le_of_ble_eq_true rfl) dX4_readNumbers_42) (fun u => jn_e (wr := [(t3, AI G 204 (va_up tf q v9_23))]) [0, 1, 2, 3, 4, 5, 6] [7] [1, 2, 3, 4, 5, 6, 7, 0] rfl rfl rfl (by decide) rfl rfl) (fun r_42 u hp_42 => ?_)
        obtain ⟨p9_42, b9_42, v9_42⟩ := u
        obtain ⟨hrv, hd_42⟩ := hp_42
        subst hrv
        obtain ⟨hx_42, -, hy_42, -⟩ := dgN_all hx_23 _ _ _ _ hd_42
        refine y_iast (q := 7) (t0 := 0) (g := va_up (va_up tf q v9_23) (q + 1) v9_42) (ws' := [(m, .inr (11, [.int (zI (n : Int)), .ref g1, .ref g2, .ref g3, .ref g4, .ref g5, .int (zI oa), .int (zI dy), .ref s1, .ref s2, .ref s3, .ref s4, .ref s5, .ref s6, .int (zI thr), .int (zI (e : Int)), .int (zI (p9_42 : Int)), .int (zI b9_42), .int (zI stm), .ref t1, .ref t2, .ref t3, .ref c0, .ref c1, .ref c2, .ref c3, .int (zI him), .int (zI pl0), .int (zI itk), ki, .int (zI chd), .int (zI chf), .ref y0, .int (zI sd), .ref y1])), (s1, AI G 8 (fun z_ => (hw z_ : Int))), (s2, AI G 8 (fun z_ => (kk z_ : Int))), (s3, AI G 8 kf), (s4, AI G 8 (fun z_ => (rs z_ : Int))), (s5, AI G 8 (fun z_ => (rm z_ : Int))), (s6, AL G 800 rw_), (t3, AI G 204 (va_up (va_up tf q v9_23) (q + 1) v9_42))]) C rfl rfl (by omega) (by decide) (by rw [show ((q : Int) + 1).toNat = q + 1 by omega]) rfl dX4_readNumbers_45 ?_
        refine z_aload_n C dX4_readNumbers_46 rfl 0 rfl ?_
        refine z_get (q := 0) (kf := 21) (v := .ref t3) C rfl rfl in_X4 (by decide) q1108 (Or.inl rfl) rfl dX4_readNumbers_47 ?_
        refine z_iload_n C dX4_readNumbers_50 rfl 2 rfl ?_
        refine y_iconst C dX4_readNumbers_51 ?_
        refine y_iadd C dX4_readNumbers_52 ?_
        refine z_aload_n C dX4_readNumbers_53 rfl 0 rfl ?_
        refine y_iconst C dX4_readNumbers_54 ?_
        refine z_i (ws' := fun u => [(m, .inr (11, [.int (zI (n : Int)), .ref g1, .ref g2, .ref g3, .ref g4, .ref g5, .int (zI oa), .int (zI dy), .ref s1, .ref s2, .ref s3, .ref s4, .ref s5, .ref s6, .int (zI thr), .int (zI (e : Int)), .int (zI (u.1 : Int)), .int (zI u.2.1), .int (zI stm), .ref t1, .ref t2, .ref t3, .ref c0, .ref c1, .ref c2, .ref c3, .int (zI him), .int (zI pl0), .int (zI itk), ki, .int (zI chd), .int (zI chf), .ref y0, .int (zI sd), .ref y1])), (s1, AI G 8 (fun z_ => (hw z_ : Int))), (s2, AI G 8 (fun z_ => (kk z_ : Int))), (s3, AI G 8 kf), (s4, AI G 8 (fun z_ => (rs z_ : Int))), (s5, AI G 8 (fun z_ => (rm z_ : Int))), (s6, AL G 800 rw_), (t3, AI G 204 (va_up (va_up tf q v9_23) (q + 1) v9_42))]) C (z_runV (q := 0) (As := [.int (zI 2)]) (rest := [.int (zI ((q : Int) + 2)), .ref t3]) C (ct_X4_readDigits (zl X) G m g1 g2 g3 g4 g5 s1 s2 s3 s4 s5 s6 t1 t2 t3 c0 c1 c2 c3 y0 y1 thr b9_42 stm him pl0 itk chd chf sd ki n oa dy hw kk rs rm kf rw_ e p9_42 2 (by first | assumption | omega) (by first | assumption | omega) (by first | assumption | omega) (by first | assumption | omega) (hx_42)) (lw_V q1225 q1227 qs27 q61 q1228) rfl rfl (sb_e [0, 1, 2, 3, 4, 5, 6] rfl rfl) (na := 1) (by decide +kernel) rfl (zrm rfl rfl (rfl) (rfl)) rfl (Nat.le_of_ble_eq_true rfl) dX4_readNumbers_55) (fun u => jn_e (wr := [(t3, AI G 204 (va_up (va_up tf q v9_23) (q + 1) v9_42))]) [0, 1, 2, 3, 4, 5, 6] [7] [1, 2, 3, 4, 5, 6, 7, 0] rfl rfl rfl (by decide) rfl rfl) (fun r_55 u hp_55 => ?_)
        obtain ⟨p9_55, b9_55, v9_55⟩ := u
        obtain ⟨hrv, hd_55⟩ := hp_55
        subst hrv
        obtain ⟨hx_55, -, hy_55, -⟩ := dgN_all hx_42 _ _ _ _ hd_55
        refine y_iast (q := 7) (t0 := 0) (g := va_up (va_up (va_up tf q v9_23) (q + 1) v9_42) (q + 2) v9_55) (ws' := [(m, .inr (11, [.int (zI (n : Int)), .ref g1, .ref g2, .ref g3, .ref g4, .ref g5, .int (zI oa), .int (zI dy), .ref s1, .ref s2, .ref s3, .ref s4, .ref s5, .ref s6, .int (zI thr), .int (zI (e : Int)), .int (zI (p9_55 : Int)), .int (zI b9_55), .int (zI stm), .ref t1, .ref t2, .ref t3, .ref c0, .ref c1, .ref c2, .ref c3, .int (zI him), .int (zI pl0), .int (zI itk), ki, .int (zI chd), .int (zI chf), .ref y0, .int (zI sd), .ref y1])), (s1, AI G 8 (fun z_ => (hw z_ : Int))), (s2, AI G 8 (fun z_ => (kk z_ : Int))), (s3, AI G 8 kf), (s4, AI G 8 (fun z_ => (rs z_ : Int))), (s5, AI G 8 (fun z_ => (rm z_ : Int))), (s6, AL G 800 rw_), (t3, AI G 204 (va_up (va_up (va_up tf q v9_23) (q + 1) v9_42) (q + 2) v9_55))]) C rfl rfl (by omega) (by decide) (by rw [show ((q : Int) + 2).toNat = q + 2 by omega]) rfl dX4_readNumbers_58 ?_
        refine z_aload_n C dX4_readNumbers_59 rfl 0 rfl ?_
        refine z_get (q := 0) (kf := 21) (v := .ref t3) C rfl rfl in_X4 (by decide) q1108 (Or.inl rfl) rfl dX4_readNumbers_60 ?_
        refine z_iload_n C dX4_readNumbers_63 rfl 2 rfl ?_
        refine y_iconst C dX4_readNumbers_64 ?_
        refine y_iadd C dX4_readNumbers_65 ?_
        refine z_aload_n C dX4_readNumbers_66 rfl 0 rfl ?_
        refine y_iconst C dX4_readNumbers_67 ?_
        refine z_i (ws' := fun u => [(m, .inr (11, [.int (zI (n : Int)), .ref g1, .ref g2, .ref g3, .ref g4, .ref g5, .int (zI oa), .int (zI dy), .ref s1, .ref s2, .ref s3, .ref s4, .ref s5, .ref s6, .int (zI thr), .int (zI (e : Int)), .int (zI (u.1 : Int)), .int (zI u.2.1), .int (zI stm), .ref t1, .ref t2, .ref t3, .ref c0, .ref c1, .ref c2, .ref c3, .int (zI him), .int (zI pl0), .int (zI itk), ki, .int (zI chd), .int (zI chf), .ref y0, .int (zI sd), .ref y1])), (s1, AI G 8 (fun z_ => (hw z_ : Int))), (s2, AI G 8 (fun z_ => (kk z_ : Int))), (s3, AI G 8 kf), (s4, AI G 8 (fun z_ => (rs z_ : Int))), (s5, AI G 8 (fun z_ => (rm z_ : Int))), (s6, AL G 800 rw_), (t3, AI G 204 (va_up (va_up (va_up tf q v9_23) (q + 1) v9_42) (q + 2) v9_55))]) C (z_runV (q := 0) (As := [.int (zI 2)]) (rest := [.int (zI ((q : Int) + 3)), .ref t3]) C (ct_X4_readDigits (zl X) G m g1 g2 g3 g4 g5 s1 s2 s3 s4 s5 s6 t1 t2 t3 c0 c1 c2 c3 y0 y1 thr b9_55 stm him pl0 itk chd chf sd ki n oa dy hw kk rs rm kf rw_ e p9_55 2 (by first | assumption | omega) (by first | assumption | omega) (by first | assumption | omega) (by first | assumption | omega) (hx_55)) (lw_V q1225 q1227 qs27 q61 q1228) rfl rfl (sb_e [0, 1, 2, 3, 4, 5, 6] rfl rfl) (na := 1) (by decide +kernel) rfl (zrm rfl rfl (rfl) (rfl)) rfl (Nat.le_of_ble_eq_true rfl) dX4_readNumbers_68) (fun u => jn_e (wr := [(t3, AI G 204 (va_up (va_up (va_up tf q v9_23) (q + 1) v9_42) (q + 2) v9_55))]) [0, 1, 2, 3, 4, 5, 6] [7] [1, 2, 3, 4, 5, 6, 7, 0] rfl rfl rfl (by decide) rfl rfl) (fun r_68 u hp_68 => ?_)
        obtain ⟨p9_68, b9_68, v9_68⟩ := u
        obtain ⟨hrv, hd_68⟩ := hp_68
        subst hrv
        obtain ⟨hx_68, -, hy_68, -⟩ := dgN_all hx_55 _ _ _ _ hd_68
        refine y_iast (q := 7) (t0 := 0) (g := va_up (va_up (va_up (va_up tf q v9_23) (q + 1) v9_42) (q + 2) v9_55) (q + 3) v9_68) (ws' := [(m, .inr (11, [.int (zI (n : Int)), .ref g1, .ref g2, .ref g3, .ref g4, .ref g5, .int (zI oa), .int (zI dy), .ref s1, .ref s2, .ref s3, .ref s4, .ref s5, .ref s6, .int (zI thr), .int (zI (e : Int)), .int (zI (p9_68 : Int)), .int (zI b9_68), .int (zI stm), .ref t1, .ref t2, .ref t3, .ref c0, .ref c1, .ref c2, .ref c3, .int (zI him), .int (zI pl0), .int (zI itk), ki, .int (zI chd), .int (zI chf), .ref y0, .int (zI sd), .ref y1])), (s1, AI G 8 (fun z_ => (hw z_ : Int))), (s2, AI G 8 (fun z_ => (kk z_ : Int))), (s3, AI G 8 kf), (s4, AI G 8 (fun z_ => (rs z_ : Int))), (s5, AI G 8 (fun z_ => (rm z_ : Int))), (s6, AL G 800 rw_), (t3, AI G 204 (va_up (va_up (va_up (va_up tf q v9_23) (q + 1) v9_42) (q + 2) v9_55) (q + 3) v9_68))]) C rfl rfl (by omega) (by decide) (by rw [show ((q : Int) + 3).toNat = q + 3 by omega]) rfl dX4_readNumbers_71 ?_
        refine z_goto (tgt := 100) C dX4_readNumbers_72 (by decide) ?_
        exact z_vret C hA hQ rfl (Nat.le_of_ble_eq_true rfl) (Nat.le_of_ble_eq_true rfl) ((p9_68, b9_68, (va_up (va_up (va_up (va_up tf q v9_23) (q + 1) v9_42) (q + 2) v9_55) (q + 3) v9_68))) (by first | (exfalso; omega) | (obtain ⟨e0, e1, e2, e3, e4⟩ := nums_h (c := c) (by omega) hd_23 hd_42 hd_55 hd_68; exact ⟨e0, by (try dsimp only); rw [e1]; (try dsimp only); repeat (first | rw [up_eq] | rw [up_ne (by omega)]), fun _ => by (try dsimp only); rw [e2]; (try dsimp only); repeat (first | rw [up_eq] | rw [up_ne (by omega)]), fun _ => ⟨by (try dsimp only); rw [e3]; (try dsimp only); repeat (first | rw [up_eq] | rw [up_ne (by omega)]), by (try dsimp only); rw [e4]; (try dsimp only); repeat (first | rw [up_eq] | rw [up_ne (by omega)])⟩, fun j hj => by (try dsimp only); repeat (first | rw [up_eq] | rw [up_ne (by omega)])⟩)) (sb_e [0, 1, 2, 3, 4, 5, 6, 7] rfl rfl) dX4_readNumbers_100

set_option maxHeartbeats 4000000 in
theorem ct_X4_readStatement (l : Launch) (G : ZG) (m : Nat) (g1 : Nat) (g2 : Nat) (g3 : Nat) (g4 : Nat) (g5 : Nat) (s1 : Nat) (s2 : Nat) (s3 : Nat) (s4 : Nat) (s5 : Nat) (s6 : Nat) (t1 : Nat) (t2 : Nat) (t3 : Nat) (c0 : Nat) (c1 : Nat) (c2 : Nat) (c3 : Nat) (y0 : Nat) (y1 : Nat) (thr : Int) (him : Int) (pl0 : Int) (itk : Int) (chd : Int) (chf : Int) (sd : Int) (ki : Value) (n : Nat) (oa : Int) (dy : Int) (hw : Nat → Nat) (kk : Nat → Nat) (rs : Nat → Nat) (rm : Nat → Nat) (kf : Nat → Int) (rw_ : Nat → Int) (e : Nat) (p : Nat) (k : Nat) (pf : Nat → Int) (lf : Nat → Int) (tf : Nat → Int) (hS : SK hw kk rs rm kf rw_) (he : e < 8) (hp : p ≤ 100) (hk : k ≤ 49) : CT l yX4_readStatement cX4_readStatement 3 none { frames := 3, cells := 0, slots := 0, locals := 70 } G [.ref m] [(m, .inr (11, [.int (zI (n : Int)), .ref g1, .ref g2, .ref g3, .ref g4, .ref g5, .int (zI oa), .int (zI dy), .ref s1, .ref s2, .ref s3, .ref s4, .ref s5, .ref s6, .int (zI thr), .int (zI (e : Int)), .int (zI (p : Int)), .int (zI 0), .int (zI (k : Int)), .ref t1, .ref t2, .ref t3, .ref c0, .ref c1, .ref c2, .ref c3, .int (zI him), .int (zI pl0), .int (zI itk), ki, .int (zI chd), .int (zI chf), .ref y0, .int (zI sd), .ref y1])), (s1, AI G 8 (fun z_ => (hw z_ : Int))), (s2, AI G 8 (fun z_ => (kk z_ : Int))), (s3, AI G 8 kf), (s4, AI G 8 (fun z_ => (rs z_ : Int))), (s5, AI G 8 (fun z_ => (rm z_ : Int))), (s6, AL G 800 rw_), (t1, AI G 51 pf), (t2, AI G 51 lf), (t3, AI G 204 tf)] (Qv G [(m, .inr (11, [.int (zI (n : Int)), .ref g1, .ref g2, .ref g3, .ref g4, .ref g5, .int (zI oa), .int (zI dy), .ref s1, .ref s2, .ref s3, .ref s4, .ref s5, .ref s6, .int (zI thr), .int (zI (e : Int)), .int (zI (p : Int)), .int (zI 0), .int (zI (k : Int)), .ref t1, .ref t2, .ref t3, .ref c0, .ref c1, .ref c2, .ref c3, .int (zI him), .int (zI pl0), .int (zI itk), ki, .int (zI chd), .int (zI chf), .ref y0, .int (zI sd), .ref y1])), (s1, AI G 8 (fun z_ => (hw z_ : Int))), (s2, AI G 8 (fun z_ => (kk z_ : Int))), (s3, AI G 8 kf), (s4, AI G 8 (fun z_ => (rs z_ : Int))), (s5, AI G 8 (fun z_ => (rm z_ : Int))), (s6, AL G 800 rw_), (t1, AI G 51 pf), (t2, AI G 51 lf), (t3, AI G 204 tf)] (fun (u : Nat × Int × (Nat → Int) × (Nat → Int)) => stF (rowF rw_ e) (rm e) p = (u.1, u.2.1) ∧ (p < rm e ∧ isL (rowF rw_ e p) → u.2.2.1 k = rowF rw_ e p ∧ tvF (rowF rw_ e) (rm e) p u.2.2.2 (4 * k)) ∧ (∀ j, j < k → u.2.2.1 j = lf j) ∧ ∀ j, j < 4 * k → u.2.2.2 j = tf j) (fun u => [(m, .inr (11, [.int (zI (n : Int)), .ref g1, .ref g2, .ref g3, .ref g4, .ref g5, .int (zI oa), .int (zI dy), .ref s1, .ref s2, .ref s3, .ref s4, .ref s5, .ref s6, .int (zI thr), .int (zI (e : Int)), .int (zI (u.1 : Int)), .int (zI u.2.1), .int (zI ((k + 1 : Nat) : Int)), .ref t1, .ref t2, .ref t3, .ref c0, .ref c1, .ref c2, .ref c3, .int (zI him), .int (zI pl0), .int (zI itk), ki, .int (zI chd), .int (zI chf), .ref y0, .int (zI sd), .ref y1])), (s1, AI G 8 (fun z_ => (hw z_ : Int))), (s2, AI G 8 (fun z_ => (kk z_ : Int))), (s3, AI G 8 kf), (s4, AI G 8 (fun z_ => (rs z_ : Int))), (s5, AI G 8 (fun z_ => (rm z_ : Int))), (s6, AL G 800 rw_), (t1, AI G 51 (va_up pf k (p : Int))), (t2, AI G 51 u.2.2.1), (t3, AI G 204 u.2.2.2)])) := by
  refine z_met (by decide) (Nat.le_of_ble_eq_true rfl) ?_
  intro X A hl0 hA C hQ hin
  subst hl0
  show Z X _ G 0 0 _ 0 [(0, .ref m)] []
  refine z_aload_n C dX4_readStatement_0 rfl 0 rfl ?_
  refine z_get (q := 0) (kf := 18) (v := .int (zI (k : Int))) C rfl rfl in_X4 (by decide) q1105 (Or.inl rfl) rfl dX4_readStatement_1 ?_
  refine z_istore_n (lv' := [(1, .int (zI (k : Int))), (0, .ref m)]) C dX4_readStatement_4 rfl (nlt rfl) rfl ?_
  refine z_aload_n C dX4_readStatement_5 rfl 1 rfl ?_
  refine z_i C (z_runV (q := 0) (As := []) (rest := []) C (ct_X4_here (zl X) G m g1 g2 g3 g4 g5 s1 s2 s3 s4 s5 s6 t1 t2 t3 c0 c1 c2 c3 y0 y1 thr 0 (k : Int) him pl0 itk chd chf sd ki n oa dy hw kk rs rm kf rw_ e p (by first | assumption | omega) (by first | assumption | omega) (by first | assumption | omega)) (lw_V q1214 q1216 qs25 q61 q1217) rfl rfl (sb_e [0, 1, 2, 3, 4, 5, 6] rfl rfl) (na := 0) (by decide +kernel) rfl (zrm rfl rfl (rfl) (rfl)) rfl (Nat.le_of_ble_eq_true rfl) dX4_readStatement_6) (fun u => jn_ro (sb_e [0, 1, 2, 3, 4, 5, 6] rfl rfl)) (fun r_6 u hp_6 => ?_)
  have hp_6 : r_6 = zI (hereF (rowF rw_ e) (rm e) p (-999)) := hp_6
  subst hp_6
  have hhr := hereF_r (f := (rowF rw_ e)) (m := (rm e)) (p := p) (e := -999) (fun k => hS.2 (100 * e + k)) (by omega)
  refine z_istore_n (lv' := [(2, .int (zI (hereF (rowF rw_ e) (rm e) p (-999)))), (1, .int (zI (k : Int))), (0, .ref m)]) C dX4_readStatement_9 rfl (nlt rfl) rfl ?_
  refine z_aload_n C dX4_readStatement_10 rfl 2 rfl ?_
  refine z_get (q := 0) (kf := 19) (v := .ref t1) C rfl rfl in_X4 (by decide) q1106 (Or.inl rfl) rfl dX4_readStatement_11 ?_
  refine z_iload_n C dX4_readStatement_14 rfl 1 rfl ?_
  refine z_aload_n C dX4_readStatement_15 rfl 2 rfl ?_
  refine z_get (q := 0) (kf := 16) (v := .int (zI (p : Int))) C rfl rfl in_X4 (by decide) q1103 (Or.inl rfl) rfl dX4_readStatement_16 ?_
  refine y_iast (q := 7) (t0 := 0) (g := va_up pf k (p : Int)) (ws' := [(m, .inr (11, [.int (zI (n : Int)), .ref g1, .ref g2, .ref g3, .ref g4, .ref g5, .int (zI oa), .int (zI dy), .ref s1, .ref s2, .ref s3, .ref s4, .ref s5, .ref s6, .int (zI thr), .int (zI (e : Int)), .int (zI (p : Int)), .int (zI 0), .int (zI (k : Int)), .ref t1, .ref t2, .ref t3, .ref c0, .ref c1, .ref c2, .ref c3, .int (zI him), .int (zI pl0), .int (zI itk), ki, .int (zI chd), .int (zI chf), .ref y0, .int (zI sd), .ref y1])), (s1, AI G 8 (fun z_ => (hw z_ : Int))), (s2, AI G 8 (fun z_ => (kk z_ : Int))), (s3, AI G 8 kf), (s4, AI G 8 (fun z_ => (rs z_ : Int))), (s5, AI G 8 (fun z_ => (rm z_ : Int))), (s6, AL G 800 rw_), (t1, AI G 51 (va_up pf k (p : Int))), (t2, AI G 51 lf), (t3, AI G 204 tf)]) C rfl rfl (by omega) (by decide) rfl rfl dX4_readStatement_19 ?_
  refine z_aload_n C dX4_readStatement_20 rfl 2 rfl ?_
  refine z_get (q := 0) (kf := 20) (v := .ref t2) C rfl rfl in_X4 (by decide) q1107 (Or.inl rfl) rfl dX4_readStatement_21 ?_
  refine z_iload_n C dX4_readStatement_24 rfl 1 rfl ?_
  refine z_iload_n C dX4_readStatement_25 rfl 0 rfl ?_
  refine y_iast (q := 8) (t0 := 0) (g := va_up lf k (hereF (rowF rw_ e) (rm e) p (-999))) (ws' := [(m, .inr (11, [.int (zI (n : Int)), .ref g1, .ref g2, .ref g3, .ref g4, .ref g5, .int (zI oa), .int (zI dy), .ref s1, .ref s2, .ref s3, .ref s4, .ref s5, .ref s6, .int (zI thr), .int (zI (e : Int)), .int (zI (p : Int)), .int (zI 0), .int (zI (k : Int)), .ref t1, .ref t2, .ref t3, .ref c0, .ref c1, .ref c2, .ref c3, .int (zI him), .int (zI pl0), .int (zI itk), ki, .int (zI chd), .int (zI chf), .ref y0, .int (zI sd), .ref y1])), (s1, AI G 8 (fun z_ => (hw z_ : Int))), (s2, AI G 8 (fun z_ => (kk z_ : Int))), (s3, AI G 8 kf), (s4, AI G 8 (fun z_ => (rs z_ : Int))), (s5, AI G 8 (fun z_ => (rm z_ : Int))), (s6, AL G 800 rw_), (t1, AI G 51 (va_up pf k (p : Int))), (t2, AI G 51 (va_up lf k (hereF (rowF rw_ e) (rm e) p (-999)))), (t3, AI G 204 tf)]) C rfl rfl (by omega) (by decide) rfl rfl dX4_readStatement_26 ?_
  refine z_aload_n C dX4_readStatement_27 rfl 2 rfl ?_
  refine z_aload_n C dX4_readStatement_28 rfl 2 rfl ?_
  refine z_get (q := 0) (kf := 17) (v := .int (zI 0)) C rfl rfl in_X4 (by decide) q1104 (Or.inl rfl) rfl dX4_readStatement_29 ?_
  refine y_if_ne (tgt := 42) C (by omega) dX4_readStatement_32 (by decide) (fun c_32 => ?_) (fun c_32 => ?_)
  · skip
    exact absurd rfl c_32
  · skip
    refine z_iload_n C dX4_readStatement_35 rfl 0 rfl ?_
    refine z_i C (z_runS (As := [.int (zI (hereF (rowF rw_ e) (rm e) p (-999)))]) (rest := [.ref m]) C (ct_X4_isLetter (zl X) G (hereF (rowF rw_ e) (rm e) p (-999)) (by first | assumption | omega)) (lw_S q1218 q1219 q61 q1220) (sb_e [] rfl rfl) (na := 1) (by decide +kernel) rfl (zrm rfl rfl (rfl) (rfl)) rfl (Nat.le_of_ble_eq_true rfl) dX4_readStatement_36) (fun u => jn_ro (sb_e [] rfl rfl)) (fun r_36 u hp_36 => ?_)
    have hp_36 : r_36 = zI (bI (isL (hereF (rowF rw_ e) (rm e) p (-999)))) := hp_36
    subst hp_36
    refine y_bne (tgt := 46) C dX4_readStatement_39 (by decide) (fun c_39 => ?_) (fun c_39 => ?_)
    · skip
      have hLy : p < rm e ∧ isL (rowF rw_ e p) := hereF_L.mp c_39
      rw [hereF_i hLy.1]
      refine y_iconst C dX4_readStatement_46 ?_
      refine z_put (q := 0) (kf := 17) (ws' := [(m, .inr (11, [.int (zI (n : Int)), .ref g1, .ref g2, .ref g3, .ref g4, .ref g5, .int (zI oa), .int (zI dy), .ref s1, .ref s2, .ref s3, .ref s4, .ref s5, .ref s6, .int (zI thr), .int (zI (e : Int)), .int (zI (p : Int)), .int (zI 0), .int (zI (k : Int)), .ref t1, .ref t2, .ref t3, .ref c0, .ref c1, .ref c2, .ref c3, .int (zI him), .int (zI pl0), .int (zI itk), ki, .int (zI chd), .int (zI chf), .ref y0, .int (zI sd), .ref y1])), (s1, AI G 8 (fun z_ => (hw z_ : Int))), (s2, AI G 8 (fun z_ => (kk z_ : Int))), (s3, AI G 8 kf), (s4, AI G 8 (fun z_ => (rs z_ : Int))), (s5, AI G 8 (fun z_ => (rm z_ : Int))), (s6, AL G 800 rw_), (t1, AI G 51 (va_up pf k (p : Int))), (t2, AI G 51 (va_up lf k (rowF rw_ e p))), (t3, AI G 204 tf)]) C rfl rfl in_X4 tyX4_ok nmX4 (by decide) q1104 rfl rfl rfl rfl rfl (nlt rfl) rfl dX4_readStatement_47 ?_
      refine z_aload_n C dX4_readStatement_50 rfl 2 rfl ?_
      refine z_dup C dX4_readStatement_51 rfl ?_
      refine z_get (q := 0) (kf := 16) (v := .int (zI (p : Int))) C rfl rfl in_X4 (by decide) q1103 (Or.inl rfl) rfl dX4_readStatement_52 ?_
      refine z_aload_n C dX4_readStatement_55 rfl 2 rfl ?_
      refine z_get (q := 0) (kf := 17) (v := .int (zI 0)) C rfl rfl in_X4 (by decide) q1104 (Or.inl rfl) rfl dX4_readStatement_56 ?_
      refine y_if_eq (tgt := 66) C (by omega) dX4_readStatement_59 (by decide) (fun c_59 => ?_) (fun c_59 => ?_)
      · skip
        refine y_iconst C dX4_readStatement_66 ?_
        refine y_iadd C dX4_readStatement_67 ?_
        rw [show ((p : Int) + 1 : Int) = ((p + 1 : Nat) : Int) by omega]
        refine z_put (q := 0) (kf := 16) (ws' := [(m, .inr (11, [.int (zI (n : Int)), .ref g1, .ref g2, .ref g3, .ref g4, .ref g5, .int (zI oa), .int (zI dy), .ref s1, .ref s2, .ref s3, .ref s4, .ref s5, .ref s6, .int (zI thr), .int (zI (e : Int)), .int (zI ((p + 1 : Nat) : Int)), .int (zI 0), .int (zI (k : Int)), .ref t1, .ref t2, .ref t3, .ref c0, .ref c1, .ref c2, .ref c3, .int (zI him), .int (zI pl0), .int (zI itk), ki, .int (zI chd), .int (zI chf), .ref y0, .int (zI sd), .ref y1])), (s1, AI G 8 (fun z_ => (hw z_ : Int))), (s2, AI G 8 (fun z_ => (kk z_ : Int))), (s3, AI G 8 kf), (s4, AI G 8 (fun z_ => (rs z_ : Int))), (s5, AI G 8 (fun z_ => (rm z_ : Int))), (s6, AL G 800 rw_), (t1, AI G 51 (va_up pf k (p : Int))), (t2, AI G 51 (va_up lf k (rowF rw_ e p))), (t3, AI G 204 tf)]) C rfl rfl in_X4 tyX4_ok nmX4 (by decide) q1103 rfl rfl rfl rfl rfl (nlt rfl) rfl dX4_readStatement_68 ?_
        refine z_aload_n C dX4_readStatement_71 rfl 2 rfl ?_
        refine z_get (q := 0) (kf := 17) (v := .int (zI 0)) C rfl rfl in_X4 (by decide) q1104 (Or.inl rfl) rfl dX4_readStatement_72 ?_
        refine y_if_ne (tgt := 86) C (by omega) dX4_readStatement_75 (by decide) (fun c_75 => ?_) (fun c_75 => ?_)
        · skip
          exact absurd rfl c_75
        · skip
          refine z_aload_n C dX4_readStatement_78 rfl 2 rfl ?_
          refine z_iload_n C dX4_readStatement_79 rfl 0 rfl ?_
          refine y_iconst C dX4_readStatement_80 ?_
          refine z_iload_n C dX4_readStatement_81 rfl 1 rfl ?_
          refine y_imul C dX4_readStatement_82 ?_
          rw [show (4 * (k : Int) : Int) = ((4 * k : Nat) : Int) by omega]
          refine z_v (ws' := fun u => [(m, .inr (11, [.int (zI (n : Int)), .ref g1, .ref g2, .ref g3, .ref g4, .ref g5, .int (zI oa), .int (zI dy), .ref s1, .ref s2, .ref s3, .ref s4, .ref s5, .ref s6, .int (zI thr), .int (zI (e : Int)), .int (zI (u.1 : Int)), .int (zI u.2.1), .int (zI (k : Int)), .ref t1, .ref t2, .ref t3, .ref c0, .ref c1, .ref c2, .ref c3, .int (zI him), .int (zI pl0), .int (zI itk), ki, .int (zI chd), .int (zI chf), .ref y0, .int (zI sd), .ref y1])), (s1, AI G 8 (fun z_ => (hw z_ : Int))), (s2, AI G 8 (fun z_ => (kk z_ : Int))), (s3, AI G 8 kf), (s4, AI G 8 (fun z_ => (rs z_ : Int))), (s5, AI G 8 (fun z_ => (rm z_ : Int))), (s6, AL G 800 rw_), (t1, AI G 51 (va_up pf k (p : Int))), (t2, AI G 51 (va_up lf k (rowF rw_ e p))), (t3, AI G 204 u.2.2)]) C (z_runV (q := 0) (As := [.int (zI (rowF rw_ e p)), .int (zI ((4 * k : Nat) : Int))]) (rest := []) C (ct_X4_readNumbers (zl X) G m g1 g2 g3 g4 g5 s1 s2 s3 s4 s5 s6 t1 t2 t3 c0 c1 c2 c3 y0 y1 thr (k : Int) him pl0 itk chd chf sd ki n oa dy hw kk rs rm kf rw_ e (p + 1 : Nat) (rowF rw_ e p) (4 * k : Nat) tf (by first | assumption | omega) (by first | assumption | omega) (by first | assumption | omega) (hLy.2) (by first | assumption | omega)) (lw_V q1221 q1223 qs26 q61 q1224) rfl rfl (sb_e [0, 1, 2, 3, 4, 5, 6, 9] rfl rfl) (na := 2) (by decide +kernel) rfl (zrm rfl rfl (rfl) (rfl)) rfl (Nat.le_of_ble_eq_true rfl) dX4_readStatement_83) (fun u => jn_e (wr := [(t1, AI G 51 (va_up pf k (p : Int))), (t2, AI G 51 (va_up lf k (rowF rw_ e p)))]) [0, 1, 2, 3, 4, 5, 6, 9] [7, 8] [2, 3, 4, 5, 6, 7, 8, 0, 1, 9] rfl rfl rfl (by decide) rfl rfl) (fun u hp_83 => ?_)
          obtain ⟨p9_83, b9_83, tf9_83⟩ := u
          obtain ⟨hs4, ht0, ht1, ht2, htj⟩ := hp_83
          obtain ⟨hx4, hy4, hz4, -⟩ := sN_all 4 p9_83 b9_83 hs4
          refine z_aload_n C dX4_readStatement_86 rfl 2 rfl ?_
          refine z_aload_n C dX4_readStatement_87 rfl 2 rfl ?_
          refine z_get (q := 0) (kf := 17) (v := .int (zI b9_83)) C rfl rfl in_X4 (by decide) q1104 (Or.inl rfl) rfl dX4_readStatement_88 ?_
          refine y_if_ne (tgt := 103) C (by omega) dX4_readStatement_91 (by decide) (fun c_91 => ?_) (fun c_91 => ?_)
          · skip
            refine y_iconst C dX4_readStatement_103 ?_
            refine z_goto (tgt := 108) C dX4_readStatement_104 (by decide) ?_
            refine z_put (q := 0) (kf := 17) (ws' := [(m, .inr (11, [.int (zI (n : Int)), .ref g1, .ref g2, .ref g3, .ref g4, .ref g5, .int (zI oa), .int (zI dy), .ref s1, .ref s2, .ref s3, .ref s4, .ref s5, .ref s6, .int (zI thr), .int (zI (e : Int)), .int (zI (p9_83 : Int)), .int (zI 1), .int (zI (k : Int)), .ref t1, .ref t2, .ref t3, .ref c0, .ref c1, .ref c2, .ref c3, .int (zI him), .int (zI pl0), .int (zI itk), ki, .int (zI chd), .int (zI chf), .ref y0, .int (zI sd), .ref y1])), (s1, AI G 8 (fun z_ => (hw z_ : Int))), (s2, AI G 8 (fun z_ => (kk z_ : Int))), (s3, AI G 8 kf), (s4, AI G 8 (fun z_ => (rs z_ : Int))), (s5, AI G 8 (fun z_ => (rm z_ : Int))), (s6, AL G 800 rw_), (t1, AI G 51 (va_up pf k (p : Int))), (t2, AI G 51 (va_up lf k (rowF rw_ e p))), (t3, AI G 204 tf9_83)]) C rfl rfl in_X4 tyX4_ok nmX4 (by decide) q1104 rfl rfl rfl rfl rfl (nlt rfl) rfl dX4_readStatement_108 ?_
            refine z_aload_n C dX4_readStatement_111 rfl 2 rfl ?_
            refine z_dup C dX4_readStatement_112 rfl ?_
            refine z_get (q := 0) (kf := 16) (v := .int (zI (p9_83 : Int))) C rfl rfl in_X4 (by decide) q1103 (Or.inl rfl) rfl dX4_readStatement_113 ?_
            refine z_aload_n C dX4_readStatement_116 rfl 2 rfl ?_
            refine z_get (q := 0) (kf := 17) (v := .int (zI 1)) C rfl rfl in_X4 (by decide) q1104 (Or.inl rfl) rfl dX4_readStatement_117 ?_
            refine y_if_eq (tgt := 127) C (by omega) dX4_readStatement_120 (by decide) (fun c_120 => ?_) (fun c_120 => ?_)
            · skip
              exact absurd c_120 (by decide)
            · skip
              refine y_iconst C dX4_readStatement_123 ?_
              refine z_goto (tgt := 128) C dX4_readStatement_124 (by decide) ?_
              refine y_iadd C dX4_readStatement_128 ?_
              rw [show ((p9_83 : Int) + 0 : Int) = (p9_83 : Int) by omega]
              refine z_put (q := 0) (kf := 16) (ws' := [(m, .inr (11, [.int (zI (n : Int)), .ref g1, .ref g2, .ref g3, .ref g4, .ref g5, .int (zI oa), .int (zI dy), .ref s1, .ref s2, .ref s3, .ref s4, .ref s5, .ref s6, .int (zI thr), .int (zI (e : Int)), .int (zI (p9_83 : Int)), .int (zI 1), .int (zI (k : Int)), .ref t1, .ref t2, .ref t3, .ref c0, .ref c1, .ref c2, .ref c3, .int (zI him), .int (zI pl0), .int (zI itk), ki, .int (zI chd), .int (zI chf), .ref y0, .int (zI sd), .ref y1])), (s1, AI G 8 (fun z_ => (hw z_ : Int))), (s2, AI G 8 (fun z_ => (kk z_ : Int))), (s3, AI G 8 kf), (s4, AI G 8 (fun z_ => (rs z_ : Int))), (s5, AI G 8 (fun z_ => (rm z_ : Int))), (s6, AL G 800 rw_), (t1, AI G 51 (va_up pf k (p : Int))), (t2, AI G 51 (va_up lf k (rowF rw_ e p))), (t3, AI G 204 tf9_83)]) C rfl rfl in_X4 tyX4_ok nmX4 (by decide) q1103 rfl rfl rfl rfl rfl (nlt rfl) rfl dX4_readStatement_129 ?_
              refine z_aload_n C dX4_readStatement_132 rfl 2 rfl ?_
              refine z_dup C dX4_readStatement_133 rfl ?_
              refine z_get (q := 0) (kf := 18) (v := .int (zI (k : Int))) C rfl rfl in_X4 (by decide) q1105 (Or.inl rfl) rfl dX4_readStatement_134 ?_
              refine y_iconst C dX4_readStatement_137 ?_
              refine y_iadd C dX4_readStatement_138 ?_
              rw [show ((k : Int) + 1 : Int) = ((k + 1 : Nat) : Int) by omega]
              refine z_put (q := 0) (kf := 18) (ws' := [(m, .inr (11, [.int (zI (n : Int)), .ref g1, .ref g2, .ref g3, .ref g4, .ref g5, .int (zI oa), .int (zI dy), .ref s1, .ref s2, .ref s3, .ref s4, .ref s5, .ref s6, .int (zI thr), .int (zI (e : Int)), .int (zI (p9_83 : Int)), .int (zI 1), .int (zI ((k + 1 : Nat) : Int)), .ref t1, .ref t2, .ref t3, .ref c0, .ref c1, .ref c2, .ref c3, .int (zI him), .int (zI pl0), .int (zI itk), ki, .int (zI chd), .int (zI chf), .ref y0, .int (zI sd), .ref y1])), (s1, AI G 8 (fun z_ => (hw z_ : Int))), (s2, AI G 8 (fun z_ => (kk z_ : Int))), (s3, AI G 8 kf), (s4, AI G 8 (fun z_ => (rs z_ : Int))), (s5, AI G 8 (fun z_ => (rm z_ : Int))), (s6, AL G 800 rw_), (t1, AI G 51 (va_up pf k (p : Int))), (t2, AI G 51 (va_up lf k (rowF rw_ e p))), (t3, AI G 204 tf9_83)]) C rfl rfl in_X4 tyX4_ok nmX4 (by decide) q1105 rfl rfl rfl rfl rfl (nlt rfl) rfl dX4_readStatement_139 ?_
              exact z_vret C hA hQ rfl (Nat.le_of_ble_eq_true rfl) (Nat.le_of_ble_eq_true rfl) ((p9_83, 1, (va_up lf k (rowF rw_ e p)), tf9_83)) (⟨by first | exact stF_no hLn | exact stF_bad hLy hs4 (fun z => c_91 z.1) | exact stF_bad hLy hs4 (fun z => c_100 ((hereF_is (by decide) (by decide)).mpr z.2)) | exact stF_ok hLy hs4 ⟨by omega, (hereF_is (by decide) (by decide)).mp c_100⟩, fun z => ⟨by (try dsimp only); repeat (first | rw [up_eq] | rw [up_ne (by omega)]), ⟨ht0, ht1, ht2⟩⟩, fun j hj => by (try dsimp only); repeat (first | rw [up_eq] | rw [up_ne (by omega)]), htj⟩) (sb_e [0, 1, 2, 3, 4, 5, 6, 7, 8, 9] rfl rfl) dX4_readStatement_142
          · skip
            refine z_aload_n C dX4_readStatement_94 rfl 2 rfl ?_
            refine z_i C (z_runV (q := 0) (As := []) (rest := [.ref m]) C (ct_X4_here (zl X) G m g1 g2 g3 g4 g5 s1 s2 s3 s4 s5 s6 t1 t2 t3 c0 c1 c2 c3 y0 y1 thr b9_83 (k : Int) him pl0 itk chd chf sd ki n oa dy hw kk rs rm kf rw_ e p9_83 (by first | assumption | omega) (by first | assumption | omega) (by first | assumption | omega)) (lw_V q1214 q1216 qs25 q61 q1217) rfl rfl (sb_e [0, 1, 2, 3, 4, 5, 6] rfl rfl) (na := 0) (by decide +kernel) rfl (zrm rfl rfl (rfl) (rfl)) rfl (Nat.le_of_ble_eq_true rfl) dX4_readStatement_95) (fun u => jn_ro (sb_e [0, 1, 2, 3, 4, 5, 6] rfl rfl)) (fun r_95 u hp_95 => ?_)
            have hp_95 : r_95 = zI (hereF (rowF rw_ e) (rm e) p9_83 (-999)) := hp_95
            subst hp_95
            have hhr := hereF_r (f := (rowF rw_ e)) (m := (rm e)) (p := p9_83) (e := -999) (fun k => hS.2 (100 * e + k)) (by omega)
            refine y_bipush C dX4_readStatement_98 (by decide) ?_
            refine y_icmp_eq (tgt := 107) C (by omega) (by omega) dX4_readStatement_100 (by decide) (fun c_100 => ?_) (fun c_100 => ?_)
            · skip
              refine y_iconst C dX4_readStatement_107 ?_
              refine z_put (q := 0) (kf := 17) (ws' := [(m, .inr (11, [.int (zI (n : Int)), .ref g1, .ref g2, .ref g3, .ref g4, .ref g5, .int (zI oa), .int (zI dy), .ref s1, .ref s2, .ref s3, .ref s4, .ref s5, .ref s6, .int (zI thr), .int (zI (e : Int)), .int (zI (p9_83 : Int)), .int (zI 0), .int (zI (k : Int)), .ref t1, .ref t2, .ref t3, .ref c0, .ref c1, .ref c2, .ref c3, .int (zI him), .int (zI pl0), .int (zI itk), ki, .int (zI chd), .int (zI chf), .ref y0, .int (zI sd), .ref y1])), (s1, AI G 8 (fun z_ => (hw z_ : Int))), (s2, AI G 8 (fun z_ => (kk z_ : Int))), (s3, AI G 8 kf), (s4, AI G 8 (fun z_ => (rs z_ : Int))), (s5, AI G 8 (fun z_ => (rm z_ : Int))), (s6, AL G 800 rw_), (t1, AI G 51 (va_up pf k (p : Int))), (t2, AI G 51 (va_up lf k (rowF rw_ e p))), (t3, AI G 204 tf9_83)]) C rfl rfl in_X4 tyX4_ok nmX4 (by decide) q1104 rfl rfl rfl rfl rfl (nlt rfl) rfl dX4_readStatement_108 ?_
              refine z_aload_n C dX4_readStatement_111 rfl 2 rfl ?_
              refine z_dup C dX4_readStatement_112 rfl ?_
              refine z_get (q := 0) (kf := 16) (v := .int (zI (p9_83 : Int))) C rfl rfl in_X4 (by decide) q1103 (Or.inl rfl) rfl dX4_readStatement_113 ?_
              refine z_aload_n C dX4_readStatement_116 rfl 2 rfl ?_
              refine z_get (q := 0) (kf := 17) (v := .int (zI 0)) C rfl rfl in_X4 (by decide) q1104 (Or.inl rfl) rfl dX4_readStatement_117 ?_
              refine y_if_eq (tgt := 127) C (by omega) dX4_readStatement_120 (by decide) (fun c_120 => ?_) (fun c_120 => ?_)
              · skip
                refine y_iconst C dX4_readStatement_127 ?_
                refine y_iadd C dX4_readStatement_128 ?_
                rw [show ((p9_83 : Int) + 1 : Int) = ((p9_83 + 1 : Nat) : Int) by omega]
                refine z_put (q := 0) (kf := 16) (ws' := [(m, .inr (11, [.int (zI (n : Int)), .ref g1, .ref g2, .ref g3, .ref g4, .ref g5, .int (zI oa), .int (zI dy), .ref s1, .ref s2, .ref s3, .ref s4, .ref s5, .ref s6, .int (zI thr), .int (zI (e : Int)), .int (zI ((p9_83 + 1 : Nat) : Int)), .int (zI 0), .int (zI (k : Int)), .ref t1, .ref t2, .ref t3, .ref c0, .ref c1, .ref c2, .ref c3, .int (zI him), .int (zI pl0), .int (zI itk), ki, .int (zI chd), .int (zI chf), .ref y0, .int (zI sd), .ref y1])), (s1, AI G 8 (fun z_ => (hw z_ : Int))), (s2, AI G 8 (fun z_ => (kk z_ : Int))), (s3, AI G 8 kf), (s4, AI G 8 (fun z_ => (rs z_ : Int))), (s5, AI G 8 (fun z_ => (rm z_ : Int))), (s6, AL G 800 rw_), (t1, AI G 51 (va_up pf k (p : Int))), (t2, AI G 51 (va_up lf k (rowF rw_ e p))), (t3, AI G 204 tf9_83)]) C rfl rfl in_X4 tyX4_ok nmX4 (by decide) q1103 rfl rfl rfl rfl rfl (nlt rfl) rfl dX4_readStatement_129 ?_
                refine z_aload_n C dX4_readStatement_132 rfl 2 rfl ?_
                refine z_dup C dX4_readStatement_133 rfl ?_
                refine z_get (q := 0) (kf := 18) (v := .int (zI (k : Int))) C rfl rfl in_X4 (by decide) q1105 (Or.inl rfl) rfl dX4_readStatement_134 ?_
                refine y_iconst C dX4_readStatement_137 ?_
                refine y_iadd C dX4_readStatement_138 ?_
                rw [show ((k : Int) + 1 : Int) = ((k + 1 : Nat) : Int) by omega]
                refine z_put (q := 0) (kf := 18) (ws' := [(m, .inr (11, [.int (zI (n : Int)), .ref g1, .ref g2, .ref g3, .ref g4, .ref g5, .int (zI oa), .int (zI dy), .ref s1, .ref s2, .ref s3, .ref s4, .ref s5, .ref s6, .int (zI thr), .int (zI (e : Int)), .int (zI ((p9_83 + 1 : Nat) : Int)), .int (zI 0), .int (zI ((k + 1 : Nat) : Int)), .ref t1, .ref t2, .ref t3, .ref c0, .ref c1, .ref c2, .ref c3, .int (zI him), .int (zI pl0), .int (zI itk), ki, .int (zI chd), .int (zI chf), .ref y0, .int (zI sd), .ref y1])), (s1, AI G 8 (fun z_ => (hw z_ : Int))), (s2, AI G 8 (fun z_ => (kk z_ : Int))), (s3, AI G 8 kf), (s4, AI G 8 (fun z_ => (rs z_ : Int))), (s5, AI G 8 (fun z_ => (rm z_ : Int))), (s6, AL G 800 rw_), (t1, AI G 51 (va_up pf k (p : Int))), (t2, AI G 51 (va_up lf k (rowF rw_ e p))), (t3, AI G 204 tf9_83)]) C rfl rfl in_X4 tyX4_ok nmX4 (by decide) q1105 rfl rfl rfl rfl rfl (nlt rfl) rfl dX4_readStatement_139 ?_
                exact z_vret C hA hQ rfl (Nat.le_of_ble_eq_true rfl) (Nat.le_of_ble_eq_true rfl) (((p9_83 + 1 : Nat), 0, (va_up lf k (rowF rw_ e p)), tf9_83)) (⟨by first | exact stF_no hLn | exact stF_bad hLy hs4 (fun z => c_91 z.1) | exact stF_bad hLy hs4 (fun z => c_100 ((hereF_is (by decide) (by decide)).mpr z.2)) | exact stF_ok hLy hs4 ⟨by omega, (hereF_is (by decide) (by decide)).mp c_100⟩, fun z => ⟨by (try dsimp only); repeat (first | rw [up_eq] | rw [up_ne (by omega)]), ⟨ht0, ht1, ht2⟩⟩, fun j hj => by (try dsimp only); repeat (first | rw [up_eq] | rw [up_ne (by omega)]), htj⟩) (sb_e [0, 1, 2, 3, 4, 5, 6, 7, 8, 9] rfl rfl) dX4_readStatement_142
              · skip
                exact absurd rfl c_120
            · skip
              refine y_iconst C dX4_readStatement_103 ?_
              refine z_goto (tgt := 108) C dX4_readStatement_104 (by decide) ?_
              refine z_put (q := 0) (kf := 17) (ws' := [(m, .inr (11, [.int (zI (n : Int)), .ref g1, .ref g2, .ref g3, .ref g4, .ref g5, .int (zI oa), .int (zI dy), .ref s1, .ref s2, .ref s3, .ref s4, .ref s5, .ref s6, .int (zI thr), .int (zI (e : Int)), .int (zI (p9_83 : Int)), .int (zI 1), .int (zI (k : Int)), .ref t1, .ref t2, .ref t3, .ref c0, .ref c1, .ref c2, .ref c3, .int (zI him), .int (zI pl0), .int (zI itk), ki, .int (zI chd), .int (zI chf), .ref y0, .int (zI sd), .ref y1])), (s1, AI G 8 (fun z_ => (hw z_ : Int))), (s2, AI G 8 (fun z_ => (kk z_ : Int))), (s3, AI G 8 kf), (s4, AI G 8 (fun z_ => (rs z_ : Int))), (s5, AI G 8 (fun z_ => (rm z_ : Int))), (s6, AL G 800 rw_), (t1, AI G 51 (va_up pf k (p : Int))), (t2, AI G 51 (va_up lf k (rowF rw_ e p))), (t3, AI G 204 tf9_83)]) C rfl rfl in_X4 tyX4_ok nmX4 (by decide) q1104 rfl rfl rfl rfl rfl (nlt rfl) rfl dX4_readStatement_108 ?_
              refine z_aload_n C dX4_readStatement_111 rfl 2 rfl ?_
              refine z_dup C dX4_readStatement_112 rfl ?_
              refine z_get (q := 0) (kf := 16) (v := .int (zI (p9_83 : Int))) C rfl rfl in_X4 (by decide) q1103 (Or.inl rfl) rfl dX4_readStatement_113 ?_
              refine z_aload_n C dX4_readStatement_116 rfl 2 rfl ?_
              refine z_get (q := 0) (kf := 17) (v := .int (zI 1)) C rfl rfl in_X4 (by decide) q1104 (Or.inl rfl) rfl dX4_readStatement_117 ?_
              refine y_if_eq (tgt := 127) C (by omega) dX4_readStatement_120 (by decide) (fun c_120 => ?_) (fun c_120 => ?_)
              · skip
                exact absurd c_120 (by decide)
              · skip
                refine y_iconst C dX4_readStatement_123 ?_
                refine z_goto (tgt := 128) C dX4_readStatement_124 (by decide) ?_
                refine y_iadd C dX4_readStatement_128 ?_
                rw [show ((p9_83 : Int) + 0 : Int) = (p9_83 : Int) by omega]
                refine z_put (q := 0) (kf := 16) (ws' := [(m, .inr (11, [.int (zI (n : Int)), .ref g1, .ref g2, .ref g3, .ref g4, .ref g5, .int (zI oa), .int (zI dy), .ref s1, .ref s2, .ref s3, .ref s4, .ref s5, .ref s6, .int (zI thr), .int (zI (e : Int)), .int (zI (p9_83 : Int)), .int (zI 1), .int (zI (k : Int)), .ref t1, .ref t2, .ref t3, .ref c0, .ref c1, .ref c2, .ref c3, .int (zI him), .int (zI pl0), .int (zI itk), ki, .int (zI chd), .int (zI chf), .ref y0, .int (zI sd), .ref y1])), (s1, AI G 8 (fun z_ => (hw z_ : Int))), (s2, AI G 8 (fun z_ => (kk z_ : Int))), (s3, AI G 8 kf), (s4, AI G 8 (fun z_ => (rs z_ : Int))), (s5, AI G 8 (fun z_ => (rm z_ : Int))), (s6, AL G 800 rw_), (t1, AI G 51 (va_up pf k (p : Int))), (t2, AI G 51 (va_up lf k (rowF rw_ e p))), (t3, AI G 204 tf9_83)]) C rfl rfl in_X4 tyX4_ok nmX4 (by decide) q1103 rfl rfl rfl rfl rfl (nlt rfl) rfl dX4_readStatement_129 ?_
                refine z_aload_n C dX4_readStatement_132 rfl 2 rfl ?_
                refine z_dup C dX4_readStatement_133 rfl ?_
                refine z_get (q := 0) (kf := 18) (v := .int (zI (k : Int))) C rfl rfl in_X4 (by decide) q1105 (Or.inl rfl) rfl dX4_readStatement_134 ?_
                refine y_iconst C dX4_readStatement_137 ?_
                refine y_iadd C dX4_readStatement_138 ?_
                rw [show ((k : Int) + 1 : Int) = ((k + 1 : Nat) : Int) by omega]
                refine z_put (q := 0) (kf := 18) (ws' := [(m, .inr (11, [.int (zI (n : Int)), .ref g1, .ref g2, .ref g3, .ref g4, .ref g5, .int (zI oa), .int (zI dy), .ref s1, .ref s2, .ref s3, .ref s4, .ref s5, .ref s6, .int (zI thr), .int (zI (e : Int)), .int (zI (p9_83 : Int)), .int (zI 1), .int (zI ((k + 1 : Nat) : Int)), .ref t1, .ref t2, .ref t3, .ref c0, .ref c1, .ref c2, .ref c3, .int (zI him), .int (zI pl0), .int (zI itk), ki, .int (zI chd), .int (zI chf), .ref y0, .int (zI sd), .ref y1])), (s1, AI G 8 (fun z_ => (hw z_ : Int))), (s2, AI G 8 (fun z_ => (kk z_ : Int))), (s3, AI G 8 kf), (s4, AI G 8 (fun z_ => (rs z_ : Int))), (s5, AI G 8 (fun z_ => (rm z_ : Int))), (s6, AL G 800 rw_), (t1, AI G 51 (va_up pf k (p : Int))), (t2, AI G 51 (va_up lf k (rowF rw_ e p))), (t3, AI G 204 tf9_83)]) C rfl rfl in_X4 tyX4_ok nmX4 (by decide) q1105 rfl rfl rfl rfl rfl (nlt rfl) rfl dX4_readStatement_139 ?_
                exact z_vret C hA hQ rfl (Nat.le_of_ble_eq_true rfl) (Nat.le_of_ble_eq_true rfl) ((p9_83, 1, (va_up lf k (rowF rw_ e p)), tf9_83)) (⟨by first | exact stF_no hLn | exact stF_bad hLy hs4 (fun z => c_91 z.1) | exact stF_bad hLy hs4 (fun z => c_100 ((hereF_is (by decide) (by decide)).mpr z.2)) | exact stF_ok hLy hs4 ⟨by omega, (hereF_is (by decide) (by decide)).mp c_100⟩, fun z => ⟨by (try dsimp only); repeat (first | rw [up_eq] | rw [up_ne (by omega)]), ⟨ht0, ht1, ht2⟩⟩, fun j hj => by (try dsimp only); repeat (first | rw [up_eq] | rw [up_ne (by omega)]), htj⟩) (sb_e [0, 1, 2, 3, 4, 5, 6, 7, 8, 9] rfl rfl) dX4_readStatement_142
      · skip
        exact absurd rfl c_59
    · skip
      have hLn : ¬ (p < rm e ∧ isL (rowF rw_ e p)) := fun z => c_39 (hereF_L.mpr z)
      refine y_iconst C dX4_readStatement_42 ?_
      refine z_goto (tgt := 47) C dX4_readStatement_43 (by decide) ?_
      refine z_put (q := 0) (kf := 17) (ws' := [(m, .inr (11, [.int (zI (n : Int)), .ref g1, .ref g2, .ref g3, .ref g4, .ref g5, .int (zI oa), .int (zI dy), .ref s1, .ref s2, .ref s3, .ref s4, .ref s5, .ref s6, .int (zI thr), .int (zI (e : Int)), .int (zI (p : Int)), .int (zI 1), .int (zI (k : Int)), .ref t1, .ref t2, .ref t3, .ref c0, .ref c1, .ref c2, .ref c3, .int (zI him), .int (zI pl0), .int (zI itk), ki, .int (zI chd), .int (zI chf), .ref y0, .int (zI sd), .ref y1])), (s1, AI G 8 (fun z_ => (hw z_ : Int))), (s2, AI G 8 (fun z_ => (kk z_ : Int))), (s3, AI G 8 kf), (s4, AI G 8 (fun z_ => (rs z_ : Int))), (s5, AI G 8 (fun z_ => (rm z_ : Int))), (s6, AL G 800 rw_), (t1, AI G 51 (va_up pf k (p : Int))), (t2, AI G 51 (va_up lf k (hereF (rowF rw_ e) (rm e) p (-999)))), (t3, AI G 204 tf)]) C rfl rfl in_X4 tyX4_ok nmX4 (by decide) q1104 rfl rfl rfl rfl rfl (nlt rfl) rfl dX4_readStatement_47 ?_
      refine z_aload_n C dX4_readStatement_50 rfl 2 rfl ?_
      refine z_dup C dX4_readStatement_51 rfl ?_
      refine z_get (q := 0) (kf := 16) (v := .int (zI (p : Int))) C rfl rfl in_X4 (by decide) q1103 (Or.inl rfl) rfl dX4_readStatement_52 ?_
      refine z_aload_n C dX4_readStatement_55 rfl 2 rfl ?_
      refine z_get (q := 0) (kf := 17) (v := .int (zI 1)) C rfl rfl in_X4 (by decide) q1104 (Or.inl rfl) rfl dX4_readStatement_56 ?_
      refine y_if_eq (tgt := 66) C (by omega) dX4_readStatement_59 (by decide) (fun c_59 => ?_) (fun c_59 => ?_)
      · skip
        exact absurd c_59 (by decide)
      · skip
        refine y_iconst C dX4_readStatement_62 ?_
        refine z_goto (tgt := 67) C dX4_readStatement_63 (by decide) ?_
        refine y_iadd C dX4_readStatement_67 ?_
        rw [show ((p : Int) + 0 : Int) = (p : Int) by omega]
        refine z_put (q := 0) (kf := 16) (ws' := [(m, .inr (11, [.int (zI (n : Int)), .ref g1, .ref g2, .ref g3, .ref g4, .ref g5, .int (zI oa), .int (zI dy), .ref s1, .ref s2, .ref s3, .ref s4, .ref s5, .ref s6, .int (zI thr), .int (zI (e : Int)), .int (zI (p : Int)), .int (zI 1), .int (zI (k : Int)), .ref t1, .ref t2, .ref t3, .ref c0, .ref c1, .ref c2, .ref c3, .int (zI him), .int (zI pl0), .int (zI itk), ki, .int (zI chd), .int (zI chf), .ref y0, .int (zI sd), .ref y1])), (s1, AI G 8 (fun z_ => (hw z_ : Int))), (s2, AI G 8 (fun z_ => (kk z_ : Int))), (s3, AI G 8 kf), (s4, AI G 8 (fun z_ => (rs z_ : Int))), (s5, AI G 8 (fun z_ => (rm z_ : Int))), (s6, AL G 800 rw_), (t1, AI G 51 (va_up pf k (p : Int))), (t2, AI G 51 (va_up lf k (hereF (rowF rw_ e) (rm e) p (-999)))), (t3, AI G 204 tf)]) C rfl rfl in_X4 tyX4_ok nmX4 (by decide) q1103 rfl rfl rfl rfl rfl (nlt rfl) rfl dX4_readStatement_68 ?_
        refine z_aload_n C dX4_readStatement_71 rfl 2 rfl ?_
        refine z_get (q := 0) (kf := 17) (v := .int (zI 1)) C rfl rfl in_X4 (by decide) q1104 (Or.inl rfl) rfl dX4_readStatement_72 ?_
        refine y_if_ne (tgt := 86) C (by omega) dX4_readStatement_75 (by decide) (fun c_75 => ?_) (fun c_75 => ?_)
        · skip
          refine z_aload_n C dX4_readStatement_86 rfl 2 rfl ?_
          refine z_aload_n C dX4_readStatement_87 rfl 2 rfl ?_
          refine z_get (q := 0) (kf := 17) (v := .int (zI 1)) C rfl rfl in_X4 (by decide) q1104 (Or.inl rfl) rfl dX4_readStatement_88 ?_
          refine y_if_ne (tgt := 103) C (by omega) dX4_readStatement_91 (by decide) (fun c_91 => ?_) (fun c_91 => ?_)
          · skip
            refine y_iconst C dX4_readStatement_103 ?_
            refine z_goto (tgt := 108) C dX4_readStatement_104 (by decide) ?_
            refine z_put (q := 0) (kf := 17) (ws' := [(m, .inr (11, [.int (zI (n : Int)), .ref g1, .ref g2, .ref g3, .ref g4, .ref g5, .int (zI oa), .int (zI dy), .ref s1, .ref s2, .ref s3, .ref s4, .ref s5, .ref s6, .int (zI thr), .int (zI (e : Int)), .int (zI (p : Int)), .int (zI 1), .int (zI (k : Int)), .ref t1, .ref t2, .ref t3, .ref c0, .ref c1, .ref c2, .ref c3, .int (zI him), .int (zI pl0), .int (zI itk), ki, .int (zI chd), .int (zI chf), .ref y0, .int (zI sd), .ref y1])), (s1, AI G 8 (fun z_ => (hw z_ : Int))), (s2, AI G 8 (fun z_ => (kk z_ : Int))), (s3, AI G 8 kf), (s4, AI G 8 (fun z_ => (rs z_ : Int))), (s5, AI G 8 (fun z_ => (rm z_ : Int))), (s6, AL G 800 rw_), (t1, AI G 51 (va_up pf k (p : Int))), (t2, AI G 51 (va_up lf k (hereF (rowF rw_ e) (rm e) p (-999)))), (t3, AI G 204 tf)]) C rfl rfl in_X4 tyX4_ok nmX4 (by decide) q1104 rfl rfl rfl rfl rfl (nlt rfl) rfl dX4_readStatement_108 ?_
            refine z_aload_n C dX4_readStatement_111 rfl 2 rfl ?_
            refine z_dup C dX4_readStatement_112 rfl ?_
            refine z_get (q := 0) (kf := 16) (v := .int (zI (p : Int))) C rfl rfl in_X4 (by decide) q1103 (Or.inl rfl) rfl dX4_readStatement_113 ?_
            refine z_aload_n C dX4_readStatement_116 rfl 2 rfl ?_
            refine z_get (q := 0) (kf := 17) (v := .int (zI 1)) C rfl rfl in_X4 (by decide) q1104 (Or.inl rfl) rfl dX4_readStatement_117 ?_
            refine y_if_eq (tgt := 127) C (by omega) dX4_readStatement_120 (by decide) (fun c_120 => ?_) (fun c_120 => ?_)
            · skip
              exact absurd c_120 (by decide)
            · skip
              refine y_iconst C dX4_readStatement_123 ?_
              refine z_goto (tgt := 128) C dX4_readStatement_124 (by decide) ?_
              refine y_iadd C dX4_readStatement_128 ?_
              rw [show ((p : Int) + 0 : Int) = (p : Int) by omega]
              refine z_put (q := 0) (kf := 16) (ws' := [(m, .inr (11, [.int (zI (n : Int)), .ref g1, .ref g2, .ref g3, .ref g4, .ref g5, .int (zI oa), .int (zI dy), .ref s1, .ref s2, .ref s3, .ref s4, .ref s5, .ref s6, .int (zI thr), .int (zI (e : Int)), .int (zI (p : Int)), .int (zI 1), .int (zI (k : Int)), .ref t1, .ref t2, .ref t3, .ref c0, .ref c1, .ref c2, .ref c3, .int (zI him), .int (zI pl0), .int (zI itk), ki, .int (zI chd), .int (zI chf), .ref y0, .int (zI sd), .ref y1])), (s1, AI G 8 (fun z_ => (hw z_ : Int))), (s2, AI G 8 (fun z_ => (kk z_ : Int))), (s3, AI G 8 kf), (s4, AI G 8 (fun z_ => (rs z_ : Int))), (s5, AI G 8 (fun z_ => (rm z_ : Int))), (s6, AL G 800 rw_), (t1, AI G 51 (va_up pf k (p : Int))), (t2, AI G 51 (va_up lf k (hereF (rowF rw_ e) (rm e) p (-999)))), (t3, AI G 204 tf)]) C rfl rfl in_X4 tyX4_ok nmX4 (by decide) q1103 rfl rfl rfl rfl rfl (nlt rfl) rfl dX4_readStatement_129 ?_
              refine z_aload_n C dX4_readStatement_132 rfl 2 rfl ?_
              refine z_dup C dX4_readStatement_133 rfl ?_
              refine z_get (q := 0) (kf := 18) (v := .int (zI (k : Int))) C rfl rfl in_X4 (by decide) q1105 (Or.inl rfl) rfl dX4_readStatement_134 ?_
              refine y_iconst C dX4_readStatement_137 ?_
              refine y_iadd C dX4_readStatement_138 ?_
              rw [show ((k : Int) + 1 : Int) = ((k + 1 : Nat) : Int) by omega]
              refine z_put (q := 0) (kf := 18) (ws' := [(m, .inr (11, [.int (zI (n : Int)), .ref g1, .ref g2, .ref g3, .ref g4, .ref g5, .int (zI oa), .int (zI dy), .ref s1, .ref s2, .ref s3, .ref s4, .ref s5, .ref s6, .int (zI thr), .int (zI (e : Int)), .int (zI (p : Int)), .int (zI 1), .int (zI ((k + 1 : Nat) : Int)), .ref t1, .ref t2, .ref t3, .ref c0, .ref c1, .ref c2, .ref c3, .int (zI him), .int (zI pl0), .int (zI itk), ki, .int (zI chd), .int (zI chf), .ref y0, .int (zI sd), .ref y1])), (s1, AI G 8 (fun z_ => (hw z_ : Int))), (s2, AI G 8 (fun z_ => (kk z_ : Int))), (s3, AI G 8 kf), (s4, AI G 8 (fun z_ => (rs z_ : Int))), (s5, AI G 8 (fun z_ => (rm z_ : Int))), (s6, AL G 800 rw_), (t1, AI G 51 (va_up pf k (p : Int))), (t2, AI G 51 (va_up lf k (hereF (rowF rw_ e) (rm e) p (-999)))), (t3, AI G 204 tf)]) C rfl rfl in_X4 tyX4_ok nmX4 (by decide) q1105 rfl rfl rfl rfl rfl (nlt rfl) rfl dX4_readStatement_139 ?_
              exact z_vret C hA hQ rfl (Nat.le_of_ble_eq_true rfl) (Nat.le_of_ble_eq_true rfl) ((p, 1, (va_up lf k (hereF (rowF rw_ e) (rm e) p (-999))), tf)) (⟨by first | exact stF_no hLn | exact stF_bad hLy hs4 (fun z => c_91 z.1) | exact stF_bad hLy hs4 (fun z => c_100 ((hereF_is (by decide) (by decide)).mpr z.2)) | exact stF_ok hLy hs4 ⟨by omega, (hereF_is (by decide) (by decide)).mp c_100⟩, fun z => absurd z hLn, fun j hj => by (try dsimp only); repeat (first | rw [up_eq] | rw [up_ne (by omega)]), fun j hj => rfl⟩) (sb_e [0, 1, 2, 3, 4, 5, 6, 7, 8, 9] rfl rfl) dX4_readStatement_142
          · skip
            exact absurd c_91 (by decide)
        · skip
          exact absurd c_75 (by decide)

theorem bI01 {p : Prop} [Decidable p] : bI p = 0 ∨ bI p = 1 := by
  have := bI_r (p := p)
  omega
set_option maxHeartbeats 4000000 in
theorem ct_X4_comesTold (l : Launch) (G : ZG) (m : Nat) (g1 : Nat) (g2 : Nat) (g3 : Nat) (g4 : Nat) (g5 : Nat) (s1 : Nat) (s2 : Nat) (s3 : Nat) (s4 : Nat) (s5 : Nat) (s6 : Nat) (t1 : Nat) (t2 : Nat) (t3 : Nat) (c0 : Nat) (c1 : Nat) (c2 : Nat) (c3 : Nat) (y0 : Nat) (y1 : Nat) (thr : Int) (rdg : Int) (plc : Int) (ibd : Int) (stm : Int) (him : Int) (pl0 : Int) (itk : Int) (chd : Int) (chf : Int) (sd : Int) (ki : Value) (kd : Nat → Nat) (fg : Nat → Int) (hm : Nat → Int) (at_ : Nat → Int) (lg : Nat → Int) (n : Nat) (oa : Int) (dy : Int) (k : Nat) (c : Int) (a : Int) (b : Int) (d : Int) (e : Int) (lf : Nat → Int) (tf : Nat → Int) (hL : LK n kd fg hm at_ lg oa) (hk : k ≤ 49) (hdy : 0 ≤ dy ∧ dy ≤ 999) (hlet : isL c) (hlt0 : lf k = c) (ht0 : tf (4 * k) = a) (ht1 : c = 104 ∨ c = 114 ∨ c = 108 → tf (4 * k + 1) = b) (ht2 : c = 104 → tf (4 * k + 2) = d ∧ tf (4 * k + 3) = e) (ha : 0 ≤ a ∧ a ≤ 99) (hb : 0 ≤ b ∧ b ≤ 99) (hd : 0 ≤ d ∧ d ≤ 99) (he : 0 ≤ e ∧ e ≤ 99) : CT l yX4_comesTold cX4_comesTold 5 (some .boolean) { frames := 6, cells := 0, slots := 0, locals := 141 } G [.ref m, .int (zI (k : Int))] [(m, .inr (11, [.int (zI (n : Int)), .ref g1, .ref g2, .ref g3, .ref g4, .ref g5, .int (zI oa), .int (zI dy), .ref s1, .ref s2, .ref s3, .ref s4, .ref s5, .ref s6, .int (zI thr), .int (zI rdg), .int (zI plc), .int (zI ibd), .int (zI stm), .ref t1, .ref t2, .ref t3, .ref c0, .ref c1, .ref c2, .ref c3, .int (zI him), .int (zI pl0), .int (zI itk), ki, .int (zI chd), .int (zI chf), .ref y0, .int (zI sd), .ref y1])), (g1, AI G 7 (fun z_ => (kd z_ : Int))), (g2, AI G 7 fg), (g3, AI G 7 hm), (g4, AI G 7 at_), (g5, AI G 7 lg), (t2, AI G 51 lf), (t3, AI G 204 tf)] (Qi G [(m, .inr (11, [.int (zI (n : Int)), .ref g1, .ref g2, .ref g3, .ref g4, .ref g5, .int (zI oa), .int (zI dy), .ref s1, .ref s2, .ref s3, .ref s4, .ref s5, .ref s6, .int (zI thr), .int (zI rdg), .int (zI plc), .int (zI ibd), .int (zI stm), .ref t1, .ref t2, .ref t3, .ref c0, .ref c1, .ref c2, .ref c3, .int (zI him), .int (zI pl0), .int (zI itk), ki, .int (zI chd), .int (zI chf), .ref y0, .int (zI sd), .ref y1])), (g1, AI G 7 (fun z_ => (kd z_ : Int))), (g2, AI G 7 fg), (g3, AI G 7 hm), (g4, AI G 7 at_), (g5, AI G 7 lg), (t2, AI G 51 lf), (t3, AI G 204 tf)] (fun (r : Int32) (u : Int × Nat × (Nat → Nat) × (Nat → Int) × (Nat → Int) × (Nat → Int) × (Nat → Int) × Int × Int) => r = zI u.1 ∧ (u.1 = 0 ∨ u.1 = 1) ∧ (u.1 = 1 → comeF c a b d e (n, kd, fg, hm, at_, lg, oa, dy) = some (u.2.1, u.2.2.1, u.2.2.2.1, u.2.2.2.2.1, u.2.2.2.2.2.1, u.2.2.2.2.2.2.1, u.2.2.2.2.2.2.2.1, u.2.2.2.2.2.2.2.2)) ∧ (u.1 = 0 → comeF c a b d e (n, kd, fg, hm, at_, lg, oa, dy) = none)) (fun u => [(m, .inr (11, [.int (zI (u.2.1 : Int)), .ref g1, .ref g2, .ref g3, .ref g4, .ref g5, .int (zI u.2.2.2.2.2.2.2.1), .int (zI u.2.2.2.2.2.2.2.2), .ref s1, .ref s2, .ref s3, .ref s4, .ref s5, .ref s6, .int (zI thr), .int (zI rdg), .int (zI plc), .int (zI ibd), .int (zI stm), .ref t1, .ref t2, .ref t3, .ref c0, .ref c1, .ref c2, .ref c3, .int (zI him), .int (zI pl0), .int (zI itk), ki, .int (zI chd), .int (zI chf), .ref y0, .int (zI sd), .ref y1])), (g1, AI G 7 (fun z_ => (u.2.2.1 z_ : Int))), (g2, AI G 7 u.2.2.2.1), (g3, AI G 7 u.2.2.2.2.1), (g4, AI G 7 u.2.2.2.2.2.1), (g5, AI G 7 u.2.2.2.2.2.2.1), (t2, AI G 51 lf), (t3, AI G 204 tf)])) := by
  refine z_met (by decide) (Nat.le_of_ble_eq_true rfl) ?_
  intro X A hl0 hA C hQ hin
  subst hl0
  obtain ⟨hn7, hoa, hLj⟩ := id hL
  show Z X _ G 0 0 _ 0 [(0, .ref m), (1, .int (zI (k : Int)))] []
  refine z_aload_n C dX4_comesTold_0 rfl 0 rfl ?_
  refine z_get (q := 0) (kf := 21) (v := .ref t3) C rfl rfl in_X4 (by decide) q1108 (Or.inl rfl) rfl dX4_comesTold_1 ?_
  refine y_iconst C dX4_comesTold_4 ?_
  refine z_iload_n C dX4_comesTold_5 rfl 1 rfl ?_
  refine y_imul C dX4_comesTold_6 ?_
  refine y_iald (q := 7) (t0 := 0) (v := tf (4 * k)) C rfl rfl (by omega) (by decide) (by rw [show (4 * (k : Int)).toNat = 4 * k by omega]) dX4_comesTold_7 ?_
  rw [ht0]
  refine z_istore_n (lv' := [(2, .int (zI a)), (0, .ref m), (1, .int (zI (k : Int)))]) C dX4_comesTold_8 rfl (nlt rfl) rfl ?_
  refine z_aload_n C dX4_comesTold_9 rfl 1 rfl ?_
  refine z_get (q := 0) (kf := 21) (v := .ref t3) C rfl rfl in_X4 (by decide) q1108 (Or.inl rfl) rfl dX4_comesTold_10 ?_
  refine y_iconst C dX4_comesTold_13 ?_
  refine z_iload_n C dX4_comesTold_14 rfl 2 rfl ?_
  refine y_imul C dX4_comesTold_15 ?_
  refine y_iconst C dX4_comesTold_16 ?_
  refine y_iadd C dX4_comesTold_17 ?_
  refine y_iald (q := 7) (t0 := 0) (v := tf (4 * k + 1)) C rfl rfl (by omega) (by decide) (by rw [show (4 * (k : Int) + 1).toNat = 4 * k + 1 by omega]) dX4_comesTold_18 ?_
  refine z_istore_n (lv' := [(3, .int (zI (tf (4 * k + 1)))), (2, .int (zI a)), (0, .ref m), (1, .int (zI (k : Int)))]) C dX4_comesTold_19 rfl (nlt rfl) rfl ?_
  refine y_iconst C dX4_comesTold_20 ?_
  refine z_istore (lv' := [(4, .int (zI 1)), (3, .int (zI (tf (4 * k + 1)))), (2, .int (zI a)), (0, .ref m), (1, .int (zI (k : Int)))]) C dX4_comesTold_21 (nlt rfl) rfl ?_
  refine z_aload_n C dX4_comesTold_23 rfl 3 rfl ?_
  refine z_get (q := 0) (kf := 20) (v := .ref t2) C rfl rfl in_X4 (by decide) q1107 (Or.inl rfl) rfl dX4_comesTold_24 ?_
  refine z_iload_n C dX4_comesTold_27 rfl 4 rfl ?_
  refine y_iald (q := 6) (t0 := 0) (v := lf k) C rfl rfl (by omega) (by decide) rfl dX4_comesTold_28 ?_
  rcases hlet with hcq | hcq | hcq | hcq | hcq
  · skip
    refine z_lookup (off := 43) (tgt := 72) C dX4_comesTold_29 (by decide) (by rw [show (zI (lf k)).toInt = 104 from (by rw [hlt0, hcq]; decide)]; rfl) (by decide) ?_
    refine z_aload_n C dX4_comesTold_72 rfl 3 rfl ?_
    refine z_iload_n C dX4_comesTold_73 rfl 2 rfl ?_
    refine z_iload_n C dX4_comesTold_74 rfl 1 rfl ?_
    refine z_aload_n C dX4_comesTold_75 rfl 3 rfl ?_
    refine z_get (q := 0) (kf := 21) (v := .ref t3) C rfl rfl in_X4 (by decide) q1108 (Or.inl rfl) rfl dX4_comesTold_76 ?_
    refine y_iconst C dX4_comesTold_79 ?_
    refine z_iload_n C dX4_comesTold_80 rfl 4 rfl ?_
    refine y_imul C dX4_comesTold_81 ?_
    refine y_iconst C dX4_comesTold_82 ?_
    refine y_iadd C dX4_comesTold_83 ?_
    refine y_iald (q := 7) (t0 := 0) (v := tf (4 * k + 2)) C rfl rfl (by omega) (by decide) (by rw [show (4 * (k : Int) + 2).toNat = 4 * k + 2 by omega]) dX4_comesTold_84 ?_
    refine z_aload_n C dX4_comesTold_85 rfl 3 rfl ?_
    refine z_get (q := 0) (kf := 21) (v := .ref t3) C rfl rfl in_X4 (by decide) q1108 (Or.inl rfl) rfl dX4_comesTold_86 ?_
    refine y_iconst C dX4_comesTold_89 ?_
    refine z_iload_n C dX4_comesTold_90 rfl 4 rfl ?_
    refine y_imul C dX4_comesTold_91 ?_
    refine y_iconst C dX4_comesTold_92 ?_
    refine y_iadd C dX4_comesTold_93 ?_
    refine y_iald (q := 7) (t0 := 0) (v := tf (4 * k + 3)) C rfl rfl (by omega) (by decide) (by rw [show (4 * (k : Int) + 3).toNat = 4 * k + 3 by omega]) dX4_comesTold_94 ?_
    rw [ht1 (by omega), (ht2 hcq).1, (ht2 hcq).2]
    refine z_i (ws' := fun u => [(m, .inr (11, [.int (zI (((if hcOk n a d e then n + 1 else n) : Nat) : Int)), .ref g1, .ref g2, .ref g3, .ref g4, .ref g5, .int (zI oa), .int (zI dy), .ref s1, .ref s2, .ref s3, .ref s4, .ref s5, .ref s6, .int (zI thr), .int (zI rdg), .int (zI plc), .int (zI ibd), .int (zI stm), .ref t1, .ref t2, .ref t3, .ref c0, .ref c1, .ref c2, .ref c3, .int (zI him), .int (zI pl0), .int (zI itk), ki, .int (zI chd), .int (zI chf), .ref y0, .int (zI sd), .ref y1])), (g1, AI G 7 (fun z_ => ((if hcOk n a d e then upN kd n a.toNat else kd) z_ : Int))), (g2, AI G 7 (if hcOk n a d e then va_up fg n b else fg)), (g3, AI G 7 (if hcOk n a d e then va_up hm n d else hm)), (g4, AI G 7 (if hcOk n a d e then va_up at_ n e else at_)), (g5, AI G 7 (if hcOk n a d e then va_up lg n 0 else lg)), (t2, AI G 51 lf), (t3, AI G 204 tf)]) C (z_runV (q := 0) (As := [.int (zI a), .int (zI b), .int (zI d), .int (zI e)]) (rest := []) C (ct_X4_horseComes (zl X) G m g1 g2 g3 g4 g5 kd fg hm at_ lg n oa dy ([.ref s1, .ref s2, .ref s3, .ref s4, .ref s5, .ref s6, .int (zI thr), .int (zI rdg), .int (zI plc), .int (zI ibd), .int (zI stm), .ref t1, .ref t2, .ref t3, .ref c0, .ref c1, .ref c2, .ref c3, .int (zI him), .int (zI pl0), .int (zI itk), ki, .int (zI chd), .int (zI chf), .ref y0, .int (zI sd), .ref y1]) a b d e (by first | assumption | omega) (by first | assumption | omega) (by first | assumption | omega) (by first | assumption | omega)) (lw_V q1247 q1249 qs32 q61 q1250) rfl rfl (sb_e [0, 1, 2, 3, 4, 5] rfl rfl) (na := 4) (by decide +kernel) rfl (zrm rfl rfl (rfl) (rfl)) rfl (Nat.le_of_ble_eq_true rfl) dX4_comesTold_95) (fun u => jn_e (wr := [(t2, AI G 51 lf), (t3, AI G 204 tf)]) [0, 1, 2, 3, 4, 5] [6, 7] [2, 3, 4, 5, 6, 7, 0, 1] rfl rfl rfl (by decide) rfl rfl) (fun r_95 u hp_95 => ?_)
    have hp_95 : r_95 = zI (bI (hcOk n a d e)) := hp_95
    subst hp_95
    exact z_zret C hA hQ rfl (Nat.le_of_ble_eq_true rfl) (Nat.le_of_ble_eq_true rfl) (((bI (hcOk n a d e)), ((if hcOk n a d e then n + 1 else n) : Nat), (if hcOk n a d e then upN kd n a.toNat else kd), (if hcOk n a d e then va_up fg n b else fg), (if hcOk n a d e then va_up hm n d else hm), (if hcOk n a d e then va_up at_ n e else at_), (if hcOk n a d e then va_up lg n 0 else lg), oa, dy)) (if hq : hcOk n a d e then ⟨rfl, bI01, fun _ => (by simp only [if_pos hq]; exact come_hy hcq hq), fun z => absurd hq (bI_eq0.mp z)⟩ else ⟨rfl, bI01, fun z => absurd (bI_eq1.mp z) hq, fun _ => come_hn hcq hq⟩) (bI_nar) (sb_e [0, 1, 2, 3, 4, 5, 6, 7] rfl rfl) dX4_comesTold_98
  · skip
    refine z_lookup (off := 70) (tgt := 99) C dX4_comesTold_29 (by decide) (by rw [show (zI (lf k)).toInt = 114 from (by rw [hlt0, hcq]; decide)]; rfl) (by decide) ?_
    rw [ht1 (by omega)]
    refine z_aload_n C dX4_comesTold_99 rfl 3 rfl ?_
    refine z_iload_n C dX4_comesTold_100 rfl 2 rfl ?_
    refine z_i C (z_runV (q := 0) (As := [.int (zI a)]) (rest := []) C (ct_X4_isHorse (zl X) G m g1 g2 g3 g4 g5 n oa dy ([.ref s1, .ref s2, .ref s3, .ref s4, .ref s5, .ref s6, .int (zI thr), .int (zI rdg), .int (zI plc), .int (zI ibd), .int (zI stm), .ref t1, .ref t2, .ref t3, .ref c0, .ref c1, .ref c2, .ref c3, .int (zI him), .int (zI pl0), .int (zI itk), ki, .int (zI chd), .int (zI chf), .ref y0, .int (zI sd), .ref y1]) a (by first | assumption | omega) (by first | assumption | omega)) (lw_V q1255 q1257 qs33 q61 q1258) rfl rfl (sb_e [0] rfl rfl) (na := 1) (by decide +kernel) rfl (zrm rfl rfl (rfl) (rfl)) rfl (Nat.le_of_ble_eq_true rfl) dX4_comesTold_101) (fun u => jn_ro (sb_e [0] rfl rfl)) (fun r_101 u hp_101 => ?_)
    have hp_101 : r_101 = zI (bI (0 ≤ a ∧ a ≤ (n : Int) - 1)) := hp_101
    subst hp_101
    refine y_beq (tgt := 114) C dX4_comesTold_104 (by decide) (fun c_104 => ?_) (fun c_104 => ?_)
    · skip
      refine y_iconst C dX4_comesTold_114 ?_
      exact z_zret C hA hQ rfl (Nat.le_of_ble_eq_true rfl) (Nat.le_of_ble_eq_true rfl) ((0, n, kd, fg, hm, at_, lg, oa, dy)) (⟨rfl, Or.inl rfl, fun z => absurd (show (0 : Int) = 1 from z) (by decide), fun _ => come_rn hcq (by (try simp only [zTN]); omega)⟩) (rfl) (sb_e [0, 1, 2, 3, 4, 5, 6, 7] rfl rfl) dX4_comesTold_115
    · skip
      refine z_iload_n C dX4_comesTold_107 rfl 1 rfl ?_
      refine z_i C (z_runS (As := [.int (zI b)]) (rest := []) C (ct_X4_isYard (zl X) G b (by first | assumption | omega)) (lw_S q1251 q1252 q61 q1253) (sb_e [] rfl rfl) (na := 1) (by decide +kernel) rfl (zrm rfl rfl (rfl) (rfl)) rfl (Nat.le_of_ble_eq_true rfl) dX4_comesTold_108) (fun u => jn_ro (sb_e [] rfl rfl)) (fun r_108 u hp_108 => ?_)
      have hp_108 : r_108 = zI (bI (0 ≤ b ∧ b ≤ 20)) := hp_108
      subst hp_108
      refine y_bne (tgt := 116) C dX4_comesTold_111 (by decide) (fun c_111 => ?_) (fun c_111 => ?_)
      · skip
        obtain ⟨aN, rfl⟩ := Int.eq_ofNat_of_zero_le (show 0 ≤ a by omega)
        refine z_aload_n C dX4_comesTold_116 rfl 3 rfl ?_
        refine z_iload_n C dX4_comesTold_117 rfl 2 rfl ?_
        refine z_iload_n C dX4_comesTold_118 rfl 1 rfl ?_
        refine z_i (ws' := fun u => [(m, .inr (11, [.int (zI (n : Int)), .ref g1, .ref g2, .ref g3, .ref g4, .ref g5, .int (zI oa), .int (zI (dy + ((rdN kd fg hm oa n aN b at_ lg) : Int))), .ref s1, .ref s2, .ref s3, .ref s4, .ref s5, .ref s6, .int (zI thr), .int (zI rdg), .int (zI plc), .int (zI ibd), .int (zI stm), .ref t1, .ref t2, .ref t3, .ref c0, .ref c1, .ref c2, .ref c3, .int (zI him), .int (zI pl0), .int (zI itk), ki, .int (zI chd), .int (zI chf), .ref y0, .int (zI sd), .ref y1])), (g1, AI G 7 (fun z_ => (kd z_ : Int))), (g2, AI G 7 fg), (g3, AI G 7 hm), (g4, AI G 7 (rdA kd fg hm oa n aN b at_ lg)), (g5, AI G 7 (rdL kd fg hm oa n aN b at_ lg)), (t2, AI G 51 lf), (t3, AI G 204 tf)]) C (z_runV (q := 0) (As := [.int (zI (aN : Int)), .int (zI b)]) (rest := []) C (ct_X4_ride (zl X) G m g1 g2 g3 g4 g5 kd fg hm at_ lg n oa dy ([.ref s1, .ref s2, .ref s3, .ref s4, .ref s5, .ref s6, .int (zI thr), .int (zI rdg), .int (zI plc), .int (zI ibd), .int (zI stm), .ref t1, .ref t2, .ref t3, .ref c0, .ref c1, .ref c2, .ref c3, .int (zI him), .int (zI pl0), .int (zI itk), ki, .int (zI chd), .int (zI chf), .ref y0, .int (zI sd), .ref y1]) aN b (by first | assumption | omega) (by omega) (by omega)) (lw_V q1259 q1261 qs34 q61 q1262) rfl rfl (sb_e [0, 1, 2, 3, 4, 5] rfl rfl) (na := 2) (by decide +kernel) rfl (zrm rfl rfl (rfl) (rfl)) rfl (Nat.le_of_ble_eq_true rfl) dX4_comesTold_119) (fun u => jn_e (wr := [(t2, AI G 51 lf), (t3, AI G 204 tf)]) [0, 1, 2, 3, 4, 5] [6, 7] [2, 3, 4, 5, 6, 7, 0, 1] rfl rfl rfl (by decide) rfl rfl) (fun r_119 u hp_119 => ?_)
        have hp_119 : r_119 = zI ((rdN kd fg hm oa n aN b at_ lg) : Int) := hp_119
        subst hp_119
        have hrn := rdN_le kd fg hm oa n aN b at_ lg
        refine z_pop C dX4_comesTold_122 rfl ?_
        refine z_aload_n C dX4_comesTold_123 rfl 3 rfl ?_
        refine z_get (q := 0) (kf := 7) (v := .int (zI (dy + ((rdN kd fg hm oa n aN b at_ lg) : Int)))) C rfl rfl in_X4 (by decide) q1094 (Or.inl rfl) rfl dX4_comesTold_124 ?_
        refine y_sipush C dX4_comesTold_127 (by decide) ?_
        refine y_icmp_gt (tgt := 137) C (by omega) (by omega) dX4_comesTold_130 (by decide) (fun c_130 => ?_) (fun c_130 => ?_)
        · skip
          refine y_iconst C dX4_comesTold_137 ?_
          exact z_zret C hA hQ rfl (Nat.le_of_ble_eq_true rfl) (Nat.le_of_ble_eq_true rfl) ((0, n, kd, fg, hm, (rdA kd fg hm oa n aN b at_ lg), (rdL kd fg hm oa n aN b at_ lg), oa, (dy + ((rdN kd fg hm oa n aN b at_ lg) : Int)))) (⟨rfl, Or.inl rfl, fun z => absurd (show (0 : Int) = 1 from z) (by decide), fun _ => come_rn hcq (by (try simp only [zTN]); omega)⟩) (rfl) (sb_e [0, 1, 2, 3, 4, 5, 6, 7] rfl rfl) dX4_comesTold_138
        · skip
          refine y_iconst C dX4_comesTold_133 ?_
          refine z_goto (tgt := 138) C dX4_comesTold_134 (by decide) ?_
          exact z_zret C hA hQ rfl (Nat.le_of_ble_eq_true rfl) (Nat.le_of_ble_eq_true rfl) ((1, n, kd, fg, hm, (rdA kd fg hm oa n aN b at_ lg), (rdL kd fg hm oa n aN b at_ lg), oa, (dy + ((rdN kd fg hm oa n aN b at_ lg) : Int)))) (⟨rfl, Or.inr rfl, fun _ => come_ry hcq (by show (_ ∧ _) ∧ _; (try simp only [zTN]); omega), fun z => absurd (show (1 : Int) = 0 from z) (by decide)⟩) (rfl) (sb_e [0, 1, 2, 3, 4, 5, 6, 7] rfl rfl) dX4_comesTold_138
      · skip
        refine y_iconst C dX4_comesTold_114 ?_
        exact z_zret C hA hQ rfl (Nat.le_of_ble_eq_true rfl) (Nat.le_of_ble_eq_true rfl) ((0, n, kd, fg, hm, at_, lg, oa, dy)) (⟨rfl, Or.inl rfl, fun z => absurd (show (0 : Int) = 1 from z) (by decide), fun _ => come_rn hcq (by (try simp only [zTN]); omega)⟩) (rfl) (sb_e [0, 1, 2, 3, 4, 5, 6, 7] rfl rfl) dX4_comesTold_115
  · skip
    refine z_lookup (off := 110) (tgt := 139) C dX4_comesTold_29 (by decide) (by rw [show (zI (lf k)).toInt = 111 from (by rw [hlt0, hcq]; decide)]; rfl) (by decide) ?_
    refine z_iload_n C dX4_comesTold_139 rfl 2 rfl ?_
    refine z_i C (z_runS (As := [.int (zI a)]) (rest := []) C (ct_X4_isYard (zl X) G a (by first | assumption | omega)) (lw_S q1251 q1252 q61 q1253) (sb_e [] rfl rfl) (na := 1) (by decide +kernel) rfl (zrm rfl rfl (rfl) (rfl)) rfl (Nat.le_of_ble_eq_true rfl) dX4_comesTold_140) (fun u => jn_ro (sb_e [] rfl rfl)) (fun r_140 u hp_140 => ?_)
    have hp_140 : r_140 = zI (bI (0 ≤ a ∧ a ≤ 20)) := hp_140
    subst hp_140
    refine z_istore (lv' := [(4, .int (zI (bI (0 ≤ a ∧ a ≤ 20)))), (3, .int (zI (tf (4 * k + 1)))), (2, .int (zI a)), (0, .ref m), (1, .int (zI (k : Int)))]) C dX4_comesTold_143 (nlt rfl) rfl ?_
    refine z_aload_n C dX4_comesTold_145 rfl 3 rfl ?_
    refine z_iload C dX4_comesTold_146 0 rfl ?_
    refine y_beq (tgt := 155) C dX4_comesTold_148 (by decide) (fun c_148 => ?_) (fun c_148 => ?_)
    · skip
      refine z_aload_n C dX4_comesTold_155 rfl 3 rfl ?_
      refine z_get (q := 0) (kf := 6) (v := .int (zI oa)) C rfl rfl in_X4 (by decide) q1093 (Or.inl rfl) rfl dX4_comesTold_156 ?_
      refine z_put (q := 0) (kf := 6) (ws' := [(m, .inr (11, [.int (zI (n : Int)), .ref g1, .ref g2, .ref g3, .ref g4, .ref g5, .int (zI oa), .int (zI dy), .ref s1, .ref s2, .ref s3, .ref s4, .ref s5, .ref s6, .int (zI thr), .int (zI rdg), .int (zI plc), .int (zI ibd), .int (zI stm), .ref t1, .ref t2, .ref t3, .ref c0, .ref c1, .ref c2, .ref c3, .int (zI him), .int (zI pl0), .int (zI itk), ki, .int (zI chd), .int (zI chf), .ref y0, .int (zI sd), .ref y1])), (g1, AI G 7 (fun z_ => (kd z_ : Int))), (g2, AI G 7 fg), (g3, AI G 7 hm), (g4, AI G 7 at_), (g5, AI G 7 lg), (t2, AI G 51 lf), (t3, AI G 204 tf)]) C rfl rfl in_X4 tyX4_ok nmX4 (by decide) q1093 rfl rfl rfl rfl rfl (nlt rfl) rfl dX4_comesTold_159 ?_
      refine z_iload C dX4_comesTold_162 0 rfl ?_
      exact z_zret C hA hQ rfl (Nat.le_of_ble_eq_true rfl) (Nat.le_of_ble_eq_true rfl) (((bI (0 ≤ a ∧ a ≤ 20)), n, kd, fg, hm, at_, lg, oa, dy)) (by first | exact ⟨rfl, bI01, fun z => absurd (bI_eq1.mp z) (by assumption), fun _ => come_on hcq (by assumption)⟩ | exact ⟨rfl, bI01, fun _ => come_oy hcq (by assumption), fun z => absurd (by assumption) (bI_eq0.mp z)⟩) (bI_nar) (sb_e [0, 1, 2, 3, 4, 5, 6, 7] rfl rfl) dX4_comesTold_164
    · skip
      refine z_iload_n C dX4_comesTold_151 rfl 2 rfl ?_
      refine z_goto (tgt := 159) C dX4_comesTold_152 (by decide) ?_
      refine z_put (q := 0) (kf := 6) (ws' := [(m, .inr (11, [.int (zI (n : Int)), .ref g1, .ref g2, .ref g3, .ref g4, .ref g5, .int (zI a), .int (zI dy), .ref s1, .ref s2, .ref s3, .ref s4, .ref s5, .ref s6, .int (zI thr), .int (zI rdg), .int (zI plc), .int (zI ibd), .int (zI stm), .ref t1, .ref t2, .ref t3, .ref c0, .ref c1, .ref c2, .ref c3, .int (zI him), .int (zI pl0), .int (zI itk), ki, .int (zI chd), .int (zI chf), .ref y0, .int (zI sd), .ref y1])), (g1, AI G 7 (fun z_ => (kd z_ : Int))), (g2, AI G 7 fg), (g3, AI G 7 hm), (g4, AI G 7 at_), (g5, AI G 7 lg), (t2, AI G 51 lf), (t3, AI G 204 tf)]) C rfl rfl in_X4 tyX4_ok nmX4 (by decide) q1093 rfl rfl rfl rfl rfl (nlt rfl) rfl dX4_comesTold_159 ?_
      refine z_iload C dX4_comesTold_162 0 rfl ?_
      exact z_zret C hA hQ rfl (Nat.le_of_ble_eq_true rfl) (Nat.le_of_ble_eq_true rfl) (((bI (0 ≤ a ∧ a ≤ 20)), n, kd, fg, hm, at_, lg, a, dy)) (by first | exact ⟨rfl, bI01, fun z => absurd (bI_eq1.mp z) (by assumption), fun _ => come_on hcq (by assumption)⟩ | exact ⟨rfl, bI01, fun _ => come_oy hcq (by assumption), fun z => absurd (by assumption) (bI_eq0.mp z)⟩) (bI_nar) (sb_e [0, 1, 2, 3, 4, 5, 6, 7] rfl rfl) dX4_comesTold_164
  · skip
    refine z_lookup (off := 136) (tgt := 165) C dX4_comesTold_29 (by decide) (by rw [show (zI (lf k)).toInt = 100 from (by rw [hlt0, hcq]; decide)]; rfl) (by decide) ?_
    refine z_aload_n C dX4_comesTold_165 rfl 3 rfl ?_
    refine z_iload_n C dX4_comesTold_166 rfl 2 rfl ?_
    refine z_i (ws' := fun u => [(m, .inr (11, [.int (zI (n : Int)), .ref g1, .ref g2, .ref g3, .ref g4, .ref g5, .int (zI oa), .int (zI (if dsOk dy a then dy + a else dy)), .ref s1, .ref s2, .ref s3, .ref s4, .ref s5, .ref s6, .int (zI thr), .int (zI rdg), .int (zI plc), .int (zI ibd), .int (zI stm), .ref t1, .ref t2, .ref t3, .ref c0, .ref c1, .ref c2, .ref c3, .int (zI him), .int (zI pl0), .int (zI itk), ki, .int (zI chd), .int (zI chf), .ref y0, .int (zI sd), .ref y1])), (g1, AI G 7 (fun z_ => (kd z_ : Int))), (g2, AI G 7 fg), (g3, AI G 7 hm), (g4, AI G 7 at_), (g5, AI G 7 (if dsOk dy a then goL kd fg hm at_ oa n a.toNat lg else lg)), (t2, AI G 51 lf), (t3, AI G 204 tf)]) C (z_runV (q := 0) (As := [.int (zI a)]) (rest := []) C (ct_X4_daysCome (zl X) G m g1 g2 g3 g4 g5 kd fg hm at_ lg n oa dy ([.ref s1, .ref s2, .ref s3, .ref s4, .ref s5, .ref s6, .int (zI thr), .int (zI rdg), .int (zI plc), .int (zI ibd), .int (zI stm), .ref t1, .ref t2, .ref t3, .ref c0, .ref c1, .ref c2, .ref c3, .int (zI him), .int (zI pl0), .int (zI itk), ki, .int (zI chd), .int (zI chf), .ref y0, .int (zI sd), .ref y1]) a (by first | assumption | omega) (by first | assumption | omega) (by first | assumption | omega)) (lw_V q1293 q1295 qs41 q61 q1296) rfl rfl (sb_e [0, 1, 2, 3, 4, 5] rfl rfl) (na := 1) (by decide +kernel) rfl (zrm rfl rfl (rfl) (rfl)) rfl (Nat.le_of_ble_eq_true rfl) dX4_comesTold_167) (fun u => jn_e (wr := [(t2, AI G 51 lf), (t3, AI G 204 tf)]) [0, 1, 2, 3, 4, 5] [6, 7] [2, 3, 4, 5, 6, 7, 0, 1] rfl rfl rfl (by decide) rfl rfl) (fun r_167 u hp_167 => ?_)
    have hp_167 : r_167 = zI (bI (dsOk dy a)) := hp_167
    subst hp_167
    exact z_zret C hA hQ rfl (Nat.le_of_ble_eq_true rfl) (Nat.le_of_ble_eq_true rfl) (((bI (dsOk dy a)), n, kd, fg, hm, at_, (if dsOk dy a then goL kd fg hm at_ oa n a.toNat lg else lg), oa, (if dsOk dy a then dy + a else dy))) (if hq : dsOk dy a then ⟨rfl, bI01, fun _ => (by simp only [if_pos hq]; exact come_dy hcq (by simp only [dsOk] at hq; omega)), fun z => absurd hq (bI_eq0.mp z)⟩ else ⟨rfl, bI01, fun z => absurd (bI_eq1.mp z) hq, fun _ => come_dn hcq (by simp only [dsOk] at hq; omega)⟩) (bI_nar) (sb_e [0, 1, 2, 3, 4, 5, 6, 7] rfl rfl) dX4_comesTold_170
  · skip
    refine z_lookup (off := 142) (tgt := 171) C dX4_comesTold_29 (by decide) (by rw [show (zI (lf k)).toInt = 108 from (by rw [hlt0, hcq]; decide)]; rfl) (by decide) ?_
    rw [ht1 (by omega)]
    refine z_aload_n C dX4_comesTold_171 rfl 3 rfl ?_
    refine z_iload_n C dX4_comesTold_172 rfl 2 rfl ?_
    refine z_i C (z_runV (q := 0) (As := [.int (zI a)]) (rest := []) C (ct_X4_isHorse (zl X) G m g1 g2 g3 g4 g5 n oa dy ([.ref s1, .ref s2, .ref s3, .ref s4, .ref s5, .ref s6, .int (zI thr), .int (zI rdg), .int (zI plc), .int (zI ibd), .int (zI stm), .ref t1, .ref t2, .ref t3, .ref c0, .ref c1, .ref c2, .ref c3, .int (zI him), .int (zI pl0), .int (zI itk), ki, .int (zI chd), .int (zI chf), .ref y0, .int (zI sd), .ref y1]) a (by first | assumption | omega) (by first | assumption | omega)) (lw_V q1255 q1257 qs33 q61 q1258) rfl rfl (sb_e [0] rfl rfl) (na := 1) (by decide +kernel) rfl (zrm rfl rfl (rfl) (rfl)) rfl (Nat.le_of_ble_eq_true rfl) dX4_comesTold_173) (fun u => jn_ro (sb_e [0] rfl rfl)) (fun r_173 u hp_173 => ?_)
    have hp_173 : r_173 = zI (bI (0 ≤ a ∧ a ≤ (n : Int) - 1)) := hp_173
    subst hp_173
    refine z_istore (lv' := [(4, .int (zI (bI (0 ≤ a ∧ a ≤ (n : Int) - 1)))), (3, .int (zI b)), (2, .int (zI a)), (0, .ref m), (1, .int (zI (k : Int)))]) C dX4_comesTold_176 (nlt rfl) rfl ?_
    refine z_iload C dX4_comesTold_178 0 rfl ?_
    refine y_beq (tgt := 190) C dX4_comesTold_180 (by decide) (fun c_180 => ?_) (fun c_180 => ?_)
    · skip
      refine z_iload C dX4_comesTold_190 0 rfl ?_
      exact z_zret C hA hQ rfl (Nat.le_of_ble_eq_true rfl) (Nat.le_of_ble_eq_true rfl) (((bI (0 ≤ a ∧ a ≤ (n : Int) - 1)), n, kd, fg, hm, at_, lg, oa, dy)) (by first | exact ⟨rfl, bI01, fun z => absurd (bI_eq1.mp z) (by assumption), fun _ => come_ln hcq (by assumption)⟩ | exact ⟨rfl, bI01, fun _ => come_ly hcq (by assumption), fun z => absurd (by assumption) (bI_eq0.mp z)⟩) (bI_nar) (sb_e [0, 1, 2, 3, 4, 5, 6, 7] rfl rfl) dX4_comesTold_192
    · skip
      obtain ⟨aN, rfl⟩ := Int.eq_ofNat_of_zero_le (show 0 ≤ a by omega)
      refine z_aload_n C dX4_comesTold_183 rfl 3 rfl ?_
      refine z_get (q := 0) (kf := 5) (v := .ref g5) C rfl rfl in_X4 (by decide) q1092 (Or.inl rfl) rfl dX4_comesTold_184 ?_
      refine z_iload_n C dX4_comesTold_187 rfl 2 rfl ?_
      refine z_iload_n C dX4_comesTold_188 rfl 1 rfl ?_
      refine y_iast (q := 5) (t0 := 0) (g := va_up lg aN b) (ws' := [(m, .inr (11, [.int (zI (n : Int)), .ref g1, .ref g2, .ref g3, .ref g4, .ref g5, .int (zI oa), .int (zI dy), .ref s1, .ref s2, .ref s3, .ref s4, .ref s5, .ref s6, .int (zI thr), .int (zI rdg), .int (zI plc), .int (zI ibd), .int (zI stm), .ref t1, .ref t2, .ref t3, .ref c0, .ref c1, .ref c2, .ref c3, .int (zI him), .int (zI pl0), .int (zI itk), ki, .int (zI chd), .int (zI chf), .ref y0, .int (zI sd), .ref y1])), (g1, AI G 7 (fun z_ => (kd z_ : Int))), (g2, AI G 7 fg), (g3, AI G 7 hm), (g4, AI G 7 at_), (g5, AI G 7 (va_up lg aN b)), (t2, AI G 51 lf), (t3, AI G 204 tf)]) C rfl rfl (by omega) (by decide) rfl rfl dX4_comesTold_189 ?_
      refine z_iload C dX4_comesTold_190 0 rfl ?_
      exact z_zret C hA hQ rfl (Nat.le_of_ble_eq_true rfl) (Nat.le_of_ble_eq_true rfl) (((bI (0 ≤ (aN : Int) ∧ (aN : Int) ≤ (n : Int) - 1)), n, kd, fg, hm, at_, (va_up lg aN b), oa, dy)) (by first | exact ⟨rfl, bI01, fun z => absurd (bI_eq1.mp z) (by assumption), fun _ => come_ln hcq (by assumption)⟩ | exact ⟨rfl, bI01, fun _ => come_ly hcq (by assumption), fun z => absurd (by assumption) (bI_eq0.mp z)⟩) (bI_nar) (sb_e [0, 1, 2, 3, 4, 5, 6, 7] rfl rfl) dX4_comesTold_192

