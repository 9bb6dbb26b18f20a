/-! THE MODEL, 6: meet .. restore -/
set_option maxRecDepth 100000
set_option maxHeartbeats 4000000 in
theorem ct_X4_meet (l : Launch) (G : ZG) (m : Nat) (g1 : Nat) (g2 : Nat) (g3 : Nat) (g4 : Nat) (g5 : Nat) (s1 : Nat) (s2 : Nat) (s3 : Nat) (s4 : Nat) (s5 : Nat) (s6 : Nat) (t1 : Nat) (t2 : Nat) (t3 : Nat) (c0 : Nat) (c1 : Nat) (c2 : Nat) (c3 : Nat) (y0 : Nat) (y1 : Nat) (thr : Int) (rdg : Int) (plc : Int) (ibd : Int) (stm : Int) (him : Int) (pl0 : Int) (itk : Int) (chd : Int) (chf : Int) (sd : Int) (ki : Value) (kd : Nat → Nat) (fg : Nat → Int) (hm : Nat → Int) (at_ : Nat → Int) (lg : Nat → Int) (n : Nat) (oa : Int) (dy : Int) (kc : Nat → Int) (what : Int) (hL : LK n kd fg hm at_ lg oa) (rwhat : -2147483648 ≤ what ∧ what ≤ 2147483647) : CT l yX4_meet cX4_meet 7 (some .int) { frames := 7, cells := 0, slots := 0, locals := 164 } G [.ref m, .int (zI what)] [(m, .inr (11, [.int (zI (n : Int)), .ref g1, .ref g2, .ref g3, .ref g4, .ref g5, .int (zI oa), .int (zI dy), .ref s1, .ref s2, .ref s3, .ref s4, .ref s5, .ref s6, .int (zI thr), .int (zI rdg), .int (zI plc), .int (zI ibd), .int (zI stm), .ref t1, .ref t2, .ref t3, .ref c0, .ref c1, .ref c2, .ref c3, .int (zI him), .int (zI pl0), .int (zI itk), ki, .int (zI chd), .int (zI chf), .ref y0, .int (zI sd), .ref y1])), (g1, AI G 7 (fun z_ => (kd z_ : Int))), (g2, AI G 7 fg), (g3, AI G 7 hm), (g4, AI G 7 at_), (g5, AI G 7 lg), (c0, AI G 38 kc)] (Qi G [(m, .inr (11, [.int (zI (n : Int)), .ref g1, .ref g2, .ref g3, .ref g4, .ref g5, .int (zI oa), .int (zI dy), .ref s1, .ref s2, .ref s3, .ref s4, .ref s5, .ref s6, .int (zI thr), .int (zI rdg), .int (zI plc), .int (zI ibd), .int (zI stm), .ref t1, .ref t2, .ref t3, .ref c0, .ref c1, .ref c2, .ref c3, .int (zI him), .int (zI pl0), .int (zI itk), ki, .int (zI chd), .int (zI chf), .ref y0, .int (zI sd), .ref y1])), (g1, AI G 7 (fun z_ => (kd z_ : Int))), (g2, AI G 7 fg), (g3, AI G 7 hm), (g4, AI G 7 at_), (g5, AI G 7 lg), (c0, AI G 38 kc)] (fun (r : Int32) (u : Value × Int × Int × (Nat → Int)) => r = zI (oMeet kd fg hm at_ lg n oa what)) (fun u => [(m, .inr (11, [.int (zI (n : Int)), .ref g1, .ref g2, .ref g3, .ref g4, .ref g5, .int (zI oa), .int (zI dy), .ref s1, .ref s2, .ref s3, .ref s4, .ref s5, .ref s6, .int (zI 0), .int (zI rdg), .int (zI plc), .int (zI ibd), .int (zI stm), .ref t1, .ref t2, .ref t3, .ref c0, .ref c1, .ref c2, .ref c3, .int (zI him), .int (zI u.2.1), .int (zI u.2.2.1), u.1, .int (zI chd), .int (zI chf), .ref y0, .int (zI sd), .ref y1])), (g1, AI G 7 (fun z_ => (kd z_ : Int))), (g2, AI G 7 fg), (g3, AI G 7 hm), (g4, AI G 7 at_), (g5, AI G 7 lg), (c0, AI G 38 u.2.2.2)])) := by
  refine z_met (by decide) (Nat.le_of_ble_eq_true rfl) ?_
  intro X A hl0 hA C hQ hin
  subst hl0
  obtain ⟨hn7, hoa, hLj⟩ := id hL
  show Z X _ G 0 0 _ 0 [(0, .ref m), (1, .int (zI what))] []
  refine z_aload_n C dX4_meet_0 rfl 0 rfl ?_
  refine y_iconst C dX4_meet_1 ?_
  refine z_put (q := 0) (kf := 14) (ws' := [(m, .inr (11, [.int (zI (n : Int)), .ref g1, .ref g2, .ref g3, .ref g4, .ref g5, .int (zI oa), .int (zI dy), .ref s1, .ref s2, .ref s3, .ref s4, .ref s5, .ref s6, .int (zI 0), .int (zI rdg), .int (zI plc), .int (zI ibd), .int (zI stm), .ref t1, .ref t2, .ref t3, .ref c0, .ref c1, .ref c2, .ref c3, .int (zI him), .int (zI pl0), .int (zI itk), ki, .int (zI chd), .int (zI chf), .ref y0, .int (zI sd), .ref y1])), (g1, AI G 7 (fun z_ => (kd z_ : Int))), (g2, AI G 7 fg), (g3, AI G 7 hm), (g4, AI G 7 at_), (g5, AI G 7 lg), (c0, AI G 38 kc)]) C rfl rfl in_X4 tyX4_ok nmX4 (by decide) q1101 rfl rfl rfl rfl rfl (nlt rfl) rfl dX4_meet_2 ?_
  refine z_iload_n C dX4_meet_5 rfl 1 rfl ?_
  refine y_i2l C (by omega) dX4_meet_6 ?_
  refine z_lconst (v := zL 0) C dX4_meet_7 (by decide) ?_
  refine z_lconst (v := zL 1) C dX4_meet_8 (by decide) ?_
  refine z_i C (z_runS (As := [.long (zL what), .long (zL 0), .long (zL 1)]) (rest := []) C (ct_X4_in (zl X) G what 0 1 (by first | assumption | omega) (by first | assumption | omega) (by first | assumption | omega)) (lw_S q1207 q1208 q61 q1209) (sb_e [] rfl rfl) (na := 3) (by decide +kernel) rfl (zrm rfl rfl (rfl) (rfl)) rfl (Nat.le_of_ble_eq_true rfl) dX4_meet_9) (fun u => jn_ro (sb_e [] rfl rfl)) (fun r_9 u hp_9 => ?_)
  have hp_9 : r_9 = zI (bI (0 ≤ what ∧ what ≤ 1)) := hp_9
  subst hp_9
  refine y_bne (tgt := 17) C dX4_meet_12 (by decide) (fun c_12 => ?_) (fun c_12 => ?_)
  · skip
    refine y_iconst C dX4_meet_17 ?_
    refine z_istore_n (lv' := [(2, .int (zI 0)), (0, .ref m), (1, .int (zI what))]) C dX4_meet_18 rfl (nlt rfl) rfl ?_
    refine y_iconst C dX4_meet_19 ?_
    refine z_istore_n (lv' := [(3, .int (zI (-1))), (2, .int (zI 0)), (0, .ref m), (1, .int (zI what))]) C dX4_meet_20 rfl (nlt rfl) rfl ?_
    refine y_iconst C dX4_meet_21 ?_
    refine z_istore (lv' := [(4, .int (zI 0)), (3, .int (zI (-1))), (2, .int (zI 0)), (0, .ref m), (1, .int (zI what))]) C dX4_meet_22 (nlt rfl) rfl ?_
    have L_24 : ∀ (tt : Nat) (i : Nat) (bst : Int) (lst : Int) (kib : Value) (plb : Int) (itb : Int) (kcb : Nat → Int), (i ≤ 21) → (MI (meetF kd fg hm at_ lg n oa) i bst lst) → 21 - i = tt → Z X (cX4_meet, 7, yX4_meet.cls, (some .int), { frames := 7, cells := 0, slots := 0, locals := 164 }, A) G 0 0 [(m, .inr (11, [.int (zI (n : Int)), .ref g1, .ref g2, .ref g3, .ref g4, .ref g5, .int (zI oa), .int (zI dy), .ref s1, .ref s2, .ref s3, .ref s4, .ref s5, .ref s6, .int (zI 0), .int (zI rdg), .int (zI plc), .int (zI ibd), .int (zI stm), .ref t1, .ref t2, .ref t3, .ref c0, .ref c1, .ref c2, .ref c3, .int (zI him), .int (zI plb), .int (zI itb), kib, .int (zI chd), .int (zI chf), .ref y0, .int (zI sd), .ref y1])), (g1, AI G 7 (fun z_ => (kd z_ : Int))), (g2, AI G 7 fg), (g3, AI G 7 hm), (g4, AI G 7 at_), (g5, AI G 7 lg), (c0, AI G 38 kcb)] 24 [(4, .int (zI (i : Int))), (3, .int (zI lst)), (2, .int (zI bst)), (0, .ref m), (1, .int (zI what))] [] := by
      intro tt
      induction tt using Nat.strongRecOn with
      | _ tt ih_24 =>
        intro i bst lst kib plb itb kcb hi hmf ht_24
        have hmb := MI_b hmf (meetF_r kd fg hm at_ lg oa hn7) (by omega)
        refine z_iload C dX4_meet_24 0 rfl ?_
        refine y_bipush C dX4_meet_26 (by decide) ?_
        refine y_icmp_gt (tgt := 105) C (by omega) (by omega) dX4_meet_28 (by decide) (fun c_28 => ?_) (fun c_28 => ?_)
        · skip
          rw [show i = 21 by omega] at hmf
          refine z_iload_n C dX4_meet_105 rfl 4 rfl ?_
          refine y_if_ne (tgt := 113) C (by omega) dX4_meet_106 (by decide) (fun c_106 => ?_) (fun c_106 => ?_)
          · skip
            refine z_iload_n C dX4_meet_113 rfl 1 rfl ?_
            exact z_iret C hA hQ rfl (Nat.le_of_ble_eq_true rfl) (Nat.le_of_ble_eq_true rfl) ((kib, plb, itb, kcb)) (congrArg zI (by unfold oMeet; rw [if_pos (by omega)]; (try simp only [zTN]); rw [MI_e hmf (by omega)]; first | rw [if_pos (by omega)] | rw [if_neg (by omega)])) (sb_e [0, 1, 2, 3, 4, 5, 6] rfl rfl) dX4_meet_114
          · skip
            refine z_iload_n C dX4_meet_109 rfl 2 rfl ?_
            refine z_goto (tgt := 114) C dX4_meet_110 (by decide) ?_
            exact z_iret C hA hQ rfl (Nat.le_of_ble_eq_true rfl) (Nat.le_of_ble_eq_true rfl) ((kib, plb, itb, kcb)) (congrArg zI (by unfold oMeet; rw [if_pos (by omega)]; (try simp only [zTN]); rw [MI_e hmf (by omega)]; first | rw [if_pos (by omega)] | rw [if_neg (by omega)])) (sb_e [0, 1, 2, 3, 4, 5, 6] rfl rfl) dX4_meet_114
        · skip
          refine y_iconst C dX4_meet_31 ?_
          refine z_istore (lv' := [(5, .int (zI 0)), (4, .int (zI (i : Int))), (3, .int (zI lst)), (2, .int (zI bst)), (0, .ref m), (1, .int (zI what))]) C dX4_meet_32 (nlt rfl) rfl ?_
          refine y_iconst C dX4_meet_34 ?_
          refine z_istore (lv' := [(6, .int (zI 0)), (5, .int (zI 0)), (4, .int (zI (i : Int))), (3, .int (zI lst)), (2, .int (zI bst)), (0, .ref m), (1, .int (zI what))]) C dX4_meet_35 (nlt rfl) rfl ?_
          have L_37 : ∀ (tt : Nat) (k : Nat) (kib2 : Value) (plb2 : Int) (itb2 : Int) (kcb2 : Nat → Int), (k ≤ n) → n - k = tt → Z X (cX4_meet, 7, yX4_meet.cls, (some .int), { frames := 7, cells := 0, slots := 0, locals := 164 }, A) G 0 0 [(m, .inr (11, [.int (zI (n : Int)), .ref g1, .ref g2, .ref g3, .ref g4, .ref g5, .int (zI oa), .int (zI dy), .ref s1, .ref s2, .ref s3, .ref s4, .ref s5, .ref s6, .int (zI 0), .int (zI rdg), .int (zI plc), .int (zI ibd), .int (zI stm), .ref t1, .ref t2, .ref t3, .ref c0, .ref c1, .ref c2, .ref c3, .int (zI him), .int (zI plb2), .int (zI itb2), kib2, .int (zI chd), .int (zI chf), .ref y0, .int (zI sd), .ref y1])), (g1, AI G 7 (fun z_ => (kd z_ : Int))), (g2, AI G 7 fg), (g3, AI G 7 hm), (g4, AI G 7 at_), (g5, AI G 7 lg), (c0, AI G 38 kcb2)] 37 [(6, .int (zI (k : Int))), (5, .int (zI (sumF (tkB kd fg hm at_ lg n oa (i : Int) 0) k))), (4, .int (zI (i : Int))), (3, .int (zI lst)), (2, .int (zI bst)), (0, .ref m), (1, .int (zI what))] [] := by
            intro tt
            induction tt using Nat.strongRecOn with
            | _ tt ih_37 =>
              intro k kib2 plb2 itb2 kcb2 hk0 ht_37
              refine z_iload C dX4_meet_37 0 rfl ?_
              refine z_aload_n C dX4_meet_39 rfl 5 rfl ?_
              refine z_get (q := 0) (kf := 0) (v := .int (zI (n : Int))) C rfl rfl in_X4 (by decide) q1087 (Or.inl rfl) rfl dX4_meet_40 ?_
              refine y_icmp_ge (tgt := 65) C (by omega) (by omega) dX4_meet_43 (by decide) (fun c_43 => ?_) (fun c_43 => ?_)
              · skip
                rw [show (k : Nat) = n by omega]
                rw [show sumF (tkB kd fg hm at_ lg n oa (i : Int) 0) n = meetF kd fg hm at_ lg n oa i from rfl]
                have hmi := meetF_r kd fg hm at_ lg oa hn7 i
                refine z_iload_n C dX4_meet_65 rfl 3 rfl ?_
                refine y_if_lt (tgt := 75) C (by omega) dX4_meet_66 (by decide) (fun c_66 => ?_) (fun c_66 => ?_)
                · skip
                  refine z_iload C dX4_meet_75 2 rfl ?_
                  refine z_goto (tgt := 81) C dX4_meet_77 (by decide) ?_
                  refine z_istore_n (lv' := [(2, .int (zI (i : Int))), (6, .int (zI (n : Int))), (5, .int (zI (meetF kd fg hm at_ lg n oa i))), (4, .int (zI (i : Int))), (3, .int (zI lst)), (0, .ref m), (1, .int (zI what))]) C dX4_meet_81 rfl (nlt rfl) rfl ?_
                  refine z_iload_n C dX4_meet_82 rfl 4 rfl ?_
                  refine y_if_lt (tgt := 92) C (by omega) dX4_meet_83 (by decide) (fun c_83 => ?_) (fun c_83 => ?_)
                  · skip
                    refine z_iload C dX4_meet_92 2 rfl ?_
                    refine z_goto (tgt := 98) C dX4_meet_94 (by decide) ?_
                    refine z_istore_n (lv' := [(3, .int (zI (meetF kd fg hm at_ lg n oa i))), (2, .int (zI (i : Int))), (6, .int (zI (n : Int))), (5, .int (zI (meetF kd fg hm at_ lg n oa i))), (4, .int (zI (i : Int))), (0, .ref m), (1, .int (zI what))]) C dX4_meet_98 rfl (nlt rfl) rfl ?_
                    refine y_iinc (lv' := [(4, .int (zI ((i : Int) + 1))), (3, .int (zI (meetF kd fg hm at_ lg n oa i))), (2, .int (zI (i : Int))), (6, .int (zI (n : Int))), (5, .int (zI (meetF kd fg hm at_ lg n oa i))), (0, .ref m), (1, .int (zI what))]) C dX4_meet_99 (q := 4) rfl (nlt rfl) rfl ?_
                    refine z_goto (tgt := 24) C dX4_meet_102 (by decide) ?_
                    refine z_lv (lv' := [(4, .int (zI ((i : Int) + 1))), (3, .int (zI (meetF kd fg hm at_ lg n oa i))), (2, .int (zI (i : Int))), (0, .ref m), (1, .int (zI what))]) [0, 1, 2, 5, 6] rfl ?_
                    exact ih_24 _ (by omega) (i + 1) (i : Int) (meetF kd fg hm at_ lg n oa i) kib2 plb2 itb2 kcb2 (by first | assumption | omega) (by first | (exfalso; omega) | exact MI_t (fun j => (meetF_r kd fg hm at_ lg oa hn7 j).1) hmf (by omega) | exact MI_f hmf (by omega)) rfl
                  · skip
                    refine z_iload C dX4_meet_86 2 rfl ?_
                    refine z_iload_n C dX4_meet_88 rfl 4 rfl ?_
                    refine y_icmp_ge (tgt := 97) C (by omega) (by omega) dX4_meet_89 (by decide) (fun c_89 => ?_) (fun c_89 => ?_)
                    · skip
                      refine z_iload_n C dX4_meet_97 rfl 4 rfl ?_
                      refine z_istore_n (lv' := [(3, .int (zI lst)), (2, .int (zI (i : Int))), (6, .int (zI (n : Int))), (5, .int (zI (meetF kd fg hm at_ lg n oa i))), (4, .int (zI (i : Int))), (0, .ref m), (1, .int (zI what))]) C dX4_meet_98 rfl (nlt rfl) rfl ?_
                      refine y_iinc (lv' := [(4, .int (zI ((i : Int) + 1))), (3, .int (zI lst)), (2, .int (zI (i : Int))), (6, .int (zI (n : Int))), (5, .int (zI (meetF kd fg hm at_ lg n oa i))), (0, .ref m), (1, .int (zI what))]) C dX4_meet_99 (q := 4) rfl (nlt rfl) rfl ?_
                      refine z_goto (tgt := 24) C dX4_meet_102 (by decide) ?_
                      refine z_lv (lv' := [(4, .int (zI ((i : Int) + 1))), (3, .int (zI lst)), (2, .int (zI (i : Int))), (0, .ref m), (1, .int (zI what))]) [0, 1, 2, 5, 6] rfl ?_
                      exact ih_24 _ (by omega) (i + 1) (i : Int) lst kib2 plb2 itb2 kcb2 (by first | assumption | omega) (by first | (exfalso; omega) | exact MI_t (fun j => (meetF_r kd fg hm at_ lg oa hn7 j).1) hmf (by omega) | exact MI_f hmf (by omega)) rfl
                    · skip
                      refine z_iload C dX4_meet_92 2 rfl ?_
                      refine z_goto (tgt := 98) C dX4_meet_94 (by decide) ?_
                      refine z_istore_n (lv' := [(3, .int (zI (meetF kd fg hm at_ lg n oa i))), (2, .int (zI (i : Int))), (6, .int (zI (n : Int))), (5, .int (zI (meetF kd fg hm at_ lg n oa i))), (4, .int (zI (i : Int))), (0, .ref m), (1, .int (zI what))]) C dX4_meet_98 rfl (nlt rfl) rfl ?_
                      refine y_iinc (lv' := [(4, .int (zI ((i : Int) + 1))), (3, .int (zI (meetF kd fg hm at_ lg n oa i))), (2, .int (zI (i : Int))), (6, .int (zI (n : Int))), (5, .int (zI (meetF kd fg hm at_ lg n oa i))), (0, .ref m), (1, .int (zI what))]) C dX4_meet_99 (q := 4) rfl (nlt rfl) rfl ?_
                      refine z_goto (tgt := 24) C dX4_meet_102 (by decide) ?_
                      refine z_lv (lv' := [(4, .int (zI ((i : Int) + 1))), (3, .int (zI (meetF kd fg hm at_ lg n oa i))), (2, .int (zI (i : Int))), (0, .ref m), (1, .int (zI what))]) [0, 1, 2, 5, 6] rfl ?_
                      exact ih_24 _ (by omega) (i + 1) (i : Int) (meetF kd fg hm at_ lg n oa i) kib2 plb2 itb2 kcb2 (by first | assumption | omega) (by first | (exfalso; omega) | exact MI_t (fun j => (meetF_r kd fg hm at_ lg oa hn7 j).1) hmf (by omega) | exact MI_f hmf (by omega)) rfl
                · skip
                  refine z_iload C dX4_meet_69 1 rfl ?_
                  refine z_iload_n C dX4_meet_71 rfl 3 rfl ?_
                  refine y_icmp_ge (tgt := 80) C (by omega) (by omega) dX4_meet_72 (by decide) (fun c_72 => ?_) (fun c_72 => ?_)
                  · skip
                    refine z_iload_n C dX4_meet_80 rfl 4 rfl ?_
                    refine z_istore_n (lv' := [(2, .int (zI bst)), (6, .int (zI (n : Int))), (5, .int (zI (meetF kd fg hm at_ lg n oa i))), (4, .int (zI (i : Int))), (3, .int (zI lst)), (0, .ref m), (1, .int (zI what))]) C dX4_meet_81 rfl (nlt rfl) rfl ?_
                    refine z_iload_n C dX4_meet_82 rfl 4 rfl ?_
                    refine y_if_lt (tgt := 92) C (by omega) dX4_meet_83 (by decide) (fun c_83 => ?_) (fun c_83 => ?_)
                    · skip
                      refine z_iload C dX4_meet_92 2 rfl ?_
                      refine z_goto (tgt := 98) C dX4_meet_94 (by decide) ?_
                      refine z_istore_n (lv' := [(3, .int (zI (meetF kd fg hm at_ lg n oa i))), (2, .int (zI bst)), (6, .int (zI (n : Int))), (5, .int (zI (meetF kd fg hm at_ lg n oa i))), (4, .int (zI (i : Int))), (0, .ref m), (1, .int (zI what))]) C dX4_meet_98 rfl (nlt rfl) rfl ?_
                      refine y_iinc (lv' := [(4, .int (zI ((i : Int) + 1))), (3, .int (zI (meetF kd fg hm at_ lg n oa i))), (2, .int (zI bst)), (6, .int (zI (n : Int))), (5, .int (zI (meetF kd fg hm at_ lg n oa i))), (0, .ref m), (1, .int (zI what))]) C dX4_meet_99 (q := 4) rfl (nlt rfl) rfl ?_
                      refine z_goto (tgt := 24) C dX4_meet_102 (by decide) ?_
                      refine z_lv (lv' := [(4, .int (zI ((i : Int) + 1))), (3, .int (zI (meetF kd fg hm at_ lg n oa i))), (2, .int (zI bst)), (0, .ref m), (1, .int (zI what))]) [0, 1, 2, 5, 6] rfl ?_
                      exact ih_24 _ (by omega) (i + 1) bst (meetF kd fg hm at_ lg n oa i) kib2 plb2 itb2 kcb2 (by first | assumption | omega) (by first | (exfalso; omega) | exact MI_t (fun j => (meetF_r kd fg hm at_ lg oa hn7 j).1) hmf (by omega) | exact MI_f hmf (by omega)) rfl
                    · skip
                      refine z_iload C dX4_meet_86 2 rfl ?_
                      refine z_iload_n C dX4_meet_88 rfl 4 rfl ?_
                      refine y_icmp_ge (tgt := 97) C (by omega) (by omega) dX4_meet_89 (by decide) (fun c_89 => ?_) (fun c_89 => ?_)
                      · skip
                        refine z_iload_n C dX4_meet_97 rfl 4 rfl ?_
                        refine z_istore_n (lv' := [(3, .int (zI lst)), (2, .int (zI bst)), (6, .int (zI (n : Int))), (5, .int (zI (meetF kd fg hm at_ lg n oa i))), (4, .int (zI (i : Int))), (0, .ref m), (1, .int (zI what))]) C dX4_meet_98 rfl (nlt rfl) rfl ?_
                        refine y_iinc (lv' := [(4, .int (zI ((i : Int) + 1))), (3, .int (zI lst)), (2, .int (zI bst)), (6, .int (zI (n : Int))), (5, .int (zI (meetF kd fg hm at_ lg n oa i))), (0, .ref m), (1, .int (zI what))]) C dX4_meet_99 (q := 4) rfl (nlt rfl) rfl ?_
                        refine z_goto (tgt := 24) C dX4_meet_102 (by decide) ?_
                        refine z_lv (lv' := [(4, .int (zI ((i : Int) + 1))), (3, .int (zI lst)), (2, .int (zI bst)), (0, .ref m), (1, .int (zI what))]) [0, 1, 2, 5, 6] rfl ?_
                        exact ih_24 _ (by omega) (i + 1) bst lst kib2 plb2 itb2 kcb2 (by first | assumption | omega) (by first | (exfalso; omega) | exact MI_t (fun j => (meetF_r kd fg hm at_ lg oa hn7 j).1) hmf (by omega) | exact MI_f hmf (by omega)) rfl
                      · skip
                        refine z_iload C dX4_meet_92 2 rfl ?_
                        refine z_goto (tgt := 98) C dX4_meet_94 (by decide) ?_
                        refine z_istore_n (lv' := [(3, .int (zI (meetF kd fg hm at_ lg n oa i))), (2, .int (zI bst)), (6, .int (zI (n : Int))), (5, .int (zI (meetF kd fg hm at_ lg n oa i))), (4, .int (zI (i : Int))), (0, .ref m), (1, .int (zI what))]) C dX4_meet_98 rfl (nlt rfl) rfl ?_
                        refine y_iinc (lv' := [(4, .int (zI ((i : Int) + 1))), (3, .int (zI (meetF kd fg hm at_ lg n oa i))), (2, .int (zI bst)), (6, .int (zI (n : Int))), (5, .int (zI (meetF kd fg hm at_ lg n oa i))), (0, .ref m), (1, .int (zI what))]) C dX4_meet_99 (q := 4) rfl (nlt rfl) rfl ?_
                        refine z_goto (tgt := 24) C dX4_meet_102 (by decide) ?_
                        refine z_lv (lv' := [(4, .int (zI ((i : Int) + 1))), (3, .int (zI (meetF kd fg hm at_ lg n oa i))), (2, .int (zI bst)), (0, .ref m), (1, .int (zI what))]) [0, 1, 2, 5, 6] rfl ?_
                        exact ih_24 _ (by omega) (i + 1) bst (meetF kd fg hm at_ lg n oa i) kib2 plb2 itb2 kcb2 (by first | assumption | omega) (by first | (exfalso; omega) | exact MI_t (fun j => (meetF_r kd fg hm at_ lg oa hn7 j).1) hmf (by omega) | exact MI_f hmf (by omega)) rfl
                  · skip
                    refine z_iload C dX4_meet_75 2 rfl ?_
                    refine z_goto (tgt := 81) C dX4_meet_77 (by decide) ?_
                    refine z_istore_n (lv' := [(2, .int (zI (i : Int))), (6, .int (zI (n : Int))), (5, .int (zI (meetF kd fg hm at_ lg n oa i))), (4, .int (zI (i : Int))), (3, .int (zI lst)), (0, .ref m), (1, .int (zI what))]) C dX4_meet_81 rfl (nlt rfl) rfl ?_
                    refine z_iload_n C dX4_meet_82 rfl 4 rfl ?_
                    refine y_if_lt (tgt := 92) C (by omega) dX4_meet_83 (by decide) (fun c_83 => ?_) (fun c_83 => ?_)
                    · skip
                      refine z_iload C dX4_meet_92 2 rfl ?_
                      refine z_goto (tgt := 98) C dX4_meet_94 (by decide) ?_
                      refine z_istore_n (lv' := [(3, .int (zI (meetF kd fg hm at_ lg n oa i))), (2, .int (zI (i : Int))), (6, .int (zI (n : Int))), (5, .int (zI (meetF kd fg hm at_ lg n oa i))), (4, .int (zI (i : Int))), (0, .ref m), (1, .int (zI what))]) C dX4_meet_98 rfl (nlt rfl) rfl ?_
                      refine y_iinc (lv' := [(4, .int (zI ((i : Int) + 1))), (3, .int (zI (meetF kd fg hm at_ lg n oa i))), (2, .int (zI (i : Int))), (6, .int (zI (n : Int))), (5, .int (zI (meetF kd fg hm at_ lg n oa i))), (0, .ref m), (1, .int (zI what))]) C dX4_meet_99 (q := 4) rfl (nlt rfl) rfl ?_
                      refine z_goto (tgt := 24) C dX4_meet_102 (by decide) ?_
                      refine z_lv (lv' := [(4, .int (zI ((i : Int) + 1))), (3, .int (zI (meetF kd fg hm at_ lg n oa i))), (2, .int (zI (i : Int))), (0, .ref m), (1, .int (zI what))]) [0, 1, 2, 5, 6] rfl ?_
                      exact ih_24 _ (by omega) (i + 1) (i : Int) (meetF kd fg hm at_ lg n oa i) kib2 plb2 itb2 kcb2 (by first | assumption | omega) (by first | (exfalso; omega) | exact MI_t (fun j => (meetF_r kd fg hm at_ lg oa hn7 j).1) hmf (by omega) | exact MI_f hmf (by omega)) rfl
                    · skip
                      refine z_iload C dX4_meet_86 2 rfl ?_
                      refine z_iload_n C dX4_meet_88 rfl 4 rfl ?_
                      refine y_icmp_ge (tgt := 97) C (by omega) (by omega) dX4_meet_89 (by decide) (fun c_89 => ?_) (fun c_89 => ?_)
                      · skip
                        refine z_iload_n C dX4_meet_97 rfl 4 rfl ?_
                        refine z_istore_n (lv' := [(3, .int (zI lst)), (2, .int (zI (i : Int))), (6, .int (zI (n : Int))), (5, .int (zI (meetF kd fg hm at_ lg n oa i))), (4, .int (zI (i : Int))), (0, .ref m), (1, .int (zI what))]) C dX4_meet_98 rfl (nlt rfl) rfl ?_
                        refine y_iinc (lv' := [(4, .int (zI ((i : Int) + 1))), (3, .int (zI lst)), (2, .int (zI (i : Int))), (6, .int (zI (n : Int))), (5, .int (zI (meetF kd fg hm at_ lg n oa i))), (0, .ref m), (1, .int (zI what))]) C dX4_meet_99 (q := 4) rfl (nlt rfl) rfl ?_
                        refine z_goto (tgt := 24) C dX4_meet_102 (by decide) ?_
                        refine z_lv (lv' := [(4, .int (zI ((i : Int) + 1))), (3, .int (zI lst)), (2, .int (zI (i : Int))), (0, .ref m), (1, .int (zI what))]) [0, 1, 2, 5, 6] rfl ?_
                        exact ih_24 _ (by omega) (i + 1) (i : Int) lst kib2 plb2 itb2 kcb2 (by first | assumption | omega) (by first | (exfalso; omega) | exact MI_t (fun j => (meetF_r kd fg hm at_ lg oa hn7 j).1) hmf (by omega) | exact MI_f hmf (by omega)) rfl
                      · skip
                        refine z_iload C dX4_meet_92 2 rfl ?_
                        refine z_goto (tgt := 98) C dX4_meet_94 (by decide) ?_
                        refine z_istore_n (lv' := [(3, .int (zI (meetF kd fg hm at_ lg n oa i))), (2, .int (zI (i : Int))), (6, .int (zI (n : Int))), (5, .int (zI (meetF kd fg hm at_ lg n oa i))), (4, .int (zI (i : Int))), (0, .ref m), (1, .int (zI what))]) C dX4_meet_98 rfl (nlt rfl) rfl ?_
                        refine y_iinc (lv' := [(4, .int (zI ((i : Int) + 1))), (3, .int (zI (meetF kd fg hm at_ lg n oa i))), (2, .int (zI (i : Int))), (6, .int (zI (n : Int))), (5, .int (zI (meetF kd fg hm at_ lg n oa i))), (0, .ref m), (1, .int (zI what))]) C dX4_meet_99 (q := 4) rfl (nlt rfl) rfl ?_
                        refine z_goto (tgt := 24) C dX4_meet_102 (by decide) ?_
                        refine z_lv (lv' := [(4, .int (zI ((i : Int) + 1))), (3, .int (zI (meetF kd fg hm at_ lg n oa i))), (2, .int (zI (i : Int))), (0, .ref m), (1, .int (zI what))]) [0, 1, 2, 5, 6] rfl ?_
                        exact ih_24 _ (by omega) (i + 1) (i : Int) (meetF kd fg hm at_ lg n oa i) kib2 plb2 itb2 kcb2 (by first | assumption | omega) (by first | (exfalso; omega) | exact MI_t (fun j => (meetF_r kd fg hm at_ lg oa hn7 j).1) hmf (by omega) | exact MI_f hmf (by omega)) rfl
              · skip
                refine z_iload C dX4_meet_46 1 rfl ?_
                refine z_aload_n C dX4_meet_48 rfl 5 rfl ?_
                refine z_iload C dX4_meet_49 0 rfl ?_
                refine z_iload C dX4_meet_51 2 rfl ?_
                refine z_i (ws' := fun u => [(m, .inr (11, [.int (zI (n : Int)), .ref g1, .ref g2, .ref g3, .ref g4, .ref g5, .int (zI oa), .int (zI dy), .ref s1, .ref s2, .ref s3, .ref s4, .ref s5, .ref s6, .int (zI 0), .int (zI rdg), .int (zI plc), .int (zI ibd), .int (zI stm), .ref t1, .ref t2, .ref t3, .ref c0, .ref c1, .ref c2, .ref c3, .int (zI him), .int (zI u.2.1), .int (zI u.2.2.1), u.1, .int (zI chd), .int (zI chf), .ref y0, .int (zI sd), .ref y1])), (g1, AI G 7 (fun z_ => (kd z_ : Int))), (g2, AI G 7 fg), (g3, AI G 7 hm), (g4, AI G 7 at_), (g5, AI G 7 lg), (c0, AI G 38 u.2.2.2)]) C (z_runV (q := 0) (As := [.int (zI (k : Int)), .int (zI (i : Int))]) (rest := [.int (zI (sumF (tkB kd fg hm at_ lg n oa (i : Int) 0) k))]) C (ct_X4_ownRide (zl X) G m g1 g2 g3 g4 g5 s1 s2 s3 s4 s5 s6 t1 t2 t3 c0 c1 c2 c3 y0 y1 0 rdg plc ibd stm him plb2 itb2 chd chf sd kib2 kd fg hm at_ lg n oa dy kcb2 k (i : Int) (by first | assumption | omega) (by omega) (by omega)) (lw_V q1355 q1357 qs46 q61 q1358) rfl rfl (sb_e [0, 1, 2, 3, 4, 5, 6] rfl rfl) (na := 2) (by decide +kernel) rfl (zrm rfl rfl (rfl) (rfl)) rfl (Nat.le_of_ble_eq_true rfl) dX4_meet_53) (fun u => jn_e (wr := []) [0, 1, 2, 3, 4, 5, 6] [] [0, 1, 2, 3, 4, 5, 6] rfl rfl rfl (by decide) rfl rfl) (fun r_53 u hp_53 => ?_)
                obtain ⟨ki9_53, pl9_53, itk9_53, kc9_53⟩ := u
                have hp_53 : r_53 = zI (tkB kd fg hm at_ lg n oa (i : Int) 0 k) := hp_53
                subst hp_53
                refine y_iadd C dX4_meet_56 ?_
                refine z_istore (lv' := [(5, .int (zI ((sumF (tkB kd fg hm at_ lg n oa (i : Int) 0) k) + (tkB kd fg hm at_ lg n oa (i : Int) 0 k)))), (6, .int (zI (k : Int))), (4, .int (zI (i : Int))), (3, .int (zI lst)), (2, .int (zI bst)), (0, .ref m), (1, .int (zI what))]) C dX4_meet_57 (nlt rfl) rfl ?_
                refine y_iinc (lv' := [(6, .int (zI ((k : Int) + 1))), (5, .int (zI ((sumF (tkB kd fg hm at_ lg n oa (i : Int) 0) k) + (tkB kd fg hm at_ lg n oa (i : Int) 0 k)))), (4, .int (zI (i : Int))), (3, .int (zI lst)), (2, .int (zI bst)), (0, .ref m), (1, .int (zI what))]) C dX4_meet_59 (q := 1) rfl (nlt rfl) rfl ?_
                refine z_goto (tgt := 37) C dX4_meet_62 (by decide) ?_
                rw [show sumF (tkB kd fg hm at_ lg n oa (i : Int) 0) k + tkB kd fg hm at_ lg n oa (i : Int) 0 k = sumF (tkB kd fg hm at_ lg n oa (i : Int) 0) (k + 1) from rfl]
                exact ih_37 _ (by omega) (k + 1) ki9_53 pl9_53 itk9_53 kc9_53 (by first | assumption | omega) rfl
          exact L_37 _ 0 kib plb itb kcb (by first | assumption | omega) rfl
    exact L_24 _ 0 0 (-1) ki pl0 itk kc (by first | assumption | omega) (Or.inl ⟨rfl, by omega, by omega, by omega, by omega⟩) rfl
  · skip
    refine y_iconst C dX4_meet_15 ?_
    exact z_iret C hA hQ rfl (Nat.le_of_ble_eq_true rfl) (Nat.le_of_ble_eq_true rfl) ((ki, pl0, itk, kc)) (congrArg zI (by unfold oMeet; (try simp only [zTN]); (repeat (first | rw [if_pos (by omega)] | rw [if_neg (by omega)])); first | done | rfl)) (sb_e [0, 1, 2, 3, 4, 5, 6] rfl rfl) dX4_meet_16

set_option maxHeartbeats 4000000 in
theorem ct_X4_spread (l : Launch) (G : ZG) (m : Nat) (g1 : Nat) (g2 : Nat) (g3 : Nat) (g4 : Nat) (g5 : Nat) (s1 : Nat) (s2 : Nat) (s3 : Nat) (s4 : Nat) (s5 : Nat) (s6 : Nat) (t1 : Nat) (t2 : Nat) (t3 : Nat) (c0 : Nat) (c1 : Nat) (c2 : Nat) (c3 : Nat) (y0 : Nat) (y1 : Nat) (thr : Int) (rdg : Int) (plc : Int) (ibd : Int) (stm : Int) (him : Int) (pl0 : Int) (itk : Int) (chd : Int) (chf : Int) (sd : Int) (ki : Value) (kd : Nat → Nat) (fg : Nat → Int) (hm : Nat → Int) (at_ : Nat → Int) (lg : Nat → Int) (n : Nat) (oa : Int) (dy : Int) (hL : LK n kd fg hm at_ lg oa) : CT l yX4_spread cX4_spread 6 (some .int) { frames := 1, cells := 0, slots := 0, locals := 21 } G [.ref m] [(m, .inr (11, [.int (zI (n : Int)), .ref g1, .ref g2, .ref g3, .ref g4, .ref g5, .int (zI oa), .int (zI dy), .ref s1, .ref s2, .ref s3, .ref s4, .ref s5, .ref s6, .int (zI thr), .int (zI rdg), .int (zI plc), .int (zI ibd), .int (zI stm), .ref t1, .ref t2, .ref t3, .ref c0, .ref c1, .ref c2, .ref c3, .int (zI him), .int (zI pl0), .int (zI itk), ki, .int (zI chd), .int (zI chf), .ref y0, .int (zI sd), .ref y1])), (g1, AI G 7 (fun z_ => (kd z_ : Int))), (g2, AI G 7 fg), (g3, AI G 7 hm), (g4, AI G 7 at_), (g5, AI G 7 lg)] (Qi G [(m, .inr (11, [.int (zI (n : Int)), .ref g1, .ref g2, .ref g3, .ref g4, .ref g5, .int (zI oa), .int (zI dy), .ref s1, .ref s2, .ref s3, .ref s4, .ref s5, .ref s6, .int (zI thr), .int (zI rdg), .int (zI plc), .int (zI ibd), .int (zI stm), .ref t1, .ref t2, .ref t3, .ref c0, .ref c1, .ref c2, .ref c3, .int (zI him), .int (zI pl0), .int (zI itk), ki, .int (zI chd), .int (zI chf), .ref y0, .int (zI sd), .ref y1])), (g1, AI G 7 (fun z_ => (kd z_ : Int))), (g2, AI G 7 fg), (g3, AI G 7 hm), (g4, AI G 7 at_), (g5, AI G 7 lg)] (fun (r : Int32) (u : Unit) => r = zI (oSpread kd fg hm at_ lg n oa)) (fun u => [(m, .inr (11, [.int (zI (n : Int)), .ref g1, .ref g2, .ref g3, .ref g4, .ref g5, .int (zI oa), .int (zI dy), .ref s1, .ref s2, .ref s3, .ref s4, .ref s5, .ref s6, .int (zI 0), .int (zI rdg), .int (zI plc), .int (zI ibd), .int (zI stm), .ref t1, .ref t2, .ref t3, .ref c0, .ref c1, .ref c2, .ref c3, .int (zI him), .int (zI pl0), .int (zI itk), ki, .int (zI chd), .int (zI chf), .ref y0, .int (zI sd), .ref y1])), (g1, AI G 7 (fun z_ => (kd z_ : Int))), (g2, AI G 7 fg), (g3, AI G 7 hm), (g4, AI G 7 at_), (g5, AI G 7 lg)])) := by
  refine z_met (by decide) (Nat.le_of_ble_eq_true rfl) ?_
  intro X A hl0 hA C hQ hin
  subst hl0
  obtain ⟨hn7, hoa, hLj⟩ := id hL
  show Z X _ G 0 0 _ 0 [(0, .ref m)] []
  refine z_aload_n C dX4_spread_0 rfl 0 rfl ?_
  refine y_iconst C dX4_spread_1 ?_
  refine z_put (q := 0) (kf := 14) (ws' := [(m, .inr (11, [.int (zI (n : Int)), .ref g1, .ref g2, .ref g3, .ref g4, .ref g5, .int (zI oa), .int (zI dy), .ref s1, .ref s2, .ref s3, .ref s4, .ref s5, .ref s6, .int (zI 0), .int (zI rdg), .int (zI plc), .int (zI ibd), .int (zI stm), .ref t1, .ref t2, .ref t3, .ref c0, .ref c1, .ref c2, .ref c3, .int (zI him), .int (zI pl0), .int (zI itk), ki, .int (zI chd), .int (zI chf), .ref y0, .int (zI sd), .ref y1])), (g1, AI G 7 (fun z_ => (kd z_ : Int))), (g2, AI G 7 fg), (g3, AI G 7 hm), (g4, AI G 7 at_), (g5, AI G 7 lg)]) C rfl rfl in_X4 tyX4_ok nmX4 (by decide) q1101 rfl rfl rfl rfl rfl (nlt rfl) rfl dX4_spread_2 ?_
  refine y_bipush C dX4_spread_5 (by decide) ?_
  refine z_istore_n (lv' := [(1, .int (zI (-4))), (0, .ref m)]) C dX4_spread_7 rfl (nlt rfl) rfl ?_
  refine y_iconst C dX4_spread_8 ?_
  refine z_istore_n (lv' := [(2, .int (zI (-1))), (1, .int (zI (-4))), (0, .ref m)]) C dX4_spread_9 rfl (nlt rfl) rfl ?_
  refine y_iconst C dX4_spread_10 ?_
  refine z_istore_n (lv' := [(3, .int (zI 0)), (2, .int (zI (-1))), (1, .int (zI (-4))), (0, .ref m)]) C dX4_spread_11 rfl (nlt rfl) rfl ?_
  have L_12 : ∀ (tt : Nat) (a : Nat) (p : Int) (q : Int) (q2 : Int), (a ≤ n) → (spOut at_ n a = (p, q)) → (-4 ≤ p ∧ p ≤ 100 ∧ -4 ≤ q ∧ q ≤ 20) → (q2 = q ∨ (q = -4 ∧ q2 = -1)) → n - a = tt → Z X (cX4_spread, 6, yX4_spread.cls, (some .int), { frames := 1, cells := 0, slots := 0, locals := 21 }, A) G 0 0 [(m, .inr (11, [.int (zI (n : Int)), .ref g1, .ref g2, .ref g3, .ref g4, .ref g5, .int (zI oa), .int (zI dy), .ref s1, .ref s2, .ref s3, .ref s4, .ref s5, .ref s6, .int (zI 0), .int (zI rdg), .int (zI plc), .int (zI ibd), .int (zI stm), .ref t1, .ref t2, .ref t3, .ref c0, .ref c1, .ref c2, .ref c3, .int (zI him), .int (zI pl0), .int (zI itk), ki, .int (zI chd), .int (zI chf), .ref y0, .int (zI sd), .ref y1])), (g1, AI G 7 (fun z_ => (kd z_ : Int))), (g2, AI G 7 fg), (g3, AI G 7 hm), (g4, AI G 7 at_), (g5, AI G 7 lg)] 12 [(3, .int (zI (a : Int))), (2, .int (zI q2)), (1, .int (zI p)), (0, .ref m)] [] := by
    intro tt
    induction tt using Nat.strongRecOn with
    | _ tt ih_12 =>
      intro a p q q2 ha hot hpq hq2 ht_12
      refine z_iload_n C dX4_spread_12 rfl 0 rfl ?_
      refine z_aload_n C dX4_spread_13 rfl 3 rfl ?_
      refine z_get (q := 0) (kf := 0) (v := .int (zI (n : Int))) C rfl rfl in_X4 (by decide) q1087 (Or.inl rfl) rfl dX4_spread_14 ?_
      refine y_icmp_ge (tgt := 95) C (by omega) (by omega) dX4_spread_17 (by decide) (fun c_17 => ?_) (fun c_17 => ?_)
      · skip
        refine z_iload_n C dX4_spread_95 rfl 2 rfl ?_
        exact z_iret C hA hQ rfl (Nat.le_of_ble_eq_true rfl) (Nat.le_of_ble_eq_true rfl) (()) (congrArg zI (by unfold oSpread; rw [show a = n by omega] at hot; rw [hot])) (sb_e [0, 1, 2, 3, 4, 5] rfl rfl) dX4_spread_96
      · skip
        have haa2 := (hLj a (by omega)).2.2.2.1
        refine z_iload_n C dX4_spread_20 rfl 0 rfl ?_
        refine y_iconst C dX4_spread_21 ?_
        refine y_iadd C dX4_spread_22 ?_
        refine z_istore (lv' := [(4, .int (zI ((a : Int) + 1))), (3, .int (zI (a : Int))), (2, .int (zI q2)), (1, .int (zI p)), (0, .ref m)]) C dX4_spread_23 (nlt rfl) rfl ?_
        have L_25 : ∀ (tt : Nat) (k : Nat) (b : Nat) (p : Int) (q : Int) (q2 : Int), (b = a + 1 + k) → (b ≤ n) → (spIn at_ a k (spOut at_ n a) = (p, q)) → (-4 ≤ p ∧ p ≤ 100 ∧ -4 ≤ q ∧ q ≤ 20) → (q2 = q ∨ (q = -4 ∧ q2 = -1)) → n - b = tt → Z X (cX4_spread, 6, yX4_spread.cls, (some .int), { frames := 1, cells := 0, slots := 0, locals := 21 }, A) G 0 0 [(m, .inr (11, [.int (zI (n : Int)), .ref g1, .ref g2, .ref g3, .ref g4, .ref g5, .int (zI oa), .int (zI dy), .ref s1, .ref s2, .ref s3, .ref s4, .ref s5, .ref s6, .int (zI 0), .int (zI rdg), .int (zI plc), .int (zI ibd), .int (zI stm), .ref t1, .ref t2, .ref t3, .ref c0, .ref c1, .ref c2, .ref c3, .int (zI him), .int (zI pl0), .int (zI itk), ki, .int (zI chd), .int (zI chf), .ref y0, .int (zI sd), .ref y1])), (g1, AI G 7 (fun z_ => (kd z_ : Int))), (g2, AI G 7 fg), (g3, AI G 7 hm), (g4, AI G 7 at_), (g5, AI G 7 lg)] 25 [(4, .int (zI (b : Int))), (3, .int (zI (a : Int))), (2, .int (zI q2)), (1, .int (zI p)), (0, .ref m)] [] := by
          intro tt
          induction tt using Nat.strongRecOn with
          | _ tt ih_25 =>
            intro k b p q q2 hb hbn hin2 hpq hq2 ht_25
            refine z_iload C dX4_spread_25 0 rfl ?_
            refine z_aload_n C dX4_spread_27 rfl 4 rfl ?_
            refine z_get (q := 0) (kf := 0) (v := .int (zI (n : Int))) C rfl rfl in_X4 (by decide) q1087 (Or.inl rfl) rfl dX4_spread_28 ?_
            refine y_icmp_ge (tgt := 89) C (by omega) (by omega) dX4_spread_31 (by decide) (fun c_31 => ?_) (fun c_31 => ?_)
            · skip
              refine y_iinc (lv' := [(3, .int (zI ((a : Int) + 1))), (4, .int (zI (b : Int))), (2, .int (zI q2)), (1, .int (zI p)), (0, .ref m)]) C dX4_spread_89 (q := 1) rfl (nlt rfl) rfl ?_
              refine z_goto (tgt := 12) C dX4_spread_92 (by decide) ?_
              refine z_lv (lv' := [(3, .int (zI ((a : Int) + 1))), (2, .int (zI q2)), (1, .int (zI p)), (0, .ref m)]) [0, 2, 3, 4] rfl ?_
              exact ih_12 _ (by omega) (a + 1) p q q2 (by first | assumption | omega) (by show spIn at_ a (n - (a + 1)) (spOut at_ n a) = _; rw [show n - (a + 1) = k by omega]; exact hin2) (hpq) (by first | assumption | omega) rfl
            · skip
              have hbb2 := (hLj b (by omega)).2.2.2.1
              have h8 := zAbs_nn (at_ a - at_ b)
              have h9 := (zAbs_le (a := at_ a - at_ b) (m := 20)).mpr ⟨by omega, by omega⟩
              refine z_aload_n C dX4_spread_34 rfl 4 rfl ?_
              refine z_get (q := 0) (kf := 4) (v := .ref g4) C rfl rfl in_X4 (by decide) q1091 (Or.inl rfl) rfl dX4_spread_35 ?_
              refine z_iload_n C dX4_spread_38 rfl 1 rfl ?_
              refine y_iald (q := 4) (t0 := 0) (v := at_ a) C rfl rfl (by omega) (by decide) rfl dX4_spread_39 ?_
              refine z_aload_n C dX4_spread_40 rfl 4 rfl ?_
              refine z_get (q := 0) (kf := 4) (v := .ref g4) C rfl rfl in_X4 (by decide) q1091 (Or.inl rfl) rfl dX4_spread_41 ?_
              refine z_iload C dX4_spread_44 0 rfl ?_
              refine y_iald (q := 4) (t0 := 0) (v := at_ b) C rfl rfl (by omega) (by decide) rfl dX4_spread_46 ?_
              refine z_i C (z_runS (As := [.int (zI (at_ a)), .int (zI (at_ b))]) (rest := []) C (ct_X4_apart (zl X) G (at_ a) (at_ b) (by first | assumption | omega) (by first | assumption | omega)) (lw_S q1271 q1272 q61 q1273) (sb_e [] rfl rfl) (na := 2) (by decide +kernel) rfl (zrm rfl rfl (rfl) (rfl)) rfl (Nat.le_of_ble_eq_true rfl) dX4_spread_47) (fun u => jn_ro (sb_e [] rfl rfl)) (fun r_47 u hp_47 => ?_)
              have hp_47 : r_47 = zI (zAbs ((at_ a) - (at_ b))) := hp_47
              subst hp_47
              refine z_istore (lv' := [(5, .int (zI (zAbs ((at_ a) - (at_ b))))), (4, .int (zI (b : Int))), (3, .int (zI (a : Int))), (2, .int (zI q2)), (1, .int (zI p)), (0, .ref m)]) C dX4_spread_50 (nlt rfl) rfl ?_
              refine z_iload C dX4_spread_52 0 rfl ?_
              refine z_iload_n C dX4_spread_54 rfl 3 rfl ?_
              refine y_icmp_le (tgt := 68) C (by omega) (by omega) dX4_spread_55 (by decide) (fun c_55 => ?_) (fun c_55 => ?_)
              · skip
                refine z_iload_n C dX4_spread_68 rfl 4 rfl ?_
                refine z_istore_n (lv' := [(1, .int (zI p)), (5, .int (zI (zAbs ((at_ a) - (at_ b))))), (4, .int (zI (b : Int))), (3, .int (zI (a : Int))), (2, .int (zI q2)), (0, .ref m)]) C dX4_spread_69 rfl (nlt rfl) rfl ?_
                refine z_iload C dX4_spread_70 1 rfl ?_
                refine z_iload_n C dX4_spread_72 rfl 4 rfl ?_
                refine y_icmp_le (tgt := 81) C (by omega) (by omega) dX4_spread_73 (by decide) (fun c_73 => ?_) (fun c_73 => ?_)
                · skip
                  refine z_iload_n C dX4_spread_81 rfl 4 rfl ?_
                  refine z_istore_n (lv' := [(2, .int (zI q2)), (1, .int (zI p)), (5, .int (zI (zAbs ((at_ a) - (at_ b))))), (4, .int (zI (b : Int))), (3, .int (zI (a : Int))), (0, .ref m)]) C dX4_spread_82 rfl (nlt rfl) rfl ?_
                  refine y_iinc (lv' := [(4, .int (zI ((b : Int) + 1))), (2, .int (zI q2)), (1, .int (zI p)), (5, .int (zI (zAbs ((at_ a) - (at_ b))))), (3, .int (zI (a : Int))), (0, .ref m)]) C dX4_spread_83 (q := 3) rfl (nlt rfl) rfl ?_
                  refine z_goto (tgt := 25) C dX4_spread_86 (by decide) ?_
                  refine z_lv (lv' := [(4, .int (zI ((b : Int) + 1))), (3, .int (zI (a : Int))), (2, .int (zI q2)), (1, .int (zI p)), (0, .ref m)]) [0, 4, 1, 2, 5] rfl ?_
                  exact ih_25 _ (by omega) (k + 1) (b + 1) p q q2 (by omega) (by first | assumption | omega) (by first | (exfalso; omega) | exact spIn_t hin2 hb (by omega) | exact spIn_f hin2 hb (by omega)) (by first | assumption | omega) (by first | assumption | omega) rfl
                · skip
                  refine z_iload C dX4_spread_76 1 rfl ?_
                  refine z_goto (tgt := 82) C dX4_spread_78 (by decide) ?_
                  refine z_istore_n (lv' := [(2, .int (zI (zAbs ((at_ a) - (at_ b))))), (1, .int (zI p)), (5, .int (zI (zAbs ((at_ a) - (at_ b))))), (4, .int (zI (b : Int))), (3, .int (zI (a : Int))), (0, .ref m)]) C dX4_spread_82 rfl (nlt rfl) rfl ?_
                  refine y_iinc (lv' := [(4, .int (zI ((b : Int) + 1))), (2, .int (zI (zAbs ((at_ a) - (at_ b))))), (1, .int (zI p)), (5, .int (zI (zAbs ((at_ a) - (at_ b))))), (3, .int (zI (a : Int))), (0, .ref m)]) C dX4_spread_83 (q := 3) rfl (nlt rfl) rfl ?_
                  refine z_goto (tgt := 25) C dX4_spread_86 (by decide) ?_
                  refine z_lv (lv' := [(4, .int (zI ((b : Int) + 1))), (3, .int (zI (a : Int))), (2, .int (zI (zAbs ((at_ a) - (at_ b))))), (1, .int (zI p)), (0, .ref m)]) [0, 4, 1, 2, 5] rfl ?_
                  exact ih_25 _ (by omega) (k + 1) (b + 1) p (zAbs (at_ a - at_ b)) (zAbs ((at_ a) - (at_ b))) (by omega) (by first | assumption | omega) (by first | (exfalso; omega) | exact spIn_t hin2 hb (by omega) | exact spIn_f hin2 hb (by omega)) (by first | assumption | omega) (by first | assumption | omega) rfl
              · skip
                refine y_bipush C dX4_spread_58 (by decide) ?_
                refine z_iload_n C dX4_spread_60 rfl 2 rfl ?_
                refine y_imul C dX4_spread_61 ?_
                refine z_iload C dX4_spread_62 1 rfl ?_
                refine y_iadd C dX4_spread_64 ?_
                refine z_goto (tgt := 69) C dX4_spread_65 (by decide) ?_
                refine z_istore_n (lv' := [(1, .int (zI ((10 * (a : Int)) + (b : Int)))), (5, .int (zI (zAbs ((at_ a) - (at_ b))))), (4, .int (zI (b : Int))), (3, .int (zI (a : Int))), (2, .int (zI q2)), (0, .ref m)]) C dX4_spread_69 rfl (nlt rfl) rfl ?_
                refine z_iload C dX4_spread_70 1 rfl ?_
                refine z_iload_n C dX4_spread_72 rfl 4 rfl ?_
                refine y_icmp_le (tgt := 81) C (by omega) (by omega) dX4_spread_73 (by decide) (fun c_73 => ?_) (fun c_73 => ?_)
                · skip
                  refine z_iload_n C dX4_spread_81 rfl 4 rfl ?_
                  refine z_istore_n (lv' := [(2, .int (zI q2)), (1, .int (zI ((10 * (a : Int)) + (b : Int)))), (5, .int (zI (zAbs ((at_ a) - (at_ b))))), (4, .int (zI (b : Int))), (3, .int (zI (a : Int))), (0, .ref m)]) C dX4_spread_82 rfl (nlt rfl) rfl ?_
                  refine y_iinc (lv' := [(4, .int (zI ((b : Int) + 1))), (2, .int (zI q2)), (1, .int (zI ((10 * (a : Int)) + (b : Int)))), (5, .int (zI (zAbs ((at_ a) - (at_ b))))), (3, .int (zI (a : Int))), (0, .ref m)]) C dX4_spread_83 (q := 3) rfl (nlt rfl) rfl ?_
                  refine z_goto (tgt := 25) C dX4_spread_86 (by decide) ?_
                  refine z_lv (lv' := [(4, .int (zI ((b : Int) + 1))), (3, .int (zI (a : Int))), (2, .int (zI q2)), (1, .int (zI ((10 * (a : Int)) + (b : Int)))), (0, .ref m)]) [0, 4, 1, 2, 5] rfl ?_
                  exact ih_25 _ (by omega) (k + 1) (b + 1) ((10 * (a : Int)) + (b : Int)) q q2 (by omega) (by first | assumption | omega) (by first | (exfalso; omega) | exact spIn_t hin2 hb (by omega) | exact spIn_f hin2 hb (by omega)) (by first | assumption | omega) (by first | assumption | omega) rfl
                · skip
                  refine z_iload C dX4_spread_76 1 rfl ?_
                  refine z_goto (tgt := 82) C dX4_spread_78 (by decide) ?_
                  refine z_istore_n (lv' := [(2, .int (zI (zAbs ((at_ a) - (at_ b))))), (1, .int (zI ((10 * (a : Int)) + (b : Int)))), (5, .int (zI (zAbs ((at_ a) - (at_ b))))), (4, .int (zI (b : Int))), (3, .int (zI (a : Int))), (0, .ref m)]) C dX4_spread_82 rfl (nlt rfl) rfl ?_
                  refine y_iinc (lv' := [(4, .int (zI ((b : Int) + 1))), (2, .int (zI (zAbs ((at_ a) - (at_ b))))), (1, .int (zI ((10 * (a : Int)) + (b : Int)))), (5, .int (zI (zAbs ((at_ a) - (at_ b))))), (3, .int (zI (a : Int))), (0, .ref m)]) C dX4_spread_83 (q := 3) rfl (nlt rfl) rfl ?_
                  refine z_goto (tgt := 25) C dX4_spread_86 (by decide) ?_
                  refine z_lv (lv' := [(4, .int (zI ((b : Int) + 1))), (3, .int (zI (a : Int))), (2, .int (zI (zAbs ((at_ a) - (at_ b))))), (1, .int (zI ((10 * (a : Int)) + (b : Int)))), (0, .ref m)]) [0, 4, 1, 2, 5] rfl ?_
                  exact ih_25 _ (by omega) (k + 1) (b + 1) ((10 * (a : Int)) + (b : Int)) (zAbs (at_ a - at_ b)) (zAbs ((at_ a) - (at_ b))) (by omega) (by first | assumption | omega) (by first | (exfalso; omega) | exact spIn_t hin2 hb (by omega) | exact spIn_f hin2 hb (by omega)) (by first | assumption | omega) (by first | assumption | omega) rfl
        rw [show (a : Int) + 1 = ((a + 1 : Nat) : Int) by omega]
        exact L_25 _ 0 (a + 1) p q q2 (rfl) (by first | assumption | omega) (hot) (by first | assumption | omega) (by first | assumption | omega) rfl
  exact L_12 _ 0 (-4) (-4) (-1) (by first | assumption | omega) (rfl) (by first | assumption | omega) (by first | assumption | omega) rfl

set_option maxHeartbeats 4000000 in
theorem ct_X4_feesOf (l : Launch) (G : ZG) (m : Nat) (g1 : Nat) (g2 : Nat) (g3 : Nat) (g4 : Nat) (g5 : Nat) (s1 : Nat) (s2 : Nat) (s3 : Nat) (s4 : Nat) (s5 : Nat) (s6 : Nat) (t1 : Nat) (t2 : Nat) (t3 : Nat) (c0 : Nat) (c1 : Nat) (c2 : Nat) (c3 : Nat) (y0 : Nat) (y1 : Nat) (thr : Int) (rdg : Int) (plc : Int) (ibd : Int) (stm : Int) (him : Int) (pl0 : Int) (itk : Int) (chd : Int) (chf : Int) (sd : Int) (ki : Value) (kd : Nat → Nat) (fg : Nat → Int) (hm : Nat → Int) (at_ : Nat → Int) (lg : Nat → Int) (n : Nat) (oa : Int) (dy : Int) (kc : Nat → Int) (j : Nat) (yard : Int) (hL : LK n kd fg hm at_ lg oa) (hj : j < n) (hy : 0 ≤ yard ∧ yard ≤ 20) : CT l yX4_feesOf cX4_feesOf 3 (some .int) { frames := 7, cells := 0, slots := 0, locals := 164 } G [.ref m, .int (zI (j : Int)), .int (zI yard)] [(m, .inr (11, [.int (zI (n : Int)), .ref g1, .ref g2, .ref g3, .ref g4, .ref g5, .int (zI oa), .int (zI dy), .ref s1, .ref s2, .ref s3, .ref s4, .ref s5, .ref s6, .int (zI thr), .int (zI rdg), .int (zI plc), .int (zI ibd), .int (zI stm), .ref t1, .ref t2, .ref t3, .ref c0, .ref c1, .ref c2, .ref c3, .int (zI him), .int (zI pl0), .int (zI itk), ki, .int (zI chd), .int (zI chf), .ref y0, .int (zI sd), .ref y1])), (g1, AI G 7 (fun z_ => (kd z_ : Int))), (g2, AI G 7 fg), (g3, AI G 7 hm), (g4, AI G 7 at_), (g5, AI G 7 lg), (c0, AI G 38 kc)] (Qi G [(m, .inr (11, [.int (zI (n : Int)), .ref g1, .ref g2, .ref g3, .ref g4, .ref g5, .int (zI oa), .int (zI dy), .ref s1, .ref s2, .ref s3, .ref s4, .ref s5, .ref s6, .int (zI thr), .int (zI rdg), .int (zI plc), .int (zI ibd), .int (zI stm), .ref t1, .ref t2, .ref t3, .ref c0, .ref c1, .ref c2, .ref c3, .int (zI him), .int (zI pl0), .int (zI itk), ki, .int (zI chd), .int (zI chf), .ref y0, .int (zI sd), .ref y1])), (g1, AI G 7 (fun z_ => (kd z_ : Int))), (g2, AI G 7 fg), (g3, AI G 7 hm), (g4, AI G 7 at_), (g5, AI G 7 lg), (c0, AI G 38 kc)] (fun (r : Int32) (u : Value × Int × Int × (Nat → Int)) => r = zI (feeF kd fg hm at_ lg n oa yard j)) (fun u => [(m, .inr (11, [.int (zI (n : Int)), .ref g1, .ref g2, .ref g3, .ref g4, .ref g5, .int (zI oa), .int (zI dy), .ref s1, .ref s2, .ref s3, .ref s4, .ref s5, .ref s6, .int (zI thr), .int (zI rdg), .int (zI plc), .int (zI ibd), .int (zI stm), .ref t1, .ref t2, .ref t3, .ref c0, .ref c1, .ref c2, .ref c3, .int (zI him), .int (zI u.2.1), .int (zI u.2.2.1), u.1, .int (zI chd), .int (zI chf), .ref y0, .int (zI sd), .ref y1])), (g1, AI G 7 (fun z_ => (kd z_ : Int))), (g2, AI G 7 fg), (g3, AI G 7 hm), (g4, AI G 7 at_), (g5, AI G 7 lg), (c0, AI G 38 u.2.2.2)])) := by
  refine z_met (by decide) (Nat.le_of_ble_eq_true rfl) ?_
  intro X A hl0 hA C hQ hin
  subst hl0
  obtain ⟨hn7, hoa, hLj⟩ := id hL
  show Z X _ G 0 0 _ 0 [(0, .ref m), (1, .int (zI (j : Int))), (2, .int (zI yard))] []
  refine z_aload_n C dX4_feesOf_0 rfl 0 rfl ?_
  refine z_get (q := 0) (kf := 1) (v := .ref g1) C rfl rfl in_X4 (by decide) q1088 (Or.inl rfl) rfl dX4_feesOf_1 ?_
  refine z_iload_n C dX4_feesOf_4 rfl 1 rfl ?_
  refine y_iald (q := 1) (t0 := 0) (v := (kd j : Int)) C rfl rfl (by omega) (by decide) rfl dX4_feesOf_5 ?_
  refine z_aload_n C dX4_feesOf_6 rfl 0 rfl ?_
  refine z_get (q := 0) (kf := 2) (v := .ref g2) C rfl rfl in_X4 (by decide) q1089 (Or.inl rfl) rfl dX4_feesOf_7 ?_
  refine z_iload_n C dX4_feesOf_10 rfl 1 rfl ?_
  refine y_iald (q := 2) (t0 := 0) (v := fg j) C rfl rfl (by omega) (by decide) rfl dX4_feesOf_11 ?_
  refine z_i C (z_runS (As := [.int (zI (kd j : Int)), .int (zI (fg j))]) (rest := []) C (ct_X4_costOf (zl X) G (kd j) (fg j) ((hLj j hj).1)) (lw_S q1433 q1434 q61 q1435) (sb_e [] rfl rfl) (na := 2) (by decide +kernel) rfl (zrm rfl rfl (rfl) (rfl)) rfl (Nat.le_of_ble_eq_true rfl) dX4_feesOf_12) (fun u => jn_ro (sb_e [] rfl rfl)) (fun r_12 u hp_12 => ?_)
  have hp_12 : r_12 = zI (costZ (kd j) (fg j)) := hp_12
  subst hp_12
  refine z_aload_n C dX4_feesOf_15 rfl 0 rfl ?_
  refine z_iload_n C dX4_feesOf_16 rfl 1 rfl ?_
  refine z_iload_n C dX4_feesOf_17 rfl 2 rfl ?_
  refine z_i (ws' := fun u => [(m, .inr (11, [.int (zI (n : Int)), .ref g1, .ref g2, .ref g3, .ref g4, .ref g5, .int (zI oa), .int (zI dy), .ref s1, .ref s2, .ref s3, .ref s4, .ref s5, .ref s6, .int (zI thr), .int (zI rdg), .int (zI plc), .int (zI ibd), .int (zI stm), .ref t1, .ref t2, .ref t3, .ref c0, .ref c1, .ref c2, .ref c3, .int (zI him), .int (zI u.2.1), .int (zI u.2.2.1), u.1, .int (zI chd), .int (zI chf), .ref y0, .int (zI sd), .ref y1])), (g1, AI G 7 (fun z_ => (kd z_ : Int))), (g2, AI G 7 fg), (g3, AI G 7 hm), (g4, AI G 7 at_), (g5, AI G 7 lg), (c0, AI G 38 u.2.2.2)]) C (z_runV (q := 0) (As := [.int (zI (j : Int)), .int (zI yard)]) (rest := [.int (zI (costZ (kd j) (fg j)))]) C (ct_X4_ownRide (zl X) G m g1 g2 g3 g4 g5 s1 s2 s3 s4 s5 s6 t1 t2 t3 c0 c1 c2 c3 y0 y1 thr rdg plc ibd stm him pl0 itk chd chf sd ki kd fg hm at_ lg n oa dy kc j yard (by first | assumption | omega) (by first | assumption | omega) (by first | assumption | omega)) (lw_V q1355 q1357 qs46 q61 q1358) rfl rfl (sb_e [0, 1, 2, 3, 4, 5, 6] rfl rfl) (na := 2) (by decide +kernel) rfl (zrm rfl rfl (rfl) (rfl)) rfl (Nat.le_of_ble_eq_true rfl) dX4_feesOf_18) (fun u => jn_e (wr := []) [0, 1, 2, 3, 4, 5, 6] [] [0, 1, 2, 3, 4, 5, 6] rfl rfl rfl (by decide) rfl rfl) (fun r_18 u hp_18 => ?_)
  obtain ⟨ki9_18, pl9_18, itk9_18, kc9_18⟩ := u
  have hp_18 : r_18 = zI (tkB kd fg hm at_ lg n oa yard 0 j) := hp_18
  subst hp_18
  refine y_imul C dX4_feesOf_21 ?_
  exact z_iret C hA hQ rfl (Nat.le_of_ble_eq_true rfl) (Nat.le_of_ble_eq_true rfl) ((ki9_18, pl9_18, itk9_18, kc9_18)) (rfl) (sb_e [0, 1, 2, 3, 4, 5, 6] rfl rfl) dX4_feesOf_22

set_option maxHeartbeats 4000000 in
theorem ct_X4_fees (l : Launch) (G : ZG) (m : Nat) (g1 : Nat) (g2 : Nat) (g3 : Nat) (g4 : Nat) (g5 : Nat) (s1 : Nat) (s2 : Nat) (s3 : Nat) (s4 : Nat) (s5 : Nat) (s6 : Nat) (t1 : Nat) (t2 : Nat) (t3 : Nat) (c0 : Nat) (c1 : Nat) (c2 : Nat) (c3 : Nat) (y0 : Nat) (y1 : Nat) (thr : Int) (rdg : Int) (plc : Int) (ibd : Int) (stm : Int) (him : Int) (pl0 : Int) (itk : Int) (chd : Int) (chf : Int) (sd : Int) (ki : Value) (kd : Nat → Nat) (fg : Nat → Int) (hm : Nat → Int) (at_ : Nat → Int) (lg : Nat → Int) (n : Nat) (oa : Int) (dy : Int) (kc : Nat → Int) (h : Int) (yard : Int) (hL : LK n kd fg hm at_ lg oa) (rh : -2147483648 ≤ h ∧ h ≤ 2147483647) (ryard : -2147483648 ≤ yard ∧ yard ≤ 2147483647) : CT l yX4_fees cX4_fees 5 (some .int) { frames := 8, cells := 0, slots := 0, locals := 186 } G [.ref m, .int (zI h), .int (zI yard)] [(m, .inr (11, [.int (zI (n : Int)), .ref g1, .ref g2, .ref g3, .ref g4, .ref g5, .int (zI oa), .int (zI dy), .ref s1, .ref s2, .ref s3, .ref s4, .ref s5, .ref s6, .int (zI thr), .int (zI rdg), .int (zI plc), .int (zI ibd), .int (zI stm), .ref t1, .ref t2, .ref t3, .ref c0, .ref c1, .ref c2, .ref c3, .int (zI him), .int (zI pl0), .int (zI itk), ki, .int (zI chd), .int (zI chf), .ref y0, .int (zI sd), .ref y1])), (g1, AI G 7 (fun z_ => (kd z_ : Int))), (g2, AI G 7 fg), (g3, AI G 7 hm), (g4, AI G 7 at_), (g5, AI G 7 lg), (c0, AI G 38 kc)] (Qi G [(m, .inr (11, [.int (zI (n : Int)), .ref g1, .ref g2, .ref g3, .ref g4, .ref g5, .int (zI oa), .int (zI dy), .ref s1, .ref s2, .ref s3, .ref s4, .ref s5, .ref s6, .int (zI thr), .int (zI rdg), .int (zI plc), .int (zI ibd), .int (zI stm), .ref t1, .ref t2, .ref t3, .ref c0, .ref c1, .ref c2, .ref c3, .int (zI him), .int (zI pl0), .int (zI itk), ki, .int (zI chd), .int (zI chf), .ref y0, .int (zI sd), .ref y1])), (g1, AI G 7 (fun z_ => (kd z_ : Int))), (g2, AI G 7 fg), (g3, AI G 7 hm), (g4, AI G 7 at_), (g5, AI G 7 lg), (c0, AI G 38 kc)] (fun (r : Int32) (u : Value × Int × Int × (Nat → Int)) => r = zI (oFees kd fg hm at_ lg n oa h yard)) (fun u => [(m, .inr (11, [.int (zI (n : Int)), .ref g1, .ref g2, .ref g3, .ref g4, .ref g5, .int (zI oa), .int (zI dy), .ref s1, .ref s2, .ref s3, .ref s4, .ref s5, .ref s6, .int (zI 0), .int (zI rdg), .int (zI plc), .int (zI ibd), .int (zI stm), .ref t1, .ref t2, .ref t3, .ref c0, .ref c1, .ref c2, .ref c3, .int (zI him), .int (zI u.2.1), .int (zI u.2.2.1), u.1, .int (zI chd), .int (zI chf), .ref y0, .int (zI sd), .ref y1])), (g1, AI G 7 (fun z_ => (kd z_ : Int))), (g2, AI G 7 fg), (g3, AI G 7 hm), (g4, AI G 7 at_), (g5, AI G 7 lg), (c0, AI G 38 u.2.2.2)])) := by
  refine z_met (by decide) (Nat.le_of_ble_eq_true rfl) ?_
  intro X A hl0 hA C hQ hin
  subst hl0
  obtain ⟨hn7, hoa, hLj⟩ := id hL
  show Z X _ G 0 0 _ 0 [(0, .ref m), (1, .int (zI h)), (2, .int (zI yard))] []
  refine z_aload_n C dX4_fees_0 rfl 0 rfl ?_
  refine y_iconst C dX4_fees_1 ?_
  refine z_put (q := 0) (kf := 14) (ws' := [(m, .inr (11, [.int (zI (n : Int)), .ref g1, .ref g2, .ref g3, .ref g4, .ref g5, .int (zI oa), .int (zI dy), .ref s1, .ref s2, .ref s3, .ref s4, .ref s5, .ref s6, .int (zI 0), .int (zI rdg), .int (zI plc), .int (zI ibd), .int (zI stm), .ref t1, .ref t2, .ref t3, .ref c0, .ref c1, .ref c2, .ref c3, .int (zI him), .int (zI pl0), .int (zI itk), ki, .int (zI chd), .int (zI chf), .ref y0, .int (zI sd), .ref y1])), (g1, AI G 7 (fun z_ => (kd z_ : Int))), (g2, AI G 7 fg), (g3, AI G 7 hm), (g4, AI G 7 at_), (g5, AI G 7 lg), (c0, AI G 38 kc)]) C rfl rfl in_X4 tyX4_ok nmX4 (by decide) q1101 rfl rfl rfl rfl rfl (nlt rfl) rfl dX4_fees_2 ?_
  refine z_iload_n C dX4_fees_5 rfl 1 rfl ?_
  refine y_i2l C (by omega) dX4_fees_6 ?_
  refine z_ldc2 C q1428 dX4_fees_7 ?_
  refine z_eql (y := zL (-1)) (by decide) ?_
  refine z_aload_n C dX4_fees_10 rfl 0 rfl ?_
  refine z_get (q := 0) (kf := 0) (v := .int (zI (n : Int))) C rfl rfl in_X4 (by decide) q1087 (Or.inl rfl) rfl dX4_fees_11 ?_
  refine y_iconst C dX4_fees_14 ?_
  refine y_isub C dX4_fees_15 ?_
  refine y_i2l C (by omega) dX4_fees_16 ?_
  refine z_i C (z_runS (As := [.long (zL h), .long (zL (-1)), .long (zL ((n : Int) - 1))]) (rest := []) C (ct_X4_in (zl X) G h (-1) ((n : Int) - 1) (by first | assumption | omega) (by first | assumption | omega) (by first | assumption | omega)) (lw_S q1207 q1208 q61 q1209) (sb_e [] rfl rfl) (na := 3) (by decide +kernel) rfl (zrm rfl rfl (rfl) (rfl)) rfl (Nat.le_of_ble_eq_true rfl) dX4_fees_17) (fun u => jn_ro (sb_e [] rfl rfl)) (fun r_17 u hp_17 => ?_)
  have hp_17 : r_17 = zI (bI ((-1) ≤ h ∧ h ≤ ((n : Int) - 1))) := hp_17
  subst hp_17
  refine y_beq (tgt := 30) C dX4_fees_20 (by decide) (fun c_20 => ?_) (fun c_20 => ?_)
  · skip
    refine y_iconst C dX4_fees_30 ?_
    exact z_iret C hA hQ rfl (Nat.le_of_ble_eq_true rfl) (Nat.le_of_ble_eq_true rfl) ((ki, pl0, itk, kc)) (congrArg zI (by unfold oFees; (try simp only [zTN]); (repeat (first | rw [if_pos (by omega)] | rw [if_neg (by omega)])); first | done | rfl)) (sb_e [0, 1, 2, 3, 4, 5, 6] rfl rfl) dX4_fees_31
  · skip
    refine z_iload_n C dX4_fees_23 rfl 2 rfl ?_
    refine z_i C (z_runS (As := [.int (zI yard)]) (rest := []) C (ct_X4_isYard (zl X) G yard (by first | assumption | omega)) (lw_S q1251 q1252 q61 q1253) (sb_e [] rfl rfl) (na := 1) (by decide +kernel) rfl (zrm rfl rfl (rfl) (rfl)) rfl (Nat.le_of_ble_eq_true rfl) dX4_fees_24) (fun u => jn_ro (sb_e [] rfl rfl)) (fun r_24 u hp_24 => ?_)
    have hp_24 : r_24 = zI (bI (0 ≤ yard ∧ yard ≤ 20)) := hp_24
    subst hp_24
    refine y_bne (tgt := 32) C dX4_fees_27 (by decide) (fun c_27 => ?_) (fun c_27 => ?_)
    · skip
      refine z_iload_n C dX4_fees_32 rfl 1 rfl ?_
      refine y_if_lt (tgt := 43) C (by omega) dX4_fees_33 (by decide) (fun c_33 => ?_) (fun c_33 => ?_)
      · skip
        refine y_bipush C dX4_fees_43 (by decide) ?_
        refine z_istore_n (lv' := [(3, .int (zI (-4))), (0, .ref m), (1, .int (zI h)), (2, .int (zI yard))]) C dX4_fees_45 rfl (nlt rfl) rfl ?_
        refine y_iconst C dX4_fees_46 ?_
        refine z_istore (lv' := [(4, .int (zI 0)), (3, .int (zI (-4))), (0, .ref m), (1, .int (zI h)), (2, .int (zI yard))]) C dX4_fees_47 (nlt rfl) rfl ?_
        have L_49 : ∀ (tt : Nat) (i : Nat) (bst : Int) (lst : Int) (kib : Value) (plb : Int) (itb : Int) (kcb : Nat → Int), (i ≤ n) → (minF (feeF kd fg hm at_ lg n oa yard) i = (bst, lst)) → n - i = tt → Z X (cX4_fees, 5, yX4_fees.cls, (some .int), { frames := 8, cells := 0, slots := 0, locals := 186 }, A) G 0 0 [(m, .inr (11, [.int (zI (n : Int)), .ref g1, .ref g2, .ref g3, .ref g4, .ref g5, .int (zI oa), .int (zI dy), .ref s1, .ref s2, .ref s3, .ref s4, .ref s5, .ref s6, .int (zI 0), .int (zI rdg), .int (zI plc), .int (zI ibd), .int (zI stm), .ref t1, .ref t2, .ref t3, .ref c0, .ref c1, .ref c2, .ref c3, .int (zI him), .int (zI plb), .int (zI itb), kib, .int (zI chd), .int (zI chf), .ref y0, .int (zI sd), .ref y1])), (g1, AI G 7 (fun z_ => (kd z_ : Int))), (g2, AI G 7 fg), (g3, AI G 7 hm), (g4, AI G 7 at_), (g5, AI G 7 lg), (c0, AI G 38 kcb)] 49 [(4, .int (zI (i : Int))), (3, .int (zI bst)), (0, .ref m), (1, .int (zI h)), (2, .int (zI yard))] [] := by
          intro tt
          induction tt using Nat.strongRecOn with
          | _ tt ih_49 =>
            intro i bst lst kib plb itb kcb hi hmf ht_49
            have hmw := minF_w _ _ _ _ hmf
            refine z_iload C dX4_fees_49 0 rfl ?_
            refine z_aload_n C dX4_fees_51 rfl 2 rfl ?_
            refine z_get (q := 0) (kf := 0) (v := .int (zI (n : Int))) C rfl rfl in_X4 (by decide) q1087 (Or.inl rfl) rfl dX4_fees_52 ?_
            refine y_icmp_ge (tgt := 91) C (by omega) (by omega) dX4_fees_55 (by decide) (fun c_55 => ?_) (fun c_55 => ?_)
            · skip
              refine z_iload_n C dX4_fees_91 rfl 1 rfl ?_
              rw [show i = n by omega] at hmf
              exact z_iret C hA hQ rfl (Nat.le_of_ble_eq_true rfl) (Nat.le_of_ble_eq_true rfl) ((kib, plb, itb, kcb)) (congrArg zI (by unfold oFees; rw [if_pos (by omega), if_neg (by omega), hmf])) (sb_e [0, 1, 2, 3, 4, 5, 6] rfl rfl) dX4_fees_92
            · skip
              refine z_iload_n C dX4_fees_58 rfl 1 rfl ?_
              refine y_if_lt (tgt := 78) C (by omega) dX4_fees_59 (by decide) (fun c_59 => ?_) (fun c_59 => ?_)
              · skip
                refine z_iload C dX4_fees_78 0 rfl ?_
                refine z_goto (tgt := 84) C dX4_fees_80 (by decide) ?_
                refine z_istore_n (lv' := [(3, .int (zI (i : Int))), (4, .int (zI (i : Int))), (0, .ref m), (1, .int (zI h)), (2, .int (zI yard))]) C dX4_fees_84 rfl (nlt rfl) rfl ?_
                refine y_iinc (lv' := [(4, .int (zI ((i : Int) + 1))), (3, .int (zI (i : Int))), (0, .ref m), (1, .int (zI h)), (2, .int (zI yard))]) C dX4_fees_85 (q := 1) rfl (nlt rfl) rfl ?_
                refine z_goto (tgt := 49) C dX4_fees_88 (by decide) ?_
                exact ih_49 _ (by omega) (i + 1) (i : Int) (feeF kd fg hm at_ lg n oa yard i) kib plb itb kcb (by first | assumption | omega) (by first | exact minF_t' hmf (by omega) | exact minF_f' hmf (by omega)) rfl
              · skip
                have hfi := feeF_r (kd := kd) (hm := hm) (at_ := at_) (lg := lg) (n := n) (oa := oa) yard (hLj i (by omega)).2.1
                obtain ⟨b, rfl⟩ := Int.eq_ofNat_of_zero_le (show 0 ≤ bst by omega)
                have hmw2 : (b : Nat) < i ∧ lst = feeF kd fg hm at_ lg n oa yard b := by
                  rcases hmw with ⟨q1, q2, q3⟩ | ⟨q1, q2, q3⟩
                  · omega
                  · exact ⟨by omega, q3⟩
                have hfb := feeF_r (kd := kd) (hm := hm) (at_ := at_) (lg := lg) (n := n) (oa := oa) yard (hLj b (by omega)).2.1
                refine z_aload_n C dX4_fees_62 rfl 2 rfl ?_
                refine z_iload C dX4_fees_63 0 rfl ?_
                refine z_iload_n C dX4_fees_65 rfl 4 rfl ?_
                refine z_i (ws' := fun u => [(m, .inr (11, [.int (zI (n : Int)), .ref g1, .ref g2, .ref g3, .ref g4, .ref g5, .int (zI oa), .int (zI dy), .ref s1, .ref s2, .ref s3, .ref s4, .ref s5, .ref s6, .int (zI 0), .int (zI rdg), .int (zI plc), .int (zI ibd), .int (zI stm), .ref t1, .ref t2, .ref t3, .ref c0, .ref c1, .ref c2, .ref c3, .int (zI him), .int (zI u.2.1), .int (zI u.2.2.1), u.1, .int (zI chd), .int (zI chf), .ref y0, .int (zI sd), .ref y1])), (g1, AI G 7 (fun z_ => (kd z_ : Int))), (g2, AI G 7 fg), (g3, AI G 7 hm), (g4, AI G 7 at_), (g5, AI G 7 lg), (c0, AI G 38 u.2.2.2)]) C (z_runV (q := 0) (As := [.int (zI (i : Int)), .int (zI yard)]) (rest := []) C (ct_X4_feesOf (zl X) G m g1 g2 g3 g4 g5 s1 s2 s3 s4 s5 s6 t1 t2 t3 c0 c1 c2 c3 y0 y1 0 rdg plc ibd stm him plb itb chd chf sd kib kd fg hm at_ lg n oa dy kcb i yard (by first | assumption | omega) (by omega) (by first | assumption | omega)) (lw_V q1429 q1431 qs50 q61 q1432) rfl rfl (sb_e [0, 1, 2, 3, 4, 5, 6] rfl rfl) (na := 2) (by decide +kernel) rfl (zrm rfl rfl (rfl) (rfl)) rfl (Nat.le_of_ble_eq_true rfl) dX4_fees_66) (fun u => jn_e (wr := []) [0, 1, 2, 3, 4, 5, 6] [] [0, 1, 2, 3, 4, 5, 6] rfl rfl rfl (by decide) rfl rfl) (fun r_66 u hp_66 => ?_)
                obtain ⟨ki9_66, pl9_66, itk9_66, kc9_66⟩ := u
                have hp_66 : r_66 = zI (feeF kd fg hm at_ lg n oa yard i) := hp_66
                subst hp_66
                refine z_aload_n C dX4_fees_69 rfl 2 rfl ?_
                refine z_iload_n C dX4_fees_70 rfl 1 rfl ?_
                refine z_iload_n C dX4_fees_71 rfl 4 rfl ?_
                refine z_i (ws' := fun u => [(m, .inr (11, [.int (zI (n : Int)), .ref g1, .ref g2, .ref g3, .ref g4, .ref g5, .int (zI oa), .int (zI dy), .ref s1, .ref s2, .ref s3, .ref s4, .ref s5, .ref s6, .int (zI 0), .int (zI rdg), .int (zI plc), .int (zI ibd), .int (zI stm), .ref t1, .ref t2, .ref t3, .ref c0, .ref c1, .ref c2, .ref c3, .int (zI him), .int (zI u.2.1), .int (zI u.2.2.1), u.1, .int (zI chd), .int (zI chf), .ref y0, .int (zI sd), .ref y1])), (g1, AI G 7 (fun z_ => (kd z_ : Int))), (g2, AI G 7 fg), (g3, AI G 7 hm), (g4, AI G 7 at_), (g5, AI G 7 lg), (c0, AI G 38 u.2.2.2)]) C (z_runV (q := 0) (As := [.int (zI (b : Int)), .int (zI yard)]) (rest := [.int (zI (feeF kd fg hm at_ lg n oa yard i))]) C (ct_X4_feesOf (zl X) G m g1 g2 g3 g4 g5 s1 s2 s3 s4 s5 s6 t1 t2 t3 c0 c1 c2 c3 y0 y1 0 rdg plc ibd stm him pl9_66 itk9_66 chd chf sd ki9_66 kd fg hm at_ lg n oa dy kc9_66 b yard (by first | assumption | omega) (by omega) (by first | assumption | omega)) (lw_V q1429 q1431 qs50 q61 q1432) rfl rfl (sb_e [0, 1, 2, 3, 4, 5, 6] rfl rfl) (na := 2) (by decide +kernel) rfl (zrm rfl rfl (rfl) (rfl)) rfl (Nat.le_of_ble_eq_true rfl) dX4_fees_72) (fun u => jn_e (wr := []) [0, 1, 2, 3, 4, 5, 6] [] [0, 1, 2, 3, 4, 5, 6] rfl rfl rfl (by decide) rfl rfl) (fun r_72 u hp_72 => ?_)
                obtain ⟨ki9_72, pl9_72, itk9_72, kc9_72⟩ := u
                have hp_72 : r_72 = zI (feeF kd fg hm at_ lg n oa yard b) := hp_72
                subst hp_72
                refine y_icmp_ge (tgt := 83) C (by omega) (by omega) dX4_fees_75 (by decide) (fun c_75 => ?_) (fun c_75 => ?_)
                · skip
                  refine z_iload_n C dX4_fees_83 rfl 1 rfl ?_
                  refine z_istore_n (lv' := [(3, .int (zI (b : Int))), (4, .int (zI (i : Int))), (0, .ref m), (1, .int (zI h)), (2, .int (zI yard))]) C dX4_fees_84 rfl (nlt rfl) rfl ?_
                  refine y_iinc (lv' := [(4, .int (zI ((i : Int) + 1))), (3, .int (zI (b : Int))), (0, .ref m), (1, .int (zI h)), (2, .int (zI yard))]) C dX4_fees_85 (q := 1) rfl (nlt rfl) rfl ?_
                  refine z_goto (tgt := 49) C dX4_fees_88 (by decide) ?_
                  exact ih_49 _ (by omega) (i + 1) (b : Int) lst ki9_72 pl9_72 itk9_72 kc9_72 (by first | assumption | omega) (by first | exact minF_t' hmf (by omega) | exact minF_f' hmf (by omega)) rfl
                · skip
                  refine z_iload C dX4_fees_78 0 rfl ?_
                  refine z_goto (tgt := 84) C dX4_fees_80 (by decide) ?_
                  refine z_istore_n (lv' := [(3, .int (zI (i : Int))), (4, .int (zI (i : Int))), (0, .ref m), (1, .int (zI h)), (2, .int (zI yard))]) C dX4_fees_84 rfl (nlt rfl) rfl ?_
                  refine y_iinc (lv' := [(4, .int (zI ((i : Int) + 1))), (3, .int (zI (i : Int))), (0, .ref m), (1, .int (zI h)), (2, .int (zI yard))]) C dX4_fees_85 (q := 1) rfl (nlt rfl) rfl ?_
                  refine z_goto (tgt := 49) C dX4_fees_88 (by decide) ?_
                  exact ih_49 _ (by omega) (i + 1) (i : Int) (feeF kd fg hm at_ lg n oa yard i) ki9_72 pl9_72 itk9_72 kc9_72 (by first | assumption | omega) (by first | exact minF_t' hmf (by omega) | exact minF_f' hmf (by omega)) rfl
        exact L_49 _ 0 (-4) (-4) ki pl0 itk kc (by first | assumption | omega) (rfl) rfl
      · skip
        obtain ⟨j, rfl⟩ := Int.eq_ofNat_of_zero_le (show 0 ≤ h by omega)
        refine z_aload_n C dX4_fees_36 rfl 0 rfl ?_
        refine z_iload_n C dX4_fees_37 rfl 1 rfl ?_
        refine z_iload_n C dX4_fees_38 rfl 2 rfl ?_
        refine z_i (ws' := fun u => [(m, .inr (11, [.int (zI (n : Int)), .ref g1, .ref g2, .ref g3, .ref g4, .ref g5, .int (zI oa), .int (zI dy), .ref s1, .ref s2, .ref s3, .ref s4, .ref s5, .ref s6, .int (zI 0), .int (zI rdg), .int (zI plc), .int (zI ibd), .int (zI stm), .ref t1, .ref t2, .ref t3, .ref c0, .ref c1, .ref c2, .ref c3, .int (zI him), .int (zI u.2.1), .int (zI u.2.2.1), u.1, .int (zI chd), .int (zI chf), .ref y0, .int (zI sd), .ref y1])), (g1, AI G 7 (fun z_ => (kd z_ : Int))), (g2, AI G 7 fg), (g3, AI G 7 hm), (g4, AI G 7 at_), (g5, AI G 7 lg), (c0, AI G 38 u.2.2.2)]) C (z_runV (q := 0) (As := [.int (zI (j : Int)), .int (zI yard)]) (rest := []) C (ct_X4_feesOf (zl X) G m g1 g2 g3 g4 g5 s1 s2 s3 s4 s5 s6 t1 t2 t3 c0 c1 c2 c3 y0 y1 0 rdg plc ibd stm him pl0 itk chd chf sd ki kd fg hm at_ lg n oa dy kc j yard (by first | assumption | omega) (by first | assumption | omega) (by first | assumption | omega)) (lw_V q1429 q1431 qs50 q61 q1432) rfl rfl (sb_e [0, 1, 2, 3, 4, 5, 6] rfl rfl) (na := 2) (by decide +kernel) rfl (zrm rfl rfl (rfl) (rfl)) rfl (Nat.le_of_ble_eq_true rfl) dX4_fees_39) (fun u => jn_e (wr := []) [0, 1, 2, 3, 4, 5, 6] [] [0, 1, 2, 3, 4, 5, 6] rfl rfl rfl (by decide) rfl rfl) (fun r_39 u hp_39 => ?_)
        obtain ⟨ki9_39, pl9_39, itk9_39, kc9_39⟩ := u
        have hp_39 : r_39 = zI (feeF kd fg hm at_ lg n oa yard j) := hp_39
        subst hp_39
        exact z_iret C hA hQ rfl (Nat.le_of_ble_eq_true rfl) (Nat.le_of_ble_eq_true rfl) ((ki9_39, pl9_39, itk9_39, kc9_39)) (congrArg zI (by unfold oFees; (try simp only [zTN]); (repeat (first | rw [if_pos (by omega)] | rw [if_neg (by omega)])); first | done | rfl)) (sb_e [0, 1, 2, 3, 4, 5, 6] rfl rfl) dX4_fees_42
    · skip
      refine y_iconst C dX4_fees_30 ?_
      exact z_iret C hA hQ rfl (Nat.le_of_ble_eq_true rfl) (Nat.le_of_ble_eq_true rfl) ((ki, pl0, itk, kc)) (congrArg zI (by unfold oFees; (try simp only [zTN]); (repeat (first | rw [if_pos (by omega)] | rw [if_neg (by omega)])); first | done | rfl)) (sb_e [0, 1, 2, 3, 4, 5, 6] rfl rfl) dX4_fees_31

set_option maxHeartbeats 4000000 in
theorem ct_X4_horse (l : Launch) (G : ZG) (m : Nat) (g1 : Nat) (g2 : Nat) (g3 : Nat) (g4 : Nat) (g5 : Nat) (s1 : Nat) (s2 : Nat) (s3 : Nat) (s4 : Nat) (s5 : Nat) (s6 : Nat) (t1 : Nat) (t2 : Nat) (t3 : Nat) (c0 : Nat) (c1 : Nat) (c2 : Nat) (c3 : Nat) (y0 : Nat) (y1 : Nat) (thr : Int) (rdg : Int) (plc : Int) (ibd : Int) (stm : Int) (him : Int) (pl0 : Int) (itk : Int) (chd : Int) (chf : Int) (sd : Int) (ki : Value) (kd : Nat → Nat) (fg : Nat → Int) (hm : Nat → Int) (at_ : Nat → Int) (lg : Nat → Int) (n : Nat) (oa : Int) (dy : Int) (h : Int) (what : Int) (hL : LK n kd fg hm at_ lg oa) (rh : -2147483648 ≤ h ∧ h ≤ 2147483647) (rwhat : -2147483648 ≤ what ∧ what ≤ 2147483647) : CT l yX4_horse cX4_horse 3 (some .int) { frames := 2, cells := 0, slots := 0, locals := 46 } G [.ref m, .int (zI h), .int (zI what)] [(m, .inr (11, [.int (zI (n : Int)), .ref g1, .ref g2, .ref g3, .ref g4, .ref g5, .int (zI oa), .int (zI dy), .ref s1, .ref s2, .ref s3, .ref s4, .ref s5, .ref s6, .int (zI thr), .int (zI rdg), .int (zI plc), .int (zI ibd), .int (zI stm), .ref t1, .ref t2, .ref t3, .ref c0, .ref c1, .ref c2, .ref c3, .int (zI him), .int (zI pl0), .int (zI itk), ki, .int (zI chd), .int (zI chf), .ref y0, .int (zI sd), .ref y1])), (g1, AI G 7 (fun z_ => (kd z_ : Int))), (g2, AI G 7 fg), (g3, AI G 7 hm), (g4, AI G 7 at_), (g5, AI G 7 lg)] (Qi G [(m, .inr (11, [.int (zI (n : Int)), .ref g1, .ref g2, .ref g3, .ref g4, .ref g5, .int (zI oa), .int (zI dy), .ref s1, .ref s2, .ref s3, .ref s4, .ref s5, .ref s6, .int (zI thr), .int (zI rdg), .int (zI plc), .int (zI ibd), .int (zI stm), .ref t1, .ref t2, .ref t3, .ref c0, .ref c1, .ref c2, .ref c3, .int (zI him), .int (zI pl0), .int (zI itk), ki, .int (zI chd), .int (zI chf), .ref y0, .int (zI sd), .ref y1])), (g1, AI G 7 (fun z_ => (kd z_ : Int))), (g2, AI G 7 fg), (g3, AI G 7 hm), (g4, AI G 7 at_), (g5, AI G 7 lg)] (fun (r : Int32) (u : Unit) => r = zI (oHorse kd fg hm at_ lg n oa h what)) (fun u => [(m, .inr (11, [.int (zI (n : Int)), .ref g1, .ref g2, .ref g3, .ref g4, .ref g5, .int (zI oa), .int (zI dy), .ref s1, .ref s2, .ref s3, .ref s4, .ref s5, .ref s6, .int (zI 0), .int (zI rdg), .int (zI plc), .int (zI ibd), .int (zI stm), .ref t1, .ref t2, .ref t3, .ref c0, .ref c1, .ref c2, .ref c3, .int (zI him), .int (zI pl0), .int (zI itk), ki, .int (zI chd), .int (zI chf), .ref y0, .int (zI sd), .ref y1])), (g1, AI G 7 (fun z_ => (kd z_ : Int))), (g2, AI G 7 fg), (g3, AI G 7 hm), (g4, AI G 7 at_), (g5, AI G 7 lg)])) := by
  refine z_met (by decide) (Nat.le_of_ble_eq_true rfl) ?_
  intro X A hl0 hA C hQ hin
  subst hl0
  obtain ⟨hn7, hoa, hLj⟩ := id hL
  show Z X _ G 0 0 _ 0 [(0, .ref m), (1, .int (zI h)), (2, .int (zI what))] []
  refine z_aload_n C dX4_horse_0 rfl 0 rfl ?_
  refine y_iconst C dX4_horse_1 ?_
  refine z_put (q := 0) (kf := 14) (ws' := [(m, .inr (11, [.int (zI (n : Int)), .ref g1, .ref g2, .ref g3, .ref g4, .ref g5, .int (zI oa), .int (zI dy), .ref s1, .ref s2, .ref s3, .ref s4, .ref s5, .ref s6, .int (zI 0), .int (zI rdg), .int (zI plc), .int (zI ibd), .int (zI stm), .ref t1, .ref t2, .ref t3, .ref c0, .ref c1, .ref c2, .ref c3, .int (zI him), .int (zI pl0), .int (zI itk), ki, .int (zI chd), .int (zI chf), .ref y0, .int (zI sd), .ref y1])), (g1, AI G 7 (fun z_ => (kd z_ : Int))), (g2, AI G 7 fg), (g3, AI G 7 hm), (g4, AI G 7 at_), (g5, AI G 7 lg)]) C rfl rfl in_X4 tyX4_ok nmX4 (by decide) q1101 rfl rfl rfl rfl rfl (nlt rfl) rfl dX4_horse_2 ?_
  refine z_aload_n C dX4_horse_5 rfl 0 rfl ?_
  refine z_iload_n C dX4_horse_6 rfl 1 rfl ?_
  refine z_i C (z_runV (q := 0) (As := [.int (zI h)]) (rest := []) C (ct_X4_isHorse (zl X) G m g1 g2 g3 g4 g5 n oa dy ([.ref s1, .ref s2, .ref s3, .ref s4, .ref s5, .ref s6, .int (zI 0), .int (zI rdg), .int (zI plc), .int (zI ibd), .int (zI stm), .ref t1, .ref t2, .ref t3, .ref c0, .ref c1, .ref c2, .ref c3, .int (zI him), .int (zI pl0), .int (zI itk), ki, .int (zI chd), .int (zI chf), .ref y0, .int (zI sd), .ref y1]) h (by first | assumption | omega) (by first | assumption | omega)) (lw_V q1255 q1257 qs33 q61 q1258) rfl rfl (sb_e [0] rfl rfl) (na := 1) (by decide +kernel) rfl (zrm rfl rfl (rfl) (rfl)) rfl (Nat.le_of_ble_eq_true rfl) dX4_horse_7) (fun u => jn_ro (sb_e [0] rfl rfl)) (fun r_7 u hp_7 => ?_)
  have hp_7 : r_7 = zI (bI (0 ≤ h ∧ h ≤ (n : Int) - 1)) := hp_7
  subst hp_7
  refine y_bne (tgt := 15) C dX4_horse_10 (by decide) (fun c_10 => ?_) (fun c_10 => ?_)
  · skip
    obtain ⟨j, rfl⟩ := Int.eq_ofNat_of_zero_le (show 0 ≤ h by omega)
    refine z_iload_n C dX4_horse_15 rfl 2 rfl ?_
    rcases (by omega : (what < 0 ∨ 7 < what) ∨ what = 0 ∨ what = 1 ∨ what = 2 ∨ what = 3 ∨ what = 4 ∨ what = 5 ∨ what = 6 ∨ what = 7) with sw_16 | sw_16 | sw_16 | sw_16 | sw_16 | sw_16 | sw_16 | sw_16 | sw_16
    · skip
      refine y_tabOut (tgt := 117) C (by omega) dX4_horse_16 sw_16 (by decide) ?_
      refine y_iconst C dX4_horse_117 ?_
      exact z_iret C hA hQ rfl (Nat.le_of_ble_eq_true rfl) (Nat.le_of_ble_eq_true rfl) (()) (congrArg zI (by unfold oHorse; (try simp only [zTN]); (repeat (first | rw [if_pos (by omega)] | rw [if_neg (by omega)])))) (sb_e [0, 1, 2, 3, 4, 5] rfl rfl) dX4_horse_118
    · skip
      refine y_tabIn (off := 48) (tgt := 64) C (by omega) dX4_horse_16 (by omega) (by rw [sw_16]; rfl) (by decide) ?_
      refine z_aload_n C dX4_horse_64 rfl 0 rfl ?_
      refine z_get (q := 0) (kf := 1) (v := .ref g1) C rfl rfl in_X4 (by decide) q1088 (Or.inl rfl) rfl dX4_horse_65 ?_
      refine z_iload_n C dX4_horse_68 rfl 1 rfl ?_
      refine y_iald (q := 1) (t0 := 0) (v := (kd j : Int)) C rfl rfl (by omega) (by decide) rfl dX4_horse_69 ?_
      exact z_iret C hA hQ rfl (Nat.le_of_ble_eq_true rfl) (Nat.le_of_ble_eq_true rfl) (()) (congrArg zI (by unfold oHorse; (try simp only [zTN]); (repeat (first | rw [if_pos (by omega)] | rw [if_neg (by omega)])))) (sb_e [0, 1, 2, 3, 4, 5] rfl rfl) dX4_horse_70
    · skip
      refine y_tabIn (off := 55) (tgt := 71) C (by omega) dX4_horse_16 (by omega) (by rw [sw_16]; rfl) (by decide) ?_
      refine z_aload_n C dX4_horse_71 rfl 0 rfl ?_
      refine z_get (q := 0) (kf := 2) (v := .ref g2) C rfl rfl in_X4 (by decide) q1089 (Or.inl rfl) rfl dX4_horse_72 ?_
      refine z_iload_n C dX4_horse_75 rfl 1 rfl ?_
      refine y_iald (q := 2) (t0 := 0) (v := fg j) C rfl rfl (by omega) (by decide) rfl dX4_horse_76 ?_
      exact z_iret C hA hQ rfl (Nat.le_of_ble_eq_true rfl) (Nat.le_of_ble_eq_true rfl) (()) (congrArg zI (by unfold oHorse; (try simp only [zTN]); (repeat (first | rw [if_pos (by omega)] | rw [if_neg (by omega)])))) (sb_e [0, 1, 2, 3, 4, 5] rfl rfl) dX4_horse_77
    · skip
      refine y_tabIn (off := 62) (tgt := 78) C (by omega) dX4_horse_16 (by omega) (by rw [sw_16]; rfl) (by decide) ?_
      refine z_aload_n C dX4_horse_78 rfl 0 rfl ?_
      refine z_get (q := 0) (kf := 3) (v := .ref g3) C rfl rfl in_X4 (by decide) q1090 (Or.inl rfl) rfl dX4_horse_79 ?_
      refine z_iload_n C dX4_horse_82 rfl 1 rfl ?_
      refine y_iald (q := 3) (t0 := 0) (v := hm j) C rfl rfl (by omega) (by decide) rfl dX4_horse_83 ?_
      exact z_iret C hA hQ rfl (Nat.le_of_ble_eq_true rfl) (Nat.le_of_ble_eq_true rfl) (()) (congrArg zI (by unfold oHorse; (try simp only [zTN]); (repeat (first | rw [if_pos (by omega)] | rw [if_neg (by omega)])))) (sb_e [0, 1, 2, 3, 4, 5] rfl rfl) dX4_horse_84
    · skip
      refine y_tabIn (off := 69) (tgt := 85) C (by omega) dX4_horse_16 (by omega) (by rw [sw_16]; rfl) (by decide) ?_
      refine z_aload_n C dX4_horse_85 rfl 0 rfl ?_
      refine z_get (q := 0) (kf := 4) (v := .ref g4) C rfl rfl in_X4 (by decide) q1091 (Or.inl rfl) rfl dX4_horse_86 ?_
      refine z_iload_n C dX4_horse_89 rfl 1 rfl ?_
      refine y_iald (q := 4) (t0 := 0) (v := at_ j) C rfl rfl (by omega) (by decide) rfl dX4_horse_90 ?_
      exact z_iret C hA hQ rfl (Nat.le_of_ble_eq_true rfl) (Nat.le_of_ble_eq_true rfl) (()) (congrArg zI (by unfold oHorse; (try simp only [zTN]); (repeat (first | rw [if_pos (by omega)] | rw [if_neg (by omega)])))) (sb_e [0, 1, 2, 3, 4, 5] rfl rfl) dX4_horse_91
    · skip
      refine y_tabIn (off := 76) (tgt := 92) C (by omega) dX4_horse_16 (by omega) (by rw [sw_16]; rfl) (by decide) ?_
      refine z_aload_n C dX4_horse_92 rfl 0 rfl ?_
      refine z_get (q := 0) (kf := 5) (v := .ref g5) C rfl rfl in_X4 (by decide) q1092 (Or.inl rfl) rfl dX4_horse_93 ?_
      refine z_iload_n C dX4_horse_96 rfl 1 rfl ?_
      refine y_iald (q := 5) (t0 := 0) (v := lg j) C rfl rfl (by omega) (by decide) rfl dX4_horse_97 ?_
      exact z_iret C hA hQ rfl (Nat.le_of_ble_eq_true rfl) (Nat.le_of_ble_eq_true rfl) (()) (congrArg zI (by unfold oHorse; (try simp only [zTN]); (repeat (first | rw [if_pos (by omega)] | rw [if_neg (by omega)])))) (sb_e [0, 1, 2, 3, 4, 5] rfl rfl) dX4_horse_98
    · skip
      refine y_tabIn (off := 83) (tgt := 99) C (by omega) dX4_horse_16 (by omega) (by rw [sw_16]; rfl) (by decide) ?_
      refine z_aload_n C dX4_horse_99 rfl 0 rfl ?_
      refine z_iload_n C dX4_horse_100 rfl 1 rfl ?_
      refine z_i C (z_runV (q := 0) (As := [.int (zI (j : Int))]) (rest := []) C (ct_X4_goalOf (zl X) G m g1 g2 g3 g4 g5 kd fg hm at_ lg n oa dy ([.ref s1, .ref s2, .ref s3, .ref s4, .ref s5, .ref s6, .int (zI 0), .int (zI rdg), .int (zI plc), .int (zI ibd), .int (zI stm), .ref t1, .ref t2, .ref t3, .ref c0, .ref c1, .ref c2, .ref c3, .int (zI him), .int (zI pl0), .int (zI itk), ki, .int (zI chd), .int (zI chf), .ref y0, .int (zI sd), .ref y1]) j (by first | assumption | omega) (by first | assumption | omega)) (lw_V q1267 q1269 qs36 q61 q1270) rfl rfl (sb_e [0, 1, 2, 3, 4, 5] rfl rfl) (na := 1) (by decide +kernel) rfl (zrm rfl rfl (rfl) (rfl)) rfl (Nat.le_of_ble_eq_true rfl) dX4_horse_101) (fun u => jn_ro (sb_e [0, 1, 2, 3, 4, 5] rfl rfl)) (fun r_101 u hp_101 => ?_)
      have hp_101 : r_101 = zI (goalZ (kd j) (hm j) (at_ j) oa) := hp_101
      subst hp_101
      exact z_iret C hA hQ rfl (Nat.le_of_ble_eq_true rfl) (Nat.le_of_ble_eq_true rfl) (()) (congrArg zI (by unfold oHorse; (try simp only [zTN]); (repeat (first | rw [if_pos (by omega)] | rw [if_neg (by omega)])))) (sb_e [0, 1, 2, 3, 4, 5] rfl rfl) dX4_horse_104
    · skip
      refine y_tabIn (off := 89) (tgt := 105) C (by omega) dX4_horse_16 (by omega) (by rw [sw_16]; rfl) (by decide) ?_
      refine z_aload_n C dX4_horse_105 rfl 0 rfl ?_
      refine z_iload_n C dX4_horse_106 rfl 1 rfl ?_
      refine z_i C (z_runV (q := 0) (As := [.int (zI (j : Int))]) (rest := []) C (ct_X4_paceOf (zl X) G m g1 g2 g3 g4 g5 kd fg hm at_ lg n oa dy ([.ref s1, .ref s2, .ref s3, .ref s4, .ref s5, .ref s6, .int (zI 0), .int (zI rdg), .int (zI plc), .int (zI ibd), .int (zI stm), .ref t1, .ref t2, .ref t3, .ref c0, .ref c1, .ref c2, .ref c3, .int (zI him), .int (zI pl0), .int (zI itk), ki, .int (zI chd), .int (zI chf), .ref y0, .int (zI sd), .ref y1]) j (by first | assumption | omega) (by first | assumption | omega)) (lw_V q1274 q1276 qs37 q61 q1277) rfl rfl (sb_e [0, 1, 2, 3, 4, 5] rfl rfl) (na := 1) (by decide +kernel) rfl (zrm rfl rfl (rfl) (rfl)) rfl (Nat.le_of_ble_eq_true rfl) dX4_horse_107) (fun u => jn_ro (sb_e [0, 1, 2, 3, 4, 5] rfl rfl)) (fun r_107 u hp_107 => ?_)
      have hp_107 : r_107 = zI (paceZ (kd j) (fg j) (lg j)) := hp_107
      subst hp_107
      exact z_iret C hA hQ rfl (Nat.le_of_ble_eq_true rfl) (Nat.le_of_ble_eq_true rfl) (()) (congrArg zI (by unfold oHorse; (try simp only [zTN]); (repeat (first | rw [if_pos (by omega)] | rw [if_neg (by omega)])))) (sb_e [0, 1, 2, 3, 4, 5] rfl rfl) dX4_horse_110
    · skip
      refine y_tabIn (off := 95) (tgt := 111) C (by omega) dX4_horse_16 (by omega) (by rw [sw_16]; rfl) (by decide) ?_
      refine z_aload_n C dX4_horse_111 rfl 0 rfl ?_
      refine z_iload_n C dX4_horse_112 rfl 1 rfl ?_
      refine z_i C (z_runV (q := 0) (As := [.int (zI (j : Int))]) (rest := []) C (ct_X4_walkOf (zl X) G m g1 g2 g3 g4 g5 kd fg hm at_ lg n oa dy ([.ref s1, .ref s2, .ref s3, .ref s4, .ref s5, .ref s6, .int (zI 0), .int (zI rdg), .int (zI plc), .int (zI ibd), .int (zI stm), .ref t1, .ref t2, .ref t3, .ref c0, .ref c1, .ref c2, .ref c3, .int (zI him), .int (zI pl0), .int (zI itk), ki, .int (zI chd), .int (zI chf), .ref y0, .int (zI sd), .ref y1]) j (by first | assumption | omega) (by first | assumption | omega)) (lw_V q1281 q1283 qs38 q61 q1284) rfl rfl (sb_e [0, 1, 2, 3, 4, 5] rfl rfl) (na := 1) (by decide +kernel) rfl (zrm rfl rfl (rfl) (rfl)) rfl (Nat.le_of_ble_eq_true rfl) dX4_horse_113) (fun u => jn_ro (sb_e [0, 1, 2, 3, 4, 5] rfl rfl)) (fun r_113 u hp_113 => ?_)
      have hp_113 : r_113 = zI (walkZ (kd j)) := hp_113
      subst hp_113
      exact z_iret C hA hQ rfl (Nat.le_of_ble_eq_true rfl) (Nat.le_of_ble_eq_true rfl) (()) (congrArg zI (by unfold oHorse; (try simp only [zTN]); (repeat (first | rw [if_pos (by omega)] | rw [if_neg (by omega)])))) (sb_e [0, 1, 2, 3, 4, 5] rfl rfl) dX4_horse_116
  · skip
    refine y_iconst C dX4_horse_13 ?_
    exact z_iret C hA hQ rfl (Nat.le_of_ble_eq_true rfl) (Nat.le_of_ble_eq_true rfl) (()) (congrArg zI (by unfold oHorse; (try simp only [zTN]); (repeat (first | rw [if_pos (by omega)] | rw [if_neg (by omega)])))) (sb_e [0, 1, 2, 3, 4, 5] rfl rfl) dX4_horse_14

set_option maxHeartbeats 4000000 in
theorem ct_X4_count (l : Launch) (G : ZG) (m : Nat) (g1 : Nat) (g2 : Nat) (g3 : Nat) (g4 : Nat) (g5 : Nat) (s1 : Nat) (s2 : Nat) (s3 : Nat) (s4 : Nat) (s5 : Nat) (s6 : Nat) (t1 : Nat) (t2 : Nat) (t3 : Nat) (c0 : Nat) (c1 : Nat) (c2 : Nat) (c3 : Nat) (y0 : Nat) (y1 : Nat) (thr : Int) (rdg : Int) (plc : Int) (ibd : Int) (stm : Int) (him : Int) (pl0 : Int) (itk : Int) (chd : Int) (chf : Int) (sd : Int) (ki : Value) (kd : Nat → Nat) (fg : Nat → Int) (hm : Nat → Int) (at_ : Nat → Int) (lg : Nat → Int) (n : Nat) (oa : Int) (dy : Int) (what : Int) (hL : LK n kd fg hm at_ lg oa) (rwhat : -2147483648 ≤ what ∧ what ≤ 2147483647) : CT l yX4_count cX4_count 4 (some .int) { frames := 3, cells := 0, slots := 0, locals := 68 } G [.ref m, .int (zI what)] [(m, .inr (11, [.int (zI (n : Int)), .ref g1, .ref g2, .ref g3, .ref g4, .ref g5, .int (zI oa), .int (zI dy), .ref s1, .ref s2, .ref s3, .ref s4, .ref s5, .ref s6, .int (zI thr), .int (zI rdg), .int (zI plc), .int (zI ibd), .int (zI stm), .ref t1, .ref t2, .ref t3, .ref c0, .ref c1, .ref c2, .ref c3, .int (zI him), .int (zI pl0), .int (zI itk), ki, .int (zI chd), .int (zI chf), .ref y0, .int (zI sd), .ref y1])), (g1, AI G 7 (fun z_ => (kd z_ : Int))), (g2, AI G 7 fg), (g3, AI G 7 hm), (g4, AI G 7 at_), (g5, AI G 7 lg)] (Qi G [(m, .inr (11, [.int (zI (n : Int)), .ref g1, .ref g2, .ref g3, .ref g4, .ref g5, .int (zI oa), .int (zI dy), .ref s1, .ref s2, .ref s3, .ref s4, .ref s5, .ref s6, .int (zI thr), .int (zI rdg), .int (zI plc), .int (zI ibd), .int (zI stm), .ref t1, .ref t2, .ref t3, .ref c0, .ref c1, .ref c2, .ref c3, .int (zI him), .int (zI pl0), .int (zI itk), ki, .int (zI chd), .int (zI chf), .ref y0, .int (zI sd), .ref y1])), (g1, AI G 7 (fun z_ => (kd z_ : Int))), (g2, AI G 7 fg), (g3, AI G 7 hm), (g4, AI G 7 at_), (g5, AI G 7 lg)] (fun (r : Int32) (u : Unit) => r = zI (oCount kd fg hm at_ lg n oa dy what)) (fun u => [(m, .inr (11, [.int (zI (n : Int)), .ref g1, .ref g2, .ref g3, .ref g4, .ref g5, .int (zI oa), .int (zI dy), .ref s1, .ref s2, .ref s3, .ref s4, .ref s5, .ref s6, .int (zI 0), .int (zI rdg), .int (zI plc), .int (zI ibd), .int (zI stm), .ref t1, .ref t2, .ref t3, .ref c0, .ref c1, .ref c2, .ref c3, .int (zI him), .int (zI pl0), .int (zI itk), ki, .int (zI chd), .int (zI chf), .ref y0, .int (zI sd), .ref y1])), (g1, AI G 7 (fun z_ => (kd z_ : Int))), (g2, AI G 7 fg), (g3, AI G 7 hm), (g4, AI G 7 at_), (g5, AI G 7 lg)])) := by
  refine z_met (by decide) (Nat.le_of_ble_eq_true rfl) ?_
  intro X A hl0 hA C hQ hin
  subst hl0
  obtain ⟨hn7, hoa, hLj⟩ := id hL
  show Z X _ G 0 0 _ 0 [(0, .ref m), (1, .int (zI what))] []
  refine z_aload_n C dX4_count_0 rfl 0 rfl ?_
  refine y_iconst C dX4_count_1 ?_
  refine z_put (q := 0) (kf := 14) (ws' := [(m, .inr (11, [.int (zI (n : Int)), .ref g1, .ref g2, .ref g3, .ref g4, .ref g5, .int (zI oa), .int (zI dy), .ref s1, .ref s2, .ref s3, .ref s4, .ref s5, .ref s6, .int (zI 0), .int (zI rdg), .int (zI plc), .int (zI ibd), .int (zI stm), .ref t1, .ref t2, .ref t3, .ref c0, .ref c1, .ref c2, .ref c3, .int (zI him), .int (zI pl0), .int (zI itk), ki, .int (zI chd), .int (zI chf), .ref y0, .int (zI sd), .ref y1])), (g1, AI G 7 (fun z_ => (kd z_ : Int))), (g2, AI G 7 fg), (g3, AI G 7 hm), (g4, AI G 7 at_), (g5, AI G 7 lg)]) C rfl rfl in_X4 tyX4_ok nmX4 (by decide) q1101 rfl rfl rfl rfl rfl (nlt rfl) rfl dX4_count_2 ?_
  refine y_iconst C dX4_count_5 ?_
  refine z_istore_n (lv' := [(2, .int (zI 0)), (0, .ref m), (1, .int (zI what))]) C dX4_count_6 rfl (nlt rfl) rfl ?_
  refine z_iload_n C dX4_count_7 rfl 2 rfl ?_
  rcases (by omega : (what < 0 ∨ 5 < what) ∨ what = 0 ∨ what = 1 ∨ what = 2 ∨ what = 3 ∨ what = 4 ∨ what = 5) with sw_8 | sw_8 | sw_8 | sw_8 | sw_8 | sw_8 | sw_8
  · skip
    refine y_tabOut (tgt := 99) C (by omega) dX4_count_8 sw_8 (by decide) ?_
    refine y_iconst C dX4_count_99 ?_
    exact z_iret C hA hQ rfl (Nat.le_of_ble_eq_true rfl) (Nat.le_of_ble_eq_true rfl) (()) (congrArg zI (by unfold oCount; (repeat (first | rw [if_pos (by omega)] | rw [if_neg (by omega)])))) (sb_e [0, 1, 2, 3, 4, 5] rfl rfl) dX4_count_100
  · skip
    refine y_tabIn (off := 40) (tgt := 48) C (by omega) dX4_count_8 (by omega) (by rw [sw_8]; rfl) (by decide) ?_
    refine z_aload_n C dX4_count_48 rfl 1 rfl ?_
    refine z_get (q := 0) (kf := 0) (v := .int (zI (n : Int))) C rfl rfl in_X4 (by decide) q1087 (Or.inl rfl) rfl dX4_count_49 ?_
    exact z_iret C hA hQ rfl (Nat.le_of_ble_eq_true rfl) (Nat.le_of_ble_eq_true rfl) (()) (congrArg zI (by unfold oCount; (repeat (first | rw [if_pos (by omega)] | rw [if_neg (by omega)])))) (sb_e [0, 1, 2, 3, 4, 5] rfl rfl) dX4_count_52
  · skip
    refine y_tabIn (off := 45) (tgt := 53) C (by omega) dX4_count_8 (by omega) (by rw [sw_8]; rfl) (by decide) ?_
    refine z_aload_n C dX4_count_53 rfl 1 rfl ?_
    refine z_get (q := 0) (kf := 6) (v := .int (zI oa)) C rfl rfl in_X4 (by decide) q1093 (Or.inl rfl) rfl dX4_count_54 ?_
    exact z_iret C hA hQ rfl (Nat.le_of_ble_eq_true rfl) (Nat.le_of_ble_eq_true rfl) (()) (congrArg zI (by unfold oCount; (repeat (first | rw [if_pos (by omega)] | rw [if_neg (by omega)])))) (sb_e [0, 1, 2, 3, 4, 5] rfl rfl) dX4_count_57
  · skip
    refine y_tabIn (off := 50) (tgt := 58) C (by omega) dX4_count_8 (by omega) (by rw [sw_8]; rfl) (by decide) ?_
    refine z_aload_n C dX4_count_58 rfl 1 rfl ?_
    refine z_get (q := 0) (kf := 7) (v := .int (zI dy)) C rfl rfl in_X4 (by decide) q1094 (Or.inl rfl) rfl dX4_count_59 ?_
    exact z_iret C hA hQ rfl (Nat.le_of_ble_eq_true rfl) (Nat.le_of_ble_eq_true rfl) (()) (congrArg zI (by unfold oCount; (repeat (first | rw [if_pos (by omega)] | rw [if_neg (by omega)])))) (sb_e [0, 1, 2, 3, 4, 5] rfl rfl) dX4_count_62
  · skip
    refine y_tabIn (off := 55) (tgt := 63) C (by omega) dX4_count_8 (by omega) (by rw [sw_8]; rfl) (by decide) ?_
    refine z_aload_n C dX4_count_63 rfl 1 rfl ?_
    refine z_i C (z_runV (q := 0) (As := []) (rest := []) C (ct_X4_allLonging (zl X) G m g1 g2 g3 g4 g5 kd fg hm at_ lg n oa dy ([.ref s1, .ref s2, .ref s3, .ref s4, .ref s5, .ref s6, .int (zI 0), .int (zI rdg), .int (zI plc), .int (zI ibd), .int (zI stm), .ref t1, .ref t2, .ref t3, .ref c0, .ref c1, .ref c2, .ref c3, .int (zI him), .int (zI pl0), .int (zI itk), ki, .int (zI chd), .int (zI chf), .ref y0, .int (zI sd), .ref y1]) (by first | assumption | omega)) (lw_V q1347 q1349 qs45 q61 q1350) rfl rfl (sb_e [0, 1, 2, 3, 4, 5] rfl rfl) (na := 0) (by decide +kernel) rfl (zrm rfl rfl (rfl) (rfl)) rfl (Nat.le_of_ble_eq_true rfl) dX4_count_64) (fun u => jn_ro (sb_e [0, 1, 2, 3, 4, 5] rfl rfl)) (fun r_64 u hp_64 => ?_)
    have hp_64 : r_64 = zI (sumL lg n) := hp_64
    subst hp_64
    exact z_iret C hA hQ rfl (Nat.le_of_ble_eq_true rfl) (Nat.le_of_ble_eq_true rfl) (()) (congrArg zI (by unfold oCount; (repeat (first | rw [if_pos (by omega)] | rw [if_neg (by omega)])))) (sb_e [0, 1, 2, 3, 4, 5] rfl rfl) dX4_count_67
  · skip
    refine y_tabIn (off := 60) (tgt := 68) C (by omega) dX4_count_8 (by omega) (by rw [sw_8]; rfl) (by decide) ?_
    refine z_aload_n C dX4_count_68 rfl 1 rfl ?_
    refine z_i C (z_runV (q := 0) (As := []) (rest := []) C (ct_X4_atGoals (zl X) G m g1 g2 g3 g4 g5 kd fg hm at_ lg n oa dy ([.ref s1, .ref s2, .ref s3, .ref s4, .ref s5, .ref s6, .int (zI 0), .int (zI rdg), .int (zI plc), .int (zI ibd), .int (zI stm), .ref t1, .ref t2, .ref t3, .ref c0, .ref c1, .ref c2, .ref c3, .int (zI him), .int (zI pl0), .int (zI itk), ki, .int (zI chd), .int (zI chf), .ref y0, .int (zI sd), .ref y1]) (by first | assumption | omega)) (lw_V q1505 q1507 qs56 q61 q1508) rfl rfl (sb_e [0, 1, 2, 3, 4, 5] rfl rfl) (na := 0) (by decide +kernel) rfl (zrm rfl rfl (rfl) (rfl)) rfl (Nat.le_of_ble_eq_true rfl) dX4_count_69) (fun u => jn_ro (sb_e [0, 1, 2, 3, 4, 5] rfl rfl)) (fun r_69 u hp_69 => ?_)
    have hp_69 : r_69 = zI (manyL kd hm at_ oa n) := hp_69
    subst hp_69
    exact z_iret C hA hQ rfl (Nat.le_of_ble_eq_true rfl) (Nat.le_of_ble_eq_true rfl) (()) (congrArg zI (by unfold oCount; (repeat (first | rw [if_pos (by omega)] | rw [if_neg (by omega)])))) (sb_e [0, 1, 2, 3, 4, 5] rfl rfl) dX4_count_72
  · skip
    refine y_tabIn (off := 65) (tgt := 73) C (by omega) dX4_count_8 (by omega) (by rw [sw_8]; rfl) (by decide) ?_
    refine y_iconst C dX4_count_73 ?_
    refine z_istore_n (lv' := [(3, .int (zI 0)), (2, .int (zI 0)), (0, .ref m), (1, .int (zI what))]) C dX4_count_74 rfl (nlt rfl) rfl ?_
    have L_75 : ∀ (tt : Nat) (i : Nat), (i ≤ n) → n - i = tt → Z X (cX4_count, 4, yX4_count.cls, (some .int), { frames := 3, cells := 0, slots := 0, locals := 68 }, A) G 0 0 [(m, .inr (11, [.int (zI (n : Int)), .ref g1, .ref g2, .ref g3, .ref g4, .ref g5, .int (zI oa), .int (zI dy), .ref s1, .ref s2, .ref s3, .ref s4, .ref s5, .ref s6, .int (zI 0), .int (zI rdg), .int (zI plc), .int (zI ibd), .int (zI stm), .ref t1, .ref t2, .ref t3, .ref c0, .ref c1, .ref c2, .ref c3, .int (zI him), .int (zI pl0), .int (zI itk), ki, .int (zI chd), .int (zI chf), .ref y0, .int (zI sd), .ref y1])), (g1, AI G 7 (fun z_ => (kd z_ : Int))), (g2, AI G 7 fg), (g3, AI G 7 hm), (g4, AI G 7 at_), (g5, AI G 7 lg)] 75 [(3, .int (zI (i : Int))), (2, .int (zI (sumF (paF kd fg lg) i))), (0, .ref m)] [] := by
      intro tt
      induction tt using Nat.strongRecOn with
      | _ tt ih_75 =>
        intro i hi ht_75
        refine z_iload_n C dX4_count_75 rfl 0 rfl ?_
        refine z_aload_n C dX4_count_76 rfl 2 rfl ?_
        refine z_get (q := 0) (kf := 0) (v := .int (zI (n : Int))) C rfl rfl in_X4 (by decide) q1087 (Or.inl rfl) rfl dX4_count_77 ?_
        refine y_icmp_ge (tgt := 97) C (by omega) (by omega) dX4_count_80 (by decide) (fun c_80 => ?_) (fun c_80 => ?_)
        · skip
          rw [show (i : Nat) = n by omega]
          refine z_iload_n C dX4_count_97 rfl 1 rfl ?_
          exact z_iret C hA hQ rfl (Nat.le_of_ble_eq_true rfl) (Nat.le_of_ble_eq_true rfl) (()) (congrArg zI (by unfold oCount; (repeat (first | rw [if_pos (by omega)] | rw [if_neg (by omega)])))) (sb_e [0, 1, 2, 3, 4, 5] rfl rfl) dX4_count_98
        · skip
          refine z_iload_n C dX4_count_83 rfl 1 rfl ?_
          refine z_aload_n C dX4_count_84 rfl 2 rfl ?_
          refine z_iload_n C dX4_count_85 rfl 0 rfl ?_
          refine z_i C (z_runV (q := 0) (As := [.int (zI (i : Int))]) (rest := [.int (zI (sumF (paF kd fg lg) i))]) C (ct_X4_paceOf (zl X) G m g1 g2 g3 g4 g5 kd fg hm at_ lg n oa dy ([.ref s1, .ref s2, .ref s3, .ref s4, .ref s5, .ref s6, .int (zI 0), .int (zI rdg), .int (zI plc), .int (zI ibd), .int (zI stm), .ref t1, .ref t2, .ref t3, .ref c0, .ref c1, .ref c2, .ref c3, .int (zI him), .int (zI pl0), .int (zI itk), ki, .int (zI chd), .int (zI chf), .ref y0, .int (zI sd), .ref y1]) i (by first | assumption | omega) (by omega)) (lw_V q1274 q1276 qs37 q61 q1277) rfl rfl (sb_e [0, 1, 2, 3, 4, 5] rfl rfl) (na := 1) (by decide +kernel) rfl (zrm rfl rfl (rfl) (rfl)) rfl (Nat.le_of_ble_eq_true rfl) dX4_count_86) (fun u => jn_ro (sb_e [0, 1, 2, 3, 4, 5] rfl rfl)) (fun r_86 u hp_86 => ?_)
          have hp_86 : r_86 = zI (paceZ (kd i) (fg i) (lg i)) := hp_86
          subst hp_86
          refine y_iadd C dX4_count_89 ?_
          refine z_istore_n (lv' := [(2, .int (zI ((sumF (paF kd fg lg) i) + (paceZ (kd i) (fg i) (lg i))))), (3, .int (zI (i : Int))), (0, .ref m)]) C dX4_count_90 rfl (nlt rfl) rfl ?_
          refine y_iinc (lv' := [(3, .int (zI ((i : Int) + 1))), (2, .int (zI ((sumF (paF kd fg lg) i) + (paceZ (kd i) (fg i) (lg i))))), (0, .ref m)]) C dX4_count_91 (q := 1) rfl (nlt rfl) rfl ?_
          refine z_goto (tgt := 75) C dX4_count_94 (by decide) ?_
          rw [show sumF (paF kd fg lg) i + paceZ (kd i) (fg i) (lg i) = sumF (paF kd fg lg) (i + 1) from rfl]
          exact ih_75 _ (by omega) (i + 1) (by first | assumption | omega) rfl
    refine z_lv (lv' := [(3, .int (zI 0)), (2, .int (zI 0)), (0, .ref m)]) [0, 1, 2] rfl ?_
    exact L_75 _ 0 (by first | assumption | omega) rfl

set_option maxHeartbeats 4000000 in
theorem ct_X4_image (l : Launch) (G : ZG) (m : Nat) (g1 : Nat) (g2 : Nat) (g3 : Nat) (g4 : Nat) (g5 : Nat) (s1 : Nat) (s2 : Nat) (s3 : Nat) (s4 : Nat) (s5 : Nat) (s6 : Nat) (t1 : Nat) (t2 : Nat) (t3 : Nat) (c0 : Nat) (c1 : Nat) (c2 : Nat) (c3 : Nat) (y0 : Nat) (y1 : Nat) (thr : Int) (rdg : Int) (plc : Int) (ibd : Int) (stm : Int) (him : Int) (pl0 : Int) (itk : Int) (chd : Int) (chf : Int) (sd : Int) (ki : Value) (kd : Nat → Nat) (fg : Nat → Int) (hm : Nat → Int) (at_ : Nat → Int) (lg : Nat → Int) (n : Nat) (oa : Int) (dy : Int) (ic : Nat → Int)  : CT l yX4_image cX4_image 1 (some .int) { frames := 2, cells := 0, slots := 0, locals := 44 } G [.ref m] [(m, .inr (11, [.int (zI (n : Int)), .ref g1, .ref g2, .ref g3, .ref g4, .ref g5, .int (zI oa), .int (zI dy), .ref s1, .ref s2, .ref s3, .ref s4, .ref s5, .ref s6, .int (zI thr), .int (zI rdg), .int (zI plc), .int (zI ibd), .int (zI stm), .ref t1, .ref t2, .ref t3, .ref c0, .ref c1, .ref c2, .ref c3, .int (zI him), .int (zI pl0), .int (zI itk), ki, .int (zI chd), .int (zI chf), .ref y0, .int (zI sd), .ref y1])), (g1, AI G 7 (fun z_ => (kd z_ : Int))), (g2, AI G 7 fg), (g3, AI G 7 hm), (g4, AI G 7 at_), (g5, AI G 7 lg), (c3, AI G 38 ic)] (Qi G [(m, .inr (11, [.int (zI (n : Int)), .ref g1, .ref g2, .ref g3, .ref g4, .ref g5, .int (zI oa), .int (zI dy), .ref s1, .ref s2, .ref s3, .ref s4, .ref s5, .ref s6, .int (zI thr), .int (zI rdg), .int (zI plc), .int (zI ibd), .int (zI stm), .ref t1, .ref t2, .ref t3, .ref c0, .ref c1, .ref c2, .ref c3, .int (zI him), .int (zI pl0), .int (zI itk), ki, .int (zI chd), .int (zI chf), .ref y0, .int (zI sd), .ref y1])), (g1, AI G 7 (fun z_ => (kd z_ : Int))), (g2, AI G 7 fg), (g3, AI G 7 hm), (g4, AI G 7 at_), (g5, AI G 7 lg), (c3, AI G 38 ic)] (fun (r : Int32) (u : Unit) => r = zI dy) (fun u => [(m, .inr (11, [.int (zI (n : Int)), .ref g1, .ref g2, .ref g3, .ref g4, .ref g5, .int (zI oa), .int (zI dy), .ref s1, .ref s2, .ref s3, .ref s4, .ref s5, .ref s6, .int (zI 0), .int (zI rdg), .int (zI plc), .int (zI ibd), .int (zI stm), .ref t1, .ref t2, .ref t3, .ref c0, .ref c1, .ref c2, .ref c3, .int (zI 1), .int (zI 38), .int (zI 1), .ref c3, .int (zI chd), .int (zI chf), .ref y0, .int (zI sd), .ref y1])), (g1, AI G 7 (fun z_ => (kd z_ : Int))), (g2, AI G 7 fg), (g3, AI G 7 hm), (g4, AI G 7 at_), (g5, AI G 7 lg), (c3, AI G 38 (encF n oa dy kd fg hm at_ lg))])) := by
  refine z_met (by decide) (Nat.le_of_ble_eq_true rfl) ?_
  intro X A hl0 hA C hQ hin
  subst hl0
  show Z X _ G 0 0 _ 0 [(0, .ref m)] []
  refine z_aload_n C dX4_image_0 rfl 0 rfl ?_
  refine y_iconst C dX4_image_1 ?_
  refine z_put (q := 0) (kf := 14) (ws' := [(m, .inr (11, [.int (zI (n : Int)), .ref g1, .ref g2, .ref g3, .ref g4, .ref g5, .int (zI oa), .int (zI dy), .ref s1, .ref s2, .ref s3, .ref s4, .ref s5, .ref s6, .int (zI 0), .int (zI rdg), .int (zI plc), .int (zI ibd), .int (zI stm), .ref t1, .ref t2, .ref t3, .ref c0, .ref c1, .ref c2, .ref c3, .int (zI him), .int (zI pl0), .int (zI itk), ki, .int (zI chd), .int (zI chf), .ref y0, .int (zI sd), .ref y1])), (g1, AI G 7 (fun z_ => (kd z_ : Int))), (g2, AI G 7 fg), (g3, AI G 7 hm), (g4, AI G 7 at_), (g5, AI G 7 lg), (c3, AI G 38 ic)]) C rfl rfl in_X4 tyX4_ok nmX4 (by decide) q1101 rfl rfl rfl rfl rfl (nlt rfl) rfl dX4_image_2 ?_
  refine z_aload_n C dX4_image_5 rfl 0 rfl ?_
  refine y_iconst C dX4_image_6 ?_
  refine z_put (q := 0) (kf := 26) (ws' := [(m, .inr (11, [.int (zI (n : Int)), .ref g1, .ref g2, .ref g3, .ref g4, .ref g5, .int (zI oa), .int (zI dy), .ref s1, .ref s2, .ref s3, .ref s4, .ref s5, .ref s6, .int (zI 0), .int (zI rdg), .int (zI plc), .int (zI ibd), .int (zI stm), .ref t1, .ref t2, .ref t3, .ref c0, .ref c1, .ref c2, .ref c3, .int (zI 1), .int (zI pl0), .int (zI itk), ki, .int (zI chd), .int (zI chf), .ref y0, .int (zI sd), .ref y1])), (g1, AI G 7 (fun z_ => (kd z_ : Int))), (g2, AI G 7 fg), (g3, AI G 7 hm), (g4, AI G 7 at_), (g5, AI G 7 lg), (c3, AI G 38 ic)]) C rfl rfl in_X4 tyX4_ok nmX4 (by decide) q1113 rfl rfl rfl rfl rfl (nlt rfl) rfl dX4_image_7 ?_
  refine z_aload_n C dX4_image_10 rfl 0 rfl ?_
  refine z_aload_n C dX4_image_11 rfl 0 rfl ?_
  refine z_get (q := 0) (kf := 25) (v := .ref c3) C rfl rfl in_X4 (by decide) q1112 (Or.inl rfl) rfl dX4_image_12 ?_
  refine y_iconst C dX4_image_15 ?_
  refine z_v (ws' := fun u => [(m, .inr (11, [.int (zI (n : Int)), .ref g1, .ref g2, .ref g3, .ref g4, .ref g5, .int (zI oa), .int (zI dy), .ref s1, .ref s2, .ref s3, .ref s4, .ref s5, .ref s6, .int (zI 0), .int (zI rdg), .int (zI plc), .int (zI ibd), .int (zI stm), .ref t1, .ref t2, .ref t3, .ref c0, .ref c1, .ref c2, .ref c3, .int (zI 1), .int (zI 38), .int (zI 1), .ref c3, .int (zI chd), .int (zI chf), .ref y0, .int (zI sd), .ref y1])), (g1, AI G 7 (fun z_ => (kd z_ : Int))), (g2, AI G 7 fg), (g3, AI G 7 hm), (g4, AI G 7 at_), (g5, AI G 7 lg), (c3, AI G 38 (encF n oa dy kd fg hm at_ lg))]) C (z_runV (q := 0) (As := [.ref c3, .int (zI 1)]) (rest := []) C (ct_X4_carryAllT (zl X) G m g1 g2 g3 g4 g5 s1 s2 s3 s4 s5 s6 t1 t2 t3 c0 c1 c2 c3 y0 y1 0 rdg plc ibd stm 1 pl0 itk chd chf sd ki c3 ic kd fg hm at_ lg n oa dy ) (lw_V q1235 q1237 qs29 q61 q1238) rfl rfl (sb_e [0, 1, 2, 3, 4, 5, 6] rfl rfl) (na := 2) (by decide +kernel) rfl (zrm rfl rfl (rfl) (rfl)) rfl (Nat.le_of_ble_eq_true rfl) dX4_image_16) (fun u => jn_e (wr := []) [0, 1, 2, 3, 4, 5, 6] [] [0, 1, 2, 3, 4, 5, 6] rfl rfl rfl (by decide) rfl rfl) (fun u hp_16 => ?_)
  refine z_aload_n C dX4_image_19 rfl 0 rfl ?_
  refine z_get (q := 0) (kf := 7) (v := .int (zI dy)) C rfl rfl in_X4 (by decide) q1094 (Or.inl rfl) rfl dX4_image_20 ?_
  exact z_iret C hA hQ rfl (Nat.le_of_ble_eq_true rfl) (Nat.le_of_ble_eq_true rfl) (()) (rfl) (sb_e [0, 1, 2, 3, 4, 5, 6] rfl rfl) dX4_image_23

set_option maxHeartbeats 4000000 in
theorem ct_X4_restore (l : Launch) (G : ZG) (m : Nat) (g1 : Nat) (g2 : Nat) (g3 : Nat) (g4 : Nat) (g5 : Nat) (s1 : Nat) (s2 : Nat) (s3 : Nat) (s4 : Nat) (s5 : Nat) (s6 : Nat) (t1 : Nat) (t2 : Nat) (t3 : Nat) (c0 : Nat) (c1 : Nat) (c2 : Nat) (c3 : Nat) (y0 : Nat) (y1 : Nat) (thr : Int) (rdg : Int) (plc : Int) (ibd : Int) (stm : Int) (him : Int) (pl0 : Int) (itk : Int) (chd : Int) (chf : Int) (sd : Int) (ki : Value) (kd : Nat → Nat) (fg : Nat → Int) (hm : Nat → Int) (at_ : Nat → Int) (lg : Nat → Int) (n : Nat) (oa : Int) (dy : Int) (kkd : Nat → Nat) (kfg : Nat → Int) (khm : Nat → Int) (kat : Nat → Int) (klg : Nat → Int) (kn : Nat) (koa : Int) (kdy : Int) (hhi : 0 ≤ him ∧ him ≤ 1) : CT l yX4_restore cX4_restore 1 (some .int) { frames := 2, cells := 0, slots := 0, locals := 44 } G [.ref m] [(m, .inr (11, [.int (zI (n : Int)), .ref g1, .ref g2, .ref g3, .ref g4, .ref g5, .int (zI oa), .int (zI dy), .ref s1, .ref s2, .ref s3, .ref s4, .ref s5, .ref s6, .int (zI thr), .int (zI rdg), .int (zI plc), .int (zI ibd), .int (zI stm), .ref t1, .ref t2, .ref t3, .ref c0, .ref c1, .ref c2, .ref c3, .int (zI him), .int (zI pl0), .int (zI itk), ki, .int (zI chd), .int (zI chf), .ref y0, .int (zI sd), .ref y1])), (g1, AI G 7 (fun z_ => (kd z_ : Int))), (g2, AI G 7 fg), (g3, AI G 7 hm), (g4, AI G 7 at_), (g5, AI G 7 lg), (c3, AI G 38 (encF kn koa kdy kkd kfg khm kat klg))] (Qi G [(m, .inr (11, [.int (zI (n : Int)), .ref g1, .ref g2, .ref g3, .ref g4, .ref g5, .int (zI oa), .int (zI dy), .ref s1, .ref s2, .ref s3, .ref s4, .ref s5, .ref s6, .int (zI thr), .int (zI rdg), .int (zI plc), .int (zI ibd), .int (zI stm), .ref t1, .ref t2, .ref t3, .ref c0, .ref c1, .ref c2, .ref c3, .int (zI him), .int (zI pl0), .int (zI itk), ki, .int (zI chd), .int (zI chf), .ref y0, .int (zI sd), .ref y1])), (g1, AI G 7 (fun z_ => (kd z_ : Int))), (g2, AI G 7 fg), (g3, AI G 7 hm), (g4, AI G 7 at_), (g5, AI G 7 lg), (c3, AI G 38 (encF kn koa kdy kkd kfg khm kat klg))] (fun (r : Int32) (u : Value × Int × Int) => r = zI (if him = 0 then -3 else kdy)) (fun u => [(m, .inr (11, [.int (zI (((if him = 0 then n else kn) : Nat) : Int)), .ref g1, .ref g2, .ref g3, .ref g4, .ref g5, .int (zI (if him = 0 then oa else koa)), .int (zI (if him = 0 then dy else kdy)), .ref s1, .ref s2, .ref s3, .ref s4, .ref s5, .ref s6, .int (zI 0), .int (zI rdg), .int (zI plc), .int (zI ibd), .int (zI stm), .ref t1, .ref t2, .ref t3, .ref c0, .ref c1, .ref c2, .ref c3, .int (zI him), .int (zI u.2.1), .int (zI u.2.2), u.1, .int (zI chd), .int (zI chf), .ref y0, .int (zI sd), .ref y1])), (g1, AI G 7 (fun z_ => ((if him = 0 then kd else kkd) z_ : Int))), (g2, AI G 7 (if him = 0 then fg else kfg)), (g3, AI G 7 (if him = 0 then hm else khm)), (g4, AI G 7 (if him = 0 then at_ else kat)), (g5, AI G 7 (if him = 0 then lg else klg)), (c3, AI G 38 (encF kn koa kdy kkd kfg khm kat klg))])) := by
  refine z_met (by decide) (Nat.le_of_ble_eq_true rfl) ?_
  intro X A hl0 hA C hQ hin
  subst hl0
  show Z X _ G 0 0 _ 0 [(0, .ref m)] []
  refine z_aload_n C dX4_restore_0 rfl 0 rfl ?_
  refine y_iconst C dX4_restore_1 ?_
  refine z_put (q := 0) (kf := 14) (ws' := [(m, .inr (11, [.int (zI (n : Int)), .ref g1, .ref g2, .ref g3, .ref g4, .ref g5, .int (zI oa), .int (zI dy), .ref s1, .ref s2, .ref s3, .ref s4, .ref s5, .ref s6, .int (zI 0), .int (zI rdg), .int (zI plc), .int (zI ibd), .int (zI stm), .ref t1, .ref t2, .ref t3, .ref c0, .ref c1, .ref c2, .ref c3, .int (zI him), .int (zI pl0), .int (zI itk), ki, .int (zI chd), .int (zI chf), .ref y0, .int (zI sd), .ref y1])), (g1, AI G 7 (fun z_ => (kd z_ : Int))), (g2, AI G 7 fg), (g3, AI G 7 hm), (g4, AI G 7 at_), (g5, AI G 7 lg), (c3, AI G 38 (encF kn koa kdy kkd kfg khm kat klg))]) C rfl rfl in_X4 tyX4_ok nmX4 (by decide) q1101 rfl rfl rfl rfl rfl (nlt rfl) rfl dX4_restore_2 ?_
  refine z_aload_n C dX4_restore_5 rfl 0 rfl ?_
  refine z_get (q := 0) (kf := 26) (v := .int (zI him)) C rfl rfl in_X4 (by decide) q1113 (Or.inl rfl) rfl dX4_restore_6 ?_
  refine y_if_ne (tgt := 15) C (by omega) dX4_restore_9 (by decide) (fun c_9 => ?_) (fun c_9 => ?_)
  · skip
    refine z_aload_n C dX4_restore_15 rfl 0 rfl ?_
    refine z_aload_n C dX4_restore_16 rfl 0 rfl ?_
    refine z_get (q := 0) (kf := 25) (v := .ref c3) C rfl rfl in_X4 (by decide) q1112 (Or.inl rfl) rfl dX4_restore_17 ?_
    refine y_iconst C dX4_restore_20 ?_
    refine z_v (ws' := fun u => [(m, .inr (11, [.int (zI (kn : Int)), .ref g1, .ref g2, .ref g3, .ref g4, .ref g5, .int (zI koa), .int (zI kdy), .ref s1, .ref s2, .ref s3, .ref s4, .ref s5, .ref s6, .int (zI 0), .int (zI rdg), .int (zI plc), .int (zI ibd), .int (zI stm), .ref t1, .ref t2, .ref t3, .ref c0, .ref c1, .ref c2, .ref c3, .int (zI him), .int (zI 38), .int (zI 0), .ref c3, .int (zI chd), .int (zI chf), .ref y0, .int (zI sd), .ref y1])), (g1, AI G 7 (fun z_ => (kkd z_ : Int))), (g2, AI G 7 kfg), (g3, AI G 7 khm), (g4, AI G 7 kat), (g5, AI G 7 klg), (c3, AI G 38 (encF kn koa kdy kkd kfg khm kat klg))]) C (z_runV (q := 0) (As := [.ref c3, .int (zI 0)]) (rest := []) C (ct_X4_carryAllR (zl X) G m g1 g2 g3 g4 g5 s1 s2 s3 s4 s5 s6 t1 t2 t3 c0 c1 c2 c3 y0 y1 0 rdg plc ibd stm him pl0 itk chd chf sd ki c3 (fun z_ => (kd z_ : Int)) fg hm at_ lg n oa dy kkd kfg khm kat klg kn koa kdy ) (lw_V q1235 q1237 qs29 q61 q1238) rfl rfl (sb_e [0, 1, 2, 3, 4, 5, 6] rfl rfl) (na := 2) (by decide +kernel) rfl (zrm rfl rfl (rfl) (rfl)) rfl (Nat.le_of_ble_eq_true rfl) dX4_restore_21) (fun u => jn_e (wr := []) [0, 1, 2, 3, 4, 5, 6] [] [0, 1, 2, 3, 4, 5, 6] rfl rfl rfl (by decide) rfl rfl) (fun u hp_21 => ?_)
    refine z_aload_n C dX4_restore_24 rfl 0 rfl ?_
    refine z_get (q := 0) (kf := 7) (v := .int (zI kdy)) C rfl rfl in_X4 (by decide) q1094 (Or.inl rfl) rfl dX4_restore_25 ?_
    refine z_wsEq (ws' := [(m, .inr (11, [.int (zI (((if him = 0 then n else kn) : Nat) : Int)), .ref g1, .ref g2, .ref g3, .ref g4, .ref g5, .int (zI (if him = 0 then oa else koa)), .int (zI (if him = 0 then dy else kdy)), .ref s1, .ref s2, .ref s3, .ref s4, .ref s5, .ref s6, .int (zI 0), .int (zI rdg), .int (zI plc), .int (zI ibd), .int (zI stm), .ref t1, .ref t2, .ref t3, .ref c0, .ref c1, .ref c2, .ref c3, .int (zI him), .int (zI 38), .int (zI 0), .ref c3, .int (zI chd), .int (zI chf), .ref y0, .int (zI sd), .ref y1])), (g1, AI G 7 (fun z_ => ((if him = 0 then kd else kkd) z_ : Int))), (g2, AI G 7 (if him = 0 then fg else kfg)), (g3, AI G 7 (if him = 0 then hm else khm)), (g4, AI G 7 (if him = 0 then at_ else kat)), (g5, AI G 7 (if him = 0 then lg else klg)), (c3, AI G 38 (encF kn koa kdy kkd kfg khm kat klg))]) (by simp only [if_neg c_9]) ?_
    exact z_iret C hA hQ rfl (Nat.le_of_ble_eq_true rfl) (Nat.le_of_ble_eq_true rfl) (((.ref c3), 38, 0)) (congrArg zI (by rw [if_neg c_9])) (sb_e [0, 1, 2, 3, 4, 5, 6] rfl rfl) dX4_restore_28
  · skip
    refine y_bipush C dX4_restore_12 (by decide) ?_
    refine z_wsEq (ws' := [(m, .inr (11, [.int (zI (((if him = 0 then n else kn) : Nat) : Int)), .ref g1, .ref g2, .ref g3, .ref g4, .ref g5, .int (zI (if him = 0 then oa else koa)), .int (zI (if him = 0 then dy else kdy)), .ref s1, .ref s2, .ref s3, .ref s4, .ref s5, .ref s6, .int (zI 0), .int (zI rdg), .int (zI plc), .int (zI ibd), .int (zI stm), .ref t1, .ref t2, .ref t3, .ref c0, .ref c1, .ref c2, .ref c3, .int (zI him), .int (zI pl0), .int (zI itk), ki, .int (zI chd), .int (zI chf), .ref y0, .int (zI sd), .ref y1])), (g1, AI G 7 (fun z_ => ((if him = 0 then kd else kkd) z_ : Int))), (g2, AI G 7 (if him = 0 then fg else kfg)), (g3, AI G 7 (if him = 0 then hm else khm)), (g4, AI G 7 (if him = 0 then at_ else kat)), (g5, AI G 7 (if him = 0 then lg else klg)), (c3, AI G 38 (encF kn koa kdy kkd kfg khm kat klg))]) (by simp only [if_pos c_9]) ?_
    exact z_iret C hA hQ rfl (Nat.le_of_ble_eq_true rfl) (Nat.le_of_ble_eq_true rfl) ((ki, pl0, itk)) (congrArg zI (by rw [if_pos c_9])) (sb_e [0, 1, 2, 3, 4, 5, 6] rfl rfl) dX4_restore_14

