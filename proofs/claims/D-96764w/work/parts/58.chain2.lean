/-! CHAIN, 2: the model -/
set_option maxRecDepth 100000
set_option maxHeartbeats 4000000 in
theorem ct_X4_thirdRides (l : Launch) (G : ZG) (m : Nat) (g1 : Nat) (g2 : Nat) (g3 : Nat) (g4 : Nat) (g5 : Nat) (s1 : Nat) (s2 : Nat) (s3 : Nat) (s4 : Nat) (s5 : Nat) (s6 : Nat) (t1 : Nat) (t2 : Nat) (t3 : Nat) (c0 : Nat) (c1 : Nat) (c2 : Nat) (c3 : Nat) (y0 : Nat) (y1 : Nat) (thr : Int) (rdg : Int) (plc : Int) (ibd : Int) (stm : Int) (him : Int) (pl0 : Int) (itk : Int) (chd : Int) (chf : Int) (sd : Int) (ki : Value) (kd : Nat → Nat) (fg : Nat → Int) (hm : Nat → Int) (at_ : Nat → Int) (lg : Nat → Int) (n : Nat) (oa : Int) (dy : Int) (kb : Nat → Int) (fY : Int) (tY : Int) (bf : Int) (ja : Nat) (jb : Nat) (hL : LK n kd fg hm at_ lg oa) (hfy : -2147483648 ≤ fY ∧ fY ≤ 2147483647) (hty : 0 ≤ tY ∧ tY ≤ 20) (hft : ¬ fY = tY) (hbf : 0 ≤ bf ∧ bf ≤ 40) (hja : ja ≤ 7) (hjb : jb ≤ 7) (hs : CI (chd, chf)) : CT l yX4_thirdRides cX4_thirdRides 7 none { frames := 6, cells := 0, slots := 0, locals := 141 } G [.ref m, .int (zI fY), .int (zI tY), .int (zI bf), .int (zI (ja : Int)), .int (zI (jb : Int))] [(m, .inr (11, [.int (zI (n : Int)), .ref g1, .ref g2, .ref g3, .ref g4, .ref g5, .int (zI oa), .int (zI dy), .ref s1, .ref s2, .ref s3, .ref s4, .ref s5, .ref s6, .int (zI thr), .int (zI rdg), .int (zI plc), .int (zI ibd), .int (zI stm), .ref t1, .ref t2, .ref t3, .ref c0, .ref c1, .ref c2, .ref c3, .int (zI him), .int (zI pl0), .int (zI itk), ki, .int (zI chd), .int (zI chf), .ref y0, .int (zI sd), .ref y1])), (g1, AI G 7 (fun z_ => (kd z_ : Int))), (g2, AI G 7 fg), (g3, AI G 7 hm), (g4, AI G 7 at_), (g5, AI G 7 lg), (c2, AI G 38 kb)] (Qv G [(m, .inr (11, [.int (zI (n : Int)), .ref g1, .ref g2, .ref g3, .ref g4, .ref g5, .int (zI oa), .int (zI dy), .ref s1, .ref s2, .ref s3, .ref s4, .ref s5, .ref s6, .int (zI thr), .int (zI rdg), .int (zI plc), .int (zI ibd), .int (zI stm), .ref t1, .ref t2, .ref t3, .ref c0, .ref c1, .ref c2, .ref c3, .int (zI him), .int (zI pl0), .int (zI itk), ki, .int (zI chd), .int (zI chf), .ref y0, .int (zI sd), .ref y1])), (g1, AI G 7 (fun z_ => (kd z_ : Int))), (g2, AI G 7 fg), (g3, AI G 7 hm), (g4, AI G 7 at_), (g5, AI G 7 lg), (c2, AI G 38 kb)] (fun (u : Value × Int × Int × (Nat → Int)) => True) (fun u => [(m, .inr (11, [.int (zI (n : Int)), .ref g1, .ref g2, .ref g3, .ref g4, .ref g5, .int (zI oa), .int (zI dy), .ref s1, .ref s2, .ref s3, .ref s4, .ref s5, .ref s6, .int (zI thr), .int (zI rdg), .int (zI plc), .int (zI ibd), .int (zI stm), .ref t1, .ref t2, .ref t3, .ref c0, .ref c1, .ref c2, .ref c3, .int (zI him), .int (zI u.2.1), .int (zI u.2.2.1), u.1, .int (zI ((foldN (thG kd fg hm n oa tY (0 ||| 1 <<< ja ||| 1 <<< jb) at_ lg fY bf (ja : Int)) n (chd, chf)).1)), .int (zI ((foldN (thG kd fg hm n oa tY (0 ||| 1 <<< ja ||| 1 <<< jb) at_ lg fY bf (ja : Int)) n (chd, chf)).2)), .ref y0, .int (zI sd), .ref y1])), (g1, AI G 7 (fun z_ => (kd z_ : Int))), (g2, AI G 7 fg), (g3, AI G 7 hm), (g4, AI G 7 at_), (g5, AI G 7 lg), (c2, AI G 38 u.2.2.2)])) := by
  refine z_met (by decide) (Nat.le_of_ble_eq_true rfl) ?_
  intro X A hl0 hA C hQ hin
  subst hl0
  obtain ⟨hn7, hoa, hLj⟩ := id hL
  show Z X _ G 0 0 _ 0 [(0, .ref m), (1, .int (zI fY)), (2, .int (zI tY)), (3, .int (zI bf)), (4, .int (zI (ja : Int))), (5, .int (zI (jb : Int)))] []
  refine y_iconst C dX4_thirdRides_0 ?_
  refine z_istore (lv' := [(6, .int (zI 0)), (0, .ref m), (1, .int (zI fY)), (2, .int (zI tY)), (3, .int (zI bf)), (4, .int (zI (ja : Int))), (5, .int (zI (jb : Int)))]) C dX4_thirdRides_1 (nlt rfl) rfl ?_
  have L_3 : ∀ (tt : Nat) (c : Nat) (v1 : Int) (v2 : Int) (pl1 : Int) (itk1 : Int) (ki1 : Value) (kb1 : Nat → Int), (c ≤ n) → (foldN (thG kd fg hm n oa tY (0 ||| 1 <<< ja ||| 1 <<< jb) at_ lg fY bf (ja : Int)) c (chd, chf) = (v1, v2)) → n - c = tt → Z X (cX4_thirdRides, 7, yX4_thirdRides.cls, none, { frames := 6, cells := 0, slots := 0, locals := 141 }, A) G 0 0 [(m, .inr (11, [.int (zI (n : Int)), .ref g1, .ref g2, .ref g3, .ref g4, .ref g5, .int (zI oa), .int (zI dy), .ref s1, .ref s2, .ref s3, .ref s4, .ref s5, .ref s6, .int (zI thr), .int (zI rdg), .int (zI plc), .int (zI ibd), .int (zI stm), .ref t1, .ref t2, .ref t3, .ref c0, .ref c1, .ref c2, .ref c3, .int (zI him), .int (zI pl1), .int (zI itk1), ki1, .int (zI v1), .int (zI v2), .ref y0, .int (zI sd), .ref y1])), (g1, AI G 7 (fun z_ => (kd z_ : Int))), (g2, AI G 7 fg), (g3, AI G 7 hm), (g4, AI G 7 at_), (g5, AI G 7 lg), (c2, AI G 38 kb1)] 3 [(6, .int (zI (c : Int))), (0, .ref m), (1, .int (zI fY)), (2, .int (zI tY)), (3, .int (zI bf)), (4, .int (zI (ja : Int))), (5, .int (zI (jb : Int)))] [] := by
    intro tt
    induction tt using Nat.strongRecOn with
    | _ tt ih_3 =>
      intro c v1 v2 pl1 itk1 ki1 kb1 hc hst ht_3
      have hci : CI (v1, v2) := hst ▸ (thG_ci hs (by omega) (by omega) (by omega))
      have hcb := CI_b hci
      refine z_iload C dX4_thirdRides_3 0 rfl ?_
      refine z_aload_n C dX4_thirdRides_5 rfl 1 rfl ?_
      refine z_get (q := 0) (kf := 0) (v := .int (zI (n : Int))) C rfl rfl in_X4 (by decide) q1087 (Or.inl rfl) rfl dX4_thirdRides_6 ?_
      refine y_icmp_ge (tgt := 76) C (by omega) (by omega) dX4_thirdRides_9 (by decide) (fun c_9 => ?_) (fun c_9 => ?_)
      · skip
        rw [show c = n by omega] at hst
        refine z_wsEq (ws' := [(m, .inr (11, [.int (zI (n : Int)), .ref g1, .ref g2, .ref g3, .ref g4, .ref g5, .int (zI oa), .int (zI dy), .ref s1, .ref s2, .ref s3, .ref s4, .ref s5, .ref s6, .int (zI thr), .int (zI rdg), .int (zI plc), .int (zI ibd), .int (zI stm), .ref t1, .ref t2, .ref t3, .ref c0, .ref c1, .ref c2, .ref c3, .int (zI him), .int (zI pl1), .int (zI itk1), ki1, .int (zI ((foldN (thG kd fg hm n oa tY (0 ||| 1 <<< ja ||| 1 <<< jb) at_ lg fY bf (ja : Int)) n (chd, chf)).1)), .int (zI ((foldN (thG kd fg hm n oa tY (0 ||| 1 <<< ja ||| 1 <<< jb) at_ lg fY bf (ja : Int)) n (chd, chf)).2)), .ref y0, .int (zI sd), .ref y1])), (g1, AI G 7 (fun z_ => (kd z_ : Int))), (g2, AI G 7 fg), (g3, AI G 7 hm), (g4, AI G 7 at_), (g5, AI G 7 lg), (c2, AI G 38 kb1)]) (by rw [hst]) ?_
        exact z_vret C hA hQ rfl (Nat.le_of_ble_eq_true rfl) (Nat.le_of_ble_eq_true rfl) ((ki1, pl1, itk1, kb1)) (trivial) (sb_e [0, 1, 2, 3, 4, 5, 6] rfl rfl) dX4_thirdRides_76
      · skip
        refine z_iload C dX4_thirdRides_12 0 rfl ?_
        refine z_iload C dX4_thirdRides_14 5 rfl ?_
        refine y_icmp_eq (tgt := 70) C (by omega) (by omega) dX4_thirdRides_16 (by decide) (fun c_16 => ?_) (fun c_16 => ?_)
        · skip
          refine y_iinc (lv' := [(6, .int (zI ((c : Int) + 1))), (0, .ref m), (1, .int (zI fY)), (2, .int (zI tY)), (3, .int (zI bf)), (4, .int (zI (ja : Int))), (5, .int (zI (jb : Int)))]) C dX4_thirdRides_70 (q := 0) rfl (nlt rfl) rfl ?_
          refine z_goto (tgt := 3) C dX4_thirdRides_73 (by decide) ?_
          exact ih_3 _ (by omega) (c + 1) v1 v2 pl1 itk1 ki1 kb1 (by first | assumption | omega) (by
            show (thG kd fg hm n oa tY (0 ||| 1 <<< ja ||| 1 <<< jb) at_ lg fY bf (ja : Int)) c (foldN (thG kd fg hm n oa tY (0 ||| 1 <<< ja ||| 1 <<< jb) at_ lg fY bf (ja : Int)) c (chd, chf)) = _
            rw [hst]
            first
            | exact thG_f (fun z => by have z1 := tb2.mp z.1; have z2 := z.2; omega)
            | exact thG_t (tb2.mpr ⟨by omega, by omega⟩) (by omega)) rfl
        · skip
          refine z_iload C dX4_thirdRides_19 0 rfl ?_
          refine z_iload C dX4_thirdRides_21 6 rfl ?_
          refine y_icmp_eq (tgt := 70) C (by omega) (by omega) dX4_thirdRides_23 (by decide) (fun c_23 => ?_) (fun c_23 => ?_)
          · skip
            refine y_iinc (lv' := [(6, .int (zI ((c : Int) + 1))), (0, .ref m), (1, .int (zI fY)), (2, .int (zI tY)), (3, .int (zI bf)), (4, .int (zI (ja : Int))), (5, .int (zI (jb : Int)))]) C dX4_thirdRides_70 (q := 0) rfl (nlt rfl) rfl ?_
            refine z_goto (tgt := 3) C dX4_thirdRides_73 (by decide) ?_
            exact ih_3 _ (by omega) (c + 1) v1 v2 pl1 itk1 ki1 kb1 (by first | assumption | omega) (by
              show (thG kd fg hm n oa tY (0 ||| 1 <<< ja ||| 1 <<< jb) at_ lg fY bf (ja : Int)) c (foldN (thG kd fg hm n oa tY (0 ||| 1 <<< ja ||| 1 <<< jb) at_ lg fY bf (ja : Int)) c (chd, chf)) = _
              rw [hst]
              first
              | exact thG_f (fun z => by have z1 := tb2.mp z.1; have z2 := z.2; omega)
              | exact thG_t (tb2.mpr ⟨by omega, by omega⟩) (by omega)) rfl
          · skip
            have hac := (hLj c (by omega)).2.2.2.1
            refine z_aload_n C dX4_thirdRides_26 rfl 1 rfl ?_
            refine z_get (q := 0) (kf := 4) (v := .ref g4) C rfl rfl in_X4 (by decide) q1091 (Or.inl rfl) rfl dX4_thirdRides_27 ?_
            refine z_iload C dX4_thirdRides_30 0 rfl ?_
            refine y_iald (q := 4) (t0 := 0) (v := at_ c) C rfl rfl (by omega) (by decide) rfl dX4_thirdRides_32 ?_
            refine z_iload_n C dX4_thirdRides_33 rfl 2 rfl ?_
            refine y_icmp_ne (tgt := 70) C (by omega) (by omega) dX4_thirdRides_34 (by decide) (fun c_34 => ?_) (fun c_34 => ?_)
            · skip
              refine y_iinc (lv' := [(6, .int (zI ((c : Int) + 1))), (0, .ref m), (1, .int (zI fY)), (2, .int (zI tY)), (3, .int (zI bf)), (4, .int (zI (ja : Int))), (5, .int (zI (jb : Int)))]) C dX4_thirdRides_70 (q := 0) rfl (nlt rfl) rfl ?_
              refine z_goto (tgt := 3) C dX4_thirdRides_73 (by decide) ?_
              exact ih_3 _ (by omega) (c + 1) v1 v2 pl1 itk1 ki1 kb1 (by first | assumption | omega) (by
                show (thG kd fg hm n oa tY (0 ||| 1 <<< ja ||| 1 <<< jb) at_ lg fY bf (ja : Int)) c (foldN (thG kd fg hm n oa tY (0 ||| 1 <<< ja ||| 1 <<< jb) at_ lg fY bf (ja : Int)) c (chd, chf)) = _
                rw [hst]
                first
                | exact thG_f (fun z => by have z1 := tb2.mp z.1; have z2 := z.2; omega)
                | exact thG_t (tb2.mpr ⟨by omega, by omega⟩) (by omega)) rfl
            · skip
              refine z_aload_n C dX4_thirdRides_37 rfl 1 rfl ?_
              refine z_aload_n C dX4_thirdRides_38 rfl 1 rfl ?_
              refine z_get (q := 0) (kf := 24) (v := .ref c2) C rfl rfl in_X4 (by decide) q1111 (Or.inl rfl) rfl dX4_thirdRides_39 ?_
              refine y_iconst C dX4_thirdRides_42 ?_
              refine z_v (ws' := fun u => [(m, .inr (11, [.int (zI (n : Int)), .ref g1, .ref g2, .ref g3, .ref g4, .ref g5, .int (zI oa), .int (zI dy), .ref s1, .ref s2, .ref s3, .ref s4, .ref s5, .ref s6, .int (zI thr), .int (zI rdg), .int (zI plc), .int (zI ibd), .int (zI stm), .ref t1, .ref t2, .ref t3, .ref c0, .ref c1, .ref c2, .ref c3, .int (zI him), .int (zI 38), .int (zI 1), .ref c2, .int (zI v1), .int (zI v2), .ref y0, .int (zI sd), .ref y1])), (g1, AI G 7 (fun z_ => (kd z_ : Int))), (g2, AI G 7 fg), (g3, AI G 7 hm), (g4, AI G 7 at_), (g5, AI G 7 lg), (c2, AI G 38 (encF n oa dy kd fg hm at_ lg))]) C (z_runV (q := 0) (As := [.ref c2, .int (zI 1)]) (rest := []) C (ct_X4_carryAllT (zl X) G m g1 g2 g3 g4 g5 s1 s2 s3 s4 s5 s6 t1 t2 t3 c0 c1 c2 c3 y0 y1 thr rdg plc ibd stm him pl1 itk1 v1 v2 sd ki1 c2 kb1 kd fg hm at_ lg n oa dy ) (lw_V q1235 q1237 qs29 q61 q1238) rfl rfl (sb_e [0, 1, 2, 3, 4, 5, 6] rfl rfl) (na := 2) (by decide +kernel) rfl (zrm rfl rfl (rfl) (rfl)) rfl (Nat.le_of_ble_eq_true rfl) dX4_thirdRides_43) (fun u => jn_e (wr := []) [0, 1, 2, 3, 4, 5, 6] [] [0, 1, 2, 3, 4, 5, 6] rfl rfl rfl (by decide) rfl rfl) (fun u hp_43 => ?_)
              refine z_aload_n C dX4_thirdRides_46 rfl 1 rfl ?_
              refine z_iload_n C dX4_thirdRides_47 rfl 4 rfl ?_
              refine z_aload_n C dX4_thirdRides_48 rfl 1 rfl ?_
              refine z_iload C dX4_thirdRides_49 0 rfl ?_
              refine z_iload_n C dX4_thirdRides_51 rfl 3 rfl ?_
              refine z_i (ws' := fun u => [(m, .inr (11, [.int (zI (n : Int)), .ref g1, .ref g2, .ref g3, .ref g4, .ref g5, .int (zI oa), .int (zI (dy + ((rdN kd fg hm oa n c tY at_ lg) : Int))), .ref s1, .ref s2, .ref s3, .ref s4, .ref s5, .ref s6, .int (zI thr), .int (zI rdg), .int (zI plc), .int (zI ibd), .int (zI stm), .ref t1, .ref t2, .ref t3, .ref c0, .ref c1, .ref c2, .ref c3, .int (zI him), .int (zI 38), .int (zI 1), .ref c2, .int (zI v1), .int (zI v2), .ref y0, .int (zI sd), .ref y1])), (g1, AI G 7 (fun z_ => (kd z_ : Int))), (g2, AI G 7 fg), (g3, AI G 7 hm), (g4, AI G 7 (rdA kd fg hm oa n c tY at_ lg)), (g5, AI G 7 (rdL kd fg hm oa n c tY at_ lg)), (c2, AI G 38 (encF n oa dy kd fg hm at_ lg))]) C (z_runV (q := 0) (As := [.int (zI (c : Int)), .int (zI tY)]) (rest := [.int (zI bf), .ref m]) C (ct_X4_ride (zl X) G m g1 g2 g3 g4 g5 kd fg hm at_ lg n oa dy ([.ref s1, .ref s2, .ref s3, .ref s4, .ref s5, .ref s6, .int (zI thr), .int (zI rdg), .int (zI plc), .int (zI ibd), .int (zI stm), .ref t1, .ref t2, .ref t3, .ref c0, .ref c1, .ref c2, .ref c3, .int (zI him), .int (zI 38), .int (zI 1), .ref c2, .int (zI v1), .int (zI v2), .ref y0, .int (zI sd), .ref y1]) c tY (by first | assumption | omega) (by omega) (by first | assumption | omega)) (lw_V q1259 q1261 qs34 q61 q1262) rfl rfl (sb_e [0, 1, 2, 3, 4, 5] rfl rfl) (na := 2) (by decide +kernel) rfl (zrm rfl rfl (rfl) (rfl)) rfl (Nat.le_of_ble_eq_true rfl) dX4_thirdRides_52) (fun u => jn_e (wr := [(c2, AI G 38 (encF n oa dy kd fg hm at_ lg))]) [0, 1, 2, 3, 4, 5] [6] [1, 2, 3, 4, 5, 6, 0] rfl rfl rfl (by decide) rfl rfl) (fun r_52 u hp_52 => ?_)
              have hp_52 : r_52 = zI ((rdN kd fg hm oa n c tY at_ lg) : Int) := hp_52
              subst hp_52
              have hrn := rdN_le kd fg hm oa n c tY at_ lg
              refine y_iadd C dX4_thirdRides_55 ?_
              refine z_iload C dX4_thirdRides_56 5 rfl ?_
              refine z_v (ws' := fun u => [(m, .inr (11, [.int (zI (n : Int)), .ref g1, .ref g2, .ref g3, .ref g4, .ref g5, .int (zI oa), .int (zI (dy + ((rdN kd fg hm oa n c tY at_ lg) : Int))), .ref s1, .ref s2, .ref s3, .ref s4, .ref s5, .ref s6, .int (zI thr), .int (zI rdg), .int (zI plc), .int (zI ibd), .int (zI stm), .ref t1, .ref t2, .ref t3, .ref c0, .ref c1, .ref c2, .ref c3, .int (zI him), .int (zI 38), .int (zI 1), .ref c2, .int (zI ((tkC (v1, v2) (bf + ((rdN kd fg hm oa n c tY at_ lg) : Int)) (ja : Int)).1)), .int (zI ((tkC (v1, v2) (bf + ((rdN kd fg hm oa n c tY at_ lg) : Int)) (ja : Int)).2)), .ref y0, .int (zI sd), .ref y1])), (g1, AI G 7 (fun z_ => (kd z_ : Int))), (g2, AI G 7 fg), (g3, AI G 7 hm), (g4, AI G 7 (rdA kd fg hm oa n c tY at_ lg)), (g5, AI G 7 (rdL kd fg hm oa n c tY at_ lg)), (c2, AI G 38 (encF n oa dy kd fg hm at_ lg))]) C (z_runV (q := 0) (As := [.int (zI (bf + ((rdN kd fg hm oa n c tY at_ lg) : Int))), .int (zI (ja : Int))]) (rest := []) C (ct_X4_takeChain (zl X) G m g1 g2 g3 g4 g5 s1 s2 s3 s4 s5 s6 t1 t2 t3 c0 c1 c2 c3 y0 y1 thr rdg plc ibd stm him 38 1 v1 v2 sd (.ref c2) kd fg hm at_ lg n oa (dy + ((rdN kd fg hm oa n c tY at_ lg) : Int)) (bf + ((rdN kd fg hm oa n c tY at_ lg) : Int)) (ja : Int) (by first | assumption | omega) (by first | assumption | omega)) (lw_V q1367 q1369 qs47 q61 q1370) rfl rfl (sb_e [0] rfl rfl) (na := 2) (by decide +kernel) rfl (zrm rfl rfl (rfl) (rfl)) rfl (Nat.le_of_ble_eq_true rfl) dX4_thirdRides_58) (fun u => jn_e (wr := [(g1, AI G 7 (fun z_ => (kd z_ : Int))), (g2, AI G 7 fg), (g3, AI G 7 hm), (g4, AI G 7 (rdA kd fg hm oa n c tY at_ lg)), (g5, AI G 7 (rdL kd fg hm oa n c tY at_ lg)), (c2, AI G 38 (encF n oa dy kd fg hm at_ lg))]) [0] [1, 2, 3, 4, 5, 6] [6, 0, 1, 2, 3, 4, 5] rfl rfl rfl (by decide) rfl rfl) (fun u hp_58 => ?_)
              refine z_aload_n C dX4_thirdRides_61 rfl 1 rfl ?_
              refine z_aload_n C dX4_thirdRides_62 rfl 1 rfl ?_
              refine z_get (q := 0) (kf := 24) (v := .ref c2) C rfl rfl in_X4 (by decide) q1111 (Or.inl rfl) rfl dX4_thirdRides_63 ?_
              refine y_iconst C dX4_thirdRides_66 ?_
              refine z_v (ws' := fun u => [(m, .inr (11, [.int (zI (n : Int)), .ref g1, .ref g2, .ref g3, .ref g4, .ref g5, .int (zI oa), .int (zI dy), .ref s1, .ref s2, .ref s3, .ref s4, .ref s5, .ref s6, .int (zI thr), .int (zI rdg), .int (zI plc), .int (zI ibd), .int (zI stm), .ref t1, .ref t2, .ref t3, .ref c0, .ref c1, .ref c2, .ref c3, .int (zI him), .int (zI 38), .int (zI 0), .ref c2, .int (zI ((tkC (v1, v2) (bf + ((rdN kd fg hm oa n c tY at_ lg) : Int)) (ja : Int)).1)), .int (zI ((tkC (v1, v2) (bf + ((rdN kd fg hm oa n c tY at_ lg) : Int)) (ja : Int)).2)), .ref y0, .int (zI sd), .ref y1])), (g1, AI G 7 (fun z_ => (kd z_ : Int))), (g2, AI G 7 fg), (g3, AI G 7 hm), (g4, AI G 7 at_), (g5, AI G 7 lg), (c2, AI G 38 (encF n oa dy kd fg hm at_ lg))]) C (z_runV (q := 0) (As := [.ref c2, .int (zI 0)]) (rest := []) C (ct_X4_carryAllR (zl X) G m g1 g2 g3 g4 g5 s1 s2 s3 s4 s5 s6 t1 t2 t3 c0 c1 c2 c3 y0 y1 thr rdg plc ibd stm him 38 1 ((tkC (v1, v2) (bf + ((rdN kd fg hm oa n c tY at_ lg) : Int)) (ja : Int)).1) ((tkC (v1, v2) (bf + ((rdN kd fg hm oa n c tY at_ lg) : Int)) (ja : Int)).2) sd (.ref c2) c2 (fun z_ => (kd z_ : Int)) fg hm (rdA kd fg hm oa n c tY at_ lg) (rdL kd fg hm oa n c tY at_ lg) n oa (dy + ((rdN kd fg hm oa n c tY at_ lg) : Int)) kd fg hm at_ lg n oa dy ) (lw_V q1235 q1237 qs29 q61 q1238) rfl rfl (sb_e [0, 1, 2, 3, 4, 5, 6] rfl rfl) (na := 2) (by decide +kernel) rfl (zrm rfl rfl (rfl) (rfl)) rfl (Nat.le_of_ble_eq_true rfl) dX4_thirdRides_67) (fun u => jn_e (wr := []) [0, 1, 2, 3, 4, 5, 6] [] [0, 1, 2, 3, 4, 5, 6] rfl rfl rfl (by decide) rfl rfl) (fun u hp_67 => ?_)
              refine y_iinc (lv' := [(6, .int (zI ((c : Int) + 1))), (0, .ref m), (1, .int (zI fY)), (2, .int (zI tY)), (3, .int (zI bf)), (4, .int (zI (ja : Int))), (5, .int (zI (jb : Int)))]) C dX4_thirdRides_70 (q := 0) rfl (nlt rfl) rfl ?_
              refine z_goto (tgt := 3) C dX4_thirdRides_73 (by decide) ?_
              exact ih_3 _ (by omega) (c + 1) ((tkC (v1, v2) (bf + ((rdN kd fg hm oa n c tY at_ lg) : Int)) (ja : Int)).1) ((tkC (v1, v2) (bf + ((rdN kd fg hm oa n c tY at_ lg) : Int)) (ja : Int)).2) 38 0 (.ref c2) (encF n oa dy kd fg hm at_ lg) (by first | assumption | omega) (by
                show (thG kd fg hm n oa tY (0 ||| 1 <<< ja ||| 1 <<< jb) at_ lg fY bf (ja : Int)) c (foldN (thG kd fg hm n oa tY (0 ||| 1 <<< ja ||| 1 <<< jb) at_ lg fY bf (ja : Int)) c (chd, chf)) = _
                rw [hst]
                first
                | exact thG_f (fun z => by have z1 := tb2.mp z.1; have z2 := z.2; omega)
                | exact thG_t (tb2.mpr ⟨by omega, by omega⟩) (by omega)) rfl
  exact L_3 _ 0 chd chf pl0 itk ki kb (by first | assumption | omega) (rfl) rfl

set_option maxHeartbeats 4000000 in
theorem ct_X4_secondRides (l : Launch) (G : ZG) (m : Nat) (g1 : Nat) (g2 : Nat) (g3 : Nat) (g4 : Nat) (g5 : Nat) (s1 : Nat) (s2 : Nat) (s3 : Nat) (s4 : Nat) (s5 : Nat) (s6 : Nat) (t1 : Nat) (t2 : Nat) (t3 : Nat) (c0 : Nat) (c1 : Nat) (c2 : Nat) (c3 : Nat) (y0 : Nat) (y1 : Nat) (thr : Int) (rdg : Int) (plc : Int) (ibd : Int) (stm : Int) (him : Int) (pl0 : Int) (itk : Int) (chd : Int) (chf : Int) (sd : Int) (ki : Value) (kd : Nat → Nat) (fg : Nat → Int) (hm : Nat → Int) (at_ : Nat → Int) (lg : Nat → Int) (n : Nat) (oa : Int) (dy : Int) (ka : Nat → Int) (kb : Nat → Int) (fY : Int) (tY : Int) (bf : Int) (ja : Nat) (hL : LK n kd fg hm at_ lg oa) (hfy : -2147483648 ≤ fY ∧ fY ≤ 2147483647) (hty : 0 ≤ tY ∧ tY ≤ 20) (hbf : 0 ≤ bf ∧ bf ≤ 20) (hja : ja ≤ 7) (hs : CI (chd, chf)) : CT l yX4_secondRides cX4_secondRides 9 none { frames := 7, cells := 0, slots := 0, locals := 167 } G [.ref m, .int (zI fY), .int (zI tY), .int (zI bf), .int (zI (ja : Int))] [(m, .inr (11, [.int (zI (n : Int)), .ref g1, .ref g2, .ref g3, .ref g4, .ref g5, .int (zI oa), .int (zI dy), .ref s1, .ref s2, .ref s3, .ref s4, .ref s5, .ref s6, .int (zI thr), .int (zI rdg), .int (zI plc), .int (zI ibd), .int (zI stm), .ref t1, .ref t2, .ref t3, .ref c0, .ref c1, .ref c2, .ref c3, .int (zI him), .int (zI pl0), .int (zI itk), ki, .int (zI chd), .int (zI chf), .ref y0, .int (zI sd), .ref y1])), (g1, AI G 7 (fun z_ => (kd z_ : Int))), (g2, AI G 7 fg), (g3, AI G 7 hm), (g4, AI G 7 at_), (g5, AI G 7 lg), (c1, AI G 38 ka), (c2, AI G 38 kb)] (Qv G [(m, .inr (11, [.int (zI (n : Int)), .ref g1, .ref g2, .ref g3, .ref g4, .ref g5, .int (zI oa), .int (zI dy), .ref s1, .ref s2, .ref s3, .ref s4, .ref s5, .ref s6, .int (zI thr), .int (zI rdg), .int (zI plc), .int (zI ibd), .int (zI stm), .ref t1, .ref t2, .ref t3, .ref c0, .ref c1, .ref c2, .ref c3, .int (zI him), .int (zI pl0), .int (zI itk), ki, .int (zI chd), .int (zI chf), .ref y0, .int (zI sd), .ref y1])), (g1, AI G 7 (fun z_ => (kd z_ : Int))), (g2, AI G 7 fg), (g3, AI G 7 hm), (g4, AI G 7 at_), (g5, AI G 7 lg), (c1, AI G 38 ka), (c2, AI G 38 kb)] (fun (u : Value × Int × Int × (Nat → Int) × (Nat → Int)) => True) (fun u => [(m, .inr (11, [.int (zI (n : Int)), .ref g1, .ref g2, .ref g3, .ref g4, .ref g5, .int (zI oa), .int (zI dy), .ref s1, .ref s2, .ref s3, .ref s4, .ref s5, .ref s6, .int (zI thr), .int (zI rdg), .int (zI plc), .int (zI ibd), .int (zI stm), .ref t1, .ref t2, .ref t3, .ref c0, .ref c1, .ref c2, .ref c3, .int (zI him), .int (zI u.2.1), .int (zI u.2.2.1), u.1, .int (zI ((foldN (chG kd fg hm n oa tY 1 (0 ||| 1 <<< ja) at_ lg fY bf (ja : Int)) (21 * n) (chd, chf)).1)), .int (zI ((foldN (chG kd fg hm n oa tY 1 (0 ||| 1 <<< ja) at_ lg fY bf (ja : Int)) (21 * n) (chd, chf)).2)), .ref y0, .int (zI sd), .ref y1])), (g1, AI G 7 (fun z_ => (kd z_ : Int))), (g2, AI G 7 fg), (g3, AI G 7 hm), (g4, AI G 7 at_), (g5, AI G 7 lg), (c1, AI G 38 u.2.2.2.1), (c2, AI G 38 u.2.2.2.2)])) := by
  refine z_met (by decide) (Nat.le_of_ble_eq_true rfl) ?_
  intro X A hl0 hA C hQ hin
  subst hl0
  obtain ⟨hn7, hoa, hLj⟩ := id hL
  show Z X _ G 0 0 _ 0 [(0, .ref m), (1, .int (zI fY)), (2, .int (zI tY)), (3, .int (zI bf)), (4, .int (zI (ja : Int)))] []
  refine y_iconst C dX4_secondRides_0 ?_
  refine z_istore (lv' := [(5, .int (zI 0)), (0, .ref m), (1, .int (zI fY)), (2, .int (zI tY)), (3, .int (zI bf)), (4, .int (zI (ja : Int)))]) C dX4_secondRides_1 (nlt rfl) rfl ?_
  have L_3 : ∀ (tt : Nat) (k : Nat) (v1 : Int) (v2 : Int) (pl1 : Int) (itk1 : Int) (ki1 : Value) (ka1 : Nat → Int) (kb1 : Nat → Int), (k ≤ 21 * n) → (foldN (chG kd fg hm n oa tY 1 (0 ||| 1 <<< ja) at_ lg fY bf (ja : Int)) k (chd, chf) = (v1, v2)) → 21 * n - k = tt → Z X (cX4_secondRides, 9, yX4_secondRides.cls, none, { frames := 7, cells := 0, slots := 0, locals := 167 }, A) G 0 0 [(m, .inr (11, [.int (zI (n : Int)), .ref g1, .ref g2, .ref g3, .ref g4, .ref g5, .int (zI oa), .int (zI dy), .ref s1, .ref s2, .ref s3, .ref s4, .ref s5, .ref s6, .int (zI thr), .int (zI rdg), .int (zI plc), .int (zI ibd), .int (zI stm), .ref t1, .ref t2, .ref t3, .ref c0, .ref c1, .ref c2, .ref c3, .int (zI him), .int (zI pl1), .int (zI itk1), ki1, .int (zI v1), .int (zI v2), .ref y0, .int (zI sd), .ref y1])), (g1, AI G 7 (fun z_ => (kd z_ : Int))), (g2, AI G 7 fg), (g3, AI G 7 hm), (g4, AI G 7 at_), (g5, AI G 7 lg), (c1, AI G 38 ka1), (c2, AI G 38 kb1)] 3 [(5, .int (zI (k : Int))), (0, .ref m), (1, .int (zI fY)), (2, .int (zI tY)), (3, .int (zI bf)), (4, .int (zI (ja : Int)))] [] := by
    intro tt
    induction tt using Nat.strongRecOn with
    | _ tt ih_3 =>
      intro k v1 v2 pl1 itk1 ki1 ka1 kb1 hk0 hst ht_3
      have hci : CI (v1, v2) := hst ▸ (foldG_ci hn7 hs (by omega) (by omega) (by omega) (by omega))
      have hcb := CI_b hci
      refine z_iload C dX4_secondRides_3 0 rfl ?_
      refine y_bipush C dX4_secondRides_5 (by decide) ?_
      refine z_aload_n C dX4_secondRides_7 rfl 1 rfl ?_
      refine z_get (q := 0) (kf := 0) (v := .int (zI (n : Int))) C rfl rfl in_X4 (by decide) q1087 (Or.inl rfl) rfl dX4_secondRides_8 ?_
      refine y_imul C dX4_secondRides_11 ?_
      refine y_icmp_ge (tgt := 119) C (by omega) (by omega) dX4_secondRides_12 (by decide) (fun c_12 => ?_) (fun c_12 => ?_)
      · skip
        rw [show k = 21 * n by omega] at hst
        refine z_wsEq (ws' := [(m, .inr (11, [.int (zI (n : Int)), .ref g1, .ref g2, .ref g3, .ref g4, .ref g5, .int (zI oa), .int (zI dy), .ref s1, .ref s2, .ref s3, .ref s4, .ref s5, .ref s6, .int (zI thr), .int (zI rdg), .int (zI plc), .int (zI ibd), .int (zI stm), .ref t1, .ref t2, .ref t3, .ref c0, .ref c1, .ref c2, .ref c3, .int (zI him), .int (zI pl1), .int (zI itk1), ki1, .int (zI ((foldN (chG kd fg hm n oa tY 1 (0 ||| 1 <<< ja) at_ lg fY bf (ja : Int)) (21 * n) (chd, chf)).1)), .int (zI ((foldN (chG kd fg hm n oa tY 1 (0 ||| 1 <<< ja) at_ lg fY bf (ja : Int)) (21 * n) (chd, chf)).2)), .ref y0, .int (zI sd), .ref y1])), (g1, AI G 7 (fun z_ => (kd z_ : Int))), (g2, AI G 7 fg), (g3, AI G 7 hm), (g4, AI G 7 at_), (g5, AI G 7 lg), (c1, AI G 38 ka1), (c2, AI G 38 kb1)]) (by rw [hst]) ?_
        exact z_vret C hA hQ rfl (Nat.le_of_ble_eq_true rfl) (Nat.le_of_ble_eq_true rfl) ((ki1, pl1, itk1, ka1, kb1)) (trivial) (sb_e [0, 1, 2, 3, 4, 5, 6, 7] rfl rfl) dX4_secondRides_119
      · skip
        obtain ⟨bb, yy, hyy, hky⟩ : ∃ bb yy : Nat, yy < 21 ∧ k = 21 * bb + yy := ⟨k / 21, k % 21, by omega, by omega⟩
        refine z_iload C dX4_secondRides_15 0 rfl ?_
        refine y_bipush C dX4_secondRides_17 (by decide) ?_
        refine y_idiv C (by omega) (by omega) dX4_secondRides_19 ?_
        rw [show ((k : Int) / 21 : Int) = (bb : Int) by omega]
        refine z_istore (lv' := [(6, .int (zI (bb : Int))), (5, .int (zI (k : Int))), (0, .ref m), (1, .int (zI fY)), (2, .int (zI tY)), (3, .int (zI bf)), (4, .int (zI (ja : Int)))]) C dX4_secondRides_20 (nlt rfl) rfl ?_
        refine z_iload C dX4_secondRides_22 1 rfl ?_
        refine y_bipush C dX4_secondRides_24 (by decide) ?_
        refine y_irem C (by omega) (by omega) dX4_secondRides_26 ?_
        rw [show ((k : Int) % 21 : Int) = (yy : Int) by omega]
        refine z_istore (lv' := [(7, .int (zI (yy : Int))), (6, .int (zI (bb : Int))), (5, .int (zI (k : Int))), (0, .ref m), (1, .int (zI fY)), (2, .int (zI tY)), (3, .int (zI bf)), (4, .int (zI (ja : Int)))]) C dX4_secondRides_27 (nlt rfl) rfl ?_
        refine z_iload C dX4_secondRides_29 1 rfl ?_
        refine z_iload C dX4_secondRides_31 7 rfl ?_
        refine y_icmp_eq (tgt := 113) C (by omega) (by omega) dX4_secondRides_33 (by decide) (fun c_33 => ?_) (fun c_33 => ?_)
        · skip
          refine y_iinc (lv' := [(5, .int (zI ((k : Int) + 1))), (7, .int (zI (yy : Int))), (6, .int (zI (bb : Int))), (0, .ref m), (1, .int (zI fY)), (2, .int (zI tY)), (3, .int (zI bf)), (4, .int (zI (ja : Int)))]) C dX4_secondRides_113 (q := 2) rfl (nlt rfl) rfl ?_
          refine z_goto (tgt := 3) C dX4_secondRides_116 (by decide) ?_
          refine z_lv (lv' := [(5, .int (zI ((k : Int) + 1))), (0, .ref m), (1, .int (zI fY)), (2, .int (zI tY)), (3, .int (zI bf)), (4, .int (zI (ja : Int)))]) [0, 3, 4, 5, 6, 7] rfl ?_
          exact ih_3 _ (by omega) (k + 1) v1 v2 pl1 itk1 ki1 ka1 kb1 (by first | assumption | omega) (by
            show (chG kd fg hm n oa tY 1 (0 ||| 1 <<< ja) at_ lg fY bf (ja : Int)) k (foldN (chG kd fg hm n oa tY 1 (0 ||| 1 <<< ja) at_ lg fY bf (ja : Int)) k (chd, chf)) = _
            rw [hst, hky]
            first
            | exact chG_f hyy (fun z => by have z1 := tb1.mp z.1; have z2 := z.2.1; have z3 := z.2.2; omega)
            | (rw [chG_t hyy (tb1.mpr (by omega)) (by omega) (by omega), if_neg um_ne, chF_to _ (by omega)]; done)
            | (rw [chG_t hyy (tb1.mpr (by omega)) (by omega) (by omega), if_neg um_ne]; exact (chF_sn (by omega)).trans (thG_all um_ne (by omega) hty n))) rfl
        · skip
          have hac := (hLj bb (by omega)).2.2.2.1
          refine z_aload_n C dX4_secondRides_36 rfl 3 rfl ?_
          refine z_get (q := 0) (kf := 4) (v := .ref g4) C rfl rfl in_X4 (by decide) q1091 (Or.inl rfl) rfl dX4_secondRides_37 ?_
          refine z_iload C dX4_secondRides_40 1 rfl ?_
          refine y_iald (q := 4) (t0 := 0) (v := at_ bb) C rfl rfl (by omega) (by decide) rfl dX4_secondRides_42 ?_
          refine z_iload_n C dX4_secondRides_43 rfl 4 rfl ?_
          refine y_icmp_ne (tgt := 113) C (by omega) (by omega) dX4_secondRides_44 (by decide) (fun c_44 => ?_) (fun c_44 => ?_)
          · skip
            refine y_iinc (lv' := [(5, .int (zI ((k : Int) + 1))), (7, .int (zI (yy : Int))), (6, .int (zI (bb : Int))), (0, .ref m), (1, .int (zI fY)), (2, .int (zI tY)), (3, .int (zI bf)), (4, .int (zI (ja : Int)))]) C dX4_secondRides_113 (q := 2) rfl (nlt rfl) rfl ?_
            refine z_goto (tgt := 3) C dX4_secondRides_116 (by decide) ?_
            refine z_lv (lv' := [(5, .int (zI ((k : Int) + 1))), (0, .ref m), (1, .int (zI fY)), (2, .int (zI tY)), (3, .int (zI bf)), (4, .int (zI (ja : Int)))]) [0, 3, 4, 5, 6, 7] rfl ?_
            exact ih_3 _ (by omega) (k + 1) v1 v2 pl1 itk1 ki1 ka1 kb1 (by first | assumption | omega) (by
              show (chG kd fg hm n oa tY 1 (0 ||| 1 <<< ja) at_ lg fY bf (ja : Int)) k (foldN (chG kd fg hm n oa tY 1 (0 ||| 1 <<< ja) at_ lg fY bf (ja : Int)) k (chd, chf)) = _
              rw [hst, hky]
              first
              | exact chG_f hyy (fun z => by have z1 := tb1.mp z.1; have z2 := z.2.1; have z3 := z.2.2; omega)
              | (rw [chG_t hyy (tb1.mpr (by omega)) (by omega) (by omega), if_neg um_ne, chF_to _ (by omega)]; done)
              | (rw [chG_t hyy (tb1.mpr (by omega)) (by omega) (by omega), if_neg um_ne]; exact (chF_sn (by omega)).trans (thG_all um_ne (by omega) hty n))) rfl
          · skip
            refine z_iload C dX4_secondRides_47 0 rfl ?_
            refine z_iload_n C dX4_secondRides_49 rfl 4 rfl ?_
            refine y_icmp_eq (tgt := 113) C (by omega) (by omega) dX4_secondRides_50 (by decide) (fun c_50 => ?_) (fun c_50 => ?_)
            · skip
              refine y_iinc (lv' := [(5, .int (zI ((k : Int) + 1))), (7, .int (zI (yy : Int))), (6, .int (zI (bb : Int))), (0, .ref m), (1, .int (zI fY)), (2, .int (zI tY)), (3, .int (zI bf)), (4, .int (zI (ja : Int)))]) C dX4_secondRides_113 (q := 2) rfl (nlt rfl) rfl ?_
              refine z_goto (tgt := 3) C dX4_secondRides_116 (by decide) ?_
              refine z_lv (lv' := [(5, .int (zI ((k : Int) + 1))), (0, .ref m), (1, .int (zI fY)), (2, .int (zI tY)), (3, .int (zI bf)), (4, .int (zI (ja : Int)))]) [0, 3, 4, 5, 6, 7] rfl ?_
              exact ih_3 _ (by omega) (k + 1) v1 v2 pl1 itk1 ki1 ka1 kb1 (by first | assumption | omega) (by
                show (chG kd fg hm n oa tY 1 (0 ||| 1 <<< ja) at_ lg fY bf (ja : Int)) k (foldN (chG kd fg hm n oa tY 1 (0 ||| 1 <<< ja) at_ lg fY bf (ja : Int)) k (chd, chf)) = _
                rw [hst, hky]
                first
                | exact chG_f hyy (fun z => by have z1 := tb1.mp z.1; have z2 := z.2.1; have z3 := z.2.2; omega)
                | (rw [chG_t hyy (tb1.mpr (by omega)) (by omega) (by omega), if_neg um_ne, chF_to _ (by omega)]; done)
                | (rw [chG_t hyy (tb1.mpr (by omega)) (by omega) (by omega), if_neg um_ne]; exact (chF_sn (by omega)).trans (thG_all um_ne (by omega) hty n))) rfl
            · skip
              refine z_aload_n C dX4_secondRides_53 rfl 3 rfl ?_
              refine z_aload_n C dX4_secondRides_54 rfl 3 rfl ?_
              refine z_get (q := 0) (kf := 23) (v := .ref c1) C rfl rfl in_X4 (by decide) q1110 (Or.inl rfl) rfl dX4_secondRides_55 ?_
              refine y_iconst C dX4_secondRides_58 ?_
              refine z_v (ws' := fun u => [(m, .inr (11, [.int (zI (n : Int)), .ref g1, .ref g2, .ref g3, .ref g4, .ref g5, .int (zI oa), .int (zI dy), .ref s1, .ref s2, .ref s3, .ref s4, .ref s5, .ref s6, .int (zI thr), .int (zI rdg), .int (zI plc), .int (zI ibd), .int (zI stm), .ref t1, .ref t2, .ref t3, .ref c0, .ref c1, .ref c2, .ref c3, .int (zI him), .int (zI 38), .int (zI 1), .ref c1, .int (zI v1), .int (zI v2), .ref y0, .int (zI sd), .ref y1])), (g1, AI G 7 (fun z_ => (kd z_ : Int))), (g2, AI G 7 fg), (g3, AI G 7 hm), (g4, AI G 7 at_), (g5, AI G 7 lg), (c1, AI G 38 (encF n oa dy kd fg hm at_ lg)), (c2, AI G 38 kb1)]) C (z_runV (q := 0) (As := [.ref c1, .int (zI 1)]) (rest := []) C (ct_X4_carryAllT (zl X) G m g1 g2 g3 g4 g5 s1 s2 s3 s4 s5 s6 t1 t2 t3 c0 c1 c2 c3 y0 y1 thr rdg plc ibd stm him pl1 itk1 v1 v2 sd ki1 c1 ka1 kd fg hm at_ lg n oa dy ) (lw_V q1235 q1237 qs29 q61 q1238) rfl rfl (sb_e [0, 1, 2, 3, 4, 5, 6] rfl rfl) (na := 2) (by decide +kernel) rfl (zrm rfl rfl (rfl) (rfl)) rfl (Nat.le_of_ble_eq_true rfl) dX4_secondRides_59) (fun u => jn_e (wr := [(c2, AI G 38 kb1)]) [0, 1, 2, 3, 4, 5, 6] [7] [1, 2, 3, 4, 5, 6, 7, 0] rfl rfl rfl (by decide) rfl rfl) (fun u hp_59 => ?_)
              refine z_iload_n C dX4_secondRides_62 rfl 6 rfl ?_
              refine z_aload_n C dX4_secondRides_63 rfl 3 rfl ?_
              refine z_iload C dX4_secondRides_64 1 rfl ?_
              refine z_iload C dX4_secondRides_66 0 rfl ?_
              refine z_i (ws' := fun u => [(m, .inr (11, [.int (zI (n : Int)), .ref g1, .ref g2, .ref g3, .ref g4, .ref g5, .int (zI oa), .int (zI (dy + ((rdN kd fg hm oa n bb (yy : Int) at_ lg) : Int))), .ref s1, .ref s2, .ref s3, .ref s4, .ref s5, .ref s6, .int (zI thr), .int (zI rdg), .int (zI plc), .int (zI ibd), .int (zI stm), .ref t1, .ref t2, .ref t3, .ref c0, .ref c1, .ref c2, .ref c3, .int (zI him), .int (zI 38), .int (zI 1), .ref c1, .int (zI v1), .int (zI v2), .ref y0, .int (zI sd), .ref y1])), (g1, AI G 7 (fun z_ => (kd z_ : Int))), (g2, AI G 7 fg), (g3, AI G 7 hm), (g4, AI G 7 (rdA kd fg hm oa n bb (yy : Int) at_ lg)), (g5, AI G 7 (rdL kd fg hm oa n bb (yy : Int) at_ lg)), (c1, AI G 38 (encF n oa dy kd fg hm at_ lg)), (c2, AI G 38 kb1)]) C (z_runV (q := 0) (As := [.int (zI (bb : Int)), .int (zI (yy : Int))]) (rest := [.int (zI bf)]) C (ct_X4_ride (zl X) G m g1 g2 g3 g4 g5 kd fg hm at_ lg n oa dy ([.ref s1, .ref s2, .ref s3, .ref s4, .ref s5, .ref s6, .int (zI thr), .int (zI rdg), .int (zI plc), .int (zI ibd), .int (zI stm), .ref t1, .ref t2, .ref t3, .ref c0, .ref c1, .ref c2, .ref c3, .int (zI him), .int (zI 38), .int (zI 1), .ref c1, .int (zI v1), .int (zI v2), .ref y0, .int (zI sd), .ref y1]) bb (yy : Int) (by first | assumption | omega) (by omega) (by omega)) (lw_V q1259 q1261 qs34 q61 q1262) rfl rfl (sb_e [0, 1, 2, 3, 4, 5] rfl rfl) (na := 2) (by decide +kernel) rfl (zrm rfl rfl (rfl) (rfl)) rfl (Nat.le_of_ble_eq_true rfl) dX4_secondRides_68) (fun u => jn_e (wr := [(c1, AI G 38 (encF n oa dy kd fg hm at_ lg)), (c2, AI G 38 kb1)]) [0, 1, 2, 3, 4, 5] [6, 7] [2, 3, 4, 5, 6, 7, 0, 1] rfl rfl rfl (by decide) rfl rfl) (fun r_68 u hp_68 => ?_)
              have hp_68 : r_68 = zI ((rdN kd fg hm oa n bb (yy : Int) at_ lg) : Int) := hp_68
              subst hp_68
              have hrn := rdN_le kd fg hm oa n bb (yy : Int) at_ lg
              have hL2 : LK n kd fg hm (rdA kd fg hm oa n bb (yy : Int) at_ lg) (rdL kd fg hm oa n bb (yy : Int) at_ lg) oa := rideF_ok (by omega) (by omega) 20 at_ lg hL
              refine y_iadd C dX4_secondRides_71 ?_
              refine z_istore (lv' := [(8, .int (zI (bf + ((rdN kd fg hm oa n bb (yy : Int) at_ lg) : Int)))), (7, .int (zI (yy : Int))), (6, .int (zI (bb : Int))), (5, .int (zI (k : Int))), (0, .ref m), (1, .int (zI fY)), (2, .int (zI tY)), (3, .int (zI bf)), (4, .int (zI (ja : Int)))]) C dX4_secondRides_72 (nlt rfl) rfl ?_
              refine z_iload C dX4_secondRides_74 1 rfl ?_
              refine z_iload_n C dX4_secondRides_76 rfl 6 rfl ?_
              refine y_icmp_ne (tgt := 91) C (by omega) (by omega) dX4_secondRides_77 (by decide) (fun c_77 => ?_) (fun c_77 => ?_)
              · skip
                refine z_aload_n C dX4_secondRides_91 rfl 4 rfl ?_
                refine z_iload C dX4_secondRides_92 1 rfl ?_
                refine z_iload_n C dX4_secondRides_94 rfl 6 rfl ?_
                refine z_iload C dX4_secondRides_95 0 rfl ?_
                refine z_iload C dX4_secondRides_97 8 rfl ?_
                refine z_iload C dX4_secondRides_99 2 rfl ?_
                refine z_v (ws' := fun u => [(m, .inr (11, [.int (zI (n : Int)), .ref g1, .ref g2, .ref g3, .ref g4, .ref g5, .int (zI oa), .int (zI (dy + ((rdN kd fg hm oa n bb (yy : Int) at_ lg) : Int))), .ref s1, .ref s2, .ref s3, .ref s4, .ref s5, .ref s6, .int (zI thr), .int (zI rdg), .int (zI plc), .int (zI ibd), .int (zI stm), .ref t1, .ref t2, .ref t3, .ref c0, .ref c1, .ref c2, .ref c3, .int (zI him), .int (zI u.2.1), .int (zI u.2.2.1), u.1, .int (zI ((foldN (thG kd fg hm n oa tY (0 ||| 1 <<< ja ||| 1 <<< bb) (rdA kd fg hm oa n bb (yy : Int) at_ lg) (rdL kd fg hm oa n bb (yy : Int) at_ lg) (yy : Int) (bf + ((rdN kd fg hm oa n bb (yy : Int) at_ lg) : Int)) (ja : Int)) n (v1, v2)).1)), .int (zI ((foldN (thG kd fg hm n oa tY (0 ||| 1 <<< ja ||| 1 <<< bb) (rdA kd fg hm oa n bb (yy : Int) at_ lg) (rdL kd fg hm oa n bb (yy : Int) at_ lg) (yy : Int) (bf + ((rdN kd fg hm oa n bb (yy : Int) at_ lg) : Int)) (ja : Int)) n (v1, v2)).2)), .ref y0, .int (zI sd), .ref y1])), (g1, AI G 7 (fun z_ => (kd z_ : Int))), (g2, AI G 7 fg), (g3, AI G 7 hm), (g4, AI G 7 (rdA kd fg hm oa n bb (yy : Int) at_ lg)), (g5, AI G 7 (rdL kd fg hm oa n bb (yy : Int) at_ lg)), (c1, AI G 38 (encF n oa dy kd fg hm at_ lg)), (c2, AI G 38 u.2.2.2)]) C (z_runV (q := 0) (As := [.int (zI (yy : Int)), .int (zI tY), .int (zI (bf + ((rdN kd fg hm oa n bb (yy : Int) at_ lg) : Int))), .int (zI (ja : Int)), .int (zI (bb : Int))]) (rest := []) C (ct_X4_thirdRides (zl X) G m g1 g2 g3 g4 g5 s1 s2 s3 s4 s5 s6 t1 t2 t3 c0 c1 c2 c3 y0 y1 thr rdg plc ibd stm him 38 1 v1 v2 sd (.ref c1) kd fg hm (rdA kd fg hm oa n bb (yy : Int) at_ lg) (rdL kd fg hm oa n bb (yy : Int) at_ lg) n oa (dy + ((rdN kd fg hm oa n bb (yy : Int) at_ lg) : Int)) kb1 (yy : Int) tY (bf + ((rdN kd fg hm oa n bb (yy : Int) at_ lg) : Int)) ja bb (hL2) (by first | assumption | omega) (by first | assumption | omega) (by first | assumption | omega) (by first | assumption | omega) (by first | assumption | omega) (by first | assumption | omega) (by first | assumption | omega)) (lw_V q1375 q1377 qs49 q61 q1378) rfl rfl (sb_e [0, 1, 2, 3, 4, 5, 7] rfl rfl) (na := 5) (by decide +kernel) rfl (zrm rfl rfl (rfl) (rfl)) rfl (Nat.le_of_ble_eq_true rfl) dX4_secondRides_101) (fun u => jn_e (wr := [(c1, AI G 38 (encF n oa dy kd fg hm at_ lg))]) [0, 1, 2, 3, 4, 5, 7] [6] [1, 2, 3, 4, 5, 6, 0, 7] rfl rfl rfl (by decide) rfl rfl) (fun u hp_101 => ?_)
                obtain ⟨ki9_101, pl9_101, itk9_101, kb9_101⟩ := u
                refine z_aload_n C dX4_secondRides_104 rfl 4 rfl ?_
                refine z_aload_n C dX4_secondRides_105 rfl 4 rfl ?_
                refine z_get (q := 0) (kf := 23) (v := .ref c1) C rfl rfl in_X4 (by decide) q1110 (Or.inl rfl) rfl dX4_secondRides_106 ?_
                refine y_iconst C dX4_secondRides_109 ?_
                refine z_v (ws' := fun u => [(m, .inr (11, [.int (zI (n : Int)), .ref g1, .ref g2, .ref g3, .ref g4, .ref g5, .int (zI oa), .int (zI dy), .ref s1, .ref s2, .ref s3, .ref s4, .ref s5, .ref s6, .int (zI thr), .int (zI rdg), .int (zI plc), .int (zI ibd), .int (zI stm), .ref t1, .ref t2, .ref t3, .ref c0, .ref c1, .ref c2, .ref c3, .int (zI him), .int (zI 38), .int (zI 0), .ref c1, .int (zI ((foldN (thG kd fg hm n oa tY (0 ||| 1 <<< ja ||| 1 <<< bb) (rdA kd fg hm oa n bb (yy : Int) at_ lg) (rdL kd fg hm oa n bb (yy : Int) at_ lg) (yy : Int) (bf + ((rdN kd fg hm oa n bb (yy : Int) at_ lg) : Int)) (ja : Int)) n (v1, v2)).1)), .int (zI ((foldN (thG kd fg hm n oa tY (0 ||| 1 <<< ja ||| 1 <<< bb) (rdA kd fg hm oa n bb (yy : Int) at_ lg) (rdL kd fg hm oa n bb (yy : Int) at_ lg) (yy : Int) (bf + ((rdN kd fg hm oa n bb (yy : Int) at_ lg) : Int)) (ja : Int)) n (v1, v2)).2)), .ref y0, .int (zI sd), .ref y1])), (g1, AI G 7 (fun z_ => (kd z_ : Int))), (g2, AI G 7 fg), (g3, AI G 7 hm), (g4, AI G 7 at_), (g5, AI G 7 lg), (c1, AI G 38 (encF n oa dy kd fg hm at_ lg)), (c2, AI G 38 kb9_101)]) C (z_runV (q := 0) (As := [.ref c1, .int (zI 0)]) (rest := []) C (ct_X4_carryAllR (zl X) G m g1 g2 g3 g4 g5 s1 s2 s3 s4 s5 s6 t1 t2 t3 c0 c1 c2 c3 y0 y1 thr rdg plc ibd stm him pl9_101 itk9_101 ((foldN (thG kd fg hm n oa tY (0 ||| 1 <<< ja ||| 1 <<< bb) (rdA kd fg hm oa n bb (yy : Int) at_ lg) (rdL kd fg hm oa n bb (yy : Int) at_ lg) (yy : Int) (bf + ((rdN kd fg hm oa n bb (yy : Int) at_ lg) : Int)) (ja : Int)) n (v1, v2)).1) ((foldN (thG kd fg hm n oa tY (0 ||| 1 <<< ja ||| 1 <<< bb) (rdA kd fg hm oa n bb (yy : Int) at_ lg) (rdL kd fg hm oa n bb (yy : Int) at_ lg) (yy : Int) (bf + ((rdN kd fg hm oa n bb (yy : Int) at_ lg) : Int)) (ja : Int)) n (v1, v2)).2) sd ki9_101 c1 (fun z_ => (kd z_ : Int)) fg hm (rdA kd fg hm oa n bb (yy : Int) at_ lg) (rdL kd fg hm oa n bb (yy : Int) at_ lg) n oa (dy + ((rdN kd fg hm oa n bb (yy : Int) at_ lg) : Int)) kd fg hm at_ lg n oa dy ) (lw_V q1235 q1237 qs29 q61 q1238) rfl rfl (sb_e [0, 1, 2, 3, 4, 5, 6] rfl rfl) (na := 2) (by decide +kernel) rfl (zrm rfl rfl (rfl) (rfl)) rfl (Nat.le_of_ble_eq_true rfl) dX4_secondRides_110) (fun u => jn_e (wr := [(c2, AI G 38 kb9_101)]) [0, 1, 2, 3, 4, 5, 6] [7] [1, 2, 3, 4, 5, 6, 7, 0] rfl rfl rfl (by decide) rfl rfl) (fun u hp_110 => ?_)
                refine y_iinc (lv' := [(5, .int (zI ((k : Int) + 1))), (8, .int (zI (bf + ((rdN kd fg hm oa n bb (yy : Int) at_ lg) : Int)))), (7, .int (zI (yy : Int))), (6, .int (zI (bb : Int))), (0, .ref m), (1, .int (zI fY)), (2, .int (zI tY)), (3, .int (zI bf)), (4, .int (zI (ja : Int)))]) C dX4_secondRides_113 (q := 3) rfl (nlt rfl) rfl ?_
                refine z_goto (tgt := 3) C dX4_secondRides_116 (by decide) ?_
                refine z_lv (lv' := [(5, .int (zI ((k : Int) + 1))), (0, .ref m), (1, .int (zI fY)), (2, .int (zI tY)), (3, .int (zI bf)), (4, .int (zI (ja : Int)))]) [0, 4, 5, 6, 7, 8] rfl ?_
                exact ih_3 _ (by omega) (k + 1) ((foldN (thG kd fg hm n oa tY (0 ||| 1 <<< ja ||| 1 <<< bb) (rdA kd fg hm oa n bb (yy : Int) at_ lg) (rdL kd fg hm oa n bb (yy : Int) at_ lg) (yy : Int) (bf + ((rdN kd fg hm oa n bb (yy : Int) at_ lg) : Int)) (ja : Int)) n (v1, v2)).1) ((foldN (thG kd fg hm n oa tY (0 ||| 1 <<< ja ||| 1 <<< bb) (rdA kd fg hm oa n bb (yy : Int) at_ lg) (rdL kd fg hm oa n bb (yy : Int) at_ lg) (yy : Int) (bf + ((rdN kd fg hm oa n bb (yy : Int) at_ lg) : Int)) (ja : Int)) n (v1, v2)).2) 38 0 (.ref c1) (encF n oa dy kd fg hm at_ lg) kb9_101 (by first | assumption | omega) (by
                  show (chG kd fg hm n oa tY 1 (0 ||| 1 <<< ja) at_ lg fY bf (ja : Int)) k (foldN (chG kd fg hm n oa tY 1 (0 ||| 1 <<< ja) at_ lg fY bf (ja : Int)) k (chd, chf)) = _
                  rw [hst, hky]
                  first
                  | exact chG_f hyy (fun z => by have z1 := tb1.mp z.1; have z2 := z.2.1; have z3 := z.2.2; omega)
                  | (rw [chG_t hyy (tb1.mpr (by omega)) (by omega) (by omega), if_neg um_ne, chF_to _ (by omega)]; done)
                  | (rw [chG_t hyy (tb1.mpr (by omega)) (by omega) (by omega), if_neg um_ne]; exact (chF_sn (by omega)).trans (thG_all um_ne (by omega) hty n))) rfl
              · skip
                refine z_aload_n C dX4_secondRides_80 rfl 4 rfl ?_
                refine z_iload C dX4_secondRides_81 0 rfl ?_
                refine z_iload C dX4_secondRides_83 8 rfl ?_
                refine z_v (ws' := fun u => [(m, .inr (11, [.int (zI (n : Int)), .ref g1, .ref g2, .ref g3, .ref g4, .ref g5, .int (zI oa), .int (zI (dy + ((rdN kd fg hm oa n bb (yy : Int) at_ lg) : Int))), .ref s1, .ref s2, .ref s3, .ref s4, .ref s5, .ref s6, .int (zI thr), .int (zI rdg), .int (zI plc), .int (zI ibd), .int (zI stm), .ref t1, .ref t2, .ref t3, .ref c0, .ref c1, .ref c2, .ref c3, .int (zI him), .int (zI 38), .int (zI 1), .ref c1, .int (zI ((tkC (v1, v2) (bf + ((rdN kd fg hm oa n bb (yy : Int) at_ lg) : Int)) (ja : Int)).1)), .int (zI ((tkC (v1, v2) (bf + ((rdN kd fg hm oa n bb (yy : Int) at_ lg) : Int)) (ja : Int)).2)), .ref y0, .int (zI sd), .ref y1])), (g1, AI G 7 (fun z_ => (kd z_ : Int))), (g2, AI G 7 fg), (g3, AI G 7 hm), (g4, AI G 7 (rdA kd fg hm oa n bb (yy : Int) at_ lg)), (g5, AI G 7 (rdL kd fg hm oa n bb (yy : Int) at_ lg)), (c1, AI G 38 (encF n oa dy kd fg hm at_ lg)), (c2, AI G 38 kb1)]) C (z_runV (q := 0) (As := [.int (zI (bf + ((rdN kd fg hm oa n bb (yy : Int) at_ lg) : Int))), .int (zI (ja : Int))]) (rest := []) C (ct_X4_takeChain (zl X) G m g1 g2 g3 g4 g5 s1 s2 s3 s4 s5 s6 t1 t2 t3 c0 c1 c2 c3 y0 y1 thr rdg plc ibd stm him 38 1 v1 v2 sd (.ref c1) kd fg hm at_ lg n oa (dy + ((rdN kd fg hm oa n bb (yy : Int) at_ lg) : Int)) (bf + ((rdN kd fg hm oa n bb (yy : Int) at_ lg) : Int)) (ja : Int) (by first | assumption | omega) (by first | assumption | omega)) (lw_V q1367 q1369 qs47 q61 q1370) rfl rfl (sb_e [0] rfl rfl) (na := 2) (by decide +kernel) rfl (zrm rfl rfl (rfl) (rfl)) rfl (Nat.le_of_ble_eq_true rfl) dX4_secondRides_85) (fun u => jn_e (wr := [(g1, AI G 7 (fun z_ => (kd z_ : Int))), (g2, AI G 7 fg), (g3, AI G 7 hm), (g4, AI G 7 (rdA kd fg hm oa n bb (yy : Int) at_ lg)), (g5, AI G 7 (rdL kd fg hm oa n bb (yy : Int) at_ lg)), (c1, AI G 38 (encF n oa dy kd fg hm at_ lg)), (c2, AI G 38 kb1)]) [0] [1, 2, 3, 4, 5, 6, 7] [7, 0, 1, 2, 3, 4, 5, 6] rfl rfl rfl (by decide) rfl rfl) (fun u hp_85 => ?_)
                refine z_goto (tgt := 104) C dX4_secondRides_88 (by decide) ?_
                refine z_aload_n C dX4_secondRides_104 rfl 4 rfl ?_
                refine z_aload_n C dX4_secondRides_105 rfl 4 rfl ?_
                refine z_get (q := 0) (kf := 23) (v := .ref c1) C rfl rfl in_X4 (by decide) q1110 (Or.inl rfl) rfl dX4_secondRides_106 ?_
                refine y_iconst C dX4_secondRides_109 ?_
                refine z_v (ws' := fun u => [(m, .inr (11, [.int (zI (n : Int)), .ref g1, .ref g2, .ref g3, .ref g4, .ref g5, .int (zI oa), .int (zI dy), .ref s1, .ref s2, .ref s3, .ref s4, .ref s5, .ref s6, .int (zI thr), .int (zI rdg), .int (zI plc), .int (zI ibd), .int (zI stm), .ref t1, .ref t2, .ref t3, .ref c0, .ref c1, .ref c2, .ref c3, .int (zI him), .int (zI 38), .int (zI 0), .ref c1, .int (zI ((tkC (v1, v2) (bf + ((rdN kd fg hm oa n bb (yy : Int) at_ lg) : Int)) (ja : Int)).1)), .int (zI ((tkC (v1, v2) (bf + ((rdN kd fg hm oa n bb (yy : Int) at_ lg) : Int)) (ja : Int)).2)), .ref y0, .int (zI sd), .ref y1])), (g1, AI G 7 (fun z_ => (kd z_ : Int))), (g2, AI G 7 fg), (g3, AI G 7 hm), (g4, AI G 7 at_), (g5, AI G 7 lg), (c1, AI G 38 (encF n oa dy kd fg hm at_ lg)), (c2, AI G 38 kb1)]) C (z_runV (q := 0) (As := [.ref c1, .int (zI 0)]) (rest := []) C (ct_X4_carryAllR (zl X) G m g1 g2 g3 g4 g5 s1 s2 s3 s4 s5 s6 t1 t2 t3 c0 c1 c2 c3 y0 y1 thr rdg plc ibd stm him 38 1 ((tkC (v1, v2) (bf + ((rdN kd fg hm oa n bb (yy : Int) at_ lg) : Int)) (ja : Int)).1) ((tkC (v1, v2) (bf + ((rdN kd fg hm oa n bb (yy : Int) at_ lg) : Int)) (ja : Int)).2) sd (.ref c1) c1 (fun z_ => (kd z_ : Int)) fg hm (rdA kd fg hm oa n bb (yy : Int) at_ lg) (rdL kd fg hm oa n bb (yy : Int) at_ lg) n oa (dy + ((rdN kd fg hm oa n bb (yy : Int) at_ lg) : Int)) kd fg hm at_ lg n oa dy ) (lw_V q1235 q1237 qs29 q61 q1238) rfl rfl (sb_e [0, 1, 2, 3, 4, 5, 6] rfl rfl) (na := 2) (by decide +kernel) rfl (zrm rfl rfl (rfl) (rfl)) rfl (Nat.le_of_ble_eq_true rfl) dX4_secondRides_110) (fun u => jn_e (wr := [(c2, AI G 38 kb1)]) [0, 1, 2, 3, 4, 5, 6] [7] [1, 2, 3, 4, 5, 6, 7, 0] rfl rfl rfl (by decide) rfl rfl) (fun u hp_110 => ?_)
                refine y_iinc (lv' := [(5, .int (zI ((k : Int) + 1))), (8, .int (zI (bf + ((rdN kd fg hm oa n bb (yy : Int) at_ lg) : Int)))), (7, .int (zI (yy : Int))), (6, .int (zI (bb : Int))), (0, .ref m), (1, .int (zI fY)), (2, .int (zI tY)), (3, .int (zI bf)), (4, .int (zI (ja : Int)))]) C dX4_secondRides_113 (q := 3) rfl (nlt rfl) rfl ?_
                refine z_goto (tgt := 3) C dX4_secondRides_116 (by decide) ?_
                refine z_lv (lv' := [(5, .int (zI ((k : Int) + 1))), (0, .ref m), (1, .int (zI fY)), (2, .int (zI tY)), (3, .int (zI bf)), (4, .int (zI (ja : Int)))]) [0, 4, 5, 6, 7, 8] rfl ?_
                exact ih_3 _ (by omega) (k + 1) ((tkC (v1, v2) (bf + ((rdN kd fg hm oa n bb (yy : Int) at_ lg) : Int)) (ja : Int)).1) ((tkC (v1, v2) (bf + ((rdN kd fg hm oa n bb (yy : Int) at_ lg) : Int)) (ja : Int)).2) 38 0 (.ref c1) (encF n oa dy kd fg hm at_ lg) kb1 (by first | assumption | omega) (by
                  show (chG kd fg hm n oa tY 1 (0 ||| 1 <<< ja) at_ lg fY bf (ja : Int)) k (foldN (chG kd fg hm n oa tY 1 (0 ||| 1 <<< ja) at_ lg fY bf (ja : Int)) k (chd, chf)) = _
                  rw [hst, hky]
                  first
                  | exact chG_f hyy (fun z => by have z1 := tb1.mp z.1; have z2 := z.2.1; have z3 := z.2.2; omega)
                  | (rw [chG_t hyy (tb1.mpr (by omega)) (by omega) (by omega), if_neg um_ne, chF_to _ (by omega)]; done)
                  | (rw [chG_t hyy (tb1.mpr (by omega)) (by omega) (by omega), if_neg um_ne]; exact (chF_sn (by omega)).trans (thG_all um_ne (by omega) hty n))) rfl
  exact L_3 _ 0 chd chf pl0 itk ki ka kb (by first | assumption | omega) (rfl) rfl

set_option maxHeartbeats 4000000 in
theorem ct_X4_chain (l : Launch) (G : ZG) (m : Nat) (g1 : Nat) (g2 : Nat) (g3 : Nat) (g4 : Nat) (g5 : Nat) (s1 : Nat) (s2 : Nat) (s3 : Nat) (s4 : Nat) (s5 : Nat) (s6 : Nat) (t1 : Nat) (t2 : Nat) (t3 : Nat) (c0 : Nat) (c1 : Nat) (c2 : Nat) (c3 : Nat) (y0 : Nat) (y1 : Nat) (thr : Int) (rdg : Int) (plc : Int) (ibd : Int) (stm : Int) (him : Int) (pl0 : Int) (itk : Int) (chd : Int) (chf : Int) (sd : Int) (ki : Value) (kd : Nat → Nat) (fg : Nat → Int) (hm : Nat → Int) (at_ : Nat → Int) (lg : Nat → Int) (n : Nat) (oa : Int) (dy : Int) (kc : Nat → Int) (ka : Nat → Int) (kb : Nat → Int) (fY : Int) (tY : Int) (what : Int) (hL : LK n kd fg hm at_ lg oa) (rfY : -2147483648 ≤ fY ∧ fY ≤ 2147483647) (rtY : -2147483648 ≤ tY ∧ tY ≤ 2147483647) (rwhat : -2147483648 ≤ what ∧ what ≤ 2147483647) : CT l yX4_chain cX4_chain 8 (some .int) { frames := 8, cells := 0, slots := 0, locals := 195 } G [.ref m, .int (zI fY), .int (zI tY), .int (zI what)] [(m, .inr (11, [.int (zI (n : Int)), .ref g1, .ref g2, .ref g3, .ref g4, .ref g5, .int (zI oa), .int (zI dy), .ref s1, .ref s2, .ref s3, .ref s4, .ref s5, .ref s6, .int (zI thr), .int (zI rdg), .int (zI plc), .int (zI ibd), .int (zI stm), .ref t1, .ref t2, .ref t3, .ref c0, .ref c1, .ref c2, .ref c3, .int (zI him), .int (zI pl0), .int (zI itk), ki, .int (zI chd), .int (zI chf), .ref y0, .int (zI sd), .ref y1])), (g1, AI G 7 (fun z_ => (kd z_ : Int))), (g2, AI G 7 fg), (g3, AI G 7 hm), (g4, AI G 7 at_), (g5, AI G 7 lg), (c0, AI G 38 kc), (c1, AI G 38 ka), (c2, AI G 38 kb)] (Qi G [(m, .inr (11, [.int (zI (n : Int)), .ref g1, .ref g2, .ref g3, .ref g4, .ref g5, .int (zI oa), .int (zI dy), .ref s1, .ref s2, .ref s3, .ref s4, .ref s5, .ref s6, .int (zI thr), .int (zI rdg), .int (zI plc), .int (zI ibd), .int (zI stm), .ref t1, .ref t2, .ref t3, .ref c0, .ref c1, .ref c2, .ref c3, .int (zI him), .int (zI pl0), .int (zI itk), ki, .int (zI chd), .int (zI chf), .ref y0, .int (zI sd), .ref y1])), (g1, AI G 7 (fun z_ => (kd z_ : Int))), (g2, AI G 7 fg), (g3, AI G 7 hm), (g4, AI G 7 at_), (g5, AI G 7 lg), (c0, AI G 38 kc), (c1, AI G 38 ka), (c2, AI G 38 kb)] (fun (r : Int32) (u : Value × Int × Int × Int × Int × (Nat → Int) × (Nat → Int) × (Nat → Int)) => r = zI (oChain kd fg hm at_ lg n oa fY tY what)) (fun u => [(m, .inr (11, [.int (zI (n : Int)), .ref g1, .ref g2, .ref g3, .ref g4, .ref g5, .int (zI oa), .int (zI dy), .ref s1, .ref s2, .ref s3, .ref s4, .ref s5, .ref s6, .int (zI 0), .int (zI rdg), .int (zI plc), .int (zI ibd), .int (zI stm), .ref t1, .ref t2, .ref t3, .ref c0, .ref c1, .ref c2, .ref c3, .int (zI him), .int (zI u.2.1), .int (zI u.2.2.1), u.1, .int (zI u.2.2.2.1), .int (zI u.2.2.2.2.1), .ref y0, .int (zI sd), .ref y1])), (g1, AI G 7 (fun z_ => (kd z_ : Int))), (g2, AI G 7 fg), (g3, AI G 7 hm), (g4, AI G 7 at_), (g5, AI G 7 lg), (c0, AI G 38 u.2.2.2.2.2.1), (c1, AI G 38 u.2.2.2.2.2.2.1), (c2, AI G 38 u.2.2.2.2.2.2.2)])) := by
  refine z_met (by decide) (Nat.le_of_ble_eq_true rfl) ?_
  intro X A hl0 hA C hQ hin
  subst hl0
  obtain ⟨hn7, hoa, hLj⟩ := id hL
  show Z X _ G 0 0 _ 0 [(0, .ref m), (1, .int (zI fY)), (2, .int (zI tY)), (3, .int (zI what))] []
  refine z_aload_n C dX4_chain_0 rfl 0 rfl ?_
  refine y_iconst C dX4_chain_1 ?_
  refine z_put (q := 0) (kf := 14) (ws' := [(m, .inr (11, [.int (zI (n : Int)), .ref g1, .ref g2, .ref g3, .ref g4, .ref g5, .int (zI oa), .int (zI dy), .ref s1, .ref s2, .ref s3, .ref s4, .ref s5, .ref s6, .int (zI 0), .int (zI rdg), .int (zI plc), .int (zI ibd), .int (zI stm), .ref t1, .ref t2, .ref t3, .ref c0, .ref c1, .ref c2, .ref c3, .int (zI him), .int (zI pl0), .int (zI itk), ki, .int (zI chd), .int (zI chf), .ref y0, .int (zI sd), .ref y1])), (g1, AI G 7 (fun z_ => (kd z_ : Int))), (g2, AI G 7 fg), (g3, AI G 7 hm), (g4, AI G 7 at_), (g5, AI G 7 lg), (c0, AI G 38 kc), (c1, AI G 38 ka), (c2, AI G 38 kb)]) C rfl rfl in_X4 tyX4_ok nmX4 (by decide) q1101 rfl rfl rfl rfl rfl (nlt rfl) rfl dX4_chain_2 ?_
  refine z_iload_n C dX4_chain_5 rfl 1 rfl ?_
  refine z_i C (z_runS (As := [.int (zI fY)]) (rest := []) C (ct_X4_isYard (zl X) G fY (by first | assumption | omega)) (lw_S q1251 q1252 q61 q1253) (sb_e [] rfl rfl) (na := 1) (by decide +kernel) rfl (zrm rfl rfl (rfl) (rfl)) rfl (Nat.le_of_ble_eq_true rfl) dX4_chain_6) (fun u => jn_ro (sb_e [] rfl rfl)) (fun r_6 u hp_6 => ?_)
  have hp_6 : r_6 = zI (bI (0 ≤ fY ∧ fY ≤ 20)) := hp_6
  subst hp_6
  refine y_beq (tgt := 29) C dX4_chain_9 (by decide) (fun c_9 => ?_) (fun c_9 => ?_)
  · skip
    refine y_iconst C dX4_chain_29 ?_
    exact z_iret C hA hQ rfl (Nat.le_of_ble_eq_true rfl) (Nat.le_of_ble_eq_true rfl) ((ki, pl0, itk, chd, chf, kc, ka, kb)) (congrArg zI (oChain_no (by omega)).symm) (sb_e [0, 1, 2, 3, 4, 5, 6, 7, 8] rfl rfl) dX4_chain_30
  · skip
    refine z_iload_n C dX4_chain_12 rfl 2 rfl ?_
    refine z_i C (z_runS (As := [.int (zI tY)]) (rest := []) C (ct_X4_isYard (zl X) G tY (by first | assumption | omega)) (lw_S q1251 q1252 q61 q1253) (sb_e [] rfl rfl) (na := 1) (by decide +kernel) rfl (zrm rfl rfl (rfl) (rfl)) rfl (Nat.le_of_ble_eq_true rfl) dX4_chain_13) (fun u => jn_ro (sb_e [] rfl rfl)) (fun r_13 u hp_13 => ?_)
    have hp_13 : r_13 = zI (bI (0 ≤ tY ∧ tY ≤ 20)) := hp_13
    subst hp_13
    refine y_beq (tgt := 29) C dX4_chain_16 (by decide) (fun c_16 => ?_) (fun c_16 => ?_)
    · skip
      refine y_iconst C dX4_chain_29 ?_
      exact z_iret C hA hQ rfl (Nat.le_of_ble_eq_true rfl) (Nat.le_of_ble_eq_true rfl) ((ki, pl0, itk, chd, chf, kc, ka, kb)) (congrArg zI (oChain_no (by omega)).symm) (sb_e [0, 1, 2, 3, 4, 5, 6, 7, 8] rfl rfl) dX4_chain_30
    · skip
      refine z_iload_n C dX4_chain_19 rfl 3 rfl ?_
      refine y_i2l C (by omega) dX4_chain_20 ?_
      refine z_lconst (v := zL 0) C dX4_chain_21 (by decide) ?_
      refine z_lconst (v := zL 1) C dX4_chain_22 (by decide) ?_
      refine z_i C (z_runS (As := [.long (zL what), .long (zL 0), .long (zL 1)]) (rest := []) C (ct_X4_in (zl X) G what 0 1 (by first | assumption | omega) (by first | assumption | omega) (by first | assumption | omega)) (lw_S q1207 q1208 q61 q1209) (sb_e [] rfl rfl) (na := 3) (by decide +kernel) rfl (zrm rfl rfl (rfl) (rfl)) rfl (Nat.le_of_ble_eq_true rfl) dX4_chain_23) (fun u => jn_ro (sb_e [] rfl rfl)) (fun r_23 u hp_23 => ?_)
      have hp_23 : r_23 = zI (bI (0 ≤ what ∧ what ≤ 1)) := hp_23
      subst hp_23
      refine y_bne (tgt := 31) C dX4_chain_26 (by decide) (fun c_26 => ?_) (fun c_26 => ?_)
      · skip
        refine z_iload_n C dX4_chain_31 rfl 1 rfl ?_
        refine z_iload_n C dX4_chain_32 rfl 2 rfl ?_
        refine y_icmp_ne (tgt := 47) C (by omega) (by omega) dX4_chain_33 (by decide) (fun c_33 => ?_) (fun c_33 => ?_)
        · skip
          refine z_aload_n C dX4_chain_47 rfl 0 rfl ?_
          refine y_bipush C dX4_chain_48 (by decide) ?_
          refine z_put (q := 0) (kf := 30) (ws' := [(m, .inr (11, [.int (zI (n : Int)), .ref g1, .ref g2, .ref g3, .ref g4, .ref g5, .int (zI oa), .int (zI dy), .ref s1, .ref s2, .ref s3, .ref s4, .ref s5, .ref s6, .int (zI 0), .int (zI rdg), .int (zI plc), .int (zI ibd), .int (zI stm), .ref t1, .ref t2, .ref t3, .ref c0, .ref c1, .ref c2, .ref c3, .int (zI him), .int (zI pl0), .int (zI itk), ki, .int (zI (-4)), .int (zI chf), .ref y0, .int (zI sd), .ref y1])), (g1, AI G 7 (fun z_ => (kd z_ : Int))), (g2, AI G 7 fg), (g3, AI G 7 hm), (g4, AI G 7 at_), (g5, AI G 7 lg), (c0, AI G 38 kc), (c1, AI G 38 ka), (c2, AI G 38 kb)]) C rfl rfl in_X4 tyX4_ok nmX4 (by decide) q1117 rfl rfl rfl rfl rfl (nlt rfl) rfl dX4_chain_50 ?_
          refine z_aload_n C dX4_chain_53 rfl 0 rfl ?_
          refine y_bipush C dX4_chain_54 (by decide) ?_
          refine z_put (q := 0) (kf := 31) (ws' := [(m, .inr (11, [.int (zI (n : Int)), .ref g1, .ref g2, .ref g3, .ref g4, .ref g5, .int (zI oa), .int (zI dy), .ref s1, .ref s2, .ref s3, .ref s4, .ref s5, .ref s6, .int (zI 0), .int (zI rdg), .int (zI plc), .int (zI ibd), .int (zI stm), .ref t1, .ref t2, .ref t3, .ref c0, .ref c1, .ref c2, .ref c3, .int (zI him), .int (zI pl0), .int (zI itk), ki, .int (zI (-4)), .int (zI (-4)), .ref y0, .int (zI sd), .ref y1])), (g1, AI G 7 (fun z_ => (kd z_ : Int))), (g2, AI G 7 fg), (g3, AI G 7 hm), (g4, AI G 7 at_), (g5, AI G 7 lg), (c0, AI G 38 kc), (c1, AI G 38 ka), (c2, AI G 38 kb)]) C rfl rfl in_X4 tyX4_ok nmX4 (by decide) q1118 rfl rfl rfl rfl rfl (nlt rfl) rfl dX4_chain_56 ?_
          refine y_iconst C dX4_chain_59 ?_
          refine z_istore (lv' := [(4, .int (zI 0)), (0, .ref m), (1, .int (zI fY)), (2, .int (zI tY)), (3, .int (zI what))]) C dX4_chain_60 (nlt rfl) rfl ?_
          have L_62 : ∀ (tt : Nat) (k : Nat) (v1 : Int) (v2 : Int) (pl1 : Int) (itk1 : Int) (ki1 : Value) (kc1 : Nat → Int) (ka1 : Nat → Int) (kb1 : Nat → Int), (k ≤ 21 * n) → (foldN (chG kd fg hm n oa tY 2 0 at_ lg fY 0 (-4)) k (-4, -4) = (v1, v2)) → 21 * n - k = tt → Z X (cX4_chain, 8, yX4_chain.cls, (some .int), { frames := 8, cells := 0, slots := 0, locals := 195 }, A) G 0 0 [(m, .inr (11, [.int (zI (n : Int)), .ref g1, .ref g2, .ref g3, .ref g4, .ref g5, .int (zI oa), .int (zI dy), .ref s1, .ref s2, .ref s3, .ref s4, .ref s5, .ref s6, .int (zI 0), .int (zI rdg), .int (zI plc), .int (zI ibd), .int (zI stm), .ref t1, .ref t2, .ref t3, .ref c0, .ref c1, .ref c2, .ref c3, .int (zI him), .int (zI pl1), .int (zI itk1), ki1, .int (zI v1), .int (zI v2), .ref y0, .int (zI sd), .ref y1])), (g1, AI G 7 (fun z_ => (kd z_ : Int))), (g2, AI G 7 fg), (g3, AI G 7 hm), (g4, AI G 7 at_), (g5, AI G 7 lg), (c0, AI G 38 kc1), (c1, AI G 38 ka1), (c2, AI G 38 kb1)] 62 [(4, .int (zI (k : Int))), (0, .ref m), (1, .int (zI fY)), (2, .int (zI tY)), (3, .int (zI what))] [] := by
            intro tt
            induction tt using Nat.strongRecOn with
            | _ tt ih_62 =>
              intro k v1 v2 pl1 itk1 ki1 kc1 ka1 kb1 hk0 hst ht_62
              have hci : CI (v1, v2) := hst ▸ (foldG_ci hn7 CI_0 (by omega) (by omega) (by omega) (by omega))
              have hcb := CI_b hci
              refine z_iload C dX4_chain_62 0 rfl ?_
              refine y_bipush C dX4_chain_64 (by decide) ?_
              refine z_aload_n C dX4_chain_66 rfl 1 rfl ?_
              refine z_get (q := 0) (kf := 0) (v := .int (zI (n : Int))) C rfl rfl in_X4 (by decide) q1087 (Or.inl rfl) rfl dX4_chain_67 ?_
              refine y_imul C dX4_chain_70 ?_
              refine y_icmp_ge (tgt := 157) C (by omega) (by omega) dX4_chain_71 (by decide) (fun c_71 => ?_) (fun c_71 => ?_)
              · skip
                refine z_iload_n C dX4_chain_157 rfl 4 rfl ?_
                refine y_if_ne (tgt := 168) C (by omega) dX4_chain_158 (by decide) (fun c_158 => ?_) (fun c_158 => ?_)
                · skip
                  refine z_aload_n C dX4_chain_168 rfl 1 rfl ?_
                  refine z_get (q := 0) (kf := 31) (v := .int (zI v2)) C rfl rfl in_X4 (by decide) q1118 (Or.inl rfl) rfl dX4_chain_169 ?_
                  rw [show k = 21 * n by omega] at hst
                  exact z_iret C hA hQ rfl (Nat.le_of_ble_eq_true rfl) (Nat.le_of_ble_eq_true rfl) ((ki1, pl1, itk1, v1, v2, kc1, ka1, kb1)) (congrArg zI (by rw [oChain_ne (show (0 ≤ fY ∧ fY ≤ 20) ∧ (0 ≤ tY ∧ tY ≤ 20) ∧ (0 ≤ what ∧ what ≤ 1) by omega) (by omega) hst]; first | (rw [if_pos (by omega)]; done) | (rw [if_neg (by omega)]; done))) (sb_e [0, 1, 2, 3, 4, 5, 6, 7, 8] rfl rfl) dX4_chain_172
                · skip
                  refine z_aload_n C dX4_chain_161 rfl 1 rfl ?_
                  refine z_get (q := 0) (kf := 30) (v := .int (zI v1)) C rfl rfl in_X4 (by decide) q1117 (Or.inl rfl) rfl dX4_chain_162 ?_
                  refine z_goto (tgt := 172) C dX4_chain_165 (by decide) ?_
                  rw [show k = 21 * n by omega] at hst
                  exact z_iret C hA hQ rfl (Nat.le_of_ble_eq_true rfl) (Nat.le_of_ble_eq_true rfl) ((ki1, pl1, itk1, v1, v2, kc1, ka1, kb1)) (congrArg zI (by rw [oChain_ne (show (0 ≤ fY ∧ fY ≤ 20) ∧ (0 ≤ tY ∧ tY ≤ 20) ∧ (0 ≤ what ∧ what ≤ 1) by omega) (by omega) hst]; first | (rw [if_pos (by omega)]; done) | (rw [if_neg (by omega)]; done))) (sb_e [0, 1, 2, 3, 4, 5, 6, 7, 8] rfl rfl) dX4_chain_172
              · skip
                refine z_iload C dX4_chain_74 0 rfl ?_
                refine y_bipush C dX4_chain_76 (by decide) ?_
                refine y_idiv C (by omega) (by omega) dX4_chain_78 ?_
                obtain ⟨bb, yy, hyy, hky⟩ : ∃ bb yy : Nat, yy < 21 ∧ k = 21 * bb + yy := ⟨k / 21, k % 21, by omega, by omega⟩
                rw [show ((k : Int) / 21 : Int) = (bb : Int) by omega]
                refine z_istore (lv' := [(5, .int (zI (bb : Int))), (4, .int (zI (k : Int))), (0, .ref m), (1, .int (zI fY)), (2, .int (zI tY)), (3, .int (zI what))]) C dX4_chain_79 (nlt rfl) rfl ?_
                refine z_iload C dX4_chain_81 1 rfl ?_
                refine y_bipush C dX4_chain_83 (by decide) ?_
                refine y_irem C (by omega) (by omega) dX4_chain_85 ?_
                rw [show ((k : Int) % 21 : Int) = (yy : Int) by omega]
                refine z_istore (lv' := [(6, .int (zI (yy : Int))), (5, .int (zI (bb : Int))), (4, .int (zI (k : Int))), (0, .ref m), (1, .int (zI fY)), (2, .int (zI tY)), (3, .int (zI what))]) C dX4_chain_86 (nlt rfl) rfl ?_
                have hac := (hLj bb (by omega)).2.2.2.1
                refine z_aload_n C dX4_chain_88 rfl 3 rfl ?_
                refine z_get (q := 0) (kf := 4) (v := .ref g4) C rfl rfl in_X4 (by decide) q1091 (Or.inl rfl) rfl dX4_chain_89 ?_
                refine z_iload C dX4_chain_92 1 rfl ?_
                refine y_iald (q := 4) (t0 := 0) (v := at_ bb) C rfl rfl (by omega) (by decide) rfl dX4_chain_94 ?_
                refine z_iload_n C dX4_chain_95 rfl 4 rfl ?_
                refine y_icmp_ne (tgt := 151) C (by omega) (by omega) dX4_chain_96 (by decide) (fun c_96 => ?_) (fun c_96 => ?_)
                · skip
                  refine y_iinc (lv' := [(4, .int (zI ((k : Int) + 1))), (6, .int (zI (yy : Int))), (5, .int (zI (bb : Int))), (0, .ref m), (1, .int (zI fY)), (2, .int (zI tY)), (3, .int (zI what))]) C dX4_chain_151 (q := 2) rfl (nlt rfl) rfl ?_
                  refine z_goto (tgt := 62) C dX4_chain_154 (by decide) ?_
                  refine z_lv (lv' := [(4, .int (zI ((k : Int) + 1))), (0, .ref m), (1, .int (zI fY)), (2, .int (zI tY)), (3, .int (zI what))]) [0, 3, 4, 5, 6] rfl ?_
                  exact ih_62 _ (by omega) (k + 1) v1 v2 pl1 itk1 ki1 kc1 ka1 kb1 (by first | assumption | omega) (by
                    show (chG kd fg hm n oa tY 2 0 at_ lg fY 0 (-4)) k (foldN (chG kd fg hm n oa tY 2 0 at_ lg fY 0 (-4)) k (-4, -4)) = _
                    rw [hst, hky]
                    first
                    | exact chG_f hyy (fun z => by have z1 := z.1; have z2 := z.2.1; have z3 := z.2.2; omega)
                    | (rw [chG_t hyy (Nat.zero_testBit _) (by omega) (by omega), if_pos rfl, Int.zero_add, chF_to _ (by omega)]; done)
                    | (rw [chG_t hyy (Nat.zero_testBit _) (by omega) (by omega), if_pos rfl, Int.zero_add]; exact chF_sn (by omega))) rfl
                · skip
                  refine z_iload C dX4_chain_99 0 rfl ?_
                  refine z_iload_n C dX4_chain_101 rfl 4 rfl ?_
                  refine y_icmp_eq (tgt := 151) C (by omega) (by omega) dX4_chain_102 (by decide) (fun c_102 => ?_) (fun c_102 => ?_)
                  · skip
                    refine y_iinc (lv' := [(4, .int (zI ((k : Int) + 1))), (6, .int (zI (yy : Int))), (5, .int (zI (bb : Int))), (0, .ref m), (1, .int (zI fY)), (2, .int (zI tY)), (3, .int (zI what))]) C dX4_chain_151 (q := 2) rfl (nlt rfl) rfl ?_
                    refine z_goto (tgt := 62) C dX4_chain_154 (by decide) ?_
                    refine z_lv (lv' := [(4, .int (zI ((k : Int) + 1))), (0, .ref m), (1, .int (zI fY)), (2, .int (zI tY)), (3, .int (zI what))]) [0, 3, 4, 5, 6] rfl ?_
                    exact ih_62 _ (by omega) (k + 1) v1 v2 pl1 itk1 ki1 kc1 ka1 kb1 (by first | assumption | omega) (by
                      show (chG kd fg hm n oa tY 2 0 at_ lg fY 0 (-4)) k (foldN (chG kd fg hm n oa tY 2 0 at_ lg fY 0 (-4)) k (-4, -4)) = _
                      rw [hst, hky]
                      first
                      | exact chG_f hyy (fun z => by have z1 := z.1; have z2 := z.2.1; have z3 := z.2.2; omega)
                      | (rw [chG_t hyy (Nat.zero_testBit _) (by omega) (by omega), if_pos rfl, Int.zero_add, chF_to _ (by omega)]; done)
                      | (rw [chG_t hyy (Nat.zero_testBit _) (by omega) (by omega), if_pos rfl, Int.zero_add]; exact chF_sn (by omega))) rfl
                  · skip
                    refine z_aload_n C dX4_chain_105 rfl 3 rfl ?_
                    refine z_v (ws' := fun u => [(m, .inr (11, [.int (zI (n : Int)), .ref g1, .ref g2, .ref g3, .ref g4, .ref g5, .int (zI oa), .int (zI dy), .ref s1, .ref s2, .ref s3, .ref s4, .ref s5, .ref s6, .int (zI 0), .int (zI rdg), .int (zI plc), .int (zI ibd), .int (zI stm), .ref t1, .ref t2, .ref t3, .ref c0, .ref c1, .ref c2, .ref c3, .int (zI him), .int (zI 38), .int (zI 1), .ref c0, .int (zI v1), .int (zI v2), .ref y0, .int (zI sd), .ref y1])), (g1, AI G 7 (fun z_ => (kd z_ : Int))), (g2, AI G 7 fg), (g3, AI G 7 hm), (g4, AI G 7 at_), (g5, AI G 7 lg), (c0, AI G 38 (encF n oa dy kd fg hm at_ lg)), (c1, AI G 38 ka1), (c2, AI G 38 kb1)]) C (z_runV (q := 0) (As := []) (rest := []) C (ct_X4_open (zl X) G m g1 g2 g3 g4 g5 s1 s2 s3 s4 s5 s6 t1 t2 t3 c0 c1 c2 c3 y0 y1 0 rdg plc ibd stm him pl1 itk1 v1 v2 sd ki1 kd fg hm at_ lg n oa dy kc1 ) (lw_V q1231 q1233 qs28 q61 q1234) rfl rfl (sb_e [0, 1, 2, 3, 4, 5, 6] rfl rfl) (na := 0) (by decide +kernel) rfl (zrm rfl rfl (rfl) (rfl)) rfl (Nat.le_of_ble_eq_true rfl) dX4_chain_106) (fun u => jn_e (wr := [(c1, AI G 38 ka1), (c2, AI G 38 kb1)]) [0, 1, 2, 3, 4, 5, 6] [7, 8] [2, 3, 4, 5, 6, 7, 8, 0, 1] rfl rfl rfl (by decide) rfl rfl) (fun u hp_106 => ?_)
                    refine z_aload_n C dX4_chain_109 rfl 3 rfl ?_
                    refine z_iload C dX4_chain_110 1 rfl ?_
                    refine z_iload C dX4_chain_112 0 rfl ?_
                    refine z_i (ws' := fun u => [(m, .inr (11, [.int (zI (n : Int)), .ref g1, .ref g2, .ref g3, .ref g4, .ref g5, .int (zI oa), .int (zI (dy + ((rdN kd fg hm oa n bb (yy : Int) at_ lg) : Int))), .ref s1, .ref s2, .ref s3, .ref s4, .ref s5, .ref s6, .int (zI 0), .int (zI rdg), .int (zI plc), .int (zI ibd), .int (zI stm), .ref t1, .ref t2, .ref t3, .ref c0, .ref c1, .ref c2, .ref c3, .int (zI him), .int (zI 38), .int (zI 1), .ref c0, .int (zI v1), .int (zI v2), .ref y0, .int (zI sd), .ref y1])), (g1, AI G 7 (fun z_ => (kd z_ : Int))), (g2, AI G 7 fg), (g3, AI G 7 hm), (g4, AI G 7 (rdA kd fg hm oa n bb (yy : Int) at_ lg)), (g5, AI G 7 (rdL kd fg hm oa n bb (yy : Int) at_ lg)), (c0, AI G 38 (encF n oa dy kd fg hm at_ lg)), (c1, AI G 38 ka1), (c2, AI G 38 kb1)]) C (z_runV (q := 0) (As := [.int (zI (bb : Int)), .int (zI (yy : Int))]) (rest := []) C (ct_X4_ride (zl X) G m g1 g2 g3 g4 g5 kd fg hm at_ lg n oa dy ([.ref s1, .ref s2, .ref s3, .ref s4, .ref s5, .ref s6, .int (zI 0), .int (zI rdg), .int (zI plc), .int (zI ibd), .int (zI stm), .ref t1, .ref t2, .ref t3, .ref c0, .ref c1, .ref c2, .ref c3, .int (zI him), .int (zI 38), .int (zI 1), .ref c0, .int (zI v1), .int (zI v2), .ref y0, .int (zI sd), .ref y1]) bb (yy : Int) (by first | assumption | omega) (by omega) (by omega)) (lw_V q1259 q1261 qs34 q61 q1262) rfl rfl (sb_e [0, 1, 2, 3, 4, 5] rfl rfl) (na := 2) (by decide +kernel) rfl (zrm rfl rfl (rfl) (rfl)) rfl (Nat.le_of_ble_eq_true rfl) dX4_chain_114) (fun u => jn_e (wr := [(c0, AI G 38 (encF n oa dy kd fg hm at_ lg)), (c1, AI G 38 ka1), (c2, AI G 38 kb1)]) [0, 1, 2, 3, 4, 5] [6, 7, 8] [3, 4, 5, 6, 7, 8, 0, 1, 2] rfl rfl rfl (by decide) rfl rfl) (fun r_114 u hp_114 => ?_)
                    have hp_114 : r_114 = zI ((rdN kd fg hm oa n bb (yy : Int) at_ lg) : Int) := hp_114
                    subst hp_114
                    have hrn := rdN_le kd fg hm oa n bb (yy : Int) at_ lg
                    have hL2 : LK n kd fg hm (rdA kd fg hm oa n bb (yy : Int) at_ lg) (rdL kd fg hm oa n bb (yy : Int) at_ lg) oa := rideF_ok (by omega) (by omega) 20 at_ lg hL
                    refine z_istore (lv' := [(7, .int (zI ((rdN kd fg hm oa n bb (yy : Int) at_ lg) : Int))), (6, .int (zI (yy : Int))), (5, .int (zI (bb : Int))), (4, .int (zI (k : Int))), (0, .ref m), (1, .int (zI fY)), (2, .int (zI tY)), (3, .int (zI what))]) C dX4_chain_117 (nlt rfl) rfl ?_
                    refine z_iload C dX4_chain_119 1 rfl ?_
                    refine z_iload_n C dX4_chain_121 rfl 6 rfl ?_
                    refine y_icmp_ne (tgt := 136) C (by omega) (by omega) dX4_chain_122 (by decide) (fun c_122 => ?_) (fun c_122 => ?_)
                    · skip
                      refine z_aload_n C dX4_chain_136 rfl 4 rfl ?_
                      refine z_iload C dX4_chain_137 1 rfl ?_
                      refine z_iload_n C dX4_chain_139 rfl 6 rfl ?_
                      refine z_iload C dX4_chain_140 0 rfl ?_
                      refine z_iload C dX4_chain_142 2 rfl ?_
                      refine z_v (ws' := fun u => [(m, .inr (11, [.int (zI (n : Int)), .ref g1, .ref g2, .ref g3, .ref g4, .ref g5, .int (zI oa), .int (zI (dy + ((rdN kd fg hm oa n bb (yy : Int) at_ lg) : Int))), .ref s1, .ref s2, .ref s3, .ref s4, .ref s5, .ref s6, .int (zI 0), .int (zI rdg), .int (zI plc), .int (zI ibd), .int (zI stm), .ref t1, .ref t2, .ref t3, .ref c0, .ref c1, .ref c2, .ref c3, .int (zI him), .int (zI u.2.1), .int (zI u.2.2.1), u.1, .int (zI ((foldN (chG kd fg hm n oa tY 1 (0 ||| 1 <<< bb) (rdA kd fg hm oa n bb (yy : Int) at_ lg) (rdL kd fg hm oa n bb (yy : Int) at_ lg) (yy : Int) ((rdN kd fg hm oa n bb (yy : Int) at_ lg) : Int) (bb : Int)) (21 * n) (v1, v2)).1)), .int (zI ((foldN (chG kd fg hm n oa tY 1 (0 ||| 1 <<< bb) (rdA kd fg hm oa n bb (yy : Int) at_ lg) (rdL kd fg hm oa n bb (yy : Int) at_ lg) (yy : Int) ((rdN kd fg hm oa n bb (yy : Int) at_ lg) : Int) (bb : Int)) (21 * n) (v1, v2)).2)), .ref y0, .int (zI sd), .ref y1])), (g1, AI G 7 (fun z_ => (kd z_ : Int))), (g2, AI G 7 fg), (g3, AI G 7 hm), (g4, AI G 7 (rdA kd fg hm oa n bb (yy : Int) at_ lg)), (g5, AI G 7 (rdL kd fg hm oa n bb (yy : Int) at_ lg)), (c0, AI G 38 (encF n oa dy kd fg hm at_ lg)), (c1, AI G 38 u.2.2.2.1), (c2, AI G 38 u.2.2.2.2)]) C (z_runV (q := 0) (As := [.int (zI (yy : Int)), .int (zI tY), .int (zI ((rdN kd fg hm oa n bb (yy : Int) at_ lg) : Int)), .int (zI (bb : Int))]) (rest := []) C (ct_X4_secondRides (zl X) G m g1 g2 g3 g4 g5 s1 s2 s3 s4 s5 s6 t1 t2 t3 c0 c1 c2 c3 y0 y1 0 rdg plc ibd stm him 38 1 v1 v2 sd (.ref c0) kd fg hm (rdA kd fg hm oa n bb (yy : Int) at_ lg) (rdL kd fg hm oa n bb (yy : Int) at_ lg) n oa (dy + ((rdN kd fg hm oa n bb (yy : Int) at_ lg) : Int)) ka1 kb1 (yy : Int) tY ((rdN kd fg hm oa n bb (yy : Int) at_ lg) : Int) bb (hL2) (by first | assumption | omega) (by first | assumption | omega) (by first | assumption | omega) (by first | assumption | omega) (by first | assumption | omega)) (lw_V q1371 q1373 qs48 q61 q1374) rfl rfl (sb_e [0, 1, 2, 3, 4, 5, 7, 8] rfl rfl) (na := 4) (by decide +kernel) rfl (zrm rfl rfl (rfl) (rfl)) rfl (Nat.le_of_ble_eq_true rfl) dX4_chain_144) (fun u => jn_e (wr := [(c0, AI G 38 (encF n oa dy kd fg hm at_ lg))]) [0, 1, 2, 3, 4, 5, 7, 8] [6] [1, 2, 3, 4, 5, 6, 0, 7, 8] rfl rfl rfl (by decide) rfl rfl) (fun u hp_144 => ?_)
                      obtain ⟨ki9_144, pl9_144, itk9_144, ka9_144, kb9_144⟩ := u
                      refine z_aload_n C dX4_chain_147 rfl 4 rfl ?_
                      refine z_v (ws' := fun u => [(m, .inr (11, [.int (zI (n : Int)), .ref g1, .ref g2, .ref g3, .ref g4, .ref g5, .int (zI oa), .int (zI dy), .ref s1, .ref s2, .ref s3, .ref s4, .ref s5, .ref s6, .int (zI 0), .int (zI rdg), .int (zI plc), .int (zI ibd), .int (zI stm), .ref t1, .ref t2, .ref t3, .ref c0, .ref c1, .ref c2, .ref c3, .int (zI him), .int (zI 38), .int (zI 0), .ref c0, .int (zI ((foldN (chG kd fg hm n oa tY 1 (0 ||| 1 <<< bb) (rdA kd fg hm oa n bb (yy : Int) at_ lg) (rdL kd fg hm oa n bb (yy : Int) at_ lg) (yy : Int) ((rdN kd fg hm oa n bb (yy : Int) at_ lg) : Int) (bb : Int)) (21 * n) (v1, v2)).1)), .int (zI ((foldN (chG kd fg hm n oa tY 1 (0 ||| 1 <<< bb) (rdA kd fg hm oa n bb (yy : Int) at_ lg) (rdL kd fg hm oa n bb (yy : Int) at_ lg) (yy : Int) ((rdN kd fg hm oa n bb (yy : Int) at_ lg) : Int) (bb : Int)) (21 * n) (v1, v2)).2)), .ref y0, .int (zI sd), .ref y1])), (g1, AI G 7 (fun z_ => (kd z_ : Int))), (g2, AI G 7 fg), (g3, AI G 7 hm), (g4, AI G 7 at_), (g5, AI G 7 lg), (c0, AI G 38 (encF n oa dy kd fg hm at_ lg)), (c1, AI G 38 ka9_144), (c2, AI G 38 kb9_144)]) C (z_runV (q := 0) (As := []) (rest := []) C (ct_X4_close (zl X) G m g1 g2 g3 g4 g5 s1 s2 s3 s4 s5 s6 t1 t2 t3 c0 c1 c2 c3 y0 y1 0 rdg plc ibd stm him pl9_144 itk9_144 ((foldN (chG kd fg hm n oa tY 1 (0 ||| 1 <<< bb) (rdA kd fg hm oa n bb (yy : Int) at_ lg) (rdL kd fg hm oa n bb (yy : Int) at_ lg) (yy : Int) ((rdN kd fg hm oa n bb (yy : Int) at_ lg) : Int) (bb : Int)) (21 * n) (v1, v2)).1) ((foldN (chG kd fg hm n oa tY 1 (0 ||| 1 <<< bb) (rdA kd fg hm oa n bb (yy : Int) at_ lg) (rdL kd fg hm oa n bb (yy : Int) at_ lg) (yy : Int) ((rdN kd fg hm oa n bb (yy : Int) at_ lg) : Int) (bb : Int)) (21 * n) (v1, v2)).2) sd ki9_144 (fun z_ => (kd z_ : Int)) fg hm (rdA kd fg hm oa n bb (yy : Int) at_ lg) (rdL kd fg hm oa n bb (yy : Int) at_ lg) n oa (dy + ((rdN kd fg hm oa n bb (yy : Int) at_ lg) : Int)) kd fg hm at_ lg n oa dy ) (lw_V q1302 q1304 qs43 q61 q1305) rfl rfl (sb_e [0, 1, 2, 3, 4, 5, 6] rfl rfl) (na := 0) (by decide +kernel) rfl (zrm rfl rfl (rfl) (rfl)) rfl (Nat.le_of_ble_eq_true rfl) dX4_chain_148) (fun u => jn_e (wr := [(c1, AI G 38 ka9_144), (c2, AI G 38 kb9_144)]) [0, 1, 2, 3, 4, 5, 6] [7, 8] [2, 3, 4, 5, 6, 7, 8, 0, 1] rfl rfl rfl (by decide) rfl rfl) (fun u hp_148 => ?_)
                      refine y_iinc (lv' := [(4, .int (zI ((k : Int) + 1))), (7, .int (zI ((rdN kd fg hm oa n bb (yy : Int) at_ lg) : Int))), (6, .int (zI (yy : Int))), (5, .int (zI (bb : Int))), (0, .ref m), (1, .int (zI fY)), (2, .int (zI tY)), (3, .int (zI what))]) C dX4_chain_151 (q := 3) rfl (nlt rfl) rfl ?_
                      refine z_goto (tgt := 62) C dX4_chain_154 (by decide) ?_
                      refine z_lv (lv' := [(4, .int (zI ((k : Int) + 1))), (0, .ref m), (1, .int (zI fY)), (2, .int (zI tY)), (3, .int (zI what))]) [0, 4, 5, 6, 7] rfl ?_
                      exact ih_62 _ (by omega) (k + 1) ((foldN (chG kd fg hm n oa tY 1 (0 ||| 1 <<< bb) (rdA kd fg hm oa n bb (yy : Int) at_ lg) (rdL kd fg hm oa n bb (yy : Int) at_ lg) (yy : Int) ((rdN kd fg hm oa n bb (yy : Int) at_ lg) : Int) (bb : Int)) (21 * n) (v1, v2)).1) ((foldN (chG kd fg hm n oa tY 1 (0 ||| 1 <<< bb) (rdA kd fg hm oa n bb (yy : Int) at_ lg) (rdL kd fg hm oa n bb (yy : Int) at_ lg) (yy : Int) ((rdN kd fg hm oa n bb (yy : Int) at_ lg) : Int) (bb : Int)) (21 * n) (v1, v2)).2) 38 0 (.ref c0) (encF n oa dy kd fg hm at_ lg) ka9_144 kb9_144 (by first | assumption | omega) (by
                        show (chG kd fg hm n oa tY 2 0 at_ lg fY 0 (-4)) k (foldN (chG kd fg hm n oa tY 2 0 at_ lg fY 0 (-4)) k (-4, -4)) = _
                        rw [hst, hky]
                        first
                        | exact chG_f hyy (fun z => by have z1 := z.1; have z2 := z.2.1; have z3 := z.2.2; omega)
                        | (rw [chG_t hyy (Nat.zero_testBit _) (by omega) (by omega), if_pos rfl, Int.zero_add, chF_to _ (by omega)]; done)
                        | (rw [chG_t hyy (Nat.zero_testBit _) (by omega) (by omega), if_pos rfl, Int.zero_add]; exact chF_sn (by omega))) rfl
                    · skip
                      refine z_aload_n C dX4_chain_125 rfl 4 rfl ?_
                      refine z_iload C dX4_chain_126 0 rfl ?_
                      refine z_iload C dX4_chain_128 2 rfl ?_
                      refine z_v (ws' := fun u => [(m, .inr (11, [.int (zI (n : Int)), .ref g1, .ref g2, .ref g3, .ref g4, .ref g5, .int (zI oa), .int (zI (dy + ((rdN kd fg hm oa n bb (yy : Int) at_ lg) : Int))), .ref s1, .ref s2, .ref s3, .ref s4, .ref s5, .ref s6, .int (zI 0), .int (zI rdg), .int (zI plc), .int (zI ibd), .int (zI stm), .ref t1, .ref t2, .ref t3, .ref c0, .ref c1, .ref c2, .ref c3, .int (zI him), .int (zI 38), .int (zI 1), .ref c0, .int (zI ((tkC (v1, v2) ((rdN kd fg hm oa n bb (yy : Int) at_ lg) : Int) (bb : Int)).1)), .int (zI ((tkC (v1, v2) ((rdN kd fg hm oa n bb (yy : Int) at_ lg) : Int) (bb : Int)).2)), .ref y0, .int (zI sd), .ref y1])), (g1, AI G 7 (fun z_ => (kd z_ : Int))), (g2, AI G 7 fg), (g3, AI G 7 hm), (g4, AI G 7 (rdA kd fg hm oa n bb (yy : Int) at_ lg)), (g5, AI G 7 (rdL kd fg hm oa n bb (yy : Int) at_ lg)), (c0, AI G 38 (encF n oa dy kd fg hm at_ lg)), (c1, AI G 38 ka1), (c2, AI G 38 kb1)]) C (z_runV (q := 0) (As := [.int (zI ((rdN kd fg hm oa n bb (yy : Int) at_ lg) : Int)), .int (zI (bb : Int))]) (rest := []) C (ct_X4_takeChain (zl X) G m g1 g2 g3 g4 g5 s1 s2 s3 s4 s5 s6 t1 t2 t3 c0 c1 c2 c3 y0 y1 0 rdg plc ibd stm him 38 1 v1 v2 sd (.ref c0) kd fg hm at_ lg n oa (dy + ((rdN kd fg hm oa n bb (yy : Int) at_ lg) : Int)) ((rdN kd fg hm oa n bb (yy : Int) at_ lg) : Int) (bb : Int) (by first | assumption | omega) (by first | assumption | omega)) (lw_V q1367 q1369 qs47 q61 q1370) rfl rfl (sb_e [0] rfl rfl) (na := 2) (by decide +kernel) rfl (zrm rfl rfl (rfl) (rfl)) rfl (Nat.le_of_ble_eq_true rfl) dX4_chain_130) (fun u => jn_e (wr := [(g1, AI G 7 (fun z_ => (kd z_ : Int))), (g2, AI G 7 fg), (g3, AI G 7 hm), (g4, AI G 7 (rdA kd fg hm oa n bb (yy : Int) at_ lg)), (g5, AI G 7 (rdL kd fg hm oa n bb (yy : Int) at_ lg)), (c0, AI G 38 (encF n oa dy kd fg hm at_ lg)), (c1, AI G 38 ka1), (c2, AI G 38 kb1)]) [0] [1, 2, 3, 4, 5, 6, 7, 8] [8, 0, 1, 2, 3, 4, 5, 6, 7] rfl rfl rfl (by decide) rfl rfl) (fun u hp_130 => ?_)
                      refine z_goto (tgt := 147) C dX4_chain_133 (by decide) ?_
                      refine z_aload_n C dX4_chain_147 rfl 4 rfl ?_
                      refine z_v (ws' := fun u => [(m, .inr (11, [.int (zI (n : Int)), .ref g1, .ref g2, .ref g3, .ref g4, .ref g5, .int (zI oa), .int (zI dy), .ref s1, .ref s2, .ref s3, .ref s4, .ref s5, .ref s6, .int (zI 0), .int (zI rdg), .int (zI plc), .int (zI ibd), .int (zI stm), .ref t1, .ref t2, .ref t3, .ref c0, .ref c1, .ref c2, .ref c3, .int (zI him), .int (zI 38), .int (zI 0), .ref c0, .int (zI ((tkC (v1, v2) ((rdN kd fg hm oa n bb (yy : Int) at_ lg) : Int) (bb : Int)).1)), .int (zI ((tkC (v1, v2) ((rdN kd fg hm oa n bb (yy : Int) at_ lg) : Int) (bb : Int)).2)), .ref y0, .int (zI sd), .ref y1])), (g1, AI G 7 (fun z_ => (kd z_ : Int))), (g2, AI G 7 fg), (g3, AI G 7 hm), (g4, AI G 7 at_), (g5, AI G 7 lg), (c0, AI G 38 (encF n oa dy kd fg hm at_ lg)), (c1, AI G 38 ka1), (c2, AI G 38 kb1)]) C (z_runV (q := 0) (As := []) (rest := []) C (ct_X4_close (zl X) G m g1 g2 g3 g4 g5 s1 s2 s3 s4 s5 s6 t1 t2 t3 c0 c1 c2 c3 y0 y1 0 rdg plc ibd stm him 38 1 ((tkC (v1, v2) ((rdN kd fg hm oa n bb (yy : Int) at_ lg) : Int) (bb : Int)).1) ((tkC (v1, v2) ((rdN kd fg hm oa n bb (yy : Int) at_ lg) : Int) (bb : Int)).2) sd (.ref c0) (fun z_ => (kd z_ : Int)) fg hm (rdA kd fg hm oa n bb (yy : Int) at_ lg) (rdL kd fg hm oa n bb (yy : Int) at_ lg) n oa (dy + ((rdN kd fg hm oa n bb (yy : Int) at_ lg) : Int)) kd fg hm at_ lg n oa dy ) (lw_V q1302 q1304 qs43 q61 q1305) rfl rfl (sb_e [0, 1, 2, 3, 4, 5, 6] rfl rfl) (na := 0) (by decide +kernel) rfl (zrm rfl rfl (rfl) (rfl)) rfl (Nat.le_of_ble_eq_true rfl) dX4_chain_148) (fun u => jn_e (wr := [(c1, AI G 38 ka1), (c2, AI G 38 kb1)]) [0, 1, 2, 3, 4, 5, 6] [7, 8] [2, 3, 4, 5, 6, 7, 8, 0, 1] rfl rfl rfl (by decide) rfl rfl) (fun u hp_148 => ?_)
                      refine y_iinc (lv' := [(4, .int (zI ((k : Int) + 1))), (7, .int (zI ((rdN kd fg hm oa n bb (yy : Int) at_ lg) : Int))), (6, .int (zI (yy : Int))), (5, .int (zI (bb : Int))), (0, .ref m), (1, .int (zI fY)), (2, .int (zI tY)), (3, .int (zI what))]) C dX4_chain_151 (q := 3) rfl (nlt rfl) rfl ?_
                      refine z_goto (tgt := 62) C dX4_chain_154 (by decide) ?_
                      refine z_lv (lv' := [(4, .int (zI ((k : Int) + 1))), (0, .ref m), (1, .int (zI fY)), (2, .int (zI tY)), (3, .int (zI what))]) [0, 4, 5, 6, 7] rfl ?_
                      exact ih_62 _ (by omega) (k + 1) ((tkC (v1, v2) ((rdN kd fg hm oa n bb (yy : Int) at_ lg) : Int) (bb : Int)).1) ((tkC (v1, v2) ((rdN kd fg hm oa n bb (yy : Int) at_ lg) : Int) (bb : Int)).2) 38 0 (.ref c0) (encF n oa dy kd fg hm at_ lg) ka1 kb1 (by first | assumption | omega) (by
                        show (chG kd fg hm n oa tY 2 0 at_ lg fY 0 (-4)) k (foldN (chG kd fg hm n oa tY 2 0 at_ lg fY 0 (-4)) k (-4, -4)) = _
                        rw [hst, hky]
                        first
                        | exact chG_f hyy (fun z => by have z1 := z.1; have z2 := z.2.1; have z3 := z.2.2; omega)
                        | (rw [chG_t hyy (Nat.zero_testBit _) (by omega) (by omega), if_pos rfl, Int.zero_add, chF_to _ (by omega)]; done)
                        | (rw [chG_t hyy (Nat.zero_testBit _) (by omega) (by omega), if_pos rfl, Int.zero_add]; exact chF_sn (by omega))) rfl
          exact L_62 _ 0 (-4) (-4) pl0 itk ki kc ka kb (by first | assumption | omega) (rfl) rfl
        · skip
          refine z_iload_n C dX4_chain_36 rfl 3 rfl ?_
          refine y_if_ne (tgt := 44) C (by omega) dX4_chain_37 (by decide) (fun c_37 => ?_) (fun c_37 => ?_)
          · skip
            refine y_bipush C dX4_chain_44 (by decide) ?_
            exact z_iret C hA hQ rfl (Nat.le_of_ble_eq_true rfl) (Nat.le_of_ble_eq_true rfl) ((ki, pl0, itk, chd, chf, kc, ka, kb)) (congrArg zI (by rw [oChain_eq (show (0 ≤ fY ∧ fY ≤ 20) ∧ (0 ≤ tY ∧ tY ≤ 20) ∧ (0 ≤ what ∧ what ≤ 1) by omega) (by omega)]; first | (rw [if_pos (by omega)]; done) | (rw [if_neg (by omega)]; done))) (sb_e [0, 1, 2, 3, 4, 5, 6, 7, 8] rfl rfl) dX4_chain_46
          · skip
            refine y_iconst C dX4_chain_40 ?_
            refine z_goto (tgt := 46) C dX4_chain_41 (by decide) ?_
            exact z_iret C hA hQ rfl (Nat.le_of_ble_eq_true rfl) (Nat.le_of_ble_eq_true rfl) ((ki, pl0, itk, chd, chf, kc, ka, kb)) (congrArg zI (by rw [oChain_eq (show (0 ≤ fY ∧ fY ≤ 20) ∧ (0 ≤ tY ∧ tY ≤ 20) ∧ (0 ≤ what ∧ what ≤ 1) by omega) (by omega)]; first | (rw [if_pos (by omega)]; done) | (rw [if_neg (by omega)]; done))) (sb_e [0, 1, 2, 3, 4, 5, 6, 7, 8] rfl rfl) dX4_chain_46
      · skip
        refine y_iconst C dX4_chain_29 ?_
        exact z_iret C hA hQ rfl (Nat.le_of_ble_eq_true rfl) (Nat.le_of_ble_eq_true rfl) ((ki, pl0, itk, chd, chf, kc, ka, kb)) (congrArg zI (oChain_no (by omega)).symm) (sb_e [0, 1, 2, 3, 4, 5, 6, 7, 8] rfl rfl) dX4_chain_30

