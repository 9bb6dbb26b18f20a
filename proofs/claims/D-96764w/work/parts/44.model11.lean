/-! THE MODEL, 11: homes, what it is, forged, judge -/
set_option maxRecDepth 100000
/-- the row on shelf e -/
def rowF (rw_ : Nat → Int) (e : Nat) : Nat → Int := fun k => rw_ (100 * e + k)
theorem rowB_01 {f : Nat → Int} {sk : Int} {kd : Nat → Nat} {fg hm : Nat → Int} {oa : Int} {n j : Nat} {yard : Int} {at_ lg : Nat → Int} (k : Nat) : rowB f sk kd fg hm oa n j yard at_ lg k = 0 ∨ rowB f sk kd fg hm oa n j yard at_ lg k = 1 := by
  cases k with
  | zero => exact Or.inr rfl
  | succ k =>
    unfold rowB
    split
    · split
      · exact Or.inr rfl
      · exact Or.inl rfl
    · exact Or.inl rfl
set_option maxHeartbeats 4000000 in
theorem ct_X4_isRow (l : Launch) (G : ZG) (m : Nat) (g1 : Nat) (g2 : Nat) (g3 : Nat) (g4 : Nat) (g5 : Nat) (s1 : Nat) (s2 : Nat) (s3 : Nat) (s4 : Nat) (s5 : Nat) (s6 : Nat) (t1 : Nat) (t2 : Nat) (t3 : Nat) (c0 : Nat) (c1 : Nat) (c2 : Nat) (c3 : Nat) (y0 : Nat) (y1 : Nat) (thr : Int) (rdg : Int) (plc : Int) (ibd : Int) (stm : Int) (him : Int) (pl0 : Int) (itk : Int) (chd : Int) (chf : Int) (sd : Int) (ki : Value) (kd : Nat → Nat) (fg : Nat → Int) (hm : Nat → Int) (at_ : Nat → Int) (lg : Nat → Int) (n : Nat) (oa : Int) (dy : Int) (hw : Nat → Nat) (kk : Nat → Nat) (rs : Nat → Nat) (rm : Nat → Nat) (kf : Nat → Int) (rw_ : Nat → Int) (skd : Nat → Nat) (sfg : Nat → Int) (shm : Nat → Int) (sat : Nat → Int) (slg : Nat → Int) (sn : Nat) (soa : Int) (sdy : Int) (e : Nat) (j : Nat) (yard : Int) (hL : LK n kd fg hm at_ lg oa) (hS : SK hw kk rs rm kf rw_) (hj : j < n) (he : e < 8) (hy : 0 ≤ yard ∧ yard ≤ 20) : CT l yX4_isRow cX4_isRow 8 (some .boolean) { frames := 5, cells := 0, slots := 0, locals := 118 } G [.ref m, .int (zI (e : Int)), .int (zI (j : Int)), .int (zI yard)] [(m, .inr (11, [.int (zI (n : Int)), .ref g1, .ref g2, .ref g3, .ref g4, .ref g5, .int (zI oa), .int (zI dy), .ref s1, .ref s2, .ref s3, .ref s4, .ref s5, .ref s6, .int (zI thr), .int (zI rdg), .int (zI plc), .int (zI ibd), .int (zI stm), .ref t1, .ref t2, .ref t3, .ref c0, .ref c1, .ref c2, .ref c3, .int (zI him), .int (zI pl0), .int (zI itk), ki, .int (zI chd), .int (zI chf), .ref y0, .int (zI sd), .ref y1])), (g1, AI G 7 (fun z_ => (kd z_ : Int))), (g2, AI G 7 fg), (g3, AI G 7 hm), (g4, AI G 7 at_), (g5, AI G 7 lg), (s1, AI G 8 (fun z_ => (hw z_ : Int))), (s2, AI G 8 (fun z_ => (kk z_ : Int))), (s3, AI G 8 kf), (s4, AI G 8 (fun z_ => (rs z_ : Int))), (s5, AI G 8 (fun z_ => (rm z_ : Int))), (s6, AL G 800 rw_), (c0, AI G 38 (encF sn soa sdy skd sfg shm sat slg))] (Qi G [(m, .inr (11, [.int (zI (n : Int)), .ref g1, .ref g2, .ref g3, .ref g4, .ref g5, .int (zI oa), .int (zI dy), .ref s1, .ref s2, .ref s3, .ref s4, .ref s5, .ref s6, .int (zI thr), .int (zI rdg), .int (zI plc), .int (zI ibd), .int (zI stm), .ref t1, .ref t2, .ref t3, .ref c0, .ref c1, .ref c2, .ref c3, .int (zI him), .int (zI pl0), .int (zI itk), ki, .int (zI chd), .int (zI chf), .ref y0, .int (zI sd), .ref y1])), (g1, AI G 7 (fun z_ => (kd z_ : Int))), (g2, AI G 7 fg), (g3, AI G 7 hm), (g4, AI G 7 at_), (g5, AI G 7 lg), (s1, AI G 8 (fun z_ => (hw z_ : Int))), (s2, AI G 8 (fun z_ => (kk z_ : Int))), (s3, AI G 8 kf), (s4, AI G 8 (fun z_ => (rs z_ : Int))), (s5, AI G 8 (fun z_ => (rm z_ : Int))), (s6, AL G 800 rw_), (c0, AI G 38 (encF sn soa sdy skd sfg shm sat slg))] (fun (r : Int32) (u : Unit) => r = zI (rowB (rowF rw_ e) (skZ (rs e)) kd fg hm oa n j yard at_ lg (rm e))) (fun u => [(m, .inr (11, [.int (zI (sn : Int)), .ref g1, .ref g2, .ref g3, .ref g4, .ref g5, .int (zI soa), .int (zI sdy), .ref s1, .ref s2, .ref s3, .ref s4, .ref s5, .ref s6, .int (zI thr), .int (zI rdg), .int (zI plc), .int (zI ibd), .int (zI stm), .ref t1, .ref t2, .ref t3, .ref c0, .ref c1, .ref c2, .ref c3, .int (zI him), .int (zI 38), .int (zI 0), .ref c0, .int (zI chd), .int (zI chf), .ref y0, .int (zI sd), .ref y1])), (g1, AI G 7 (fun z_ => (skd z_ : Int))), (g2, AI G 7 sfg), (g3, AI G 7 shm), (g4, AI G 7 sat), (g5, AI G 7 slg), (s1, AI G 8 (fun z_ => (hw z_ : Int))), (s2, AI G 8 (fun z_ => (kk z_ : Int))), (s3, AI G 8 kf), (s4, AI G 8 (fun z_ => (rs z_ : Int))), (s5, AI G 8 (fun z_ => (rm z_ : Int))), (s6, AL G 800 rw_), (c0, AI G 38 (encF sn soa sdy skd sfg shm sat slg))])) := by
  refine z_met (by decide) (Nat.le_of_ble_eq_true rfl) ?_
  intro X A hl0 hA C hQ hin
  subst hl0
  obtain ⟨hn7, hoa, hLj⟩ := id hL
  have hSe := hS.1 e he
  show Z X _ G 0 0 _ 0 [(0, .ref m), (1, .int (zI (e : Int))), (2, .int (zI (j : Int))), (3, .int (zI yard))] []
  refine y_iconst C dX4_isRow_0 ?_
  refine z_istore (lv' := [(4, .int (zI 1)), (0, .ref m), (1, .int (zI (e : Int))), (2, .int (zI (j : Int))), (3, .int (zI yard))]) C dX4_isRow_1 (nlt rfl) rfl ?_
  refine y_iconst C dX4_isRow_3 ?_
  refine z_istore (lv' := [(5, .int (zI 0)), (4, .int (zI 1)), (0, .ref m), (1, .int (zI (e : Int))), (2, .int (zI (j : Int))), (3, .int (zI yard))]) C dX4_isRow_4 (nlt rfl) rfl ?_
  have L_6 : ∀ (tt : Nat) (k : Nat) (iss : Int) (at1 : Nat → Int) (lg1 : Nat → Int) (dy1 : Int), (k ≤ rm e) → (seqF kd fg hm oa n j yard at_ lg k = (at1, lg1)) → (LK n kd fg hm at1 lg1 oa) → (iss = rowB (rowF rw_ e) (skZ (rs e)) kd fg hm oa n j yard at_ lg k) → rm e - k = tt → Z X (cX4_isRow, 8, yX4_isRow.cls, (some .boolean), { frames := 5, cells := 0, slots := 0, locals := 118 }, A) G 0 0 [(m, .inr (11, [.int (zI (n : Int)), .ref g1, .ref g2, .ref g3, .ref g4, .ref g5, .int (zI oa), .int (zI dy1), .ref s1, .ref s2, .ref s3, .ref s4, .ref s5, .ref s6, .int (zI thr), .int (zI rdg), .int (zI plc), .int (zI ibd), .int (zI stm), .ref t1, .ref t2, .ref t3, .ref c0, .ref c1, .ref c2, .ref c3, .int (zI him), .int (zI pl0), .int (zI itk), ki, .int (zI chd), .int (zI chf), .ref y0, .int (zI sd), .ref y1])), (g1, AI G 7 (fun z_ => (kd z_ : Int))), (g2, AI G 7 fg), (g3, AI G 7 hm), (g4, AI G 7 at1), (g5, AI G 7 lg1), (s1, AI G 8 (fun z_ => (hw z_ : Int))), (s2, AI G 8 (fun z_ => (kk z_ : Int))), (s3, AI G 8 kf), (s4, AI G 8 (fun z_ => (rs z_ : Int))), (s5, AI G 8 (fun z_ => (rm z_ : Int))), (s6, AL G 800 rw_), (c0, AI G 38 (encF sn soa sdy skd sfg shm sat slg))] 6 [(5, .int (zI (k : Int))), (4, .int (zI iss)), (0, .ref m), (1, .int (zI (e : Int))), (2, .int (zI (j : Int))), (3, .int (zI yard))] [] := by
    intro tt
    induction tt using Nat.strongRecOn with
    | _ tt ih_6 =>
      intro k iss at1 lg1 dy1 hk0 hsq hL1 his ht_6
      have hr01 := rowB_01 (f := rowF rw_ e) (sk := skZ (rs e)) (kd := kd) (fg := fg) (hm := hm) (oa := oa) (n := n) (j := j) (yard := yard) (at_ := at_) (lg := lg) k
      have hsk := skZ_r (rs e)
      have hrv := hS.2 (100 * e + k)
      have hat1 := (hL1.2.2 j hj).2.2.2.1
      obtain ⟨hk1, hf1, hm1, ha1, hl1⟩ := hL1.2.2 j hj
      have hst := stepZ_r (k := kd j) hf1 hm1 ha1 hoa hl1 hy
      refine z_iload C dX4_isRow_6 0 rfl ?_
      refine z_aload_n C dX4_isRow_8 rfl 2 rfl ?_
      refine z_get (q := 0) (kf := 12) (v := .ref s5) C rfl rfl in_X4 (by decide) q1099 (Or.inl rfl) rfl dX4_isRow_9 ?_
      refine z_iload_n C dX4_isRow_12 rfl 3 rfl ?_
      refine y_iald (q := 10) (t0 := 0) (v := (rm e : Int)) C rfl rfl (by omega) (by decide) rfl dX4_isRow_13 ?_
      refine y_icmp_ge (tgt := 89) C (by omega) (by omega) dX4_isRow_14 (by decide) (fun c_14 => ?_) (fun c_14 => ?_)
      · skip
        refine z_aload_n C dX4_isRow_89 rfl 2 rfl ?_
        refine z_v (ws' := fun u => [(m, .inr (11, [.int (zI (sn : Int)), .ref g1, .ref g2, .ref g3, .ref g4, .ref g5, .int (zI soa), .int (zI sdy), .ref s1, .ref s2, .ref s3, .ref s4, .ref s5, .ref s6, .int (zI thr), .int (zI rdg), .int (zI plc), .int (zI ibd), .int (zI stm), .ref t1, .ref t2, .ref t3, .ref c0, .ref c1, .ref c2, .ref c3, .int (zI him), .int (zI 38), .int (zI 0), .ref c0, .int (zI chd), .int (zI chf), .ref y0, .int (zI sd), .ref y1])), (g1, AI G 7 (fun z_ => (skd z_ : Int))), (g2, AI G 7 sfg), (g3, AI G 7 shm), (g4, AI G 7 sat), (g5, AI G 7 slg), (s1, AI G 8 (fun z_ => (hw z_ : Int))), (s2, AI G 8 (fun z_ => (kk z_ : Int))), (s3, AI G 8 kf), (s4, AI G 8 (fun z_ => (rs z_ : Int))), (s5, AI G 8 (fun z_ => (rm z_ : Int))), (s6, AL G 800 rw_), (c0, AI G 38 (encF sn soa sdy skd sfg shm sat slg))]) C (z_runV (q := 0) (As := []) (rest := []) C (ct_X4_close (zl X) G m g1 g2 g3 g4 g5 s1 s2 s3 s4 s5 s6 t1 t2 t3 c0 c1 c2 c3 y0 y1 thr rdg plc ibd stm him pl0 itk chd chf sd ki (fun z_ => (kd z_ : Int)) fg hm at1 lg1 n oa dy1 skd sfg shm sat slg sn soa sdy ) (lw_V q1302 q1304 qs43 q61 q1305) rfl rfl (sb_e [0, 1, 2, 3, 4, 5, 12] rfl rfl) (na := 0) (by decide +kernel) rfl (zrm rfl rfl (rfl) (rfl)) rfl (Nat.le_of_ble_eq_true rfl) dX4_isRow_90) (fun u => jn_e (wr := [(s1, AI G 8 (fun z_ => (hw z_ : Int))), (s2, AI G 8 (fun z_ => (kk z_ : Int))), (s3, AI G 8 kf), (s4, AI G 8 (fun z_ => (rs z_ : Int))), (s5, AI G 8 (fun z_ => (rm z_ : Int))), (s6, AL G 800 rw_)]) [0, 1, 2, 3, 4, 5, 12] [6, 7, 8, 9, 10, 11] [6, 7, 8, 9, 10, 11, 0, 1, 2, 3, 4, 5, 12] rfl rfl rfl (by decide) rfl rfl) (fun u hp_90 => ?_)
        refine z_iload C dX4_isRow_93 1 rfl ?_
        have hfin : iss = rowB (rowF rw_ e) (skZ (rs e)) kd fg hm oa n j yard at_ lg (rm e) := by
          by_cases hz : k = rm e
          · rw [his, hz]
          · have h0 : rowB (rowF rw_ e) (skZ (rs e)) kd fg hm oa n j yard at_ lg k = 0 := by omega
            rw [his, h0, rowB_z h0 _ hk0]
        exact z_zret C hA hQ rfl (Nat.le_of_ble_eq_true rfl) (Nat.le_of_ble_eq_true rfl) (()) (congrArg zI hfin) ((by rcases hr01 with q | q <;> rw [his, q] <;> rfl)) (sb_e [0, 1, 2, 3, 4, 5, 6, 7, 8, 9, 10, 11, 12] rfl rfl) dX4_isRow_95
      · skip
        refine z_iload C dX4_isRow_17 1 rfl ?_
        refine y_if_eq (tgt := 89) C (by omega) dX4_isRow_19 (by decide) (fun c_19 => ?_) (fun c_19 => ?_)
        · skip
          refine z_aload_n C dX4_isRow_89 rfl 2 rfl ?_
          refine z_v (ws' := fun u => [(m, .inr (11, [.int (zI (sn : Int)), .ref g1, .ref g2, .ref g3, .ref g4, .ref g5, .int (zI soa), .int (zI sdy), .ref s1, .ref s2, .ref s3, .ref s4, .ref s5, .ref s6, .int (zI thr), .int (zI rdg), .int (zI plc), .int (zI ibd), .int (zI stm), .ref t1, .ref t2, .ref t3, .ref c0, .ref c1, .ref c2, .ref c3, .int (zI him), .int (zI 38), .int (zI 0), .ref c0, .int (zI chd), .int (zI chf), .ref y0, .int (zI sd), .ref y1])), (g1, AI G 7 (fun z_ => (skd z_ : Int))), (g2, AI G 7 sfg), (g3, AI G 7 shm), (g4, AI G 7 sat), (g5, AI G 7 slg), (s1, AI G 8 (fun z_ => (hw z_ : Int))), (s2, AI G 8 (fun z_ => (kk z_ : Int))), (s3, AI G 8 kf), (s4, AI G 8 (fun z_ => (rs z_ : Int))), (s5, AI G 8 (fun z_ => (rm z_ : Int))), (s6, AL G 800 rw_), (c0, AI G 38 (encF sn soa sdy skd sfg shm sat slg))]) C (z_runV (q := 0) (As := []) (rest := []) C (ct_X4_close (zl X) G m g1 g2 g3 g4 g5 s1 s2 s3 s4 s5 s6 t1 t2 t3 c0 c1 c2 c3 y0 y1 thr rdg plc ibd stm him pl0 itk chd chf sd ki (fun z_ => (kd z_ : Int)) fg hm at1 lg1 n oa dy1 skd sfg shm sat slg sn soa sdy ) (lw_V q1302 q1304 qs43 q61 q1305) rfl rfl (sb_e [0, 1, 2, 3, 4, 5, 12] rfl rfl) (na := 0) (by decide +kernel) rfl (zrm rfl rfl (rfl) (rfl)) rfl (Nat.le_of_ble_eq_true rfl) dX4_isRow_90) (fun u => jn_e (wr := [(s1, AI G 8 (fun z_ => (hw z_ : Int))), (s2, AI G 8 (fun z_ => (kk z_ : Int))), (s3, AI G 8 kf), (s4, AI G 8 (fun z_ => (rs z_ : Int))), (s5, AI G 8 (fun z_ => (rm z_ : Int))), (s6, AL G 800 rw_)]) [0, 1, 2, 3, 4, 5, 12] [6, 7, 8, 9, 10, 11] [6, 7, 8, 9, 10, 11, 0, 1, 2, 3, 4, 5, 12] rfl rfl rfl (by decide) rfl rfl) (fun u hp_90 => ?_)
          refine z_iload C dX4_isRow_93 1 rfl ?_
          have hfin : iss = rowB (rowF rw_ e) (skZ (rs e)) kd fg hm oa n j yard at_ lg (rm e) := by
            by_cases hz : k = rm e
            · rw [his, hz]
            · have h0 : rowB (rowF rw_ e) (skZ (rs e)) kd fg hm oa n j yard at_ lg k = 0 := by omega
              rw [his, h0, rowB_z h0 _ hk0]
          exact z_zret C hA hQ rfl (Nat.le_of_ble_eq_true rfl) (Nat.le_of_ble_eq_true rfl) (()) (congrArg zI hfin) ((by rcases hr01 with q | q <;> rw [his, q] <;> rfl)) (sb_e [0, 1, 2, 3, 4, 5, 6, 7, 8, 9, 10, 11, 12] rfl rfl) dX4_isRow_95
        · skip
          refine z_aload_n C dX4_isRow_22 rfl 2 rfl ?_
          refine z_get (q := 0) (kf := 13) (v := .ref s6) C rfl rfl in_X4 (by decide) q1100 (Or.inl rfl) rfl dX4_isRow_23 ?_
          refine y_bipush C dX4_isRow_26 (by decide) ?_
          refine z_iload_n C dX4_isRow_28 rfl 3 rfl ?_
          refine y_imul C dX4_isRow_29 ?_
          refine z_iload C dX4_isRow_30 0 rfl ?_
          refine y_iadd C dX4_isRow_32 ?_
          refine y_lald (q := 11) (t0 := 1) (v := rw_ (100 * e + k)) C rfl rfl (by omega) (by decide) (by rw [show (100 * (e : Int) + (k : Int)).toNat = 100 * e + k by omega]) dX4_isRow_33 ?_
          refine z_lstore (lv' := [(6, .long (zL (rw_ (100 * e + k)))), (5, .int (zI (k : Int))), (4, .int (zI iss)), (0, .ref m), (1, .int (zI (e : Int))), (2, .int (zI (j : Int))), (3, .int (zI yard))]) C dX4_isRow_34 (nlt rfl) rfl ?_
          refine z_lload C dX4_isRow_36 0 rfl ?_
          refine z_aload_n C dX4_isRow_38 rfl 3 rfl ?_
          refine z_iload_n C dX4_isRow_39 rfl 4 rfl ?_
          refine z_l C (z_runV (q := 0) (As := [.int (zI (e : Int))]) (rest := [.long (zL (rw_ (100 * e + k)))]) C (ct_X4_skipped (zl X) G m g1 g2 g3 g4 g5 s1 s2 s3 s4 s5 s6 t1 t2 t3 c0 c1 c2 c3 y0 y1 thr rdg plc ibd stm him pl0 itk chd chf sd ki n oa dy1 hw kk rs rm kf rw_ e (by first | assumption | omega) (by first | assumption | omega)) (lw_V q1444 q1446 qs52 q61 q1447) rfl rfl (sb_e [0, 6, 7, 8, 9, 10, 11] rfl rfl) (na := 1) (by decide +kernel) rfl (zrm rfl rfl (rfl) (rfl)) rfl (Nat.le_of_ble_eq_true rfl) dX4_isRow_40) (fun u => jn_ro (sb_e [0, 6, 7, 8, 9, 10, 11] rfl rfl)) (fun r_40 u hp_40 => ?_)
          have hp_40 : r_40 = zL (skZ (rs e)) := hp_40
          subst hp_40
          refine y_lcmp C (by omega) (by omega) dX4_isRow_43 ?_
          refine y_if_eq (tgt := 60) C (by have := lcmpZ_r (rw_ (100 * e + k)) (skZ (rs e)); omega) dX4_isRow_44 (by decide) (fun c_44 => ?_) (fun c_44 => ?_)
          · skip
            refine y_iconst C dX4_isRow_60 ?_
            refine z_goto (tgt := 65) C dX4_isRow_61 (by decide) ?_
            have hnew : (1 : Int) = rowB (rowF rw_ e) (skZ (rs e)) kd fg hm oa n j yard at_ lg (k + 1) := by
              have h1 : rowB (rowF rw_ e) (skZ (rs e)) kd fg hm oa n j yard at_ lg k = 1 := by omega
              have h2 := rowB_s h1 hsq
              first
              | exact (h2.1 (by first | exact Or.inl (by show rw_ (100 * e + k) = _; have := (lcmpZ_eq (rw_ (100 * e + k)) (skZ (rs e))).mp c_44; omega) | exact Or.inr (by show rw_ (100 * e + k) = _; have := (lcmpZ_eq (rw_ (100 * e + k)) (at1 j)).mp c_57; omega))).symm
              | exact (h2.2 (fun z => by
                  have z : rw_ (100 * e + k) = skZ (rs e) ∨ rw_ (100 * e + k) = at1 j := z
                  rcases z with z | z
                  · exact c_44 ((lcmpZ_eq _ _).mpr z)
                  · exact c_57 ((lcmpZ_eq _ _).mpr z))).symm
            refine z_istore (lv' := [(4, .int (zI 1)), (6, .long (zL (rw_ (100 * e + k)))), (5, .int (zI (k : Int))), (0, .ref m), (1, .int (zI (e : Int))), (2, .int (zI (j : Int))), (3, .int (zI yard))]) C dX4_isRow_65 (nlt rfl) rfl ?_
            refine z_aload_n C dX4_isRow_67 rfl 3 rfl ?_
            refine z_get (q := 0) (kf := 4) (v := .ref g4) C rfl rfl in_X4 (by decide) q1091 (Or.inl rfl) rfl dX4_isRow_68 ?_
            refine z_iload_n C dX4_isRow_71 rfl 5 rfl ?_
            refine y_iald (q := 4) (t0 := 0) (v := at1 j) C rfl rfl (by omega) (by decide) rfl dX4_isRow_72 ?_
            refine z_iload_n C dX4_isRow_73 rfl 6 rfl ?_
            refine y_icmp_eq (tgt := 83) C (by omega) (by omega) dX4_isRow_74 (by decide) (fun c_74 => ?_) (fun c_74 => ?_)
            · skip
              refine y_iinc (lv' := [(5, .int (zI ((k : Int) + 1))), (4, .int (zI 1)), (6, .long (zL (rw_ (100 * e + k)))), (0, .ref m), (1, .int (zI (e : Int))), (2, .int (zI (j : Int))), (3, .int (zI yard))]) C dX4_isRow_83 (q := 2) rfl (nlt rfl) rfl ?_
              refine z_goto (tgt := 6) C dX4_isRow_86 (by decide) ?_
              refine z_lv (lv' := [(5, .int (zI ((k : Int) + 1))), (4, .int (zI 1)), (0, .ref m), (1, .int (zI (e : Int))), (2, .int (zI (j : Int))), (3, .int (zI yard))]) [0, 1, 3, 4, 5, 6] rfl ?_
              exact ih_6 _ (by omega) (k + 1) 1 at1 lg1 dy1 (by first | assumption | omega) (by first | exact seqF_t hsq (by assumption) | exact seqF_f hsq (by assumption)) (by first | exact hL1 | exact (hL1.at hst).day) (hnew) rfl
            · skip
              refine z_aload_n C dX4_isRow_77 rfl 3 rfl ?_
              refine z_iload_n C dX4_isRow_78 rfl 5 rfl ?_
              refine z_iload_n C dX4_isRow_79 rfl 6 rfl ?_
              refine z_v (ws' := fun u => [(m, .inr (11, [.int (zI (n : Int)), .ref g1, .ref g2, .ref g3, .ref g4, .ref g5, .int (zI oa), .int (zI (dy1 + 1)), .ref s1, .ref s2, .ref s3, .ref s4, .ref s5, .ref s6, .int (zI thr), .int (zI rdg), .int (zI plc), .int (zI ibd), .int (zI stm), .ref t1, .ref t2, .ref t3, .ref c0, .ref c1, .ref c2, .ref c3, .int (zI him), .int (zI pl0), .int (zI itk), ki, .int (zI chd), .int (zI chf), .ref y0, .int (zI sd), .ref y1])), (g1, AI G 7 (fun z_ => (kd z_ : Int))), (g2, AI G 7 fg), (g3, AI G 7 hm), (g4, AI G 7 (va_up at1 j (stepZ (kd j) (fg j) (hm j) (at1 j) oa (lg1 j) yard))), (g5, AI G 7 (dayL kd fg hm (va_up at1 j (stepZ (kd j) (fg j) (hm j) (at1 j) oa (lg1 j) yard)) oa n lg1)), (s1, AI G 8 (fun z_ => (hw z_ : Int))), (s2, AI G 8 (fun z_ => (kk z_ : Int))), (s3, AI G 8 kf), (s4, AI G 8 (fun z_ => (rs z_ : Int))), (s5, AI G 8 (fun z_ => (rm z_ : Int))), (s6, AL G 800 rw_), (c0, AI G 38 (encF sn soa sdy skd sfg shm sat slg))]) C (z_runV (q := 0) (As := [.int (zI (j : Int)), .int (zI yard)]) (rest := []) C (ct_X4_rideOn (zl X) G m g1 g2 g3 g4 g5 kd fg hm at1 lg1 n oa dy1 ([.ref s1, .ref s2, .ref s3, .ref s4, .ref s5, .ref s6, .int (zI thr), .int (zI rdg), .int (zI plc), .int (zI ibd), .int (zI stm), .ref t1, .ref t2, .ref t3, .ref c0, .ref c1, .ref c2, .ref c3, .int (zI him), .int (zI pl0), .int (zI itk), ki, .int (zI chd), .int (zI chf), .ref y0, .int (zI sd), .ref y1]) j yard (hL1) (by first | assumption | omega) (by first | assumption | omega) (by assumption)) (lw_V q1263 q1265 qs35 q61 q1266) rfl rfl (sb_e [0, 1, 2, 3, 4, 5] rfl rfl) (na := 2) (by decide +kernel) rfl (zrm rfl rfl (rfl) (rfl)) rfl (Nat.le_of_ble_eq_true rfl) dX4_isRow_80) (fun u => jn_e (wr := [(s1, AI G 8 (fun z_ => (hw z_ : Int))), (s2, AI G 8 (fun z_ => (kk z_ : Int))), (s3, AI G 8 kf), (s4, AI G 8 (fun z_ => (rs z_ : Int))), (s5, AI G 8 (fun z_ => (rm z_ : Int))), (s6, AL G 800 rw_), (c0, AI G 38 (encF sn soa sdy skd sfg shm sat slg))]) [0, 1, 2, 3, 4, 5] [6, 7, 8, 9, 10, 11, 12] [7, 8, 9, 10, 11, 12, 0, 1, 2, 3, 4, 5, 6] rfl rfl rfl (by decide) rfl rfl) (fun u hp_80 => ?_)
              refine y_iinc (lv' := [(5, .int (zI ((k : Int) + 1))), (4, .int (zI 1)), (6, .long (zL (rw_ (100 * e + k)))), (0, .ref m), (1, .int (zI (e : Int))), (2, .int (zI (j : Int))), (3, .int (zI yard))]) C dX4_isRow_83 (q := 2) rfl (nlt rfl) rfl ?_
              refine z_goto (tgt := 6) C dX4_isRow_86 (by decide) ?_
              refine z_lv (lv' := [(5, .int (zI ((k : Int) + 1))), (4, .int (zI 1)), (0, .ref m), (1, .int (zI (e : Int))), (2, .int (zI (j : Int))), (3, .int (zI yard))]) [0, 1, 3, 4, 5, 6] rfl ?_
              exact ih_6 _ (by omega) (k + 1) 1 (va_up at1 j (stepZ (kd j) (fg j) (hm j) (at1 j) oa (lg1 j) yard)) (dayL kd fg hm (va_up at1 j (stepZ (kd j) (fg j) (hm j) (at1 j) oa (lg1 j) yard)) oa n lg1) (dy1 + 1) (by first | assumption | omega) (by first | exact seqF_t hsq (by assumption) | exact seqF_f hsq (by assumption)) (by first | exact hL1 | exact (hL1.at hst).day) (hnew) rfl
          · skip
            refine z_lload C dX4_isRow_47 0 rfl ?_
            refine z_aload_n C dX4_isRow_49 rfl 3 rfl ?_
            refine z_get (q := 0) (kf := 4) (v := .ref g4) C rfl rfl in_X4 (by decide) q1091 (Or.inl rfl) rfl dX4_isRow_50 ?_
            refine z_iload_n C dX4_isRow_53 rfl 5 rfl ?_
            refine y_iald (q := 4) (t0 := 0) (v := at1 j) C rfl rfl (by omega) (by decide) rfl dX4_isRow_54 ?_
            refine y_i2l C (by omega) dX4_isRow_55 ?_
            refine y_lcmp C (by omega) (by omega) dX4_isRow_56 ?_
            refine y_if_ne (tgt := 64) C (by have := lcmpZ_r (rw_ (100 * e + k)) (at1 j); omega) dX4_isRow_57 (by decide) (fun c_57 => ?_) (fun c_57 => ?_)
            · skip
              refine y_iconst C dX4_isRow_64 ?_
              have hnew : (0 : Int) = rowB (rowF rw_ e) (skZ (rs e)) kd fg hm oa n j yard at_ lg (k + 1) := by
                have h1 : rowB (rowF rw_ e) (skZ (rs e)) kd fg hm oa n j yard at_ lg k = 1 := by omega
                have h2 := rowB_s h1 hsq
                first
                | exact (h2.1 (by first | exact Or.inl (by show rw_ (100 * e + k) = _; have := (lcmpZ_eq (rw_ (100 * e + k)) (skZ (rs e))).mp c_44; omega) | exact Or.inr (by show rw_ (100 * e + k) = _; have := (lcmpZ_eq (rw_ (100 * e + k)) (at1 j)).mp c_57; omega))).symm
                | exact (h2.2 (fun z => by
                    have z : rw_ (100 * e + k) = skZ (rs e) ∨ rw_ (100 * e + k) = at1 j := z
                    rcases z with z | z
                    · exact c_44 ((lcmpZ_eq _ _).mpr z)
                    · exact c_57 ((lcmpZ_eq _ _).mpr z))).symm
              refine z_istore (lv' := [(4, .int (zI 0)), (6, .long (zL (rw_ (100 * e + k)))), (5, .int (zI (k : Int))), (0, .ref m), (1, .int (zI (e : Int))), (2, .int (zI (j : Int))), (3, .int (zI yard))]) C dX4_isRow_65 (nlt rfl) rfl ?_
              refine z_aload_n C dX4_isRow_67 rfl 3 rfl ?_
              refine z_get (q := 0) (kf := 4) (v := .ref g4) C rfl rfl in_X4 (by decide) q1091 (Or.inl rfl) rfl dX4_isRow_68 ?_
              refine z_iload_n C dX4_isRow_71 rfl 5 rfl ?_
              refine y_iald (q := 4) (t0 := 0) (v := at1 j) C rfl rfl (by omega) (by decide) rfl dX4_isRow_72 ?_
              refine z_iload_n C dX4_isRow_73 rfl 6 rfl ?_
              refine y_icmp_eq (tgt := 83) C (by omega) (by omega) dX4_isRow_74 (by decide) (fun c_74 => ?_) (fun c_74 => ?_)
              · skip
                refine y_iinc (lv' := [(5, .int (zI ((k : Int) + 1))), (4, .int (zI 0)), (6, .long (zL (rw_ (100 * e + k)))), (0, .ref m), (1, .int (zI (e : Int))), (2, .int (zI (j : Int))), (3, .int (zI yard))]) C dX4_isRow_83 (q := 2) rfl (nlt rfl) rfl ?_
                refine z_goto (tgt := 6) C dX4_isRow_86 (by decide) ?_
                refine z_lv (lv' := [(5, .int (zI ((k : Int) + 1))), (4, .int (zI 0)), (0, .ref m), (1, .int (zI (e : Int))), (2, .int (zI (j : Int))), (3, .int (zI yard))]) [0, 1, 3, 4, 5, 6] rfl ?_
                exact ih_6 _ (by omega) (k + 1) 0 at1 lg1 dy1 (by first | assumption | omega) (by first | exact seqF_t hsq (by assumption) | exact seqF_f hsq (by assumption)) (by first | exact hL1 | exact (hL1.at hst).day) (hnew) rfl
              · skip
                refine z_aload_n C dX4_isRow_77 rfl 3 rfl ?_
                refine z_iload_n C dX4_isRow_78 rfl 5 rfl ?_
                refine z_iload_n C dX4_isRow_79 rfl 6 rfl ?_
                refine z_v (ws' := fun u => [(m, .inr (11, [.int (zI (n : Int)), .ref g1, .ref g2, .ref g3, .ref g4, .ref g5, .int (zI oa), .int (zI (dy1 + 1)), .ref s1, .ref s2, .ref s3, .ref s4, .ref s5, .ref s6, .int (zI thr), .int (zI rdg), .int (zI plc), .int (zI ibd), .int (zI stm), .ref t1, .ref t2, .ref t3, .ref c0, .ref c1, .ref c2, .ref c3, .int (zI him), .int (zI pl0), .int (zI itk), ki, .int (zI chd), .int (zI chf), .ref y0, .int (zI sd), .ref y1])), (g1, AI G 7 (fun z_ => (kd z_ : Int))), (g2, AI G 7 fg), (g3, AI G 7 hm), (g4, AI G 7 (va_up at1 j (stepZ (kd j) (fg j) (hm j) (at1 j) oa (lg1 j) yard))), (g5, AI G 7 (dayL kd fg hm (va_up at1 j (stepZ (kd j) (fg j) (hm j) (at1 j) oa (lg1 j) yard)) oa n lg1)), (s1, AI G 8 (fun z_ => (hw z_ : Int))), (s2, AI G 8 (fun z_ => (kk z_ : Int))), (s3, AI G 8 kf), (s4, AI G 8 (fun z_ => (rs z_ : Int))), (s5, AI G 8 (fun z_ => (rm z_ : Int))), (s6, AL G 800 rw_), (c0, AI G 38 (encF sn soa sdy skd sfg shm sat slg))]) C (z_runV (q := 0) (As := [.int (zI (j : Int)), .int (zI yard)]) (rest := []) C (ct_X4_rideOn (zl X) G m g1 g2 g3 g4 g5 kd fg hm at1 lg1 n oa dy1 ([.ref s1, .ref s2, .ref s3, .ref s4, .ref s5, .ref s6, .int (zI thr), .int (zI rdg), .int (zI plc), .int (zI ibd), .int (zI stm), .ref t1, .ref t2, .ref t3, .ref c0, .ref c1, .ref c2, .ref c3, .int (zI him), .int (zI pl0), .int (zI itk), ki, .int (zI chd), .int (zI chf), .ref y0, .int (zI sd), .ref y1]) j yard (hL1) (by first | assumption | omega) (by first | assumption | omega) (by assumption)) (lw_V q1263 q1265 qs35 q61 q1266) rfl rfl (sb_e [0, 1, 2, 3, 4, 5] rfl rfl) (na := 2) (by decide +kernel) rfl (zrm rfl rfl (rfl) (rfl)) rfl (Nat.le_of_ble_eq_true rfl) dX4_isRow_80) (fun u => jn_e (wr := [(s1, AI G 8 (fun z_ => (hw z_ : Int))), (s2, AI G 8 (fun z_ => (kk z_ : Int))), (s3, AI G 8 kf), (s4, AI G 8 (fun z_ => (rs z_ : Int))), (s5, AI G 8 (fun z_ => (rm z_ : Int))), (s6, AL G 800 rw_), (c0, AI G 38 (encF sn soa sdy skd sfg shm sat slg))]) [0, 1, 2, 3, 4, 5] [6, 7, 8, 9, 10, 11, 12] [7, 8, 9, 10, 11, 12, 0, 1, 2, 3, 4, 5, 6] rfl rfl rfl (by decide) rfl rfl) (fun u hp_80 => ?_)
                refine y_iinc (lv' := [(5, .int (zI ((k : Int) + 1))), (4, .int (zI 0)), (6, .long (zL (rw_ (100 * e + k)))), (0, .ref m), (1, .int (zI (e : Int))), (2, .int (zI (j : Int))), (3, .int (zI yard))]) C dX4_isRow_83 (q := 2) rfl (nlt rfl) rfl ?_
                refine z_goto (tgt := 6) C dX4_isRow_86 (by decide) ?_
                refine z_lv (lv' := [(5, .int (zI ((k : Int) + 1))), (4, .int (zI 0)), (0, .ref m), (1, .int (zI (e : Int))), (2, .int (zI (j : Int))), (3, .int (zI yard))]) [0, 1, 3, 4, 5, 6] rfl ?_
                exact ih_6 _ (by omega) (k + 1) 0 (va_up at1 j (stepZ (kd j) (fg j) (hm j) (at1 j) oa (lg1 j) yard)) (dayL kd fg hm (va_up at1 j (stepZ (kd j) (fg j) (hm j) (at1 j) oa (lg1 j) yard)) oa n lg1) (dy1 + 1) (by first | assumption | omega) (by first | exact seqF_t hsq (by assumption) | exact seqF_f hsq (by assumption)) (by first | exact hL1 | exact (hL1.at hst).day) (hnew) rfl
            · skip
              refine y_iconst C dX4_isRow_60 ?_
              refine z_goto (tgt := 65) C dX4_isRow_61 (by decide) ?_
              have hnew : (1 : Int) = rowB (rowF rw_ e) (skZ (rs e)) kd fg hm oa n j yard at_ lg (k + 1) := by
                have h1 : rowB (rowF rw_ e) (skZ (rs e)) kd fg hm oa n j yard at_ lg k = 1 := by omega
                have h2 := rowB_s h1 hsq
                first
                | exact (h2.1 (by first | exact Or.inl (by show rw_ (100 * e + k) = _; have := (lcmpZ_eq (rw_ (100 * e + k)) (skZ (rs e))).mp c_44; omega) | exact Or.inr (by show rw_ (100 * e + k) = _; have := (lcmpZ_eq (rw_ (100 * e + k)) (at1 j)).mp c_57; omega))).symm
                | exact (h2.2 (fun z => by
                    have z : rw_ (100 * e + k) = skZ (rs e) ∨ rw_ (100 * e + k) = at1 j := z
                    rcases z with z | z
                    · exact c_44 ((lcmpZ_eq _ _).mpr z)
                    · exact c_57 ((lcmpZ_eq _ _).mpr z))).symm
              refine z_istore (lv' := [(4, .int (zI 1)), (6, .long (zL (rw_ (100 * e + k)))), (5, .int (zI (k : Int))), (0, .ref m), (1, .int (zI (e : Int))), (2, .int (zI (j : Int))), (3, .int (zI yard))]) C dX4_isRow_65 (nlt rfl) rfl ?_
              refine z_aload_n C dX4_isRow_67 rfl 3 rfl ?_
              refine z_get (q := 0) (kf := 4) (v := .ref g4) C rfl rfl in_X4 (by decide) q1091 (Or.inl rfl) rfl dX4_isRow_68 ?_
              refine z_iload_n C dX4_isRow_71 rfl 5 rfl ?_
              refine y_iald (q := 4) (t0 := 0) (v := at1 j) C rfl rfl (by omega) (by decide) rfl dX4_isRow_72 ?_
              refine z_iload_n C dX4_isRow_73 rfl 6 rfl ?_
              refine y_icmp_eq (tgt := 83) C (by omega) (by omega) dX4_isRow_74 (by decide) (fun c_74 => ?_) (fun c_74 => ?_)
              · skip
                refine y_iinc (lv' := [(5, .int (zI ((k : Int) + 1))), (4, .int (zI 1)), (6, .long (zL (rw_ (100 * e + k)))), (0, .ref m), (1, .int (zI (e : Int))), (2, .int (zI (j : Int))), (3, .int (zI yard))]) C dX4_isRow_83 (q := 2) rfl (nlt rfl) rfl ?_
                refine z_goto (tgt := 6) C dX4_isRow_86 (by decide) ?_
                refine z_lv (lv' := [(5, .int (zI ((k : Int) + 1))), (4, .int (zI 1)), (0, .ref m), (1, .int (zI (e : Int))), (2, .int (zI (j : Int))), (3, .int (zI yard))]) [0, 1, 3, 4, 5, 6] rfl ?_
                exact ih_6 _ (by omega) (k + 1) 1 at1 lg1 dy1 (by first | assumption | omega) (by first | exact seqF_t hsq (by assumption) | exact seqF_f hsq (by assumption)) (by first | exact hL1 | exact (hL1.at hst).day) (hnew) rfl
              · skip
                refine z_aload_n C dX4_isRow_77 rfl 3 rfl ?_
                refine z_iload_n C dX4_isRow_78 rfl 5 rfl ?_
                refine z_iload_n C dX4_isRow_79 rfl 6 rfl ?_
                refine z_v (ws' := fun u => [(m, .inr (11, [.int (zI (n : Int)), .ref g1, .ref g2, .ref g3, .ref g4, .ref g5, .int (zI oa), .int (zI (dy1 + 1)), .ref s1, .ref s2, .ref s3, .ref s4, .ref s5, .ref s6, .int (zI thr), .int (zI rdg), .int (zI plc), .int (zI ibd), .int (zI stm), .ref t1, .ref t2, .ref t3, .ref c0, .ref c1, .ref c2, .ref c3, .int (zI him), .int (zI pl0), .int (zI itk), ki, .int (zI chd), .int (zI chf), .ref y0, .int (zI sd), .ref y1])), (g1, AI G 7 (fun z_ => (kd z_ : Int))), (g2, AI G 7 fg), (g3, AI G 7 hm), (g4, AI G 7 (va_up at1 j (stepZ (kd j) (fg j) (hm j) (at1 j) oa (lg1 j) yard))), (g5, AI G 7 (dayL kd fg hm (va_up at1 j (stepZ (kd j) (fg j) (hm j) (at1 j) oa (lg1 j) yard)) oa n lg1)), (s1, AI G 8 (fun z_ => (hw z_ : Int))), (s2, AI G 8 (fun z_ => (kk z_ : Int))), (s3, AI G 8 kf), (s4, AI G 8 (fun z_ => (rs z_ : Int))), (s5, AI G 8 (fun z_ => (rm z_ : Int))), (s6, AL G 800 rw_), (c0, AI G 38 (encF sn soa sdy skd sfg shm sat slg))]) C (z_runV (q := 0) (As := [.int (zI (j : Int)), .int (zI yard)]) (rest := []) C (ct_X4_rideOn (zl X) G m g1 g2 g3 g4 g5 kd fg hm at1 lg1 n oa dy1 ([.ref s1, .ref s2, .ref s3, .ref s4, .ref s5, .ref s6, .int (zI thr), .int (zI rdg), .int (zI plc), .int (zI ibd), .int (zI stm), .ref t1, .ref t2, .ref t3, .ref c0, .ref c1, .ref c2, .ref c3, .int (zI him), .int (zI pl0), .int (zI itk), ki, .int (zI chd), .int (zI chf), .ref y0, .int (zI sd), .ref y1]) j yard (hL1) (by first | assumption | omega) (by first | assumption | omega) (by assumption)) (lw_V q1263 q1265 qs35 q61 q1266) rfl rfl (sb_e [0, 1, 2, 3, 4, 5] rfl rfl) (na := 2) (by decide +kernel) rfl (zrm rfl rfl (rfl) (rfl)) rfl (Nat.le_of_ble_eq_true rfl) dX4_isRow_80) (fun u => jn_e (wr := [(s1, AI G 8 (fun z_ => (hw z_ : Int))), (s2, AI G 8 (fun z_ => (kk z_ : Int))), (s3, AI G 8 kf), (s4, AI G 8 (fun z_ => (rs z_ : Int))), (s5, AI G 8 (fun z_ => (rm z_ : Int))), (s6, AL G 800 rw_), (c0, AI G 38 (encF sn soa sdy skd sfg shm sat slg))]) [0, 1, 2, 3, 4, 5] [6, 7, 8, 9, 10, 11, 12] [7, 8, 9, 10, 11, 12, 0, 1, 2, 3, 4, 5, 6] rfl rfl rfl (by decide) rfl rfl) (fun u hp_80 => ?_)
                refine y_iinc (lv' := [(5, .int (zI ((k : Int) + 1))), (4, .int (zI 1)), (6, .long (zL (rw_ (100 * e + k)))), (0, .ref m), (1, .int (zI (e : Int))), (2, .int (zI (j : Int))), (3, .int (zI yard))]) C dX4_isRow_83 (q := 2) rfl (nlt rfl) rfl ?_
                refine z_goto (tgt := 6) C dX4_isRow_86 (by decide) ?_
                refine z_lv (lv' := [(5, .int (zI ((k : Int) + 1))), (4, .int (zI 1)), (0, .ref m), (1, .int (zI (e : Int))), (2, .int (zI (j : Int))), (3, .int (zI yard))]) [0, 1, 3, 4, 5, 6] rfl ?_
                exact ih_6 _ (by omega) (k + 1) 1 (va_up at1 j (stepZ (kd j) (fg j) (hm j) (at1 j) oa (lg1 j) yard)) (dayL kd fg hm (va_up at1 j (stepZ (kd j) (fg j) (hm j) (at1 j) oa (lg1 j) yard)) oa n lg1) (dy1 + 1) (by first | assumption | omega) (by first | exact seqF_t hsq (by assumption) | exact seqF_f hsq (by assumption)) (by first | exact hL1 | exact (hL1.at hst).day) (hnew) rfl
  exact L_6 _ 0 1 at_ lg dy (by first | assumption | omega) (rfl) (hL) (rfl) rfl

/-- the set of those of 0 .. that b tells -/
def bitsF (b : Nat → Int) : Nat → Int32
  | 0 => zI 0
  | i + 1 => bitsF b i ||| (if b i = 0 then zI 0 else zI 1 <<< (zI (i : Int) &&& 31))
theorem bitsF_t {b : Nat → Int} {i : Nat} (h : ¬ b i = 0) : bitsF b (i + 1) = bitsF b i ||| (zI 1 <<< (zI (i : Int) &&& 31)) := by show _ ||| _ = _; rw [if_neg h]
theorem bitsF_f {b : Nat → Int} {i : Nat} (h : b i = 0) : bitsF b (i + 1) = bitsF b i ||| zI 0 := by show _ ||| _ = _; rw [if_pos h]
/-- whether one at home v would ride as the row tells -/
def homB (f : Nat → Int) (sk : Int) (ml : Nat) (kd : Nat → Nat) (fg hm : Nat → Int) (oa : Int) (n j : Nat) (yard : Int) (at_ lg : Nat → Int) (v : Nat) : Int := rowB f sk kd fg (va_up hm j (v : Int)) oa n j yard at_ lg ml
def oHomes (kd : Nat → Nat) (fg : Nat → Int) (hm : Nat → Int) (at_ : Nat → Int) (lg : Nat → Int) (n : Nat) (oa : Int) (hw : Nat → Nat) (kk : Nat → Nat) (rs : Nat → Nat) (rm : Nat → Nat) (kf : Nat → Int) (rw_ : Nat → Int) (d : Int) (h : Int) (yard : Int) (what : Int) : Int32 := if (0 ≤ h ∧ h ≤ (n : Int) - 1) ∧ (0 ≤ yard ∧ yard ≤ 20) ∧ (0 ≤ what ∧ what ≤ 1) then (if wrZ hw d < 0 then zI (wrZ hw d) else if what = 0 then bitsF (homB (rowF rw_ d.toNat) (skZ (rs d.toNat)) (rm d.toNat) kd fg hm oa n h.toNat yard at_ lg) 21 else zI (sumF (homB (rowF rw_ d.toNat) (skZ (rs d.toNat)) (rm d.toNat) kd fg hm oa n h.toNat yard at_ lg) 21)) else zI (-1)
set_option maxHeartbeats 4000000 in
theorem ct_X4_homes (l : Launch) (G : ZG) (m : Nat) (g1 : Nat) (g2 : Nat) (g3 : Nat) (g4 : Nat) (g5 : Nat) (s1 : Nat) (s2 : Nat) (s3 : Nat) (s4 : Nat) (s5 : Nat) (s6 : Nat) (t1 : Nat) (t2 : Nat) (t3 : Nat) (c0 : Nat) (c1 : Nat) (c2 : Nat) (c3 : Nat) (y0 : Nat) (y1 : Nat) (thr : Int) (rdg : Int) (plc : Int) (ibd : Int) (stm : Int) (him : Int) (pl0 : Int) (itk : Int) (chd : Int) (chf : Int) (sd : Int) (ki : Value) (kd : Nat → Nat) (fg : Nat → Int) (hm : Nat → Int) (at_ : Nat → Int) (lg : Nat → Int) (n : Nat) (oa : Int) (dy : Int) (kc : Nat → Int) (hw : Nat → Nat) (kk : Nat → Nat) (rs : Nat → Nat) (rm : Nat → Nat) (kf : Nat → Int) (rw_ : Nat → Int) (d : Int) (h : Int) (yard : Int) (what : Int) (hL : LK n kd fg hm at_ lg oa) (hS : SK hw kk rs rm kf rw_) (rd : -2147483648 ≤ d ∧ d ≤ 2147483647) (rh : -2147483648 ≤ h ∧ h ≤ 2147483647) (ryard : -2147483648 ≤ yard ∧ yard ≤ 2147483647) (rwhat : -2147483648 ≤ what ∧ what ≤ 2147483647) : CT l yX4_homes cX4_homes 10 (some .int) { frames := 6, cells := 0, slots := 0, locals := 145 } G [.ref m, .int (zI d), .int (zI h), .int (zI yard), .int (zI what)] [(m, .inr (11, [.int (zI (n : Int)), .ref g1, .ref g2, .ref g3, .ref g4, .ref g5, .int (zI oa), .int (zI dy), .ref s1, .ref s2, .ref s3, .ref s4, .ref s5, .ref s6, .int (zI thr), .int (zI rdg), .int (zI plc), .int (zI ibd), .int (zI stm), .ref t1, .ref t2, .ref t3, .ref c0, .ref c1, .ref c2, .ref c3, .int (zI him), .int (zI pl0), .int (zI itk), ki, .int (zI chd), .int (zI chf), .ref y0, .int (zI sd), .ref y1])), (g1, AI G 7 (fun z_ => (kd z_ : Int))), (g2, AI G 7 fg), (g3, AI G 7 hm), (g4, AI G 7 at_), (g5, AI G 7 lg), (s1, AI G 8 (fun z_ => (hw z_ : Int))), (s2, AI G 8 (fun z_ => (kk z_ : Int))), (s3, AI G 8 kf), (s4, AI G 8 (fun z_ => (rs z_ : Int))), (s5, AI G 8 (fun z_ => (rm z_ : Int))), (s6, AL G 800 rw_), (c0, AI G 38 kc)] (Qi G [(m, .inr (11, [.int (zI (n : Int)), .ref g1, .ref g2, .ref g3, .ref g4, .ref g5, .int (zI oa), .int (zI dy), .ref s1, .ref s2, .ref s3, .ref s4, .ref s5, .ref s6, .int (zI thr), .int (zI rdg), .int (zI plc), .int (zI ibd), .int (zI stm), .ref t1, .ref t2, .ref t3, .ref c0, .ref c1, .ref c2, .ref c3, .int (zI him), .int (zI pl0), .int (zI itk), ki, .int (zI chd), .int (zI chf), .ref y0, .int (zI sd), .ref y1])), (g1, AI G 7 (fun z_ => (kd z_ : Int))), (g2, AI G 7 fg), (g3, AI G 7 hm), (g4, AI G 7 at_), (g5, AI G 7 lg), (s1, AI G 8 (fun z_ => (hw z_ : Int))), (s2, AI G 8 (fun z_ => (kk z_ : Int))), (s3, AI G 8 kf), (s4, AI G 8 (fun z_ => (rs z_ : Int))), (s5, AI G 8 (fun z_ => (rm z_ : Int))), (s6, AL G 800 rw_), (c0, AI G 38 kc)] (fun (r : Int32) (u : Value × Int × Int × (Nat → Int)) => r = oHomes kd fg hm at_ lg n oa hw kk rs rm kf rw_ d h yard what) (fun u => [(m, .inr (11, [.int (zI (n : Int)), .ref g1, .ref g2, .ref g3, .ref g4, .ref g5, .int (zI oa), .int (zI dy), .ref s1, .ref s2, .ref s3, .ref s4, .ref s5, .ref s6, .int (zI 0), .int (zI rdg), .int (zI plc), .int (zI ibd), .int (zI stm), .ref t1, .ref t2, .ref t3, .ref c0, .ref c1, .ref c2, .ref c3, .int (zI him), .int (zI u.2.1), .int (zI u.2.2.1), u.1, .int (zI chd), .int (zI chf), .ref y0, .int (zI sd), .ref y1])), (g1, AI G 7 (fun z_ => (kd z_ : Int))), (g2, AI G 7 fg), (g3, AI G 7 hm), (g4, AI G 7 at_), (g5, AI G 7 lg), (s1, AI G 8 (fun z_ => (hw z_ : Int))), (s2, AI G 8 (fun z_ => (kk z_ : Int))), (s3, AI G 8 kf), (s4, AI G 8 (fun z_ => (rs z_ : Int))), (s5, AI G 8 (fun z_ => (rm z_ : Int))), (s6, AL G 800 rw_), (c0, AI G 38 u.2.2.2)])) := by
  refine z_met (by decide) (Nat.le_of_ble_eq_true rfl) ?_
  intro X A hl0 hA C hQ hin
  subst hl0
  obtain ⟨hn7, hoa, hLj⟩ := id hL
  show Z X _ G 0 0 _ 0 [(0, .ref m), (1, .int (zI d)), (2, .int (zI h)), (3, .int (zI yard)), (4, .int (zI what))] []
  refine z_aload_n C dX4_homes_0 rfl 0 rfl ?_
  refine y_iconst C dX4_homes_1 ?_
  refine z_put (q := 0) (kf := 14) (ws' := [(m, .inr (11, [.int (zI (n : Int)), .ref g1, .ref g2, .ref g3, .ref g4, .ref g5, .int (zI oa), .int (zI dy), .ref s1, .ref s2, .ref s3, .ref s4, .ref s5, .ref s6, .int (zI 0), .int (zI rdg), .int (zI plc), .int (zI ibd), .int (zI stm), .ref t1, .ref t2, .ref t3, .ref c0, .ref c1, .ref c2, .ref c3, .int (zI him), .int (zI pl0), .int (zI itk), ki, .int (zI chd), .int (zI chf), .ref y0, .int (zI sd), .ref y1])), (g1, AI G 7 (fun z_ => (kd z_ : Int))), (g2, AI G 7 fg), (g3, AI G 7 hm), (g4, AI G 7 at_), (g5, AI G 7 lg), (s1, AI G 8 (fun z_ => (hw z_ : Int))), (s2, AI G 8 (fun z_ => (kk z_ : Int))), (s3, AI G 8 kf), (s4, AI G 8 (fun z_ => (rs z_ : Int))), (s5, AI G 8 (fun z_ => (rm z_ : Int))), (s6, AL G 800 rw_), (c0, AI G 38 kc)]) C rfl rfl in_X4 tyX4_ok nmX4 (by decide) q1101 rfl rfl rfl rfl rfl (nlt rfl) rfl dX4_homes_2 ?_
  refine z_aload_n C dX4_homes_5 rfl 0 rfl ?_
  refine z_iload_n C dX4_homes_6 rfl 2 rfl ?_
  refine z_i C (z_runV (q := 0) (As := [.int (zI h)]) (rest := []) C (ct_X4_isHorse (zl X) G m g1 g2 g3 g4 g5 n oa dy ([.ref s1, .ref s2, .ref s3, .ref s4, .ref s5, .ref s6, .int (zI 0), .int (zI rdg), .int (zI plc), .int (zI ibd), .int (zI stm), .ref t1, .ref t2, .ref t3, .ref c0, .ref c1, .ref c2, .ref c3, .int (zI him), .int (zI pl0), .int (zI itk), ki, .int (zI chd), .int (zI chf), .ref y0, .int (zI sd), .ref y1]) h (by first | assumption | omega) (by first | assumption | omega)) (lw_V q1255 q1257 qs33 q61 q1258) rfl rfl (sb_e [0] rfl rfl) (na := 1) (by decide +kernel) rfl (zrm rfl rfl (rfl) (rfl)) rfl (Nat.le_of_ble_eq_true rfl) dX4_homes_7) (fun u => jn_ro (sb_e [0] rfl rfl)) (fun r_7 u hp_7 => ?_)
  have hp_7 : r_7 = zI (bI (0 ≤ h ∧ h ≤ (n : Int) - 1)) := hp_7
  subst hp_7
  refine y_beq (tgt := 39) C dX4_homes_10 (by decide) (fun c_10 => ?_) (fun c_10 => ?_)
  · skip
    refine y_iconst C dX4_homes_39 ?_
    refine z_istore (lv' := [(5, .int (zI (-1))), (0, .ref m), (1, .int (zI d)), (2, .int (zI h)), (3, .int (zI yard)), (4, .int (zI what))]) C dX4_homes_40 (nlt rfl) rfl ?_
    refine z_iload C dX4_homes_42 0 rfl ?_
    refine y_if_ge (tgt := 50) C (by omega) dX4_homes_44 (by decide) (fun c_44 => ?_) (fun c_44 => ?_)
    · skip
      exact absurd c_44 (by decide)
    · skip
      refine z_iload C dX4_homes_47 0 rfl ?_
      exact z_iret C hA hQ rfl (Nat.le_of_ble_eq_true rfl) (Nat.le_of_ble_eq_true rfl) ((ki, pl0, itk, kc)) ((by unfold oHomes; repeat (first | rw [if_pos (by omega)] | rw [if_neg (by omega)]))) (sb_e [0, 1, 2, 3, 4, 5, 6, 7, 8, 9, 10, 11, 12] rfl rfl) dX4_homes_49
  · skip
    refine z_iload_n C dX4_homes_13 rfl 3 rfl ?_
    refine z_i C (z_runS (As := [.int (zI yard)]) (rest := []) C (ct_X4_isYard (zl X) G yard (by first | assumption | omega)) (lw_S q1251 q1252 q61 q1253) (sb_e [] rfl rfl) (na := 1) (by decide +kernel) rfl (zrm rfl rfl (rfl) (rfl)) rfl (Nat.le_of_ble_eq_true rfl) dX4_homes_14) (fun u => jn_ro (sb_e [] rfl rfl)) (fun r_14 u hp_14 => ?_)
    have hp_14 : r_14 = zI (bI (0 ≤ yard ∧ yard ≤ 20)) := hp_14
    subst hp_14
    refine y_beq (tgt := 39) C dX4_homes_17 (by decide) (fun c_17 => ?_) (fun c_17 => ?_)
    · skip
      refine y_iconst C dX4_homes_39 ?_
      refine z_istore (lv' := [(5, .int (zI (-1))), (0, .ref m), (1, .int (zI d)), (2, .int (zI h)), (3, .int (zI yard)), (4, .int (zI what))]) C dX4_homes_40 (nlt rfl) rfl ?_
      refine z_iload C dX4_homes_42 0 rfl ?_
      refine y_if_ge (tgt := 50) C (by omega) dX4_homes_44 (by decide) (fun c_44 => ?_) (fun c_44 => ?_)
      · skip
        exact absurd c_44 (by decide)
      · skip
        refine z_iload C dX4_homes_47 0 rfl ?_
        exact z_iret C hA hQ rfl (Nat.le_of_ble_eq_true rfl) (Nat.le_of_ble_eq_true rfl) ((ki, pl0, itk, kc)) ((by unfold oHomes; repeat (first | rw [if_pos (by omega)] | rw [if_neg (by omega)]))) (sb_e [0, 1, 2, 3, 4, 5, 6, 7, 8, 9, 10, 11, 12] rfl rfl) dX4_homes_49
    · skip
      refine z_iload C dX4_homes_20 4 rfl ?_
      refine y_i2l C (by omega) dX4_homes_22 ?_
      refine z_lconst (v := zL 0) C dX4_homes_23 (by decide) ?_
      refine z_lconst (v := zL 1) C dX4_homes_24 (by decide) ?_
      refine z_i C (z_runS (As := [.long (zL what), .long (zL 0), .long (zL 1)]) (rest := []) C (ct_X4_in (zl X) G what 0 1 (by first | assumption | omega) (by first | assumption | omega) (by first | assumption | omega)) (lw_S q1207 q1208 q61 q1209) (sb_e [] rfl rfl) (na := 3) (by decide +kernel) rfl (zrm rfl rfl (rfl) (rfl)) rfl (Nat.le_of_ble_eq_true rfl) dX4_homes_25) (fun u => jn_ro (sb_e [] rfl rfl)) (fun r_25 u hp_25 => ?_)
      have hp_25 : r_25 = zI (bI (0 ≤ what ∧ what ≤ 1)) := hp_25
      subst hp_25
      refine y_beq (tgt := 39) C dX4_homes_28 (by decide) (fun c_28 => ?_) (fun c_28 => ?_)
      · skip
        refine y_iconst C dX4_homes_39 ?_
        refine z_istore (lv' := [(5, .int (zI (-1))), (0, .ref m), (1, .int (zI d)), (2, .int (zI h)), (3, .int (zI yard)), (4, .int (zI what))]) C dX4_homes_40 (nlt rfl) rfl ?_
        refine z_iload C dX4_homes_42 0 rfl ?_
        refine y_if_ge (tgt := 50) C (by omega) dX4_homes_44 (by decide) (fun c_44 => ?_) (fun c_44 => ?_)
        · skip
          exact absurd c_44 (by decide)
        · skip
          refine z_iload C dX4_homes_47 0 rfl ?_
          exact z_iret C hA hQ rfl (Nat.le_of_ble_eq_true rfl) (Nat.le_of_ble_eq_true rfl) ((ki, pl0, itk, kc)) ((by unfold oHomes; repeat (first | rw [if_pos (by omega)] | rw [if_neg (by omega)]))) (sb_e [0, 1, 2, 3, 4, 5, 6, 7, 8, 9, 10, 11, 12] rfl rfl) dX4_homes_49
      · skip
        refine z_aload_n C dX4_homes_31 rfl 0 rfl ?_
        refine z_iload_n C dX4_homes_32 rfl 1 rfl ?_
        refine z_i C (z_runV (q := 0) (As := [.int (zI d)]) (rest := []) C (ct_X4_wrongRow (zl X) G m g1 g2 g3 g4 g5 s1 s2 s3 s4 s5 s6 t1 t2 t3 c0 c1 c2 c3 y0 y1 0 rdg plc ibd stm him pl0 itk chd chf sd ki n oa dy hw kk rs rm kf rw_ d (by first | assumption | omega) (by first | assumption | omega)) (lw_V q1202 q1204 qs23 q61 q1205) rfl rfl (sb_e [0, 6, 7, 8, 9, 10, 11] rfl rfl) (na := 1) (by decide +kernel) rfl (zrm rfl rfl (rfl) (rfl)) rfl (Nat.le_of_ble_eq_true rfl) dX4_homes_33) (fun u => jn_ro (sb_e [0, 6, 7, 8, 9, 10, 11] rfl rfl)) (fun r_33 u hp_33 => ?_)
        have hp_33 : r_33 = zI (wrZ hw d) := hp_33
        subst hp_33
        have hwr := wrZ_r hw d
        refine z_goto (tgt := 40) C dX4_homes_36 (by decide) ?_
        refine z_istore (lv' := [(5, .int (zI (wrZ hw d))), (0, .ref m), (1, .int (zI d)), (2, .int (zI h)), (3, .int (zI yard)), (4, .int (zI what))]) C dX4_homes_40 (nlt rfl) rfl ?_
        refine z_iload C dX4_homes_42 0 rfl ?_
        refine y_if_ge (tgt := 50) C (by omega) dX4_homes_44 (by decide) (fun c_44 => ?_) (fun c_44 => ?_)
        · skip
          obtain ⟨hd1, hd2⟩ := wrZ_0 (hw := hw) (d := d) (by omega)
          obtain ⟨e, rfl⟩ := Int.eq_ofNat_of_zero_le (show 0 ≤ d by omega)
          simp only [zTN] at hd2
          obtain ⟨hS1, hS2⟩ := id hS
          have hSe := hS1 e (by omega)
          obtain ⟨j, rfl⟩ := Int.eq_ofNat_of_zero_le (show 0 ≤ h by omega)
          refine y_iconst C dX4_homes_50 ?_
          refine z_istore (lv' := [(6, .int (zI 0)), (5, .int (zI (wrZ hw (e : Int)))), (0, .ref m), (1, .int (zI (e : Int))), (2, .int (zI (j : Int))), (3, .int (zI yard)), (4, .int (zI what))]) C dX4_homes_51 (nlt rfl) rfl ?_
          refine y_iconst C dX4_homes_53 ?_
          refine z_istore (lv' := [(7, .int (zI 0)), (6, .int (zI 0)), (5, .int (zI (wrZ hw (e : Int)))), (0, .ref m), (1, .int (zI (e : Int))), (2, .int (zI (j : Int))), (3, .int (zI yard)), (4, .int (zI what))]) C dX4_homes_54 (nlt rfl) rfl ?_
          refine z_aload_n C dX4_homes_56 rfl 3 rfl ?_
          refine z_v (ws' := fun u => [(m, .inr (11, [.int (zI (n : Int)), .ref g1, .ref g2, .ref g3, .ref g4, .ref g5, .int (zI oa), .int (zI dy), .ref s1, .ref s2, .ref s3, .ref s4, .ref s5, .ref s6, .int (zI 0), .int (zI rdg), .int (zI plc), .int (zI ibd), .int (zI stm), .ref t1, .ref t2, .ref t3, .ref c0, .ref c1, .ref c2, .ref c3, .int (zI him), .int (zI 38), .int (zI 1), .ref c0, .int (zI chd), .int (zI chf), .ref y0, .int (zI sd), .ref y1])), (g1, AI G 7 (fun z_ => (kd z_ : Int))), (g2, AI G 7 fg), (g3, AI G 7 hm), (g4, AI G 7 at_), (g5, AI G 7 lg), (s1, AI G 8 (fun z_ => (hw z_ : Int))), (s2, AI G 8 (fun z_ => (kk z_ : Int))), (s3, AI G 8 kf), (s4, AI G 8 (fun z_ => (rs z_ : Int))), (s5, AI G 8 (fun z_ => (rm z_ : Int))), (s6, AL G 800 rw_), (c0, AI G 38 (encF n oa dy kd fg hm at_ lg))]) C (z_runV (q := 0) (As := []) (rest := []) C (ct_X4_open (zl X) G m g1 g2 g3 g4 g5 s1 s2 s3 s4 s5 s6 t1 t2 t3 c0 c1 c2 c3 y0 y1 0 rdg plc ibd stm him pl0 itk chd chf sd ki kd fg hm at_ lg n oa dy kc ) (lw_V q1231 q1233 qs28 q61 q1234) rfl rfl (sb_e [0, 1, 2, 3, 4, 5, 12] rfl rfl) (na := 0) (by decide +kernel) rfl (zrm rfl rfl (rfl) (rfl)) rfl (Nat.le_of_ble_eq_true rfl) dX4_homes_57) (fun u => jn_e (wr := [(s1, AI G 8 (fun z_ => (hw z_ : Int))), (s2, AI G 8 (fun z_ => (kk z_ : Int))), (s3, AI G 8 kf), (s4, AI G 8 (fun z_ => (rs z_ : Int))), (s5, AI G 8 (fun z_ => (rm z_ : Int))), (s6, AL G 800 rw_)]) [0, 1, 2, 3, 4, 5, 12] [6, 7, 8, 9, 10, 11] [6, 7, 8, 9, 10, 11, 0, 1, 2, 3, 4, 5, 12] rfl rfl rfl (by decide) rfl rfl) (fun u hp_57 => ?_)
          refine y_iconst C dX4_homes_60 ?_
          refine z_istore (lv' := [(8, .int (zI 0)), (7, .int (zI 0)), (6, .int (zI 0)), (5, .int (zI (wrZ hw (e : Int)))), (0, .ref m), (1, .int (zI (e : Int))), (2, .int (zI (j : Int))), (3, .int (zI yard)), (4, .int (zI what))]) C dX4_homes_61 (nlt rfl) rfl ?_
          have L_63 : ∀ (tt : Nat) (i : Nat) (set : Int32) (many : Int) (itb : Int), (i ≤ 21) → (set = bitsF (homB (rowF rw_ e) (skZ (rs e)) (rm e) kd fg hm oa n j yard at_ lg) i) → (many = sumF (homB (rowF rw_ e) (skZ (rs e)) (rm e) kd fg hm oa n j yard at_ lg) i) → 21 - i = tt → Z X (cX4_homes, 10, yX4_homes.cls, (some .int), { frames := 6, cells := 0, slots := 0, locals := 145 }, A) G 0 0 [(m, .inr (11, [.int (zI (n : Int)), .ref g1, .ref g2, .ref g3, .ref g4, .ref g5, .int (zI oa), .int (zI dy), .ref s1, .ref s2, .ref s3, .ref s4, .ref s5, .ref s6, .int (zI 0), .int (zI rdg), .int (zI plc), .int (zI ibd), .int (zI stm), .ref t1, .ref t2, .ref t3, .ref c0, .ref c1, .ref c2, .ref c3, .int (zI him), .int (zI 38), .int (zI itb), .ref c0, .int (zI chd), .int (zI chf), .ref y0, .int (zI sd), .ref y1])), (g1, AI G 7 (fun z_ => (kd z_ : Int))), (g2, AI G 7 fg), (g3, AI G 7 hm), (g4, AI G 7 at_), (g5, AI G 7 lg), (s1, AI G 8 (fun z_ => (hw z_ : Int))), (s2, AI G 8 (fun z_ => (kk z_ : Int))), (s3, AI G 8 kf), (s4, AI G 8 (fun z_ => (rs z_ : Int))), (s5, AI G 8 (fun z_ => (rm z_ : Int))), (s6, AL G 800 rw_), (c0, AI G 38 (encF n oa dy kd fg hm at_ lg))] 63 [(8, .int (zI (i : Int))), (7, .int (zI many)), (6, .int set), (0, .ref m), (1, .int (zI (e : Int))), (2, .int (zI (j : Int))), (3, .int (zI yard)), (4, .int (zI what))] [] := by
            intro tt
            induction tt using Nat.strongRecOn with
            | _ tt ih_63 =>
              intro i set many itb hi hst hmn ht_63
              refine z_iload C dX4_homes_63 0 rfl ?_
              refine y_bipush C dX4_homes_65 (by decide) ?_
              refine y_icmp_gt (tgt := 126) C (by omega) (by omega) dX4_homes_67 (by decide) (fun c_67 => ?_) (fun c_67 => ?_)
              · skip
                refine z_iload C dX4_homes_126 7 rfl ?_
                refine y_if_ne (tgt := 136) C (by omega) dX4_homes_128 (by decide) (fun c_128 => ?_) (fun c_128 => ?_)
                · skip
                  refine z_iload C dX4_homes_136 1 rfl ?_
                  rw [show i = 21 by omega] at hst hmn
                  exact z_iret C hA hQ rfl (Nat.le_of_ble_eq_true rfl) (Nat.le_of_ble_eq_true rfl) (((.ref c0), 38, itb, (encF n oa dy kd fg hm at_ lg))) ((by unfold oHomes; rw [if_pos (by omega), if_neg (by omega)]; simp only [zTN]; rw [← hst, ← hmn]; first | rw [if_pos (by omega)] | rw [if_neg (by omega)])) (sb_e [0, 1, 2, 3, 4, 5, 6, 7, 8, 9, 10, 11, 12] rfl rfl) dX4_homes_138
                · skip
                  refine z_iload C dX4_homes_131 2 rfl ?_
                  refine z_goto (tgt := 138) C dX4_homes_133 (by decide) ?_
                  rw [show i = 21 by omega] at hst hmn
                  exact z_iret C hA hQ rfl (Nat.le_of_ble_eq_true rfl) (Nat.le_of_ble_eq_true rfl) (((.ref c0), 38, itb, (encF n oa dy kd fg hm at_ lg))) ((by unfold oHomes; rw [if_pos (by omega), if_neg (by omega)]; simp only [zTN]; rw [← hst, ← hmn]; first | rw [if_pos (by omega)] | rw [if_neg (by omega)])) (sb_e [0, 1, 2, 3, 4, 5, 6, 7, 8, 9, 10, 11, 12] rfl rfl) dX4_homes_138
              · skip
                refine z_aload_n C dX4_homes_70 rfl 3 rfl ?_
                refine z_get (q := 0) (kf := 3) (v := .ref g3) C rfl rfl in_X4 (by decide) q1090 (Or.inl rfl) rfl dX4_homes_71 ?_
                refine z_iload_n C dX4_homes_74 rfl 5 rfl ?_
                refine z_iload C dX4_homes_75 0 rfl ?_
                refine y_iast (q := 3) (t0 := 0) (g := va_up hm j (i : Int)) (ws' := [(m, .inr (11, [.int (zI (n : Int)), .ref g1, .ref g2, .ref g3, .ref g4, .ref g5, .int (zI oa), .int (zI dy), .ref s1, .ref s2, .ref s3, .ref s4, .ref s5, .ref s6, .int (zI 0), .int (zI rdg), .int (zI plc), .int (zI ibd), .int (zI stm), .ref t1, .ref t2, .ref t3, .ref c0, .ref c1, .ref c2, .ref c3, .int (zI him), .int (zI 38), .int (zI itb), .ref c0, .int (zI chd), .int (zI chf), .ref y0, .int (zI sd), .ref y1])), (g1, AI G 7 (fun z_ => (kd z_ : Int))), (g2, AI G 7 fg), (g3, AI G 7 (va_up hm j (i : Int))), (g4, AI G 7 at_), (g5, AI G 7 lg), (s1, AI G 8 (fun z_ => (hw z_ : Int))), (s2, AI G 8 (fun z_ => (kk z_ : Int))), (s3, AI G 8 kf), (s4, AI G 8 (fun z_ => (rs z_ : Int))), (s5, AI G 8 (fun z_ => (rm z_ : Int))), (s6, AL G 800 rw_), (c0, AI G 38 (encF n oa dy kd fg hm at_ lg))]) C rfl rfl (by omega) (by decide) rfl rfl dX4_homes_77 ?_
                refine z_aload_n C dX4_homes_78 rfl 3 rfl ?_
                refine z_iload_n C dX4_homes_79 rfl 4 rfl ?_
                refine z_iload_n C dX4_homes_80 rfl 5 rfl ?_
                refine z_iload_n C dX4_homes_81 rfl 6 rfl ?_
                refine z_i (ws' := fun u => [(m, .inr (11, [.int (zI (n : Int)), .ref g1, .ref g2, .ref g3, .ref g4, .ref g5, .int (zI oa), .int (zI dy), .ref s1, .ref s2, .ref s3, .ref s4, .ref s5, .ref s6, .int (zI 0), .int (zI rdg), .int (zI plc), .int (zI ibd), .int (zI stm), .ref t1, .ref t2, .ref t3, .ref c0, .ref c1, .ref c2, .ref c3, .int (zI him), .int (zI 38), .int (zI 0), .ref c0, .int (zI chd), .int (zI chf), .ref y0, .int (zI sd), .ref y1])), (g1, AI G 7 (fun z_ => (kd z_ : Int))), (g2, AI G 7 fg), (g3, AI G 7 hm), (g4, AI G 7 at_), (g5, AI G 7 lg), (s1, AI G 8 (fun z_ => (hw z_ : Int))), (s2, AI G 8 (fun z_ => (kk z_ : Int))), (s3, AI G 8 kf), (s4, AI G 8 (fun z_ => (rs z_ : Int))), (s5, AI G 8 (fun z_ => (rm z_ : Int))), (s6, AL G 800 rw_), (c0, AI G 38 (encF n oa dy kd fg hm at_ lg))]) C (z_runV (q := 0) (As := [.int (zI (e : Int)), .int (zI (j : Int)), .int (zI yard)]) (rest := []) C (ct_X4_isRow (zl X) G m g1 g2 g3 g4 g5 s1 s2 s3 s4 s5 s6 t1 t2 t3 c0 c1 c2 c3 y0 y1 0 rdg plc ibd stm him 38 itb chd chf sd (.ref c0) kd fg (va_up hm j (i : Int)) at_ lg n oa dy hw kk rs rm kf rw_ kd fg hm at_ lg n oa dy e j yard (hL.hm (by omega)) (by first | assumption | omega) (by omega) (by omega) (by first | assumption | omega)) (lw_V q1440 q1442 qs51 q61 q1443) rfl rfl (sb_e [0, 1, 2, 3, 4, 5, 6, 7, 8, 9, 10, 11, 12] rfl rfl) (na := 3) (by decide +kernel) rfl (zrm rfl rfl (rfl) (rfl)) rfl (Nat.le_of_ble_eq_true rfl) dX4_homes_82) (fun u => jn_e (wr := []) [0, 1, 2, 3, 4, 5, 6, 7, 8, 9, 10, 11, 12] [] [0, 1, 2, 3, 4, 5, 6, 7, 8, 9, 10, 11, 12] rfl rfl rfl (by decide) rfl rfl) (fun r_82 u hp_82 => ?_)
                have hp_82 : r_82 = zI (rowB (rowF rw_ e) (skZ (rs e)) kd fg (va_up hm j (i : Int)) oa n j yard at_ lg (rm e)) := hp_82
                subst hp_82
                rw [show rowB (rowF rw_ e) (skZ (rs e)) kd fg (va_up hm j (i : Int)) oa n j yard at_ lg (rm e) = homB (rowF rw_ e) (skZ (rs e)) (rm e) kd fg hm oa n j yard at_ lg i from rfl]
                have h01 : homB (rowF rw_ e) (skZ (rs e)) (rm e) kd fg hm oa n j yard at_ lg i = 0 ∨ homB (rowF rw_ e) (skZ (rs e)) (rm e) kd fg hm oa n j yard at_ lg i = 1 := rowB_01 _
                refine z_istore (lv' := [(9, .int (zI (homB (rowF rw_ e) (skZ (rs e)) (rm e) kd fg hm oa n j yard at_ lg i))), (8, .int (zI (i : Int))), (7, .int (zI many)), (6, .int set), (0, .ref m), (1, .int (zI (e : Int))), (2, .int (zI (j : Int))), (3, .int (zI yard)), (4, .int (zI what))]) C dX4_homes_85 (nlt rfl) rfl ?_
                refine z_iload C dX4_homes_87 3 rfl ?_
                refine z_iload C dX4_homes_89 0 rfl ?_
                refine y_if_eq (tgt := 101) C (by omega) dX4_homes_91 (by decide) (fun hb0 => ?_) (fun hb0 => ?_)
                · skip
                  refine y_iconst C dX4_homes_101 ?_
                  refine z_ior C dX4_homes_102 rfl ?_
                  refine z_istore (lv' := [(6, .int (set ||| (zI 0))), (9, .int (zI (homB (rowF rw_ e) (skZ (rs e)) (rm e) kd fg hm oa n j yard at_ lg i))), (8, .int (zI (i : Int))), (7, .int (zI many)), (0, .ref m), (1, .int (zI (e : Int))), (2, .int (zI (j : Int))), (3, .int (zI yard)), (4, .int (zI what))]) C dX4_homes_103 (nlt rfl) rfl ?_
                  refine z_iload C dX4_homes_105 3 rfl ?_
                  refine z_iload C dX4_homes_107 1 rfl ?_
                  refine y_if_eq (tgt := 116) C (by omega) dX4_homes_109 (by decide) (fun hb1 => ?_) (fun hb1 => ?_)
                  · skip
                    refine y_iconst C dX4_homes_116 ?_
                    refine y_iadd C dX4_homes_117 ?_
                    refine z_istore (lv' := [(7, .int (zI (many + 0))), (6, .int (set ||| (zI 0))), (9, .int (zI (homB (rowF rw_ e) (skZ (rs e)) (rm e) kd fg hm oa n j yard at_ lg i))), (8, .int (zI (i : Int))), (0, .ref m), (1, .int (zI (e : Int))), (2, .int (zI (j : Int))), (3, .int (zI yard)), (4, .int (zI what))]) C dX4_homes_118 (nlt rfl) rfl ?_
                    refine y_iinc (lv' := [(8, .int (zI ((i : Int) + 1))), (7, .int (zI (many + 0))), (6, .int (set ||| (zI 0))), (9, .int (zI (homB (rowF rw_ e) (skZ (rs e)) (rm e) kd fg hm oa n j yard at_ lg i))), (0, .ref m), (1, .int (zI (e : Int))), (2, .int (zI (j : Int))), (3, .int (zI yard)), (4, .int (zI what))]) C dX4_homes_120 (q := 3) rfl (nlt rfl) rfl ?_
                    refine z_goto (tgt := 63) C dX4_homes_123 (by decide) ?_
                    refine z_lv (lv' := [(8, .int (zI ((i : Int) + 1))), (7, .int (zI (many + 0))), (6, .int (set ||| (zI 0))), (0, .ref m), (1, .int (zI (e : Int))), (2, .int (zI (j : Int))), (3, .int (zI yard)), (4, .int (zI what))]) [0, 1, 2, 4, 5, 6, 7, 8] rfl ?_
                    exact ih_63 _ (by omega) (i + 1) ((set ||| (zI 0))) (many + 0) 0 (by first | assumption | omega) (by first | (exfalso; omega) | (rw [hst]; exact (bitsF_f hb0).symm) | (rw [hst]; exact (bitsF_t hb0).symm)) (by first | (exfalso; omega) | (rw [hmn]; show _ = sumF _ i + homB (rowF rw_ e) (skZ (rs e)) (rm e) kd fg hm oa n j yard at_ lg i; omega)) rfl
                  · skip
                    refine y_iconst C dX4_homes_112 ?_
                    refine z_goto (tgt := 117) C dX4_homes_113 (by decide) ?_
                    refine y_iadd C dX4_homes_117 ?_
                    refine z_istore (lv' := [(7, .int (zI (many + 1))), (6, .int (set ||| (zI 0))), (9, .int (zI (homB (rowF rw_ e) (skZ (rs e)) (rm e) kd fg hm oa n j yard at_ lg i))), (8, .int (zI (i : Int))), (0, .ref m), (1, .int (zI (e : Int))), (2, .int (zI (j : Int))), (3, .int (zI yard)), (4, .int (zI what))]) C dX4_homes_118 (nlt rfl) rfl ?_
                    refine y_iinc (lv' := [(8, .int (zI ((i : Int) + 1))), (7, .int (zI (many + 1))), (6, .int (set ||| (zI 0))), (9, .int (zI (homB (rowF rw_ e) (skZ (rs e)) (rm e) kd fg hm oa n j yard at_ lg i))), (0, .ref m), (1, .int (zI (e : Int))), (2, .int (zI (j : Int))), (3, .int (zI yard)), (4, .int (zI what))]) C dX4_homes_120 (q := 3) rfl (nlt rfl) rfl ?_
                    refine z_goto (tgt := 63) C dX4_homes_123 (by decide) ?_
                    refine z_lv (lv' := [(8, .int (zI ((i : Int) + 1))), (7, .int (zI (many + 1))), (6, .int (set ||| (zI 0))), (0, .ref m), (1, .int (zI (e : Int))), (2, .int (zI (j : Int))), (3, .int (zI yard)), (4, .int (zI what))]) [0, 1, 2, 4, 5, 6, 7, 8] rfl ?_
                    exact ih_63 _ (by omega) (i + 1) ((set ||| (zI 0))) (many + 1) 0 (by first | assumption | omega) (by first | (exfalso; omega) | (rw [hst]; exact (bitsF_f hb0).symm) | (rw [hst]; exact (bitsF_t hb0).symm)) (by first | (exfalso; omega) | (rw [hmn]; show _ = sumF _ i + homB (rowF rw_ e) (skZ (rs e)) (rm e) kd fg hm oa n j yard at_ lg i; omega)) rfl
                · skip
                  refine y_iconst C dX4_homes_94 ?_
                  refine z_iload C dX4_homes_95 1 rfl ?_
                  refine z_ishl C dX4_homes_97 rfl ?_
                  refine z_goto (tgt := 102) C dX4_homes_98 (by decide) ?_
                  refine z_ior C dX4_homes_102 rfl ?_
                  refine z_istore (lv' := [(6, .int (set ||| ((zI 1) <<< ((zI (i : Int)) &&& 31)))), (9, .int (zI (homB (rowF rw_ e) (skZ (rs e)) (rm e) kd fg hm oa n j yard at_ lg i))), (8, .int (zI (i : Int))), (7, .int (zI many)), (0, .ref m), (1, .int (zI (e : Int))), (2, .int (zI (j : Int))), (3, .int (zI yard)), (4, .int (zI what))]) C dX4_homes_103 (nlt rfl) rfl ?_
                  refine z_iload C dX4_homes_105 3 rfl ?_
                  refine z_iload C dX4_homes_107 1 rfl ?_
                  refine y_if_eq (tgt := 116) C (by omega) dX4_homes_109 (by decide) (fun hb1 => ?_) (fun hb1 => ?_)
                  · skip
                    refine y_iconst C dX4_homes_116 ?_
                    refine y_iadd C dX4_homes_117 ?_
                    refine z_istore (lv' := [(7, .int (zI (many + 0))), (6, .int (set ||| ((zI 1) <<< ((zI (i : Int)) &&& 31)))), (9, .int (zI (homB (rowF rw_ e) (skZ (rs e)) (rm e) kd fg hm oa n j yard at_ lg i))), (8, .int (zI (i : Int))), (0, .ref m), (1, .int (zI (e : Int))), (2, .int (zI (j : Int))), (3, .int (zI yard)), (4, .int (zI what))]) C dX4_homes_118 (nlt rfl) rfl ?_
                    refine y_iinc (lv' := [(8, .int (zI ((i : Int) + 1))), (7, .int (zI (many + 0))), (6, .int (set ||| ((zI 1) <<< ((zI (i : Int)) &&& 31)))), (9, .int (zI (homB (rowF rw_ e) (skZ (rs e)) (rm e) kd fg hm oa n j yard at_ lg i))), (0, .ref m), (1, .int (zI (e : Int))), (2, .int (zI (j : Int))), (3, .int (zI yard)), (4, .int (zI what))]) C dX4_homes_120 (q := 3) rfl (nlt rfl) rfl ?_
                    refine z_goto (tgt := 63) C dX4_homes_123 (by decide) ?_
                    refine z_lv (lv' := [(8, .int (zI ((i : Int) + 1))), (7, .int (zI (many + 0))), (6, .int (set ||| ((zI 1) <<< ((zI (i : Int)) &&& 31)))), (0, .ref m), (1, .int (zI (e : Int))), (2, .int (zI (j : Int))), (3, .int (zI yard)), (4, .int (zI what))]) [0, 1, 2, 4, 5, 6, 7, 8] rfl ?_
                    exact ih_63 _ (by omega) (i + 1) ((set ||| ((zI 1) <<< ((zI (i : Int)) &&& 31)))) (many + 0) 0 (by first | assumption | omega) (by first | (exfalso; omega) | (rw [hst]; exact (bitsF_f hb0).symm) | (rw [hst]; exact (bitsF_t hb0).symm)) (by first | (exfalso; omega) | (rw [hmn]; show _ = sumF _ i + homB (rowF rw_ e) (skZ (rs e)) (rm e) kd fg hm oa n j yard at_ lg i; omega)) rfl
                  · skip
                    refine y_iconst C dX4_homes_112 ?_
                    refine z_goto (tgt := 117) C dX4_homes_113 (by decide) ?_
                    refine y_iadd C dX4_homes_117 ?_
                    refine z_istore (lv' := [(7, .int (zI (many + 1))), (6, .int (set ||| ((zI 1) <<< ((zI (i : Int)) &&& 31)))), (9, .int (zI (homB (rowF rw_ e) (skZ (rs e)) (rm e) kd fg hm oa n j yard at_ lg i))), (8, .int (zI (i : Int))), (0, .ref m), (1, .int (zI (e : Int))), (2, .int (zI (j : Int))), (3, .int (zI yard)), (4, .int (zI what))]) C dX4_homes_118 (nlt rfl) rfl ?_
                    refine y_iinc (lv' := [(8, .int (zI ((i : Int) + 1))), (7, .int (zI (many + 1))), (6, .int (set ||| ((zI 1) <<< ((zI (i : Int)) &&& 31)))), (9, .int (zI (homB (rowF rw_ e) (skZ (rs e)) (rm e) kd fg hm oa n j yard at_ lg i))), (0, .ref m), (1, .int (zI (e : Int))), (2, .int (zI (j : Int))), (3, .int (zI yard)), (4, .int (zI what))]) C dX4_homes_120 (q := 3) rfl (nlt rfl) rfl ?_
                    refine z_goto (tgt := 63) C dX4_homes_123 (by decide) ?_
                    refine z_lv (lv' := [(8, .int (zI ((i : Int) + 1))), (7, .int (zI (many + 1))), (6, .int (set ||| ((zI 1) <<< ((zI (i : Int)) &&& 31)))), (0, .ref m), (1, .int (zI (e : Int))), (2, .int (zI (j : Int))), (3, .int (zI yard)), (4, .int (zI what))]) [0, 1, 2, 4, 5, 6, 7, 8] rfl ?_
                    exact ih_63 _ (by omega) (i + 1) ((set ||| ((zI 1) <<< ((zI (i : Int)) &&& 31)))) (many + 1) 0 (by first | assumption | omega) (by first | (exfalso; omega) | (rw [hst]; exact (bitsF_f hb0).symm) | (rw [hst]; exact (bitsF_t hb0).symm)) (by first | (exfalso; omega) | (rw [hmn]; show _ = sumF _ i + homB (rowF rw_ e) (skZ (rs e)) (rm e) kd fg hm oa n j yard at_ lg i; omega)) rfl
          refine z_lv (lv' := [(8, .int (zI 0)), (7, .int (zI 0)), (6, .int (zI 0)), (0, .ref m), (1, .int (zI (e : Int))), (2, .int (zI (j : Int))), (3, .int (zI yard)), (4, .int (zI what))]) [0, 1, 2, 4, 5, 6, 7, 8] rfl ?_
          exact L_63 _ 0 (zI 0) 0 1 (by first | assumption | omega) (rfl) (rfl) rfl
        · skip
          refine z_iload C dX4_homes_47 0 rfl ?_
          exact z_iret C hA hQ rfl (Nat.le_of_ble_eq_true rfl) (Nat.le_of_ble_eq_true rfl) ((ki, pl0, itk, kc)) ((by unfold oHomes; repeat (first | rw [if_pos (by omega)] | rw [if_neg (by omega)]))) (sb_e [0, 1, 2, 3, 4, 5, 6, 7, 8, 9, 10, 11, 12] rfl rfl) dX4_homes_49

