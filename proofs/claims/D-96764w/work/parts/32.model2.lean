/-! THE MODEL, 2: rides, sums, carry -/
set_option maxRecDepth 100000
set_option maxHeartbeats 4000000 in
theorem ct_X4_rideOn (l : Launch) (G : ZG) (m : Nat) (g1 : Nat) (g2 : Nat) (g3 : Nat) (g4 : Nat) (g5 : Nat) (kd : Nat → Nat) (fg : Nat → Int) (hm : Nat → Int) (at_ : Nat → Int) (lg : Nat → Int) (n : Nat) (oa : Int) (dy : Int) (rs : List Value) (j : Nat) (yard : Int) (hL : LK n kd fg hm at_ lg oa) (hj : j < n) (hy : 0 ≤ yard ∧ yard ≤ 20) (hne : ¬ at_ j = yard) : CT l yX4_rideOn cX4_rideOn 8 none { frames := 4, cells := 0, slots := 0, locals := 91 } G [.ref m, .int (zI (j : Int)), .int (zI yard)] [(m, .inr (11, .int (zI (n : Int)) :: .ref g1 :: .ref g2 :: .ref g3 :: .ref g4 :: .ref g5 :: .int (zI oa) :: .int (zI dy) :: rs)), (g1, AI G 7 (fun z_ => (kd z_ : Int))), (g2, AI G 7 fg), (g3, AI G 7 hm), (g4, AI G 7 at_), (g5, AI G 7 lg)] (Qv G [(m, .inr (11, .int (zI (n : Int)) :: .ref g1 :: .ref g2 :: .ref g3 :: .ref g4 :: .ref g5 :: .int (zI oa) :: .int (zI dy) :: rs)), (g1, AI G 7 (fun z_ => (kd z_ : Int))), (g2, AI G 7 fg), (g3, AI G 7 hm), (g4, AI G 7 at_), (g5, AI G 7 lg)] (fun (u : Unit) => True) (fun u => [(m, .inr (11, .int (zI (n : Int)) :: .ref g1 :: .ref g2 :: .ref g3 :: .ref g4 :: .ref g5 :: .int (zI oa) :: .int (zI (dy + 1)) :: rs)), (g1, AI G 7 (fun z_ => (kd z_ : Int))), (g2, AI G 7 fg), (g3, AI G 7 hm), (g4, AI G 7 (va_up at_ j (stepZ (kd j) (fg j) (hm j) (at_ j) oa (lg j) yard))), (g5, AI G 7 (dayL kd fg hm (va_up at_ j (stepZ (kd j) (fg j) (hm j) (at_ j) oa (lg j) yard)) oa n lg))])) := by
  refine z_met (by decide) (Nat.le_of_ble_eq_true rfl) ?_
  intro X A hl0 hA C hQ hin
  subst hl0
  obtain ⟨hn7, hoa, hLj⟩ := id hL
  obtain ⟨hk1, hf1, hm1, ha1, hl1⟩ := hLj j hj
  have hg := goalZ_r (k := kd j) hm1 ha1 hoa
  have hpz := paceZ_r (k := kd j) hf1 hl1
  have hwk := walkZ_r (kd j)
  have hst := stepZ_r (k := kd j) hf1 hm1 ha1 hoa hl1 hy
  have hz7 := zAbs_nn (at_ j - goalZ (kd j) (hm j) (at_ j) oa)
  have hz8 := (zAbs_le (a := at_ j - goalZ (kd j) (hm j) (at_ j) oa) (m := 20)).mpr ⟨by omega, by omega⟩
  have hz9 := zAbs_nn (at_ j - yard)
  have hz10 := (zAbs_le (a := at_ j - yard) (m := 20)).mpr ⟨by omega, by omega⟩
  show Z X _ G 0 0 _ 0 [(0, .ref m), (1, .int (zI (j : Int))), (2, .int (zI yard))] []
  refine z_aload_n C dX4_rideOn_0 rfl 0 rfl ?_
  refine z_get (q := 0) (kf := 4) (v := .ref g4) C rfl rfl in_X4 (by decide) q1091 (Or.inl rfl) rfl dX4_rideOn_1 ?_
  refine z_iload_n C dX4_rideOn_4 rfl 1 rfl ?_
  refine y_iald (q := 4) (t0 := 0) (v := at_ j) C rfl rfl (by omega) (by decide) rfl dX4_rideOn_5 ?_
  refine z_istore_n (lv' := [(3, .int (zI (at_ j))), (0, .ref m), (1, .int (zI (j : Int))), (2, .int (zI yard))]) C dX4_rideOn_6 rfl (nlt rfl) rfl ?_
  refine z_aload_n C dX4_rideOn_7 rfl 1 rfl ?_
  refine z_iload_n C dX4_rideOn_8 rfl 2 rfl ?_
  refine z_i C (z_runV (q := 0) (As := [.int (zI (j : Int))]) (rest := []) C (ct_X4_goalOf (zl X) G m g1 g2 g3 g4 g5 kd fg hm at_ lg n oa dy rs j (by first | assumption | omega) (by first | assumption | omega)) (lw_V q1267 q1269 qs36 q61 q1270) rfl rfl (sb_e [0, 1, 2, 3, 4, 5] rfl rfl) (na := 1) (by decide +kernel) rfl (zrm rfl rfl (rfl) (rfl)) rfl (Nat.le_of_ble_eq_true rfl) dX4_rideOn_9) (fun u => jn_ro (sb_e [0, 1, 2, 3, 4, 5] rfl rfl)) (fun r_9 u hp_9 => ?_)
  have hp_9 : r_9 = zI (goalZ (kd j) (hm j) (at_ j) oa) := hp_9
  subst hp_9
  refine z_istore (lv' := [(4, .int (zI (goalZ (kd j) (hm j) (at_ j) oa))), (3, .int (zI (at_ j))), (0, .ref m), (1, .int (zI (j : Int))), (2, .int (zI yard))]) C dX4_rideOn_12 (nlt rfl) rfl ?_
  have L_24 : ∀ (way : Int), ((way = 1 ∧ at_ j < yard) ∨ (way = -1 ∧ yard < at_ j)) → Z X (cX4_rideOn, 8, yX4_rideOn.cls, none, { frames := 4, cells := 0, slots := 0, locals := 91 }, A) G 0 0 [(m, .inr (11, .int (zI (n : Int)) :: .ref g1 :: .ref g2 :: .ref g3 :: .ref g4 :: .ref g5 :: .int (zI oa) :: .int (zI dy) :: rs)), (g1, AI G 7 (fun z_ => (kd z_ : Int))), (g2, AI G 7 fg), (g3, AI G 7 hm), (g4, AI G 7 at_), (g5, AI G 7 lg)] 24 [(4, .int (zI (goalZ (kd j) (hm j) (at_ j) oa))), (3, .int (zI (at_ j))), (0, .ref m), (1, .int (zI (j : Int))), (2, .int (zI yard))] [.int (zI way)] := by
    intro way hway
    refine z_istore (lv' := [(5, .int (zI way)), (4, .int (zI (goalZ (kd j) (hm j) (at_ j) oa))), (3, .int (zI (at_ j))), (0, .ref m), (1, .int (zI (j : Int))), (2, .int (zI yard))]) C dX4_rideOn_24 (nlt rfl) rfl ?_
    have L_56 : ∀ (hw : Int), ((hw = 1 ∧ ((way = 1 ∧ at_ j < goalZ (kd j) (hm j) (at_ j) oa) ∨ (way = -1 ∧ goalZ (kd j) (hm j) (at_ j) oa < at_ j))) ∨ (hw = 0 ∧ ¬ ((way = 1 ∧ at_ j < goalZ (kd j) (hm j) (at_ j) oa) ∨ (way = -1 ∧ goalZ (kd j) (hm j) (at_ j) oa < at_ j)))) → Z X (cX4_rideOn, 8, yX4_rideOn.cls, none, { frames := 4, cells := 0, slots := 0, locals := 91 }, A) G 0 0 [(m, .inr (11, .int (zI (n : Int)) :: .ref g1 :: .ref g2 :: .ref g3 :: .ref g4 :: .ref g5 :: .int (zI oa) :: .int (zI dy) :: rs)), (g1, AI G 7 (fun z_ => (kd z_ : Int))), (g2, AI G 7 fg), (g3, AI G 7 hm), (g4, AI G 7 at_), (g5, AI G 7 lg)] 56 [(5, .int (zI way)), (4, .int (zI (goalZ (kd j) (hm j) (at_ j) oa))), (3, .int (zI (at_ j))), (0, .ref m), (1, .int (zI (j : Int))), (2, .int (zI yard))] [.int (zI hw)] := by
      intro hw hhw
      refine z_istore (lv' := [(6, .int (zI hw)), (5, .int (zI way)), (4, .int (zI (goalZ (kd j) (hm j) (at_ j) oa))), (3, .int (zI (at_ j))), (0, .ref m), (1, .int (zI (j : Int))), (2, .int (zI yard))]) C dX4_rideOn_56 (nlt rfl) rfl ?_
      refine z_iload_n C dX4_rideOn_58 rfl 3 rfl ?_
      refine z_iload_n C dX4_rideOn_59 rfl 6 rfl ?_
      refine z_i C (z_runS (As := [.int (zI (at_ j)), .int (zI yard)]) (rest := []) C (ct_X4_apart (zl X) G (at_ j) yard (by first | assumption | omega) (by first | assumption | omega)) (lw_S q1271 q1272 q61 q1273) (sb_e [] rfl rfl) (na := 2) (by decide +kernel) rfl (zrm rfl rfl (rfl) (rfl)) rfl (Nat.le_of_ble_eq_true rfl) dX4_rideOn_60) (fun u => jn_ro (sb_e [] rfl rfl)) (fun r_60 u hp_60 => ?_)
      have hp_60 : r_60 = zI (zAbs ((at_ j) - yard)) := hp_60
      subst hp_60
      refine z_istore (lv' := [(7, .int (zI (zAbs ((at_ j) - yard)))), (6, .int (zI hw)), (5, .int (zI way)), (4, .int (zI (goalZ (kd j) (hm j) (at_ j) oa))), (3, .int (zI (at_ j))), (0, .ref m), (1, .int (zI (j : Int))), (2, .int (zI yard))]) C dX4_rideOn_63 (nlt rfl) rfl ?_
      have L_106 : ∀ (mi : Int), (at_ j + way * mi = stepZ (kd j) (fg j) (hm j) (at_ j) oa (lg j) yard) → Z X (cX4_rideOn, 8, yX4_rideOn.cls, none, { frames := 4, cells := 0, slots := 0, locals := 91 }, A) G 0 0 [(m, .inr (11, .int (zI (n : Int)) :: .ref g1 :: .ref g2 :: .ref g3 :: .ref g4 :: .ref g5 :: .int (zI oa) :: .int (zI dy) :: rs)), (g1, AI G 7 (fun z_ => (kd z_ : Int))), (g2, AI G 7 fg), (g3, AI G 7 hm), (g4, AI G 7 at_), (g5, AI G 7 lg)] 106 [(7, .int (zI mi)), (5, .int (zI way)), (0, .ref m), (1, .int (zI (j : Int))), (3, .int (zI (at_ j))), (4, .int (zI (goalZ (kd j) (hm j) (at_ j) oa))), (2, .int (zI yard))] [] := by
        intro mi hmi
        refine z_aload_n C dX4_rideOn_106 rfl 2 rfl ?_
        refine z_get (q := 0) (kf := 4) (v := .ref g4) C rfl rfl in_X4 (by decide) q1091 (Or.inl rfl) rfl dX4_rideOn_107 ?_
        refine z_iload_n C dX4_rideOn_110 rfl 3 rfl ?_
        refine z_iload_n C dX4_rideOn_111 rfl 4 rfl ?_
        refine z_iload C dX4_rideOn_112 1 rfl ?_
        refine z_iload C dX4_rideOn_114 0 rfl ?_
        refine y_imul C dX4_rideOn_116 ?_
        refine y_iadd C dX4_rideOn_117 ?_
        refine y_iast (q := 4) (t0 := 0) (g := va_up at_ j (stepZ (kd j) (fg j) (hm j) (at_ j) oa (lg j) yard)) (ws' := [(m, .inr (11, .int (zI (n : Int)) :: .ref g1 :: .ref g2 :: .ref g3 :: .ref g4 :: .ref g5 :: .int (zI oa) :: .int (zI dy) :: rs)), (g1, AI G 7 (fun z_ => (kd z_ : Int))), (g2, AI G 7 fg), (g3, AI G 7 hm), (g4, AI G 7 (va_up at_ j (stepZ (kd j) (fg j) (hm j) (at_ j) oa (lg j) yard))), (g5, AI G 7 lg)]) C rfl rfl (by omega) (by decide) (by rw [hmi]; rfl) rfl dX4_rideOn_118 ?_
        refine z_aload_n C dX4_rideOn_119 rfl 2 rfl ?_
        refine y_iconst C dX4_rideOn_120 ?_
        refine z_v (ws' := fun u => [(m, .inr (11, .int (zI (n : Int)) :: .ref g1 :: .ref g2 :: .ref g3 :: .ref g4 :: .ref g5 :: .int (zI oa) :: .int (zI (dy + 1)) :: rs)), (g1, AI G 7 (fun z_ => (kd z_ : Int))), (g2, AI G 7 fg), (g3, AI G 7 hm), (g4, AI G 7 (va_up at_ j (stepZ (kd j) (fg j) (hm j) (at_ j) oa (lg j) yard))), (g5, AI G 7 (dayB 0 kd fg hm (va_up at_ j (stepZ (kd j) (fg j) (hm j) (at_ j) oa (lg j) yard)) oa n lg))]) C (z_runV (q := 0) (As := [.int (zI 0)]) (rest := []) C (ct_X4_dayBy (zl X) G m g1 g2 g3 g4 g5 kd fg hm (va_up at_ j (stepZ (kd j) (fg j) (hm j) (at_ j) oa (lg j) yard)) lg n oa dy rs 0 (hL.at hst) (by omega)) (lw_V q1285 q1287 qs39 q61 q1288) rfl rfl (sb_e [0, 1, 2, 3, 4, 5] rfl rfl) (na := 1) (by decide +kernel) rfl (zrm rfl rfl (rfl) (rfl)) rfl (Nat.le_of_ble_eq_true rfl) dX4_rideOn_121) (fun u => jn_e (wr := []) [0, 1, 2, 3, 4, 5] [] [0, 1, 2, 3, 4, 5] rfl rfl rfl (by decide) rfl rfl) (fun u hp_121 => ?_)
        rw [show dayB 0 kd fg hm (va_up at_ j (stepZ (kd j) (fg j) (hm j) (at_ j) oa (lg j) yard)) oa n lg = dayL kd fg hm (va_up at_ j (stepZ (kd j) (fg j) (hm j) (at_ j) oa (lg j) yard)) oa n lg from rfl]
        refine z_wsEq (ws' := [(m, .inr (11, .int (zI (n : Int)) :: .ref g1 :: .ref g2 :: .ref g3 :: .ref g4 :: .ref g5 :: .int (zI oa) :: .int (zI (dy + 1)) :: rs)), (g1, AI G 7 (fun z_ => (kd z_ : Int))), (g2, AI G 7 fg), (g3, AI G 7 hm), (g4, AI G 7 (va_up at_ j (stepZ (kd j) (fg j) (hm j) (at_ j) oa (lg j) yard))), (g5, AI G 7 (dayL kd fg hm (va_up at_ j (stepZ (kd j) (fg j) (hm j) (at_ j) oa (lg j) yard)) oa n lg))]) (rfl) ?_
        exact z_vret C hA hQ rfl (Nat.le_of_ble_eq_true rfl) (Nat.le_of_ble_eq_true rfl) (()) (trivial) (sb_e [0, 1, 2, 3, 4, 5] rfl rfl) dX4_rideOn_124
      refine z_iload C dX4_rideOn_65 1 rfl ?_
      refine y_if_eq (tgt := 94) C (by omega) dX4_rideOn_67 (by decide) (fun c_67 => ?_) (fun c_67 => ?_)
      · skip
        refine z_iload C dX4_rideOn_94 0 rfl ?_
        refine z_aload_n C dX4_rideOn_96 rfl 5 rfl ?_
        refine z_iload_n C dX4_rideOn_97 rfl 6 rfl ?_
        refine z_i C (z_runV (q := 0) (As := [.int (zI (j : Int))]) (rest := [.int (zI (zAbs ((at_ j) - yard)))]) C (ct_X4_walkOf (zl X) G m g1 g2 g3 g4 g5 kd fg hm at_ lg n oa dy rs j (by first | assumption | omega) (by first | assumption | omega)) (lw_V q1281 q1283 qs38 q61 q1284) rfl rfl (sb_e [0, 1, 2, 3, 4, 5] rfl rfl) (na := 1) (by decide +kernel) rfl (zrm rfl rfl (rfl) (rfl)) rfl (Nat.le_of_ble_eq_true rfl) dX4_rideOn_98) (fun u => jn_ro (sb_e [0, 1, 2, 3, 4, 5] rfl rfl)) (fun r_98 u hp_98 => ?_)
        have hp_98 : r_98 = zI (walkZ (kd j)) := hp_98
        subst hp_98
        refine z_i C (z_runS (As := [.int (zI (zAbs ((at_ j) - yard))), .int (zI (walkZ (kd j)))]) (rest := []) C (ct_X4_least (zl X) G (zAbs ((at_ j) - yard)) (walkZ (kd j)) (by first | assumption | omega) (by first | assumption | omega)) (lw_S q1278 q1279 q61 q1280) (sb_e [] rfl rfl) (na := 2) (by decide +kernel) rfl (zrm rfl rfl (rfl) (rfl)) rfl (Nat.le_of_ble_eq_true rfl) dX4_rideOn_101) (fun u => jn_ro (sb_e [] rfl rfl)) (fun r_101 u hp_101 => ?_)
        have hp_101 : r_101 = zI (min (zAbs ((at_ j) - yard)) (walkZ (kd j))) := hp_101
        subst hp_101
        refine z_istore (lv' := [(7, .int (zI (min (zAbs ((at_ j) - yard)) (walkZ (kd j))))), (6, .int (zI hw)), (5, .int (zI way)), (4, .int (zI (goalZ (kd j) (hm j) (at_ j) oa))), (3, .int (zI (at_ j))), (0, .ref m), (1, .int (zI (j : Int))), (2, .int (zI yard))]) C dX4_rideOn_104 (nlt rfl) rfl ?_
        refine z_lv (lv' := [(7, .int (zI (min (zAbs ((at_ j) - yard)) (walkZ (kd j))))), (5, .int (zI way)), (0, .ref m), (1, .int (zI (j : Int))), (3, .int (zI (at_ j))), (4, .int (zI (goalZ (kd j) (hm j) (at_ j) oa))), (2, .int (zI yard))]) [0, 2, 5, 6, 4, 3, 7] rfl ?_
        exact L_106 (min (zAbs ((at_ j) - yard)) (walkZ (kd j))) (by
          have e7 : zAbs (at_ j - yard) = zAbs (yard - at_ j) := by unfold zAbs; split <;> split <;> omega
          have e8 : zAbs (at_ j - goalZ (kd j) (hm j) (at_ j) oa) = if at_ j < goalZ (kd j) (hm j) (at_ j) oa then goalZ (kd j) (hm j) (at_ j) oa - at_ j else at_ j - goalZ (kd j) (hm j) (at_ j) oa := by unfold zAbs; split <;> split <;> omega
          unfold stepZ
          rcases hway with ⟨q1, q2⟩ | ⟨q1, q2⟩
          · subst q1; rw [if_pos q2, Int.one_mul]
            first
            | (rw [if_pos (by omega), show zAbs (at_ j - yard) = yard - at_ j by unfold zAbs; split <;> omega, e8, if_pos (by omega)])
            | (rw [if_neg (by omega), show zAbs (at_ j - yard) = yard - at_ j by unfold zAbs; split <;> omega])
          · subst q1; rw [if_neg (by omega)]
            first
            | (rw [if_pos (by omega), show zAbs (at_ j - yard) = at_ j - yard by unfold zAbs; split <;> omega, e8, if_neg (by omega)]; omega)
            | (rw [if_neg (by omega), show zAbs (at_ j - yard) = at_ j - yard by unfold zAbs; split <;> omega]; omega))
      · skip
        refine z_iload C dX4_rideOn_70 0 rfl ?_
        refine z_aload_n C dX4_rideOn_72 rfl 5 rfl ?_
        refine z_iload_n C dX4_rideOn_73 rfl 6 rfl ?_
        refine z_i C (z_runV (q := 0) (As := [.int (zI (j : Int))]) (rest := [.int (zI (zAbs ((at_ j) - yard)))]) C (ct_X4_paceOf (zl X) G m g1 g2 g3 g4 g5 kd fg hm at_ lg n oa dy rs j (by first | assumption | omega) (by first | assumption | omega)) (lw_V q1274 q1276 qs37 q61 q1277) rfl rfl (sb_e [0, 1, 2, 3, 4, 5] rfl rfl) (na := 1) (by decide +kernel) rfl (zrm rfl rfl (rfl) (rfl)) rfl (Nat.le_of_ble_eq_true rfl) dX4_rideOn_74) (fun u => jn_ro (sb_e [0, 1, 2, 3, 4, 5] rfl rfl)) (fun r_74 u hp_74 => ?_)
        have hp_74 : r_74 = zI (paceZ (kd j) (fg j) (lg j)) := hp_74
        subst hp_74
        refine z_iload_n C dX4_rideOn_77 rfl 4 rfl ?_
        refine z_iload C dX4_rideOn_78 3 rfl ?_
        refine z_i C (z_runS (As := [.int (zI (at_ j)), .int (zI (goalZ (kd j) (hm j) (at_ j) oa))]) (rest := [.int (zI (paceZ (kd j) (fg j) (lg j))), .int (zI (zAbs ((at_ j) - yard)))]) C (ct_X4_apart (zl X) G (at_ j) (goalZ (kd j) (hm j) (at_ j) oa) (by first | assumption | omega) (by first | assumption | omega)) (lw_S q1271 q1272 q61 q1273) (sb_e [] rfl rfl) (na := 2) (by decide +kernel) rfl (zrm rfl rfl (rfl) (rfl)) rfl (Nat.le_of_ble_eq_true rfl) dX4_rideOn_80) (fun u => jn_ro (sb_e [] rfl rfl)) (fun r_80 u hp_80 => ?_)
        have hp_80 : r_80 = zI (zAbs ((at_ j) - (goalZ (kd j) (hm j) (at_ j) oa))) := hp_80
        subst hp_80
        refine z_i C (z_runS (As := [.int (zI (paceZ (kd j) (fg j) (lg j))), .int (zI (zAbs ((at_ j) - (goalZ (kd j) (hm j) (at_ j) oa))))]) (rest := [.int (zI (zAbs ((at_ j) - yard)))]) C (ct_X4_least (zl X) G (paceZ (kd j) (fg j) (lg j)) (zAbs ((at_ j) - (goalZ (kd j) (hm j) (at_ j) oa))) (by first | assumption | omega) (by first | assumption | omega)) (lw_S q1278 q1279 q61 q1280) (sb_e [] rfl rfl) (na := 2) (by decide +kernel) rfl (zrm rfl rfl (rfl) (rfl)) rfl (Nat.le_of_ble_eq_true rfl) dX4_rideOn_83) (fun u => jn_ro (sb_e [] rfl rfl)) (fun r_83 u hp_83 => ?_)
        have hp_83 : r_83 = zI (min (paceZ (kd j) (fg j) (lg j)) (zAbs ((at_ j) - (goalZ (kd j) (hm j) (at_ j) oa)))) := hp_83
        subst hp_83
        refine z_i C (z_runS (As := [.int (zI (zAbs ((at_ j) - yard))), .int (zI (min (paceZ (kd j) (fg j) (lg j)) (zAbs ((at_ j) - (goalZ (kd j) (hm j) (at_ j) oa)))))]) (rest := []) C (ct_X4_least (zl X) G (zAbs ((at_ j) - yard)) (min (paceZ (kd j) (fg j) (lg j)) (zAbs ((at_ j) - (goalZ (kd j) (hm j) (at_ j) oa)))) (by first | assumption | omega) (by first | assumption | omega)) (lw_S q1278 q1279 q61 q1280) (sb_e [] rfl rfl) (na := 2) (by decide +kernel) rfl (zrm rfl rfl (rfl) (rfl)) rfl (Nat.le_of_ble_eq_true rfl) dX4_rideOn_86) (fun u => jn_ro (sb_e [] rfl rfl)) (fun r_86 u hp_86 => ?_)
        have hp_86 : r_86 = zI (min (zAbs ((at_ j) - yard)) (min (paceZ (kd j) (fg j) (lg j)) (zAbs ((at_ j) - (goalZ (kd j) (hm j) (at_ j) oa))))) := hp_86
        subst hp_86
        refine z_istore (lv' := [(7, .int (zI (min (zAbs ((at_ j) - yard)) (min (paceZ (kd j) (fg j) (lg j)) (zAbs ((at_ j) - (goalZ (kd j) (hm j) (at_ j) oa))))))), (6, .int (zI hw)), (5, .int (zI way)), (4, .int (zI (goalZ (kd j) (hm j) (at_ j) oa))), (3, .int (zI (at_ j))), (0, .ref m), (1, .int (zI (j : Int))), (2, .int (zI yard))]) C dX4_rideOn_89 (nlt rfl) rfl ?_
        refine z_goto (tgt := 106) C dX4_rideOn_91 (by decide) ?_
        refine z_lv (lv' := [(7, .int (zI (min (zAbs ((at_ j) - yard)) (min (paceZ (kd j) (fg j) (lg j)) (zAbs ((at_ j) - (goalZ (kd j) (hm j) (at_ j) oa))))))), (5, .int (zI way)), (0, .ref m), (1, .int (zI (j : Int))), (3, .int (zI (at_ j))), (4, .int (zI (goalZ (kd j) (hm j) (at_ j) oa))), (2, .int (zI yard))]) [0, 2, 5, 6, 4, 3, 7] rfl ?_
        exact L_106 (min (zAbs ((at_ j) - yard)) (min (paceZ (kd j) (fg j) (lg j)) (zAbs ((at_ j) - (goalZ (kd j) (hm j) (at_ j) oa))))) (by
          have e7 : zAbs (at_ j - yard) = zAbs (yard - at_ j) := by unfold zAbs; split <;> split <;> omega
          have e8 : zAbs (at_ j - goalZ (kd j) (hm j) (at_ j) oa) = if at_ j < goalZ (kd j) (hm j) (at_ j) oa then goalZ (kd j) (hm j) (at_ j) oa - at_ j else at_ j - goalZ (kd j) (hm j) (at_ j) oa := by unfold zAbs; split <;> split <;> omega
          unfold stepZ
          rcases hway with ⟨q1, q2⟩ | ⟨q1, q2⟩
          · subst q1; rw [if_pos q2, Int.one_mul]
            first
            | (rw [if_pos (by omega), show zAbs (at_ j - yard) = yard - at_ j by unfold zAbs; split <;> omega, e8, if_pos (by omega)])
            | (rw [if_neg (by omega), show zAbs (at_ j - yard) = yard - at_ j by unfold zAbs; split <;> omega])
          · subst q1; rw [if_neg (by omega)]
            first
            | (rw [if_pos (by omega), show zAbs (at_ j - yard) = at_ j - yard by unfold zAbs; split <;> omega, e8, if_neg (by omega)]; omega)
            | (rw [if_neg (by omega), show zAbs (at_ j - yard) = at_ j - yard by unfold zAbs; split <;> omega]; omega))
    refine z_iload C dX4_rideOn_26 0 rfl ?_
    refine y_if_le (tgt := 45) C (by omega) dX4_rideOn_28 (by decide) (fun c_28 => ?_) (fun c_28 => ?_)
    · skip
      refine z_iload C dX4_rideOn_45 1 rfl ?_
      refine z_iload_n C dX4_rideOn_47 rfl 2 rfl ?_
      refine y_icmp_ge (tgt := 55) C (by omega) (by omega) dX4_rideOn_48 (by decide) (fun c_48 => ?_) (fun c_48 => ?_)
      · skip
        refine y_iconst C dX4_rideOn_55 ?_
        exact L_56 0 (by omega)
      · skip
        refine y_iconst C dX4_rideOn_51 ?_
        refine z_goto (tgt := 56) C dX4_rideOn_52 (by decide) ?_
        exact L_56 1 (by omega)
    · skip
      refine z_iload C dX4_rideOn_31 1 rfl ?_
      refine z_iload_n C dX4_rideOn_33 rfl 2 rfl ?_
      refine y_icmp_le (tgt := 41) C (by omega) (by omega) dX4_rideOn_34 (by decide) (fun c_34 => ?_) (fun c_34 => ?_)
      · skip
        refine y_iconst C dX4_rideOn_41 ?_
        refine z_goto (tgt := 56) C dX4_rideOn_42 (by decide) ?_
        exact L_56 0 (by omega)
      · skip
        refine y_iconst C dX4_rideOn_37 ?_
        refine z_goto (tgt := 56) C dX4_rideOn_38 (by decide) ?_
        exact L_56 1 (by omega)
  refine z_iload_n C dX4_rideOn_14 rfl 4 rfl ?_
  refine z_iload_n C dX4_rideOn_15 rfl 1 rfl ?_
  refine y_icmp_le (tgt := 23) C (by omega) (by omega) dX4_rideOn_16 (by decide) (fun c_16 => ?_) (fun c_16 => ?_)
  · skip
    refine y_iconst C dX4_rideOn_23 ?_
    exact L_24 (-1) (by omega)
  · skip
    refine y_iconst C dX4_rideOn_19 ?_
    refine z_goto (tgt := 24) C dX4_rideOn_20 (by decide) ?_
    exact L_24 1 (by omega)

set_option maxHeartbeats 4000000 in
theorem ct_X4_ride (l : Launch) (G : ZG) (m : Nat) (g1 : Nat) (g2 : Nat) (g3 : Nat) (g4 : Nat) (g5 : Nat) (kd : Nat → Nat) (fg : Nat → Int) (hm : Nat → Int) (at_ : Nat → Int) (lg : Nat → Int) (n : Nat) (oa : Int) (dy : Int) (rs : List Value) (j : Nat) (yard : Int) (hL : LK n kd fg hm at_ lg oa) (hj : j < n) (hy : 0 ≤ yard ∧ yard ≤ 20) : CT l yX4_ride cX4_ride 4 (some .int) { frames := 5, cells := 0, slots := 0, locals := 118 } G [.ref m, .int (zI (j : Int)), .int (zI yard)] [(m, .inr (11, .int (zI (n : Int)) :: .ref g1 :: .ref g2 :: .ref g3 :: .ref g4 :: .ref g5 :: .int (zI oa) :: .int (zI dy) :: rs)), (g1, AI G 7 (fun z_ => (kd z_ : Int))), (g2, AI G 7 fg), (g3, AI G 7 hm), (g4, AI G 7 at_), (g5, AI G 7 lg)] (Qi G [(m, .inr (11, .int (zI (n : Int)) :: .ref g1 :: .ref g2 :: .ref g3 :: .ref g4 :: .ref g5 :: .int (zI oa) :: .int (zI dy) :: rs)), (g1, AI G 7 (fun z_ => (kd z_ : Int))), (g2, AI G 7 fg), (g3, AI G 7 hm), (g4, AI G 7 at_), (g5, AI G 7 lg)] (fun (r : Int32) (u : Unit) => r = zI ((rdN kd fg hm oa n j yard at_ lg) : Int)) (fun u => [(m, .inr (11, .int (zI (n : Int)) :: .ref g1 :: .ref g2 :: .ref g3 :: .ref g4 :: .ref g5 :: .int (zI oa) :: .int (zI (dy + ((rdN kd fg hm oa n j yard at_ lg) : Int))) :: rs)), (g1, AI G 7 (fun z_ => (kd z_ : Int))), (g2, AI G 7 fg), (g3, AI G 7 hm), (g4, AI G 7 (rdA kd fg hm oa n j yard at_ lg)), (g5, AI G 7 (rdL kd fg hm oa n j yard at_ lg))])) := by
  refine z_met (by decide) (Nat.le_of_ble_eq_true rfl) ?_
  intro X A hl0 hA C hQ hin
  subst hl0
  obtain ⟨hn7, hoa, hLj⟩ := id hL
  have hat0 := (hLj j hj).2.2.2.1
  show Z X _ G 0 0 _ 0 [(0, .ref m), (1, .int (zI (j : Int))), (2, .int (zI yard))] []
  refine y_iconst C dX4_ride_0 ?_
  refine z_istore_n (lv' := [(3, .int (zI 0)), (0, .ref m), (1, .int (zI (j : Int))), (2, .int (zI yard))]) C dX4_ride_1 rfl (nlt rfl) rfl ?_
  have L_2 : ∀ (tt : Nat) (f : Nat) (i : Nat) (at1 : Nat → Int) (lg1 : Nat → Int), (LK n kd fg hm at1 lg1 oa) → ((at1 j - yard).natAbs ≤ f) → (i + f = 20) → (rideF kd fg hm oa n j yard 20 at_ lg = ((rideF kd fg hm oa n j yard f at1 lg1).1 + i, (rideF kd fg hm oa n j yard f at1 lg1).2)) → f = tt → Z X (cX4_ride, 4, yX4_ride.cls, (some .int), { frames := 5, cells := 0, slots := 0, locals := 118 }, A) G 0 0 [(m, .inr (11, .int (zI (n : Int)) :: .ref g1 :: .ref g2 :: .ref g3 :: .ref g4 :: .ref g5 :: .int (zI oa) :: .int (zI (dy + (i : Int))) :: rs)), (g1, AI G 7 (fun z_ => (kd z_ : Int))), (g2, AI G 7 fg), (g3, AI G 7 hm), (g4, AI G 7 at1), (g5, AI G 7 lg1)] 2 [(0, .ref m), (1, .int (zI (j : Int))), (2, .int (zI yard)), (3, .int (zI (i : Int)))] [] := by
    intro tt
    induction tt using Nat.strongRecOn with
    | _ tt ih_2 =>
      intro f i at1 lg1 hL1 hd hif hrel ht_2
      obtain ⟨hk1, hf1, hm1, ha1, hl1⟩ := hL1.2.2 j hj
      refine z_aload_n C dX4_ride_2 rfl 0 rfl ?_
      refine z_get (q := 0) (kf := 4) (v := .ref g4) C rfl rfl in_X4 (by decide) q1091 (Or.inl rfl) rfl dX4_ride_3 ?_
      refine z_iload_n C dX4_ride_6 rfl 1 rfl ?_
      refine y_iald (q := 4) (t0 := 0) (v := at1 j) C rfl rfl (by omega) (by decide) rfl dX4_ride_7 ?_
      refine z_iload_n C dX4_ride_8 rfl 2 rfl ?_
      refine y_icmp_eq (tgt := 24) C (by omega) (by omega) dX4_ride_9 (by decide) (fun c_9 => ?_) (fun c_9 => ?_)
      · skip
        refine z_iload_n C dX4_ride_24 rfl 3 rfl ?_
        have hrr : rideF kd fg hm oa n j yard 20 at_ lg = (i, at1, lg1) := by rw [hrel, rideF_0 c_9]; exact Prod.ext (Nat.zero_add i) rfl
        rw [show (at1 : Nat → Int) = (rdA kd fg hm oa n j yard at_ lg) from (show at1 = (rideF kd fg hm oa n j yard 20 at_ lg).2.1 by rw [hrr])]
        rw [show (lg1 : Nat → Int) = (rdL kd fg hm oa n j yard at_ lg) from (show lg1 = (rideF kd fg hm oa n j yard 20 at_ lg).2.2 by rw [hrr])]
        rw [show (i : Nat) = (rdN kd fg hm oa n j yard at_ lg) from (show i = (rideF kd fg hm oa n j yard 20 at_ lg).1 by rw [hrr])]
        exact z_iret C hA hQ rfl (Nat.le_of_ble_eq_true rfl) (Nat.le_of_ble_eq_true rfl) (()) (rfl) (sb_e [0, 1, 2, 3, 4, 5] rfl rfl) dX4_ride_25
      · skip
        have hst := stepZ_r (k := kd j) hf1 hm1 ha1 hoa hl1 hy
        have hnr := stepZ_near (k := kd j) hf1 hm1 ha1 hoa hl1 hy c_9
        refine z_aload_n C dX4_ride_12 rfl 0 rfl ?_
        refine z_iload_n C dX4_ride_13 rfl 1 rfl ?_
        refine z_iload_n C dX4_ride_14 rfl 2 rfl ?_
        refine z_v (ws' := fun u => [(m, .inr (11, .int (zI (n : Int)) :: .ref g1 :: .ref g2 :: .ref g3 :: .ref g4 :: .ref g5 :: .int (zI oa) :: .int (zI ((dy + (i : Int)) + 1)) :: rs)), (g1, AI G 7 (fun z_ => (kd z_ : Int))), (g2, AI G 7 fg), (g3, AI G 7 hm), (g4, AI G 7 (va_up at1 j (stepZ (kd j) (fg j) (hm j) (at1 j) oa (lg1 j) yard))), (g5, AI G 7 (dayL kd fg hm (va_up at1 j (stepZ (kd j) (fg j) (hm j) (at1 j) oa (lg1 j) yard)) oa n lg1))]) C (z_runV (q := 0) (As := [.int (zI (j : Int)), .int (zI yard)]) (rest := []) C (ct_X4_rideOn (zl X) G m g1 g2 g3 g4 g5 kd fg hm at1 lg1 n oa (dy + (i : Int)) rs j yard (hL1) (by first | assumption | omega) (by first | assumption | omega) (c_9)) (lw_V q1263 q1265 qs35 q61 q1266) rfl rfl (sb_e [0, 1, 2, 3, 4, 5] rfl rfl) (na := 2) (by decide +kernel) rfl (zrm rfl rfl (rfl) (rfl)) rfl (Nat.le_of_ble_eq_true rfl) dX4_ride_15) (fun u => jn_e (wr := []) [0, 1, 2, 3, 4, 5] [] [0, 1, 2, 3, 4, 5] rfl rfl rfl (by decide) rfl rfl) (fun u hp_15 => ?_)
        refine y_iinc (lv' := [(3, .int (zI ((i : Int) + 1))), (0, .ref m), (1, .int (zI (j : Int))), (2, .int (zI yard))]) C dX4_ride_18 (q := 3) rfl (nlt rfl) rfl ?_
        refine z_goto (tgt := 2) C dX4_ride_21 (by decide) ?_
        refine z_lv (lv' := [(0, .ref m), (1, .int (zI (j : Int))), (2, .int (zI yard)), (3, .int (zI ((i : Int) + 1)))]) [1, 2, 3, 0] rfl ?_
        rw [show dy + (i : Int) + 1 = dy + ((i + 1 : Nat) : Int) by omega]
        exact ih_2 _ (by omega) (f - 1) (i + 1) (va_up at1 j (stepZ (kd j) (fg j) (hm j) (at1 j) oa (lg1 j) yard)) (dayL kd fg hm (va_up at1 j (stepZ (kd j) (fg j) (hm j) (at1 j) oa (lg1 j) yard)) oa n lg1) ((hL1.at hst).day) (by rw [show (va_up at1 j (stepZ (kd j) (fg j) (hm j) (at1 j) oa (lg1 j) yard)) j = stepZ (kd j) (fg j) (hm j) (at1 j) oa (lg1 j) yard from if_pos rfl]; omega) (by omega) (by rw [hrel, show f = (f - 1) + 1 by omega, rideF_s c_9]; rw [show f - 1 + 1 - 1 = f - 1 by omega]; exact Prod.ext (by show _ + 1 + i = _ + (i + 1); omega) rfl) rfl
  refine z_lv (lv' := [(0, .ref m), (1, .int (zI (j : Int))), (2, .int (zI yard)), (3, .int (zI 0))]) [1, 2, 3, 0] rfl ?_
  rw [show zI dy = zI (dy + ((0 : Nat) : Int)) from congrArg zI (by omega)]
  exact L_2 _ 20 0 at_ lg (hL) (by omega) (rfl) (rfl) rfl

set_option maxHeartbeats 4000000 in
theorem ct_X4_allLonging (l : Launch) (G : ZG) (m : Nat) (g1 : Nat) (g2 : Nat) (g3 : Nat) (g4 : Nat) (g5 : Nat) (kd : Nat → Nat) (fg : Nat → Int) (hm : Nat → Int) (at_ : Nat → Int) (lg : Nat → Int) (n : Nat) (oa : Int) (dy : Int) (rs : List Value) (hL : LK n kd fg hm at_ lg oa) : CT l yX4_allLonging cX4_allLonging 3 (some .int) { frames := 0, cells := 0, slots := 0, locals := 0 } G [.ref m] [(m, .inr (11, .int (zI (n : Int)) :: .ref g1 :: .ref g2 :: .ref g3 :: .ref g4 :: .ref g5 :: .int (zI oa) :: .int (zI dy) :: rs)), (g1, AI G 7 (fun z_ => (kd z_ : Int))), (g2, AI G 7 fg), (g3, AI G 7 hm), (g4, AI G 7 at_), (g5, AI G 7 lg)] (Qi G [(m, .inr (11, .int (zI (n : Int)) :: .ref g1 :: .ref g2 :: .ref g3 :: .ref g4 :: .ref g5 :: .int (zI oa) :: .int (zI dy) :: rs)), (g1, AI G 7 (fun z_ => (kd z_ : Int))), (g2, AI G 7 fg), (g3, AI G 7 hm), (g4, AI G 7 at_), (g5, AI G 7 lg)] (fun (r : Int32) (u : Unit) => r = zI (sumL lg n)) (fun u => [(m, .inr (11, .int (zI (n : Int)) :: .ref g1 :: .ref g2 :: .ref g3 :: .ref g4 :: .ref g5 :: .int (zI oa) :: .int (zI dy) :: rs)), (g1, AI G 7 (fun z_ => (kd z_ : Int))), (g2, AI G 7 fg), (g3, AI G 7 hm), (g4, AI G 7 at_), (g5, AI G 7 lg)])) := by
  refine z_met (by decide) (Nat.le_of_ble_eq_true rfl) ?_
  intro X A hl0 hA C hQ hin
  subst hl0
  obtain ⟨hn7, hoa, hLj⟩ := id hL
  show Z X _ G 0 0 _ 0 [(0, .ref m)] []
  refine y_iconst C dX4_allLonging_0 ?_
  refine z_istore_n (lv' := [(1, .int (zI 0)), (0, .ref m)]) C dX4_allLonging_1 rfl (nlt rfl) rfl ?_
  refine y_iconst C dX4_allLonging_2 ?_
  refine z_istore_n (lv' := [(2, .int (zI 0)), (1, .int (zI 0)), (0, .ref m)]) C dX4_allLonging_3 rfl (nlt rfl) rfl ?_
  have L_4 : ∀ (tt : Nat) (i : Nat), (i ≤ n) → n - i = tt → Z X (cX4_allLonging, 3, yX4_allLonging.cls, (some .int), { frames := 0, cells := 0, slots := 0, locals := 0 }, A) G 0 0 [(m, .inr (11, .int (zI (n : Int)) :: .ref g1 :: .ref g2 :: .ref g3 :: .ref g4 :: .ref g5 :: .int (zI oa) :: .int (zI dy) :: rs)), (g1, AI G 7 (fun z_ => (kd z_ : Int))), (g2, AI G 7 fg), (g3, AI G 7 hm), (g4, AI G 7 at_), (g5, AI G 7 lg)] 4 [(0, .ref m), (1, .int (zI (sumL lg i))), (2, .int (zI (i : Int)))] [] := by
    intro tt
    induction tt using Nat.strongRecOn with
    | _ tt ih_4 =>
      intro i hi ht_4
      refine z_iload_n C dX4_allLonging_4 rfl 2 rfl ?_
      refine z_aload_n C dX4_allLonging_5 rfl 0 rfl ?_
      refine z_get (q := 0) (kf := 0) (v := .int (zI (n : Int))) C rfl rfl in_X4 (by decide) q1087 (Or.inl rfl) rfl dX4_allLonging_6 ?_
      refine y_icmp_ge (tgt := 27) C (by omega) (by omega) dX4_allLonging_9 (by decide) (fun c_9 => ?_) (fun c_9 => ?_)
      · skip
        refine z_iload_n C dX4_allLonging_27 rfl 1 rfl ?_
        rw [show (i : Nat) = n by omega]
        exact z_iret C hA hQ rfl (Nat.le_of_ble_eq_true rfl) (Nat.le_of_ble_eq_true rfl) (()) (rfl) (sb_e [0, 1, 2, 3, 4, 5] rfl rfl) dX4_allLonging_28
      · skip
        refine z_iload_n C dX4_allLonging_12 rfl 1 rfl ?_
        refine z_aload_n C dX4_allLonging_13 rfl 0 rfl ?_
        refine z_get (q := 0) (kf := 5) (v := .ref g5) C rfl rfl in_X4 (by decide) q1092 (Or.inl rfl) rfl dX4_allLonging_14 ?_
        refine z_iload_n C dX4_allLonging_17 rfl 2 rfl ?_
        refine y_iald (q := 5) (t0 := 0) (v := lg i) C rfl rfl (by omega) (by decide) rfl dX4_allLonging_18 ?_
        refine y_iadd C dX4_allLonging_19 ?_
        refine z_istore_n (lv' := [(1, .int (zI ((sumL lg i) + (lg i)))), (0, .ref m), (2, .int (zI (i : Int)))]) C dX4_allLonging_20 rfl (nlt rfl) rfl ?_
        refine y_iinc (lv' := [(2, .int (zI ((i : Int) + 1))), (1, .int (zI ((sumL lg i) + (lg i)))), (0, .ref m)]) C dX4_allLonging_21 (q := 2) rfl (nlt rfl) rfl ?_
        refine z_goto (tgt := 4) C dX4_allLonging_24 (by decide) ?_
        refine z_lv (lv' := [(0, .ref m), (1, .int (zI ((sumL lg i) + (lg i)))), (2, .int (zI ((i : Int) + 1)))]) [2, 1, 0] rfl ?_
        rw [show sumL lg i + lg i = sumL lg (i + 1) from rfl]
        exact ih_4 _ (by omega) (i + 1) (by first | assumption | omega) rfl
  refine z_lv (lv' := [(0, .ref m), (1, .int (zI 0)), (2, .int (zI 0))]) [2, 1, 0] rfl ?_
  exact L_4 _ 0 (by first | assumption | omega) rfl

set_option maxHeartbeats 4000000 in
theorem ct_X4_atGoals (l : Launch) (G : ZG) (m : Nat) (g1 : Nat) (g2 : Nat) (g3 : Nat) (g4 : Nat) (g5 : Nat) (kd : Nat → Nat) (fg : Nat → Int) (hm : Nat → Int) (at_ : Nat → Int) (lg : Nat → Int) (n : Nat) (oa : Int) (dy : Int) (rs : List Value) (hL : LK n kd fg hm at_ lg oa) : CT l yX4_atGoals cX4_atGoals 3 (some .int) { frames := 2, cells := 0, slots := 0, locals := 46 } G [.ref m] [(m, .inr (11, .int (zI (n : Int)) :: .ref g1 :: .ref g2 :: .ref g3 :: .ref g4 :: .ref g5 :: .int (zI oa) :: .int (zI dy) :: rs)), (g1, AI G 7 (fun z_ => (kd z_ : Int))), (g2, AI G 7 fg), (g3, AI G 7 hm), (g4, AI G 7 at_), (g5, AI G 7 lg)] (Qi G [(m, .inr (11, .int (zI (n : Int)) :: .ref g1 :: .ref g2 :: .ref g3 :: .ref g4 :: .ref g5 :: .int (zI oa) :: .int (zI dy) :: rs)), (g1, AI G 7 (fun z_ => (kd z_ : Int))), (g2, AI G 7 fg), (g3, AI G 7 hm), (g4, AI G 7 at_), (g5, AI G 7 lg)] (fun (r : Int32) (u : Unit) => r = zI (manyL kd hm at_ oa n)) (fun u => [(m, .inr (11, .int (zI (n : Int)) :: .ref g1 :: .ref g2 :: .ref g3 :: .ref g4 :: .ref g5 :: .int (zI oa) :: .int (zI dy) :: rs)), (g1, AI G 7 (fun z_ => (kd z_ : Int))), (g2, AI G 7 fg), (g3, AI G 7 hm), (g4, AI G 7 at_), (g5, AI G 7 lg)])) := by
  refine z_met (by decide) (Nat.le_of_ble_eq_true rfl) ?_
  intro X A hl0 hA C hQ hin
  subst hl0
  obtain ⟨hn7, hoa, hLj⟩ := id hL
  show Z X _ G 0 0 _ 0 [(0, .ref m)] []
  refine y_iconst C dX4_atGoals_0 ?_
  refine z_istore_n (lv' := [(1, .int (zI 0)), (0, .ref m)]) C dX4_atGoals_1 rfl (nlt rfl) rfl ?_
  refine y_iconst C dX4_atGoals_2 ?_
  refine z_istore_n (lv' := [(2, .int (zI 0)), (1, .int (zI 0)), (0, .ref m)]) C dX4_atGoals_3 rfl (nlt rfl) rfl ?_
  have L_4 : ∀ (tt : Nat) (i : Nat), (i ≤ n) → n - i = tt → Z X (cX4_atGoals, 3, yX4_atGoals.cls, (some .int), { frames := 2, cells := 0, slots := 0, locals := 46 }, A) G 0 0 [(m, .inr (11, .int (zI (n : Int)) :: .ref g1 :: .ref g2 :: .ref g3 :: .ref g4 :: .ref g5 :: .int (zI oa) :: .int (zI dy) :: rs)), (g1, AI G 7 (fun z_ => (kd z_ : Int))), (g2, AI G 7 fg), (g3, AI G 7 hm), (g4, AI G 7 at_), (g5, AI G 7 lg)] 4 [(0, .ref m), (1, .int (zI (manyL kd hm at_ oa i))), (2, .int (zI (i : Int)))] [] := by
    intro tt
    induction tt using Nat.strongRecOn with
    | _ tt ih_4 =>
      intro i hi ht_4
      refine z_iload_n C dX4_atGoals_4 rfl 2 rfl ?_
      refine z_aload_n C dX4_atGoals_5 rfl 0 rfl ?_
      refine z_get (q := 0) (kf := 0) (v := .int (zI (n : Int))) C rfl rfl in_X4 (by decide) q1087 (Or.inl rfl) rfl dX4_atGoals_6 ?_
      refine y_icmp_ge (tgt := 40) C (by omega) (by omega) dX4_atGoals_9 (by decide) (fun c_9 => ?_) (fun c_9 => ?_)
      · skip
        refine z_iload_n C dX4_atGoals_40 rfl 1 rfl ?_
        rw [show (i : Nat) = n by omega]
        exact z_iret C hA hQ rfl (Nat.le_of_ble_eq_true rfl) (Nat.le_of_ble_eq_true rfl) (()) (rfl) (sb_e [0, 1, 2, 3, 4, 5] rfl rfl) dX4_atGoals_41
      · skip
        refine z_iload_n C dX4_atGoals_12 rfl 1 rfl ?_
        refine z_aload_n C dX4_atGoals_13 rfl 0 rfl ?_
        refine z_get (q := 0) (kf := 4) (v := .ref g4) C rfl rfl in_X4 (by decide) q1091 (Or.inl rfl) rfl dX4_atGoals_14 ?_
        refine z_iload_n C dX4_atGoals_17 rfl 2 rfl ?_
        refine y_iald (q := 4) (t0 := 0) (v := at_ i) C rfl rfl (by omega) (by decide) rfl dX4_atGoals_18 ?_
        obtain ⟨hk1, hf1, hm1, ha1, hl1⟩ := hLj i (by omega)
        have hg := goalZ_r (k := kd i) hm1 ha1 hoa
        refine z_aload_n C dX4_atGoals_19 rfl 0 rfl ?_
        refine z_iload_n C dX4_atGoals_20 rfl 2 rfl ?_
        refine z_i C (z_runV (q := 0) (As := [.int (zI (i : Int))]) (rest := [.int (zI (at_ i)), .int (zI (manyL kd hm at_ oa i))]) C (ct_X4_goalOf (zl X) G m g1 g2 g3 g4 g5 kd fg hm at_ lg n oa dy rs i (by first | assumption | omega) (by omega)) (lw_V q1267 q1269 qs36 q61 q1270) rfl rfl (sb_e [0, 1, 2, 3, 4, 5] rfl rfl) (na := 1) (by decide +kernel) rfl (zrm rfl rfl (rfl) (rfl)) rfl (Nat.le_of_ble_eq_true rfl) dX4_atGoals_21) (fun u => jn_ro (sb_e [0, 1, 2, 3, 4, 5] rfl rfl)) (fun r_21 u hp_21 => ?_)
        have hp_21 : r_21 = zI (goalZ (kd i) (hm i) (at_ i) oa) := hp_21
        subst hp_21
        refine y_icmp_ne (tgt := 31) C (by omega) (by omega) dX4_atGoals_24 (by decide) (fun c_24 => ?_) (fun c_24 => ?_)
        · skip
          refine y_iconst C dX4_atGoals_31 ?_
          refine y_iadd C dX4_atGoals_32 ?_
          refine z_istore_n (lv' := [(1, .int (zI ((manyL kd hm at_ oa i) + 0))), (0, .ref m), (2, .int (zI (i : Int)))]) C dX4_atGoals_33 rfl (nlt rfl) rfl ?_
          refine y_iinc (lv' := [(2, .int (zI ((i : Int) + 1))), (1, .int (zI ((manyL kd hm at_ oa i) + 0))), (0, .ref m)]) C dX4_atGoals_34 (q := 2) rfl (nlt rfl) rfl ?_
          refine z_goto (tgt := 4) C dX4_atGoals_37 (by decide) ?_
          refine z_lv (lv' := [(0, .ref m), (1, .int (zI ((manyL kd hm at_ oa i) + 0))), (2, .int (zI ((i : Int) + 1)))]) [2, 1, 0] rfl ?_
          rw [show manyL kd hm at_ oa i + 0 = manyL kd hm at_ oa (i + 1) from by show _ = manyL kd hm at_ oa i + bI _; rw [bI_f c_24]]
          exact ih_4 _ (by omega) (i + 1) (by first | assumption | omega) rfl
        · skip
          refine y_iconst C dX4_atGoals_27 ?_
          refine z_goto (tgt := 32) C dX4_atGoals_28 (by decide) ?_
          refine y_iadd C dX4_atGoals_32 ?_
          refine z_istore_n (lv' := [(1, .int (zI ((manyL kd hm at_ oa i) + 1))), (0, .ref m), (2, .int (zI (i : Int)))]) C dX4_atGoals_33 rfl (nlt rfl) rfl ?_
          refine y_iinc (lv' := [(2, .int (zI ((i : Int) + 1))), (1, .int (zI ((manyL kd hm at_ oa i) + 1))), (0, .ref m)]) C dX4_atGoals_34 (q := 2) rfl (nlt rfl) rfl ?_
          refine z_goto (tgt := 4) C dX4_atGoals_37 (by decide) ?_
          refine z_lv (lv' := [(0, .ref m), (1, .int (zI ((manyL kd hm at_ oa i) + 1))), (2, .int (zI ((i : Int) + 1)))]) [2, 1, 0] rfl ?_
          rw [show manyL kd hm at_ oa i + 1 = manyL kd hm at_ oa (i + 1) from by show _ = manyL kd hm at_ oa i + bI _; rw [bI_t c_24]]
          exact ih_4 _ (by omega) (i + 1) (by first | assumption | omega) rfl
  refine z_lv (lv' := [(0, .ref m), (1, .int (zI 0)), (2, .int (zI 0))]) [2, 1, 0] rfl ?_
  exact L_4 _ 0 (by first | assumption | omega) rfl

