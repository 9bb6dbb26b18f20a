/-! LAND, the rest: goes, stepsTo, rides, sums, copies, takes, comes, the constructor -/
set_option maxRecDepth 100000
set_option maxHeartbeats 4000000 in
theorem ct_X2_goes (l : Launch) (G : ZG) (a0 : Nat) (a1 : Nat) (a2 : Nat) (a3 : Nat) (a4 : Nat) (r : Nat → Option Nat) (hm : Nat → Int) (at_ : Nat → Int) (lg : Nat → Int) (n : Nat) (oa : Int) (dy : Int) (LP : List Nat) (hk : Nat → Nat) (hf : Nat → Int) (kd : Nat → Nat) (fg : Nat → Int) (t0 : Nat) (hH : HR LP hk hf r n kd fg) (hL : LK n kd fg hm at_ lg oa) (ht0 : t0 ≤ 1000) : CT l yX2_goes cX2_goes 3 none { frames := 7, cells := 0, slots := 0, locals := 143 } G [.ref a0, .int (zI (t0 : Int))] ([(a0, .inr (8, [.ref a1, .ref a2, .ref a3, .ref a4, .int (zI (n : Int)), .int (zI oa), .int (zI dy)])), (a1, AQ G 4 7 r), (a2, AI G 7 hm), (a3, AI G 7 at_), (a4, AI G 7 lg)] ++ PL LP hk hf) (Qv G ([(a0, .inr (8, [.ref a1, .ref a2, .ref a3, .ref a4, .int (zI (n : Int)), .int (zI oa), .int (zI dy)])), (a1, AQ G 4 7 r), (a2, AI G 7 hm), (a3, AI G 7 at_), (a4, AI G 7 lg)] ++ PL LP hk hf) (fun (u : Unit) => True) (fun u => ([(a0, .inr (8, [.ref a1, .ref a2, .ref a3, .ref a4, .int (zI (n : Int)), .int (zI oa), .int (zI (dy + (t0 : Int)))])), (a1, AQ G 4 7 r), (a2, AI G 7 hm), (a3, AI G 7 at_), (a4, AI G 7 (goL kd fg hm at_ oa n t0 lg))] ++ PL LP hk hf))) := by
  refine z_met (by decide) (Nat.le_of_ble_eq_true rfl) ?_
  intro X A hl0 hA C hQ hin
  subst hl0
  obtain ⟨hn7, hoa, hLj⟩ := id hL
  show Z X _ G 0 0 _ 0 [(0, .ref a0), (1, .int (zI (t0 : Int)))] []
  refine y_iconst C dX2_goes_0 ?_
  refine z_istore_n (lv' := [(2, .int (zI 0)), (0, .ref a0), (1, .int (zI (t0 : Int)))]) C dX2_goes_1 rfl (nlt rfl) rfl ?_
  have L_2 : ∀ (t : Nat) (i : Nat), (i ≤ t0) → t0 - i = t → Z X (cX2_goes, 3, yX2_goes.cls, none, { frames := 7, cells := 0, slots := 0, locals := 143 }, A) G 0 0 ([(a0, .inr (8, [.ref a1, .ref a2, .ref a3, .ref a4, .int (zI (n : Int)), .int (zI oa), .int (zI (dy + (i : Int)))])), (a1, AQ G 4 7 r), (a2, AI G 7 hm), (a3, AI G 7 at_), (a4, AI G 7 (goL kd fg hm at_ oa n i lg))] ++ PL LP hk hf) 2 [(0, .ref a0), (1, .int (zI (t0 : Int))), (2, .int (zI (i : Int)))] [] := by
    intro t
    induction t using Nat.strongRecOn with
    | _ t ih_2 =>
      intro i hi ht_2
      refine z_iload_n C dX2_goes_2 rfl 2 rfl ?_
      refine z_iload_n C dX2_goes_3 rfl 1 rfl ?_
      refine y_icmp_ge (tgt := 18) C (by omega) (by omega) dX2_goes_4 (by decide) (fun c_4 => ?_) (fun c_4 => ?_)
      · skip
        rw [show (i : Nat) = t0 by omega]
        exact z_vret C hA hQ rfl (Nat.le_of_ble_eq_true rfl) (Nat.le_of_ble_eq_true rfl) (()) (trivial) (sb_p [0, 1, 2, 3, 4] rfl rfl) dX2_goes_18
      · skip
        refine z_aload_n C dX2_goes_7 rfl 0 rfl ?_
        refine y_iconst C dX2_goes_8 ?_
        refine z_v (ws' := fun u => ([(a0, .inr (8, [.ref a1, .ref a2, .ref a3, .ref a4, .int (zI (n : Int)), .int (zI oa), .int (zI ((dy + (i : Int)) + 1))])), (a1, AQ G 4 7 r), (a2, AI G 7 hm), (a3, AI G 7 at_), (a4, AI G 7 (dayB 0 kd fg hm at_ oa n (goL kd fg hm at_ oa n i lg)))] ++ PL LP hk hf)) C (z_runV (q := 0) (As := [.int (zI 0)]) (rest := []) C (ct_X2_goesDay (zl X) G a0 a1 a2 a3 a4 r hm at_ (goL kd fg hm at_ oa n i lg) n oa (dy + (i : Int)) LP hk hf kd fg 0 (by first | assumption | omega) (hL.go i) (by omega)) (lw_V q491 q492 q493 q59 q494) rfl rfl (sb_p [0, 1, 2, 3, 4] rfl rfl) (na := 1) (by decide +kernel) rfl (zrm rfl rfl (rfl) (rfl)) rfl (Nat.le_of_ble_eq_true rfl) dX2_goes_9) (fun u => jn_p (Lr := []) [0, 1, 2, 3, 4] [] [0, 1, 2, 3, 4] rfl rfl rfl (by decide) rfl rfl) (fun u hp_9 => ?_)
        rw [show dayB 0 kd fg hm at_ oa n (goL kd fg hm at_ oa n i lg) = goL kd fg hm at_ oa n (i + 1) lg from rfl]
        refine y_iinc (lv' := [(2, .int (zI ((i : Int) + 1))), (0, .ref a0), (1, .int (zI (t0 : Int)))]) C dX2_goes_12 (q := 2) rfl (nlt rfl) rfl ?_
        refine z_goto (tgt := 2) C dX2_goes_15 (by decide) ?_
        refine z_lv (lv' := [(0, .ref a0), (1, .int (zI (t0 : Int))), (2, .int (zI ((i : Int) + 1)))]) [1, 2, 0] rfl ?_
        rw [show dy + (i : Int) + 1 = dy + ((i + 1 : Nat) : Int) by omega]
        exact ih_2 _ (by omega) (i + 1) (by first | assumption | omega) rfl
  refine z_lv (lv' := [(0, .ref a0), (1, .int (zI (t0 : Int))), (2, .int (zI 0))]) [1, 2, 0] rfl ?_
  rw [show zI dy = zI (dy + ((0 : Nat) : Int)) from congrArg zI (by omega)]
  exact L_2 _ 0 (by first | assumption | omega) rfl

theorem stepZ_eq {k : Nat} {f hm at_ oa lg yard way mi : Int} (hway : (way = 1 ∧ at_ < yard) ∨ (way = -1 ∧ yard < at_)) (hmi : mi = if at_ < yard then (if at_ < goalZ k hm at_ oa then min (paceZ k f lg) (goalZ k hm at_ oa - at_) else walkZ k) else (if goalZ k hm at_ oa < at_ then min (paceZ k f lg) (at_ - goalZ k hm at_ oa) else walkZ k)) : at_ + way * min mi (zAbs (yard - at_)) = stepZ k f hm at_ oa lg yard := by
  unfold stepZ
  rcases hway with ⟨h1, h2⟩ | ⟨h1, h2⟩
  · subst h1
    rw [if_pos h2] at hmi ⊢
    rw [← hmi, Int.one_mul, Int.min_comm, show zAbs (yard - at_) = yard - at_ from if_pos (by omega)]
  · subst h1
    rw [if_neg (by omega)] at hmi ⊢
    rw [← hmi, Int.min_comm, show zAbs (yard - at_) = at_ - yard by unfold zAbs; rw [if_neg (by omega)]; omega]
    omega
set_option maxHeartbeats 4000000 in
theorem ct_X2_stepsTo (l : Launch) (G : ZG) (a0 : Nat) (a1 : Nat) (a2 : Nat) (a3 : Nat) (a4 : Nat) (r : Nat → Option Nat) (hm : Nat → Int) (at_ : Nat → Int) (lg : Nat → Int) (n : Nat) (oa : Int) (dy : Int) (LP : List Nat) (hk : Nat → Nat) (hf : Nat → Int) (kd : Nat → Nat) (fg : Nat → Int) (j : Nat) (yard : Int) (hH : HR LP hk hf r n kd fg) (hL : LK n kd fg hm at_ lg oa) (hj : j < n) (hy : 0 ≤ yard ∧ yard ≤ 20) (hne : ¬ at_ j = yard) : CT l yX2_stepsTo cX2_stepsTo 8 none { frames := 4, cells := 0, slots := 0, locals := 79 } G [.ref a0, .int (zI (j : Int)), .int (zI yard)] ([(a0, .inr (8, [.ref a1, .ref a2, .ref a3, .ref a4, .int (zI (n : Int)), .int (zI oa), .int (zI dy)])), (a1, AQ G 4 7 r), (a2, AI G 7 hm), (a3, AI G 7 at_), (a4, AI G 7 lg)] ++ PL LP hk hf) (Qv G ([(a0, .inr (8, [.ref a1, .ref a2, .ref a3, .ref a4, .int (zI (n : Int)), .int (zI oa), .int (zI dy)])), (a1, AQ G 4 7 r), (a2, AI G 7 hm), (a3, AI G 7 at_), (a4, AI G 7 lg)] ++ PL LP hk hf) (fun (u : Unit) => True) (fun u => ([(a0, .inr (8, [.ref a1, .ref a2, .ref a3, .ref a4, .int (zI (n : Int)), .int (zI oa), .int (zI dy)])), (a1, AQ G 4 7 r), (a2, AI G 7 hm), (a3, AI G 7 (va_up at_ j (stepZ (kd j) (fg j) (hm j) (at_ j) oa (lg j) yard))), (a4, AI G 7 lg)] ++ PL LP hk hf))) := by
  refine z_met (by decide) (Nat.le_of_ble_eq_true rfl) ?_
  intro X A hl0 hA C hQ hin
  subst hl0
  obtain ⟨hn7, hoa, hLj⟩ := id hL
  obtain ⟨hk1, hf1, hm1, ha1, hl1⟩ := hLj j hj
  obtain ⟨y, hy1, hy2, hy3, hy4⟩ := hH j hj
  have hg := goalZ_r (k := kd j) hm1 ha1 hoa
  have hpz := paceZ_r (k := kd j) hf1 hl1
  have hwk := walkZ_r (kd j)
  show Z X _ G 0 0 _ 0 [(0, .ref a0), (1, .int (zI (j : Int))), (2, .int (zI yard))] []
  refine z_iload_n C dX2_stepsTo_0 rfl 2 rfl ?_
  refine z_aload_n C dX2_stepsTo_1 rfl 0 rfl ?_
  refine z_get (q := 0) (kf := 2) (v := .ref a3) C rfl rfl in_X2 (by decide) q841 (Or.inl rfl) rfl dX2_stepsTo_2 ?_
  refine z_iload_n C dX2_stepsTo_5 rfl 1 rfl ?_
  refine y_iald (q := 3) (t0 := 0) (v := at_ j) C rfl rfl (by omega) (by decide) rfl dX2_stepsTo_6 ?_
  refine z_i C (z_runS (As := [.int (zI yard), .int (zI (at_ j))]) (rest := []) C (ct_J5_compare (zl X) G yard (at_ j) (by first | assumption | omega) (by first | assumption | omega)) (lw_S q401 q402 q79 q403) (sb_e [] rfl rfl) (na := 2) (by decide +kernel) rfl (zrm rfl rfl (rfl) (rfl)) rfl (Nat.le_of_ble_eq_true rfl) dX2_stepsTo_7) (fun u => jn_ro (sb_e [] rfl rfl)) (fun r_7 u hp_7 => ?_)
  have hp_7 : r_7 = zI (cmpZ yard (at_ j)) := hp_7
  subst hp_7
  refine y_top (fun way hway => ?_)
  have hway2 : (way = 1 ∧ at_ j < yard) ∨ (way = -1 ∧ yard < at_ j) := by
    rw [hway]; unfold cmpZ; split
    · omega
    · split <;> omega
  refine z_istore_n (lv' := [(3, .int (zI way)), (0, .ref a0), (1, .int (zI (j : Int))), (2, .int (zI yard))]) C dX2_stepsTo_10 rfl (nlt rfl) rfl ?_
  refine z_iload_n C dX2_stepsTo_11 rfl 3 rfl ?_
  refine z_aload_n C dX2_stepsTo_12 rfl 1 rfl ?_
  refine z_get (q := 0) (kf := 2) (v := .ref a3) C rfl rfl in_X2 (by decide) q841 (Or.inl rfl) rfl dX2_stepsTo_13 ?_
  refine z_iload_n C dX2_stepsTo_16 rfl 2 rfl ?_
  refine y_iald (q := 3) (t0 := 0) (v := at_ j) C rfl rfl (by omega) (by decide) rfl dX2_stepsTo_17 ?_
  refine y_isub C dX2_stepsTo_18 ?_
  refine y_abs C q404 q405 q80 q406 (Nat.le_of_ble_eq_true rfl) (Nat.le_of_ble_eq_true rfl) (Nat.le_of_ble_eq_true rfl) (Nat.le_of_ble_eq_true rfl) (by omega) dX2_stepsTo_19 ?_
  refine z_istore (lv' := [(4, .int (zI (zAbs (yard - (at_ j))))), (3, .int (zI way)), (0, .ref a0), (1, .int (zI (j : Int))), (2, .int (zI yard))]) C dX2_stepsTo_22 (nlt rfl) rfl ?_
  have L_85 : ∀ (mi : Int), (mi = if at_ j < yard then (if at_ j < goalZ (kd j) (hm j) (at_ j) oa then min (paceZ (kd j) (fg j) (lg j)) (goalZ (kd j) (hm j) (at_ j) oa - at_ j) else walkZ (kd j)) else (if goalZ (kd j) (hm j) (at_ j) oa < at_ j then min (paceZ (kd j) (fg j) (lg j)) (at_ j - goalZ (kd j) (hm j) (at_ j) oa) else walkZ (kd j))) → Z X (cX2_stepsTo, 8, yX2_stepsTo.cls, none, { frames := 4, cells := 0, slots := 0, locals := 79 }, A) G 0 0 ([(a0, .inr (8, [.ref a1, .ref a2, .ref a3, .ref a4, .int (zI (n : Int)), .int (zI oa), .int (zI dy)])), (a1, AQ G 4 7 r), (a2, AI G 7 hm), (a3, AI G 7 at_), (a4, AI G 7 lg)] ++ PL LP hk hf) 85 [(4, .int (zI (zAbs (yard - at_ j)))), (3, .int (zI way)), (0, .ref a0), (1, .int (zI (j : Int))), (2, .int (zI yard))] [.int (zI mi)] := by
    intro mi hmi
    refine z_istore (lv' := [(7, .int (zI mi)), (4, .int (zI (zAbs (yard - at_ j)))), (3, .int (zI way)), (0, .ref a0), (1, .int (zI (j : Int))), (2, .int (zI yard))]) C dX2_stepsTo_85 (nlt rfl) rfl ?_
    refine z_aload_n C dX2_stepsTo_87 rfl 3 rfl ?_
    refine z_get (q := 0) (kf := 2) (v := .ref a3) C rfl rfl in_X2 (by decide) q841 (Or.inl rfl) rfl dX2_stepsTo_88 ?_
    refine z_iload_n C dX2_stepsTo_91 rfl 4 rfl ?_
    refine z_dup2 C dX2_stepsTo_92 rfl rfl ?_
    refine y_iald (q := 3) (t0 := 0) (v := at_ j) C rfl rfl (by omega) (by decide) rfl dX2_stepsTo_93 ?_
    refine z_iload_n C dX2_stepsTo_94 rfl 2 rfl ?_
    refine z_iload C dX2_stepsTo_95 0 rfl ?_
    refine z_iload C dX2_stepsTo_97 1 rfl ?_
    refine y_min C q469 q470 q80 q471 (Nat.le_of_ble_eq_true rfl) (Nat.le_of_ble_eq_true rfl) (Nat.le_of_ble_eq_true rfl) (Nat.le_of_ble_eq_true rfl) (by first | omega | (have h8 := zAbs_nn (yard - at_ j); have h9 := (zAbs_le (a := yard - at_ j) (m := 20)).mpr ⟨by omega, by omega⟩; omega)) (by first | omega | (have h8 := zAbs_nn (yard - at_ j); have h9 := (zAbs_le (a := yard - at_ j) (m := 20)).mpr ⟨by omega, by omega⟩; omega)) dX2_stepsTo_99 ?_
    refine y_imul C dX2_stepsTo_102 ?_
    refine y_iadd C dX2_stepsTo_103 ?_
    refine y_iast (q := 3) (t0 := 0) (g := va_up at_ j (stepZ (kd j) (fg j) (hm j) (at_ j) oa (lg j) yard)) (ws' := ([(a0, .inr (8, [.ref a1, .ref a2, .ref a3, .ref a4, .int (zI (n : Int)), .int (zI oa), .int (zI dy)])), (a1, AQ G 4 7 r), (a2, AI G 7 hm), (a3, AI G 7 (va_up at_ j (stepZ (kd j) (fg j) (hm j) (at_ j) oa (lg j) yard))), (a4, AI G 7 lg)] ++ PL LP hk hf)) C rfl rfl (by omega) (by decide) (by rw [stepZ_eq hway2 hmi]; rfl) rfl dX2_stepsTo_104 ?_
    exact z_vret C hA hQ rfl (Nat.le_of_ble_eq_true rfl) (Nat.le_of_ble_eq_true rfl) (()) (trivial) (sb_p [0, 1, 2, 3, 4] rfl rfl) dX2_stepsTo_105
  refine z_aload_n C dX2_stepsTo_24 rfl 2 rfl ?_
  refine z_iload_n C dX2_stepsTo_25 rfl 3 rfl ?_
  refine z_i C (z_runV (q := 0) (As := [.int (zI (j : Int))]) (rest := []) C (ct_X2_goal (zl X) G a0 a1 a2 a3 a4 r hm at_ lg n oa dy LP hk hf kd fg j (by first | assumption | omega) (by first | assumption | omega) (by first | assumption | omega)) (lw_V q407 q408 q409 q59 q410) rfl rfl (sb_p [0, 1, 2, 3, 4] rfl rfl) (na := 1) (by decide +kernel) rfl (zrm rfl rfl (rfl) (rfl)) rfl (Nat.le_of_ble_eq_true rfl) dX2_stepsTo_26) (fun u => jn_ro (sb_p [0, 1, 2, 3, 4] rfl rfl)) (fun r_26 u hp_26 => ?_)
  have hp_26 : r_26 = zI (goalZ (kd j) (hm j) (at_ j) oa) := hp_26
  subst hp_26
  refine z_aload_n C dX2_stepsTo_29 rfl 2 rfl ?_
  refine z_get (q := 0) (kf := 2) (v := .ref a3) C rfl rfl in_X2 (by decide) q841 (Or.inl rfl) rfl dX2_stepsTo_30 ?_
  refine z_iload_n C dX2_stepsTo_33 rfl 3 rfl ?_
  refine y_iald (q := 3) (t0 := 0) (v := at_ j) C rfl rfl (by omega) (by decide) rfl dX2_stepsTo_34 ?_
  refine y_isub C dX2_stepsTo_35 ?_
  refine z_istore (lv' := [(5, .int (zI ((goalZ (kd j) (hm j) (at_ j) oa) - (at_ j)))), (4, .int (zI (zAbs (yard - (at_ j))))), (3, .int (zI way)), (0, .ref a0), (1, .int (zI (j : Int))), (2, .int (zI yard))]) C dX2_stepsTo_36 (nlt rfl) rfl ?_
  have L_53 : ∀ (hw : Int), ((hw = 1 ∧ ((way = 1 ∧ at_ j < goalZ (kd j) (hm j) (at_ j) oa) ∨ (way = -1 ∧ goalZ (kd j) (hm j) (at_ j) oa < at_ j))) ∨ (hw = 0 ∧ ¬ ((way = 1 ∧ at_ j < goalZ (kd j) (hm j) (at_ j) oa) ∨ (way = -1 ∧ goalZ (kd j) (hm j) (at_ j) oa < at_ j)))) → Z X (cX2_stepsTo, 8, yX2_stepsTo.cls, none, { frames := 4, cells := 0, slots := 0, locals := 79 }, A) G 0 0 ([(a0, .inr (8, [.ref a1, .ref a2, .ref a3, .ref a4, .int (zI (n : Int)), .int (zI oa), .int (zI dy)])), (a1, AQ G 4 7 r), (a2, AI G 7 hm), (a3, AI G 7 at_), (a4, AI G 7 lg)] ++ PL LP hk hf) 53 [(5, .int (zI (goalZ (kd j) (hm j) (at_ j) oa - at_ j))), (4, .int (zI (zAbs (yard - at_ j)))), (3, .int (zI way)), (0, .ref a0), (1, .int (zI (j : Int))), (2, .int (zI yard))] [.int (zI hw)] := by
    intro hw hhw
    refine z_istore (lv' := [(6, .int (zI hw)), (5, .int (zI (goalZ (kd j) (hm j) (at_ j) oa - at_ j))), (4, .int (zI (zAbs (yard - at_ j)))), (3, .int (zI way)), (0, .ref a0), (1, .int (zI (j : Int))), (2, .int (zI yard))]) C dX2_stepsTo_53 (nlt rfl) rfl ?_
    refine z_iload C dX2_stepsTo_55 0 rfl ?_
    refine y_if_eq (tgt := 76) C (by omega) dX2_stepsTo_57 (by decide) (fun c_57 => ?_) (fun c_57 => ?_)
    · skip
      refine z_aload_n C dX2_stepsTo_76 rfl 4 rfl ?_
      refine z_get (q := 0) (kf := 0) (v := .ref a1) C rfl rfl in_X2 (by decide) q837 (Or.inl rfl) rfl dX2_stepsTo_77 ?_
      refine z_iload_n C dX2_stepsTo_80 rfl 5 rfl ?_
      refine y_aldq (q := 1) (t0 := 4) (v := .ref y) C rfl rfl (by omega) (by decide) (by show va_rf (r j) = _; rw [hy1]; rfl) dX2_stepsTo_81 ?_
      obtain ⟨q_82, hq_82⟩ := pl_at (E := [(a0, .inr (8, [.ref a1, .ref a2, .ref a3, .ref a4, .int (zI (n : Int)), .int (zI oa), .int (zI dy)])), (a1, AQ G 4 7 r), (a2, AI G 7 hm), (a3, AI G 7 at_), (a4, AI G 7 lg)]) (hk := hk) (hf := hf) hy2
      rw [hy3, hy4] at hq_82
      refine dsp_walk C (kd := kd j) (f := fg j) hk1 hq_82 (gw_22 C.gk.2.1)  (Nat.le_of_ble_eq_true rfl) (Nat.le_of_ble_eq_true rfl) (Nat.le_of_ble_eq_true rfl) (Nat.le_of_ble_eq_true rfl) (Nat.le_of_ble_eq_true rfl) dX2_stepsTo_82 ?_
      refine z_lv (lv' := [(4, .int (zI (zAbs (yard - at_ j)))), (3, .int (zI way)), (0, .ref a0), (1, .int (zI (j : Int))), (2, .int (zI yard))]) [2, 3, 4, 5, 6] rfl ?_
      exact L_85 (walkZ (kd j)) (by
        rcases hhw with ⟨e, h⟩ | ⟨e, h⟩
        · first
          | (exfalso; omega)
          | (unfold zAbs
             rcases h with ⟨q1, q2⟩ | ⟨q1, q2⟩
             · rw [if_pos (by omega : at_ j < yard), if_pos q2, if_pos (by omega)]
             · rw [if_neg (by omega), if_pos q2, if_neg (by omega)]; congr 1; omega)
        · first
          | (exfalso; omega)
          | (rcases hway2 with ⟨q1, q2⟩ | ⟨q1, q2⟩
             · rw [if_pos q2, if_neg (by omega)]
             · rw [if_neg (by omega), if_neg (by omega)]))
    · skip
      refine z_aload_n C dX2_stepsTo_60 rfl 4 rfl ?_
      refine z_iload_n C dX2_stepsTo_61 rfl 5 rfl ?_
      refine z_i C (z_runV (q := 0) (As := [.int (zI (j : Int))]) (rest := []) C (ct_X2_pace (zl X) G a0 a1 a2 a3 a4 r hm at_ lg n oa dy LP hk hf kd fg j (by first | assumption | omega) (by first | assumption | omega) (by first | assumption | omega)) (lw_V q438 q439 q440 q59 q441) rfl rfl (sb_p [0, 1, 2, 3, 4] rfl rfl) (na := 1) (by decide +kernel) rfl (zrm rfl rfl (rfl) (rfl)) rfl (Nat.le_of_ble_eq_true rfl) dX2_stepsTo_62) (fun u => jn_ro (sb_p [0, 1, 2, 3, 4] rfl rfl)) (fun r_62 u hp_62 => ?_)
      have hp_62 : r_62 = zI (paceZ (kd j) (fg j) (lg j)) := hp_62
      subst hp_62
      refine z_iload C dX2_stepsTo_65 1 rfl ?_
      refine y_abs C q404 q405 q80 q406 (Nat.le_of_ble_eq_true rfl) (Nat.le_of_ble_eq_true rfl) (Nat.le_of_ble_eq_true rfl) (Nat.le_of_ble_eq_true rfl) (by omega) dX2_stepsTo_67 ?_
      refine y_min C q469 q470 q80 q471 (Nat.le_of_ble_eq_true rfl) (Nat.le_of_ble_eq_true rfl) (Nat.le_of_ble_eq_true rfl) (Nat.le_of_ble_eq_true rfl) (by first | omega | (have h8 := zAbs_nn (goalZ (kd j) (hm j) (at_ j) oa - at_ j); have h9 := (zAbs_le (a := goalZ (kd j) (hm j) (at_ j) oa - at_ j) (m := 20)).mpr ⟨by omega, by omega⟩; omega)) (by first | omega | (have h8 := zAbs_nn (goalZ (kd j) (hm j) (at_ j) oa - at_ j); have h9 := (zAbs_le (a := goalZ (kd j) (hm j) (at_ j) oa - at_ j) (m := 20)).mpr ⟨by omega, by omega⟩; omega)) dX2_stepsTo_70 ?_
      refine z_goto (tgt := 85) C dX2_stepsTo_73 (by decide) ?_
      refine z_lv (lv' := [(4, .int (zI (zAbs (yard - at_ j)))), (3, .int (zI way)), (0, .ref a0), (1, .int (zI (j : Int))), (2, .int (zI yard))]) [2, 3, 4, 5, 6] rfl ?_
      exact L_85 (min (paceZ (kd j) (fg j) (lg j)) (zAbs (goalZ (kd j) (hm j) (at_ j) oa - at_ j))) (by
        rcases hhw with ⟨e, h⟩ | ⟨e, h⟩
        · first
          | (exfalso; omega)
          | (unfold zAbs
             rcases h with ⟨q1, q2⟩ | ⟨q1, q2⟩
             · rw [if_pos (by omega : at_ j < yard), if_pos q2, if_pos (by omega)]
             · rw [if_neg (by omega), if_pos q2, if_neg (by omega)]; congr 1; omega)
        · first
          | (exfalso; omega)
          | (rcases hway2 with ⟨q1, q2⟩ | ⟨q1, q2⟩
             · rw [if_pos q2, if_neg (by omega)]
             · rw [if_neg (by omega), if_neg (by omega)]))
  refine z_iload C dX2_stepsTo_38 0 rfl ?_
  refine y_iconst C dX2_stepsTo_40 ?_
  refine z_i C (z_runS (As := [.int (zI ((goalZ (kd j) (hm j) (at_ j) oa) - (at_ j))), .int (zI 0)]) (rest := []) C (ct_J5_compare (zl X) G ((goalZ (kd j) (hm j) (at_ j) oa) - (at_ j)) 0 (by first | assumption | omega) (by first | assumption | omega)) (lw_S q401 q402 q79 q403) (sb_e [] rfl rfl) (na := 2) (by decide +kernel) rfl (zrm rfl rfl (rfl) (rfl)) rfl (Nat.le_of_ble_eq_true rfl) dX2_stepsTo_41) (fun u => jn_ro (sb_e [] rfl rfl)) (fun r_41 u hp_41 => ?_)
  have hp_41 : r_41 = zI (cmpZ ((goalZ (kd j) (hm j) (at_ j) oa) - (at_ j)) 0) := hp_41
  subst hp_41
  refine z_iload_n C dX2_stepsTo_44 rfl 2 rfl ?_
  refine y_icmp_ne (tgt := 52) C (by first | (unfold cmpZ; split <;> (try split) <;> omega) | omega) (by first | (unfold cmpZ; split <;> (try split) <;> omega) | omega) dX2_stepsTo_45 (by decide) (fun c_45 => ?_) (fun c_45 => ?_)
  · skip
    have hd : ¬ ((way = 1 ∧ at_ j < goalZ (kd j) (hm j) (at_ j) oa) ∨ (way = -1 ∧ goalZ (kd j) (hm j) (at_ j) oa < at_ j)) := by
      intro q; apply c_45; unfold cmpZ; split <;> (try split) <;> omega
    refine y_iconst C dX2_stepsTo_52 ?_
    exact L_53 0 (by first | exact Or.inl ⟨rfl, hd⟩ | exact Or.inr ⟨rfl, hd⟩)
  · skip
    have hd : (way = 1 ∧ at_ j < goalZ (kd j) (hm j) (at_ j) oa) ∨ (way = -1 ∧ goalZ (kd j) (hm j) (at_ j) oa < at_ j) := by
      revert c_45; unfold cmpZ; split <;> (try split) <;> omega
    refine y_iconst C dX2_stepsTo_48 ?_
    refine z_goto (tgt := 53) C dX2_stepsTo_49 (by decide) ?_
    exact L_53 1 (by first | exact Or.inl ⟨rfl, hd⟩ | exact Or.inr ⟨rfl, hd⟩)

