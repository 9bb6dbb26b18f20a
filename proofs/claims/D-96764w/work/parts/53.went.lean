/-! THE COMPONENT: wentSo, by the row's sort -/
set_option maxRecDepth 100000
set_option maxHeartbeats 4000000 in
theorem ct_X1_wentSo_0 (l : Launch) (G : ZG) (x : Nat) (b0 : Nat) (m0 : Nat) (tl : Nat) (le : Nat) (sh : Nat) (im : Int) (fw : Int) (fh : Int) (lo : Int) (a0 : Nat) (m1 : Nat) (m2 : Nat) (m3 : Nat) (m4 : Nat) (r : Nat → Option Nat) (hm : Nat → Int) (at_ : Nat → Int) (lg : Nat → Int) (n : Nat) (oa : Int) (dy : Int) (LP : List Nat) (hk : Nat → Nat) (hf : Nat → Int) (kd : Nat → Nat) (fg : Nat → Int) (w : Nat) (nr : Nat) (j : Nat) (f : Nat → Int) (yard : Int) (hH : HR LP hk hf r n kd fg) (hL : LK n kd fg hm at_ lg oa) (hj : j < n) (hy : 0 ≤ yard ∧ yard ≤ 20) (hn : nr ≤ 100) (hr : ∀ k, -2147483648 ≤ f k ∧ f k ≤ 2147483647) : CT l yX1_wentSo cX1_wentSo 5 (some .boolean) { frames := 7, cells := 0, slots := 0, locals := 143 } G [.ref x, .ref w, .int (zI (j : Int)), .int (zI yard)] ([(x, .inr (10, [.ref a0, .ref b0, .ref m0, .int (zI im), .ref tl, .ref le, .int (zI fw), .int (zI fh), .int (zI lo), .ref sh])), (m0, .inr (8, [.ref m1, .ref m2, .ref m3, .ref m4, .int (zI (n : Int)), .int (zI oa), .int (zI dy)])), (m1, AQ G 4 7 r), (m2, AI G 7 hm), (m3, AI G 7 at_), (m4, AI G 7 lg), (w, .inl (G.2.2 2, nr, .inl (IA f)))] ++ PL LP hk hf) (Qi G ([(x, .inr (10, [.ref a0, .ref b0, .ref m0, .int (zI im), .ref tl, .ref le, .int (zI fw), .int (zI fh), .int (zI lo), .ref sh])), (m0, .inr (8, [.ref m1, .ref m2, .ref m3, .ref m4, .int (zI (n : Int)), .int (zI oa), .int (zI dy)])), (m1, AQ G 4 7 r), (m2, AI G 7 hm), (m3, AI G 7 at_), (m4, AI G 7 lg), (w, .inl (G.2.2 2, nr, .inl (IA f)))] ++ PL LP hk hf) (fun (r : Int32) (u : (Nat → Int) × (Nat → Int) × Int) => r = zI (rowB f (skZ 0) kd fg hm oa n j yard at_ lg nr)) (fun u => ([(x, .inr (10, [.ref a0, .ref b0, .ref m0, .int (zI im), .ref tl, .ref le, .int (zI fw), .int (zI fh), .int (zI lo), .ref sh])), (m0, .inr (8, [.ref m1, .ref m2, .ref m3, .ref m4, .int (zI (n : Int)), .int (zI oa), .int (zI u.2.2)])), (m1, AQ G 4 7 r), (m2, AI G 7 hm), (m3, AI G 7 u.1), (m4, AI G 7 u.2.1), (w, .inl (G.2.2 2, nr, .inl (IA f)))] ++ PL LP hk hf))) := by
  refine z_met (by decide) (Nat.le_of_ble_eq_true rfl) ?_
  intro X A hl0 hA C hQ hin
  subst hl0
  obtain ⟨hn7, hoa, hLj⟩ := id hL
  show Z X _ G 0 0 _ 0 [(0, .ref x), (1, .ref w), (2, .int (zI (j : Int))), (3, .int (zI yard))] []
  refine y_iconst C dX1_wentSo_0 ?_
  refine z_istore (lv' := [(4, .int (zI 0)), (0, .ref x), (1, .ref w), (2, .int (zI (j : Int))), (3, .int (zI yard))]) C dX1_wentSo_1 (nlt rfl) rfl ?_
  have L_3 : ∀ (tt : Nat) (k : Nat) (at1 : Nat → Int) (lg1 : Nat → Int) (dy1 : Int), (k ≤ nr) → (seqF kd fg hm oa n j yard at_ lg k = (at1, lg1)) → (LK n kd fg hm at1 lg1 oa) → (rowB f (skZ 0) kd fg hm oa n j yard at_ lg k = 1) → nr - k = tt → Z X (cX1_wentSo, 5, yX1_wentSo.cls, (some .boolean), { frames := 7, cells := 0, slots := 0, locals := 143 }, A) G 0 0 ([(x, .inr (10, [.ref a0, .ref b0, .ref m0, .int (zI im), .ref tl, .ref le, .int (zI fw), .int (zI fh), .int (zI lo), .ref sh])), (m0, .inr (8, [.ref m1, .ref m2, .ref m3, .ref m4, .int (zI (n : Int)), .int (zI oa), .int (zI dy1)])), (m1, AQ G 4 7 r), (m2, AI G 7 hm), (m3, AI G 7 at1), (m4, AI G 7 lg1), (w, .inl (G.2.2 2, nr, .inl (IA f)))] ++ PL LP hk hf) 3 [(4, .int (zI (k : Int))), (0, .ref x), (1, .ref w), (2, .int (zI (j : Int))), (3, .int (zI yard))] [] := by
    intro tt
    induction tt using Nat.strongRecOn with
    | _ tt ih_3 =>
      intro k at1 lg1 dy1 hk0 hsq hL1 his ht_3
      have hrk := hr k
      obtain ⟨hk1, hf1, hm1, ha1, hl1⟩ := hL1.2.2 j hj
      have hst := stepZ_r (k := kd j) hf1 hm1 ha1 hoa hl1 hy
      refine z_iload C dX1_wentSo_3 0 rfl ?_
      refine z_aload_n C dX1_wentSo_5 rfl 2 rfl ?_
      refine z_i C (z_runS (As := [.ref w]) (rest := [.int (zI (k : Int))]) C (ct_X1_sizeOf_0 (zl X) G w nr f (by first | assumption | omega)) (lw_S q739 q740 q58 q741) (sb_e [6] rfl rfl) (na := 1) (by decide +kernel) rfl (zrm rfl rfl (rfl) (rfl)) rfl (Nat.le_of_ble_eq_true rfl) dX1_wentSo_6) (fun u => jn_ro (sb_e [6] rfl rfl)) (fun r_6 u hp_6 => ?_)
      have hp_6 : r_6 = zI (nr : Int) := hp_6
      subst hp_6
      refine y_icmp_ge (tgt := 80) C (by omega) (by omega) dX1_wentSo_9 (by decide) (fun c_9 => ?_) (fun c_9 => ?_)
      · skip
        refine y_iconst C dX1_wentSo_80 ?_
        exact z_zret C hA hQ rfl (Nat.le_of_ble_eq_true rfl) (Nat.le_of_ble_eq_true rfl) ((at1, lg1, dy1)) (congrArg zI (by rw [← his]; congr 1; omega)) (rfl) (sb_p [0, 1, 2, 3, 4, 5, 6] rfl rfl) dX1_wentSo_81
      · skip
        refine z_aload_n C dX1_wentSo_12 rfl 2 rfl ?_
        refine z_iload C dX1_wentSo_13 0 rfl ?_
        refine z_i C (z_runS (As := [.ref w, .int (zI (k : Int))]) (rest := []) C (ct_X1_isSkipped_0 (zl X) G w nr f k (by first | assumption | omega) (by omega) (by first | assumption | omega)) (lw_S q742 q743 q58 q744) (sb_e [6] rfl rfl) (na := 2) (by decide +kernel) rfl (zrm rfl rfl (rfl) (rfl)) rfl (Nat.le_of_ble_eq_true rfl) dX1_wentSo_15) (fun u => jn_ro (sb_e [6] rfl rfl)) (fun r_15 u hp_15 => ?_)
        have hp_15 : r_15 = zI (bI (f k = skZ 0)) := hp_15
        subst hp_15
        refine y_bne (tgt := 41) C dX1_wentSo_18 (by decide) (fun c_18 => ?_) (fun c_18 => ?_)
        · skip
          have hor : f k = skZ 0 ∨ f k = at1 j := by first | exact Or.inl (by assumption) | exact Or.inr (by assumption)
          refine z_aload_n C dX1_wentSo_41 rfl 1 rfl ?_
          refine z_get (q := 0) (kf := 2) (v := .ref m0) C rfl rfl in_X1 (by decide) q882 (Or.inl rfl) rfl dX1_wentSo_42 ?_
          refine z_get (q := 1) (kf := 2) (v := .ref m3) C rfl rfl in_X2 (by decide) q842 (Or.inl rfl) rfl dX1_wentSo_45 ?_
          refine z_iload_n C dX1_wentSo_48 rfl 3 rfl ?_
          refine y_iald (q := 4) (t0 := 0) (v := at1 j) C rfl rfl (by omega) (by decide) rfl dX1_wentSo_49 ?_
          refine z_iload_n C dX1_wentSo_50 rfl 4 rfl ?_
          refine y_icmp_ne (tgt := 57) C (by omega) (by omega) dX1_wentSo_51 (by decide) (fun c_51 => ?_) (fun c_51 => ?_)
          · skip
            refine z_aload_n C dX1_wentSo_57 rfl 1 rfl ?_
            refine z_get (q := 0) (kf := 2) (v := .ref m0) C rfl rfl in_X1 (by decide) q882 (Or.inl rfl) rfl dX1_wentSo_58 ?_
            refine z_iload_n C dX1_wentSo_61 rfl 3 rfl ?_
            refine z_iload_n C dX1_wentSo_62 rfl 4 rfl ?_
            refine z_v (ws' := fun u => ([(x, .inr (10, [.ref a0, .ref b0, .ref m0, .int (zI im), .ref tl, .ref le, .int (zI fw), .int (zI fh), .int (zI lo), .ref sh])), (m0, .inr (8, [.ref m1, .ref m2, .ref m3, .ref m4, .int (zI (n : Int)), .int (zI oa), .int (zI dy1)])), (m1, AQ G 4 7 r), (m2, AI G 7 hm), (m3, AI G 7 (va_up at1 j (stepZ (kd j) (fg j) (hm j) (at1 j) oa (lg1 j) yard))), (m4, AI G 7 lg1), (w, .inl (G.2.2 2, nr, .inl (IA f)))] ++ PL LP hk hf)) C (z_runV (q := 1) (As := [.int (zI (j : Int)), .int (zI yard)]) (rest := []) C (ct_X2_stepsTo (zl X) G m0 m1 m2 m3 m4 r hm at1 lg1 n oa dy1 LP hk hf kd fg j yard (by first | assumption | omega) (hL1) (by first | assumption | omega) (by first | assumption | omega) (by assumption)) (lw_V q752 q398 q399 q59 q400) rfl rfl (sb_p [1, 2, 3, 4, 5] rfl rfl) (na := 2) (by decide +kernel) rfl (zrm rfl rfl (rfl) (rfl)) rfl (Nat.le_of_ble_eq_true rfl) dX1_wentSo_63) (fun u => jn_p (Lr := [(x, .inr (10, [.ref a0, .ref b0, .ref m0, .int (zI im), .ref tl, .ref le, .int (zI fw), .int (zI fh), .int (zI lo), .ref sh])), (w, .inl (G.2.2 2, nr, .inl (IA f)))]) [1, 2, 3, 4, 5] [0, 6] [0, 2, 3, 4, 5, 6, 1] rfl rfl rfl (by decide) rfl rfl) (fun u hp_63 => ?_)
            refine z_aload_n C dX1_wentSo_66 rfl 1 rfl ?_
            refine z_get (q := 0) (kf := 2) (v := .ref m0) C rfl rfl in_X1 (by decide) q882 (Or.inl rfl) rfl dX1_wentSo_67 ?_
            refine y_iconst C dX1_wentSo_70 ?_
            refine z_v (ws' := fun u => ([(x, .inr (10, [.ref a0, .ref b0, .ref m0, .int (zI im), .ref tl, .ref le, .int (zI fw), .int (zI fh), .int (zI lo), .ref sh])), (m0, .inr (8, [.ref m1, .ref m2, .ref m3, .ref m4, .int (zI (n : Int)), .int (zI oa), .int (zI (dy1 + 1))])), (m1, AQ G 4 7 r), (m2, AI G 7 hm), (m3, AI G 7 (va_up at1 j (stepZ (kd j) (fg j) (hm j) (at1 j) oa (lg1 j) yard))), (m4, AI G 7 (dayB 0 kd fg hm (va_up at1 j (stepZ (kd j) (fg j) (hm j) (at1 j) oa (lg1 j) yard)) oa n lg1)), (w, .inl (G.2.2 2, nr, .inl (IA f)))] ++ PL LP hk hf)) C (z_runV (q := 1) (As := [.int (zI 0)]) (rest := []) C (ct_X2_goesDay (zl X) G m0 m1 m2 m3 m4 r hm (va_up at1 j (stepZ (kd j) (fg j) (hm j) (at1 j) oa (lg1 j) yard)) lg1 n oa dy1 LP hk hf kd fg 0 (by first | assumption | omega) (hL1.at hst) (by omega)) (lw_V q649 q492 q493 q59 q494) rfl rfl (sb_p [1, 2, 3, 4, 5] rfl rfl) (na := 1) (by decide +kernel) rfl (zrm rfl rfl (rfl) (rfl)) rfl (Nat.le_of_ble_eq_true rfl) dX1_wentSo_71) (fun u => jn_p (Lr := [(x, .inr (10, [.ref a0, .ref b0, .ref m0, .int (zI im), .ref tl, .ref le, .int (zI fw), .int (zI fh), .int (zI lo), .ref sh])), (w, .inl (G.2.2 2, nr, .inl (IA f)))]) [1, 2, 3, 4, 5] [0, 6] [0, 2, 3, 4, 5, 6, 1] rfl rfl rfl (by decide) rfl rfl) (fun u hp_71 => ?_)
            refine y_iinc (lv' := [(4, .int (zI ((k : Int) + 1))), (0, .ref x), (1, .ref w), (2, .int (zI (j : Int))), (3, .int (zI yard))]) C dX1_wentSo_74 (q := 0) rfl (nlt rfl) rfl ?_
            refine z_goto (tgt := 3) C dX1_wentSo_77 (by decide) ?_
            exact ih_3 _ (by omega) (k + 1) (va_up at1 j (stepZ (kd j) (fg j) (hm j) (at1 j) oa (lg1 j) yard)) (dayB 0 kd fg hm (va_up at1 j (stepZ (kd j) (fg j) (hm j) (at1 j) oa (lg1 j) yard)) oa n lg1) (dy1 + 1) (by first | assumption | omega) (by first | exact seqF_t hsq (by assumption) | exact seqF_f hsq (by assumption)) (by first | exact hL1 | exact (hL1.at hst).day) ((rowB_s his hsq).1 hor) rfl
          · skip
            refine z_goto (tgt := 74) C dX1_wentSo_54 (by decide) ?_
            refine y_iinc (lv' := [(4, .int (zI ((k : Int) + 1))), (0, .ref x), (1, .ref w), (2, .int (zI (j : Int))), (3, .int (zI yard))]) C dX1_wentSo_74 (q := 0) rfl (nlt rfl) rfl ?_
            refine z_goto (tgt := 3) C dX1_wentSo_77 (by decide) ?_
            exact ih_3 _ (by omega) (k + 1) at1 lg1 dy1 (by first | assumption | omega) (by first | exact seqF_t hsq (by assumption) | exact seqF_f hsq (by assumption)) (by first | exact hL1 | exact (hL1.at hst).day) ((rowB_s his hsq).1 hor) rfl
        · skip
          refine z_aload_n C dX1_wentSo_21 rfl 2 rfl ?_
          refine z_iload C dX1_wentSo_22 0 rfl ?_
          refine z_i C (z_runS (As := [.ref w, .int (zI (k : Int))]) (rest := []) C (ct_X1_elementOf_0 (zl X) G w nr f k (by first | assumption | omega) (by omega)) (lw_S q745 q746 q58 q747) (sb_e [6] rfl rfl) (na := 2) (by decide +kernel) rfl (zrm rfl rfl (rfl) (rfl)) rfl (Nat.le_of_ble_eq_true rfl) dX1_wentSo_24) (fun u => jn_ro (sb_e [6] rfl rfl)) (fun r_24 u hp_24 => ?_)
          have hp_24 : r_24 = zI (f k) := hp_24
          subst hp_24
          refine z_aload_n C dX1_wentSo_27 rfl 1 rfl ?_
          refine z_get (q := 0) (kf := 2) (v := .ref m0) C rfl rfl in_X1 (by decide) q882 (Or.inl rfl) rfl dX1_wentSo_28 ?_
          refine z_get (q := 1) (kf := 2) (v := .ref m3) C rfl rfl in_X2 (by decide) q842 (Or.inl rfl) rfl dX1_wentSo_31 ?_
          refine z_iload_n C dX1_wentSo_34 rfl 3 rfl ?_
          refine y_iald (q := 4) (t0 := 0) (v := at1 j) C rfl rfl (by omega) (by decide) rfl dX1_wentSo_35 ?_
          refine y_icmp_eq (tgt := 41) C (by omega) (by omega) dX1_wentSo_36 (by decide) (fun c_36 => ?_) (fun c_36 => ?_)
          · skip
            have hor : f k = skZ 0 ∨ f k = at1 j := by first | exact Or.inl (by assumption) | exact Or.inr (by assumption)
            refine z_aload_n C dX1_wentSo_41 rfl 1 rfl ?_
            refine z_get (q := 0) (kf := 2) (v := .ref m0) C rfl rfl in_X1 (by decide) q882 (Or.inl rfl) rfl dX1_wentSo_42 ?_
            refine z_get (q := 1) (kf := 2) (v := .ref m3) C rfl rfl in_X2 (by decide) q842 (Or.inl rfl) rfl dX1_wentSo_45 ?_
            refine z_iload_n C dX1_wentSo_48 rfl 3 rfl ?_
            refine y_iald (q := 4) (t0 := 0) (v := at1 j) C rfl rfl (by omega) (by decide) rfl dX1_wentSo_49 ?_
            refine z_iload_n C dX1_wentSo_50 rfl 4 rfl ?_
            refine y_icmp_ne (tgt := 57) C (by omega) (by omega) dX1_wentSo_51 (by decide) (fun c_51 => ?_) (fun c_51 => ?_)
            · skip
              refine z_aload_n C dX1_wentSo_57 rfl 1 rfl ?_
              refine z_get (q := 0) (kf := 2) (v := .ref m0) C rfl rfl in_X1 (by decide) q882 (Or.inl rfl) rfl dX1_wentSo_58 ?_
              refine z_iload_n C dX1_wentSo_61 rfl 3 rfl ?_
              refine z_iload_n C dX1_wentSo_62 rfl 4 rfl ?_
              refine z_v (ws' := fun u => ([(x, .inr (10, [.ref a0, .ref b0, .ref m0, .int (zI im), .ref tl, .ref le, .int (zI fw), .int (zI fh), .int (zI lo), .ref sh])), (m0, .inr (8, [.ref m1, .ref m2, .ref m3, .ref m4, .int (zI (n : Int)), .int (zI oa), .int (zI dy1)])), (m1, AQ G 4 7 r), (m2, AI G 7 hm), (m3, AI G 7 (va_up at1 j (stepZ (kd j) (fg j) (hm j) (at1 j) oa (lg1 j) yard))), (m4, AI G 7 lg1), (w, .inl (G.2.2 2, nr, .inl (IA f)))] ++ PL LP hk hf)) C (z_runV (q := 1) (As := [.int (zI (j : Int)), .int (zI yard)]) (rest := []) C (ct_X2_stepsTo (zl X) G m0 m1 m2 m3 m4 r hm at1 lg1 n oa dy1 LP hk hf kd fg j yard (by first | assumption | omega) (hL1) (by first | assumption | omega) (by first | assumption | omega) (by assumption)) (lw_V q752 q398 q399 q59 q400) rfl rfl (sb_p [1, 2, 3, 4, 5] rfl rfl) (na := 2) (by decide +kernel) rfl (zrm rfl rfl (rfl) (rfl)) rfl (Nat.le_of_ble_eq_true rfl) dX1_wentSo_63) (fun u => jn_p (Lr := [(x, .inr (10, [.ref a0, .ref b0, .ref m0, .int (zI im), .ref tl, .ref le, .int (zI fw), .int (zI fh), .int (zI lo), .ref sh])), (w, .inl (G.2.2 2, nr, .inl (IA f)))]) [1, 2, 3, 4, 5] [0, 6] [0, 2, 3, 4, 5, 6, 1] rfl rfl rfl (by decide) rfl rfl) (fun u hp_63 => ?_)
              refine z_aload_n C dX1_wentSo_66 rfl 1 rfl ?_
              refine z_get (q := 0) (kf := 2) (v := .ref m0) C rfl rfl in_X1 (by decide) q882 (Or.inl rfl) rfl dX1_wentSo_67 ?_
              refine y_iconst C dX1_wentSo_70 ?_
              refine z_v (ws' := fun u => ([(x, .inr (10, [.ref a0, .ref b0, .ref m0, .int (zI im), .ref tl, .ref le, .int (zI fw), .int (zI fh), .int (zI lo), .ref sh])), (m0, .inr (8, [.ref m1, .ref m2, .ref m3, .ref m4, .int (zI (n : Int)), .int (zI oa), .int (zI (dy1 + 1))])), (m1, AQ G 4 7 r), (m2, AI G 7 hm), (m3, AI G 7 (va_up at1 j (stepZ (kd j) (fg j) (hm j) (at1 j) oa (lg1 j) yard))), (m4, AI G 7 (dayB 0 kd fg hm (va_up at1 j (stepZ (kd j) (fg j) (hm j) (at1 j) oa (lg1 j) yard)) oa n lg1)), (w, .inl (G.2.2 2, nr, .inl (IA f)))] ++ PL LP hk hf)) C (z_runV (q := 1) (As := [.int (zI 0)]) (rest := []) C (ct_X2_goesDay (zl X) G m0 m1 m2 m3 m4 r hm (va_up at1 j (stepZ (kd j) (fg j) (hm j) (at1 j) oa (lg1 j) yard)) lg1 n oa dy1 LP hk hf kd fg 0 (by first | assumption | omega) (hL1.at hst) (by omega)) (lw_V q649 q492 q493 q59 q494) rfl rfl (sb_p [1, 2, 3, 4, 5] rfl rfl) (na := 1) (by decide +kernel) rfl (zrm rfl rfl (rfl) (rfl)) rfl (Nat.le_of_ble_eq_true rfl) dX1_wentSo_71) (fun u => jn_p (Lr := [(x, .inr (10, [.ref a0, .ref b0, .ref m0, .int (zI im), .ref tl, .ref le, .int (zI fw), .int (zI fh), .int (zI lo), .ref sh])), (w, .inl (G.2.2 2, nr, .inl (IA f)))]) [1, 2, 3, 4, 5] [0, 6] [0, 2, 3, 4, 5, 6, 1] rfl rfl rfl (by decide) rfl rfl) (fun u hp_71 => ?_)
              refine y_iinc (lv' := [(4, .int (zI ((k : Int) + 1))), (0, .ref x), (1, .ref w), (2, .int (zI (j : Int))), (3, .int (zI yard))]) C dX1_wentSo_74 (q := 0) rfl (nlt rfl) rfl ?_
              refine z_goto (tgt := 3) C dX1_wentSo_77 (by decide) ?_
              exact ih_3 _ (by omega) (k + 1) (va_up at1 j (stepZ (kd j) (fg j) (hm j) (at1 j) oa (lg1 j) yard)) (dayB 0 kd fg hm (va_up at1 j (stepZ (kd j) (fg j) (hm j) (at1 j) oa (lg1 j) yard)) oa n lg1) (dy1 + 1) (by first | assumption | omega) (by first | exact seqF_t hsq (by assumption) | exact seqF_f hsq (by assumption)) (by first | exact hL1 | exact (hL1.at hst).day) ((rowB_s his hsq).1 hor) rfl
            · skip
              refine z_goto (tgt := 74) C dX1_wentSo_54 (by decide) ?_
              refine y_iinc (lv' := [(4, .int (zI ((k : Int) + 1))), (0, .ref x), (1, .ref w), (2, .int (zI (j : Int))), (3, .int (zI yard))]) C dX1_wentSo_74 (q := 0) rfl (nlt rfl) rfl ?_
              refine z_goto (tgt := 3) C dX1_wentSo_77 (by decide) ?_
              exact ih_3 _ (by omega) (k + 1) at1 lg1 dy1 (by first | assumption | omega) (by first | exact seqF_t hsq (by assumption) | exact seqF_f hsq (by assumption)) (by first | exact hL1 | exact (hL1.at hst).day) ((rowB_s his hsq).1 hor) rfl
          · skip
            refine y_iconst C dX1_wentSo_39 ?_
            exact z_zret C hA hQ rfl (Nat.le_of_ble_eq_true rfl) (Nat.le_of_ble_eq_true rfl) ((at1, lg1, dy1)) (congrArg zI (rowB_z ((rowB_s his hsq).2 (fun z => by rcases z with z | z <;> contradiction)) _ (by omega)).symm) (rfl) (sb_p [0, 1, 2, 3, 4, 5, 6] rfl rfl) dX1_wentSo_40
  exact L_3 _ 0 at_ lg dy (by first | assumption | omega) (rfl) (hL) (rfl) rfl

set_option maxHeartbeats 4000000 in
theorem ct_X1_wentSo_1 (l : Launch) (G : ZG) (x : Nat) (b0 : Nat) (m0 : Nat) (tl : Nat) (le : Nat) (sh : Nat) (im : Int) (fw : Int) (fh : Int) (lo : Int) (a0 : Nat) (m1 : Nat) (m2 : Nat) (m3 : Nat) (m4 : Nat) (r : Nat → Option Nat) (hm : Nat → Int) (at_ : Nat → Int) (lg : Nat → Int) (n : Nat) (oa : Int) (dy : Int) (LP : List Nat) (hk : Nat → Nat) (hf : Nat → Int) (kd : Nat → Nat) (fg : Nat → Int) (w : Nat) (nr : Nat) (j : Nat) (f : Nat → Int) (yard : Int) (hH : HR LP hk hf r n kd fg) (hL : LK n kd fg hm at_ lg oa) (hj : j < n) (hy : 0 ≤ yard ∧ yard ≤ 20) (hn : nr ≤ 100) (hr : ∀ k, -2147483648 ≤ f k ∧ f k ≤ 2147483647) : CT l yX1_wentSo cX1_wentSo 5 (some .boolean) { frames := 7, cells := 0, slots := 0, locals := 143 } G [.ref x, .ref w, .int (zI (j : Int)), .int (zI yard)] ([(x, .inr (10, [.ref a0, .ref b0, .ref m0, .int (zI im), .ref tl, .ref le, .int (zI fw), .int (zI fh), .int (zI lo), .ref sh])), (m0, .inr (8, [.ref m1, .ref m2, .ref m3, .ref m4, .int (zI (n : Int)), .int (zI oa), .int (zI dy)])), (m1, AQ G 4 7 r), (m2, AI G 7 hm), (m3, AI G 7 at_), (m4, AI G 7 lg), (w, .inl (G.2.2 3, nr, .inl (IA f)))] ++ PL LP hk hf) (Qi G ([(x, .inr (10, [.ref a0, .ref b0, .ref m0, .int (zI im), .ref tl, .ref le, .int (zI fw), .int (zI fh), .int (zI lo), .ref sh])), (m0, .inr (8, [.ref m1, .ref m2, .ref m3, .ref m4, .int (zI (n : Int)), .int (zI oa), .int (zI dy)])), (m1, AQ G 4 7 r), (m2, AI G 7 hm), (m3, AI G 7 at_), (m4, AI G 7 lg), (w, .inl (G.2.2 3, nr, .inl (IA f)))] ++ PL LP hk hf) (fun (r : Int32) (u : (Nat → Int) × (Nat → Int) × Int) => r = zI (rowB f (skZ 1) kd fg hm oa n j yard at_ lg nr)) (fun u => ([(x, .inr (10, [.ref a0, .ref b0, .ref m0, .int (zI im), .ref tl, .ref le, .int (zI fw), .int (zI fh), .int (zI lo), .ref sh])), (m0, .inr (8, [.ref m1, .ref m2, .ref m3, .ref m4, .int (zI (n : Int)), .int (zI oa), .int (zI u.2.2)])), (m1, AQ G 4 7 r), (m2, AI G 7 hm), (m3, AI G 7 u.1), (m4, AI G 7 u.2.1), (w, .inl (G.2.2 3, nr, .inl (IA f)))] ++ PL LP hk hf))) := by
  refine z_met (by decide) (Nat.le_of_ble_eq_true rfl) ?_
  intro X A hl0 hA C hQ hin
  subst hl0
  obtain ⟨hn7, hoa, hLj⟩ := id hL
  show Z X _ G 0 0 _ 0 [(0, .ref x), (1, .ref w), (2, .int (zI (j : Int))), (3, .int (zI yard))] []
  refine y_iconst C dX1_wentSo_0 ?_
  refine z_istore (lv' := [(4, .int (zI 0)), (0, .ref x), (1, .ref w), (2, .int (zI (j : Int))), (3, .int (zI yard))]) C dX1_wentSo_1 (nlt rfl) rfl ?_
  have L_3 : ∀ (tt : Nat) (k : Nat) (at1 : Nat → Int) (lg1 : Nat → Int) (dy1 : Int), (k ≤ nr) → (seqF kd fg hm oa n j yard at_ lg k = (at1, lg1)) → (LK n kd fg hm at1 lg1 oa) → (rowB f (skZ 1) kd fg hm oa n j yard at_ lg k = 1) → nr - k = tt → Z X (cX1_wentSo, 5, yX1_wentSo.cls, (some .boolean), { frames := 7, cells := 0, slots := 0, locals := 143 }, A) G 0 0 ([(x, .inr (10, [.ref a0, .ref b0, .ref m0, .int (zI im), .ref tl, .ref le, .int (zI fw), .int (zI fh), .int (zI lo), .ref sh])), (m0, .inr (8, [.ref m1, .ref m2, .ref m3, .ref m4, .int (zI (n : Int)), .int (zI oa), .int (zI dy1)])), (m1, AQ G 4 7 r), (m2, AI G 7 hm), (m3, AI G 7 at1), (m4, AI G 7 lg1), (w, .inl (G.2.2 3, nr, .inl (IA f)))] ++ PL LP hk hf) 3 [(4, .int (zI (k : Int))), (0, .ref x), (1, .ref w), (2, .int (zI (j : Int))), (3, .int (zI yard))] [] := by
    intro tt
    induction tt using Nat.strongRecOn with
    | _ tt ih_3 =>
      intro k at1 lg1 dy1 hk0 hsq hL1 his ht_3
      have hrk := hr k
      obtain ⟨hk1, hf1, hm1, ha1, hl1⟩ := hL1.2.2 j hj
      have hst := stepZ_r (k := kd j) hf1 hm1 ha1 hoa hl1 hy
      refine z_iload C dX1_wentSo_3 0 rfl ?_
      refine z_aload_n C dX1_wentSo_5 rfl 2 rfl ?_
      refine z_i C (z_runS (As := [.ref w]) (rest := [.int (zI (k : Int))]) C (ct_X1_sizeOf_1 (zl X) G w nr f (by first | assumption | omega)) (lw_S q739 q740 q58 q741) (sb_e [6] rfl rfl) (na := 1) (by decide +kernel) rfl (zrm rfl rfl (rfl) (rfl)) rfl (Nat.le_of_ble_eq_true rfl) dX1_wentSo_6) (fun u => jn_ro (sb_e [6] rfl rfl)) (fun r_6 u hp_6 => ?_)
      have hp_6 : r_6 = zI (nr : Int) := hp_6
      subst hp_6
      refine y_icmp_ge (tgt := 80) C (by omega) (by omega) dX1_wentSo_9 (by decide) (fun c_9 => ?_) (fun c_9 => ?_)
      · skip
        refine y_iconst C dX1_wentSo_80 ?_
        exact z_zret C hA hQ rfl (Nat.le_of_ble_eq_true rfl) (Nat.le_of_ble_eq_true rfl) ((at1, lg1, dy1)) (congrArg zI (by rw [← his]; congr 1; omega)) (rfl) (sb_p [0, 1, 2, 3, 4, 5, 6] rfl rfl) dX1_wentSo_81
      · skip
        refine z_aload_n C dX1_wentSo_12 rfl 2 rfl ?_
        refine z_iload C dX1_wentSo_13 0 rfl ?_
        refine z_i C (z_runS (As := [.ref w, .int (zI (k : Int))]) (rest := []) C (ct_X1_isSkipped_1 (zl X) G w nr f k (by first | assumption | omega) (by omega) (by first | assumption | omega)) (lw_S q742 q743 q58 q744) (sb_e [6] rfl rfl) (na := 2) (by decide +kernel) rfl (zrm rfl rfl (rfl) (rfl)) rfl (Nat.le_of_ble_eq_true rfl) dX1_wentSo_15) (fun u => jn_ro (sb_e [6] rfl rfl)) (fun r_15 u hp_15 => ?_)
        have hp_15 : r_15 = zI (bI (f k = skZ 1)) := hp_15
        subst hp_15
        refine y_bne (tgt := 41) C dX1_wentSo_18 (by decide) (fun c_18 => ?_) (fun c_18 => ?_)
        · skip
          have hor : f k = skZ 1 ∨ f k = at1 j := by first | exact Or.inl (by assumption) | exact Or.inr (by assumption)
          refine z_aload_n C dX1_wentSo_41 rfl 1 rfl ?_
          refine z_get (q := 0) (kf := 2) (v := .ref m0) C rfl rfl in_X1 (by decide) q882 (Or.inl rfl) rfl dX1_wentSo_42 ?_
          refine z_get (q := 1) (kf := 2) (v := .ref m3) C rfl rfl in_X2 (by decide) q842 (Or.inl rfl) rfl dX1_wentSo_45 ?_
          refine z_iload_n C dX1_wentSo_48 rfl 3 rfl ?_
          refine y_iald (q := 4) (t0 := 0) (v := at1 j) C rfl rfl (by omega) (by decide) rfl dX1_wentSo_49 ?_
          refine z_iload_n C dX1_wentSo_50 rfl 4 rfl ?_
          refine y_icmp_ne (tgt := 57) C (by omega) (by omega) dX1_wentSo_51 (by decide) (fun c_51 => ?_) (fun c_51 => ?_)
          · skip
            refine z_aload_n C dX1_wentSo_57 rfl 1 rfl ?_
            refine z_get (q := 0) (kf := 2) (v := .ref m0) C rfl rfl in_X1 (by decide) q882 (Or.inl rfl) rfl dX1_wentSo_58 ?_
            refine z_iload_n C dX1_wentSo_61 rfl 3 rfl ?_
            refine z_iload_n C dX1_wentSo_62 rfl 4 rfl ?_
            refine z_v (ws' := fun u => ([(x, .inr (10, [.ref a0, .ref b0, .ref m0, .int (zI im), .ref tl, .ref le, .int (zI fw), .int (zI fh), .int (zI lo), .ref sh])), (m0, .inr (8, [.ref m1, .ref m2, .ref m3, .ref m4, .int (zI (n : Int)), .int (zI oa), .int (zI dy1)])), (m1, AQ G 4 7 r), (m2, AI G 7 hm), (m3, AI G 7 (va_up at1 j (stepZ (kd j) (fg j) (hm j) (at1 j) oa (lg1 j) yard))), (m4, AI G 7 lg1), (w, .inl (G.2.2 3, nr, .inl (IA f)))] ++ PL LP hk hf)) C (z_runV (q := 1) (As := [.int (zI (j : Int)), .int (zI yard)]) (rest := []) C (ct_X2_stepsTo (zl X) G m0 m1 m2 m3 m4 r hm at1 lg1 n oa dy1 LP hk hf kd fg j yard (by first | assumption | omega) (hL1) (by first | assumption | omega) (by first | assumption | omega) (by assumption)) (lw_V q752 q398 q399 q59 q400) rfl rfl (sb_p [1, 2, 3, 4, 5] rfl rfl) (na := 2) (by decide +kernel) rfl (zrm rfl rfl (rfl) (rfl)) rfl (Nat.le_of_ble_eq_true rfl) dX1_wentSo_63) (fun u => jn_p (Lr := [(x, .inr (10, [.ref a0, .ref b0, .ref m0, .int (zI im), .ref tl, .ref le, .int (zI fw), .int (zI fh), .int (zI lo), .ref sh])), (w, .inl (G.2.2 3, nr, .inl (IA f)))]) [1, 2, 3, 4, 5] [0, 6] [0, 2, 3, 4, 5, 6, 1] rfl rfl rfl (by decide) rfl rfl) (fun u hp_63 => ?_)
            refine z_aload_n C dX1_wentSo_66 rfl 1 rfl ?_
            refine z_get (q := 0) (kf := 2) (v := .ref m0) C rfl rfl in_X1 (by decide) q882 (Or.inl rfl) rfl dX1_wentSo_67 ?_
            refine y_iconst C dX1_wentSo_70 ?_
            refine z_v (ws' := fun u => ([(x, .inr (10, [.ref a0, .ref b0, .ref m0, .int (zI im), .ref tl, .ref le, .int (zI fw), .int (zI fh), .int (zI lo), .ref sh])), (m0, .inr (8, [.ref m1, .ref m2, .ref m3, .ref m4, .int (zI (n : Int)), .int (zI oa), .int (zI (dy1 + 1))])), (m1, AQ G 4 7 r), (m2, AI G 7 hm), (m3, AI G 7 (va_up at1 j (stepZ (kd j) (fg j) (hm j) (at1 j) oa (lg1 j) yard))), (m4, AI G 7 (dayB 0 kd fg hm (va_up at1 j (stepZ (kd j) (fg j) (hm j) (at1 j) oa (lg1 j) yard)) oa n lg1)), (w, .inl (G.2.2 3, nr, .inl (IA f)))] ++ PL LP hk hf)) C (z_runV (q := 1) (As := [.int (zI 0)]) (rest := []) C (ct_X2_goesDay (zl X) G m0 m1 m2 m3 m4 r hm (va_up at1 j (stepZ (kd j) (fg j) (hm j) (at1 j) oa (lg1 j) yard)) lg1 n oa dy1 LP hk hf kd fg 0 (by first | assumption | omega) (hL1.at hst) (by omega)) (lw_V q649 q492 q493 q59 q494) rfl rfl (sb_p [1, 2, 3, 4, 5] rfl rfl) (na := 1) (by decide +kernel) rfl (zrm rfl rfl (rfl) (rfl)) rfl (Nat.le_of_ble_eq_true rfl) dX1_wentSo_71) (fun u => jn_p (Lr := [(x, .inr (10, [.ref a0, .ref b0, .ref m0, .int (zI im), .ref tl, .ref le, .int (zI fw), .int (zI fh), .int (zI lo), .ref sh])), (w, .inl (G.2.2 3, nr, .inl (IA f)))]) [1, 2, 3, 4, 5] [0, 6] [0, 2, 3, 4, 5, 6, 1] rfl rfl rfl (by decide) rfl rfl) (fun u hp_71 => ?_)
            refine y_iinc (lv' := [(4, .int (zI ((k : Int) + 1))), (0, .ref x), (1, .ref w), (2, .int (zI (j : Int))), (3, .int (zI yard))]) C dX1_wentSo_74 (q := 0) rfl (nlt rfl) rfl ?_
            refine z_goto (tgt := 3) C dX1_wentSo_77 (by decide) ?_
            exact ih_3 _ (by omega) (k + 1) (va_up at1 j (stepZ (kd j) (fg j) (hm j) (at1 j) oa (lg1 j) yard)) (dayB 0 kd fg hm (va_up at1 j (stepZ (kd j) (fg j) (hm j) (at1 j) oa (lg1 j) yard)) oa n lg1) (dy1 + 1) (by first | assumption | omega) (by first | exact seqF_t hsq (by assumption) | exact seqF_f hsq (by assumption)) (by first | exact hL1 | exact (hL1.at hst).day) ((rowB_s his hsq).1 hor) rfl
          · skip
            refine z_goto (tgt := 74) C dX1_wentSo_54 (by decide) ?_
            refine y_iinc (lv' := [(4, .int (zI ((k : Int) + 1))), (0, .ref x), (1, .ref w), (2, .int (zI (j : Int))), (3, .int (zI yard))]) C dX1_wentSo_74 (q := 0) rfl (nlt rfl) rfl ?_
            refine z_goto (tgt := 3) C dX1_wentSo_77 (by decide) ?_
            exact ih_3 _ (by omega) (k + 1) at1 lg1 dy1 (by first | assumption | omega) (by first | exact seqF_t hsq (by assumption) | exact seqF_f hsq (by assumption)) (by first | exact hL1 | exact (hL1.at hst).day) ((rowB_s his hsq).1 hor) rfl
        · skip
          refine z_aload_n C dX1_wentSo_21 rfl 2 rfl ?_
          refine z_iload C dX1_wentSo_22 0 rfl ?_
          refine z_i C (z_runS (As := [.ref w, .int (zI (k : Int))]) (rest := []) C (ct_X1_elementOf_1 (zl X) G w nr f k (by first | assumption | omega) (by omega)) (lw_S q745 q746 q58 q747) (sb_e [6] rfl rfl) (na := 2) (by decide +kernel) rfl (zrm rfl rfl (rfl) (rfl)) rfl (Nat.le_of_ble_eq_true rfl) dX1_wentSo_24) (fun u => jn_ro (sb_e [6] rfl rfl)) (fun r_24 u hp_24 => ?_)
          have hp_24 : r_24 = zI (f k) := hp_24
          subst hp_24
          refine z_aload_n C dX1_wentSo_27 rfl 1 rfl ?_
          refine z_get (q := 0) (kf := 2) (v := .ref m0) C rfl rfl in_X1 (by decide) q882 (Or.inl rfl) rfl dX1_wentSo_28 ?_
          refine z_get (q := 1) (kf := 2) (v := .ref m3) C rfl rfl in_X2 (by decide) q842 (Or.inl rfl) rfl dX1_wentSo_31 ?_
          refine z_iload_n C dX1_wentSo_34 rfl 3 rfl ?_
          refine y_iald (q := 4) (t0 := 0) (v := at1 j) C rfl rfl (by omega) (by decide) rfl dX1_wentSo_35 ?_
          refine y_icmp_eq (tgt := 41) C (by omega) (by omega) dX1_wentSo_36 (by decide) (fun c_36 => ?_) (fun c_36 => ?_)
          · skip
            have hor : f k = skZ 1 ∨ f k = at1 j := by first | exact Or.inl (by assumption) | exact Or.inr (by assumption)
            refine z_aload_n C dX1_wentSo_41 rfl 1 rfl ?_
            refine z_get (q := 0) (kf := 2) (v := .ref m0) C rfl rfl in_X1 (by decide) q882 (Or.inl rfl) rfl dX1_wentSo_42 ?_
            refine z_get (q := 1) (kf := 2) (v := .ref m3) C rfl rfl in_X2 (by decide) q842 (Or.inl rfl) rfl dX1_wentSo_45 ?_
            refine z_iload_n C dX1_wentSo_48 rfl 3 rfl ?_
            refine y_iald (q := 4) (t0 := 0) (v := at1 j) C rfl rfl (by omega) (by decide) rfl dX1_wentSo_49 ?_
            refine z_iload_n C dX1_wentSo_50 rfl 4 rfl ?_
            refine y_icmp_ne (tgt := 57) C (by omega) (by omega) dX1_wentSo_51 (by decide) (fun c_51 => ?_) (fun c_51 => ?_)
            · skip
              refine z_aload_n C dX1_wentSo_57 rfl 1 rfl ?_
              refine z_get (q := 0) (kf := 2) (v := .ref m0) C rfl rfl in_X1 (by decide) q882 (Or.inl rfl) rfl dX1_wentSo_58 ?_
              refine z_iload_n C dX1_wentSo_61 rfl 3 rfl ?_
              refine z_iload_n C dX1_wentSo_62 rfl 4 rfl ?_
              refine z_v (ws' := fun u => ([(x, .inr (10, [.ref a0, .ref b0, .ref m0, .int (zI im), .ref tl, .ref le, .int (zI fw), .int (zI fh), .int (zI lo), .ref sh])), (m0, .inr (8, [.ref m1, .ref m2, .ref m3, .ref m4, .int (zI (n : Int)), .int (zI oa), .int (zI dy1)])), (m1, AQ G 4 7 r), (m2, AI G 7 hm), (m3, AI G 7 (va_up at1 j (stepZ (kd j) (fg j) (hm j) (at1 j) oa (lg1 j) yard))), (m4, AI G 7 lg1), (w, .inl (G.2.2 3, nr, .inl (IA f)))] ++ PL LP hk hf)) C (z_runV (q := 1) (As := [.int (zI (j : Int)), .int (zI yard)]) (rest := []) C (ct_X2_stepsTo (zl X) G m0 m1 m2 m3 m4 r hm at1 lg1 n oa dy1 LP hk hf kd fg j yard (by first | assumption | omega) (hL1) (by first | assumption | omega) (by first | assumption | omega) (by assumption)) (lw_V q752 q398 q399 q59 q400) rfl rfl (sb_p [1, 2, 3, 4, 5] rfl rfl) (na := 2) (by decide +kernel) rfl (zrm rfl rfl (rfl) (rfl)) rfl (Nat.le_of_ble_eq_true rfl) dX1_wentSo_63) (fun u => jn_p (Lr := [(x, .inr (10, [.ref a0, .ref b0, .ref m0, .int (zI im), .ref tl, .ref le, .int (zI fw), .int (zI fh), .int (zI lo), .ref sh])), (w, .inl (G.2.2 3, nr, .inl (IA f)))]) [1, 2, 3, 4, 5] [0, 6] [0, 2, 3, 4, 5, 6, 1] rfl rfl rfl (by decide) rfl rfl) (fun u hp_63 => ?_)
              refine z_aload_n C dX1_wentSo_66 rfl 1 rfl ?_
              refine z_get (q := 0) (kf := 2) (v := .ref m0) C rfl rfl in_X1 (by decide) q882 (Or.inl rfl) rfl dX1_wentSo_67 ?_
              refine y_iconst C dX1_wentSo_70 ?_
              refine z_v (ws' := fun u => ([(x, .inr (10, [.ref a0, .ref b0, .ref m0, .int (zI im), .ref tl, .ref le, .int (zI fw), .int (zI fh), .int (zI lo), .ref sh])), (m0, .inr (8, [.ref m1, .ref m2, .ref m3, .ref m4, .int (zI (n : Int)), .int (zI oa), .int (zI (dy1 + 1))])), (m1, AQ G 4 7 r), (m2, AI G 7 hm), (m3, AI G 7 (va_up at1 j (stepZ (kd j) (fg j) (hm j) (at1 j) oa (lg1 j) yard))), (m4, AI G 7 (dayB 0 kd fg hm (va_up at1 j (stepZ (kd j) (fg j) (hm j) (at1 j) oa (lg1 j) yard)) oa n lg1)), (w, .inl (G.2.2 3, nr, .inl (IA f)))] ++ PL LP hk hf)) C (z_runV (q := 1) (As := [.int (zI 0)]) (rest := []) C (ct_X2_goesDay (zl X) G m0 m1 m2 m3 m4 r hm (va_up at1 j (stepZ (kd j) (fg j) (hm j) (at1 j) oa (lg1 j) yard)) lg1 n oa dy1 LP hk hf kd fg 0 (by first | assumption | omega) (hL1.at hst) (by omega)) (lw_V q649 q492 q493 q59 q494) rfl rfl (sb_p [1, 2, 3, 4, 5] rfl rfl) (na := 1) (by decide +kernel) rfl (zrm rfl rfl (rfl) (rfl)) rfl (Nat.le_of_ble_eq_true rfl) dX1_wentSo_71) (fun u => jn_p (Lr := [(x, .inr (10, [.ref a0, .ref b0, .ref m0, .int (zI im), .ref tl, .ref le, .int (zI fw), .int (zI fh), .int (zI lo), .ref sh])), (w, .inl (G.2.2 3, nr, .inl (IA f)))]) [1, 2, 3, 4, 5] [0, 6] [0, 2, 3, 4, 5, 6, 1] rfl rfl rfl (by decide) rfl rfl) (fun u hp_71 => ?_)
              refine y_iinc (lv' := [(4, .int (zI ((k : Int) + 1))), (0, .ref x), (1, .ref w), (2, .int (zI (j : Int))), (3, .int (zI yard))]) C dX1_wentSo_74 (q := 0) rfl (nlt rfl) rfl ?_
              refine z_goto (tgt := 3) C dX1_wentSo_77 (by decide) ?_
              exact ih_3 _ (by omega) (k + 1) (va_up at1 j (stepZ (kd j) (fg j) (hm j) (at1 j) oa (lg1 j) yard)) (dayB 0 kd fg hm (va_up at1 j (stepZ (kd j) (fg j) (hm j) (at1 j) oa (lg1 j) yard)) oa n lg1) (dy1 + 1) (by first | assumption | omega) (by first | exact seqF_t hsq (by assumption) | exact seqF_f hsq (by assumption)) (by first | exact hL1 | exact (hL1.at hst).day) ((rowB_s his hsq).1 hor) rfl
            · skip
              refine z_goto (tgt := 74) C dX1_wentSo_54 (by decide) ?_
              refine y_iinc (lv' := [(4, .int (zI ((k : Int) + 1))), (0, .ref x), (1, .ref w), (2, .int (zI (j : Int))), (3, .int (zI yard))]) C dX1_wentSo_74 (q := 0) rfl (nlt rfl) rfl ?_
              refine z_goto (tgt := 3) C dX1_wentSo_77 (by decide) ?_
              exact ih_3 _ (by omega) (k + 1) at1 lg1 dy1 (by first | assumption | omega) (by first | exact seqF_t hsq (by assumption) | exact seqF_f hsq (by assumption)) (by first | exact hL1 | exact (hL1.at hst).day) ((rowB_s his hsq).1 hor) rfl
          · skip
            refine y_iconst C dX1_wentSo_39 ?_
            exact z_zret C hA hQ rfl (Nat.le_of_ble_eq_true rfl) (Nat.le_of_ble_eq_true rfl) ((at1, lg1, dy1)) (congrArg zI (rowB_z ((rowB_s his hsq).2 (fun z => by rcases z with z | z <;> contradiction)) _ (by omega)).symm) (rfl) (sb_p [0, 1, 2, 3, 4, 5, 6] rfl rfl) dX1_wentSo_40
  exact L_3 _ 0 at_ lg dy (by first | assumption | omega) (rfl) (hL) (rfl) rfl

set_option maxHeartbeats 4000000 in
theorem ct_X1_wentSo_2 (l : Launch) (G : ZG) (x : Nat) (b0 : Nat) (m0 : Nat) (tl : Nat) (le : Nat) (sh : Nat) (im : Int) (fw : Int) (fh : Int) (lo : Int) (a0 : Nat) (m1 : Nat) (m2 : Nat) (m3 : Nat) (m4 : Nat) (r : Nat → Option Nat) (hm : Nat → Int) (at_ : Nat → Int) (lg : Nat → Int) (n : Nat) (oa : Int) (dy : Int) (LP : List Nat) (hk : Nat → Nat) (hf : Nat → Int) (kd : Nat → Nat) (fg : Nat → Int) (w : Nat) (nr : Nat) (j : Nat) (f : Nat → Int) (yard : Int) (hH : HR LP hk hf r n kd fg) (hL : LK n kd fg hm at_ lg oa) (hj : j < n) (hy : 0 ≤ yard ∧ yard ≤ 20) (hn : nr ≤ 100) (hr : ∀ k, -2147483648 ≤ f k ∧ f k ≤ 2147483647) : CT l yX1_wentSo cX1_wentSo 5 (some .boolean) { frames := 7, cells := 0, slots := 0, locals := 143 } G [.ref x, .ref w, .int (zI (j : Int)), .int (zI yard)] ([(x, .inr (10, [.ref a0, .ref b0, .ref m0, .int (zI im), .ref tl, .ref le, .int (zI fw), .int (zI fh), .int (zI lo), .ref sh])), (m0, .inr (8, [.ref m1, .ref m2, .ref m3, .ref m4, .int (zI (n : Int)), .int (zI oa), .int (zI dy)])), (m1, AQ G 4 7 r), (m2, AI G 7 hm), (m3, AI G 7 at_), (m4, AI G 7 lg), (w, AI G nr f)] ++ PL LP hk hf) (Qi G ([(x, .inr (10, [.ref a0, .ref b0, .ref m0, .int (zI im), .ref tl, .ref le, .int (zI fw), .int (zI fh), .int (zI lo), .ref sh])), (m0, .inr (8, [.ref m1, .ref m2, .ref m3, .ref m4, .int (zI (n : Int)), .int (zI oa), .int (zI dy)])), (m1, AQ G 4 7 r), (m2, AI G 7 hm), (m3, AI G 7 at_), (m4, AI G 7 lg), (w, AI G nr f)] ++ PL LP hk hf) (fun (r : Int32) (u : (Nat → Int) × (Nat → Int) × Int) => r = zI (rowB f (skZ 2) kd fg hm oa n j yard at_ lg nr)) (fun u => ([(x, .inr (10, [.ref a0, .ref b0, .ref m0, .int (zI im), .ref tl, .ref le, .int (zI fw), .int (zI fh), .int (zI lo), .ref sh])), (m0, .inr (8, [.ref m1, .ref m2, .ref m3, .ref m4, .int (zI (n : Int)), .int (zI oa), .int (zI u.2.2)])), (m1, AQ G 4 7 r), (m2, AI G 7 hm), (m3, AI G 7 u.1), (m4, AI G 7 u.2.1), (w, AI G nr f)] ++ PL LP hk hf))) := by
  refine z_met (by decide) (Nat.le_of_ble_eq_true rfl) ?_
  intro X A hl0 hA C hQ hin
  subst hl0
  obtain ⟨hn7, hoa, hLj⟩ := id hL
  show Z X _ G 0 0 _ 0 [(0, .ref x), (1, .ref w), (2, .int (zI (j : Int))), (3, .int (zI yard))] []
  refine y_iconst C dX1_wentSo_0 ?_
  refine z_istore (lv' := [(4, .int (zI 0)), (0, .ref x), (1, .ref w), (2, .int (zI (j : Int))), (3, .int (zI yard))]) C dX1_wentSo_1 (nlt rfl) rfl ?_
  have L_3 : ∀ (tt : Nat) (k : Nat) (at1 : Nat → Int) (lg1 : Nat → Int) (dy1 : Int), (k ≤ nr) → (seqF kd fg hm oa n j yard at_ lg k = (at1, lg1)) → (LK n kd fg hm at1 lg1 oa) → (rowB f (skZ 2) kd fg hm oa n j yard at_ lg k = 1) → nr - k = tt → Z X (cX1_wentSo, 5, yX1_wentSo.cls, (some .boolean), { frames := 7, cells := 0, slots := 0, locals := 143 }, A) G 0 0 ([(x, .inr (10, [.ref a0, .ref b0, .ref m0, .int (zI im), .ref tl, .ref le, .int (zI fw), .int (zI fh), .int (zI lo), .ref sh])), (m0, .inr (8, [.ref m1, .ref m2, .ref m3, .ref m4, .int (zI (n : Int)), .int (zI oa), .int (zI dy1)])), (m1, AQ G 4 7 r), (m2, AI G 7 hm), (m3, AI G 7 at1), (m4, AI G 7 lg1), (w, AI G nr f)] ++ PL LP hk hf) 3 [(4, .int (zI (k : Int))), (0, .ref x), (1, .ref w), (2, .int (zI (j : Int))), (3, .int (zI yard))] [] := by
    intro tt
    induction tt using Nat.strongRecOn with
    | _ tt ih_3 =>
      intro k at1 lg1 dy1 hk0 hsq hL1 his ht_3
      have hrk := hr k
      obtain ⟨hk1, hf1, hm1, ha1, hl1⟩ := hL1.2.2 j hj
      have hst := stepZ_r (k := kd j) hf1 hm1 ha1 hoa hl1 hy
      refine z_iload C dX1_wentSo_3 0 rfl ?_
      refine z_aload_n C dX1_wentSo_5 rfl 2 rfl ?_
      refine z_i C (z_runS (As := [.ref w]) (rest := [.int (zI (k : Int))]) C (ct_X1_sizeOf_2 (zl X) G w nr f (by first | assumption | omega)) (lw_S q739 q740 q58 q741) (sb_e [6] rfl rfl) (na := 1) (by decide +kernel) rfl (zrm rfl rfl (rfl) (rfl)) rfl (Nat.le_of_ble_eq_true rfl) dX1_wentSo_6) (fun u => jn_ro (sb_e [6] rfl rfl)) (fun r_6 u hp_6 => ?_)
      have hp_6 : r_6 = zI (nr : Int) := hp_6
      subst hp_6
      refine y_icmp_ge (tgt := 80) C (by omega) (by omega) dX1_wentSo_9 (by decide) (fun c_9 => ?_) (fun c_9 => ?_)
      · skip
        refine y_iconst C dX1_wentSo_80 ?_
        exact z_zret C hA hQ rfl (Nat.le_of_ble_eq_true rfl) (Nat.le_of_ble_eq_true rfl) ((at1, lg1, dy1)) (congrArg zI (by rw [← his]; congr 1; omega)) (rfl) (sb_p [0, 1, 2, 3, 4, 5, 6] rfl rfl) dX1_wentSo_81
      · skip
        refine z_aload_n C dX1_wentSo_12 rfl 2 rfl ?_
        refine z_iload C dX1_wentSo_13 0 rfl ?_
        refine z_i C (z_runS (As := [.ref w, .int (zI (k : Int))]) (rest := []) C (ct_X1_isSkipped_2 (zl X) G w nr f k (by first | assumption | omega) (by omega) (by first | assumption | omega)) (lw_S q742 q743 q58 q744) (sb_e [6] rfl rfl) (na := 2) (by decide +kernel) rfl (zrm rfl rfl (rfl) (rfl)) rfl (Nat.le_of_ble_eq_true rfl) dX1_wentSo_15) (fun u => jn_ro (sb_e [6] rfl rfl)) (fun r_15 u hp_15 => ?_)
        have hp_15 : r_15 = zI (bI (f k = skZ 2)) := hp_15
        subst hp_15
        refine y_bne (tgt := 41) C dX1_wentSo_18 (by decide) (fun c_18 => ?_) (fun c_18 => ?_)
        · skip
          have hor : f k = skZ 2 ∨ f k = at1 j := by first | exact Or.inl (by assumption) | exact Or.inr (by assumption)
          refine z_aload_n C dX1_wentSo_41 rfl 1 rfl ?_
          refine z_get (q := 0) (kf := 2) (v := .ref m0) C rfl rfl in_X1 (by decide) q882 (Or.inl rfl) rfl dX1_wentSo_42 ?_
          refine z_get (q := 1) (kf := 2) (v := .ref m3) C rfl rfl in_X2 (by decide) q842 (Or.inl rfl) rfl dX1_wentSo_45 ?_
          refine z_iload_n C dX1_wentSo_48 rfl 3 rfl ?_
          refine y_iald (q := 4) (t0 := 0) (v := at1 j) C rfl rfl (by omega) (by decide) rfl dX1_wentSo_49 ?_
          refine z_iload_n C dX1_wentSo_50 rfl 4 rfl ?_
          refine y_icmp_ne (tgt := 57) C (by omega) (by omega) dX1_wentSo_51 (by decide) (fun c_51 => ?_) (fun c_51 => ?_)
          · skip
            refine z_aload_n C dX1_wentSo_57 rfl 1 rfl ?_
            refine z_get (q := 0) (kf := 2) (v := .ref m0) C rfl rfl in_X1 (by decide) q882 (Or.inl rfl) rfl dX1_wentSo_58 ?_
            refine z_iload_n C dX1_wentSo_61 rfl 3 rfl ?_
            refine z_iload_n C dX1_wentSo_62 rfl 4 rfl ?_
            refine z_v (ws' := fun u => ([(x, .inr (10, [.ref a0, .ref b0, .ref m0, .int (zI im), .ref tl, .ref le, .int (zI fw), .int (zI fh), .int (zI lo), .ref sh])), (m0, .inr (8, [.ref m1, .ref m2, .ref m3, .ref m4, .int (zI (n : Int)), .int (zI oa), .int (zI dy1)])), (m1, AQ G 4 7 r), (m2, AI G 7 hm), (m3, AI G 7 (va_up at1 j (stepZ (kd j) (fg j) (hm j) (at1 j) oa (lg1 j) yard))), (m4, AI G 7 lg1), (w, AI G nr f)] ++ PL LP hk hf)) C (z_runV (q := 1) (As := [.int (zI (j : Int)), .int (zI yard)]) (rest := []) C (ct_X2_stepsTo (zl X) G m0 m1 m2 m3 m4 r hm at1 lg1 n oa dy1 LP hk hf kd fg j yard (by first | assumption | omega) (hL1) (by first | assumption | omega) (by first | assumption | omega) (by assumption)) (lw_V q752 q398 q399 q59 q400) rfl rfl (sb_p [1, 2, 3, 4, 5] rfl rfl) (na := 2) (by decide +kernel) rfl (zrm rfl rfl (rfl) (rfl)) rfl (Nat.le_of_ble_eq_true rfl) dX1_wentSo_63) (fun u => jn_p (Lr := [(x, .inr (10, [.ref a0, .ref b0, .ref m0, .int (zI im), .ref tl, .ref le, .int (zI fw), .int (zI fh), .int (zI lo), .ref sh])), (w, AI G nr f)]) [1, 2, 3, 4, 5] [0, 6] [0, 2, 3, 4, 5, 6, 1] rfl rfl rfl (by decide) rfl rfl) (fun u hp_63 => ?_)
            refine z_aload_n C dX1_wentSo_66 rfl 1 rfl ?_
            refine z_get (q := 0) (kf := 2) (v := .ref m0) C rfl rfl in_X1 (by decide) q882 (Or.inl rfl) rfl dX1_wentSo_67 ?_
            refine y_iconst C dX1_wentSo_70 ?_
            refine z_v (ws' := fun u => ([(x, .inr (10, [.ref a0, .ref b0, .ref m0, .int (zI im), .ref tl, .ref le, .int (zI fw), .int (zI fh), .int (zI lo), .ref sh])), (m0, .inr (8, [.ref m1, .ref m2, .ref m3, .ref m4, .int (zI (n : Int)), .int (zI oa), .int (zI (dy1 + 1))])), (m1, AQ G 4 7 r), (m2, AI G 7 hm), (m3, AI G 7 (va_up at1 j (stepZ (kd j) (fg j) (hm j) (at1 j) oa (lg1 j) yard))), (m4, AI G 7 (dayB 0 kd fg hm (va_up at1 j (stepZ (kd j) (fg j) (hm j) (at1 j) oa (lg1 j) yard)) oa n lg1)), (w, AI G nr f)] ++ PL LP hk hf)) C (z_runV (q := 1) (As := [.int (zI 0)]) (rest := []) C (ct_X2_goesDay (zl X) G m0 m1 m2 m3 m4 r hm (va_up at1 j (stepZ (kd j) (fg j) (hm j) (at1 j) oa (lg1 j) yard)) lg1 n oa dy1 LP hk hf kd fg 0 (by first | assumption | omega) (hL1.at hst) (by omega)) (lw_V q649 q492 q493 q59 q494) rfl rfl (sb_p [1, 2, 3, 4, 5] rfl rfl) (na := 1) (by decide +kernel) rfl (zrm rfl rfl (rfl) (rfl)) rfl (Nat.le_of_ble_eq_true rfl) dX1_wentSo_71) (fun u => jn_p (Lr := [(x, .inr (10, [.ref a0, .ref b0, .ref m0, .int (zI im), .ref tl, .ref le, .int (zI fw), .int (zI fh), .int (zI lo), .ref sh])), (w, AI G nr f)]) [1, 2, 3, 4, 5] [0, 6] [0, 2, 3, 4, 5, 6, 1] rfl rfl rfl (by decide) rfl rfl) (fun u hp_71 => ?_)
            refine y_iinc (lv' := [(4, .int (zI ((k : Int) + 1))), (0, .ref x), (1, .ref w), (2, .int (zI (j : Int))), (3, .int (zI yard))]) C dX1_wentSo_74 (q := 0) rfl (nlt rfl) rfl ?_
            refine z_goto (tgt := 3) C dX1_wentSo_77 (by decide) ?_
            exact ih_3 _ (by omega) (k + 1) (va_up at1 j (stepZ (kd j) (fg j) (hm j) (at1 j) oa (lg1 j) yard)) (dayB 0 kd fg hm (va_up at1 j (stepZ (kd j) (fg j) (hm j) (at1 j) oa (lg1 j) yard)) oa n lg1) (dy1 + 1) (by first | assumption | omega) (by first | exact seqF_t hsq (by assumption) | exact seqF_f hsq (by assumption)) (by first | exact hL1 | exact (hL1.at hst).day) ((rowB_s his hsq).1 hor) rfl
          · skip
            refine z_goto (tgt := 74) C dX1_wentSo_54 (by decide) ?_
            refine y_iinc (lv' := [(4, .int (zI ((k : Int) + 1))), (0, .ref x), (1, .ref w), (2, .int (zI (j : Int))), (3, .int (zI yard))]) C dX1_wentSo_74 (q := 0) rfl (nlt rfl) rfl ?_
            refine z_goto (tgt := 3) C dX1_wentSo_77 (by decide) ?_
            exact ih_3 _ (by omega) (k + 1) at1 lg1 dy1 (by first | assumption | omega) (by first | exact seqF_t hsq (by assumption) | exact seqF_f hsq (by assumption)) (by first | exact hL1 | exact (hL1.at hst).day) ((rowB_s his hsq).1 hor) rfl
        · skip
          refine z_aload_n C dX1_wentSo_21 rfl 2 rfl ?_
          refine z_iload C dX1_wentSo_22 0 rfl ?_
          refine z_i C (z_runS (As := [.ref w, .int (zI (k : Int))]) (rest := []) C (ct_X1_elementOf_2 (zl X) G w nr f k (by first | assumption | omega) (by omega)) (lw_S q745 q746 q58 q747) (sb_e [6] rfl rfl) (na := 2) (by decide +kernel) rfl (zrm rfl rfl (rfl) (rfl)) rfl (Nat.le_of_ble_eq_true rfl) dX1_wentSo_24) (fun u => jn_ro (sb_e [6] rfl rfl)) (fun r_24 u hp_24 => ?_)
          have hp_24 : r_24 = zI (f k) := hp_24
          subst hp_24
          refine z_aload_n C dX1_wentSo_27 rfl 1 rfl ?_
          refine z_get (q := 0) (kf := 2) (v := .ref m0) C rfl rfl in_X1 (by decide) q882 (Or.inl rfl) rfl dX1_wentSo_28 ?_
          refine z_get (q := 1) (kf := 2) (v := .ref m3) C rfl rfl in_X2 (by decide) q842 (Or.inl rfl) rfl dX1_wentSo_31 ?_
          refine z_iload_n C dX1_wentSo_34 rfl 3 rfl ?_
          refine y_iald (q := 4) (t0 := 0) (v := at1 j) C rfl rfl (by omega) (by decide) rfl dX1_wentSo_35 ?_
          refine y_icmp_eq (tgt := 41) C (by omega) (by omega) dX1_wentSo_36 (by decide) (fun c_36 => ?_) (fun c_36 => ?_)
          · skip
            have hor : f k = skZ 2 ∨ f k = at1 j := by first | exact Or.inl (by assumption) | exact Or.inr (by assumption)
            refine z_aload_n C dX1_wentSo_41 rfl 1 rfl ?_
            refine z_get (q := 0) (kf := 2) (v := .ref m0) C rfl rfl in_X1 (by decide) q882 (Or.inl rfl) rfl dX1_wentSo_42 ?_
            refine z_get (q := 1) (kf := 2) (v := .ref m3) C rfl rfl in_X2 (by decide) q842 (Or.inl rfl) rfl dX1_wentSo_45 ?_
            refine z_iload_n C dX1_wentSo_48 rfl 3 rfl ?_
            refine y_iald (q := 4) (t0 := 0) (v := at1 j) C rfl rfl (by omega) (by decide) rfl dX1_wentSo_49 ?_
            refine z_iload_n C dX1_wentSo_50 rfl 4 rfl ?_
            refine y_icmp_ne (tgt := 57) C (by omega) (by omega) dX1_wentSo_51 (by decide) (fun c_51 => ?_) (fun c_51 => ?_)
            · skip
              refine z_aload_n C dX1_wentSo_57 rfl 1 rfl ?_
              refine z_get (q := 0) (kf := 2) (v := .ref m0) C rfl rfl in_X1 (by decide) q882 (Or.inl rfl) rfl dX1_wentSo_58 ?_
              refine z_iload_n C dX1_wentSo_61 rfl 3 rfl ?_
              refine z_iload_n C dX1_wentSo_62 rfl 4 rfl ?_
              refine z_v (ws' := fun u => ([(x, .inr (10, [.ref a0, .ref b0, .ref m0, .int (zI im), .ref tl, .ref le, .int (zI fw), .int (zI fh), .int (zI lo), .ref sh])), (m0, .inr (8, [.ref m1, .ref m2, .ref m3, .ref m4, .int (zI (n : Int)), .int (zI oa), .int (zI dy1)])), (m1, AQ G 4 7 r), (m2, AI G 7 hm), (m3, AI G 7 (va_up at1 j (stepZ (kd j) (fg j) (hm j) (at1 j) oa (lg1 j) yard))), (m4, AI G 7 lg1), (w, AI G nr f)] ++ PL LP hk hf)) C (z_runV (q := 1) (As := [.int (zI (j : Int)), .int (zI yard)]) (rest := []) C (ct_X2_stepsTo (zl X) G m0 m1 m2 m3 m4 r hm at1 lg1 n oa dy1 LP hk hf kd fg j yard (by first | assumption | omega) (hL1) (by first | assumption | omega) (by first | assumption | omega) (by assumption)) (lw_V q752 q398 q399 q59 q400) rfl rfl (sb_p [1, 2, 3, 4, 5] rfl rfl) (na := 2) (by decide +kernel) rfl (zrm rfl rfl (rfl) (rfl)) rfl (Nat.le_of_ble_eq_true rfl) dX1_wentSo_63) (fun u => jn_p (Lr := [(x, .inr (10, [.ref a0, .ref b0, .ref m0, .int (zI im), .ref tl, .ref le, .int (zI fw), .int (zI fh), .int (zI lo), .ref sh])), (w, AI G nr f)]) [1, 2, 3, 4, 5] [0, 6] [0, 2, 3, 4, 5, 6, 1] rfl rfl rfl (by decide) rfl rfl) (fun u hp_63 => ?_)
              refine z_aload_n C dX1_wentSo_66 rfl 1 rfl ?_
              refine z_get (q := 0) (kf := 2) (v := .ref m0) C rfl rfl in_X1 (by decide) q882 (Or.inl rfl) rfl dX1_wentSo_67 ?_
              refine y_iconst C dX1_wentSo_70 ?_
              refine z_v (ws' := fun u => ([(x, .inr (10, [.ref a0, .ref b0, .ref m0, .int (zI im), .ref tl, .ref le, .int (zI fw), .int (zI fh), .int (zI lo), .ref sh])), (m0, .inr (8, [.ref m1, .ref m2, .ref m3, .ref m4, .int (zI (n : Int)), .int (zI oa), .int (zI (dy1 + 1))])), (m1, AQ G 4 7 r), (m2, AI G 7 hm), (m3, AI G 7 (va_up at1 j (stepZ (kd j) (fg j) (hm j) (at1 j) oa (lg1 j) yard))), (m4, AI G 7 (dayB 0 kd fg hm (va_up at1 j (stepZ (kd j) (fg j) (hm j) (at1 j) oa (lg1 j) yard)) oa n lg1)), (w, AI G nr f)] ++ PL LP hk hf)) C (z_runV (q := 1) (As := [.int (zI 0)]) (rest := []) C (ct_X2_goesDay (zl X) G m0 m1 m2 m3 m4 r hm (va_up at1 j (stepZ (kd j) (fg j) (hm j) (at1 j) oa (lg1 j) yard)) lg1 n oa dy1 LP hk hf kd fg 0 (by first | assumption | omega) (hL1.at hst) (by omega)) (lw_V q649 q492 q493 q59 q494) rfl rfl (sb_p [1, 2, 3, 4, 5] rfl rfl) (na := 1) (by decide +kernel) rfl (zrm rfl rfl (rfl) (rfl)) rfl (Nat.le_of_ble_eq_true rfl) dX1_wentSo_71) (fun u => jn_p (Lr := [(x, .inr (10, [.ref a0, .ref b0, .ref m0, .int (zI im), .ref tl, .ref le, .int (zI fw), .int (zI fh), .int (zI lo), .ref sh])), (w, AI G nr f)]) [1, 2, 3, 4, 5] [0, 6] [0, 2, 3, 4, 5, 6, 1] rfl rfl rfl (by decide) rfl rfl) (fun u hp_71 => ?_)
              refine y_iinc (lv' := [(4, .int (zI ((k : Int) + 1))), (0, .ref x), (1, .ref w), (2, .int (zI (j : Int))), (3, .int (zI yard))]) C dX1_wentSo_74 (q := 0) rfl (nlt rfl) rfl ?_
              refine z_goto (tgt := 3) C dX1_wentSo_77 (by decide) ?_
              exact ih_3 _ (by omega) (k + 1) (va_up at1 j (stepZ (kd j) (fg j) (hm j) (at1 j) oa (lg1 j) yard)) (dayB 0 kd fg hm (va_up at1 j (stepZ (kd j) (fg j) (hm j) (at1 j) oa (lg1 j) yard)) oa n lg1) (dy1 + 1) (by first | assumption | omega) (by first | exact seqF_t hsq (by assumption) | exact seqF_f hsq (by assumption)) (by first | exact hL1 | exact (hL1.at hst).day) ((rowB_s his hsq).1 hor) rfl
            · skip
              refine z_goto (tgt := 74) C dX1_wentSo_54 (by decide) ?_
              refine y_iinc (lv' := [(4, .int (zI ((k : Int) + 1))), (0, .ref x), (1, .ref w), (2, .int (zI (j : Int))), (3, .int (zI yard))]) C dX1_wentSo_74 (q := 0) rfl (nlt rfl) rfl ?_
              refine z_goto (tgt := 3) C dX1_wentSo_77 (by decide) ?_
              exact ih_3 _ (by omega) (k + 1) at1 lg1 dy1 (by first | assumption | omega) (by first | exact seqF_t hsq (by assumption) | exact seqF_f hsq (by assumption)) (by first | exact hL1 | exact (hL1.at hst).day) ((rowB_s his hsq).1 hor) rfl
          · skip
            refine y_iconst C dX1_wentSo_39 ?_
            exact z_zret C hA hQ rfl (Nat.le_of_ble_eq_true rfl) (Nat.le_of_ble_eq_true rfl) ((at1, lg1, dy1)) (congrArg zI (rowB_z ((rowB_s his hsq).2 (fun z => by rcases z with z | z <;> contradiction)) _ (by omega)).symm) (rfl) (sb_p [0, 1, 2, 3, 4, 5, 6] rfl rfl) dX1_wentSo_40
  exact L_3 _ 0 at_ lg dy (by first | assumption | omega) (rfl) (hL) (rfl) rfl

