/-! THE COMPONENT, 3: ripe .. fees -/
set_option maxRecDepth 100000
def ripP (kd : Nat → Nat) (fg hm at_ lg : Nat → Int) (n : Nat) (oa : Int) (j : Nat) (v : Int) (i : Nat) : Bool := decide (v ≤ paceZ (kd j) (fg j) (goL kd fg hm at_ oa n i lg j))
def oRipe (kd : Nat → Nat) (fg : Nat → Int) (hm : Nat → Int) (at_ : Nat → Int) (lg : Nat → Int) (n : Nat) (oa : Int) (h : Int) (v : Int) : Int := if (0 ≤ h ∧ h ≤ (n : Int) - 1) ∧ (1 ≤ v ∧ v ≤ 60) then firstF (ripP kd fg hm at_ lg n oa h.toNat v) 61 else -1
set_option maxHeartbeats 4000000 in
theorem ct_X1_ripe (l : Launch) (G : ZG) (x : Nat) (b0 : Nat) (m0 : Nat) (tl : Nat) (le : Nat) (sh : Nat) (im : Int) (fw : Int) (fh : Int) (lo : Int) (a0 : Nat) (a1 : Nat) (a2 : Nat) (a3 : Nat) (a4 : Nat) (m1 : Nat) (m2 : Nat) (m3 : Nat) (m4 : Nat) (r : Nat → Option Nat) (hm : Nat → Int) (at_ : Nat → Int) (lg : Nat → Int) (n : Nat) (oa : Int) (dy : Int) (mr : Nat → Option Nat) (mhm : Nat → Int) (mat : Nat → Int) (mlg : Nat → Int) (mn : Nat) (moa : Int) (mdy : Int) (LP : List Nat) (hk : Nat → Nat) (hf : Nat → Int) (kd : Nat → Nat) (fg : Nat → Int) (h : Int) (v : Int) (hH : HR LP hk hf r n kd fg) (hL : LK n kd fg hm at_ lg oa) (hK : PK LP hk hf) (hV : RV LP r) (rh : -2147483648 ≤ h ∧ h ≤ 2147483647) (rv : -2147483648 ≤ v ∧ v ≤ 2147483647) : CT l yX1_ripe cX1_ripe 4 (some .int) { frames := 7, cells := 0, slots := 0, locals := 143 } G [.ref x, .int (zI h), .int (zI v)] ([(x, .inr (10, [.ref a0, .ref b0, .ref m0, .int (zI im), .ref tl, .ref le, .int (zI fw), .int (zI fh), .int (zI lo), .ref sh])), (a0, .inr (8, [.ref a1, .ref a2, .ref a3, .ref a4, .int (zI (n : Int)), .int (zI oa), .int (zI dy)])), (a1, AQ G 4 7 r), (a2, AI G 7 hm), (a3, AI G 7 at_), (a4, AI G 7 lg), (m0, .inr (8, [.ref m1, .ref m2, .ref m3, .ref m4, .int (zI (mn : Int)), .int (zI moa), .int (zI mdy)])), (m1, AQ G 4 7 mr), (m2, AI G 7 mhm), (m3, AI G 7 mat), (m4, AI G 7 mlg)] ++ PL LP hk hf) (Qi G ([(x, .inr (10, [.ref a0, .ref b0, .ref m0, .int (zI im), .ref tl, .ref le, .int (zI fw), .int (zI fh), .int (zI lo), .ref sh])), (a0, .inr (8, [.ref a1, .ref a2, .ref a3, .ref a4, .int (zI (n : Int)), .int (zI oa), .int (zI dy)])), (a1, AQ G 4 7 r), (a2, AI G 7 hm), (a3, AI G 7 at_), (a4, AI G 7 lg), (m0, .inr (8, [.ref m1, .ref m2, .ref m3, .ref m4, .int (zI (mn : Int)), .int (zI moa), .int (zI mdy)])), (m1, AQ G 4 7 mr), (m2, AI G 7 mhm), (m3, AI G 7 mat), (m4, AI G 7 mlg)] ++ PL LP hk hf) (fun (r : Int32) (u : (Nat → Option Nat) × (Nat → Int) × (Nat → Int) × (Nat → Int) × Nat × Int × Int) => r = zI (oRipe kd fg hm at_ lg n oa h v)) (fun u => ([(x, .inr (10, [.ref a0, .ref b0, .ref m0, .int (zI im), .ref tl, .ref le, .int (zI fw), .int (zI fh), .int (zI lo), .ref sh])), (a0, .inr (8, [.ref a1, .ref a2, .ref a3, .ref a4, .int (zI (n : Int)), .int (zI oa), .int (zI dy)])), (a1, AQ G 4 7 r), (a2, AI G 7 hm), (a3, AI G 7 at_), (a4, AI G 7 lg), (m0, .inr (8, [.ref m1, .ref m2, .ref m3, .ref m4, .int (zI (u.2.2.2.2.1 : Int)), .int (zI u.2.2.2.2.2.1), .int (zI u.2.2.2.2.2.2)])), (m1, AQ G 4 7 u.1), (m2, AI G 7 u.2.1), (m3, AI G 7 u.2.2.1), (m4, AI G 7 u.2.2.2.1)] ++ PL LP hk hf))) := by
  refine z_met (by decide) (Nat.le_of_ble_eq_true rfl) ?_
  intro X A hl0 hA C hQ hin
  subst hl0
  obtain ⟨hn7, hoa, hLj⟩ := id hL
  show Z X _ G 0 0 _ 0 [(0, .ref x), (1, .int (zI h)), (2, .int (zI v))] []
  refine z_aload_n C dX1_ripe_0 rfl 0 rfl ?_
  refine z_get (q := 0) (kf := 0) (v := .ref a0) C rfl rfl in_X1 (by decide) q880 (Or.inl rfl) rfl dX1_ripe_1 ?_
  refine z_iload_n C dX1_ripe_4 rfl 1 rfl ?_
  refine z_i C (z_runV (q := 1) (As := [.int (zI h)]) (rest := []) C (ct_X2_isHorse (zl X) G a0 a1 a2 a3 a4 n oa dy h (by first | assumption | omega) (by first | assumption | omega)) (lw_V q388 q389 q390 q59 q391) rfl rfl (sb_e [1] rfl rfl) (na := 1) (by decide +kernel) rfl (zrm rfl rfl (rfl) (rfl)) rfl (Nat.le_of_ble_eq_true rfl) dX1_ripe_5) (fun u => jn_ro (sb_e [1] rfl rfl)) (fun r_5 u hp_5 => ?_)
  have hp_5 : r_5 = zI (bI (0 ≤ h ∧ h ≤ (n : Int) - 1)) := hp_5
  subst hp_5
  refine y_beq (tgt := 21) C dX1_ripe_8 (by decide) (fun c_8 => ?_) (fun c_8 => ?_)
  · skip
    refine y_iconst C dX1_ripe_21 ?_
    exact z_iret C hA hQ rfl (Nat.le_of_ble_eq_true rfl) (Nat.le_of_ble_eq_true rfl) ((mr, mhm, mat, mlg, mn, moa, mdy)) (congrArg zI (by unfold oRipe; (try simp only [zTN]); (repeat (first | rw [if_pos (by omega)] | rw [if_neg (by omega)])); first | done | rfl)) (sb_p [0, 1, 2, 3, 4, 5, 6, 7, 8, 9, 10] rfl rfl) dX1_ripe_22
  · skip
    refine z_iload_n C dX1_ripe_11 rfl 2 rfl ?_
    refine y_iconst C dX1_ripe_12 ?_
    refine y_bipush C dX1_ripe_13 (by decide) ?_
    refine z_i C (z_runS (As := [.int (zI v), .int (zI 1), .int (zI 60)]) (rest := []) C (ct_X1_isIn (zl X) G v 1 60 (by first | assumption | omega) (by first | assumption | omega) (by first | assumption | omega)) (lw_S q189 q190 q58 q191) (sb_e [] rfl rfl) (na := 3) (by decide +kernel) rfl (zrm rfl rfl (rfl) (rfl)) rfl (Nat.le_of_ble_eq_true rfl) dX1_ripe_15) (fun u => jn_ro (sb_e [] rfl rfl)) (fun r_15 u hp_15 => ?_)
    have hp_15 : r_15 = zI (bI (1 ≤ v ∧ v ≤ 60)) := hp_15
    subst hp_15
    refine y_bne (tgt := 23) C dX1_ripe_18 (by decide) (fun c_18 => ?_) (fun c_18 => ?_)
    · skip
      obtain ⟨j, rfl⟩ := Int.eq_ofNat_of_zero_le (show 0 ≤ h by omega)
      refine z_aload_n C dX1_ripe_23 rfl 0 rfl ?_
      refine z_v (ws' := fun u => ([(x, .inr (10, [.ref a0, .ref b0, .ref m0, .int (zI im), .ref tl, .ref le, .int (zI fw), .int (zI fh), .int (zI lo), .ref sh])), (a0, .inr (8, [.ref a1, .ref a2, .ref a3, .ref a4, .int (zI (n : Int)), .int (zI oa), .int (zI dy)])), (a1, AQ G 4 7 r), (a2, AI G 7 hm), (a3, AI G 7 at_), (a4, AI G 7 lg), (m0, .inr (8, [.ref m1, .ref m2, .ref m3, .ref m4, .int (zI (n : Int)), .int (zI oa), .int (zI dy)])), (m1, AQ G 4 7 r), (m2, AI G 7 hm), (m3, AI G 7 at_), (m4, AI G 7 lg)] ++ PL LP hk hf)) C (z_runV (q := 0) (As := []) (rest := []) C (ct_X1_minds (zl X) G x b0 m0 tl le sh im fw fh lo a0 a1 a2 a3 a4 m1 m2 m3 m4 r hm at_ lg n oa dy mr mhm mat mlg mn moa mdy LP hk hf kd fg (by first | assumption | omega) (by first | assumption | omega)) (lw_V q577 q579 qs12 q58 q580) rfl rfl (sb_p [0, 1, 2, 3, 4, 5, 6, 7, 8, 9, 10] rfl rfl) (na := 0) (by decide +kernel) rfl (zrm rfl rfl (rfl) (rfl)) rfl (Nat.le_of_ble_eq_true rfl) dX1_ripe_24) (fun u => jn_p (Lr := []) [0, 1, 2, 3, 4, 5, 6, 7, 8, 9, 10] [] [0, 1, 2, 3, 4, 5, 6, 7, 8, 9, 10] rfl rfl rfl (by decide) rfl rfl) (fun u hp_24 => ?_)
      refine y_iconst C dX1_ripe_27 ?_
      refine z_istore_n (lv' := [(3, .int (zI 0)), (0, .ref x), (1, .int (zI (j : Int))), (2, .int (zI v))]) C dX1_ripe_28 rfl (nlt rfl) rfl ?_
      have L_29 : ∀ (tt : Nat) (i : Nat) (mdy : Int), (i ≤ 61) → (∀ k, k < i → ripP kd fg hm at_ lg n oa j v k = false) → 61 - i = tt → Z X (cX1_ripe, 4, yX1_ripe.cls, (some .int), { frames := 7, cells := 0, slots := 0, locals := 143 }, A) G 0 0 ([(x, .inr (10, [.ref a0, .ref b0, .ref m0, .int (zI im), .ref tl, .ref le, .int (zI fw), .int (zI fh), .int (zI lo), .ref sh])), (a0, .inr (8, [.ref a1, .ref a2, .ref a3, .ref a4, .int (zI (n : Int)), .int (zI oa), .int (zI dy)])), (a1, AQ G 4 7 r), (a2, AI G 7 hm), (a3, AI G 7 at_), (a4, AI G 7 lg), (m0, .inr (8, [.ref m1, .ref m2, .ref m3, .ref m4, .int (zI (n : Int)), .int (zI oa), .int (zI mdy)])), (m1, AQ G 4 7 r), (m2, AI G 7 hm), (m3, AI G 7 at_), (m4, AI G 7 (goL kd fg hm at_ oa n i lg))] ++ PL LP hk hf) 29 [(0, .ref x), (1, .int (zI (j : Int))), (2, .int (zI v)), (3, .int (zI (i : Int)))] [] := by
        intro tt
        induction tt using Nat.strongRecOn with
        | _ tt ih_29 =>
          intro i mdy hi hno ht_29
          refine z_iload_n C dX1_ripe_29 rfl 3 rfl ?_
          refine y_bipush C dX1_ripe_30 (by decide) ?_
          refine y_icmp_gt (tgt := 63) C (by omega) (by omega) dX1_ripe_32 (by decide) (fun c_32 => ?_) (fun c_32 => ?_)
          · skip
            refine y_bipush C dX1_ripe_63 (by decide) ?_
            rw [show i = 61 by omega] at hno
            exact z_iret C hA hQ rfl (Nat.le_of_ble_eq_true rfl) (Nat.le_of_ble_eq_true rfl) ((r, hm, at_, (goL kd fg hm at_ oa n i lg), n, oa, mdy)) (congrArg zI (by unfold oRipe; rw [if_pos (by omega)]; simp only [zTN]; rw [firstF_no hno])) (sb_p [0, 1, 2, 3, 4, 5, 6, 7, 8, 9, 10] rfl rfl) dX1_ripe_65
          · skip
            refine z_aload_n C dX1_ripe_35 rfl 0 rfl ?_
            refine z_get (q := 0) (kf := 2) (v := .ref m0) C rfl rfl in_X1 (by decide) q882 (Or.inl rfl) rfl dX1_ripe_36 ?_
            refine z_iload_n C dX1_ripe_39 rfl 1 rfl ?_
            refine z_i C (z_runV (q := 6) (As := [.int (zI (j : Int))]) (rest := []) C (ct_X2_pace (zl X) G m0 m1 m2 m3 m4 r hm at_ (goL kd fg hm at_ oa n i lg) n oa mdy LP hk hf kd fg j (by first | assumption | omega) (hL.go i) (by omega)) (lw_V q568 q439 q440 q59 q441) rfl rfl (sb_p [6, 7, 8, 9, 10] rfl rfl) (na := 1) (by decide +kernel) rfl (zrm rfl rfl (rfl) (rfl)) rfl (Nat.le_of_ble_eq_true rfl) dX1_ripe_40) (fun u => jn_ro (sb_p [6, 7, 8, 9, 10] rfl rfl)) (fun r_40 u hp_40 => ?_)
            have hp_40 : r_40 = zI (paceZ (kd j) (fg j) ((goL kd fg hm at_ oa n i lg) j)) := hp_40
            subst hp_40
            have hpi := (hL.go i).pace (j := j) (by omega)
            refine z_iload_n C dX1_ripe_43 rfl 2 rfl ?_
            refine y_icmp_lt (tgt := 49) C (by omega) (by omega) dX1_ripe_44 (by decide) (fun c_44 => ?_) (fun c_44 => ?_)
            · skip
              refine z_aload_n C dX1_ripe_49 rfl 0 rfl ?_
              refine z_get (q := 0) (kf := 2) (v := .ref m0) C rfl rfl in_X1 (by decide) q882 (Or.inl rfl) rfl dX1_ripe_50 ?_
              refine y_iconst C dX1_ripe_53 ?_
              refine z_v (ws' := fun u => ([(x, .inr (10, [.ref a0, .ref b0, .ref m0, .int (zI im), .ref tl, .ref le, .int (zI fw), .int (zI fh), .int (zI lo), .ref sh])), (a0, .inr (8, [.ref a1, .ref a2, .ref a3, .ref a4, .int (zI (n : Int)), .int (zI oa), .int (zI dy)])), (a1, AQ G 4 7 r), (a2, AI G 7 hm), (a3, AI G 7 at_), (a4, AI G 7 lg), (m0, .inr (8, [.ref m1, .ref m2, .ref m3, .ref m4, .int (zI (n : Int)), .int (zI oa), .int (zI (mdy + 1))])), (m1, AQ G 4 7 r), (m2, AI G 7 hm), (m3, AI G 7 at_), (m4, AI G 7 (dayB 0 kd fg hm at_ oa n (goL kd fg hm at_ oa n i lg)))] ++ PL LP hk hf)) C (z_runV (q := 6) (As := [.int (zI 0)]) (rest := []) C (ct_X2_goesDay (zl X) G m0 m1 m2 m3 m4 r hm at_ (goL kd fg hm at_ oa n i lg) n oa mdy LP hk hf kd fg 0 (by first | assumption | omega) (hL.go i) (by omega)) (lw_V q649 q492 q493 q59 q494) rfl rfl (sb_p [6, 7, 8, 9, 10] rfl rfl) (na := 1) (by decide +kernel) rfl (zrm rfl rfl (rfl) (rfl)) rfl (Nat.le_of_ble_eq_true rfl) dX1_ripe_54) (fun u => jn_p (Lr := [(x, .inr (10, [.ref a0, .ref b0, .ref m0, .int (zI im), .ref tl, .ref le, .int (zI fw), .int (zI fh), .int (zI lo), .ref sh])), (a0, .inr (8, [.ref a1, .ref a2, .ref a3, .ref a4, .int (zI (n : Int)), .int (zI oa), .int (zI dy)])), (a1, AQ G 4 7 r), (a2, AI G 7 hm), (a3, AI G 7 at_), (a4, AI G 7 lg)]) [6, 7, 8, 9, 10] [0, 1, 2, 3, 4, 5] [0, 1, 2, 3, 4, 5, 6, 7, 8, 9, 10] rfl rfl rfl (by decide) rfl rfl) (fun u hp_54 => ?_)
              rw [show dayB 0 kd fg hm at_ oa n (goL kd fg hm at_ oa n i lg) = goL kd fg hm at_ oa n (i + 1) lg from rfl]
              refine y_iinc (lv' := [(3, .int (zI ((i : Int) + 1))), (0, .ref x), (1, .int (zI (j : Int))), (2, .int (zI v))]) C dX1_ripe_57 (q := 3) rfl (nlt rfl) rfl ?_
              refine z_goto (tgt := 29) C dX1_ripe_60 (by decide) ?_
              refine z_lv (lv' := [(0, .ref x), (1, .int (zI (j : Int))), (2, .int (zI v)), (3, .int (zI ((i : Int) + 1)))]) [1, 2, 3, 0] rfl ?_
              exact ih_29 _ (by omega) (i + 1) (mdy + 1) (by first | assumption | omega) (fun k hk0 => by
                rcases Nat.lt_succ_iff_lt_or_eq.mp hk0 with q | q
                · exact hno k q
                · subst q; unfold ripP; exact decide_eq_false (by omega)) rfl
            · skip
              refine z_iload_n C dX1_ripe_47 rfl 3 rfl ?_
              exact z_iret C hA hQ rfl (Nat.le_of_ble_eq_true rfl) (Nat.le_of_ble_eq_true rfl) ((r, hm, at_, (goL kd fg hm at_ oa n i lg), n, oa, mdy)) (congrArg zI (by unfold oRipe; rw [if_pos (by omega)]; simp only [zTN]; rw [firstF_at hno (by unfold ripP; exact decide_eq_true (by omega)) (by omega)])) (sb_p [0, 1, 2, 3, 4, 5, 6, 7, 8, 9, 10] rfl rfl) dX1_ripe_48
      refine z_lv (lv' := [(0, .ref x), (1, .int (zI (j : Int))), (2, .int (zI v)), (3, .int (zI 0))]) [1, 2, 3, 0] rfl ?_
      exact L_29 _ 0 dy (by first | assumption | omega) (fun k hk0 => absurd hk0 (Nat.not_lt_zero k)) rfl
    · skip
      refine y_iconst C dX1_ripe_21 ?_
      exact z_iret C hA hQ rfl (Nat.le_of_ble_eq_true rfl) (Nat.le_of_ble_eq_true rfl) ((mr, mhm, mat, mlg, mn, moa, mdy)) (congrArg zI (by unfold oRipe; (try simp only [zTN]); (repeat (first | rw [if_pos (by omega)] | rw [if_neg (by omega)])); first | done | rfl)) (sb_p [0, 1, 2, 3, 4, 5, 6, 7, 8, 9, 10] rfl rfl) dX1_ripe_22

def lsP (kd : Nat → Nat) (fg hm at_ lg : Nat → Int) (n : Nat) (oa : Int) (j : Nat) (yard t : Int) (v : Nat) : Bool := decide (((rdN kd fg hm oa n j yard at_ (va_up lg j (v : Int)) : Nat) : Int) ≤ t)
def oLeast (kd : Nat → Nat) (fg : Nat → Int) (hm : Nat → Int) (at_ : Nat → Int) (lg : Nat → Int) (n : Nat) (oa : Int) (h : Int) (yard : Int) (t : Int) : Int := if (0 ≤ h ∧ h ≤ (n : Int) - 1) ∧ (0 ≤ yard ∧ yard ≤ 20) ∧ (0 ≤ t ∧ t ≤ 20) then firstF (lsP kd fg hm at_ lg n oa h.toNat yard t) 100 else -1
set_option maxHeartbeats 4000000 in
theorem ct_X1_leastLonging (l : Launch) (G : ZG) (x : Nat) (b0 : Nat) (m0 : Nat) (tl : Nat) (le : Nat) (sh : Nat) (im : Int) (fw : Int) (fh : Int) (lo : Int) (a0 : Nat) (a1 : Nat) (a2 : Nat) (a3 : Nat) (a4 : Nat) (m1 : Nat) (m2 : Nat) (m3 : Nat) (m4 : Nat) (r : Nat → Option Nat) (hm : Nat → Int) (at_ : Nat → Int) (lg : Nat → Int) (n : Nat) (oa : Int) (dy : Int) (mr : Nat → Option Nat) (mhm : Nat → Int) (mat : Nat → Int) (mlg : Nat → Int) (mn : Nat) (moa : Int) (mdy : Int) (LP : List Nat) (hk : Nat → Nat) (hf : Nat → Int) (kd : Nat → Nat) (fg : Nat → Int) (h : Int) (yard : Int) (t : Int) (hH : HR LP hk hf r n kd fg) (hL : LK n kd fg hm at_ lg oa) (hK : PK LP hk hf) (hV : RV LP r) (rh : -2147483648 ≤ h ∧ h ≤ 2147483647) (ryard : -2147483648 ≤ yard ∧ yard ≤ 2147483647) (rt : -2147483648 ≤ t ∧ t ≤ 2147483647) : CT l yX1_leastLonging cX1_leastLonging 5 (some .int) { frames := 8, cells := 0, slots := 0, locals := 166 } G [.ref x, .int (zI h), .int (zI yard), .int (zI t)] ([(x, .inr (10, [.ref a0, .ref b0, .ref m0, .int (zI im), .ref tl, .ref le, .int (zI fw), .int (zI fh), .int (zI lo), .ref sh])), (a0, .inr (8, [.ref a1, .ref a2, .ref a3, .ref a4, .int (zI (n : Int)), .int (zI oa), .int (zI dy)])), (a1, AQ G 4 7 r), (a2, AI G 7 hm), (a3, AI G 7 at_), (a4, AI G 7 lg), (m0, .inr (8, [.ref m1, .ref m2, .ref m3, .ref m4, .int (zI (mn : Int)), .int (zI moa), .int (zI mdy)])), (m1, AQ G 4 7 mr), (m2, AI G 7 mhm), (m3, AI G 7 mat), (m4, AI G 7 mlg)] ++ PL LP hk hf) (Qi G ([(x, .inr (10, [.ref a0, .ref b0, .ref m0, .int (zI im), .ref tl, .ref le, .int (zI fw), .int (zI fh), .int (zI lo), .ref sh])), (a0, .inr (8, [.ref a1, .ref a2, .ref a3, .ref a4, .int (zI (n : Int)), .int (zI oa), .int (zI dy)])), (a1, AQ G 4 7 r), (a2, AI G 7 hm), (a3, AI G 7 at_), (a4, AI G 7 lg), (m0, .inr (8, [.ref m1, .ref m2, .ref m3, .ref m4, .int (zI (mn : Int)), .int (zI moa), .int (zI mdy)])), (m1, AQ G 4 7 mr), (m2, AI G 7 mhm), (m3, AI G 7 mat), (m4, AI G 7 mlg)] ++ PL LP hk hf) (fun (r : Int32) (u : (Nat → Option Nat) × (Nat → Int) × (Nat → Int) × (Nat → Int) × Nat × Int × Int) => r = zI (oLeast kd fg hm at_ lg n oa h yard t)) (fun u => ([(x, .inr (10, [.ref a0, .ref b0, .ref m0, .int (zI im), .ref tl, .ref le, .int (zI fw), .int (zI fh), .int (zI lo), .ref sh])), (a0, .inr (8, [.ref a1, .ref a2, .ref a3, .ref a4, .int (zI (n : Int)), .int (zI oa), .int (zI dy)])), (a1, AQ G 4 7 r), (a2, AI G 7 hm), (a3, AI G 7 at_), (a4, AI G 7 lg), (m0, .inr (8, [.ref m1, .ref m2, .ref m3, .ref m4, .int (zI (u.2.2.2.2.1 : Int)), .int (zI u.2.2.2.2.2.1), .int (zI u.2.2.2.2.2.2)])), (m1, AQ G 4 7 u.1), (m2, AI G 7 u.2.1), (m3, AI G 7 u.2.2.1), (m4, AI G 7 u.2.2.2.1)] ++ PL LP hk hf))) := by
  refine z_met (by decide) (Nat.le_of_ble_eq_true rfl) ?_
  intro X A hl0 hA C hQ hin
  subst hl0
  obtain ⟨hn7, hoa, hLj⟩ := id hL
  show Z X _ G 0 0 _ 0 [(0, .ref x), (1, .int (zI h)), (2, .int (zI yard)), (3, .int (zI t))] []
  refine z_aload_n C dX1_leastLonging_0 rfl 0 rfl ?_
  refine z_get (q := 0) (kf := 0) (v := .ref a0) C rfl rfl in_X1 (by decide) q880 (Or.inl rfl) rfl dX1_leastLonging_1 ?_
  refine z_iload_n C dX1_leastLonging_4 rfl 1 rfl ?_
  refine z_i C (z_runV (q := 1) (As := [.int (zI h)]) (rest := []) C (ct_X2_isHorse (zl X) G a0 a1 a2 a3 a4 n oa dy h (by first | assumption | omega) (by first | assumption | omega)) (lw_V q388 q389 q390 q59 q391) rfl rfl (sb_e [1] rfl rfl) (na := 1) (by decide +kernel) rfl (zrm rfl rfl (rfl) (rfl)) rfl (Nat.le_of_ble_eq_true rfl) dX1_leastLonging_5) (fun u => jn_ro (sb_e [1] rfl rfl)) (fun r_5 u hp_5 => ?_)
  have hp_5 : r_5 = zI (bI (0 ≤ h ∧ h ≤ (n : Int) - 1)) := hp_5
  subst hp_5
  refine y_beq (tgt := 28) C dX1_leastLonging_8 (by decide) (fun c_8 => ?_) (fun c_8 => ?_)
  · skip
    refine y_iconst C dX1_leastLonging_28 ?_
    exact z_iret C hA hQ rfl (Nat.le_of_ble_eq_true rfl) (Nat.le_of_ble_eq_true rfl) ((mr, mhm, mat, mlg, mn, moa, mdy)) (congrArg zI (by unfold oLeast; (try simp only [zTN]); (repeat (first | rw [if_pos (by omega)] | rw [if_neg (by omega)])); first | done | rfl)) (sb_p [0, 1, 2, 3, 4, 5, 6, 7, 8, 9, 10] rfl rfl) dX1_leastLonging_29
  · skip
    refine z_iload_n C dX1_leastLonging_11 rfl 2 rfl ?_
    refine z_i C (z_runS (As := [.int (zI yard)]) (rest := []) C (ct_X1_isYard (zl X) G yard (by first | assumption | omega)) (lw_S q303 q304 q58 q305) (sb_e [] rfl rfl) (na := 1) (by decide +kernel) rfl (zrm rfl rfl (rfl) (rfl)) rfl (Nat.le_of_ble_eq_true rfl) dX1_leastLonging_12) (fun u => jn_ro (sb_e [] rfl rfl)) (fun r_12 u hp_12 => ?_)
    have hp_12 : r_12 = zI (bI (0 ≤ yard ∧ yard ≤ 20)) := hp_12
    subst hp_12
    refine y_beq (tgt := 28) C dX1_leastLonging_15 (by decide) (fun c_15 => ?_) (fun c_15 => ?_)
    · skip
      refine y_iconst C dX1_leastLonging_28 ?_
      exact z_iret C hA hQ rfl (Nat.le_of_ble_eq_true rfl) (Nat.le_of_ble_eq_true rfl) ((mr, mhm, mat, mlg, mn, moa, mdy)) (congrArg zI (by unfold oLeast; (try simp only [zTN]); (repeat (first | rw [if_pos (by omega)] | rw [if_neg (by omega)])); first | done | rfl)) (sb_p [0, 1, 2, 3, 4, 5, 6, 7, 8, 9, 10] rfl rfl) dX1_leastLonging_29
    · skip
      refine z_iload_n C dX1_leastLonging_18 rfl 3 rfl ?_
      refine y_iconst C dX1_leastLonging_19 ?_
      refine y_bipush C dX1_leastLonging_20 (by decide) ?_
      refine z_i C (z_runS (As := [.int (zI t), .int (zI 0), .int (zI 20)]) (rest := []) C (ct_X1_isIn (zl X) G t 0 20 (by first | assumption | omega) (by first | assumption | omega) (by first | assumption | omega)) (lw_S q189 q190 q58 q191) (sb_e [] rfl rfl) (na := 3) (by decide +kernel) rfl (zrm rfl rfl (rfl) (rfl)) rfl (Nat.le_of_ble_eq_true rfl) dX1_leastLonging_22) (fun u => jn_ro (sb_e [] rfl rfl)) (fun r_22 u hp_22 => ?_)
      have hp_22 : r_22 = zI (bI (0 ≤ t ∧ t ≤ 20)) := hp_22
      subst hp_22
      refine y_bne (tgt := 30) C dX1_leastLonging_25 (by decide) (fun c_25 => ?_) (fun c_25 => ?_)
      · skip
        obtain ⟨j, rfl⟩ := Int.eq_ofNat_of_zero_le (show 0 ≤ h by omega)
        refine y_iconst C dX1_leastLonging_30 ?_
        refine z_istore (lv' := [(4, .int (zI 0)), (0, .ref x), (1, .int (zI (j : Int))), (2, .int (zI yard)), (3, .int (zI t))]) C dX1_leastLonging_31 (nlt rfl) rfl ?_
        have L_33 : ∀ (tt : Nat) (i : Nat) (mr : Nat → Option Nat) (mhm : Nat → Int) (mat : Nat → Int) (mlg : Nat → Int) (mn : Nat) (moa : Int) (mdy : Int), (i ≤ 100) → (∀ k, k < i → lsP kd fg hm at_ lg n oa j yard t k = false) → 100 - i = tt → Z X (cX1_leastLonging, 5, yX1_leastLonging.cls, (some .int), { frames := 8, cells := 0, slots := 0, locals := 166 }, A) G 0 0 ([(x, .inr (10, [.ref a0, .ref b0, .ref m0, .int (zI im), .ref tl, .ref le, .int (zI fw), .int (zI fh), .int (zI lo), .ref sh])), (a0, .inr (8, [.ref a1, .ref a2, .ref a3, .ref a4, .int (zI (n : Int)), .int (zI oa), .int (zI dy)])), (a1, AQ G 4 7 r), (a2, AI G 7 hm), (a3, AI G 7 at_), (a4, AI G 7 lg), (m0, .inr (8, [.ref m1, .ref m2, .ref m3, .ref m4, .int (zI (mn : Int)), .int (zI moa), .int (zI mdy)])), (m1, AQ G 4 7 mr), (m2, AI G 7 mhm), (m3, AI G 7 mat), (m4, AI G 7 mlg)] ++ PL LP hk hf) 33 [(0, .ref x), (1, .int (zI (j : Int))), (2, .int (zI yard)), (3, .int (zI t)), (4, .int (zI (i : Int)))] [] := by
          intro tt
          induction tt using Nat.strongRecOn with
          | _ tt ih_33 =>
            intro i mr mhm mat mlg mn moa mdy hi hno ht_33
            refine z_iload C dX1_leastLonging_33 4 rfl ?_
            refine y_bipush C dX1_leastLonging_35 (by decide) ?_
            refine y_icmp_gt (tgt := 77) C (by omega) (by omega) dX1_leastLonging_37 (by decide) (fun c_37 => ?_) (fun c_37 => ?_)
            · skip
              refine y_bipush C dX1_leastLonging_77 (by decide) ?_
              rw [show i = 100 by omega] at hno
              exact z_iret C hA hQ rfl (Nat.le_of_ble_eq_true rfl) (Nat.le_of_ble_eq_true rfl) ((mr, mhm, mat, mlg, mn, moa, mdy)) (congrArg zI (by unfold oLeast; rw [if_pos (by omega)]; simp only [zTN]; rw [firstF_no hno])) (sb_p [0, 1, 2, 3, 4, 5, 6, 7, 8, 9, 10] rfl rfl) dX1_leastLonging_79
            · skip
              refine z_aload_n C dX1_leastLonging_40 rfl 0 rfl ?_
              refine z_v (ws' := fun u => ([(x, .inr (10, [.ref a0, .ref b0, .ref m0, .int (zI im), .ref tl, .ref le, .int (zI fw), .int (zI fh), .int (zI lo), .ref sh])), (a0, .inr (8, [.ref a1, .ref a2, .ref a3, .ref a4, .int (zI (n : Int)), .int (zI oa), .int (zI dy)])), (a1, AQ G 4 7 r), (a2, AI G 7 hm), (a3, AI G 7 at_), (a4, AI G 7 lg), (m0, .inr (8, [.ref m1, .ref m2, .ref m3, .ref m4, .int (zI (n : Int)), .int (zI oa), .int (zI dy)])), (m1, AQ G 4 7 r), (m2, AI G 7 hm), (m3, AI G 7 at_), (m4, AI G 7 lg)] ++ PL LP hk hf)) C (z_runV (q := 0) (As := []) (rest := []) C (ct_X1_minds (zl X) G x b0 m0 tl le sh im fw fh lo a0 a1 a2 a3 a4 m1 m2 m3 m4 r hm at_ lg n oa dy mr mhm mat mlg mn moa mdy LP hk hf kd fg (by first | assumption | omega) (by first | assumption | omega)) (lw_V q577 q579 qs12 q58 q580) rfl rfl (sb_p [0, 1, 2, 3, 4, 5, 6, 7, 8, 9, 10] rfl rfl) (na := 0) (by decide +kernel) rfl (zrm rfl rfl (rfl) (rfl)) rfl (Nat.le_of_ble_eq_true rfl) dX1_leastLonging_41) (fun u => jn_p (Lr := []) [0, 1, 2, 3, 4, 5, 6, 7, 8, 9, 10] [] [0, 1, 2, 3, 4, 5, 6, 7, 8, 9, 10] rfl rfl rfl (by decide) rfl rfl) (fun u hp_41 => ?_)
              refine z_aload_n C dX1_leastLonging_44 rfl 0 rfl ?_
              refine z_get (q := 0) (kf := 2) (v := .ref m0) C rfl rfl in_X1 (by decide) q882 (Or.inl rfl) rfl dX1_leastLonging_45 ?_
              refine z_get (q := 6) (kf := 3) (v := .ref m4) C rfl rfl in_X2 (by decide) q844 (Or.inl rfl) rfl dX1_leastLonging_48 ?_
              refine z_iload_n C dX1_leastLonging_51 rfl 1 rfl ?_
              refine z_iload C dX1_leastLonging_52 4 rfl ?_
              refine y_iast (q := 10) (t0 := 0) (g := va_up lg j (i : Int)) (ws' := ([(x, .inr (10, [.ref a0, .ref b0, .ref m0, .int (zI im), .ref tl, .ref le, .int (zI fw), .int (zI fh), .int (zI lo), .ref sh])), (a0, .inr (8, [.ref a1, .ref a2, .ref a3, .ref a4, .int (zI (n : Int)), .int (zI oa), .int (zI dy)])), (a1, AQ G 4 7 r), (a2, AI G 7 hm), (a3, AI G 7 at_), (a4, AI G 7 lg), (m0, .inr (8, [.ref m1, .ref m2, .ref m3, .ref m4, .int (zI (n : Int)), .int (zI oa), .int (zI dy)])), (m1, AQ G 4 7 r), (m2, AI G 7 hm), (m3, AI G 7 at_), (m4, AI G 7 (va_up lg j (i : Int)))] ++ PL LP hk hf)) C rfl rfl (by omega) (by decide) rfl rfl dX1_leastLonging_54 ?_
              refine z_aload_n C dX1_leastLonging_55 rfl 0 rfl ?_
              refine z_get (q := 0) (kf := 2) (v := .ref m0) C rfl rfl in_X1 (by decide) q882 (Or.inl rfl) rfl dX1_leastLonging_56 ?_
              refine z_iload_n C dX1_leastLonging_59 rfl 1 rfl ?_
              refine z_iload_n C dX1_leastLonging_60 rfl 2 rfl ?_
              refine z_i (ws' := fun u => ([(x, .inr (10, [.ref a0, .ref b0, .ref m0, .int (zI im), .ref tl, .ref le, .int (zI fw), .int (zI fh), .int (zI lo), .ref sh])), (a0, .inr (8, [.ref a1, .ref a2, .ref a3, .ref a4, .int (zI (n : Int)), .int (zI oa), .int (zI dy)])), (a1, AQ G 4 7 r), (a2, AI G 7 hm), (a3, AI G 7 at_), (a4, AI G 7 lg), (m0, .inr (8, [.ref m1, .ref m2, .ref m3, .ref m4, .int (zI (n : Int)), .int (zI oa), .int (zI (dy + ((rdN kd fg hm oa n j yard at_ (va_up lg j (i : Int))) : Int)))])), (m1, AQ G 4 7 r), (m2, AI G 7 hm), (m3, AI G 7 (rdA kd fg hm oa n j yard at_ (va_up lg j (i : Int)))), (m4, AI G 7 (rdL kd fg hm oa n j yard at_ (va_up lg j (i : Int))))] ++ PL LP hk hf)) C (z_runV (q := 6) (As := [.int (zI (j : Int)), .int (zI yard)]) (rest := []) C (ct_X2_rides (zl X) G m0 m1 m2 m3 m4 r hm at_ (va_up lg j (i : Int)) n oa dy LP hk hf kd fg j yard (by first | assumption | omega) (hL.lg (by omega)) (by omega) (by first | assumption | omega)) (lw_V q393 q394 q395 q59 q396) rfl rfl (sb_p [6, 7, 8, 9, 10] rfl rfl) (na := 2) (by decide +kernel) rfl (zrm rfl rfl (rfl) (rfl)) rfl (Nat.le_of_ble_eq_true rfl) dX1_leastLonging_61) (fun u => jn_p (Lr := [(x, .inr (10, [.ref a0, .ref b0, .ref m0, .int (zI im), .ref tl, .ref le, .int (zI fw), .int (zI fh), .int (zI lo), .ref sh])), (a0, .inr (8, [.ref a1, .ref a2, .ref a3, .ref a4, .int (zI (n : Int)), .int (zI oa), .int (zI dy)])), (a1, AQ G 4 7 r), (a2, AI G 7 hm), (a3, AI G 7 at_), (a4, AI G 7 lg)]) [6, 7, 8, 9, 10] [0, 1, 2, 3, 4, 5] [0, 1, 2, 3, 4, 5, 6, 7, 8, 9, 10] rfl rfl rfl (by decide) rfl rfl) (fun r_61 u hp_61 => ?_)
              have hp_61 : r_61 = zI ((rdN kd fg hm oa n j yard at_ (va_up lg j (i : Int))) : Int) := hp_61
              subst hp_61
              have hr20 := rdN_le kd fg hm oa n j yard at_ (va_up lg j (i : Int))
              refine z_iload_n C dX1_leastLonging_64 rfl 3 rfl ?_
              refine y_icmp_gt (tgt := 71) C (by omega) (by omega) dX1_leastLonging_65 (by decide) (fun c_65 => ?_) (fun c_65 => ?_)
              · skip
                refine y_iinc (lv' := [(4, .int (zI ((i : Int) + 1))), (0, .ref x), (1, .int (zI (j : Int))), (2, .int (zI yard)), (3, .int (zI t))]) C dX1_leastLonging_71 (q := 4) rfl (nlt rfl) rfl ?_
                refine z_goto (tgt := 33) C dX1_leastLonging_74 (by decide) ?_
                refine z_lv (lv' := [(0, .ref x), (1, .int (zI (j : Int))), (2, .int (zI yard)), (3, .int (zI t)), (4, .int (zI ((i : Int) + 1)))]) [1, 2, 3, 4, 0] rfl ?_
                exact ih_33 _ (by omega) (i + 1) r hm (rdA kd fg hm oa n j yard at_ (va_up lg j (i : Int))) (rdL kd fg hm oa n j yard at_ (va_up lg j (i : Int))) n oa (dy + ((rdN kd fg hm oa n j yard at_ (va_up lg j (i : Int))) : Int)) (by first | assumption | omega) (fun k hk0 => by
                  rcases Nat.lt_succ_iff_lt_or_eq.mp hk0 with q | q
                  · exact hno k q
                  · subst q; unfold lsP; exact decide_eq_false (by omega)) rfl
              · skip
                refine z_iload C dX1_leastLonging_68 4 rfl ?_
                exact z_iret C hA hQ rfl (Nat.le_of_ble_eq_true rfl) (Nat.le_of_ble_eq_true rfl) ((r, hm, (rdA kd fg hm oa n j yard at_ (va_up lg j (i : Int))), (rdL kd fg hm oa n j yard at_ (va_up lg j (i : Int))), n, oa, (dy + ((rdN kd fg hm oa n j yard at_ (va_up lg j (i : Int))) : Int)))) (congrArg zI (by unfold oLeast; rw [if_pos (by omega)]; simp only [zTN]; rw [firstF_at hno (by unfold lsP; exact decide_eq_true (by omega)) (by omega)])) (sb_p [0, 1, 2, 3, 4, 5, 6, 7, 8, 9, 10] rfl rfl) dX1_leastLonging_70
        refine z_lv (lv' := [(0, .ref x), (1, .int (zI (j : Int))), (2, .int (zI yard)), (3, .int (zI t)), (4, .int (zI 0))]) [1, 2, 3, 4, 0] rfl ?_
        exact L_33 _ 0 mr mhm mat mlg mn moa mdy (by first | assumption | omega) (fun k hk0 => absurd hk0 (Nat.not_lt_zero k)) rfl
      · skip
        refine y_iconst C dX1_leastLonging_28 ?_
        exact z_iret C hA hQ rfl (Nat.le_of_ble_eq_true rfl) (Nat.le_of_ble_eq_true rfl) ((mr, mhm, mat, mlg, mn, moa, mdy)) (congrArg zI (by unfold oLeast; (try simp only [zTN]); (repeat (first | rw [if_pos (by omega)] | rw [if_neg (by omega)])); first | done | rfl)) (sb_p [0, 1, 2, 3, 4, 5, 6, 7, 8, 9, 10] rfl rfl) dX1_leastLonging_29

def soonF (kd : Nat → Nat) (fg hm at_ lg : Nat → Int) (n : Nat) (oa : Int) (j : Nat) (yard : Int) (w : Nat) : Int := (w : Int) + tkB kd fg hm at_ lg n oa yard w j
def oSoonest (kd : Nat → Nat) (fg : Nat → Int) (hm : Nat → Int) (at_ : Nat → Int) (lg : Nat → Int) (n : Nat) (oa : Int) (h : Int) (yard : Int) (what : Int) : Int := if (0 ≤ h ∧ h ≤ (n : Int) - 1) ∧ (0 ≤ yard ∧ yard ≤ 20) ∧ (0 ≤ what ∧ what ≤ 1) then if what = 0 then (minF (soonF kd fg hm at_ lg n oa h.toNat yard) 31).1 else (minF (soonF kd fg hm at_ lg n oa h.toNat yard) 31).2 else -1
set_option maxHeartbeats 4000000 in
theorem ct_X1_soonest (l : Launch) (G : ZG) (x : Nat) (b0 : Nat) (m0 : Nat) (tl : Nat) (le : Nat) (sh : Nat) (im : Int) (fw : Int) (fh : Int) (lo : Int) (a0 : Nat) (a1 : Nat) (a2 : Nat) (a3 : Nat) (a4 : Nat) (m1 : Nat) (m2 : Nat) (m3 : Nat) (m4 : Nat) (r : Nat → Option Nat) (hm : Nat → Int) (at_ : Nat → Int) (lg : Nat → Int) (n : Nat) (oa : Int) (dy : Int) (mr : Nat → Option Nat) (mhm : Nat → Int) (mat : Nat → Int) (mlg : Nat → Int) (mn : Nat) (moa : Int) (mdy : Int) (LP : List Nat) (hk : Nat → Nat) (hf : Nat → Int) (kd : Nat → Nat) (fg : Nat → Int) (h : Int) (yard : Int) (what : Int) (hH : HR LP hk hf r n kd fg) (hL : LK n kd fg hm at_ lg oa) (hK : PK LP hk hf) (hV : RV LP r) (rh : -2147483648 ≤ h ∧ h ≤ 2147483647) (ryard : -2147483648 ≤ yard ∧ yard ≤ 2147483647) (rwhat : -2147483648 ≤ what ∧ what ≤ 2147483647) : CT l yX1_soonest cX1_soonest 8 (some .int) { frames := 9, cells := 0, slots := 0, locals := 189 } G [.ref x, .int (zI h), .int (zI yard), .int (zI what)] ([(x, .inr (10, [.ref a0, .ref b0, .ref m0, .int (zI im), .ref tl, .ref le, .int (zI fw), .int (zI fh), .int (zI lo), .ref sh])), (a0, .inr (8, [.ref a1, .ref a2, .ref a3, .ref a4, .int (zI (n : Int)), .int (zI oa), .int (zI dy)])), (a1, AQ G 4 7 r), (a2, AI G 7 hm), (a3, AI G 7 at_), (a4, AI G 7 lg), (m0, .inr (8, [.ref m1, .ref m2, .ref m3, .ref m4, .int (zI (mn : Int)), .int (zI moa), .int (zI mdy)])), (m1, AQ G 4 7 mr), (m2, AI G 7 mhm), (m3, AI G 7 mat), (m4, AI G 7 mlg)] ++ PL LP hk hf) (Qi G ([(x, .inr (10, [.ref a0, .ref b0, .ref m0, .int (zI im), .ref tl, .ref le, .int (zI fw), .int (zI fh), .int (zI lo), .ref sh])), (a0, .inr (8, [.ref a1, .ref a2, .ref a3, .ref a4, .int (zI (n : Int)), .int (zI oa), .int (zI dy)])), (a1, AQ G 4 7 r), (a2, AI G 7 hm), (a3, AI G 7 at_), (a4, AI G 7 lg), (m0, .inr (8, [.ref m1, .ref m2, .ref m3, .ref m4, .int (zI (mn : Int)), .int (zI moa), .int (zI mdy)])), (m1, AQ G 4 7 mr), (m2, AI G 7 mhm), (m3, AI G 7 mat), (m4, AI G 7 mlg)] ++ PL LP hk hf) (fun (r : Int32) (u : (Nat → Option Nat) × (Nat → Int) × (Nat → Int) × (Nat → Int) × Nat × Int × Int) => r = zI (oSoonest kd fg hm at_ lg n oa h yard what)) (fun u => ([(x, .inr (10, [.ref a0, .ref b0, .ref m0, .int (zI im), .ref tl, .ref le, .int (zI fw), .int (zI fh), .int (zI lo), .ref sh])), (a0, .inr (8, [.ref a1, .ref a2, .ref a3, .ref a4, .int (zI (n : Int)), .int (zI oa), .int (zI dy)])), (a1, AQ G 4 7 r), (a2, AI G 7 hm), (a3, AI G 7 at_), (a4, AI G 7 lg), (m0, .inr (8, [.ref m1, .ref m2, .ref m3, .ref m4, .int (zI (u.2.2.2.2.1 : Int)), .int (zI u.2.2.2.2.2.1), .int (zI u.2.2.2.2.2.2)])), (m1, AQ G 4 7 u.1), (m2, AI G 7 u.2.1), (m3, AI G 7 u.2.2.1), (m4, AI G 7 u.2.2.2.1)] ++ PL LP hk hf))) := by
  refine z_met (by decide) (Nat.le_of_ble_eq_true rfl) ?_
  intro X A hl0 hA C hQ hin
  subst hl0
  obtain ⟨hn7, hoa, hLj⟩ := id hL
  show Z X _ G 0 0 _ 0 [(0, .ref x), (1, .int (zI h)), (2, .int (zI yard)), (3, .int (zI what))] []
  refine z_aload_n C dX1_soonest_0 rfl 0 rfl ?_
  refine z_get (q := 0) (kf := 0) (v := .ref a0) C rfl rfl in_X1 (by decide) q880 (Or.inl rfl) rfl dX1_soonest_1 ?_
  refine z_iload_n C dX1_soonest_4 rfl 1 rfl ?_
  refine z_i C (z_runV (q := 1) (As := [.int (zI h)]) (rest := []) C (ct_X2_isHorse (zl X) G a0 a1 a2 a3 a4 n oa dy h (by first | assumption | omega) (by first | assumption | omega)) (lw_V q388 q389 q390 q59 q391) rfl rfl (sb_e [1] rfl rfl) (na := 1) (by decide +kernel) rfl (zrm rfl rfl (rfl) (rfl)) rfl (Nat.le_of_ble_eq_true rfl) dX1_soonest_5) (fun u => jn_ro (sb_e [1] rfl rfl)) (fun r_5 u hp_5 => ?_)
  have hp_5 : r_5 = zI (bI (0 ≤ h ∧ h ≤ (n : Int) - 1)) := hp_5
  subst hp_5
  refine y_beq (tgt := 27) C dX1_soonest_8 (by decide) (fun c_8 => ?_) (fun c_8 => ?_)
  · skip
    refine y_iconst C dX1_soonest_27 ?_
    exact z_iret C hA hQ rfl (Nat.le_of_ble_eq_true rfl) (Nat.le_of_ble_eq_true rfl) ((mr, mhm, mat, mlg, mn, moa, mdy)) (congrArg zI (by unfold oSoonest; (try simp only [zTN]); (repeat (first | rw [if_pos (by omega)] | rw [if_neg (by omega)])); first | done | rfl)) (sb_p [0, 1, 2, 3, 4, 5, 6, 7, 8, 9, 10] rfl rfl) dX1_soonest_28
  · skip
    refine z_iload_n C dX1_soonest_11 rfl 2 rfl ?_
    refine z_i C (z_runS (As := [.int (zI yard)]) (rest := []) C (ct_X1_isYard (zl X) G yard (by first | assumption | omega)) (lw_S q303 q304 q58 q305) (sb_e [] rfl rfl) (na := 1) (by decide +kernel) rfl (zrm rfl rfl (rfl) (rfl)) rfl (Nat.le_of_ble_eq_true rfl) dX1_soonest_12) (fun u => jn_ro (sb_e [] rfl rfl)) (fun r_12 u hp_12 => ?_)
    have hp_12 : r_12 = zI (bI (0 ≤ yard ∧ yard ≤ 20)) := hp_12
    subst hp_12
    refine y_beq (tgt := 27) C dX1_soonest_15 (by decide) (fun c_15 => ?_) (fun c_15 => ?_)
    · skip
      refine y_iconst C dX1_soonest_27 ?_
      exact z_iret C hA hQ rfl (Nat.le_of_ble_eq_true rfl) (Nat.le_of_ble_eq_true rfl) ((mr, mhm, mat, mlg, mn, moa, mdy)) (congrArg zI (by unfold oSoonest; (try simp only [zTN]); (repeat (first | rw [if_pos (by omega)] | rw [if_neg (by omega)])); first | done | rfl)) (sb_p [0, 1, 2, 3, 4, 5, 6, 7, 8, 9, 10] rfl rfl) dX1_soonest_28
    · skip
      refine z_iload_n C dX1_soonest_18 rfl 3 rfl ?_
      refine y_iconst C dX1_soonest_19 ?_
      refine y_iconst C dX1_soonest_20 ?_
      refine z_i C (z_runS (As := [.int (zI what), .int (zI 0), .int (zI 1)]) (rest := []) C (ct_X1_isIn (zl X) G what 0 1 (by first | assumption | omega) (by first | assumption | omega) (by first | assumption | omega)) (lw_S q189 q190 q58 q191) (sb_e [] rfl rfl) (na := 3) (by decide +kernel) rfl (zrm rfl rfl (rfl) (rfl)) rfl (Nat.le_of_ble_eq_true rfl) dX1_soonest_21) (fun u => jn_ro (sb_e [] rfl rfl)) (fun r_21 u hp_21 => ?_)
      have hp_21 : r_21 = zI (bI (0 ≤ what ∧ what ≤ 1)) := hp_21
      subst hp_21
      refine y_bne (tgt := 29) C dX1_soonest_24 (by decide) (fun c_24 => ?_) (fun c_24 => ?_)
      · skip
        obtain ⟨j, rfl⟩ := Int.eq_ofNat_of_zero_le (show 0 ≤ h by omega)
        refine y_iconst C dX1_soonest_29 ?_
        refine z_istore (lv' := [(4, .int (zI 0)), (0, .ref x), (1, .int (zI (j : Int))), (2, .int (zI yard)), (3, .int (zI what))]) C dX1_soonest_30 (nlt rfl) rfl ?_
        refine z_aload_n C dX1_soonest_32 rfl 1 rfl ?_
        refine z_iload_n C dX1_soonest_33 rfl 2 rfl ?_
        refine z_iload_n C dX1_soonest_34 rfl 3 rfl ?_
        refine y_iconst C dX1_soonest_35 ?_
        refine z_i (ws' := fun u => ([(x, .inr (10, [.ref a0, .ref b0, .ref m0, .int (zI im), .ref tl, .ref le, .int (zI fw), .int (zI fh), .int (zI lo), .ref sh])), (a0, .inr (8, [.ref a1, .ref a2, .ref a3, .ref a4, .int (zI (n : Int)), .int (zI oa), .int (zI dy)])), (a1, AQ G 4 7 r), (a2, AI G 7 hm), (a3, AI G 7 at_), (a4, AI G 7 lg), (m0, .inr (8, [.ref m1, .ref m2, .ref m3, .ref m4, .int (zI (u.2.2.2.2.1 : Int)), .int (zI u.2.2.2.2.2.1), .int (zI u.2.2.2.2.2.2)])), (m1, AQ G 4 7 u.1), (m2, AI G 7 u.2.1), (m3, AI G 7 u.2.2.1), (m4, AI G 7 u.2.2.2.1)] ++ PL LP hk hf)) C (z_runV (q := 0) (As := [.int (zI (j : Int)), .int (zI yard), .int (zI 0)]) (rest := []) C (ct_X1_takesBehind (zl X) G x b0 m0 tl le sh im fw fh lo a0 a1 a2 a3 a4 m1 m2 m3 m4 r hm at_ lg n oa dy mr mhm mat mlg mn moa mdy LP hk hf kd fg j yard 0 (by first | assumption | omega) (by first | assumption | omega) (by first | assumption | omega) (by first | assumption | omega) (by first | assumption | omega) (by first | assumption | omega) (by first | assumption | omega)) (lw_V q605 q607 qs13 q58 q608) rfl rfl (sb_p [0, 1, 2, 3, 4, 5, 6, 7, 8, 9, 10] rfl rfl) (na := 3) (by decide +kernel) rfl (zrm rfl rfl (rfl) (rfl)) rfl (Nat.le_of_ble_eq_true rfl) dX1_soonest_36) (fun u => jn_p (Lr := []) [0, 1, 2, 3, 4, 5, 6, 7, 8, 9, 10] [] [0, 1, 2, 3, 4, 5, 6, 7, 8, 9, 10] rfl rfl rfl (by decide) rfl rfl) (fun r_36 u hp_36 => ?_)
        obtain ⟨mr9_36, mhm9_36, mat9_36, mlg9_36, mn9_36, moa9_36, mdy9_36⟩ := u
        have hp_36 : r_36 = zI (tkB kd fg hm at_ lg n oa yard 0 j) := hp_36
        subst hp_36
        refine z_istore (lv' := [(5, .int (zI (tkB kd fg hm at_ lg n oa yard 0 j))), (4, .int (zI 0)), (0, .ref x), (1, .int (zI (j : Int))), (2, .int (zI yard)), (3, .int (zI what))]) C dX1_soonest_39 (nlt rfl) rfl ?_
        refine y_iconst C dX1_soonest_41 ?_
        refine z_istore (lv' := [(6, .int (zI 1)), (5, .int (zI (tkB kd fg hm at_ lg n oa yard 0 j))), (4, .int (zI 0)), (0, .ref x), (1, .int (zI (j : Int))), (2, .int (zI yard)), (3, .int (zI what))]) C dX1_soonest_42 (nlt rfl) rfl ?_
        have L_44 : ∀ (tt : Nat) (i : Nat) (bst : Int) (lst : Int) (mr : Nat → Option Nat) (mhm : Nat → Int) (mat : Nat → Int) (mlg : Nat → Int) (mn : Nat) (moa : Int) (mdy : Int), (1 ≤ i ∧ i ≤ 31) → (minF (soonF kd fg hm at_ lg n oa j yard) i = (bst, lst)) → (0 ≤ bst ∧ bst ≤ 31 ∧ 0 ≤ lst ∧ lst ≤ 60) → 31 - i = tt → Z X (cX1_soonest, 8, yX1_soonest.cls, (some .int), { frames := 9, cells := 0, slots := 0, locals := 189 }, A) G 0 0 ([(x, .inr (10, [.ref a0, .ref b0, .ref m0, .int (zI im), .ref tl, .ref le, .int (zI fw), .int (zI fh), .int (zI lo), .ref sh])), (a0, .inr (8, [.ref a1, .ref a2, .ref a3, .ref a4, .int (zI (n : Int)), .int (zI oa), .int (zI dy)])), (a1, AQ G 4 7 r), (a2, AI G 7 hm), (a3, AI G 7 at_), (a4, AI G 7 lg), (m0, .inr (8, [.ref m1, .ref m2, .ref m3, .ref m4, .int (zI (mn : Int)), .int (zI moa), .int (zI mdy)])), (m1, AQ G 4 7 mr), (m2, AI G 7 mhm), (m3, AI G 7 mat), (m4, AI G 7 mlg)] ++ PL LP hk hf) 44 [(6, .int (zI (i : Int))), (5, .int (zI lst)), (4, .int (zI bst)), (0, .ref x), (1, .int (zI (j : Int))), (2, .int (zI yard)), (3, .int (zI what))] [] := by
          intro tt
          induction tt using Nat.strongRecOn with
          | _ tt ih_44 =>
            intro i bst lst mr mhm mat mlg mn moa mdy hi hmf hbl ht_44
            refine z_iload C dX1_soonest_44 0 rfl ?_
            refine y_bipush C dX1_soonest_46 (by decide) ?_
            refine y_icmp_gt (tgt := 88) C (by omega) (by omega) dX1_soonest_48 (by decide) (fun c_48 => ?_) (fun c_48 => ?_)
            · skip
              rw [show i = 31 by omega] at hmf
              refine z_iload_n C dX1_soonest_88 rfl 6 rfl ?_
              refine y_if_ne (tgt := 97) C (by omega) dX1_soonest_89 (by decide) (fun c_89 => ?_) (fun c_89 => ?_)
              · skip
                refine z_iload C dX1_soonest_97 1 rfl ?_
                exact z_iret C hA hQ rfl (Nat.le_of_ble_eq_true rfl) (Nat.le_of_ble_eq_true rfl) ((mr, mhm, mat, mlg, mn, moa, mdy)) (congrArg zI (by unfold oSoonest; rw [if_pos (by omega)]; simp only [zTN]; rw [hmf]; first | rw [if_pos (by omega)] | rw [if_neg (by omega)])) (sb_p [0, 1, 2, 3, 4, 5, 6, 7, 8, 9, 10] rfl rfl) dX1_soonest_99
              · skip
                refine z_iload C dX1_soonest_92 2 rfl ?_
                refine z_goto (tgt := 99) C dX1_soonest_94 (by decide) ?_
                exact z_iret C hA hQ rfl (Nat.le_of_ble_eq_true rfl) (Nat.le_of_ble_eq_true rfl) ((mr, mhm, mat, mlg, mn, moa, mdy)) (congrArg zI (by unfold oSoonest; rw [if_pos (by omega)]; simp only [zTN]; rw [hmf]; first | rw [if_pos (by omega)] | rw [if_neg (by omega)])) (sb_p [0, 1, 2, 3, 4, 5, 6, 7, 8, 9, 10] rfl rfl) dX1_soonest_99
            · skip
              refine z_iload C dX1_soonest_51 0 rfl ?_
              refine z_aload_n C dX1_soonest_53 rfl 3 rfl ?_
              refine z_iload_n C dX1_soonest_54 rfl 4 rfl ?_
              refine z_iload_n C dX1_soonest_55 rfl 5 rfl ?_
              refine z_iload C dX1_soonest_56 0 rfl ?_
              refine z_i (ws' := fun u => ([(x, .inr (10, [.ref a0, .ref b0, .ref m0, .int (zI im), .ref tl, .ref le, .int (zI fw), .int (zI fh), .int (zI lo), .ref sh])), (a0, .inr (8, [.ref a1, .ref a2, .ref a3, .ref a4, .int (zI (n : Int)), .int (zI oa), .int (zI dy)])), (a1, AQ G 4 7 r), (a2, AI G 7 hm), (a3, AI G 7 at_), (a4, AI G 7 lg), (m0, .inr (8, [.ref m1, .ref m2, .ref m3, .ref m4, .int (zI (u.2.2.2.2.1 : Int)), .int (zI u.2.2.2.2.2.1), .int (zI u.2.2.2.2.2.2)])), (m1, AQ G 4 7 u.1), (m2, AI G 7 u.2.1), (m3, AI G 7 u.2.2.1), (m4, AI G 7 u.2.2.2.1)] ++ PL LP hk hf)) C (z_runV (q := 0) (As := [.int (zI (j : Int)), .int (zI yard), .int (zI (i : Int))]) (rest := [.int (zI (i : Int))]) C (ct_X1_takesBehind (zl X) G x b0 m0 tl le sh im fw fh lo a0 a1 a2 a3 a4 m1 m2 m3 m4 r hm at_ lg n oa dy mr mhm mat mlg mn moa mdy LP hk hf kd fg j yard i (by first | assumption | omega) (by first | assumption | omega) (by first | assumption | omega) (by first | assumption | omega) (by first | assumption | omega) (by first | assumption | omega) (by first | assumption | omega)) (lw_V q605 q607 qs13 q58 q608) rfl rfl (sb_p [0, 1, 2, 3, 4, 5, 6, 7, 8, 9, 10] rfl rfl) (na := 3) (by decide +kernel) rfl (zrm rfl rfl (rfl) (rfl)) rfl (Nat.le_of_ble_eq_true rfl) dX1_soonest_58) (fun u => jn_p (Lr := []) [0, 1, 2, 3, 4, 5, 6, 7, 8, 9, 10] [] [0, 1, 2, 3, 4, 5, 6, 7, 8, 9, 10] rfl rfl rfl (by decide) rfl rfl) (fun r_58 u hp_58 => ?_)
              obtain ⟨mr9_58, mhm9_58, mat9_58, mlg9_58, mn9_58, moa9_58, mdy9_58⟩ := u
              have hp_58 : r_58 = zI (tkB kd fg hm at_ lg n oa yard i j) := hp_58
              subst hp_58
              have htk := tkB_r kd fg hm at_ lg n oa yard i j
              refine y_iadd C dX1_soonest_61 ?_
              refine z_istore (lv' := [(7, .int (zI ((i : Int) + (tkB kd fg hm at_ lg n oa yard i j)))), (6, .int (zI (i : Int))), (5, .int (zI lst)), (4, .int (zI bst)), (0, .ref x), (1, .int (zI (j : Int))), (2, .int (zI yard)), (3, .int (zI what))]) C dX1_soonest_62 (nlt rfl) rfl ?_
              refine z_iload C dX1_soonest_64 0 rfl ?_
              refine z_iload C dX1_soonest_66 2 rfl ?_
              refine y_icmp_lt (tgt := 74) C (by omega) (by omega) dX1_soonest_68 (by decide) (fun c_68 => ?_) (fun c_68 => ?_)
              · skip
                refine z_iload C dX1_soonest_74 1 rfl ?_
                refine z_istore (lv' := [(4, .int (zI (i : Int))), (7, .int (zI ((i : Int) + (tkB kd fg hm at_ lg n oa yard i j)))), (6, .int (zI (i : Int))), (5, .int (zI lst)), (0, .ref x), (1, .int (zI (j : Int))), (2, .int (zI yard)), (3, .int (zI what))]) C dX1_soonest_76 (nlt rfl) rfl ?_
                refine z_iload C dX1_soonest_78 1 rfl ?_
                refine z_istore (lv' := [(5, .int (zI ((i : Int) + (tkB kd fg hm at_ lg n oa yard i j)))), (4, .int (zI (i : Int))), (7, .int (zI ((i : Int) + (tkB kd fg hm at_ lg n oa yard i j)))), (6, .int (zI (i : Int))), (0, .ref x), (1, .int (zI (j : Int))), (2, .int (zI yard)), (3, .int (zI what))]) C dX1_soonest_80 (nlt rfl) rfl ?_
                refine y_iinc (lv' := [(6, .int (zI ((i : Int) + 1))), (5, .int (zI ((i : Int) + (tkB kd fg hm at_ lg n oa yard i j)))), (4, .int (zI (i : Int))), (7, .int (zI ((i : Int) + (tkB kd fg hm at_ lg n oa yard i j)))), (0, .ref x), (1, .int (zI (j : Int))), (2, .int (zI yard)), (3, .int (zI what))]) C dX1_soonest_82 (q := 3) rfl (nlt rfl) rfl ?_
                refine z_goto (tgt := 44) C dX1_soonest_85 (by decide) ?_
                refine z_lv (lv' := [(6, .int (zI ((i : Int) + 1))), (5, .int (zI ((i : Int) + (tkB kd fg hm at_ lg n oa yard i j)))), (4, .int (zI (i : Int))), (0, .ref x), (1, .int (zI (j : Int))), (2, .int (zI yard)), (3, .int (zI what))]) [0, 1, 2, 4, 5, 6, 7] rfl ?_
                exact ih_44 _ (by omega) (i + 1) (i : Int) ((i : Int) + (tkB kd fg hm at_ lg n oa yard i j)) mr9_58 mhm9_58 mat9_58 mlg9_58 mn9_58 moa9_58 mdy9_58 (by first | assumption | omega) (by first | exact minF_t' hmf (by show _ ∨ (i : Int) + _ < _; omega) | exact minF_f' hmf (by show ¬ (_ ∨ (i : Int) + _ < _); omega)) (by first | assumption | omega) rfl
              · skip
                refine z_goto (tgt := 82) C dX1_soonest_71 (by decide) ?_
                refine y_iinc (lv' := [(6, .int (zI ((i : Int) + 1))), (7, .int (zI ((i : Int) + (tkB kd fg hm at_ lg n oa yard i j)))), (5, .int (zI lst)), (4, .int (zI bst)), (0, .ref x), (1, .int (zI (j : Int))), (2, .int (zI yard)), (3, .int (zI what))]) C dX1_soonest_82 (q := 1) rfl (nlt rfl) rfl ?_
                refine z_goto (tgt := 44) C dX1_soonest_85 (by decide) ?_
                refine z_lv (lv' := [(6, .int (zI ((i : Int) + 1))), (5, .int (zI lst)), (4, .int (zI bst)), (0, .ref x), (1, .int (zI (j : Int))), (2, .int (zI yard)), (3, .int (zI what))]) [0, 2, 3, 4, 5, 6, 7] rfl ?_
                exact ih_44 _ (by omega) (i + 1) bst lst mr9_58 mhm9_58 mat9_58 mlg9_58 mn9_58 moa9_58 mdy9_58 (by first | assumption | omega) (by first | exact minF_t' hmf (by show _ ∨ (i : Int) + _ < _; omega) | exact minF_f' hmf (by show ¬ (_ ∨ (i : Int) + _ < _); omega)) (by first | assumption | omega) rfl
        exact L_44 _ 1 0 (tkB kd fg hm at_ lg n oa yard 0 j) mr9_36 mhm9_36 mat9_36 mlg9_36 mn9_36 moa9_36 mdy9_36 (by first | assumption | omega) (minF_t' (b := -4) (l := -4) rfl (by omega) |>.trans (by show (((0 : Nat) : Int), ((0 : Nat) : Int) + _) = _; rw [show ((0 : Nat) : Int) + tkB kd fg hm at_ lg n oa yard 0 j = tkB kd fg hm at_ lg n oa yard 0 j from Int.zero_add _]; rfl)) (by have := tkB_r kd fg hm at_ lg n oa yard 0 j; omega) rfl
      · skip
        refine y_iconst C dX1_soonest_27 ?_
        exact z_iret C hA hQ rfl (Nat.le_of_ble_eq_true rfl) (Nat.le_of_ble_eq_true rfl) ((mr, mhm, mat, mlg, mn, moa, mdy)) (congrArg zI (by unfold oSoonest; (try simp only [zTN]); (repeat (first | rw [if_pos (by omega)] | rw [if_neg (by omega)])); first | done | rfl)) (sb_p [0, 1, 2, 3, 4, 5, 6, 7, 8, 9, 10] rfl rfl) dX1_soonest_28

def oRace (kd : Nat → Nat) (fg : Nat → Int) (hm : Nat → Int) (at_ : Nat → Int) (lg : Nat → Int) (n : Nat) (oa : Int) (h : Int) (k : Int) (yard : Int) : Int := if (0 ≤ h ∧ h ≤ (n : Int) - 1) ∧ (0 ≤ k ∧ k ≤ (n : Int) - 1) ∧ ¬ h = k ∧ (0 ≤ yard ∧ yard ≤ 20) then (if tkB kd fg hm at_ lg n oa yard 0 h.toNat < tkB kd fg hm at_ lg n oa yard 0 k.toNat then h else if tkB kd fg hm at_ lg n oa yard 0 k.toNat < tkB kd fg hm at_ lg n oa yard 0 h.toNat then k else -4) else -1
set_option maxHeartbeats 4000000 in
theorem ct_X1_race (l : Launch) (G : ZG) (x : Nat) (b0 : Nat) (m0 : Nat) (tl : Nat) (le : Nat) (sh : Nat) (im : Int) (fw : Int) (fh : Int) (lo : Int) (a0 : Nat) (a1 : Nat) (a2 : Nat) (a3 : Nat) (a4 : Nat) (m1 : Nat) (m2 : Nat) (m3 : Nat) (m4 : Nat) (r : Nat → Option Nat) (hm : Nat → Int) (at_ : Nat → Int) (lg : Nat → Int) (n : Nat) (oa : Int) (dy : Int) (mr : Nat → Option Nat) (mhm : Nat → Int) (mat : Nat → Int) (mlg : Nat → Int) (mn : Nat) (moa : Int) (mdy : Int) (LP : List Nat) (hk : Nat → Nat) (hf : Nat → Int) (kd : Nat → Nat) (fg : Nat → Int) (h : Int) (k : Int) (yard : Int) (hH : HR LP hk hf r n kd fg) (hL : LK n kd fg hm at_ lg oa) (hK : PK LP hk hf) (hV : RV LP r) (rh : -2147483648 ≤ h ∧ h ≤ 2147483647) (rk : -2147483648 ≤ k ∧ k ≤ 2147483647) (ryard : -2147483648 ≤ yard ∧ yard ≤ 2147483647) : CT l yX1_race cX1_race 6 (some .int) { frames := 9, cells := 0, slots := 0, locals := 189 } G [.ref x, .int (zI h), .int (zI k), .int (zI yard)] ([(x, .inr (10, [.ref a0, .ref b0, .ref m0, .int (zI im), .ref tl, .ref le, .int (zI fw), .int (zI fh), .int (zI lo), .ref sh])), (a0, .inr (8, [.ref a1, .ref a2, .ref a3, .ref a4, .int (zI (n : Int)), .int (zI oa), .int (zI dy)])), (a1, AQ G 4 7 r), (a2, AI G 7 hm), (a3, AI G 7 at_), (a4, AI G 7 lg), (m0, .inr (8, [.ref m1, .ref m2, .ref m3, .ref m4, .int (zI (mn : Int)), .int (zI moa), .int (zI mdy)])), (m1, AQ G 4 7 mr), (m2, AI G 7 mhm), (m3, AI G 7 mat), (m4, AI G 7 mlg)] ++ PL LP hk hf) (Qi G ([(x, .inr (10, [.ref a0, .ref b0, .ref m0, .int (zI im), .ref tl, .ref le, .int (zI fw), .int (zI fh), .int (zI lo), .ref sh])), (a0, .inr (8, [.ref a1, .ref a2, .ref a3, .ref a4, .int (zI (n : Int)), .int (zI oa), .int (zI dy)])), (a1, AQ G 4 7 r), (a2, AI G 7 hm), (a3, AI G 7 at_), (a4, AI G 7 lg), (m0, .inr (8, [.ref m1, .ref m2, .ref m3, .ref m4, .int (zI (mn : Int)), .int (zI moa), .int (zI mdy)])), (m1, AQ G 4 7 mr), (m2, AI G 7 mhm), (m3, AI G 7 mat), (m4, AI G 7 mlg)] ++ PL LP hk hf) (fun (r : Int32) (u : (Nat → Option Nat) × (Nat → Int) × (Nat → Int) × (Nat → Int) × Nat × Int × Int) => r = zI (oRace kd fg hm at_ lg n oa h k yard)) (fun u => ([(x, .inr (10, [.ref a0, .ref b0, .ref m0, .int (zI im), .ref tl, .ref le, .int (zI fw), .int (zI fh), .int (zI lo), .ref sh])), (a0, .inr (8, [.ref a1, .ref a2, .ref a3, .ref a4, .int (zI (n : Int)), .int (zI oa), .int (zI dy)])), (a1, AQ G 4 7 r), (a2, AI G 7 hm), (a3, AI G 7 at_), (a4, AI G 7 lg), (m0, .inr (8, [.ref m1, .ref m2, .ref m3, .ref m4, .int (zI (u.2.2.2.2.1 : Int)), .int (zI u.2.2.2.2.2.1), .int (zI u.2.2.2.2.2.2)])), (m1, AQ G 4 7 u.1), (m2, AI G 7 u.2.1), (m3, AI G 7 u.2.2.1), (m4, AI G 7 u.2.2.2.1)] ++ PL LP hk hf))) := by
  refine z_met (by decide) (Nat.le_of_ble_eq_true rfl) ?_
  intro X A hl0 hA C hQ hin
  subst hl0
  obtain ⟨hn7, hoa, hLj⟩ := id hL
  show Z X _ G 0 0 _ 0 [(0, .ref x), (1, .int (zI h)), (2, .int (zI k)), (3, .int (zI yard))] []
  refine z_aload_n C dX1_race_0 rfl 0 rfl ?_
  refine z_get (q := 0) (kf := 0) (v := .ref a0) C rfl rfl in_X1 (by decide) q880 (Or.inl rfl) rfl dX1_race_1 ?_
  refine z_iload_n C dX1_race_4 rfl 1 rfl ?_
  refine z_i C (z_runV (q := 1) (As := [.int (zI h)]) (rest := []) C (ct_X2_isHorse (zl X) G a0 a1 a2 a3 a4 n oa dy h (by first | assumption | omega) (by first | assumption | omega)) (lw_V q388 q389 q390 q59 q391) rfl rfl (sb_e [1] rfl rfl) (na := 1) (by decide +kernel) rfl (zrm rfl rfl (rfl) (rfl)) rfl (Nat.le_of_ble_eq_true rfl) dX1_race_5) (fun u => jn_ro (sb_e [1] rfl rfl)) (fun r_5 u hp_5 => ?_)
  have hp_5 : r_5 = zI (bI (0 ≤ h ∧ h ≤ (n : Int) - 1)) := hp_5
  subst hp_5
  refine y_beq (tgt := 34) C dX1_race_8 (by decide) (fun c_8 => ?_) (fun c_8 => ?_)
  · skip
    refine y_iconst C dX1_race_34 ?_
    exact z_iret C hA hQ rfl (Nat.le_of_ble_eq_true rfl) (Nat.le_of_ble_eq_true rfl) ((mr, mhm, mat, mlg, mn, moa, mdy)) (congrArg zI (by unfold oRace; (try simp only [zTN]); (repeat (first | rw [if_pos (by omega)] | rw [if_neg (by omega)])); first | done | rfl)) (sb_p [0, 1, 2, 3, 4, 5, 6, 7, 8, 9, 10] rfl rfl) dX1_race_35
  · skip
    refine z_aload_n C dX1_race_11 rfl 0 rfl ?_
    refine z_get (q := 0) (kf := 0) (v := .ref a0) C rfl rfl in_X1 (by decide) q880 (Or.inl rfl) rfl dX1_race_12 ?_
    refine z_iload_n C dX1_race_15 rfl 2 rfl ?_
    refine z_i C (z_runV (q := 1) (As := [.int (zI k)]) (rest := []) C (ct_X2_isHorse (zl X) G a0 a1 a2 a3 a4 n oa dy k (by first | assumption | omega) (by first | assumption | omega)) (lw_V q388 q389 q390 q59 q391) rfl rfl (sb_e [1] rfl rfl) (na := 1) (by decide +kernel) rfl (zrm rfl rfl (rfl) (rfl)) rfl (Nat.le_of_ble_eq_true rfl) dX1_race_16) (fun u => jn_ro (sb_e [1] rfl rfl)) (fun r_16 u hp_16 => ?_)
    have hp_16 : r_16 = zI (bI (0 ≤ k ∧ k ≤ (n : Int) - 1)) := hp_16
    subst hp_16
    refine y_beq (tgt := 34) C dX1_race_19 (by decide) (fun c_19 => ?_) (fun c_19 => ?_)
    · skip
      refine y_iconst C dX1_race_34 ?_
      exact z_iret C hA hQ rfl (Nat.le_of_ble_eq_true rfl) (Nat.le_of_ble_eq_true rfl) ((mr, mhm, mat, mlg, mn, moa, mdy)) (congrArg zI (by unfold oRace; (try simp only [zTN]); (repeat (first | rw [if_pos (by omega)] | rw [if_neg (by omega)])); first | done | rfl)) (sb_p [0, 1, 2, 3, 4, 5, 6, 7, 8, 9, 10] rfl rfl) dX1_race_35
    · skip
      refine z_iload_n C dX1_race_22 rfl 1 rfl ?_
      refine z_iload_n C dX1_race_23 rfl 2 rfl ?_
      refine y_icmp_eq (tgt := 34) C (by omega) (by omega) dX1_race_24 (by decide) (fun c_24 => ?_) (fun c_24 => ?_)
      · skip
        refine y_iconst C dX1_race_34 ?_
        exact z_iret C hA hQ rfl (Nat.le_of_ble_eq_true rfl) (Nat.le_of_ble_eq_true rfl) ((mr, mhm, mat, mlg, mn, moa, mdy)) (congrArg zI (by unfold oRace; (try simp only [zTN]); (repeat (first | rw [if_pos (by omega)] | rw [if_neg (by omega)])); first | done | rfl)) (sb_p [0, 1, 2, 3, 4, 5, 6, 7, 8, 9, 10] rfl rfl) dX1_race_35
      · skip
        refine z_iload_n C dX1_race_27 rfl 3 rfl ?_
        refine z_i C (z_runS (As := [.int (zI yard)]) (rest := []) C (ct_X1_isYard (zl X) G yard (by first | assumption | omega)) (lw_S q303 q304 q58 q305) (sb_e [] rfl rfl) (na := 1) (by decide +kernel) rfl (zrm rfl rfl (rfl) (rfl)) rfl (Nat.le_of_ble_eq_true rfl) dX1_race_28) (fun u => jn_ro (sb_e [] rfl rfl)) (fun r_28 u hp_28 => ?_)
        have hp_28 : r_28 = zI (bI (0 ≤ yard ∧ yard ≤ 20)) := hp_28
        subst hp_28
        refine y_bne (tgt := 36) C dX1_race_31 (by decide) (fun c_31 => ?_) (fun c_31 => ?_)
        · skip
          have hne : ¬ h = k := by assumption
          obtain ⟨j, rfl⟩ := Int.eq_ofNat_of_zero_le (show 0 ≤ h by omega)
          obtain ⟨k0, rfl⟩ := Int.eq_ofNat_of_zero_le (show 0 ≤ k by omega)
          refine z_aload_n C dX1_race_36 rfl 0 rfl ?_
          refine z_iload_n C dX1_race_37 rfl 1 rfl ?_
          refine z_iload_n C dX1_race_38 rfl 3 rfl ?_
          refine y_iconst C dX1_race_39 ?_
          refine z_i (ws' := fun u => ([(x, .inr (10, [.ref a0, .ref b0, .ref m0, .int (zI im), .ref tl, .ref le, .int (zI fw), .int (zI fh), .int (zI lo), .ref sh])), (a0, .inr (8, [.ref a1, .ref a2, .ref a3, .ref a4, .int (zI (n : Int)), .int (zI oa), .int (zI dy)])), (a1, AQ G 4 7 r), (a2, AI G 7 hm), (a3, AI G 7 at_), (a4, AI G 7 lg), (m0, .inr (8, [.ref m1, .ref m2, .ref m3, .ref m4, .int (zI (u.2.2.2.2.1 : Int)), .int (zI u.2.2.2.2.2.1), .int (zI u.2.2.2.2.2.2)])), (m1, AQ G 4 7 u.1), (m2, AI G 7 u.2.1), (m3, AI G 7 u.2.2.1), (m4, AI G 7 u.2.2.2.1)] ++ PL LP hk hf)) C (z_runV (q := 0) (As := [.int (zI (j : Int)), .int (zI yard), .int (zI 0)]) (rest := []) C (ct_X1_takesBehind (zl X) G x b0 m0 tl le sh im fw fh lo a0 a1 a2 a3 a4 m1 m2 m3 m4 r hm at_ lg n oa dy mr mhm mat mlg mn moa mdy LP hk hf kd fg j yard 0 (by first | assumption | omega) (by first | assumption | omega) (by first | assumption | omega) (by first | assumption | omega) (by omega) (by first | assumption | omega) (by first | assumption | omega)) (lw_V q605 q607 qs13 q58 q608) rfl rfl (sb_p [0, 1, 2, 3, 4, 5, 6, 7, 8, 9, 10] rfl rfl) (na := 3) (by decide +kernel) rfl (zrm rfl rfl (rfl) (rfl)) rfl (Nat.le_of_ble_eq_true rfl) dX1_race_40) (fun u => jn_p (Lr := []) [0, 1, 2, 3, 4, 5, 6, 7, 8, 9, 10] [] [0, 1, 2, 3, 4, 5, 6, 7, 8, 9, 10] rfl rfl rfl (by decide) rfl rfl) (fun r_40 u hp_40 => ?_)
          obtain ⟨mr9_40, mhm9_40, mat9_40, mlg9_40, mn9_40, moa9_40, mdy9_40⟩ := u
          have hp_40 : r_40 = zI (tkB kd fg hm at_ lg n oa yard 0 j) := hp_40
          subst hp_40
          have htk := tkB_r kd fg hm at_ lg n oa yard 0 j
          refine z_istore (lv' := [(4, .int (zI (tkB kd fg hm at_ lg n oa yard 0 j))), (0, .ref x), (1, .int (zI (j : Int))), (2, .int (zI (k0 : Int))), (3, .int (zI yard))]) C dX1_race_43 (nlt rfl) rfl ?_
          refine z_aload_n C dX1_race_45 rfl 1 rfl ?_
          refine z_iload_n C dX1_race_46 rfl 3 rfl ?_
          refine z_iload_n C dX1_race_47 rfl 4 rfl ?_
          refine y_iconst C dX1_race_48 ?_
          refine z_i (ws' := fun u => ([(x, .inr (10, [.ref a0, .ref b0, .ref m0, .int (zI im), .ref tl, .ref le, .int (zI fw), .int (zI fh), .int (zI lo), .ref sh])), (a0, .inr (8, [.ref a1, .ref a2, .ref a3, .ref a4, .int (zI (n : Int)), .int (zI oa), .int (zI dy)])), (a1, AQ G 4 7 r), (a2, AI G 7 hm), (a3, AI G 7 at_), (a4, AI G 7 lg), (m0, .inr (8, [.ref m1, .ref m2, .ref m3, .ref m4, .int (zI (u.2.2.2.2.1 : Int)), .int (zI u.2.2.2.2.2.1), .int (zI u.2.2.2.2.2.2)])), (m1, AQ G 4 7 u.1), (m2, AI G 7 u.2.1), (m3, AI G 7 u.2.2.1), (m4, AI G 7 u.2.2.2.1)] ++ PL LP hk hf)) C (z_runV (q := 0) (As := [.int (zI (k0 : Int)), .int (zI yard), .int (zI 0)]) (rest := []) C (ct_X1_takesBehind (zl X) G x b0 m0 tl le sh im fw fh lo a0 a1 a2 a3 a4 m1 m2 m3 m4 r hm at_ lg n oa dy mr9_40 mhm9_40 mat9_40 mlg9_40 mn9_40 moa9_40 mdy9_40 LP hk hf kd fg k0 yard 0 (by first | assumption | omega) (by first | assumption | omega) (by first | assumption | omega) (by first | assumption | omega) (by omega) (by first | assumption | omega) (by first | assumption | omega)) (lw_V q605 q607 qs13 q58 q608) rfl rfl (sb_p [0, 1, 2, 3, 4, 5, 6, 7, 8, 9, 10] rfl rfl) (na := 3) (by decide +kernel) rfl (zrm rfl rfl (rfl) (rfl)) rfl (Nat.le_of_ble_eq_true rfl) dX1_race_49) (fun u => jn_p (Lr := []) [0, 1, 2, 3, 4, 5, 6, 7, 8, 9, 10] [] [0, 1, 2, 3, 4, 5, 6, 7, 8, 9, 10] rfl rfl rfl (by decide) rfl rfl) (fun r_49 u hp_49 => ?_)
          obtain ⟨mr9_49, mhm9_49, mat9_49, mlg9_49, mn9_49, moa9_49, mdy9_49⟩ := u
          have hp_49 : r_49 = zI (tkB kd fg hm at_ lg n oa yard 0 k0) := hp_49
          subst hp_49
          have htk2 := tkB_r kd fg hm at_ lg n oa yard 0 k0
          refine z_istore (lv' := [(5, .int (zI (tkB kd fg hm at_ lg n oa yard 0 k0))), (4, .int (zI (tkB kd fg hm at_ lg n oa yard 0 j))), (0, .ref x), (1, .int (zI (j : Int))), (2, .int (zI (k0 : Int))), (3, .int (zI yard))]) C dX1_race_52 (nlt rfl) rfl ?_
          refine z_iload C dX1_race_54 1 rfl ?_
          refine z_iload C dX1_race_56 0 rfl ?_
          refine y_icmp_ge (tgt := 65) C (by omega) (by omega) dX1_race_58 (by decide) (fun c_58 => ?_) (fun c_58 => ?_)
          · skip
            refine z_iload C dX1_race_65 0 rfl ?_
            refine z_iload C dX1_race_67 1 rfl ?_
            refine y_icmp_ge (tgt := 76) C (by omega) (by omega) dX1_race_69 (by decide) (fun c_69 => ?_) (fun c_69 => ?_)
            · skip
              refine y_bipush C dX1_race_76 (by decide) ?_
              exact z_iret C hA hQ rfl (Nat.le_of_ble_eq_true rfl) (Nat.le_of_ble_eq_true rfl) ((mr9_49, mhm9_49, mat9_49, mlg9_49, mn9_49, moa9_49, mdy9_49)) (congrArg zI (by unfold oRace; (try simp only [zTN]); (repeat (first | rw [if_pos (by omega)] | rw [if_neg (by omega)])); first | done | rfl)) (sb_p [0, 1, 2, 3, 4, 5, 6, 7, 8, 9, 10] rfl rfl) dX1_race_78
            · skip
              refine z_iload_n C dX1_race_72 rfl 4 rfl ?_
              refine z_goto (tgt := 78) C dX1_race_73 (by decide) ?_
              exact z_iret C hA hQ rfl (Nat.le_of_ble_eq_true rfl) (Nat.le_of_ble_eq_true rfl) ((mr9_49, mhm9_49, mat9_49, mlg9_49, mn9_49, moa9_49, mdy9_49)) (congrArg zI (by unfold oRace; (try simp only [zTN]); (repeat (first | rw [if_pos (by omega)] | rw [if_neg (by omega)])); first | done | rfl)) (sb_p [0, 1, 2, 3, 4, 5, 6, 7, 8, 9, 10] rfl rfl) dX1_race_78
          · skip
            refine z_iload_n C dX1_race_61 rfl 3 rfl ?_
            refine z_goto (tgt := 78) C dX1_race_62 (by decide) ?_
            exact z_iret C hA hQ rfl (Nat.le_of_ble_eq_true rfl) (Nat.le_of_ble_eq_true rfl) ((mr9_49, mhm9_49, mat9_49, mlg9_49, mn9_49, moa9_49, mdy9_49)) (congrArg zI (by unfold oRace; (try simp only [zTN]); (repeat (first | rw [if_pos (by omega)] | rw [if_neg (by omega)])); first | done | rfl)) (sb_p [0, 1, 2, 3, 4, 5, 6, 7, 8, 9, 10] rfl rfl) dX1_race_78
        · skip
          refine y_iconst C dX1_race_34 ?_
          exact z_iret C hA hQ rfl (Nat.le_of_ble_eq_true rfl) (Nat.le_of_ble_eq_true rfl) ((mr, mhm, mat, mlg, mn, moa, mdy)) (congrArg zI (by unfold oRace; (try simp only [zTN]); (repeat (first | rw [if_pos (by omega)] | rw [if_neg (by omega)])); first | done | rfl)) (sb_p [0, 1, 2, 3, 4, 5, 6, 7, 8, 9, 10] rfl rfl) dX1_race_35

def walkF (kd : Nat → Nat) (fg hm at_ lg : Nat → Int) (n : Nat) (oa : Int) (j : Nat) (yard : Int) (t : Nat) (y : Nat) : Int := ((rdN kd fg hm oa n j yard (va_up at_ j (y : Int)) (goL kd fg hm (va_up at_ j (y : Int)) oa n t lg) : Nat) : Int)
theorem walkF_r (kd : Nat → Nat) (fg hm at_ lg : Nat → Int) (n : Nat) (oa : Int) (j : Nat) (yard : Int) (t : Nat) (y : Nat) : 0 ≤ walkF kd fg hm at_ lg n oa j yard t y ∧ walkF kd fg hm at_ lg n oa j yard t y ≤ 20 := by
  have := rdN_le kd fg hm oa n j yard (va_up at_ j (y : Int)) (goL kd fg hm (va_up at_ j (y : Int)) oa n t lg)
  unfold walkF; omega
def oWalkAhead (kd : Nat → Nat) (fg : Nat → Int) (hm : Nat → Int) (at_ : Nat → Int) (lg : Nat → Int) (n : Nat) (oa : Int) (h : Int) (yard : Int) (t : Int) (what : Int) : Int := if (0 ≤ h ∧ h ≤ (n : Int) - 1) ∧ (0 ≤ yard ∧ yard ≤ 20) ∧ (0 ≤ t ∧ t ≤ 30) ∧ (0 ≤ what ∧ what ≤ 1) then if what = 0 then (minF (walkF kd fg hm at_ lg n oa h.toNat yard t.toNat) 21).1 else (minF (walkF kd fg hm at_ lg n oa h.toNat yard t.toNat) 21).2 else -1
set_option maxHeartbeats 4000000 in
theorem ct_X1_walkAhead (l : Launch) (G : ZG) (x : Nat) (b0 : Nat) (m0 : Nat) (tl : Nat) (le : Nat) (sh : Nat) (im : Int) (fw : Int) (fh : Int) (lo : Int) (a0 : Nat) (a1 : Nat) (a2 : Nat) (a3 : Nat) (a4 : Nat) (m1 : Nat) (m2 : Nat) (m3 : Nat) (m4 : Nat) (r : Nat → Option Nat) (hm : Nat → Int) (at_ : Nat → Int) (lg : Nat → Int) (n : Nat) (oa : Int) (dy : Int) (mr : Nat → Option Nat) (mhm : Nat → Int) (mat : Nat → Int) (mlg : Nat → Int) (mn : Nat) (moa : Int) (mdy : Int) (LP : List Nat) (hk : Nat → Nat) (hf : Nat → Int) (kd : Nat → Nat) (fg : Nat → Int) (h : Int) (yard : Int) (t : Int) (what : Int) (hH : HR LP hk hf r n kd fg) (hL : LK n kd fg hm at_ lg oa) (hK : PK LP hk hf) (hV : RV LP r) (rh : -2147483648 ≤ h ∧ h ≤ 2147483647) (ryard : -2147483648 ≤ yard ∧ yard ≤ 2147483647) (rt : -2147483648 ≤ t ∧ t ≤ 2147483647) (rwhat : -2147483648 ≤ what ∧ what ≤ 2147483647) : CT l yX1_walkAhead cX1_walkAhead 9 (some .int) { frames := 8, cells := 0, slots := 0, locals := 166 } G [.ref x, .int (zI h), .int (zI yard), .int (zI t), .int (zI what)] ([(x, .inr (10, [.ref a0, .ref b0, .ref m0, .int (zI im), .ref tl, .ref le, .int (zI fw), .int (zI fh), .int (zI lo), .ref sh])), (a0, .inr (8, [.ref a1, .ref a2, .ref a3, .ref a4, .int (zI (n : Int)), .int (zI oa), .int (zI dy)])), (a1, AQ G 4 7 r), (a2, AI G 7 hm), (a3, AI G 7 at_), (a4, AI G 7 lg), (m0, .inr (8, [.ref m1, .ref m2, .ref m3, .ref m4, .int (zI (mn : Int)), .int (zI moa), .int (zI mdy)])), (m1, AQ G 4 7 mr), (m2, AI G 7 mhm), (m3, AI G 7 mat), (m4, AI G 7 mlg)] ++ PL LP hk hf) (Qi G ([(x, .inr (10, [.ref a0, .ref b0, .ref m0, .int (zI im), .ref tl, .ref le, .int (zI fw), .int (zI fh), .int (zI lo), .ref sh])), (a0, .inr (8, [.ref a1, .ref a2, .ref a3, .ref a4, .int (zI (n : Int)), .int (zI oa), .int (zI dy)])), (a1, AQ G 4 7 r), (a2, AI G 7 hm), (a3, AI G 7 at_), (a4, AI G 7 lg), (m0, .inr (8, [.ref m1, .ref m2, .ref m3, .ref m4, .int (zI (mn : Int)), .int (zI moa), .int (zI mdy)])), (m1, AQ G 4 7 mr), (m2, AI G 7 mhm), (m3, AI G 7 mat), (m4, AI G 7 mlg)] ++ PL LP hk hf) (fun (r : Int32) (u : (Nat → Option Nat) × (Nat → Int) × (Nat → Int) × (Nat → Int) × Nat × Int × Int) => r = zI (oWalkAhead kd fg hm at_ lg n oa h yard t what)) (fun u => ([(x, .inr (10, [.ref a0, .ref b0, .ref m0, .int (zI im), .ref tl, .ref le, .int (zI fw), .int (zI fh), .int (zI lo), .ref sh])), (a0, .inr (8, [.ref a1, .ref a2, .ref a3, .ref a4, .int (zI (n : Int)), .int (zI oa), .int (zI dy)])), (a1, AQ G 4 7 r), (a2, AI G 7 hm), (a3, AI G 7 at_), (a4, AI G 7 lg), (m0, .inr (8, [.ref m1, .ref m2, .ref m3, .ref m4, .int (zI (u.2.2.2.2.1 : Int)), .int (zI u.2.2.2.2.2.1), .int (zI u.2.2.2.2.2.2)])), (m1, AQ G 4 7 u.1), (m2, AI G 7 u.2.1), (m3, AI G 7 u.2.2.1), (m4, AI G 7 u.2.2.2.1)] ++ PL LP hk hf))) := by
  refine z_met (by decide) (Nat.le_of_ble_eq_true rfl) ?_
  intro X A hl0 hA C hQ hin
  subst hl0
  obtain ⟨hn7, hoa, hLj⟩ := id hL
  show Z X _ G 0 0 _ 0 [(0, .ref x), (1, .int (zI h)), (2, .int (zI yard)), (3, .int (zI t)), (4, .int (zI what))] []
  refine z_aload_n C dX1_walkAhead_0 rfl 0 rfl ?_
  refine z_get (q := 0) (kf := 0) (v := .ref a0) C rfl rfl in_X1 (by decide) q880 (Or.inl rfl) rfl dX1_walkAhead_1 ?_
  refine z_iload_n C dX1_walkAhead_4 rfl 1 rfl ?_
  refine z_i C (z_runV (q := 1) (As := [.int (zI h)]) (rest := []) C (ct_X2_isHorse (zl X) G a0 a1 a2 a3 a4 n oa dy h (by first | assumption | omega) (by first | assumption | omega)) (lw_V q388 q389 q390 q59 q391) rfl rfl (sb_e [1] rfl rfl) (na := 1) (by decide +kernel) rfl (zrm rfl rfl (rfl) (rfl)) rfl (Nat.le_of_ble_eq_true rfl) dX1_walkAhead_5) (fun u => jn_ro (sb_e [1] rfl rfl)) (fun r_5 u hp_5 => ?_)
  have hp_5 : r_5 = zI (bI (0 ≤ h ∧ h ≤ (n : Int) - 1)) := hp_5
  subst hp_5
  refine y_beq (tgt := 38) C dX1_walkAhead_8 (by decide) (fun c_8 => ?_) (fun c_8 => ?_)
  · skip
    refine y_iconst C dX1_walkAhead_38 ?_
    exact z_iret C hA hQ rfl (Nat.le_of_ble_eq_true rfl) (Nat.le_of_ble_eq_true rfl) ((mr, mhm, mat, mlg, mn, moa, mdy)) (congrArg zI (by unfold oWalkAhead; (try simp only [zTN]); (repeat (first | rw [if_pos (by omega)] | rw [if_neg (by omega)])); first | done | rfl)) (sb_p [0, 1, 2, 3, 4, 5, 6, 7, 8, 9, 10] rfl rfl) dX1_walkAhead_39
  · skip
    refine z_iload_n C dX1_walkAhead_11 rfl 2 rfl ?_
    refine z_i C (z_runS (As := [.int (zI yard)]) (rest := []) C (ct_X1_isYard (zl X) G yard (by first | assumption | omega)) (lw_S q303 q304 q58 q305) (sb_e [] rfl rfl) (na := 1) (by decide +kernel) rfl (zrm rfl rfl (rfl) (rfl)) rfl (Nat.le_of_ble_eq_true rfl) dX1_walkAhead_12) (fun u => jn_ro (sb_e [] rfl rfl)) (fun r_12 u hp_12 => ?_)
    have hp_12 : r_12 = zI (bI (0 ≤ yard ∧ yard ≤ 20)) := hp_12
    subst hp_12
    refine y_beq (tgt := 38) C dX1_walkAhead_15 (by decide) (fun c_15 => ?_) (fun c_15 => ?_)
    · skip
      refine y_iconst C dX1_walkAhead_38 ?_
      exact z_iret C hA hQ rfl (Nat.le_of_ble_eq_true rfl) (Nat.le_of_ble_eq_true rfl) ((mr, mhm, mat, mlg, mn, moa, mdy)) (congrArg zI (by unfold oWalkAhead; (try simp only [zTN]); (repeat (first | rw [if_pos (by omega)] | rw [if_neg (by omega)])); first | done | rfl)) (sb_p [0, 1, 2, 3, 4, 5, 6, 7, 8, 9, 10] rfl rfl) dX1_walkAhead_39
    · skip
      refine z_iload_n C dX1_walkAhead_18 rfl 3 rfl ?_
      refine y_iconst C dX1_walkAhead_19 ?_
      refine y_bipush C dX1_walkAhead_20 (by decide) ?_
      refine z_i C (z_runS (As := [.int (zI t), .int (zI 0), .int (zI 30)]) (rest := []) C (ct_X1_isIn (zl X) G t 0 30 (by first | assumption | omega) (by first | assumption | omega) (by first | assumption | omega)) (lw_S q189 q190 q58 q191) (sb_e [] rfl rfl) (na := 3) (by decide +kernel) rfl (zrm rfl rfl (rfl) (rfl)) rfl (Nat.le_of_ble_eq_true rfl) dX1_walkAhead_22) (fun u => jn_ro (sb_e [] rfl rfl)) (fun r_22 u hp_22 => ?_)
      have hp_22 : r_22 = zI (bI (0 ≤ t ∧ t ≤ 30)) := hp_22
      subst hp_22
      refine y_beq (tgt := 38) C dX1_walkAhead_25 (by decide) (fun c_25 => ?_) (fun c_25 => ?_)
      · skip
        refine y_iconst C dX1_walkAhead_38 ?_
        exact z_iret C hA hQ rfl (Nat.le_of_ble_eq_true rfl) (Nat.le_of_ble_eq_true rfl) ((mr, mhm, mat, mlg, mn, moa, mdy)) (congrArg zI (by unfold oWalkAhead; (try simp only [zTN]); (repeat (first | rw [if_pos (by omega)] | rw [if_neg (by omega)])); first | done | rfl)) (sb_p [0, 1, 2, 3, 4, 5, 6, 7, 8, 9, 10] rfl rfl) dX1_walkAhead_39
      · skip
        refine z_iload C dX1_walkAhead_28 4 rfl ?_
        refine y_iconst C dX1_walkAhead_30 ?_
        refine y_iconst C dX1_walkAhead_31 ?_
        refine z_i C (z_runS (As := [.int (zI what), .int (zI 0), .int (zI 1)]) (rest := []) C (ct_X1_isIn (zl X) G what 0 1 (by first | assumption | omega) (by first | assumption | omega) (by first | assumption | omega)) (lw_S q189 q190 q58 q191) (sb_e [] rfl rfl) (na := 3) (by decide +kernel) rfl (zrm rfl rfl (rfl) (rfl)) rfl (Nat.le_of_ble_eq_true rfl) dX1_walkAhead_32) (fun u => jn_ro (sb_e [] rfl rfl)) (fun r_32 u hp_32 => ?_)
        have hp_32 : r_32 = zI (bI (0 ≤ what ∧ what ≤ 1)) := hp_32
        subst hp_32
        refine y_bne (tgt := 40) C dX1_walkAhead_35 (by decide) (fun c_35 => ?_) (fun c_35 => ?_)
        · skip
          obtain ⟨j, rfl⟩ := Int.eq_ofNat_of_zero_le (show 0 ≤ h by omega)
          obtain ⟨t0, rfl⟩ := Int.eq_ofNat_of_zero_le (show 0 ≤ t by omega)
          refine y_bipush C dX1_walkAhead_40 (by decide) ?_
          refine z_istore (lv' := [(5, .int (zI (-4))), (0, .ref x), (1, .int (zI (j : Int))), (2, .int (zI yard)), (3, .int (zI (t0 : Int))), (4, .int (zI what))]) C dX1_walkAhead_42 (nlt rfl) rfl ?_
          refine y_bipush C dX1_walkAhead_44 (by decide) ?_
          refine z_istore (lv' := [(6, .int (zI (-4))), (5, .int (zI (-4))), (0, .ref x), (1, .int (zI (j : Int))), (2, .int (zI yard)), (3, .int (zI (t0 : Int))), (4, .int (zI what))]) C dX1_walkAhead_46 (nlt rfl) rfl ?_
          refine y_iconst C dX1_walkAhead_48 ?_
          refine z_istore (lv' := [(7, .int (zI 0)), (6, .int (zI (-4))), (5, .int (zI (-4))), (0, .ref x), (1, .int (zI (j : Int))), (2, .int (zI yard)), (3, .int (zI (t0 : Int))), (4, .int (zI what))]) C dX1_walkAhead_49 (nlt rfl) rfl ?_
          have L_51 : ∀ (tt : Nat) (i : Nat) (bst : Int) (lst : Int) (mr : Nat → Option Nat) (mhm : Nat → Int) (mat : Nat → Int) (mlg : Nat → Int) (mn : Nat) (moa : Int) (mdy : Int), (i ≤ 21) → (minF (walkF kd fg hm at_ lg n oa j yard t0) i = (bst, lst)) → 21 - i = tt → Z X (cX1_walkAhead, 9, yX1_walkAhead.cls, (some .int), { frames := 8, cells := 0, slots := 0, locals := 166 }, A) G 0 0 ([(x, .inr (10, [.ref a0, .ref b0, .ref m0, .int (zI im), .ref tl, .ref le, .int (zI fw), .int (zI fh), .int (zI lo), .ref sh])), (a0, .inr (8, [.ref a1, .ref a2, .ref a3, .ref a4, .int (zI (n : Int)), .int (zI oa), .int (zI dy)])), (a1, AQ G 4 7 r), (a2, AI G 7 hm), (a3, AI G 7 at_), (a4, AI G 7 lg), (m0, .inr (8, [.ref m1, .ref m2, .ref m3, .ref m4, .int (zI (mn : Int)), .int (zI moa), .int (zI mdy)])), (m1, AQ G 4 7 mr), (m2, AI G 7 mhm), (m3, AI G 7 mat), (m4, AI G 7 mlg)] ++ PL LP hk hf) 51 [(7, .int (zI (i : Int))), (6, .int (zI lst)), (5, .int (zI bst)), (0, .ref x), (1, .int (zI (j : Int))), (2, .int (zI yard)), (3, .int (zI (t0 : Int))), (4, .int (zI what))] [] := by
            intro tt
            induction tt using Nat.strongRecOn with
            | _ tt ih_51 =>
              intro i bst lst mr mhm mat mlg mn moa mdy hi hmf ht_51
              have hmb := minF_b hmf (walkF_r kd fg hm at_ lg n oa j yard t0) (by omega)
              refine z_iload C dX1_walkAhead_51 0 rfl ?_
              refine y_bipush C dX1_walkAhead_53 (by decide) ?_
              refine y_icmp_ge (tgt := 121) C (by omega) (by omega) dX1_walkAhead_55 (by decide) (fun c_55 => ?_) (fun c_55 => ?_)
              · skip
                rw [show i = 21 by omega] at hmf
                refine z_iload C dX1_walkAhead_121 7 rfl ?_
                refine y_if_ne (tgt := 131) C (by omega) dX1_walkAhead_123 (by decide) (fun c_123 => ?_) (fun c_123 => ?_)
                · skip
                  refine z_iload C dX1_walkAhead_131 1 rfl ?_
                  exact z_iret C hA hQ rfl (Nat.le_of_ble_eq_true rfl) (Nat.le_of_ble_eq_true rfl) ((mr, mhm, mat, mlg, mn, moa, mdy)) (congrArg zI (by unfold oWalkAhead; rw [if_pos (by omega)]; simp only [zTN]; rw [hmf]; first | rw [if_pos (by omega)] | rw [if_neg (by omega)])) (sb_p [0, 1, 2, 3, 4, 5, 6, 7, 8, 9, 10] rfl rfl) dX1_walkAhead_133
                · skip
                  refine z_iload C dX1_walkAhead_126 2 rfl ?_
                  refine z_goto (tgt := 133) C dX1_walkAhead_128 (by decide) ?_
                  exact z_iret C hA hQ rfl (Nat.le_of_ble_eq_true rfl) (Nat.le_of_ble_eq_true rfl) ((mr, mhm, mat, mlg, mn, moa, mdy)) (congrArg zI (by unfold oWalkAhead; rw [if_pos (by omega)]; simp only [zTN]; rw [hmf]; first | rw [if_pos (by omega)] | rw [if_neg (by omega)])) (sb_p [0, 1, 2, 3, 4, 5, 6, 7, 8, 9, 10] rfl rfl) dX1_walkAhead_133
              · skip
                refine z_aload_n C dX1_walkAhead_58 rfl 3 rfl ?_
                refine z_v (ws' := fun u => ([(x, .inr (10, [.ref a0, .ref b0, .ref m0, .int (zI im), .ref tl, .ref le, .int (zI fw), .int (zI fh), .int (zI lo), .ref sh])), (a0, .inr (8, [.ref a1, .ref a2, .ref a3, .ref a4, .int (zI (n : Int)), .int (zI oa), .int (zI dy)])), (a1, AQ G 4 7 r), (a2, AI G 7 hm), (a3, AI G 7 at_), (a4, AI G 7 lg), (m0, .inr (8, [.ref m1, .ref m2, .ref m3, .ref m4, .int (zI (n : Int)), .int (zI oa), .int (zI dy)])), (m1, AQ G 4 7 r), (m2, AI G 7 hm), (m3, AI G 7 at_), (m4, AI G 7 lg)] ++ PL LP hk hf)) C (z_runV (q := 0) (As := []) (rest := []) C (ct_X1_minds (zl X) G x b0 m0 tl le sh im fw fh lo a0 a1 a2 a3 a4 m1 m2 m3 m4 r hm at_ lg n oa dy mr mhm mat mlg mn moa mdy LP hk hf kd fg (by first | assumption | omega) (by first | assumption | omega)) (lw_V q577 q579 qs12 q58 q580) rfl rfl (sb_p [0, 1, 2, 3, 4, 5, 6, 7, 8, 9, 10] rfl rfl) (na := 0) (by decide +kernel) rfl (zrm rfl rfl (rfl) (rfl)) rfl (Nat.le_of_ble_eq_true rfl) dX1_walkAhead_59) (fun u => jn_p (Lr := []) [0, 1, 2, 3, 4, 5, 6, 7, 8, 9, 10] [] [0, 1, 2, 3, 4, 5, 6, 7, 8, 9, 10] rfl rfl rfl (by decide) rfl rfl) (fun u hp_59 => ?_)
                refine z_aload_n C dX1_walkAhead_62 rfl 3 rfl ?_
                refine z_get (q := 0) (kf := 2) (v := .ref m0) C rfl rfl in_X1 (by decide) q882 (Or.inl rfl) rfl dX1_walkAhead_63 ?_
                refine z_get (q := 6) (kf := 2) (v := .ref m3) C rfl rfl in_X2 (by decide) q842 (Or.inl rfl) rfl dX1_walkAhead_66 ?_
                refine z_iload_n C dX1_walkAhead_69 rfl 4 rfl ?_
                refine z_iload C dX1_walkAhead_70 0 rfl ?_
                refine y_iast (q := 9) (t0 := 0) (g := va_up at_ j (i : Int)) (ws' := ([(x, .inr (10, [.ref a0, .ref b0, .ref m0, .int (zI im), .ref tl, .ref le, .int (zI fw), .int (zI fh), .int (zI lo), .ref sh])), (a0, .inr (8, [.ref a1, .ref a2, .ref a3, .ref a4, .int (zI (n : Int)), .int (zI oa), .int (zI dy)])), (a1, AQ G 4 7 r), (a2, AI G 7 hm), (a3, AI G 7 at_), (a4, AI G 7 lg), (m0, .inr (8, [.ref m1, .ref m2, .ref m3, .ref m4, .int (zI (n : Int)), .int (zI oa), .int (zI dy)])), (m1, AQ G 4 7 r), (m2, AI G 7 hm), (m3, AI G 7 (va_up at_ j (i : Int))), (m4, AI G 7 lg)] ++ PL LP hk hf)) C rfl rfl (by omega) (by decide) rfl rfl dX1_walkAhead_72 ?_
                refine z_aload_n C dX1_walkAhead_73 rfl 3 rfl ?_
                refine z_get (q := 0) (kf := 2) (v := .ref m0) C rfl rfl in_X1 (by decide) q882 (Or.inl rfl) rfl dX1_walkAhead_74 ?_
                refine z_iload_n C dX1_walkAhead_77 rfl 6 rfl ?_
                refine z_v (ws' := fun u => ([(x, .inr (10, [.ref a0, .ref b0, .ref m0, .int (zI im), .ref tl, .ref le, .int (zI fw), .int (zI fh), .int (zI lo), .ref sh])), (a0, .inr (8, [.ref a1, .ref a2, .ref a3, .ref a4, .int (zI (n : Int)), .int (zI oa), .int (zI dy)])), (a1, AQ G 4 7 r), (a2, AI G 7 hm), (a3, AI G 7 at_), (a4, AI G 7 lg), (m0, .inr (8, [.ref m1, .ref m2, .ref m3, .ref m4, .int (zI (n : Int)), .int (zI oa), .int (zI (dy + (t0 : Int)))])), (m1, AQ G 4 7 r), (m2, AI G 7 hm), (m3, AI G 7 (va_up at_ j (i : Int))), (m4, AI G 7 (goL kd fg hm (va_up at_ j (i : Int)) oa n t0 lg))] ++ PL LP hk hf)) C (z_runV (q := 6) (As := [.int (zI (t0 : Int))]) (rest := []) C (ct_X2_goes (zl X) G m0 m1 m2 m3 m4 r hm (va_up at_ j (i : Int)) lg n oa dy LP hk hf kd fg t0 (by first | assumption | omega) (hL.at (by omega)) (by first | assumption | omega)) (lw_V q532 q533 q534 q59 q535) rfl rfl (sb_p [6, 7, 8, 9, 10] rfl rfl) (na := 1) (by decide +kernel) rfl (zrm rfl rfl (rfl) (rfl)) rfl (Nat.le_of_ble_eq_true rfl) dX1_walkAhead_78) (fun u => jn_p (Lr := [(x, .inr (10, [.ref a0, .ref b0, .ref m0, .int (zI im), .ref tl, .ref le, .int (zI fw), .int (zI fh), .int (zI lo), .ref sh])), (a0, .inr (8, [.ref a1, .ref a2, .ref a3, .ref a4, .int (zI (n : Int)), .int (zI oa), .int (zI dy)])), (a1, AQ G 4 7 r), (a2, AI G 7 hm), (a3, AI G 7 at_), (a4, AI G 7 lg)]) [6, 7, 8, 9, 10] [0, 1, 2, 3, 4, 5] [0, 1, 2, 3, 4, 5, 6, 7, 8, 9, 10] rfl rfl rfl (by decide) rfl rfl) (fun u hp_78 => ?_)
                refine z_aload_n C dX1_walkAhead_81 rfl 3 rfl ?_
                refine z_get (q := 0) (kf := 2) (v := .ref m0) C rfl rfl in_X1 (by decide) q882 (Or.inl rfl) rfl dX1_walkAhead_82 ?_
                refine z_iload_n C dX1_walkAhead_85 rfl 4 rfl ?_
                refine z_iload_n C dX1_walkAhead_86 rfl 5 rfl ?_
                refine z_i (ws' := fun u => ([(x, .inr (10, [.ref a0, .ref b0, .ref m0, .int (zI im), .ref tl, .ref le, .int (zI fw), .int (zI fh), .int (zI lo), .ref sh])), (a0, .inr (8, [.ref a1, .ref a2, .ref a3, .ref a4, .int (zI (n : Int)), .int (zI oa), .int (zI dy)])), (a1, AQ G 4 7 r), (a2, AI G 7 hm), (a3, AI G 7 at_), (a4, AI G 7 lg), (m0, .inr (8, [.ref m1, .ref m2, .ref m3, .ref m4, .int (zI (n : Int)), .int (zI oa), .int (zI ((dy + (t0 : Int)) + ((rdN kd fg hm oa n j yard (va_up at_ j (i : Int)) (goL kd fg hm (va_up at_ j (i : Int)) oa n t0 lg)) : Int)))])), (m1, AQ G 4 7 r), (m2, AI G 7 hm), (m3, AI G 7 (rdA kd fg hm oa n j yard (va_up at_ j (i : Int)) (goL kd fg hm (va_up at_ j (i : Int)) oa n t0 lg))), (m4, AI G 7 (rdL kd fg hm oa n j yard (va_up at_ j (i : Int)) (goL kd fg hm (va_up at_ j (i : Int)) oa n t0 lg)))] ++ PL LP hk hf)) C (z_runV (q := 6) (As := [.int (zI (j : Int)), .int (zI yard)]) (rest := []) C (ct_X2_rides (zl X) G m0 m1 m2 m3 m4 r hm (va_up at_ j (i : Int)) (goL kd fg hm (va_up at_ j (i : Int)) oa n t0 lg) n oa (dy + (t0 : Int)) LP hk hf kd fg j yard (by first | assumption | omega) ((hL.at (by omega)).go t0) (by omega) (by first | assumption | omega)) (lw_V q393 q394 q395 q59 q396) rfl rfl (sb_p [6, 7, 8, 9, 10] rfl rfl) (na := 2) (by decide +kernel) rfl (zrm rfl rfl (rfl) (rfl)) rfl (Nat.le_of_ble_eq_true rfl) dX1_walkAhead_87) (fun u => jn_p (Lr := [(x, .inr (10, [.ref a0, .ref b0, .ref m0, .int (zI im), .ref tl, .ref le, .int (zI fw), .int (zI fh), .int (zI lo), .ref sh])), (a0, .inr (8, [.ref a1, .ref a2, .ref a3, .ref a4, .int (zI (n : Int)), .int (zI oa), .int (zI dy)])), (a1, AQ G 4 7 r), (a2, AI G 7 hm), (a3, AI G 7 at_), (a4, AI G 7 lg)]) [6, 7, 8, 9, 10] [0, 1, 2, 3, 4, 5] [0, 1, 2, 3, 4, 5, 6, 7, 8, 9, 10] rfl rfl rfl (by decide) rfl rfl) (fun r_87 u hp_87 => ?_)
                have hp_87 : r_87 = zI ((rdN kd fg hm oa n j yard (va_up at_ j (i : Int)) (goL kd fg hm (va_up at_ j (i : Int)) oa n t0 lg)) : Int) := hp_87
                subst hp_87
                rw [show ((rdN kd fg hm oa n j yard (va_up at_ j (i : Int)) (goL kd fg hm (va_up at_ j (i : Int)) oa n t0 lg)) : Int) = walkF kd fg hm at_ lg n oa j yard t0 i from rfl]
                have hwf := walkF_r kd fg hm at_ lg n oa j yard t0 i
                refine z_istore (lv' := [(8, .int (zI (walkF kd fg hm at_ lg n oa j yard t0 i))), (7, .int (zI (i : Int))), (6, .int (zI lst)), (5, .int (zI bst)), (0, .ref x), (1, .int (zI (j : Int))), (2, .int (zI yard)), (3, .int (zI (t0 : Int))), (4, .int (zI what))]) C dX1_walkAhead_90 (nlt rfl) rfl ?_
                refine z_iload C dX1_walkAhead_92 3 rfl ?_
                refine y_if_lt (tgt := 107) C (by omega) dX1_walkAhead_94 (by decide) (fun c_94 => ?_) (fun c_94 => ?_)
                · skip
                  refine z_iload C dX1_walkAhead_107 1 rfl ?_
                  refine z_istore (lv' := [(5, .int (zI (i : Int))), (8, .int (zI (walkF kd fg hm at_ lg n oa j yard t0 i))), (7, .int (zI (i : Int))), (6, .int (zI lst)), (0, .ref x), (1, .int (zI (j : Int))), (2, .int (zI yard)), (3, .int (zI (t0 : Int))), (4, .int (zI what))]) C dX1_walkAhead_109 (nlt rfl) rfl ?_
                  refine z_iload C dX1_walkAhead_111 1 rfl ?_
                  refine z_istore (lv' := [(6, .int (zI (walkF kd fg hm at_ lg n oa j yard t0 i))), (5, .int (zI (i : Int))), (8, .int (zI (walkF kd fg hm at_ lg n oa j yard t0 i))), (7, .int (zI (i : Int))), (0, .ref x), (1, .int (zI (j : Int))), (2, .int (zI yard)), (3, .int (zI (t0 : Int))), (4, .int (zI what))]) C dX1_walkAhead_113 (nlt rfl) rfl ?_
                  refine y_iinc (lv' := [(7, .int (zI ((i : Int) + 1))), (6, .int (zI (walkF kd fg hm at_ lg n oa j yard t0 i))), (5, .int (zI (i : Int))), (8, .int (zI (walkF kd fg hm at_ lg n oa j yard t0 i))), (0, .ref x), (1, .int (zI (j : Int))), (2, .int (zI yard)), (3, .int (zI (t0 : Int))), (4, .int (zI what))]) C dX1_walkAhead_115 (q := 3) rfl (nlt rfl) rfl ?_
                  refine z_goto (tgt := 51) C dX1_walkAhead_118 (by decide) ?_
                  refine z_lv (lv' := [(7, .int (zI ((i : Int) + 1))), (6, .int (zI (walkF kd fg hm at_ lg n oa j yard t0 i))), (5, .int (zI (i : Int))), (0, .ref x), (1, .int (zI (j : Int))), (2, .int (zI yard)), (3, .int (zI (t0 : Int))), (4, .int (zI what))]) [0, 1, 2, 4, 5, 6, 7, 8] rfl ?_
                  exact ih_51 _ (by omega) (i + 1) (i : Int) (walkF kd fg hm at_ lg n oa j yard t0 i) r hm (rdA kd fg hm oa n j yard (va_up at_ j (i : Int)) (goL kd fg hm (va_up at_ j (i : Int)) oa n t0 lg)) (rdL kd fg hm oa n j yard (va_up at_ j (i : Int)) (goL kd fg hm (va_up at_ j (i : Int)) oa n t0 lg)) n oa ((dy + (t0 : Int)) + ((rdN kd fg hm oa n j yard (va_up at_ j (i : Int)) (goL kd fg hm (va_up at_ j (i : Int)) oa n t0 lg)) : Int)) (by first | assumption | omega) (by first | exact minF_t' hmf (by omega) | exact minF_f' hmf (by omega)) rfl
                · skip
                  refine z_iload C dX1_walkAhead_97 0 rfl ?_
                  refine z_iload C dX1_walkAhead_99 2 rfl ?_
                  refine y_icmp_lt (tgt := 107) C (by omega) (by omega) dX1_walkAhead_101 (by decide) (fun c_101 => ?_) (fun c_101 => ?_)
                  · skip
                    refine z_iload C dX1_walkAhead_107 1 rfl ?_
                    refine z_istore (lv' := [(5, .int (zI (i : Int))), (8, .int (zI (walkF kd fg hm at_ lg n oa j yard t0 i))), (7, .int (zI (i : Int))), (6, .int (zI lst)), (0, .ref x), (1, .int (zI (j : Int))), (2, .int (zI yard)), (3, .int (zI (t0 : Int))), (4, .int (zI what))]) C dX1_walkAhead_109 (nlt rfl) rfl ?_
                    refine z_iload C dX1_walkAhead_111 1 rfl ?_
                    refine z_istore (lv' := [(6, .int (zI (walkF kd fg hm at_ lg n oa j yard t0 i))), (5, .int (zI (i : Int))), (8, .int (zI (walkF kd fg hm at_ lg n oa j yard t0 i))), (7, .int (zI (i : Int))), (0, .ref x), (1, .int (zI (j : Int))), (2, .int (zI yard)), (3, .int (zI (t0 : Int))), (4, .int (zI what))]) C dX1_walkAhead_113 (nlt rfl) rfl ?_
                    refine y_iinc (lv' := [(7, .int (zI ((i : Int) + 1))), (6, .int (zI (walkF kd fg hm at_ lg n oa j yard t0 i))), (5, .int (zI (i : Int))), (8, .int (zI (walkF kd fg hm at_ lg n oa j yard t0 i))), (0, .ref x), (1, .int (zI (j : Int))), (2, .int (zI yard)), (3, .int (zI (t0 : Int))), (4, .int (zI what))]) C dX1_walkAhead_115 (q := 3) rfl (nlt rfl) rfl ?_
                    refine z_goto (tgt := 51) C dX1_walkAhead_118 (by decide) ?_
                    refine z_lv (lv' := [(7, .int (zI ((i : Int) + 1))), (6, .int (zI (walkF kd fg hm at_ lg n oa j yard t0 i))), (5, .int (zI (i : Int))), (0, .ref x), (1, .int (zI (j : Int))), (2, .int (zI yard)), (3, .int (zI (t0 : Int))), (4, .int (zI what))]) [0, 1, 2, 4, 5, 6, 7, 8] rfl ?_
                    exact ih_51 _ (by omega) (i + 1) (i : Int) (walkF kd fg hm at_ lg n oa j yard t0 i) r hm (rdA kd fg hm oa n j yard (va_up at_ j (i : Int)) (goL kd fg hm (va_up at_ j (i : Int)) oa n t0 lg)) (rdL kd fg hm oa n j yard (va_up at_ j (i : Int)) (goL kd fg hm (va_up at_ j (i : Int)) oa n t0 lg)) n oa ((dy + (t0 : Int)) + ((rdN kd fg hm oa n j yard (va_up at_ j (i : Int)) (goL kd fg hm (va_up at_ j (i : Int)) oa n t0 lg)) : Int)) (by first | assumption | omega) (by first | exact minF_t' hmf (by omega) | exact minF_f' hmf (by omega)) rfl
                  · skip
                    refine z_goto (tgt := 115) C dX1_walkAhead_104 (by decide) ?_
                    refine y_iinc (lv' := [(7, .int (zI ((i : Int) + 1))), (8, .int (zI (walkF kd fg hm at_ lg n oa j yard t0 i))), (6, .int (zI lst)), (5, .int (zI bst)), (0, .ref x), (1, .int (zI (j : Int))), (2, .int (zI yard)), (3, .int (zI (t0 : Int))), (4, .int (zI what))]) C dX1_walkAhead_115 (q := 1) rfl (nlt rfl) rfl ?_
                    refine z_goto (tgt := 51) C dX1_walkAhead_118 (by decide) ?_
                    refine z_lv (lv' := [(7, .int (zI ((i : Int) + 1))), (6, .int (zI lst)), (5, .int (zI bst)), (0, .ref x), (1, .int (zI (j : Int))), (2, .int (zI yard)), (3, .int (zI (t0 : Int))), (4, .int (zI what))]) [0, 2, 3, 4, 5, 6, 7, 8] rfl ?_
                    exact ih_51 _ (by omega) (i + 1) bst lst r hm (rdA kd fg hm oa n j yard (va_up at_ j (i : Int)) (goL kd fg hm (va_up at_ j (i : Int)) oa n t0 lg)) (rdL kd fg hm oa n j yard (va_up at_ j (i : Int)) (goL kd fg hm (va_up at_ j (i : Int)) oa n t0 lg)) n oa ((dy + (t0 : Int)) + ((rdN kd fg hm oa n j yard (va_up at_ j (i : Int)) (goL kd fg hm (va_up at_ j (i : Int)) oa n t0 lg)) : Int)) (by first | assumption | omega) (by first | exact minF_t' hmf (by omega) | exact minF_f' hmf (by omega)) rfl
          exact L_51 _ 0 (-4) (-4) mr mhm mat mlg mn moa mdy (by first | assumption | omega) (rfl) rfl
        · skip
          refine y_iconst C dX1_walkAhead_38 ?_
          exact z_iret C hA hQ rfl (Nat.le_of_ble_eq_true rfl) (Nat.le_of_ble_eq_true rfl) ((mr, mhm, mat, mlg, mn, moa, mdy)) (congrArg zI (by unfold oWalkAhead; (try simp only [zTN]); (repeat (first | rw [if_pos (by omega)] | rw [if_neg (by omega)])); first | done | rfl)) (sb_p [0, 1, 2, 3, 4, 5, 6, 7, 8, 9, 10] rfl rfl) dX1_walkAhead_39

def hangF (kd : Nat → Nat) (fg hm at_ lg : Nat → Int) (n : Nat) (t : Nat) (y : Nat) : Int := sumL (goL kd fg hm at_ (y : Int) n t lg) n
def oHang (kd : Nat → Nat) (fg : Nat → Int) (hm : Nat → Int) (at_ : Nat → Int) (lg : Nat → Int) (n : Nat) (oa : Int) (t : Int) (what : Int) : Int := if (0 ≤ t ∧ t ≤ 60) ∧ (0 ≤ what ∧ what ≤ 1) then if what = 0 then (maxF (hangF kd fg hm at_ lg n t.toNat) 21).1 else (maxF (hangF kd fg hm at_ lg n t.toNat) 21).2 else -1
set_option maxHeartbeats 4000000 in
theorem ct_X1_hang (l : Launch) (G : ZG) (x : Nat) (b0 : Nat) (m0 : Nat) (tl : Nat) (le : Nat) (sh : Nat) (im : Int) (fw : Int) (fh : Int) (lo : Int) (a0 : Nat) (a1 : Nat) (a2 : Nat) (a3 : Nat) (a4 : Nat) (m1 : Nat) (m2 : Nat) (m3 : Nat) (m4 : Nat) (r : Nat → Option Nat) (hm : Nat → Int) (at_ : Nat → Int) (lg : Nat → Int) (n : Nat) (oa : Int) (dy : Int) (mr : Nat → Option Nat) (mhm : Nat → Int) (mat : Nat → Int) (mlg : Nat → Int) (mn : Nat) (moa : Int) (mdy : Int) (LP : List Nat) (hk : Nat → Nat) (hf : Nat → Int) (kd : Nat → Nat) (fg : Nat → Int) (t : Int) (what : Int) (hH : HR LP hk hf r n kd fg) (hL : LK n kd fg hm at_ lg oa) (hK : PK LP hk hf) (hV : RV LP r) (rt : -2147483648 ≤ t ∧ t ≤ 2147483647) (rwhat : -2147483648 ≤ what ∧ what ≤ 2147483647) : CT l yX1_hang cX1_hang 6 (some .int) { frames := 8, cells := 0, slots := 0, locals := 165 } G [.ref x, .int (zI t), .int (zI what)] ([(x, .inr (10, [.ref a0, .ref b0, .ref m0, .int (zI im), .ref tl, .ref le, .int (zI fw), .int (zI fh), .int (zI lo), .ref sh])), (a0, .inr (8, [.ref a1, .ref a2, .ref a3, .ref a4, .int (zI (n : Int)), .int (zI oa), .int (zI dy)])), (a1, AQ G 4 7 r), (a2, AI G 7 hm), (a3, AI G 7 at_), (a4, AI G 7 lg), (m0, .inr (8, [.ref m1, .ref m2, .ref m3, .ref m4, .int (zI (mn : Int)), .int (zI moa), .int (zI mdy)])), (m1, AQ G 4 7 mr), (m2, AI G 7 mhm), (m3, AI G 7 mat), (m4, AI G 7 mlg)] ++ PL LP hk hf) (Qi G ([(x, .inr (10, [.ref a0, .ref b0, .ref m0, .int (zI im), .ref tl, .ref le, .int (zI fw), .int (zI fh), .int (zI lo), .ref sh])), (a0, .inr (8, [.ref a1, .ref a2, .ref a3, .ref a4, .int (zI (n : Int)), .int (zI oa), .int (zI dy)])), (a1, AQ G 4 7 r), (a2, AI G 7 hm), (a3, AI G 7 at_), (a4, AI G 7 lg), (m0, .inr (8, [.ref m1, .ref m2, .ref m3, .ref m4, .int (zI (mn : Int)), .int (zI moa), .int (zI mdy)])), (m1, AQ G 4 7 mr), (m2, AI G 7 mhm), (m3, AI G 7 mat), (m4, AI G 7 mlg)] ++ PL LP hk hf) (fun (r : Int32) (u : (Nat → Option Nat) × (Nat → Int) × (Nat → Int) × (Nat → Int) × Nat × Int × Int) => r = zI (oHang kd fg hm at_ lg n oa t what)) (fun u => ([(x, .inr (10, [.ref a0, .ref b0, .ref m0, .int (zI im), .ref tl, .ref le, .int (zI fw), .int (zI fh), .int (zI lo), .ref sh])), (a0, .inr (8, [.ref a1, .ref a2, .ref a3, .ref a4, .int (zI (n : Int)), .int (zI oa), .int (zI dy)])), (a1, AQ G 4 7 r), (a2, AI G 7 hm), (a3, AI G 7 at_), (a4, AI G 7 lg), (m0, .inr (8, [.ref m1, .ref m2, .ref m3, .ref m4, .int (zI (u.2.2.2.2.1 : Int)), .int (zI u.2.2.2.2.2.1), .int (zI u.2.2.2.2.2.2)])), (m1, AQ G 4 7 u.1), (m2, AI G 7 u.2.1), (m3, AI G 7 u.2.2.1), (m4, AI G 7 u.2.2.2.1)] ++ PL LP hk hf))) := by
  refine z_met (by decide) (Nat.le_of_ble_eq_true rfl) ?_
  intro X A hl0 hA C hQ hin
  subst hl0
  obtain ⟨hn7, hoa, hLj⟩ := id hL
  show Z X _ G 0 0 _ 0 [(0, .ref x), (1, .int (zI t)), (2, .int (zI what))] []
  refine z_iload_n C dX1_hang_0 rfl 1 rfl ?_
  refine z_i C (z_runS (As := [.int (zI t)]) (rest := []) C (ct_X1_isLong (zl X) G t (by first | assumption | omega)) (lw_S q613 q614 q58 q615) (sb_e [] rfl rfl) (na := 1) (by decide +kernel) rfl (zrm rfl rfl (rfl) (rfl)) rfl (Nat.le_of_ble_eq_true rfl) dX1_hang_1) (fun u => jn_ro (sb_e [] rfl rfl)) (fun r_1 u hp_1 => ?_)
  have hp_1 : r_1 = zI (bI (0 ≤ t ∧ t ≤ 60)) := hp_1
  subst hp_1
  refine y_beq (tgt := 16) C dX1_hang_4 (by decide) (fun c_4 => ?_) (fun c_4 => ?_)
  · skip
    refine y_iconst C dX1_hang_16 ?_
    exact z_iret C hA hQ rfl (Nat.le_of_ble_eq_true rfl) (Nat.le_of_ble_eq_true rfl) ((mr, mhm, mat, mlg, mn, moa, mdy)) (congrArg zI (by unfold oHang; (try simp only [zTN]); (repeat (first | rw [if_pos (by omega)] | rw [if_neg (by omega)])); first | done | rfl)) (sb_p [0, 1, 2, 3, 4, 5, 6, 7, 8, 9, 10] rfl rfl) dX1_hang_17
  · skip
    refine z_iload_n C dX1_hang_7 rfl 2 rfl ?_
    refine y_iconst C dX1_hang_8 ?_
    refine y_iconst C dX1_hang_9 ?_
    refine z_i C (z_runS (As := [.int (zI what), .int (zI 0), .int (zI 1)]) (rest := []) C (ct_X1_isIn (zl X) G what 0 1 (by first | assumption | omega) (by first | assumption | omega) (by first | assumption | omega)) (lw_S q189 q190 q58 q191) (sb_e [] rfl rfl) (na := 3) (by decide +kernel) rfl (zrm rfl rfl (rfl) (rfl)) rfl (Nat.le_of_ble_eq_true rfl) dX1_hang_10) (fun u => jn_ro (sb_e [] rfl rfl)) (fun r_10 u hp_10 => ?_)
    have hp_10 : r_10 = zI (bI (0 ≤ what ∧ what ≤ 1)) := hp_10
    subst hp_10
    refine y_bne (tgt := 18) C dX1_hang_13 (by decide) (fun c_13 => ?_) (fun c_13 => ?_)
    · skip
      obtain ⟨t0, rfl⟩ := Int.eq_ofNat_of_zero_le (show 0 ≤ t by omega)
      refine y_bipush C dX1_hang_18 (by decide) ?_
      refine z_istore_n (lv' := [(3, .int (zI (-4))), (0, .ref x), (1, .int (zI (t0 : Int))), (2, .int (zI what))]) C dX1_hang_20 rfl (nlt rfl) rfl ?_
      refine y_bipush C dX1_hang_21 (by decide) ?_
      refine z_istore (lv' := [(4, .int (zI (-4))), (3, .int (zI (-4))), (0, .ref x), (1, .int (zI (t0 : Int))), (2, .int (zI what))]) C dX1_hang_23 (nlt rfl) rfl ?_
      refine y_iconst C dX1_hang_25 ?_
      refine z_istore (lv' := [(5, .int (zI 0)), (4, .int (zI (-4))), (3, .int (zI (-4))), (0, .ref x), (1, .int (zI (t0 : Int))), (2, .int (zI what))]) C dX1_hang_26 (nlt rfl) rfl ?_
      have L_28 : ∀ (tt : Nat) (i : Nat) (bst : Int) (lst : Int) (mr : Nat → Option Nat) (mhm : Nat → Int) (mat : Nat → Int) (mlg : Nat → Int) (mn : Nat) (moa : Int) (mdy : Int), (i ≤ 21) → (maxF (hangF kd fg hm at_ lg n t0) i = (bst, lst)) → (-4 ≤ bst ∧ bst ≤ 21 ∧ -4 ≤ lst ∧ lst ≤ 693) → 21 - i = tt → Z X (cX1_hang, 6, yX1_hang.cls, (some .int), { frames := 8, cells := 0, slots := 0, locals := 165 }, A) G 0 0 ([(x, .inr (10, [.ref a0, .ref b0, .ref m0, .int (zI im), .ref tl, .ref le, .int (zI fw), .int (zI fh), .int (zI lo), .ref sh])), (a0, .inr (8, [.ref a1, .ref a2, .ref a3, .ref a4, .int (zI (n : Int)), .int (zI oa), .int (zI dy)])), (a1, AQ G 4 7 r), (a2, AI G 7 hm), (a3, AI G 7 at_), (a4, AI G 7 lg), (m0, .inr (8, [.ref m1, .ref m2, .ref m3, .ref m4, .int (zI (mn : Int)), .int (zI moa), .int (zI mdy)])), (m1, AQ G 4 7 mr), (m2, AI G 7 mhm), (m3, AI G 7 mat), (m4, AI G 7 mlg)] ++ PL LP hk hf) 28 [(5, .int (zI (i : Int))), (4, .int (zI lst)), (3, .int (zI bst)), (0, .ref x), (1, .int (zI (t0 : Int))), (2, .int (zI what))] [] := by
        intro tt
        induction tt using Nat.strongRecOn with
        | _ tt ih_28 =>
          intro i bst lst mr mhm mat mlg mn moa mdy hi hmf hbl ht_28
          refine z_iload C dX1_hang_28 0 rfl ?_
          refine y_bipush C dX1_hang_30 (by decide) ?_
          refine y_icmp_ge (tgt := 89) C (by omega) (by omega) dX1_hang_32 (by decide) (fun c_32 => ?_) (fun c_32 => ?_)
          · skip
            rw [show i = 21 by omega] at hmf
            refine z_iload_n C dX1_hang_89 rfl 5 rfl ?_
            refine y_if_ne (tgt := 97) C (by omega) dX1_hang_90 (by decide) (fun c_90 => ?_) (fun c_90 => ?_)
            · skip
              refine z_iload C dX1_hang_97 1 rfl ?_
              exact z_iret C hA hQ rfl (Nat.le_of_ble_eq_true rfl) (Nat.le_of_ble_eq_true rfl) ((mr, mhm, mat, mlg, mn, moa, mdy)) (congrArg zI (by unfold oHang; rw [if_pos (by omega)]; simp only [zTN]; rw [hmf]; first | rw [if_pos (by omega)] | rw [if_neg (by omega)])) (sb_p [0, 1, 2, 3, 4, 5, 6, 7, 8, 9, 10] rfl rfl) dX1_hang_99
            · skip
              refine z_iload_n C dX1_hang_93 rfl 2 rfl ?_
              refine z_goto (tgt := 99) C dX1_hang_94 (by decide) ?_
              exact z_iret C hA hQ rfl (Nat.le_of_ble_eq_true rfl) (Nat.le_of_ble_eq_true rfl) ((mr, mhm, mat, mlg, mn, moa, mdy)) (congrArg zI (by unfold oHang; rw [if_pos (by omega)]; simp only [zTN]; rw [hmf]; first | rw [if_pos (by omega)] | rw [if_neg (by omega)])) (sb_p [0, 1, 2, 3, 4, 5, 6, 7, 8, 9, 10] rfl rfl) dX1_hang_99
          · skip
            refine z_aload_n C dX1_hang_35 rfl 3 rfl ?_
            refine z_v (ws' := fun u => ([(x, .inr (10, [.ref a0, .ref b0, .ref m0, .int (zI im), .ref tl, .ref le, .int (zI fw), .int (zI fh), .int (zI lo), .ref sh])), (a0, .inr (8, [.ref a1, .ref a2, .ref a3, .ref a4, .int (zI (n : Int)), .int (zI oa), .int (zI dy)])), (a1, AQ G 4 7 r), (a2, AI G 7 hm), (a3, AI G 7 at_), (a4, AI G 7 lg), (m0, .inr (8, [.ref m1, .ref m2, .ref m3, .ref m4, .int (zI (n : Int)), .int (zI oa), .int (zI dy)])), (m1, AQ G 4 7 r), (m2, AI G 7 hm), (m3, AI G 7 at_), (m4, AI G 7 lg)] ++ PL LP hk hf)) C (z_runV (q := 0) (As := []) (rest := []) C (ct_X1_minds (zl X) G x b0 m0 tl le sh im fw fh lo a0 a1 a2 a3 a4 m1 m2 m3 m4 r hm at_ lg n oa dy mr mhm mat mlg mn moa mdy LP hk hf kd fg (by first | assumption | omega) (by first | assumption | omega)) (lw_V q577 q579 qs12 q58 q580) rfl rfl (sb_p [0, 1, 2, 3, 4, 5, 6, 7, 8, 9, 10] rfl rfl) (na := 0) (by decide +kernel) rfl (zrm rfl rfl (rfl) (rfl)) rfl (Nat.le_of_ble_eq_true rfl) dX1_hang_36) (fun u => jn_p (Lr := []) [0, 1, 2, 3, 4, 5, 6, 7, 8, 9, 10] [] [0, 1, 2, 3, 4, 5, 6, 7, 8, 9, 10] rfl rfl rfl (by decide) rfl rfl) (fun u hp_36 => ?_)
            refine z_aload_n C dX1_hang_39 rfl 3 rfl ?_
            refine z_get (q := 0) (kf := 2) (v := .ref m0) C rfl rfl in_X1 (by decide) q882 (Or.inl rfl) rfl dX1_hang_40 ?_
            refine z_iload C dX1_hang_43 0 rfl ?_
            refine z_put (q := 6) (kf := 5) (ws' := ([(x, .inr (10, [.ref a0, .ref b0, .ref m0, .int (zI im), .ref tl, .ref le, .int (zI fw), .int (zI fh), .int (zI lo), .ref sh])), (a0, .inr (8, [.ref a1, .ref a2, .ref a3, .ref a4, .int (zI (n : Int)), .int (zI oa), .int (zI dy)])), (a1, AQ G 4 7 r), (a2, AI G 7 hm), (a3, AI G 7 at_), (a4, AI G 7 lg), (m0, .inr (8, [.ref m1, .ref m2, .ref m3, .ref m4, .int (zI (n : Int)), .int (zI (i : Int)), .int (zI dy)])), (m1, AQ G 4 7 r), (m2, AI G 7 hm), (m3, AI G 7 at_), (m4, AI G 7 lg)] ++ PL LP hk hf)) C rfl rfl in_X2 tyX2_ok nmX2 (by decide) q848 rfl rfl rfl rfl rfl (nlt rfl) rfl dX1_hang_45 ?_
            refine z_aload_n C dX1_hang_48 rfl 3 rfl ?_
            refine z_get (q := 0) (kf := 2) (v := .ref m0) C rfl rfl in_X1 (by decide) q882 (Or.inl rfl) rfl dX1_hang_49 ?_
            refine z_iload_n C dX1_hang_52 rfl 4 rfl ?_
            refine z_v (ws' := fun u => ([(x, .inr (10, [.ref a0, .ref b0, .ref m0, .int (zI im), .ref tl, .ref le, .int (zI fw), .int (zI fh), .int (zI lo), .ref sh])), (a0, .inr (8, [.ref a1, .ref a2, .ref a3, .ref a4, .int (zI (n : Int)), .int (zI oa), .int (zI dy)])), (a1, AQ G 4 7 r), (a2, AI G 7 hm), (a3, AI G 7 at_), (a4, AI G 7 lg), (m0, .inr (8, [.ref m1, .ref m2, .ref m3, .ref m4, .int (zI (n : Int)), .int (zI (i : Int)), .int (zI (dy + (t0 : Int)))])), (m1, AQ G 4 7 r), (m2, AI G 7 hm), (m3, AI G 7 at_), (m4, AI G 7 (goL kd fg hm at_ (i : Int) n t0 lg))] ++ PL LP hk hf)) C (z_runV (q := 6) (As := [.int (zI (t0 : Int))]) (rest := []) C (ct_X2_goes (zl X) G m0 m1 m2 m3 m4 r hm at_ lg n (i : Int) dy LP hk hf kd fg t0 (by first | assumption | omega) (hL.oa (by omega)) (by first | assumption | omega)) (lw_V q532 q533 q534 q59 q535) rfl rfl (sb_p [6, 7, 8, 9, 10] rfl rfl) (na := 1) (by decide +kernel) rfl (zrm rfl rfl (rfl) (rfl)) rfl (Nat.le_of_ble_eq_true rfl) dX1_hang_53) (fun u => jn_p (Lr := [(x, .inr (10, [.ref a0, .ref b0, .ref m0, .int (zI im), .ref tl, .ref le, .int (zI fw), .int (zI fh), .int (zI lo), .ref sh])), (a0, .inr (8, [.ref a1, .ref a2, .ref a3, .ref a4, .int (zI (n : Int)), .int (zI oa), .int (zI dy)])), (a1, AQ G 4 7 r), (a2, AI G 7 hm), (a3, AI G 7 at_), (a4, AI G 7 lg)]) [6, 7, 8, 9, 10] [0, 1, 2, 3, 4, 5] [0, 1, 2, 3, 4, 5, 6, 7, 8, 9, 10] rfl rfl rfl (by decide) rfl rfl) (fun u hp_53 => ?_)
            have hhf : 0 ≤ hangF kd fg hm at_ lg n t0 i ∧ hangF kd fg hm at_ lg n t0 i ≤ 693 := ((hL.oa (y := (i : Int)) (by omega)).go t0).sum
            refine z_aload_n C dX1_hang_56 rfl 3 rfl ?_
            refine z_get (q := 0) (kf := 2) (v := .ref m0) C rfl rfl in_X1 (by decide) q882 (Or.inl rfl) rfl dX1_hang_57 ?_
            refine z_i C (z_runV (q := 6) (As := []) (rest := []) C (ct_X2_allLonging (zl X) G m0 m1 m2 m3 m4 (goL kd fg hm at_ (i : Int) n t0 lg) n (i : Int) (dy + (t0 : Int)) (by first | assumption | omega)) (lw_V q597 q598 q599 q59 q600) rfl rfl (sb_e [6, 10] rfl rfl) (na := 0) (by decide +kernel) rfl (zrm rfl rfl (rfl) (rfl)) rfl (Nat.le_of_ble_eq_true rfl) dX1_hang_60) (fun u => jn_ro (sb_e [6, 10] rfl rfl)) (fun r_60 u hp_60 => ?_)
            have hp_60 : r_60 = zI (sumL (goL kd fg hm at_ (i : Int) n t0 lg) n) := hp_60
            subst hp_60
            rw [show sumL (goL kd fg hm at_ (i : Int) n t0 lg) n = hangF kd fg hm at_ lg n t0 i from rfl]
            refine z_iload C dX1_hang_63 1 rfl ?_
            refine y_icmp_gt (tgt := 71) C (by omega) (by omega) dX1_hang_65 (by decide) (fun c_65 => ?_) (fun c_65 => ?_)
            · skip
              refine z_iload C dX1_hang_71 0 rfl ?_
              refine z_istore_n (lv' := [(3, .int (zI (i : Int))), (5, .int (zI (i : Int))), (4, .int (zI lst)), (0, .ref x), (1, .int (zI (t0 : Int))), (2, .int (zI what))]) C dX1_hang_73 rfl (nlt rfl) rfl ?_
              refine z_aload_n C dX1_hang_74 rfl 3 rfl ?_
              refine z_get (q := 0) (kf := 2) (v := .ref m0) C rfl rfl in_X1 (by decide) q882 (Or.inl rfl) rfl dX1_hang_75 ?_
              refine z_i C (z_runV (q := 6) (As := []) (rest := []) C (ct_X2_allLonging (zl X) G m0 m1 m2 m3 m4 (goL kd fg hm at_ (i : Int) n t0 lg) n (i : Int) (dy + (t0 : Int)) (by first | assumption | omega)) (lw_V q597 q598 q599 q59 q600) rfl rfl (sb_e [6, 10] rfl rfl) (na := 0) (by decide +kernel) rfl (zrm rfl rfl (rfl) (rfl)) rfl (Nat.le_of_ble_eq_true rfl) dX1_hang_78) (fun u => jn_ro (sb_e [6, 10] rfl rfl)) (fun r_78 u hp_78 => ?_)
              have hp_78 : r_78 = zI (sumL (goL kd fg hm at_ (i : Int) n t0 lg) n) := hp_78
              subst hp_78
              rw [show sumL (goL kd fg hm at_ (i : Int) n t0 lg) n = hangF kd fg hm at_ lg n t0 i from rfl]
              refine z_istore (lv' := [(4, .int (zI (hangF kd fg hm at_ lg n t0 i))), (3, .int (zI (i : Int))), (5, .int (zI (i : Int))), (0, .ref x), (1, .int (zI (t0 : Int))), (2, .int (zI what))]) C dX1_hang_81 (nlt rfl) rfl ?_
              refine y_iinc (lv' := [(5, .int (zI ((i : Int) + 1))), (4, .int (zI (hangF kd fg hm at_ lg n t0 i))), (3, .int (zI (i : Int))), (0, .ref x), (1, .int (zI (t0 : Int))), (2, .int (zI what))]) C dX1_hang_83 (q := 2) rfl (nlt rfl) rfl ?_
              refine z_goto (tgt := 28) C dX1_hang_86 (by decide) ?_
              exact ih_28 _ (by omega) (i + 1) (i : Int) (hangF kd fg hm at_ lg n t0 i) r hm at_ (goL kd fg hm at_ (i : Int) n t0 lg) n (i : Int) (dy + (t0 : Int)) (by first | assumption | omega) (by first | exact maxF_t' hmf (by omega) | exact maxF_f' hmf (by omega)) (by first | assumption | omega) rfl
            · skip
              refine z_goto (tgt := 83) C dX1_hang_68 (by decide) ?_
              refine y_iinc (lv' := [(5, .int (zI ((i : Int) + 1))), (4, .int (zI lst)), (3, .int (zI bst)), (0, .ref x), (1, .int (zI (t0 : Int))), (2, .int (zI what))]) C dX1_hang_83 (q := 0) rfl (nlt rfl) rfl ?_
              refine z_goto (tgt := 28) C dX1_hang_86 (by decide) ?_
              exact ih_28 _ (by omega) (i + 1) bst lst r hm at_ (goL kd fg hm at_ (i : Int) n t0 lg) n (i : Int) (dy + (t0 : Int)) (by first | assumption | omega) (by first | exact maxF_t' hmf (by omega) | exact maxF_f' hmf (by omega)) (by first | assumption | omega) rfl
      exact L_28 _ 0 (-4) (-4) mr mhm mat mlg mn moa mdy (by first | assumption | omega) (rfl) (by first | assumption | omega) rfl
    · skip
      refine y_iconst C dX1_hang_16 ?_
      exact z_iret C hA hQ rfl (Nat.le_of_ble_eq_true rfl) (Nat.le_of_ble_eq_true rfl) ((mr, mhm, mat, mlg, mn, moa, mdy)) (congrArg zI (by unfold oHang; (try simp only [zTN]); (repeat (first | rw [if_pos (by omega)] | rw [if_neg (by omega)])); first | done | rfl)) (sb_p [0, 1, 2, 3, 4, 5, 6, 7, 8, 9, 10] rfl rfl) dX1_hang_17

