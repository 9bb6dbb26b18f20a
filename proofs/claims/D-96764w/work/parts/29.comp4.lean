/-! THE COMPONENT, 4: allTake, meet, spread, fees, count, horse, image, restore -/
set_option maxRecDepth 100000
theorem sumF_b {f : Nat → Int} {i n : Nat} (h : ∀ j, 0 ≤ f j ∧ f j ≤ 20) (hi : i ≤ n) (hn : n ≤ 7) : 0 ≤ sumF f i ∧ sumF f i ≤ 140 := by
  have := sumF_r h (by omega) i
  omega
def meetF (kd : Nat → Nat) (fg hm at_ lg : Nat → Int) (n : Nat) (oa : Int) (y : Nat) : Int := sumF (tkB kd fg hm at_ lg n oa (y : Int) 0) n
theorem meetF_r (kd : Nat → Nat) (fg hm at_ lg : Nat → Int) {n : Nat} (oa : Int) (hn : n ≤ 7) (y : Nat) : 0 ≤ meetF kd fg hm at_ lg n oa y ∧ meetF kd fg hm at_ lg n oa y ≤ 140 := sumF_b (fun j => tkB_r kd fg hm at_ lg n oa (y : Int) 0 j) (Nat.le_refl n) hn
set_option maxHeartbeats 4000000 in
theorem ct_X1_allTake (l : Launch) (G : ZG) (x : Nat) (b0 : Nat) (m0 : Nat) (tl : Nat) (le : Nat) (sh : Nat) (im : Int) (fw : Int) (fh : Int) (lo : Int) (a0 : Nat) (a1 : Nat) (a2 : Nat) (a3 : Nat) (a4 : Nat) (m1 : Nat) (m2 : Nat) (m3 : Nat) (m4 : Nat) (r : Nat → Option Nat) (hm : Nat → Int) (at_ : Nat → Int) (lg : Nat → Int) (n : Nat) (oa : Int) (dy : Int) (mr : Nat → Option Nat) (mhm : Nat → Int) (mat : Nat → Int) (mlg : Nat → Int) (mn : Nat) (moa : Int) (mdy : Int) (LP : List Nat) (hk : Nat → Nat) (hf : Nat → Int) (kd : Nat → Nat) (fg : Nat → Int) (yard : Int) (hH : HR LP hk hf r n kd fg) (hL : LK n kd fg hm at_ lg oa) (hK : PK LP hk hf) (hV : RV LP r) (hy : 0 ≤ yard ∧ yard ≤ 20) : CT l yX1_allTake cX1_allTake 4 (some .int) { frames := 9, cells := 0, slots := 0, locals := 189 } G [.ref x, .int (zI yard)] ([(x, .inr (10, [.ref a0, .ref b0, .ref m0, .int (zI im), .ref tl, .ref le, .int (zI fw), .int (zI fh), .int (zI lo), .ref sh])), (a0, .inr (8, [.ref a1, .ref a2, .ref a3, .ref a4, .int (zI (n : Int)), .int (zI oa), .int (zI dy)])), (a1, AQ G 4 7 r), (a2, AI G 7 hm), (a3, AI G 7 at_), (a4, AI G 7 lg), (m0, .inr (8, [.ref m1, .ref m2, .ref m3, .ref m4, .int (zI (mn : Int)), .int (zI moa), .int (zI mdy)])), (m1, AQ G 4 7 mr), (m2, AI G 7 mhm), (m3, AI G 7 mat), (m4, AI G 7 mlg)] ++ PL LP hk hf) (Qi G ([(x, .inr (10, [.ref a0, .ref b0, .ref m0, .int (zI im), .ref tl, .ref le, .int (zI fw), .int (zI fh), .int (zI lo), .ref sh])), (a0, .inr (8, [.ref a1, .ref a2, .ref a3, .ref a4, .int (zI (n : Int)), .int (zI oa), .int (zI dy)])), (a1, AQ G 4 7 r), (a2, AI G 7 hm), (a3, AI G 7 at_), (a4, AI G 7 lg), (m0, .inr (8, [.ref m1, .ref m2, .ref m3, .ref m4, .int (zI (mn : Int)), .int (zI moa), .int (zI mdy)])), (m1, AQ G 4 7 mr), (m2, AI G 7 mhm), (m3, AI G 7 mat), (m4, AI G 7 mlg)] ++ PL LP hk hf) (fun (r : Int32) (u : (Nat → Option Nat) × (Nat → Int) × (Nat → Int) × (Nat → Int) × Nat × Int × Int) => r = zI (sumF (tkB kd fg hm at_ lg n oa yard 0) n)) (fun u => ([(x, .inr (10, [.ref a0, .ref b0, .ref m0, .int (zI im), .ref tl, .ref le, .int (zI fw), .int (zI fh), .int (zI lo), .ref sh])), (a0, .inr (8, [.ref a1, .ref a2, .ref a3, .ref a4, .int (zI (n : Int)), .int (zI oa), .int (zI dy)])), (a1, AQ G 4 7 r), (a2, AI G 7 hm), (a3, AI G 7 at_), (a4, AI G 7 lg), (m0, .inr (8, [.ref m1, .ref m2, .ref m3, .ref m4, .int (zI (u.2.2.2.2.1 : Int)), .int (zI u.2.2.2.2.2.1), .int (zI u.2.2.2.2.2.2)])), (m1, AQ G 4 7 u.1), (m2, AI G 7 u.2.1), (m3, AI G 7 u.2.2.1), (m4, AI G 7 u.2.2.2.1)] ++ PL LP hk hf))) := by
  refine z_met (by decide) (Nat.le_of_ble_eq_true rfl) ?_
  intro X A hl0 hA C hQ hin
  subst hl0
  obtain ⟨hn7, hoa, hLj⟩ := id hL
  show Z X _ G 0 0 _ 0 [(0, .ref x), (1, .int (zI yard))] []
  refine y_iconst C dX1_allTake_0 ?_
  refine z_istore_n (lv' := [(2, .int (zI 0)), (0, .ref x), (1, .int (zI yard))]) C dX1_allTake_1 rfl (nlt rfl) rfl ?_
  refine y_iconst C dX1_allTake_2 ?_
  refine z_istore_n (lv' := [(3, .int (zI 0)), (2, .int (zI 0)), (0, .ref x), (1, .int (zI yard))]) C dX1_allTake_3 rfl (nlt rfl) rfl ?_
  have L_4 : ∀ (tt : Nat) (i : Nat) (mr : Nat → Option Nat) (mhm : Nat → Int) (mat : Nat → Int) (mlg : Nat → Int) (mn : Nat) (moa : Int) (mdy : Int), (i ≤ n) → n - i = tt → Z X (cX1_allTake, 4, yX1_allTake.cls, (some .int), { frames := 9, cells := 0, slots := 0, locals := 189 }, A) G 0 0 ([(x, .inr (10, [.ref a0, .ref b0, .ref m0, .int (zI im), .ref tl, .ref le, .int (zI fw), .int (zI fh), .int (zI lo), .ref sh])), (a0, .inr (8, [.ref a1, .ref a2, .ref a3, .ref a4, .int (zI (n : Int)), .int (zI oa), .int (zI dy)])), (a1, AQ G 4 7 r), (a2, AI G 7 hm), (a3, AI G 7 at_), (a4, AI G 7 lg), (m0, .inr (8, [.ref m1, .ref m2, .ref m3, .ref m4, .int (zI (mn : Int)), .int (zI moa), .int (zI mdy)])), (m1, AQ G 4 7 mr), (m2, AI G 7 mhm), (m3, AI G 7 mat), (m4, AI G 7 mlg)] ++ PL LP hk hf) 4 [(0, .ref x), (1, .int (zI yard)), (2, .int (zI (sumF (tkB kd fg hm at_ lg n oa yard 0) i))), (3, .int (zI (i : Int)))] [] := by
    intro tt
    induction tt using Nat.strongRecOn with
    | _ tt ih_4 =>
      intro i mr mhm mat mlg mn moa mdy hi ht_4
      refine z_iload_n C dX1_allTake_4 rfl 3 rfl ?_
      refine z_aload_n C dX1_allTake_5 rfl 0 rfl ?_
      refine z_get (q := 0) (kf := 0) (v := .ref a0) C rfl rfl in_X1 (by decide) q880 (Or.inl rfl) rfl dX1_allTake_6 ?_
      refine z_get (q := 1) (kf := 4) (v := .int (zI (n : Int))) C rfl rfl in_X2 (by decide) q846 (Or.inl rfl) rfl dX1_allTake_9 ?_
      refine y_icmp_ge (tgt := 31) C (by omega) (by omega) dX1_allTake_12 (by decide) (fun c_12 => ?_) (fun c_12 => ?_)
      · skip
        rw [show (i : Nat) = n by omega]
        refine z_iload_n C dX1_allTake_31 rfl 2 rfl ?_
        exact z_iret C hA hQ rfl (Nat.le_of_ble_eq_true rfl) (Nat.le_of_ble_eq_true rfl) ((mr, mhm, mat, mlg, mn, moa, mdy)) (rfl) (sb_p [0, 1, 2, 3, 4, 5, 6, 7, 8, 9, 10] rfl rfl) dX1_allTake_32
      · skip
        refine z_iload_n C dX1_allTake_15 rfl 2 rfl ?_
        refine z_aload_n C dX1_allTake_16 rfl 0 rfl ?_
        refine z_iload_n C dX1_allTake_17 rfl 3 rfl ?_
        refine z_iload_n C dX1_allTake_18 rfl 1 rfl ?_
        refine y_iconst C dX1_allTake_19 ?_
        refine z_i (ws' := fun u => ([(x, .inr (10, [.ref a0, .ref b0, .ref m0, .int (zI im), .ref tl, .ref le, .int (zI fw), .int (zI fh), .int (zI lo), .ref sh])), (a0, .inr (8, [.ref a1, .ref a2, .ref a3, .ref a4, .int (zI (n : Int)), .int (zI oa), .int (zI dy)])), (a1, AQ G 4 7 r), (a2, AI G 7 hm), (a3, AI G 7 at_), (a4, AI G 7 lg), (m0, .inr (8, [.ref m1, .ref m2, .ref m3, .ref m4, .int (zI (u.2.2.2.2.1 : Int)), .int (zI u.2.2.2.2.2.1), .int (zI u.2.2.2.2.2.2)])), (m1, AQ G 4 7 u.1), (m2, AI G 7 u.2.1), (m3, AI G 7 u.2.2.1), (m4, AI G 7 u.2.2.2.1)] ++ PL LP hk hf)) C (z_runV (q := 0) (As := [.int (zI (i : Int)), .int (zI yard), .int (zI 0)]) (rest := [.int (zI (sumF (tkB kd fg hm at_ lg n oa yard 0) i))]) C (ct_X1_takesBehind (zl X) G x b0 m0 tl le sh im fw fh lo a0 a1 a2 a3 a4 m1 m2 m3 m4 r hm at_ lg n oa dy mr mhm mat mlg mn moa mdy LP hk hf kd fg i yard 0 (by first | assumption | omega) (by first | assumption | omega) (by first | assumption | omega) (by first | assumption | omega) (by omega) (by first | assumption | omega) (by first | assumption | omega)) (lw_V q605 q607 qs13 q58 q608) rfl rfl (sb_p [0, 1, 2, 3, 4, 5, 6, 7, 8, 9, 10] rfl rfl) (na := 3) (by decide +kernel) rfl (zrm rfl rfl (rfl) (rfl)) rfl (Nat.le_of_ble_eq_true rfl) dX1_allTake_20) (fun u => jn_p (Lr := []) [0, 1, 2, 3, 4, 5, 6, 7, 8, 9, 10] [] [0, 1, 2, 3, 4, 5, 6, 7, 8, 9, 10] rfl rfl rfl (by decide) rfl rfl) (fun r_20 u hp_20 => ?_)
        obtain ⟨mr9_20, mhm9_20, mat9_20, mlg9_20, mn9_20, moa9_20, mdy9_20⟩ := u
        have hp_20 : r_20 = zI (tkB kd fg hm at_ lg n oa yard 0 i) := hp_20
        subst hp_20
        refine y_iadd C dX1_allTake_23 ?_
        refine z_istore_n (lv' := [(2, .int (zI ((sumF (tkB kd fg hm at_ lg n oa yard 0) i) + (tkB kd fg hm at_ lg n oa yard 0 i)))), (0, .ref x), (1, .int (zI yard)), (3, .int (zI (i : Int)))]) C dX1_allTake_24 rfl (nlt rfl) rfl ?_
        refine y_iinc (lv' := [(3, .int (zI ((i : Int) + 1))), (2, .int (zI ((sumF (tkB kd fg hm at_ lg n oa yard 0) i) + (tkB kd fg hm at_ lg n oa yard 0 i)))), (0, .ref x), (1, .int (zI yard))]) C dX1_allTake_25 (q := 3) rfl (nlt rfl) rfl ?_
        refine z_goto (tgt := 4) C dX1_allTake_28 (by decide) ?_
        refine z_lv (lv' := [(0, .ref x), (1, .int (zI yard)), (2, .int (zI ((sumF (tkB kd fg hm at_ lg n oa yard 0) i) + (tkB kd fg hm at_ lg n oa yard 0 i)))), (3, .int (zI ((i : Int) + 1)))]) [2, 3, 1, 0] rfl ?_
        rw [show sumF (tkB kd fg hm at_ lg n oa yard 0) i + tkB kd fg hm at_ lg n oa yard 0 i = sumF (tkB kd fg hm at_ lg n oa yard 0) (i + 1) from rfl]
        exact ih_4 _ (by omega) (i + 1) mr9_20 mhm9_20 mat9_20 mlg9_20 mn9_20 moa9_20 mdy9_20 (by first | assumption | omega) rfl
  refine z_lv (lv' := [(0, .ref x), (1, .int (zI yard)), (2, .int (zI 0)), (3, .int (zI 0))]) [2, 3, 1, 0] rfl ?_
  exact L_4 _ 0 mr mhm mat mlg mn moa mdy (by first | assumption | omega) rfl

def oMeet (kd : Nat → Nat) (fg : Nat → Int) (hm : Nat → Int) (at_ : Nat → Int) (lg : Nat → Int) (n : Nat) (oa : Int) (what : Int) : Int := if (0 ≤ what ∧ what ≤ 1) then if what = 0 then (minF (meetF kd fg hm at_ lg n oa) 21).1 else (minF (meetF kd fg hm at_ lg n oa) 21).2 else -1
set_option maxHeartbeats 4000000 in
theorem ct_X1_meet (l : Launch) (G : ZG) (x : Nat) (b0 : Nat) (m0 : Nat) (tl : Nat) (le : Nat) (sh : Nat) (im : Int) (fw : Int) (fh : Int) (lo : Int) (a0 : Nat) (a1 : Nat) (a2 : Nat) (a3 : Nat) (a4 : Nat) (m1 : Nat) (m2 : Nat) (m3 : Nat) (m4 : Nat) (r : Nat → Option Nat) (hm : Nat → Int) (at_ : Nat → Int) (lg : Nat → Int) (n : Nat) (oa : Int) (dy : Int) (mr : Nat → Option Nat) (mhm : Nat → Int) (mat : Nat → Int) (mlg : Nat → Int) (mn : Nat) (moa : Int) (mdy : Int) (LP : List Nat) (hk : Nat → Nat) (hf : Nat → Int) (kd : Nat → Nat) (fg : Nat → Int) (what : Int) (hH : HR LP hk hf r n kd fg) (hL : LK n kd fg hm at_ lg oa) (hK : PK LP hk hf) (hV : RV LP r) (rwhat : -2147483648 ≤ what ∧ what ≤ 2147483647) : CT l yX1_meet cX1_meet 6 (some .int) { frames := 10, cells := 0, slots := 0, locals := 212 } G [.ref x, .int (zI what)] ([(x, .inr (10, [.ref a0, .ref b0, .ref m0, .int (zI im), .ref tl, .ref le, .int (zI fw), .int (zI fh), .int (zI lo), .ref sh])), (a0, .inr (8, [.ref a1, .ref a2, .ref a3, .ref a4, .int (zI (n : Int)), .int (zI oa), .int (zI dy)])), (a1, AQ G 4 7 r), (a2, AI G 7 hm), (a3, AI G 7 at_), (a4, AI G 7 lg), (m0, .inr (8, [.ref m1, .ref m2, .ref m3, .ref m4, .int (zI (mn : Int)), .int (zI moa), .int (zI mdy)])), (m1, AQ G 4 7 mr), (m2, AI G 7 mhm), (m3, AI G 7 mat), (m4, AI G 7 mlg)] ++ PL LP hk hf) (Qi G ([(x, .inr (10, [.ref a0, .ref b0, .ref m0, .int (zI im), .ref tl, .ref le, .int (zI fw), .int (zI fh), .int (zI lo), .ref sh])), (a0, .inr (8, [.ref a1, .ref a2, .ref a3, .ref a4, .int (zI (n : Int)), .int (zI oa), .int (zI dy)])), (a1, AQ G 4 7 r), (a2, AI G 7 hm), (a3, AI G 7 at_), (a4, AI G 7 lg), (m0, .inr (8, [.ref m1, .ref m2, .ref m3, .ref m4, .int (zI (mn : Int)), .int (zI moa), .int (zI mdy)])), (m1, AQ G 4 7 mr), (m2, AI G 7 mhm), (m3, AI G 7 mat), (m4, AI G 7 mlg)] ++ PL LP hk hf) (fun (r : Int32) (u : (Nat → Option Nat) × (Nat → Int) × (Nat → Int) × (Nat → Int) × Nat × Int × Int) => r = zI (oMeet kd fg hm at_ lg n oa what)) (fun u => ([(x, .inr (10, [.ref a0, .ref b0, .ref m0, .int (zI im), .ref tl, .ref le, .int (zI fw), .int (zI fh), .int (zI lo), .ref sh])), (a0, .inr (8, [.ref a1, .ref a2, .ref a3, .ref a4, .int (zI (n : Int)), .int (zI oa), .int (zI dy)])), (a1, AQ G 4 7 r), (a2, AI G 7 hm), (a3, AI G 7 at_), (a4, AI G 7 lg), (m0, .inr (8, [.ref m1, .ref m2, .ref m3, .ref m4, .int (zI (u.2.2.2.2.1 : Int)), .int (zI u.2.2.2.2.2.1), .int (zI u.2.2.2.2.2.2)])), (m1, AQ G 4 7 u.1), (m2, AI G 7 u.2.1), (m3, AI G 7 u.2.2.1), (m4, AI G 7 u.2.2.2.1)] ++ PL LP hk hf))) := by
  refine z_met (by decide) (Nat.le_of_ble_eq_true rfl) ?_
  intro X A hl0 hA C hQ hin
  subst hl0
  obtain ⟨hn7, hoa, hLj⟩ := id hL
  show Z X _ G 0 0 _ 0 [(0, .ref x), (1, .int (zI what))] []
  refine z_iload_n C dX1_meet_0 rfl 1 rfl ?_
  refine y_iconst C dX1_meet_1 ?_
  refine y_iconst C dX1_meet_2 ?_
  refine z_i C (z_runS (As := [.int (zI what), .int (zI 0), .int (zI 1)]) (rest := []) C (ct_X1_isIn (zl X) G what 0 1 (by first | assumption | omega) (by first | assumption | omega) (by first | assumption | omega)) (lw_S q189 q190 q58 q191) (sb_e [] rfl rfl) (na := 3) (by decide +kernel) rfl (zrm rfl rfl (rfl) (rfl)) rfl (Nat.le_of_ble_eq_true rfl) dX1_meet_3) (fun u => jn_ro (sb_e [] rfl rfl)) (fun r_3 u hp_3 => ?_)
  have hp_3 : r_3 = zI (bI (0 ≤ what ∧ what ≤ 1)) := hp_3
  subst hp_3
  refine y_bne (tgt := 11) C dX1_meet_6 (by decide) (fun c_6 => ?_) (fun c_6 => ?_)
  · skip
    refine y_iconst C dX1_meet_11 ?_
    refine z_istore_n (lv' := [(2, .int (zI 0)), (0, .ref x), (1, .int (zI what))]) C dX1_meet_12 rfl (nlt rfl) rfl ?_
    refine z_aload_n C dX1_meet_13 rfl 1 rfl ?_
    refine y_iconst C dX1_meet_14 ?_
    refine z_i (ws' := fun u => ([(x, .inr (10, [.ref a0, .ref b0, .ref m0, .int (zI im), .ref tl, .ref le, .int (zI fw), .int (zI fh), .int (zI lo), .ref sh])), (a0, .inr (8, [.ref a1, .ref a2, .ref a3, .ref a4, .int (zI (n : Int)), .int (zI oa), .int (zI dy)])), (a1, AQ G 4 7 r), (a2, AI G 7 hm), (a3, AI G 7 at_), (a4, AI G 7 lg), (m0, .inr (8, [.ref m1, .ref m2, .ref m3, .ref m4, .int (zI (u.2.2.2.2.1 : Int)), .int (zI u.2.2.2.2.2.1), .int (zI u.2.2.2.2.2.2)])), (m1, AQ G 4 7 u.1), (m2, AI G 7 u.2.1), (m3, AI G 7 u.2.2.1), (m4, AI G 7 u.2.2.2.1)] ++ PL LP hk hf)) C (z_runV (q := 0) (As := [.int (zI 0)]) (rest := []) C (ct_X1_allTake (zl X) G x b0 m0 tl le sh im fw fh lo a0 a1 a2 a3 a4 m1 m2 m3 m4 r hm at_ lg n oa dy mr mhm mat mlg mn moa mdy LP hk hf kd fg 0 (by first | assumption | omega) (by first | assumption | omega) (by first | assumption | omega) (by first | assumption | omega) (by omega)) (lw_V q674 q676 qs16 q58 q677) rfl rfl (sb_p [0, 1, 2, 3, 4, 5, 6, 7, 8, 9, 10] rfl rfl) (na := 1) (by decide +kernel) rfl (zrm rfl rfl (rfl) (rfl)) rfl (Nat.le_of_ble_eq_true rfl) dX1_meet_15) (fun u => jn_p (Lr := []) [0, 1, 2, 3, 4, 5, 6, 7, 8, 9, 10] [] [0, 1, 2, 3, 4, 5, 6, 7, 8, 9, 10] rfl rfl rfl (by decide) rfl rfl) (fun r_15 u hp_15 => ?_)
    obtain ⟨mr9_15, mhm9_15, mat9_15, mlg9_15, mn9_15, moa9_15, mdy9_15⟩ := u
    have hp_15 : r_15 = zI (sumF (tkB kd fg hm at_ lg n oa 0 0) n) := hp_15
    subst hp_15
    refine z_istore_n (lv' := [(3, .int (zI (sumF (tkB kd fg hm at_ lg n oa 0 0) n))), (2, .int (zI 0)), (0, .ref x), (1, .int (zI what))]) C dX1_meet_18 rfl (nlt rfl) rfl ?_
    refine y_iconst C dX1_meet_19 ?_
    refine z_istore (lv' := [(4, .int (zI 1)), (3, .int (zI (sumF (tkB kd fg hm at_ lg n oa 0 0) n))), (2, .int (zI 0)), (0, .ref x), (1, .int (zI what))]) C dX1_meet_20 (nlt rfl) rfl ?_
    have L_22 : ∀ (tt : Nat) (i : Nat) (bst : Int) (lst : Int) (mr : Nat → Option Nat) (mhm : Nat → Int) (mat : Nat → Int) (mlg : Nat → Int) (mn : Nat) (moa : Int) (mdy : Int), (1 ≤ i ∧ i ≤ 21) → (minF (meetF kd fg hm at_ lg n oa) i = (bst, lst)) → (0 ≤ bst ∧ bst ≤ 31 ∧ 0 ≤ lst ∧ lst ≤ 140) → 21 - i = tt → Z X (cX1_meet, 6, yX1_meet.cls, (some .int), { frames := 10, cells := 0, slots := 0, locals := 212 }, A) G 0 0 ([(x, .inr (10, [.ref a0, .ref b0, .ref m0, .int (zI im), .ref tl, .ref le, .int (zI fw), .int (zI fh), .int (zI lo), .ref sh])), (a0, .inr (8, [.ref a1, .ref a2, .ref a3, .ref a4, .int (zI (n : Int)), .int (zI oa), .int (zI dy)])), (a1, AQ G 4 7 r), (a2, AI G 7 hm), (a3, AI G 7 at_), (a4, AI G 7 lg), (m0, .inr (8, [.ref m1, .ref m2, .ref m3, .ref m4, .int (zI (mn : Int)), .int (zI moa), .int (zI mdy)])), (m1, AQ G 4 7 mr), (m2, AI G 7 mhm), (m3, AI G 7 mat), (m4, AI G 7 mlg)] ++ PL LP hk hf) 22 [(4, .int (zI (i : Int))), (3, .int (zI lst)), (2, .int (zI bst)), (0, .ref x), (1, .int (zI what))] [] := by
      intro tt
      induction tt using Nat.strongRecOn with
      | _ tt ih_22 =>
        intro i bst lst mr mhm mat mlg mn moa mdy hi hmf hbl ht_22
        refine z_iload C dX1_meet_22 0 rfl ?_
        refine y_bipush C dX1_meet_24 (by decide) ?_
        refine y_icmp_ge (tgt := 58) C (by omega) (by omega) dX1_meet_26 (by decide) (fun c_26 => ?_) (fun c_26 => ?_)
        · skip
          rw [show i = 21 by omega] at hmf
          refine z_iload_n C dX1_meet_58 rfl 4 rfl ?_
          refine y_if_ne (tgt := 66) C (by omega) dX1_meet_59 (by decide) (fun c_59 => ?_) (fun c_59 => ?_)
          · skip
            refine z_iload_n C dX1_meet_66 rfl 1 rfl ?_
            exact z_iret C hA hQ rfl (Nat.le_of_ble_eq_true rfl) (Nat.le_of_ble_eq_true rfl) ((mr, mhm, mat, mlg, mn, moa, mdy)) (congrArg zI (by unfold oMeet; rw [if_pos (by omega)]; (try simp only [zTN]); rw [hmf]; first | rw [if_pos (by omega)] | rw [if_neg (by omega)])) (sb_p [0, 1, 2, 3, 4, 5, 6, 7, 8, 9, 10] rfl rfl) dX1_meet_67
          · skip
            refine z_iload_n C dX1_meet_62 rfl 2 rfl ?_
            refine z_goto (tgt := 67) C dX1_meet_63 (by decide) ?_
            exact z_iret C hA hQ rfl (Nat.le_of_ble_eq_true rfl) (Nat.le_of_ble_eq_true rfl) ((mr, mhm, mat, mlg, mn, moa, mdy)) (congrArg zI (by unfold oMeet; rw [if_pos (by omega)]; (try simp only [zTN]); rw [hmf]; first | rw [if_pos (by omega)] | rw [if_neg (by omega)])) (sb_p [0, 1, 2, 3, 4, 5, 6, 7, 8, 9, 10] rfl rfl) dX1_meet_67
        · skip
          refine z_aload_n C dX1_meet_29 rfl 3 rfl ?_
          refine z_iload C dX1_meet_30 0 rfl ?_
          refine z_i (ws' := fun u => ([(x, .inr (10, [.ref a0, .ref b0, .ref m0, .int (zI im), .ref tl, .ref le, .int (zI fw), .int (zI fh), .int (zI lo), .ref sh])), (a0, .inr (8, [.ref a1, .ref a2, .ref a3, .ref a4, .int (zI (n : Int)), .int (zI oa), .int (zI dy)])), (a1, AQ G 4 7 r), (a2, AI G 7 hm), (a3, AI G 7 at_), (a4, AI G 7 lg), (m0, .inr (8, [.ref m1, .ref m2, .ref m3, .ref m4, .int (zI (u.2.2.2.2.1 : Int)), .int (zI u.2.2.2.2.2.1), .int (zI u.2.2.2.2.2.2)])), (m1, AQ G 4 7 u.1), (m2, AI G 7 u.2.1), (m3, AI G 7 u.2.2.1), (m4, AI G 7 u.2.2.2.1)] ++ PL LP hk hf)) C (z_runV (q := 0) (As := [.int (zI (i : Int))]) (rest := []) C (ct_X1_allTake (zl X) G x b0 m0 tl le sh im fw fh lo a0 a1 a2 a3 a4 m1 m2 m3 m4 r hm at_ lg n oa dy mr mhm mat mlg mn moa mdy LP hk hf kd fg (i : Int) (by first | assumption | omega) (by first | assumption | omega) (by first | assumption | omega) (by first | assumption | omega) (by omega)) (lw_V q674 q676 qs16 q58 q677) rfl rfl (sb_p [0, 1, 2, 3, 4, 5, 6, 7, 8, 9, 10] rfl rfl) (na := 1) (by decide +kernel) rfl (zrm rfl rfl (rfl) (rfl)) rfl (Nat.le_of_ble_eq_true rfl) dX1_meet_32) (fun u => jn_p (Lr := []) [0, 1, 2, 3, 4, 5, 6, 7, 8, 9, 10] [] [0, 1, 2, 3, 4, 5, 6, 7, 8, 9, 10] rfl rfl rfl (by decide) rfl rfl) (fun r_32 u hp_32 => ?_)
          obtain ⟨mr9_32, mhm9_32, mat9_32, mlg9_32, mn9_32, moa9_32, mdy9_32⟩ := u
          have hp_32 : r_32 = zI (sumF (tkB kd fg hm at_ lg n oa (i : Int) 0) n) := hp_32
          subst hp_32
          have htk : 0 ≤ sumF (tkB kd fg hm at_ lg n oa (i : Int) 0) n ∧ sumF (tkB kd fg hm at_ lg n oa (i : Int) 0) n ≤ 140 := meetF_r kd fg hm at_ lg oa hn7 i
          refine z_istore (lv' := [(5, .int (zI (sumF (tkB kd fg hm at_ lg n oa (i : Int) 0) n))), (4, .int (zI (i : Int))), (3, .int (zI lst)), (2, .int (zI bst)), (0, .ref x), (1, .int (zI what))]) C dX1_meet_35 (nlt rfl) rfl ?_
          refine z_iload C dX1_meet_37 0 rfl ?_
          refine z_iload_n C dX1_meet_39 rfl 2 rfl ?_
          refine y_icmp_lt (tgt := 46) C (by omega) (by omega) dX1_meet_40 (by decide) (fun c_40 => ?_) (fun c_40 => ?_)
          · skip
            refine z_iload C dX1_meet_46 1 rfl ?_
            refine z_istore_n (lv' := [(2, .int (zI (i : Int))), (5, .int (zI (sumF (tkB kd fg hm at_ lg n oa (i : Int) 0) n))), (4, .int (zI (i : Int))), (3, .int (zI lst)), (0, .ref x), (1, .int (zI what))]) C dX1_meet_48 rfl (nlt rfl) rfl ?_
            refine z_iload C dX1_meet_49 1 rfl ?_
            refine z_istore_n (lv' := [(3, .int (zI (sumF (tkB kd fg hm at_ lg n oa (i : Int) 0) n))), (2, .int (zI (i : Int))), (5, .int (zI (sumF (tkB kd fg hm at_ lg n oa (i : Int) 0) n))), (4, .int (zI (i : Int))), (0, .ref x), (1, .int (zI what))]) C dX1_meet_51 rfl (nlt rfl) rfl ?_
            refine y_iinc (lv' := [(4, .int (zI ((i : Int) + 1))), (3, .int (zI (sumF (tkB kd fg hm at_ lg n oa (i : Int) 0) n))), (2, .int (zI (i : Int))), (5, .int (zI (sumF (tkB kd fg hm at_ lg n oa (i : Int) 0) n))), (0, .ref x), (1, .int (zI what))]) C dX1_meet_52 (q := 3) rfl (nlt rfl) rfl ?_
            refine z_goto (tgt := 22) C dX1_meet_55 (by decide) ?_
            refine z_lv (lv' := [(4, .int (zI ((i : Int) + 1))), (3, .int (zI (sumF (tkB kd fg hm at_ lg n oa (i : Int) 0) n))), (2, .int (zI (i : Int))), (0, .ref x), (1, .int (zI what))]) [0, 1, 2, 4, 5] rfl ?_
            exact ih_22 _ (by omega) (i + 1) (i : Int) (sumF (tkB kd fg hm at_ lg n oa (i : Int) 0) n) mr9_32 mhm9_32 mat9_32 mlg9_32 mn9_32 moa9_32 mdy9_32 (by first | assumption | omega) (by first | exact minF_t' hmf (by show _ ∨ sumF (tkB kd fg hm at_ lg n oa (i : Int) 0) n < _; omega) | exact minF_f' hmf (by show ¬ (_ ∨ sumF (tkB kd fg hm at_ lg n oa (i : Int) 0) n < _); omega)) (by first | assumption | omega) rfl
          · skip
            refine z_goto (tgt := 52) C dX1_meet_43 (by decide) ?_
            refine y_iinc (lv' := [(4, .int (zI ((i : Int) + 1))), (5, .int (zI (sumF (tkB kd fg hm at_ lg n oa (i : Int) 0) n))), (3, .int (zI lst)), (2, .int (zI bst)), (0, .ref x), (1, .int (zI what))]) C dX1_meet_52 (q := 1) rfl (nlt rfl) rfl ?_
            refine z_goto (tgt := 22) C dX1_meet_55 (by decide) ?_
            refine z_lv (lv' := [(4, .int (zI ((i : Int) + 1))), (3, .int (zI lst)), (2, .int (zI bst)), (0, .ref x), (1, .int (zI what))]) [0, 2, 3, 4, 5] rfl ?_
            exact ih_22 _ (by omega) (i + 1) bst lst mr9_32 mhm9_32 mat9_32 mlg9_32 mn9_32 moa9_32 mdy9_32 (by first | assumption | omega) (by first | exact minF_t' hmf (by show _ ∨ sumF (tkB kd fg hm at_ lg n oa (i : Int) 0) n < _; omega) | exact minF_f' hmf (by show ¬ (_ ∨ sumF (tkB kd fg hm at_ lg n oa (i : Int) 0) n < _); omega)) (by first | assumption | omega) rfl
    exact L_22 _ 1 0 (sumF (tkB kd fg hm at_ lg n oa 0 0) n) mr9_15 mhm9_15 mat9_15 mlg9_15 mn9_15 moa9_15 mdy9_15 (by first | assumption | omega) (minF_t' (f := meetF kd fg hm at_ lg n oa) (i := 0) (b := -4) (l := -4) rfl (by omega)) (by have : 0 ≤ sumF (tkB kd fg hm at_ lg n oa 0 0) n ∧ sumF (tkB kd fg hm at_ lg n oa 0 0) n ≤ 140 := meetF_r kd fg hm at_ lg oa hn7 0; omega) rfl
  · skip
    refine y_iconst C dX1_meet_9 ?_
    exact z_iret C hA hQ rfl (Nat.le_of_ble_eq_true rfl) (Nat.le_of_ble_eq_true rfl) ((mr, mhm, mat, mlg, mn, moa, mdy)) (congrArg zI (by unfold oMeet; (try simp only [zTN]); (repeat (first | rw [if_pos (by omega)] | rw [if_neg (by omega)])); first | done | rfl)) (sb_p [0, 1, 2, 3, 4, 5, 6, 7, 8, 9, 10] rfl rfl) dX1_meet_10

/-- the farthest pair: one a, with b = a + 1 + 0 .. -/
def spIn (at_ : Nat → Int) (a : Nat) : Nat → Int × Int → Int × Int
  | 0, s => s
  | k + 1, s => if (spIn at_ a k s).2 < zAbs (at_ a - at_ (a + 1 + k)) then (10 * (a : Int) + ((a + 1 + k : Nat) : Int), zAbs (at_ a - at_ (a + 1 + k))) else spIn at_ a k s
theorem spIn_t {at_ : Nat → Int} {a b k : Nat} {s : Int × Int} {p q : Int} (h : spIn at_ a k s = (p, q)) (hb : b = a + 1 + k) (c : q < zAbs (at_ a - at_ b)) : spIn at_ a (k + 1) s = (10 * (a : Int) + (b : Int), zAbs (at_ a - at_ b)) := by
  subst hb
  show (if _ then _ else _) = _
  rw [h]; exact if_pos c
theorem spIn_f {at_ : Nat → Int} {a b k : Nat} {s : Int × Int} {p q : Int} (h : spIn at_ a k s = (p, q)) (hb : b = a + 1 + k) (c : ¬ q < zAbs (at_ a - at_ b)) : spIn at_ a (k + 1) s = (p, q) := by
  subst hb
  show (if _ then _ else _) = _
  rw [h]; exact if_neg c
def spOut (at_ : Nat → Int) (n : Nat) : Nat → Int × Int
  | 0 => (-4, -4)
  | a + 1 => spIn at_ a (n - (a + 1)) (spOut at_ n a)
def oSpread (kd : Nat → Nat) (fg : Nat → Int) (hm : Nat → Int) (at_ : Nat → Int) (lg : Nat → Int) (n : Nat) (oa : Int) : Int := (spOut at_ n n).1
set_option maxHeartbeats 4000000 in
theorem ct_X1_spread (l : Launch) (G : ZG) (x : Nat) (b0 : Nat) (m0 : Nat) (tl : Nat) (le : Nat) (sh : Nat) (im : Int) (fw : Int) (fh : Int) (lo : Int) (a0 : Nat) (a1 : Nat) (a2 : Nat) (a3 : Nat) (a4 : Nat) (r : Nat → Option Nat) (hm : Nat → Int) (at_ : Nat → Int) (lg : Nat → Int) (n : Nat) (oa : Int) (dy : Int) (LP : List Nat) (hk : Nat → Nat) (hf : Nat → Int) (kd : Nat → Nat) (fg : Nat → Int) (hH : HR LP hk hf r n kd fg) (hL : LK n kd fg hm at_ lg oa) : CT l yX1_spread cX1_spread 5 (some .int) { frames := 1, cells := 0, slots := 0, locals := 13 } G [.ref x] ([(x, .inr (10, [.ref a0, .ref b0, .ref m0, .int (zI im), .ref tl, .ref le, .int (zI fw), .int (zI fh), .int (zI lo), .ref sh])), (a0, .inr (8, [.ref a1, .ref a2, .ref a3, .ref a4, .int (zI (n : Int)), .int (zI oa), .int (zI dy)])), (a1, AQ G 4 7 r), (a2, AI G 7 hm), (a3, AI G 7 at_), (a4, AI G 7 lg)] ++ PL LP hk hf) (Qi G ([(x, .inr (10, [.ref a0, .ref b0, .ref m0, .int (zI im), .ref tl, .ref le, .int (zI fw), .int (zI fh), .int (zI lo), .ref sh])), (a0, .inr (8, [.ref a1, .ref a2, .ref a3, .ref a4, .int (zI (n : Int)), .int (zI oa), .int (zI dy)])), (a1, AQ G 4 7 r), (a2, AI G 7 hm), (a3, AI G 7 at_), (a4, AI G 7 lg)] ++ PL LP hk hf) (fun (r : Int32) (u : Unit) => r = zI (oSpread kd fg hm at_ lg n oa)) (fun u => ([(x, .inr (10, [.ref a0, .ref b0, .ref m0, .int (zI im), .ref tl, .ref le, .int (zI fw), .int (zI fh), .int (zI lo), .ref sh])), (a0, .inr (8, [.ref a1, .ref a2, .ref a3, .ref a4, .int (zI (n : Int)), .int (zI oa), .int (zI dy)])), (a1, AQ G 4 7 r), (a2, AI G 7 hm), (a3, AI G 7 at_), (a4, AI G 7 lg)] ++ PL LP hk hf))) := by
  refine z_met (by decide) (Nat.le_of_ble_eq_true rfl) ?_
  intro X A hl0 hA C hQ hin
  subst hl0
  obtain ⟨hn7, hoa, hLj⟩ := id hL
  show Z X _ G 0 0 _ 0 [(0, .ref x)] []
  refine y_bipush C dX1_spread_0 (by decide) ?_
  refine z_istore_n (lv' := [(1, .int (zI (-4))), (0, .ref x)]) C dX1_spread_2 rfl (nlt rfl) rfl ?_
  refine y_bipush C dX1_spread_3 (by decide) ?_
  refine z_istore_n (lv' := [(2, .int (zI (-4))), (1, .int (zI (-4))), (0, .ref x)]) C dX1_spread_5 rfl (nlt rfl) rfl ?_
  refine y_iconst C dX1_spread_6 ?_
  refine z_istore_n (lv' := [(3, .int (zI 0)), (2, .int (zI (-4))), (1, .int (zI (-4))), (0, .ref x)]) C dX1_spread_7 rfl (nlt rfl) rfl ?_
  have L_8 : ∀ (tt : Nat) (a : Nat) (p : Int) (q : Int), (a ≤ n) → (spOut at_ n a = (p, q)) → (-4 ≤ p ∧ p ≤ 100 ∧ -4 ≤ q ∧ q ≤ 20) → n - a = tt → Z X (cX1_spread, 5, yX1_spread.cls, (some .int), { frames := 1, cells := 0, slots := 0, locals := 13 }, A) G 0 0 ([(x, .inr (10, [.ref a0, .ref b0, .ref m0, .int (zI im), .ref tl, .ref le, .int (zI fw), .int (zI fh), .int (zI lo), .ref sh])), (a0, .inr (8, [.ref a1, .ref a2, .ref a3, .ref a4, .int (zI (n : Int)), .int (zI oa), .int (zI dy)])), (a1, AQ G 4 7 r), (a2, AI G 7 hm), (a3, AI G 7 at_), (a4, AI G 7 lg)] ++ PL LP hk hf) 8 [(3, .int (zI (a : Int))), (2, .int (zI q)), (1, .int (zI p)), (0, .ref x)] [] := by
    intro tt
    induction tt using Nat.strongRecOn with
    | _ tt ih_8 =>
      intro a p q ha hot hpq ht_8
      refine z_iload_n C dX1_spread_8 rfl 0 rfl ?_
      refine z_aload_n C dX1_spread_9 rfl 3 rfl ?_
      refine z_get (q := 0) (kf := 0) (v := .ref a0) C rfl rfl in_X1 (by decide) q880 (Or.inl rfl) rfl dX1_spread_10 ?_
      refine z_get (q := 1) (kf := 4) (v := .int (zI (n : Int))) C rfl rfl in_X2 (by decide) q846 (Or.inl rfl) rfl dX1_spread_13 ?_
      refine y_icmp_ge (tgt := 110) C (by omega) (by omega) dX1_spread_16 (by decide) (fun c_16 => ?_) (fun c_16 => ?_)
      · skip
        refine z_iload_n C dX1_spread_110 rfl 2 rfl ?_
        exact z_iret C hA hQ rfl (Nat.le_of_ble_eq_true rfl) (Nat.le_of_ble_eq_true rfl) (()) (congrArg zI (by unfold oSpread; rw [show a = n by omega] at hot; rw [hot])) (sb_p [0, 1, 2, 3, 4, 5] rfl rfl) dX1_spread_111
      · skip
        have haa := hLj a (by omega)
        have haa2 := haa.2.2.2.1
        refine z_iload_n C dX1_spread_19 rfl 0 rfl ?_
        refine y_iconst C dX1_spread_20 ?_
        refine y_iadd C dX1_spread_21 ?_
        refine z_istore (lv' := [(4, .int (zI ((a : Int) + 1))), (3, .int (zI (a : Int))), (2, .int (zI q)), (1, .int (zI p)), (0, .ref x)]) C dX1_spread_22 (nlt rfl) rfl ?_
        have L_24 : ∀ (tt : Nat) (k : Nat) (b : Nat) (p : Int) (q : Int), (b = a + 1 + k) → (b ≤ n) → (spIn at_ a k (spOut at_ n a) = (p, q)) → (-4 ≤ p ∧ p ≤ 100 ∧ -4 ≤ q ∧ q ≤ 20) → n - b = tt → Z X (cX1_spread, 5, yX1_spread.cls, (some .int), { frames := 1, cells := 0, slots := 0, locals := 13 }, A) G 0 0 ([(x, .inr (10, [.ref a0, .ref b0, .ref m0, .int (zI im), .ref tl, .ref le, .int (zI fw), .int (zI fh), .int (zI lo), .ref sh])), (a0, .inr (8, [.ref a1, .ref a2, .ref a3, .ref a4, .int (zI (n : Int)), .int (zI oa), .int (zI dy)])), (a1, AQ G 4 7 r), (a2, AI G 7 hm), (a3, AI G 7 at_), (a4, AI G 7 lg)] ++ PL LP hk hf) 24 [(4, .int (zI (b : Int))), (3, .int (zI (a : Int))), (2, .int (zI q)), (1, .int (zI p)), (0, .ref x)] [] := by
          intro tt
          induction tt using Nat.strongRecOn with
          | _ tt ih_24 =>
            intro k b p q hb hbn hin2 hpq ht_24
            refine z_iload C dX1_spread_24 0 rfl ?_
            refine z_aload_n C dX1_spread_26 rfl 4 rfl ?_
            refine z_get (q := 0) (kf := 0) (v := .ref a0) C rfl rfl in_X1 (by decide) q880 (Or.inl rfl) rfl dX1_spread_27 ?_
            refine z_get (q := 1) (kf := 4) (v := .int (zI (n : Int))) C rfl rfl in_X2 (by decide) q846 (Or.inl rfl) rfl dX1_spread_30 ?_
            refine y_icmp_ge (tgt := 104) C (by omega) (by omega) dX1_spread_33 (by decide) (fun c_33 => ?_) (fun c_33 => ?_)
            · skip
              refine y_iinc (lv' := [(3, .int (zI ((a : Int) + 1))), (4, .int (zI (b : Int))), (2, .int (zI q)), (1, .int (zI p)), (0, .ref x)]) C dX1_spread_104 (q := 1) rfl (nlt rfl) rfl ?_
              refine z_goto (tgt := 8) C dX1_spread_107 (by decide) ?_
              refine z_lv (lv' := [(3, .int (zI ((a : Int) + 1))), (2, .int (zI q)), (1, .int (zI p)), (0, .ref x)]) [0, 2, 3, 4] rfl ?_
              exact ih_8 _ (by omega) (a + 1) p q (by first | assumption | omega) (by show spIn at_ a (n - (a + 1)) (spOut at_ n a) = _; rw [show n - (a + 1) = k by omega]; exact hin2) (hpq) rfl
            · skip
              have hbb2 := (hLj b (by omega)).2.2.2.1
              refine z_aload_n C dX1_spread_36 rfl 4 rfl ?_
              refine z_get (q := 0) (kf := 0) (v := .ref a0) C rfl rfl in_X1 (by decide) q880 (Or.inl rfl) rfl dX1_spread_37 ?_
              refine z_get (q := 1) (kf := 2) (v := .ref a3) C rfl rfl in_X2 (by decide) q842 (Or.inl rfl) rfl dX1_spread_40 ?_
              refine z_iload_n C dX1_spread_43 rfl 1 rfl ?_
              refine y_iald (q := 4) (t0 := 0) (v := at_ a) C rfl rfl (by omega) (by decide) rfl dX1_spread_44 ?_
              refine z_aload_n C dX1_spread_45 rfl 4 rfl ?_
              refine z_get (q := 0) (kf := 0) (v := .ref a0) C rfl rfl in_X1 (by decide) q880 (Or.inl rfl) rfl dX1_spread_46 ?_
              refine z_get (q := 1) (kf := 2) (v := .ref a3) C rfl rfl in_X2 (by decide) q842 (Or.inl rfl) rfl dX1_spread_49 ?_
              refine z_iload C dX1_spread_52 0 rfl ?_
              refine y_iald (q := 4) (t0 := 0) (v := at_ b) C rfl rfl (by omega) (by decide) rfl dX1_spread_54 ?_
              refine y_isub C dX1_spread_55 ?_
              refine y_abs C q682 q405 q80 q406 (Nat.le_of_ble_eq_true rfl) (Nat.le_of_ble_eq_true rfl) (Nat.le_of_ble_eq_true rfl) (Nat.le_of_ble_eq_true rfl) (by omega) dX1_spread_56 ?_
              refine z_iload_n C dX1_spread_59 rfl 2 rfl ?_
              refine y_icmp_gt (tgt := 66) C (by have h8 := zAbs_nn (at_ a - at_ b); have h9 := (zAbs_le (a := at_ a - at_ b) (m := 20)).mpr ⟨by omega, by omega⟩; omega) (by have h8 := zAbs_nn (at_ a - at_ b); have h9 := (zAbs_le (a := at_ a - at_ b) (m := 20)).mpr ⟨by omega, by omega⟩; omega) dX1_spread_60 (by decide) (fun c_60 => ?_) (fun c_60 => ?_)
              · skip
                refine y_bipush C dX1_spread_66 (by decide) ?_
                refine z_iload_n C dX1_spread_68 rfl 1 rfl ?_
                refine y_imul C dX1_spread_69 ?_
                refine z_iload C dX1_spread_70 0 rfl ?_
                refine y_iadd C dX1_spread_72 ?_
                refine z_istore_n (lv' := [(1, .int (zI ((10 * (a : Int)) + (b : Int)))), (4, .int (zI (b : Int))), (3, .int (zI (a : Int))), (2, .int (zI q)), (0, .ref x)]) C dX1_spread_73 rfl (nlt rfl) rfl ?_
                refine z_aload_n C dX1_spread_74 rfl 4 rfl ?_
                refine z_get (q := 0) (kf := 0) (v := .ref a0) C rfl rfl in_X1 (by decide) q880 (Or.inl rfl) rfl dX1_spread_75 ?_
                refine z_get (q := 1) (kf := 2) (v := .ref a3) C rfl rfl in_X2 (by decide) q842 (Or.inl rfl) rfl dX1_spread_78 ?_
                refine z_iload_n C dX1_spread_81 rfl 2 rfl ?_
                refine y_iald (q := 4) (t0 := 0) (v := at_ a) C rfl rfl (by omega) (by decide) rfl dX1_spread_82 ?_
                refine z_aload_n C dX1_spread_83 rfl 4 rfl ?_
                refine z_get (q := 0) (kf := 0) (v := .ref a0) C rfl rfl in_X1 (by decide) q880 (Or.inl rfl) rfl dX1_spread_84 ?_
                refine z_get (q := 1) (kf := 2) (v := .ref a3) C rfl rfl in_X2 (by decide) q842 (Or.inl rfl) rfl dX1_spread_87 ?_
                refine z_iload C dX1_spread_90 1 rfl ?_
                refine y_iald (q := 4) (t0 := 0) (v := at_ b) C rfl rfl (by omega) (by decide) rfl dX1_spread_92 ?_
                refine y_isub C dX1_spread_93 ?_
                refine y_abs C q682 q405 q80 q406 (Nat.le_of_ble_eq_true rfl) (Nat.le_of_ble_eq_true rfl) (Nat.le_of_ble_eq_true rfl) (Nat.le_of_ble_eq_true rfl) (by omega) dX1_spread_94 ?_
                refine z_istore_n (lv' := [(2, .int (zI (zAbs ((at_ a) - (at_ b))))), (1, .int (zI ((10 * (a : Int)) + (b : Int)))), (4, .int (zI (b : Int))), (3, .int (zI (a : Int))), (0, .ref x)]) C dX1_spread_97 rfl (nlt rfl) rfl ?_
                refine y_iinc (lv' := [(4, .int (zI ((b : Int) + 1))), (2, .int (zI (zAbs ((at_ a) - (at_ b))))), (1, .int (zI ((10 * (a : Int)) + (b : Int)))), (3, .int (zI (a : Int))), (0, .ref x)]) C dX1_spread_98 (q := 2) rfl (nlt rfl) rfl ?_
                refine z_goto (tgt := 24) C dX1_spread_101 (by decide) ?_
                refine z_lv (lv' := [(4, .int (zI ((b : Int) + 1))), (3, .int (zI (a : Int))), (2, .int (zI (zAbs ((at_ a) - (at_ b))))), (1, .int (zI ((10 * (a : Int)) + (b : Int)))), (0, .ref x)]) [0, 3, 1, 2, 4] rfl ?_
                exact ih_24 _ (by omega) (k + 1) (b + 1) ((10 * (a : Int)) + (b : Int)) (zAbs ((at_ a) - (at_ b))) (by omega) (by first | assumption | omega) (by first | exact spIn_t hin2 hb (by omega) | exact spIn_f hin2 hb (by omega)) (by have h8 := zAbs_nn (at_ a - at_ b); have h9 := (zAbs_le (a := at_ a - at_ b) (m := 20)).mpr ⟨by omega, by omega⟩; omega) rfl
              · skip
                refine z_goto (tgt := 98) C dX1_spread_63 (by decide) ?_
                refine y_iinc (lv' := [(4, .int (zI ((b : Int) + 1))), (3, .int (zI (a : Int))), (2, .int (zI q)), (1, .int (zI p)), (0, .ref x)]) C dX1_spread_98 (q := 0) rfl (nlt rfl) rfl ?_
                refine z_goto (tgt := 24) C dX1_spread_101 (by decide) ?_
                exact ih_24 _ (by omega) (k + 1) (b + 1) p q (by omega) (by first | assumption | omega) (by first | exact spIn_t hin2 hb (by omega) | exact spIn_f hin2 hb (by omega)) (by have h8 := zAbs_nn (at_ a - at_ b); have h9 := (zAbs_le (a := at_ a - at_ b) (m := 20)).mpr ⟨by omega, by omega⟩; omega) rfl
        rw [show (a : Int) + 1 = ((a + 1 : Nat) : Int) by omega]
        exact L_24 _ 0 (a + 1) p q (rfl) (by first | assumption | omega) (hot) (by first | assumption | omega) rfl
  exact L_8 _ 0 (-4) (-4) (by first | assumption | omega) (rfl) (by first | assumption | omega) rfl

def feeF (kd : Nat → Nat) (fg hm at_ lg : Nat → Int) (n : Nat) (oa yard : Int) (j : Nat) : Int := costZ (kd j) (fg j) * tkB kd fg hm at_ lg n oa yard 0 j
theorem feeF_r {kd : Nat → Nat} {fg hm at_ lg : Nat → Int} {n : Nat} {oa : Int} (yard : Int) {j : Nat} (h : 0 ≤ fg j ∧ fg j ≤ 9) : 0 ≤ feeF kd fg hm at_ lg n oa yard j ∧ feeF kd fg hm at_ lg n oa yard j ≤ 260 := by
  have h1 := costZ_r (k := kd j) h
  have h2 := tkB_r kd fg hm at_ lg n oa yard 0 j
  unfold feeF
  refine ⟨Int.mul_nonneg (by omega) h2.1, ?_⟩
  have := Int.mul_le_mul h1.2 h2.2 h2.1 (by omega)
  omega
set_option maxHeartbeats 4000000 in
theorem ct_X1_feesOf (l : Launch) (G : ZG) (x : Nat) (b0 : Nat) (m0 : Nat) (tl : Nat) (le : Nat) (sh : Nat) (im : Int) (fw : Int) (fh : Int) (lo : Int) (a0 : Nat) (a1 : Nat) (a2 : Nat) (a3 : Nat) (a4 : Nat) (m1 : Nat) (m2 : Nat) (m3 : Nat) (m4 : Nat) (r : Nat → Option Nat) (hm : Nat → Int) (at_ : Nat → Int) (lg : Nat → Int) (n : Nat) (oa : Int) (dy : Int) (mr : Nat → Option Nat) (mhm : Nat → Int) (mat : Nat → Int) (mlg : Nat → Int) (mn : Nat) (moa : Int) (mdy : Int) (LP : List Nat) (hk : Nat → Nat) (hf : Nat → Int) (kd : Nat → Nat) (fg : Nat → Int) (j : Nat) (yard : Int) (hH : HR LP hk hf r n kd fg) (hL : LK n kd fg hm at_ lg oa) (hK : PK LP hk hf) (hV : RV LP r) (hj : j < n) (hy : 0 ≤ yard ∧ yard ≤ 20) : CT l yX1_feesOf cX1_feesOf 3 (some .int) { frames := 9, cells := 0, slots := 0, locals := 189 } G [.ref x, .int (zI (j : Int)), .int (zI yard)] ([(x, .inr (10, [.ref a0, .ref b0, .ref m0, .int (zI im), .ref tl, .ref le, .int (zI fw), .int (zI fh), .int (zI lo), .ref sh])), (a0, .inr (8, [.ref a1, .ref a2, .ref a3, .ref a4, .int (zI (n : Int)), .int (zI oa), .int (zI dy)])), (a1, AQ G 4 7 r), (a2, AI G 7 hm), (a3, AI G 7 at_), (a4, AI G 7 lg), (m0, .inr (8, [.ref m1, .ref m2, .ref m3, .ref m4, .int (zI (mn : Int)), .int (zI moa), .int (zI mdy)])), (m1, AQ G 4 7 mr), (m2, AI G 7 mhm), (m3, AI G 7 mat), (m4, AI G 7 mlg)] ++ PL LP hk hf) (Qi G ([(x, .inr (10, [.ref a0, .ref b0, .ref m0, .int (zI im), .ref tl, .ref le, .int (zI fw), .int (zI fh), .int (zI lo), .ref sh])), (a0, .inr (8, [.ref a1, .ref a2, .ref a3, .ref a4, .int (zI (n : Int)), .int (zI oa), .int (zI dy)])), (a1, AQ G 4 7 r), (a2, AI G 7 hm), (a3, AI G 7 at_), (a4, AI G 7 lg), (m0, .inr (8, [.ref m1, .ref m2, .ref m3, .ref m4, .int (zI (mn : Int)), .int (zI moa), .int (zI mdy)])), (m1, AQ G 4 7 mr), (m2, AI G 7 mhm), (m3, AI G 7 mat), (m4, AI G 7 mlg)] ++ PL LP hk hf) (fun (r : Int32) (u : (Nat → Option Nat) × (Nat → Int) × (Nat → Int) × (Nat → Int) × Nat × Int × Int) => r = zI (feeF kd fg hm at_ lg n oa yard j)) (fun u => ([(x, .inr (10, [.ref a0, .ref b0, .ref m0, .int (zI im), .ref tl, .ref le, .int (zI fw), .int (zI fh), .int (zI lo), .ref sh])), (a0, .inr (8, [.ref a1, .ref a2, .ref a3, .ref a4, .int (zI (n : Int)), .int (zI oa), .int (zI dy)])), (a1, AQ G 4 7 r), (a2, AI G 7 hm), (a3, AI G 7 at_), (a4, AI G 7 lg), (m0, .inr (8, [.ref m1, .ref m2, .ref m3, .ref m4, .int (zI (u.2.2.2.2.1 : Int)), .int (zI u.2.2.2.2.2.1), .int (zI u.2.2.2.2.2.2)])), (m1, AQ G 4 7 u.1), (m2, AI G 7 u.2.1), (m3, AI G 7 u.2.2.1), (m4, AI G 7 u.2.2.2.1)] ++ PL LP hk hf))) := by
  refine z_met (by decide) (Nat.le_of_ble_eq_true rfl) ?_
  intro X A hl0 hA C hQ hin
  subst hl0
  obtain ⟨hn7, hoa, hLj⟩ := id hL
  obtain ⟨hk1, hf1, hm1, ha1, hl1⟩ := hLj j hj
  obtain ⟨y, hy1, hy2, hy3, hy4⟩ := hH j hj
  show Z X _ G 0 0 _ 0 [(0, .ref x), (1, .int (zI (j : Int))), (2, .int (zI yard))] []
  refine z_aload_n C dX1_feesOf_0 rfl 0 rfl ?_
  refine z_get (q := 0) (kf := 0) (v := .ref a0) C rfl rfl in_X1 (by decide) q880 (Or.inl rfl) rfl dX1_feesOf_1 ?_
  refine z_get (q := 1) (kf := 0) (v := .ref a1) C rfl rfl in_X2 (by decide) q838 (Or.inl rfl) rfl dX1_feesOf_4 ?_
  refine z_iload_n C dX1_feesOf_7 rfl 1 rfl ?_
  refine y_aldq (q := 2) (t0 := 4) (v := .ref y) C rfl rfl (by omega) (by decide) (by show va_rf (r j) = _; rw [hy1]; rfl) dX1_feesOf_8 ?_
  obtain ⟨q_9, hq_9⟩ := pl_at (E := [(x, .inr (10, [.ref a0, .ref b0, .ref m0, .int (zI im), .ref tl, .ref le, .int (zI fw), .int (zI fh), .int (zI lo), .ref sh])), (a0, .inr (8, [.ref a1, .ref a2, .ref a3, .ref a4, .int (zI (n : Int)), .int (zI oa), .int (zI dy)])), (a1, AQ G 4 7 r), (a2, AI G 7 hm), (a3, AI G 7 at_), (a4, AI G 7 lg), (m0, .inr (8, [.ref m1, .ref m2, .ref m3, .ref m4, .int (zI (mn : Int)), .int (zI moa), .int (zI mdy)])), (m1, AQ G 4 7 mr), (m2, AI G 7 mhm), (m3, AI G 7 mat), (m4, AI G 7 mlg)]) (hk := hk) (hf := hf) hy2
  rw [hy3, hy4] at hq_9
  refine dsp_cost C (kd := kd j) (f := fg j) hk1 hq_9 (C.ts _ q691)  (Nat.le_of_ble_eq_true rfl) (Nat.le_of_ble_eq_true rfl) (Nat.le_of_ble_eq_true rfl) (Nat.le_of_ble_eq_true rfl) (Nat.le_of_ble_eq_true rfl) dX1_feesOf_9 ?_
  refine z_aload_n C dX1_feesOf_12 rfl 0 rfl ?_
  refine z_iload_n C dX1_feesOf_13 rfl 1 rfl ?_
  refine z_iload_n C dX1_feesOf_14 rfl 2 rfl ?_
  refine y_iconst C dX1_feesOf_15 ?_
  refine z_i (ws' := fun u => ([(x, .inr (10, [.ref a0, .ref b0, .ref m0, .int (zI im), .ref tl, .ref le, .int (zI fw), .int (zI fh), .int (zI lo), .ref sh])), (a0, .inr (8, [.ref a1, .ref a2, .ref a3, .ref a4, .int (zI (n : Int)), .int (zI oa), .int (zI dy)])), (a1, AQ G 4 7 r), (a2, AI G 7 hm), (a3, AI G 7 at_), (a4, AI G 7 lg), (m0, .inr (8, [.ref m1, .ref m2, .ref m3, .ref m4, .int (zI (u.2.2.2.2.1 : Int)), .int (zI u.2.2.2.2.2.1), .int (zI u.2.2.2.2.2.2)])), (m1, AQ G 4 7 u.1), (m2, AI G 7 u.2.1), (m3, AI G 7 u.2.2.1), (m4, AI G 7 u.2.2.2.1)] ++ PL LP hk hf)) C (z_runV (q := 0) (As := [.int (zI (j : Int)), .int (zI yard), .int (zI 0)]) (rest := [.int (zI (costZ (kd j) (fg j)))]) C (ct_X1_takesBehind (zl X) G x b0 m0 tl le sh im fw fh lo a0 a1 a2 a3 a4 m1 m2 m3 m4 r hm at_ lg n oa dy mr mhm mat mlg mn moa mdy LP hk hf kd fg j yard 0 (by first | assumption | omega) (by first | assumption | omega) (by first | assumption | omega) (by first | assumption | omega) (by first | assumption | omega) (by first | assumption | omega) (by first | assumption | omega)) (lw_V q605 q607 qs13 q58 q608) rfl rfl (sb_p [0, 1, 2, 3, 4, 5, 6, 7, 8, 9, 10] rfl rfl) (na := 3) (by decide +kernel) rfl (zrm rfl rfl (rfl) (rfl)) rfl (Nat.le_of_ble_eq_true rfl) dX1_feesOf_16) (fun u => jn_p (Lr := []) [0, 1, 2, 3, 4, 5, 6, 7, 8, 9, 10] [] [0, 1, 2, 3, 4, 5, 6, 7, 8, 9, 10] rfl rfl rfl (by decide) rfl rfl) (fun r_16 u hp_16 => ?_)
  obtain ⟨mr9_16, mhm9_16, mat9_16, mlg9_16, mn9_16, moa9_16, mdy9_16⟩ := u
  have hp_16 : r_16 = zI (tkB kd fg hm at_ lg n oa yard 0 j) := hp_16
  subst hp_16
  refine y_imul C dX1_feesOf_19 ?_
  exact z_iret C hA hQ rfl (Nat.le_of_ble_eq_true rfl) (Nat.le_of_ble_eq_true rfl) ((mr9_16, mhm9_16, mat9_16, mlg9_16, mn9_16, moa9_16, mdy9_16)) (rfl) (sb_p [0, 1, 2, 3, 4, 5, 6, 7, 8, 9, 10] rfl rfl) dX1_feesOf_20

def oFees (kd : Nat → Nat) (fg : Nat → Int) (hm : Nat → Int) (at_ : Nat → Int) (lg : Nat → Int) (n : Nat) (oa : Int) (h : Int) (yard : Int) : Int := if (-1 ≤ h ∧ h ≤ (n : Int) - 1) ∧ (0 ≤ yard ∧ yard ≤ 20) then (if 0 ≤ h then feeF kd fg hm at_ lg n oa yard h.toNat else (minF (feeF kd fg hm at_ lg n oa yard) n).1) else -1
set_option maxHeartbeats 4000000 in
theorem ct_X1_fees (l : Launch) (G : ZG) (x : Nat) (b0 : Nat) (m0 : Nat) (tl : Nat) (le : Nat) (sh : Nat) (im : Int) (fw : Int) (fh : Int) (lo : Int) (a0 : Nat) (a1 : Nat) (a2 : Nat) (a3 : Nat) (a4 : Nat) (m1 : Nat) (m2 : Nat) (m3 : Nat) (m4 : Nat) (r : Nat → Option Nat) (hm : Nat → Int) (at_ : Nat → Int) (lg : Nat → Int) (n : Nat) (oa : Int) (dy : Int) (mr : Nat → Option Nat) (mhm : Nat → Int) (mat : Nat → Int) (mlg : Nat → Int) (mn : Nat) (moa : Int) (mdy : Int) (LP : List Nat) (hk : Nat → Nat) (hf : Nat → Int) (kd : Nat → Nat) (fg : Nat → Int) (h : Int) (yard : Int) (hH : HR LP hk hf r n kd fg) (hL : LK n kd fg hm at_ lg oa) (hK : PK LP hk hf) (hV : RV LP r) (rh : -2147483648 ≤ h ∧ h ≤ 2147483647) (ryard : -2147483648 ≤ yard ∧ yard ≤ 2147483647) : CT l yX1_fees cX1_fees 5 (some .int) { frames := 10, cells := 0, slots := 0, locals := 211 } G [.ref x, .int (zI h), .int (zI yard)] ([(x, .inr (10, [.ref a0, .ref b0, .ref m0, .int (zI im), .ref tl, .ref le, .int (zI fw), .int (zI fh), .int (zI lo), .ref sh])), (a0, .inr (8, [.ref a1, .ref a2, .ref a3, .ref a4, .int (zI (n : Int)), .int (zI oa), .int (zI dy)])), (a1, AQ G 4 7 r), (a2, AI G 7 hm), (a3, AI G 7 at_), (a4, AI G 7 lg), (m0, .inr (8, [.ref m1, .ref m2, .ref m3, .ref m4, .int (zI (mn : Int)), .int (zI moa), .int (zI mdy)])), (m1, AQ G 4 7 mr), (m2, AI G 7 mhm), (m3, AI G 7 mat), (m4, AI G 7 mlg)] ++ PL LP hk hf) (Qi G ([(x, .inr (10, [.ref a0, .ref b0, .ref m0, .int (zI im), .ref tl, .ref le, .int (zI fw), .int (zI fh), .int (zI lo), .ref sh])), (a0, .inr (8, [.ref a1, .ref a2, .ref a3, .ref a4, .int (zI (n : Int)), .int (zI oa), .int (zI dy)])), (a1, AQ G 4 7 r), (a2, AI G 7 hm), (a3, AI G 7 at_), (a4, AI G 7 lg), (m0, .inr (8, [.ref m1, .ref m2, .ref m3, .ref m4, .int (zI (mn : Int)), .int (zI moa), .int (zI mdy)])), (m1, AQ G 4 7 mr), (m2, AI G 7 mhm), (m3, AI G 7 mat), (m4, AI G 7 mlg)] ++ PL LP hk hf) (fun (r : Int32) (u : (Nat → Option Nat) × (Nat → Int) × (Nat → Int) × (Nat → Int) × Nat × Int × Int) => r = zI (oFees kd fg hm at_ lg n oa h yard)) (fun u => ([(x, .inr (10, [.ref a0, .ref b0, .ref m0, .int (zI im), .ref tl, .ref le, .int (zI fw), .int (zI fh), .int (zI lo), .ref sh])), (a0, .inr (8, [.ref a1, .ref a2, .ref a3, .ref a4, .int (zI (n : Int)), .int (zI oa), .int (zI dy)])), (a1, AQ G 4 7 r), (a2, AI G 7 hm), (a3, AI G 7 at_), (a4, AI G 7 lg), (m0, .inr (8, [.ref m1, .ref m2, .ref m3, .ref m4, .int (zI (u.2.2.2.2.1 : Int)), .int (zI u.2.2.2.2.2.1), .int (zI u.2.2.2.2.2.2)])), (m1, AQ G 4 7 u.1), (m2, AI G 7 u.2.1), (m3, AI G 7 u.2.2.1), (m4, AI G 7 u.2.2.2.1)] ++ PL LP hk hf))) := by
  refine z_met (by decide) (Nat.le_of_ble_eq_true rfl) ?_
  intro X A hl0 hA C hQ hin
  subst hl0
  obtain ⟨hn7, hoa, hLj⟩ := id hL
  show Z X _ G 0 0 _ 0 [(0, .ref x), (1, .int (zI h)), (2, .int (zI yard))] []
  refine z_iload_n C dX1_fees_0 rfl 1 rfl ?_
  refine y_iconst C dX1_fees_1 ?_
  refine y_icmp_lt (tgt := 23) C (by omega) (by omega) dX1_fees_2 (by decide) (fun c_2 => ?_) (fun c_2 => ?_)
  · skip
    refine y_iconst C dX1_fees_23 ?_
    exact z_iret C hA hQ rfl (Nat.le_of_ble_eq_true rfl) (Nat.le_of_ble_eq_true rfl) ((mr, mhm, mat, mlg, mn, moa, mdy)) (congrArg zI (by unfold oFees; (try simp only [zTN]); (repeat (first | rw [if_pos (by omega)] | rw [if_neg (by omega)])); first | done | rfl)) (sb_p [0, 1, 2, 3, 4, 5, 6, 7, 8, 9, 10] rfl rfl) dX1_fees_24
  · skip
    refine z_iload_n C dX1_fees_5 rfl 1 rfl ?_
    refine z_aload_n C dX1_fees_6 rfl 0 rfl ?_
    refine z_get (q := 0) (kf := 0) (v := .ref a0) C rfl rfl in_X1 (by decide) q880 (Or.inl rfl) rfl dX1_fees_7 ?_
    refine z_get (q := 1) (kf := 4) (v := .int (zI (n : Int))) C rfl rfl in_X2 (by decide) q846 (Or.inl rfl) rfl dX1_fees_10 ?_
    refine y_icmp_ge (tgt := 23) C (by omega) (by omega) dX1_fees_13 (by decide) (fun c_13 => ?_) (fun c_13 => ?_)
    · skip
      refine y_iconst C dX1_fees_23 ?_
      exact z_iret C hA hQ rfl (Nat.le_of_ble_eq_true rfl) (Nat.le_of_ble_eq_true rfl) ((mr, mhm, mat, mlg, mn, moa, mdy)) (congrArg zI (by unfold oFees; (try simp only [zTN]); (repeat (first | rw [if_pos (by omega)] | rw [if_neg (by omega)])); first | done | rfl)) (sb_p [0, 1, 2, 3, 4, 5, 6, 7, 8, 9, 10] rfl rfl) dX1_fees_24
    · skip
      refine z_iload_n C dX1_fees_16 rfl 2 rfl ?_
      refine z_i C (z_runS (As := [.int (zI yard)]) (rest := []) C (ct_X1_isYard (zl X) G yard (by first | assumption | omega)) (lw_S q303 q304 q58 q305) (sb_e [] rfl rfl) (na := 1) (by decide +kernel) rfl (zrm rfl rfl (rfl) (rfl)) rfl (Nat.le_of_ble_eq_true rfl) dX1_fees_17) (fun u => jn_ro (sb_e [] rfl rfl)) (fun r_17 u hp_17 => ?_)
      have hp_17 : r_17 = zI (bI (0 ≤ yard ∧ yard ≤ 20)) := hp_17
      subst hp_17
      refine y_bne (tgt := 25) C dX1_fees_20 (by decide) (fun c_20 => ?_) (fun c_20 => ?_)
      · skip
        refine z_iload_n C dX1_fees_25 rfl 1 rfl ?_
        refine y_if_lt (tgt := 36) C (by omega) dX1_fees_26 (by decide) (fun c_26 => ?_) (fun c_26 => ?_)
        · skip
          refine y_bipush C dX1_fees_36 (by decide) ?_
          refine z_istore_n (lv' := [(3, .int (zI (-4))), (0, .ref x), (1, .int (zI h)), (2, .int (zI yard))]) C dX1_fees_38 rfl (nlt rfl) rfl ?_
          refine y_iconst C dX1_fees_39 ?_
          refine z_istore (lv' := [(4, .int (zI 0)), (3, .int (zI (-4))), (0, .ref x), (1, .int (zI h)), (2, .int (zI yard))]) C dX1_fees_40 (nlt rfl) rfl ?_
          have L_42 : ∀ (tt : Nat) (i : Nat) (bst : Int) (lst : Int) (mr : Nat → Option Nat) (mhm : Nat → Int) (mat : Nat → Int) (mlg : Nat → Int) (mn : Nat) (moa : Int) (mdy : Int), (i ≤ n) → (minF (feeF kd fg hm at_ lg n oa yard) i = (bst, lst)) → n - i = tt → Z X (cX1_fees, 5, yX1_fees.cls, (some .int), { frames := 10, cells := 0, slots := 0, locals := 211 }, A) G 0 0 ([(x, .inr (10, [.ref a0, .ref b0, .ref m0, .int (zI im), .ref tl, .ref le, .int (zI fw), .int (zI fh), .int (zI lo), .ref sh])), (a0, .inr (8, [.ref a1, .ref a2, .ref a3, .ref a4, .int (zI (n : Int)), .int (zI oa), .int (zI dy)])), (a1, AQ G 4 7 r), (a2, AI G 7 hm), (a3, AI G 7 at_), (a4, AI G 7 lg), (m0, .inr (8, [.ref m1, .ref m2, .ref m3, .ref m4, .int (zI (mn : Int)), .int (zI moa), .int (zI mdy)])), (m1, AQ G 4 7 mr), (m2, AI G 7 mhm), (m3, AI G 7 mat), (m4, AI G 7 mlg)] ++ PL LP hk hf) 42 [(4, .int (zI (i : Int))), (3, .int (zI bst)), (0, .ref x), (1, .int (zI h)), (2, .int (zI yard))] [] := by
            intro tt
            induction tt using Nat.strongRecOn with
            | _ tt ih_42 =>
              intro i bst lst mr mhm mat mlg mn moa mdy hi hmf ht_42
              have hmw := minF_w _ _ _ _ hmf
              refine z_iload C dX1_fees_42 0 rfl ?_
              refine z_aload_n C dX1_fees_44 rfl 2 rfl ?_
              refine z_get (q := 0) (kf := 0) (v := .ref a0) C rfl rfl in_X1 (by decide) q880 (Or.inl rfl) rfl dX1_fees_45 ?_
              refine z_get (q := 1) (kf := 4) (v := .int (zI (n : Int))) C rfl rfl in_X2 (by decide) q846 (Or.inl rfl) rfl dX1_fees_48 ?_
              refine y_icmp_ge (tgt := 83) C (by omega) (by omega) dX1_fees_51 (by decide) (fun c_51 => ?_) (fun c_51 => ?_)
              · skip
                refine z_iload_n C dX1_fees_83 rfl 1 rfl ?_
                rw [show i = n by omega] at hmf
                exact z_iret C hA hQ rfl (Nat.le_of_ble_eq_true rfl) (Nat.le_of_ble_eq_true rfl) ((mr, mhm, mat, mlg, mn, moa, mdy)) (congrArg zI (by unfold oFees; rw [if_pos (by omega), if_neg (by omega), hmf])) (sb_p [0, 1, 2, 3, 4, 5, 6, 7, 8, 9, 10] rfl rfl) dX1_fees_84
              · skip
                refine z_iload_n C dX1_fees_54 rfl 1 rfl ?_
                refine y_if_lt (tgt := 74) C (by omega) dX1_fees_55 (by decide) (fun c_55 => ?_) (fun c_55 => ?_)
                · skip
                  refine z_iload C dX1_fees_74 0 rfl ?_
                  refine z_istore_n (lv' := [(3, .int (zI (i : Int))), (4, .int (zI (i : Int))), (0, .ref x), (1, .int (zI h)), (2, .int (zI yard))]) C dX1_fees_76 rfl (nlt rfl) rfl ?_
                  refine y_iinc (lv' := [(4, .int (zI ((i : Int) + 1))), (3, .int (zI (i : Int))), (0, .ref x), (1, .int (zI h)), (2, .int (zI yard))]) C dX1_fees_77 (q := 1) rfl (nlt rfl) rfl ?_
                  refine z_goto (tgt := 42) C dX1_fees_80 (by decide) ?_
                  exact ih_42 _ (by omega) (i + 1) (i : Int) (feeF kd fg hm at_ lg n oa yard i) mr mhm mat mlg mn moa mdy (by first | assumption | omega) (by first | exact minF_t' hmf (by omega) | exact minF_f' hmf (by omega)) rfl
                · skip
                  have hfi := feeF_r (kd := kd) (hm := hm) (at_ := at_) (lg := lg) (n := n) (oa := oa) yard (hLj i (by omega)).2.1
                  obtain ⟨b, rfl⟩ := Int.eq_ofNat_of_zero_le (show 0 ≤ bst by omega)
                  have hmw2 : (b : Nat) < i ∧ lst = feeF kd fg hm at_ lg n oa yard b := by
                    rcases hmw with ⟨q1, q2, q3⟩ | ⟨q1, q2, q3⟩
                    · omega
                    · exact ⟨by omega, q3⟩
                  have hfb := feeF_r (kd := kd) (hm := hm) (at_ := at_) (lg := lg) (n := n) (oa := oa) yard (hLj b (by omega)).2.1
                  refine z_aload_n C dX1_fees_58 rfl 2 rfl ?_
                  refine z_iload C dX1_fees_59 0 rfl ?_
                  refine z_iload_n C dX1_fees_61 rfl 4 rfl ?_
                  refine z_i (ws' := fun u => ([(x, .inr (10, [.ref a0, .ref b0, .ref m0, .int (zI im), .ref tl, .ref le, .int (zI fw), .int (zI fh), .int (zI lo), .ref sh])), (a0, .inr (8, [.ref a1, .ref a2, .ref a3, .ref a4, .int (zI (n : Int)), .int (zI oa), .int (zI dy)])), (a1, AQ G 4 7 r), (a2, AI G 7 hm), (a3, AI G 7 at_), (a4, AI G 7 lg), (m0, .inr (8, [.ref m1, .ref m2, .ref m3, .ref m4, .int (zI (u.2.2.2.2.1 : Int)), .int (zI u.2.2.2.2.2.1), .int (zI u.2.2.2.2.2.2)])), (m1, AQ G 4 7 u.1), (m2, AI G 7 u.2.1), (m3, AI G 7 u.2.2.1), (m4, AI G 7 u.2.2.2.1)] ++ PL LP hk hf)) C (z_runV (q := 0) (As := [.int (zI (i : Int)), .int (zI yard)]) (rest := []) C (ct_X1_feesOf (zl X) G x b0 m0 tl le sh im fw fh lo a0 a1 a2 a3 a4 m1 m2 m3 m4 r hm at_ lg n oa dy mr mhm mat mlg mn moa mdy LP hk hf kd fg i yard (by first | assumption | omega) (by first | assumption | omega) (by first | assumption | omega) (by first | assumption | omega) (by omega) (by first | assumption | omega)) (lw_V q687 q689 qs17 q58 q690) rfl rfl (sb_p [0, 1, 2, 3, 4, 5, 6, 7, 8, 9, 10] rfl rfl) (na := 2) (by decide +kernel) rfl (zrm rfl rfl (rfl) (rfl)) rfl (Nat.le_of_ble_eq_true rfl) dX1_fees_62) (fun u => jn_p (Lr := []) [0, 1, 2, 3, 4, 5, 6, 7, 8, 9, 10] [] [0, 1, 2, 3, 4, 5, 6, 7, 8, 9, 10] rfl rfl rfl (by decide) rfl rfl) (fun r_62 u hp_62 => ?_)
                  obtain ⟨mr9_62, mhm9_62, mat9_62, mlg9_62, mn9_62, moa9_62, mdy9_62⟩ := u
                  have hp_62 : r_62 = zI (feeF kd fg hm at_ lg n oa yard i) := hp_62
                  subst hp_62
                  refine z_aload_n C dX1_fees_65 rfl 2 rfl ?_
                  refine z_iload_n C dX1_fees_66 rfl 1 rfl ?_
                  refine z_iload_n C dX1_fees_67 rfl 4 rfl ?_
                  refine z_i (ws' := fun u => ([(x, .inr (10, [.ref a0, .ref b0, .ref m0, .int (zI im), .ref tl, .ref le, .int (zI fw), .int (zI fh), .int (zI lo), .ref sh])), (a0, .inr (8, [.ref a1, .ref a2, .ref a3, .ref a4, .int (zI (n : Int)), .int (zI oa), .int (zI dy)])), (a1, AQ G 4 7 r), (a2, AI G 7 hm), (a3, AI G 7 at_), (a4, AI G 7 lg), (m0, .inr (8, [.ref m1, .ref m2, .ref m3, .ref m4, .int (zI (u.2.2.2.2.1 : Int)), .int (zI u.2.2.2.2.2.1), .int (zI u.2.2.2.2.2.2)])), (m1, AQ G 4 7 u.1), (m2, AI G 7 u.2.1), (m3, AI G 7 u.2.2.1), (m4, AI G 7 u.2.2.2.1)] ++ PL LP hk hf)) C (z_runV (q := 0) (As := [.int (zI (b : Int)), .int (zI yard)]) (rest := [.int (zI (feeF kd fg hm at_ lg n oa yard i))]) C (ct_X1_feesOf (zl X) G x b0 m0 tl le sh im fw fh lo a0 a1 a2 a3 a4 m1 m2 m3 m4 r hm at_ lg n oa dy mr9_62 mhm9_62 mat9_62 mlg9_62 mn9_62 moa9_62 mdy9_62 LP hk hf kd fg b yard (by first | assumption | omega) (by first | assumption | omega) (by first | assumption | omega) (by first | assumption | omega) (by omega) (by first | assumption | omega)) (lw_V q687 q689 qs17 q58 q690) rfl rfl (sb_p [0, 1, 2, 3, 4, 5, 6, 7, 8, 9, 10] rfl rfl) (na := 2) (by decide +kernel) rfl (zrm rfl rfl (rfl) (rfl)) rfl (Nat.le_of_ble_eq_true rfl) dX1_fees_68) (fun u => jn_p (Lr := []) [0, 1, 2, 3, 4, 5, 6, 7, 8, 9, 10] [] [0, 1, 2, 3, 4, 5, 6, 7, 8, 9, 10] rfl rfl rfl (by decide) rfl rfl) (fun r_68 u hp_68 => ?_)
                  obtain ⟨mr9_68, mhm9_68, mat9_68, mlg9_68, mn9_68, moa9_68, mdy9_68⟩ := u
                  have hp_68 : r_68 = zI (feeF kd fg hm at_ lg n oa yard b) := hp_68
                  subst hp_68
                  refine y_icmp_ge (tgt := 77) C (by omega) (by omega) dX1_fees_71 (by decide) (fun c_71 => ?_) (fun c_71 => ?_)
                  · skip
                    refine y_iinc (lv' := [(4, .int (zI ((i : Int) + 1))), (3, .int (zI (b : Int))), (0, .ref x), (1, .int (zI h)), (2, .int (zI yard))]) C dX1_fees_77 (q := 0) rfl (nlt rfl) rfl ?_
                    refine z_goto (tgt := 42) C dX1_fees_80 (by decide) ?_
                    exact ih_42 _ (by omega) (i + 1) (b : Int) lst mr9_68 mhm9_68 mat9_68 mlg9_68 mn9_68 moa9_68 mdy9_68 (by first | assumption | omega) (by first | exact minF_t' hmf (by omega) | exact minF_f' hmf (by omega)) rfl
                  · skip
                    refine z_iload C dX1_fees_74 0 rfl ?_
                    refine z_istore_n (lv' := [(3, .int (zI (i : Int))), (4, .int (zI (i : Int))), (0, .ref x), (1, .int (zI h)), (2, .int (zI yard))]) C dX1_fees_76 rfl (nlt rfl) rfl ?_
                    refine y_iinc (lv' := [(4, .int (zI ((i : Int) + 1))), (3, .int (zI (i : Int))), (0, .ref x), (1, .int (zI h)), (2, .int (zI yard))]) C dX1_fees_77 (q := 1) rfl (nlt rfl) rfl ?_
                    refine z_goto (tgt := 42) C dX1_fees_80 (by decide) ?_
                    exact ih_42 _ (by omega) (i + 1) (i : Int) (feeF kd fg hm at_ lg n oa yard i) mr9_68 mhm9_68 mat9_68 mlg9_68 mn9_68 moa9_68 mdy9_68 (by first | assumption | omega) (by first | exact minF_t' hmf (by omega) | exact minF_f' hmf (by omega)) rfl
          exact L_42 _ 0 (-4) (-4) mr mhm mat mlg mn moa mdy (by first | assumption | omega) (rfl) rfl
        · skip
          obtain ⟨j, rfl⟩ := Int.eq_ofNat_of_zero_le (show 0 ≤ h by omega)
          refine z_aload_n C dX1_fees_29 rfl 0 rfl ?_
          refine z_iload_n C dX1_fees_30 rfl 1 rfl ?_
          refine z_iload_n C dX1_fees_31 rfl 2 rfl ?_
          refine z_i (ws' := fun u => ([(x, .inr (10, [.ref a0, .ref b0, .ref m0, .int (zI im), .ref tl, .ref le, .int (zI fw), .int (zI fh), .int (zI lo), .ref sh])), (a0, .inr (8, [.ref a1, .ref a2, .ref a3, .ref a4, .int (zI (n : Int)), .int (zI oa), .int (zI dy)])), (a1, AQ G 4 7 r), (a2, AI G 7 hm), (a3, AI G 7 at_), (a4, AI G 7 lg), (m0, .inr (8, [.ref m1, .ref m2, .ref m3, .ref m4, .int (zI (u.2.2.2.2.1 : Int)), .int (zI u.2.2.2.2.2.1), .int (zI u.2.2.2.2.2.2)])), (m1, AQ G 4 7 u.1), (m2, AI G 7 u.2.1), (m3, AI G 7 u.2.2.1), (m4, AI G 7 u.2.2.2.1)] ++ PL LP hk hf)) C (z_runV (q := 0) (As := [.int (zI (j : Int)), .int (zI yard)]) (rest := []) C (ct_X1_feesOf (zl X) G x b0 m0 tl le sh im fw fh lo a0 a1 a2 a3 a4 m1 m2 m3 m4 r hm at_ lg n oa dy mr mhm mat mlg mn moa mdy LP hk hf kd fg j yard (by first | assumption | omega) (by first | assumption | omega) (by first | assumption | omega) (by first | assumption | omega) (by first | assumption | omega) (by first | assumption | omega)) (lw_V q687 q689 qs17 q58 q690) rfl rfl (sb_p [0, 1, 2, 3, 4, 5, 6, 7, 8, 9, 10] rfl rfl) (na := 2) (by decide +kernel) rfl (zrm rfl rfl (rfl) (rfl)) rfl (Nat.le_of_ble_eq_true rfl) dX1_fees_32) (fun u => jn_p (Lr := []) [0, 1, 2, 3, 4, 5, 6, 7, 8, 9, 10] [] [0, 1, 2, 3, 4, 5, 6, 7, 8, 9, 10] rfl rfl rfl (by decide) rfl rfl) (fun r_32 u hp_32 => ?_)
          obtain ⟨mr9_32, mhm9_32, mat9_32, mlg9_32, mn9_32, moa9_32, mdy9_32⟩ := u
          have hp_32 : r_32 = zI (feeF kd fg hm at_ lg n oa yard j) := hp_32
          subst hp_32
          exact z_iret C hA hQ rfl (Nat.le_of_ble_eq_true rfl) (Nat.le_of_ble_eq_true rfl) ((mr9_32, mhm9_32, mat9_32, mlg9_32, mn9_32, moa9_32, mdy9_32)) (congrArg zI (by unfold oFees; (try simp only [zTN]); (repeat (first | rw [if_pos (by omega)] | rw [if_neg (by omega)])); first | done | rfl)) (sb_p [0, 1, 2, 3, 4, 5, 6, 7, 8, 9, 10] rfl rfl) dX1_fees_35
      · skip
        refine y_iconst C dX1_fees_23 ?_
        exact z_iret C hA hQ rfl (Nat.le_of_ble_eq_true rfl) (Nat.le_of_ble_eq_true rfl) ((mr, mhm, mat, mlg, mn, moa, mdy)) (congrArg zI (by unfold oFees; (try simp only [zTN]); (repeat (first | rw [if_pos (by omega)] | rw [if_neg (by omega)])); first | done | rfl)) (sb_p [0, 1, 2, 3, 4, 5, 6, 7, 8, 9, 10] rfl rfl) dX1_fees_24

