/-! STORMS (both) -/
set_option maxRecDepth 100000
theorem hasQ_r (s k : Int32) : 0 ≤ hasQ s k ∧ hasQ s k ≤ 1 := by unfold hasQ; split <;> omega
theorem shl_1 : ∀ k : Nat, k ≤ 7 → zI 1 <<< (zI (k : Int) &&& 31) = zI (((2 ^ k : Nat)) : Int)
  | 0, _ => by decide
  | 1, _ => by decide
  | 2, _ => by decide
  | 3, _ => by decide
  | 4, _ => by decide
  | 5, _ => by decide
  | 6, _ => by decide
  | 7, _ => by decide
/-- the odds of a row of storms, and the longings behind it -/
def stI (kd : Nat → Nat) (fg hm at_ lg : Nat → Int) (n : Nat) (oa : Int) (t : Int) (s : Nat) : Nat → Int × (Nat → Int)
  | 0 => (1, lg)
  | i + 1 => ((stI kd fg hm at_ lg n oa t s i).1 * (if hasQ (zI (s : Int)) (zI (i : Int)) = 0 then t - 1 else 1), dayB (hasQ (zI (s : Int)) (zI (i : Int))) kd fg hm at_ oa n (stI kd fg hm at_ lg n oa t s i).2)
theorem stI_r {kd : Nat → Nat} {fg hm at_ lg : Nat → Int} {n : Nat} {oa t : Int} {s : Nat} (ht : 2 ≤ t ∧ t ≤ 20) : ∀ i : Nat, 1 ≤ (stI kd fg hm at_ lg n oa t s i).1 ∧ (stI kd fg hm at_ lg n oa t s i).1 ≤ 20 ^ i
  | 0 => ⟨Int.le_refl _, Int.le_refl _⟩
  | i + 1 => by
    have ih := stI_r (kd := kd) (fg := fg) (hm := hm) (at_ := at_) (lg := lg) (n := n) (oa := oa) (s := s) ht i
    show 1 ≤ (stI kd fg hm at_ lg n oa t s i).1 * (if hasQ (zI (s : Int)) (zI (i : Int)) = 0 then t - 1 else 1) ∧ (stI kd fg hm at_ lg n oa t s i).1 * (if hasQ (zI (s : Int)) (zI (i : Int)) = 0 then t - 1 else 1) ≤ 20 ^ (i + 1)
    have hw : ∃ w : Int, (if hasQ (zI (s : Int)) (zI (i : Int)) = 0 then t - 1 else 1) = w ∧ 1 ≤ w ∧ w ≤ 20 := ⟨_, rfl, by split <;> omega, by split <;> omega⟩
    obtain ⟨w, e, h1, h2⟩ := hw
    rw [e, Int.pow_succ]
    constructor
    · have := Int.mul_le_mul ih.1 h1 (by omega) (by omega)
      omega
    · exact Int.mul_le_mul ih.2 h2 (by omega) (by omega)

theorem stI_ok {kd : Nat → Nat} {fg hm at_ lg : Nat → Int} {n : Nat} {oa t : Int} {s : Nat} (h : LK n kd fg hm at_ lg oa) : ∀ i : Nat, LK n kd fg hm at_ (stI kd fg hm at_ lg n oa t s i).2 oa
  | 0 => h
  | i + 1 => (stI_ok h i).dayB
theorem pow20 : ∀ {i : Nat}, i ≤ 7 → (20 : Int) ^ i ≤ 1280000000
  | 0, _ => by decide
  | 1, _ => by decide
  | 2, _ => by decide
  | 3, _ => by decide
  | 4, _ => by decide
  | 5, _ => by decide
  | 6, _ => by decide
  | 7, _ => by decide
/-- the odds of the rows of storms behind which one is as fast -/
def stS (kd : Nat → Nat) (fg hm at_ lg : Nat → Int) (n : Nat) (oa : Int) (t : Int) (j : Nat) (v : Int) (m : Nat) : Nat → Int
  | 0 => 0
  | s + 1 => stS kd fg hm at_ lg n oa t j v m s + (if v ≤ paceZ (kd j) (fg j) ((stI kd fg hm at_ lg n oa t s m).2 j) then (stI kd fg hm at_ lg n oa t s m).1 else 0)
theorem stS_r {kd : Nat → Nat} {fg hm at_ lg : Nat → Int} {n : Nat} {oa t : Int} {j : Nat} {v : Int} {m : Nat} (ht : 2 ≤ t ∧ t ≤ 20) (hm7 : m ≤ 7) : ∀ s : Nat, 0 ≤ stS kd fg hm at_ lg n oa t j v m s ∧ stS kd fg hm at_ lg n oa t j v m s ≤ 1280000000 * s
  | 0 => ⟨Int.le_refl _, by show (0 : Int) ≤ 1280000000 * ((0 : Nat) : Int); omega⟩
  | s + 1 => by
    have ih := stS_r (kd := kd) (fg := fg) (hm := hm) (at_ := at_) (lg := lg) (n := n) (oa := oa) (j := j) (v := v) ht hm7 s
    have h1 := stI_r (kd := kd) (fg := fg) (hm := hm) (at_ := at_) (lg := lg) (n := n) (oa := oa) (s := s) ht m
    have h2 := pow20 hm7
    show 0 ≤ stS kd fg hm at_ lg n oa t j v m s + (if _ then _ else _) ∧ stS kd fg hm at_ lg n oa t j v m s + (if _ then _ else _) ≤ _
    split <;> omega
theorem powt_r {t : Int} (ht : 2 ≤ t ∧ t ≤ 20) : ∀ i : Nat, 1 ≤ t ^ i ∧ t ^ i ≤ 20 ^ i
  | 0 => by rw [Int.pow_zero, Int.pow_zero]; omega
  | i + 1 => by
    have ih := powt_r ht i
    rw [Int.pow_succ, Int.pow_succ]
    constructor
    · have := Int.mul_le_mul ih.1 (show (1 : Int) ≤ t by omega) (by omega) (by omega)
      omega
    · exact Int.mul_le_mul ih.2 ht.2 (by omega) (by omega)
theorem pow2_7 : ∀ {i : Nat}, i ≤ 7 → 2 ^ i ≤ 128
  | 0, _ => by decide
  | 1, _ => by decide
  | 2, _ => by decide
  | 3, _ => by decide
  | 4, _ => by decide
  | 5, _ => by decide
  | 6, _ => by decide
  | 7, _ => by decide
def oStorm (kd : Nat → Nat) (fg : Nat → Int) (hm : Nat → Int) (at_ : Nat → Int) (lg : Nat → Int) (n : Nat) (oa : Int) (h : Int) (v : Int) (mm : Int) (t : Int) (part : Int) : Int := if (0 ≤ h ∧ h ≤ (n : Int) - 1) ∧ (1 ≤ v ∧ v ≤ 60) ∧ (0 ≤ mm ∧ mm ≤ 7) ∧ (2 ≤ t ∧ t ≤ 20) ∧ (0 ≤ part ∧ part ≤ 1) then partZ (stS kd fg hm at_ lg n oa t h.toNat v mm.toNat (2 ^ mm.toNat)) (t ^ mm.toNat) part else 1000000001
set_option maxHeartbeats 4000000 in
theorem ct_X1_storm (l : Launch) (G : ZG) (x : Nat) (b0 : Nat) (m0 : Nat) (tl : Nat) (le : Nat) (sh : Nat) (im : Int) (fw : Int) (fh : Int) (lo : Int) (a0 : Nat) (a1 : Nat) (a2 : Nat) (a3 : Nat) (a4 : Nat) (m1 : Nat) (m2 : Nat) (m3 : Nat) (m4 : Nat) (r : Nat → Option Nat) (hm : Nat → Int) (at_ : Nat → Int) (lg : Nat → Int) (n : Nat) (oa : Int) (dy : Int) (mr : Nat → Option Nat) (mhm : Nat → Int) (mat : Nat → Int) (mlg : Nat → Int) (mn : Nat) (moa : Int) (mdy : Int) (LP : List Nat) (hk : Nat → Nat) (hf : Nat → Int) (kd : Nat → Nat) (fg : Nat → Int) (h : Int) (v : Int) (mm : Int) (t : Int) (part : Int) (hH : HR LP hk hf r n kd fg) (hL : LK n kd fg hm at_ lg oa) (hK : PK LP hk hf) (hV : RV LP r) (rh : -2147483648 ≤ h ∧ h ≤ 2147483647) (rv : -2147483648 ≤ v ∧ v ≤ 2147483647) (rmm : -2147483648 ≤ mm ∧ mm ≤ 2147483647) (rt : -2147483648 ≤ t ∧ t ≤ 2147483647) (rpart : -2147483648 ≤ part ∧ part ≤ 2147483647) : CT l yX1_storm cX1_storm 14 (some .long) { frames := 66, cells := 0, slots := 0, locals := 1967 } G [.ref x, .int (zI h), .int (zI v), .int (zI mm), .int (zI t), .int (zI part)] ([(x, .inr (10, [.ref a0, .ref b0, .ref m0, .int (zI im), .ref tl, .ref le, .int (zI fw), .int (zI fh), .int (zI lo), .ref sh])), (a0, .inr (8, [.ref a1, .ref a2, .ref a3, .ref a4, .int (zI (n : Int)), .int (zI oa), .int (zI dy)])), (a1, AQ G 4 7 r), (a2, AI G 7 hm), (a3, AI G 7 at_), (a4, AI G 7 lg), (m0, .inr (8, [.ref m1, .ref m2, .ref m3, .ref m4, .int (zI (mn : Int)), .int (zI moa), .int (zI mdy)])), (m1, AQ G 4 7 mr), (m2, AI G 7 mhm), (m3, AI G 7 mat), (m4, AI G 7 mlg)] ++ PL LP hk hf) (Ql G ([(x, .inr (10, [.ref a0, .ref b0, .ref m0, .int (zI im), .ref tl, .ref le, .int (zI fw), .int (zI fh), .int (zI lo), .ref sh])), (a0, .inr (8, [.ref a1, .ref a2, .ref a3, .ref a4, .int (zI (n : Int)), .int (zI oa), .int (zI dy)])), (a1, AQ G 4 7 r), (a2, AI G 7 hm), (a3, AI G 7 at_), (a4, AI G 7 lg), (m0, .inr (8, [.ref m1, .ref m2, .ref m3, .ref m4, .int (zI (mn : Int)), .int (zI moa), .int (zI mdy)])), (m1, AQ G 4 7 mr), (m2, AI G 7 mhm), (m3, AI G 7 mat), (m4, AI G 7 mlg)] ++ PL LP hk hf) (fun (r : Int64) (u : (Nat → Option Nat) × (Nat → Int) × (Nat → Int) × (Nat → Int) × Nat × Int × Int) => r = zL (oStorm kd fg hm at_ lg n oa h v mm t part)) (fun u => ([(x, .inr (10, [.ref a0, .ref b0, .ref m0, .int (zI im), .ref tl, .ref le, .int (zI fw), .int (zI fh), .int (zI lo), .ref sh])), (a0, .inr (8, [.ref a1, .ref a2, .ref a3, .ref a4, .int (zI (n : Int)), .int (zI oa), .int (zI dy)])), (a1, AQ G 4 7 r), (a2, AI G 7 hm), (a3, AI G 7 at_), (a4, AI G 7 lg), (m0, .inr (8, [.ref m1, .ref m2, .ref m3, .ref m4, .int (zI (u.2.2.2.2.1 : Int)), .int (zI u.2.2.2.2.2.1), .int (zI u.2.2.2.2.2.2)])), (m1, AQ G 4 7 u.1), (m2, AI G 7 u.2.1), (m3, AI G 7 u.2.2.1), (m4, AI G 7 u.2.2.2.1)] ++ PL LP hk hf))) := by
  refine z_met (by decide) (Nat.le_of_ble_eq_true rfl) ?_
  intro X A hl0 hA C hQ hin
  subst hl0
  obtain ⟨hn7, hoa, hLj⟩ := id hL
  show Z X _ G 0 0 _ 0 [(0, .ref x), (1, .int (zI h)), (2, .int (zI v)), (3, .int (zI mm)), (4, .int (zI t)), (5, .int (zI part))] []
  refine z_aload_n C dX1_storm_0 rfl 0 rfl ?_
  refine z_get (q := 0) (kf := 0) (v := .ref a0) C rfl rfl in_X1 (by decide) q880 (Or.inl rfl) rfl dX1_storm_1 ?_
  refine z_iload_n C dX1_storm_4 rfl 1 rfl ?_
  refine z_i C (z_runV (q := 1) (As := [.int (zI h)]) (rest := []) C (ct_X2_isHorse (zl X) G a0 a1 a2 a3 a4 n oa dy h (by first | assumption | omega) (by first | assumption | omega)) (lw_V q388 q389 q390 q59 q391) rfl rfl (sb_e [1] rfl rfl) (na := 1) (by decide +kernel) rfl (zrm rfl rfl (rfl) (rfl)) rfl (Nat.le_of_ble_eq_true rfl) dX1_storm_5) (fun u => jn_ro (sb_e [1] rfl rfl)) (fun r_5 u hp_5 => ?_)
  have hp_5 : r_5 = zI (bI (0 ≤ h ∧ h ≤ (n : Int) - 1)) := hp_5
  subst hp_5
  refine y_beq (tgt := 52) C dX1_storm_8 (by decide) (fun c_8 => ?_) (fun c_8 => ?_)
  · skip
    refine z_ldc2 C q779 dX1_storm_52 ?_
    refine z_eql (y := zL 1000000001) (by decide) ?_
    exact z_lret C hA hQ rfl (Nat.le_of_ble_eq_true rfl) (Nat.le_of_ble_eq_true rfl) ((mr, mhm, mat, mlg, mn, moa, mdy)) (congrArg zL (by unfold oStorm; (repeat (first | rw [if_pos (by omega)] | rw [if_neg (by omega)])))) (sb_p [0, 1, 2, 3, 4, 5, 6, 7, 8, 9, 10] rfl rfl) dX1_storm_55
  · skip
    refine z_iload_n C dX1_storm_11 rfl 2 rfl ?_
    refine y_iconst C dX1_storm_12 ?_
    refine y_bipush C dX1_storm_13 (by decide) ?_
    refine z_i C (z_runS (As := [.int (zI v), .int (zI 1), .int (zI 60)]) (rest := []) C (ct_X1_isIn (zl X) G v 1 60 (by first | assumption | omega) (by first | assumption | omega) (by first | assumption | omega)) (lw_S q189 q190 q58 q191) (sb_e [] rfl rfl) (na := 3) (by decide +kernel) rfl (zrm rfl rfl (rfl) (rfl)) rfl (Nat.le_of_ble_eq_true rfl) dX1_storm_15) (fun u => jn_ro (sb_e [] rfl rfl)) (fun r_15 u hp_15 => ?_)
    have hp_15 : r_15 = zI (bI (1 ≤ v ∧ v ≤ 60)) := hp_15
    subst hp_15
    refine y_beq (tgt := 52) C dX1_storm_18 (by decide) (fun c_18 => ?_) (fun c_18 => ?_)
    · skip
      refine z_ldc2 C q779 dX1_storm_52 ?_
      refine z_eql (y := zL 1000000001) (by decide) ?_
      exact z_lret C hA hQ rfl (Nat.le_of_ble_eq_true rfl) (Nat.le_of_ble_eq_true rfl) ((mr, mhm, mat, mlg, mn, moa, mdy)) (congrArg zL (by unfold oStorm; (repeat (first | rw [if_pos (by omega)] | rw [if_neg (by omega)])))) (sb_p [0, 1, 2, 3, 4, 5, 6, 7, 8, 9, 10] rfl rfl) dX1_storm_55
    · skip
      refine z_iload_n C dX1_storm_21 rfl 3 rfl ?_
      refine y_iconst C dX1_storm_22 ?_
      refine y_bipush C dX1_storm_23 (by decide) ?_
      refine z_i C (z_runS (As := [.int (zI mm), .int (zI 0), .int (zI 7)]) (rest := []) C (ct_X1_isIn (zl X) G mm 0 7 (by first | assumption | omega) (by first | assumption | omega) (by first | assumption | omega)) (lw_S q189 q190 q58 q191) (sb_e [] rfl rfl) (na := 3) (by decide +kernel) rfl (zrm rfl rfl (rfl) (rfl)) rfl (Nat.le_of_ble_eq_true rfl) dX1_storm_25) (fun u => jn_ro (sb_e [] rfl rfl)) (fun r_25 u hp_25 => ?_)
      have hp_25 : r_25 = zI (bI (0 ≤ mm ∧ mm ≤ 7)) := hp_25
      subst hp_25
      refine y_beq (tgt := 52) C dX1_storm_28 (by decide) (fun c_28 => ?_) (fun c_28 => ?_)
      · skip
        refine z_ldc2 C q779 dX1_storm_52 ?_
        refine z_eql (y := zL 1000000001) (by decide) ?_
        exact z_lret C hA hQ rfl (Nat.le_of_ble_eq_true rfl) (Nat.le_of_ble_eq_true rfl) ((mr, mhm, mat, mlg, mn, moa, mdy)) (congrArg zL (by unfold oStorm; (repeat (first | rw [if_pos (by omega)] | rw [if_neg (by omega)])))) (sb_p [0, 1, 2, 3, 4, 5, 6, 7, 8, 9, 10] rfl rfl) dX1_storm_55
      · skip
        refine z_iload C dX1_storm_31 4 rfl ?_
        refine y_iconst C dX1_storm_33 ?_
        refine y_bipush C dX1_storm_34 (by decide) ?_
        refine z_i C (z_runS (As := [.int (zI t), .int (zI 2), .int (zI 20)]) (rest := []) C (ct_X1_isIn (zl X) G t 2 20 (by first | assumption | omega) (by first | assumption | omega) (by first | assumption | omega)) (lw_S q189 q190 q58 q191) (sb_e [] rfl rfl) (na := 3) (by decide +kernel) rfl (zrm rfl rfl (rfl) (rfl)) rfl (Nat.le_of_ble_eq_true rfl) dX1_storm_36) (fun u => jn_ro (sb_e [] rfl rfl)) (fun r_36 u hp_36 => ?_)
        have hp_36 : r_36 = zI (bI (2 ≤ t ∧ t ≤ 20)) := hp_36
        subst hp_36
        refine y_beq (tgt := 52) C dX1_storm_39 (by decide) (fun c_39 => ?_) (fun c_39 => ?_)
        · skip
          refine z_ldc2 C q779 dX1_storm_52 ?_
          refine z_eql (y := zL 1000000001) (by decide) ?_
          exact z_lret C hA hQ rfl (Nat.le_of_ble_eq_true rfl) (Nat.le_of_ble_eq_true rfl) ((mr, mhm, mat, mlg, mn, moa, mdy)) (congrArg zL (by unfold oStorm; (repeat (first | rw [if_pos (by omega)] | rw [if_neg (by omega)])))) (sb_p [0, 1, 2, 3, 4, 5, 6, 7, 8, 9, 10] rfl rfl) dX1_storm_55
        · skip
          refine z_iload C dX1_storm_42 5 rfl ?_
          refine y_iconst C dX1_storm_44 ?_
          refine y_iconst C dX1_storm_45 ?_
          refine z_i C (z_runS (As := [.int (zI part), .int (zI 0), .int (zI 1)]) (rest := []) C (ct_X1_isIn (zl X) G part 0 1 (by first | assumption | omega) (by first | assumption | omega) (by first | assumption | omega)) (lw_S q189 q190 q58 q191) (sb_e [] rfl rfl) (na := 3) (by decide +kernel) rfl (zrm rfl rfl (rfl) (rfl)) rfl (Nat.le_of_ble_eq_true rfl) dX1_storm_46) (fun u => jn_ro (sb_e [] rfl rfl)) (fun r_46 u hp_46 => ?_)
          have hp_46 : r_46 = zI (bI (0 ≤ part ∧ part ≤ 1)) := hp_46
          subst hp_46
          refine y_bne (tgt := 56) C dX1_storm_49 (by decide) (fun c_49 => ?_) (fun c_49 => ?_)
          · skip
            obtain ⟨j, rfl⟩ := Int.eq_ofNat_of_zero_le (show 0 ≤ h by omega)
            obtain ⟨m0_, rfl⟩ := Int.eq_ofNat_of_zero_le (show 0 ≤ mm by omega)
            have hm7 : m0_ ≤ 7 := by omega
            have ht : 2 ≤ t ∧ t ≤ 20 := by omega
            have hp128 := pow2_7 hm7
            refine z_lconst (v := zL 0) C dX1_storm_56 (by decide) ?_
            refine z_lstore (lv' := [(6, .long (zL 0)), (0, .ref x), (1, .int (zI (j : Int))), (2, .int (zI v)), (3, .int (zI (m0_ : Int))), (4, .int (zI t)), (5, .int (zI part))]) C dX1_storm_57 (nlt rfl) rfl ?_
            refine z_lconst (v := zL 1) C dX1_storm_59 (by decide) ?_
            refine z_lstore (lv' := [(8, .long (zL 1)), (6, .long (zL 0)), (0, .ref x), (1, .int (zI (j : Int))), (2, .int (zI v)), (3, .int (zI (m0_ : Int))), (4, .int (zI t)), (5, .int (zI part))]) C dX1_storm_60 (nlt rfl) rfl ?_
            refine y_iconst C dX1_storm_62 ?_
            refine z_istore (lv' := [(10, .int (zI 0)), (8, .long (zL 1)), (6, .long (zL 0)), (0, .ref x), (1, .int (zI (j : Int))), (2, .int (zI v)), (3, .int (zI (m0_ : Int))), (4, .int (zI t)), (5, .int (zI part))]) C dX1_storm_63 (nlt rfl) rfl ?_
            have L_65 : ∀ (tt : Nat) (k : Nat) (mr : Nat → Option Nat) (mhm : Nat → Int) (mat : Nat → Int) (mlg : Nat → Int) (mn : Nat) (moa : Int) (mdy : Int), (k ≤ m0_) → m0_ - k = tt → Z X (cX1_storm, 14, yX1_storm.cls, (some .long), { frames := 66, cells := 0, slots := 0, locals := 1967 }, A) G 0 0 ([(x, .inr (10, [.ref a0, .ref b0, .ref m0, .int (zI im), .ref tl, .ref le, .int (zI fw), .int (zI fh), .int (zI lo), .ref sh])), (a0, .inr (8, [.ref a1, .ref a2, .ref a3, .ref a4, .int (zI (n : Int)), .int (zI oa), .int (zI dy)])), (a1, AQ G 4 7 r), (a2, AI G 7 hm), (a3, AI G 7 at_), (a4, AI G 7 lg), (m0, .inr (8, [.ref m1, .ref m2, .ref m3, .ref m4, .int (zI (mn : Int)), .int (zI moa), .int (zI mdy)])), (m1, AQ G 4 7 mr), (m2, AI G 7 mhm), (m3, AI G 7 mat), (m4, AI G 7 mlg)] ++ PL LP hk hf) 65 [(10, .int (zI (k : Int))), (8, .long (zL (t ^ k))), (6, .long (zL 0)), (0, .ref x), (1, .int (zI (j : Int))), (2, .int (zI v)), (3, .int (zI (m0_ : Int))), (4, .int (zI t)), (5, .int (zI part))] [] := by
              intro tt
              induction tt using Nat.strongRecOn with
              | _ tt ih_65 =>
                intro k mr mhm mat mlg mn moa mdy hk0 ht_65
                have hpt := powt_r ht k
                have hp2 := pow20 (i := k) (by omega)
                refine z_iload C dX1_storm_65 0 rfl ?_
                refine z_iload_n C dX1_storm_67 rfl 6 rfl ?_
                refine y_icmp_ge (tgt := 85) C (by omega) (by omega) dX1_storm_68 (by decide) (fun c_68 => ?_) (fun c_68 => ?_)
                · skip
                  rw [show (k : Nat) = m0_ by omega]
                  refine y_iconst C dX1_storm_85 ?_
                  refine z_istore (lv' := [(10, .int (zI 0)), (8, .long (zL (t ^ m0_))), (6, .long (zL 0)), (0, .ref x), (1, .int (zI (j : Int))), (2, .int (zI v)), (3, .int (zI (m0_ : Int))), (4, .int (zI t)), (5, .int (zI part))]) C dX1_storm_86 (nlt rfl) rfl ?_
                  have L_88 : ∀ (tt : Nat) (s : Nat) (mr : Nat → Option Nat) (mhm : Nat → Int) (mat : Nat → Int) (mlg : Nat → Int) (mn : Nat) (moa : Int) (mdy : Int), (s ≤ 2 ^ m0_) → 2 ^ m0_ - s = tt → Z X (cX1_storm, 14, yX1_storm.cls, (some .long), { frames := 66, cells := 0, slots := 0, locals := 1967 }, A) G 0 0 ([(x, .inr (10, [.ref a0, .ref b0, .ref m0, .int (zI im), .ref tl, .ref le, .int (zI fw), .int (zI fh), .int (zI lo), .ref sh])), (a0, .inr (8, [.ref a1, .ref a2, .ref a3, .ref a4, .int (zI (n : Int)), .int (zI oa), .int (zI dy)])), (a1, AQ G 4 7 r), (a2, AI G 7 hm), (a3, AI G 7 at_), (a4, AI G 7 lg), (m0, .inr (8, [.ref m1, .ref m2, .ref m3, .ref m4, .int (zI (mn : Int)), .int (zI moa), .int (zI mdy)])), (m1, AQ G 4 7 mr), (m2, AI G 7 mhm), (m3, AI G 7 mat), (m4, AI G 7 mlg)] ++ PL LP hk hf) 88 [(10, .int (zI (s : Int))), (6, .long (zL (stS kd fg hm at_ lg n oa t j v m0_ s))), (8, .long (zL (t ^ m0_))), (0, .ref x), (1, .int (zI (j : Int))), (2, .int (zI v)), (3, .int (zI (m0_ : Int))), (4, .int (zI t)), (5, .int (zI part))] [] := by
                    intro tt
                    induction tt using Nat.strongRecOn with
                    | _ tt ih_88 =>
                      intro s mr mhm mat mlg mn moa mdy hs0 ht_88
                      have hss := stS_r (kd := kd) (fg := fg) (hm := hm) (at_ := at_) (lg := lg) (n := n) (oa := oa) (j := j) (v := v) ht hm7 s
                      refine z_iload C dX1_storm_88 0 rfl ?_
                      refine y_iconst C dX1_storm_90 ?_
                      refine z_iload_n C dX1_storm_91 rfl 6 rfl ?_
                      refine z_ishl C dX1_storm_92 rfl ?_
                      rw [shl_1 m0_ hm7]
                      refine y_icmp_ge (tgt := 185) C (by omega) (by omega) dX1_storm_93 (by decide) (fun c_93 => ?_) (fun c_93 => ?_)
                      · skip
                        have hse : s = 2 ^ m0_ := by omega
                        rw [show (s : Nat) = (2 ^ m0_) from hse]
                        have hss := stS_r (kd := kd) (fg := fg) (hm := hm) (at_ := at_) (lg := lg) (n := n) (oa := oa) (j := j) (v := v) ht hm7 (2 ^ m0_)
                        have hpt := powt_r ht m0_
                        have hp2 := pow20 hm7
                        refine z_lload C dX1_storm_185 1 rfl ?_
                        refine z_lload C dX1_storm_187 2 rfl ?_
                        refine z_iload C dX1_storm_189 8 rfl ?_
                        refine z_l C (z_runS (As := [.long (zL (stS kd fg hm at_ lg n oa t j v m0_ (2 ^ m0_))), .long (zL (t ^ m0_)), .int (zI part)]) (rest := []) C (ct_X1_partOf (zl X) G (stS kd fg hm at_ lg n oa t j v m0_ (2 ^ m0_)) (t ^ m0_) part (by first | assumption | omega) (by first | assumption | omega) (by first | assumption | omega)) (lw_S q780 q781 q58 q782) (sb_e [] rfl rfl) (na := 3) (by decide +kernel) rfl (zrm rfl rfl (rfl) (rfl)) rfl (Nat.le_of_ble_eq_true rfl) dX1_storm_191) (fun u => jn_ro (sb_e [] rfl rfl)) (fun r_191 u hp_191 => ?_)
                        have hp_191 : r_191 = zL (partZ (stS kd fg hm at_ lg n oa t j v m0_ (2 ^ m0_)) (t ^ m0_) part) := hp_191
                        subst hp_191
                        exact z_lret C hA hQ rfl (Nat.le_of_ble_eq_true rfl) (Nat.le_of_ble_eq_true rfl) ((mr, mhm, mat, mlg, mn, moa, mdy)) (congrArg zL (by unfold oStorm; rw [if_pos (by omega)]; rfl)) (sb_p [0, 1, 2, 3, 4, 5, 6, 7, 8, 9, 10] rfl rfl) dX1_storm_194
                      · skip
                        refine z_aload_n C dX1_storm_96 rfl 3 rfl ?_
                        refine z_v (ws' := fun u => ([(x, .inr (10, [.ref a0, .ref b0, .ref m0, .int (zI im), .ref tl, .ref le, .int (zI fw), .int (zI fh), .int (zI lo), .ref sh])), (a0, .inr (8, [.ref a1, .ref a2, .ref a3, .ref a4, .int (zI (n : Int)), .int (zI oa), .int (zI dy)])), (a1, AQ G 4 7 r), (a2, AI G 7 hm), (a3, AI G 7 at_), (a4, AI G 7 lg), (m0, .inr (8, [.ref m1, .ref m2, .ref m3, .ref m4, .int (zI (n : Int)), .int (zI oa), .int (zI dy)])), (m1, AQ G 4 7 r), (m2, AI G 7 hm), (m3, AI G 7 at_), (m4, AI G 7 lg)] ++ PL LP hk hf)) C (z_runV (q := 0) (As := []) (rest := []) C (ct_X1_minds (zl X) G x b0 m0 tl le sh im fw fh lo a0 a1 a2 a3 a4 m1 m2 m3 m4 r hm at_ lg n oa dy mr mhm mat mlg mn moa mdy LP hk hf kd fg (by first | assumption | omega) (by first | assumption | omega)) (lw_V q577 q579 qs12 q58 q580) rfl rfl (sb_p [0, 1, 2, 3, 4, 5, 6, 7, 8, 9, 10] rfl rfl) (na := 0) (by decide +kernel) rfl (zrm rfl rfl (rfl) (rfl)) rfl (Nat.le_of_ble_eq_true rfl) dX1_storm_97) (fun u => jn_p (Lr := []) [0, 1, 2, 3, 4, 5, 6, 7, 8, 9, 10] [] [0, 1, 2, 3, 4, 5, 6, 7, 8, 9, 10] rfl rfl rfl (by decide) rfl rfl) (fun u hp_97 => ?_)
                        refine z_lconst (v := zL 1) C dX1_storm_100 (by decide) ?_
                        refine z_lstore (lv' := [(11, .long (zL 1)), (10, .int (zI (s : Int))), (6, .long (zL (stS kd fg hm at_ lg n oa t j v m0_ s))), (8, .long (zL (t ^ m0_))), (0, .ref x), (1, .int (zI (j : Int))), (2, .int (zI v)), (3, .int (zI (m0_ : Int))), (4, .int (zI t)), (5, .int (zI part))]) C dX1_storm_101 (nlt rfl) rfl ?_
                        refine y_iconst C dX1_storm_103 ?_
                        refine z_istore (lv' := [(13, .int (zI 0)), (11, .long (zL 1)), (10, .int (zI (s : Int))), (6, .long (zL (stS kd fg hm at_ lg n oa t j v m0_ s))), (8, .long (zL (t ^ m0_))), (0, .ref x), (1, .int (zI (j : Int))), (2, .int (zI v)), (3, .int (zI (m0_ : Int))), (4, .int (zI t)), (5, .int (zI part))]) C dX1_storm_104 (nlt rfl) rfl ?_
                        have L_106 : ∀ (tt : Nat) (k : Nat) (mdy : Int), (k ≤ m0_) → m0_ - k = tt → Z X (cX1_storm, 14, yX1_storm.cls, (some .long), { frames := 66, cells := 0, slots := 0, locals := 1967 }, A) G 0 0 ([(x, .inr (10, [.ref a0, .ref b0, .ref m0, .int (zI im), .ref tl, .ref le, .int (zI fw), .int (zI fh), .int (zI lo), .ref sh])), (a0, .inr (8, [.ref a1, .ref a2, .ref a3, .ref a4, .int (zI (n : Int)), .int (zI oa), .int (zI dy)])), (a1, AQ G 4 7 r), (a2, AI G 7 hm), (a3, AI G 7 at_), (a4, AI G 7 lg), (m0, .inr (8, [.ref m1, .ref m2, .ref m3, .ref m4, .int (zI (n : Int)), .int (zI oa), .int (zI mdy)])), (m1, AQ G 4 7 r), (m2, AI G 7 hm), (m3, AI G 7 at_), (m4, AI G 7 ((stI kd fg hm at_ lg n oa t s k).2))] ++ PL LP hk hf) 106 [(13, .int (zI (k : Int))), (11, .long (zL ((stI kd fg hm at_ lg n oa t s k).1))), (10, .int (zI (s : Int))), (6, .long (zL (stS kd fg hm at_ lg n oa t j v m0_ s))), (8, .long (zL (t ^ m0_))), (0, .ref x), (1, .int (zI (j : Int))), (2, .int (zI v)), (3, .int (zI (m0_ : Int))), (4, .int (zI t)), (5, .int (zI part))] [] := by
                          intro tt
                          induction tt using Nat.strongRecOn with
                          | _ tt ih_106 =>
                            intro k mdy hk0 ht_106
                            have hsr := stI_r (kd := kd) (fg := fg) (hm := hm) (at_ := at_) (lg := lg) (n := n) (oa := oa) (s := s) ht k
                            have hp2 := pow20 (i := k) (by omega)
                            have hqr := hasQ_r (zI (s : Int)) (zI (k : Int))
                            refine z_iload C dX1_storm_106 0 rfl ?_
                            refine z_iload_n C dX1_storm_108 rfl 8 rfl ?_
                            refine y_icmp_ge (tgt := 156) C (by omega) (by omega) dX1_storm_109 (by decide) (fun c_109 => ?_) (fun c_109 => ?_)
                            · skip
                              rw [show (k : Nat) = m0_ by omega]
                              refine z_lload C dX1_storm_156 3 rfl ?_
                              refine z_aload_n C dX1_storm_158 rfl 5 rfl ?_
                              refine z_get (q := 0) (kf := 2) (v := .ref m0) C rfl rfl in_X1 (by decide) q882 (Or.inl rfl) rfl dX1_storm_159 ?_
                              refine z_iload_n C dX1_storm_162 rfl 6 rfl ?_
                              refine z_i C (z_runV (q := 6) (As := [.int (zI (j : Int))]) (rest := [.long (zL (stS kd fg hm at_ lg n oa t j v m0_ s))]) C (ct_X2_pace (zl X) G m0 m1 m2 m3 m4 r hm at_ ((stI kd fg hm at_ lg n oa t s m0_).2) n oa mdy LP hk hf kd fg j (by first | assumption | omega) ((stI_ok hL m0_)) (by omega)) (lw_V q568 q439 q440 q59 q441) rfl rfl (sb_p [6, 7, 8, 9, 10] rfl rfl) (na := 1) (by decide +kernel) rfl (zrm rfl rfl (rfl) (rfl)) rfl (Nat.le_of_ble_eq_true rfl) dX1_storm_163) (fun u => jn_ro (sb_p [6, 7, 8, 9, 10] rfl rfl)) (fun r_163 u hp_163 => ?_)
                              have hp_163 : r_163 = zI (paceZ (kd j) (fg j) (((stI kd fg hm at_ lg n oa t s m0_).2) j)) := hp_163
                              subst hp_163
                              have hpi := (stI_ok (t := t) (s := s) hL m0_).pace (j := j) (by omega)
                              refine z_iload_n C dX1_storm_166 rfl 7 rfl ?_
                              refine y_icmp_lt (tgt := 175) C (by omega) (by omega) dX1_storm_167 (by decide) (fun c_167 => ?_) (fun c_167 => ?_)
                              · skip
                                refine z_lconst (v := zL 0) C dX1_storm_175 (by decide) ?_
                                refine y_ladd C dX1_storm_176 ?_
                                refine z_lstore (lv' := [(6, .long (zL ((stS kd fg hm at_ lg n oa t j v m0_ s) + 0))), (13, .int (zI (m0_ : Int))), (11, .long (zL ((stI kd fg hm at_ lg n oa t s m0_).1))), (10, .int (zI (s : Int))), (8, .long (zL (t ^ m0_))), (0, .ref x), (1, .int (zI (j : Int))), (2, .int (zI v)), (3, .int (zI (m0_ : Int))), (4, .int (zI t)), (5, .int (zI part))]) C dX1_storm_177 (nlt rfl) rfl ?_
                                refine y_iinc (lv' := [(10, .int (zI ((s : Int) + 1))), (6, .long (zL ((stS kd fg hm at_ lg n oa t j v m0_ s) + 0))), (13, .int (zI (m0_ : Int))), (11, .long (zL ((stI kd fg hm at_ lg n oa t s m0_).1))), (8, .long (zL (t ^ m0_))), (0, .ref x), (1, .int (zI (j : Int))), (2, .int (zI v)), (3, .int (zI (m0_ : Int))), (4, .int (zI t)), (5, .int (zI part))]) C dX1_storm_179 (q := 3) rfl (nlt rfl) rfl ?_
                                refine z_goto (tgt := 88) C dX1_storm_182 (by decide) ?_
                                refine z_lv (lv' := [(10, .int (zI ((s : Int) + 1))), (6, .long (zL ((stS kd fg hm at_ lg n oa t j v m0_ s) + 0))), (8, .long (zL (t ^ m0_))), (0, .ref x), (1, .int (zI (j : Int))), (2, .int (zI v)), (3, .int (zI (m0_ : Int))), (4, .int (zI t)), (5, .int (zI part))]) [0, 1, 4, 5, 6, 7, 8, 9, 10] rfl ?_
                                rw [show stS kd fg hm at_ lg n oa t j v m0_ s + 0 = stS kd fg hm at_ lg n oa t j v m0_ (s + 1) from by show _ = _ + (if _ then _ else _); first | rw [if_pos (by omega)] | rw [if_neg (by omega)]]
                                exact ih_88 _ (by omega) (s + 1) r hm at_ ((stI kd fg hm at_ lg n oa t s m0_).2) n oa mdy (by first | assumption | omega) rfl
                              · skip
                                refine z_lload C dX1_storm_170 1 rfl ?_
                                refine z_goto (tgt := 176) C dX1_storm_172 (by decide) ?_
                                refine y_ladd C dX1_storm_176 ?_
                                refine z_lstore (lv' := [(6, .long (zL ((stS kd fg hm at_ lg n oa t j v m0_ s) + ((stI kd fg hm at_ lg n oa t s m0_).1)))), (13, .int (zI (m0_ : Int))), (11, .long (zL ((stI kd fg hm at_ lg n oa t s m0_).1))), (10, .int (zI (s : Int))), (8, .long (zL (t ^ m0_))), (0, .ref x), (1, .int (zI (j : Int))), (2, .int (zI v)), (3, .int (zI (m0_ : Int))), (4, .int (zI t)), (5, .int (zI part))]) C dX1_storm_177 (nlt rfl) rfl ?_
                                refine y_iinc (lv' := [(10, .int (zI ((s : Int) + 1))), (6, .long (zL ((stS kd fg hm at_ lg n oa t j v m0_ s) + ((stI kd fg hm at_ lg n oa t s m0_).1)))), (13, .int (zI (m0_ : Int))), (11, .long (zL ((stI kd fg hm at_ lg n oa t s m0_).1))), (8, .long (zL (t ^ m0_))), (0, .ref x), (1, .int (zI (j : Int))), (2, .int (zI v)), (3, .int (zI (m0_ : Int))), (4, .int (zI t)), (5, .int (zI part))]) C dX1_storm_179 (q := 3) rfl (nlt rfl) rfl ?_
                                refine z_goto (tgt := 88) C dX1_storm_182 (by decide) ?_
                                refine z_lv (lv' := [(10, .int (zI ((s : Int) + 1))), (6, .long (zL ((stS kd fg hm at_ lg n oa t j v m0_ s) + ((stI kd fg hm at_ lg n oa t s m0_).1)))), (8, .long (zL (t ^ m0_))), (0, .ref x), (1, .int (zI (j : Int))), (2, .int (zI v)), (3, .int (zI (m0_ : Int))), (4, .int (zI t)), (5, .int (zI part))]) [0, 1, 4, 5, 6, 7, 8, 9, 10] rfl ?_
                                rw [show stS kd fg hm at_ lg n oa t j v m0_ s + ((stI kd fg hm at_ lg n oa t s m0_).1) = stS kd fg hm at_ lg n oa t j v m0_ (s + 1) from by show _ = _ + (if _ then _ else _); first | rw [if_pos (by omega)] | rw [if_neg (by omega)]]
                                exact ih_88 _ (by omega) (s + 1) r hm at_ ((stI kd fg hm at_ lg n oa t s m0_).2) n oa mdy (by first | assumption | omega) rfl
                            · skip
                              refine z_lload C dX1_storm_112 1 rfl ?_
                              refine z_iload C dX1_storm_114 2 rfl ?_
                              refine z_iload C dX1_storm_116 0 rfl ?_
                              refine z_i C (z_runS (As := [.int (zI (s : Int)), .int (zI (k : Int))]) (rest := [.long (zL ((stI kd fg hm at_ lg n oa t s k).1))]) C (ct_X1_has (zl X) G (zI (s : Int)) (k : Int) ) (lw_S q625 q626 q58 q627) (sb_e [] rfl rfl) (na := 2) (by decide +kernel) rfl (zrm rfl rfl (rfl) (rfl)) rfl (Nat.le_of_ble_eq_true rfl) dX1_storm_118) (fun u => jn_ro (sb_e [] rfl rfl)) (fun r_118 u hp_118 => ?_)
                              have hp_118 : r_118 = zI (hasQ (zI (s : Int)) (zI (k : Int))) := hp_118
                              subst hp_118
                              refine y_if_eq (tgt := 128) C (by omega) dX1_storm_121 (by decide) (fun c_br => ?_) (fun c_br => ?_)
                              · skip
                                refine z_iload C dX1_storm_128 9 rfl ?_
                                refine y_iconst C dX1_storm_130 ?_
                                refine y_isub C dX1_storm_131 ?_
                                refine y_i2l C (by omega) dX1_storm_132 ?_
                                refine y_lmul C dX1_storm_133 ?_
                                refine z_lstore (lv' := [(11, .long (zL (((stI kd fg hm at_ lg n oa t s k).1) * (t - 1)))), (13, .int (zI (k : Int))), (10, .int (zI (s : Int))), (6, .long (zL (stS kd fg hm at_ lg n oa t j v m0_ s))), (8, .long (zL (t ^ m0_))), (0, .ref x), (1, .int (zI (j : Int))), (2, .int (zI v)), (3, .int (zI (m0_ : Int))), (4, .int (zI t)), (5, .int (zI part))]) C dX1_storm_134 (nlt rfl) rfl ?_
                                refine z_aload_n C dX1_storm_136 rfl 5 rfl ?_
                                refine z_get (q := 0) (kf := 2) (v := .ref m0) C rfl rfl in_X1 (by decide) q882 (Or.inl rfl) rfl dX1_storm_137 ?_
                                refine z_iload C dX1_storm_140 2 rfl ?_
                                refine z_iload C dX1_storm_142 1 rfl ?_
                                refine z_i C (z_runS (As := [.int (zI (s : Int)), .int (zI (k : Int))]) (rest := [.ref m0]) C (ct_X1_has (zl X) G (zI (s : Int)) (k : Int) ) (lw_S q625 q626 q58 q627) (sb_e [] rfl rfl) (na := 2) (by decide +kernel) rfl (zrm rfl rfl (rfl) (rfl)) rfl (Nat.le_of_ble_eq_true rfl) dX1_storm_144) (fun u => jn_ro (sb_e [] rfl rfl)) (fun r_144 u hp_144 => ?_)
                                have hp_144 : r_144 = zI (hasQ (zI (s : Int)) (zI (k : Int))) := hp_144
                                subst hp_144
                                refine z_v (ws' := fun u => ([(x, .inr (10, [.ref a0, .ref b0, .ref m0, .int (zI im), .ref tl, .ref le, .int (zI fw), .int (zI fh), .int (zI lo), .ref sh])), (a0, .inr (8, [.ref a1, .ref a2, .ref a3, .ref a4, .int (zI (n : Int)), .int (zI oa), .int (zI dy)])), (a1, AQ G 4 7 r), (a2, AI G 7 hm), (a3, AI G 7 at_), (a4, AI G 7 lg), (m0, .inr (8, [.ref m1, .ref m2, .ref m3, .ref m4, .int (zI (n : Int)), .int (zI oa), .int (zI (mdy + 1))])), (m1, AQ G 4 7 r), (m2, AI G 7 hm), (m3, AI G 7 at_), (m4, AI G 7 (dayB (hasQ (zI (s : Int)) (zI (k : Int))) kd fg hm at_ oa n ((stI kd fg hm at_ lg n oa t s k).2)))] ++ PL LP hk hf)) C (z_runV (q := 6) (As := [.int (zI (hasQ (zI (s : Int)) (zI (k : Int))))]) (rest := []) C (ct_X2_goesDay (zl X) G m0 m1 m2 m3 m4 r hm at_ ((stI kd fg hm at_ lg n oa t s k).2) n oa mdy LP hk hf kd fg (hasQ (zI (s : Int)) (zI (k : Int))) (by first | assumption | omega) ((stI_ok hL k)) (by first | assumption | omega)) (lw_V q649 q492 q493 q59 q494) rfl rfl (sb_p [6, 7, 8, 9, 10] rfl rfl) (na := 1) (by decide +kernel) rfl (zrm rfl rfl (rfl) (rfl)) rfl (Nat.le_of_ble_eq_true rfl) dX1_storm_147) (fun u => jn_p (Lr := [(x, .inr (10, [.ref a0, .ref b0, .ref m0, .int (zI im), .ref tl, .ref le, .int (zI fw), .int (zI fh), .int (zI lo), .ref sh])), (a0, .inr (8, [.ref a1, .ref a2, .ref a3, .ref a4, .int (zI (n : Int)), .int (zI oa), .int (zI dy)])), (a1, AQ G 4 7 r), (a2, AI G 7 hm), (a3, AI G 7 at_), (a4, AI G 7 lg)]) [6, 7, 8, 9, 10] [0, 1, 2, 3, 4, 5] [0, 1, 2, 3, 4, 5, 6, 7, 8, 9, 10] rfl rfl rfl (by decide) rfl rfl) (fun u hp_147 => ?_)
                                rw [show dayB (hasQ (zI (s : Int)) (zI (k : Int))) kd fg hm at_ oa n ((stI kd fg hm at_ lg n oa t s k).2) = (stI kd fg hm at_ lg n oa t s (k + 1)).2 from rfl]
                                refine y_iinc (lv' := [(13, .int (zI ((k : Int) + 1))), (11, .long (zL (((stI kd fg hm at_ lg n oa t s k).1) * (t - 1)))), (10, .int (zI (s : Int))), (6, .long (zL (stS kd fg hm at_ lg n oa t j v m0_ s))), (8, .long (zL (t ^ m0_))), (0, .ref x), (1, .int (zI (j : Int))), (2, .int (zI v)), (3, .int (zI (m0_ : Int))), (4, .int (zI t)), (5, .int (zI part))]) C dX1_storm_150 (q := 1) rfl (nlt rfl) rfl ?_
                                refine z_goto (tgt := 106) C dX1_storm_153 (by decide) ?_
                                refine z_lv (lv' := [(13, .int (zI ((k : Int) + 1))), (11, .long (zL ((stI kd fg hm at_ lg n oa t s (k + 1)).1))), (10, .int (zI (s : Int))), (6, .long (zL (stS kd fg hm at_ lg n oa t j v m0_ s))), (8, .long (zL (t ^ m0_))), (0, .ref x), (1, .int (zI (j : Int))), (2, .int (zI v)), (3, .int (zI (m0_ : Int))), (4, .int (zI t)), (5, .int (zI part))]) [0, 1, 2, 3, 4, 5, 6, 7, 8, 9, 10] (by rw [show (stI kd fg hm at_ lg n oa t s (k + 1)).1 = (stI kd fg hm at_ lg n oa t s k).1 * (t - 1) from by show _ * (if _ then _ else _) = _; rw [if_pos c_br]]; rfl) ?_
                                exact ih_106 _ (by omega) (k + 1) (mdy + 1) (by first | assumption | omega) rfl
                              · skip
                                refine z_lconst (v := zL 1) C dX1_storm_124 (by decide) ?_
                                refine z_goto (tgt := 133) C dX1_storm_125 (by decide) ?_
                                refine y_lmul C dX1_storm_133 ?_
                                refine z_lstore (lv' := [(11, .long (zL (((stI kd fg hm at_ lg n oa t s k).1) * 1))), (13, .int (zI (k : Int))), (10, .int (zI (s : Int))), (6, .long (zL (stS kd fg hm at_ lg n oa t j v m0_ s))), (8, .long (zL (t ^ m0_))), (0, .ref x), (1, .int (zI (j : Int))), (2, .int (zI v)), (3, .int (zI (m0_ : Int))), (4, .int (zI t)), (5, .int (zI part))]) C dX1_storm_134 (nlt rfl) rfl ?_
                                refine z_aload_n C dX1_storm_136 rfl 5 rfl ?_
                                refine z_get (q := 0) (kf := 2) (v := .ref m0) C rfl rfl in_X1 (by decide) q882 (Or.inl rfl) rfl dX1_storm_137 ?_
                                refine z_iload C dX1_storm_140 2 rfl ?_
                                refine z_iload C dX1_storm_142 1 rfl ?_
                                refine z_i C (z_runS (As := [.int (zI (s : Int)), .int (zI (k : Int))]) (rest := [.ref m0]) C (ct_X1_has (zl X) G (zI (s : Int)) (k : Int) ) (lw_S q625 q626 q58 q627) (sb_e [] rfl rfl) (na := 2) (by decide +kernel) rfl (zrm rfl rfl (rfl) (rfl)) rfl (Nat.le_of_ble_eq_true rfl) dX1_storm_144) (fun u => jn_ro (sb_e [] rfl rfl)) (fun r_144 u hp_144 => ?_)
                                have hp_144 : r_144 = zI (hasQ (zI (s : Int)) (zI (k : Int))) := hp_144
                                subst hp_144
                                refine z_v (ws' := fun u => ([(x, .inr (10, [.ref a0, .ref b0, .ref m0, .int (zI im), .ref tl, .ref le, .int (zI fw), .int (zI fh), .int (zI lo), .ref sh])), (a0, .inr (8, [.ref a1, .ref a2, .ref a3, .ref a4, .int (zI (n : Int)), .int (zI oa), .int (zI dy)])), (a1, AQ G 4 7 r), (a2, AI G 7 hm), (a3, AI G 7 at_), (a4, AI G 7 lg), (m0, .inr (8, [.ref m1, .ref m2, .ref m3, .ref m4, .int (zI (n : Int)), .int (zI oa), .int (zI (mdy + 1))])), (m1, AQ G 4 7 r), (m2, AI G 7 hm), (m3, AI G 7 at_), (m4, AI G 7 (dayB (hasQ (zI (s : Int)) (zI (k : Int))) kd fg hm at_ oa n ((stI kd fg hm at_ lg n oa t s k).2)))] ++ PL LP hk hf)) C (z_runV (q := 6) (As := [.int (zI (hasQ (zI (s : Int)) (zI (k : Int))))]) (rest := []) C (ct_X2_goesDay (zl X) G m0 m1 m2 m3 m4 r hm at_ ((stI kd fg hm at_ lg n oa t s k).2) n oa mdy LP hk hf kd fg (hasQ (zI (s : Int)) (zI (k : Int))) (by first | assumption | omega) ((stI_ok hL k)) (by first | assumption | omega)) (lw_V q649 q492 q493 q59 q494) rfl rfl (sb_p [6, 7, 8, 9, 10] rfl rfl) (na := 1) (by decide +kernel) rfl (zrm rfl rfl (rfl) (rfl)) rfl (Nat.le_of_ble_eq_true rfl) dX1_storm_147) (fun u => jn_p (Lr := [(x, .inr (10, [.ref a0, .ref b0, .ref m0, .int (zI im), .ref tl, .ref le, .int (zI fw), .int (zI fh), .int (zI lo), .ref sh])), (a0, .inr (8, [.ref a1, .ref a2, .ref a3, .ref a4, .int (zI (n : Int)), .int (zI oa), .int (zI dy)])), (a1, AQ G 4 7 r), (a2, AI G 7 hm), (a3, AI G 7 at_), (a4, AI G 7 lg)]) [6, 7, 8, 9, 10] [0, 1, 2, 3, 4, 5] [0, 1, 2, 3, 4, 5, 6, 7, 8, 9, 10] rfl rfl rfl (by decide) rfl rfl) (fun u hp_147 => ?_)
                                rw [show dayB (hasQ (zI (s : Int)) (zI (k : Int))) kd fg hm at_ oa n ((stI kd fg hm at_ lg n oa t s k).2) = (stI kd fg hm at_ lg n oa t s (k + 1)).2 from rfl]
                                refine y_iinc (lv' := [(13, .int (zI ((k : Int) + 1))), (11, .long (zL (((stI kd fg hm at_ lg n oa t s k).1) * 1))), (10, .int (zI (s : Int))), (6, .long (zL (stS kd fg hm at_ lg n oa t j v m0_ s))), (8, .long (zL (t ^ m0_))), (0, .ref x), (1, .int (zI (j : Int))), (2, .int (zI v)), (3, .int (zI (m0_ : Int))), (4, .int (zI t)), (5, .int (zI part))]) C dX1_storm_150 (q := 1) rfl (nlt rfl) rfl ?_
                                refine z_goto (tgt := 106) C dX1_storm_153 (by decide) ?_
                                refine z_lv (lv' := [(13, .int (zI ((k : Int) + 1))), (11, .long (zL ((stI kd fg hm at_ lg n oa t s (k + 1)).1))), (10, .int (zI (s : Int))), (6, .long (zL (stS kd fg hm at_ lg n oa t j v m0_ s))), (8, .long (zL (t ^ m0_))), (0, .ref x), (1, .int (zI (j : Int))), (2, .int (zI v)), (3, .int (zI (m0_ : Int))), (4, .int (zI t)), (5, .int (zI part))]) [0, 1, 2, 3, 4, 5, 6, 7, 8, 9, 10] (by rw [show (stI kd fg hm at_ lg n oa t s (k + 1)).1 = (stI kd fg hm at_ lg n oa t s k).1 * 1 from by show _ * (if _ then _ else _) = _; rw [if_neg c_br]]; rfl) ?_
                                exact ih_106 _ (by omega) (k + 1) (mdy + 1) (by first | assumption | omega) rfl
                        exact L_106 _ 0 dy (by first | assumption | omega) rfl
                  refine z_lv (lv' := [(10, .int (zI 0)), (6, .long (zL 0)), (8, .long (zL (t ^ m0_))), (0, .ref x), (1, .int (zI (j : Int))), (2, .int (zI v)), (3, .int (zI (m0_ : Int))), (4, .int (zI t)), (5, .int (zI part))]) [0, 2, 1, 3, 4, 5, 6, 7, 8] rfl ?_
                  exact L_88 _ 0 mr mhm mat mlg mn moa mdy (Nat.zero_le _) rfl
                · skip
                  refine z_lload C dX1_storm_71 1 rfl ?_
                  refine z_iload C dX1_storm_73 7 rfl ?_
                  refine y_i2l C (by omega) dX1_storm_75 ?_
                  refine y_lmul C dX1_storm_76 ?_
                  refine z_lstore (lv' := [(8, .long (zL ((t ^ k) * t))), (10, .int (zI (k : Int))), (6, .long (zL 0)), (0, .ref x), (1, .int (zI (j : Int))), (2, .int (zI v)), (3, .int (zI (m0_ : Int))), (4, .int (zI t)), (5, .int (zI part))]) C dX1_storm_77 (nlt rfl) rfl ?_
                  refine y_iinc (lv' := [(10, .int (zI ((k : Int) + 1))), (8, .long (zL ((t ^ k) * t))), (6, .long (zL 0)), (0, .ref x), (1, .int (zI (j : Int))), (2, .int (zI v)), (3, .int (zI (m0_ : Int))), (4, .int (zI t)), (5, .int (zI part))]) C dX1_storm_79 (q := 1) rfl (nlt rfl) rfl ?_
                  refine z_goto (tgt := 65) C dX1_storm_82 (by decide) ?_
                  rw [show t ^ k * t = t ^ (k + 1) from (Int.pow_succ t k).symm]
                  exact ih_65 _ (by omega) (k + 1) mr mhm mat mlg mn moa mdy (by first | assumption | omega) rfl
            rw [show zL 1 = zL (t ^ 0) from congrArg zL (Int.pow_zero t).symm]
            exact L_65 _ 0 mr mhm mat mlg mn moa mdy (by first | assumption | omega) rfl
          · skip
            refine z_ldc2 C q779 dX1_storm_52 ?_
            refine z_eql (y := zL 1000000001) (by decide) ?_
            exact z_lret C hA hQ rfl (Nat.le_of_ble_eq_true rfl) (Nat.le_of_ble_eq_true rfl) ((mr, mhm, mat, mlg, mn, moa, mdy)) (congrArg zL (by unfold oStorm; (repeat (first | rw [if_pos (by omega)] | rw [if_neg (by omega)])))) (sb_p [0, 1, 2, 3, 4, 5, 6, 7, 8, 9, 10] rfl rfl) dX1_storm_55

set_option maxHeartbeats 4000000 in
theorem ct_X4_storm (l : Launch) (G : ZG) (m : Nat) (g1 : Nat) (g2 : Nat) (g3 : Nat) (g4 : Nat) (g5 : Nat) (s1 : Nat) (s2 : Nat) (s3 : Nat) (s4 : Nat) (s5 : Nat) (s6 : Nat) (t1 : Nat) (t2 : Nat) (t3 : Nat) (c0 : Nat) (c1 : Nat) (c2 : Nat) (c3 : Nat) (y0 : Nat) (y1 : Nat) (thr : Int) (rdg : Int) (plc : Int) (ibd : Int) (stm : Int) (him : Int) (pl0 : Int) (itk : Int) (chd : Int) (chf : Int) (sd : Int) (ki : Value) (kd : Nat → Nat) (fg : Nat → Int) (hm : Nat → Int) (at_ : Nat → Int) (lg : Nat → Int) (n : Nat) (oa : Int) (dy : Int) (kc : Nat → Int) (h : Int) (v : Int) (mm : Int) (t : Int) (part : Int) (hL : LK n kd fg hm at_ lg oa) (rh : -2147483648 ≤ h ∧ h ≤ 2147483647) (rv : -2147483648 ≤ v ∧ v ≤ 2147483647) (rmm : -2147483648 ≤ mm ∧ mm ≤ 2147483647) (rt : -2147483648 ≤ t ∧ t ≤ 2147483647) (rpart : -2147483648 ≤ part ∧ part ≤ 2147483647) : CT l yX4_storm cX4_storm 14 (some .long) { frames := 4, cells := 0, slots := 0, locals := 91 } G [.ref m, .int (zI h), .int (zI v), .int (zI mm), .int (zI t), .int (zI part)] [(m, .inr (11, [.int (zI (n : Int)), .ref g1, .ref g2, .ref g3, .ref g4, .ref g5, .int (zI oa), .int (zI dy), .ref s1, .ref s2, .ref s3, .ref s4, .ref s5, .ref s6, .int (zI thr), .int (zI rdg), .int (zI plc), .int (zI ibd), .int (zI stm), .ref t1, .ref t2, .ref t3, .ref c0, .ref c1, .ref c2, .ref c3, .int (zI him), .int (zI pl0), .int (zI itk), ki, .int (zI chd), .int (zI chf), .ref y0, .int (zI sd), .ref y1])), (g1, AI G 7 (fun z_ => (kd z_ : Int))), (g2, AI G 7 fg), (g3, AI G 7 hm), (g4, AI G 7 at_), (g5, AI G 7 lg), (c0, AI G 38 kc)] (Ql G [(m, .inr (11, [.int (zI (n : Int)), .ref g1, .ref g2, .ref g3, .ref g4, .ref g5, .int (zI oa), .int (zI dy), .ref s1, .ref s2, .ref s3, .ref s4, .ref s5, .ref s6, .int (zI thr), .int (zI rdg), .int (zI plc), .int (zI ibd), .int (zI stm), .ref t1, .ref t2, .ref t3, .ref c0, .ref c1, .ref c2, .ref c3, .int (zI him), .int (zI pl0), .int (zI itk), ki, .int (zI chd), .int (zI chf), .ref y0, .int (zI sd), .ref y1])), (g1, AI G 7 (fun z_ => (kd z_ : Int))), (g2, AI G 7 fg), (g3, AI G 7 hm), (g4, AI G 7 at_), (g5, AI G 7 lg), (c0, AI G 38 kc)] (fun (r : Int64) (u : Value × Int × Int × (Nat → Int)) => r = zL (oStorm kd fg hm at_ lg n oa h v mm t part)) (fun u => [(m, .inr (11, [.int (zI (n : Int)), .ref g1, .ref g2, .ref g3, .ref g4, .ref g5, .int (zI oa), .int (zI dy), .ref s1, .ref s2, .ref s3, .ref s4, .ref s5, .ref s6, .int (zI 0), .int (zI rdg), .int (zI plc), .int (zI ibd), .int (zI stm), .ref t1, .ref t2, .ref t3, .ref c0, .ref c1, .ref c2, .ref c3, .int (zI him), .int (zI u.2.1), .int (zI u.2.2.1), u.1, .int (zI chd), .int (zI chf), .ref y0, .int (zI sd), .ref y1])), (g1, AI G 7 (fun z_ => (kd z_ : Int))), (g2, AI G 7 fg), (g3, AI G 7 hm), (g4, AI G 7 at_), (g5, AI G 7 lg), (c0, AI G 38 u.2.2.2)])) := by
  refine z_met (by decide) (Nat.le_of_ble_eq_true rfl) ?_
  intro X A hl0 hA C hQ hin
  subst hl0
  obtain ⟨hn7, hoa, hLj⟩ := id hL
  show Z X _ G 0 0 _ 0 [(0, .ref m), (1, .int (zI h)), (2, .int (zI v)), (3, .int (zI mm)), (4, .int (zI t)), (5, .int (zI part))] []
  refine z_aload_n C dX4_storm_0 rfl 0 rfl ?_
  refine y_iconst C dX4_storm_1 ?_
  refine z_put (q := 0) (kf := 14) (ws' := [(m, .inr (11, [.int (zI (n : Int)), .ref g1, .ref g2, .ref g3, .ref g4, .ref g5, .int (zI oa), .int (zI dy), .ref s1, .ref s2, .ref s3, .ref s4, .ref s5, .ref s6, .int (zI 0), .int (zI rdg), .int (zI plc), .int (zI ibd), .int (zI stm), .ref t1, .ref t2, .ref t3, .ref c0, .ref c1, .ref c2, .ref c3, .int (zI him), .int (zI pl0), .int (zI itk), ki, .int (zI chd), .int (zI chf), .ref y0, .int (zI sd), .ref y1])), (g1, AI G 7 (fun z_ => (kd z_ : Int))), (g2, AI G 7 fg), (g3, AI G 7 hm), (g4, AI G 7 at_), (g5, AI G 7 lg), (c0, AI G 38 kc)]) C rfl rfl in_X4 tyX4_ok nmX4 (by decide) q1101 rfl rfl rfl rfl rfl (nlt rfl) rfl dX4_storm_2 ?_
  refine z_aload_n C dX4_storm_5 rfl 0 rfl ?_
  refine z_iload_n C dX4_storm_6 rfl 1 rfl ?_
  refine z_i C (z_runV (q := 0) (As := [.int (zI h)]) (rest := []) C (ct_X4_isHorse (zl X) G m g1 g2 g3 g4 g5 n oa dy ([.ref s1, .ref s2, .ref s3, .ref s4, .ref s5, .ref s6, .int (zI 0), .int (zI rdg), .int (zI plc), .int (zI ibd), .int (zI stm), .ref t1, .ref t2, .ref t3, .ref c0, .ref c1, .ref c2, .ref c3, .int (zI him), .int (zI pl0), .int (zI itk), ki, .int (zI chd), .int (zI chf), .ref y0, .int (zI sd), .ref y1]) h (by first | assumption | omega) (by first | assumption | omega)) (lw_V q1255 q1257 qs33 q61 q1258) rfl rfl (sb_e [0] rfl rfl) (na := 1) (by decide +kernel) rfl (zrm rfl rfl (rfl) (rfl)) rfl (Nat.le_of_ble_eq_true rfl) dX4_storm_7) (fun u => jn_ro (sb_e [0] rfl rfl)) (fun r_7 u hp_7 => ?_)
  have hp_7 : r_7 = zI (bI (0 ≤ h ∧ h ≤ (n : Int) - 1)) := hp_7
  subst hp_7
  refine y_beq (tgt := 63) C dX4_storm_10 (by decide) (fun c_10 => ?_) (fun c_10 => ?_)
  · skip
    refine z_ldc2 C q1472 dX4_storm_63 ?_
    refine z_eql (y := zL 1000000001) (by decide) ?_
    exact z_lret C hA hQ rfl (Nat.le_of_ble_eq_true rfl) (Nat.le_of_ble_eq_true rfl) ((ki, pl0, itk, kc)) (congrArg zL (by unfold oStorm; (repeat (first | rw [if_pos (by omega)] | rw [if_neg (by omega)])))) (sb_e [0, 1, 2, 3, 4, 5, 6] rfl rfl) dX4_storm_66
  · skip
    refine z_iload_n C dX4_storm_13 rfl 2 rfl ?_
    refine y_i2l C (by omega) dX4_storm_14 ?_
    refine z_lconst (v := zL 1) C dX4_storm_15 (by decide) ?_
    refine z_ldc2 C q1297 dX4_storm_16 ?_
    refine z_eql (y := zL 60) (by decide) ?_
    refine z_i C (z_runS (As := [.long (zL v), .long (zL 1), .long (zL 60)]) (rest := []) C (ct_X4_in (zl X) G v 1 60 (by first | assumption | omega) (by first | assumption | omega) (by first | assumption | omega)) (lw_S q1207 q1208 q61 q1209) (sb_e [] rfl rfl) (na := 3) (by decide +kernel) rfl (zrm rfl rfl (rfl) (rfl)) rfl (Nat.le_of_ble_eq_true rfl) dX4_storm_19) (fun u => jn_ro (sb_e [] rfl rfl)) (fun r_19 u hp_19 => ?_)
    have hp_19 : r_19 = zI (bI (1 ≤ v ∧ v ≤ 60)) := hp_19
    subst hp_19
    refine y_beq (tgt := 63) C dX4_storm_22 (by decide) (fun c_22 => ?_) (fun c_22 => ?_)
    · skip
      refine z_ldc2 C q1472 dX4_storm_63 ?_
      refine z_eql (y := zL 1000000001) (by decide) ?_
      exact z_lret C hA hQ rfl (Nat.le_of_ble_eq_true rfl) (Nat.le_of_ble_eq_true rfl) ((ki, pl0, itk, kc)) (congrArg zL (by unfold oStorm; (repeat (first | rw [if_pos (by omega)] | rw [if_neg (by omega)])))) (sb_e [0, 1, 2, 3, 4, 5, 6] rfl rfl) dX4_storm_66
    · skip
      refine z_iload_n C dX4_storm_25 rfl 3 rfl ?_
      refine y_i2l C (by omega) dX4_storm_26 ?_
      refine z_lconst (v := zL 0) C dX4_storm_27 (by decide) ?_
      refine z_ldc2 C q1206 dX4_storm_28 ?_
      refine z_eql (y := zL 7) (by decide) ?_
      refine z_i C (z_runS (As := [.long (zL mm), .long (zL 0), .long (zL 7)]) (rest := []) C (ct_X4_in (zl X) G mm 0 7 (by first | assumption | omega) (by first | assumption | omega) (by first | assumption | omega)) (lw_S q1207 q1208 q61 q1209) (sb_e [] rfl rfl) (na := 3) (by decide +kernel) rfl (zrm rfl rfl (rfl) (rfl)) rfl (Nat.le_of_ble_eq_true rfl) dX4_storm_31) (fun u => jn_ro (sb_e [] rfl rfl)) (fun r_31 u hp_31 => ?_)
      have hp_31 : r_31 = zI (bI (0 ≤ mm ∧ mm ≤ 7)) := hp_31
      subst hp_31
      refine y_beq (tgt := 63) C dX4_storm_34 (by decide) (fun c_34 => ?_) (fun c_34 => ?_)
      · skip
        refine z_ldc2 C q1472 dX4_storm_63 ?_
        refine z_eql (y := zL 1000000001) (by decide) ?_
        exact z_lret C hA hQ rfl (Nat.le_of_ble_eq_true rfl) (Nat.le_of_ble_eq_true rfl) ((ki, pl0, itk, kc)) (congrArg zL (by unfold oStorm; (repeat (first | rw [if_pos (by omega)] | rw [if_neg (by omega)])))) (sb_e [0, 1, 2, 3, 4, 5, 6] rfl rfl) dX4_storm_66
      · skip
        refine z_iload C dX4_storm_37 4 rfl ?_
        refine y_i2l C (by omega) dX4_storm_39 ?_
        refine z_ldc2 C q1471 dX4_storm_40 ?_
        refine z_eql (y := zL 2) (by decide) ?_
        refine z_ldc2 C q1254 dX4_storm_43 ?_
        refine z_eql (y := zL 20) (by decide) ?_
        refine z_i C (z_runS (As := [.long (zL t), .long (zL 2), .long (zL 20)]) (rest := []) C (ct_X4_in (zl X) G t 2 20 (by first | assumption | omega) (by first | assumption | omega) (by first | assumption | omega)) (lw_S q1207 q1208 q61 q1209) (sb_e [] rfl rfl) (na := 3) (by decide +kernel) rfl (zrm rfl rfl (rfl) (rfl)) rfl (Nat.le_of_ble_eq_true rfl) dX4_storm_46) (fun u => jn_ro (sb_e [] rfl rfl)) (fun r_46 u hp_46 => ?_)
        have hp_46 : r_46 = zI (bI (2 ≤ t ∧ t ≤ 20)) := hp_46
        subst hp_46
        refine y_beq (tgt := 63) C dX4_storm_49 (by decide) (fun c_49 => ?_) (fun c_49 => ?_)
        · skip
          refine z_ldc2 C q1472 dX4_storm_63 ?_
          refine z_eql (y := zL 1000000001) (by decide) ?_
          exact z_lret C hA hQ rfl (Nat.le_of_ble_eq_true rfl) (Nat.le_of_ble_eq_true rfl) ((ki, pl0, itk, kc)) (congrArg zL (by unfold oStorm; (repeat (first | rw [if_pos (by omega)] | rw [if_neg (by omega)])))) (sb_e [0, 1, 2, 3, 4, 5, 6] rfl rfl) dX4_storm_66
        · skip
          refine z_iload C dX4_storm_52 5 rfl ?_
          refine y_i2l C (by omega) dX4_storm_54 ?_
          refine z_lconst (v := zL 0) C dX4_storm_55 (by decide) ?_
          refine z_lconst (v := zL 1) C dX4_storm_56 (by decide) ?_
          refine z_i C (z_runS (As := [.long (zL part), .long (zL 0), .long (zL 1)]) (rest := []) C (ct_X4_in (zl X) G part 0 1 (by first | assumption | omega) (by first | assumption | omega) (by first | assumption | omega)) (lw_S q1207 q1208 q61 q1209) (sb_e [] rfl rfl) (na := 3) (by decide +kernel) rfl (zrm rfl rfl (rfl) (rfl)) rfl (Nat.le_of_ble_eq_true rfl) dX4_storm_57) (fun u => jn_ro (sb_e [] rfl rfl)) (fun r_57 u hp_57 => ?_)
          have hp_57 : r_57 = zI (bI (0 ≤ part ∧ part ≤ 1)) := hp_57
          subst hp_57
          refine y_bne (tgt := 67) C dX4_storm_60 (by decide) (fun c_60 => ?_) (fun c_60 => ?_)
          · skip
            obtain ⟨j, rfl⟩ := Int.eq_ofNat_of_zero_le (show 0 ≤ h by omega)
            obtain ⟨m0_, rfl⟩ := Int.eq_ofNat_of_zero_le (show 0 ≤ mm by omega)
            have hm7 : m0_ ≤ 7 := by omega
            have ht : 2 ≤ t ∧ t ≤ 20 := by omega
            have hp128 := pow2_7 hm7
            refine z_lconst (v := zL 0) C dX4_storm_67 (by decide) ?_
            refine z_lstore (lv' := [(6, .long (zL 0)), (0, .ref m), (1, .int (zI (j : Int))), (2, .int (zI v)), (3, .int (zI (m0_ : Int))), (4, .int (zI t)), (5, .int (zI part))]) C dX4_storm_68 (nlt rfl) rfl ?_
            refine z_lconst (v := zL 1) C dX4_storm_70 (by decide) ?_
            refine z_lstore (lv' := [(8, .long (zL 1)), (6, .long (zL 0)), (0, .ref m), (1, .int (zI (j : Int))), (2, .int (zI v)), (3, .int (zI (m0_ : Int))), (4, .int (zI t)), (5, .int (zI part))]) C dX4_storm_71 (nlt rfl) rfl ?_
            refine y_iconst C dX4_storm_73 ?_
            refine z_istore (lv' := [(10, .int (zI 0)), (8, .long (zL 1)), (6, .long (zL 0)), (0, .ref m), (1, .int (zI (j : Int))), (2, .int (zI v)), (3, .int (zI (m0_ : Int))), (4, .int (zI t)), (5, .int (zI part))]) C dX4_storm_74 (nlt rfl) rfl ?_
            have L_76 : ∀ (tt : Nat) (k : Nat), (k ≤ m0_) → m0_ - k = tt → Z X (cX4_storm, 14, yX4_storm.cls, (some .long), { frames := 4, cells := 0, slots := 0, locals := 91 }, A) G 0 0 [(m, .inr (11, [.int (zI (n : Int)), .ref g1, .ref g2, .ref g3, .ref g4, .ref g5, .int (zI oa), .int (zI dy), .ref s1, .ref s2, .ref s3, .ref s4, .ref s5, .ref s6, .int (zI 0), .int (zI rdg), .int (zI plc), .int (zI ibd), .int (zI stm), .ref t1, .ref t2, .ref t3, .ref c0, .ref c1, .ref c2, .ref c3, .int (zI him), .int (zI pl0), .int (zI itk), ki, .int (zI chd), .int (zI chf), .ref y0, .int (zI sd), .ref y1])), (g1, AI G 7 (fun z_ => (kd z_ : Int))), (g2, AI G 7 fg), (g3, AI G 7 hm), (g4, AI G 7 at_), (g5, AI G 7 lg), (c0, AI G 38 kc)] 76 [(10, .int (zI (k : Int))), (8, .long (zL (t ^ k))), (6, .long (zL 0)), (0, .ref m), (1, .int (zI (j : Int))), (2, .int (zI v)), (3, .int (zI (m0_ : Int))), (4, .int (zI t)), (5, .int (zI part))] [] := by
              intro tt
              induction tt using Nat.strongRecOn with
              | _ tt ih_76 =>
                intro k hk0 ht_76
                have hpt := powt_r ht k
                have hp2 := pow20 (i := k) (by omega)
                refine z_iload C dX4_storm_76 0 rfl ?_
                refine z_iload_n C dX4_storm_78 rfl 6 rfl ?_
                refine y_icmp_ge (tgt := 96) C (by omega) (by omega) dX4_storm_79 (by decide) (fun c_79 => ?_) (fun c_79 => ?_)
                · skip
                  rw [show (k : Nat) = m0_ by omega]
                  refine z_aload_n C dX4_storm_96 rfl 3 rfl ?_
                  refine z_v (ws' := fun u => [(m, .inr (11, [.int (zI (n : Int)), .ref g1, .ref g2, .ref g3, .ref g4, .ref g5, .int (zI oa), .int (zI dy), .ref s1, .ref s2, .ref s3, .ref s4, .ref s5, .ref s6, .int (zI 0), .int (zI rdg), .int (zI plc), .int (zI ibd), .int (zI stm), .ref t1, .ref t2, .ref t3, .ref c0, .ref c1, .ref c2, .ref c3, .int (zI him), .int (zI 38), .int (zI 1), .ref c0, .int (zI chd), .int (zI chf), .ref y0, .int (zI sd), .ref y1])), (g1, AI G 7 (fun z_ => (kd z_ : Int))), (g2, AI G 7 fg), (g3, AI G 7 hm), (g4, AI G 7 at_), (g5, AI G 7 lg), (c0, AI G 38 (encF n oa dy kd fg hm at_ lg))]) C (z_runV (q := 0) (As := []) (rest := []) C (ct_X4_open (zl X) G m g1 g2 g3 g4 g5 s1 s2 s3 s4 s5 s6 t1 t2 t3 c0 c1 c2 c3 y0 y1 0 rdg plc ibd stm him pl0 itk chd chf sd ki kd fg hm at_ lg n oa dy kc ) (lw_V q1231 q1233 qs28 q61 q1234) rfl rfl (sb_e [0, 1, 2, 3, 4, 5, 6] rfl rfl) (na := 0) (by decide +kernel) rfl (zrm rfl rfl (rfl) (rfl)) rfl (Nat.le_of_ble_eq_true rfl) dX4_storm_97) (fun u => jn_e (wr := []) [0, 1, 2, 3, 4, 5, 6] [] [0, 1, 2, 3, 4, 5, 6] rfl rfl rfl (by decide) rfl rfl) (fun u hp_97 => ?_)
                  refine y_iconst C dX4_storm_100 ?_
                  refine z_istore (lv' := [(10, .int (zI 0)), (8, .long (zL (t ^ m0_))), (6, .long (zL 0)), (0, .ref m), (1, .int (zI (j : Int))), (2, .int (zI v)), (3, .int (zI (m0_ : Int))), (4, .int (zI t)), (5, .int (zI part))]) C dX4_storm_101 (nlt rfl) rfl ?_
                  have L_103 : ∀ (tt : Nat) (s : Nat) (itb : Int), (s ≤ 2 ^ m0_) → 2 ^ m0_ - s = tt → Z X (cX4_storm, 14, yX4_storm.cls, (some .long), { frames := 4, cells := 0, slots := 0, locals := 91 }, A) G 0 0 [(m, .inr (11, [.int (zI (n : Int)), .ref g1, .ref g2, .ref g3, .ref g4, .ref g5, .int (zI oa), .int (zI dy), .ref s1, .ref s2, .ref s3, .ref s4, .ref s5, .ref s6, .int (zI 0), .int (zI rdg), .int (zI plc), .int (zI ibd), .int (zI stm), .ref t1, .ref t2, .ref t3, .ref c0, .ref c1, .ref c2, .ref c3, .int (zI him), .int (zI 38), .int (zI itb), .ref c0, .int (zI chd), .int (zI chf), .ref y0, .int (zI sd), .ref y1])), (g1, AI G 7 (fun z_ => (kd z_ : Int))), (g2, AI G 7 fg), (g3, AI G 7 hm), (g4, AI G 7 at_), (g5, AI G 7 lg), (c0, AI G 38 (encF n oa dy kd fg hm at_ lg))] 103 [(10, .int (zI (s : Int))), (6, .long (zL (stS kd fg hm at_ lg n oa t j v m0_ s))), (8, .long (zL (t ^ m0_))), (0, .ref m), (1, .int (zI (j : Int))), (2, .int (zI v)), (3, .int (zI (m0_ : Int))), (4, .int (zI t)), (5, .int (zI part))] [] := by
                    intro tt
                    induction tt using Nat.strongRecOn with
                    | _ tt ih_103 =>
                      intro s itb hs0 ht_103
                      have hss := stS_r (kd := kd) (fg := fg) (hm := hm) (at_ := at_) (lg := lg) (n := n) (oa := oa) (j := j) (v := v) ht hm7 s
                      refine z_iload C dX4_storm_103 0 rfl ?_
                      refine y_iconst C dX4_storm_105 ?_
                      refine z_iload_n C dX4_storm_106 rfl 6 rfl ?_
                      refine z_ishl C dX4_storm_107 rfl ?_
                      rw [shl_1 m0_ hm7]
                      refine y_icmp_ge (tgt := 194) C (by omega) (by omega) dX4_storm_108 (by decide) (fun c_108 => ?_) (fun c_108 => ?_)
                      · skip
                        have hse : s = 2 ^ m0_ := by omega
                        rw [show (s : Nat) = (2 ^ m0_) from hse]
                        have hss := stS_r (kd := kd) (fg := fg) (hm := hm) (at_ := at_) (lg := lg) (n := n) (oa := oa) (j := j) (v := v) ht hm7 (2 ^ m0_)
                        have hpt := powt_r ht m0_
                        have hp2 := pow20 hm7
                        refine z_lload C dX4_storm_194 1 rfl ?_
                        refine z_lload C dX4_storm_196 2 rfl ?_
                        refine z_iload C dX4_storm_198 8 rfl ?_
                        refine z_l C (z_runS (As := [.long (zL (stS kd fg hm at_ lg n oa t j v m0_ (2 ^ m0_))), .long (zL (t ^ m0_)), .int (zI part)]) (rest := []) C (ct_X4_partOf (zl X) G (stS kd fg hm at_ lg n oa t j v m0_ (2 ^ m0_)) (t ^ m0_) part (by first | assumption | omega) (by first | assumption | omega) (by first | assumption | omega)) (lw_S q1476 q1477 q61 q1478) (sb_e [] rfl rfl) (na := 3) (by decide +kernel) rfl (zrm rfl rfl (rfl) (rfl)) rfl (Nat.le_of_ble_eq_true rfl) dX4_storm_200) (fun u => jn_ro (sb_e [] rfl rfl)) (fun r_200 u hp_200 => ?_)
                        have hp_200 : r_200 = zL (partM (stS kd fg hm at_ lg n oa t j v m0_ (2 ^ m0_)) (t ^ m0_) part) := hp_200
                        subst hp_200
                        exact z_lret C hA hQ rfl (Nat.le_of_ble_eq_true rfl) (Nat.le_of_ble_eq_true rfl) (((.ref c0), 38, itb, (encF n oa dy kd fg hm at_ lg))) (congrArg zL (by unfold oStorm; rw [if_pos (by omega)]; exact partM_e (by omega) (by omega) (by omega))) (sb_e [0, 1, 2, 3, 4, 5, 6] rfl rfl) dX4_storm_203
                      · skip
                        refine z_lconst (v := zL 1) C dX4_storm_111 (by decide) ?_
                        refine z_lstore (lv' := [(11, .long (zL 1)), (10, .int (zI (s : Int))), (6, .long (zL (stS kd fg hm at_ lg n oa t j v m0_ s))), (8, .long (zL (t ^ m0_))), (0, .ref m), (1, .int (zI (j : Int))), (2, .int (zI v)), (3, .int (zI (m0_ : Int))), (4, .int (zI t)), (5, .int (zI part))]) C dX4_storm_112 (nlt rfl) rfl ?_
                        refine y_iconst C dX4_storm_114 ?_
                        refine z_istore (lv' := [(13, .int (zI 0)), (11, .long (zL 1)), (10, .int (zI (s : Int))), (6, .long (zL (stS kd fg hm at_ lg n oa t j v m0_ s))), (8, .long (zL (t ^ m0_))), (0, .ref m), (1, .int (zI (j : Int))), (2, .int (zI v)), (3, .int (zI (m0_ : Int))), (4, .int (zI t)), (5, .int (zI part))]) C dX4_storm_115 (nlt rfl) rfl ?_
                        have L_117 : ∀ (tt : Nat) (k : Nat) (itb : Int) (mdy : Int), (k ≤ m0_) → m0_ - k = tt → Z X (cX4_storm, 14, yX4_storm.cls, (some .long), { frames := 4, cells := 0, slots := 0, locals := 91 }, A) G 0 0 [(m, .inr (11, [.int (zI (n : Int)), .ref g1, .ref g2, .ref g3, .ref g4, .ref g5, .int (zI oa), .int (zI mdy), .ref s1, .ref s2, .ref s3, .ref s4, .ref s5, .ref s6, .int (zI 0), .int (zI rdg), .int (zI plc), .int (zI ibd), .int (zI stm), .ref t1, .ref t2, .ref t3, .ref c0, .ref c1, .ref c2, .ref c3, .int (zI him), .int (zI 38), .int (zI itb), .ref c0, .int (zI chd), .int (zI chf), .ref y0, .int (zI sd), .ref y1])), (g1, AI G 7 (fun z_ => (kd z_ : Int))), (g2, AI G 7 fg), (g3, AI G 7 hm), (g4, AI G 7 at_), (g5, AI G 7 ((stI kd fg hm at_ lg n oa t s k).2)), (c0, AI G 38 (encF n oa dy kd fg hm at_ lg))] 117 [(13, .int (zI (k : Int))), (11, .long (zL ((stI kd fg hm at_ lg n oa t s k).1))), (10, .int (zI (s : Int))), (6, .long (zL (stS kd fg hm at_ lg n oa t j v m0_ s))), (8, .long (zL (t ^ m0_))), (0, .ref m), (1, .int (zI (j : Int))), (2, .int (zI v)), (3, .int (zI (m0_ : Int))), (4, .int (zI t)), (5, .int (zI part))] [] := by
                          intro tt
                          induction tt using Nat.strongRecOn with
                          | _ tt ih_117 =>
                            intro k itb mdy hk0 ht_117
                            have hsr := stI_r (kd := kd) (fg := fg) (hm := hm) (at_ := at_) (lg := lg) (n := n) (oa := oa) (s := s) ht k
                            have hp2 := pow20 (i := k) (by omega)
                            have hqr := hasQ_r (zI (s : Int)) (zI (k : Int))
                            refine z_iload C dX4_storm_117 0 rfl ?_
                            refine z_iload_n C dX4_storm_119 rfl 8 rfl ?_
                            refine y_icmp_ge (tgt := 164) C (by omega) (by omega) dX4_storm_120 (by decide) (fun c_120 => ?_) (fun c_120 => ?_)
                            · skip
                              rw [show (k : Nat) = m0_ by omega]
                              refine z_lload C dX4_storm_164 3 rfl ?_
                              refine z_aload_n C dX4_storm_166 rfl 5 rfl ?_
                              refine z_iload_n C dX4_storm_167 rfl 6 rfl ?_
                              refine z_i C (z_runV (q := 0) (As := [.int (zI (j : Int))]) (rest := [.long (zL (stS kd fg hm at_ lg n oa t j v m0_ s))]) C (ct_X4_paceOf (zl X) G m g1 g2 g3 g4 g5 kd fg hm at_ ((stI kd fg hm at_ lg n oa t s m0_).2) n oa mdy ([.ref s1, .ref s2, .ref s3, .ref s4, .ref s5, .ref s6, .int (zI 0), .int (zI rdg), .int (zI plc), .int (zI ibd), .int (zI stm), .ref t1, .ref t2, .ref t3, .ref c0, .ref c1, .ref c2, .ref c3, .int (zI him), .int (zI 38), .int (zI itb), .ref c0, .int (zI chd), .int (zI chf), .ref y0, .int (zI sd), .ref y1]) j ((stI_ok hL m0_)) (by omega)) (lw_V q1274 q1276 qs37 q61 q1277) rfl rfl (sb_e [0, 1, 2, 3, 4, 5] rfl rfl) (na := 1) (by decide +kernel) rfl (zrm rfl rfl (rfl) (rfl)) rfl (Nat.le_of_ble_eq_true rfl) dX4_storm_168) (fun u => jn_ro (sb_e [0, 1, 2, 3, 4, 5] rfl rfl)) (fun r_168 u hp_168 => ?_)
                              have hp_168 : r_168 = zI (paceZ (kd j) (fg j) (((stI kd fg hm at_ lg n oa t s m0_).2) j)) := hp_168
                              subst hp_168
                              have hpi := (stI_ok (t := t) (s := s) hL m0_).pace (j := j) (by omega)
                              refine z_iload_n C dX4_storm_171 rfl 7 rfl ?_
                              refine y_icmp_lt (tgt := 180) C (by omega) (by omega) dX4_storm_172 (by decide) (fun c_172 => ?_) (fun c_172 => ?_)
                              · skip
                                refine z_lconst (v := zL 0) C dX4_storm_180 (by decide) ?_
                                refine y_ladd C dX4_storm_181 ?_
                                refine z_lstore (lv' := [(6, .long (zL ((stS kd fg hm at_ lg n oa t j v m0_ s) + 0))), (13, .int (zI (m0_ : Int))), (11, .long (zL ((stI kd fg hm at_ lg n oa t s m0_).1))), (10, .int (zI (s : Int))), (8, .long (zL (t ^ m0_))), (0, .ref m), (1, .int (zI (j : Int))), (2, .int (zI v)), (3, .int (zI (m0_ : Int))), (4, .int (zI t)), (5, .int (zI part))]) C dX4_storm_182 (nlt rfl) rfl ?_
                                refine z_aload_n C dX4_storm_184 rfl 5 rfl ?_
                                refine z_v (ws' := fun u => [(m, .inr (11, [.int (zI (n : Int)), .ref g1, .ref g2, .ref g3, .ref g4, .ref g5, .int (zI oa), .int (zI dy), .ref s1, .ref s2, .ref s3, .ref s4, .ref s5, .ref s6, .int (zI 0), .int (zI rdg), .int (zI plc), .int (zI ibd), .int (zI stm), .ref t1, .ref t2, .ref t3, .ref c0, .ref c1, .ref c2, .ref c3, .int (zI him), .int (zI 38), .int (zI 0), .ref c0, .int (zI chd), .int (zI chf), .ref y0, .int (zI sd), .ref y1])), (g1, AI G 7 (fun z_ => (kd z_ : Int))), (g2, AI G 7 fg), (g3, AI G 7 hm), (g4, AI G 7 at_), (g5, AI G 7 lg), (c0, AI G 38 (encF n oa dy kd fg hm at_ lg))]) C (z_runV (q := 0) (As := []) (rest := []) C (ct_X4_close (zl X) G m g1 g2 g3 g4 g5 s1 s2 s3 s4 s5 s6 t1 t2 t3 c0 c1 c2 c3 y0 y1 0 rdg plc ibd stm him 38 itb chd chf sd (.ref c0) (fun z_ => (kd z_ : Int)) fg hm at_ ((stI kd fg hm at_ lg n oa t s m0_).2) n oa mdy kd fg hm at_ lg n oa dy ) (lw_V q1302 q1304 qs43 q61 q1305) rfl rfl (sb_e [0, 1, 2, 3, 4, 5, 6] rfl rfl) (na := 0) (by decide +kernel) rfl (zrm rfl rfl (rfl) (rfl)) rfl (Nat.le_of_ble_eq_true rfl) dX4_storm_185) (fun u => jn_e (wr := []) [0, 1, 2, 3, 4, 5, 6] [] [0, 1, 2, 3, 4, 5, 6] rfl rfl rfl (by decide) rfl rfl) (fun u hp_185 => ?_)
                                refine y_iinc (lv' := [(10, .int (zI ((s : Int) + 1))), (6, .long (zL ((stS kd fg hm at_ lg n oa t j v m0_ s) + 0))), (13, .int (zI (m0_ : Int))), (11, .long (zL ((stI kd fg hm at_ lg n oa t s m0_).1))), (8, .long (zL (t ^ m0_))), (0, .ref m), (1, .int (zI (j : Int))), (2, .int (zI v)), (3, .int (zI (m0_ : Int))), (4, .int (zI t)), (5, .int (zI part))]) C dX4_storm_188 (q := 3) rfl (nlt rfl) rfl ?_
                                refine z_goto (tgt := 103) C dX4_storm_191 (by decide) ?_
                                refine z_lv (lv' := [(10, .int (zI ((s : Int) + 1))), (6, .long (zL ((stS kd fg hm at_ lg n oa t j v m0_ s) + 0))), (8, .long (zL (t ^ m0_))), (0, .ref m), (1, .int (zI (j : Int))), (2, .int (zI v)), (3, .int (zI (m0_ : Int))), (4, .int (zI t)), (5, .int (zI part))]) [0, 1, 4, 5, 6, 7, 8, 9, 10] rfl ?_
                                rw [show stS kd fg hm at_ lg n oa t j v m0_ s + 0 = stS kd fg hm at_ lg n oa t j v m0_ (s + 1) from by show _ = _ + (if _ then _ else _); first | rw [if_pos (by omega)] | rw [if_neg (by omega)]]
                                exact ih_103 _ (by omega) (s + 1) 0 (by first | assumption | omega) rfl
                              · skip
                                refine z_lload C dX4_storm_175 1 rfl ?_
                                refine z_goto (tgt := 181) C dX4_storm_177 (by decide) ?_
                                refine y_ladd C dX4_storm_181 ?_
                                refine z_lstore (lv' := [(6, .long (zL ((stS kd fg hm at_ lg n oa t j v m0_ s) + ((stI kd fg hm at_ lg n oa t s m0_).1)))), (13, .int (zI (m0_ : Int))), (11, .long (zL ((stI kd fg hm at_ lg n oa t s m0_).1))), (10, .int (zI (s : Int))), (8, .long (zL (t ^ m0_))), (0, .ref m), (1, .int (zI (j : Int))), (2, .int (zI v)), (3, .int (zI (m0_ : Int))), (4, .int (zI t)), (5, .int (zI part))]) C dX4_storm_182 (nlt rfl) rfl ?_
                                refine z_aload_n C dX4_storm_184 rfl 5 rfl ?_
                                refine z_v (ws' := fun u => [(m, .inr (11, [.int (zI (n : Int)), .ref g1, .ref g2, .ref g3, .ref g4, .ref g5, .int (zI oa), .int (zI dy), .ref s1, .ref s2, .ref s3, .ref s4, .ref s5, .ref s6, .int (zI 0), .int (zI rdg), .int (zI plc), .int (zI ibd), .int (zI stm), .ref t1, .ref t2, .ref t3, .ref c0, .ref c1, .ref c2, .ref c3, .int (zI him), .int (zI 38), .int (zI 0), .ref c0, .int (zI chd), .int (zI chf), .ref y0, .int (zI sd), .ref y1])), (g1, AI G 7 (fun z_ => (kd z_ : Int))), (g2, AI G 7 fg), (g3, AI G 7 hm), (g4, AI G 7 at_), (g5, AI G 7 lg), (c0, AI G 38 (encF n oa dy kd fg hm at_ lg))]) C (z_runV (q := 0) (As := []) (rest := []) C (ct_X4_close (zl X) G m g1 g2 g3 g4 g5 s1 s2 s3 s4 s5 s6 t1 t2 t3 c0 c1 c2 c3 y0 y1 0 rdg plc ibd stm him 38 itb chd chf sd (.ref c0) (fun z_ => (kd z_ : Int)) fg hm at_ ((stI kd fg hm at_ lg n oa t s m0_).2) n oa mdy kd fg hm at_ lg n oa dy ) (lw_V q1302 q1304 qs43 q61 q1305) rfl rfl (sb_e [0, 1, 2, 3, 4, 5, 6] rfl rfl) (na := 0) (by decide +kernel) rfl (zrm rfl rfl (rfl) (rfl)) rfl (Nat.le_of_ble_eq_true rfl) dX4_storm_185) (fun u => jn_e (wr := []) [0, 1, 2, 3, 4, 5, 6] [] [0, 1, 2, 3, 4, 5, 6] rfl rfl rfl (by decide) rfl rfl) (fun u hp_185 => ?_)
                                refine y_iinc (lv' := [(10, .int (zI ((s : Int) + 1))), (6, .long (zL ((stS kd fg hm at_ lg n oa t j v m0_ s) + ((stI kd fg hm at_ lg n oa t s m0_).1)))), (13, .int (zI (m0_ : Int))), (11, .long (zL ((stI kd fg hm at_ lg n oa t s m0_).1))), (8, .long (zL (t ^ m0_))), (0, .ref m), (1, .int (zI (j : Int))), (2, .int (zI v)), (3, .int (zI (m0_ : Int))), (4, .int (zI t)), (5, .int (zI part))]) C dX4_storm_188 (q := 3) rfl (nlt rfl) rfl ?_
                                refine z_goto (tgt := 103) C dX4_storm_191 (by decide) ?_
                                refine z_lv (lv' := [(10, .int (zI ((s : Int) + 1))), (6, .long (zL ((stS kd fg hm at_ lg n oa t j v m0_ s) + ((stI kd fg hm at_ lg n oa t s m0_).1)))), (8, .long (zL (t ^ m0_))), (0, .ref m), (1, .int (zI (j : Int))), (2, .int (zI v)), (3, .int (zI (m0_ : Int))), (4, .int (zI t)), (5, .int (zI part))]) [0, 1, 4, 5, 6, 7, 8, 9, 10] rfl ?_
                                rw [show stS kd fg hm at_ lg n oa t j v m0_ s + ((stI kd fg hm at_ lg n oa t s m0_).1) = stS kd fg hm at_ lg n oa t j v m0_ (s + 1) from by show _ = _ + (if _ then _ else _); first | rw [if_pos (by omega)] | rw [if_neg (by omega)]]
                                exact ih_103 _ (by omega) (s + 1) 0 (by first | assumption | omega) rfl
                            · skip
                              refine z_lload C dX4_storm_123 1 rfl ?_
                              refine z_iload C dX4_storm_125 2 rfl ?_
                              refine z_iload C dX4_storm_127 0 rfl ?_
                              refine z_i C (z_runS (As := [.int (zI (s : Int)), .int (zI (k : Int))]) (rest := [.long (zL ((stI kd fg hm at_ lg n oa t s k).1))]) C (ct_X4_hasBit (zl X) G (zI (s : Int)) (k : Int) ) (lw_S q1473 q1474 q61 q1475) (sb_e [] rfl rfl) (na := 2) (by decide +kernel) rfl (zrm rfl rfl (rfl) (rfl)) rfl (Nat.le_of_ble_eq_true rfl) dX4_storm_129) (fun u => jn_ro (sb_e [] rfl rfl)) (fun r_129 u hp_129 => ?_)
                              have hp_129 : r_129 = zI (hasQ (zI (s : Int)) (zI (k : Int))) := hp_129
                              subst hp_129
                              refine y_if_eq (tgt := 139) C (by omega) dX4_storm_132 (by decide) (fun c_br => ?_) (fun c_br => ?_)
                              · skip
                                refine z_iload C dX4_storm_139 9 rfl ?_
                                refine y_iconst C dX4_storm_141 ?_
                                refine y_isub C dX4_storm_142 ?_
                                refine y_i2l C (by omega) dX4_storm_143 ?_
                                refine y_lmul C dX4_storm_144 ?_
                                refine z_lstore (lv' := [(11, .long (zL (((stI kd fg hm at_ lg n oa t s k).1) * (t - 1)))), (13, .int (zI (k : Int))), (10, .int (zI (s : Int))), (6, .long (zL (stS kd fg hm at_ lg n oa t j v m0_ s))), (8, .long (zL (t ^ m0_))), (0, .ref m), (1, .int (zI (j : Int))), (2, .int (zI v)), (3, .int (zI (m0_ : Int))), (4, .int (zI t)), (5, .int (zI part))]) C dX4_storm_145 (nlt rfl) rfl ?_
                                refine z_aload_n C dX4_storm_147 rfl 5 rfl ?_
                                refine z_iload C dX4_storm_148 2 rfl ?_
                                refine z_iload C dX4_storm_150 1 rfl ?_
                                refine z_i C (z_runS (As := [.int (zI (s : Int)), .int (zI (k : Int))]) (rest := [.ref m]) C (ct_X4_hasBit (zl X) G (zI (s : Int)) (k : Int) ) (lw_S q1473 q1474 q61 q1475) (sb_e [] rfl rfl) (na := 2) (by decide +kernel) rfl (zrm rfl rfl (rfl) (rfl)) rfl (Nat.le_of_ble_eq_true rfl) dX4_storm_152) (fun u => jn_ro (sb_e [] rfl rfl)) (fun r_152 u hp_152 => ?_)
                                have hp_152 : r_152 = zI (hasQ (zI (s : Int)) (zI (k : Int))) := hp_152
                                subst hp_152
                                refine z_v (ws' := fun u => [(m, .inr (11, [.int (zI (n : Int)), .ref g1, .ref g2, .ref g3, .ref g4, .ref g5, .int (zI oa), .int (zI (mdy + 1)), .ref s1, .ref s2, .ref s3, .ref s4, .ref s5, .ref s6, .int (zI 0), .int (zI rdg), .int (zI plc), .int (zI ibd), .int (zI stm), .ref t1, .ref t2, .ref t3, .ref c0, .ref c1, .ref c2, .ref c3, .int (zI him), .int (zI 38), .int (zI itb), .ref c0, .int (zI chd), .int (zI chf), .ref y0, .int (zI sd), .ref y1])), (g1, AI G 7 (fun z_ => (kd z_ : Int))), (g2, AI G 7 fg), (g3, AI G 7 hm), (g4, AI G 7 at_), (g5, AI G 7 (dayB (hasQ (zI (s : Int)) (zI (k : Int))) kd fg hm at_ oa n ((stI kd fg hm at_ lg n oa t s k).2))), (c0, AI G 38 (encF n oa dy kd fg hm at_ lg))]) C (z_runV (q := 0) (As := [.int (zI (hasQ (zI (s : Int)) (zI (k : Int))))]) (rest := []) C (ct_X4_dayBy (zl X) G m g1 g2 g3 g4 g5 kd fg hm at_ ((stI kd fg hm at_ lg n oa t s k).2) n oa mdy ([.ref s1, .ref s2, .ref s3, .ref s4, .ref s5, .ref s6, .int (zI 0), .int (zI rdg), .int (zI plc), .int (zI ibd), .int (zI stm), .ref t1, .ref t2, .ref t3, .ref c0, .ref c1, .ref c2, .ref c3, .int (zI him), .int (zI 38), .int (zI itb), .ref c0, .int (zI chd), .int (zI chf), .ref y0, .int (zI sd), .ref y1]) (hasQ (zI (s : Int)) (zI (k : Int))) ((stI_ok hL k)) (by first | assumption | omega)) (lw_V q1285 q1287 qs39 q61 q1288) rfl rfl (sb_e [0, 1, 2, 3, 4, 5] rfl rfl) (na := 1) (by decide +kernel) rfl (zrm rfl rfl (rfl) (rfl)) rfl (Nat.le_of_ble_eq_true rfl) dX4_storm_155) (fun u => jn_e (wr := [(c0, AI G 38 (encF n oa dy kd fg hm at_ lg))]) [0, 1, 2, 3, 4, 5] [6] [1, 2, 3, 4, 5, 6, 0] rfl rfl rfl (by decide) rfl rfl) (fun u hp_155 => ?_)
                                rw [show dayB (hasQ (zI (s : Int)) (zI (k : Int))) kd fg hm at_ oa n ((stI kd fg hm at_ lg n oa t s k).2) = (stI kd fg hm at_ lg n oa t s (k + 1)).2 from rfl]
                                refine y_iinc (lv' := [(13, .int (zI ((k : Int) + 1))), (11, .long (zL (((stI kd fg hm at_ lg n oa t s k).1) * (t - 1)))), (10, .int (zI (s : Int))), (6, .long (zL (stS kd fg hm at_ lg n oa t j v m0_ s))), (8, .long (zL (t ^ m0_))), (0, .ref m), (1, .int (zI (j : Int))), (2, .int (zI v)), (3, .int (zI (m0_ : Int))), (4, .int (zI t)), (5, .int (zI part))]) C dX4_storm_158 (q := 1) rfl (nlt rfl) rfl ?_
                                refine z_goto (tgt := 117) C dX4_storm_161 (by decide) ?_
                                refine z_lv (lv' := [(13, .int (zI ((k : Int) + 1))), (11, .long (zL ((stI kd fg hm at_ lg n oa t s (k + 1)).1))), (10, .int (zI (s : Int))), (6, .long (zL (stS kd fg hm at_ lg n oa t j v m0_ s))), (8, .long (zL (t ^ m0_))), (0, .ref m), (1, .int (zI (j : Int))), (2, .int (zI v)), (3, .int (zI (m0_ : Int))), (4, .int (zI t)), (5, .int (zI part))]) [0, 1, 2, 3, 4, 5, 6, 7, 8, 9, 10] (by rw [show (stI kd fg hm at_ lg n oa t s (k + 1)).1 = (stI kd fg hm at_ lg n oa t s k).1 * (t - 1) from by show _ * (if _ then _ else _) = _; rw [if_pos c_br]]; rfl) ?_
                                exact ih_117 _ (by omega) (k + 1) itb (mdy + 1) (by first | assumption | omega) rfl
                              · skip
                                refine z_lconst (v := zL 1) C dX4_storm_135 (by decide) ?_
                                refine z_goto (tgt := 144) C dX4_storm_136 (by decide) ?_
                                refine y_lmul C dX4_storm_144 ?_
                                refine z_lstore (lv' := [(11, .long (zL (((stI kd fg hm at_ lg n oa t s k).1) * 1))), (13, .int (zI (k : Int))), (10, .int (zI (s : Int))), (6, .long (zL (stS kd fg hm at_ lg n oa t j v m0_ s))), (8, .long (zL (t ^ m0_))), (0, .ref m), (1, .int (zI (j : Int))), (2, .int (zI v)), (3, .int (zI (m0_ : Int))), (4, .int (zI t)), (5, .int (zI part))]) C dX4_storm_145 (nlt rfl) rfl ?_
                                refine z_aload_n C dX4_storm_147 rfl 5 rfl ?_
                                refine z_iload C dX4_storm_148 2 rfl ?_
                                refine z_iload C dX4_storm_150 1 rfl ?_
                                refine z_i C (z_runS (As := [.int (zI (s : Int)), .int (zI (k : Int))]) (rest := [.ref m]) C (ct_X4_hasBit (zl X) G (zI (s : Int)) (k : Int) ) (lw_S q1473 q1474 q61 q1475) (sb_e [] rfl rfl) (na := 2) (by decide +kernel) rfl (zrm rfl rfl (rfl) (rfl)) rfl (Nat.le_of_ble_eq_true rfl) dX4_storm_152) (fun u => jn_ro (sb_e [] rfl rfl)) (fun r_152 u hp_152 => ?_)
                                have hp_152 : r_152 = zI (hasQ (zI (s : Int)) (zI (k : Int))) := hp_152
                                subst hp_152
                                refine z_v (ws' := fun u => [(m, .inr (11, [.int (zI (n : Int)), .ref g1, .ref g2, .ref g3, .ref g4, .ref g5, .int (zI oa), .int (zI (mdy + 1)), .ref s1, .ref s2, .ref s3, .ref s4, .ref s5, .ref s6, .int (zI 0), .int (zI rdg), .int (zI plc), .int (zI ibd), .int (zI stm), .ref t1, .ref t2, .ref t3, .ref c0, .ref c1, .ref c2, .ref c3, .int (zI him), .int (zI 38), .int (zI itb), .ref c0, .int (zI chd), .int (zI chf), .ref y0, .int (zI sd), .ref y1])), (g1, AI G 7 (fun z_ => (kd z_ : Int))), (g2, AI G 7 fg), (g3, AI G 7 hm), (g4, AI G 7 at_), (g5, AI G 7 (dayB (hasQ (zI (s : Int)) (zI (k : Int))) kd fg hm at_ oa n ((stI kd fg hm at_ lg n oa t s k).2))), (c0, AI G 38 (encF n oa dy kd fg hm at_ lg))]) C (z_runV (q := 0) (As := [.int (zI (hasQ (zI (s : Int)) (zI (k : Int))))]) (rest := []) C (ct_X4_dayBy (zl X) G m g1 g2 g3 g4 g5 kd fg hm at_ ((stI kd fg hm at_ lg n oa t s k).2) n oa mdy ([.ref s1, .ref s2, .ref s3, .ref s4, .ref s5, .ref s6, .int (zI 0), .int (zI rdg), .int (zI plc), .int (zI ibd), .int (zI stm), .ref t1, .ref t2, .ref t3, .ref c0, .ref c1, .ref c2, .ref c3, .int (zI him), .int (zI 38), .int (zI itb), .ref c0, .int (zI chd), .int (zI chf), .ref y0, .int (zI sd), .ref y1]) (hasQ (zI (s : Int)) (zI (k : Int))) ((stI_ok hL k)) (by first | assumption | omega)) (lw_V q1285 q1287 qs39 q61 q1288) rfl rfl (sb_e [0, 1, 2, 3, 4, 5] rfl rfl) (na := 1) (by decide +kernel) rfl (zrm rfl rfl (rfl) (rfl)) rfl (Nat.le_of_ble_eq_true rfl) dX4_storm_155) (fun u => jn_e (wr := [(c0, AI G 38 (encF n oa dy kd fg hm at_ lg))]) [0, 1, 2, 3, 4, 5] [6] [1, 2, 3, 4, 5, 6, 0] rfl rfl rfl (by decide) rfl rfl) (fun u hp_155 => ?_)
                                rw [show dayB (hasQ (zI (s : Int)) (zI (k : Int))) kd fg hm at_ oa n ((stI kd fg hm at_ lg n oa t s k).2) = (stI kd fg hm at_ lg n oa t s (k + 1)).2 from rfl]
                                refine y_iinc (lv' := [(13, .int (zI ((k : Int) + 1))), (11, .long (zL (((stI kd fg hm at_ lg n oa t s k).1) * 1))), (10, .int (zI (s : Int))), (6, .long (zL (stS kd fg hm at_ lg n oa t j v m0_ s))), (8, .long (zL (t ^ m0_))), (0, .ref m), (1, .int (zI (j : Int))), (2, .int (zI v)), (3, .int (zI (m0_ : Int))), (4, .int (zI t)), (5, .int (zI part))]) C dX4_storm_158 (q := 1) rfl (nlt rfl) rfl ?_
                                refine z_goto (tgt := 117) C dX4_storm_161 (by decide) ?_
                                refine z_lv (lv' := [(13, .int (zI ((k : Int) + 1))), (11, .long (zL ((stI kd fg hm at_ lg n oa t s (k + 1)).1))), (10, .int (zI (s : Int))), (6, .long (zL (stS kd fg hm at_ lg n oa t j v m0_ s))), (8, .long (zL (t ^ m0_))), (0, .ref m), (1, .int (zI (j : Int))), (2, .int (zI v)), (3, .int (zI (m0_ : Int))), (4, .int (zI t)), (5, .int (zI part))]) [0, 1, 2, 3, 4, 5, 6, 7, 8, 9, 10] (by rw [show (stI kd fg hm at_ lg n oa t s (k + 1)).1 = (stI kd fg hm at_ lg n oa t s k).1 * 1 from by show _ * (if _ then _ else _) = _; rw [if_neg c_br]]; rfl) ?_
                                exact ih_117 _ (by omega) (k + 1) itb (mdy + 1) (by first | assumption | omega) rfl
                        exact L_117 _ 0 itb dy (by first | assumption | omega) rfl
                  refine z_lv (lv' := [(10, .int (zI 0)), (6, .long (zL 0)), (8, .long (zL (t ^ m0_))), (0, .ref m), (1, .int (zI (j : Int))), (2, .int (zI v)), (3, .int (zI (m0_ : Int))), (4, .int (zI t)), (5, .int (zI part))]) [0, 2, 1, 3, 4, 5, 6, 7, 8] rfl ?_
                  exact L_103 _ 0 1 (Nat.zero_le _) rfl
                · skip
                  refine z_lload C dX4_storm_82 1 rfl ?_
                  refine z_iload C dX4_storm_84 7 rfl ?_
                  refine y_i2l C (by omega) dX4_storm_86 ?_
                  refine y_lmul C dX4_storm_87 ?_
                  refine z_lstore (lv' := [(8, .long (zL ((t ^ k) * t))), (10, .int (zI (k : Int))), (6, .long (zL 0)), (0, .ref m), (1, .int (zI (j : Int))), (2, .int (zI v)), (3, .int (zI (m0_ : Int))), (4, .int (zI t)), (5, .int (zI part))]) C dX4_storm_88 (nlt rfl) rfl ?_
                  refine y_iinc (lv' := [(10, .int (zI ((k : Int) + 1))), (8, .long (zL ((t ^ k) * t))), (6, .long (zL 0)), (0, .ref m), (1, .int (zI (j : Int))), (2, .int (zI v)), (3, .int (zI (m0_ : Int))), (4, .int (zI t)), (5, .int (zI part))]) C dX4_storm_90 (q := 1) rfl (nlt rfl) rfl ?_
                  refine z_goto (tgt := 76) C dX4_storm_93 (by decide) ?_
                  rw [show t ^ k * t = t ^ (k + 1) from (Int.pow_succ t k).symm]
                  exact ih_76 _ (by omega) (k + 1) (by first | assumption | omega) rfl
            rw [show zL 1 = zL (t ^ 0) from congrArg zL (Int.pow_zero t).symm]
            exact L_76 _ 0 (by first | assumption | omega) rfl
          · skip
            refine z_ldc2 C q1472 dX4_storm_63 ?_
            refine z_eql (y := zL 1000000001) (by decide) ?_
            exact z_lret C hA hQ rfl (Nat.le_of_ble_eq_true rfl) (Nat.le_of_ble_eq_true rfl) ((ki, pl0, itk, kc)) (congrArg zL (by unfold oStorm; (repeat (first | rw [if_pos (by omega)] | rw [if_neg (by omega)])))) (sb_e [0, 1, 2, 3, 4, 5, 6] rfl rfl) dX4_storm_66

