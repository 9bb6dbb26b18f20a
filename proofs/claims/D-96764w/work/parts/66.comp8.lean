/-! THE COMPONENT, 8: rows on shelves: notRow, homes, whatIs, forged, judge, keep -/
set_option maxRecDepth 100000
set_option maxHeartbeats 4000000 in
theorem ct_X1_sortOf_h (l : Launch) (G : ZG) (w : Nat) (k0 : Nat) (v : Value) (hk8 : k0 < 8) : CT l yX1_sortOf cX1_sortOf 1 (some .int) { frames := 0, cells := 0, slots := 0, locals := 0 } G [.ref w] [(w, .inr (k0, [v]))] (Qi G [(w, .inr (k0, [v]))] (fun (r : Int32) (u : Unit) => r = zI (-1)) (fun u => [(w, .inr (k0, [v]))])) := by
  refine z_met (by decide) (Nat.le_of_ble_eq_true rfl) ?_
  intro X A hl0 hA C hQ hin
  subst hl0
  show Z X _ G 0 0 _ 0 [(0, .ref w)] []
  refine z_aload_n C dX1_sortOf_0 rfl 0 rfl ?_
  refine z_instH (q := 0) C q192 hk8 (by first | exact Or.inl rfl | exact Or.inr (Or.inl rfl) | exact Or.inr (Or.inr rfl)) rfl dX1_sortOf_1 ?_
  refine y_if_eq (tgt := 11) C (by omega) dX1_sortOf_4 (by decide) (fun c_4 => ?_) (fun c_4 => ?_)
  · skip
    refine z_aload_n C dX1_sortOf_11 rfl 0 rfl ?_
    refine z_instH (q := 0) C q733 hk8 (by first | exact Or.inl rfl | exact Or.inr (Or.inl rfl) | exact Or.inr (Or.inr rfl)) rfl dX1_sortOf_12 ?_
    refine y_if_eq (tgt := 22) C (by omega) dX1_sortOf_15 (by decide) (fun c_15 => ?_) (fun c_15 => ?_)
    · skip
      refine z_aload_n C dX1_sortOf_22 rfl 0 rfl ?_
      refine z_instH (q := 0) C q734 hk8 (by first | exact Or.inl rfl | exact Or.inr (Or.inl rfl) | exact Or.inr (Or.inr rfl)) rfl dX1_sortOf_23 ?_
      refine y_if_eq (tgt := 33) C (by omega) dX1_sortOf_26 (by decide) (fun c_26 => ?_) (fun c_26 => ?_)
      · skip
        refine y_iconst C dX1_sortOf_33 ?_
        exact z_iret C hA hQ rfl (Nat.le_of_ble_eq_true rfl) (Nat.le_of_ble_eq_true rfl) (()) (rfl) (sb_e [0] rfl rfl) dX1_sortOf_34
      · skip
        exact absurd rfl c_26
    · skip
      exact absurd rfl c_15
  · skip
    exact absurd rfl c_4

set_option maxHeartbeats 4000000 in
theorem ct_J5_bitCount (l : Launch) (G : ZG) (s : Int32)  : CT l yJ5_bitCount cJ5_bitCount 1 (some .int) { frames := 0, cells := 0, slots := 0, locals := 0 } G [.int s] [] (Qi G [] (fun (r : Int32) (u : Unit) => r = bcF s) (fun u => [])) := by
  refine z_met (by decide) (Nat.le_of_ble_eq_true rfl) ?_
  intro X A hl0 hA C hQ hin
  subst hl0
  show Z X _ G 0 0 _ 0 [(0, .int s)] []
  refine z_iload_n C dJ5_bitCount_0 rfl 0 rfl ?_
  refine z_iload_n C dJ5_bitCount_1 rfl 0 rfl ?_
  refine y_iconst C dJ5_bitCount_2 ?_
  refine z_iushr C dJ5_bitCount_3 rfl ?_
  refine z_ldcw C q756 dJ5_bitCount_4 ?_
  refine z_eqi (y := zI 1431655765) (by decide) ?_
  refine z_iand C dJ5_bitCount_7 rfl ?_
  refine z_isub C dJ5_bitCount_8 rfl ?_
  rw [show (s - (((s.toUInt32 >>> ((zI 1).toUInt32 &&& Int32.toUInt32 31)).toInt32) &&& (zI 1431655765))) = bc1 s from rfl]
  refine z_istore_n (lv' := [(0, .int (bc1 s))]) C dJ5_bitCount_9 rfl (nlt rfl) rfl ?_
  refine z_iload_n C dJ5_bitCount_10 rfl 0 rfl ?_
  refine z_ldcw C q757 dJ5_bitCount_11 ?_
  refine z_eqi (y := zI 858993459) (by decide) ?_
  refine z_iand C dJ5_bitCount_14 rfl ?_
  refine z_iload_n C dJ5_bitCount_15 rfl 0 rfl ?_
  refine y_iconst C dJ5_bitCount_16 ?_
  refine z_iushr C dJ5_bitCount_17 rfl ?_
  refine z_ldcw C q757 dJ5_bitCount_18 ?_
  refine z_eqi (y := zI 858993459) (by decide) ?_
  refine z_iand C dJ5_bitCount_21 rfl ?_
  refine z_iadd C dJ5_bitCount_22 rfl ?_
  rw [show (((bc1 s) &&& (zI 858993459)) + ((((bc1 s).toUInt32 >>> ((zI 2).toUInt32 &&& Int32.toUInt32 31)).toInt32) &&& (zI 858993459))) = bc2 (bc1 s) from rfl]
  refine z_istore_n (lv' := [(0, .int (bc2 (bc1 s)))]) C dJ5_bitCount_23 rfl (nlt rfl) rfl ?_
  refine z_iload_n C dJ5_bitCount_24 rfl 0 rfl ?_
  refine z_iload_n C dJ5_bitCount_25 rfl 0 rfl ?_
  refine y_iconst C dJ5_bitCount_26 ?_
  refine z_iushr C dJ5_bitCount_27 rfl ?_
  refine z_iadd C dJ5_bitCount_28 rfl ?_
  refine z_ldcw C q758 dJ5_bitCount_29 ?_
  refine z_eqi (y := zI 252645135) (by decide) ?_
  refine z_iand C dJ5_bitCount_32 rfl ?_
  rw [show (((bc2 (bc1 s)) + (((bc2 (bc1 s)).toUInt32 >>> ((zI 4).toUInt32 &&& Int32.toUInt32 31)).toInt32)) &&& (zI 252645135)) = bc3 (bc2 (bc1 s)) from rfl]
  refine z_istore_n (lv' := [(0, .int (bc3 (bc2 (bc1 s))))]) C dJ5_bitCount_33 rfl (nlt rfl) rfl ?_
  refine z_iload_n C dJ5_bitCount_34 rfl 0 rfl ?_
  refine z_iload_n C dJ5_bitCount_35 rfl 0 rfl ?_
  refine y_bipush C dJ5_bitCount_36 (by decide) ?_
  refine z_iushr C dJ5_bitCount_38 rfl ?_
  refine z_iadd C dJ5_bitCount_39 rfl ?_
  rw [show ((bc3 (bc2 (bc1 s))) + (((bc3 (bc2 (bc1 s))).toUInt32 >>> ((zI 8).toUInt32 &&& Int32.toUInt32 31)).toInt32)) = bc4 (bc3 (bc2 (bc1 s))) from rfl]
  refine z_istore_n (lv' := [(0, .int (bc4 (bc3 (bc2 (bc1 s)))))]) C dJ5_bitCount_40 rfl (nlt rfl) rfl ?_
  refine z_iload_n C dJ5_bitCount_41 rfl 0 rfl ?_
  refine z_iload_n C dJ5_bitCount_42 rfl 0 rfl ?_
  refine y_bipush C dJ5_bitCount_43 (by decide) ?_
  refine z_iushr C dJ5_bitCount_45 rfl ?_
  refine z_iadd C dJ5_bitCount_46 rfl ?_
  rw [show ((bc4 (bc3 (bc2 (bc1 s)))) + (((bc4 (bc3 (bc2 (bc1 s)))).toUInt32 >>> ((zI 16).toUInt32 &&& Int32.toUInt32 31)).toInt32)) = bc5 (bc4 (bc3 (bc2 (bc1 s)))) from rfl]
  refine z_istore_n (lv' := [(0, .int (bc5 (bc4 (bc3 (bc2 (bc1 s))))))]) C dJ5_bitCount_47 rfl (nlt rfl) rfl ?_
  refine z_iload_n C dJ5_bitCount_48 rfl 0 rfl ?_
  refine y_bipush C dJ5_bitCount_49 (by decide) ?_
  refine z_iand C dJ5_bitCount_51 rfl ?_
  exact z_iret C hA hQ rfl (Nat.le_of_ble_eq_true rfl) (Nat.le_of_ble_eq_true rfl) (()) (rfl) (sb_e [] rfl rfl) dJ5_bitCount_52

set_option maxHeartbeats 4000000 in
theorem ct_X1_notRow (l : Launch) (G : ZG) (x : Nat) (b0 : Nat) (m0 : Nat) (tl : Nat) (le : Nat) (sh : Nat) (im : Int) (fw : Int) (fh : Int) (lo : Int) (a0 : Nat) (sa : Nat → Nat) (ha : Nat → Nat) (ra : Nat → Nat) (sf : Nat → Option Nat) (hw : Nat → Nat) (kk : Nat → Nat) (rs : Nat → Nat) (rm : Nat → Nat) (kf : Nat → Int) (rw_ : Nat → Int) (LP : List Nat) (hk : Nat → Nat) (hf : Nat → Int) (d : Int) (hS : SK hw kk rs rm kf rw_) (hsf : ∀ q, q < 8 → sf q = some (sa q)) (hK : PK LP hk hf) (hKH : KH LP hk hf ha hw kk kf) (rd : -2147483648 ≤ d ∧ d ≤ 2147483647) : CT l yX1_notRow cX1_notRow 3 (some .int) { frames := 2, cells := 0, slots := 0, locals := 43 } G [.ref x, .int (zI d)] ([(x, .inr (10, [.ref a0, .ref b0, .ref m0, .int (zI im), .ref tl, .ref le, .int (zI fw), .int (zI fh), .int (zI lo), .ref sh])), (sh, AQ G 7 8 sf)] ++ (SW G sa ha ra hw rs rm rw_ ++ PL LP hk hf)) (Qi G ([(x, .inr (10, [.ref a0, .ref b0, .ref m0, .int (zI im), .ref tl, .ref le, .int (zI fw), .int (zI fh), .int (zI lo), .ref sh])), (sh, AQ G 7 8 sf)] ++ (SW G sa ha ra hw rs rm rw_ ++ PL LP hk hf)) (fun (r : Int32) (u : Unit) => r = zI (wrZ hw d)) (fun u => ([(x, .inr (10, [.ref a0, .ref b0, .ref m0, .int (zI im), .ref tl, .ref le, .int (zI fw), .int (zI fh), .int (zI lo), .ref sh])), (sh, AQ G 7 8 sf)] ++ (SW G sa ha ra hw rs rm rw_ ++ PL LP hk hf)))) := by
  refine z_met (by decide) (Nat.le_of_ble_eq_true rfl) ?_
  intro X A hl0 hA C hQ hin
  subst hl0
  show Z X _ G 0 0 _ 0 [(0, .ref x), (1, .int (zI d))] []
  refine z_aload_n C dX1_notRow_0 rfl 0 rfl ?_
  refine z_iload_n C dX1_notRow_1 rfl 1 rfl ?_
  refine z_i C (z_runV (q := 0) (As := [.int (zI d)]) (rest := []) C (ct_X1_isShelf (zl X) G x b0 m0 tl le sh im fw fh lo a0 d (by first | assumption | omega)) (lw_V q184 q186 qs2 q58 q188) rfl rfl (sb_e [0] rfl rfl) (na := 1) (by decide +kernel) rfl (zrm rfl rfl (rfl) (rfl)) rfl (Nat.le_of_ble_eq_true rfl) dX1_notRow_2) (fun u => jn_ro (sb_e [0] rfl rfl)) (fun r_2 u hp_2 => ?_)
  have hp_2 : r_2 = zI (bI (0 ≤ d ∧ d ≤ 7)) := hp_2
  subst hp_2
  refine y_bne (tgt := 10) C dX1_notRow_5 (by decide) (fun c_5 => ?_) (fun c_5 => ?_)
  · skip
    obtain ⟨e, rfl⟩ := Int.eq_ofNat_of_zero_le (show 0 ≤ d by omega)
    have he8 : e < 8 := by omega
    obtain ⟨hS1, hS2⟩ := id hS
    have hSe := hS1 e he8
    refine z_aload_n C dX1_notRow_10 rfl 0 rfl ?_
    refine z_get (q := 0) (kf := 9) (v := .ref sh) C rfl rfl in_X1 (by decide) q889 (Or.inl rfl) rfl dX1_notRow_11 ?_
    refine z_iload_n C dX1_notRow_14 rfl 1 rfl ?_
    refine y_aldq (q := 1) (t0 := 7) (v := .ref (sa e)) C rfl rfl (by omega) (by decide) (by show va_rf (sf e) = _; rw [hsf e he8]; rfl) dX1_notRow_15 ?_
    refine z_get (kf := 0) (v := hvF hw ha ra e) C (sw_at (L := [(x, .inr (10, [.ref a0, .ref b0, .ref m0, .int (zI im), .ref tl, .ref le, .int (zI fw), .int (zI fh), .int (zI lo), .ref sh])), (sh, AQ G 7 8 sf)]) (d := e) he8) rfl in_X3 (by decide) q876 (Or.inl rfl) rfl dX1_notRow_16 ?_
    rcases (show hw e = 0 ∨ hw e = 1 ∨ hw e = 2 by omega) with hwe | hwe | hwe
    · skip
      rw [show hvF hw ha ra e = .null from hvF_0 hwe]
      refine z_astore_nN (lv' := [(2, .null), (0, .ref x), (1, .int (zI (e : Int)))]) C dX1_notRow_19 rfl (nlt rfl) rfl ?_
      refine z_aload_nN C dX1_notRow_20 rfl 0 rfl ?_
      refine z_nonnullN C dX1_notRow_21 ?_
      refine y_bipush C dX1_notRow_24 (by decide) ?_
      refine z_goto (tgt := 43) C dX1_notRow_26 (by decide) ?_
      exact z_iret C hA hQ rfl (Nat.le_of_ble_eq_true rfl) (Nat.le_of_ble_eq_true rfl) (()) (congrArg zI (by unfold wrZ; (try simp only [zTN]); repeat (first | rw [if_pos (by omega)] | rw [if_neg (by omega)]))) (sb_p [0, 1] rfl rfl) dX1_notRow_43
    · skip
      rw [show hvF hw ha ra e = .ref (ha e) from hvF_1 hwe]
      obtain ⟨hha, hhk, hhf⟩ := hKH e he8 hwe
      refine z_astore_n (lv' := [(2, .ref (ha e)), (0, .ref x), (1, .int (zI (e : Int)))]) C dX1_notRow_19 rfl (nlt rfl) rfl ?_
      refine z_aload_n C dX1_notRow_20 rfl 0 rfl ?_
      refine z_nonnull (tgt := 29) C dX1_notRow_21 (by decide) ?_
      refine z_aload_n C dX1_notRow_29 rfl 0 rfl ?_
      have hk8 : hk (ha e) < 8 := (hK _ hha).1
      refine z_i C (z_runS (As := [.ref (ha e)]) (rest := []) C (ct_X1_sortOf_h (zl X) G (ha e) (hk (ha e)) (.int (zI (hf (ha e)))) (by first | assumption | omega)) (lw_S q730 q731 q58 q732) (sb_pl (L := [(x, .inr (10, [.ref a0, .ref b0, .ref m0, .int (zI im), .ref tl, .ref le, .int (zI fw), .int (zI fh), .int (zI lo), .ref sh])), (sh, AQ G 7 8 sf)]) (M := SW G sa ha ra hw rs rm rw_) hha) (na := 1) (by decide +kernel) rfl (zrm rfl rfl (rfl) (rfl)) rfl (Nat.le_of_ble_eq_true rfl) dX1_notRow_30) (fun u => jn_ro (sb_pl (L := [(x, .inr (10, [.ref a0, .ref b0, .ref m0, .int (zI im), .ref tl, .ref le, .int (zI fw), .int (zI fh), .int (zI lo), .ref sh])), (sh, AQ G 7 8 sf)]) (M := SW G sa ha ra hw rs rm rw_) hha)) (fun r_30 u hp_30 => ?_)
      have hp_30 : r_30 = zI (-1) := hp_30
      subst hp_30
      refine y_iconst C dX1_notRow_33 ?_
      refine y_icmp_ne (tgt := 42) C (by omega) (by omega) dX1_notRow_34 (by decide) (fun c_34 => ?_) (fun c_34 => ?_)
      · skip
        exact absurd rfl c_34
      · skip
        refine y_bipush C dX1_notRow_37 (by decide) ?_
        refine z_goto (tgt := 43) C dX1_notRow_39 (by decide) ?_
        exact z_iret C hA hQ rfl (Nat.le_of_ble_eq_true rfl) (Nat.le_of_ble_eq_true rfl) (()) (congrArg zI (by unfold wrZ; (try simp only [zTN]); repeat (first | rw [if_pos (by omega)] | rw [if_neg (by omega)]))) (sb_p [0, 1] rfl rfl) dX1_notRow_43
    · skip
      rw [show hvF hw ha ra e = .ref (ra e) from hvF_2 hwe]
      refine z_rowOut (L := [(x, .inr (10, [.ref a0, .ref b0, .ref m0, .int (zI im), .ref tl, .ref le, .int (zI fw), .int (zI fh), .int (zI lo), .ref sh])), (sh, AQ G 7 8 sf)]) he8 hwe hSe.2.2.2.2 (fun A_ B_ hAB hcg => ?_)
      refine z_wsEq (ws' := ([(x, .inr (10, [.ref a0, .ref b0, .ref m0, .int (zI im), .ref tl, .ref le, .int (zI fw), .int (zI fh), .int (zI lo), .ref sh])), (sh, AQ G 7 8 sf), ((ra e), RWc G (rs e) (rm e) (rowF rw_ e))] ++ ((A_ ++ B_) ++ PL LP hk hf))) rfl ?_
      refine z_astore_n (lv' := [(2, .ref (ra e)), (0, .ref x), (1, .int (zI (e : Int)))]) C dX1_notRow_19 rfl (nlt rfl) rfl ?_
      refine z_aload_n C dX1_notRow_20 rfl 0 rfl ?_
      refine z_nonnull (tgt := 29) C dX1_notRow_21 (by decide) ?_
      refine z_aload_n C dX1_notRow_29 rfl 0 rfl ?_
      refine z_i C (z_runS (As := [.ref (ra e)]) (rest := []) C (ct_X1_sortOf_s (zl X) G (rs e) (ra e) (rm e) (rowF rw_ e) (hSe.2.2.2.1)) (lw_S q730 q731 q58 q732) (sb_e [2] rfl rfl) (na := 1) (by decide +kernel) rfl (zrm rfl rfl (rfl) (rfl)) rfl (Nat.le_of_ble_eq_true rfl) dX1_notRow_30) (fun u => jn_ro (sb_e [2] rfl rfl)) (fun r_30 u hp_30 => ?_)
      have hp_30 : r_30 = zI ((rs e) : Int) := hp_30
      subst hp_30
      refine y_iconst C dX1_notRow_33 ?_
      refine y_icmp_ne (tgt := 42) C (by omega) (by omega) dX1_notRow_34 (by decide) (fun c_34 => ?_) (fun c_34 => ?_)
      · skip
        refine y_iconst C dX1_notRow_42 ?_
        refine z_rowIn (L := [(x, .inr (10, [.ref a0, .ref b0, .ref m0, .int (zI im), .ref tl, .ref le, .int (zI fw), .int (zI fh), .int (zI lo), .ref sh])), (sh, AQ G 7 8 sf)]) hSe.2.2.2.2 hAB ?_
        exact z_iret C hA hQ rfl (Nat.le_of_ble_eq_true rfl) (Nat.le_of_ble_eq_true rfl) (()) (congrArg zI (by unfold wrZ; (try simp only [zTN]); repeat (first | rw [if_pos (by omega)] | rw [if_neg (by omega)]))) (sb_p [0, 1] rfl rfl) dX1_notRow_43
      · skip
        exfalso; omega
  · skip
    refine y_iconst C dX1_notRow_8 ?_
    exact z_iret C hA hQ rfl (Nat.le_of_ble_eq_true rfl) (Nat.le_of_ble_eq_true rfl) (()) (congrArg zI (by unfold wrZ; (try simp only [zTN]); repeat (first | rw [if_pos (by omega)] | rw [if_neg (by omega)]))) (sb_p [0, 1] rfl rfl) dX1_notRow_9

set_option maxHeartbeats 4000000 in
theorem ct_X1_homes (l : Launch) (G : ZG) (x : Nat) (b0 : Nat) (m0 : Nat) (tl : Nat) (le : Nat) (sh : Nat) (im : Int) (fw : Int) (fh : Int) (lo : Int) (a0 : Nat) (a1 : Nat) (a2 : Nat) (a3 : Nat) (a4 : Nat) (m1 : Nat) (m2 : Nat) (m3 : Nat) (m4 : Nat) (r : Nat → Option Nat) (hm : Nat → Int) (at_ : Nat → Int) (lg : Nat → Int) (n : Nat) (oa : Int) (dy : Int) (mr : Nat → Option Nat) (mhm : Nat → Int) (mat : Nat → Int) (mlg : Nat → Int) (mn : Nat) (moa : Int) (mdy : Int) (LP : List Nat) (hk : Nat → Nat) (hf : Nat → Int) (kd : Nat → Nat) (fg : Nat → Int) (sa : Nat → Nat) (ha : Nat → Nat) (ra : Nat → Nat) (sf : Nat → Option Nat) (hw : Nat → Nat) (kk : Nat → Nat) (rs : Nat → Nat) (rm : Nat → Nat) (kf : Nat → Int) (rw_ : Nat → Int) (d : Int) (h : Int) (yard : Int) (what : Int) (hH : HR LP hk hf r n kd fg) (hL : LK n kd fg hm at_ lg oa) (hK : PK LP hk hf) (hV : RV LP r) (hS : SK hw kk rs rm kf rw_) (hsf : ∀ q, q < 8 → sf q = some (sa q)) (hKH : KH LP hk hf ha hw kk kf) (rd : -2147483648 ≤ d ∧ d ≤ 2147483647) (rh : -2147483648 ≤ h ∧ h ≤ 2147483647) (ryard : -2147483648 ≤ yard ∧ yard ≤ 2147483647) (rwhat : -2147483648 ≤ what ∧ what ≤ 2147483647) : CT l yX1_homes cX1_homes 8 (some .int) { frames := 8, cells := 0, slots := 0, locals := 167 } G [.ref x, .int (zI d), .int (zI h), .int (zI yard), .int (zI what)] ([(x, .inr (10, [.ref a0, .ref b0, .ref m0, .int (zI im), .ref tl, .ref le, .int (zI fw), .int (zI fh), .int (zI lo), .ref sh])), (a0, .inr (8, [.ref a1, .ref a2, .ref a3, .ref a4, .int (zI (n : Int)), .int (zI oa), .int (zI dy)])), (a1, AQ G 4 7 r), (a2, AI G 7 hm), (a3, AI G 7 at_), (a4, AI G 7 lg), (m0, .inr (8, [.ref m1, .ref m2, .ref m3, .ref m4, .int (zI (mn : Int)), .int (zI moa), .int (zI mdy)])), (m1, AQ G 4 7 mr), (m2, AI G 7 mhm), (m3, AI G 7 mat), (m4, AI G 7 mlg), (sh, AQ G 7 8 sf)] ++ (SW G sa ha ra hw rs rm rw_ ++ PL LP hk hf)) (Qi G ([(x, .inr (10, [.ref a0, .ref b0, .ref m0, .int (zI im), .ref tl, .ref le, .int (zI fw), .int (zI fh), .int (zI lo), .ref sh])), (a0, .inr (8, [.ref a1, .ref a2, .ref a3, .ref a4, .int (zI (n : Int)), .int (zI oa), .int (zI dy)])), (a1, AQ G 4 7 r), (a2, AI G 7 hm), (a3, AI G 7 at_), (a4, AI G 7 lg), (m0, .inr (8, [.ref m1, .ref m2, .ref m3, .ref m4, .int (zI (mn : Int)), .int (zI moa), .int (zI mdy)])), (m1, AQ G 4 7 mr), (m2, AI G 7 mhm), (m3, AI G 7 mat), (m4, AI G 7 mlg), (sh, AQ G 7 8 sf)] ++ (SW G sa ha ra hw rs rm rw_ ++ PL LP hk hf)) (fun (r : Int32) (u : (Nat → Option Nat) × (Nat → Int) × (Nat → Int) × (Nat → Int) × Nat × Int × Int) => r = oHomes kd fg hm at_ lg n oa hw kk rs rm kf rw_ d h yard what) (fun u => ([(x, .inr (10, [.ref a0, .ref b0, .ref m0, .int (zI im), .ref tl, .ref le, .int (zI fw), .int (zI fh), .int (zI lo), .ref sh])), (a0, .inr (8, [.ref a1, .ref a2, .ref a3, .ref a4, .int (zI (n : Int)), .int (zI oa), .int (zI dy)])), (a1, AQ G 4 7 r), (a2, AI G 7 hm), (a3, AI G 7 at_), (a4, AI G 7 lg), (m0, .inr (8, [.ref m1, .ref m2, .ref m3, .ref m4, .int (zI (u.2.2.2.2.1 : Int)), .int (zI u.2.2.2.2.2.1), .int (zI u.2.2.2.2.2.2)])), (m1, AQ G 4 7 u.1), (m2, AI G 7 u.2.1), (m3, AI G 7 u.2.2.1), (m4, AI G 7 u.2.2.2.1), (sh, AQ G 7 8 sf)] ++ (SW G sa ha ra hw rs rm rw_ ++ PL LP hk hf)))) := by
  refine z_met (by decide) (Nat.le_of_ble_eq_true rfl) ?_
  intro X A hl0 hA C hQ hin
  subst hl0
  obtain ⟨hn7, hoa, hLj⟩ := id hL
  show Z X _ G 0 0 _ 0 [(0, .ref x), (1, .int (zI d)), (2, .int (zI h)), (3, .int (zI yard)), (4, .int (zI what))] []
  refine z_aload_n C dX1_homes_0 rfl 0 rfl ?_
  refine z_get (q := 0) (kf := 0) (v := .ref a0) C rfl rfl in_X1 (by decide) q880 (Or.inl rfl) rfl dX1_homes_1 ?_
  refine z_iload_n C dX1_homes_4 rfl 2 rfl ?_
  refine z_i C (z_runV (q := 1) (As := [.int (zI h)]) (rest := []) C (ct_X2_isHorse (zl X) G a0 a1 a2 a3 a4 n oa dy h (by first | assumption | omega) (by first | assumption | omega)) (lw_V q388 q389 q390 q59 q391) rfl rfl (sb_e [1] rfl rfl) (na := 1) (by decide +kernel) rfl (zrm rfl rfl (rfl) (rfl)) rfl (Nat.le_of_ble_eq_true rfl) dX1_homes_5) (fun u => jn_ro (sb_e [1] rfl rfl)) (fun r_5 u hp_5 => ?_)
  have hp_5 : r_5 = zI (bI (0 ≤ h ∧ h ≤ (n : Int) - 1)) := hp_5
  subst hp_5
  refine y_beq (tgt := 36) C dX1_homes_8 (by decide) (fun c_8 => ?_) (fun c_8 => ?_)
  · skip
    refine y_iconst C dX1_homes_36 ?_
    refine z_istore (lv' := [(5, .int (zI (-1))), (0, .ref x), (1, .int (zI d)), (2, .int (zI h)), (3, .int (zI yard)), (4, .int (zI what))]) C dX1_homes_37 (nlt rfl) rfl ?_
    refine z_iload C dX1_homes_39 0 rfl ?_
    refine y_if_eq (tgt := 47) C (by omega) dX1_homes_41 (by decide) (fun c_41 => ?_) (fun c_41 => ?_)
    · skip
      exact absurd c_41 (by decide)
    · skip
      refine z_iload C dX1_homes_44 0 rfl ?_
      exact z_iret C hA hQ rfl (Nat.le_of_ble_eq_true rfl) (Nat.le_of_ble_eq_true rfl) ((mr, mhm, mat, mlg, mn, moa, mdy)) ((by unfold oHomes; repeat (first | rw [if_pos (by omega)] | rw [if_neg (by omega)]))) (sb_p [0, 1, 2, 3, 4, 5, 6, 7, 8, 9, 10, 11] rfl rfl) dX1_homes_46
  · skip
    refine z_iload_n C dX1_homes_11 rfl 3 rfl ?_
    refine z_i C (z_runS (As := [.int (zI yard)]) (rest := []) C (ct_X1_isYard (zl X) G yard (by first | assumption | omega)) (lw_S q303 q304 q58 q305) (sb_e [] rfl rfl) (na := 1) (by decide +kernel) rfl (zrm rfl rfl (rfl) (rfl)) rfl (Nat.le_of_ble_eq_true rfl) dX1_homes_12) (fun u => jn_ro (sb_e [] rfl rfl)) (fun r_12 u hp_12 => ?_)
    have hp_12 : r_12 = zI (bI (0 ≤ yard ∧ yard ≤ 20)) := hp_12
    subst hp_12
    refine y_beq (tgt := 36) C dX1_homes_15 (by decide) (fun c_15 => ?_) (fun c_15 => ?_)
    · skip
      refine y_iconst C dX1_homes_36 ?_
      refine z_istore (lv' := [(5, .int (zI (-1))), (0, .ref x), (1, .int (zI d)), (2, .int (zI h)), (3, .int (zI yard)), (4, .int (zI what))]) C dX1_homes_37 (nlt rfl) rfl ?_
      refine z_iload C dX1_homes_39 0 rfl ?_
      refine y_if_eq (tgt := 47) C (by omega) dX1_homes_41 (by decide) (fun c_41 => ?_) (fun c_41 => ?_)
      · skip
        exact absurd c_41 (by decide)
      · skip
        refine z_iload C dX1_homes_44 0 rfl ?_
        exact z_iret C hA hQ rfl (Nat.le_of_ble_eq_true rfl) (Nat.le_of_ble_eq_true rfl) ((mr, mhm, mat, mlg, mn, moa, mdy)) ((by unfold oHomes; repeat (first | rw [if_pos (by omega)] | rw [if_neg (by omega)]))) (sb_p [0, 1, 2, 3, 4, 5, 6, 7, 8, 9, 10, 11] rfl rfl) dX1_homes_46
    · skip
      refine z_iload C dX1_homes_18 4 rfl ?_
      refine y_iconst C dX1_homes_20 ?_
      refine y_iconst C dX1_homes_21 ?_
      refine z_i C (z_runS (As := [.int (zI what), .int (zI 0), .int (zI 1)]) (rest := []) C (ct_X1_isIn (zl X) G what 0 1 (by first | assumption | omega) (by first | assumption | omega) (by first | assumption | omega)) (lw_S q189 q190 q58 q191) (sb_e [] rfl rfl) (na := 3) (by decide +kernel) rfl (zrm rfl rfl (rfl) (rfl)) rfl (Nat.le_of_ble_eq_true rfl) dX1_homes_22) (fun u => jn_ro (sb_e [] rfl rfl)) (fun r_22 u hp_22 => ?_)
      have hp_22 : r_22 = zI (bI (0 ≤ what ∧ what ≤ 1)) := hp_22
      subst hp_22
      refine y_beq (tgt := 36) C dX1_homes_25 (by decide) (fun c_25 => ?_) (fun c_25 => ?_)
      · skip
        refine y_iconst C dX1_homes_36 ?_
        refine z_istore (lv' := [(5, .int (zI (-1))), (0, .ref x), (1, .int (zI d)), (2, .int (zI h)), (3, .int (zI yard)), (4, .int (zI what))]) C dX1_homes_37 (nlt rfl) rfl ?_
        refine z_iload C dX1_homes_39 0 rfl ?_
        refine y_if_eq (tgt := 47) C (by omega) dX1_homes_41 (by decide) (fun c_41 => ?_) (fun c_41 => ?_)
        · skip
          exact absurd c_41 (by decide)
        · skip
          refine z_iload C dX1_homes_44 0 rfl ?_
          exact z_iret C hA hQ rfl (Nat.le_of_ble_eq_true rfl) (Nat.le_of_ble_eq_true rfl) ((mr, mhm, mat, mlg, mn, moa, mdy)) ((by unfold oHomes; repeat (first | rw [if_pos (by omega)] | rw [if_neg (by omega)]))) (sb_p [0, 1, 2, 3, 4, 5, 6, 7, 8, 9, 10, 11] rfl rfl) dX1_homes_46
      · skip
        refine z_aload_n C dX1_homes_28 rfl 0 rfl ?_
        refine z_iload_n C dX1_homes_29 rfl 1 rfl ?_
        refine z_i C (z_runV (q := 0) (As := [.int (zI d)]) (rest := []) C (ct_X1_notRow (zl X) G x b0 m0 tl le sh im fw fh lo a0 sa ha ra sf hw kk rs rm kf rw_ LP hk hf d (by first | assumption | omega) (by first | assumption | omega) (by first | assumption | omega) (by first | assumption | omega) (by first | assumption | omega)) (lw_V q726 q728 qs18 q58 q729) rfl rfl (sb_p [0, 11] rfl rfl) (na := 1) (by decide +kernel) rfl (zrm rfl rfl (rfl) (rfl)) rfl (Nat.le_of_ble_eq_true rfl) dX1_homes_30) (fun u => jn_ro (sb_p [0, 11] rfl rfl)) (fun r_30 u hp_30 => ?_)
        have hp_30 : r_30 = zI (wrZ hw d) := hp_30
        subst hp_30
        have hwr := wrZ_r hw d
        refine z_goto (tgt := 37) C dX1_homes_33 (by decide) ?_
        refine z_istore (lv' := [(5, .int (zI (wrZ hw d))), (0, .ref x), (1, .int (zI d)), (2, .int (zI h)), (3, .int (zI yard)), (4, .int (zI what))]) C dX1_homes_37 (nlt rfl) rfl ?_
        refine z_iload C dX1_homes_39 0 rfl ?_
        refine y_if_eq (tgt := 47) C (by omega) dX1_homes_41 (by decide) (fun c_41 => ?_) (fun c_41 => ?_)
        · skip
          obtain ⟨hd1, hd2⟩ := wrZ_0 (hw := hw) (d := d) (by omega)
          obtain ⟨e, rfl⟩ := Int.eq_ofNat_of_zero_le (show 0 ≤ d by omega)
          simp only [zTN] at hd2
          obtain ⟨hS1, hS2⟩ := id hS
          have hSe := hS1 e (by omega)
          obtain ⟨j, rfl⟩ := Int.eq_ofNat_of_zero_le (show 0 ≤ h by omega)
          have he8 : e < 8 := by omega
          have hwe : hw e = 2 := hd2
          have hj : j < n := by omega
          refine y_iconst C dX1_homes_47 ?_
          refine z_istore (lv' := [(6, .int (zI 0)), (5, .int (zI (wrZ hw (e : Int)))), (0, .ref x), (1, .int (zI (e : Int))), (2, .int (zI (j : Int))), (3, .int (zI yard)), (4, .int (zI what))]) C dX1_homes_48 (nlt rfl) rfl ?_
          refine y_iconst C dX1_homes_50 ?_
          refine z_istore (lv' := [(7, .int (zI 0)), (6, .int (zI 0)), (5, .int (zI (wrZ hw (e : Int)))), (0, .ref x), (1, .int (zI (e : Int))), (2, .int (zI (j : Int))), (3, .int (zI yard)), (4, .int (zI what))]) C dX1_homes_51 (nlt rfl) rfl ?_
          have L_53 : ∀ (tt : Nat) (i : Nat) (set : Int32) (mr1 : Nat → Option Nat) (mhm1 : Nat → Int) (mat1 : Nat → Int) (mlg1 : Nat → Int) (mn1 : Nat) (moa1 : Int) (mdy1 : Int), (i ≤ 21) → (set = bitsF (homB (rowF rw_ e) (skZ (rs e)) (rm e) kd fg hm oa n j yard at_ lg) i) → 21 - i = tt → Z X (cX1_homes, 8, yX1_homes.cls, (some .int), { frames := 8, cells := 0, slots := 0, locals := 167 }, A) G 0 0 ([(x, .inr (10, [.ref a0, .ref b0, .ref m0, .int (zI im), .ref tl, .ref le, .int (zI fw), .int (zI fh), .int (zI lo), .ref sh])), (a0, .inr (8, [.ref a1, .ref a2, .ref a3, .ref a4, .int (zI (n : Int)), .int (zI oa), .int (zI dy)])), (a1, AQ G 4 7 r), (a2, AI G 7 hm), (a3, AI G 7 at_), (a4, AI G 7 lg), (m0, .inr (8, [.ref m1, .ref m2, .ref m3, .ref m4, .int (zI (mn1 : Int)), .int (zI moa1), .int (zI mdy1)])), (m1, AQ G 4 7 mr1), (m2, AI G 7 mhm1), (m3, AI G 7 mat1), (m4, AI G 7 mlg1), (sh, AQ G 7 8 sf)] ++ (SW G sa ha ra hw rs rm rw_ ++ PL LP hk hf)) 53 [(7, .int (zI (i : Int))), (6, .int set), (0, .ref x), (1, .int (zI (e : Int))), (2, .int (zI (j : Int))), (3, .int (zI yard)), (4, .int (zI what))] [] := by
            intro tt
            induction tt using Nat.strongRecOn with
            | _ tt ih_53 =>
              intro i set mr1 mhm1 mat1 mlg1 mn1 moa1 mdy1 hi hst ht_53
              refine z_iload C dX1_homes_53 0 rfl ?_
              refine y_bipush C dX1_homes_55 (by decide) ?_
              refine y_icmp_ge (tgt := 112) C (by omega) (by omega) dX1_homes_57 (by decide) (fun c_57 => ?_) (fun c_57 => ?_)
              · skip
                refine z_iload C dX1_homes_112 6 rfl ?_
                refine y_if_ne (tgt := 122) C (by omega) dX1_homes_114 (by decide) (fun c_114 => ?_) (fun c_114 => ?_)
                · skip
                  refine z_iload C dX1_homes_122 1 rfl ?_
                  refine z_i C (z_runS (As := [.int set]) (rest := []) C (ct_J5_bitCount (zl X) G set ) (lw_S q753 q754 q79 q755) (sb_e [] rfl rfl) (na := 1) (by decide +kernel) rfl (zrm rfl rfl (rfl) (rfl)) rfl (Nat.le_of_ble_eq_true rfl) dX1_homes_124) (fun u => jn_ro (sb_e [] rfl rfl)) (fun r_124 u hp_124 => ?_)
                  subst hp_124
                  rw [show i = 21 by omega] at hst
                  exact z_iret C hA hQ rfl (Nat.le_of_ble_eq_true rfl) (Nat.le_of_ble_eq_true rfl) ((mr1, mhm1, mat1, mlg1, mn1, moa1, mdy1)) ((by unfold oHomes; rw [if_pos (by omega), if_neg (by omega)]; simp only [zTN]; first | (rw [if_pos (by omega)]; exact hst) | (rw [if_neg (by omega), hst]; exact bc_sum (fun q => rowB_01 _)))) (sb_p [0, 1, 2, 3, 4, 5, 6, 7, 8, 9, 10, 11] rfl rfl) dX1_homes_127
                · skip
                  refine z_iload C dX1_homes_117 1 rfl ?_
                  refine z_goto (tgt := 127) C dX1_homes_119 (by decide) ?_
                  rw [show i = 21 by omega] at hst
                  exact z_iret C hA hQ rfl (Nat.le_of_ble_eq_true rfl) (Nat.le_of_ble_eq_true rfl) ((mr1, mhm1, mat1, mlg1, mn1, moa1, mdy1)) ((by unfold oHomes; rw [if_pos (by omega), if_neg (by omega)]; simp only [zTN]; first | (rw [if_pos (by omega)]; exact hst) | (rw [if_neg (by omega), hst]; exact bc_sum (fun q => rowB_01 _)))) (sb_p [0, 1, 2, 3, 4, 5, 6, 7, 8, 9, 10, 11] rfl rfl) dX1_homes_127
              · skip
                refine z_aload_n C dX1_homes_60 rfl 2 rfl ?_
                refine z_v (ws' := fun u => ([(x, .inr (10, [.ref a0, .ref b0, .ref m0, .int (zI im), .ref tl, .ref le, .int (zI fw), .int (zI fh), .int (zI lo), .ref sh])), (a0, .inr (8, [.ref a1, .ref a2, .ref a3, .ref a4, .int (zI (n : Int)), .int (zI oa), .int (zI dy)])), (a1, AQ G 4 7 r), (a2, AI G 7 hm), (a3, AI G 7 at_), (a4, AI G 7 lg), (m0, .inr (8, [.ref m1, .ref m2, .ref m3, .ref m4, .int (zI (n : Int)), .int (zI oa), .int (zI dy)])), (m1, AQ G 4 7 r), (m2, AI G 7 hm), (m3, AI G 7 at_), (m4, AI G 7 lg), (sh, AQ G 7 8 sf)] ++ (SW G sa ha ra hw rs rm rw_ ++ PL LP hk hf))) C (z_runV (q := 0) (As := []) (rest := []) C (ct_X1_minds (zl X) G x b0 m0 tl le sh im fw fh lo a0 a1 a2 a3 a4 m1 m2 m3 m4 r hm at_ lg n oa dy mr1 mhm1 mat1 mlg1 mn1 moa1 mdy1 LP hk hf kd fg (by first | assumption | omega) (by first | assumption | omega)) (lw_V q577 q579 qs12 q58 q580) rfl rfl (sb_m [0, 1, 2, 3, 4, 5, 6, 7, 8, 9, 10] rfl rfl) (na := 0) (by decide +kernel) rfl (zrm rfl rfl (rfl) (rfl)) rfl (Nat.le_of_ble_eq_true rfl) dX1_homes_61) (fun u => jn_m (Lr := [(sh, AQ G 7 8 sf)]) [0, 1, 2, 3, 4, 5, 6, 7, 8, 9, 10] [11] [1, 2, 3, 4, 5, 6, 7, 8, 9, 10, 11, 0] rfl rfl rfl (by decide) rfl rfl rfl) (fun u hp_61 => ?_)
                refine z_aload_n C dX1_homes_64 rfl 2 rfl ?_
                refine z_get (q := 0) (kf := 2) (v := .ref m0) C rfl rfl in_X1 (by decide) q882 (Or.inl rfl) rfl dX1_homes_65 ?_
                refine z_get (q := 6) (kf := 1) (v := .ref m2) C rfl rfl in_X2 (by decide) q840 (Or.inl rfl) rfl dX1_homes_68 ?_
                refine z_iload_n C dX1_homes_71 rfl 4 rfl ?_
                refine z_iload C dX1_homes_72 0 rfl ?_
                refine y_iast (q := 8) (t0 := 0) (g := va_up hm j (i : Int)) (ws' := ([(x, .inr (10, [.ref a0, .ref b0, .ref m0, .int (zI im), .ref tl, .ref le, .int (zI fw), .int (zI fh), .int (zI lo), .ref sh])), (a0, .inr (8, [.ref a1, .ref a2, .ref a3, .ref a4, .int (zI (n : Int)), .int (zI oa), .int (zI dy)])), (a1, AQ G 4 7 r), (a2, AI G 7 hm), (a3, AI G 7 at_), (a4, AI G 7 lg), (m0, .inr (8, [.ref m1, .ref m2, .ref m3, .ref m4, .int (zI (n : Int)), .int (zI oa), .int (zI dy)])), (m1, AQ G 4 7 r), (m2, AI G 7 (va_up hm j (i : Int))), (m3, AI G 7 at_), (m4, AI G 7 lg), (sh, AQ G 7 8 sf)] ++ (SW G sa ha ra hw rs rm rw_ ++ PL LP hk hf))) C rfl rfl (by omega) (by decide) rfl rfl dX1_homes_74 ?_
                refine z_iload C dX1_homes_75 1 rfl ?_
                refine z_aload_n C dX1_homes_77 rfl 2 rfl ?_
                refine z_aload_n C dX1_homes_78 rfl 2 rfl ?_
                refine z_get (q := 0) (kf := 9) (v := .ref sh) C rfl rfl in_X1 (by decide) q889 (Or.inl rfl) rfl dX1_homes_79 ?_
                refine z_iload_n C dX1_homes_82 rfl 3 rfl ?_
                refine y_aldq (q := 11) (t0 := 7) (v := .ref (sa e)) C rfl rfl (by omega) (by decide) (by show va_rf (sf e) = _; rw [hsf e he8]; rfl) dX1_homes_83 ?_
                refine z_get (kf := 0) (v := hvF hw ha ra e) C (sw_at (L := [(x, .inr (10, [.ref a0, .ref b0, .ref m0, .int (zI im), .ref tl, .ref le, .int (zI fw), .int (zI fh), .int (zI lo), .ref sh])), (a0, .inr (8, [.ref a1, .ref a2, .ref a3, .ref a4, .int (zI (n : Int)), .int (zI oa), .int (zI dy)])), (a1, AQ G 4 7 r), (a2, AI G 7 hm), (a3, AI G 7 at_), (a4, AI G 7 lg), (m0, .inr (8, [.ref m1, .ref m2, .ref m3, .ref m4, .int (zI (n : Int)), .int (zI oa), .int (zI dy)])), (m1, AQ G 4 7 r), (m2, AI G 7 (va_up hm j (i : Int))), (m3, AI G 7 at_), (m4, AI G 7 lg), (sh, AQ G 7 8 sf)]) (d := e) he8) rfl in_X3 (by decide) q876 (Or.inl rfl) rfl dX1_homes_84 ?_
                rw [show hvF hw ha ra e = .ref (ra e) from hvF_2 hwe]
                refine z_rowOut (L := [(x, .inr (10, [.ref a0, .ref b0, .ref m0, .int (zI im), .ref tl, .ref le, .int (zI fw), .int (zI fh), .int (zI lo), .ref sh])), (a0, .inr (8, [.ref a1, .ref a2, .ref a3, .ref a4, .int (zI (n : Int)), .int (zI oa), .int (zI dy)])), (a1, AQ G 4 7 r), (a2, AI G 7 hm), (a3, AI G 7 at_), (a4, AI G 7 lg), (m0, .inr (8, [.ref m1, .ref m2, .ref m3, .ref m4, .int (zI (n : Int)), .int (zI oa), .int (zI dy)])), (m1, AQ G 4 7 r), (m2, AI G 7 (va_up hm j (i : Int))), (m3, AI G 7 at_), (m4, AI G 7 lg), (sh, AQ G 7 8 sf)]) he8 hwe hSe.2.2.2.2 (fun A_ B_ hAB hcg => ?_)
                refine z_wsEq (ws' := ([(x, .inr (10, [.ref a0, .ref b0, .ref m0, .int (zI im), .ref tl, .ref le, .int (zI fw), .int (zI fh), .int (zI lo), .ref sh])), (a0, .inr (8, [.ref a1, .ref a2, .ref a3, .ref a4, .int (zI (n : Int)), .int (zI oa), .int (zI dy)])), (a1, AQ G 4 7 r), (a2, AI G 7 hm), (a3, AI G 7 at_), (a4, AI G 7 lg), (m0, .inr (8, [.ref m1, .ref m2, .ref m3, .ref m4, .int (zI (n : Int)), .int (zI oa), .int (zI dy)])), (m1, AQ G 4 7 r), (m2, AI G 7 (va_up hm j (i : Int))), (m3, AI G 7 at_), (m4, AI G 7 lg), (sh, AQ G 7 8 sf), ((ra e), RWc G (rs e) (rm e) (rowF rw_ e))] ++ ((A_ ++ B_) ++ PL LP hk hf))) rfl ?_
                refine z_iload_n C dX1_homes_87 rfl 4 rfl ?_
                refine z_iload_n C dX1_homes_88 rfl 5 rfl ?_
                refine z_i (ws' := fun u => ([(x, .inr (10, [.ref a0, .ref b0, .ref m0, .int (zI im), .ref tl, .ref le, .int (zI fw), .int (zI fh), .int (zI lo), .ref sh])), (a0, .inr (8, [.ref a1, .ref a2, .ref a3, .ref a4, .int (zI (n : Int)), .int (zI oa), .int (zI dy)])), (a1, AQ G 4 7 r), (a2, AI G 7 hm), (a3, AI G 7 at_), (a4, AI G 7 lg), (m0, .inr (8, [.ref m1, .ref m2, .ref m3, .ref m4, .int (zI (n : Int)), .int (zI oa), .int (zI u.2.2)])), (m1, AQ G 4 7 r), (m2, AI G 7 (va_up hm j (i : Int))), (m3, AI G 7 u.1), (m4, AI G 7 u.2.1), (sh, AQ G 7 8 sf), ((ra e), RWc G (rs e) (rm e) (rowF rw_ e))] ++ ((A_ ++ B_) ++ PL LP hk hf))) C (z_runV (q := 0) (As := [.ref (ra e), .int (zI (j : Int)), .int (zI yard)]) (rest := [.int set]) C (ct_X1_wentSo_s (zl X) G (rs e) x b0 m0 tl le sh im fw fh lo a0 m1 m2 m3 m4 r (va_up hm j (i : Int)) at_ lg n oa dy LP hk hf kd fg (ra e) (rm e) j (rowF rw_ e) yard (hSe.2.2.2.1) (by first | assumption | omega) (hL.hm (by omega)) (by first | assumption | omega) (by first | assumption | omega) (hSe.2.2.2.2) (fun k => hS2 (100 * e + k))) (lw_V q735 q737 qs19 q58 q738) rfl rfl (sb_m [0, 6, 7, 8, 9, 10, 12] rfl rfl) (na := 3) (by decide +kernel) rfl (zrm rfl rfl (rfl) (rfl)) rfl (Nat.le_of_ble_eq_true rfl) dX1_homes_89) (fun u => jn_m (Lr := [(a0, .inr (8, [.ref a1, .ref a2, .ref a3, .ref a4, .int (zI (n : Int)), .int (zI oa), .int (zI dy)])), (a1, AQ G 4 7 r), (a2, AI G 7 hm), (a3, AI G 7 at_), (a4, AI G 7 lg), (sh, AQ G 7 8 sf)]) [0, 6, 7, 8, 9, 10, 12] [1, 2, 3, 4, 5, 11] [6, 0, 1, 2, 3, 4, 7, 8, 9, 10, 11, 5, 12] rfl rfl rfl (by decide) rfl rfl rfl) (fun r_89 u hp_89 => ?_)
                obtain ⟨at9_89, lg9_89, dy9_89⟩ := u
                have hp_89 : r_89 = zI (rowB (rowF rw_ e) (skZ (rs e)) kd fg (va_up hm j (i : Int)) oa n j yard at_ lg (rm e)) := hp_89
                subst hp_89
                rw [show rowB (rowF rw_ e) (skZ (rs e)) kd fg (va_up hm j (i : Int)) oa n j yard at_ lg (rm e) = homB (rowF rw_ e) (skZ (rs e)) (rm e) kd fg hm oa n j yard at_ lg i from rfl]
                have h01 : homB (rowF rw_ e) (skZ (rs e)) (rm e) kd fg hm oa n j yard at_ lg i = 0 ∨ homB (rowF rw_ e) (skZ (rs e)) (rm e) kd fg hm oa n j yard at_ lg i = 1 := rowB_01 _
                refine z_rowIn (L := [(x, .inr (10, [.ref a0, .ref b0, .ref m0, .int (zI im), .ref tl, .ref le, .int (zI fw), .int (zI fh), .int (zI lo), .ref sh])), (a0, .inr (8, [.ref a1, .ref a2, .ref a3, .ref a4, .int (zI (n : Int)), .int (zI oa), .int (zI dy)])), (a1, AQ G 4 7 r), (a2, AI G 7 hm), (a3, AI G 7 at_), (a4, AI G 7 lg), (m0, .inr (8, [.ref m1, .ref m2, .ref m3, .ref m4, .int (zI (n : Int)), .int (zI oa), .int (zI dy9_89)])), (m1, AQ G 4 7 r), (m2, AI G 7 (va_up hm j (i : Int))), (m3, AI G 7 at9_89), (m4, AI G 7 lg9_89), (sh, AQ G 7 8 sf)]) hSe.2.2.2.2 hAB ?_
                refine y_if_eq (tgt := 102) C (by omega) dX1_homes_92 (by decide) (fun hb0 => ?_) (fun hb0 => ?_)
                · skip
                  refine y_iconst C dX1_homes_102 ?_
                  refine z_ior C dX1_homes_103 rfl ?_
                  refine z_istore (lv' := [(6, .int (set ||| (zI 0))), (7, .int (zI (i : Int))), (0, .ref x), (1, .int (zI (e : Int))), (2, .int (zI (j : Int))), (3, .int (zI yard)), (4, .int (zI what))]) C dX1_homes_104 (nlt rfl) rfl ?_
                  refine y_iinc (lv' := [(7, .int (zI ((i : Int) + 1))), (6, .int (set ||| (zI 0))), (0, .ref x), (1, .int (zI (e : Int))), (2, .int (zI (j : Int))), (3, .int (zI yard)), (4, .int (zI what))]) C dX1_homes_106 (q := 1) rfl (nlt rfl) rfl ?_
                  refine z_goto (tgt := 53) C dX1_homes_109 (by decide) ?_
                  exact ih_53 _ (by omega) (i + 1) ((set ||| (zI 0))) r (va_up hm j (i : Int)) at9_89 lg9_89 n oa dy9_89 (by first | assumption | omega) (by first | (rw [hst]; exact (bitsF_f hb0).symm) | (rw [hst]; exact (bitsF_t hb0).symm)) rfl
                · skip
                  refine y_iconst C dX1_homes_95 ?_
                  refine z_iload C dX1_homes_96 0 rfl ?_
                  refine z_ishl C dX1_homes_98 rfl ?_
                  refine z_goto (tgt := 103) C dX1_homes_99 (by decide) ?_
                  refine z_ior C dX1_homes_103 rfl ?_
                  refine z_istore (lv' := [(6, .int (set ||| ((zI 1) <<< ((zI (i : Int)) &&& 31)))), (7, .int (zI (i : Int))), (0, .ref x), (1, .int (zI (e : Int))), (2, .int (zI (j : Int))), (3, .int (zI yard)), (4, .int (zI what))]) C dX1_homes_104 (nlt rfl) rfl ?_
                  refine y_iinc (lv' := [(7, .int (zI ((i : Int) + 1))), (6, .int (set ||| ((zI 1) <<< ((zI (i : Int)) &&& 31)))), (0, .ref x), (1, .int (zI (e : Int))), (2, .int (zI (j : Int))), (3, .int (zI yard)), (4, .int (zI what))]) C dX1_homes_106 (q := 1) rfl (nlt rfl) rfl ?_
                  refine z_goto (tgt := 53) C dX1_homes_109 (by decide) ?_
                  exact ih_53 _ (by omega) (i + 1) ((set ||| ((zI 1) <<< ((zI (i : Int)) &&& 31)))) r (va_up hm j (i : Int)) at9_89 lg9_89 n oa dy9_89 (by first | assumption | omega) (by first | (rw [hst]; exact (bitsF_f hb0).symm) | (rw [hst]; exact (bitsF_t hb0).symm)) rfl
          refine z_lv (lv' := [(7, .int (zI 0)), (6, .int (zI 0)), (0, .ref x), (1, .int (zI (e : Int))), (2, .int (zI (j : Int))), (3, .int (zI yard)), (4, .int (zI what))]) [0, 1, 3, 4, 5, 6, 7] rfl ?_
          exact L_53 _ 0 (zI 0) mr mhm mat mlg mn moa mdy (by first | assumption | omega) (rfl) rfl
        · skip
          refine z_iload C dX1_homes_44 0 rfl ?_
          exact z_iret C hA hQ rfl (Nat.le_of_ble_eq_true rfl) (Nat.le_of_ble_eq_true rfl) ((mr, mhm, mat, mlg, mn, moa, mdy)) ((by unfold oHomes; repeat (first | rw [if_pos (by omega)] | rw [if_neg (by omega)]))) (sb_p [0, 1, 2, 3, 4, 5, 6, 7, 8, 9, 10, 11] rfl rfl) dX1_homes_46

set_option maxHeartbeats 4000000 in
theorem ct_X1_judge (l : Launch) (G : ZG) (x : Nat) (b0 : Nat) (m0 : Nat) (tl : Nat) (le : Nat) (sh : Nat) (im : Int) (fw : Int) (fh : Int) (lo : Int) (a0 : Nat) (a1 : Nat) (a2 : Nat) (a3 : Nat) (a4 : Nat) (m1 : Nat) (m2 : Nat) (m3 : Nat) (m4 : Nat) (r : Nat → Option Nat) (hm : Nat → Int) (at_ : Nat → Int) (lg : Nat → Int) (n : Nat) (oa : Int) (dy : Int) (mr : Nat → Option Nat) (mhm : Nat → Int) (mat : Nat → Int) (mlg : Nat → Int) (mn : Nat) (moa : Int) (mdy : Int) (LP : List Nat) (hk : Nat → Nat) (hf : Nat → Int) (kd : Nat → Nat) (fg : Nat → Int) (sa : Nat → Nat) (ha : Nat → Nat) (ra : Nat → Nat) (sf : Nat → Option Nat) (hw : Nat → Nat) (kk : Nat → Nat) (rs : Nat → Nat) (rm : Nat → Nat) (kf : Nat → Int) (rw_ : Nat → Int) (d : Int) (hH : HR LP hk hf r n kd fg) (hL : LK n kd fg hm at_ lg oa) (hK : PK LP hk hf) (hV : RV LP r) (hS : SK hw kk rs rm kf rw_) (hsf : ∀ q, q < 8 → sf q = some (sa q)) (hKH : KH LP hk hf ha hw kk kf) (rd : -2147483648 ≤ d ∧ d ≤ 2147483647) : CT l yX1_judge cX1_judge 5 (some .int) { frames := 7, cells := 0, slots := 0, locals := 143 } G [.ref x, .int (zI d)] ([(x, .inr (10, [.ref a0, .ref b0, .ref m0, .int (zI im), .ref tl, .ref le, .int (zI fw), .int (zI fh), .int (zI lo), .ref sh])), (a0, .inr (8, [.ref a1, .ref a2, .ref a3, .ref a4, .int (zI (n : Int)), .int (zI oa), .int (zI dy)])), (a1, AQ G 4 7 r), (a2, AI G 7 hm), (a3, AI G 7 at_), (a4, AI G 7 lg), (m0, .inr (8, [.ref m1, .ref m2, .ref m3, .ref m4, .int (zI (mn : Int)), .int (zI moa), .int (zI mdy)])), (m1, AQ G 4 7 mr), (m2, AI G 7 mhm), (m3, AI G 7 mat), (m4, AI G 7 mlg), (sh, AQ G 7 8 sf)] ++ (SW G sa ha ra hw rs rm rw_ ++ PL LP hk hf)) (Qi G ([(x, .inr (10, [.ref a0, .ref b0, .ref m0, .int (zI im), .ref tl, .ref le, .int (zI fw), .int (zI fh), .int (zI lo), .ref sh])), (a0, .inr (8, [.ref a1, .ref a2, .ref a3, .ref a4, .int (zI (n : Int)), .int (zI oa), .int (zI dy)])), (a1, AQ G 4 7 r), (a2, AI G 7 hm), (a3, AI G 7 at_), (a4, AI G 7 lg), (m0, .inr (8, [.ref m1, .ref m2, .ref m3, .ref m4, .int (zI (mn : Int)), .int (zI moa), .int (zI mdy)])), (m1, AQ G 4 7 mr), (m2, AI G 7 mhm), (m3, AI G 7 mat), (m4, AI G 7 mlg), (sh, AQ G 7 8 sf)] ++ (SW G sa ha ra hw rs rm rw_ ++ PL LP hk hf)) (fun (r : Int32) (u : (Nat → Option Nat) × (Nat → Int) × (Nat → Int) × (Nat → Int) × Nat × Int × Int) => r = zI (oJudge kd fg hm at_ lg n oa hw kk rs rm kf rw_ d)) (fun u => ([(x, .inr (10, [.ref a0, .ref b0, .ref m0, .int (zI im), .ref tl, .ref le, .int (zI fw), .int (zI fh), .int (zI lo), .ref sh])), (a0, .inr (8, [.ref a1, .ref a2, .ref a3, .ref a4, .int (zI (n : Int)), .int (zI oa), .int (zI dy)])), (a1, AQ G 4 7 r), (a2, AI G 7 hm), (a3, AI G 7 at_), (a4, AI G 7 lg), (m0, .inr (8, [.ref m1, .ref m2, .ref m3, .ref m4, .int (zI (u.2.2.2.2.1 : Int)), .int (zI u.2.2.2.2.2.1), .int (zI u.2.2.2.2.2.2)])), (m1, AQ G 4 7 u.1), (m2, AI G 7 u.2.1), (m3, AI G 7 u.2.2.1), (m4, AI G 7 u.2.2.2.1), (sh, AQ G 7 8 sf)] ++ (SW G sa ha ra hw rs rm rw_ ++ PL LP hk hf)))) := by
  refine z_met (by decide) (Nat.le_of_ble_eq_true rfl) ?_
  intro X A hl0 hA C hQ hin
  subst hl0
  obtain ⟨hn7, hoa, hLj⟩ := id hL
  show Z X _ G 0 0 _ 0 [(0, .ref x), (1, .int (zI d))] []
  refine z_aload_n C dX1_judge_0 rfl 0 rfl ?_
  refine z_iload_n C dX1_judge_1 rfl 1 rfl ?_
  refine z_i C (z_runV (q := 0) (As := [.int (zI d)]) (rest := []) C (ct_X1_notRow (zl X) G x b0 m0 tl le sh im fw fh lo a0 sa ha ra sf hw kk rs rm kf rw_ LP hk hf d (by first | assumption | omega) (by first | assumption | omega) (by first | assumption | omega) (by first | assumption | omega) (by first | assumption | omega)) (lw_V q726 q728 qs18 q58 q729) rfl rfl (sb_p [0, 11] rfl rfl) (na := 1) (by decide +kernel) rfl (zrm rfl rfl (rfl) (rfl)) rfl (Nat.le_of_ble_eq_true rfl) dX1_judge_2) (fun u => jn_ro (sb_p [0, 11] rfl rfl)) (fun r_2 u hp_2 => ?_)
  have hp_2 : r_2 = zI (wrZ hw d) := hp_2
  subst hp_2
  have hwr := wrZ_r hw d
  refine z_istore_n (lv' := [(2, .int (zI (wrZ hw d))), (0, .ref x), (1, .int (zI d))]) C dX1_judge_5 rfl (nlt rfl) rfl ?_
  refine z_iload_n C dX1_judge_6 rfl 0 rfl ?_
  refine y_if_eq (tgt := 12) C (by omega) dX1_judge_7 (by decide) (fun c_7 => ?_) (fun c_7 => ?_)
  · skip
    obtain ⟨hd1, hd2⟩ := wrZ_0 (hw := hw) (d := d) (by omega)
    obtain ⟨e, rfl⟩ := Int.eq_ofNat_of_zero_le (show 0 ≤ d by omega)
    simp only [zTN] at hd2
    obtain ⟨hS1, hS2⟩ := id hS
    have hSe := hS1 e (by omega)
    have he8 : e < 8 := by omega
    have hwe : hw e = 2 := hd2
    refine z_aload_n C dX1_judge_12 rfl 1 rfl ?_
    refine z_get (q := 0) (kf := 9) (v := .ref sh) C rfl rfl in_X1 (by decide) q889 (Or.inl rfl) rfl dX1_judge_13 ?_
    refine z_iload_n C dX1_judge_16 rfl 2 rfl ?_
    refine y_aldq (q := 11) (t0 := 7) (v := .ref (sa e)) C rfl rfl (by omega) (by decide) (by show va_rf (sf e) = _; rw [hsf e he8]; rfl) dX1_judge_17 ?_
    refine z_get (kf := 0) (v := hvF hw ha ra e) C (sw_at (L := [(x, .inr (10, [.ref a0, .ref b0, .ref m0, .int (zI im), .ref tl, .ref le, .int (zI fw), .int (zI fh), .int (zI lo), .ref sh])), (a0, .inr (8, [.ref a1, .ref a2, .ref a3, .ref a4, .int (zI (n : Int)), .int (zI oa), .int (zI dy)])), (a1, AQ G 4 7 r), (a2, AI G 7 hm), (a3, AI G 7 at_), (a4, AI G 7 lg), (m0, .inr (8, [.ref m1, .ref m2, .ref m3, .ref m4, .int (zI (mn : Int)), .int (zI moa), .int (zI mdy)])), (m1, AQ G 4 7 mr), (m2, AI G 7 mhm), (m3, AI G 7 mat), (m4, AI G 7 mlg), (sh, AQ G 7 8 sf)]) (d := e) he8) rfl in_X3 (by decide) q876 (Or.inl rfl) rfl dX1_judge_18 ?_
    rw [show hvF hw ha ra e = .ref (ra e) from hvF_2 hwe]
    refine z_rowOut (L := [(x, .inr (10, [.ref a0, .ref b0, .ref m0, .int (zI im), .ref tl, .ref le, .int (zI fw), .int (zI fh), .int (zI lo), .ref sh])), (a0, .inr (8, [.ref a1, .ref a2, .ref a3, .ref a4, .int (zI (n : Int)), .int (zI oa), .int (zI dy)])), (a1, AQ G 4 7 r), (a2, AI G 7 hm), (a3, AI G 7 at_), (a4, AI G 7 lg), (m0, .inr (8, [.ref m1, .ref m2, .ref m3, .ref m4, .int (zI (mn : Int)), .int (zI moa), .int (zI mdy)])), (m1, AQ G 4 7 mr), (m2, AI G 7 mhm), (m3, AI G 7 mat), (m4, AI G 7 mlg), (sh, AQ G 7 8 sf)]) he8 hwe hSe.2.2.2.2 (fun A_ B_ hAB hcg => ?_)
    refine z_wsEq (ws' := ([(x, .inr (10, [.ref a0, .ref b0, .ref m0, .int (zI im), .ref tl, .ref le, .int (zI fw), .int (zI fh), .int (zI lo), .ref sh])), (a0, .inr (8, [.ref a1, .ref a2, .ref a3, .ref a4, .int (zI (n : Int)), .int (zI oa), .int (zI dy)])), (a1, AQ G 4 7 r), (a2, AI G 7 hm), (a3, AI G 7 at_), (a4, AI G 7 lg), (m0, .inr (8, [.ref m1, .ref m2, .ref m3, .ref m4, .int (zI (mn : Int)), .int (zI moa), .int (zI mdy)])), (m1, AQ G 4 7 mr), (m2, AI G 7 mhm), (m3, AI G 7 mat), (m4, AI G 7 mlg), (sh, AQ G 7 8 sf), ((ra e), RWc G (rs e) (rm e) (rowF rw_ e))] ++ ((A_ ++ B_) ++ PL LP hk hf))) rfl ?_
    refine z_astore_n (lv' := [(3, .ref (ra e)), (2, .int (zI (wrZ hw (e : Int)))), (0, .ref x), (1, .int (zI (e : Int)))]) C dX1_judge_21 rfl (nlt rfl) rfl ?_
    refine z_aload_n C dX1_judge_22 rfl 2 rfl ?_
    refine z_v (ws' := fun u => ([(x, .inr (10, [.ref a0, .ref b0, .ref m0, .int (zI im), .ref tl, .ref le, .int (zI fw), .int (zI fh), .int (zI lo), .ref sh])), (a0, .inr (8, [.ref a1, .ref a2, .ref a3, .ref a4, .int (zI (n : Int)), .int (zI oa), .int (zI dy)])), (a1, AQ G 4 7 r), (a2, AI G 7 hm), (a3, AI G 7 at_), (a4, AI G 7 lg), (m0, .inr (8, [.ref m1, .ref m2, .ref m3, .ref m4, .int (zI (n : Int)), .int (zI oa), .int (zI dy)])), (m1, AQ G 4 7 r), (m2, AI G 7 hm), (m3, AI G 7 at_), (m4, AI G 7 lg), (sh, AQ G 7 8 sf), ((ra e), RWc G (rs e) (rm e) (rowF rw_ e))] ++ ((A_ ++ B_) ++ PL LP hk hf))) C (z_runV (q := 0) (As := []) (rest := []) C (ct_X1_minds (zl X) G x b0 m0 tl le sh im fw fh lo a0 a1 a2 a3 a4 m1 m2 m3 m4 r hm at_ lg n oa dy mr mhm mat mlg mn moa mdy LP hk hf kd fg (by first | assumption | omega) (by first | assumption | omega)) (lw_V q577 q579 qs12 q58 q580) rfl rfl (sb_m [0, 1, 2, 3, 4, 5, 6, 7, 8, 9, 10] rfl rfl) (na := 0) (by decide +kernel) rfl (zrm rfl rfl (rfl) (rfl)) rfl (Nat.le_of_ble_eq_true rfl) dX1_judge_23) (fun u => jn_m (Lr := [(sh, AQ G 7 8 sf), ((ra e), RWc G (rs e) (rm e) (rowF rw_ e))]) [0, 1, 2, 3, 4, 5, 6, 7, 8, 9, 10] [11, 12] [2, 3, 4, 5, 6, 7, 8, 9, 10, 11, 12, 0, 1] rfl rfl rfl (by decide) rfl rfl rfl) (fun u hp_23 => ?_)
    refine y_iconst C dX1_judge_26 ?_
    refine z_istore (lv' := [(4, .int (zI 0)), (3, .ref (ra e)), (2, .int (zI (wrZ hw (e : Int)))), (0, .ref x), (1, .int (zI (e : Int)))]) C dX1_judge_27 (nlt rfl) rfl ?_
    have L_29 : ∀ (tt : Nat) (k : Nat) (mdy1 : Int), (k ≤ rm e) → (∀ q, q < k → (jdP (rowF rw_ e) (skZ (rs e)) kd fg hm at_ lg n oa) q = false) → rm e - k = tt → Z X (cX1_judge, 5, yX1_judge.cls, (some .int), { frames := 7, cells := 0, slots := 0, locals := 143 }, A) G 0 0 ([(x, .inr (10, [.ref a0, .ref b0, .ref m0, .int (zI im), .ref tl, .ref le, .int (zI fw), .int (zI fh), .int (zI lo), .ref sh])), (a0, .inr (8, [.ref a1, .ref a2, .ref a3, .ref a4, .int (zI (n : Int)), .int (zI oa), .int (zI dy)])), (a1, AQ G 4 7 r), (a2, AI G 7 hm), (a3, AI G 7 at_), (a4, AI G 7 lg), (m0, .inr (8, [.ref m1, .ref m2, .ref m3, .ref m4, .int (zI (n : Int)), .int (zI oa), .int (zI mdy1)])), (m1, AQ G 4 7 r), (m2, AI G 7 hm), (m3, AI G 7 at_), (m4, AI G 7 (goL kd fg hm at_ oa n k lg)), (sh, AQ G 7 8 sf), ((ra e), RWc G (rs e) (rm e) (rowF rw_ e))] ++ ((A_ ++ B_) ++ PL LP hk hf)) 29 [(4, .int (zI (k : Int))), (3, .ref (ra e)), (0, .ref x), (1, .int (zI (e : Int)))] [] := by
      intro tt
      induction tt using Nat.strongRecOn with
      | _ tt ih_29 =>
        intro k mdy1 hk0 hno ht_29
        have hsk := skZ_r (rs e)
        have hrv : -2147483648 ≤ rowF rw_ e k ∧ rowF rw_ e k ≤ 2147483647 := hS2 (100 * e + k)
        have hsl := (hL.go k).sum
        refine z_iload C dX1_judge_29 0 rfl ?_
        refine z_aload_n C dX1_judge_31 rfl 1 rfl ?_
        refine z_i C (z_runS (As := [.ref (ra e)]) (rest := [.int (zI (k : Int))]) C (ct_X1_sizeOf_s (zl X) G (rs e) (ra e) (rm e) (rowF rw_ e) (hSe.2.2.2.1) (hSe.2.2.2.2)) (lw_S q739 q740 q58 q741) (sb_e [12] rfl rfl) (na := 1) (by decide +kernel) rfl (zrm rfl rfl (rfl) (rfl)) rfl (Nat.le_of_ble_eq_true rfl) dX1_judge_32) (fun u => jn_ro (sb_e [12] rfl rfl)) (fun r_32 u hp_32 => ?_)
        have hp_32 : r_32 = zI ((rm e) : Int) := hp_32
        subst hp_32
        refine y_icmp_ge (tgt := 80) C (by omega) (by omega) dX1_judge_35 (by decide) (fun c_35 => ?_) (fun c_35 => ?_)
        · skip
          refine y_bipush C dX1_judge_80 (by decide) ?_
          refine z_rowIn (L := [(x, .inr (10, [.ref a0, .ref b0, .ref m0, .int (zI im), .ref tl, .ref le, .int (zI fw), .int (zI fh), .int (zI lo), .ref sh])), (a0, .inr (8, [.ref a1, .ref a2, .ref a3, .ref a4, .int (zI (n : Int)), .int (zI oa), .int (zI dy)])), (a1, AQ G 4 7 r), (a2, AI G 7 hm), (a3, AI G 7 at_), (a4, AI G 7 lg), (m0, .inr (8, [.ref m1, .ref m2, .ref m3, .ref m4, .int (zI (n : Int)), .int (zI oa), .int (zI mdy1)])), (m1, AQ G 4 7 r), (m2, AI G 7 hm), (m3, AI G 7 at_), (m4, AI G 7 (goL kd fg hm at_ oa n k lg)), (sh, AQ G 7 8 sf)]) hSe.2.2.2.2 hAB ?_
          rw [show k = rm e by omega] at hno
          exact z_iret C hA hQ rfl (Nat.le_of_ble_eq_true rfl) (Nat.le_of_ble_eq_true rfl) ((r, hm, at_, (goL kd fg hm at_ oa n k lg), n, oa, mdy1)) (congrArg zI (by unfold oJudge; rw [if_neg (by omega)]; simp only [zTN]; exact (firstF_no hno).symm)) (sb_p [0, 1, 2, 3, 4, 5, 6, 7, 8, 9, 10, 11] rfl rfl) dX1_judge_82
        · skip
          refine z_aload_n C dX1_judge_38 rfl 1 rfl ?_
          refine z_iload C dX1_judge_39 0 rfl ?_
          refine z_i C (z_runS (As := [.ref (ra e), .int (zI (k : Int))]) (rest := []) C (ct_X1_isSkipped_s (zl X) G (rs e) (ra e) (rm e) (rowF rw_ e) k (hSe.2.2.2.1) (hSe.2.2.2.2) (by omega) (by first | assumption | omega)) (lw_S q742 q743 q58 q744) (sb_e [12] rfl rfl) (na := 2) (by decide +kernel) rfl (zrm rfl rfl (rfl) (rfl)) rfl (Nat.le_of_ble_eq_true rfl) dX1_judge_41) (fun u => jn_ro (sb_e [12] rfl rfl)) (fun r_41 u hp_41 => ?_)
          have hp_41 : r_41 = zI (bI ((rowF rw_ e) k = skZ (rs e))) := hp_41
          subst hp_41
          refine y_bne (tgt := 66) C dX1_judge_44 (by decide) (fun c_44 => ?_) (fun c_44 => ?_)
          · skip
            refine z_aload_n C dX1_judge_66 rfl 2 rfl ?_
            refine z_get (q := 0) (kf := 2) (v := .ref m0) C rfl rfl in_X1 (by decide) q882 (Or.inl rfl) rfl dX1_judge_67 ?_
            refine y_iconst C dX1_judge_70 ?_
            refine z_v (ws' := fun u => ([(x, .inr (10, [.ref a0, .ref b0, .ref m0, .int (zI im), .ref tl, .ref le, .int (zI fw), .int (zI fh), .int (zI lo), .ref sh])), (a0, .inr (8, [.ref a1, .ref a2, .ref a3, .ref a4, .int (zI (n : Int)), .int (zI oa), .int (zI dy)])), (a1, AQ G 4 7 r), (a2, AI G 7 hm), (a3, AI G 7 at_), (a4, AI G 7 lg), (m0, .inr (8, [.ref m1, .ref m2, .ref m3, .ref m4, .int (zI (n : Int)), .int (zI oa), .int (zI (mdy1 + 1))])), (m1, AQ G 4 7 r), (m2, AI G 7 hm), (m3, AI G 7 at_), (m4, AI G 7 (dayB 0 kd fg hm at_ oa n (goL kd fg hm at_ oa n k lg))), (sh, AQ G 7 8 sf), ((ra e), RWc G (rs e) (rm e) (rowF rw_ e))] ++ ((A_ ++ B_) ++ PL LP hk hf))) C (z_runV (q := 6) (As := [.int (zI 0)]) (rest := []) C (ct_X2_goesDay (zl X) G m0 m1 m2 m3 m4 r hm at_ (goL kd fg hm at_ oa n k lg) n oa mdy1 LP hk hf kd fg 0 (by first | assumption | omega) (hL.go k) (by omega)) (lw_V q649 q492 q493 q59 q494) rfl rfl (sb_m [6, 7, 8, 9, 10] rfl rfl) (na := 1) (by decide +kernel) rfl (zrm rfl rfl (rfl) (rfl)) rfl (Nat.le_of_ble_eq_true rfl) dX1_judge_71) (fun u => jn_m (Lr := [(x, .inr (10, [.ref a0, .ref b0, .ref m0, .int (zI im), .ref tl, .ref le, .int (zI fw), .int (zI fh), .int (zI lo), .ref sh])), (a0, .inr (8, [.ref a1, .ref a2, .ref a3, .ref a4, .int (zI (n : Int)), .int (zI oa), .int (zI dy)])), (a1, AQ G 4 7 r), (a2, AI G 7 hm), (a3, AI G 7 at_), (a4, AI G 7 lg), (sh, AQ G 7 8 sf), ((ra e), RWc G (rs e) (rm e) (rowF rw_ e))]) [6, 7, 8, 9, 10] [0, 1, 2, 3, 4, 5, 11, 12] [0, 1, 2, 3, 4, 5, 8, 9, 10, 11, 12, 6, 7] rfl rfl rfl (by decide) rfl rfl rfl) (fun u hp_71 => ?_)
            rw [show dayB 0 kd fg hm at_ oa n (goL kd fg hm at_ oa n k lg) = goL kd fg hm at_ oa n (k + 1) lg from rfl]
            refine y_iinc (lv' := [(4, .int (zI ((k : Int) + 1))), (3, .ref (ra e)), (0, .ref x), (1, .int (zI (e : Int)))]) C dX1_judge_74 (q := 0) rfl (nlt rfl) rfl ?_
            refine z_goto (tgt := 29) C dX1_judge_77 (by decide) ?_
            exact ih_29 _ (by omega) (k + 1) (mdy1 + 1) (by first | assumption | omega) (fun q hq => by
              rcases Nat.lt_succ_iff_lt_or_eq.mp hq with c | c
              · exact hno q c
              · subst c; unfold jdP; exact decide_eq_false (fun z => z (by first | exact Or.inl (by assumption) | exact Or.inr (by omega)))) rfl
          · skip
            refine z_aload_n C dX1_judge_47 rfl 1 rfl ?_
            refine z_iload C dX1_judge_48 0 rfl ?_
            refine z_i C (z_runS (As := [.ref (ra e), .int (zI (k : Int))]) (rest := []) C (ct_X1_elementOf_s (zl X) G (rs e) (ra e) (rm e) (rowF rw_ e) k (hSe.2.2.2.1) (hSe.2.2.2.2) (by omega)) (lw_S q745 q746 q58 q747) (sb_e [12] rfl rfl) (na := 2) (by decide +kernel) rfl (zrm rfl rfl (rfl) (rfl)) rfl (Nat.le_of_ble_eq_true rfl) dX1_judge_50) (fun u => jn_ro (sb_e [12] rfl rfl)) (fun r_50 u hp_50 => ?_)
            have hp_50 : r_50 = zI ((rowF rw_ e) k) := hp_50
            subst hp_50
            refine z_aload_n C dX1_judge_53 rfl 2 rfl ?_
            refine z_get (q := 0) (kf := 2) (v := .ref m0) C rfl rfl in_X1 (by decide) q882 (Or.inl rfl) rfl dX1_judge_54 ?_
            refine z_i C (z_runV (q := 6) (As := []) (rest := [.int (zI ((rowF rw_ e) k))]) C (ct_X2_allLonging (zl X) G m0 m1 m2 m3 m4 (goL kd fg hm at_ oa n k lg) n oa mdy1 (by first | assumption | omega)) (lw_V q597 q598 q599 q59 q600) rfl rfl (sb_e [6, 10] rfl rfl) (na := 0) (by decide +kernel) rfl (zrm rfl rfl (rfl) (rfl)) rfl (Nat.le_of_ble_eq_true rfl) dX1_judge_57) (fun u => jn_ro (sb_e [6, 10] rfl rfl)) (fun r_57 u hp_57 => ?_)
            have hp_57 : r_57 = zI (sumL (goL kd fg hm at_ oa n k lg) n) := hp_57
            subst hp_57
            refine y_icmp_eq (tgt := 66) C (by omega) (by omega) dX1_judge_60 (by decide) (fun c_60 => ?_) (fun c_60 => ?_)
            · skip
              refine z_aload_n C dX1_judge_66 rfl 2 rfl ?_
              refine z_get (q := 0) (kf := 2) (v := .ref m0) C rfl rfl in_X1 (by decide) q882 (Or.inl rfl) rfl dX1_judge_67 ?_
              refine y_iconst C dX1_judge_70 ?_
              refine z_v (ws' := fun u => ([(x, .inr (10, [.ref a0, .ref b0, .ref m0, .int (zI im), .ref tl, .ref le, .int (zI fw), .int (zI fh), .int (zI lo), .ref sh])), (a0, .inr (8, [.ref a1, .ref a2, .ref a3, .ref a4, .int (zI (n : Int)), .int (zI oa), .int (zI dy)])), (a1, AQ G 4 7 r), (a2, AI G 7 hm), (a3, AI G 7 at_), (a4, AI G 7 lg), (m0, .inr (8, [.ref m1, .ref m2, .ref m3, .ref m4, .int (zI (n : Int)), .int (zI oa), .int (zI (mdy1 + 1))])), (m1, AQ G 4 7 r), (m2, AI G 7 hm), (m3, AI G 7 at_), (m4, AI G 7 (dayB 0 kd fg hm at_ oa n (goL kd fg hm at_ oa n k lg))), (sh, AQ G 7 8 sf), ((ra e), RWc G (rs e) (rm e) (rowF rw_ e))] ++ ((A_ ++ B_) ++ PL LP hk hf))) C (z_runV (q := 6) (As := [.int (zI 0)]) (rest := []) C (ct_X2_goesDay (zl X) G m0 m1 m2 m3 m4 r hm at_ (goL kd fg hm at_ oa n k lg) n oa mdy1 LP hk hf kd fg 0 (by first | assumption | omega) (hL.go k) (by omega)) (lw_V q649 q492 q493 q59 q494) rfl rfl (sb_m [6, 7, 8, 9, 10] rfl rfl) (na := 1) (by decide +kernel) rfl (zrm rfl rfl (rfl) (rfl)) rfl (Nat.le_of_ble_eq_true rfl) dX1_judge_71) (fun u => jn_m (Lr := [(x, .inr (10, [.ref a0, .ref b0, .ref m0, .int (zI im), .ref tl, .ref le, .int (zI fw), .int (zI fh), .int (zI lo), .ref sh])), (a0, .inr (8, [.ref a1, .ref a2, .ref a3, .ref a4, .int (zI (n : Int)), .int (zI oa), .int (zI dy)])), (a1, AQ G 4 7 r), (a2, AI G 7 hm), (a3, AI G 7 at_), (a4, AI G 7 lg), (sh, AQ G 7 8 sf), ((ra e), RWc G (rs e) (rm e) (rowF rw_ e))]) [6, 7, 8, 9, 10] [0, 1, 2, 3, 4, 5, 11, 12] [0, 1, 2, 3, 4, 5, 8, 9, 10, 11, 12, 6, 7] rfl rfl rfl (by decide) rfl rfl rfl) (fun u hp_71 => ?_)
              rw [show dayB 0 kd fg hm at_ oa n (goL kd fg hm at_ oa n k lg) = goL kd fg hm at_ oa n (k + 1) lg from rfl]
              refine y_iinc (lv' := [(4, .int (zI ((k : Int) + 1))), (3, .ref (ra e)), (0, .ref x), (1, .int (zI (e : Int)))]) C dX1_judge_74 (q := 0) rfl (nlt rfl) rfl ?_
              refine z_goto (tgt := 29) C dX1_judge_77 (by decide) ?_
              exact ih_29 _ (by omega) (k + 1) (mdy1 + 1) (by first | assumption | omega) (fun q hq => by
                rcases Nat.lt_succ_iff_lt_or_eq.mp hq with c | c
                · exact hno q c
                · subst c; unfold jdP; exact decide_eq_false (fun z => z (by first | exact Or.inl (by assumption) | exact Or.inr (by omega)))) rfl
            · skip
              refine z_iload C dX1_judge_63 0 rfl ?_
              refine z_rowIn (L := [(x, .inr (10, [.ref a0, .ref b0, .ref m0, .int (zI im), .ref tl, .ref le, .int (zI fw), .int (zI fh), .int (zI lo), .ref sh])), (a0, .inr (8, [.ref a1, .ref a2, .ref a3, .ref a4, .int (zI (n : Int)), .int (zI oa), .int (zI dy)])), (a1, AQ G 4 7 r), (a2, AI G 7 hm), (a3, AI G 7 at_), (a4, AI G 7 lg), (m0, .inr (8, [.ref m1, .ref m2, .ref m3, .ref m4, .int (zI (n : Int)), .int (zI oa), .int (zI mdy1)])), (m1, AQ G 4 7 r), (m2, AI G 7 hm), (m3, AI G 7 at_), (m4, AI G 7 (goL kd fg hm at_ oa n k lg)), (sh, AQ G 7 8 sf)]) hSe.2.2.2.2 hAB ?_
              exact z_iret C hA hQ rfl (Nat.le_of_ble_eq_true rfl) (Nat.le_of_ble_eq_true rfl) ((r, hm, at_, (goL kd fg hm at_ oa n k lg), n, oa, mdy1)) (congrArg zI (by unfold oJudge; rw [if_neg (by omega)]; simp only [zTN]; exact (firstF_at hno (i := k) (by unfold jdP; exact decide_eq_true (fun z => by rcases z with z | z; contradiction; omega)) (by omega)).symm)) (sb_p [0, 1, 2, 3, 4, 5, 6, 7, 8, 9, 10, 11] rfl rfl) dX1_judge_65
    refine z_lv (lv' := [(4, .int (zI 0)), (3, .ref (ra e)), (0, .ref x), (1, .int (zI (e : Int)))]) [0, 1, 3, 4] rfl ?_
    exact L_29 _ 0 dy (by first | assumption | omega) (fun q hq => absurd hq (Nat.not_lt_zero q)) rfl
  · skip
    refine z_iload_n C dX1_judge_10 rfl 0 rfl ?_
    exact z_iret C hA hQ rfl (Nat.le_of_ble_eq_true rfl) (Nat.le_of_ble_eq_true rfl) ((mr, mhm, mat, mlg, mn, moa, mdy)) (congrArg zI (by unfold oJudge; rw [if_pos (by omega)])) (sb_p [0, 1, 2, 3, 4, 5, 6, 7, 8, 9, 10, 11] rfl rfl) dX1_judge_11

set_option maxHeartbeats 4000000 in
theorem ct_X1_forged (l : Launch) (G : ZG) (x : Nat) (b0 : Nat) (m0 : Nat) (tl : Nat) (le : Nat) (sh : Nat) (im : Int) (fw : Int) (fh : Int) (lo : Int) (a0 : Nat) (a1 : Nat) (a2 : Nat) (a3 : Nat) (a4 : Nat) (m1 : Nat) (m2 : Nat) (m3 : Nat) (m4 : Nat) (r : Nat → Option Nat) (hm : Nat → Int) (at_ : Nat → Int) (lg : Nat → Int) (n : Nat) (oa : Int) (dy : Int) (mr : Nat → Option Nat) (mhm : Nat → Int) (mat : Nat → Int) (mlg : Nat → Int) (mn : Nat) (moa : Int) (mdy : Int) (LP : List Nat) (hk : Nat → Nat) (hf : Nat → Int) (kd : Nat → Nat) (fg : Nat → Int) (sa : Nat → Nat) (ha : Nat → Nat) (ra : Nat → Nat) (sf : Nat → Option Nat) (hw : Nat → Nat) (kk : Nat → Nat) (rs : Nat → Nat) (rm : Nat → Nat) (kf : Nat → Int) (rw_ : Nat → Int) (d : Int) (hH : HR LP hk hf r n kd fg) (hL : LK n kd fg hm at_ lg oa) (hK : PK LP hk hf) (hV : RV LP r) (hS : SK hw kk rs rm kf rw_) (hsf : ∀ q, q < 8 → sf q = some (sa q)) (hKH : KH LP hk hf ha hw kk kf) (rd : -2147483648 ≤ d ∧ d ≤ 2147483647) : CT l yX1_forged cX1_forged 8 (some .int) { frames := 8, cells := 0, slots := 0, locals := 166 } G [.ref x, .int (zI d)] ([(x, .inr (10, [.ref a0, .ref b0, .ref m0, .int (zI im), .ref tl, .ref le, .int (zI fw), .int (zI fh), .int (zI lo), .ref sh])), (a0, .inr (8, [.ref a1, .ref a2, .ref a3, .ref a4, .int (zI (n : Int)), .int (zI oa), .int (zI dy)])), (a1, AQ G 4 7 r), (a2, AI G 7 hm), (a3, AI G 7 at_), (a4, AI G 7 lg), (m0, .inr (8, [.ref m1, .ref m2, .ref m3, .ref m4, .int (zI (mn : Int)), .int (zI moa), .int (zI mdy)])), (m1, AQ G 4 7 mr), (m2, AI G 7 mhm), (m3, AI G 7 mat), (m4, AI G 7 mlg), (sh, AQ G 7 8 sf)] ++ (SW G sa ha ra hw rs rm rw_ ++ PL LP hk hf)) (Qi G ([(x, .inr (10, [.ref a0, .ref b0, .ref m0, .int (zI im), .ref tl, .ref le, .int (zI fw), .int (zI fh), .int (zI lo), .ref sh])), (a0, .inr (8, [.ref a1, .ref a2, .ref a3, .ref a4, .int (zI (n : Int)), .int (zI oa), .int (zI dy)])), (a1, AQ G 4 7 r), (a2, AI G 7 hm), (a3, AI G 7 at_), (a4, AI G 7 lg), (m0, .inr (8, [.ref m1, .ref m2, .ref m3, .ref m4, .int (zI (mn : Int)), .int (zI moa), .int (zI mdy)])), (m1, AQ G 4 7 mr), (m2, AI G 7 mhm), (m3, AI G 7 mat), (m4, AI G 7 mlg), (sh, AQ G 7 8 sf)] ++ (SW G sa ha ra hw rs rm rw_ ++ PL LP hk hf)) (fun (r : Int32) (u : (Nat → Option Nat) × (Nat → Int) × (Nat → Int) × (Nat → Int) × Nat × Int × Int) => r = zI (oForged kd fg hm at_ lg n oa hw kk rs rm kf rw_ d)) (fun u => ([(x, .inr (10, [.ref a0, .ref b0, .ref m0, .int (zI im), .ref tl, .ref le, .int (zI fw), .int (zI fh), .int (zI lo), .ref sh])), (a0, .inr (8, [.ref a1, .ref a2, .ref a3, .ref a4, .int (zI (n : Int)), .int (zI oa), .int (zI dy)])), (a1, AQ G 4 7 r), (a2, AI G 7 hm), (a3, AI G 7 at_), (a4, AI G 7 lg), (m0, .inr (8, [.ref m1, .ref m2, .ref m3, .ref m4, .int (zI (u.2.2.2.2.1 : Int)), .int (zI u.2.2.2.2.2.1), .int (zI u.2.2.2.2.2.2)])), (m1, AQ G 4 7 u.1), (m2, AI G 7 u.2.1), (m3, AI G 7 u.2.2.1), (m4, AI G 7 u.2.2.2.1), (sh, AQ G 7 8 sf)] ++ (SW G sa ha ra hw rs rm rw_ ++ PL LP hk hf)))) := by
  refine z_met (by decide) (Nat.le_of_ble_eq_true rfl) ?_
  intro X A hl0 hA C hQ hin
  subst hl0
  obtain ⟨hn7, hoa, hLj⟩ := id hL
  show Z X _ G 0 0 _ 0 [(0, .ref x), (1, .int (zI d))] []
  refine z_aload_n C dX1_forged_0 rfl 0 rfl ?_
  refine z_iload_n C dX1_forged_1 rfl 1 rfl ?_
  refine z_i C (z_runV (q := 0) (As := [.int (zI d)]) (rest := []) C (ct_X1_notRow (zl X) G x b0 m0 tl le sh im fw fh lo a0 sa ha ra sf hw kk rs rm kf rw_ LP hk hf d (by first | assumption | omega) (by first | assumption | omega) (by first | assumption | omega) (by first | assumption | omega) (by first | assumption | omega)) (lw_V q726 q728 qs18 q58 q729) rfl rfl (sb_p [0, 11] rfl rfl) (na := 1) (by decide +kernel) rfl (zrm rfl rfl (rfl) (rfl)) rfl (Nat.le_of_ble_eq_true rfl) dX1_forged_2) (fun u => jn_ro (sb_p [0, 11] rfl rfl)) (fun r_2 u hp_2 => ?_)
  have hp_2 : r_2 = zI (wrZ hw d) := hp_2
  subst hp_2
  have hwr := wrZ_r hw d
  refine z_istore_n (lv' := [(2, .int (zI (wrZ hw d))), (0, .ref x), (1, .int (zI d))]) C dX1_forged_5 rfl (nlt rfl) rfl ?_
  refine z_iload_n C dX1_forged_6 rfl 0 rfl ?_
  refine y_if_eq (tgt := 12) C (by omega) dX1_forged_7 (by decide) (fun c_7 => ?_) (fun c_7 => ?_)
  · skip
    obtain ⟨hd1, hd2⟩ := wrZ_0 (hw := hw) (d := d) (by omega)
    obtain ⟨e, rfl⟩ := Int.eq_ofNat_of_zero_le (show 0 ≤ d by omega)
    simp only [zTN] at hd2
    obtain ⟨hS1, hS2⟩ := id hS
    have hSe := hS1 e (by omega)
    have he8 : e < 8 := by omega
    have hwe : hw e = 2 := hd2
    refine z_aload_n C dX1_forged_12 rfl 1 rfl ?_
    refine z_get (q := 0) (kf := 9) (v := .ref sh) C rfl rfl in_X1 (by decide) q889 (Or.inl rfl) rfl dX1_forged_13 ?_
    refine z_iload_n C dX1_forged_16 rfl 2 rfl ?_
    refine y_aldq (q := 11) (t0 := 7) (v := .ref (sa e)) C rfl rfl (by omega) (by decide) (by show va_rf (sf e) = _; rw [hsf e he8]; rfl) dX1_forged_17 ?_
    refine z_get (kf := 0) (v := hvF hw ha ra e) C (sw_at (L := [(x, .inr (10, [.ref a0, .ref b0, .ref m0, .int (zI im), .ref tl, .ref le, .int (zI fw), .int (zI fh), .int (zI lo), .ref sh])), (a0, .inr (8, [.ref a1, .ref a2, .ref a3, .ref a4, .int (zI (n : Int)), .int (zI oa), .int (zI dy)])), (a1, AQ G 4 7 r), (a2, AI G 7 hm), (a3, AI G 7 at_), (a4, AI G 7 lg), (m0, .inr (8, [.ref m1, .ref m2, .ref m3, .ref m4, .int (zI (mn : Int)), .int (zI moa), .int (zI mdy)])), (m1, AQ G 4 7 mr), (m2, AI G 7 mhm), (m3, AI G 7 mat), (m4, AI G 7 mlg), (sh, AQ G 7 8 sf)]) (d := e) he8) rfl in_X3 (by decide) q876 (Or.inl rfl) rfl dX1_forged_18 ?_
    rw [show hvF hw ha ra e = .ref (ra e) from hvF_2 hwe]
    refine z_rowOut (L := [(x, .inr (10, [.ref a0, .ref b0, .ref m0, .int (zI im), .ref tl, .ref le, .int (zI fw), .int (zI fh), .int (zI lo), .ref sh])), (a0, .inr (8, [.ref a1, .ref a2, .ref a3, .ref a4, .int (zI (n : Int)), .int (zI oa), .int (zI dy)])), (a1, AQ G 4 7 r), (a2, AI G 7 hm), (a3, AI G 7 at_), (a4, AI G 7 lg), (m0, .inr (8, [.ref m1, .ref m2, .ref m3, .ref m4, .int (zI (mn : Int)), .int (zI moa), .int (zI mdy)])), (m1, AQ G 4 7 mr), (m2, AI G 7 mhm), (m3, AI G 7 mat), (m4, AI G 7 mlg), (sh, AQ G 7 8 sf)]) he8 hwe hSe.2.2.2.2 (fun A_ B_ hAB hcg => ?_)
    refine z_wsEq (ws' := ([(x, .inr (10, [.ref a0, .ref b0, .ref m0, .int (zI im), .ref tl, .ref le, .int (zI fw), .int (zI fh), .int (zI lo), .ref sh])), (a0, .inr (8, [.ref a1, .ref a2, .ref a3, .ref a4, .int (zI (n : Int)), .int (zI oa), .int (zI dy)])), (a1, AQ G 4 7 r), (a2, AI G 7 hm), (a3, AI G 7 at_), (a4, AI G 7 lg), (m0, .inr (8, [.ref m1, .ref m2, .ref m3, .ref m4, .int (zI (mn : Int)), .int (zI moa), .int (zI mdy)])), (m1, AQ G 4 7 mr), (m2, AI G 7 mhm), (m3, AI G 7 mat), (m4, AI G 7 mlg), (sh, AQ G 7 8 sf), ((ra e), RWc G (rs e) (rm e) (rowF rw_ e))] ++ ((A_ ++ B_) ++ PL LP hk hf))) rfl ?_
    refine z_astore_n (lv' := [(3, .ref (ra e)), (2, .int (zI (wrZ hw (e : Int)))), (0, .ref x), (1, .int (zI (e : Int)))]) C dX1_forged_21 rfl (nlt rfl) rfl ?_
    refine z_aload_n C dX1_forged_22 rfl 0 rfl ?_
    refine z_i C (z_runS (As := [.ref (ra e)]) (rest := []) C (ct_X1_sizeOf_s (zl X) G (rs e) (ra e) (rm e) (rowF rw_ e) (hSe.2.2.2.1) (hSe.2.2.2.2)) (lw_S q739 q740 q58 q741) (sb_e [12] rfl rfl) (na := 1) (by decide +kernel) rfl (zrm rfl rfl (rfl) (rfl)) rfl (Nat.le_of_ble_eq_true rfl) dX1_forged_23) (fun u => jn_ro (sb_e [12] rfl rfl)) (fun r_23 u hp_23 => ?_)
    have hp_23 : r_23 = zI ((rm e) : Int) := hp_23
    subst hp_23
    refine y_iconst C dX1_forged_26 ?_
    refine y_irem C (by omega) (by omega) dX1_forged_27 ?_
    refine y_iconst C dX1_forged_28 ?_
    refine y_icmp_ne (tgt := 35) C (by omega) (by omega) dX1_forged_29 (by decide) (fun c_29 => ?_) (fun c_29 => ?_)
    · skip
      refine z_aload_n C dX1_forged_35 rfl 2 rfl ?_
      refine z_v (ws' := fun u => ([(x, .inr (10, [.ref a0, .ref b0, .ref m0, .int (zI im), .ref tl, .ref le, .int (zI fw), .int (zI fh), .int (zI lo), .ref sh])), (a0, .inr (8, [.ref a1, .ref a2, .ref a3, .ref a4, .int (zI (n : Int)), .int (zI oa), .int (zI dy)])), (a1, AQ G 4 7 r), (a2, AI G 7 hm), (a3, AI G 7 at_), (a4, AI G 7 lg), (m0, .inr (8, [.ref m1, .ref m2, .ref m3, .ref m4, .int (zI (n : Int)), .int (zI oa), .int (zI dy)])), (m1, AQ G 4 7 r), (m2, AI G 7 hm), (m3, AI G 7 at_), (m4, AI G 7 lg), (sh, AQ G 7 8 sf), ((ra e), RWc G (rs e) (rm e) (rowF rw_ e))] ++ ((A_ ++ B_) ++ PL LP hk hf))) C (z_runV (q := 0) (As := []) (rest := []) C (ct_X1_minds (zl X) G x b0 m0 tl le sh im fw fh lo a0 a1 a2 a3 a4 m1 m2 m3 m4 r hm at_ lg n oa dy mr mhm mat mlg mn moa mdy LP hk hf kd fg (by first | assumption | omega) (by first | assumption | omega)) (lw_V q577 q579 qs12 q58 q580) rfl rfl (sb_m [0, 1, 2, 3, 4, 5, 6, 7, 8, 9, 10] rfl rfl) (na := 0) (by decide +kernel) rfl (zrm rfl rfl (rfl) (rfl)) rfl (Nat.le_of_ble_eq_true rfl) dX1_forged_36) (fun u => jn_m (Lr := [(sh, AQ G 7 8 sf), ((ra e), RWc G (rs e) (rm e) (rowF rw_ e))]) [0, 1, 2, 3, 4, 5, 6, 7, 8, 9, 10] [11, 12] [2, 3, 4, 5, 6, 7, 8, 9, 10, 11, 12, 0, 1] rfl rfl rfl (by decide) rfl rfl rfl) (fun u hp_36 => ?_)
      refine y_bipush C dX1_forged_39 (by decide) ?_
      refine z_istore (lv' := [(4, .int (zI (-4))), (3, .ref (ra e)), (2, .int (zI (wrZ hw (e : Int)))), (0, .ref x), (1, .int (zI (e : Int)))]) C dX1_forged_41 (nlt rfl) rfl ?_
      refine y_iconst C dX1_forged_43 ?_
      refine z_istore (lv' := [(5, .int (zI 0)), (4, .int (zI (-4))), (3, .ref (ra e)), (2, .int (zI (wrZ hw (e : Int)))), (0, .ref x), (1, .int (zI (e : Int)))]) C dX1_forged_44 (nlt rfl) rfl ?_
      have L_46 : ∀ (tt : Nat) (k : Nat) (plc : Int) (plq : Int) (at1 : Nat → Int) (lg1 : Nat → Int) (mdy1 : Int), (k ≤ rm e / 2) → (fgR (rowF rw_ e) kd fg hm oa n at_ lg k = (plq, at1, lg1)) → (LK n kd fg hm at1 lg1 oa) → ((0 < k → plc = plq) ∧ -4 ≤ plc ∧ plc ≤ 20) → (∀ q, q < k → (fgP (rowF rw_ e) kd fg hm at_ lg n oa) q = false) → rm e - k = tt → Z X (cX1_forged, 8, yX1_forged.cls, (some .int), { frames := 8, cells := 0, slots := 0, locals := 166 }, A) G 0 0 ([(x, .inr (10, [.ref a0, .ref b0, .ref m0, .int (zI im), .ref tl, .ref le, .int (zI fw), .int (zI fh), .int (zI lo), .ref sh])), (a0, .inr (8, [.ref a1, .ref a2, .ref a3, .ref a4, .int (zI (n : Int)), .int (zI oa), .int (zI dy)])), (a1, AQ G 4 7 r), (a2, AI G 7 hm), (a3, AI G 7 at_), (a4, AI G 7 lg), (m0, .inr (8, [.ref m1, .ref m2, .ref m3, .ref m4, .int (zI (n : Int)), .int (zI oa), .int (zI mdy1)])), (m1, AQ G 4 7 r), (m2, AI G 7 hm), (m3, AI G 7 at1), (m4, AI G 7 lg1), (sh, AQ G 7 8 sf), ((ra e), RWc G (rs e) (rm e) (rowF rw_ e))] ++ ((A_ ++ B_) ++ PL LP hk hf)) 46 [(5, .int (zI (k : Int))), (4, .int (zI plc)), (3, .ref (ra e)), (0, .ref x), (1, .int (zI (e : Int)))] [] := by
        intro tt
        induction tt using Nat.strongRecOn with
        | _ tt ih_46 =>
          intro k plc plq at1 lg1 mdy1 hk0 hsq hL1 hpc hno ht_46
          have hr1 : -2147483648 ≤ rowF rw_ e (2 * k) ∧ rowF rw_ e (2 * k) ≤ 2147483647 := hS2 (100 * e + 2 * k)
          have hr2 : -2147483648 ≤ rowF rw_ e (2 * k + 1) ∧ rowF rw_ e (2 * k + 1) ≤ 2147483647 := hS2 (100 * e + (2 * k + 1))
          refine y_iconst C dX1_forged_46 ?_
          refine z_iload C dX1_forged_47 0 rfl ?_
          refine y_imul C dX1_forged_49 ?_
          refine z_aload_n C dX1_forged_50 rfl 2 rfl ?_
          refine z_i C (z_runS (As := [.ref (ra e)]) (rest := [.int (zI (2 * (k : Int)))]) C (ct_X1_sizeOf_s (zl X) G (rs e) (ra e) (rm e) (rowF rw_ e) (hSe.2.2.2.1) (hSe.2.2.2.2)) (lw_S q739 q740 q58 q741) (sb_e [12] rfl rfl) (na := 1) (by decide +kernel) rfl (zrm rfl rfl (rfl) (rfl)) rfl (Nat.le_of_ble_eq_true rfl) dX1_forged_51) (fun u => jn_ro (sb_e [12] rfl rfl)) (fun r_51 u hp_51 => ?_)
          have hp_51 : r_51 = zI ((rm e) : Int) := hp_51
          subst hp_51
          refine y_icmp_ge (tgt := 144) C (by omega) (by omega) dX1_forged_54 (by decide) (fun c_54 => ?_) (fun c_54 => ?_)
          · skip
            refine y_bipush C dX1_forged_144 (by decide) ?_
            refine z_rowIn (L := [(x, .inr (10, [.ref a0, .ref b0, .ref m0, .int (zI im), .ref tl, .ref le, .int (zI fw), .int (zI fh), .int (zI lo), .ref sh])), (a0, .inr (8, [.ref a1, .ref a2, .ref a3, .ref a4, .int (zI (n : Int)), .int (zI oa), .int (zI dy)])), (a1, AQ G 4 7 r), (a2, AI G 7 hm), (a3, AI G 7 at_), (a4, AI G 7 lg), (m0, .inr (8, [.ref m1, .ref m2, .ref m3, .ref m4, .int (zI (n : Int)), .int (zI oa), .int (zI mdy1)])), (m1, AQ G 4 7 r), (m2, AI G 7 hm), (m3, AI G 7 at1), (m4, AI G 7 lg1), (sh, AQ G 7 8 sf)]) hSe.2.2.2.2 hAB ?_
            rw [show k = rm e / 2 by omega] at hno
            exact z_iret C hA hQ rfl (Nat.le_of_ble_eq_true rfl) (Nat.le_of_ble_eq_true rfl) ((r, hm, at1, lg1, n, oa, mdy1)) (congrArg zI (by unfold oForged; rw [if_neg (by omega)]; simp only [zTN]; rw [if_neg (by omega)]; exact (firstF_no hno).symm)) (sb_p [0, 1, 2, 3, 4, 5, 6, 7, 8, 9, 10, 11] rfl rfl) dX1_forged_146
          · skip
            refine z_aload_n C dX1_forged_57 rfl 2 rfl ?_
            refine y_iconst C dX1_forged_58 ?_
            refine z_iload C dX1_forged_59 0 rfl ?_
            refine y_imul C dX1_forged_61 ?_
            rw [show (2 * (k : Int) : Int) = ((2 * k : Nat) : Int) by omega]
            refine z_i C (z_runS (As := [.ref (ra e), .int (zI ((2 * k : Nat) : Int))]) (rest := []) C (ct_X1_elementOf_s (zl X) G (rs e) (ra e) (rm e) (rowF rw_ e) (2 * k : Nat) (hSe.2.2.2.1) (hSe.2.2.2.2) (by omega)) (lw_S q745 q746 q58 q747) (sb_e [12] rfl rfl) (na := 2) (by decide +kernel) rfl (zrm rfl rfl (rfl) (rfl)) rfl (Nat.le_of_ble_eq_true rfl) dX1_forged_62) (fun u => jn_ro (sb_e [12] rfl rfl)) (fun r_62 u hp_62 => ?_)
            have hp_62 : r_62 = zI ((rowF rw_ e) (2 * k : Nat)) := hp_62
            subst hp_62
            refine z_istore (lv' := [(6, .int (zI ((rowF rw_ e) (2 * k : Nat)))), (5, .int (zI (k : Int))), (4, .int (zI plc)), (3, .ref (ra e)), (0, .ref x), (1, .int (zI (e : Int)))]) C dX1_forged_65 (nlt rfl) rfl ?_
            refine z_aload_n C dX1_forged_67 rfl 3 rfl ?_
            refine y_iconst C dX1_forged_68 ?_
            refine z_iload C dX1_forged_69 1 rfl ?_
            refine y_imul C dX1_forged_71 ?_
            refine y_iconst C dX1_forged_72 ?_
            refine y_iadd C dX1_forged_73 ?_
            rw [show ((2 * (k : Int)) + 1 : Int) = ((2 * k + 1 : Nat) : Int) by omega]
            refine z_i C (z_runS (As := [.ref (ra e), .int (zI ((2 * k + 1 : Nat) : Int))]) (rest := []) C (ct_X1_elementOf_s (zl X) G (rs e) (ra e) (rm e) (rowF rw_ e) (2 * k + 1 : Nat) (hSe.2.2.2.1) (hSe.2.2.2.2) (by omega)) (lw_S q745 q746 q58 q747) (sb_e [12] rfl rfl) (na := 2) (by decide +kernel) rfl (zrm rfl rfl (rfl) (rfl)) rfl (Nat.le_of_ble_eq_true rfl) dX1_forged_74) (fun u => jn_ro (sb_e [12] rfl rfl)) (fun r_74 u hp_74 => ?_)
            have hp_74 : r_74 = zI ((rowF rw_ e) (2 * k + 1 : Nat)) := hp_74
            subst hp_74
            refine z_istore (lv' := [(7, .int (zI ((rowF rw_ e) (2 * k + 1 : Nat)))), (6, .int (zI ((rowF rw_ e) (2 * k : Nat)))), (5, .int (zI (k : Int))), (4, .int (zI plc)), (3, .ref (ra e)), (0, .ref x), (1, .int (zI (e : Int)))]) C dX1_forged_77 (nlt rfl) rfl ?_
            obtain ⟨hv, ehv⟩ : ∃ z, z = rowF rw_ e (2 * k) := ⟨_, rfl⟩
            obtain ⟨yv, eyv⟩ : ∃ z, z = rowF rw_ e (2 * k + 1) := ⟨_, rfl⟩
            rw [← ehv] at hr1
            rw [← eyv] at hr2
            rw [← ehv, ← eyv]
            have hfe := fgP_e hsq ehv eyv
            refine z_aload_n C dX1_forged_79 rfl 5 rfl ?_
            refine z_get (q := 0) (kf := 0) (v := .ref a0) C rfl rfl in_X1 (by decide) q880 (Or.inl rfl) rfl dX1_forged_80 ?_
            refine z_iload C dX1_forged_83 1 rfl ?_
            refine z_i C (z_runV (q := 1) (As := [.int (zI hv)]) (rest := []) C (ct_X2_isHorse (zl X) G a0 a1 a2 a3 a4 n oa dy hv (by first | assumption | omega) (by first | assumption | omega)) (lw_V q388 q389 q390 q59 q391) rfl rfl (sb_e [1] rfl rfl) (na := 1) (by decide +kernel) rfl (zrm rfl rfl (rfl) (rfl)) rfl (Nat.le_of_ble_eq_true rfl) dX1_forged_85) (fun u => jn_ro (sb_e [1] rfl rfl)) (fun r_85 u hp_85 => ?_)
            have hp_85 : r_85 = zI (bI (0 ≤ hv ∧ hv ≤ (n : Int) - 1)) := hp_85
            subst hp_85
            refine y_beq (tgt := 119) C dX1_forged_88 (by decide) (fun c_88 => ?_) (fun c_88 => ?_)
            · skip
              refine z_iload C dX1_forged_119 2 rfl ?_
              refine z_rowIn (L := [(x, .inr (10, [.ref a0, .ref b0, .ref m0, .int (zI im), .ref tl, .ref le, .int (zI fw), .int (zI fh), .int (zI lo), .ref sh])), (a0, .inr (8, [.ref a1, .ref a2, .ref a3, .ref a4, .int (zI (n : Int)), .int (zI oa), .int (zI dy)])), (a1, AQ G 4 7 r), (a2, AI G 7 hm), (a3, AI G 7 at_), (a4, AI G 7 lg), (m0, .inr (8, [.ref m1, .ref m2, .ref m3, .ref m4, .int (zI (n : Int)), .int (zI oa), .int (zI mdy1)])), (m1, AQ G 4 7 r), (m2, AI G 7 hm), (m3, AI G 7 at1), (m4, AI G 7 lg1), (sh, AQ G 7 8 sf)]) hSe.2.2.2.2 hAB ?_
              exact z_iret C hA hQ rfl (Nat.le_of_ble_eq_true rfl) (Nat.le_of_ble_eq_true rfl) ((r, hm, at1, lg1, n, oa, mdy1)) (congrArg zI (by unfold oForged; rw [if_neg (by omega)]; simp only [zTN]; rw [if_neg (by omega)]; exact (firstF_at hno (i := k) (hfe.2 (by omega)) (by omega)).symm)) (sb_p [0, 1, 2, 3, 4, 5, 6, 7, 8, 9, 10, 11] rfl rfl) dX1_forged_121
            · skip
              refine z_iload C dX1_forged_91 0 rfl ?_
              refine z_i C (z_runS (As := [.int (zI yv)]) (rest := []) C (ct_X1_isYard (zl X) G yv (by first | assumption | omega)) (lw_S q303 q304 q58 q305) (sb_e [] rfl rfl) (na := 1) (by decide +kernel) rfl (zrm rfl rfl (rfl) (rfl)) rfl (Nat.le_of_ble_eq_true rfl) dX1_forged_93) (fun u => jn_ro (sb_e [] rfl rfl)) (fun r_93 u hp_93 => ?_)
              have hp_93 : r_93 = zI (bI (0 ≤ yv ∧ yv ≤ 20)) := hp_93
              subst hp_93
              refine y_beq (tgt := 119) C dX1_forged_96 (by decide) (fun c_96 => ?_) (fun c_96 => ?_)
              · skip
                refine z_iload C dX1_forged_119 2 rfl ?_
                refine z_rowIn (L := [(x, .inr (10, [.ref a0, .ref b0, .ref m0, .int (zI im), .ref tl, .ref le, .int (zI fw), .int (zI fh), .int (zI lo), .ref sh])), (a0, .inr (8, [.ref a1, .ref a2, .ref a3, .ref a4, .int (zI (n : Int)), .int (zI oa), .int (zI dy)])), (a1, AQ G 4 7 r), (a2, AI G 7 hm), (a3, AI G 7 at_), (a4, AI G 7 lg), (m0, .inr (8, [.ref m1, .ref m2, .ref m3, .ref m4, .int (zI (n : Int)), .int (zI oa), .int (zI mdy1)])), (m1, AQ G 4 7 r), (m2, AI G 7 hm), (m3, AI G 7 at1), (m4, AI G 7 lg1), (sh, AQ G 7 8 sf)]) hSe.2.2.2.2 hAB ?_
                exact z_iret C hA hQ rfl (Nat.le_of_ble_eq_true rfl) (Nat.le_of_ble_eq_true rfl) ((r, hm, at1, lg1, n, oa, mdy1)) (congrArg zI (by unfold oForged; rw [if_neg (by omega)]; simp only [zTN]; rw [if_neg (by omega)]; exact (firstF_at hno (i := k) (hfe.2 (by omega)) (by omega)).symm)) (sb_p [0, 1, 2, 3, 4, 5, 6, 7, 8, 9, 10, 11] rfl rfl) dX1_forged_121
              · skip
                refine z_iload C dX1_forged_99 2 rfl ?_
                refine y_if_le (tgt := 122) C (by omega) dX1_forged_101 (by decide) (fun c_101 => ?_) (fun c_101 => ?_)
                · skip
                  obtain ⟨hN, rfl⟩ := Int.eq_ofNat_of_zero_le (show 0 ≤ hv by omega)
                  simp only [zTN] at hfe
                  refine z_aload_n C dX1_forged_122 rfl 5 rfl ?_
                  refine z_get (q := 0) (kf := 2) (v := .ref m0) C rfl rfl in_X1 (by decide) q882 (Or.inl rfl) rfl dX1_forged_123 ?_
                  refine z_iload C dX1_forged_126 1 rfl ?_
                  refine z_iload C dX1_forged_128 0 rfl ?_
                  refine z_i (ws' := fun u => ([(x, .inr (10, [.ref a0, .ref b0, .ref m0, .int (zI im), .ref tl, .ref le, .int (zI fw), .int (zI fh), .int (zI lo), .ref sh])), (a0, .inr (8, [.ref a1, .ref a2, .ref a3, .ref a4, .int (zI (n : Int)), .int (zI oa), .int (zI dy)])), (a1, AQ G 4 7 r), (a2, AI G 7 hm), (a3, AI G 7 at_), (a4, AI G 7 lg), (m0, .inr (8, [.ref m1, .ref m2, .ref m3, .ref m4, .int (zI (n : Int)), .int (zI oa), .int (zI (mdy1 + ((rdN kd fg hm oa n hN yv at1 lg1) : Int)))])), (m1, AQ G 4 7 r), (m2, AI G 7 hm), (m3, AI G 7 (rdA kd fg hm oa n hN yv at1 lg1)), (m4, AI G 7 (rdL kd fg hm oa n hN yv at1 lg1)), (sh, AQ G 7 8 sf), ((ra e), RWc G (rs e) (rm e) (rowF rw_ e))] ++ ((A_ ++ B_) ++ PL LP hk hf))) C (z_runV (q := 6) (As := [.int (zI (hN : Int)), .int (zI yv)]) (rest := []) C (ct_X2_rides (zl X) G m0 m1 m2 m3 m4 r hm at1 lg1 n oa mdy1 LP hk hf kd fg hN yv (by first | assumption | omega) (hL1) (by omega) (by omega)) (lw_V q393 q394 q395 q59 q396) rfl rfl (sb_m [6, 7, 8, 9, 10] rfl rfl) (na := 2) (by decide +kernel) rfl (zrm rfl rfl (rfl) (rfl)) rfl (Nat.le_of_ble_eq_true rfl) dX1_forged_130) (fun u => jn_m (Lr := [(x, .inr (10, [.ref a0, .ref b0, .ref m0, .int (zI im), .ref tl, .ref le, .int (zI fw), .int (zI fh), .int (zI lo), .ref sh])), (a0, .inr (8, [.ref a1, .ref a2, .ref a3, .ref a4, .int (zI (n : Int)), .int (zI oa), .int (zI dy)])), (a1, AQ G 4 7 r), (a2, AI G 7 hm), (a3, AI G 7 at_), (a4, AI G 7 lg), (sh, AQ G 7 8 sf), ((ra e), RWc G (rs e) (rm e) (rowF rw_ e))]) [6, 7, 8, 9, 10] [0, 1, 2, 3, 4, 5, 11, 12] [0, 1, 2, 3, 4, 5, 8, 9, 10, 11, 12, 6, 7] rfl rfl rfl (by decide) rfl rfl rfl) (fun r_130 u hp_130 => ?_)
                  have hp_130 : r_130 = zI ((rdN kd fg hm oa n hN yv at1 lg1) : Int) := hp_130
                  subst hp_130
                  refine z_pop C dX1_forged_133 rfl ?_
                  refine z_iload C dX1_forged_134 0 rfl ?_
                  refine z_istore (lv' := [(4, .int (zI yv)), (7, .int (zI yv)), (6, .int (zI (hN : Int))), (5, .int (zI (k : Int))), (3, .ref (ra e)), (0, .ref x), (1, .int (zI (e : Int)))]) C dX1_forged_136 (nlt rfl) rfl ?_
                  refine y_iinc (lv' := [(5, .int (zI ((k : Int) + 1))), (4, .int (zI yv)), (7, .int (zI yv)), (6, .int (zI (hN : Int))), (3, .ref (ra e)), (0, .ref x), (1, .int (zI (e : Int)))]) C dX1_forged_138 (q := 3) rfl (nlt rfl) rfl ?_
                  refine z_goto (tgt := 46) C dX1_forged_141 (by decide) ?_
                  refine z_lv (lv' := [(5, .int (zI ((k : Int) + 1))), (4, .int (zI yv)), (3, .ref (ra e)), (0, .ref x), (1, .int (zI (e : Int)))]) [0, 1, 4, 5, 6] rfl ?_
                  exact ih_46 _ (by omega) (k + 1) yv yv (rdA kd fg hm oa n hN yv at1 lg1) (rdL kd fg hm oa n hN yv at1 lg1) (mdy1 + ((rdN kd fg hm oa n hN yv at1 lg1) : Int)) (by first | assumption | omega) (fgR_s hsq ehv eyv) (rd_ok hL1 (by omega) (by omega)) (⟨fun _ => rfl, by omega⟩) (fun q hq => by
                    rcases Nat.lt_succ_iff_lt_or_eq.mp hq with c | c
                    · exact hno q c
                    · subst c; exact hfe.1 ⟨by omega, by omega, by omega⟩) rfl
                · skip
                  obtain ⟨hN, rfl⟩ := Int.eq_ofNat_of_zero_le (show 0 ≤ hv by omega)
                  simp only [zTN] at hfe
                  have hh7 : hN < 7 := by omega
                  have hat7 := (hL1.2.2 hN (by omega)).2.2.2.1
                  refine z_aload_n C dX1_forged_104 rfl 5 rfl ?_
                  refine z_get (q := 0) (kf := 2) (v := .ref m0) C rfl rfl in_X1 (by decide) q882 (Or.inl rfl) rfl dX1_forged_105 ?_
                  refine z_get (q := 6) (kf := 2) (v := .ref m3) C rfl rfl in_X2 (by decide) q842 (Or.inl rfl) rfl dX1_forged_108 ?_
                  refine z_iload C dX1_forged_111 1 rfl ?_
                  refine y_iald (q := 9) (t0 := 0) (v := at1 hN) C rfl rfl (by omega) (by decide) rfl dX1_forged_113 ?_
                  refine z_iload C dX1_forged_114 3 rfl ?_
                  refine y_icmp_eq (tgt := 122) C (by omega) (by omega) dX1_forged_116 (by decide) (fun c_116 => ?_) (fun c_116 => ?_)
                  · skip
                    refine z_aload_n C dX1_forged_122 rfl 5 rfl ?_
                    refine z_get (q := 0) (kf := 2) (v := .ref m0) C rfl rfl in_X1 (by decide) q882 (Or.inl rfl) rfl dX1_forged_123 ?_
                    refine z_iload C dX1_forged_126 1 rfl ?_
                    refine z_iload C dX1_forged_128 0 rfl ?_
                    refine z_i (ws' := fun u => ([(x, .inr (10, [.ref a0, .ref b0, .ref m0, .int (zI im), .ref tl, .ref le, .int (zI fw), .int (zI fh), .int (zI lo), .ref sh])), (a0, .inr (8, [.ref a1, .ref a2, .ref a3, .ref a4, .int (zI (n : Int)), .int (zI oa), .int (zI dy)])), (a1, AQ G 4 7 r), (a2, AI G 7 hm), (a3, AI G 7 at_), (a4, AI G 7 lg), (m0, .inr (8, [.ref m1, .ref m2, .ref m3, .ref m4, .int (zI (n : Int)), .int (zI oa), .int (zI (mdy1 + ((rdN kd fg hm oa n hN yv at1 lg1) : Int)))])), (m1, AQ G 4 7 r), (m2, AI G 7 hm), (m3, AI G 7 (rdA kd fg hm oa n hN yv at1 lg1)), (m4, AI G 7 (rdL kd fg hm oa n hN yv at1 lg1)), (sh, AQ G 7 8 sf), ((ra e), RWc G (rs e) (rm e) (rowF rw_ e))] ++ ((A_ ++ B_) ++ PL LP hk hf))) C (z_runV (q := 6) (As := [.int (zI (hN : Int)), .int (zI yv)]) (rest := []) C (ct_X2_rides (zl X) G m0 m1 m2 m3 m4 r hm at1 lg1 n oa mdy1 LP hk hf kd fg hN yv (by first | assumption | omega) (hL1) (by omega) (by omega)) (lw_V q393 q394 q395 q59 q396) rfl rfl (sb_m [6, 7, 8, 9, 10] rfl rfl) (na := 2) (by decide +kernel) rfl (zrm rfl rfl (rfl) (rfl)) rfl (Nat.le_of_ble_eq_true rfl) dX1_forged_130) (fun u => jn_m (Lr := [(x, .inr (10, [.ref a0, .ref b0, .ref m0, .int (zI im), .ref tl, .ref le, .int (zI fw), .int (zI fh), .int (zI lo), .ref sh])), (a0, .inr (8, [.ref a1, .ref a2, .ref a3, .ref a4, .int (zI (n : Int)), .int (zI oa), .int (zI dy)])), (a1, AQ G 4 7 r), (a2, AI G 7 hm), (a3, AI G 7 at_), (a4, AI G 7 lg), (sh, AQ G 7 8 sf), ((ra e), RWc G (rs e) (rm e) (rowF rw_ e))]) [6, 7, 8, 9, 10] [0, 1, 2, 3, 4, 5, 11, 12] [0, 1, 2, 3, 4, 5, 8, 9, 10, 11, 12, 6, 7] rfl rfl rfl (by decide) rfl rfl rfl) (fun r_130 u hp_130 => ?_)
                    have hp_130 : r_130 = zI ((rdN kd fg hm oa n hN yv at1 lg1) : Int) := hp_130
                    subst hp_130
                    refine z_pop C dX1_forged_133 rfl ?_
                    refine z_iload C dX1_forged_134 0 rfl ?_
                    refine z_istore (lv' := [(4, .int (zI yv)), (7, .int (zI yv)), (6, .int (zI (hN : Int))), (5, .int (zI (k : Int))), (3, .ref (ra e)), (0, .ref x), (1, .int (zI (e : Int)))]) C dX1_forged_136 (nlt rfl) rfl ?_
                    refine y_iinc (lv' := [(5, .int (zI ((k : Int) + 1))), (4, .int (zI yv)), (7, .int (zI yv)), (6, .int (zI (hN : Int))), (3, .ref (ra e)), (0, .ref x), (1, .int (zI (e : Int)))]) C dX1_forged_138 (q := 3) rfl (nlt rfl) rfl ?_
                    refine z_goto (tgt := 46) C dX1_forged_141 (by decide) ?_
                    refine z_lv (lv' := [(5, .int (zI ((k : Int) + 1))), (4, .int (zI yv)), (3, .ref (ra e)), (0, .ref x), (1, .int (zI (e : Int)))]) [0, 1, 4, 5, 6] rfl ?_
                    exact ih_46 _ (by omega) (k + 1) yv yv (rdA kd fg hm oa n hN yv at1 lg1) (rdL kd fg hm oa n hN yv at1 lg1) (mdy1 + ((rdN kd fg hm oa n hN yv at1 lg1) : Int)) (by first | assumption | omega) (fgR_s hsq ehv eyv) (rd_ok hL1 (by omega) (by omega)) (⟨fun _ => rfl, by omega⟩) (fun q hq => by
                      rcases Nat.lt_succ_iff_lt_or_eq.mp hq with c | c
                      · exact hno q c
                      · subst c; exact hfe.1 ⟨by omega, by omega, by omega⟩) rfl
                  · skip
                    refine z_iload C dX1_forged_119 2 rfl ?_
                    refine z_rowIn (L := [(x, .inr (10, [.ref a0, .ref b0, .ref m0, .int (zI im), .ref tl, .ref le, .int (zI fw), .int (zI fh), .int (zI lo), .ref sh])), (a0, .inr (8, [.ref a1, .ref a2, .ref a3, .ref a4, .int (zI (n : Int)), .int (zI oa), .int (zI dy)])), (a1, AQ G 4 7 r), (a2, AI G 7 hm), (a3, AI G 7 at_), (a4, AI G 7 lg), (m0, .inr (8, [.ref m1, .ref m2, .ref m3, .ref m4, .int (zI (n : Int)), .int (zI oa), .int (zI mdy1)])), (m1, AQ G 4 7 r), (m2, AI G 7 hm), (m3, AI G 7 at1), (m4, AI G 7 lg1), (sh, AQ G 7 8 sf)]) hSe.2.2.2.2 hAB ?_
                    exact z_iret C hA hQ rfl (Nat.le_of_ble_eq_true rfl) (Nat.le_of_ble_eq_true rfl) ((r, hm, at1, lg1, n, oa, mdy1)) (congrArg zI (by unfold oForged; rw [if_neg (by omega)]; simp only [zTN]; rw [if_neg (by omega)]; exact (firstF_at hno (i := k) (hfe.2 (by omega)) (by omega)).symm)) (sb_p [0, 1, 2, 3, 4, 5, 6, 7, 8, 9, 10, 11] rfl rfl) dX1_forged_121
      refine z_lv (lv' := [(5, .int (zI 0)), (4, .int (zI (-4))), (3, .ref (ra e)), (0, .ref x), (1, .int (zI (e : Int)))]) [0, 1, 2, 4, 5] rfl ?_
      exact L_46 _ 0 (-4) (-1) at_ lg dy (by first | assumption | omega) (rfl) (hL) (⟨fun z => absurd z (Nat.lt_irrefl 0), by omega⟩) (fun q hq => absurd hq (Nat.not_lt_zero q)) rfl
    · skip
      refine y_bipush C dX1_forged_32 (by decide) ?_
      refine z_rowIn (L := [(x, .inr (10, [.ref a0, .ref b0, .ref m0, .int (zI im), .ref tl, .ref le, .int (zI fw), .int (zI fh), .int (zI lo), .ref sh])), (a0, .inr (8, [.ref a1, .ref a2, .ref a3, .ref a4, .int (zI (n : Int)), .int (zI oa), .int (zI dy)])), (a1, AQ G 4 7 r), (a2, AI G 7 hm), (a3, AI G 7 at_), (a4, AI G 7 lg), (m0, .inr (8, [.ref m1, .ref m2, .ref m3, .ref m4, .int (zI (mn : Int)), .int (zI moa), .int (zI mdy)])), (m1, AQ G 4 7 mr), (m2, AI G 7 mhm), (m3, AI G 7 mat), (m4, AI G 7 mlg), (sh, AQ G 7 8 sf)]) hSe.2.2.2.2 hAB ?_
      exact z_iret C hA hQ rfl (Nat.le_of_ble_eq_true rfl) (Nat.le_of_ble_eq_true rfl) ((mr, mhm, mat, mlg, mn, moa, mdy)) (congrArg zI (by unfold oForged; rw [if_neg (by omega)]; simp only [zTN]; rw [if_pos (by omega)])) (sb_p [0, 1, 2, 3, 4, 5, 6, 7, 8, 9, 10, 11] rfl rfl) dX1_forged_34
  · skip
    refine z_iload_n C dX1_forged_10 rfl 0 rfl ?_
    exact z_iret C hA hQ rfl (Nat.le_of_ble_eq_true rfl) (Nat.le_of_ble_eq_true rfl) ((mr, mhm, mat, mlg, mn, moa, mdy)) (congrArg zI (by unfold oForged; rw [if_pos (by omega)])) (sb_p [0, 1, 2, 3, 4, 5, 6, 7, 8, 9, 10, 11] rfl rfl) dX1_forged_11

theorem hr_newk {LP : List Nat} {hk : Nat → Nat} {hf : Nat → Int} {r : Nat → Option Nat} {n j q i : Nat} {kd : Nat → Nat} {fg : Nat → Int} (h : HR LP hk hf r n kd fg) (p : PX LP hk hf (q :: LP) (upN hk q i) (va_up hf q (fg j))) : HR (q :: LP) (upN hk q i) (va_up hf q (fg j)) (va_up r j (some q)) n (upN kd j i) fg := by
  intro t ht
  by_cases c : t = j
  · subst c
    exact ⟨q, if_pos rfl, List.mem_cons_self, (if_pos rfl : upN hk q i q = i).trans (if_pos rfl : upN kd t i t = i).symm, if_pos rfl⟩
  · obtain ⟨y, a1, a2, a3, a4⟩ := (h.px p) t ht
    exact ⟨y, (if_neg c : va_up r j (some q) t = r t).trans a1, a2, a3.trans (if_neg c : upN kd j i t = kd t).symm, a4⟩
theorem hr_newf {LP : List Nat} {hk : Nat → Nat} {hf : Nat → Int} {r : Nat → Option Nat} {n j q : Nat} {x : Int} {kd : Nat → Nat} {fg : Nat → Int} (h : HR LP hk hf r n kd fg) (p : PX LP hk hf (q :: LP) (upN hk q (kd j)) (va_up hf q x)) : HR (q :: LP) (upN hk q (kd j)) (va_up hf q x) (va_up r j (some q)) n kd (va_up fg j x) := by
  intro t ht
  by_cases c : t = j
  · subst c
    exact ⟨q, if_pos rfl, List.mem_cons_self, if_pos rfl, (if_pos rfl : va_up hf q x q = x).trans (if_pos rfl : va_up fg t x t = x).symm⟩
  · obtain ⟨y, a1, a2, a3, a4⟩ := (h.px p) t ht
    exact ⟨y, (if_neg c : va_up r j (some q) t = r t).trans a1, a2, a3, a4.trans (if_neg c : va_up fg j x t = fg t).symm⟩
set_option maxHeartbeats 4000000 in
theorem ct_X1_whatIs (l : Launch) (G : ZG) (x : Nat) (b0 : Nat) (m0 : Nat) (tl : Nat) (le : Nat) (sh : Nat) (im : Int) (fw : Int) (fh : Int) (lo : Int) (a0 : Nat) (a1 : Nat) (a2 : Nat) (a3 : Nat) (a4 : Nat) (m1 : Nat) (m2 : Nat) (m3 : Nat) (m4 : Nat) (r : Nat → Option Nat) (hm : Nat → Int) (at_ : Nat → Int) (lg : Nat → Int) (n : Nat) (oa : Int) (dy : Int) (mr : Nat → Option Nat) (mhm : Nat → Int) (mat : Nat → Int) (mlg : Nat → Int) (mn : Nat) (moa : Int) (mdy : Int) (LP : List Nat) (hk : Nat → Nat) (hf : Nat → Int) (kd : Nat → Nat) (fg : Nat → Int) (sa : Nat → Nat) (ha : Nat → Nat) (ra : Nat → Nat) (sf : Nat → Option Nat) (hw : Nat → Nat) (kk : Nat → Nat) (rs : Nat → Nat) (rm : Nat → Nat) (kf : Nat → Int) (rw_ : Nat → Int) (d : Int) (h : Int) (yard : Int) (what : Int) (hH : HR LP hk hf r n kd fg) (hL : LK n kd fg hm at_ lg oa) (hK : PK LP hk hf) (hV : RV LP r) (hS : SK hw kk rs rm kf rw_) (hsf : ∀ q, q < 8 → sf q = some (sa q)) (hKH : KH LP hk hf ha hw kk kf) (rd : -2147483648 ≤ d ∧ d ≤ 2147483647) (rh : -2147483648 ≤ h ∧ h ≤ 2147483647) (ryard : -2147483648 ≤ yard ∧ yard ≤ 2147483647) (rwhat : -2147483648 ≤ what ∧ what ≤ 2147483647) : CT l yX1_whatIs cX1_whatIs 9 (some .int) { frames := 8, cells := 10, slots := 10, locals := 167 } G [.ref x, .int (zI d), .int (zI h), .int (zI yard), .int (zI what)] ([(x, .inr (10, [.ref a0, .ref b0, .ref m0, .int (zI im), .ref tl, .ref le, .int (zI fw), .int (zI fh), .int (zI lo), .ref sh])), (a0, .inr (8, [.ref a1, .ref a2, .ref a3, .ref a4, .int (zI (n : Int)), .int (zI oa), .int (zI dy)])), (a1, AQ G 4 7 r), (a2, AI G 7 hm), (a3, AI G 7 at_), (a4, AI G 7 lg), (m0, .inr (8, [.ref m1, .ref m2, .ref m3, .ref m4, .int (zI (mn : Int)), .int (zI moa), .int (zI mdy)])), (m1, AQ G 4 7 mr), (m2, AI G 7 mhm), (m3, AI G 7 mat), (m4, AI G 7 mlg), (sh, AQ G 7 8 sf)] ++ (SW G sa ha ra hw rs rm rw_ ++ PL LP hk hf)) (Qi G ([(x, .inr (10, [.ref a0, .ref b0, .ref m0, .int (zI im), .ref tl, .ref le, .int (zI fw), .int (zI fh), .int (zI lo), .ref sh])), (a0, .inr (8, [.ref a1, .ref a2, .ref a3, .ref a4, .int (zI (n : Int)), .int (zI oa), .int (zI dy)])), (a1, AQ G 4 7 r), (a2, AI G 7 hm), (a3, AI G 7 at_), (a4, AI G 7 lg), (m0, .inr (8, [.ref m1, .ref m2, .ref m3, .ref m4, .int (zI (mn : Int)), .int (zI moa), .int (zI mdy)])), (m1, AQ G 4 7 mr), (m2, AI G 7 mhm), (m3, AI G 7 mat), (m4, AI G 7 mlg), (sh, AQ G 7 8 sf)] ++ (SW G sa ha ra hw rs rm rw_ ++ PL LP hk hf)) (fun (r : Int32) (u : (Nat → Option Nat) × (Nat → Int) × (Nat → Int) × (Nat → Int) × Nat × Int × Int) => r = oWhatIs kd fg hm at_ lg n oa hw kk rs rm kf rw_ d h yard what) (fun u => ([(x, .inr (10, [.ref a0, .ref b0, .ref m0, .int (zI im), .ref tl, .ref le, .int (zI fw), .int (zI fh), .int (zI lo), .ref sh])), (a0, .inr (8, [.ref a1, .ref a2, .ref a3, .ref a4, .int (zI (n : Int)), .int (zI oa), .int (zI dy)])), (a1, AQ G 4 7 r), (a2, AI G 7 hm), (a3, AI G 7 at_), (a4, AI G 7 lg), (m0, .inr (8, [.ref m1, .ref m2, .ref m3, .ref m4, .int (zI (u.2.2.2.2.1 : Int)), .int (zI u.2.2.2.2.2.1), .int (zI u.2.2.2.2.2.2)])), (m1, AQ G 4 7 u.1), (m2, AI G 7 u.2.1), (m3, AI G 7 u.2.2.1), (m4, AI G 7 u.2.2.2.1), (sh, AQ G 7 8 sf)] ++ (SW G sa ha ra hw rs rm rw_ ++ PL LP hk hf)))) := by
  refine z_met (by decide) (Nat.le_of_ble_eq_true rfl) ?_
  intro X A hl0 hA C hQ hin
  subst hl0
  obtain ⟨hn7, hoa, hLj⟩ := id hL
  show Z X _ G 0 0 _ 0 [(0, .ref x), (1, .int (zI d)), (2, .int (zI h)), (3, .int (zI yard)), (4, .int (zI what))] []
  refine z_aload_n C dX1_whatIs_0 rfl 0 rfl ?_
  refine z_get (q := 0) (kf := 0) (v := .ref a0) C rfl rfl in_X1 (by decide) q880 (Or.inl rfl) rfl dX1_whatIs_1 ?_
  refine z_iload_n C dX1_whatIs_4 rfl 2 rfl ?_
  refine z_i C (z_runV (q := 1) (As := [.int (zI h)]) (rest := []) C (ct_X2_isHorse (zl X) G a0 a1 a2 a3 a4 n oa dy h (by first | assumption | omega) (by first | assumption | omega)) (lw_V q388 q389 q390 q59 q391) rfl rfl (sb_e [1] rfl rfl) (na := 1) (by decide +kernel) rfl (zrm rfl rfl (rfl) (rfl)) rfl (Nat.le_of_ble_eq_true rfl) dX1_whatIs_5) (fun u => jn_ro (sb_e [1] rfl rfl)) (fun r_5 u hp_5 => ?_)
  have hp_5 : r_5 = zI (bI (0 ≤ h ∧ h ≤ (n : Int) - 1)) := hp_5
  subst hp_5
  refine y_beq (tgt := 36) C dX1_whatIs_8 (by decide) (fun c_8 => ?_) (fun c_8 => ?_)
  · skip
    refine y_iconst C dX1_whatIs_36 ?_
    refine z_istore (lv' := [(5, .int (zI (-1))), (0, .ref x), (1, .int (zI d)), (2, .int (zI h)), (3, .int (zI yard)), (4, .int (zI what))]) C dX1_whatIs_37 (nlt rfl) rfl ?_
    refine z_iload C dX1_whatIs_39 0 rfl ?_
    refine y_if_eq (tgt := 47) C (by omega) dX1_whatIs_41 (by decide) (fun c_41 => ?_) (fun c_41 => ?_)
    · skip
      exact absurd c_41 (by decide)
    · skip
      refine z_iload C dX1_whatIs_44 0 rfl ?_
      exact z_iret C hA hQ rfl (Nat.le_of_ble_eq_true rfl) (Nat.le_of_ble_eq_true rfl) ((mr, mhm, mat, mlg, mn, moa, mdy)) ((by unfold oWhatIs; repeat (first | rw [if_pos (by omega)] | rw [if_neg (by omega)]))) (sb_p [0, 1, 2, 3, 4, 5, 6, 7, 8, 9, 10, 11] rfl rfl) dX1_whatIs_46
  · skip
    refine z_iload_n C dX1_whatIs_11 rfl 3 rfl ?_
    refine z_i C (z_runS (As := [.int (zI yard)]) (rest := []) C (ct_X1_isYard (zl X) G yard (by first | assumption | omega)) (lw_S q303 q304 q58 q305) (sb_e [] rfl rfl) (na := 1) (by decide +kernel) rfl (zrm rfl rfl (rfl) (rfl)) rfl (Nat.le_of_ble_eq_true rfl) dX1_whatIs_12) (fun u => jn_ro (sb_e [] rfl rfl)) (fun r_12 u hp_12 => ?_)
    have hp_12 : r_12 = zI (bI (0 ≤ yard ∧ yard ≤ 20)) := hp_12
    subst hp_12
    refine y_beq (tgt := 36) C dX1_whatIs_15 (by decide) (fun c_15 => ?_) (fun c_15 => ?_)
    · skip
      refine y_iconst C dX1_whatIs_36 ?_
      refine z_istore (lv' := [(5, .int (zI (-1))), (0, .ref x), (1, .int (zI d)), (2, .int (zI h)), (3, .int (zI yard)), (4, .int (zI what))]) C dX1_whatIs_37 (nlt rfl) rfl ?_
      refine z_iload C dX1_whatIs_39 0 rfl ?_
      refine y_if_eq (tgt := 47) C (by omega) dX1_whatIs_41 (by decide) (fun c_41 => ?_) (fun c_41 => ?_)
      · skip
        exact absurd c_41 (by decide)
      · skip
        refine z_iload C dX1_whatIs_44 0 rfl ?_
        exact z_iret C hA hQ rfl (Nat.le_of_ble_eq_true rfl) (Nat.le_of_ble_eq_true rfl) ((mr, mhm, mat, mlg, mn, moa, mdy)) ((by unfold oWhatIs; repeat (first | rw [if_pos (by omega)] | rw [if_neg (by omega)]))) (sb_p [0, 1, 2, 3, 4, 5, 6, 7, 8, 9, 10, 11] rfl rfl) dX1_whatIs_46
    · skip
      refine z_iload C dX1_whatIs_18 4 rfl ?_
      refine y_iconst C dX1_whatIs_20 ?_
      refine y_iconst C dX1_whatIs_21 ?_
      refine z_i C (z_runS (As := [.int (zI what), .int (zI 0), .int (zI 1)]) (rest := []) C (ct_X1_isIn (zl X) G what 0 1 (by first | assumption | omega) (by first | assumption | omega) (by first | assumption | omega)) (lw_S q189 q190 q58 q191) (sb_e [] rfl rfl) (na := 3) (by decide +kernel) rfl (zrm rfl rfl (rfl) (rfl)) rfl (Nat.le_of_ble_eq_true rfl) dX1_whatIs_22) (fun u => jn_ro (sb_e [] rfl rfl)) (fun r_22 u hp_22 => ?_)
      have hp_22 : r_22 = zI (bI (0 ≤ what ∧ what ≤ 1)) := hp_22
      subst hp_22
      refine y_beq (tgt := 36) C dX1_whatIs_25 (by decide) (fun c_25 => ?_) (fun c_25 => ?_)
      · skip
        refine y_iconst C dX1_whatIs_36 ?_
        refine z_istore (lv' := [(5, .int (zI (-1))), (0, .ref x), (1, .int (zI d)), (2, .int (zI h)), (3, .int (zI yard)), (4, .int (zI what))]) C dX1_whatIs_37 (nlt rfl) rfl ?_
        refine z_iload C dX1_whatIs_39 0 rfl ?_
        refine y_if_eq (tgt := 47) C (by omega) dX1_whatIs_41 (by decide) (fun c_41 => ?_) (fun c_41 => ?_)
        · skip
          exact absurd c_41 (by decide)
        · skip
          refine z_iload C dX1_whatIs_44 0 rfl ?_
          exact z_iret C hA hQ rfl (Nat.le_of_ble_eq_true rfl) (Nat.le_of_ble_eq_true rfl) ((mr, mhm, mat, mlg, mn, moa, mdy)) ((by unfold oWhatIs; repeat (first | rw [if_pos (by omega)] | rw [if_neg (by omega)]))) (sb_p [0, 1, 2, 3, 4, 5, 6, 7, 8, 9, 10, 11] rfl rfl) dX1_whatIs_46
      · skip
        refine z_aload_n C dX1_whatIs_28 rfl 0 rfl ?_
        refine z_iload_n C dX1_whatIs_29 rfl 1 rfl ?_
        refine z_i C (z_runV (q := 0) (As := [.int (zI d)]) (rest := []) C (ct_X1_notRow (zl X) G x b0 m0 tl le sh im fw fh lo a0 sa ha ra sf hw kk rs rm kf rw_ LP hk hf d (by first | assumption | omega) (by first | assumption | omega) (by first | assumption | omega) (by first | assumption | omega) (by first | assumption | omega)) (lw_V q726 q728 qs18 q58 q729) rfl rfl (sb_p [0, 11] rfl rfl) (na := 1) (by decide +kernel) rfl (zrm rfl rfl (rfl) (rfl)) rfl (Nat.le_of_ble_eq_true rfl) dX1_whatIs_30) (fun u => jn_ro (sb_p [0, 11] rfl rfl)) (fun r_30 u hp_30 => ?_)
        have hp_30 : r_30 = zI (wrZ hw d) := hp_30
        subst hp_30
        have hwr := wrZ_r hw d
        refine z_goto (tgt := 37) C dX1_whatIs_33 (by decide) ?_
        refine z_istore (lv' := [(5, .int (zI (wrZ hw d))), (0, .ref x), (1, .int (zI d)), (2, .int (zI h)), (3, .int (zI yard)), (4, .int (zI what))]) C dX1_whatIs_37 (nlt rfl) rfl ?_
        refine z_iload C dX1_whatIs_39 0 rfl ?_
        refine y_if_eq (tgt := 47) C (by omega) dX1_whatIs_41 (by decide) (fun c_41 => ?_) (fun c_41 => ?_)
        · skip
          obtain ⟨hd1, hd2⟩ := wrZ_0 (hw := hw) (d := d) (by omega)
          obtain ⟨e, rfl⟩ := Int.eq_ofNat_of_zero_le (show 0 ≤ d by omega)
          simp only [zTN] at hd2
          obtain ⟨hS1, hS2⟩ := id hS
          have hSe := hS1 e (by omega)
          obtain ⟨j, rfl⟩ := Int.eq_ofNat_of_zero_le (show 0 ≤ h by omega)
          have he8 : e < 8 := by omega
          have hwe : hw e = 2 := hd2
          have hj : j < n := by omega
          obtain ⟨hk1, hf1, hm1, ha1, hl1⟩ := hLj j hj
          obtain ⟨y, hy1, hy2, hy3, hy4⟩ := hH j hj
          refine z_aload_n C dX1_whatIs_47 rfl 1 rfl ?_
          refine z_get (q := 0) (kf := 0) (v := .ref a0) C rfl rfl in_X1 (by decide) q880 (Or.inl rfl) rfl dX1_whatIs_48 ?_
          refine z_get (q := 1) (kf := 0) (v := .ref a1) C rfl rfl in_X2 (by decide) q838 (Or.inl rfl) rfl dX1_whatIs_51 ?_
          refine z_iload_n C dX1_whatIs_54 rfl 3 rfl ?_
          refine y_aldq (q := 2) (t0 := 4) (v := .ref y) C rfl rfl (by omega) (by decide) (by show va_rf (r j) = _; rw [hy1]; rfl) dX1_whatIs_55 ?_
          refine z_astore (lv' := [(6, .ref y), (5, .int (zI (wrZ hw (e : Int)))), (0, .ref x), (1, .int (zI (e : Int))), (2, .int (zI (j : Int))), (3, .int (zI yard)), (4, .int (zI what))]) C dX1_whatIs_56 (nlt rfl) rfl ?_
          refine y_iconst C dX1_whatIs_58 ?_
          refine z_istore (lv' := [(7, .int (zI 0)), (6, .ref y), (5, .int (zI (wrZ hw (e : Int)))), (0, .ref x), (1, .int (zI (e : Int))), (2, .int (zI (j : Int))), (3, .int (zI yard)), (4, .int (zI what))]) C dX1_whatIs_59 (nlt rfl) rfl ?_
          refine y_iconst C dX1_whatIs_61 ?_
          refine z_istore (lv' := [(8, .int (zI 0)), (7, .int (zI 0)), (6, .ref y), (5, .int (zI (wrZ hw (e : Int)))), (0, .ref x), (1, .int (zI (e : Int))), (2, .int (zI (j : Int))), (3, .int (zI yard)), (4, .int (zI what))]) C dX1_whatIs_62 (nlt rfl) rfl ?_
          have L_64 : ∀ (tt : Nat) (i : Nat) (set : Int32) (mr1 : Nat → Option Nat) (mhm1 : Nat → Int) (mat1 : Nat → Int) (mlg1 : Nat → Int) (mn1 : Nat) (moa1 : Int) (mdy1 : Int), (i ≤ 10 ∧ (what = 0 → i ≤ 8)) → (set = bitsF (whtB (rowF rw_ e) (skZ (rs e)) (rm e) kd fg hm oa n j yard at_ lg what) i) → 10 - i = tt → Z X (cX1_whatIs, 9, yX1_whatIs.cls, (some .int), { frames := 8, cells := 10, slots := 10, locals := 167 }, A) G i i ([(x, .inr (10, [.ref a0, .ref b0, .ref m0, .int (zI im), .ref tl, .ref le, .int (zI fw), .int (zI fh), .int (zI lo), .ref sh])), (a0, .inr (8, [.ref a1, .ref a2, .ref a3, .ref a4, .int (zI (n : Int)), .int (zI oa), .int (zI dy)])), (a1, AQ G 4 7 r), (a2, AI G 7 hm), (a3, AI G 7 at_), (a4, AI G 7 lg), (m0, .inr (8, [.ref m1, .ref m2, .ref m3, .ref m4, .int (zI (mn1 : Int)), .int (zI moa1), .int (zI mdy1)])), (m1, AQ G 4 7 mr1), (m2, AI G 7 mhm1), (m3, AI G 7 mat1), (m4, AI G 7 mlg1), (sh, AQ G 7 8 sf)] ++ (SW G sa ha ra hw rs rm rw_ ++ PL LP hk hf)) 64 [(8, .int (zI (i : Int))), (7, .int set), (6, .ref y), (0, .ref x), (1, .int (zI (e : Int))), (2, .int (zI (j : Int))), (3, .int (zI yard)), (4, .int (zI what))] [] := by
            intro tt
            induction tt using Nat.strongRecOn with
            | _ tt ih_64 =>
              intro i set mr1 mhm1 mat1 mlg1 mn1 moa1 mdy1 hi hst ht_64
              refine z_iload C dX1_whatIs_64 0 rfl ?_
              refine z_iload C dX1_whatIs_66 7 rfl ?_
              refine y_if_ne (tgt := 76) C (by omega) dX1_whatIs_68 (by decide) (fun c_68 => ?_) (fun c_68 => ?_)
              · skip
                refine y_bipush C dX1_whatIs_76 (by decide) ?_
                refine y_icmp_ge (tgt := 159) C (by omega) (by omega) dX1_whatIs_78 (by decide) (fun c_78 => ?_) (fun c_78 => ?_)
                · skip
                  refine z_iload C dX1_whatIs_159 1 rfl ?_
                  have hdone : (what = 0 ∧ i = 8) ∨ (¬ what = 0 ∧ i = 10) := by omega
                  exact z_iret C hA hQ rfl (by show i ≤ 10; omega) (by show i ≤ 10; omega) ((mr1, mhm1, mat1, mlg1, mn1, moa1, mdy1)) ((by unfold oWhatIs; rw [if_pos (by omega), if_neg (by omega)]; simp only [zTN]; rcases hdone with ⟨q1, q2⟩ | ⟨q1, q2⟩; (rw [if_pos q1, ← q2, ← hst]); (rw [if_neg q1, ← q2, ← hst]))) (sb_p [0, 1, 2, 3, 4, 5, 6, 7, 8, 9, 10, 11] rfl rfl) dX1_whatIs_161
                · skip
                  refine z_aload_n C dX1_whatIs_81 rfl 3 rfl ?_
                  refine z_v (ws' := fun u => ([(x, .inr (10, [.ref a0, .ref b0, .ref m0, .int (zI im), .ref tl, .ref le, .int (zI fw), .int (zI fh), .int (zI lo), .ref sh])), (a0, .inr (8, [.ref a1, .ref a2, .ref a3, .ref a4, .int (zI (n : Int)), .int (zI oa), .int (zI dy)])), (a1, AQ G 4 7 r), (a2, AI G 7 hm), (a3, AI G 7 at_), (a4, AI G 7 lg), (m0, .inr (8, [.ref m1, .ref m2, .ref m3, .ref m4, .int (zI (n : Int)), .int (zI oa), .int (zI dy)])), (m1, AQ G 4 7 r), (m2, AI G 7 hm), (m3, AI G 7 at_), (m4, AI G 7 lg), (sh, AQ G 7 8 sf)] ++ (SW G sa ha ra hw rs rm rw_ ++ PL LP hk hf))) C (z_runV (q := 0) (As := []) (rest := []) C (ct_X1_minds (zl X) G x b0 m0 tl le sh im fw fh lo a0 a1 a2 a3 a4 m1 m2 m3 m4 r hm at_ lg n oa dy mr1 mhm1 mat1 mlg1 mn1 moa1 mdy1 LP hk hf kd fg (by first | assumption | omega) (by first | assumption | omega)) (lw_V q577 q579 qs12 q58 q580) rfl rfl (sb_m [0, 1, 2, 3, 4, 5, 6, 7, 8, 9, 10] rfl rfl) (na := 0) (by decide +kernel) rfl (zrm rfl rfl (nb (by show i + 0 ≤ 10; omega)) (nb (by show i + 0 ≤ 10; omega))) rfl (Nat.le_of_ble_eq_true rfl) dX1_whatIs_82) (fun u => jn_m (Lr := [(sh, AQ G 7 8 sf)]) [0, 1, 2, 3, 4, 5, 6, 7, 8, 9, 10] [11] [1, 2, 3, 4, 5, 6, 7, 8, 9, 10, 11, 0] rfl rfl rfl (by decide) rfl rfl rfl) (fun u hp_82 => ?_)
                  refine z_aload_n C dX1_whatIs_85 rfl 3 rfl ?_
                  refine z_get (q := 0) (kf := 2) (v := .ref m0) C rfl rfl in_X1 (by decide) q882 (Or.inl rfl) rfl dX1_whatIs_86 ?_
                  refine z_get (q := 6) (kf := 0) (v := .ref m1) C rfl rfl in_X2 (by decide) q838 (Or.inl rfl) rfl dX1_whatIs_89 ?_
                  refine z_iload_n C dX1_whatIs_92 rfl 5 rfl ?_
                  refine z_iload C dX1_whatIs_93 7 rfl ?_
                  refine y_if_ne (tgt := 111) C (by omega) dX1_whatIs_95 (by decide) (fun c_95 => ?_) (fun c_95 => ?_)
                  · skip
                    refine z_aload C dX1_whatIs_111 2 rfl ?_
                    obtain ⟨q_113, hq_113⟩ := mid_pl (L := [(x, .inr (10, [.ref a0, .ref b0, .ref m0, .int (zI im), .ref tl, .ref le, .int (zI fw), .int (zI fh), .int (zI lo), .ref sh])), (a0, .inr (8, [.ref a1, .ref a2, .ref a3, .ref a4, .int (zI (n : Int)), .int (zI oa), .int (zI dy)])), (a1, AQ G 4 7 r), (a2, AI G 7 hm), (a3, AI G 7 at_), (a4, AI G 7 lg), (m0, .inr (8, [.ref m1, .ref m2, .ref m3, .ref m4, .int (zI (n : Int)), .int (zI oa), .int (zI dy)])), (m1, AQ G 4 7 r), (m2, AI G 7 hm), (m3, AI G 7 at_), (m4, AI G 7 lg), (sh, AQ G 7 8 sf)]) (M := SW G sa ha ra hw rs rm rw_) (hk := hk) (hf := hf) hy2
                    rw [hy3, hy4] at hq_113
                    refine dsp_kind C (kd := kd j) (f := fg j) hk1 hq_113 (C.ts _ q541)  (Nat.le_of_ble_eq_true rfl) (Nat.le_of_ble_eq_true rfl) (by show i + 0 ≤ 10; omega) (by show i + 0 ≤ 10; omega) (Nat.le_of_ble_eq_true rfl) dX1_whatIs_113 ?_
                    refine z_iload C dX1_whatIs_116 0 rfl ?_
                    refine z_r (ws' := fun u q_118 => ([(q_118, .inr ((kd j), [.int (zI (i : Int))])), (x, .inr (10, [.ref a0, .ref b0, .ref m0, .int (zI im), .ref tl, .ref le, .int (zI fw), .int (zI fh), .int (zI lo), .ref sh])), (a0, .inr (8, [.ref a1, .ref a2, .ref a3, .ref a4, .int (zI (n : Int)), .int (zI oa), .int (zI dy)])), (a1, AQ G 4 7 r), (a2, AI G 7 hm), (a3, AI G 7 at_), (a4, AI G 7 lg), (m0, .inr (8, [.ref m1, .ref m2, .ref m3, .ref m4, .int (zI (n : Int)), .int (zI oa), .int (zI dy)])), (m1, AQ G 4 7 r), (m2, AI G 7 hm), (m3, AI G 7 at_), (m4, AI G 7 lg), (sh, AQ G 7 8 sf)] ++ (SW G sa ha ra hw rs rm rw_ ++ PL LP hk hf))) C (z_runS (As := [.int (zI (kd j : Int)), .int (zI (i : Int))]) (rest := [.int (zI (j : Int)), .ref m1]) C (ct_X1_horseOf (zl X) G (kd j) (i : Int) (by first | assumption | omega)) (lw_S q306 q307 q58 q308) (sb_e [] rfl rfl) (na := 2) (by decide +kernel) rfl (zrm rfl rfl (nb (by show i + 0 + 1 ≤ 10; omega)) (nb (by show i + 0 + 1 ≤ 10; omega))) rfl (Nat.le_of_ble_eq_true rfl) dX1_whatIs_118) (fun u q_118 => jn_q (Lr := [(x, .inr (10, [.ref a0, .ref b0, .ref m0, .int (zI im), .ref tl, .ref le, .int (zI fw), .int (zI fh), .int (zI lo), .ref sh])), (a0, .inr (8, [.ref a1, .ref a2, .ref a3, .ref a4, .int (zI (n : Int)), .int (zI oa), .int (zI dy)])), (a1, AQ G 4 7 r), (a2, AI G 7 hm), (a3, AI G 7 at_), (a4, AI G 7 lg), (m0, .inr (8, [.ref m1, .ref m2, .ref m3, .ref m4, .int (zI (n : Int)), .int (zI oa), .int (zI dy)])), (m1, AQ G 4 7 r), (m2, AI G 7 hm), (m3, AI G 7 at_), (m4, AI G 7 lg), (sh, AQ G 7 8 sf)]) [] [0, 1, 2, 3, 4, 5, 6, 7, 8, 9, 10, 11] [12, 0, 1, 2, 3, 4, 5, 6, 7, 8, 9, 10, 11] rfl rfl rfl (by decide) rfl rfl) (fun u q_118 hp_118 => ?_)
                    refine y_astH (q := 8) (t0 := 4) (qk := 0) (g := va_up r j (some q_118)) (ws' := ([(q_118, .inr ((kd j), [.int (zI (i : Int))])), (x, .inr (10, [.ref a0, .ref b0, .ref m0, .int (zI im), .ref tl, .ref le, .int (zI fw), .int (zI fh), .int (zI lo), .ref sh])), (a0, .inr (8, [.ref a1, .ref a2, .ref a3, .ref a4, .int (zI (n : Int)), .int (zI oa), .int (zI dy)])), (a1, AQ G 4 7 r), (a2, AI G 7 hm), (a3, AI G 7 at_), (a4, AI G 7 lg), (m0, .inr (8, [.ref m1, .ref m2, .ref m3, .ref m4, .int (zI (n : Int)), .int (zI oa), .int (zI dy)])), (m1, AQ G 4 7 (va_up r j (some q_118))), (m2, AI G 7 hm), (m3, AI G 7 at_), (m4, AI G 7 lg), (sh, AQ G 7 8 sf)] ++ (SW G sa ha ra hw rs rm rw_ ++ PL LP hk hf))) C rfl rfl (kd := (kd j)) (by omega) rfl (by omega) (by decide) rfl rfl dX1_whatIs_121 ?_
                    refine z_push (L := [(x, .inr (10, [.ref a0, .ref b0, .ref m0, .int (zI im), .ref tl, .ref le, .int (zI fw), .int (zI fh), .int (zI lo), .ref sh])), (a0, .inr (8, [.ref a1, .ref a2, .ref a3, .ref a4, .int (zI (n : Int)), .int (zI oa), .int (zI dy)])), (a1, AQ G 4 7 r), (a2, AI G 7 hm), (a3, AI G 7 at_), (a4, AI G 7 lg), (m0, .inr (8, [.ref m1, .ref m2, .ref m3, .ref m4, .int (zI (n : Int)), .int (zI oa), .int (zI dy)])), (m1, AQ G 4 7 (va_up r j (some q_118))), (m2, AI G 7 hm), (m3, AI G 7 at_), (m4, AI G 7 lg), (sh, AQ G 7 8 sf)]) (M := SW G sa ha ra hw rs rm rw_) (k0 := (kd j)) (f := (i : Int)) (fun hnq => ?_)
                    have hpx := PX.push hK hnq (k0 := (kd j)) (f := (i : Int)) (by omega) (by omega)
                    have hH2 : HR (q_118 :: LP) (upN hk q_118 (kd j)) (va_up hf q_118 (i : Int)) (va_up r j (some q_118)) n kd (va_up fg j (i : Int)) := hr_newf hH hpx
                    refine z_iload C dX1_whatIs_122 1 rfl ?_
                    refine z_aload_n C dX1_whatIs_124 rfl 3 rfl ?_
                    refine z_aload_n C dX1_whatIs_125 rfl 3 rfl ?_
                    refine z_get (q := 0) (kf := 9) (v := .ref sh) C rfl rfl in_X1 (by decide) q889 (Or.inl rfl) rfl dX1_whatIs_126 ?_
                    refine z_iload_n C dX1_whatIs_129 rfl 4 rfl ?_
                    refine y_aldq (q := 11) (t0 := 7) (v := .ref (sa e)) C rfl rfl (by omega) (by decide) (by show va_rf (sf e) = _; rw [hsf e he8]; rfl) dX1_whatIs_130 ?_
                    refine z_get (kf := 0) (v := hvF hw ha ra e) C (sw_at (L := [(x, .inr (10, [.ref a0, .ref b0, .ref m0, .int (zI im), .ref tl, .ref le, .int (zI fw), .int (zI fh), .int (zI lo), .ref sh])), (a0, .inr (8, [.ref a1, .ref a2, .ref a3, .ref a4, .int (zI (n : Int)), .int (zI oa), .int (zI dy)])), (a1, AQ G 4 7 r), (a2, AI G 7 hm), (a3, AI G 7 at_), (a4, AI G 7 lg), (m0, .inr (8, [.ref m1, .ref m2, .ref m3, .ref m4, .int (zI (n : Int)), .int (zI oa), .int (zI dy)])), (m1, AQ G 4 7 (va_up r j (some q_118))), (m2, AI G 7 hm), (m3, AI G 7 at_), (m4, AI G 7 lg), (sh, AQ G 7 8 sf)]) (d := e) he8) rfl in_X3 (by decide) q876 (Or.inl rfl) rfl dX1_whatIs_131 ?_
                    rw [show hvF hw ha ra e = .ref (ra e) from hvF_2 hwe]
                    refine z_rowOut (L := [(x, .inr (10, [.ref a0, .ref b0, .ref m0, .int (zI im), .ref tl, .ref le, .int (zI fw), .int (zI fh), .int (zI lo), .ref sh])), (a0, .inr (8, [.ref a1, .ref a2, .ref a3, .ref a4, .int (zI (n : Int)), .int (zI oa), .int (zI dy)])), (a1, AQ G 4 7 r), (a2, AI G 7 hm), (a3, AI G 7 at_), (a4, AI G 7 lg), (m0, .inr (8, [.ref m1, .ref m2, .ref m3, .ref m4, .int (zI (n : Int)), .int (zI oa), .int (zI dy)])), (m1, AQ G 4 7 (va_up r j (some q_118))), (m2, AI G 7 hm), (m3, AI G 7 at_), (m4, AI G 7 lg), (sh, AQ G 7 8 sf)]) he8 hwe hSe.2.2.2.2 (fun A_ B_ hAB hcg => ?_)
                    refine z_wsEq (ws' := ([(x, .inr (10, [.ref a0, .ref b0, .ref m0, .int (zI im), .ref tl, .ref le, .int (zI fw), .int (zI fh), .int (zI lo), .ref sh])), (a0, .inr (8, [.ref a1, .ref a2, .ref a3, .ref a4, .int (zI (n : Int)), .int (zI oa), .int (zI dy)])), (a1, AQ G 4 7 r), (a2, AI G 7 hm), (a3, AI G 7 at_), (a4, AI G 7 lg), (m0, .inr (8, [.ref m1, .ref m2, .ref m3, .ref m4, .int (zI (n : Int)), .int (zI oa), .int (zI dy)])), (m1, AQ G 4 7 (va_up r j (some q_118))), (m2, AI G 7 hm), (m3, AI G 7 at_), (m4, AI G 7 lg), (sh, AQ G 7 8 sf), ((ra e), RWc G (rs e) (rm e) (rowF rw_ e))] ++ ((A_ ++ B_) ++ PL (q_118 :: LP) (upN hk q_118 (kd j)) (va_up hf q_118 (i : Int))))) rfl ?_
                    refine z_iload_n C dX1_whatIs_134 rfl 5 rfl ?_
                    refine z_iload_n C dX1_whatIs_135 rfl 6 rfl ?_
                    refine z_i (ws' := fun u => ([(x, .inr (10, [.ref a0, .ref b0, .ref m0, .int (zI im), .ref tl, .ref le, .int (zI fw), .int (zI fh), .int (zI lo), .ref sh])), (a0, .inr (8, [.ref a1, .ref a2, .ref a3, .ref a4, .int (zI (n : Int)), .int (zI oa), .int (zI dy)])), (a1, AQ G 4 7 r), (a2, AI G 7 hm), (a3, AI G 7 at_), (a4, AI G 7 lg), (m0, .inr (8, [.ref m1, .ref m2, .ref m3, .ref m4, .int (zI (n : Int)), .int (zI oa), .int (zI u.2.2)])), (m1, AQ G 4 7 (va_up r j (some q_118))), (m2, AI G 7 hm), (m3, AI G 7 u.1), (m4, AI G 7 u.2.1), (sh, AQ G 7 8 sf), ((ra e), RWc G (rs e) (rm e) (rowF rw_ e))] ++ ((A_ ++ B_) ++ PL (q_118 :: LP) (upN hk q_118 (kd j)) (va_up hf q_118 (i : Int))))) C (z_runV (q := 0) (As := [.ref (ra e), .int (zI (j : Int)), .int (zI yard)]) (rest := [.int set]) C (ct_X1_wentSo_s (zl X) G (rs e) x b0 m0 tl le sh im fw fh lo a0 m1 m2 m3 m4 (va_up r j (some q_118)) hm at_ lg n oa dy (q_118 :: LP) (upN hk q_118 (kd j)) (va_up hf q_118 (i : Int)) kd (va_up fg j (i : Int)) (ra e) (rm e) j (rowF rw_ e) yard (hSe.2.2.2.1) (hH2) ((by first | exact hL.kdu (by omega) | exact hL.fgu (by omega))) (by first | assumption | omega) (by first | assumption | omega) (hSe.2.2.2.2) (fun k => hS2 (100 * e + k))) (lw_V q735 q737 qs19 q58 q738) rfl rfl (sb_m [0, 6, 7, 8, 9, 10, 12] rfl rfl) (na := 3) (by decide +kernel) rfl (zrm rfl rfl (nb (by show i + 0 + 1 + 0 ≤ 10; omega)) (nb (by show i + 0 + 1 + 0 ≤ 10; omega))) rfl (Nat.le_of_ble_eq_true rfl) dX1_whatIs_136) (fun u => jn_m (Lr := [(a0, .inr (8, [.ref a1, .ref a2, .ref a3, .ref a4, .int (zI (n : Int)), .int (zI oa), .int (zI dy)])), (a1, AQ G 4 7 r), (a2, AI G 7 hm), (a3, AI G 7 at_), (a4, AI G 7 lg), (sh, AQ G 7 8 sf)]) [0, 6, 7, 8, 9, 10, 12] [1, 2, 3, 4, 5, 11] [6, 0, 1, 2, 3, 4, 7, 8, 9, 10, 11, 5, 12] rfl rfl rfl (by decide) rfl rfl rfl) (fun r_136 u hp_136 => ?_)
                    obtain ⟨at9_136, lg9_136, dy9_136⟩ := u
                    have hp_136 : r_136 = zI (rowB (rowF rw_ e) (skZ (rs e)) kd (va_up fg j (i : Int)) hm oa n j yard at_ lg (rm e)) := hp_136
                    subst hp_136
                    rw [show rowB (rowF rw_ e) (skZ (rs e)) kd (va_up fg j (i : Int)) hm oa n j yard at_ lg (rm e) = whtB (rowF rw_ e) (skZ (rs e)) (rm e) kd fg hm oa n j yard at_ lg what i from by unfold whtB; first | rw [if_pos (by omega)] | rw [if_neg (by omega)]]
                    have h01 : whtB (rowF rw_ e) (skZ (rs e)) (rm e) kd fg hm oa n j yard at_ lg what i = 0 ∨ whtB (rowF rw_ e) (skZ (rs e)) (rm e) kd fg hm oa n j yard at_ lg what i = 1 := by unfold whtB; split <;> exact rowB_01 _
                    refine z_rowIn (L := [(x, .inr (10, [.ref a0, .ref b0, .ref m0, .int (zI im), .ref tl, .ref le, .int (zI fw), .int (zI fh), .int (zI lo), .ref sh])), (a0, .inr (8, [.ref a1, .ref a2, .ref a3, .ref a4, .int (zI (n : Int)), .int (zI oa), .int (zI dy)])), (a1, AQ G 4 7 r), (a2, AI G 7 hm), (a3, AI G 7 at_), (a4, AI G 7 lg), (m0, .inr (8, [.ref m1, .ref m2, .ref m3, .ref m4, .int (zI (n : Int)), .int (zI oa), .int (zI dy9_136)])), (m1, AQ G 4 7 (va_up r j (some q_118))), (m2, AI G 7 hm), (m3, AI G 7 at9_136), (m4, AI G 7 lg9_136), (sh, AQ G 7 8 sf)]) hSe.2.2.2.2 hAB ?_
                    refine z_unpush (L := [(x, .inr (10, [.ref a0, .ref b0, .ref m0, .int (zI im), .ref tl, .ref le, .int (zI fw), .int (zI fh), .int (zI lo), .ref sh])), (a0, .inr (8, [.ref a1, .ref a2, .ref a3, .ref a4, .int (zI (n : Int)), .int (zI oa), .int (zI dy)])), (a1, AQ G 4 7 r), (a2, AI G 7 hm), (a3, AI G 7 at_), (a4, AI G 7 lg), (m0, .inr (8, [.ref m1, .ref m2, .ref m3, .ref m4, .int (zI (n : Int)), .int (zI oa), .int (zI dy9_136)])), (m1, AQ G 4 7 (va_up r j (some q_118))), (m2, AI G 7 hm), (m3, AI G 7 at9_136), (m4, AI G 7 lg9_136), (sh, AQ G 7 8 sf)]) hnq ?_
                    refine y_if_eq (tgt := 149) C (by omega) dX1_whatIs_139 (by decide) (fun hb0 => ?_) (fun hb0 => ?_)
                    · skip
                      refine y_iconst C dX1_whatIs_149 ?_
                      refine z_ior C dX1_whatIs_150 rfl ?_
                      refine z_istore (lv' := [(7, .int (set ||| (zI 0))), (8, .int (zI (i : Int))), (6, .ref y), (0, .ref x), (1, .int (zI (e : Int))), (2, .int (zI (j : Int))), (3, .int (zI yard)), (4, .int (zI what))]) C dX1_whatIs_151 (nlt rfl) rfl ?_
                      refine y_iinc (lv' := [(8, .int (zI ((i : Int) + 1))), (7, .int (set ||| (zI 0))), (6, .ref y), (0, .ref x), (1, .int (zI (e : Int))), (2, .int (zI (j : Int))), (3, .int (zI yard)), (4, .int (zI what))]) C dX1_whatIs_153 (q := 1) rfl (nlt rfl) rfl ?_
                      refine z_goto (tgt := 64) C dX1_whatIs_156 (by decide) ?_
                      refine z_wide (k' := (i + 1)) (n' := (i + 1)) (by show i + 0 + 1 + 0 ≤ (i + 1); omega) (by show i + 0 + 1 + 0 ≤ (i + 1); omega) ?_
                      exact ih_64 _ (by omega) (i + 1) ((set ||| (zI 0))) (va_up r j (some q_118)) hm at9_136 lg9_136 n oa dy9_136 (by first | assumption | omega) (by first | (rw [hst]; exact (bitsF_f hb0).symm) | (rw [hst]; exact (bitsF_t hb0).symm)) rfl
                    · skip
                      refine y_iconst C dX1_whatIs_142 ?_
                      refine z_iload C dX1_whatIs_143 0 rfl ?_
                      refine z_ishl C dX1_whatIs_145 rfl ?_
                      refine z_goto (tgt := 150) C dX1_whatIs_146 (by decide) ?_
                      refine z_ior C dX1_whatIs_150 rfl ?_
                      refine z_istore (lv' := [(7, .int (set ||| ((zI 1) <<< ((zI (i : Int)) &&& 31)))), (8, .int (zI (i : Int))), (6, .ref y), (0, .ref x), (1, .int (zI (e : Int))), (2, .int (zI (j : Int))), (3, .int (zI yard)), (4, .int (zI what))]) C dX1_whatIs_151 (nlt rfl) rfl ?_
                      refine y_iinc (lv' := [(8, .int (zI ((i : Int) + 1))), (7, .int (set ||| ((zI 1) <<< ((zI (i : Int)) &&& 31)))), (6, .ref y), (0, .ref x), (1, .int (zI (e : Int))), (2, .int (zI (j : Int))), (3, .int (zI yard)), (4, .int (zI what))]) C dX1_whatIs_153 (q := 1) rfl (nlt rfl) rfl ?_
                      refine z_goto (tgt := 64) C dX1_whatIs_156 (by decide) ?_
                      refine z_wide (k' := (i + 1)) (n' := (i + 1)) (by show i + 0 + 1 + 0 ≤ (i + 1); omega) (by show i + 0 + 1 + 0 ≤ (i + 1); omega) ?_
                      exact ih_64 _ (by omega) (i + 1) ((set ||| ((zI 1) <<< ((zI (i : Int)) &&& 31)))) (va_up r j (some q_118)) hm at9_136 lg9_136 n oa dy9_136 (by first | assumption | omega) (by first | (rw [hst]; exact (bitsF_f hb0).symm) | (rw [hst]; exact (bitsF_t hb0).symm)) rfl
                  · skip
                    exfalso; omega
              · skip
                refine y_bipush C dX1_whatIs_71 (by decide) ?_
                refine z_goto (tgt := 78) C dX1_whatIs_73 (by decide) ?_
                refine y_icmp_ge (tgt := 159) C (by omega) (by omega) dX1_whatIs_78 (by decide) (fun c_78 => ?_) (fun c_78 => ?_)
                · skip
                  refine z_iload C dX1_whatIs_159 1 rfl ?_
                  have hdone : (what = 0 ∧ i = 8) ∨ (¬ what = 0 ∧ i = 10) := by omega
                  exact z_iret C hA hQ rfl (by show i ≤ 10; omega) (by show i ≤ 10; omega) ((mr1, mhm1, mat1, mlg1, mn1, moa1, mdy1)) ((by unfold oWhatIs; rw [if_pos (by omega), if_neg (by omega)]; simp only [zTN]; rcases hdone with ⟨q1, q2⟩ | ⟨q1, q2⟩; (rw [if_pos q1, ← q2, ← hst]); (rw [if_neg q1, ← q2, ← hst]))) (sb_p [0, 1, 2, 3, 4, 5, 6, 7, 8, 9, 10, 11] rfl rfl) dX1_whatIs_161
                · skip
                  refine z_aload_n C dX1_whatIs_81 rfl 3 rfl ?_
                  refine z_v (ws' := fun u => ([(x, .inr (10, [.ref a0, .ref b0, .ref m0, .int (zI im), .ref tl, .ref le, .int (zI fw), .int (zI fh), .int (zI lo), .ref sh])), (a0, .inr (8, [.ref a1, .ref a2, .ref a3, .ref a4, .int (zI (n : Int)), .int (zI oa), .int (zI dy)])), (a1, AQ G 4 7 r), (a2, AI G 7 hm), (a3, AI G 7 at_), (a4, AI G 7 lg), (m0, .inr (8, [.ref m1, .ref m2, .ref m3, .ref m4, .int (zI (n : Int)), .int (zI oa), .int (zI dy)])), (m1, AQ G 4 7 r), (m2, AI G 7 hm), (m3, AI G 7 at_), (m4, AI G 7 lg), (sh, AQ G 7 8 sf)] ++ (SW G sa ha ra hw rs rm rw_ ++ PL LP hk hf))) C (z_runV (q := 0) (As := []) (rest := []) C (ct_X1_minds (zl X) G x b0 m0 tl le sh im fw fh lo a0 a1 a2 a3 a4 m1 m2 m3 m4 r hm at_ lg n oa dy mr1 mhm1 mat1 mlg1 mn1 moa1 mdy1 LP hk hf kd fg (by first | assumption | omega) (by first | assumption | omega)) (lw_V q577 q579 qs12 q58 q580) rfl rfl (sb_m [0, 1, 2, 3, 4, 5, 6, 7, 8, 9, 10] rfl rfl) (na := 0) (by decide +kernel) rfl (zrm rfl rfl (nb (by show i + 0 ≤ 10; omega)) (nb (by show i + 0 ≤ 10; omega))) rfl (Nat.le_of_ble_eq_true rfl) dX1_whatIs_82) (fun u => jn_m (Lr := [(sh, AQ G 7 8 sf)]) [0, 1, 2, 3, 4, 5, 6, 7, 8, 9, 10] [11] [1, 2, 3, 4, 5, 6, 7, 8, 9, 10, 11, 0] rfl rfl rfl (by decide) rfl rfl rfl) (fun u hp_82 => ?_)
                  refine z_aload_n C dX1_whatIs_85 rfl 3 rfl ?_
                  refine z_get (q := 0) (kf := 2) (v := .ref m0) C rfl rfl in_X1 (by decide) q882 (Or.inl rfl) rfl dX1_whatIs_86 ?_
                  refine z_get (q := 6) (kf := 0) (v := .ref m1) C rfl rfl in_X2 (by decide) q838 (Or.inl rfl) rfl dX1_whatIs_89 ?_
                  refine z_iload_n C dX1_whatIs_92 rfl 5 rfl ?_
                  refine z_iload C dX1_whatIs_93 7 rfl ?_
                  refine y_if_ne (tgt := 111) C (by omega) dX1_whatIs_95 (by decide) (fun c_95 => ?_) (fun c_95 => ?_)
                  · skip
                    exfalso; omega
                  · skip
                    refine z_iload C dX1_whatIs_98 0 rfl ?_
                    refine z_aload C dX1_whatIs_100 2 rfl ?_
                    obtain ⟨q_102, hq_102⟩ := mid_pl (L := [(x, .inr (10, [.ref a0, .ref b0, .ref m0, .int (zI im), .ref tl, .ref le, .int (zI fw), .int (zI fh), .int (zI lo), .ref sh])), (a0, .inr (8, [.ref a1, .ref a2, .ref a3, .ref a4, .int (zI (n : Int)), .int (zI oa), .int (zI dy)])), (a1, AQ G 4 7 r), (a2, AI G 7 hm), (a3, AI G 7 at_), (a4, AI G 7 lg), (m0, .inr (8, [.ref m1, .ref m2, .ref m3, .ref m4, .int (zI (n : Int)), .int (zI oa), .int (zI dy)])), (m1, AQ G 4 7 r), (m2, AI G 7 hm), (m3, AI G 7 at_), (m4, AI G 7 lg), (sh, AQ G 7 8 sf)]) (M := SW G sa ha ra hw rs rm rw_) (hk := hk) (hf := hf) hy2
                    rw [hy4] at hq_102
                    refine pool_fig C hk1 (hy3 ▸ hq_102) q324 dX1_whatIs_102 ?_
                    refine z_r (ws' := fun u q_105 => ([(q_105, .inr (i, [.int (zI (fg j))])), (x, .inr (10, [.ref a0, .ref b0, .ref m0, .int (zI im), .ref tl, .ref le, .int (zI fw), .int (zI fh), .int (zI lo), .ref sh])), (a0, .inr (8, [.ref a1, .ref a2, .ref a3, .ref a4, .int (zI (n : Int)), .int (zI oa), .int (zI dy)])), (a1, AQ G 4 7 r), (a2, AI G 7 hm), (a3, AI G 7 at_), (a4, AI G 7 lg), (m0, .inr (8, [.ref m1, .ref m2, .ref m3, .ref m4, .int (zI (n : Int)), .int (zI oa), .int (zI dy)])), (m1, AQ G 4 7 r), (m2, AI G 7 hm), (m3, AI G 7 at_), (m4, AI G 7 lg), (sh, AQ G 7 8 sf)] ++ (SW G sa ha ra hw rs rm rw_ ++ PL LP hk hf))) C (z_runS (As := [.int (zI (i : Int)), .int (zI (fg j))]) (rest := [.int (zI (j : Int)), .ref m1]) C (ct_X1_horseOf (zl X) G i (fg j) (by omega)) (lw_S q306 q307 q58 q308) (sb_e [] rfl rfl) (na := 2) (by decide +kernel) rfl (zrm rfl rfl (nb (by show i + 0 + 1 ≤ 10; omega)) (nb (by show i + 0 + 1 ≤ 10; omega))) rfl (Nat.le_of_ble_eq_true rfl) dX1_whatIs_105) (fun u q_105 => jn_q (Lr := [(x, .inr (10, [.ref a0, .ref b0, .ref m0, .int (zI im), .ref tl, .ref le, .int (zI fw), .int (zI fh), .int (zI lo), .ref sh])), (a0, .inr (8, [.ref a1, .ref a2, .ref a3, .ref a4, .int (zI (n : Int)), .int (zI oa), .int (zI dy)])), (a1, AQ G 4 7 r), (a2, AI G 7 hm), (a3, AI G 7 at_), (a4, AI G 7 lg), (m0, .inr (8, [.ref m1, .ref m2, .ref m3, .ref m4, .int (zI (n : Int)), .int (zI oa), .int (zI dy)])), (m1, AQ G 4 7 r), (m2, AI G 7 hm), (m3, AI G 7 at_), (m4, AI G 7 lg), (sh, AQ G 7 8 sf)]) [] [0, 1, 2, 3, 4, 5, 6, 7, 8, 9, 10, 11] [12, 0, 1, 2, 3, 4, 5, 6, 7, 8, 9, 10, 11] rfl rfl rfl (by decide) rfl rfl) (fun u q_105 hp_105 => ?_)
                    refine z_goto (tgt := 121) C dX1_whatIs_108 (by decide) ?_
                    refine y_astH (q := 8) (t0 := 4) (qk := 0) (g := va_up r j (some q_105)) (ws' := ([(q_105, .inr (i, [.int (zI (fg j))])), (x, .inr (10, [.ref a0, .ref b0, .ref m0, .int (zI im), .ref tl, .ref le, .int (zI fw), .int (zI fh), .int (zI lo), .ref sh])), (a0, .inr (8, [.ref a1, .ref a2, .ref a3, .ref a4, .int (zI (n : Int)), .int (zI oa), .int (zI dy)])), (a1, AQ G 4 7 r), (a2, AI G 7 hm), (a3, AI G 7 at_), (a4, AI G 7 lg), (m0, .inr (8, [.ref m1, .ref m2, .ref m3, .ref m4, .int (zI (n : Int)), .int (zI oa), .int (zI dy)])), (m1, AQ G 4 7 (va_up r j (some q_105))), (m2, AI G 7 hm), (m3, AI G 7 at_), (m4, AI G 7 lg), (sh, AQ G 7 8 sf)] ++ (SW G sa ha ra hw rs rm rw_ ++ PL LP hk hf))) C rfl rfl (kd := i) (by omega) rfl (by omega) (by decide) rfl rfl dX1_whatIs_121 ?_
                    refine z_push (L := [(x, .inr (10, [.ref a0, .ref b0, .ref m0, .int (zI im), .ref tl, .ref le, .int (zI fw), .int (zI fh), .int (zI lo), .ref sh])), (a0, .inr (8, [.ref a1, .ref a2, .ref a3, .ref a4, .int (zI (n : Int)), .int (zI oa), .int (zI dy)])), (a1, AQ G 4 7 r), (a2, AI G 7 hm), (a3, AI G 7 at_), (a4, AI G 7 lg), (m0, .inr (8, [.ref m1, .ref m2, .ref m3, .ref m4, .int (zI (n : Int)), .int (zI oa), .int (zI dy)])), (m1, AQ G 4 7 (va_up r j (some q_105))), (m2, AI G 7 hm), (m3, AI G 7 at_), (m4, AI G 7 lg), (sh, AQ G 7 8 sf)]) (M := SW G sa ha ra hw rs rm rw_) (k0 := i) (f := (fg j)) (fun hnq => ?_)
                    have hpx := PX.push hK hnq (k0 := i) (f := (fg j)) (by omega) (by omega)
                    have hH2 : HR (q_105 :: LP) (upN hk q_105 i) (va_up hf q_105 (fg j)) (va_up r j (some q_105)) n (upN kd j i) fg := hr_newk hH hpx
                    refine z_iload C dX1_whatIs_122 1 rfl ?_
                    refine z_aload_n C dX1_whatIs_124 rfl 3 rfl ?_
                    refine z_aload_n C dX1_whatIs_125 rfl 3 rfl ?_
                    refine z_get (q := 0) (kf := 9) (v := .ref sh) C rfl rfl in_X1 (by decide) q889 (Or.inl rfl) rfl dX1_whatIs_126 ?_
                    refine z_iload_n C dX1_whatIs_129 rfl 4 rfl ?_
                    refine y_aldq (q := 11) (t0 := 7) (v := .ref (sa e)) C rfl rfl (by omega) (by decide) (by show va_rf (sf e) = _; rw [hsf e he8]; rfl) dX1_whatIs_130 ?_
                    refine z_get (kf := 0) (v := hvF hw ha ra e) C (sw_at (L := [(x, .inr (10, [.ref a0, .ref b0, .ref m0, .int (zI im), .ref tl, .ref le, .int (zI fw), .int (zI fh), .int (zI lo), .ref sh])), (a0, .inr (8, [.ref a1, .ref a2, .ref a3, .ref a4, .int (zI (n : Int)), .int (zI oa), .int (zI dy)])), (a1, AQ G 4 7 r), (a2, AI G 7 hm), (a3, AI G 7 at_), (a4, AI G 7 lg), (m0, .inr (8, [.ref m1, .ref m2, .ref m3, .ref m4, .int (zI (n : Int)), .int (zI oa), .int (zI dy)])), (m1, AQ G 4 7 (va_up r j (some q_105))), (m2, AI G 7 hm), (m3, AI G 7 at_), (m4, AI G 7 lg), (sh, AQ G 7 8 sf)]) (d := e) he8) rfl in_X3 (by decide) q876 (Or.inl rfl) rfl dX1_whatIs_131 ?_
                    rw [show hvF hw ha ra e = .ref (ra e) from hvF_2 hwe]
                    refine z_rowOut (L := [(x, .inr (10, [.ref a0, .ref b0, .ref m0, .int (zI im), .ref tl, .ref le, .int (zI fw), .int (zI fh), .int (zI lo), .ref sh])), (a0, .inr (8, [.ref a1, .ref a2, .ref a3, .ref a4, .int (zI (n : Int)), .int (zI oa), .int (zI dy)])), (a1, AQ G 4 7 r), (a2, AI G 7 hm), (a3, AI G 7 at_), (a4, AI G 7 lg), (m0, .inr (8, [.ref m1, .ref m2, .ref m3, .ref m4, .int (zI (n : Int)), .int (zI oa), .int (zI dy)])), (m1, AQ G 4 7 (va_up r j (some q_105))), (m2, AI G 7 hm), (m3, AI G 7 at_), (m4, AI G 7 lg), (sh, AQ G 7 8 sf)]) he8 hwe hSe.2.2.2.2 (fun A_ B_ hAB hcg => ?_)
                    refine z_wsEq (ws' := ([(x, .inr (10, [.ref a0, .ref b0, .ref m0, .int (zI im), .ref tl, .ref le, .int (zI fw), .int (zI fh), .int (zI lo), .ref sh])), (a0, .inr (8, [.ref a1, .ref a2, .ref a3, .ref a4, .int (zI (n : Int)), .int (zI oa), .int (zI dy)])), (a1, AQ G 4 7 r), (a2, AI G 7 hm), (a3, AI G 7 at_), (a4, AI G 7 lg), (m0, .inr (8, [.ref m1, .ref m2, .ref m3, .ref m4, .int (zI (n : Int)), .int (zI oa), .int (zI dy)])), (m1, AQ G 4 7 (va_up r j (some q_105))), (m2, AI G 7 hm), (m3, AI G 7 at_), (m4, AI G 7 lg), (sh, AQ G 7 8 sf), ((ra e), RWc G (rs e) (rm e) (rowF rw_ e))] ++ ((A_ ++ B_) ++ PL (q_105 :: LP) (upN hk q_105 i) (va_up hf q_105 (fg j))))) rfl ?_
                    refine z_iload_n C dX1_whatIs_134 rfl 5 rfl ?_
                    refine z_iload_n C dX1_whatIs_135 rfl 6 rfl ?_
                    refine z_i (ws' := fun u => ([(x, .inr (10, [.ref a0, .ref b0, .ref m0, .int (zI im), .ref tl, .ref le, .int (zI fw), .int (zI fh), .int (zI lo), .ref sh])), (a0, .inr (8, [.ref a1, .ref a2, .ref a3, .ref a4, .int (zI (n : Int)), .int (zI oa), .int (zI dy)])), (a1, AQ G 4 7 r), (a2, AI G 7 hm), (a3, AI G 7 at_), (a4, AI G 7 lg), (m0, .inr (8, [.ref m1, .ref m2, .ref m3, .ref m4, .int (zI (n : Int)), .int (zI oa), .int (zI u.2.2)])), (m1, AQ G 4 7 (va_up r j (some q_105))), (m2, AI G 7 hm), (m3, AI G 7 u.1), (m4, AI G 7 u.2.1), (sh, AQ G 7 8 sf), ((ra e), RWc G (rs e) (rm e) (rowF rw_ e))] ++ ((A_ ++ B_) ++ PL (q_105 :: LP) (upN hk q_105 i) (va_up hf q_105 (fg j))))) C (z_runV (q := 0) (As := [.ref (ra e), .int (zI (j : Int)), .int (zI yard)]) (rest := [.int set]) C (ct_X1_wentSo_s (zl X) G (rs e) x b0 m0 tl le sh im fw fh lo a0 m1 m2 m3 m4 (va_up r j (some q_105)) hm at_ lg n oa dy (q_105 :: LP) (upN hk q_105 i) (va_up hf q_105 (fg j)) (upN kd j i) fg (ra e) (rm e) j (rowF rw_ e) yard (hSe.2.2.2.1) (hH2) ((by first | exact hL.kdu (by omega) | exact hL.fgu (by omega))) (by first | assumption | omega) (by first | assumption | omega) (hSe.2.2.2.2) (fun k => hS2 (100 * e + k))) (lw_V q735 q737 qs19 q58 q738) rfl rfl (sb_m [0, 6, 7, 8, 9, 10, 12] rfl rfl) (na := 3) (by decide +kernel) rfl (zrm rfl rfl (nb (by show i + 0 + 1 + 0 ≤ 10; omega)) (nb (by show i + 0 + 1 + 0 ≤ 10; omega))) rfl (Nat.le_of_ble_eq_true rfl) dX1_whatIs_136) (fun u => jn_m (Lr := [(a0, .inr (8, [.ref a1, .ref a2, .ref a3, .ref a4, .int (zI (n : Int)), .int (zI oa), .int (zI dy)])), (a1, AQ G 4 7 r), (a2, AI G 7 hm), (a3, AI G 7 at_), (a4, AI G 7 lg), (sh, AQ G 7 8 sf)]) [0, 6, 7, 8, 9, 10, 12] [1, 2, 3, 4, 5, 11] [6, 0, 1, 2, 3, 4, 7, 8, 9, 10, 11, 5, 12] rfl rfl rfl (by decide) rfl rfl rfl) (fun r_136 u hp_136 => ?_)
                    obtain ⟨at9_136, lg9_136, dy9_136⟩ := u
                    have hp_136 : r_136 = zI (rowB (rowF rw_ e) (skZ (rs e)) (upN kd j i) fg hm oa n j yard at_ lg (rm e)) := hp_136
                    subst hp_136
                    rw [show rowB (rowF rw_ e) (skZ (rs e)) (upN kd j i) fg hm oa n j yard at_ lg (rm e) = whtB (rowF rw_ e) (skZ (rs e)) (rm e) kd fg hm oa n j yard at_ lg what i from by unfold whtB; first | rw [if_pos (by omega)] | rw [if_neg (by omega)]]
                    have h01 : whtB (rowF rw_ e) (skZ (rs e)) (rm e) kd fg hm oa n j yard at_ lg what i = 0 ∨ whtB (rowF rw_ e) (skZ (rs e)) (rm e) kd fg hm oa n j yard at_ lg what i = 1 := by unfold whtB; split <;> exact rowB_01 _
                    refine z_rowIn (L := [(x, .inr (10, [.ref a0, .ref b0, .ref m0, .int (zI im), .ref tl, .ref le, .int (zI fw), .int (zI fh), .int (zI lo), .ref sh])), (a0, .inr (8, [.ref a1, .ref a2, .ref a3, .ref a4, .int (zI (n : Int)), .int (zI oa), .int (zI dy)])), (a1, AQ G 4 7 r), (a2, AI G 7 hm), (a3, AI G 7 at_), (a4, AI G 7 lg), (m0, .inr (8, [.ref m1, .ref m2, .ref m3, .ref m4, .int (zI (n : Int)), .int (zI oa), .int (zI dy9_136)])), (m1, AQ G 4 7 (va_up r j (some q_105))), (m2, AI G 7 hm), (m3, AI G 7 at9_136), (m4, AI G 7 lg9_136), (sh, AQ G 7 8 sf)]) hSe.2.2.2.2 hAB ?_
                    refine z_unpush (L := [(x, .inr (10, [.ref a0, .ref b0, .ref m0, .int (zI im), .ref tl, .ref le, .int (zI fw), .int (zI fh), .int (zI lo), .ref sh])), (a0, .inr (8, [.ref a1, .ref a2, .ref a3, .ref a4, .int (zI (n : Int)), .int (zI oa), .int (zI dy)])), (a1, AQ G 4 7 r), (a2, AI G 7 hm), (a3, AI G 7 at_), (a4, AI G 7 lg), (m0, .inr (8, [.ref m1, .ref m2, .ref m3, .ref m4, .int (zI (n : Int)), .int (zI oa), .int (zI dy9_136)])), (m1, AQ G 4 7 (va_up r j (some q_105))), (m2, AI G 7 hm), (m3, AI G 7 at9_136), (m4, AI G 7 lg9_136), (sh, AQ G 7 8 sf)]) hnq ?_
                    refine y_if_eq (tgt := 149) C (by omega) dX1_whatIs_139 (by decide) (fun hb0 => ?_) (fun hb0 => ?_)
                    · skip
                      refine y_iconst C dX1_whatIs_149 ?_
                      refine z_ior C dX1_whatIs_150 rfl ?_
                      refine z_istore (lv' := [(7, .int (set ||| (zI 0))), (8, .int (zI (i : Int))), (6, .ref y), (0, .ref x), (1, .int (zI (e : Int))), (2, .int (zI (j : Int))), (3, .int (zI yard)), (4, .int (zI what))]) C dX1_whatIs_151 (nlt rfl) rfl ?_
                      refine y_iinc (lv' := [(8, .int (zI ((i : Int) + 1))), (7, .int (set ||| (zI 0))), (6, .ref y), (0, .ref x), (1, .int (zI (e : Int))), (2, .int (zI (j : Int))), (3, .int (zI yard)), (4, .int (zI what))]) C dX1_whatIs_153 (q := 1) rfl (nlt rfl) rfl ?_
                      refine z_goto (tgt := 64) C dX1_whatIs_156 (by decide) ?_
                      refine z_wide (k' := (i + 1)) (n' := (i + 1)) (by show i + 0 + 1 + 0 ≤ (i + 1); omega) (by show i + 0 + 1 + 0 ≤ (i + 1); omega) ?_
                      exact ih_64 _ (by omega) (i + 1) ((set ||| (zI 0))) (va_up r j (some q_105)) hm at9_136 lg9_136 n oa dy9_136 (by first | assumption | omega) (by first | (rw [hst]; exact (bitsF_f hb0).symm) | (rw [hst]; exact (bitsF_t hb0).symm)) rfl
                    · skip
                      refine y_iconst C dX1_whatIs_142 ?_
                      refine z_iload C dX1_whatIs_143 0 rfl ?_
                      refine z_ishl C dX1_whatIs_145 rfl ?_
                      refine z_goto (tgt := 150) C dX1_whatIs_146 (by decide) ?_
                      refine z_ior C dX1_whatIs_150 rfl ?_
                      refine z_istore (lv' := [(7, .int (set ||| ((zI 1) <<< ((zI (i : Int)) &&& 31)))), (8, .int (zI (i : Int))), (6, .ref y), (0, .ref x), (1, .int (zI (e : Int))), (2, .int (zI (j : Int))), (3, .int (zI yard)), (4, .int (zI what))]) C dX1_whatIs_151 (nlt rfl) rfl ?_
                      refine y_iinc (lv' := [(8, .int (zI ((i : Int) + 1))), (7, .int (set ||| ((zI 1) <<< ((zI (i : Int)) &&& 31)))), (6, .ref y), (0, .ref x), (1, .int (zI (e : Int))), (2, .int (zI (j : Int))), (3, .int (zI yard)), (4, .int (zI what))]) C dX1_whatIs_153 (q := 1) rfl (nlt rfl) rfl ?_
                      refine z_goto (tgt := 64) C dX1_whatIs_156 (by decide) ?_
                      refine z_wide (k' := (i + 1)) (n' := (i + 1)) (by show i + 0 + 1 + 0 ≤ (i + 1); omega) (by show i + 0 + 1 + 0 ≤ (i + 1); omega) ?_
                      exact ih_64 _ (by omega) (i + 1) ((set ||| ((zI 1) <<< ((zI (i : Int)) &&& 31)))) (va_up r j (some q_105)) hm at9_136 lg9_136 n oa dy9_136 (by first | assumption | omega) (by first | (rw [hst]; exact (bitsF_f hb0).symm) | (rw [hst]; exact (bitsF_t hb0).symm)) rfl
          refine z_lv (lv' := [(8, .int (zI 0)), (7, .int (zI 0)), (6, .ref y), (0, .ref x), (1, .int (zI (e : Int))), (2, .int (zI (j : Int))), (3, .int (zI yard)), (4, .int (zI what))]) [0, 1, 2, 4, 5, 6, 7, 8] rfl ?_
          refine z_wide (k' := 0) (n' := 0) (by show 0 ≤ 0; omega) (by show 0 ≤ 0; omega) ?_
          exact L_64 _ 0 (zI 0) mr mhm mat mlg mn moa mdy (by first | assumption | omega) (rfl) rfl
        · skip
          refine z_iload C dX1_whatIs_44 0 rfl ?_
          exact z_iret C hA hQ rfl (Nat.le_of_ble_eq_true rfl) (Nat.le_of_ble_eq_true rfl) ((mr, mhm, mat, mlg, mn, moa, mdy)) ((by unfold oWhatIs; repeat (first | rw [if_pos (by omega)] | rw [if_neg (by omega)]))) (sb_p [0, 1, 2, 3, 4, 5, 6, 7, 8, 9, 10, 11] rfl rfl) dX1_whatIs_46

