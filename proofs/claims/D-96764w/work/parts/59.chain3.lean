/-! CHAIN, 3: the component -/
set_option maxRecDepth 100000
set_option maxHeartbeats 4000000 in
theorem ct_X1_isWorthwhile (l : Launch) (G : ZG) (x : Nat) (e0 : Nat) (e1 : Nat) (e2 : Nat) (e3 : Nat) (e4 : Nat) (at_ : Nat → Int) (n : Nat) (um : Nat) (oa : Int) (dy : Int) (yard : Int) (tY : Int) (hn7 : n ≤ 7) (hum : um < 128) (hy : -2147483648 ≤ yard ∧ yard ≤ 2147483647) (hty : -2147483648 ≤ tY ∧ tY ≤ 2147483647) (hat : ∀ i, i < n → 0 ≤ at_ i ∧ at_ i ≤ 20) : CT l yX1_isWorthwhile cX1_isWorthwhile 6 (some .boolean) { frames := 1, cells := 0, slots := 0, locals := 21 } G [.ref x, .ref e0, .int (zI (um : Int)), .int (zI yard), .int (zI tY)] [(e0, .inr (8, [.ref e1, .ref e2, .ref e3, .ref e4, .int (zI (n : Int)), .int (zI oa), .int (zI dy)])), (e3, AI G 7 at_)] (Qi G [(e0, .inr (8, [.ref e1, .ref e2, .ref e3, .ref e4, .int (zI (n : Int)), .int (zI oa), .int (zI dy)])), (e3, AI G 7 at_)] (fun (r : Int32) (u : Int) => r = zI u ∧ (u = 0 ∨ u = 1) ∧ (u = 0 → ¬ yard = tY ∧ ∀ i, i < n → um.testBit i = false → ¬ at_ i = yard)) (fun u => [(e0, .inr (8, [.ref e1, .ref e2, .ref e3, .ref e4, .int (zI (n : Int)), .int (zI oa), .int (zI dy)])), (e3, AI G 7 at_)])) := by
  refine z_met (by decide) (Nat.le_of_ble_eq_true rfl) ?_
  intro X A hl0 hA C hQ hin
  subst hl0
  show Z X _ G 0 0 _ 0 [(0, .ref x), (1, .ref e0), (2, .int (zI (um : Int))), (3, .int (zI yard)), (4, .int (zI tY))] []
  refine z_iload_n C dX1_isWorthwhile_0 rfl 3 rfl ?_
  refine z_iload C dX1_isWorthwhile_1 4 rfl ?_
  refine y_icmp_ne (tgt := 8) C (by omega) (by omega) dX1_isWorthwhile_3 (by decide) (fun c_3 => ?_) (fun c_3 => ?_)
  · skip
    refine y_iconst C dX1_isWorthwhile_8 ?_
    refine z_istore (lv' := [(5, .int (zI 0)), (0, .ref x), (1, .ref e0), (2, .int (zI (um : Int))), (3, .int (zI yard)), (4, .int (zI tY))]) C dX1_isWorthwhile_9 (nlt rfl) rfl ?_
    have L_11 : ∀ (tt : Nat) (i : Nat), (i ≤ n) → (∀ q, q < i → um.testBit q = false → ¬ at_ q = yard) → n - i = tt → Z X (cX1_isWorthwhile, 6, yX1_isWorthwhile.cls, (some .boolean), { frames := 1, cells := 0, slots := 0, locals := 21 }, A) G 0 0 [(e0, .inr (8, [.ref e1, .ref e2, .ref e3, .ref e4, .int (zI (n : Int)), .int (zI oa), .int (zI dy)])), (e3, AI G 7 at_)] 11 [(5, .int (zI (i : Int))), (0, .ref x), (1, .ref e0), (2, .int (zI (um : Int))), (3, .int (zI yard)), (4, .int (zI tY))] [] := by
      intro tt
      induction tt using Nat.strongRecOn with
      | _ tt ih_11 =>
        intro i hi hno ht_11
        refine z_iload C dX1_isWorthwhile_11 0 rfl ?_
        refine z_aload_n C dX1_isWorthwhile_13 rfl 2 rfl ?_
        refine z_get (q := 0) (kf := 4) (v := .int (zI (n : Int))) C rfl rfl in_X2 (by decide) q846 (Or.inl rfl) rfl dX1_isWorthwhile_14 ?_
        refine y_icmp_ge (tgt := 48) C (by omega) (by omega) dX1_isWorthwhile_17 (by decide) (fun c_17 => ?_) (fun c_17 => ?_)
        · skip
          refine y_iconst C dX1_isWorthwhile_48 ?_
          rw [show i = n by omega] at hno
          exact z_zret C hA hQ rfl (Nat.le_of_ble_eq_true rfl) (Nat.le_of_ble_eq_true rfl) (0) (⟨rfl, Or.inl rfl, fun _ => ⟨by omega, hno⟩⟩) (rfl) (sb_e [0, 1] rfl rfl) dX1_isWorthwhile_49
        · skip
          refine z_iload_n C dX1_isWorthwhile_20 rfl 3 rfl ?_
          refine z_iload C dX1_isWorthwhile_21 0 rfl ?_
          refine z_i C (z_runS (As := [.int (zI (um : Int)), .int (zI (i : Int))]) (rest := []) C (ct_X1_has (zl X) G (zI (um : Int)) (i : Int) ) (lw_S q625 q626 q58 q627) (sb_e [] rfl rfl) (na := 2) (by decide +kernel) rfl (zrm rfl rfl (rfl) (rfl)) rfl (Nat.le_of_ble_eq_true rfl) dX1_isWorthwhile_23) (fun u => jn_ro (sb_e [] rfl rfl)) (fun r_23 u hp_23 => ?_)
          have hp_23 : r_23 = zI (hasQ (zI (um : Int)) (zI (i : Int))) := hp_23
          subst hp_23
          rw [hasQ_n hum (show i < 7 by omega)]
          have hb1 := hasB_r um i
          refine y_if_ne (tgt := 42) C (by omega) dX1_isWorthwhile_26 (by decide) (fun c_26 => ?_) (fun c_26 => ?_)
          · skip
            refine y_iinc (lv' := [(5, .int (zI ((i : Int) + 1))), (0, .ref x), (1, .ref e0), (2, .int (zI (um : Int))), (3, .int (zI yard)), (4, .int (zI tY))]) C dX1_isWorthwhile_42 (q := 0) rfl (nlt rfl) rfl ?_
            refine z_goto (tgt := 11) C dX1_isWorthwhile_45 (by decide) ?_
            exact ih_11 _ (by omega) (i + 1) (by first | assumption | omega) (fun q hq ht => by
              rcases Nat.lt_succ_iff_lt_or_eq.mp hq with c | c
              · exact hno q c ht
              · subst c
                first
                | exact absurd ht (hasB_1 (by assumption))
                | (intro e; omega)) rfl
          · skip
            have hai := hat i (by omega)
            refine z_aload_n C dX1_isWorthwhile_29 rfl 2 rfl ?_
            refine z_get (q := 0) (kf := 2) (v := .ref e3) C rfl rfl in_X2 (by decide) q842 (Or.inl rfl) rfl dX1_isWorthwhile_30 ?_
            refine z_iload C dX1_isWorthwhile_33 0 rfl ?_
            refine y_iald (q := 1) (t0 := 0) (v := at_ i) C rfl rfl (by omega) (by decide) rfl dX1_isWorthwhile_35 ?_
            refine z_iload_n C dX1_isWorthwhile_36 rfl 4 rfl ?_
            refine y_icmp_ne (tgt := 42) C (by omega) (by omega) dX1_isWorthwhile_37 (by decide) (fun c_37 => ?_) (fun c_37 => ?_)
            · skip
              refine y_iinc (lv' := [(5, .int (zI ((i : Int) + 1))), (0, .ref x), (1, .ref e0), (2, .int (zI (um : Int))), (3, .int (zI yard)), (4, .int (zI tY))]) C dX1_isWorthwhile_42 (q := 0) rfl (nlt rfl) rfl ?_
              refine z_goto (tgt := 11) C dX1_isWorthwhile_45 (by decide) ?_
              exact ih_11 _ (by omega) (i + 1) (by first | assumption | omega) (fun q hq ht => by
                rcases Nat.lt_succ_iff_lt_or_eq.mp hq with c | c
                · exact hno q c ht
                · subst c
                  first
                  | exact absurd ht (hasB_1 (by assumption))
                  | (intro e; omega)) rfl
            · skip
              refine y_iconst C dX1_isWorthwhile_40 ?_
              exact z_zret C hA hQ rfl (Nat.le_of_ble_eq_true rfl) (Nat.le_of_ble_eq_true rfl) (1) (⟨rfl, Or.inr rfl, fun z => absurd z (by decide)⟩) (rfl) (sb_e [0, 1] rfl rfl) dX1_isWorthwhile_41
    exact L_11 _ 0 (by first | assumption | omega) (fun q hq => absurd hq (Nat.not_lt_zero q)) rfl
  · skip
    refine y_iconst C dX1_isWorthwhile_6 ?_
    exact z_zret C hA hQ rfl (Nat.le_of_ble_eq_true rfl) (Nat.le_of_ble_eq_true rfl) (1) (⟨rfl, Or.inr rfl, fun z => absurd z (by decide)⟩) (rfl) (sb_e [0, 1] rfl rfl) dX1_isWorthwhile_7

set_option maxHeartbeats 4000000 in
theorem ct_X1_chainsFrom_3 (l : Launch) (G : ZG) (x : Nat) (b0 : Nat) (m0 : Nat) (tl : Nat) (le : Nat) (sh : Nat) (im : Int) (lo : Int) (a0 : Nat) (a1 : Nat) (a2 : Nat) (a3 : Nat) (a4 : Nat) (r : Nat → Option Nat) (hm : Nat → Int) (at_ : Nat → Int) (lg : Nat → Int) (n : Nat) (oa : Int) (dy : Int) (LP : List Nat) (hk : Nat → Nat) (hf : Nat → Int) (kd : Nat → Nat) (fg : Nat → Int) (dya : Int) (lf : Nat → Option Nat) (e30 : Nat) (e31 : Nat) (e32 : Nat) (e33 : Nat) (e34 : Nat) (um : Nat) (pl : Int) (tY : Int) (d : Int) (f : Int) (v1 : Int) (v2 : Int) (hH : HR LP hk hf r n kd fg) (hL : LK n kd fg hm at_ lg oa) (hK : PK LP hk hf) (hV : RV LP r) (hum : um < 128) (hty : 0 ≤ tY ∧ tY ≤ 20) (hpl : 0 ≤ pl ∧ pl ≤ 20) (hd : 0 ≤ d ∧ d ≤ 60) (hff : -4 ≤ f ∧ f ≤ 7) (hs : CI (v1, v2)) (hl3 : lf 3 = some e30) : CT l yX1_chainsFrom cX1_chainsFrom 10 none { frames := 0, cells := 0, slots := 0, locals := 0 } G [.ref x, .int (zI 3), .int (zI pl), .int (zI tY), .int (zI (um : Int)), .int (zI d), .int (zI f)] ([(x, .inr (10, [.ref a0, .ref b0, .ref m0, .int (zI im), .ref tl, .ref le, .int (zI (encW v1)), .int (zI v2), .int (zI lo), .ref sh])), (a0, .inr (8, [.ref a1, .ref a2, .ref a3, .ref a4, .int (zI (n : Int)), .int (zI oa), .int (zI dya)])), (le, AQ G 6 4 lf), (e30, .inr (8, [.ref e31, .ref e32, .ref e33, .ref e34, .int (zI (n : Int)), .int (zI oa), .int (zI dy)])), (e31, AQ G 4 7 r), (e32, AI G 7 hm), (e33, AI G 7 at_), (e34, AI G 7 lg)] ++ PL LP hk hf) (Qv G ([(x, .inr (10, [.ref a0, .ref b0, .ref m0, .int (zI im), .ref tl, .ref le, .int (zI (encW v1)), .int (zI v2), .int (zI lo), .ref sh])), (a0, .inr (8, [.ref a1, .ref a2, .ref a3, .ref a4, .int (zI (n : Int)), .int (zI oa), .int (zI dya)])), (le, AQ G 6 4 lf), (e30, .inr (8, [.ref e31, .ref e32, .ref e33, .ref e34, .int (zI (n : Int)), .int (zI oa), .int (zI dy)])), (e31, AQ G 4 7 r), (e32, AI G 7 hm), (e33, AI G 7 at_), (e34, AI G 7 lg)] ++ PL LP hk hf) (fun (u : Unit) => True) (fun u => ([(x, .inr (10, [.ref a0, .ref b0, .ref m0, .int (zI im), .ref tl, .ref le, .int (zI (encW (chF kd fg hm n oa tY 0 um at_ lg pl d f (v1, v2)).1)), .int (zI ((chF kd fg hm n oa tY 0 um at_ lg pl d f (v1, v2)).2)), .int (zI lo), .ref sh])), (a0, .inr (8, [.ref a1, .ref a2, .ref a3, .ref a4, .int (zI (n : Int)), .int (zI oa), .int (zI dya)])), (le, AQ G 6 4 lf), (e30, .inr (8, [.ref e31, .ref e32, .ref e33, .ref e34, .int (zI (n : Int)), .int (zI oa), .int (zI dy)])), (e31, AQ G 4 7 r), (e32, AI G 7 hm), (e33, AI G 7 at_), (e34, AI G 7 lg)] ++ PL LP hk hf))) := by
  refine z_met (by decide) (Nat.le_of_ble_eq_true rfl) ?_
  intro X A hl0 hA C hQ hin
  subst hl0
  obtain ⟨hn7, hoa, hLj⟩ := id hL
  have hen := encW_r hs
  have hen1 : 0 ≤ encW v1 ∧ encW v1 ≤ 1000000000 := hen
  show Z X _ G 0 0 _ 0 [(0, .ref x), (1, .int (zI 3)), (2, .int (zI pl)), (3, .int (zI tY)), (4, .int (zI (um : Int))), (5, .int (zI d)), (6, .int (zI f))] []
  refine z_iload_n C dX1_chainsFrom_0 rfl 2 rfl ?_
  refine z_iload_n C dX1_chainsFrom_1 rfl 3 rfl ?_
  refine y_icmp_ne (tgt := 28) C (by omega) (by omega) dX1_chainsFrom_2 (by decide) (fun c_2 => ?_) (fun c_2 => ?_)
  · skip
    refine z_iload_n C dX1_chainsFrom_28 rfl 1 rfl ?_
    refine y_iconst C dX1_chainsFrom_29 ?_
    refine y_icmp_eq (tgt := 42) C (by omega) (by omega) dX1_chainsFrom_30 (by decide) (fun c_30 => ?_) (fun c_30 => ?_)
    · skip
      refine z_wsEq (ws' := ([(x, .inr (10, [.ref a0, .ref b0, .ref m0, .int (zI im), .ref tl, .ref le, .int (zI (encW (chF kd fg hm n oa tY 0 um at_ lg pl d f (v1, v2)).1)), .int (zI ((chF kd fg hm n oa tY 0 um at_ lg pl d f (v1, v2)).2)), .int (zI lo), .ref sh])), (a0, .inr (8, [.ref a1, .ref a2, .ref a3, .ref a4, .int (zI (n : Int)), .int (zI oa), .int (zI dya)])), (le, AQ G 6 4 lf), (e30, .inr (8, [.ref e31, .ref e32, .ref e33, .ref e34, .int (zI (n : Int)), .int (zI oa), .int (zI dy)])), (e31, AQ G 4 7 r), (e32, AI G 7 hm), (e33, AI G 7 at_), (e34, AI G 7 lg)] ++ PL LP hk hf)) (by rw [show chF kd fg hm n oa tY 0 um at_ lg pl d f (v1, v2) = (v1, v2) from chF_0n (by omega)]) ?_
      exact z_vret C hA hQ rfl (Nat.le_of_ble_eq_true rfl) (Nat.le_of_ble_eq_true rfl) (()) (trivial) (sb_p [0, 1, 2, 3, 4, 5, 6, 7] rfl rfl) dX1_chainsFrom_42
    · skip
      exact absurd rfl c_30
  · skip
    refine z_iload C dX1_chainsFrom_5 5 rfl ?_
    refine z_aload_n C dX1_chainsFrom_7 rfl 0 rfl ?_
    refine z_get (q := 0) (kf := 6) (v := .int (zI (encW v1))) C rfl rfl in_X1 (by decide) q886 (Or.inl rfl) rfl dX1_chainsFrom_8 ?_
    refine y_icmp_lt (tgt := 15) C (by omega) (by omega) dX1_chainsFrom_11 (by decide) (fun c_11 => ?_) (fun c_11 => ?_)
    · skip
      refine z_aload_n C dX1_chainsFrom_15 rfl 0 rfl ?_
      refine z_iload C dX1_chainsFrom_16 5 rfl ?_
      refine z_put (q := 0) (kf := 6) (ws' := ([(x, .inr (10, [.ref a0, .ref b0, .ref m0, .int (zI im), .ref tl, .ref le, .int (zI d), .int (zI v2), .int (zI lo), .ref sh])), (a0, .inr (8, [.ref a1, .ref a2, .ref a3, .ref a4, .int (zI (n : Int)), .int (zI oa), .int (zI dya)])), (le, AQ G 6 4 lf), (e30, .inr (8, [.ref e31, .ref e32, .ref e33, .ref e34, .int (zI (n : Int)), .int (zI oa), .int (zI dy)])), (e31, AQ G 4 7 r), (e32, AI G 7 hm), (e33, AI G 7 at_), (e34, AI G 7 lg)] ++ PL LP hk hf)) C rfl rfl in_X1 tyX1_ok nmX1 (by decide) q886 rfl rfl rfl rfl rfl (nlt rfl) rfl dX1_chainsFrom_18 ?_
      refine z_aload_n C dX1_chainsFrom_21 rfl 0 rfl ?_
      refine z_iload C dX1_chainsFrom_22 6 rfl ?_
      refine z_put (q := 0) (kf := 7) (ws' := ([(x, .inr (10, [.ref a0, .ref b0, .ref m0, .int (zI im), .ref tl, .ref le, .int (zI d), .int (zI f), .int (zI lo), .ref sh])), (a0, .inr (8, [.ref a1, .ref a2, .ref a3, .ref a4, .int (zI (n : Int)), .int (zI oa), .int (zI dya)])), (le, AQ G 6 4 lf), (e30, .inr (8, [.ref e31, .ref e32, .ref e33, .ref e34, .int (zI (n : Int)), .int (zI oa), .int (zI dy)])), (e31, AQ G 4 7 r), (e32, AI G 7 hm), (e33, AI G 7 at_), (e34, AI G 7 lg)] ++ PL LP hk hf)) C rfl rfl in_X1 tyX1_ok nmX1 (by decide) q887 rfl rfl rfl rfl rfl (nlt rfl) rfl dX1_chainsFrom_24 ?_
      refine z_wsEq (ws' := ([(x, .inr (10, [.ref a0, .ref b0, .ref m0, .int (zI im), .ref tl, .ref le, .int (zI (encW (chF kd fg hm n oa tY 0 um at_ lg pl d f (v1, v2)).1)), .int (zI ((chF kd fg hm n oa tY 0 um at_ lg pl d f (v1, v2)).2)), .int (zI lo), .ref sh])), (a0, .inr (8, [.ref a1, .ref a2, .ref a3, .ref a4, .int (zI (n : Int)), .int (zI oa), .int (zI dya)])), (le, AQ G 6 4 lf), (e30, .inr (8, [.ref e31, .ref e32, .ref e33, .ref e34, .int (zI (n : Int)), .int (zI oa), .int (zI dy)])), (e31, AQ G 4 7 r), (e32, AI G 7 hm), (e33, AI G 7 at_), (e34, AI G 7 lg)] ++ PL LP hk hf)) (by rw [show chF kd fg hm n oa tY 0 um at_ lg pl d f (v1, v2) = (d, f) from (chF_to _ (by omega)).trans (encW_t (s := (v1, v2)) (by omega) (show d < encW v1 by omega))]; rw [show encW (d, f).1 = d from encW_p (show 0 ≤ d by omega)]) ?_
      exact z_vret C hA hQ rfl (Nat.le_of_ble_eq_true rfl) (Nat.le_of_ble_eq_true rfl) (()) (trivial) (sb_p [0, 1, 2, 3, 4, 5, 6, 7] rfl rfl) dX1_chainsFrom_27
    · skip
      refine z_wsEq (ws' := ([(x, .inr (10, [.ref a0, .ref b0, .ref m0, .int (zI im), .ref tl, .ref le, .int (zI (encW (chF kd fg hm n oa tY 0 um at_ lg pl d f (v1, v2)).1)), .int (zI ((chF kd fg hm n oa tY 0 um at_ lg pl d f (v1, v2)).2)), .int (zI lo), .ref sh])), (a0, .inr (8, [.ref a1, .ref a2, .ref a3, .ref a4, .int (zI (n : Int)), .int (zI oa), .int (zI dya)])), (le, AQ G 6 4 lf), (e30, .inr (8, [.ref e31, .ref e32, .ref e33, .ref e34, .int (zI (n : Int)), .int (zI oa), .int (zI dy)])), (e31, AQ G 4 7 r), (e32, AI G 7 hm), (e33, AI G 7 at_), (e34, AI G 7 lg)] ++ PL LP hk hf)) (by rw [show chF kd fg hm n oa tY 0 um at_ lg pl d f (v1, v2) = (v1, v2) from (chF_to _ (by omega)).trans (tkC_old (encW_f (s := (v1, v2)) (show d ≤ 60 by omega) (show encW v1 ≤ d by omega)).1 (encW_f (s := (v1, v2)) (show d ≤ 60 by omega) (show encW v1 ≤ d by omega)).2)]) ?_
      exact z_vret C hA hQ rfl (Nat.le_of_ble_eq_true rfl) (Nat.le_of_ble_eq_true rfl) (()) (trivial) (sb_p [0, 1, 2, 3, 4, 5, 6, 7] rfl rfl) dX1_chainsFrom_14

set_option maxHeartbeats 4000000 in
theorem ct_X1_chainsFrom_2 (l : Launch) (G : ZG) (x : Nat) (b0 : Nat) (m0 : Nat) (tl : Nat) (le : Nat) (sh : Nat) (im : Int) (lo : Int) (a0 : Nat) (a1 : Nat) (a2 : Nat) (a3 : Nat) (a4 : Nat) (r : Nat → Option Nat) (hm : Nat → Int) (at_ : Nat → Int) (lg : Nat → Int) (n : Nat) (oa : Int) (dy : Int) (LP : List Nat) (hk : Nat → Nat) (hf : Nat → Int) (kd : Nat → Nat) (fg : Nat → Int) (dya : Int) (lf : Nat → Option Nat) (e20 : Nat) (e21 : Nat) (e22 : Nat) (e23 : Nat) (e24 : Nat) (e30 : Nat) (e31 : Nat) (e32 : Nat) (e33 : Nat) (e34 : Nat) (rr3 : Nat → Option Nat) (hh3 : Nat → Int) (aa3 : Nat → Int) (ll3 : Nat → Int) (nn3 : Nat) (oo3 : Int) (dd3 : Int) (um : Nat) (pl : Int) (tY : Int) (d : Int) (f : Int) (v1 : Int) (v2 : Int) (hH : HR LP hk hf r n kd fg) (hL : LK n kd fg hm at_ lg oa) (hK : PK LP hk hf) (hV : RV LP r) (hum : um < 128) (hty : 0 ≤ tY ∧ tY ≤ 20) (hpl : 0 ≤ pl ∧ pl ≤ 20) (hd : 0 ≤ d ∧ d ≤ 40) (hff : -4 ≤ f ∧ f ≤ 7) (hs : CI (v1, v2)) (hu0 : ¬ um = 0) (hl2 : lf 2 = some e20) (hl3 : lf 3 = some e30) : CT l yX1_chainsFrom cX1_chainsFrom 10 none { frames := 8, cells := 0, slots := 0, locals := 166 } G [.ref x, .int (zI 2), .int (zI pl), .int (zI tY), .int (zI (um : Int)), .int (zI d), .int (zI f)] ([(x, .inr (10, [.ref a0, .ref b0, .ref m0, .int (zI im), .ref tl, .ref le, .int (zI (encW v1)), .int (zI v2), .int (zI lo), .ref sh])), (a0, .inr (8, [.ref a1, .ref a2, .ref a3, .ref a4, .int (zI (n : Int)), .int (zI oa), .int (zI dya)])), (le, AQ G 6 4 lf), (e20, .inr (8, [.ref e21, .ref e22, .ref e23, .ref e24, .int (zI (n : Int)), .int (zI oa), .int (zI dy)])), (e21, AQ G 4 7 r), (e22, AI G 7 hm), (e23, AI G 7 at_), (e24, AI G 7 lg), (e30, .inr (8, [.ref e31, .ref e32, .ref e33, .ref e34, .int (zI (nn3 : Int)), .int (zI oo3), .int (zI dd3)])), (e31, AQ G 4 7 rr3), (e32, AI G 7 hh3), (e33, AI G 7 aa3), (e34, AI G 7 ll3)] ++ PL LP hk hf) (Qv G ([(x, .inr (10, [.ref a0, .ref b0, .ref m0, .int (zI im), .ref tl, .ref le, .int (zI (encW v1)), .int (zI v2), .int (zI lo), .ref sh])), (a0, .inr (8, [.ref a1, .ref a2, .ref a3, .ref a4, .int (zI (n : Int)), .int (zI oa), .int (zI dya)])), (le, AQ G 6 4 lf), (e20, .inr (8, [.ref e21, .ref e22, .ref e23, .ref e24, .int (zI (n : Int)), .int (zI oa), .int (zI dy)])), (e21, AQ G 4 7 r), (e22, AI G 7 hm), (e23, AI G 7 at_), (e24, AI G 7 lg), (e30, .inr (8, [.ref e31, .ref e32, .ref e33, .ref e34, .int (zI (nn3 : Int)), .int (zI oo3), .int (zI dd3)])), (e31, AQ G 4 7 rr3), (e32, AI G 7 hh3), (e33, AI G 7 aa3), (e34, AI G 7 ll3)] ++ PL LP hk hf) (fun (u : (Nat → Option Nat) × (Nat → Int) × (Nat → Int) × (Nat → Int) × Nat × Int × Int) => True) (fun u => ([(x, .inr (10, [.ref a0, .ref b0, .ref m0, .int (zI im), .ref tl, .ref le, .int (zI (encW (chF kd fg hm n oa tY 1 um at_ lg pl d f (v1, v2)).1)), .int (zI ((chF kd fg hm n oa tY 1 um at_ lg pl d f (v1, v2)).2)), .int (zI lo), .ref sh])), (a0, .inr (8, [.ref a1, .ref a2, .ref a3, .ref a4, .int (zI (n : Int)), .int (zI oa), .int (zI dya)])), (le, AQ G 6 4 lf), (e20, .inr (8, [.ref e21, .ref e22, .ref e23, .ref e24, .int (zI (n : Int)), .int (zI oa), .int (zI dy)])), (e21, AQ G 4 7 r), (e22, AI G 7 hm), (e23, AI G 7 at_), (e24, AI G 7 lg), (e30, .inr (8, [.ref e31, .ref e32, .ref e33, .ref e34, .int (zI (u.2.2.2.2.1 : Int)), .int (zI u.2.2.2.2.2.1), .int (zI u.2.2.2.2.2.2)])), (e31, AQ G 4 7 u.1), (e32, AI G 7 u.2.1), (e33, AI G 7 u.2.2.1), (e34, AI G 7 u.2.2.2.1)] ++ PL LP hk hf))) := by
  refine z_met (by decide) (Nat.le_of_ble_eq_true rfl) ?_
  intro X A hl0 hA C hQ hin
  subst hl0
  obtain ⟨hn7, hoa, hLj⟩ := id hL
  have hen := encW_r hs
  have hen1 : 0 ≤ encW v1 ∧ encW v1 ≤ 1000000000 := hen
  show Z X _ G 0 0 _ 0 [(0, .ref x), (1, .int (zI 2)), (2, .int (zI pl)), (3, .int (zI tY)), (4, .int (zI (um : Int))), (5, .int (zI d)), (6, .int (zI f))] []
  refine z_iload_n C dX1_chainsFrom_0 rfl 2 rfl ?_
  refine z_iload_n C dX1_chainsFrom_1 rfl 3 rfl ?_
  refine y_icmp_ne (tgt := 28) C (by omega) (by omega) dX1_chainsFrom_2 (by decide) (fun c_2 => ?_) (fun c_2 => ?_)
  · skip
    refine z_iload_n C dX1_chainsFrom_28 rfl 1 rfl ?_
    refine y_iconst C dX1_chainsFrom_29 ?_
    refine y_icmp_eq (tgt := 42) C (by omega) (by omega) dX1_chainsFrom_30 (by decide) (fun c_30 => ?_) (fun c_30 => ?_)
    · skip
      exact absurd c_30 (by decide)
    · skip
      refine z_iload C dX1_chainsFrom_33 5 rfl ?_
      refine z_aload_n C dX1_chainsFrom_35 rfl 0 rfl ?_
      refine z_get (q := 0) (kf := 6) (v := .int (zI (encW v1))) C rfl rfl in_X1 (by decide) q886 (Or.inl rfl) rfl dX1_chainsFrom_36 ?_
      refine y_icmp_lt (tgt := 43) C (by omega) (by omega) dX1_chainsFrom_39 (by decide) (fun c_39 => ?_) (fun c_39 => ?_)
      · skip
        refine y_iconst C dX1_chainsFrom_43 ?_
        refine z_istore (lv' := [(7, .int (zI 0)), (0, .ref x), (1, .int (zI 2)), (2, .int (zI pl)), (3, .int (zI tY)), (4, .int (zI (um : Int))), (5, .int (zI d)), (6, .int (zI f))]) C dX1_chainsFrom_44 (nlt rfl) rfl ?_
        have L_46 : ∀ (tt : Nat) (h : Nat) (w1 : Int) (w2 : Int) (rr31 : Nat → Option Nat) (hh31 : Nat → Int) (aa31 : Nat → Int) (ll31 : Nat → Int) (nn31 : Nat) (oo31 : Int) (dd31 : Int), (h ≤ n) → (foldN (chG kd fg hm n oa tY 0 um at_ lg pl d f) (21 * h) (v1, v2) = (w1, w2)) → n - h = tt → Z X (cX1_chainsFrom, 10, yX1_chainsFrom.cls, none, { frames := 8, cells := 0, slots := 0, locals := 166 }, A) G 0 0 ([(x, .inr (10, [.ref a0, .ref b0, .ref m0, .int (zI im), .ref tl, .ref le, .int (zI (encW w1)), .int (zI w2), .int (zI lo), .ref sh])), (a0, .inr (8, [.ref a1, .ref a2, .ref a3, .ref a4, .int (zI (n : Int)), .int (zI oa), .int (zI dya)])), (le, AQ G 6 4 lf), (e20, .inr (8, [.ref e21, .ref e22, .ref e23, .ref e24, .int (zI (n : Int)), .int (zI oa), .int (zI dy)])), (e21, AQ G 4 7 r), (e22, AI G 7 hm), (e23, AI G 7 at_), (e24, AI G 7 lg), (e30, .inr (8, [.ref e31, .ref e32, .ref e33, .ref e34, .int (zI (nn31 : Int)), .int (zI oo31), .int (zI dd31)])), (e31, AQ G 4 7 rr31), (e32, AI G 7 hh31), (e33, AI G 7 aa31), (e34, AI G 7 ll31)] ++ PL LP hk hf) 46 [(7, .int (zI (h : Int))), (0, .ref x), (1, .int (zI 2)), (2, .int (zI pl)), (3, .int (zI tY)), (4, .int (zI (um : Int))), (5, .int (zI d)), (6, .int (zI f))] [] := by
          intro tt
          induction tt using Nat.strongRecOn with
          | _ tt ih_46 =>
            intro h w1 w2 rr31 hh31 aa31 ll31 nn31 oo31 dd31 hh hst ht_46
            have hci : CI (w1, w2) := hst ▸ (foldG_ci hn7 hs hd.1 (by omega) hff (by omega))
            refine z_iload C dX1_chainsFrom_46 0 rfl ?_
            refine z_aload_n C dX1_chainsFrom_48 rfl 1 rfl ?_
            refine z_get (q := 0) (kf := 0) (v := .ref a0) C rfl rfl in_X1 (by decide) q880 (Or.inl rfl) rfl dX1_chainsFrom_49 ?_
            refine z_get (q := 1) (kf := 4) (v := .int (zI (n : Int))) C rfl rfl in_X2 (by decide) q846 (Or.inl rfl) rfl dX1_chainsFrom_52 ?_
            refine y_icmp_ge (tgt := 208) C (by omega) (by omega) dX1_chainsFrom_55 (by decide) (fun c_55 => ?_) (fun c_55 => ?_)
            · skip
              rw [show h = n by omega] at hst
              refine z_wsEq (ws' := ([(x, .inr (10, [.ref a0, .ref b0, .ref m0, .int (zI im), .ref tl, .ref le, .int (zI (encW (chF kd fg hm n oa tY 1 um at_ lg pl d f (v1, v2)).1)), .int (zI ((chF kd fg hm n oa tY 1 um at_ lg pl d f (v1, v2)).2)), .int (zI lo), .ref sh])), (a0, .inr (8, [.ref a1, .ref a2, .ref a3, .ref a4, .int (zI (n : Int)), .int (zI oa), .int (zI dya)])), (le, AQ G 6 4 lf), (e20, .inr (8, [.ref e21, .ref e22, .ref e23, .ref e24, .int (zI (n : Int)), .int (zI oa), .int (zI dy)])), (e21, AQ G 4 7 r), (e22, AI G 7 hm), (e23, AI G 7 at_), (e24, AI G 7 lg), (e30, .inr (8, [.ref e31, .ref e32, .ref e33, .ref e34, .int (zI (nn31 : Int)), .int (zI oo31), .int (zI dd31)])), (e31, AQ G 4 7 rr31), (e32, AI G 7 hh31), (e33, AI G 7 aa31), (e34, AI G 7 ll31)] ++ PL LP hk hf)) (by rw [show chF kd fg hm n oa tY 1 um at_ lg pl d f (v1, v2) = (w1, w2) from (chF_sn (by omega)).trans hst]) ?_
              exact z_vret C hA hQ rfl (Nat.le_of_ble_eq_true rfl) (Nat.le_of_ble_eq_true rfl) ((rr31, hh31, aa31, ll31, nn31, oo31, dd31)) (trivial) (sb_p [0, 1, 2, 3, 4, 5, 6, 7, 8, 9, 10, 11, 12] rfl rfl) dX1_chainsFrom_208
            · skip
              refine z_iload C dX1_chainsFrom_58 5 rfl ?_
              refine z_iload C dX1_chainsFrom_60 0 rfl ?_
              refine z_i C (z_runS (As := [.int (zI (um : Int)), .int (zI (h : Int))]) (rest := []) C (ct_X1_has (zl X) G (zI (um : Int)) (h : Int) ) (lw_S q625 q626 q58 q627) (sb_e [] rfl rfl) (na := 2) (by decide +kernel) rfl (zrm rfl rfl (rfl) (rfl)) rfl (Nat.le_of_ble_eq_true rfl) dX1_chainsFrom_62) (fun u => jn_ro (sb_e [] rfl rfl)) (fun r_62 u hp_62 => ?_)
              have hp_62 : r_62 = zI (hasQ (zI (um : Int)) (zI (h : Int))) := hp_62
              subst hp_62
              rw [hasQ_n hum (show h < 7 by omega)]
              have hb1 := hasB_r um h
              refine y_if_ne (tgt := 202) C (by omega) dX1_chainsFrom_65 (by decide) (fun c_65 => ?_) (fun c_65 => ?_)
              · skip
                refine y_iinc (lv' := [(7, .int (zI ((h : Int) + 1))), (0, .ref x), (1, .int (zI 2)), (2, .int (zI pl)), (3, .int (zI tY)), (4, .int (zI (um : Int))), (5, .int (zI d)), (6, .int (zI f))]) C dX1_chainsFrom_202 (q := 0) rfl (nlt rfl) rfl ?_
                refine z_goto (tgt := 46) C dX1_chainsFrom_205 (by decide) ?_
                exact ih_46 _ (by omega) (h + 1) w1 w2 rr31 hh31 aa31 ll31 nn31 oo31 dd31 (by first | assumption | omega) (by
                  rw [show 21 * (h + 1) = 21 * h + 21 by omega, foldN_skip 21 (fun i h1 h2 s => by
                    obtain ⟨y, rfl⟩ : ∃ y, i = 21 * h + y := ⟨i - 21 * h, by omega⟩
                    exact chG_f (by omega) (fun z => by
                      have z1 := z.1
                      have z2 := z.2.1
                      first | exact absurd z1 (hasB_1 (by assumption)) | omega))]
                  exact hst) rfl
              · skip
                have hac := (hLj h (by omega)).2.2.2.1
                refine z_aload_n C dX1_chainsFrom_68 rfl 1 rfl ?_
                refine z_get (q := 0) (kf := 5) (v := .ref le) C rfl rfl in_X1 (by decide) q885 (Or.inl rfl) rfl dX1_chainsFrom_69 ?_
                refine z_iload_n C dX1_chainsFrom_72 rfl 2 rfl ?_
                refine y_aldq (q := 2) (t0 := 6) (v := .ref e20) C rfl rfl (by omega) (by decide) (by show va_rf (lf 2) = _; rw [hl2]; rfl) dX1_chainsFrom_73 ?_
                refine z_get (q := 3) (kf := 2) (v := .ref e23) C rfl rfl in_X2 (by decide) q842 (Or.inl rfl) rfl dX1_chainsFrom_74 ?_
                refine z_iload C dX1_chainsFrom_77 0 rfl ?_
                refine y_iald (q := 6) (t0 := 0) (v := at_ h) C rfl rfl (by omega) (by decide) rfl dX1_chainsFrom_79 ?_
                refine z_iload_n C dX1_chainsFrom_80 rfl 3 rfl ?_
                refine y_icmp_eq (tgt := 87) C (by omega) (by omega) dX1_chainsFrom_81 (by decide) (fun c_81 => ?_) (fun c_81 => ?_)
                · skip
                  refine y_iconst C dX1_chainsFrom_87 ?_
                  refine z_istore (lv' := [(8, .int (zI 0)), (7, .int (zI (h : Int))), (0, .ref x), (1, .int (zI 2)), (2, .int (zI pl)), (3, .int (zI tY)), (4, .int (zI (um : Int))), (5, .int (zI d)), (6, .int (zI f))]) C dX1_chainsFrom_88 (nlt rfl) rfl ?_
                  have L_90 : ∀ (tt : Nat) (yy : Nat) (u1 : Int) (u2 : Int) (rr32 : Nat → Option Nat) (hh32 : Nat → Int) (aa32 : Nat → Int) (ll32 : Nat → Int) (nn32 : Nat) (oo32 : Int) (dd32 : Int), (yy ≤ 21) → (foldN (chG kd fg hm n oa tY 0 um at_ lg pl d f) (21 * h + yy) (v1, v2) = (u1, u2)) → 21 - yy = tt → Z X (cX1_chainsFrom, 10, yX1_chainsFrom.cls, none, { frames := 8, cells := 0, slots := 0, locals := 166 }, A) G 0 0 ([(x, .inr (10, [.ref a0, .ref b0, .ref m0, .int (zI im), .ref tl, .ref le, .int (zI (encW u1)), .int (zI u2), .int (zI lo), .ref sh])), (a0, .inr (8, [.ref a1, .ref a2, .ref a3, .ref a4, .int (zI (n : Int)), .int (zI oa), .int (zI dya)])), (le, AQ G 6 4 lf), (e20, .inr (8, [.ref e21, .ref e22, .ref e23, .ref e24, .int (zI (n : Int)), .int (zI oa), .int (zI dy)])), (e21, AQ G 4 7 r), (e22, AI G 7 hm), (e23, AI G 7 at_), (e24, AI G 7 lg), (e30, .inr (8, [.ref e31, .ref e32, .ref e33, .ref e34, .int (zI (nn32 : Int)), .int (zI oo32), .int (zI dd32)])), (e31, AQ G 4 7 rr32), (e32, AI G 7 hh32), (e33, AI G 7 aa32), (e34, AI G 7 ll32)] ++ PL LP hk hf) 90 [(8, .int (zI (yy : Int))), (7, .int (zI (h : Int))), (0, .ref x), (1, .int (zI 2)), (2, .int (zI pl)), (3, .int (zI tY)), (4, .int (zI (um : Int))), (5, .int (zI d)), (6, .int (zI f))] [] := by
                    intro tt
                    induction tt using Nat.strongRecOn with
                    | _ tt ih_90 =>
                      intro yy u1 u2 rr32 hh32 aa32 ll32 nn32 oo32 dd32 hyy hst2 ht_90
                      have hci2 : CI (u1, u2) := hst2 ▸ (foldG_ci hn7 hs hd.1 (by omega) hff (by omega))
                      refine z_iload C dX1_chainsFrom_90 0 rfl ?_
                      refine y_bipush C dX1_chainsFrom_92 (by decide) ?_
                      refine y_icmp_ge (tgt := 202) C (by omega) (by omega) dX1_chainsFrom_94 (by decide) (fun c_94 => ?_) (fun c_94 => ?_)
                      · skip
                        refine y_iinc (lv' := [(7, .int (zI ((h : Int) + 1))), (8, .int (zI (yy : Int))), (0, .ref x), (1, .int (zI 2)), (2, .int (zI pl)), (3, .int (zI tY)), (4, .int (zI (um : Int))), (5, .int (zI d)), (6, .int (zI f))]) C dX1_chainsFrom_202 (q := 1) rfl (nlt rfl) rfl ?_
                        refine z_goto (tgt := 46) C dX1_chainsFrom_205 (by decide) ?_
                        refine z_lv (lv' := [(7, .int (zI ((h : Int) + 1))), (0, .ref x), (1, .int (zI 2)), (2, .int (zI pl)), (3, .int (zI tY)), (4, .int (zI (um : Int))), (5, .int (zI d)), (6, .int (zI f))]) [0, 2, 3, 4, 5, 6, 7, 8] rfl ?_
                        exact ih_46 _ (by omega) (h + 1) u1 u2 rr32 hh32 aa32 ll32 nn32 oo32 dd32 (by first | assumption | omega) (by
                          rw [show 21 * (h + 1) = 21 * h + yy by omega]
                          exact hst2) rfl
                      · skip
                        refine z_iload C dX1_chainsFrom_97 0 rfl ?_
                        refine z_iload_n C dX1_chainsFrom_99 rfl 4 rfl ?_
                        refine y_icmp_eq (tgt := 196) C (by omega) (by omega) dX1_chainsFrom_100 (by decide) (fun c_100 => ?_) (fun c_100 => ?_)
                        · skip
                          refine y_iinc (lv' := [(8, .int (zI ((yy : Int) + 1))), (7, .int (zI (h : Int))), (0, .ref x), (1, .int (zI 2)), (2, .int (zI pl)), (3, .int (zI tY)), (4, .int (zI (um : Int))), (5, .int (zI d)), (6, .int (zI f))]) C dX1_chainsFrom_196 (q := 0) rfl (nlt rfl) rfl ?_
                          refine z_goto (tgt := 90) C dX1_chainsFrom_199 (by decide) ?_
                          exact ih_90 _ (by omega) (yy + 1) u1 u2 rr32 hh32 aa32 ll32 nn32 oo32 dd32 (by first | assumption | omega) (by
                            show (chG kd fg hm n oa tY 0 um at_ lg pl d f) (21 * h + yy) (foldN (chG kd fg hm n oa tY 0 um at_ lg pl d f) (21 * h + yy) (v1, v2)) = _
                            rw [hst2]
                            first
                            | exact chG_f (by omega) (fun z => by have z3 := z.2.2; omega)
                            | (rw [chG_t (by omega) (hasB_0 c_65) (by omega) (by omega)]; exact chF_idle (hbw rfl).1 (hbw rfl).2)) rfl
                        · skip
                          refine z_aload_n C dX1_chainsFrom_103 rfl 2 rfl ?_
                          refine z_aload_n C dX1_chainsFrom_104 rfl 2 rfl ?_
                          refine z_get (q := 0) (kf := 5) (v := .ref le) C rfl rfl in_X1 (by decide) q885 (Or.inl rfl) rfl dX1_chainsFrom_105 ?_
                          refine z_iload_n C dX1_chainsFrom_108 rfl 3 rfl ?_
                          refine y_aldq (q := 2) (t0 := 6) (v := .ref e20) C rfl rfl (by omega) (by decide) (by show va_rf (lf 2) = _; rw [hl2]; rfl) dX1_chainsFrom_109 ?_
                          refine z_iload C dX1_chainsFrom_110 6 rfl ?_
                          refine y_iconst C dX1_chainsFrom_112 ?_
                          refine z_iload C dX1_chainsFrom_113 1 rfl ?_
                          refine z_ishl C dX1_chainsFrom_115 rfl ?_
                          refine z_ior C dX1_chainsFrom_116 rfl ?_
                          rw [mask_or hum (show h < 7 by omega)]
                          refine z_iload C dX1_chainsFrom_117 0 rfl ?_
                          refine z_iload_n C dX1_chainsFrom_119 rfl 5 rfl ?_
                          refine z_i C (z_runV (q := 0) (As := [.ref e20, .int (zI ((um ||| 1 <<< h : Nat) : Int)), .int (zI (yy : Int)), .int (zI tY)]) (rest := []) C (ct_X1_isWorthwhile (zl X) G x e20 e21 e22 e23 e24 at_ n (um ||| 1 <<< h : Nat) oa dy (yy : Int) tY (by first | assumption | omega) (um_lt hum (show h < 7 by omega)) (by first | assumption | omega) (by first | assumption | omega) (fun i hi => (hLj i hi).2.2.2.1)) (lw_V q628 q630 qs15 q58 q631) rfl rfl (sb_e [3, 6] rfl rfl) (na := 4) (by decide +kernel) rfl (zrm rfl rfl (rfl) (rfl)) rfl (Nat.le_of_ble_eq_true rfl) dX1_chainsFrom_120) (fun u => jn_ro (sb_e [3, 6] rfl rfl)) (fun r_120 u hp_120 => ?_)
                          obtain ⟨b_120, rfl⟩ : ∃ z, z = u := ⟨_, rfl⟩
                          obtain ⟨hrv, hb01, hbw⟩ := hp_120
                          subst hrv
                          refine y_if_ne (tgt := 129) C (by omega) dX1_chainsFrom_123 (by decide) (fun c_123 => ?_) (fun c_123 => ?_)
                          · skip
                            refine z_aload_n C dX1_chainsFrom_129 rfl 2 rfl ?_
                            refine z_get (q := 0) (kf := 5) (v := .ref le) C rfl rfl in_X1 (by decide) q885 (Or.inl rfl) rfl dX1_chainsFrom_130 ?_
                            refine z_iload_n C dX1_chainsFrom_133 rfl 3 rfl ?_
                            refine y_iconst C dX1_chainsFrom_134 ?_
                            refine y_iadd C dX1_chainsFrom_135 ?_
                            rw [show (2 + 1 : Int) = 3 by decide]
                            refine y_aldq (q := 2) (t0 := 6) (v := .ref e30) C rfl rfl (by omega) (by decide) (by show va_rf (lf 3) = _; rw [hl3]; rfl) dX1_chainsFrom_136 ?_
                            refine z_aload_n C dX1_chainsFrom_137 rfl 2 rfl ?_
                            refine z_get (q := 0) (kf := 5) (v := .ref le) C rfl rfl in_X1 (by decide) q885 (Or.inl rfl) rfl dX1_chainsFrom_138 ?_
                            refine z_iload_n C dX1_chainsFrom_141 rfl 3 rfl ?_
                            refine y_aldq (q := 2) (t0 := 6) (v := .ref e20) C rfl rfl (by omega) (by decide) (by show va_rf (lf 2) = _; rw [hl2]; rfl) dX1_chainsFrom_142 ?_
                            refine z_v (ws' := fun u => ([(x, .inr (10, [.ref a0, .ref b0, .ref m0, .int (zI im), .ref tl, .ref le, .int (zI (encW u1)), .int (zI u2), .int (zI lo), .ref sh])), (a0, .inr (8, [.ref a1, .ref a2, .ref a3, .ref a4, .int (zI (n : Int)), .int (zI oa), .int (zI dya)])), (le, AQ G 6 4 lf), (e20, .inr (8, [.ref e21, .ref e22, .ref e23, .ref e24, .int (zI (n : Int)), .int (zI oa), .int (zI dy)])), (e21, AQ G 4 7 r), (e22, AI G 7 hm), (e23, AI G 7 at_), (e24, AI G 7 lg), (e30, .inr (8, [.ref e31, .ref e32, .ref e33, .ref e34, .int (zI (n : Int)), .int (zI oa), .int (zI dy)])), (e31, AQ G 4 7 r), (e32, AI G 7 hm), (e33, AI G 7 at_), (e34, AI G 7 lg)] ++ PL LP hk hf)) C (z_runV (q := 8) (As := [.ref e20]) (rest := []) C (ct_X2_takes (zl X) G e30 e31 e32 e33 e34 e20 e21 e22 e23 e24 rr32 hh32 aa32 ll32 nn32 oo32 dd32 r hm at_ lg n oa dy LP hk hf (by first | assumption | omega) (by first | assumption | omega)) (lw_V q285 q286 q287 q59 q288) rfl rfl (sb_p [8, 9, 10, 11, 12, 3, 4, 5, 6, 7] rfl rfl) (na := 1) (by decide +kernel) rfl (zrm rfl rfl (rfl) (rfl)) rfl (Nat.le_of_ble_eq_true rfl) dX1_chainsFrom_143) (fun u => jn_p (Lr := [(x, .inr (10, [.ref a0, .ref b0, .ref m0, .int (zI im), .ref tl, .ref le, .int (zI (encW u1)), .int (zI u2), .int (zI lo), .ref sh])), (a0, .inr (8, [.ref a1, .ref a2, .ref a3, .ref a4, .int (zI (n : Int)), .int (zI oa), .int (zI dya)])), (le, AQ G 6 4 lf)]) [8, 9, 10, 11, 12, 3, 4, 5, 6, 7] [0, 1, 2] [0, 1, 2, 8, 9, 10, 11, 12, 3, 4, 5, 6, 7] rfl rfl rfl (by decide) rfl rfl) (fun u hp_143 => ?_)
                            refine z_aload_n C dX1_chainsFrom_146 rfl 2 rfl ?_
                            refine z_get (q := 0) (kf := 5) (v := .ref le) C rfl rfl in_X1 (by decide) q885 (Or.inl rfl) rfl dX1_chainsFrom_147 ?_
                            refine z_iload_n C dX1_chainsFrom_150 rfl 3 rfl ?_
                            refine y_iconst C dX1_chainsFrom_151 ?_
                            refine y_iadd C dX1_chainsFrom_152 ?_
                            rw [show (2 + 1 : Int) = 3 by decide]
                            refine y_aldq (q := 2) (t0 := 6) (v := .ref e30) C rfl rfl (by omega) (by decide) (by show va_rf (lf 3) = _; rw [hl3]; rfl) dX1_chainsFrom_153 ?_
                            refine z_iload C dX1_chainsFrom_154 1 rfl ?_
                            refine z_iload C dX1_chainsFrom_156 0 rfl ?_
                            refine z_i (ws' := fun u => ([(x, .inr (10, [.ref a0, .ref b0, .ref m0, .int (zI im), .ref tl, .ref le, .int (zI (encW u1)), .int (zI u2), .int (zI lo), .ref sh])), (a0, .inr (8, [.ref a1, .ref a2, .ref a3, .ref a4, .int (zI (n : Int)), .int (zI oa), .int (zI dya)])), (le, AQ G 6 4 lf), (e20, .inr (8, [.ref e21, .ref e22, .ref e23, .ref e24, .int (zI (n : Int)), .int (zI oa), .int (zI dy)])), (e21, AQ G 4 7 r), (e22, AI G 7 hm), (e23, AI G 7 at_), (e24, AI G 7 lg), (e30, .inr (8, [.ref e31, .ref e32, .ref e33, .ref e34, .int (zI (n : Int)), .int (zI oa), .int (zI (dy + ((rdN kd fg hm oa n h (yy : Int) at_ lg) : Int)))])), (e31, AQ G 4 7 r), (e32, AI G 7 hm), (e33, AI G 7 (rdA kd fg hm oa n h (yy : Int) at_ lg)), (e34, AI G 7 (rdL kd fg hm oa n h (yy : Int) at_ lg))] ++ PL LP hk hf)) C (z_runV (q := 8) (As := [.int (zI (h : Int)), .int (zI (yy : Int))]) (rest := []) C (ct_X2_rides (zl X) G e30 e31 e32 e33 e34 r hm at_ lg n oa dy LP hk hf kd fg h (yy : Int) (by first | assumption | omega) (by first | assumption | omega) (by omega) (by omega)) (lw_V q393 q394 q395 q59 q396) rfl rfl (sb_p [8, 9, 10, 11, 12] rfl rfl) (na := 2) (by decide +kernel) rfl (zrm rfl rfl (rfl) (rfl)) rfl (Nat.le_of_ble_eq_true rfl) dX1_chainsFrom_158) (fun u => jn_p (Lr := [(x, .inr (10, [.ref a0, .ref b0, .ref m0, .int (zI im), .ref tl, .ref le, .int (zI (encW u1)), .int (zI u2), .int (zI lo), .ref sh])), (a0, .inr (8, [.ref a1, .ref a2, .ref a3, .ref a4, .int (zI (n : Int)), .int (zI oa), .int (zI dya)])), (le, AQ G 6 4 lf), (e20, .inr (8, [.ref e21, .ref e22, .ref e23, .ref e24, .int (zI (n : Int)), .int (zI oa), .int (zI dy)])), (e21, AQ G 4 7 r), (e22, AI G 7 hm), (e23, AI G 7 at_), (e24, AI G 7 lg)]) [8, 9, 10, 11, 12] [0, 1, 2, 3, 4, 5, 6, 7] [0, 1, 2, 3, 4, 5, 6, 7, 8, 9, 10, 11, 12] rfl rfl rfl (by decide) rfl rfl) (fun r_158 u hp_158 => ?_)
                            have hp_158 : r_158 = zI ((rdN kd fg hm oa n h (yy : Int) at_ lg) : Int) := hp_158
                            subst hp_158
                            have hrn := rdN_le kd fg hm oa n h (yy : Int) at_ lg
                            have hL2 : LK n kd fg hm (rdA kd fg hm oa n h (yy : Int) at_ lg) (rdL kd fg hm oa n h (yy : Int) at_ lg) oa := rideF_ok (by omega) (by omega) 20 at_ lg hL
                            refine z_istore (lv' := [(9, .int (zI ((rdN kd fg hm oa n h (yy : Int) at_ lg) : Int))), (8, .int (zI (yy : Int))), (7, .int (zI (h : Int))), (0, .ref x), (1, .int (zI 2)), (2, .int (zI pl)), (3, .int (zI tY)), (4, .int (zI (um : Int))), (5, .int (zI d)), (6, .int (zI f))]) C dX1_chainsFrom_161 (nlt rfl) rfl ?_
                            refine z_aload_n C dX1_chainsFrom_163 rfl 3 rfl ?_
                            refine z_iload_n C dX1_chainsFrom_164 rfl 4 rfl ?_
                            refine y_iconst C dX1_chainsFrom_165 ?_
                            refine y_iadd C dX1_chainsFrom_166 ?_
                            rw [show (2 + 1 : Int) = 3 by decide]
                            refine z_iload C dX1_chainsFrom_167 1 rfl ?_
                            refine z_iload_n C dX1_chainsFrom_169 rfl 6 rfl ?_
                            refine z_iload C dX1_chainsFrom_170 7 rfl ?_
                            refine y_iconst C dX1_chainsFrom_172 ?_
                            refine z_iload C dX1_chainsFrom_173 2 rfl ?_
                            refine z_ishl C dX1_chainsFrom_175 rfl ?_
                            refine z_ior C dX1_chainsFrom_176 rfl ?_
                            rw [mask_or hum (show h < 7 by omega)]
                            refine z_iload C dX1_chainsFrom_177 8 rfl ?_
                            refine z_iload C dX1_chainsFrom_179 0 rfl ?_
                            refine y_iadd C dX1_chainsFrom_181 ?_
                            refine z_iload_n C dX1_chainsFrom_182 rfl 4 rfl ?_
                            refine y_if_ne (tgt := 191) C (by omega) dX1_chainsFrom_183 (by decide) (fun c_183 => ?_) (fun c_183 => ?_)
                            · skip
                              refine z_iload C dX1_chainsFrom_191 9 rfl ?_
                              refine z_v (ws' := fun u => ([(x, .inr (10, [.ref a0, .ref b0, .ref m0, .int (zI im), .ref tl, .ref le, .int (zI (encW (chF kd fg hm n oa tY 0 (um ||| 1 <<< h : Nat) (rdA kd fg hm oa n h (yy : Int) at_ lg) (rdL kd fg hm oa n h (yy : Int) at_ lg) (yy : Int) (d + ((rdN kd fg hm oa n h (yy : Int) at_ lg) : Int)) f (u1, u2)).1)), .int (zI ((chF kd fg hm n oa tY 0 (um ||| 1 <<< h : Nat) (rdA kd fg hm oa n h (yy : Int) at_ lg) (rdL kd fg hm oa n h (yy : Int) at_ lg) (yy : Int) (d + ((rdN kd fg hm oa n h (yy : Int) at_ lg) : Int)) f (u1, u2)).2)), .int (zI lo), .ref sh])), (a0, .inr (8, [.ref a1, .ref a2, .ref a3, .ref a4, .int (zI (n : Int)), .int (zI oa), .int (zI dya)])), (le, AQ G 6 4 lf), (e20, .inr (8, [.ref e21, .ref e22, .ref e23, .ref e24, .int (zI (n : Int)), .int (zI oa), .int (zI dy)])), (e21, AQ G 4 7 r), (e22, AI G 7 hm), (e23, AI G 7 at_), (e24, AI G 7 lg), (e30, .inr (8, [.ref e31, .ref e32, .ref e33, .ref e34, .int (zI (n : Int)), .int (zI oa), .int (zI (dy + ((rdN kd fg hm oa n h (yy : Int) at_ lg) : Int)))])), (e31, AQ G 4 7 r), (e32, AI G 7 hm), (e33, AI G 7 (rdA kd fg hm oa n h (yy : Int) at_ lg)), (e34, AI G 7 (rdL kd fg hm oa n h (yy : Int) at_ lg))] ++ PL LP hk hf)) C (z_runV (q := 0) (As := [.int (zI 3), .int (zI (yy : Int)), .int (zI tY), .int (zI ((um ||| 1 <<< h : Nat) : Int)), .int (zI (d + ((rdN kd fg hm oa n h (yy : Int) at_ lg) : Int))), .int (zI f)]) (rest := []) C (ct_X1_chainsFrom_3 (zl X) G x b0 m0 tl le sh im lo a0 a1 a2 a3 a4 r hm (rdA kd fg hm oa n h (yy : Int) at_ lg) (rdL kd fg hm oa n h (yy : Int) at_ lg) n oa (dy + ((rdN kd fg hm oa n h (yy : Int) at_ lg) : Int)) LP hk hf kd fg dya lf e30 e31 e32 e33 e34 (um ||| 1 <<< h : Nat) (yy : Int) tY (d + ((rdN kd fg hm oa n h (yy : Int) at_ lg) : Int)) f u1 u2 (by first | assumption | omega) (hL2) (by first | assumption | omega) (by first | assumption | omega) (um_lt hum (show h < 7 by omega)) (by first | assumption | omega) (by omega) (by omega) (by omega) (hci2) (by first | assumption | omega)) (lw_V q621 q623 qs14 q58 q624) rfl rfl (sb_p [0, 1, 2, 8, 9, 10, 11, 12] rfl rfl) (na := 6) (by decide +kernel) rfl (zrm rfl rfl (rfl) (rfl)) rfl (Nat.le_of_ble_eq_true rfl) dX1_chainsFrom_193) (fun u => jn_p (Lr := [(e20, .inr (8, [.ref e21, .ref e22, .ref e23, .ref e24, .int (zI (n : Int)), .int (zI oa), .int (zI dy)])), (e21, AQ G 4 7 r), (e22, AI G 7 hm), (e23, AI G 7 at_), (e24, AI G 7 lg)]) [0, 1, 2, 8, 9, 10, 11, 12] [3, 4, 5, 6, 7] [5, 6, 7, 0, 1, 2, 3, 4, 8, 9, 10, 11, 12] rfl rfl rfl (by decide) rfl rfl) (fun u hp_193 => ?_)
                              refine y_iinc (lv' := [(8, .int (zI ((yy : Int) + 1))), (9, .int (zI ((rdN kd fg hm oa n h (yy : Int) at_ lg) : Int))), (7, .int (zI (h : Int))), (0, .ref x), (1, .int (zI 2)), (2, .int (zI pl)), (3, .int (zI tY)), (4, .int (zI (um : Int))), (5, .int (zI d)), (6, .int (zI f))]) C dX1_chainsFrom_196 (q := 1) rfl (nlt rfl) rfl ?_
                              refine z_goto (tgt := 90) C dX1_chainsFrom_199 (by decide) ?_
                              refine z_lv (lv' := [(8, .int (zI ((yy : Int) + 1))), (7, .int (zI (h : Int))), (0, .ref x), (1, .int (zI 2)), (2, .int (zI pl)), (3, .int (zI tY)), (4, .int (zI (um : Int))), (5, .int (zI d)), (6, .int (zI f))]) [0, 2, 3, 4, 5, 6, 7, 8, 9] rfl ?_
                              exact ih_90 _ (by omega) (yy + 1) ((chF kd fg hm n oa tY 0 (um ||| 1 <<< h : Nat) (rdA kd fg hm oa n h (yy : Int) at_ lg) (rdL kd fg hm oa n h (yy : Int) at_ lg) (yy : Int) (d + ((rdN kd fg hm oa n h (yy : Int) at_ lg) : Int)) f (u1, u2)).1) ((chF kd fg hm n oa tY 0 (um ||| 1 <<< h : Nat) (rdA kd fg hm oa n h (yy : Int) at_ lg) (rdL kd fg hm oa n h (yy : Int) at_ lg) (yy : Int) (d + ((rdN kd fg hm oa n h (yy : Int) at_ lg) : Int)) f (u1, u2)).2) r hm (rdA kd fg hm oa n h (yy : Int) at_ lg) (rdL kd fg hm oa n h (yy : Int) at_ lg) n oa (dy + ((rdN kd fg hm oa n h (yy : Int) at_ lg) : Int)) (by first | assumption | omega) (by
                                show (chG kd fg hm n oa tY 0 um at_ lg pl d f) (21 * h + yy) (foldN (chG kd fg hm n oa tY 0 um at_ lg pl d f) (21 * h + yy) (v1, v2)) = _
                                rw [hst2, chG_t (by omega) (hasB_0 c_65) (by omega) (by omega), if_neg hu0]) rfl
                            · skip
                              exact absurd c_183 (by decide)
                          · skip
                            have hb0 : b_120 = 0 := by omega
                            subst hb0
                            refine z_goto (tgt := 196) C dX1_chainsFrom_126 (by decide) ?_
                            refine y_iinc (lv' := [(8, .int (zI ((yy : Int) + 1))), (7, .int (zI (h : Int))), (0, .ref x), (1, .int (zI 2)), (2, .int (zI pl)), (3, .int (zI tY)), (4, .int (zI (um : Int))), (5, .int (zI d)), (6, .int (zI f))]) C dX1_chainsFrom_196 (q := 0) rfl (nlt rfl) rfl ?_
                            refine z_goto (tgt := 90) C dX1_chainsFrom_199 (by decide) ?_
                            exact ih_90 _ (by omega) (yy + 1) u1 u2 rr32 hh32 aa32 ll32 nn32 oo32 dd32 (by first | assumption | omega) (by
                              show (chG kd fg hm n oa tY 0 um at_ lg pl d f) (21 * h + yy) (foldN (chG kd fg hm n oa tY 0 um at_ lg pl d f) (21 * h + yy) (v1, v2)) = _
                              rw [hst2]
                              first
                              | exact chG_f (by omega) (fun z => by have z3 := z.2.2; omega)
                              | (rw [chG_t (by omega) (hasB_0 c_65) (by omega) (by omega)]; exact chF_idle (hbw rfl).1 (hbw rfl).2)) rfl
                  exact L_90 _ 0 w1 w2 rr31 hh31 aa31 ll31 nn31 oo31 dd31 (by first | assumption | omega) (hst) rfl
                · skip
                  refine z_goto (tgt := 202) C dX1_chainsFrom_84 (by decide) ?_
                  refine y_iinc (lv' := [(7, .int (zI ((h : Int) + 1))), (0, .ref x), (1, .int (zI 2)), (2, .int (zI pl)), (3, .int (zI tY)), (4, .int (zI (um : Int))), (5, .int (zI d)), (6, .int (zI f))]) C dX1_chainsFrom_202 (q := 0) rfl (nlt rfl) rfl ?_
                  refine z_goto (tgt := 46) C dX1_chainsFrom_205 (by decide) ?_
                  exact ih_46 _ (by omega) (h + 1) w1 w2 rr31 hh31 aa31 ll31 nn31 oo31 dd31 (by first | assumption | omega) (by
                    rw [show 21 * (h + 1) = 21 * h + 21 by omega, foldN_skip 21 (fun i h1 h2 s => by
                      obtain ⟨y, rfl⟩ : ∃ y, i = 21 * h + y := ⟨i - 21 * h, by omega⟩
                      exact chG_f (by omega) (fun z => by
                        have z1 := z.1
                        have z2 := z.2.1
                        first | exact absurd z1 (hasB_1 (by assumption)) | omega))]
                    exact hst) rfl
        exact L_46 _ 0 v1 v2 rr3 hh3 aa3 ll3 nn3 oo3 dd3 (by first | assumption | omega) (rfl) rfl
      · skip
        refine z_wsEq (ws' := ([(x, .inr (10, [.ref a0, .ref b0, .ref m0, .int (zI im), .ref tl, .ref le, .int (zI (encW (chF kd fg hm n oa tY 1 um at_ lg pl d f (v1, v2)).1)), .int (zI ((chF kd fg hm n oa tY 1 um at_ lg pl d f (v1, v2)).2)), .int (zI lo), .ref sh])), (a0, .inr (8, [.ref a1, .ref a2, .ref a3, .ref a4, .int (zI (n : Int)), .int (zI oa), .int (zI dya)])), (le, AQ G 6 4 lf), (e20, .inr (8, [.ref e21, .ref e22, .ref e23, .ref e24, .int (zI (n : Int)), .int (zI oa), .int (zI dy)])), (e21, AQ G 4 7 r), (e22, AI G 7 hm), (e23, AI G 7 at_), (e24, AI G 7 lg), (e30, .inr (8, [.ref e31, .ref e32, .ref e33, .ref e34, .int (zI (nn3 : Int)), .int (zI oo3), .int (zI dd3)])), (e31, AQ G 4 7 rr3), (e32, AI G 7 hh3), (e33, AI G 7 aa3), (e34, AI G 7 ll3)] ++ PL LP hk hf)) (by rw [show chF kd fg hm n oa tY 1 um at_ lg pl d f (v1, v2) = (v1, v2) from chF_old _ _ _ _ _ _ _ (encW_f (s := (v1, v2)) (show d ≤ 60 by omega) (show encW v1 ≤ d by omega)).1 (encW_f (s := (v1, v2)) (show d ≤ 60 by omega) (show encW v1 ≤ d by omega)).2]) ?_
        exact z_vret C hA hQ rfl (Nat.le_of_ble_eq_true rfl) (Nat.le_of_ble_eq_true rfl) ((rr3, hh3, aa3, ll3, nn3, oo3, dd3)) (trivial) (sb_p [0, 1, 2, 3, 4, 5, 6, 7, 8, 9, 10, 11, 12] rfl rfl) dX1_chainsFrom_42
  · skip
    refine z_iload C dX1_chainsFrom_5 5 rfl ?_
    refine z_aload_n C dX1_chainsFrom_7 rfl 0 rfl ?_
    refine z_get (q := 0) (kf := 6) (v := .int (zI (encW v1))) C rfl rfl in_X1 (by decide) q886 (Or.inl rfl) rfl dX1_chainsFrom_8 ?_
    refine y_icmp_lt (tgt := 15) C (by omega) (by omega) dX1_chainsFrom_11 (by decide) (fun c_11 => ?_) (fun c_11 => ?_)
    · skip
      refine z_aload_n C dX1_chainsFrom_15 rfl 0 rfl ?_
      refine z_iload C dX1_chainsFrom_16 5 rfl ?_
      refine z_put (q := 0) (kf := 6) (ws' := ([(x, .inr (10, [.ref a0, .ref b0, .ref m0, .int (zI im), .ref tl, .ref le, .int (zI d), .int (zI v2), .int (zI lo), .ref sh])), (a0, .inr (8, [.ref a1, .ref a2, .ref a3, .ref a4, .int (zI (n : Int)), .int (zI oa), .int (zI dya)])), (le, AQ G 6 4 lf), (e20, .inr (8, [.ref e21, .ref e22, .ref e23, .ref e24, .int (zI (n : Int)), .int (zI oa), .int (zI dy)])), (e21, AQ G 4 7 r), (e22, AI G 7 hm), (e23, AI G 7 at_), (e24, AI G 7 lg), (e30, .inr (8, [.ref e31, .ref e32, .ref e33, .ref e34, .int (zI (nn3 : Int)), .int (zI oo3), .int (zI dd3)])), (e31, AQ G 4 7 rr3), (e32, AI G 7 hh3), (e33, AI G 7 aa3), (e34, AI G 7 ll3)] ++ PL LP hk hf)) C rfl rfl in_X1 tyX1_ok nmX1 (by decide) q886 rfl rfl rfl rfl rfl (nlt rfl) rfl dX1_chainsFrom_18 ?_
      refine z_aload_n C dX1_chainsFrom_21 rfl 0 rfl ?_
      refine z_iload C dX1_chainsFrom_22 6 rfl ?_
      refine z_put (q := 0) (kf := 7) (ws' := ([(x, .inr (10, [.ref a0, .ref b0, .ref m0, .int (zI im), .ref tl, .ref le, .int (zI d), .int (zI f), .int (zI lo), .ref sh])), (a0, .inr (8, [.ref a1, .ref a2, .ref a3, .ref a4, .int (zI (n : Int)), .int (zI oa), .int (zI dya)])), (le, AQ G 6 4 lf), (e20, .inr (8, [.ref e21, .ref e22, .ref e23, .ref e24, .int (zI (n : Int)), .int (zI oa), .int (zI dy)])), (e21, AQ G 4 7 r), (e22, AI G 7 hm), (e23, AI G 7 at_), (e24, AI G 7 lg), (e30, .inr (8, [.ref e31, .ref e32, .ref e33, .ref e34, .int (zI (nn3 : Int)), .int (zI oo3), .int (zI dd3)])), (e31, AQ G 4 7 rr3), (e32, AI G 7 hh3), (e33, AI G 7 aa3), (e34, AI G 7 ll3)] ++ PL LP hk hf)) C rfl rfl in_X1 tyX1_ok nmX1 (by decide) q887 rfl rfl rfl rfl rfl (nlt rfl) rfl dX1_chainsFrom_24 ?_
      refine z_wsEq (ws' := ([(x, .inr (10, [.ref a0, .ref b0, .ref m0, .int (zI im), .ref tl, .ref le, .int (zI (encW (chF kd fg hm n oa tY 1 um at_ lg pl d f (v1, v2)).1)), .int (zI ((chF kd fg hm n oa tY 1 um at_ lg pl d f (v1, v2)).2)), .int (zI lo), .ref sh])), (a0, .inr (8, [.ref a1, .ref a2, .ref a3, .ref a4, .int (zI (n : Int)), .int (zI oa), .int (zI dya)])), (le, AQ G 6 4 lf), (e20, .inr (8, [.ref e21, .ref e22, .ref e23, .ref e24, .int (zI (n : Int)), .int (zI oa), .int (zI dy)])), (e21, AQ G 4 7 r), (e22, AI G 7 hm), (e23, AI G 7 at_), (e24, AI G 7 lg), (e30, .inr (8, [.ref e31, .ref e32, .ref e33, .ref e34, .int (zI (nn3 : Int)), .int (zI oo3), .int (zI dd3)])), (e31, AQ G 4 7 rr3), (e32, AI G 7 hh3), (e33, AI G 7 aa3), (e34, AI G 7 ll3)] ++ PL LP hk hf)) (by rw [show chF kd fg hm n oa tY 1 um at_ lg pl d f (v1, v2) = (d, f) from (chF_to _ (by omega)).trans (encW_t (s := (v1, v2)) (by omega) (show d < encW v1 by omega))]; rw [show encW (d, f).1 = d from encW_p (show 0 ≤ d by omega)]) ?_
      exact z_vret C hA hQ rfl (Nat.le_of_ble_eq_true rfl) (Nat.le_of_ble_eq_true rfl) ((rr3, hh3, aa3, ll3, nn3, oo3, dd3)) (trivial) (sb_p [0, 1, 2, 3, 4, 5, 6, 7, 8, 9, 10, 11, 12] rfl rfl) dX1_chainsFrom_27
    · skip
      refine z_wsEq (ws' := ([(x, .inr (10, [.ref a0, .ref b0, .ref m0, .int (zI im), .ref tl, .ref le, .int (zI (encW (chF kd fg hm n oa tY 1 um at_ lg pl d f (v1, v2)).1)), .int (zI ((chF kd fg hm n oa tY 1 um at_ lg pl d f (v1, v2)).2)), .int (zI lo), .ref sh])), (a0, .inr (8, [.ref a1, .ref a2, .ref a3, .ref a4, .int (zI (n : Int)), .int (zI oa), .int (zI dya)])), (le, AQ G 6 4 lf), (e20, .inr (8, [.ref e21, .ref e22, .ref e23, .ref e24, .int (zI (n : Int)), .int (zI oa), .int (zI dy)])), (e21, AQ G 4 7 r), (e22, AI G 7 hm), (e23, AI G 7 at_), (e24, AI G 7 lg), (e30, .inr (8, [.ref e31, .ref e32, .ref e33, .ref e34, .int (zI (nn3 : Int)), .int (zI oo3), .int (zI dd3)])), (e31, AQ G 4 7 rr3), (e32, AI G 7 hh3), (e33, AI G 7 aa3), (e34, AI G 7 ll3)] ++ PL LP hk hf)) (by rw [show chF kd fg hm n oa tY 1 um at_ lg pl d f (v1, v2) = (v1, v2) from (chF_to _ (by omega)).trans (tkC_old (encW_f (s := (v1, v2)) (show d ≤ 60 by omega) (show encW v1 ≤ d by omega)).1 (encW_f (s := (v1, v2)) (show d ≤ 60 by omega) (show encW v1 ≤ d by omega)).2)]) ?_
      exact z_vret C hA hQ rfl (Nat.le_of_ble_eq_true rfl) (Nat.le_of_ble_eq_true rfl) ((rr3, hh3, aa3, ll3, nn3, oo3, dd3)) (trivial) (sb_p [0, 1, 2, 3, 4, 5, 6, 7, 8, 9, 10, 11, 12] rfl rfl) dX1_chainsFrom_14

set_option maxHeartbeats 4000000 in
theorem ct_X1_chainsFrom_1 (l : Launch) (G : ZG) (x : Nat) (b0 : Nat) (m0 : Nat) (tl : Nat) (le : Nat) (sh : Nat) (im : Int) (lo : Int) (a0 : Nat) (a1 : Nat) (a2 : Nat) (a3 : Nat) (a4 : Nat) (r : Nat → Option Nat) (hm : Nat → Int) (at_ : Nat → Int) (lg : Nat → Int) (n : Nat) (oa : Int) (dy : Int) (LP : List Nat) (hk : Nat → Nat) (hf : Nat → Int) (kd : Nat → Nat) (fg : Nat → Int) (dya : Int) (lf : Nat → Option Nat) (e10 : Nat) (e11 : Nat) (e12 : Nat) (e13 : Nat) (e14 : Nat) (e20 : Nat) (e21 : Nat) (e22 : Nat) (e23 : Nat) (e24 : Nat) (rr2 : Nat → Option Nat) (hh2 : Nat → Int) (aa2 : Nat → Int) (ll2 : Nat → Int) (nn2 : Nat) (oo2 : Int) (dd2 : Int) (e30 : Nat) (e31 : Nat) (e32 : Nat) (e33 : Nat) (e34 : Nat) (rr3 : Nat → Option Nat) (hh3 : Nat → Int) (aa3 : Nat → Int) (ll3 : Nat → Int) (nn3 : Nat) (oo3 : Int) (dd3 : Int) (um : Nat) (pl : Int) (tY : Int) (d : Int) (f : Int) (v1 : Int) (v2 : Int) (hH : HR LP hk hf r n kd fg) (hL : LK n kd fg hm at_ lg oa) (hK : PK LP hk hf) (hV : RV LP r) (hum : um < 128) (hty : 0 ≤ tY ∧ tY ≤ 20) (hpl : 0 ≤ pl ∧ pl ≤ 20) (hd : 0 ≤ d ∧ d ≤ 20) (hff : -4 ≤ f ∧ f ≤ 7) (hs : CI (v1, v2)) (hu0 : ¬ um = 0) (hl1 : lf 1 = some e10) (hl2 : lf 2 = some e20) (hl3 : lf 3 = some e30) : CT l yX1_chainsFrom cX1_chainsFrom 10 none { frames := 9, cells := 0, slots := 0, locals := 195 } G [.ref x, .int (zI 1), .int (zI pl), .int (zI tY), .int (zI (um : Int)), .int (zI d), .int (zI f)] ([(x, .inr (10, [.ref a0, .ref b0, .ref m0, .int (zI im), .ref tl, .ref le, .int (zI (encW v1)), .int (zI v2), .int (zI lo), .ref sh])), (a0, .inr (8, [.ref a1, .ref a2, .ref a3, .ref a4, .int (zI (n : Int)), .int (zI oa), .int (zI dya)])), (le, AQ G 6 4 lf), (e10, .inr (8, [.ref e11, .ref e12, .ref e13, .ref e14, .int (zI (n : Int)), .int (zI oa), .int (zI dy)])), (e11, AQ G 4 7 r), (e12, AI G 7 hm), (e13, AI G 7 at_), (e14, AI G 7 lg), (e20, .inr (8, [.ref e21, .ref e22, .ref e23, .ref e24, .int (zI (nn2 : Int)), .int (zI oo2), .int (zI dd2)])), (e21, AQ G 4 7 rr2), (e22, AI G 7 hh2), (e23, AI G 7 aa2), (e24, AI G 7 ll2), (e30, .inr (8, [.ref e31, .ref e32, .ref e33, .ref e34, .int (zI (nn3 : Int)), .int (zI oo3), .int (zI dd3)])), (e31, AQ G 4 7 rr3), (e32, AI G 7 hh3), (e33, AI G 7 aa3), (e34, AI G 7 ll3)] ++ PL LP hk hf) (Qv G ([(x, .inr (10, [.ref a0, .ref b0, .ref m0, .int (zI im), .ref tl, .ref le, .int (zI (encW v1)), .int (zI v2), .int (zI lo), .ref sh])), (a0, .inr (8, [.ref a1, .ref a2, .ref a3, .ref a4, .int (zI (n : Int)), .int (zI oa), .int (zI dya)])), (le, AQ G 6 4 lf), (e10, .inr (8, [.ref e11, .ref e12, .ref e13, .ref e14, .int (zI (n : Int)), .int (zI oa), .int (zI dy)])), (e11, AQ G 4 7 r), (e12, AI G 7 hm), (e13, AI G 7 at_), (e14, AI G 7 lg), (e20, .inr (8, [.ref e21, .ref e22, .ref e23, .ref e24, .int (zI (nn2 : Int)), .int (zI oo2), .int (zI dd2)])), (e21, AQ G 4 7 rr2), (e22, AI G 7 hh2), (e23, AI G 7 aa2), (e24, AI G 7 ll2), (e30, .inr (8, [.ref e31, .ref e32, .ref e33, .ref e34, .int (zI (nn3 : Int)), .int (zI oo3), .int (zI dd3)])), (e31, AQ G 4 7 rr3), (e32, AI G 7 hh3), (e33, AI G 7 aa3), (e34, AI G 7 ll3)] ++ PL LP hk hf) (fun (u : (Nat → Option Nat) × (Nat → Int) × (Nat → Int) × (Nat → Int) × Nat × Int × Int × (Nat → Option Nat) × (Nat → Int) × (Nat → Int) × (Nat → Int) × Nat × Int × Int) => True) (fun u => ([(x, .inr (10, [.ref a0, .ref b0, .ref m0, .int (zI im), .ref tl, .ref le, .int (zI (encW (chF kd fg hm n oa tY 2 um at_ lg pl d f (v1, v2)).1)), .int (zI ((chF kd fg hm n oa tY 2 um at_ lg pl d f (v1, v2)).2)), .int (zI lo), .ref sh])), (a0, .inr (8, [.ref a1, .ref a2, .ref a3, .ref a4, .int (zI (n : Int)), .int (zI oa), .int (zI dya)])), (le, AQ G 6 4 lf), (e10, .inr (8, [.ref e11, .ref e12, .ref e13, .ref e14, .int (zI (n : Int)), .int (zI oa), .int (zI dy)])), (e11, AQ G 4 7 r), (e12, AI G 7 hm), (e13, AI G 7 at_), (e14, AI G 7 lg), (e20, .inr (8, [.ref e21, .ref e22, .ref e23, .ref e24, .int (zI (u.2.2.2.2.1 : Int)), .int (zI u.2.2.2.2.2.1), .int (zI u.2.2.2.2.2.2.1)])), (e21, AQ G 4 7 u.1), (e22, AI G 7 u.2.1), (e23, AI G 7 u.2.2.1), (e24, AI G 7 u.2.2.2.1), (e30, .inr (8, [.ref e31, .ref e32, .ref e33, .ref e34, .int (zI (u.2.2.2.2.2.2.2.2.2.2.2.1 : Int)), .int (zI u.2.2.2.2.2.2.2.2.2.2.2.2.1), .int (zI u.2.2.2.2.2.2.2.2.2.2.2.2.2)])), (e31, AQ G 4 7 u.2.2.2.2.2.2.2.1), (e32, AI G 7 u.2.2.2.2.2.2.2.2.1), (e33, AI G 7 u.2.2.2.2.2.2.2.2.2.1), (e34, AI G 7 u.2.2.2.2.2.2.2.2.2.2.1)] ++ PL LP hk hf))) := by
  refine z_met (by decide) (Nat.le_of_ble_eq_true rfl) ?_
  intro X A hl0 hA C hQ hin
  subst hl0
  obtain ⟨hn7, hoa, hLj⟩ := id hL
  have hen := encW_r hs
  have hen1 : 0 ≤ encW v1 ∧ encW v1 ≤ 1000000000 := hen
  show Z X _ G 0 0 _ 0 [(0, .ref x), (1, .int (zI 1)), (2, .int (zI pl)), (3, .int (zI tY)), (4, .int (zI (um : Int))), (5, .int (zI d)), (6, .int (zI f))] []
  refine z_iload_n C dX1_chainsFrom_0 rfl 2 rfl ?_
  refine z_iload_n C dX1_chainsFrom_1 rfl 3 rfl ?_
  refine y_icmp_ne (tgt := 28) C (by omega) (by omega) dX1_chainsFrom_2 (by decide) (fun c_2 => ?_) (fun c_2 => ?_)
  · skip
    refine z_iload_n C dX1_chainsFrom_28 rfl 1 rfl ?_
    refine y_iconst C dX1_chainsFrom_29 ?_
    refine y_icmp_eq (tgt := 42) C (by omega) (by omega) dX1_chainsFrom_30 (by decide) (fun c_30 => ?_) (fun c_30 => ?_)
    · skip
      exact absurd c_30 (by decide)
    · skip
      refine z_iload C dX1_chainsFrom_33 5 rfl ?_
      refine z_aload_n C dX1_chainsFrom_35 rfl 0 rfl ?_
      refine z_get (q := 0) (kf := 6) (v := .int (zI (encW v1))) C rfl rfl in_X1 (by decide) q886 (Or.inl rfl) rfl dX1_chainsFrom_36 ?_
      refine y_icmp_lt (tgt := 43) C (by omega) (by omega) dX1_chainsFrom_39 (by decide) (fun c_39 => ?_) (fun c_39 => ?_)
      · skip
        refine y_iconst C dX1_chainsFrom_43 ?_
        refine z_istore (lv' := [(7, .int (zI 0)), (0, .ref x), (1, .int (zI 1)), (2, .int (zI pl)), (3, .int (zI tY)), (4, .int (zI (um : Int))), (5, .int (zI d)), (6, .int (zI f))]) C dX1_chainsFrom_44 (nlt rfl) rfl ?_
        have L_46 : ∀ (tt : Nat) (h : Nat) (w1 : Int) (w2 : Int) (rr21 : Nat → Option Nat) (hh21 : Nat → Int) (aa21 : Nat → Int) (ll21 : Nat → Int) (nn21 : Nat) (oo21 : Int) (dd21 : Int) (rr31 : Nat → Option Nat) (hh31 : Nat → Int) (aa31 : Nat → Int) (ll31 : Nat → Int) (nn31 : Nat) (oo31 : Int) (dd31 : Int), (h ≤ n) → (foldN (chG kd fg hm n oa tY 1 um at_ lg pl d f) (21 * h) (v1, v2) = (w1, w2)) → n - h = tt → Z X (cX1_chainsFrom, 10, yX1_chainsFrom.cls, none, { frames := 9, cells := 0, slots := 0, locals := 195 }, A) G 0 0 ([(x, .inr (10, [.ref a0, .ref b0, .ref m0, .int (zI im), .ref tl, .ref le, .int (zI (encW w1)), .int (zI w2), .int (zI lo), .ref sh])), (a0, .inr (8, [.ref a1, .ref a2, .ref a3, .ref a4, .int (zI (n : Int)), .int (zI oa), .int (zI dya)])), (le, AQ G 6 4 lf), (e10, .inr (8, [.ref e11, .ref e12, .ref e13, .ref e14, .int (zI (n : Int)), .int (zI oa), .int (zI dy)])), (e11, AQ G 4 7 r), (e12, AI G 7 hm), (e13, AI G 7 at_), (e14, AI G 7 lg), (e20, .inr (8, [.ref e21, .ref e22, .ref e23, .ref e24, .int (zI (nn21 : Int)), .int (zI oo21), .int (zI dd21)])), (e21, AQ G 4 7 rr21), (e22, AI G 7 hh21), (e23, AI G 7 aa21), (e24, AI G 7 ll21), (e30, .inr (8, [.ref e31, .ref e32, .ref e33, .ref e34, .int (zI (nn31 : Int)), .int (zI oo31), .int (zI dd31)])), (e31, AQ G 4 7 rr31), (e32, AI G 7 hh31), (e33, AI G 7 aa31), (e34, AI G 7 ll31)] ++ PL LP hk hf) 46 [(7, .int (zI (h : Int))), (0, .ref x), (1, .int (zI 1)), (2, .int (zI pl)), (3, .int (zI tY)), (4, .int (zI (um : Int))), (5, .int (zI d)), (6, .int (zI f))] [] := by
          intro tt
          induction tt using Nat.strongRecOn with
          | _ tt ih_46 =>
            intro h w1 w2 rr21 hh21 aa21 ll21 nn21 oo21 dd21 rr31 hh31 aa31 ll31 nn31 oo31 dd31 hh hst ht_46
            have hci : CI (w1, w2) := hst ▸ (foldG_ci hn7 hs hd.1 (by omega) hff (by omega))
            refine z_iload C dX1_chainsFrom_46 0 rfl ?_
            refine z_aload_n C dX1_chainsFrom_48 rfl 1 rfl ?_
            refine z_get (q := 0) (kf := 0) (v := .ref a0) C rfl rfl in_X1 (by decide) q880 (Or.inl rfl) rfl dX1_chainsFrom_49 ?_
            refine z_get (q := 1) (kf := 4) (v := .int (zI (n : Int))) C rfl rfl in_X2 (by decide) q846 (Or.inl rfl) rfl dX1_chainsFrom_52 ?_
            refine y_icmp_ge (tgt := 208) C (by omega) (by omega) dX1_chainsFrom_55 (by decide) (fun c_55 => ?_) (fun c_55 => ?_)
            · skip
              rw [show h = n by omega] at hst
              refine z_wsEq (ws' := ([(x, .inr (10, [.ref a0, .ref b0, .ref m0, .int (zI im), .ref tl, .ref le, .int (zI (encW (chF kd fg hm n oa tY 2 um at_ lg pl d f (v1, v2)).1)), .int (zI ((chF kd fg hm n oa tY 2 um at_ lg pl d f (v1, v2)).2)), .int (zI lo), .ref sh])), (a0, .inr (8, [.ref a1, .ref a2, .ref a3, .ref a4, .int (zI (n : Int)), .int (zI oa), .int (zI dya)])), (le, AQ G 6 4 lf), (e10, .inr (8, [.ref e11, .ref e12, .ref e13, .ref e14, .int (zI (n : Int)), .int (zI oa), .int (zI dy)])), (e11, AQ G 4 7 r), (e12, AI G 7 hm), (e13, AI G 7 at_), (e14, AI G 7 lg), (e20, .inr (8, [.ref e21, .ref e22, .ref e23, .ref e24, .int (zI (nn21 : Int)), .int (zI oo21), .int (zI dd21)])), (e21, AQ G 4 7 rr21), (e22, AI G 7 hh21), (e23, AI G 7 aa21), (e24, AI G 7 ll21), (e30, .inr (8, [.ref e31, .ref e32, .ref e33, .ref e34, .int (zI (nn31 : Int)), .int (zI oo31), .int (zI dd31)])), (e31, AQ G 4 7 rr31), (e32, AI G 7 hh31), (e33, AI G 7 aa31), (e34, AI G 7 ll31)] ++ PL LP hk hf)) (by rw [show chF kd fg hm n oa tY 2 um at_ lg pl d f (v1, v2) = (w1, w2) from (chF_sn (by omega)).trans hst]) ?_
              exact z_vret C hA hQ rfl (Nat.le_of_ble_eq_true rfl) (Nat.le_of_ble_eq_true rfl) ((rr21, hh21, aa21, ll21, nn21, oo21, dd21, rr31, hh31, aa31, ll31, nn31, oo31, dd31)) (trivial) (sb_p [0, 1, 2, 3, 4, 5, 6, 7, 8, 9, 10, 11, 12, 13, 14, 15, 16, 17] rfl rfl) dX1_chainsFrom_208
            · skip
              refine z_iload C dX1_chainsFrom_58 5 rfl ?_
              refine z_iload C dX1_chainsFrom_60 0 rfl ?_
              refine z_i C (z_runS (As := [.int (zI (um : Int)), .int (zI (h : Int))]) (rest := []) C (ct_X1_has (zl X) G (zI (um : Int)) (h : Int) ) (lw_S q625 q626 q58 q627) (sb_e [] rfl rfl) (na := 2) (by decide +kernel) rfl (zrm rfl rfl (rfl) (rfl)) rfl (Nat.le_of_ble_eq_true rfl) dX1_chainsFrom_62) (fun u => jn_ro (sb_e [] rfl rfl)) (fun r_62 u hp_62 => ?_)
              have hp_62 : r_62 = zI (hasQ (zI (um : Int)) (zI (h : Int))) := hp_62
              subst hp_62
              rw [hasQ_n hum (show h < 7 by omega)]
              have hb1 := hasB_r um h
              refine y_if_ne (tgt := 202) C (by omega) dX1_chainsFrom_65 (by decide) (fun c_65 => ?_) (fun c_65 => ?_)
              · skip
                refine y_iinc (lv' := [(7, .int (zI ((h : Int) + 1))), (0, .ref x), (1, .int (zI 1)), (2, .int (zI pl)), (3, .int (zI tY)), (4, .int (zI (um : Int))), (5, .int (zI d)), (6, .int (zI f))]) C dX1_chainsFrom_202 (q := 0) rfl (nlt rfl) rfl ?_
                refine z_goto (tgt := 46) C dX1_chainsFrom_205 (by decide) ?_
                exact ih_46 _ (by omega) (h + 1) w1 w2 rr21 hh21 aa21 ll21 nn21 oo21 dd21 rr31 hh31 aa31 ll31 nn31 oo31 dd31 (by first | assumption | omega) (by
                  rw [show 21 * (h + 1) = 21 * h + 21 by omega, foldN_skip 21 (fun i h1 h2 s => by
                    obtain ⟨y, rfl⟩ : ∃ y, i = 21 * h + y := ⟨i - 21 * h, by omega⟩
                    exact chG_f (by omega) (fun z => by
                      have z1 := z.1
                      have z2 := z.2.1
                      first | exact absurd z1 (hasB_1 (by assumption)) | omega))]
                  exact hst) rfl
              · skip
                have hac := (hLj h (by omega)).2.2.2.1
                refine z_aload_n C dX1_chainsFrom_68 rfl 1 rfl ?_
                refine z_get (q := 0) (kf := 5) (v := .ref le) C rfl rfl in_X1 (by decide) q885 (Or.inl rfl) rfl dX1_chainsFrom_69 ?_
                refine z_iload_n C dX1_chainsFrom_72 rfl 2 rfl ?_
                refine y_aldq (q := 2) (t0 := 6) (v := .ref e10) C rfl rfl (by omega) (by decide) (by show va_rf (lf 1) = _; rw [hl1]; rfl) dX1_chainsFrom_73 ?_
                refine z_get (q := 3) (kf := 2) (v := .ref e13) C rfl rfl in_X2 (by decide) q842 (Or.inl rfl) rfl dX1_chainsFrom_74 ?_
                refine z_iload C dX1_chainsFrom_77 0 rfl ?_
                refine y_iald (q := 6) (t0 := 0) (v := at_ h) C rfl rfl (by omega) (by decide) rfl dX1_chainsFrom_79 ?_
                refine z_iload_n C dX1_chainsFrom_80 rfl 3 rfl ?_
                refine y_icmp_eq (tgt := 87) C (by omega) (by omega) dX1_chainsFrom_81 (by decide) (fun c_81 => ?_) (fun c_81 => ?_)
                · skip
                  refine y_iconst C dX1_chainsFrom_87 ?_
                  refine z_istore (lv' := [(8, .int (zI 0)), (7, .int (zI (h : Int))), (0, .ref x), (1, .int (zI 1)), (2, .int (zI pl)), (3, .int (zI tY)), (4, .int (zI (um : Int))), (5, .int (zI d)), (6, .int (zI f))]) C dX1_chainsFrom_88 (nlt rfl) rfl ?_
                  have L_90 : ∀ (tt : Nat) (yy : Nat) (u1 : Int) (u2 : Int) (rr22 : Nat → Option Nat) (hh22 : Nat → Int) (aa22 : Nat → Int) (ll22 : Nat → Int) (nn22 : Nat) (oo22 : Int) (dd22 : Int) (rr32 : Nat → Option Nat) (hh32 : Nat → Int) (aa32 : Nat → Int) (ll32 : Nat → Int) (nn32 : Nat) (oo32 : Int) (dd32 : Int), (yy ≤ 21) → (foldN (chG kd fg hm n oa tY 1 um at_ lg pl d f) (21 * h + yy) (v1, v2) = (u1, u2)) → 21 - yy = tt → Z X (cX1_chainsFrom, 10, yX1_chainsFrom.cls, none, { frames := 9, cells := 0, slots := 0, locals := 195 }, A) G 0 0 ([(x, .inr (10, [.ref a0, .ref b0, .ref m0, .int (zI im), .ref tl, .ref le, .int (zI (encW u1)), .int (zI u2), .int (zI lo), .ref sh])), (a0, .inr (8, [.ref a1, .ref a2, .ref a3, .ref a4, .int (zI (n : Int)), .int (zI oa), .int (zI dya)])), (le, AQ G 6 4 lf), (e10, .inr (8, [.ref e11, .ref e12, .ref e13, .ref e14, .int (zI (n : Int)), .int (zI oa), .int (zI dy)])), (e11, AQ G 4 7 r), (e12, AI G 7 hm), (e13, AI G 7 at_), (e14, AI G 7 lg), (e20, .inr (8, [.ref e21, .ref e22, .ref e23, .ref e24, .int (zI (nn22 : Int)), .int (zI oo22), .int (zI dd22)])), (e21, AQ G 4 7 rr22), (e22, AI G 7 hh22), (e23, AI G 7 aa22), (e24, AI G 7 ll22), (e30, .inr (8, [.ref e31, .ref e32, .ref e33, .ref e34, .int (zI (nn32 : Int)), .int (zI oo32), .int (zI dd32)])), (e31, AQ G 4 7 rr32), (e32, AI G 7 hh32), (e33, AI G 7 aa32), (e34, AI G 7 ll32)] ++ PL LP hk hf) 90 [(8, .int (zI (yy : Int))), (7, .int (zI (h : Int))), (0, .ref x), (1, .int (zI 1)), (2, .int (zI pl)), (3, .int (zI tY)), (4, .int (zI (um : Int))), (5, .int (zI d)), (6, .int (zI f))] [] := by
                    intro tt
                    induction tt using Nat.strongRecOn with
                    | _ tt ih_90 =>
                      intro yy u1 u2 rr22 hh22 aa22 ll22 nn22 oo22 dd22 rr32 hh32 aa32 ll32 nn32 oo32 dd32 hyy hst2 ht_90
                      have hci2 : CI (u1, u2) := hst2 ▸ (foldG_ci hn7 hs hd.1 (by omega) hff (by omega))
                      refine z_iload C dX1_chainsFrom_90 0 rfl ?_
                      refine y_bipush C dX1_chainsFrom_92 (by decide) ?_
                      refine y_icmp_ge (tgt := 202) C (by omega) (by omega) dX1_chainsFrom_94 (by decide) (fun c_94 => ?_) (fun c_94 => ?_)
                      · skip
                        refine y_iinc (lv' := [(7, .int (zI ((h : Int) + 1))), (8, .int (zI (yy : Int))), (0, .ref x), (1, .int (zI 1)), (2, .int (zI pl)), (3, .int (zI tY)), (4, .int (zI (um : Int))), (5, .int (zI d)), (6, .int (zI f))]) C dX1_chainsFrom_202 (q := 1) rfl (nlt rfl) rfl ?_
                        refine z_goto (tgt := 46) C dX1_chainsFrom_205 (by decide) ?_
                        refine z_lv (lv' := [(7, .int (zI ((h : Int) + 1))), (0, .ref x), (1, .int (zI 1)), (2, .int (zI pl)), (3, .int (zI tY)), (4, .int (zI (um : Int))), (5, .int (zI d)), (6, .int (zI f))]) [0, 2, 3, 4, 5, 6, 7, 8] rfl ?_
                        exact ih_46 _ (by omega) (h + 1) u1 u2 rr22 hh22 aa22 ll22 nn22 oo22 dd22 rr32 hh32 aa32 ll32 nn32 oo32 dd32 (by first | assumption | omega) (by
                          rw [show 21 * (h + 1) = 21 * h + yy by omega]
                          exact hst2) rfl
                      · skip
                        refine z_iload C dX1_chainsFrom_97 0 rfl ?_
                        refine z_iload_n C dX1_chainsFrom_99 rfl 4 rfl ?_
                        refine y_icmp_eq (tgt := 196) C (by omega) (by omega) dX1_chainsFrom_100 (by decide) (fun c_100 => ?_) (fun c_100 => ?_)
                        · skip
                          refine y_iinc (lv' := [(8, .int (zI ((yy : Int) + 1))), (7, .int (zI (h : Int))), (0, .ref x), (1, .int (zI 1)), (2, .int (zI pl)), (3, .int (zI tY)), (4, .int (zI (um : Int))), (5, .int (zI d)), (6, .int (zI f))]) C dX1_chainsFrom_196 (q := 0) rfl (nlt rfl) rfl ?_
                          refine z_goto (tgt := 90) C dX1_chainsFrom_199 (by decide) ?_
                          exact ih_90 _ (by omega) (yy + 1) u1 u2 rr22 hh22 aa22 ll22 nn22 oo22 dd22 rr32 hh32 aa32 ll32 nn32 oo32 dd32 (by first | assumption | omega) (by
                            show (chG kd fg hm n oa tY 1 um at_ lg pl d f) (21 * h + yy) (foldN (chG kd fg hm n oa tY 1 um at_ lg pl d f) (21 * h + yy) (v1, v2)) = _
                            rw [hst2]
                            first
                            | exact chG_f (by omega) (fun z => by have z3 := z.2.2; omega)
                            | (rw [chG_t (by omega) (hasB_0 c_65) (by omega) (by omega)]; exact chF_idle (hbw rfl).1 (hbw rfl).2)) rfl
                        · skip
                          refine z_aload_n C dX1_chainsFrom_103 rfl 2 rfl ?_
                          refine z_aload_n C dX1_chainsFrom_104 rfl 2 rfl ?_
                          refine z_get (q := 0) (kf := 5) (v := .ref le) C rfl rfl in_X1 (by decide) q885 (Or.inl rfl) rfl dX1_chainsFrom_105 ?_
                          refine z_iload_n C dX1_chainsFrom_108 rfl 3 rfl ?_
                          refine y_aldq (q := 2) (t0 := 6) (v := .ref e10) C rfl rfl (by omega) (by decide) (by show va_rf (lf 1) = _; rw [hl1]; rfl) dX1_chainsFrom_109 ?_
                          refine z_iload C dX1_chainsFrom_110 6 rfl ?_
                          refine y_iconst C dX1_chainsFrom_112 ?_
                          refine z_iload C dX1_chainsFrom_113 1 rfl ?_
                          refine z_ishl C dX1_chainsFrom_115 rfl ?_
                          refine z_ior C dX1_chainsFrom_116 rfl ?_
                          rw [mask_or hum (show h < 7 by omega)]
                          refine z_iload C dX1_chainsFrom_117 0 rfl ?_
                          refine z_iload_n C dX1_chainsFrom_119 rfl 5 rfl ?_
                          refine z_i C (z_runV (q := 0) (As := [.ref e10, .int (zI ((um ||| 1 <<< h : Nat) : Int)), .int (zI (yy : Int)), .int (zI tY)]) (rest := []) C (ct_X1_isWorthwhile (zl X) G x e10 e11 e12 e13 e14 at_ n (um ||| 1 <<< h : Nat) oa dy (yy : Int) tY (by first | assumption | omega) (um_lt hum (show h < 7 by omega)) (by first | assumption | omega) (by first | assumption | omega) (fun i hi => (hLj i hi).2.2.2.1)) (lw_V q628 q630 qs15 q58 q631) rfl rfl (sb_e [3, 6] rfl rfl) (na := 4) (by decide +kernel) rfl (zrm rfl rfl (rfl) (rfl)) rfl (Nat.le_of_ble_eq_true rfl) dX1_chainsFrom_120) (fun u => jn_ro (sb_e [3, 6] rfl rfl)) (fun r_120 u hp_120 => ?_)
                          obtain ⟨b_120, rfl⟩ : ∃ z, z = u := ⟨_, rfl⟩
                          obtain ⟨hrv, hb01, hbw⟩ := hp_120
                          subst hrv
                          refine y_if_ne (tgt := 129) C (by omega) dX1_chainsFrom_123 (by decide) (fun c_123 => ?_) (fun c_123 => ?_)
                          · skip
                            refine z_aload_n C dX1_chainsFrom_129 rfl 2 rfl ?_
                            refine z_get (q := 0) (kf := 5) (v := .ref le) C rfl rfl in_X1 (by decide) q885 (Or.inl rfl) rfl dX1_chainsFrom_130 ?_
                            refine z_iload_n C dX1_chainsFrom_133 rfl 3 rfl ?_
                            refine y_iconst C dX1_chainsFrom_134 ?_
                            refine y_iadd C dX1_chainsFrom_135 ?_
                            rw [show (1 + 1 : Int) = 2 by decide]
                            refine y_aldq (q := 2) (t0 := 6) (v := .ref e20) C rfl rfl (by omega) (by decide) (by show va_rf (lf 2) = _; rw [hl2]; rfl) dX1_chainsFrom_136 ?_
                            refine z_aload_n C dX1_chainsFrom_137 rfl 2 rfl ?_
                            refine z_get (q := 0) (kf := 5) (v := .ref le) C rfl rfl in_X1 (by decide) q885 (Or.inl rfl) rfl dX1_chainsFrom_138 ?_
                            refine z_iload_n C dX1_chainsFrom_141 rfl 3 rfl ?_
                            refine y_aldq (q := 2) (t0 := 6) (v := .ref e10) C rfl rfl (by omega) (by decide) (by show va_rf (lf 1) = _; rw [hl1]; rfl) dX1_chainsFrom_142 ?_
                            refine z_v (ws' := fun u => ([(x, .inr (10, [.ref a0, .ref b0, .ref m0, .int (zI im), .ref tl, .ref le, .int (zI (encW u1)), .int (zI u2), .int (zI lo), .ref sh])), (a0, .inr (8, [.ref a1, .ref a2, .ref a3, .ref a4, .int (zI (n : Int)), .int (zI oa), .int (zI dya)])), (le, AQ G 6 4 lf), (e10, .inr (8, [.ref e11, .ref e12, .ref e13, .ref e14, .int (zI (n : Int)), .int (zI oa), .int (zI dy)])), (e11, AQ G 4 7 r), (e12, AI G 7 hm), (e13, AI G 7 at_), (e14, AI G 7 lg), (e20, .inr (8, [.ref e21, .ref e22, .ref e23, .ref e24, .int (zI (n : Int)), .int (zI oa), .int (zI dy)])), (e21, AQ G 4 7 r), (e22, AI G 7 hm), (e23, AI G 7 at_), (e24, AI G 7 lg), (e30, .inr (8, [.ref e31, .ref e32, .ref e33, .ref e34, .int (zI (nn32 : Int)), .int (zI oo32), .int (zI dd32)])), (e31, AQ G 4 7 rr32), (e32, AI G 7 hh32), (e33, AI G 7 aa32), (e34, AI G 7 ll32)] ++ PL LP hk hf)) C (z_runV (q := 8) (As := [.ref e10]) (rest := []) C (ct_X2_takes (zl X) G e20 e21 e22 e23 e24 e10 e11 e12 e13 e14 rr22 hh22 aa22 ll22 nn22 oo22 dd22 r hm at_ lg n oa dy LP hk hf (by first | assumption | omega) (by first | assumption | omega)) (lw_V q285 q286 q287 q59 q288) rfl rfl (sb_p [8, 9, 10, 11, 12, 3, 4, 5, 6, 7] rfl rfl) (na := 1) (by decide +kernel) rfl (zrm rfl rfl (rfl) (rfl)) rfl (Nat.le_of_ble_eq_true rfl) dX1_chainsFrom_143) (fun u => jn_p (Lr := [(x, .inr (10, [.ref a0, .ref b0, .ref m0, .int (zI im), .ref tl, .ref le, .int (zI (encW u1)), .int (zI u2), .int (zI lo), .ref sh])), (a0, .inr (8, [.ref a1, .ref a2, .ref a3, .ref a4, .int (zI (n : Int)), .int (zI oa), .int (zI dya)])), (le, AQ G 6 4 lf), (e30, .inr (8, [.ref e31, .ref e32, .ref e33, .ref e34, .int (zI (nn32 : Int)), .int (zI oo32), .int (zI dd32)])), (e31, AQ G 4 7 rr32), (e32, AI G 7 hh32), (e33, AI G 7 aa32), (e34, AI G 7 ll32)]) [8, 9, 10, 11, 12, 3, 4, 5, 6, 7] [0, 1, 2, 13, 14, 15, 16, 17] [0, 1, 2, 13, 14, 15, 16, 17, 8, 9, 10, 11, 12, 3, 4, 5, 6, 7] rfl rfl rfl (by decide) rfl rfl) (fun u hp_143 => ?_)
                            refine z_aload_n C dX1_chainsFrom_146 rfl 2 rfl ?_
                            refine z_get (q := 0) (kf := 5) (v := .ref le) C rfl rfl in_X1 (by decide) q885 (Or.inl rfl) rfl dX1_chainsFrom_147 ?_
                            refine z_iload_n C dX1_chainsFrom_150 rfl 3 rfl ?_
                            refine y_iconst C dX1_chainsFrom_151 ?_
                            refine y_iadd C dX1_chainsFrom_152 ?_
                            rw [show (1 + 1 : Int) = 2 by decide]
                            refine y_aldq (q := 2) (t0 := 6) (v := .ref e20) C rfl rfl (by omega) (by decide) (by show va_rf (lf 2) = _; rw [hl2]; rfl) dX1_chainsFrom_153 ?_
                            refine z_iload C dX1_chainsFrom_154 1 rfl ?_
                            refine z_iload C dX1_chainsFrom_156 0 rfl ?_
                            refine z_i (ws' := fun u => ([(x, .inr (10, [.ref a0, .ref b0, .ref m0, .int (zI im), .ref tl, .ref le, .int (zI (encW u1)), .int (zI u2), .int (zI lo), .ref sh])), (a0, .inr (8, [.ref a1, .ref a2, .ref a3, .ref a4, .int (zI (n : Int)), .int (zI oa), .int (zI dya)])), (le, AQ G 6 4 lf), (e10, .inr (8, [.ref e11, .ref e12, .ref e13, .ref e14, .int (zI (n : Int)), .int (zI oa), .int (zI dy)])), (e11, AQ G 4 7 r), (e12, AI G 7 hm), (e13, AI G 7 at_), (e14, AI G 7 lg), (e20, .inr (8, [.ref e21, .ref e22, .ref e23, .ref e24, .int (zI (n : Int)), .int (zI oa), .int (zI (dy + ((rdN kd fg hm oa n h (yy : Int) at_ lg) : Int)))])), (e21, AQ G 4 7 r), (e22, AI G 7 hm), (e23, AI G 7 (rdA kd fg hm oa n h (yy : Int) at_ lg)), (e24, AI G 7 (rdL kd fg hm oa n h (yy : Int) at_ lg)), (e30, .inr (8, [.ref e31, .ref e32, .ref e33, .ref e34, .int (zI (nn32 : Int)), .int (zI oo32), .int (zI dd32)])), (e31, AQ G 4 7 rr32), (e32, AI G 7 hh32), (e33, AI G 7 aa32), (e34, AI G 7 ll32)] ++ PL LP hk hf)) C (z_runV (q := 8) (As := [.int (zI (h : Int)), .int (zI (yy : Int))]) (rest := []) C (ct_X2_rides (zl X) G e20 e21 e22 e23 e24 r hm at_ lg n oa dy LP hk hf kd fg h (yy : Int) (by first | assumption | omega) (by first | assumption | omega) (by omega) (by omega)) (lw_V q393 q394 q395 q59 q396) rfl rfl (sb_p [8, 9, 10, 11, 12] rfl rfl) (na := 2) (by decide +kernel) rfl (zrm rfl rfl (rfl) (rfl)) rfl (Nat.le_of_ble_eq_true rfl) dX1_chainsFrom_158) (fun u => jn_p (Lr := [(x, .inr (10, [.ref a0, .ref b0, .ref m0, .int (zI im), .ref tl, .ref le, .int (zI (encW u1)), .int (zI u2), .int (zI lo), .ref sh])), (a0, .inr (8, [.ref a1, .ref a2, .ref a3, .ref a4, .int (zI (n : Int)), .int (zI oa), .int (zI dya)])), (le, AQ G 6 4 lf), (e10, .inr (8, [.ref e11, .ref e12, .ref e13, .ref e14, .int (zI (n : Int)), .int (zI oa), .int (zI dy)])), (e11, AQ G 4 7 r), (e12, AI G 7 hm), (e13, AI G 7 at_), (e14, AI G 7 lg), (e30, .inr (8, [.ref e31, .ref e32, .ref e33, .ref e34, .int (zI (nn32 : Int)), .int (zI oo32), .int (zI dd32)])), (e31, AQ G 4 7 rr32), (e32, AI G 7 hh32), (e33, AI G 7 aa32), (e34, AI G 7 ll32)]) [8, 9, 10, 11, 12] [0, 1, 2, 3, 4, 5, 6, 7, 13, 14, 15, 16, 17] [0, 1, 2, 3, 4, 5, 6, 7, 13, 14, 15, 16, 17, 8, 9, 10, 11, 12] rfl rfl rfl (by decide) rfl rfl) (fun r_158 u hp_158 => ?_)
                            have hp_158 : r_158 = zI ((rdN kd fg hm oa n h (yy : Int) at_ lg) : Int) := hp_158
                            subst hp_158
                            have hrn := rdN_le kd fg hm oa n h (yy : Int) at_ lg
                            have hL2 : LK n kd fg hm (rdA kd fg hm oa n h (yy : Int) at_ lg) (rdL kd fg hm oa n h (yy : Int) at_ lg) oa := rideF_ok (by omega) (by omega) 20 at_ lg hL
                            refine z_istore (lv' := [(9, .int (zI ((rdN kd fg hm oa n h (yy : Int) at_ lg) : Int))), (8, .int (zI (yy : Int))), (7, .int (zI (h : Int))), (0, .ref x), (1, .int (zI 1)), (2, .int (zI pl)), (3, .int (zI tY)), (4, .int (zI (um : Int))), (5, .int (zI d)), (6, .int (zI f))]) C dX1_chainsFrom_161 (nlt rfl) rfl ?_
                            refine z_aload_n C dX1_chainsFrom_163 rfl 3 rfl ?_
                            refine z_iload_n C dX1_chainsFrom_164 rfl 4 rfl ?_
                            refine y_iconst C dX1_chainsFrom_165 ?_
                            refine y_iadd C dX1_chainsFrom_166 ?_
                            rw [show (1 + 1 : Int) = 2 by decide]
                            refine z_iload C dX1_chainsFrom_167 1 rfl ?_
                            refine z_iload_n C dX1_chainsFrom_169 rfl 6 rfl ?_
                            refine z_iload C dX1_chainsFrom_170 7 rfl ?_
                            refine y_iconst C dX1_chainsFrom_172 ?_
                            refine z_iload C dX1_chainsFrom_173 2 rfl ?_
                            refine z_ishl C dX1_chainsFrom_175 rfl ?_
                            refine z_ior C dX1_chainsFrom_176 rfl ?_
                            rw [mask_or hum (show h < 7 by omega)]
                            refine z_iload C dX1_chainsFrom_177 8 rfl ?_
                            refine z_iload C dX1_chainsFrom_179 0 rfl ?_
                            refine y_iadd C dX1_chainsFrom_181 ?_
                            refine z_iload_n C dX1_chainsFrom_182 rfl 4 rfl ?_
                            refine y_if_ne (tgt := 191) C (by omega) dX1_chainsFrom_183 (by decide) (fun c_183 => ?_) (fun c_183 => ?_)
                            · skip
                              refine z_iload C dX1_chainsFrom_191 9 rfl ?_
                              refine z_v (ws' := fun u => ([(x, .inr (10, [.ref a0, .ref b0, .ref m0, .int (zI im), .ref tl, .ref le, .int (zI (encW (chF kd fg hm n oa tY 1 (um ||| 1 <<< h : Nat) (rdA kd fg hm oa n h (yy : Int) at_ lg) (rdL kd fg hm oa n h (yy : Int) at_ lg) (yy : Int) (d + ((rdN kd fg hm oa n h (yy : Int) at_ lg) : Int)) f (u1, u2)).1)), .int (zI ((chF kd fg hm n oa tY 1 (um ||| 1 <<< h : Nat) (rdA kd fg hm oa n h (yy : Int) at_ lg) (rdL kd fg hm oa n h (yy : Int) at_ lg) (yy : Int) (d + ((rdN kd fg hm oa n h (yy : Int) at_ lg) : Int)) f (u1, u2)).2)), .int (zI lo), .ref sh])), (a0, .inr (8, [.ref a1, .ref a2, .ref a3, .ref a4, .int (zI (n : Int)), .int (zI oa), .int (zI dya)])), (le, AQ G 6 4 lf), (e10, .inr (8, [.ref e11, .ref e12, .ref e13, .ref e14, .int (zI (n : Int)), .int (zI oa), .int (zI dy)])), (e11, AQ G 4 7 r), (e12, AI G 7 hm), (e13, AI G 7 at_), (e14, AI G 7 lg), (e20, .inr (8, [.ref e21, .ref e22, .ref e23, .ref e24, .int (zI (n : Int)), .int (zI oa), .int (zI (dy + ((rdN kd fg hm oa n h (yy : Int) at_ lg) : Int)))])), (e21, AQ G 4 7 r), (e22, AI G 7 hm), (e23, AI G 7 (rdA kd fg hm oa n h (yy : Int) at_ lg)), (e24, AI G 7 (rdL kd fg hm oa n h (yy : Int) at_ lg)), (e30, .inr (8, [.ref e31, .ref e32, .ref e33, .ref e34, .int (zI (u.2.2.2.2.1 : Int)), .int (zI u.2.2.2.2.2.1), .int (zI u.2.2.2.2.2.2)])), (e31, AQ G 4 7 u.1), (e32, AI G 7 u.2.1), (e33, AI G 7 u.2.2.1), (e34, AI G 7 u.2.2.2.1)] ++ PL LP hk hf)) C (z_runV (q := 0) (As := [.int (zI 2), .int (zI (yy : Int)), .int (zI tY), .int (zI ((um ||| 1 <<< h : Nat) : Int)), .int (zI (d + ((rdN kd fg hm oa n h (yy : Int) at_ lg) : Int))), .int (zI f)]) (rest := []) C (ct_X1_chainsFrom_2 (zl X) G x b0 m0 tl le sh im lo a0 a1 a2 a3 a4 r hm (rdA kd fg hm oa n h (yy : Int) at_ lg) (rdL kd fg hm oa n h (yy : Int) at_ lg) n oa (dy + ((rdN kd fg hm oa n h (yy : Int) at_ lg) : Int)) LP hk hf kd fg dya lf e20 e21 e22 e23 e24 e30 e31 e32 e33 e34 rr32 hh32 aa32 ll32 nn32 oo32 dd32 (um ||| 1 <<< h : Nat) (yy : Int) tY (d + ((rdN kd fg hm oa n h (yy : Int) at_ lg) : Int)) f u1 u2 (by first | assumption | omega) (hL2) (by first | assumption | omega) (by first | assumption | omega) (um_lt hum (show h < 7 by omega)) (by first | assumption | omega) (by omega) (by omega) (by omega) (hci2) (um_ne) (by first | assumption | omega) (by first | assumption | omega)) (lw_V q621 q623 qs14 q58 q624) rfl rfl (sb_p [0, 1, 2, 8, 9, 10, 11, 12, 13, 14, 15, 16, 17] rfl rfl) (na := 6) (by decide +kernel) rfl (zrm rfl rfl (rfl) (rfl)) rfl (Nat.le_of_ble_eq_true rfl) dX1_chainsFrom_193) (fun u => jn_p (Lr := [(e10, .inr (8, [.ref e11, .ref e12, .ref e13, .ref e14, .int (zI (n : Int)), .int (zI oa), .int (zI dy)])), (e11, AQ G 4 7 r), (e12, AI G 7 hm), (e13, AI G 7 at_), (e14, AI G 7 lg)]) [0, 1, 2, 8, 9, 10, 11, 12, 13, 14, 15, 16, 17] [3, 4, 5, 6, 7] [5, 6, 7, 0, 1, 2, 3, 4, 8, 9, 10, 11, 12, 13, 14, 15, 16, 17] rfl rfl rfl (by decide) rfl rfl) (fun u hp_193 => ?_)
                              obtain ⟨rr39_193, hh39_193, aa39_193, ll39_193, nn39_193, oo39_193, dd39_193⟩ := u
                              refine y_iinc (lv' := [(8, .int (zI ((yy : Int) + 1))), (9, .int (zI ((rdN kd fg hm oa n h (yy : Int) at_ lg) : Int))), (7, .int (zI (h : Int))), (0, .ref x), (1, .int (zI 1)), (2, .int (zI pl)), (3, .int (zI tY)), (4, .int (zI (um : Int))), (5, .int (zI d)), (6, .int (zI f))]) C dX1_chainsFrom_196 (q := 1) rfl (nlt rfl) rfl ?_
                              refine z_goto (tgt := 90) C dX1_chainsFrom_199 (by decide) ?_
                              refine z_lv (lv' := [(8, .int (zI ((yy : Int) + 1))), (7, .int (zI (h : Int))), (0, .ref x), (1, .int (zI 1)), (2, .int (zI pl)), (3, .int (zI tY)), (4, .int (zI (um : Int))), (5, .int (zI d)), (6, .int (zI f))]) [0, 2, 3, 4, 5, 6, 7, 8, 9] rfl ?_
                              exact ih_90 _ (by omega) (yy + 1) ((chF kd fg hm n oa tY 1 (um ||| 1 <<< h : Nat) (rdA kd fg hm oa n h (yy : Int) at_ lg) (rdL kd fg hm oa n h (yy : Int) at_ lg) (yy : Int) (d + ((rdN kd fg hm oa n h (yy : Int) at_ lg) : Int)) f (u1, u2)).1) ((chF kd fg hm n oa tY 1 (um ||| 1 <<< h : Nat) (rdA kd fg hm oa n h (yy : Int) at_ lg) (rdL kd fg hm oa n h (yy : Int) at_ lg) (yy : Int) (d + ((rdN kd fg hm oa n h (yy : Int) at_ lg) : Int)) f (u1, u2)).2) r hm (rdA kd fg hm oa n h (yy : Int) at_ lg) (rdL kd fg hm oa n h (yy : Int) at_ lg) n oa (dy + ((rdN kd fg hm oa n h (yy : Int) at_ lg) : Int)) rr39_193 hh39_193 aa39_193 ll39_193 nn39_193 oo39_193 dd39_193 (by first | assumption | omega) (by
                                show (chG kd fg hm n oa tY 1 um at_ lg pl d f) (21 * h + yy) (foldN (chG kd fg hm n oa tY 1 um at_ lg pl d f) (21 * h + yy) (v1, v2)) = _
                                rw [hst2, chG_t (by omega) (hasB_0 c_65) (by omega) (by omega), if_neg hu0]) rfl
                            · skip
                              exact absurd c_183 (by decide)
                          · skip
                            have hb0 : b_120 = 0 := by omega
                            subst hb0
                            refine z_goto (tgt := 196) C dX1_chainsFrom_126 (by decide) ?_
                            refine y_iinc (lv' := [(8, .int (zI ((yy : Int) + 1))), (7, .int (zI (h : Int))), (0, .ref x), (1, .int (zI 1)), (2, .int (zI pl)), (3, .int (zI tY)), (4, .int (zI (um : Int))), (5, .int (zI d)), (6, .int (zI f))]) C dX1_chainsFrom_196 (q := 0) rfl (nlt rfl) rfl ?_
                            refine z_goto (tgt := 90) C dX1_chainsFrom_199 (by decide) ?_
                            exact ih_90 _ (by omega) (yy + 1) u1 u2 rr22 hh22 aa22 ll22 nn22 oo22 dd22 rr32 hh32 aa32 ll32 nn32 oo32 dd32 (by first | assumption | omega) (by
                              show (chG kd fg hm n oa tY 1 um at_ lg pl d f) (21 * h + yy) (foldN (chG kd fg hm n oa tY 1 um at_ lg pl d f) (21 * h + yy) (v1, v2)) = _
                              rw [hst2]
                              first
                              | exact chG_f (by omega) (fun z => by have z3 := z.2.2; omega)
                              | (rw [chG_t (by omega) (hasB_0 c_65) (by omega) (by omega)]; exact chF_idle (hbw rfl).1 (hbw rfl).2)) rfl
                  exact L_90 _ 0 w1 w2 rr21 hh21 aa21 ll21 nn21 oo21 dd21 rr31 hh31 aa31 ll31 nn31 oo31 dd31 (by first | assumption | omega) (hst) rfl
                · skip
                  refine z_goto (tgt := 202) C dX1_chainsFrom_84 (by decide) ?_
                  refine y_iinc (lv' := [(7, .int (zI ((h : Int) + 1))), (0, .ref x), (1, .int (zI 1)), (2, .int (zI pl)), (3, .int (zI tY)), (4, .int (zI (um : Int))), (5, .int (zI d)), (6, .int (zI f))]) C dX1_chainsFrom_202 (q := 0) rfl (nlt rfl) rfl ?_
                  refine z_goto (tgt := 46) C dX1_chainsFrom_205 (by decide) ?_
                  exact ih_46 _ (by omega) (h + 1) w1 w2 rr21 hh21 aa21 ll21 nn21 oo21 dd21 rr31 hh31 aa31 ll31 nn31 oo31 dd31 (by first | assumption | omega) (by
                    rw [show 21 * (h + 1) = 21 * h + 21 by omega, foldN_skip 21 (fun i h1 h2 s => by
                      obtain ⟨y, rfl⟩ : ∃ y, i = 21 * h + y := ⟨i - 21 * h, by omega⟩
                      exact chG_f (by omega) (fun z => by
                        have z1 := z.1
                        have z2 := z.2.1
                        first | exact absurd z1 (hasB_1 (by assumption)) | omega))]
                    exact hst) rfl
        exact L_46 _ 0 v1 v2 rr2 hh2 aa2 ll2 nn2 oo2 dd2 rr3 hh3 aa3 ll3 nn3 oo3 dd3 (by first | assumption | omega) (rfl) rfl
      · skip
        refine z_wsEq (ws' := ([(x, .inr (10, [.ref a0, .ref b0, .ref m0, .int (zI im), .ref tl, .ref le, .int (zI (encW (chF kd fg hm n oa tY 2 um at_ lg pl d f (v1, v2)).1)), .int (zI ((chF kd fg hm n oa tY 2 um at_ lg pl d f (v1, v2)).2)), .int (zI lo), .ref sh])), (a0, .inr (8, [.ref a1, .ref a2, .ref a3, .ref a4, .int (zI (n : Int)), .int (zI oa), .int (zI dya)])), (le, AQ G 6 4 lf), (e10, .inr (8, [.ref e11, .ref e12, .ref e13, .ref e14, .int (zI (n : Int)), .int (zI oa), .int (zI dy)])), (e11, AQ G 4 7 r), (e12, AI G 7 hm), (e13, AI G 7 at_), (e14, AI G 7 lg), (e20, .inr (8, [.ref e21, .ref e22, .ref e23, .ref e24, .int (zI (nn2 : Int)), .int (zI oo2), .int (zI dd2)])), (e21, AQ G 4 7 rr2), (e22, AI G 7 hh2), (e23, AI G 7 aa2), (e24, AI G 7 ll2), (e30, .inr (8, [.ref e31, .ref e32, .ref e33, .ref e34, .int (zI (nn3 : Int)), .int (zI oo3), .int (zI dd3)])), (e31, AQ G 4 7 rr3), (e32, AI G 7 hh3), (e33, AI G 7 aa3), (e34, AI G 7 ll3)] ++ PL LP hk hf)) (by rw [show chF kd fg hm n oa tY 2 um at_ lg pl d f (v1, v2) = (v1, v2) from chF_old _ _ _ _ _ _ _ (encW_f (s := (v1, v2)) (show d ≤ 60 by omega) (show encW v1 ≤ d by omega)).1 (encW_f (s := (v1, v2)) (show d ≤ 60 by omega) (show encW v1 ≤ d by omega)).2]) ?_
        exact z_vret C hA hQ rfl (Nat.le_of_ble_eq_true rfl) (Nat.le_of_ble_eq_true rfl) ((rr2, hh2, aa2, ll2, nn2, oo2, dd2, rr3, hh3, aa3, ll3, nn3, oo3, dd3)) (trivial) (sb_p [0, 1, 2, 3, 4, 5, 6, 7, 8, 9, 10, 11, 12, 13, 14, 15, 16, 17] rfl rfl) dX1_chainsFrom_42
  · skip
    refine z_iload C dX1_chainsFrom_5 5 rfl ?_
    refine z_aload_n C dX1_chainsFrom_7 rfl 0 rfl ?_
    refine z_get (q := 0) (kf := 6) (v := .int (zI (encW v1))) C rfl rfl in_X1 (by decide) q886 (Or.inl rfl) rfl dX1_chainsFrom_8 ?_
    refine y_icmp_lt (tgt := 15) C (by omega) (by omega) dX1_chainsFrom_11 (by decide) (fun c_11 => ?_) (fun c_11 => ?_)
    · skip
      refine z_aload_n C dX1_chainsFrom_15 rfl 0 rfl ?_
      refine z_iload C dX1_chainsFrom_16 5 rfl ?_
      refine z_put (q := 0) (kf := 6) (ws' := ([(x, .inr (10, [.ref a0, .ref b0, .ref m0, .int (zI im), .ref tl, .ref le, .int (zI d), .int (zI v2), .int (zI lo), .ref sh])), (a0, .inr (8, [.ref a1, .ref a2, .ref a3, .ref a4, .int (zI (n : Int)), .int (zI oa), .int (zI dya)])), (le, AQ G 6 4 lf), (e10, .inr (8, [.ref e11, .ref e12, .ref e13, .ref e14, .int (zI (n : Int)), .int (zI oa), .int (zI dy)])), (e11, AQ G 4 7 r), (e12, AI G 7 hm), (e13, AI G 7 at_), (e14, AI G 7 lg), (e20, .inr (8, [.ref e21, .ref e22, .ref e23, .ref e24, .int (zI (nn2 : Int)), .int (zI oo2), .int (zI dd2)])), (e21, AQ G 4 7 rr2), (e22, AI G 7 hh2), (e23, AI G 7 aa2), (e24, AI G 7 ll2), (e30, .inr (8, [.ref e31, .ref e32, .ref e33, .ref e34, .int (zI (nn3 : Int)), .int (zI oo3), .int (zI dd3)])), (e31, AQ G 4 7 rr3), (e32, AI G 7 hh3), (e33, AI G 7 aa3), (e34, AI G 7 ll3)] ++ PL LP hk hf)) C rfl rfl in_X1 tyX1_ok nmX1 (by decide) q886 rfl rfl rfl rfl rfl (nlt rfl) rfl dX1_chainsFrom_18 ?_
      refine z_aload_n C dX1_chainsFrom_21 rfl 0 rfl ?_
      refine z_iload C dX1_chainsFrom_22 6 rfl ?_
      refine z_put (q := 0) (kf := 7) (ws' := ([(x, .inr (10, [.ref a0, .ref b0, .ref m0, .int (zI im), .ref tl, .ref le, .int (zI d), .int (zI f), .int (zI lo), .ref sh])), (a0, .inr (8, [.ref a1, .ref a2, .ref a3, .ref a4, .int (zI (n : Int)), .int (zI oa), .int (zI dya)])), (le, AQ G 6 4 lf), (e10, .inr (8, [.ref e11, .ref e12, .ref e13, .ref e14, .int (zI (n : Int)), .int (zI oa), .int (zI dy)])), (e11, AQ G 4 7 r), (e12, AI G 7 hm), (e13, AI G 7 at_), (e14, AI G 7 lg), (e20, .inr (8, [.ref e21, .ref e22, .ref e23, .ref e24, .int (zI (nn2 : Int)), .int (zI oo2), .int (zI dd2)])), (e21, AQ G 4 7 rr2), (e22, AI G 7 hh2), (e23, AI G 7 aa2), (e24, AI G 7 ll2), (e30, .inr (8, [.ref e31, .ref e32, .ref e33, .ref e34, .int (zI (nn3 : Int)), .int (zI oo3), .int (zI dd3)])), (e31, AQ G 4 7 rr3), (e32, AI G 7 hh3), (e33, AI G 7 aa3), (e34, AI G 7 ll3)] ++ PL LP hk hf)) C rfl rfl in_X1 tyX1_ok nmX1 (by decide) q887 rfl rfl rfl rfl rfl (nlt rfl) rfl dX1_chainsFrom_24 ?_
      refine z_wsEq (ws' := ([(x, .inr (10, [.ref a0, .ref b0, .ref m0, .int (zI im), .ref tl, .ref le, .int (zI (encW (chF kd fg hm n oa tY 2 um at_ lg pl d f (v1, v2)).1)), .int (zI ((chF kd fg hm n oa tY 2 um at_ lg pl d f (v1, v2)).2)), .int (zI lo), .ref sh])), (a0, .inr (8, [.ref a1, .ref a2, .ref a3, .ref a4, .int (zI (n : Int)), .int (zI oa), .int (zI dya)])), (le, AQ G 6 4 lf), (e10, .inr (8, [.ref e11, .ref e12, .ref e13, .ref e14, .int (zI (n : Int)), .int (zI oa), .int (zI dy)])), (e11, AQ G 4 7 r), (e12, AI G 7 hm), (e13, AI G 7 at_), (e14, AI G 7 lg), (e20, .inr (8, [.ref e21, .ref e22, .ref e23, .ref e24, .int (zI (nn2 : Int)), .int (zI oo2), .int (zI dd2)])), (e21, AQ G 4 7 rr2), (e22, AI G 7 hh2), (e23, AI G 7 aa2), (e24, AI G 7 ll2), (e30, .inr (8, [.ref e31, .ref e32, .ref e33, .ref e34, .int (zI (nn3 : Int)), .int (zI oo3), .int (zI dd3)])), (e31, AQ G 4 7 rr3), (e32, AI G 7 hh3), (e33, AI G 7 aa3), (e34, AI G 7 ll3)] ++ PL LP hk hf)) (by rw [show chF kd fg hm n oa tY 2 um at_ lg pl d f (v1, v2) = (d, f) from (chF_to _ (by omega)).trans (encW_t (s := (v1, v2)) (by omega) (show d < encW v1 by omega))]; rw [show encW (d, f).1 = d from encW_p (show 0 ≤ d by omega)]) ?_
      exact z_vret C hA hQ rfl (Nat.le_of_ble_eq_true rfl) (Nat.le_of_ble_eq_true rfl) ((rr2, hh2, aa2, ll2, nn2, oo2, dd2, rr3, hh3, aa3, ll3, nn3, oo3, dd3)) (trivial) (sb_p [0, 1, 2, 3, 4, 5, 6, 7, 8, 9, 10, 11, 12, 13, 14, 15, 16, 17] rfl rfl) dX1_chainsFrom_27
    · skip
      refine z_wsEq (ws' := ([(x, .inr (10, [.ref a0, .ref b0, .ref m0, .int (zI im), .ref tl, .ref le, .int (zI (encW (chF kd fg hm n oa tY 2 um at_ lg pl d f (v1, v2)).1)), .int (zI ((chF kd fg hm n oa tY 2 um at_ lg pl d f (v1, v2)).2)), .int (zI lo), .ref sh])), (a0, .inr (8, [.ref a1, .ref a2, .ref a3, .ref a4, .int (zI (n : Int)), .int (zI oa), .int (zI dya)])), (le, AQ G 6 4 lf), (e10, .inr (8, [.ref e11, .ref e12, .ref e13, .ref e14, .int (zI (n : Int)), .int (zI oa), .int (zI dy)])), (e11, AQ G 4 7 r), (e12, AI G 7 hm), (e13, AI G 7 at_), (e14, AI G 7 lg), (e20, .inr (8, [.ref e21, .ref e22, .ref e23, .ref e24, .int (zI (nn2 : Int)), .int (zI oo2), .int (zI dd2)])), (e21, AQ G 4 7 rr2), (e22, AI G 7 hh2), (e23, AI G 7 aa2), (e24, AI G 7 ll2), (e30, .inr (8, [.ref e31, .ref e32, .ref e33, .ref e34, .int (zI (nn3 : Int)), .int (zI oo3), .int (zI dd3)])), (e31, AQ G 4 7 rr3), (e32, AI G 7 hh3), (e33, AI G 7 aa3), (e34, AI G 7 ll3)] ++ PL LP hk hf)) (by rw [show chF kd fg hm n oa tY 2 um at_ lg pl d f (v1, v2) = (v1, v2) from (chF_to _ (by omega)).trans (tkC_old (encW_f (s := (v1, v2)) (show d ≤ 60 by omega) (show encW v1 ≤ d by omega)).1 (encW_f (s := (v1, v2)) (show d ≤ 60 by omega) (show encW v1 ≤ d by omega)).2)]) ?_
      exact z_vret C hA hQ rfl (Nat.le_of_ble_eq_true rfl) (Nat.le_of_ble_eq_true rfl) ((rr2, hh2, aa2, ll2, nn2, oo2, dd2, rr3, hh3, aa3, ll3, nn3, oo3, dd3)) (trivial) (sb_p [0, 1, 2, 3, 4, 5, 6, 7, 8, 9, 10, 11, 12, 13, 14, 15, 16, 17] rfl rfl) dX1_chainsFrom_14

set_option maxHeartbeats 4000000 in
theorem ct_X1_chainsFrom_0 (l : Launch) (G : ZG) (x : Nat) (b0 : Nat) (m0 : Nat) (tl : Nat) (le : Nat) (sh : Nat) (im : Int) (lo : Int) (a0 : Nat) (a1 : Nat) (a2 : Nat) (a3 : Nat) (a4 : Nat) (r : Nat → Option Nat) (hm : Nat → Int) (at_ : Nat → Int) (lg : Nat → Int) (n : Nat) (oa : Int) (dy : Int) (LP : List Nat) (hk : Nat → Nat) (hf : Nat → Int) (kd : Nat → Nat) (fg : Nat → Int) (dya : Int) (lf : Nat → Option Nat) (e00 : Nat) (e01 : Nat) (e02 : Nat) (e03 : Nat) (e04 : Nat) (e10 : Nat) (e11 : Nat) (e12 : Nat) (e13 : Nat) (e14 : Nat) (rr1 : Nat → Option Nat) (hh1 : Nat → Int) (aa1 : Nat → Int) (ll1 : Nat → Int) (nn1 : Nat) (oo1 : Int) (dd1 : Int) (e20 : Nat) (e21 : Nat) (e22 : Nat) (e23 : Nat) (e24 : Nat) (rr2 : Nat → Option Nat) (hh2 : Nat → Int) (aa2 : Nat → Int) (ll2 : Nat → Int) (nn2 : Nat) (oo2 : Int) (dd2 : Int) (e30 : Nat) (e31 : Nat) (e32 : Nat) (e33 : Nat) (e34 : Nat) (rr3 : Nat → Option Nat) (hh3 : Nat → Int) (aa3 : Nat → Int) (ll3 : Nat → Int) (nn3 : Nat) (oo3 : Int) (dd3 : Int) (um : Nat) (pl : Int) (tY : Int) (d : Int) (f : Int) (v1 : Int) (v2 : Int) (hH : HR LP hk hf r n kd fg) (hL : LK n kd fg hm at_ lg oa) (hK : PK LP hk hf) (hV : RV LP r) (hum : um < 128) (hty : 0 ≤ tY ∧ tY ≤ 20) (hpl : 0 ≤ pl ∧ pl ≤ 20) (hd : 0 ≤ d ∧ d ≤ 0) (hff : -4 ≤ f ∧ f ≤ 7) (hs : CI (v1, v2)) (hu0 : um = 0) (hl0 : lf 0 = some e00) (hl1 : lf 1 = some e10) (hl2 : lf 2 = some e20) (hl3 : lf 3 = some e30) : CT l yX1_chainsFrom cX1_chainsFrom 10 none { frames := 10, cells := 0, slots := 0, locals := 224 } G [.ref x, .int (zI 0), .int (zI pl), .int (zI tY), .int (zI (um : Int)), .int (zI d), .int (zI f)] ([(x, .inr (10, [.ref a0, .ref b0, .ref m0, .int (zI im), .ref tl, .ref le, .int (zI (encW v1)), .int (zI v2), .int (zI lo), .ref sh])), (a0, .inr (8, [.ref a1, .ref a2, .ref a3, .ref a4, .int (zI (n : Int)), .int (zI oa), .int (zI dya)])), (le, AQ G 6 4 lf), (e00, .inr (8, [.ref e01, .ref e02, .ref e03, .ref e04, .int (zI (n : Int)), .int (zI oa), .int (zI dy)])), (e01, AQ G 4 7 r), (e02, AI G 7 hm), (e03, AI G 7 at_), (e04, AI G 7 lg), (e10, .inr (8, [.ref e11, .ref e12, .ref e13, .ref e14, .int (zI (nn1 : Int)), .int (zI oo1), .int (zI dd1)])), (e11, AQ G 4 7 rr1), (e12, AI G 7 hh1), (e13, AI G 7 aa1), (e14, AI G 7 ll1), (e20, .inr (8, [.ref e21, .ref e22, .ref e23, .ref e24, .int (zI (nn2 : Int)), .int (zI oo2), .int (zI dd2)])), (e21, AQ G 4 7 rr2), (e22, AI G 7 hh2), (e23, AI G 7 aa2), (e24, AI G 7 ll2), (e30, .inr (8, [.ref e31, .ref e32, .ref e33, .ref e34, .int (zI (nn3 : Int)), .int (zI oo3), .int (zI dd3)])), (e31, AQ G 4 7 rr3), (e32, AI G 7 hh3), (e33, AI G 7 aa3), (e34, AI G 7 ll3)] ++ PL LP hk hf) (Qv G ([(x, .inr (10, [.ref a0, .ref b0, .ref m0, .int (zI im), .ref tl, .ref le, .int (zI (encW v1)), .int (zI v2), .int (zI lo), .ref sh])), (a0, .inr (8, [.ref a1, .ref a2, .ref a3, .ref a4, .int (zI (n : Int)), .int (zI oa), .int (zI dya)])), (le, AQ G 6 4 lf), (e00, .inr (8, [.ref e01, .ref e02, .ref e03, .ref e04, .int (zI (n : Int)), .int (zI oa), .int (zI dy)])), (e01, AQ G 4 7 r), (e02, AI G 7 hm), (e03, AI G 7 at_), (e04, AI G 7 lg), (e10, .inr (8, [.ref e11, .ref e12, .ref e13, .ref e14, .int (zI (nn1 : Int)), .int (zI oo1), .int (zI dd1)])), (e11, AQ G 4 7 rr1), (e12, AI G 7 hh1), (e13, AI G 7 aa1), (e14, AI G 7 ll1), (e20, .inr (8, [.ref e21, .ref e22, .ref e23, .ref e24, .int (zI (nn2 : Int)), .int (zI oo2), .int (zI dd2)])), (e21, AQ G 4 7 rr2), (e22, AI G 7 hh2), (e23, AI G 7 aa2), (e24, AI G 7 ll2), (e30, .inr (8, [.ref e31, .ref e32, .ref e33, .ref e34, .int (zI (nn3 : Int)), .int (zI oo3), .int (zI dd3)])), (e31, AQ G 4 7 rr3), (e32, AI G 7 hh3), (e33, AI G 7 aa3), (e34, AI G 7 ll3)] ++ PL LP hk hf) (fun (u : (Nat → Option Nat) × (Nat → Int) × (Nat → Int) × (Nat → Int) × Nat × Int × Int × (Nat → Option Nat) × (Nat → Int) × (Nat → Int) × (Nat → Int) × Nat × Int × Int × (Nat → Option Nat) × (Nat → Int) × (Nat → Int) × (Nat → Int) × Nat × Int × Int) => True) (fun u => ([(x, .inr (10, [.ref a0, .ref b0, .ref m0, .int (zI im), .ref tl, .ref le, .int (zI (encW (chF kd fg hm n oa tY 3 um at_ lg pl d f (v1, v2)).1)), .int (zI ((chF kd fg hm n oa tY 3 um at_ lg pl d f (v1, v2)).2)), .int (zI lo), .ref sh])), (a0, .inr (8, [.ref a1, .ref a2, .ref a3, .ref a4, .int (zI (n : Int)), .int (zI oa), .int (zI dya)])), (le, AQ G 6 4 lf), (e00, .inr (8, [.ref e01, .ref e02, .ref e03, .ref e04, .int (zI (n : Int)), .int (zI oa), .int (zI dy)])), (e01, AQ G 4 7 r), (e02, AI G 7 hm), (e03, AI G 7 at_), (e04, AI G 7 lg), (e10, .inr (8, [.ref e11, .ref e12, .ref e13, .ref e14, .int (zI (u.2.2.2.2.1 : Int)), .int (zI u.2.2.2.2.2.1), .int (zI u.2.2.2.2.2.2.1)])), (e11, AQ G 4 7 u.1), (e12, AI G 7 u.2.1), (e13, AI G 7 u.2.2.1), (e14, AI G 7 u.2.2.2.1), (e20, .inr (8, [.ref e21, .ref e22, .ref e23, .ref e24, .int (zI (u.2.2.2.2.2.2.2.2.2.2.2.1 : Int)), .int (zI u.2.2.2.2.2.2.2.2.2.2.2.2.1), .int (zI u.2.2.2.2.2.2.2.2.2.2.2.2.2.1)])), (e21, AQ G 4 7 u.2.2.2.2.2.2.2.1), (e22, AI G 7 u.2.2.2.2.2.2.2.2.1), (e23, AI G 7 u.2.2.2.2.2.2.2.2.2.1), (e24, AI G 7 u.2.2.2.2.2.2.2.2.2.2.1), (e30, .inr (8, [.ref e31, .ref e32, .ref e33, .ref e34, .int (zI (u.2.2.2.2.2.2.2.2.2.2.2.2.2.2.2.2.2.2.1 : Int)), .int (zI u.2.2.2.2.2.2.2.2.2.2.2.2.2.2.2.2.2.2.2.1), .int (zI u.2.2.2.2.2.2.2.2.2.2.2.2.2.2.2.2.2.2.2.2)])), (e31, AQ G 4 7 u.2.2.2.2.2.2.2.2.2.2.2.2.2.2.1), (e32, AI G 7 u.2.2.2.2.2.2.2.2.2.2.2.2.2.2.2.1), (e33, AI G 7 u.2.2.2.2.2.2.2.2.2.2.2.2.2.2.2.2.1), (e34, AI G 7 u.2.2.2.2.2.2.2.2.2.2.2.2.2.2.2.2.2.1)] ++ PL LP hk hf))) := by
  refine z_met (by decide) (Nat.le_of_ble_eq_true rfl) ?_
  intro X A hl0 hA C hQ hin
  subst hl0
  obtain ⟨hn7, hoa, hLj⟩ := id hL
  have hen := encW_r hs
  have hen1 : 0 ≤ encW v1 ∧ encW v1 ≤ 1000000000 := hen
  show Z X _ G 0 0 _ 0 [(0, .ref x), (1, .int (zI 0)), (2, .int (zI pl)), (3, .int (zI tY)), (4, .int (zI (um : Int))), (5, .int (zI d)), (6, .int (zI f))] []
  refine z_iload_n C dX1_chainsFrom_0 rfl 2 rfl ?_
  refine z_iload_n C dX1_chainsFrom_1 rfl 3 rfl ?_
  refine y_icmp_ne (tgt := 28) C (by omega) (by omega) dX1_chainsFrom_2 (by decide) (fun c_2 => ?_) (fun c_2 => ?_)
  · skip
    refine z_iload_n C dX1_chainsFrom_28 rfl 1 rfl ?_
    refine y_iconst C dX1_chainsFrom_29 ?_
    refine y_icmp_eq (tgt := 42) C (by omega) (by omega) dX1_chainsFrom_30 (by decide) (fun c_30 => ?_) (fun c_30 => ?_)
    · skip
      exact absurd c_30 (by decide)
    · skip
      refine z_iload C dX1_chainsFrom_33 5 rfl ?_
      refine z_aload_n C dX1_chainsFrom_35 rfl 0 rfl ?_
      refine z_get (q := 0) (kf := 6) (v := .int (zI (encW v1))) C rfl rfl in_X1 (by decide) q886 (Or.inl rfl) rfl dX1_chainsFrom_36 ?_
      refine y_icmp_lt (tgt := 43) C (by omega) (by omega) dX1_chainsFrom_39 (by decide) (fun c_39 => ?_) (fun c_39 => ?_)
      · skip
        refine y_iconst C dX1_chainsFrom_43 ?_
        refine z_istore (lv' := [(7, .int (zI 0)), (0, .ref x), (1, .int (zI 0)), (2, .int (zI pl)), (3, .int (zI tY)), (4, .int (zI (um : Int))), (5, .int (zI d)), (6, .int (zI f))]) C dX1_chainsFrom_44 (nlt rfl) rfl ?_
        have L_46 : ∀ (tt : Nat) (h : Nat) (w1 : Int) (w2 : Int) (rr11 : Nat → Option Nat) (hh11 : Nat → Int) (aa11 : Nat → Int) (ll11 : Nat → Int) (nn11 : Nat) (oo11 : Int) (dd11 : Int) (rr21 : Nat → Option Nat) (hh21 : Nat → Int) (aa21 : Nat → Int) (ll21 : Nat → Int) (nn21 : Nat) (oo21 : Int) (dd21 : Int) (rr31 : Nat → Option Nat) (hh31 : Nat → Int) (aa31 : Nat → Int) (ll31 : Nat → Int) (nn31 : Nat) (oo31 : Int) (dd31 : Int), (h ≤ n) → (foldN (chG kd fg hm n oa tY 2 um at_ lg pl d f) (21 * h) (v1, v2) = (w1, w2)) → n - h = tt → Z X (cX1_chainsFrom, 10, yX1_chainsFrom.cls, none, { frames := 10, cells := 0, slots := 0, locals := 224 }, A) G 0 0 ([(x, .inr (10, [.ref a0, .ref b0, .ref m0, .int (zI im), .ref tl, .ref le, .int (zI (encW w1)), .int (zI w2), .int (zI lo), .ref sh])), (a0, .inr (8, [.ref a1, .ref a2, .ref a3, .ref a4, .int (zI (n : Int)), .int (zI oa), .int (zI dya)])), (le, AQ G 6 4 lf), (e00, .inr (8, [.ref e01, .ref e02, .ref e03, .ref e04, .int (zI (n : Int)), .int (zI oa), .int (zI dy)])), (e01, AQ G 4 7 r), (e02, AI G 7 hm), (e03, AI G 7 at_), (e04, AI G 7 lg), (e10, .inr (8, [.ref e11, .ref e12, .ref e13, .ref e14, .int (zI (nn11 : Int)), .int (zI oo11), .int (zI dd11)])), (e11, AQ G 4 7 rr11), (e12, AI G 7 hh11), (e13, AI G 7 aa11), (e14, AI G 7 ll11), (e20, .inr (8, [.ref e21, .ref e22, .ref e23, .ref e24, .int (zI (nn21 : Int)), .int (zI oo21), .int (zI dd21)])), (e21, AQ G 4 7 rr21), (e22, AI G 7 hh21), (e23, AI G 7 aa21), (e24, AI G 7 ll21), (e30, .inr (8, [.ref e31, .ref e32, .ref e33, .ref e34, .int (zI (nn31 : Int)), .int (zI oo31), .int (zI dd31)])), (e31, AQ G 4 7 rr31), (e32, AI G 7 hh31), (e33, AI G 7 aa31), (e34, AI G 7 ll31)] ++ PL LP hk hf) 46 [(7, .int (zI (h : Int))), (0, .ref x), (1, .int (zI 0)), (2, .int (zI pl)), (3, .int (zI tY)), (4, .int (zI (um : Int))), (5, .int (zI d)), (6, .int (zI f))] [] := by
          intro tt
          induction tt using Nat.strongRecOn with
          | _ tt ih_46 =>
            intro h w1 w2 rr11 hh11 aa11 ll11 nn11 oo11 dd11 rr21 hh21 aa21 ll21 nn21 oo21 dd21 rr31 hh31 aa31 ll31 nn31 oo31 dd31 hh hst ht_46
            have hci : CI (w1, w2) := hst ▸ (foldG_ci hn7 hs hd.1 (by omega) hff (by omega))
            refine z_iload C dX1_chainsFrom_46 0 rfl ?_
            refine z_aload_n C dX1_chainsFrom_48 rfl 1 rfl ?_
            refine z_get (q := 0) (kf := 0) (v := .ref a0) C rfl rfl in_X1 (by decide) q880 (Or.inl rfl) rfl dX1_chainsFrom_49 ?_
            refine z_get (q := 1) (kf := 4) (v := .int (zI (n : Int))) C rfl rfl in_X2 (by decide) q846 (Or.inl rfl) rfl dX1_chainsFrom_52 ?_
            refine y_icmp_ge (tgt := 208) C (by omega) (by omega) dX1_chainsFrom_55 (by decide) (fun c_55 => ?_) (fun c_55 => ?_)
            · skip
              rw [show h = n by omega] at hst
              refine z_wsEq (ws' := ([(x, .inr (10, [.ref a0, .ref b0, .ref m0, .int (zI im), .ref tl, .ref le, .int (zI (encW (chF kd fg hm n oa tY 3 um at_ lg pl d f (v1, v2)).1)), .int (zI ((chF kd fg hm n oa tY 3 um at_ lg pl d f (v1, v2)).2)), .int (zI lo), .ref sh])), (a0, .inr (8, [.ref a1, .ref a2, .ref a3, .ref a4, .int (zI (n : Int)), .int (zI oa), .int (zI dya)])), (le, AQ G 6 4 lf), (e00, .inr (8, [.ref e01, .ref e02, .ref e03, .ref e04, .int (zI (n : Int)), .int (zI oa), .int (zI dy)])), (e01, AQ G 4 7 r), (e02, AI G 7 hm), (e03, AI G 7 at_), (e04, AI G 7 lg), (e10, .inr (8, [.ref e11, .ref e12, .ref e13, .ref e14, .int (zI (nn11 : Int)), .int (zI oo11), .int (zI dd11)])), (e11, AQ G 4 7 rr11), (e12, AI G 7 hh11), (e13, AI G 7 aa11), (e14, AI G 7 ll11), (e20, .inr (8, [.ref e21, .ref e22, .ref e23, .ref e24, .int (zI (nn21 : Int)), .int (zI oo21), .int (zI dd21)])), (e21, AQ G 4 7 rr21), (e22, AI G 7 hh21), (e23, AI G 7 aa21), (e24, AI G 7 ll21), (e30, .inr (8, [.ref e31, .ref e32, .ref e33, .ref e34, .int (zI (nn31 : Int)), .int (zI oo31), .int (zI dd31)])), (e31, AQ G 4 7 rr31), (e32, AI G 7 hh31), (e33, AI G 7 aa31), (e34, AI G 7 ll31)] ++ PL LP hk hf)) (by rw [show chF kd fg hm n oa tY 3 um at_ lg pl d f (v1, v2) = (w1, w2) from (chF_sn (by omega)).trans hst]) ?_
              exact z_vret C hA hQ rfl (Nat.le_of_ble_eq_true rfl) (Nat.le_of_ble_eq_true rfl) ((rr11, hh11, aa11, ll11, nn11, oo11, dd11, rr21, hh21, aa21, ll21, nn21, oo21, dd21, rr31, hh31, aa31, ll31, nn31, oo31, dd31)) (trivial) (sb_p [0, 1, 2, 3, 4, 5, 6, 7, 8, 9, 10, 11, 12, 13, 14, 15, 16, 17, 18, 19, 20, 21, 22] rfl rfl) dX1_chainsFrom_208
            · skip
              refine z_iload C dX1_chainsFrom_58 5 rfl ?_
              refine z_iload C dX1_chainsFrom_60 0 rfl ?_
              refine z_i C (z_runS (As := [.int (zI (um : Int)), .int (zI (h : Int))]) (rest := []) C (ct_X1_has (zl X) G (zI (um : Int)) (h : Int) ) (lw_S q625 q626 q58 q627) (sb_e [] rfl rfl) (na := 2) (by decide +kernel) rfl (zrm rfl rfl (rfl) (rfl)) rfl (Nat.le_of_ble_eq_true rfl) dX1_chainsFrom_62) (fun u => jn_ro (sb_e [] rfl rfl)) (fun r_62 u hp_62 => ?_)
              have hp_62 : r_62 = zI (hasQ (zI (um : Int)) (zI (h : Int))) := hp_62
              subst hp_62
              rw [hasQ_n hum (show h < 7 by omega)]
              have hb1 := hasB_r um h
              refine y_if_ne (tgt := 202) C (by omega) dX1_chainsFrom_65 (by decide) (fun c_65 => ?_) (fun c_65 => ?_)
              · skip
                refine y_iinc (lv' := [(7, .int (zI ((h : Int) + 1))), (0, .ref x), (1, .int (zI 0)), (2, .int (zI pl)), (3, .int (zI tY)), (4, .int (zI (um : Int))), (5, .int (zI d)), (6, .int (zI f))]) C dX1_chainsFrom_202 (q := 0) rfl (nlt rfl) rfl ?_
                refine z_goto (tgt := 46) C dX1_chainsFrom_205 (by decide) ?_
                exact ih_46 _ (by omega) (h + 1) w1 w2 rr11 hh11 aa11 ll11 nn11 oo11 dd11 rr21 hh21 aa21 ll21 nn21 oo21 dd21 rr31 hh31 aa31 ll31 nn31 oo31 dd31 (by first | assumption | omega) (by
                  rw [show 21 * (h + 1) = 21 * h + 21 by omega, foldN_skip 21 (fun i h1 h2 s => by
                    obtain ⟨y, rfl⟩ : ∃ y, i = 21 * h + y := ⟨i - 21 * h, by omega⟩
                    exact chG_f (by omega) (fun z => by
                      have z1 := z.1
                      have z2 := z.2.1
                      first | exact absurd z1 (hasB_1 (by assumption)) | omega))]
                  exact hst) rfl
              · skip
                have hac := (hLj h (by omega)).2.2.2.1
                refine z_aload_n C dX1_chainsFrom_68 rfl 1 rfl ?_
                refine z_get (q := 0) (kf := 5) (v := .ref le) C rfl rfl in_X1 (by decide) q885 (Or.inl rfl) rfl dX1_chainsFrom_69 ?_
                refine z_iload_n C dX1_chainsFrom_72 rfl 2 rfl ?_
                refine y_aldq (q := 2) (t0 := 6) (v := .ref e00) C rfl rfl (by omega) (by decide) (by show va_rf (lf 0) = _; rw [hl0]; rfl) dX1_chainsFrom_73 ?_
                refine z_get (q := 3) (kf := 2) (v := .ref e03) C rfl rfl in_X2 (by decide) q842 (Or.inl rfl) rfl dX1_chainsFrom_74 ?_
                refine z_iload C dX1_chainsFrom_77 0 rfl ?_
                refine y_iald (q := 6) (t0 := 0) (v := at_ h) C rfl rfl (by omega) (by decide) rfl dX1_chainsFrom_79 ?_
                refine z_iload_n C dX1_chainsFrom_80 rfl 3 rfl ?_
                refine y_icmp_eq (tgt := 87) C (by omega) (by omega) dX1_chainsFrom_81 (by decide) (fun c_81 => ?_) (fun c_81 => ?_)
                · skip
                  refine y_iconst C dX1_chainsFrom_87 ?_
                  refine z_istore (lv' := [(8, .int (zI 0)), (7, .int (zI (h : Int))), (0, .ref x), (1, .int (zI 0)), (2, .int (zI pl)), (3, .int (zI tY)), (4, .int (zI (um : Int))), (5, .int (zI d)), (6, .int (zI f))]) C dX1_chainsFrom_88 (nlt rfl) rfl ?_
                  have L_90 : ∀ (tt : Nat) (yy : Nat) (u1 : Int) (u2 : Int) (rr12 : Nat → Option Nat) (hh12 : Nat → Int) (aa12 : Nat → Int) (ll12 : Nat → Int) (nn12 : Nat) (oo12 : Int) (dd12 : Int) (rr22 : Nat → Option Nat) (hh22 : Nat → Int) (aa22 : Nat → Int) (ll22 : Nat → Int) (nn22 : Nat) (oo22 : Int) (dd22 : Int) (rr32 : Nat → Option Nat) (hh32 : Nat → Int) (aa32 : Nat → Int) (ll32 : Nat → Int) (nn32 : Nat) (oo32 : Int) (dd32 : Int), (yy ≤ 21) → (foldN (chG kd fg hm n oa tY 2 um at_ lg pl d f) (21 * h + yy) (v1, v2) = (u1, u2)) → 21 - yy = tt → Z X (cX1_chainsFrom, 10, yX1_chainsFrom.cls, none, { frames := 10, cells := 0, slots := 0, locals := 224 }, A) G 0 0 ([(x, .inr (10, [.ref a0, .ref b0, .ref m0, .int (zI im), .ref tl, .ref le, .int (zI (encW u1)), .int (zI u2), .int (zI lo), .ref sh])), (a0, .inr (8, [.ref a1, .ref a2, .ref a3, .ref a4, .int (zI (n : Int)), .int (zI oa), .int (zI dya)])), (le, AQ G 6 4 lf), (e00, .inr (8, [.ref e01, .ref e02, .ref e03, .ref e04, .int (zI (n : Int)), .int (zI oa), .int (zI dy)])), (e01, AQ G 4 7 r), (e02, AI G 7 hm), (e03, AI G 7 at_), (e04, AI G 7 lg), (e10, .inr (8, [.ref e11, .ref e12, .ref e13, .ref e14, .int (zI (nn12 : Int)), .int (zI oo12), .int (zI dd12)])), (e11, AQ G 4 7 rr12), (e12, AI G 7 hh12), (e13, AI G 7 aa12), (e14, AI G 7 ll12), (e20, .inr (8, [.ref e21, .ref e22, .ref e23, .ref e24, .int (zI (nn22 : Int)), .int (zI oo22), .int (zI dd22)])), (e21, AQ G 4 7 rr22), (e22, AI G 7 hh22), (e23, AI G 7 aa22), (e24, AI G 7 ll22), (e30, .inr (8, [.ref e31, .ref e32, .ref e33, .ref e34, .int (zI (nn32 : Int)), .int (zI oo32), .int (zI dd32)])), (e31, AQ G 4 7 rr32), (e32, AI G 7 hh32), (e33, AI G 7 aa32), (e34, AI G 7 ll32)] ++ PL LP hk hf) 90 [(8, .int (zI (yy : Int))), (7, .int (zI (h : Int))), (0, .ref x), (1, .int (zI 0)), (2, .int (zI pl)), (3, .int (zI tY)), (4, .int (zI (um : Int))), (5, .int (zI d)), (6, .int (zI f))] [] := by
                    intro tt
                    induction tt using Nat.strongRecOn with
                    | _ tt ih_90 =>
                      intro yy u1 u2 rr12 hh12 aa12 ll12 nn12 oo12 dd12 rr22 hh22 aa22 ll22 nn22 oo22 dd22 rr32 hh32 aa32 ll32 nn32 oo32 dd32 hyy hst2 ht_90
                      have hci2 : CI (u1, u2) := hst2 ▸ (foldG_ci hn7 hs hd.1 (by omega) hff (by omega))
                      refine z_iload C dX1_chainsFrom_90 0 rfl ?_
                      refine y_bipush C dX1_chainsFrom_92 (by decide) ?_
                      refine y_icmp_ge (tgt := 202) C (by omega) (by omega) dX1_chainsFrom_94 (by decide) (fun c_94 => ?_) (fun c_94 => ?_)
                      · skip
                        refine y_iinc (lv' := [(7, .int (zI ((h : Int) + 1))), (8, .int (zI (yy : Int))), (0, .ref x), (1, .int (zI 0)), (2, .int (zI pl)), (3, .int (zI tY)), (4, .int (zI (um : Int))), (5, .int (zI d)), (6, .int (zI f))]) C dX1_chainsFrom_202 (q := 1) rfl (nlt rfl) rfl ?_
                        refine z_goto (tgt := 46) C dX1_chainsFrom_205 (by decide) ?_
                        refine z_lv (lv' := [(7, .int (zI ((h : Int) + 1))), (0, .ref x), (1, .int (zI 0)), (2, .int (zI pl)), (3, .int (zI tY)), (4, .int (zI (um : Int))), (5, .int (zI d)), (6, .int (zI f))]) [0, 2, 3, 4, 5, 6, 7, 8] rfl ?_
                        exact ih_46 _ (by omega) (h + 1) u1 u2 rr12 hh12 aa12 ll12 nn12 oo12 dd12 rr22 hh22 aa22 ll22 nn22 oo22 dd22 rr32 hh32 aa32 ll32 nn32 oo32 dd32 (by first | assumption | omega) (by
                          rw [show 21 * (h + 1) = 21 * h + yy by omega]
                          exact hst2) rfl
                      · skip
                        refine z_iload C dX1_chainsFrom_97 0 rfl ?_
                        refine z_iload_n C dX1_chainsFrom_99 rfl 4 rfl ?_
                        refine y_icmp_eq (tgt := 196) C (by omega) (by omega) dX1_chainsFrom_100 (by decide) (fun c_100 => ?_) (fun c_100 => ?_)
                        · skip
                          refine y_iinc (lv' := [(8, .int (zI ((yy : Int) + 1))), (7, .int (zI (h : Int))), (0, .ref x), (1, .int (zI 0)), (2, .int (zI pl)), (3, .int (zI tY)), (4, .int (zI (um : Int))), (5, .int (zI d)), (6, .int (zI f))]) C dX1_chainsFrom_196 (q := 0) rfl (nlt rfl) rfl ?_
                          refine z_goto (tgt := 90) C dX1_chainsFrom_199 (by decide) ?_
                          exact ih_90 _ (by omega) (yy + 1) u1 u2 rr12 hh12 aa12 ll12 nn12 oo12 dd12 rr22 hh22 aa22 ll22 nn22 oo22 dd22 rr32 hh32 aa32 ll32 nn32 oo32 dd32 (by first | assumption | omega) (by
                            show (chG kd fg hm n oa tY 2 um at_ lg pl d f) (21 * h + yy) (foldN (chG kd fg hm n oa tY 2 um at_ lg pl d f) (21 * h + yy) (v1, v2)) = _
                            rw [hst2]
                            first
                            | exact chG_f (by omega) (fun z => by have z3 := z.2.2; omega)
                            | (rw [chG_t (by omega) (hasB_0 c_65) (by omega) (by omega)]; exact chF_idle (hbw rfl).1 (hbw rfl).2)) rfl
                        · skip
                          refine z_aload_n C dX1_chainsFrom_103 rfl 2 rfl ?_
                          refine z_aload_n C dX1_chainsFrom_104 rfl 2 rfl ?_
                          refine z_get (q := 0) (kf := 5) (v := .ref le) C rfl rfl in_X1 (by decide) q885 (Or.inl rfl) rfl dX1_chainsFrom_105 ?_
                          refine z_iload_n C dX1_chainsFrom_108 rfl 3 rfl ?_
                          refine y_aldq (q := 2) (t0 := 6) (v := .ref e00) C rfl rfl (by omega) (by decide) (by show va_rf (lf 0) = _; rw [hl0]; rfl) dX1_chainsFrom_109 ?_
                          refine z_iload C dX1_chainsFrom_110 6 rfl ?_
                          refine y_iconst C dX1_chainsFrom_112 ?_
                          refine z_iload C dX1_chainsFrom_113 1 rfl ?_
                          refine z_ishl C dX1_chainsFrom_115 rfl ?_
                          refine z_ior C dX1_chainsFrom_116 rfl ?_
                          rw [mask_or hum (show h < 7 by omega)]
                          refine z_iload C dX1_chainsFrom_117 0 rfl ?_
                          refine z_iload_n C dX1_chainsFrom_119 rfl 5 rfl ?_
                          refine z_i C (z_runV (q := 0) (As := [.ref e00, .int (zI ((um ||| 1 <<< h : Nat) : Int)), .int (zI (yy : Int)), .int (zI tY)]) (rest := []) C (ct_X1_isWorthwhile (zl X) G x e00 e01 e02 e03 e04 at_ n (um ||| 1 <<< h : Nat) oa dy (yy : Int) tY (by first | assumption | omega) (um_lt hum (show h < 7 by omega)) (by first | assumption | omega) (by first | assumption | omega) (fun i hi => (hLj i hi).2.2.2.1)) (lw_V q628 q630 qs15 q58 q631) rfl rfl (sb_e [3, 6] rfl rfl) (na := 4) (by decide +kernel) rfl (zrm rfl rfl (rfl) (rfl)) rfl (Nat.le_of_ble_eq_true rfl) dX1_chainsFrom_120) (fun u => jn_ro (sb_e [3, 6] rfl rfl)) (fun r_120 u hp_120 => ?_)
                          obtain ⟨b_120, rfl⟩ : ∃ z, z = u := ⟨_, rfl⟩
                          obtain ⟨hrv, hb01, hbw⟩ := hp_120
                          subst hrv
                          refine y_if_ne (tgt := 129) C (by omega) dX1_chainsFrom_123 (by decide) (fun c_123 => ?_) (fun c_123 => ?_)
                          · skip
                            refine z_aload_n C dX1_chainsFrom_129 rfl 2 rfl ?_
                            refine z_get (q := 0) (kf := 5) (v := .ref le) C rfl rfl in_X1 (by decide) q885 (Or.inl rfl) rfl dX1_chainsFrom_130 ?_
                            refine z_iload_n C dX1_chainsFrom_133 rfl 3 rfl ?_
                            refine y_iconst C dX1_chainsFrom_134 ?_
                            refine y_iadd C dX1_chainsFrom_135 ?_
                            rw [show (0 + 1 : Int) = 1 by decide]
                            refine y_aldq (q := 2) (t0 := 6) (v := .ref e10) C rfl rfl (by omega) (by decide) (by show va_rf (lf 1) = _; rw [hl1]; rfl) dX1_chainsFrom_136 ?_
                            refine z_aload_n C dX1_chainsFrom_137 rfl 2 rfl ?_
                            refine z_get (q := 0) (kf := 5) (v := .ref le) C rfl rfl in_X1 (by decide) q885 (Or.inl rfl) rfl dX1_chainsFrom_138 ?_
                            refine z_iload_n C dX1_chainsFrom_141 rfl 3 rfl ?_
                            refine y_aldq (q := 2) (t0 := 6) (v := .ref e00) C rfl rfl (by omega) (by decide) (by show va_rf (lf 0) = _; rw [hl0]; rfl) dX1_chainsFrom_142 ?_
                            refine z_v (ws' := fun u => ([(x, .inr (10, [.ref a0, .ref b0, .ref m0, .int (zI im), .ref tl, .ref le, .int (zI (encW u1)), .int (zI u2), .int (zI lo), .ref sh])), (a0, .inr (8, [.ref a1, .ref a2, .ref a3, .ref a4, .int (zI (n : Int)), .int (zI oa), .int (zI dya)])), (le, AQ G 6 4 lf), (e00, .inr (8, [.ref e01, .ref e02, .ref e03, .ref e04, .int (zI (n : Int)), .int (zI oa), .int (zI dy)])), (e01, AQ G 4 7 r), (e02, AI G 7 hm), (e03, AI G 7 at_), (e04, AI G 7 lg), (e10, .inr (8, [.ref e11, .ref e12, .ref e13, .ref e14, .int (zI (n : Int)), .int (zI oa), .int (zI dy)])), (e11, AQ G 4 7 r), (e12, AI G 7 hm), (e13, AI G 7 at_), (e14, AI G 7 lg), (e20, .inr (8, [.ref e21, .ref e22, .ref e23, .ref e24, .int (zI (nn22 : Int)), .int (zI oo22), .int (zI dd22)])), (e21, AQ G 4 7 rr22), (e22, AI G 7 hh22), (e23, AI G 7 aa22), (e24, AI G 7 ll22), (e30, .inr (8, [.ref e31, .ref e32, .ref e33, .ref e34, .int (zI (nn32 : Int)), .int (zI oo32), .int (zI dd32)])), (e31, AQ G 4 7 rr32), (e32, AI G 7 hh32), (e33, AI G 7 aa32), (e34, AI G 7 ll32)] ++ PL LP hk hf)) C (z_runV (q := 8) (As := [.ref e00]) (rest := []) C (ct_X2_takes (zl X) G e10 e11 e12 e13 e14 e00 e01 e02 e03 e04 rr12 hh12 aa12 ll12 nn12 oo12 dd12 r hm at_ lg n oa dy LP hk hf (by first | assumption | omega) (by first | assumption | omega)) (lw_V q285 q286 q287 q59 q288) rfl rfl (sb_p [8, 9, 10, 11, 12, 3, 4, 5, 6, 7] rfl rfl) (na := 1) (by decide +kernel) rfl (zrm rfl rfl (rfl) (rfl)) rfl (Nat.le_of_ble_eq_true rfl) dX1_chainsFrom_143) (fun u => jn_p (Lr := [(x, .inr (10, [.ref a0, .ref b0, .ref m0, .int (zI im), .ref tl, .ref le, .int (zI (encW u1)), .int (zI u2), .int (zI lo), .ref sh])), (a0, .inr (8, [.ref a1, .ref a2, .ref a3, .ref a4, .int (zI (n : Int)), .int (zI oa), .int (zI dya)])), (le, AQ G 6 4 lf), (e20, .inr (8, [.ref e21, .ref e22, .ref e23, .ref e24, .int (zI (nn22 : Int)), .int (zI oo22), .int (zI dd22)])), (e21, AQ G 4 7 rr22), (e22, AI G 7 hh22), (e23, AI G 7 aa22), (e24, AI G 7 ll22), (e30, .inr (8, [.ref e31, .ref e32, .ref e33, .ref e34, .int (zI (nn32 : Int)), .int (zI oo32), .int (zI dd32)])), (e31, AQ G 4 7 rr32), (e32, AI G 7 hh32), (e33, AI G 7 aa32), (e34, AI G 7 ll32)]) [8, 9, 10, 11, 12, 3, 4, 5, 6, 7] [0, 1, 2, 13, 14, 15, 16, 17, 18, 19, 20, 21, 22] [0, 1, 2, 18, 19, 20, 21, 22, 13, 14, 15, 16, 17, 3, 4, 5, 6, 7, 8, 9, 10, 11, 12] rfl rfl rfl (by decide) rfl rfl) (fun u hp_143 => ?_)
                            refine z_aload_n C dX1_chainsFrom_146 rfl 2 rfl ?_
                            refine z_get (q := 0) (kf := 5) (v := .ref le) C rfl rfl in_X1 (by decide) q885 (Or.inl rfl) rfl dX1_chainsFrom_147 ?_
                            refine z_iload_n C dX1_chainsFrom_150 rfl 3 rfl ?_
                            refine y_iconst C dX1_chainsFrom_151 ?_
                            refine y_iadd C dX1_chainsFrom_152 ?_
                            rw [show (0 + 1 : Int) = 1 by decide]
                            refine y_aldq (q := 2) (t0 := 6) (v := .ref e10) C rfl rfl (by omega) (by decide) (by show va_rf (lf 1) = _; rw [hl1]; rfl) dX1_chainsFrom_153 ?_
                            refine z_iload C dX1_chainsFrom_154 1 rfl ?_
                            refine z_iload C dX1_chainsFrom_156 0 rfl ?_
                            refine z_i (ws' := fun u => ([(x, .inr (10, [.ref a0, .ref b0, .ref m0, .int (zI im), .ref tl, .ref le, .int (zI (encW u1)), .int (zI u2), .int (zI lo), .ref sh])), (a0, .inr (8, [.ref a1, .ref a2, .ref a3, .ref a4, .int (zI (n : Int)), .int (zI oa), .int (zI dya)])), (le, AQ G 6 4 lf), (e00, .inr (8, [.ref e01, .ref e02, .ref e03, .ref e04, .int (zI (n : Int)), .int (zI oa), .int (zI dy)])), (e01, AQ G 4 7 r), (e02, AI G 7 hm), (e03, AI G 7 at_), (e04, AI G 7 lg), (e10, .inr (8, [.ref e11, .ref e12, .ref e13, .ref e14, .int (zI (n : Int)), .int (zI oa), .int (zI (dy + ((rdN kd fg hm oa n h (yy : Int) at_ lg) : Int)))])), (e11, AQ G 4 7 r), (e12, AI G 7 hm), (e13, AI G 7 (rdA kd fg hm oa n h (yy : Int) at_ lg)), (e14, AI G 7 (rdL kd fg hm oa n h (yy : Int) at_ lg)), (e20, .inr (8, [.ref e21, .ref e22, .ref e23, .ref e24, .int (zI (nn22 : Int)), .int (zI oo22), .int (zI dd22)])), (e21, AQ G 4 7 rr22), (e22, AI G 7 hh22), (e23, AI G 7 aa22), (e24, AI G 7 ll22), (e30, .inr (8, [.ref e31, .ref e32, .ref e33, .ref e34, .int (zI (nn32 : Int)), .int (zI oo32), .int (zI dd32)])), (e31, AQ G 4 7 rr32), (e32, AI G 7 hh32), (e33, AI G 7 aa32), (e34, AI G 7 ll32)] ++ PL LP hk hf)) C (z_runV (q := 8) (As := [.int (zI (h : Int)), .int (zI (yy : Int))]) (rest := []) C (ct_X2_rides (zl X) G e10 e11 e12 e13 e14 r hm at_ lg n oa dy LP hk hf kd fg h (yy : Int) (by first | assumption | omega) (by first | assumption | omega) (by omega) (by omega)) (lw_V q393 q394 q395 q59 q396) rfl rfl (sb_p [8, 9, 10, 11, 12] rfl rfl) (na := 2) (by decide +kernel) rfl (zrm rfl rfl (rfl) (rfl)) rfl (Nat.le_of_ble_eq_true rfl) dX1_chainsFrom_158) (fun u => jn_p (Lr := [(x, .inr (10, [.ref a0, .ref b0, .ref m0, .int (zI im), .ref tl, .ref le, .int (zI (encW u1)), .int (zI u2), .int (zI lo), .ref sh])), (a0, .inr (8, [.ref a1, .ref a2, .ref a3, .ref a4, .int (zI (n : Int)), .int (zI oa), .int (zI dya)])), (le, AQ G 6 4 lf), (e00, .inr (8, [.ref e01, .ref e02, .ref e03, .ref e04, .int (zI (n : Int)), .int (zI oa), .int (zI dy)])), (e01, AQ G 4 7 r), (e02, AI G 7 hm), (e03, AI G 7 at_), (e04, AI G 7 lg), (e20, .inr (8, [.ref e21, .ref e22, .ref e23, .ref e24, .int (zI (nn22 : Int)), .int (zI oo22), .int (zI dd22)])), (e21, AQ G 4 7 rr22), (e22, AI G 7 hh22), (e23, AI G 7 aa22), (e24, AI G 7 ll22), (e30, .inr (8, [.ref e31, .ref e32, .ref e33, .ref e34, .int (zI (nn32 : Int)), .int (zI oo32), .int (zI dd32)])), (e31, AQ G 4 7 rr32), (e32, AI G 7 hh32), (e33, AI G 7 aa32), (e34, AI G 7 ll32)]) [8, 9, 10, 11, 12] [0, 1, 2, 3, 4, 5, 6, 7, 13, 14, 15, 16, 17, 18, 19, 20, 21, 22] [0, 1, 2, 3, 4, 5, 6, 7, 18, 19, 20, 21, 22, 8, 9, 10, 11, 12, 13, 14, 15, 16, 17] rfl rfl rfl (by decide) rfl rfl) (fun r_158 u hp_158 => ?_)
                            have hp_158 : r_158 = zI ((rdN kd fg hm oa n h (yy : Int) at_ lg) : Int) := hp_158
                            subst hp_158
                            have hrn := rdN_le kd fg hm oa n h (yy : Int) at_ lg
                            have hL2 : LK n kd fg hm (rdA kd fg hm oa n h (yy : Int) at_ lg) (rdL kd fg hm oa n h (yy : Int) at_ lg) oa := rideF_ok (by omega) (by omega) 20 at_ lg hL
                            refine z_istore (lv' := [(9, .int (zI ((rdN kd fg hm oa n h (yy : Int) at_ lg) : Int))), (8, .int (zI (yy : Int))), (7, .int (zI (h : Int))), (0, .ref x), (1, .int (zI 0)), (2, .int (zI pl)), (3, .int (zI tY)), (4, .int (zI (um : Int))), (5, .int (zI d)), (6, .int (zI f))]) C dX1_chainsFrom_161 (nlt rfl) rfl ?_
                            refine z_aload_n C dX1_chainsFrom_163 rfl 3 rfl ?_
                            refine z_iload_n C dX1_chainsFrom_164 rfl 4 rfl ?_
                            refine y_iconst C dX1_chainsFrom_165 ?_
                            refine y_iadd C dX1_chainsFrom_166 ?_
                            rw [show (0 + 1 : Int) = 1 by decide]
                            refine z_iload C dX1_chainsFrom_167 1 rfl ?_
                            refine z_iload_n C dX1_chainsFrom_169 rfl 6 rfl ?_
                            refine z_iload C dX1_chainsFrom_170 7 rfl ?_
                            refine y_iconst C dX1_chainsFrom_172 ?_
                            refine z_iload C dX1_chainsFrom_173 2 rfl ?_
                            refine z_ishl C dX1_chainsFrom_175 rfl ?_
                            refine z_ior C dX1_chainsFrom_176 rfl ?_
                            rw [mask_or hum (show h < 7 by omega)]
                            refine z_iload C dX1_chainsFrom_177 8 rfl ?_
                            refine z_iload C dX1_chainsFrom_179 0 rfl ?_
                            refine y_iadd C dX1_chainsFrom_181 ?_
                            refine z_iload_n C dX1_chainsFrom_182 rfl 4 rfl ?_
                            refine y_if_ne (tgt := 191) C (by omega) dX1_chainsFrom_183 (by decide) (fun c_183 => ?_) (fun c_183 => ?_)
                            · skip
                              exact absurd rfl c_183
                            · skip
                              refine z_iload C dX1_chainsFrom_186 2 rfl ?_
                              refine z_goto (tgt := 193) C dX1_chainsFrom_188 (by decide) ?_
                              refine z_v (ws' := fun u => ([(x, .inr (10, [.ref a0, .ref b0, .ref m0, .int (zI im), .ref tl, .ref le, .int (zI (encW (chF kd fg hm n oa tY 2 (um ||| 1 <<< h : Nat) (rdA kd fg hm oa n h (yy : Int) at_ lg) (rdL kd fg hm oa n h (yy : Int) at_ lg) (yy : Int) (d + ((rdN kd fg hm oa n h (yy : Int) at_ lg) : Int)) (h : Int) (u1, u2)).1)), .int (zI ((chF kd fg hm n oa tY 2 (um ||| 1 <<< h : Nat) (rdA kd fg hm oa n h (yy : Int) at_ lg) (rdL kd fg hm oa n h (yy : Int) at_ lg) (yy : Int) (d + ((rdN kd fg hm oa n h (yy : Int) at_ lg) : Int)) (h : Int) (u1, u2)).2)), .int (zI lo), .ref sh])), (a0, .inr (8, [.ref a1, .ref a2, .ref a3, .ref a4, .int (zI (n : Int)), .int (zI oa), .int (zI dya)])), (le, AQ G 6 4 lf), (e00, .inr (8, [.ref e01, .ref e02, .ref e03, .ref e04, .int (zI (n : Int)), .int (zI oa), .int (zI dy)])), (e01, AQ G 4 7 r), (e02, AI G 7 hm), (e03, AI G 7 at_), (e04, AI G 7 lg), (e10, .inr (8, [.ref e11, .ref e12, .ref e13, .ref e14, .int (zI (n : Int)), .int (zI oa), .int (zI (dy + ((rdN kd fg hm oa n h (yy : Int) at_ lg) : Int)))])), (e11, AQ G 4 7 r), (e12, AI G 7 hm), (e13, AI G 7 (rdA kd fg hm oa n h (yy : Int) at_ lg)), (e14, AI G 7 (rdL kd fg hm oa n h (yy : Int) at_ lg)), (e20, .inr (8, [.ref e21, .ref e22, .ref e23, .ref e24, .int (zI (u.2.2.2.2.1 : Int)), .int (zI u.2.2.2.2.2.1), .int (zI u.2.2.2.2.2.2.1)])), (e21, AQ G 4 7 u.1), (e22, AI G 7 u.2.1), (e23, AI G 7 u.2.2.1), (e24, AI G 7 u.2.2.2.1), (e30, .inr (8, [.ref e31, .ref e32, .ref e33, .ref e34, .int (zI (u.2.2.2.2.2.2.2.2.2.2.2.1 : Int)), .int (zI u.2.2.2.2.2.2.2.2.2.2.2.2.1), .int (zI u.2.2.2.2.2.2.2.2.2.2.2.2.2)])), (e31, AQ G 4 7 u.2.2.2.2.2.2.2.1), (e32, AI G 7 u.2.2.2.2.2.2.2.2.1), (e33, AI G 7 u.2.2.2.2.2.2.2.2.2.1), (e34, AI G 7 u.2.2.2.2.2.2.2.2.2.2.1)] ++ PL LP hk hf)) C (z_runV (q := 0) (As := [.int (zI 1), .int (zI (yy : Int)), .int (zI tY), .int (zI ((um ||| 1 <<< h : Nat) : Int)), .int (zI (d + ((rdN kd fg hm oa n h (yy : Int) at_ lg) : Int))), .int (zI (h : Int))]) (rest := []) C (ct_X1_chainsFrom_1 (zl X) G x b0 m0 tl le sh im lo a0 a1 a2 a3 a4 r hm (rdA kd fg hm oa n h (yy : Int) at_ lg) (rdL kd fg hm oa n h (yy : Int) at_ lg) n oa (dy + ((rdN kd fg hm oa n h (yy : Int) at_ lg) : Int)) LP hk hf kd fg dya lf e10 e11 e12 e13 e14 e20 e21 e22 e23 e24 rr22 hh22 aa22 ll22 nn22 oo22 dd22 e30 e31 e32 e33 e34 rr32 hh32 aa32 ll32 nn32 oo32 dd32 (um ||| 1 <<< h : Nat) (yy : Int) tY (d + ((rdN kd fg hm oa n h (yy : Int) at_ lg) : Int)) (h : Int) u1 u2 (by first | assumption | omega) (hL2) (by first | assumption | omega) (by first | assumption | omega) (um_lt hum (show h < 7 by omega)) (by first | assumption | omega) (by omega) (by omega) (by omega) (hci2) (um_ne) (by first | assumption | omega) (by first | assumption | omega) (by first | assumption | omega)) (lw_V q621 q623 qs14 q58 q624) rfl rfl (sb_p [0, 1, 2, 8, 9, 10, 11, 12, 13, 14, 15, 16, 17, 18, 19, 20, 21, 22] rfl rfl) (na := 6) (by decide +kernel) rfl (zrm rfl rfl (rfl) (rfl)) rfl (Nat.le_of_ble_eq_true rfl) dX1_chainsFrom_193) (fun u => jn_p (Lr := [(e00, .inr (8, [.ref e01, .ref e02, .ref e03, .ref e04, .int (zI (n : Int)), .int (zI oa), .int (zI dy)])), (e01, AQ G 4 7 r), (e02, AI G 7 hm), (e03, AI G 7 at_), (e04, AI G 7 lg)]) [0, 1, 2, 8, 9, 10, 11, 12, 13, 14, 15, 16, 17, 18, 19, 20, 21, 22] [3, 4, 5, 6, 7] [5, 6, 7, 0, 1, 2, 3, 4, 8, 9, 10, 11, 12, 13, 14, 15, 16, 17, 18, 19, 20, 21, 22] rfl rfl rfl (by decide) rfl rfl) (fun u hp_193 => ?_)
                              obtain ⟨rr29_193, hh29_193, aa29_193, ll29_193, nn29_193, oo29_193, dd29_193, rr39_193, hh39_193, aa39_193, ll39_193, nn39_193, oo39_193, dd39_193⟩ := u
                              refine y_iinc (lv' := [(8, .int (zI ((yy : Int) + 1))), (9, .int (zI ((rdN kd fg hm oa n h (yy : Int) at_ lg) : Int))), (7, .int (zI (h : Int))), (0, .ref x), (1, .int (zI 0)), (2, .int (zI pl)), (3, .int (zI tY)), (4, .int (zI (um : Int))), (5, .int (zI d)), (6, .int (zI f))]) C dX1_chainsFrom_196 (q := 1) rfl (nlt rfl) rfl ?_
                              refine z_goto (tgt := 90) C dX1_chainsFrom_199 (by decide) ?_
                              refine z_lv (lv' := [(8, .int (zI ((yy : Int) + 1))), (7, .int (zI (h : Int))), (0, .ref x), (1, .int (zI 0)), (2, .int (zI pl)), (3, .int (zI tY)), (4, .int (zI (um : Int))), (5, .int (zI d)), (6, .int (zI f))]) [0, 2, 3, 4, 5, 6, 7, 8, 9] rfl ?_
                              exact ih_90 _ (by omega) (yy + 1) ((chF kd fg hm n oa tY 2 (um ||| 1 <<< h : Nat) (rdA kd fg hm oa n h (yy : Int) at_ lg) (rdL kd fg hm oa n h (yy : Int) at_ lg) (yy : Int) (d + ((rdN kd fg hm oa n h (yy : Int) at_ lg) : Int)) (h : Int) (u1, u2)).1) ((chF kd fg hm n oa tY 2 (um ||| 1 <<< h : Nat) (rdA kd fg hm oa n h (yy : Int) at_ lg) (rdL kd fg hm oa n h (yy : Int) at_ lg) (yy : Int) (d + ((rdN kd fg hm oa n h (yy : Int) at_ lg) : Int)) (h : Int) (u1, u2)).2) r hm (rdA kd fg hm oa n h (yy : Int) at_ lg) (rdL kd fg hm oa n h (yy : Int) at_ lg) n oa (dy + ((rdN kd fg hm oa n h (yy : Int) at_ lg) : Int)) rr29_193 hh29_193 aa29_193 ll29_193 nn29_193 oo29_193 dd29_193 rr39_193 hh39_193 aa39_193 ll39_193 nn39_193 oo39_193 dd39_193 (by first | assumption | omega) (by
                                show (chG kd fg hm n oa tY 2 um at_ lg pl d f) (21 * h + yy) (foldN (chG kd fg hm n oa tY 2 um at_ lg pl d f) (21 * h + yy) (v1, v2)) = _
                                rw [hst2, chG_t (by omega) (hasB_0 c_65) (by omega) (by omega), if_pos hu0]) rfl
                          · skip
                            have hb0 : b_120 = 0 := by omega
                            subst hb0
                            refine z_goto (tgt := 196) C dX1_chainsFrom_126 (by decide) ?_
                            refine y_iinc (lv' := [(8, .int (zI ((yy : Int) + 1))), (7, .int (zI (h : Int))), (0, .ref x), (1, .int (zI 0)), (2, .int (zI pl)), (3, .int (zI tY)), (4, .int (zI (um : Int))), (5, .int (zI d)), (6, .int (zI f))]) C dX1_chainsFrom_196 (q := 0) rfl (nlt rfl) rfl ?_
                            refine z_goto (tgt := 90) C dX1_chainsFrom_199 (by decide) ?_
                            exact ih_90 _ (by omega) (yy + 1) u1 u2 rr12 hh12 aa12 ll12 nn12 oo12 dd12 rr22 hh22 aa22 ll22 nn22 oo22 dd22 rr32 hh32 aa32 ll32 nn32 oo32 dd32 (by first | assumption | omega) (by
                              show (chG kd fg hm n oa tY 2 um at_ lg pl d f) (21 * h + yy) (foldN (chG kd fg hm n oa tY 2 um at_ lg pl d f) (21 * h + yy) (v1, v2)) = _
                              rw [hst2]
                              first
                              | exact chG_f (by omega) (fun z => by have z3 := z.2.2; omega)
                              | (rw [chG_t (by omega) (hasB_0 c_65) (by omega) (by omega)]; exact chF_idle (hbw rfl).1 (hbw rfl).2)) rfl
                  exact L_90 _ 0 w1 w2 rr11 hh11 aa11 ll11 nn11 oo11 dd11 rr21 hh21 aa21 ll21 nn21 oo21 dd21 rr31 hh31 aa31 ll31 nn31 oo31 dd31 (by first | assumption | omega) (hst) rfl
                · skip
                  refine z_goto (tgt := 202) C dX1_chainsFrom_84 (by decide) ?_
                  refine y_iinc (lv' := [(7, .int (zI ((h : Int) + 1))), (0, .ref x), (1, .int (zI 0)), (2, .int (zI pl)), (3, .int (zI tY)), (4, .int (zI (um : Int))), (5, .int (zI d)), (6, .int (zI f))]) C dX1_chainsFrom_202 (q := 0) rfl (nlt rfl) rfl ?_
                  refine z_goto (tgt := 46) C dX1_chainsFrom_205 (by decide) ?_
                  exact ih_46 _ (by omega) (h + 1) w1 w2 rr11 hh11 aa11 ll11 nn11 oo11 dd11 rr21 hh21 aa21 ll21 nn21 oo21 dd21 rr31 hh31 aa31 ll31 nn31 oo31 dd31 (by first | assumption | omega) (by
                    rw [show 21 * (h + 1) = 21 * h + 21 by omega, foldN_skip 21 (fun i h1 h2 s => by
                      obtain ⟨y, rfl⟩ : ∃ y, i = 21 * h + y := ⟨i - 21 * h, by omega⟩
                      exact chG_f (by omega) (fun z => by
                        have z1 := z.1
                        have z2 := z.2.1
                        first | exact absurd z1 (hasB_1 (by assumption)) | omega))]
                    exact hst) rfl
        exact L_46 _ 0 v1 v2 rr1 hh1 aa1 ll1 nn1 oo1 dd1 rr2 hh2 aa2 ll2 nn2 oo2 dd2 rr3 hh3 aa3 ll3 nn3 oo3 dd3 (by first | assumption | omega) (rfl) rfl
      · skip
        refine z_wsEq (ws' := ([(x, .inr (10, [.ref a0, .ref b0, .ref m0, .int (zI im), .ref tl, .ref le, .int (zI (encW (chF kd fg hm n oa tY 3 um at_ lg pl d f (v1, v2)).1)), .int (zI ((chF kd fg hm n oa tY 3 um at_ lg pl d f (v1, v2)).2)), .int (zI lo), .ref sh])), (a0, .inr (8, [.ref a1, .ref a2, .ref a3, .ref a4, .int (zI (n : Int)), .int (zI oa), .int (zI dya)])), (le, AQ G 6 4 lf), (e00, .inr (8, [.ref e01, .ref e02, .ref e03, .ref e04, .int (zI (n : Int)), .int (zI oa), .int (zI dy)])), (e01, AQ G 4 7 r), (e02, AI G 7 hm), (e03, AI G 7 at_), (e04, AI G 7 lg), (e10, .inr (8, [.ref e11, .ref e12, .ref e13, .ref e14, .int (zI (nn1 : Int)), .int (zI oo1), .int (zI dd1)])), (e11, AQ G 4 7 rr1), (e12, AI G 7 hh1), (e13, AI G 7 aa1), (e14, AI G 7 ll1), (e20, .inr (8, [.ref e21, .ref e22, .ref e23, .ref e24, .int (zI (nn2 : Int)), .int (zI oo2), .int (zI dd2)])), (e21, AQ G 4 7 rr2), (e22, AI G 7 hh2), (e23, AI G 7 aa2), (e24, AI G 7 ll2), (e30, .inr (8, [.ref e31, .ref e32, .ref e33, .ref e34, .int (zI (nn3 : Int)), .int (zI oo3), .int (zI dd3)])), (e31, AQ G 4 7 rr3), (e32, AI G 7 hh3), (e33, AI G 7 aa3), (e34, AI G 7 ll3)] ++ PL LP hk hf)) (by rw [show chF kd fg hm n oa tY 3 um at_ lg pl d f (v1, v2) = (v1, v2) from chF_old _ _ _ _ _ _ _ (encW_f (s := (v1, v2)) (show d ≤ 60 by omega) (show encW v1 ≤ d by omega)).1 (encW_f (s := (v1, v2)) (show d ≤ 60 by omega) (show encW v1 ≤ d by omega)).2]) ?_
        exact z_vret C hA hQ rfl (Nat.le_of_ble_eq_true rfl) (Nat.le_of_ble_eq_true rfl) ((rr1, hh1, aa1, ll1, nn1, oo1, dd1, rr2, hh2, aa2, ll2, nn2, oo2, dd2, rr3, hh3, aa3, ll3, nn3, oo3, dd3)) (trivial) (sb_p [0, 1, 2, 3, 4, 5, 6, 7, 8, 9, 10, 11, 12, 13, 14, 15, 16, 17, 18, 19, 20, 21, 22] rfl rfl) dX1_chainsFrom_42
  · skip
    refine z_iload C dX1_chainsFrom_5 5 rfl ?_
    refine z_aload_n C dX1_chainsFrom_7 rfl 0 rfl ?_
    refine z_get (q := 0) (kf := 6) (v := .int (zI (encW v1))) C rfl rfl in_X1 (by decide) q886 (Or.inl rfl) rfl dX1_chainsFrom_8 ?_
    refine y_icmp_lt (tgt := 15) C (by omega) (by omega) dX1_chainsFrom_11 (by decide) (fun c_11 => ?_) (fun c_11 => ?_)
    · skip
      refine z_aload_n C dX1_chainsFrom_15 rfl 0 rfl ?_
      refine z_iload C dX1_chainsFrom_16 5 rfl ?_
      refine z_put (q := 0) (kf := 6) (ws' := ([(x, .inr (10, [.ref a0, .ref b0, .ref m0, .int (zI im), .ref tl, .ref le, .int (zI d), .int (zI v2), .int (zI lo), .ref sh])), (a0, .inr (8, [.ref a1, .ref a2, .ref a3, .ref a4, .int (zI (n : Int)), .int (zI oa), .int (zI dya)])), (le, AQ G 6 4 lf), (e00, .inr (8, [.ref e01, .ref e02, .ref e03, .ref e04, .int (zI (n : Int)), .int (zI oa), .int (zI dy)])), (e01, AQ G 4 7 r), (e02, AI G 7 hm), (e03, AI G 7 at_), (e04, AI G 7 lg), (e10, .inr (8, [.ref e11, .ref e12, .ref e13, .ref e14, .int (zI (nn1 : Int)), .int (zI oo1), .int (zI dd1)])), (e11, AQ G 4 7 rr1), (e12, AI G 7 hh1), (e13, AI G 7 aa1), (e14, AI G 7 ll1), (e20, .inr (8, [.ref e21, .ref e22, .ref e23, .ref e24, .int (zI (nn2 : Int)), .int (zI oo2), .int (zI dd2)])), (e21, AQ G 4 7 rr2), (e22, AI G 7 hh2), (e23, AI G 7 aa2), (e24, AI G 7 ll2), (e30, .inr (8, [.ref e31, .ref e32, .ref e33, .ref e34, .int (zI (nn3 : Int)), .int (zI oo3), .int (zI dd3)])), (e31, AQ G 4 7 rr3), (e32, AI G 7 hh3), (e33, AI G 7 aa3), (e34, AI G 7 ll3)] ++ PL LP hk hf)) C rfl rfl in_X1 tyX1_ok nmX1 (by decide) q886 rfl rfl rfl rfl rfl (nlt rfl) rfl dX1_chainsFrom_18 ?_
      refine z_aload_n C dX1_chainsFrom_21 rfl 0 rfl ?_
      refine z_iload C dX1_chainsFrom_22 6 rfl ?_
      refine z_put (q := 0) (kf := 7) (ws' := ([(x, .inr (10, [.ref a0, .ref b0, .ref m0, .int (zI im), .ref tl, .ref le, .int (zI d), .int (zI f), .int (zI lo), .ref sh])), (a0, .inr (8, [.ref a1, .ref a2, .ref a3, .ref a4, .int (zI (n : Int)), .int (zI oa), .int (zI dya)])), (le, AQ G 6 4 lf), (e00, .inr (8, [.ref e01, .ref e02, .ref e03, .ref e04, .int (zI (n : Int)), .int (zI oa), .int (zI dy)])), (e01, AQ G 4 7 r), (e02, AI G 7 hm), (e03, AI G 7 at_), (e04, AI G 7 lg), (e10, .inr (8, [.ref e11, .ref e12, .ref e13, .ref e14, .int (zI (nn1 : Int)), .int (zI oo1), .int (zI dd1)])), (e11, AQ G 4 7 rr1), (e12, AI G 7 hh1), (e13, AI G 7 aa1), (e14, AI G 7 ll1), (e20, .inr (8, [.ref e21, .ref e22, .ref e23, .ref e24, .int (zI (nn2 : Int)), .int (zI oo2), .int (zI dd2)])), (e21, AQ G 4 7 rr2), (e22, AI G 7 hh2), (e23, AI G 7 aa2), (e24, AI G 7 ll2), (e30, .inr (8, [.ref e31, .ref e32, .ref e33, .ref e34, .int (zI (nn3 : Int)), .int (zI oo3), .int (zI dd3)])), (e31, AQ G 4 7 rr3), (e32, AI G 7 hh3), (e33, AI G 7 aa3), (e34, AI G 7 ll3)] ++ PL LP hk hf)) C rfl rfl in_X1 tyX1_ok nmX1 (by decide) q887 rfl rfl rfl rfl rfl (nlt rfl) rfl dX1_chainsFrom_24 ?_
      refine z_wsEq (ws' := ([(x, .inr (10, [.ref a0, .ref b0, .ref m0, .int (zI im), .ref tl, .ref le, .int (zI (encW (chF kd fg hm n oa tY 3 um at_ lg pl d f (v1, v2)).1)), .int (zI ((chF kd fg hm n oa tY 3 um at_ lg pl d f (v1, v2)).2)), .int (zI lo), .ref sh])), (a0, .inr (8, [.ref a1, .ref a2, .ref a3, .ref a4, .int (zI (n : Int)), .int (zI oa), .int (zI dya)])), (le, AQ G 6 4 lf), (e00, .inr (8, [.ref e01, .ref e02, .ref e03, .ref e04, .int (zI (n : Int)), .int (zI oa), .int (zI dy)])), (e01, AQ G 4 7 r), (e02, AI G 7 hm), (e03, AI G 7 at_), (e04, AI G 7 lg), (e10, .inr (8, [.ref e11, .ref e12, .ref e13, .ref e14, .int (zI (nn1 : Int)), .int (zI oo1), .int (zI dd1)])), (e11, AQ G 4 7 rr1), (e12, AI G 7 hh1), (e13, AI G 7 aa1), (e14, AI G 7 ll1), (e20, .inr (8, [.ref e21, .ref e22, .ref e23, .ref e24, .int (zI (nn2 : Int)), .int (zI oo2), .int (zI dd2)])), (e21, AQ G 4 7 rr2), (e22, AI G 7 hh2), (e23, AI G 7 aa2), (e24, AI G 7 ll2), (e30, .inr (8, [.ref e31, .ref e32, .ref e33, .ref e34, .int (zI (nn3 : Int)), .int (zI oo3), .int (zI dd3)])), (e31, AQ G 4 7 rr3), (e32, AI G 7 hh3), (e33, AI G 7 aa3), (e34, AI G 7 ll3)] ++ PL LP hk hf)) (by rw [show chF kd fg hm n oa tY 3 um at_ lg pl d f (v1, v2) = (d, f) from (chF_to _ (by omega)).trans (encW_t (s := (v1, v2)) (by omega) (show d < encW v1 by omega))]; rw [show encW (d, f).1 = d from encW_p (show 0 ≤ d by omega)]) ?_
      exact z_vret C hA hQ rfl (Nat.le_of_ble_eq_true rfl) (Nat.le_of_ble_eq_true rfl) ((rr1, hh1, aa1, ll1, nn1, oo1, dd1, rr2, hh2, aa2, ll2, nn2, oo2, dd2, rr3, hh3, aa3, ll3, nn3, oo3, dd3)) (trivial) (sb_p [0, 1, 2, 3, 4, 5, 6, 7, 8, 9, 10, 11, 12, 13, 14, 15, 16, 17, 18, 19, 20, 21, 22] rfl rfl) dX1_chainsFrom_27
    · skip
      refine z_wsEq (ws' := ([(x, .inr (10, [.ref a0, .ref b0, .ref m0, .int (zI im), .ref tl, .ref le, .int (zI (encW (chF kd fg hm n oa tY 3 um at_ lg pl d f (v1, v2)).1)), .int (zI ((chF kd fg hm n oa tY 3 um at_ lg pl d f (v1, v2)).2)), .int (zI lo), .ref sh])), (a0, .inr (8, [.ref a1, .ref a2, .ref a3, .ref a4, .int (zI (n : Int)), .int (zI oa), .int (zI dya)])), (le, AQ G 6 4 lf), (e00, .inr (8, [.ref e01, .ref e02, .ref e03, .ref e04, .int (zI (n : Int)), .int (zI oa), .int (zI dy)])), (e01, AQ G 4 7 r), (e02, AI G 7 hm), (e03, AI G 7 at_), (e04, AI G 7 lg), (e10, .inr (8, [.ref e11, .ref e12, .ref e13, .ref e14, .int (zI (nn1 : Int)), .int (zI oo1), .int (zI dd1)])), (e11, AQ G 4 7 rr1), (e12, AI G 7 hh1), (e13, AI G 7 aa1), (e14, AI G 7 ll1), (e20, .inr (8, [.ref e21, .ref e22, .ref e23, .ref e24, .int (zI (nn2 : Int)), .int (zI oo2), .int (zI dd2)])), (e21, AQ G 4 7 rr2), (e22, AI G 7 hh2), (e23, AI G 7 aa2), (e24, AI G 7 ll2), (e30, .inr (8, [.ref e31, .ref e32, .ref e33, .ref e34, .int (zI (nn3 : Int)), .int (zI oo3), .int (zI dd3)])), (e31, AQ G 4 7 rr3), (e32, AI G 7 hh3), (e33, AI G 7 aa3), (e34, AI G 7 ll3)] ++ PL LP hk hf)) (by rw [show chF kd fg hm n oa tY 3 um at_ lg pl d f (v1, v2) = (v1, v2) from (chF_to _ (by omega)).trans (tkC_old (encW_f (s := (v1, v2)) (show d ≤ 60 by omega) (show encW v1 ≤ d by omega)).1 (encW_f (s := (v1, v2)) (show d ≤ 60 by omega) (show encW v1 ≤ d by omega)).2)]) ?_
      exact z_vret C hA hQ rfl (Nat.le_of_ble_eq_true rfl) (Nat.le_of_ble_eq_true rfl) ((rr1, hh1, aa1, ll1, nn1, oo1, dd1, rr2, hh2, aa2, ll2, nn2, oo2, dd2, rr3, hh3, aa3, ll3, nn3, oo3, dd3)) (trivial) (sb_p [0, 1, 2, 3, 4, 5, 6, 7, 8, 9, 10, 11, 12, 13, 14, 15, 16, 17, 18, 19, 20, 21, 22] rfl rfl) dX1_chainsFrom_14

set_option maxHeartbeats 4000000 in
theorem ct_X1_chain (l : Launch) (G : ZG) (x : Nat) (b0 : Nat) (m0 : Nat) (tl : Nat) (le : Nat) (sh : Nat) (im : Int) (fw : Int) (fh : Int) (lo : Int) (a0 : Nat) (a1 : Nat) (a2 : Nat) (a3 : Nat) (a4 : Nat) (r : Nat → Option Nat) (hm : Nat → Int) (at_ : Nat → Int) (lg : Nat → Int) (n : Nat) (oa : Int) (dy : Int) (LP : List Nat) (hk : Nat → Nat) (hf : Nat → Int) (kd : Nat → Nat) (fg : Nat → Int) (lf : Nat → Option Nat) (e00 : Nat) (e01 : Nat) (e02 : Nat) (e03 : Nat) (e04 : Nat) (rr0 : Nat → Option Nat) (hh0 : Nat → Int) (aa0 : Nat → Int) (ll0 : Nat → Int) (nn0 : Nat) (oo0 : Int) (dd0 : Int) (e10 : Nat) (e11 : Nat) (e12 : Nat) (e13 : Nat) (e14 : Nat) (rr1 : Nat → Option Nat) (hh1 : Nat → Int) (aa1 : Nat → Int) (ll1 : Nat → Int) (nn1 : Nat) (oo1 : Int) (dd1 : Int) (e20 : Nat) (e21 : Nat) (e22 : Nat) (e23 : Nat) (e24 : Nat) (rr2 : Nat → Option Nat) (hh2 : Nat → Int) (aa2 : Nat → Int) (ll2 : Nat → Int) (nn2 : Nat) (oo2 : Int) (dd2 : Int) (e30 : Nat) (e31 : Nat) (e32 : Nat) (e33 : Nat) (e34 : Nat) (rr3 : Nat → Option Nat) (hh3 : Nat → Int) (aa3 : Nat → Int) (ll3 : Nat → Int) (nn3 : Nat) (oo3 : Int) (dd3 : Int) (fY : Int) (tY : Int) (what : Int) (hH : HR LP hk hf r n kd fg) (hL : LK n kd fg hm at_ lg oa) (hK : PK LP hk hf) (hV : RV LP r) (rfY : -2147483648 ≤ fY ∧ fY ≤ 2147483647) (rtY : -2147483648 ≤ tY ∧ tY ≤ 2147483647) (rwhat : -2147483648 ≤ what ∧ what ≤ 2147483647) (hl0 : lf 0 = some e00) (hl1 : lf 1 = some e10) (hl2 : lf 2 = some e20) (hl3 : lf 3 = some e30) : CT l yX1_chain cX1_chain 4 (some .int) { frames := 11, cells := 0, slots := 0, locals := 253 } G [.ref x, .int (zI fY), .int (zI tY), .int (zI what)] ([(x, .inr (10, [.ref a0, .ref b0, .ref m0, .int (zI im), .ref tl, .ref le, .int (zI fw), .int (zI fh), .int (zI lo), .ref sh])), (a0, .inr (8, [.ref a1, .ref a2, .ref a3, .ref a4, .int (zI (n : Int)), .int (zI oa), .int (zI dy)])), (a1, AQ G 4 7 r), (a2, AI G 7 hm), (a3, AI G 7 at_), (a4, AI G 7 lg), (le, AQ G 6 4 lf), (e00, .inr (8, [.ref e01, .ref e02, .ref e03, .ref e04, .int (zI (nn0 : Int)), .int (zI oo0), .int (zI dd0)])), (e01, AQ G 4 7 rr0), (e02, AI G 7 hh0), (e03, AI G 7 aa0), (e04, AI G 7 ll0), (e10, .inr (8, [.ref e11, .ref e12, .ref e13, .ref e14, .int (zI (nn1 : Int)), .int (zI oo1), .int (zI dd1)])), (e11, AQ G 4 7 rr1), (e12, AI G 7 hh1), (e13, AI G 7 aa1), (e14, AI G 7 ll1), (e20, .inr (8, [.ref e21, .ref e22, .ref e23, .ref e24, .int (zI (nn2 : Int)), .int (zI oo2), .int (zI dd2)])), (e21, AQ G 4 7 rr2), (e22, AI G 7 hh2), (e23, AI G 7 aa2), (e24, AI G 7 ll2), (e30, .inr (8, [.ref e31, .ref e32, .ref e33, .ref e34, .int (zI (nn3 : Int)), .int (zI oo3), .int (zI dd3)])), (e31, AQ G 4 7 rr3), (e32, AI G 7 hh3), (e33, AI G 7 aa3), (e34, AI G 7 ll3)] ++ PL LP hk hf) (Qi G ([(x, .inr (10, [.ref a0, .ref b0, .ref m0, .int (zI im), .ref tl, .ref le, .int (zI fw), .int (zI fh), .int (zI lo), .ref sh])), (a0, .inr (8, [.ref a1, .ref a2, .ref a3, .ref a4, .int (zI (n : Int)), .int (zI oa), .int (zI dy)])), (a1, AQ G 4 7 r), (a2, AI G 7 hm), (a3, AI G 7 at_), (a4, AI G 7 lg), (le, AQ G 6 4 lf), (e00, .inr (8, [.ref e01, .ref e02, .ref e03, .ref e04, .int (zI (nn0 : Int)), .int (zI oo0), .int (zI dd0)])), (e01, AQ G 4 7 rr0), (e02, AI G 7 hh0), (e03, AI G 7 aa0), (e04, AI G 7 ll0), (e10, .inr (8, [.ref e11, .ref e12, .ref e13, .ref e14, .int (zI (nn1 : Int)), .int (zI oo1), .int (zI dd1)])), (e11, AQ G 4 7 rr1), (e12, AI G 7 hh1), (e13, AI G 7 aa1), (e14, AI G 7 ll1), (e20, .inr (8, [.ref e21, .ref e22, .ref e23, .ref e24, .int (zI (nn2 : Int)), .int (zI oo2), .int (zI dd2)])), (e21, AQ G 4 7 rr2), (e22, AI G 7 hh2), (e23, AI G 7 aa2), (e24, AI G 7 ll2), (e30, .inr (8, [.ref e31, .ref e32, .ref e33, .ref e34, .int (zI (nn3 : Int)), .int (zI oo3), .int (zI dd3)])), (e31, AQ G 4 7 rr3), (e32, AI G 7 hh3), (e33, AI G 7 aa3), (e34, AI G 7 ll3)] ++ PL LP hk hf) (fun (r : Int32) (u : Int × Int × (Nat → Option Nat) × (Nat → Int) × (Nat → Int) × (Nat → Int) × Nat × Int × Int × (Nat → Option Nat) × (Nat → Int) × (Nat → Int) × (Nat → Int) × Nat × Int × Int × (Nat → Option Nat) × (Nat → Int) × (Nat → Int) × (Nat → Int) × Nat × Int × Int × (Nat → Option Nat) × (Nat → Int) × (Nat → Int) × (Nat → Int) × Nat × Int × Int) => r = zI (oChain kd fg hm at_ lg n oa fY tY what)) (fun u => ([(x, .inr (10, [.ref a0, .ref b0, .ref m0, .int (zI im), .ref tl, .ref le, .int (zI u.1), .int (zI u.2.1), .int (zI lo), .ref sh])), (a0, .inr (8, [.ref a1, .ref a2, .ref a3, .ref a4, .int (zI (n : Int)), .int (zI oa), .int (zI dy)])), (a1, AQ G 4 7 r), (a2, AI G 7 hm), (a3, AI G 7 at_), (a4, AI G 7 lg), (le, AQ G 6 4 lf), (e00, .inr (8, [.ref e01, .ref e02, .ref e03, .ref e04, .int (zI (u.2.2.2.2.2.2.1 : Int)), .int (zI u.2.2.2.2.2.2.2.1), .int (zI u.2.2.2.2.2.2.2.2.1)])), (e01, AQ G 4 7 u.2.2.1), (e02, AI G 7 u.2.2.2.1), (e03, AI G 7 u.2.2.2.2.1), (e04, AI G 7 u.2.2.2.2.2.1), (e10, .inr (8, [.ref e11, .ref e12, .ref e13, .ref e14, .int (zI (u.2.2.2.2.2.2.2.2.2.2.2.2.2.1 : Int)), .int (zI u.2.2.2.2.2.2.2.2.2.2.2.2.2.2.1), .int (zI u.2.2.2.2.2.2.2.2.2.2.2.2.2.2.2.1)])), (e11, AQ G 4 7 u.2.2.2.2.2.2.2.2.2.1), (e12, AI G 7 u.2.2.2.2.2.2.2.2.2.2.1), (e13, AI G 7 u.2.2.2.2.2.2.2.2.2.2.2.1), (e14, AI G 7 u.2.2.2.2.2.2.2.2.2.2.2.2.1), (e20, .inr (8, [.ref e21, .ref e22, .ref e23, .ref e24, .int (zI (u.2.2.2.2.2.2.2.2.2.2.2.2.2.2.2.2.2.2.2.2.1 : Int)), .int (zI u.2.2.2.2.2.2.2.2.2.2.2.2.2.2.2.2.2.2.2.2.2.1), .int (zI u.2.2.2.2.2.2.2.2.2.2.2.2.2.2.2.2.2.2.2.2.2.2.1)])), (e21, AQ G 4 7 u.2.2.2.2.2.2.2.2.2.2.2.2.2.2.2.2.1), (e22, AI G 7 u.2.2.2.2.2.2.2.2.2.2.2.2.2.2.2.2.2.1), (e23, AI G 7 u.2.2.2.2.2.2.2.2.2.2.2.2.2.2.2.2.2.2.1), (e24, AI G 7 u.2.2.2.2.2.2.2.2.2.2.2.2.2.2.2.2.2.2.2.1), (e30, .inr (8, [.ref e31, .ref e32, .ref e33, .ref e34, .int (zI (u.2.2.2.2.2.2.2.2.2.2.2.2.2.2.2.2.2.2.2.2.2.2.2.2.2.2.2.1 : Int)), .int (zI u.2.2.2.2.2.2.2.2.2.2.2.2.2.2.2.2.2.2.2.2.2.2.2.2.2.2.2.2.1), .int (zI u.2.2.2.2.2.2.2.2.2.2.2.2.2.2.2.2.2.2.2.2.2.2.2.2.2.2.2.2.2)])), (e31, AQ G 4 7 u.2.2.2.2.2.2.2.2.2.2.2.2.2.2.2.2.2.2.2.2.2.2.2.1), (e32, AI G 7 u.2.2.2.2.2.2.2.2.2.2.2.2.2.2.2.2.2.2.2.2.2.2.2.2.1), (e33, AI G 7 u.2.2.2.2.2.2.2.2.2.2.2.2.2.2.2.2.2.2.2.2.2.2.2.2.2.1), (e34, AI G 7 u.2.2.2.2.2.2.2.2.2.2.2.2.2.2.2.2.2.2.2.2.2.2.2.2.2.2.1)] ++ PL LP hk hf))) := by
  refine z_met (by decide) (Nat.le_of_ble_eq_true rfl) ?_
  intro X A hl0 hA C hQ hin
  subst hl0
  obtain ⟨hn7, hoa, hLj⟩ := id hL
  show Z X _ G 0 0 _ 0 [(0, .ref x), (1, .int (zI fY)), (2, .int (zI tY)), (3, .int (zI what))] []
  refine z_iload_n C dX1_chain_0 rfl 1 rfl ?_
  refine z_i C (z_runS (As := [.int (zI fY)]) (rest := []) C (ct_X1_isYard (zl X) G fY (by first | assumption | omega)) (lw_S q303 q304 q58 q305) (sb_e [] rfl rfl) (na := 1) (by decide +kernel) rfl (zrm rfl rfl (rfl) (rfl)) rfl (Nat.le_of_ble_eq_true rfl) dX1_chain_1) (fun u => jn_ro (sb_e [] rfl rfl)) (fun r_1 u hp_1 => ?_)
  have hp_1 : r_1 = zI (bI (0 ≤ fY ∧ fY ≤ 20)) := hp_1
  subst hp_1
  refine y_beq (tgt := 23) C dX1_chain_4 (by decide) (fun c_4 => ?_) (fun c_4 => ?_)
  · skip
    refine y_iconst C dX1_chain_23 ?_
    exact z_iret C hA hQ rfl (Nat.le_of_ble_eq_true rfl) (Nat.le_of_ble_eq_true rfl) ((fw, fh, rr0, hh0, aa0, ll0, nn0, oo0, dd0, rr1, hh1, aa1, ll1, nn1, oo1, dd1, rr2, hh2, aa2, ll2, nn2, oo2, dd2, rr3, hh3, aa3, ll3, nn3, oo3, dd3)) (congrArg zI (oChain_no (by omega)).symm) (sb_p [0, 1, 2, 3, 4, 5, 6, 7, 8, 9, 10, 11, 12, 13, 14, 15, 16, 17, 18, 19, 20, 21, 22, 23, 24, 25, 26] rfl rfl) dX1_chain_24
  · skip
    refine z_iload_n C dX1_chain_7 rfl 2 rfl ?_
    refine z_i C (z_runS (As := [.int (zI tY)]) (rest := []) C (ct_X1_isYard (zl X) G tY (by first | assumption | omega)) (lw_S q303 q304 q58 q305) (sb_e [] rfl rfl) (na := 1) (by decide +kernel) rfl (zrm rfl rfl (rfl) (rfl)) rfl (Nat.le_of_ble_eq_true rfl) dX1_chain_8) (fun u => jn_ro (sb_e [] rfl rfl)) (fun r_8 u hp_8 => ?_)
    have hp_8 : r_8 = zI (bI (0 ≤ tY ∧ tY ≤ 20)) := hp_8
    subst hp_8
    refine y_beq (tgt := 23) C dX1_chain_11 (by decide) (fun c_11 => ?_) (fun c_11 => ?_)
    · skip
      refine y_iconst C dX1_chain_23 ?_
      exact z_iret C hA hQ rfl (Nat.le_of_ble_eq_true rfl) (Nat.le_of_ble_eq_true rfl) ((fw, fh, rr0, hh0, aa0, ll0, nn0, oo0, dd0, rr1, hh1, aa1, ll1, nn1, oo1, dd1, rr2, hh2, aa2, ll2, nn2, oo2, dd2, rr3, hh3, aa3, ll3, nn3, oo3, dd3)) (congrArg zI (oChain_no (by omega)).symm) (sb_p [0, 1, 2, 3, 4, 5, 6, 7, 8, 9, 10, 11, 12, 13, 14, 15, 16, 17, 18, 19, 20, 21, 22, 23, 24, 25, 26] rfl rfl) dX1_chain_24
    · skip
      refine z_iload_n C dX1_chain_14 rfl 3 rfl ?_
      refine y_iconst C dX1_chain_15 ?_
      refine y_iconst C dX1_chain_16 ?_
      refine z_i C (z_runS (As := [.int (zI what), .int (zI 0), .int (zI 1)]) (rest := []) C (ct_X1_isIn (zl X) G what 0 1 (by first | assumption | omega) (by first | assumption | omega) (by first | assumption | omega)) (lw_S q189 q190 q58 q191) (sb_e [] rfl rfl) (na := 3) (by decide +kernel) rfl (zrm rfl rfl (rfl) (rfl)) rfl (Nat.le_of_ble_eq_true rfl) dX1_chain_17) (fun u => jn_ro (sb_e [] rfl rfl)) (fun r_17 u hp_17 => ?_)
      have hp_17 : r_17 = zI (bI (0 ≤ what ∧ what ≤ 1)) := hp_17
      subst hp_17
      refine y_bne (tgt := 25) C dX1_chain_20 (by decide) (fun c_20 => ?_) (fun c_20 => ?_)
      · skip
        refine z_aload_n C dX1_chain_25 rfl 0 rfl ?_
        refine z_ldc C q620 dX1_chain_26 ?_
        refine z_eqi (y := zI 1000000000) (by decide) ?_
        refine z_put (q := 0) (kf := 6) (ws' := ([(x, .inr (10, [.ref a0, .ref b0, .ref m0, .int (zI im), .ref tl, .ref le, .int (zI 1000000000), .int (zI fh), .int (zI lo), .ref sh])), (a0, .inr (8, [.ref a1, .ref a2, .ref a3, .ref a4, .int (zI (n : Int)), .int (zI oa), .int (zI dy)])), (a1, AQ G 4 7 r), (a2, AI G 7 hm), (a3, AI G 7 at_), (a4, AI G 7 lg), (le, AQ G 6 4 lf), (e00, .inr (8, [.ref e01, .ref e02, .ref e03, .ref e04, .int (zI (nn0 : Int)), .int (zI oo0), .int (zI dd0)])), (e01, AQ G 4 7 rr0), (e02, AI G 7 hh0), (e03, AI G 7 aa0), (e04, AI G 7 ll0), (e10, .inr (8, [.ref e11, .ref e12, .ref e13, .ref e14, .int (zI (nn1 : Int)), .int (zI oo1), .int (zI dd1)])), (e11, AQ G 4 7 rr1), (e12, AI G 7 hh1), (e13, AI G 7 aa1), (e14, AI G 7 ll1), (e20, .inr (8, [.ref e21, .ref e22, .ref e23, .ref e24, .int (zI (nn2 : Int)), .int (zI oo2), .int (zI dd2)])), (e21, AQ G 4 7 rr2), (e22, AI G 7 hh2), (e23, AI G 7 aa2), (e24, AI G 7 ll2), (e30, .inr (8, [.ref e31, .ref e32, .ref e33, .ref e34, .int (zI (nn3 : Int)), .int (zI oo3), .int (zI dd3)])), (e31, AQ G 4 7 rr3), (e32, AI G 7 hh3), (e33, AI G 7 aa3), (e34, AI G 7 ll3)] ++ PL LP hk hf)) C rfl rfl in_X1 tyX1_ok nmX1 (by decide) q886 rfl rfl rfl rfl rfl (nlt rfl) rfl dX1_chain_28 ?_
        refine z_aload_n C dX1_chain_31 rfl 0 rfl ?_
        refine y_bipush C dX1_chain_32 (by decide) ?_
        refine z_put (q := 0) (kf := 7) (ws' := ([(x, .inr (10, [.ref a0, .ref b0, .ref m0, .int (zI im), .ref tl, .ref le, .int (zI 1000000000), .int (zI (-4)), .int (zI lo), .ref sh])), (a0, .inr (8, [.ref a1, .ref a2, .ref a3, .ref a4, .int (zI (n : Int)), .int (zI oa), .int (zI dy)])), (a1, AQ G 4 7 r), (a2, AI G 7 hm), (a3, AI G 7 at_), (a4, AI G 7 lg), (le, AQ G 6 4 lf), (e00, .inr (8, [.ref e01, .ref e02, .ref e03, .ref e04, .int (zI (nn0 : Int)), .int (zI oo0), .int (zI dd0)])), (e01, AQ G 4 7 rr0), (e02, AI G 7 hh0), (e03, AI G 7 aa0), (e04, AI G 7 ll0), (e10, .inr (8, [.ref e11, .ref e12, .ref e13, .ref e14, .int (zI (nn1 : Int)), .int (zI oo1), .int (zI dd1)])), (e11, AQ G 4 7 rr1), (e12, AI G 7 hh1), (e13, AI G 7 aa1), (e14, AI G 7 ll1), (e20, .inr (8, [.ref e21, .ref e22, .ref e23, .ref e24, .int (zI (nn2 : Int)), .int (zI oo2), .int (zI dd2)])), (e21, AQ G 4 7 rr2), (e22, AI G 7 hh2), (e23, AI G 7 aa2), (e24, AI G 7 ll2), (e30, .inr (8, [.ref e31, .ref e32, .ref e33, .ref e34, .int (zI (nn3 : Int)), .int (zI oo3), .int (zI dd3)])), (e31, AQ G 4 7 rr3), (e32, AI G 7 hh3), (e33, AI G 7 aa3), (e34, AI G 7 ll3)] ++ PL LP hk hf)) C rfl rfl in_X1 tyX1_ok nmX1 (by decide) q887 rfl rfl rfl rfl rfl (nlt rfl) rfl dX1_chain_34 ?_
        refine z_aload_n C dX1_chain_37 rfl 0 rfl ?_
        refine z_get (q := 0) (kf := 5) (v := .ref le) C rfl rfl in_X1 (by decide) q885 (Or.inl rfl) rfl dX1_chain_38 ?_
        refine y_iconst C dX1_chain_41 ?_
        refine y_aldq (q := 6) (t0 := 6) (v := .ref e00) C rfl rfl (by omega) (by decide) (by show va_rf (lf 0) = _; rw [hl0]; rfl) dX1_chain_42 ?_
        refine z_aload_n C dX1_chain_43 rfl 0 rfl ?_
        refine z_get (q := 0) (kf := 0) (v := .ref a0) C rfl rfl in_X1 (by decide) q880 (Or.inl rfl) rfl dX1_chain_44 ?_
        refine z_v (ws' := fun u => ([(x, .inr (10, [.ref a0, .ref b0, .ref m0, .int (zI im), .ref tl, .ref le, .int (zI 1000000000), .int (zI (-4)), .int (zI lo), .ref sh])), (a0, .inr (8, [.ref a1, .ref a2, .ref a3, .ref a4, .int (zI (n : Int)), .int (zI oa), .int (zI dy)])), (a1, AQ G 4 7 r), (a2, AI G 7 hm), (a3, AI G 7 at_), (a4, AI G 7 lg), (le, AQ G 6 4 lf), (e00, .inr (8, [.ref e01, .ref e02, .ref e03, .ref e04, .int (zI (n : Int)), .int (zI oa), .int (zI dy)])), (e01, AQ G 4 7 r), (e02, AI G 7 hm), (e03, AI G 7 at_), (e04, AI G 7 lg), (e10, .inr (8, [.ref e11, .ref e12, .ref e13, .ref e14, .int (zI (nn1 : Int)), .int (zI oo1), .int (zI dd1)])), (e11, AQ G 4 7 rr1), (e12, AI G 7 hh1), (e13, AI G 7 aa1), (e14, AI G 7 ll1), (e20, .inr (8, [.ref e21, .ref e22, .ref e23, .ref e24, .int (zI (nn2 : Int)), .int (zI oo2), .int (zI dd2)])), (e21, AQ G 4 7 rr2), (e22, AI G 7 hh2), (e23, AI G 7 aa2), (e24, AI G 7 ll2), (e30, .inr (8, [.ref e31, .ref e32, .ref e33, .ref e34, .int (zI (nn3 : Int)), .int (zI oo3), .int (zI dd3)])), (e31, AQ G 4 7 rr3), (e32, AI G 7 hh3), (e33, AI G 7 aa3), (e34, AI G 7 ll3)] ++ PL LP hk hf)) C (z_runV (q := 7) (As := [.ref a0]) (rest := []) C (ct_X2_takes (zl X) G e00 e01 e02 e03 e04 a0 a1 a2 a3 a4 rr0 hh0 aa0 ll0 nn0 oo0 dd0 r hm at_ lg n oa dy LP hk hf (by first | assumption | omega) (by first | assumption | omega)) (lw_V q285 q286 q287 q59 q288) rfl rfl (sb_p [7, 8, 9, 10, 11, 1, 2, 3, 4, 5] rfl rfl) (na := 1) (by decide +kernel) rfl (zrm rfl rfl (rfl) (rfl)) rfl (Nat.le_of_ble_eq_true rfl) dX1_chain_47) (fun u => jn_p (Lr := [(x, .inr (10, [.ref a0, .ref b0, .ref m0, .int (zI im), .ref tl, .ref le, .int (zI 1000000000), .int (zI (-4)), .int (zI lo), .ref sh])), (le, AQ G 6 4 lf), (e10, .inr (8, [.ref e11, .ref e12, .ref e13, .ref e14, .int (zI (nn1 : Int)), .int (zI oo1), .int (zI dd1)])), (e11, AQ G 4 7 rr1), (e12, AI G 7 hh1), (e13, AI G 7 aa1), (e14, AI G 7 ll1), (e20, .inr (8, [.ref e21, .ref e22, .ref e23, .ref e24, .int (zI (nn2 : Int)), .int (zI oo2), .int (zI dd2)])), (e21, AQ G 4 7 rr2), (e22, AI G 7 hh2), (e23, AI G 7 aa2), (e24, AI G 7 ll2), (e30, .inr (8, [.ref e31, .ref e32, .ref e33, .ref e34, .int (zI (nn3 : Int)), .int (zI oo3), .int (zI dd3)])), (e31, AQ G 4 7 rr3), (e32, AI G 7 hh3), (e33, AI G 7 aa3), (e34, AI G 7 ll3)]) [7, 8, 9, 10, 11, 1, 2, 3, 4, 5] [0, 6, 12, 13, 14, 15, 16, 17, 18, 19, 20, 21, 22, 23, 24, 25, 26] [0, 22, 23, 24, 25, 26, 1, 17, 18, 19, 20, 21, 2, 3, 4, 5, 6, 7, 8, 9, 10, 11, 12, 13, 14, 15, 16] rfl rfl rfl (by decide) rfl rfl) (fun u hp_47 => ?_)
        refine z_aload_n C dX1_chain_50 rfl 0 rfl ?_
        refine y_iconst C dX1_chain_51 ?_
        refine z_iload_n C dX1_chain_52 rfl 1 rfl ?_
        refine z_iload_n C dX1_chain_53 rfl 2 rfl ?_
        refine y_iconst C dX1_chain_54 ?_
        refine y_iconst C dX1_chain_55 ?_
        refine y_bipush C dX1_chain_56 (by decide) ?_
        refine z_wsEq (ws' := ([(x, .inr (10, [.ref a0, .ref b0, .ref m0, .int (zI im), .ref tl, .ref le, .int (zI (encW (-4))), .int (zI (-4)), .int (zI lo), .ref sh])), (a0, .inr (8, [.ref a1, .ref a2, .ref a3, .ref a4, .int (zI (n : Int)), .int (zI oa), .int (zI dy)])), (a1, AQ G 4 7 r), (a2, AI G 7 hm), (a3, AI G 7 at_), (a4, AI G 7 lg), (le, AQ G 6 4 lf), (e00, .inr (8, [.ref e01, .ref e02, .ref e03, .ref e04, .int (zI (n : Int)), .int (zI oa), .int (zI dy)])), (e01, AQ G 4 7 r), (e02, AI G 7 hm), (e03, AI G 7 at_), (e04, AI G 7 lg), (e10, .inr (8, [.ref e11, .ref e12, .ref e13, .ref e14, .int (zI (nn1 : Int)), .int (zI oo1), .int (zI dd1)])), (e11, AQ G 4 7 rr1), (e12, AI G 7 hh1), (e13, AI G 7 aa1), (e14, AI G 7 ll1), (e20, .inr (8, [.ref e21, .ref e22, .ref e23, .ref e24, .int (zI (nn2 : Int)), .int (zI oo2), .int (zI dd2)])), (e21, AQ G 4 7 rr2), (e22, AI G 7 hh2), (e23, AI G 7 aa2), (e24, AI G 7 ll2), (e30, .inr (8, [.ref e31, .ref e32, .ref e33, .ref e34, .int (zI (nn3 : Int)), .int (zI oo3), .int (zI dd3)])), (e31, AQ G 4 7 rr3), (e32, AI G 7 hh3), (e33, AI G 7 aa3), (e34, AI G 7 ll3)] ++ PL LP hk hf)) (by rw [show encW (-4) = (1000000000 : Int) from by decide]) ?_
        refine z_v (ws' := fun u => ([(x, .inr (10, [.ref a0, .ref b0, .ref m0, .int (zI im), .ref tl, .ref le, .int (zI (encW (chF kd fg hm n oa tY 3 0 at_ lg fY 0 (-4) ((-4), (-4))).1)), .int (zI ((chF kd fg hm n oa tY 3 0 at_ lg fY 0 (-4) ((-4), (-4))).2)), .int (zI lo), .ref sh])), (a0, .inr (8, [.ref a1, .ref a2, .ref a3, .ref a4, .int (zI (n : Int)), .int (zI oa), .int (zI dy)])), (a1, AQ G 4 7 r), (a2, AI G 7 hm), (a3, AI G 7 at_), (a4, AI G 7 lg), (le, AQ G 6 4 lf), (e00, .inr (8, [.ref e01, .ref e02, .ref e03, .ref e04, .int (zI (n : Int)), .int (zI oa), .int (zI dy)])), (e01, AQ G 4 7 r), (e02, AI G 7 hm), (e03, AI G 7 at_), (e04, AI G 7 lg), (e10, .inr (8, [.ref e11, .ref e12, .ref e13, .ref e14, .int (zI (u.2.2.2.2.1 : Int)), .int (zI u.2.2.2.2.2.1), .int (zI u.2.2.2.2.2.2.1)])), (e11, AQ G 4 7 u.1), (e12, AI G 7 u.2.1), (e13, AI G 7 u.2.2.1), (e14, AI G 7 u.2.2.2.1), (e20, .inr (8, [.ref e21, .ref e22, .ref e23, .ref e24, .int (zI (u.2.2.2.2.2.2.2.2.2.2.2.1 : Int)), .int (zI u.2.2.2.2.2.2.2.2.2.2.2.2.1), .int (zI u.2.2.2.2.2.2.2.2.2.2.2.2.2.1)])), (e21, AQ G 4 7 u.2.2.2.2.2.2.2.1), (e22, AI G 7 u.2.2.2.2.2.2.2.2.1), (e23, AI G 7 u.2.2.2.2.2.2.2.2.2.1), (e24, AI G 7 u.2.2.2.2.2.2.2.2.2.2.1), (e30, .inr (8, [.ref e31, .ref e32, .ref e33, .ref e34, .int (zI (u.2.2.2.2.2.2.2.2.2.2.2.2.2.2.2.2.2.2.1 : Int)), .int (zI u.2.2.2.2.2.2.2.2.2.2.2.2.2.2.2.2.2.2.2.1), .int (zI u.2.2.2.2.2.2.2.2.2.2.2.2.2.2.2.2.2.2.2.2)])), (e31, AQ G 4 7 u.2.2.2.2.2.2.2.2.2.2.2.2.2.2.1), (e32, AI G 7 u.2.2.2.2.2.2.2.2.2.2.2.2.2.2.2.1), (e33, AI G 7 u.2.2.2.2.2.2.2.2.2.2.2.2.2.2.2.2.1), (e34, AI G 7 u.2.2.2.2.2.2.2.2.2.2.2.2.2.2.2.2.2.1)] ++ PL LP hk hf)) C (z_runV (q := 0) (As := [.int (zI 0), .int (zI fY), .int (zI tY), .int (zI 0), .int (zI 0), .int (zI (-4))]) (rest := []) C (ct_X1_chainsFrom_0 (zl X) G x b0 m0 tl le sh im lo a0 a1 a2 a3 a4 r hm at_ lg n oa dy LP hk hf kd fg dy lf e00 e01 e02 e03 e04 e10 e11 e12 e13 e14 rr1 hh1 aa1 ll1 nn1 oo1 dd1 e20 e21 e22 e23 e24 rr2 hh2 aa2 ll2 nn2 oo2 dd2 e30 e31 e32 e33 e34 rr3 hh3 aa3 ll3 nn3 oo3 dd3 0 fY tY 0 (-4) (-4) (-4) (by first | assumption | omega) (by first | assumption | omega) (by first | assumption | omega) (by first | assumption | omega) (by decide) (by first | assumption | omega) (by first | assumption | omega) (by first | assumption | omega) (by first | assumption | omega) (CI_0) (rfl) (by first | assumption | omega) (by first | assumption | omega) (by first | assumption | omega) (by first | assumption | omega)) (lw_V q621 q623 qs14 q58 q624) rfl rfl (sb_p [0, 1, 6, 7, 8, 9, 10, 11, 12, 13, 14, 15, 16, 17, 18, 19, 20, 21, 22, 23, 24, 25, 26] rfl rfl) (na := 6) (by decide +kernel) rfl (zrm rfl rfl (rfl) (rfl)) rfl (Nat.le_of_ble_eq_true rfl) dX1_chain_58) (fun u => jn_p (Lr := [(a1, AQ G 4 7 r), (a2, AI G 7 hm), (a3, AI G 7 at_), (a4, AI G 7 lg)]) [0, 1, 6, 7, 8, 9, 10, 11, 12, 13, 14, 15, 16, 17, 18, 19, 20, 21, 22, 23, 24, 25, 26] [2, 3, 4, 5] [4, 5, 0, 1, 2, 3, 6, 7, 8, 9, 10, 11, 12, 13, 14, 15, 16, 17, 18, 19, 20, 21, 22, 23, 24, 25, 26] rfl rfl rfl (by decide) rfl rfl) (fun u hp_58 => ?_)
        obtain ⟨rr19_58, hh19_58, aa19_58, ll19_58, nn19_58, oo19_58, dd19_58, rr29_58, hh29_58, aa29_58, ll29_58, nn29_58, oo29_58, dd29_58, rr39_58, hh39_58, aa39_58, ll39_58, nn39_58, oo39_58, dd39_58⟩ := u
        obtain ⟨q1, q2, hq⟩ : ∃ q1 q2 : Int, chF kd fg hm n oa tY 3 0 at_ lg fY 0 (-4) (-4, -4) = (q1, q2) := ⟨_, _, rfl⟩
        rw [hq]
        have hci : CI (q1, q2) := hq ▸ (chF_ci 3 0 at_ lg fY 0 (-4) (-4, -4) hn7 CI_0 (by omega) (by omega) (by omega))
        have hcn : encW q1 = 1000000000 ↔ q1 < 0 := encW_n hci
        have hcp : 0 ≤ q1 → encW q1 = q1 := encW_p
        have hcc := CI_n hci
        have hcb := CI_b hci
        have hcr : 0 ≤ encW q1 ∧ encW q1 ≤ 1000000000 := encW_r hci
        refine z_aload_n C dX1_chain_61 rfl 0 rfl ?_
        refine z_get (q := 0) (kf := 6) (v := .int (zI (encW q1))) C rfl rfl in_X1 (by decide) q886 (Or.inl rfl) rfl dX1_chain_62 ?_
        refine z_ldc C q620 dX1_chain_65 ?_
        refine z_eqi (y := zI 1000000000) (by decide) ?_
        refine y_icmp_ne (tgt := 75) C (by omega) (by omega) dX1_chain_67 (by decide) (fun c_67 => ?_) (fun c_67 => ?_)
        · skip
          refine z_iload_n C dX1_chain_75 rfl 3 rfl ?_
          refine y_if_ne (tgt := 86) C (by omega) dX1_chain_76 (by decide) (fun c_76 => ?_) (fun c_76 => ?_)
          · skip
            refine z_aload_n C dX1_chain_86 rfl 0 rfl ?_
            refine z_get (q := 0) (kf := 7) (v := .int (zI q2)) C rfl rfl in_X1 (by decide) q887 (Or.inl rfl) rfl dX1_chain_87 ?_
            exact z_iret C hA hQ rfl (Nat.le_of_ble_eq_true rfl) (Nat.le_of_ble_eq_true rfl) (((encW q1), q2, r, hm, at_, lg, n, oa, dy, rr19_58, hh19_58, aa19_58, ll19_58, nn19_58, oo19_58, dd19_58, rr29_58, hh29_58, aa29_58, ll29_58, nn29_58, oo29_58, dd29_58, rr39_58, hh39_58, aa39_58, ll39_58, nn39_58, oo39_58, dd39_58)) (congrArg zI (by rw [oChain_ch (show (0 ≤ fY ∧ fY ≤ 20) ∧ (0 ≤ tY ∧ tY ≤ 20) ∧ (0 ≤ what ∧ what ≤ 1) by omega) hq]; split <;> omega)) (sb_p [0, 1, 2, 3, 4, 5, 6, 7, 8, 9, 10, 11, 12, 13, 14, 15, 16, 17, 18, 19, 20, 21, 22, 23, 24, 25, 26] rfl rfl) dX1_chain_90
          · skip
            refine z_aload_n C dX1_chain_79 rfl 0 rfl ?_
            refine z_get (q := 0) (kf := 6) (v := .int (zI (encW q1))) C rfl rfl in_X1 (by decide) q886 (Or.inl rfl) rfl dX1_chain_80 ?_
            refine z_goto (tgt := 90) C dX1_chain_83 (by decide) ?_
            exact z_iret C hA hQ rfl (Nat.le_of_ble_eq_true rfl) (Nat.le_of_ble_eq_true rfl) (((encW q1), q2, r, hm, at_, lg, n, oa, dy, rr19_58, hh19_58, aa19_58, ll19_58, nn19_58, oo19_58, dd19_58, rr29_58, hh29_58, aa29_58, ll29_58, nn29_58, oo29_58, dd29_58, rr39_58, hh39_58, aa39_58, ll39_58, nn39_58, oo39_58, dd39_58)) (congrArg zI (by rw [oChain_ch (show (0 ≤ fY ∧ fY ≤ 20) ∧ (0 ≤ tY ∧ tY ≤ 20) ∧ (0 ≤ what ∧ what ≤ 1) by omega) hq]; split <;> omega)) (sb_p [0, 1, 2, 3, 4, 5, 6, 7, 8, 9, 10, 11, 12, 13, 14, 15, 16, 17, 18, 19, 20, 21, 22, 23, 24, 25, 26] rfl rfl) dX1_chain_90
        · skip
          refine y_bipush C dX1_chain_70 (by decide) ?_
          refine z_goto (tgt := 90) C dX1_chain_72 (by decide) ?_
          exact z_iret C hA hQ rfl (Nat.le_of_ble_eq_true rfl) (Nat.le_of_ble_eq_true rfl) (((encW q1), q2, r, hm, at_, lg, n, oa, dy, rr19_58, hh19_58, aa19_58, ll19_58, nn19_58, oo19_58, dd19_58, rr29_58, hh29_58, aa29_58, ll29_58, nn29_58, oo29_58, dd29_58, rr39_58, hh39_58, aa39_58, ll39_58, nn39_58, oo39_58, dd39_58)) (congrArg zI (by rw [oChain_ch (show (0 ≤ fY ∧ fY ≤ 20) ∧ (0 ≤ tY ∧ tY ≤ 20) ∧ (0 ≤ what ∧ what ≤ 1) by omega) hq]; split <;> omega)) (sb_p [0, 1, 2, 3, 4, 5, 6, 7, 8, 9, 10, 11, 12, 13, 14, 15, 16, 17, 18, 19, 20, 21, 22, 23, 24, 25, 26] rfl rfl) dX1_chain_90
      · skip
        refine y_iconst C dX1_chain_23 ?_
        exact z_iret C hA hQ rfl (Nat.le_of_ble_eq_true rfl) (Nat.le_of_ble_eq_true rfl) ((fw, fh, rr0, hh0, aa0, ll0, nn0, oo0, dd0, rr1, hh1, aa1, ll1, nn1, oo1, dd1, rr2, hh2, aa2, ll2, nn2, oo2, dd2, rr3, hh3, aa3, ll3, nn3, oo3, dd3)) (congrArg zI (oChain_no (by omega)).symm) (sb_p [0, 1, 2, 3, 4, 5, 6, 7, 8, 9, 10, 11, 12, 13, 14, 15, 16, 17, 18, 19, 20, 21, 22, 23, 24, 25, 26] rfl rfl) dX1_chain_24

