/-! THE MODEL, 5: ripe .. fees, horse, count, image, restore -/
set_option maxRecDepth 100000
def FI (p : Nat → Bool) (i : Nat) (x : Int) : Prop := (x = -4 ∧ ∀ k : Nat, k < i → p k = false) ∨ (∃ k : Nat, x = (k : Int) ∧ k < i ∧ p k = true ∧ ∀ q : Nat, q < k → p q = false)
theorem FI_0 {p : Nat → Bool} : FI p 0 (-4) := Or.inl ⟨rfl, fun k h => absurd h (Nat.not_lt_zero k)⟩
theorem FI_t {p : Nat → Bool} {i : Nat} {x : Int} (h : FI p i x) (hx : x < 0) (c : p i = true) : FI p (i + 1) (i : Int) := by
  rcases h with ⟨h1, h2⟩ | ⟨k, h1, h2⟩
  · exact Or.inr ⟨i, rfl, Nat.lt_succ_self i, c, h2⟩
  · omega
theorem FI_f {p : Nat → Bool} {i : Nat} {x : Int} (h : FI p i x) (hx : x < 0) (c : p i = false) : FI p (i + 1) (-4) := by
  rcases h with ⟨h1, h2⟩ | ⟨k, h1, h2⟩
  · refine Or.inl ⟨rfl, fun k hk => ?_⟩
    rcases Nat.lt_succ_iff_lt_or_eq.mp hk with q | q
    · exact h2 k q
    · subst q; exact c
  · omega
theorem FI_e {p : Nat → Bool} {i n : Nat} {x : Int} (h : FI p i x) (hi : i ≤ n) (hx : 0 ≤ x ∨ n ≤ i) : firstF p n = x := by
  rcases h with ⟨h1, h2⟩ | ⟨k, h1, h2, h3, h4⟩
  · have e : n = i := by omega
    rw [e, firstF_no h2, h1]
  · rw [firstF_at h4 h3 (by omega), h1]
theorem FI_b {p : Nat → Bool} {i : Nat} {x : Int} (h : FI p i x) : -4 ≤ x ∧ x ≤ i := by
  rcases h with ⟨h1, h2⟩ | ⟨k, h1, h2, h3, h4⟩ <;> omega
set_option maxHeartbeats 4000000 in
theorem ct_X4_ripe (l : Launch) (G : ZG) (m : Nat) (g1 : Nat) (g2 : Nat) (g3 : Nat) (g4 : Nat) (g5 : Nat) (s1 : Nat) (s2 : Nat) (s3 : Nat) (s4 : Nat) (s5 : Nat) (s6 : Nat) (t1 : Nat) (t2 : Nat) (t3 : Nat) (c0 : Nat) (c1 : Nat) (c2 : Nat) (c3 : Nat) (y0 : Nat) (y1 : Nat) (thr : Int) (rdg : Int) (plc : Int) (ibd : Int) (stm : Int) (him : Int) (pl0 : Int) (itk : Int) (chd : Int) (chf : Int) (sd : Int) (ki : Value) (kd : Nat → Nat) (fg : Nat → Int) (hm : Nat → Int) (at_ : Nat → Int) (lg : Nat → Int) (n : Nat) (oa : Int) (dy : Int) (kc : Nat → Int) (h : Int) (v : Int) (hL : LK n kd fg hm at_ lg oa) (rh : -2147483648 ≤ h ∧ h ≤ 2147483647) (rv : -2147483648 ≤ v ∧ v ≤ 2147483647) : CT l yX4_ripe cX4_ripe 5 (some .int) { frames := 4, cells := 0, slots := 0, locals := 91 } G [.ref m, .int (zI h), .int (zI v)] [(m, .inr (11, [.int (zI (n : Int)), .ref g1, .ref g2, .ref g3, .ref g4, .ref g5, .int (zI oa), .int (zI dy), .ref s1, .ref s2, .ref s3, .ref s4, .ref s5, .ref s6, .int (zI thr), .int (zI rdg), .int (zI plc), .int (zI ibd), .int (zI stm), .ref t1, .ref t2, .ref t3, .ref c0, .ref c1, .ref c2, .ref c3, .int (zI him), .int (zI pl0), .int (zI itk), ki, .int (zI chd), .int (zI chf), .ref y0, .int (zI sd), .ref y1])), (g1, AI G 7 (fun z_ => (kd z_ : Int))), (g2, AI G 7 fg), (g3, AI G 7 hm), (g4, AI G 7 at_), (g5, AI G 7 lg), (c0, AI G 38 kc)] (Qi G [(m, .inr (11, [.int (zI (n : Int)), .ref g1, .ref g2, .ref g3, .ref g4, .ref g5, .int (zI oa), .int (zI dy), .ref s1, .ref s2, .ref s3, .ref s4, .ref s5, .ref s6, .int (zI thr), .int (zI rdg), .int (zI plc), .int (zI ibd), .int (zI stm), .ref t1, .ref t2, .ref t3, .ref c0, .ref c1, .ref c2, .ref c3, .int (zI him), .int (zI pl0), .int (zI itk), ki, .int (zI chd), .int (zI chf), .ref y0, .int (zI sd), .ref y1])), (g1, AI G 7 (fun z_ => (kd z_ : Int))), (g2, AI G 7 fg), (g3, AI G 7 hm), (g4, AI G 7 at_), (g5, AI G 7 lg), (c0, AI G 38 kc)] (fun (r : Int32) (u : Value × Int × Int × (Nat → Int)) => r = zI (oRipe kd fg hm at_ lg n oa h v)) (fun u => [(m, .inr (11, [.int (zI (n : Int)), .ref g1, .ref g2, .ref g3, .ref g4, .ref g5, .int (zI oa), .int (zI dy), .ref s1, .ref s2, .ref s3, .ref s4, .ref s5, .ref s6, .int (zI 0), .int (zI rdg), .int (zI plc), .int (zI ibd), .int (zI stm), .ref t1, .ref t2, .ref t3, .ref c0, .ref c1, .ref c2, .ref c3, .int (zI him), .int (zI u.2.1), .int (zI u.2.2.1), u.1, .int (zI chd), .int (zI chf), .ref y0, .int (zI sd), .ref y1])), (g1, AI G 7 (fun z_ => (kd z_ : Int))), (g2, AI G 7 fg), (g3, AI G 7 hm), (g4, AI G 7 at_), (g5, AI G 7 lg), (c0, AI G 38 u.2.2.2)])) := by
  refine z_met (by decide) (Nat.le_of_ble_eq_true rfl) ?_
  intro X A hl0 hA C hQ hin
  subst hl0
  obtain ⟨hn7, hoa, hLj⟩ := id hL
  show Z X _ G 0 0 _ 0 [(0, .ref m), (1, .int (zI h)), (2, .int (zI v))] []
  refine z_aload_n C dX4_ripe_0 rfl 0 rfl ?_
  refine y_iconst C dX4_ripe_1 ?_
  refine z_put (q := 0) (kf := 14) (ws' := [(m, .inr (11, [.int (zI (n : Int)), .ref g1, .ref g2, .ref g3, .ref g4, .ref g5, .int (zI oa), .int (zI dy), .ref s1, .ref s2, .ref s3, .ref s4, .ref s5, .ref s6, .int (zI 0), .int (zI rdg), .int (zI plc), .int (zI ibd), .int (zI stm), .ref t1, .ref t2, .ref t3, .ref c0, .ref c1, .ref c2, .ref c3, .int (zI him), .int (zI pl0), .int (zI itk), ki, .int (zI chd), .int (zI chf), .ref y0, .int (zI sd), .ref y1])), (g1, AI G 7 (fun z_ => (kd z_ : Int))), (g2, AI G 7 fg), (g3, AI G 7 hm), (g4, AI G 7 at_), (g5, AI G 7 lg), (c0, AI G 38 kc)]) C rfl rfl in_X4 tyX4_ok nmX4 (by decide) q1101 rfl rfl rfl rfl rfl (nlt rfl) rfl dX4_ripe_2 ?_
  refine z_aload_n C dX4_ripe_5 rfl 0 rfl ?_
  refine z_iload_n C dX4_ripe_6 rfl 1 rfl ?_
  refine z_i C (z_runV (q := 0) (As := [.int (zI h)]) (rest := []) C (ct_X4_isHorse (zl X) G m g1 g2 g3 g4 g5 n oa dy ([.ref s1, .ref s2, .ref s3, .ref s4, .ref s5, .ref s6, .int (zI 0), .int (zI rdg), .int (zI plc), .int (zI ibd), .int (zI stm), .ref t1, .ref t2, .ref t3, .ref c0, .ref c1, .ref c2, .ref c3, .int (zI him), .int (zI pl0), .int (zI itk), ki, .int (zI chd), .int (zI chf), .ref y0, .int (zI sd), .ref y1]) h (by first | assumption | omega) (by first | assumption | omega)) (lw_V q1255 q1257 qs33 q61 q1258) rfl rfl (sb_e [0] rfl rfl) (na := 1) (by decide +kernel) rfl (zrm rfl rfl (rfl) (rfl)) rfl (Nat.le_of_ble_eq_true rfl) dX4_ripe_7) (fun u => jn_ro (sb_e [0] rfl rfl)) (fun r_7 u hp_7 => ?_)
  have hp_7 : r_7 = zI (bI (0 ≤ h ∧ h ≤ (n : Int) - 1)) := hp_7
  subst hp_7
  refine y_beq (tgt := 25) C dX4_ripe_10 (by decide) (fun c_10 => ?_) (fun c_10 => ?_)
  · skip
    refine y_iconst C dX4_ripe_25 ?_
    exact z_iret C hA hQ rfl (Nat.le_of_ble_eq_true rfl) (Nat.le_of_ble_eq_true rfl) ((ki, pl0, itk, kc)) (congrArg zI (by unfold oRipe; (try simp only [zTN]); (repeat (first | rw [if_pos (by omega)] | rw [if_neg (by omega)])); first | done | rfl)) (sb_e [0, 1, 2, 3, 4, 5, 6] rfl rfl) dX4_ripe_26
  · skip
    refine z_iload_n C dX4_ripe_13 rfl 2 rfl ?_
    refine y_i2l C (by omega) dX4_ripe_14 ?_
    refine z_lconst (v := zL 1) C dX4_ripe_15 (by decide) ?_
    refine z_ldc2 C q1297 dX4_ripe_16 ?_
    refine z_eql (y := zL 60) (by decide) ?_
    refine z_i C (z_runS (As := [.long (zL v), .long (zL 1), .long (zL 60)]) (rest := []) C (ct_X4_in (zl X) G v 1 60 (by first | assumption | omega) (by first | assumption | omega) (by first | assumption | omega)) (lw_S q1207 q1208 q61 q1209) (sb_e [] rfl rfl) (na := 3) (by decide +kernel) rfl (zrm rfl rfl (rfl) (rfl)) rfl (Nat.le_of_ble_eq_true rfl) dX4_ripe_19) (fun u => jn_ro (sb_e [] rfl rfl)) (fun r_19 u hp_19 => ?_)
    have hp_19 : r_19 = zI (bI (1 ≤ v ∧ v ≤ 60)) := hp_19
    subst hp_19
    refine y_bne (tgt := 27) C dX4_ripe_22 (by decide) (fun c_22 => ?_) (fun c_22 => ?_)
    · skip
      obtain ⟨j, rfl⟩ := Int.eq_ofNat_of_zero_le (show 0 ≤ h by omega)
      refine y_bipush C dX4_ripe_27 (by decide) ?_
      refine z_istore_n (lv' := [(3, .int (zI (-4))), (0, .ref m), (1, .int (zI (j : Int))), (2, .int (zI v))]) C dX4_ripe_29 rfl (nlt rfl) rfl ?_
      refine z_aload_n C dX4_ripe_30 rfl 1 rfl ?_
      refine z_v (ws' := fun u => [(m, .inr (11, [.int (zI (n : Int)), .ref g1, .ref g2, .ref g3, .ref g4, .ref g5, .int (zI oa), .int (zI dy), .ref s1, .ref s2, .ref s3, .ref s4, .ref s5, .ref s6, .int (zI 0), .int (zI rdg), .int (zI plc), .int (zI ibd), .int (zI stm), .ref t1, .ref t2, .ref t3, .ref c0, .ref c1, .ref c2, .ref c3, .int (zI him), .int (zI 38), .int (zI 1), .ref c0, .int (zI chd), .int (zI chf), .ref y0, .int (zI sd), .ref y1])), (g1, AI G 7 (fun z_ => (kd z_ : Int))), (g2, AI G 7 fg), (g3, AI G 7 hm), (g4, AI G 7 at_), (g5, AI G 7 lg), (c0, AI G 38 (encF n oa dy kd fg hm at_ lg))]) C (z_runV (q := 0) (As := []) (rest := []) C (ct_X4_open (zl X) G m g1 g2 g3 g4 g5 s1 s2 s3 s4 s5 s6 t1 t2 t3 c0 c1 c2 c3 y0 y1 0 rdg plc ibd stm him pl0 itk chd chf sd ki kd fg hm at_ lg n oa dy kc ) (lw_V q1231 q1233 qs28 q61 q1234) rfl rfl (sb_e [0, 1, 2, 3, 4, 5, 6] rfl rfl) (na := 0) (by decide +kernel) rfl (zrm rfl rfl (rfl) (rfl)) rfl (Nat.le_of_ble_eq_true rfl) dX4_ripe_31) (fun u => jn_e (wr := []) [0, 1, 2, 3, 4, 5, 6] [] [0, 1, 2, 3, 4, 5, 6] rfl rfl rfl (by decide) rfl rfl) (fun u hp_31 => ?_)
      refine y_iconst C dX4_ripe_34 ?_
      refine z_istore (lv' := [(4, .int (zI 0)), (3, .int (zI (-4))), (0, .ref m), (1, .int (zI (j : Int))), (2, .int (zI v))]) C dX4_ripe_35 (nlt rfl) rfl ?_
      have L_37 : ∀ (tt : Nat) (i : Nat) (fnd : Int) (mdy : Int), (i ≤ 61) → (FI (ripP kd fg hm at_ lg n oa j v) i fnd) → 61 - i = tt → Z X (cX4_ripe, 5, yX4_ripe.cls, (some .int), { frames := 4, cells := 0, slots := 0, locals := 91 }, A) G 0 0 [(m, .inr (11, [.int (zI (n : Int)), .ref g1, .ref g2, .ref g3, .ref g4, .ref g5, .int (zI oa), .int (zI mdy), .ref s1, .ref s2, .ref s3, .ref s4, .ref s5, .ref s6, .int (zI 0), .int (zI rdg), .int (zI plc), .int (zI ibd), .int (zI stm), .ref t1, .ref t2, .ref t3, .ref c0, .ref c1, .ref c2, .ref c3, .int (zI him), .int (zI 38), .int (zI 1), .ref c0, .int (zI chd), .int (zI chf), .ref y0, .int (zI sd), .ref y1])), (g1, AI G 7 (fun z_ => (kd z_ : Int))), (g2, AI G 7 fg), (g3, AI G 7 hm), (g4, AI G 7 at_), (g5, AI G 7 (goL kd fg hm at_ oa n i lg)), (c0, AI G 38 (encF n oa dy kd fg hm at_ lg))] 37 [(4, .int (zI (i : Int))), (3, .int (zI fnd)), (0, .ref m), (1, .int (zI (j : Int))), (2, .int (zI v))] [] := by
        intro tt
        induction tt using Nat.strongRecOn with
        | _ tt ih_37 =>
          intro i fnd mdy hi hfi ht_37
          have hfb := FI_b hfi
          refine z_iload C dX4_ripe_37 0 rfl ?_
          refine y_bipush C dX4_ripe_39 (by decide) ?_
          refine y_icmp_gt (tgt := 76) C (by omega) (by omega) dX4_ripe_41 (by decide) (fun c_41 => ?_) (fun c_41 => ?_)
          · skip
            refine z_aload_n C dX4_ripe_76 rfl 2 rfl ?_
            refine z_v (ws' := fun u => [(m, .inr (11, [.int (zI (n : Int)), .ref g1, .ref g2, .ref g3, .ref g4, .ref g5, .int (zI oa), .int (zI dy), .ref s1, .ref s2, .ref s3, .ref s4, .ref s5, .ref s6, .int (zI 0), .int (zI rdg), .int (zI plc), .int (zI ibd), .int (zI stm), .ref t1, .ref t2, .ref t3, .ref c0, .ref c1, .ref c2, .ref c3, .int (zI him), .int (zI 38), .int (zI 0), .ref c0, .int (zI chd), .int (zI chf), .ref y0, .int (zI sd), .ref y1])), (g1, AI G 7 (fun z_ => (kd z_ : Int))), (g2, AI G 7 fg), (g3, AI G 7 hm), (g4, AI G 7 at_), (g5, AI G 7 lg), (c0, AI G 38 (encF n oa dy kd fg hm at_ lg))]) C (z_runV (q := 0) (As := []) (rest := []) C (ct_X4_close (zl X) G m g1 g2 g3 g4 g5 s1 s2 s3 s4 s5 s6 t1 t2 t3 c0 c1 c2 c3 y0 y1 0 rdg plc ibd stm him 38 1 chd chf sd (.ref c0) (fun z_ => (kd z_ : Int)) fg hm at_ (goL kd fg hm at_ oa n i lg) n oa mdy kd fg hm at_ lg n oa dy ) (lw_V q1302 q1304 qs43 q61 q1305) rfl rfl (sb_e [0, 1, 2, 3, 4, 5, 6] rfl rfl) (na := 0) (by decide +kernel) rfl (zrm rfl rfl (rfl) (rfl)) rfl (Nat.le_of_ble_eq_true rfl) dX4_ripe_77) (fun u => jn_e (wr := []) [0, 1, 2, 3, 4, 5, 6] [] [0, 1, 2, 3, 4, 5, 6] rfl rfl rfl (by decide) rfl rfl) (fun u hp_77 => ?_)
            refine z_iload_n C dX4_ripe_80 rfl 1 rfl ?_
            exact z_iret C hA hQ rfl (Nat.le_of_ble_eq_true rfl) (Nat.le_of_ble_eq_true rfl) (((.ref c0), 38, 0, (encF n oa dy kd fg hm at_ lg))) (congrArg zI (by unfold oRipe; rw [if_pos (by omega)]; simp only [zTN]; exact (FI_e hfi (by omega) (by omega)).symm)) (sb_e [0, 1, 2, 3, 4, 5, 6] rfl rfl) dX4_ripe_81
          · skip
            refine z_iload_n C dX4_ripe_44 rfl 1 rfl ?_
            refine y_if_ge (tgt := 76) C (by omega) dX4_ripe_45 (by decide) (fun c_45 => ?_) (fun c_45 => ?_)
            · skip
              refine z_aload_n C dX4_ripe_76 rfl 2 rfl ?_
              refine z_v (ws' := fun u => [(m, .inr (11, [.int (zI (n : Int)), .ref g1, .ref g2, .ref g3, .ref g4, .ref g5, .int (zI oa), .int (zI dy), .ref s1, .ref s2, .ref s3, .ref s4, .ref s5, .ref s6, .int (zI 0), .int (zI rdg), .int (zI plc), .int (zI ibd), .int (zI stm), .ref t1, .ref t2, .ref t3, .ref c0, .ref c1, .ref c2, .ref c3, .int (zI him), .int (zI 38), .int (zI 0), .ref c0, .int (zI chd), .int (zI chf), .ref y0, .int (zI sd), .ref y1])), (g1, AI G 7 (fun z_ => (kd z_ : Int))), (g2, AI G 7 fg), (g3, AI G 7 hm), (g4, AI G 7 at_), (g5, AI G 7 lg), (c0, AI G 38 (encF n oa dy kd fg hm at_ lg))]) C (z_runV (q := 0) (As := []) (rest := []) C (ct_X4_close (zl X) G m g1 g2 g3 g4 g5 s1 s2 s3 s4 s5 s6 t1 t2 t3 c0 c1 c2 c3 y0 y1 0 rdg plc ibd stm him 38 1 chd chf sd (.ref c0) (fun z_ => (kd z_ : Int)) fg hm at_ (goL kd fg hm at_ oa n i lg) n oa mdy kd fg hm at_ lg n oa dy ) (lw_V q1302 q1304 qs43 q61 q1305) rfl rfl (sb_e [0, 1, 2, 3, 4, 5, 6] rfl rfl) (na := 0) (by decide +kernel) rfl (zrm rfl rfl (rfl) (rfl)) rfl (Nat.le_of_ble_eq_true rfl) dX4_ripe_77) (fun u => jn_e (wr := []) [0, 1, 2, 3, 4, 5, 6] [] [0, 1, 2, 3, 4, 5, 6] rfl rfl rfl (by decide) rfl rfl) (fun u hp_77 => ?_)
              refine z_iload_n C dX4_ripe_80 rfl 1 rfl ?_
              exact z_iret C hA hQ rfl (Nat.le_of_ble_eq_true rfl) (Nat.le_of_ble_eq_true rfl) (((.ref c0), 38, 0, (encF n oa dy kd fg hm at_ lg))) (congrArg zI (by unfold oRipe; rw [if_pos (by omega)]; simp only [zTN]; exact (FI_e hfi (by omega) (by omega)).symm)) (sb_e [0, 1, 2, 3, 4, 5, 6] rfl rfl) dX4_ripe_81
            · skip
              refine z_aload_n C dX4_ripe_48 rfl 2 rfl ?_
              refine z_iload_n C dX4_ripe_49 rfl 3 rfl ?_
              refine z_i C (z_runV (q := 0) (As := [.int (zI (j : Int))]) (rest := []) C (ct_X4_paceOf (zl X) G m g1 g2 g3 g4 g5 kd fg hm at_ (goL kd fg hm at_ oa n i lg) n oa mdy ([.ref s1, .ref s2, .ref s3, .ref s4, .ref s5, .ref s6, .int (zI 0), .int (zI rdg), .int (zI plc), .int (zI ibd), .int (zI stm), .ref t1, .ref t2, .ref t3, .ref c0, .ref c1, .ref c2, .ref c3, .int (zI him), .int (zI 38), .int (zI 1), .ref c0, .int (zI chd), .int (zI chf), .ref y0, .int (zI sd), .ref y1]) j (hL.go i) (by omega)) (lw_V q1274 q1276 qs37 q61 q1277) rfl rfl (sb_e [0, 1, 2, 3, 4, 5] rfl rfl) (na := 1) (by decide +kernel) rfl (zrm rfl rfl (rfl) (rfl)) rfl (Nat.le_of_ble_eq_true rfl) dX4_ripe_50) (fun u => jn_ro (sb_e [0, 1, 2, 3, 4, 5] rfl rfl)) (fun r_50 u hp_50 => ?_)
              have hp_50 : r_50 = zI (paceZ (kd j) (fg j) ((goL kd fg hm at_ oa n i lg) j)) := hp_50
              subst hp_50
              have hpi := (hL.go i).pace (j := j) (by omega)
              refine z_iload_n C dX4_ripe_53 rfl 4 rfl ?_
              refine y_icmp_lt (tgt := 62) C (by omega) (by omega) dX4_ripe_54 (by decide) (fun c_54 => ?_) (fun c_54 => ?_)
              · skip
                refine y_bipush C dX4_ripe_62 (by decide) ?_
                refine z_istore_n (lv' := [(3, .int (zI (-4))), (4, .int (zI (i : Int))), (0, .ref m), (1, .int (zI (j : Int))), (2, .int (zI v))]) C dX4_ripe_64 rfl (nlt rfl) rfl ?_
                refine z_aload_n C dX4_ripe_65 rfl 2 rfl ?_
                refine y_iconst C dX4_ripe_66 ?_
                refine z_v (ws' := fun u => [(m, .inr (11, [.int (zI (n : Int)), .ref g1, .ref g2, .ref g3, .ref g4, .ref g5, .int (zI oa), .int (zI (mdy + 1)), .ref s1, .ref s2, .ref s3, .ref s4, .ref s5, .ref s6, .int (zI 0), .int (zI rdg), .int (zI plc), .int (zI ibd), .int (zI stm), .ref t1, .ref t2, .ref t3, .ref c0, .ref c1, .ref c2, .ref c3, .int (zI him), .int (zI 38), .int (zI 1), .ref c0, .int (zI chd), .int (zI chf), .ref y0, .int (zI sd), .ref y1])), (g1, AI G 7 (fun z_ => (kd z_ : Int))), (g2, AI G 7 fg), (g3, AI G 7 hm), (g4, AI G 7 at_), (g5, AI G 7 (dayB 0 kd fg hm at_ oa n (goL kd fg hm at_ oa n i lg))), (c0, AI G 38 (encF n oa dy kd fg hm at_ lg))]) C (z_runV (q := 0) (As := [.int (zI 0)]) (rest := []) C (ct_X4_dayBy (zl X) G m g1 g2 g3 g4 g5 kd fg hm at_ (goL kd fg hm at_ oa n i lg) n oa mdy ([.ref s1, .ref s2, .ref s3, .ref s4, .ref s5, .ref s6, .int (zI 0), .int (zI rdg), .int (zI plc), .int (zI ibd), .int (zI stm), .ref t1, .ref t2, .ref t3, .ref c0, .ref c1, .ref c2, .ref c3, .int (zI him), .int (zI 38), .int (zI 1), .ref c0, .int (zI chd), .int (zI chf), .ref y0, .int (zI sd), .ref y1]) 0 (hL.go i) (by omega)) (lw_V q1285 q1287 qs39 q61 q1288) rfl rfl (sb_e [0, 1, 2, 3, 4, 5] rfl rfl) (na := 1) (by decide +kernel) rfl (zrm rfl rfl (rfl) (rfl)) rfl (Nat.le_of_ble_eq_true rfl) dX4_ripe_67) (fun u => jn_e (wr := [(c0, AI G 38 (encF n oa dy kd fg hm at_ lg))]) [0, 1, 2, 3, 4, 5] [6] [1, 2, 3, 4, 5, 6, 0] rfl rfl rfl (by decide) rfl rfl) (fun u hp_67 => ?_)
                rw [show dayB 0 kd fg hm at_ oa n (goL kd fg hm at_ oa n i lg) = goL kd fg hm at_ oa n (i + 1) lg from rfl]
                refine y_iinc (lv' := [(4, .int (zI ((i : Int) + 1))), (3, .int (zI (-4))), (0, .ref m), (1, .int (zI (j : Int))), (2, .int (zI v))]) C dX4_ripe_70 (q := 1) rfl (nlt rfl) rfl ?_
                refine z_goto (tgt := 37) C dX4_ripe_73 (by decide) ?_
                exact ih_37 _ (by omega) (i + 1) (-4) (mdy + 1) (by first | assumption | omega) (by first | exact FI_t hfi (by omega) (by unfold ripP; exact decide_eq_true (by omega)) | exact FI_f hfi (by omega) (by unfold ripP; exact decide_eq_false (by omega))) rfl
              · skip
                refine z_iload C dX4_ripe_57 0 rfl ?_
                refine z_goto (tgt := 64) C dX4_ripe_59 (by decide) ?_
                refine z_istore_n (lv' := [(3, .int (zI (i : Int))), (4, .int (zI (i : Int))), (0, .ref m), (1, .int (zI (j : Int))), (2, .int (zI v))]) C dX4_ripe_64 rfl (nlt rfl) rfl ?_
                refine z_aload_n C dX4_ripe_65 rfl 2 rfl ?_
                refine y_iconst C dX4_ripe_66 ?_
                refine z_v (ws' := fun u => [(m, .inr (11, [.int (zI (n : Int)), .ref g1, .ref g2, .ref g3, .ref g4, .ref g5, .int (zI oa), .int (zI (mdy + 1)), .ref s1, .ref s2, .ref s3, .ref s4, .ref s5, .ref s6, .int (zI 0), .int (zI rdg), .int (zI plc), .int (zI ibd), .int (zI stm), .ref t1, .ref t2, .ref t3, .ref c0, .ref c1, .ref c2, .ref c3, .int (zI him), .int (zI 38), .int (zI 1), .ref c0, .int (zI chd), .int (zI chf), .ref y0, .int (zI sd), .ref y1])), (g1, AI G 7 (fun z_ => (kd z_ : Int))), (g2, AI G 7 fg), (g3, AI G 7 hm), (g4, AI G 7 at_), (g5, AI G 7 (dayB 0 kd fg hm at_ oa n (goL kd fg hm at_ oa n i lg))), (c0, AI G 38 (encF n oa dy kd fg hm at_ lg))]) C (z_runV (q := 0) (As := [.int (zI 0)]) (rest := []) C (ct_X4_dayBy (zl X) G m g1 g2 g3 g4 g5 kd fg hm at_ (goL kd fg hm at_ oa n i lg) n oa mdy ([.ref s1, .ref s2, .ref s3, .ref s4, .ref s5, .ref s6, .int (zI 0), .int (zI rdg), .int (zI plc), .int (zI ibd), .int (zI stm), .ref t1, .ref t2, .ref t3, .ref c0, .ref c1, .ref c2, .ref c3, .int (zI him), .int (zI 38), .int (zI 1), .ref c0, .int (zI chd), .int (zI chf), .ref y0, .int (zI sd), .ref y1]) 0 (hL.go i) (by omega)) (lw_V q1285 q1287 qs39 q61 q1288) rfl rfl (sb_e [0, 1, 2, 3, 4, 5] rfl rfl) (na := 1) (by decide +kernel) rfl (zrm rfl rfl (rfl) (rfl)) rfl (Nat.le_of_ble_eq_true rfl) dX4_ripe_67) (fun u => jn_e (wr := [(c0, AI G 38 (encF n oa dy kd fg hm at_ lg))]) [0, 1, 2, 3, 4, 5] [6] [1, 2, 3, 4, 5, 6, 0] rfl rfl rfl (by decide) rfl rfl) (fun u hp_67 => ?_)
                rw [show dayB 0 kd fg hm at_ oa n (goL kd fg hm at_ oa n i lg) = goL kd fg hm at_ oa n (i + 1) lg from rfl]
                refine y_iinc (lv' := [(4, .int (zI ((i : Int) + 1))), (3, .int (zI (i : Int))), (0, .ref m), (1, .int (zI (j : Int))), (2, .int (zI v))]) C dX4_ripe_70 (q := 1) rfl (nlt rfl) rfl ?_
                refine z_goto (tgt := 37) C dX4_ripe_73 (by decide) ?_
                exact ih_37 _ (by omega) (i + 1) (i : Int) (mdy + 1) (by first | assumption | omega) (by first | exact FI_t hfi (by omega) (by unfold ripP; exact decide_eq_true (by omega)) | exact FI_f hfi (by omega) (by unfold ripP; exact decide_eq_false (by omega))) rfl
      exact L_37 _ 0 (-4) dy (by first | assumption | omega) (FI_0) rfl
    · skip
      refine y_iconst C dX4_ripe_25 ?_
      exact z_iret C hA hQ rfl (Nat.le_of_ble_eq_true rfl) (Nat.le_of_ble_eq_true rfl) ((ki, pl0, itk, kc)) (congrArg zI (by unfold oRipe; (try simp only [zTN]); (repeat (first | rw [if_pos (by omega)] | rw [if_neg (by omega)])); first | done | rfl)) (sb_e [0, 1, 2, 3, 4, 5, 6] rfl rfl) dX4_ripe_26

set_option maxHeartbeats 4000000 in
theorem ct_X4_leastLonging (l : Launch) (G : ZG) (m : Nat) (g1 : Nat) (g2 : Nat) (g3 : Nat) (g4 : Nat) (g5 : Nat) (s1 : Nat) (s2 : Nat) (s3 : Nat) (s4 : Nat) (s5 : Nat) (s6 : Nat) (t1 : Nat) (t2 : Nat) (t3 : Nat) (c0 : Nat) (c1 : Nat) (c2 : Nat) (c3 : Nat) (y0 : Nat) (y1 : Nat) (thr : Int) (rdg : Int) (plc : Int) (ibd : Int) (stm : Int) (him : Int) (pl0 : Int) (itk : Int) (chd : Int) (chf : Int) (sd : Int) (ki : Value) (kd : Nat → Nat) (fg : Nat → Int) (hm : Nat → Int) (at_ : Nat → Int) (lg : Nat → Int) (n : Nat) (oa : Int) (dy : Int) (kc : Nat → Int) (h : Int) (yard : Int) (t : Int) (hL : LK n kd fg hm at_ lg oa) (rh : -2147483648 ≤ h ∧ h ≤ 2147483647) (ryard : -2147483648 ≤ yard ∧ yard ≤ 2147483647) (rt : -2147483648 ≤ t ∧ t ≤ 2147483647) : CT l yX4_leastLonging cX4_leastLonging 6 (some .int) { frames := 6, cells := 0, slots := 0, locals := 141 } G [.ref m, .int (zI h), .int (zI yard), .int (zI t)] [(m, .inr (11, [.int (zI (n : Int)), .ref g1, .ref g2, .ref g3, .ref g4, .ref g5, .int (zI oa), .int (zI dy), .ref s1, .ref s2, .ref s3, .ref s4, .ref s5, .ref s6, .int (zI thr), .int (zI rdg), .int (zI plc), .int (zI ibd), .int (zI stm), .ref t1, .ref t2, .ref t3, .ref c0, .ref c1, .ref c2, .ref c3, .int (zI him), .int (zI pl0), .int (zI itk), ki, .int (zI chd), .int (zI chf), .ref y0, .int (zI sd), .ref y1])), (g1, AI G 7 (fun z_ => (kd z_ : Int))), (g2, AI G 7 fg), (g3, AI G 7 hm), (g4, AI G 7 at_), (g5, AI G 7 lg), (c0, AI G 38 kc)] (Qi G [(m, .inr (11, [.int (zI (n : Int)), .ref g1, .ref g2, .ref g3, .ref g4, .ref g5, .int (zI oa), .int (zI dy), .ref s1, .ref s2, .ref s3, .ref s4, .ref s5, .ref s6, .int (zI thr), .int (zI rdg), .int (zI plc), .int (zI ibd), .int (zI stm), .ref t1, .ref t2, .ref t3, .ref c0, .ref c1, .ref c2, .ref c3, .int (zI him), .int (zI pl0), .int (zI itk), ki, .int (zI chd), .int (zI chf), .ref y0, .int (zI sd), .ref y1])), (g1, AI G 7 (fun z_ => (kd z_ : Int))), (g2, AI G 7 fg), (g3, AI G 7 hm), (g4, AI G 7 at_), (g5, AI G 7 lg), (c0, AI G 38 kc)] (fun (r : Int32) (u : Value × Int × Int × (Nat → Int)) => r = zI (oLeast kd fg hm at_ lg n oa h yard t)) (fun u => [(m, .inr (11, [.int (zI (n : Int)), .ref g1, .ref g2, .ref g3, .ref g4, .ref g5, .int (zI oa), .int (zI dy), .ref s1, .ref s2, .ref s3, .ref s4, .ref s5, .ref s6, .int (zI 0), .int (zI rdg), .int (zI plc), .int (zI ibd), .int (zI stm), .ref t1, .ref t2, .ref t3, .ref c0, .ref c1, .ref c2, .ref c3, .int (zI him), .int (zI u.2.1), .int (zI u.2.2.1), u.1, .int (zI chd), .int (zI chf), .ref y0, .int (zI sd), .ref y1])), (g1, AI G 7 (fun z_ => (kd z_ : Int))), (g2, AI G 7 fg), (g3, AI G 7 hm), (g4, AI G 7 at_), (g5, AI G 7 lg), (c0, AI G 38 u.2.2.2)])) := by
  refine z_met (by decide) (Nat.le_of_ble_eq_true rfl) ?_
  intro X A hl0 hA C hQ hin
  subst hl0
  obtain ⟨hn7, hoa, hLj⟩ := id hL
  show Z X _ G 0 0 _ 0 [(0, .ref m), (1, .int (zI h)), (2, .int (zI yard)), (3, .int (zI t))] []
  refine z_aload_n C dX4_leastLonging_0 rfl 0 rfl ?_
  refine y_iconst C dX4_leastLonging_1 ?_
  refine z_put (q := 0) (kf := 14) (ws' := [(m, .inr (11, [.int (zI (n : Int)), .ref g1, .ref g2, .ref g3, .ref g4, .ref g5, .int (zI oa), .int (zI dy), .ref s1, .ref s2, .ref s3, .ref s4, .ref s5, .ref s6, .int (zI 0), .int (zI rdg), .int (zI plc), .int (zI ibd), .int (zI stm), .ref t1, .ref t2, .ref t3, .ref c0, .ref c1, .ref c2, .ref c3, .int (zI him), .int (zI pl0), .int (zI itk), ki, .int (zI chd), .int (zI chf), .ref y0, .int (zI sd), .ref y1])), (g1, AI G 7 (fun z_ => (kd z_ : Int))), (g2, AI G 7 fg), (g3, AI G 7 hm), (g4, AI G 7 at_), (g5, AI G 7 lg), (c0, AI G 38 kc)]) C rfl rfl in_X4 tyX4_ok nmX4 (by decide) q1101 rfl rfl rfl rfl rfl (nlt rfl) rfl dX4_leastLonging_2 ?_
  refine z_aload_n C dX4_leastLonging_5 rfl 0 rfl ?_
  refine z_iload_n C dX4_leastLonging_6 rfl 1 rfl ?_
  refine z_i C (z_runV (q := 0) (As := [.int (zI h)]) (rest := []) C (ct_X4_isHorse (zl X) G m g1 g2 g3 g4 g5 n oa dy ([.ref s1, .ref s2, .ref s3, .ref s4, .ref s5, .ref s6, .int (zI 0), .int (zI rdg), .int (zI plc), .int (zI ibd), .int (zI stm), .ref t1, .ref t2, .ref t3, .ref c0, .ref c1, .ref c2, .ref c3, .int (zI him), .int (zI pl0), .int (zI itk), ki, .int (zI chd), .int (zI chf), .ref y0, .int (zI sd), .ref y1]) h (by first | assumption | omega) (by first | assumption | omega)) (lw_V q1255 q1257 qs33 q61 q1258) rfl rfl (sb_e [0] rfl rfl) (na := 1) (by decide +kernel) rfl (zrm rfl rfl (rfl) (rfl)) rfl (Nat.le_of_ble_eq_true rfl) dX4_leastLonging_7) (fun u => jn_ro (sb_e [0] rfl rfl)) (fun r_7 u hp_7 => ?_)
  have hp_7 : r_7 = zI (bI (0 ≤ h ∧ h ≤ (n : Int) - 1)) := hp_7
  subst hp_7
  refine y_beq (tgt := 32) C dX4_leastLonging_10 (by decide) (fun c_10 => ?_) (fun c_10 => ?_)
  · skip
    refine y_iconst C dX4_leastLonging_32 ?_
    exact z_iret C hA hQ rfl (Nat.le_of_ble_eq_true rfl) (Nat.le_of_ble_eq_true rfl) ((ki, pl0, itk, kc)) (congrArg zI (by unfold oLeast; (try simp only [zTN]); (repeat (first | rw [if_pos (by omega)] | rw [if_neg (by omega)])); first | done | rfl)) (sb_e [0, 1, 2, 3, 4, 5, 6] rfl rfl) dX4_leastLonging_33
  · skip
    refine z_iload_n C dX4_leastLonging_13 rfl 2 rfl ?_
    refine z_i C (z_runS (As := [.int (zI yard)]) (rest := []) C (ct_X4_isYard (zl X) G yard (by first | assumption | omega)) (lw_S q1251 q1252 q61 q1253) (sb_e [] rfl rfl) (na := 1) (by decide +kernel) rfl (zrm rfl rfl (rfl) (rfl)) rfl (Nat.le_of_ble_eq_true rfl) dX4_leastLonging_14) (fun u => jn_ro (sb_e [] rfl rfl)) (fun r_14 u hp_14 => ?_)
    have hp_14 : r_14 = zI (bI (0 ≤ yard ∧ yard ≤ 20)) := hp_14
    subst hp_14
    refine y_beq (tgt := 32) C dX4_leastLonging_17 (by decide) (fun c_17 => ?_) (fun c_17 => ?_)
    · skip
      refine y_iconst C dX4_leastLonging_32 ?_
      exact z_iret C hA hQ rfl (Nat.le_of_ble_eq_true rfl) (Nat.le_of_ble_eq_true rfl) ((ki, pl0, itk, kc)) (congrArg zI (by unfold oLeast; (try simp only [zTN]); (repeat (first | rw [if_pos (by omega)] | rw [if_neg (by omega)])); first | done | rfl)) (sb_e [0, 1, 2, 3, 4, 5, 6] rfl rfl) dX4_leastLonging_33
    · skip
      refine z_iload_n C dX4_leastLonging_20 rfl 3 rfl ?_
      refine y_i2l C (by omega) dX4_leastLonging_21 ?_
      refine z_lconst (v := zL 0) C dX4_leastLonging_22 (by decide) ?_
      refine z_ldc2 C q1254 dX4_leastLonging_23 ?_
      refine z_eql (y := zL 20) (by decide) ?_
      refine z_i C (z_runS (As := [.long (zL t), .long (zL 0), .long (zL 20)]) (rest := []) C (ct_X4_in (zl X) G t 0 20 (by first | assumption | omega) (by first | assumption | omega) (by first | assumption | omega)) (lw_S q1207 q1208 q61 q1209) (sb_e [] rfl rfl) (na := 3) (by decide +kernel) rfl (zrm rfl rfl (rfl) (rfl)) rfl (Nat.le_of_ble_eq_true rfl) dX4_leastLonging_26) (fun u => jn_ro (sb_e [] rfl rfl)) (fun r_26 u hp_26 => ?_)
      have hp_26 : r_26 = zI (bI (0 ≤ t ∧ t ≤ 20)) := hp_26
      subst hp_26
      refine y_bne (tgt := 34) C dX4_leastLonging_29 (by decide) (fun c_29 => ?_) (fun c_29 => ?_)
      · skip
        obtain ⟨j, rfl⟩ := Int.eq_ofNat_of_zero_le (show 0 ≤ h by omega)
        refine y_bipush C dX4_leastLonging_34 (by decide) ?_
        refine z_istore (lv' := [(4, .int (zI (-4))), (0, .ref m), (1, .int (zI (j : Int))), (2, .int (zI yard)), (3, .int (zI t))]) C dX4_leastLonging_36 (nlt rfl) rfl ?_
        refine z_aload_n C dX4_leastLonging_38 rfl 1 rfl ?_
        refine z_v (ws' := fun u => [(m, .inr (11, [.int (zI (n : Int)), .ref g1, .ref g2, .ref g3, .ref g4, .ref g5, .int (zI oa), .int (zI dy), .ref s1, .ref s2, .ref s3, .ref s4, .ref s5, .ref s6, .int (zI 0), .int (zI rdg), .int (zI plc), .int (zI ibd), .int (zI stm), .ref t1, .ref t2, .ref t3, .ref c0, .ref c1, .ref c2, .ref c3, .int (zI him), .int (zI 38), .int (zI 1), .ref c0, .int (zI chd), .int (zI chf), .ref y0, .int (zI sd), .ref y1])), (g1, AI G 7 (fun z_ => (kd z_ : Int))), (g2, AI G 7 fg), (g3, AI G 7 hm), (g4, AI G 7 at_), (g5, AI G 7 lg), (c0, AI G 38 (encF n oa dy kd fg hm at_ lg))]) C (z_runV (q := 0) (As := []) (rest := []) C (ct_X4_open (zl X) G m g1 g2 g3 g4 g5 s1 s2 s3 s4 s5 s6 t1 t2 t3 c0 c1 c2 c3 y0 y1 0 rdg plc ibd stm him pl0 itk chd chf sd ki kd fg hm at_ lg n oa dy kc ) (lw_V q1231 q1233 qs28 q61 q1234) rfl rfl (sb_e [0, 1, 2, 3, 4, 5, 6] rfl rfl) (na := 0) (by decide +kernel) rfl (zrm rfl rfl (rfl) (rfl)) rfl (Nat.le_of_ble_eq_true rfl) dX4_leastLonging_39) (fun u => jn_e (wr := []) [0, 1, 2, 3, 4, 5, 6] [] [0, 1, 2, 3, 4, 5, 6] rfl rfl rfl (by decide) rfl rfl) (fun u hp_39 => ?_)
        refine y_iconst C dX4_leastLonging_42 ?_
        refine z_istore (lv' := [(5, .int (zI 0)), (4, .int (zI (-4))), (0, .ref m), (1, .int (zI (j : Int))), (2, .int (zI yard)), (3, .int (zI t))]) C dX4_leastLonging_43 (nlt rfl) rfl ?_
        have L_45 : ∀ (tt : Nat) (i : Nat) (fnd : Int) (itb : Int), (i ≤ 100) → (FI (lsP kd fg hm at_ lg n oa j yard t) i fnd) → 100 - i = tt → Z X (cX4_leastLonging, 6, yX4_leastLonging.cls, (some .int), { frames := 6, cells := 0, slots := 0, locals := 141 }, A) G 0 0 [(m, .inr (11, [.int (zI (n : Int)), .ref g1, .ref g2, .ref g3, .ref g4, .ref g5, .int (zI oa), .int (zI dy), .ref s1, .ref s2, .ref s3, .ref s4, .ref s5, .ref s6, .int (zI 0), .int (zI rdg), .int (zI plc), .int (zI ibd), .int (zI stm), .ref t1, .ref t2, .ref t3, .ref c0, .ref c1, .ref c2, .ref c3, .int (zI him), .int (zI 38), .int (zI itb), .ref c0, .int (zI chd), .int (zI chf), .ref y0, .int (zI sd), .ref y1])), (g1, AI G 7 (fun z_ => (kd z_ : Int))), (g2, AI G 7 fg), (g3, AI G 7 hm), (g4, AI G 7 at_), (g5, AI G 7 lg), (c0, AI G 38 (encF n oa dy kd fg hm at_ lg))] 45 [(5, .int (zI (i : Int))), (4, .int (zI fnd)), (0, .ref m), (1, .int (zI (j : Int))), (2, .int (zI yard)), (3, .int (zI t))] [] := by
          intro tt
          induction tt using Nat.strongRecOn with
          | _ tt ih_45 =>
            intro i fnd itb hi hfi ht_45
            have hfb := FI_b hfi
            refine z_iload C dX4_leastLonging_45 0 rfl ?_
            refine y_bipush C dX4_leastLonging_47 (by decide) ?_
            refine y_icmp_gt (tgt := 94) C (by omega) (by omega) dX4_leastLonging_49 (by decide) (fun c_49 => ?_) (fun c_49 => ?_)
            · skip
              refine z_iload C dX4_leastLonging_94 1 rfl ?_
              exact z_iret C hA hQ rfl (Nat.le_of_ble_eq_true rfl) (Nat.le_of_ble_eq_true rfl) (((.ref c0), 38, itb, (encF n oa dy kd fg hm at_ lg))) (congrArg zI (by unfold oLeast; rw [if_pos (by omega)]; simp only [zTN]; exact (FI_e hfi (by omega) (by omega)).symm)) (sb_e [0, 1, 2, 3, 4, 5, 6] rfl rfl) dX4_leastLonging_96
            · skip
              refine z_iload C dX4_leastLonging_52 1 rfl ?_
              refine y_if_ge (tgt := 94) C (by omega) dX4_leastLonging_54 (by decide) (fun c_54 => ?_) (fun c_54 => ?_)
              · skip
                refine z_iload C dX4_leastLonging_94 1 rfl ?_
                exact z_iret C hA hQ rfl (Nat.le_of_ble_eq_true rfl) (Nat.le_of_ble_eq_true rfl) (((.ref c0), 38, itb, (encF n oa dy kd fg hm at_ lg))) (congrArg zI (by unfold oLeast; rw [if_pos (by omega)]; simp only [zTN]; exact (FI_e hfi (by omega) (by omega)).symm)) (sb_e [0, 1, 2, 3, 4, 5, 6] rfl rfl) dX4_leastLonging_96
              · skip
                refine z_aload_n C dX4_leastLonging_57 rfl 2 rfl ?_
                refine z_get (q := 0) (kf := 5) (v := .ref g5) C rfl rfl in_X4 (by decide) q1092 (Or.inl rfl) rfl dX4_leastLonging_58 ?_
                refine z_iload_n C dX4_leastLonging_61 rfl 3 rfl ?_
                refine z_iload C dX4_leastLonging_62 0 rfl ?_
                refine y_iast (q := 5) (t0 := 0) (g := va_up lg j (i : Int)) (ws' := [(m, .inr (11, [.int (zI (n : Int)), .ref g1, .ref g2, .ref g3, .ref g4, .ref g5, .int (zI oa), .int (zI dy), .ref s1, .ref s2, .ref s3, .ref s4, .ref s5, .ref s6, .int (zI 0), .int (zI rdg), .int (zI plc), .int (zI ibd), .int (zI stm), .ref t1, .ref t2, .ref t3, .ref c0, .ref c1, .ref c2, .ref c3, .int (zI him), .int (zI 38), .int (zI itb), .ref c0, .int (zI chd), .int (zI chf), .ref y0, .int (zI sd), .ref y1])), (g1, AI G 7 (fun z_ => (kd z_ : Int))), (g2, AI G 7 fg), (g3, AI G 7 hm), (g4, AI G 7 at_), (g5, AI G 7 (va_up lg j (i : Int))), (c0, AI G 38 (encF n oa dy kd fg hm at_ lg))]) C rfl rfl (by omega) (by decide) rfl rfl dX4_leastLonging_64 ?_
                refine z_aload_n C dX4_leastLonging_65 rfl 2 rfl ?_
                refine z_iload_n C dX4_leastLonging_66 rfl 3 rfl ?_
                refine z_iload_n C dX4_leastLonging_67 rfl 4 rfl ?_
                refine z_i (ws' := fun u => [(m, .inr (11, [.int (zI (n : Int)), .ref g1, .ref g2, .ref g3, .ref g4, .ref g5, .int (zI oa), .int (zI (dy + ((rdN kd fg hm oa n j yard at_ (va_up lg j (i : Int))) : Int))), .ref s1, .ref s2, .ref s3, .ref s4, .ref s5, .ref s6, .int (zI 0), .int (zI rdg), .int (zI plc), .int (zI ibd), .int (zI stm), .ref t1, .ref t2, .ref t3, .ref c0, .ref c1, .ref c2, .ref c3, .int (zI him), .int (zI 38), .int (zI itb), .ref c0, .int (zI chd), .int (zI chf), .ref y0, .int (zI sd), .ref y1])), (g1, AI G 7 (fun z_ => (kd z_ : Int))), (g2, AI G 7 fg), (g3, AI G 7 hm), (g4, AI G 7 (rdA kd fg hm oa n j yard at_ (va_up lg j (i : Int)))), (g5, AI G 7 (rdL kd fg hm oa n j yard at_ (va_up lg j (i : Int)))), (c0, AI G 38 (encF n oa dy kd fg hm at_ lg))]) C (z_runV (q := 0) (As := [.int (zI (j : Int)), .int (zI yard)]) (rest := []) C (ct_X4_ride (zl X) G m g1 g2 g3 g4 g5 kd fg hm at_ (va_up lg j (i : Int)) n oa dy ([.ref s1, .ref s2, .ref s3, .ref s4, .ref s5, .ref s6, .int (zI 0), .int (zI rdg), .int (zI plc), .int (zI ibd), .int (zI stm), .ref t1, .ref t2, .ref t3, .ref c0, .ref c1, .ref c2, .ref c3, .int (zI him), .int (zI 38), .int (zI itb), .ref c0, .int (zI chd), .int (zI chf), .ref y0, .int (zI sd), .ref y1]) j yard (hL.lg (by omega)) (by omega) (by first | assumption | omega)) (lw_V q1259 q1261 qs34 q61 q1262) rfl rfl (sb_e [0, 1, 2, 3, 4, 5] rfl rfl) (na := 2) (by decide +kernel) rfl (zrm rfl rfl (rfl) (rfl)) rfl (Nat.le_of_ble_eq_true rfl) dX4_leastLonging_68) (fun u => jn_e (wr := [(c0, AI G 38 (encF n oa dy kd fg hm at_ lg))]) [0, 1, 2, 3, 4, 5] [6] [1, 2, 3, 4, 5, 6, 0] rfl rfl rfl (by decide) rfl rfl) (fun r_68 u hp_68 => ?_)
                have hp_68 : r_68 = zI ((rdN kd fg hm oa n j yard at_ (va_up lg j (i : Int))) : Int) := hp_68
                subst hp_68
                have hr20 := rdN_le kd fg hm oa n j yard at_ (va_up lg j (i : Int))
                refine z_iload_n C dX4_leastLonging_71 rfl 5 rfl ?_
                refine y_icmp_gt (tgt := 80) C (by omega) (by omega) dX4_leastLonging_72 (by decide) (fun c_72 => ?_) (fun c_72 => ?_)
                · skip
                  refine y_bipush C dX4_leastLonging_80 (by decide) ?_
                  refine z_istore (lv' := [(4, .int (zI (-4))), (5, .int (zI (i : Int))), (0, .ref m), (1, .int (zI (j : Int))), (2, .int (zI yard)), (3, .int (zI t))]) C dX4_leastLonging_82 (nlt rfl) rfl ?_
                  refine z_aload_n C dX4_leastLonging_84 rfl 2 rfl ?_
                  refine z_v (ws' := fun u => [(m, .inr (11, [.int (zI (n : Int)), .ref g1, .ref g2, .ref g3, .ref g4, .ref g5, .int (zI oa), .int (zI dy), .ref s1, .ref s2, .ref s3, .ref s4, .ref s5, .ref s6, .int (zI 0), .int (zI rdg), .int (zI plc), .int (zI ibd), .int (zI stm), .ref t1, .ref t2, .ref t3, .ref c0, .ref c1, .ref c2, .ref c3, .int (zI him), .int (zI 38), .int (zI 0), .ref c0, .int (zI chd), .int (zI chf), .ref y0, .int (zI sd), .ref y1])), (g1, AI G 7 (fun z_ => (kd z_ : Int))), (g2, AI G 7 fg), (g3, AI G 7 hm), (g4, AI G 7 at_), (g5, AI G 7 lg), (c0, AI G 38 (encF n oa dy kd fg hm at_ lg))]) C (z_runV (q := 0) (As := []) (rest := []) C (ct_X4_close (zl X) G m g1 g2 g3 g4 g5 s1 s2 s3 s4 s5 s6 t1 t2 t3 c0 c1 c2 c3 y0 y1 0 rdg plc ibd stm him 38 itb chd chf sd (.ref c0) (fun z_ => (kd z_ : Int)) fg hm (rdA kd fg hm oa n j yard at_ (va_up lg j (i : Int))) (rdL kd fg hm oa n j yard at_ (va_up lg j (i : Int))) n oa (dy + ((rdN kd fg hm oa n j yard at_ (va_up lg j (i : Int))) : Int)) kd fg hm at_ lg n oa dy ) (lw_V q1302 q1304 qs43 q61 q1305) rfl rfl (sb_e [0, 1, 2, 3, 4, 5, 6] rfl rfl) (na := 0) (by decide +kernel) rfl (zrm rfl rfl (rfl) (rfl)) rfl (Nat.le_of_ble_eq_true rfl) dX4_leastLonging_85) (fun u => jn_e (wr := []) [0, 1, 2, 3, 4, 5, 6] [] [0, 1, 2, 3, 4, 5, 6] rfl rfl rfl (by decide) rfl rfl) (fun u hp_85 => ?_)
                  refine y_iinc (lv' := [(5, .int (zI ((i : Int) + 1))), (4, .int (zI (-4))), (0, .ref m), (1, .int (zI (j : Int))), (2, .int (zI yard)), (3, .int (zI t))]) C dX4_leastLonging_88 (q := 1) rfl (nlt rfl) rfl ?_
                  refine z_goto (tgt := 45) C dX4_leastLonging_91 (by decide) ?_
                  exact ih_45 _ (by omega) (i + 1) (-4) 0 (by first | assumption | omega) (by first | exact FI_t hfi (by omega) (by unfold lsP; exact decide_eq_true (by omega)) | exact FI_f hfi (by omega) (by unfold lsP; exact decide_eq_false (by omega))) rfl
                · skip
                  refine z_iload C dX4_leastLonging_75 0 rfl ?_
                  refine z_goto (tgt := 82) C dX4_leastLonging_77 (by decide) ?_
                  refine z_istore (lv' := [(4, .int (zI (i : Int))), (5, .int (zI (i : Int))), (0, .ref m), (1, .int (zI (j : Int))), (2, .int (zI yard)), (3, .int (zI t))]) C dX4_leastLonging_82 (nlt rfl) rfl ?_
                  refine z_aload_n C dX4_leastLonging_84 rfl 2 rfl ?_
                  refine z_v (ws' := fun u => [(m, .inr (11, [.int (zI (n : Int)), .ref g1, .ref g2, .ref g3, .ref g4, .ref g5, .int (zI oa), .int (zI dy), .ref s1, .ref s2, .ref s3, .ref s4, .ref s5, .ref s6, .int (zI 0), .int (zI rdg), .int (zI plc), .int (zI ibd), .int (zI stm), .ref t1, .ref t2, .ref t3, .ref c0, .ref c1, .ref c2, .ref c3, .int (zI him), .int (zI 38), .int (zI 0), .ref c0, .int (zI chd), .int (zI chf), .ref y0, .int (zI sd), .ref y1])), (g1, AI G 7 (fun z_ => (kd z_ : Int))), (g2, AI G 7 fg), (g3, AI G 7 hm), (g4, AI G 7 at_), (g5, AI G 7 lg), (c0, AI G 38 (encF n oa dy kd fg hm at_ lg))]) C (z_runV (q := 0) (As := []) (rest := []) C (ct_X4_close (zl X) G m g1 g2 g3 g4 g5 s1 s2 s3 s4 s5 s6 t1 t2 t3 c0 c1 c2 c3 y0 y1 0 rdg plc ibd stm him 38 itb chd chf sd (.ref c0) (fun z_ => (kd z_ : Int)) fg hm (rdA kd fg hm oa n j yard at_ (va_up lg j (i : Int))) (rdL kd fg hm oa n j yard at_ (va_up lg j (i : Int))) n oa (dy + ((rdN kd fg hm oa n j yard at_ (va_up lg j (i : Int))) : Int)) kd fg hm at_ lg n oa dy ) (lw_V q1302 q1304 qs43 q61 q1305) rfl rfl (sb_e [0, 1, 2, 3, 4, 5, 6] rfl rfl) (na := 0) (by decide +kernel) rfl (zrm rfl rfl (rfl) (rfl)) rfl (Nat.le_of_ble_eq_true rfl) dX4_leastLonging_85) (fun u => jn_e (wr := []) [0, 1, 2, 3, 4, 5, 6] [] [0, 1, 2, 3, 4, 5, 6] rfl rfl rfl (by decide) rfl rfl) (fun u hp_85 => ?_)
                  refine y_iinc (lv' := [(5, .int (zI ((i : Int) + 1))), (4, .int (zI (i : Int))), (0, .ref m), (1, .int (zI (j : Int))), (2, .int (zI yard)), (3, .int (zI t))]) C dX4_leastLonging_88 (q := 1) rfl (nlt rfl) rfl ?_
                  refine z_goto (tgt := 45) C dX4_leastLonging_91 (by decide) ?_
                  exact ih_45 _ (by omega) (i + 1) (i : Int) 0 (by first | assumption | omega) (by first | exact FI_t hfi (by omega) (by unfold lsP; exact decide_eq_true (by omega)) | exact FI_f hfi (by omega) (by unfold lsP; exact decide_eq_false (by omega))) rfl
        exact L_45 _ 0 (-4) 1 (by first | assumption | omega) (FI_0) rfl
      · skip
        refine y_iconst C dX4_leastLonging_32 ?_
        exact z_iret C hA hQ rfl (Nat.le_of_ble_eq_true rfl) (Nat.le_of_ble_eq_true rfl) ((ki, pl0, itk, kc)) (congrArg zI (by unfold oLeast; (try simp only [zTN]); (repeat (first | rw [if_pos (by omega)] | rw [if_neg (by omega)])); first | done | rfl)) (sb_e [0, 1, 2, 3, 4, 5, 6] rfl rfl) dX4_leastLonging_33

theorem soonF_r {kd : Nat → Nat} {fg hm at_ lg : Nat → Int} {n : Nat} {oa : Int} {j : Nat} {yard : Int} (w : Nat) : 0 ≤ soonF kd fg hm at_ lg n oa j yard w ∧ soonF kd fg hm at_ lg n oa j yard w ≤ (w : Int) + 20 := by
  have := tkB_r kd fg hm at_ lg n oa yard w j
  unfold soonF; omega
set_option maxHeartbeats 4000000 in
theorem ct_X4_soonest (l : Launch) (G : ZG) (m : Nat) (g1 : Nat) (g2 : Nat) (g3 : Nat) (g4 : Nat) (g5 : Nat) (s1 : Nat) (s2 : Nat) (s3 : Nat) (s4 : Nat) (s5 : Nat) (s6 : Nat) (t1 : Nat) (t2 : Nat) (t3 : Nat) (c0 : Nat) (c1 : Nat) (c2 : Nat) (c3 : Nat) (y0 : Nat) (y1 : Nat) (thr : Int) (rdg : Int) (plc : Int) (ibd : Int) (stm : Int) (him : Int) (pl0 : Int) (itk : Int) (chd : Int) (chf : Int) (sd : Int) (ki : Value) (kd : Nat → Nat) (fg : Nat → Int) (hm : Nat → Int) (at_ : Nat → Int) (lg : Nat → Int) (n : Nat) (oa : Int) (dy : Int) (kc : Nat → Int) (h : Int) (yard : Int) (what : Int) (hL : LK n kd fg hm at_ lg oa) (rh : -2147483648 ≤ h ∧ h ≤ 2147483647) (ryard : -2147483648 ≤ yard ∧ yard ≤ 2147483647) (rwhat : -2147483648 ≤ what ∧ what ≤ 2147483647) : CT l yX4_soonest cX4_soonest 8 (some .int) { frames := 6, cells := 0, slots := 0, locals := 141 } G [.ref m, .int (zI h), .int (zI yard), .int (zI what)] [(m, .inr (11, [.int (zI (n : Int)), .ref g1, .ref g2, .ref g3, .ref g4, .ref g5, .int (zI oa), .int (zI dy), .ref s1, .ref s2, .ref s3, .ref s4, .ref s5, .ref s6, .int (zI thr), .int (zI rdg), .int (zI plc), .int (zI ibd), .int (zI stm), .ref t1, .ref t2, .ref t3, .ref c0, .ref c1, .ref c2, .ref c3, .int (zI him), .int (zI pl0), .int (zI itk), ki, .int (zI chd), .int (zI chf), .ref y0, .int (zI sd), .ref y1])), (g1, AI G 7 (fun z_ => (kd z_ : Int))), (g2, AI G 7 fg), (g3, AI G 7 hm), (g4, AI G 7 at_), (g5, AI G 7 lg), (c0, AI G 38 kc)] (Qi G [(m, .inr (11, [.int (zI (n : Int)), .ref g1, .ref g2, .ref g3, .ref g4, .ref g5, .int (zI oa), .int (zI dy), .ref s1, .ref s2, .ref s3, .ref s4, .ref s5, .ref s6, .int (zI thr), .int (zI rdg), .int (zI plc), .int (zI ibd), .int (zI stm), .ref t1, .ref t2, .ref t3, .ref c0, .ref c1, .ref c2, .ref c3, .int (zI him), .int (zI pl0), .int (zI itk), ki, .int (zI chd), .int (zI chf), .ref y0, .int (zI sd), .ref y1])), (g1, AI G 7 (fun z_ => (kd z_ : Int))), (g2, AI G 7 fg), (g3, AI G 7 hm), (g4, AI G 7 at_), (g5, AI G 7 lg), (c0, AI G 38 kc)] (fun (r : Int32) (u : Value × Int × Int × (Nat → Int)) => r = zI (oSoonest kd fg hm at_ lg n oa h yard what)) (fun u => [(m, .inr (11, [.int (zI (n : Int)), .ref g1, .ref g2, .ref g3, .ref g4, .ref g5, .int (zI oa), .int (zI dy), .ref s1, .ref s2, .ref s3, .ref s4, .ref s5, .ref s6, .int (zI 0), .int (zI rdg), .int (zI plc), .int (zI ibd), .int (zI stm), .ref t1, .ref t2, .ref t3, .ref c0, .ref c1, .ref c2, .ref c3, .int (zI him), .int (zI u.2.1), .int (zI u.2.2.1), u.1, .int (zI chd), .int (zI chf), .ref y0, .int (zI sd), .ref y1])), (g1, AI G 7 (fun z_ => (kd z_ : Int))), (g2, AI G 7 fg), (g3, AI G 7 hm), (g4, AI G 7 at_), (g5, AI G 7 lg), (c0, AI G 38 u.2.2.2)])) := by
  refine z_met (by decide) (Nat.le_of_ble_eq_true rfl) ?_
  intro X A hl0 hA C hQ hin
  subst hl0
  obtain ⟨hn7, hoa, hLj⟩ := id hL
  show Z X _ G 0 0 _ 0 [(0, .ref m), (1, .int (zI h)), (2, .int (zI yard)), (3, .int (zI what))] []
  refine z_aload_n C dX4_soonest_0 rfl 0 rfl ?_
  refine y_iconst C dX4_soonest_1 ?_
  refine z_put (q := 0) (kf := 14) (ws' := [(m, .inr (11, [.int (zI (n : Int)), .ref g1, .ref g2, .ref g3, .ref g4, .ref g5, .int (zI oa), .int (zI dy), .ref s1, .ref s2, .ref s3, .ref s4, .ref s5, .ref s6, .int (zI 0), .int (zI rdg), .int (zI plc), .int (zI ibd), .int (zI stm), .ref t1, .ref t2, .ref t3, .ref c0, .ref c1, .ref c2, .ref c3, .int (zI him), .int (zI pl0), .int (zI itk), ki, .int (zI chd), .int (zI chf), .ref y0, .int (zI sd), .ref y1])), (g1, AI G 7 (fun z_ => (kd z_ : Int))), (g2, AI G 7 fg), (g3, AI G 7 hm), (g4, AI G 7 at_), (g5, AI G 7 lg), (c0, AI G 38 kc)]) C rfl rfl in_X4 tyX4_ok nmX4 (by decide) q1101 rfl rfl rfl rfl rfl (nlt rfl) rfl dX4_soonest_2 ?_
  refine z_aload_n C dX4_soonest_5 rfl 0 rfl ?_
  refine z_iload_n C dX4_soonest_6 rfl 1 rfl ?_
  refine z_i C (z_runV (q := 0) (As := [.int (zI h)]) (rest := []) C (ct_X4_isHorse (zl X) G m g1 g2 g3 g4 g5 n oa dy ([.ref s1, .ref s2, .ref s3, .ref s4, .ref s5, .ref s6, .int (zI 0), .int (zI rdg), .int (zI plc), .int (zI ibd), .int (zI stm), .ref t1, .ref t2, .ref t3, .ref c0, .ref c1, .ref c2, .ref c3, .int (zI him), .int (zI pl0), .int (zI itk), ki, .int (zI chd), .int (zI chf), .ref y0, .int (zI sd), .ref y1]) h (by first | assumption | omega) (by first | assumption | omega)) (lw_V q1255 q1257 qs33 q61 q1258) rfl rfl (sb_e [0] rfl rfl) (na := 1) (by decide +kernel) rfl (zrm rfl rfl (rfl) (rfl)) rfl (Nat.le_of_ble_eq_true rfl) dX4_soonest_7) (fun u => jn_ro (sb_e [0] rfl rfl)) (fun r_7 u hp_7 => ?_)
  have hp_7 : r_7 = zI (bI (0 ≤ h ∧ h ≤ (n : Int) - 1)) := hp_7
  subst hp_7
  refine y_beq (tgt := 30) C dX4_soonest_10 (by decide) (fun c_10 => ?_) (fun c_10 => ?_)
  · skip
    refine y_iconst C dX4_soonest_30 ?_
    exact z_iret C hA hQ rfl (Nat.le_of_ble_eq_true rfl) (Nat.le_of_ble_eq_true rfl) ((ki, pl0, itk, kc)) (congrArg zI (by unfold oSoonest; (try simp only [zTN]); (repeat (first | rw [if_pos (by omega)] | rw [if_neg (by omega)])); first | done | rfl)) (sb_e [0, 1, 2, 3, 4, 5, 6] rfl rfl) dX4_soonest_31
  · skip
    refine z_iload_n C dX4_soonest_13 rfl 2 rfl ?_
    refine z_i C (z_runS (As := [.int (zI yard)]) (rest := []) C (ct_X4_isYard (zl X) G yard (by first | assumption | omega)) (lw_S q1251 q1252 q61 q1253) (sb_e [] rfl rfl) (na := 1) (by decide +kernel) rfl (zrm rfl rfl (rfl) (rfl)) rfl (Nat.le_of_ble_eq_true rfl) dX4_soonest_14) (fun u => jn_ro (sb_e [] rfl rfl)) (fun r_14 u hp_14 => ?_)
    have hp_14 : r_14 = zI (bI (0 ≤ yard ∧ yard ≤ 20)) := hp_14
    subst hp_14
    refine y_beq (tgt := 30) C dX4_soonest_17 (by decide) (fun c_17 => ?_) (fun c_17 => ?_)
    · skip
      refine y_iconst C dX4_soonest_30 ?_
      exact z_iret C hA hQ rfl (Nat.le_of_ble_eq_true rfl) (Nat.le_of_ble_eq_true rfl) ((ki, pl0, itk, kc)) (congrArg zI (by unfold oSoonest; (try simp only [zTN]); (repeat (first | rw [if_pos (by omega)] | rw [if_neg (by omega)])); first | done | rfl)) (sb_e [0, 1, 2, 3, 4, 5, 6] rfl rfl) dX4_soonest_31
    · skip
      refine z_iload_n C dX4_soonest_20 rfl 3 rfl ?_
      refine y_i2l C (by omega) dX4_soonest_21 ?_
      refine z_lconst (v := zL 0) C dX4_soonest_22 (by decide) ?_
      refine z_lconst (v := zL 1) C dX4_soonest_23 (by decide) ?_
      refine z_i C (z_runS (As := [.long (zL what), .long (zL 0), .long (zL 1)]) (rest := []) C (ct_X4_in (zl X) G what 0 1 (by first | assumption | omega) (by first | assumption | omega) (by first | assumption | omega)) (lw_S q1207 q1208 q61 q1209) (sb_e [] rfl rfl) (na := 3) (by decide +kernel) rfl (zrm rfl rfl (rfl) (rfl)) rfl (Nat.le_of_ble_eq_true rfl) dX4_soonest_24) (fun u => jn_ro (sb_e [] rfl rfl)) (fun r_24 u hp_24 => ?_)
      have hp_24 : r_24 = zI (bI (0 ≤ what ∧ what ≤ 1)) := hp_24
      subst hp_24
      refine y_bne (tgt := 32) C dX4_soonest_27 (by decide) (fun c_27 => ?_) (fun c_27 => ?_)
      · skip
        obtain ⟨j, rfl⟩ := Int.eq_ofNat_of_zero_le (show 0 ≤ h by omega)
        refine y_iconst C dX4_soonest_32 ?_
        refine z_istore (lv' := [(4, .int (zI 0)), (0, .ref m), (1, .int (zI (j : Int))), (2, .int (zI yard)), (3, .int (zI what))]) C dX4_soonest_33 (nlt rfl) rfl ?_
        refine y_iconst C dX4_soonest_35 ?_
        refine z_istore (lv' := [(5, .int (zI (-1))), (4, .int (zI 0)), (0, .ref m), (1, .int (zI (j : Int))), (2, .int (zI yard)), (3, .int (zI what))]) C dX4_soonest_36 (nlt rfl) rfl ?_
        refine z_aload_n C dX4_soonest_38 rfl 2 rfl ?_
        refine z_v (ws' := fun u => [(m, .inr (11, [.int (zI (n : Int)), .ref g1, .ref g2, .ref g3, .ref g4, .ref g5, .int (zI oa), .int (zI dy), .ref s1, .ref s2, .ref s3, .ref s4, .ref s5, .ref s6, .int (zI 0), .int (zI rdg), .int (zI plc), .int (zI ibd), .int (zI stm), .ref t1, .ref t2, .ref t3, .ref c0, .ref c1, .ref c2, .ref c3, .int (zI him), .int (zI 38), .int (zI 1), .ref c0, .int (zI chd), .int (zI chf), .ref y0, .int (zI sd), .ref y1])), (g1, AI G 7 (fun z_ => (kd z_ : Int))), (g2, AI G 7 fg), (g3, AI G 7 hm), (g4, AI G 7 at_), (g5, AI G 7 lg), (c0, AI G 38 (encF n oa dy kd fg hm at_ lg))]) C (z_runV (q := 0) (As := []) (rest := []) C (ct_X4_open (zl X) G m g1 g2 g3 g4 g5 s1 s2 s3 s4 s5 s6 t1 t2 t3 c0 c1 c2 c3 y0 y1 0 rdg plc ibd stm him pl0 itk chd chf sd ki kd fg hm at_ lg n oa dy kc ) (lw_V q1231 q1233 qs28 q61 q1234) rfl rfl (sb_e [0, 1, 2, 3, 4, 5, 6] rfl rfl) (na := 0) (by decide +kernel) rfl (zrm rfl rfl (rfl) (rfl)) rfl (Nat.le_of_ble_eq_true rfl) dX4_soonest_39) (fun u => jn_e (wr := []) [0, 1, 2, 3, 4, 5, 6] [] [0, 1, 2, 3, 4, 5, 6] rfl rfl rfl (by decide) rfl rfl) (fun u hp_39 => ?_)
        refine y_iconst C dX4_soonest_42 ?_
        refine z_istore (lv' := [(6, .int (zI 0)), (5, .int (zI (-1))), (4, .int (zI 0)), (0, .ref m), (1, .int (zI (j : Int))), (2, .int (zI yard)), (3, .int (zI what))]) C dX4_soonest_43 (nlt rfl) rfl ?_
        have L_45 : ∀ (tt : Nat) (i : Nat) (bst : Int) (lst : Int) (itb : Int), (i ≤ 31) → (MI (soonF kd fg hm at_ lg n oa j yard) i bst lst) → (-4 ≤ bst ∧ bst ≤ 31 ∧ -4 ≤ lst ∧ lst ≤ 60) → 31 - i = tt → Z X (cX4_soonest, 8, yX4_soonest.cls, (some .int), { frames := 6, cells := 0, slots := 0, locals := 141 }, A) G 0 0 [(m, .inr (11, [.int (zI (n : Int)), .ref g1, .ref g2, .ref g3, .ref g4, .ref g5, .int (zI oa), .int (zI dy), .ref s1, .ref s2, .ref s3, .ref s4, .ref s5, .ref s6, .int (zI 0), .int (zI rdg), .int (zI plc), .int (zI ibd), .int (zI stm), .ref t1, .ref t2, .ref t3, .ref c0, .ref c1, .ref c2, .ref c3, .int (zI him), .int (zI 38), .int (zI itb), .ref c0, .int (zI chd), .int (zI chf), .ref y0, .int (zI sd), .ref y1])), (g1, AI G 7 (fun z_ => (kd z_ : Int))), (g2, AI G 7 fg), (g3, AI G 7 hm), (g4, AI G 7 at_), (g5, AI G 7 lg), (c0, AI G 38 (encF n oa dy kd fg hm at_ lg))] 45 [(6, .int (zI (i : Int))), (5, .int (zI lst)), (4, .int (zI bst)), (0, .ref m), (1, .int (zI (j : Int))), (2, .int (zI yard)), (3, .int (zI what))] [] := by
          intro tt
          induction tt using Nat.strongRecOn with
          | _ tt ih_45 =>
            intro i bst lst itb hi hmf hbl ht_45
            refine z_iload C dX4_soonest_45 0 rfl ?_
            refine y_bipush C dX4_soonest_47 (by decide) ?_
            refine y_icmp_gt (tgt := 121) C (by omega) (by omega) dX4_soonest_49 (by decide) (fun c_49 => ?_) (fun c_49 => ?_)
            · skip
              rw [show i = 31 by omega] at hmf
              refine z_iload_n C dX4_soonest_121 rfl 6 rfl ?_
              refine y_if_ne (tgt := 130) C (by omega) dX4_soonest_122 (by decide) (fun c_122 => ?_) (fun c_122 => ?_)
              · skip
                refine z_iload C dX4_soonest_130 1 rfl ?_
                exact z_iret C hA hQ rfl (Nat.le_of_ble_eq_true rfl) (Nat.le_of_ble_eq_true rfl) (((.ref c0), 38, itb, (encF n oa dy kd fg hm at_ lg))) (congrArg zI (by unfold oSoonest; rw [if_pos (by omega)]; (try simp only [zTN]); rw [MI_e hmf (by omega)]; first | rw [if_pos (by omega)] | rw [if_neg (by omega)])) (sb_e [0, 1, 2, 3, 4, 5, 6] rfl rfl) dX4_soonest_132
              · skip
                refine z_iload C dX4_soonest_125 2 rfl ?_
                refine z_goto (tgt := 132) C dX4_soonest_127 (by decide) ?_
                exact z_iret C hA hQ rfl (Nat.le_of_ble_eq_true rfl) (Nat.le_of_ble_eq_true rfl) (((.ref c0), 38, itb, (encF n oa dy kd fg hm at_ lg))) (congrArg zI (by unfold oSoonest; rw [if_pos (by omega)]; (try simp only [zTN]); rw [MI_e hmf (by omega)]; first | rw [if_pos (by omega)] | rw [if_neg (by omega)])) (sb_e [0, 1, 2, 3, 4, 5, 6] rfl rfl) dX4_soonest_132
            · skip
              refine z_aload_n C dX4_soonest_52 rfl 3 rfl ?_
              refine z_iload C dX4_soonest_53 0 rfl ?_
              refine z_v (ws' := fun u => [(m, .inr (11, [.int (zI (n : Int)), .ref g1, .ref g2, .ref g3, .ref g4, .ref g5, .int (zI oa), .int (zI (dy + (i : Int))), .ref s1, .ref s2, .ref s3, .ref s4, .ref s5, .ref s6, .int (zI 0), .int (zI rdg), .int (zI plc), .int (zI ibd), .int (zI stm), .ref t1, .ref t2, .ref t3, .ref c0, .ref c1, .ref c2, .ref c3, .int (zI him), .int (zI 38), .int (zI itb), .ref c0, .int (zI chd), .int (zI chf), .ref y0, .int (zI sd), .ref y1])), (g1, AI G 7 (fun z_ => (kd z_ : Int))), (g2, AI G 7 fg), (g3, AI G 7 hm), (g4, AI G 7 at_), (g5, AI G 7 (goL kd fg hm at_ oa n i lg)), (c0, AI G 38 (encF n oa dy kd fg hm at_ lg))]) C (z_runV (q := 0) (As := [.int (zI (i : Int))]) (rest := []) C (ct_X4_goDays (zl X) G m g1 g2 g3 g4 g5 kd fg hm at_ lg n oa dy ([.ref s1, .ref s2, .ref s3, .ref s4, .ref s5, .ref s6, .int (zI 0), .int (zI rdg), .int (zI plc), .int (zI ibd), .int (zI stm), .ref t1, .ref t2, .ref t3, .ref c0, .ref c1, .ref c2, .ref c3, .int (zI him), .int (zI 38), .int (zI itb), .ref c0, .int (zI chd), .int (zI chf), .ref y0, .int (zI sd), .ref y1]) i (by first | assumption | omega) (by first | assumption | omega)) (lw_V q1298 q1300 qs42 q61 q1301) rfl rfl (sb_e [0, 1, 2, 3, 4, 5] rfl rfl) (na := 1) (by decide +kernel) rfl (zrm rfl rfl (rfl) (rfl)) rfl (Nat.le_of_ble_eq_true rfl) dX4_soonest_55) (fun u => jn_e (wr := [(c0, AI G 38 (encF n oa dy kd fg hm at_ lg))]) [0, 1, 2, 3, 4, 5] [6] [1, 2, 3, 4, 5, 6, 0] rfl rfl rfl (by decide) rfl rfl) (fun u hp_55 => ?_)
              refine z_iload C dX4_soonest_58 0 rfl ?_
              refine z_aload_n C dX4_soonest_60 rfl 3 rfl ?_
              refine z_iload_n C dX4_soonest_61 rfl 4 rfl ?_
              refine z_iload_n C dX4_soonest_62 rfl 5 rfl ?_
              refine z_i (ws' := fun u => [(m, .inr (11, [.int (zI (n : Int)), .ref g1, .ref g2, .ref g3, .ref g4, .ref g5, .int (zI oa), .int (zI ((dy + (i : Int)) + ((rdN kd fg hm oa n j yard at_ (goL kd fg hm at_ oa n i lg)) : Int))), .ref s1, .ref s2, .ref s3, .ref s4, .ref s5, .ref s6, .int (zI 0), .int (zI rdg), .int (zI plc), .int (zI ibd), .int (zI stm), .ref t1, .ref t2, .ref t3, .ref c0, .ref c1, .ref c2, .ref c3, .int (zI him), .int (zI 38), .int (zI itb), .ref c0, .int (zI chd), .int (zI chf), .ref y0, .int (zI sd), .ref y1])), (g1, AI G 7 (fun z_ => (kd z_ : Int))), (g2, AI G 7 fg), (g3, AI G 7 hm), (g4, AI G 7 (rdA kd fg hm oa n j yard at_ (goL kd fg hm at_ oa n i lg))), (g5, AI G 7 (rdL kd fg hm oa n j yard at_ (goL kd fg hm at_ oa n i lg))), (c0, AI G 38 (encF n oa dy kd fg hm at_ lg))]) C (z_runV (q := 0) (As := [.int (zI (j : Int)), .int (zI yard)]) (rest := [.int (zI (i : Int))]) C (ct_X4_ride (zl X) G m g1 g2 g3 g4 g5 kd fg hm at_ (goL kd fg hm at_ oa n i lg) n oa (dy + (i : Int)) ([.ref s1, .ref s2, .ref s3, .ref s4, .ref s5, .ref s6, .int (zI 0), .int (zI rdg), .int (zI plc), .int (zI ibd), .int (zI stm), .ref t1, .ref t2, .ref t3, .ref c0, .ref c1, .ref c2, .ref c3, .int (zI him), .int (zI 38), .int (zI itb), .ref c0, .int (zI chd), .int (zI chf), .ref y0, .int (zI sd), .ref y1]) j yard (hL.go i) (by omega) (by first | assumption | omega)) (lw_V q1259 q1261 qs34 q61 q1262) rfl rfl (sb_e [0, 1, 2, 3, 4, 5] rfl rfl) (na := 2) (by decide +kernel) rfl (zrm rfl rfl (rfl) (rfl)) rfl (Nat.le_of_ble_eq_true rfl) dX4_soonest_63) (fun u => jn_e (wr := [(c0, AI G 38 (encF n oa dy kd fg hm at_ lg))]) [0, 1, 2, 3, 4, 5] [6] [1, 2, 3, 4, 5, 6, 0] rfl rfl rfl (by decide) rfl rfl) (fun r_63 u hp_63 => ?_)
              have hp_63 : r_63 = zI ((rdN kd fg hm oa n j yard at_ (goL kd fg hm at_ oa n i lg)) : Int) := hp_63
              subst hp_63
              refine y_iadd C dX4_soonest_66 ?_
              have hsr := soonF_r (kd := kd) (fg := fg) (hm := hm) (at_ := at_) (lg := lg) (n := n) (oa := oa) (j := j) (yard := yard) i
              rw [show (i : Int) + ((rdN kd fg hm oa n j yard at_ (goL kd fg hm at_ oa n i lg)) : Int) = soonF kd fg hm at_ lg n oa j yard i from rfl]
              refine z_istore (lv' := [(7, .int (zI (soonF kd fg hm at_ lg n oa j yard i))), (6, .int (zI (i : Int))), (5, .int (zI lst)), (4, .int (zI bst)), (0, .ref m), (1, .int (zI (j : Int))), (2, .int (zI yard)), (3, .int (zI what))]) C dX4_soonest_67 (nlt rfl) rfl ?_
              refine z_aload_n C dX4_soonest_69 rfl 4 rfl ?_
              refine z_v (ws' := fun u => [(m, .inr (11, [.int (zI (n : Int)), .ref g1, .ref g2, .ref g3, .ref g4, .ref g5, .int (zI oa), .int (zI dy), .ref s1, .ref s2, .ref s3, .ref s4, .ref s5, .ref s6, .int (zI 0), .int (zI rdg), .int (zI plc), .int (zI ibd), .int (zI stm), .ref t1, .ref t2, .ref t3, .ref c0, .ref c1, .ref c2, .ref c3, .int (zI him), .int (zI 38), .int (zI 0), .ref c0, .int (zI chd), .int (zI chf), .ref y0, .int (zI sd), .ref y1])), (g1, AI G 7 (fun z_ => (kd z_ : Int))), (g2, AI G 7 fg), (g3, AI G 7 hm), (g4, AI G 7 at_), (g5, AI G 7 lg), (c0, AI G 38 (encF n oa dy kd fg hm at_ lg))]) C (z_runV (q := 0) (As := []) (rest := []) C (ct_X4_close (zl X) G m g1 g2 g3 g4 g5 s1 s2 s3 s4 s5 s6 t1 t2 t3 c0 c1 c2 c3 y0 y1 0 rdg plc ibd stm him 38 itb chd chf sd (.ref c0) (fun z_ => (kd z_ : Int)) fg hm (rdA kd fg hm oa n j yard at_ (goL kd fg hm at_ oa n i lg)) (rdL kd fg hm oa n j yard at_ (goL kd fg hm at_ oa n i lg)) n oa ((dy + (i : Int)) + ((rdN kd fg hm oa n j yard at_ (goL kd fg hm at_ oa n i lg)) : Int)) kd fg hm at_ lg n oa dy ) (lw_V q1302 q1304 qs43 q61 q1305) rfl rfl (sb_e [0, 1, 2, 3, 4, 5, 6] rfl rfl) (na := 0) (by decide +kernel) rfl (zrm rfl rfl (rfl) (rfl)) rfl (Nat.le_of_ble_eq_true rfl) dX4_soonest_70) (fun u => jn_e (wr := []) [0, 1, 2, 3, 4, 5, 6] [] [0, 1, 2, 3, 4, 5, 6] rfl rfl rfl (by decide) rfl rfl) (fun u hp_70 => ?_)
              refine z_iload C dX4_soonest_73 2 rfl ?_
              refine y_if_lt (tgt := 85) C (by omega) dX4_soonest_75 (by decide) (fun c_75 => ?_) (fun c_75 => ?_)
              · skip
                refine z_iload C dX4_soonest_85 1 rfl ?_
                refine z_goto (tgt := 92) C dX4_soonest_87 (by decide) ?_
                refine z_istore (lv' := [(4, .int (zI (i : Int))), (7, .int (zI (soonF kd fg hm at_ lg n oa j yard i))), (6, .int (zI (i : Int))), (5, .int (zI lst)), (0, .ref m), (1, .int (zI (j : Int))), (2, .int (zI yard)), (3, .int (zI what))]) C dX4_soonest_92 (nlt rfl) rfl ?_
                refine z_iload C dX4_soonest_94 3 rfl ?_
                refine y_if_lt (tgt := 106) C (by omega) dX4_soonest_96 (by decide) (fun c_96 => ?_) (fun c_96 => ?_)
                · skip
                  refine z_iload C dX4_soonest_106 1 rfl ?_
                  refine z_goto (tgt := 113) C dX4_soonest_108 (by decide) ?_
                  refine z_istore (lv' := [(5, .int (zI (soonF kd fg hm at_ lg n oa j yard i))), (4, .int (zI (i : Int))), (7, .int (zI (soonF kd fg hm at_ lg n oa j yard i))), (6, .int (zI (i : Int))), (0, .ref m), (1, .int (zI (j : Int))), (2, .int (zI yard)), (3, .int (zI what))]) C dX4_soonest_113 (nlt rfl) rfl ?_
                  refine y_iinc (lv' := [(6, .int (zI ((i : Int) + 1))), (5, .int (zI (soonF kd fg hm at_ lg n oa j yard i))), (4, .int (zI (i : Int))), (7, .int (zI (soonF kd fg hm at_ lg n oa j yard i))), (0, .ref m), (1, .int (zI (j : Int))), (2, .int (zI yard)), (3, .int (zI what))]) C dX4_soonest_115 (q := 3) rfl (nlt rfl) rfl ?_
                  refine z_goto (tgt := 45) C dX4_soonest_118 (by decide) ?_
                  refine z_lv (lv' := [(6, .int (zI ((i : Int) + 1))), (5, .int (zI (soonF kd fg hm at_ lg n oa j yard i))), (4, .int (zI (i : Int))), (0, .ref m), (1, .int (zI (j : Int))), (2, .int (zI yard)), (3, .int (zI what))]) [0, 1, 2, 4, 5, 6, 7] rfl ?_
                  exact ih_45 _ (by omega) (i + 1) (i : Int) (soonF kd fg hm at_ lg n oa j yard i) 0 (by first | assumption | omega) (by first | (exfalso; omega) | exact MI_t (fun j => (soonF_r j).1) hmf (by omega) | exact MI_f hmf (by omega)) (by first | assumption | omega) rfl
                · skip
                  refine z_iload C dX4_soonest_99 1 rfl ?_
                  refine z_iload C dX4_soonest_101 3 rfl ?_
                  refine y_icmp_ge (tgt := 111) C (by omega) (by omega) dX4_soonest_103 (by decide) (fun c_103 => ?_) (fun c_103 => ?_)
                  · skip
                    refine z_iload C dX4_soonest_111 3 rfl ?_
                    refine z_istore (lv' := [(5, .int (zI lst)), (4, .int (zI (i : Int))), (7, .int (zI (soonF kd fg hm at_ lg n oa j yard i))), (6, .int (zI (i : Int))), (0, .ref m), (1, .int (zI (j : Int))), (2, .int (zI yard)), (3, .int (zI what))]) C dX4_soonest_113 (nlt rfl) rfl ?_
                    refine y_iinc (lv' := [(6, .int (zI ((i : Int) + 1))), (5, .int (zI lst)), (4, .int (zI (i : Int))), (7, .int (zI (soonF kd fg hm at_ lg n oa j yard i))), (0, .ref m), (1, .int (zI (j : Int))), (2, .int (zI yard)), (3, .int (zI what))]) C dX4_soonest_115 (q := 3) rfl (nlt rfl) rfl ?_
                    refine z_goto (tgt := 45) C dX4_soonest_118 (by decide) ?_
                    refine z_lv (lv' := [(6, .int (zI ((i : Int) + 1))), (5, .int (zI lst)), (4, .int (zI (i : Int))), (0, .ref m), (1, .int (zI (j : Int))), (2, .int (zI yard)), (3, .int (zI what))]) [0, 1, 2, 4, 5, 6, 7] rfl ?_
                    exact ih_45 _ (by omega) (i + 1) (i : Int) lst 0 (by first | assumption | omega) (by first | (exfalso; omega) | exact MI_t (fun j => (soonF_r j).1) hmf (by omega) | exact MI_f hmf (by omega)) (by first | assumption | omega) rfl
                  · skip
                    refine z_iload C dX4_soonest_106 1 rfl ?_
                    refine z_goto (tgt := 113) C dX4_soonest_108 (by decide) ?_
                    refine z_istore (lv' := [(5, .int (zI (soonF kd fg hm at_ lg n oa j yard i))), (4, .int (zI (i : Int))), (7, .int (zI (soonF kd fg hm at_ lg n oa j yard i))), (6, .int (zI (i : Int))), (0, .ref m), (1, .int (zI (j : Int))), (2, .int (zI yard)), (3, .int (zI what))]) C dX4_soonest_113 (nlt rfl) rfl ?_
                    refine y_iinc (lv' := [(6, .int (zI ((i : Int) + 1))), (5, .int (zI (soonF kd fg hm at_ lg n oa j yard i))), (4, .int (zI (i : Int))), (7, .int (zI (soonF kd fg hm at_ lg n oa j yard i))), (0, .ref m), (1, .int (zI (j : Int))), (2, .int (zI yard)), (3, .int (zI what))]) C dX4_soonest_115 (q := 3) rfl (nlt rfl) rfl ?_
                    refine z_goto (tgt := 45) C dX4_soonest_118 (by decide) ?_
                    refine z_lv (lv' := [(6, .int (zI ((i : Int) + 1))), (5, .int (zI (soonF kd fg hm at_ lg n oa j yard i))), (4, .int (zI (i : Int))), (0, .ref m), (1, .int (zI (j : Int))), (2, .int (zI yard)), (3, .int (zI what))]) [0, 1, 2, 4, 5, 6, 7] rfl ?_
                    exact ih_45 _ (by omega) (i + 1) (i : Int) (soonF kd fg hm at_ lg n oa j yard i) 0 (by first | assumption | omega) (by first | (exfalso; omega) | exact MI_t (fun j => (soonF_r j).1) hmf (by omega) | exact MI_f hmf (by omega)) (by first | assumption | omega) rfl
              · skip
                refine z_iload C dX4_soonest_78 0 rfl ?_
                refine z_iload C dX4_soonest_80 2 rfl ?_
                refine y_icmp_ge (tgt := 90) C (by omega) (by omega) dX4_soonest_82 (by decide) (fun c_82 => ?_) (fun c_82 => ?_)
                · skip
                  refine z_iload C dX4_soonest_90 3 rfl ?_
                  refine z_istore (lv' := [(4, .int (zI bst)), (7, .int (zI (soonF kd fg hm at_ lg n oa j yard i))), (6, .int (zI (i : Int))), (5, .int (zI lst)), (0, .ref m), (1, .int (zI (j : Int))), (2, .int (zI yard)), (3, .int (zI what))]) C dX4_soonest_92 (nlt rfl) rfl ?_
                  refine z_iload C dX4_soonest_94 3 rfl ?_
                  refine y_if_lt (tgt := 106) C (by omega) dX4_soonest_96 (by decide) (fun c_96 => ?_) (fun c_96 => ?_)
                  · skip
                    refine z_iload C dX4_soonest_106 1 rfl ?_
                    refine z_goto (tgt := 113) C dX4_soonest_108 (by decide) ?_
                    refine z_istore (lv' := [(5, .int (zI (soonF kd fg hm at_ lg n oa j yard i))), (4, .int (zI bst)), (7, .int (zI (soonF kd fg hm at_ lg n oa j yard i))), (6, .int (zI (i : Int))), (0, .ref m), (1, .int (zI (j : Int))), (2, .int (zI yard)), (3, .int (zI what))]) C dX4_soonest_113 (nlt rfl) rfl ?_
                    refine y_iinc (lv' := [(6, .int (zI ((i : Int) + 1))), (5, .int (zI (soonF kd fg hm at_ lg n oa j yard i))), (4, .int (zI bst)), (7, .int (zI (soonF kd fg hm at_ lg n oa j yard i))), (0, .ref m), (1, .int (zI (j : Int))), (2, .int (zI yard)), (3, .int (zI what))]) C dX4_soonest_115 (q := 3) rfl (nlt rfl) rfl ?_
                    refine z_goto (tgt := 45) C dX4_soonest_118 (by decide) ?_
                    refine z_lv (lv' := [(6, .int (zI ((i : Int) + 1))), (5, .int (zI (soonF kd fg hm at_ lg n oa j yard i))), (4, .int (zI bst)), (0, .ref m), (1, .int (zI (j : Int))), (2, .int (zI yard)), (3, .int (zI what))]) [0, 1, 2, 4, 5, 6, 7] rfl ?_
                    exact ih_45 _ (by omega) (i + 1) bst (soonF kd fg hm at_ lg n oa j yard i) 0 (by first | assumption | omega) (by first | (exfalso; omega) | exact MI_t (fun j => (soonF_r j).1) hmf (by omega) | exact MI_f hmf (by omega)) (by first | assumption | omega) rfl
                  · skip
                    refine z_iload C dX4_soonest_99 1 rfl ?_
                    refine z_iload C dX4_soonest_101 3 rfl ?_
                    refine y_icmp_ge (tgt := 111) C (by omega) (by omega) dX4_soonest_103 (by decide) (fun c_103 => ?_) (fun c_103 => ?_)
                    · skip
                      refine z_iload C dX4_soonest_111 3 rfl ?_
                      refine z_istore (lv' := [(5, .int (zI lst)), (4, .int (zI bst)), (7, .int (zI (soonF kd fg hm at_ lg n oa j yard i))), (6, .int (zI (i : Int))), (0, .ref m), (1, .int (zI (j : Int))), (2, .int (zI yard)), (3, .int (zI what))]) C dX4_soonest_113 (nlt rfl) rfl ?_
                      refine y_iinc (lv' := [(6, .int (zI ((i : Int) + 1))), (5, .int (zI lst)), (4, .int (zI bst)), (7, .int (zI (soonF kd fg hm at_ lg n oa j yard i))), (0, .ref m), (1, .int (zI (j : Int))), (2, .int (zI yard)), (3, .int (zI what))]) C dX4_soonest_115 (q := 3) rfl (nlt rfl) rfl ?_
                      refine z_goto (tgt := 45) C dX4_soonest_118 (by decide) ?_
                      refine z_lv (lv' := [(6, .int (zI ((i : Int) + 1))), (5, .int (zI lst)), (4, .int (zI bst)), (0, .ref m), (1, .int (zI (j : Int))), (2, .int (zI yard)), (3, .int (zI what))]) [0, 1, 2, 4, 5, 6, 7] rfl ?_
                      exact ih_45 _ (by omega) (i + 1) bst lst 0 (by first | assumption | omega) (by first | (exfalso; omega) | exact MI_t (fun j => (soonF_r j).1) hmf (by omega) | exact MI_f hmf (by omega)) (by first | assumption | omega) rfl
                    · skip
                      refine z_iload C dX4_soonest_106 1 rfl ?_
                      refine z_goto (tgt := 113) C dX4_soonest_108 (by decide) ?_
                      refine z_istore (lv' := [(5, .int (zI (soonF kd fg hm at_ lg n oa j yard i))), (4, .int (zI bst)), (7, .int (zI (soonF kd fg hm at_ lg n oa j yard i))), (6, .int (zI (i : Int))), (0, .ref m), (1, .int (zI (j : Int))), (2, .int (zI yard)), (3, .int (zI what))]) C dX4_soonest_113 (nlt rfl) rfl ?_
                      refine y_iinc (lv' := [(6, .int (zI ((i : Int) + 1))), (5, .int (zI (soonF kd fg hm at_ lg n oa j yard i))), (4, .int (zI bst)), (7, .int (zI (soonF kd fg hm at_ lg n oa j yard i))), (0, .ref m), (1, .int (zI (j : Int))), (2, .int (zI yard)), (3, .int (zI what))]) C dX4_soonest_115 (q := 3) rfl (nlt rfl) rfl ?_
                      refine z_goto (tgt := 45) C dX4_soonest_118 (by decide) ?_
                      refine z_lv (lv' := [(6, .int (zI ((i : Int) + 1))), (5, .int (zI (soonF kd fg hm at_ lg n oa j yard i))), (4, .int (zI bst)), (0, .ref m), (1, .int (zI (j : Int))), (2, .int (zI yard)), (3, .int (zI what))]) [0, 1, 2, 4, 5, 6, 7] rfl ?_
                      exact ih_45 _ (by omega) (i + 1) bst (soonF kd fg hm at_ lg n oa j yard i) 0 (by first | assumption | omega) (by first | (exfalso; omega) | exact MI_t (fun j => (soonF_r j).1) hmf (by omega) | exact MI_f hmf (by omega)) (by first | assumption | omega) rfl
                · skip
                  refine z_iload C dX4_soonest_85 1 rfl ?_
                  refine z_goto (tgt := 92) C dX4_soonest_87 (by decide) ?_
                  refine z_istore (lv' := [(4, .int (zI (i : Int))), (7, .int (zI (soonF kd fg hm at_ lg n oa j yard i))), (6, .int (zI (i : Int))), (5, .int (zI lst)), (0, .ref m), (1, .int (zI (j : Int))), (2, .int (zI yard)), (3, .int (zI what))]) C dX4_soonest_92 (nlt rfl) rfl ?_
                  refine z_iload C dX4_soonest_94 3 rfl ?_
                  refine y_if_lt (tgt := 106) C (by omega) dX4_soonest_96 (by decide) (fun c_96 => ?_) (fun c_96 => ?_)
                  · skip
                    refine z_iload C dX4_soonest_106 1 rfl ?_
                    refine z_goto (tgt := 113) C dX4_soonest_108 (by decide) ?_
                    refine z_istore (lv' := [(5, .int (zI (soonF kd fg hm at_ lg n oa j yard i))), (4, .int (zI (i : Int))), (7, .int (zI (soonF kd fg hm at_ lg n oa j yard i))), (6, .int (zI (i : Int))), (0, .ref m), (1, .int (zI (j : Int))), (2, .int (zI yard)), (3, .int (zI what))]) C dX4_soonest_113 (nlt rfl) rfl ?_
                    refine y_iinc (lv' := [(6, .int (zI ((i : Int) + 1))), (5, .int (zI (soonF kd fg hm at_ lg n oa j yard i))), (4, .int (zI (i : Int))), (7, .int (zI (soonF kd fg hm at_ lg n oa j yard i))), (0, .ref m), (1, .int (zI (j : Int))), (2, .int (zI yard)), (3, .int (zI what))]) C dX4_soonest_115 (q := 3) rfl (nlt rfl) rfl ?_
                    refine z_goto (tgt := 45) C dX4_soonest_118 (by decide) ?_
                    refine z_lv (lv' := [(6, .int (zI ((i : Int) + 1))), (5, .int (zI (soonF kd fg hm at_ lg n oa j yard i))), (4, .int (zI (i : Int))), (0, .ref m), (1, .int (zI (j : Int))), (2, .int (zI yard)), (3, .int (zI what))]) [0, 1, 2, 4, 5, 6, 7] rfl ?_
                    exact ih_45 _ (by omega) (i + 1) (i : Int) (soonF kd fg hm at_ lg n oa j yard i) 0 (by first | assumption | omega) (by first | (exfalso; omega) | exact MI_t (fun j => (soonF_r j).1) hmf (by omega) | exact MI_f hmf (by omega)) (by first | assumption | omega) rfl
                  · skip
                    refine z_iload C dX4_soonest_99 1 rfl ?_
                    refine z_iload C dX4_soonest_101 3 rfl ?_
                    refine y_icmp_ge (tgt := 111) C (by omega) (by omega) dX4_soonest_103 (by decide) (fun c_103 => ?_) (fun c_103 => ?_)
                    · skip
                      refine z_iload C dX4_soonest_111 3 rfl ?_
                      refine z_istore (lv' := [(5, .int (zI lst)), (4, .int (zI (i : Int))), (7, .int (zI (soonF kd fg hm at_ lg n oa j yard i))), (6, .int (zI (i : Int))), (0, .ref m), (1, .int (zI (j : Int))), (2, .int (zI yard)), (3, .int (zI what))]) C dX4_soonest_113 (nlt rfl) rfl ?_
                      refine y_iinc (lv' := [(6, .int (zI ((i : Int) + 1))), (5, .int (zI lst)), (4, .int (zI (i : Int))), (7, .int (zI (soonF kd fg hm at_ lg n oa j yard i))), (0, .ref m), (1, .int (zI (j : Int))), (2, .int (zI yard)), (3, .int (zI what))]) C dX4_soonest_115 (q := 3) rfl (nlt rfl) rfl ?_
                      refine z_goto (tgt := 45) C dX4_soonest_118 (by decide) ?_
                      refine z_lv (lv' := [(6, .int (zI ((i : Int) + 1))), (5, .int (zI lst)), (4, .int (zI (i : Int))), (0, .ref m), (1, .int (zI (j : Int))), (2, .int (zI yard)), (3, .int (zI what))]) [0, 1, 2, 4, 5, 6, 7] rfl ?_
                      exact ih_45 _ (by omega) (i + 1) (i : Int) lst 0 (by first | assumption | omega) (by first | (exfalso; omega) | exact MI_t (fun j => (soonF_r j).1) hmf (by omega) | exact MI_f hmf (by omega)) (by first | assumption | omega) rfl
                    · skip
                      refine z_iload C dX4_soonest_106 1 rfl ?_
                      refine z_goto (tgt := 113) C dX4_soonest_108 (by decide) ?_
                      refine z_istore (lv' := [(5, .int (zI (soonF kd fg hm at_ lg n oa j yard i))), (4, .int (zI (i : Int))), (7, .int (zI (soonF kd fg hm at_ lg n oa j yard i))), (6, .int (zI (i : Int))), (0, .ref m), (1, .int (zI (j : Int))), (2, .int (zI yard)), (3, .int (zI what))]) C dX4_soonest_113 (nlt rfl) rfl ?_
                      refine y_iinc (lv' := [(6, .int (zI ((i : Int) + 1))), (5, .int (zI (soonF kd fg hm at_ lg n oa j yard i))), (4, .int (zI (i : Int))), (7, .int (zI (soonF kd fg hm at_ lg n oa j yard i))), (0, .ref m), (1, .int (zI (j : Int))), (2, .int (zI yard)), (3, .int (zI what))]) C dX4_soonest_115 (q := 3) rfl (nlt rfl) rfl ?_
                      refine z_goto (tgt := 45) C dX4_soonest_118 (by decide) ?_
                      refine z_lv (lv' := [(6, .int (zI ((i : Int) + 1))), (5, .int (zI (soonF kd fg hm at_ lg n oa j yard i))), (4, .int (zI (i : Int))), (0, .ref m), (1, .int (zI (j : Int))), (2, .int (zI yard)), (3, .int (zI what))]) [0, 1, 2, 4, 5, 6, 7] rfl ?_
                      exact ih_45 _ (by omega) (i + 1) (i : Int) (soonF kd fg hm at_ lg n oa j yard i) 0 (by first | assumption | omega) (by first | (exfalso; omega) | exact MI_t (fun j => (soonF_r j).1) hmf (by omega) | exact MI_f hmf (by omega)) (by first | assumption | omega) rfl
        exact L_45 _ 0 0 (-1) 1 (by first | assumption | omega) (Or.inl ⟨rfl, by omega, by omega, by omega, by omega⟩) (by first | assumption | omega) rfl
      · skip
        refine y_iconst C dX4_soonest_30 ?_
        exact z_iret C hA hQ rfl (Nat.le_of_ble_eq_true rfl) (Nat.le_of_ble_eq_true rfl) ((ki, pl0, itk, kc)) (congrArg zI (by unfold oSoonest; (try simp only [zTN]); (repeat (first | rw [if_pos (by omega)] | rw [if_neg (by omega)])); first | done | rfl)) (sb_e [0, 1, 2, 3, 4, 5, 6] rfl rfl) dX4_soonest_31

set_option maxHeartbeats 4000000 in
theorem ct_X4_race (l : Launch) (G : ZG) (m : Nat) (g1 : Nat) (g2 : Nat) (g3 : Nat) (g4 : Nat) (g5 : Nat) (s1 : Nat) (s2 : Nat) (s3 : Nat) (s4 : Nat) (s5 : Nat) (s6 : Nat) (t1 : Nat) (t2 : Nat) (t3 : Nat) (c0 : Nat) (c1 : Nat) (c2 : Nat) (c3 : Nat) (y0 : Nat) (y1 : Nat) (thr : Int) (rdg : Int) (plc : Int) (ibd : Int) (stm : Int) (him : Int) (pl0 : Int) (itk : Int) (chd : Int) (chf : Int) (sd : Int) (ki : Value) (kd : Nat → Nat) (fg : Nat → Int) (hm : Nat → Int) (at_ : Nat → Int) (lg : Nat → Int) (n : Nat) (oa : Int) (dy : Int) (kc : Nat → Int) (h : Int) (k : Int) (yard : Int) (hL : LK n kd fg hm at_ lg oa) (rh : -2147483648 ≤ h ∧ h ≤ 2147483647) (rk : -2147483648 ≤ k ∧ k ≤ 2147483647) (ryard : -2147483648 ≤ yard ∧ yard ≤ 2147483647) : CT l yX4_race cX4_race 6 (some .int) { frames := 7, cells := 0, slots := 0, locals := 164 } G [.ref m, .int (zI h), .int (zI k), .int (zI yard)] [(m, .inr (11, [.int (zI (n : Int)), .ref g1, .ref g2, .ref g3, .ref g4, .ref g5, .int (zI oa), .int (zI dy), .ref s1, .ref s2, .ref s3, .ref s4, .ref s5, .ref s6, .int (zI thr), .int (zI rdg), .int (zI plc), .int (zI ibd), .int (zI stm), .ref t1, .ref t2, .ref t3, .ref c0, .ref c1, .ref c2, .ref c3, .int (zI him), .int (zI pl0), .int (zI itk), ki, .int (zI chd), .int (zI chf), .ref y0, .int (zI sd), .ref y1])), (g1, AI G 7 (fun z_ => (kd z_ : Int))), (g2, AI G 7 fg), (g3, AI G 7 hm), (g4, AI G 7 at_), (g5, AI G 7 lg), (c0, AI G 38 kc)] (Qi G [(m, .inr (11, [.int (zI (n : Int)), .ref g1, .ref g2, .ref g3, .ref g4, .ref g5, .int (zI oa), .int (zI dy), .ref s1, .ref s2, .ref s3, .ref s4, .ref s5, .ref s6, .int (zI thr), .int (zI rdg), .int (zI plc), .int (zI ibd), .int (zI stm), .ref t1, .ref t2, .ref t3, .ref c0, .ref c1, .ref c2, .ref c3, .int (zI him), .int (zI pl0), .int (zI itk), ki, .int (zI chd), .int (zI chf), .ref y0, .int (zI sd), .ref y1])), (g1, AI G 7 (fun z_ => (kd z_ : Int))), (g2, AI G 7 fg), (g3, AI G 7 hm), (g4, AI G 7 at_), (g5, AI G 7 lg), (c0, AI G 38 kc)] (fun (r : Int32) (u : Value × Int × Int × (Nat → Int)) => r = zI (oRace kd fg hm at_ lg n oa h k yard)) (fun u => [(m, .inr (11, [.int (zI (n : Int)), .ref g1, .ref g2, .ref g3, .ref g4, .ref g5, .int (zI oa), .int (zI dy), .ref s1, .ref s2, .ref s3, .ref s4, .ref s5, .ref s6, .int (zI 0), .int (zI rdg), .int (zI plc), .int (zI ibd), .int (zI stm), .ref t1, .ref t2, .ref t3, .ref c0, .ref c1, .ref c2, .ref c3, .int (zI him), .int (zI u.2.1), .int (zI u.2.2.1), u.1, .int (zI chd), .int (zI chf), .ref y0, .int (zI sd), .ref y1])), (g1, AI G 7 (fun z_ => (kd z_ : Int))), (g2, AI G 7 fg), (g3, AI G 7 hm), (g4, AI G 7 at_), (g5, AI G 7 lg), (c0, AI G 38 u.2.2.2)])) := by
  refine z_met (by decide) (Nat.le_of_ble_eq_true rfl) ?_
  intro X A hl0 hA C hQ hin
  subst hl0
  obtain ⟨hn7, hoa, hLj⟩ := id hL
  show Z X _ G 0 0 _ 0 [(0, .ref m), (1, .int (zI h)), (2, .int (zI k)), (3, .int (zI yard))] []
  refine z_aload_n C dX4_race_0 rfl 0 rfl ?_
  refine y_iconst C dX4_race_1 ?_
  refine z_put (q := 0) (kf := 14) (ws' := [(m, .inr (11, [.int (zI (n : Int)), .ref g1, .ref g2, .ref g3, .ref g4, .ref g5, .int (zI oa), .int (zI dy), .ref s1, .ref s2, .ref s3, .ref s4, .ref s5, .ref s6, .int (zI 0), .int (zI rdg), .int (zI plc), .int (zI ibd), .int (zI stm), .ref t1, .ref t2, .ref t3, .ref c0, .ref c1, .ref c2, .ref c3, .int (zI him), .int (zI pl0), .int (zI itk), ki, .int (zI chd), .int (zI chf), .ref y0, .int (zI sd), .ref y1])), (g1, AI G 7 (fun z_ => (kd z_ : Int))), (g2, AI G 7 fg), (g3, AI G 7 hm), (g4, AI G 7 at_), (g5, AI G 7 lg), (c0, AI G 38 kc)]) C rfl rfl in_X4 tyX4_ok nmX4 (by decide) q1101 rfl rfl rfl rfl rfl (nlt rfl) rfl dX4_race_2 ?_
  refine z_aload_n C dX4_race_5 rfl 0 rfl ?_
  refine z_iload_n C dX4_race_6 rfl 1 rfl ?_
  refine z_i C (z_runV (q := 0) (As := [.int (zI h)]) (rest := []) C (ct_X4_isHorse (zl X) G m g1 g2 g3 g4 g5 n oa dy ([.ref s1, .ref s2, .ref s3, .ref s4, .ref s5, .ref s6, .int (zI 0), .int (zI rdg), .int (zI plc), .int (zI ibd), .int (zI stm), .ref t1, .ref t2, .ref t3, .ref c0, .ref c1, .ref c2, .ref c3, .int (zI him), .int (zI pl0), .int (zI itk), ki, .int (zI chd), .int (zI chf), .ref y0, .int (zI sd), .ref y1]) h (by first | assumption | omega) (by first | assumption | omega)) (lw_V q1255 q1257 qs33 q61 q1258) rfl rfl (sb_e [0] rfl rfl) (na := 1) (by decide +kernel) rfl (zrm rfl rfl (rfl) (rfl)) rfl (Nat.le_of_ble_eq_true rfl) dX4_race_7) (fun u => jn_ro (sb_e [0] rfl rfl)) (fun r_7 u hp_7 => ?_)
  have hp_7 : r_7 = zI (bI (0 ≤ h ∧ h ≤ (n : Int) - 1)) := hp_7
  subst hp_7
  refine y_beq (tgt := 33) C dX4_race_10 (by decide) (fun c_10 => ?_) (fun c_10 => ?_)
  · skip
    refine y_iconst C dX4_race_33 ?_
    exact z_iret C hA hQ rfl (Nat.le_of_ble_eq_true rfl) (Nat.le_of_ble_eq_true rfl) ((ki, pl0, itk, kc)) (congrArg zI (by unfold oRace; (try simp only [zTN]); (repeat (first | rw [if_pos (by omega)] | rw [if_neg (by omega)])); first | done | rfl)) (sb_e [0, 1, 2, 3, 4, 5, 6] rfl rfl) dX4_race_34
  · skip
    refine z_aload_n C dX4_race_13 rfl 0 rfl ?_
    refine z_iload_n C dX4_race_14 rfl 2 rfl ?_
    refine z_i C (z_runV (q := 0) (As := [.int (zI k)]) (rest := []) C (ct_X4_isHorse (zl X) G m g1 g2 g3 g4 g5 n oa dy ([.ref s1, .ref s2, .ref s3, .ref s4, .ref s5, .ref s6, .int (zI 0), .int (zI rdg), .int (zI plc), .int (zI ibd), .int (zI stm), .ref t1, .ref t2, .ref t3, .ref c0, .ref c1, .ref c2, .ref c3, .int (zI him), .int (zI pl0), .int (zI itk), ki, .int (zI chd), .int (zI chf), .ref y0, .int (zI sd), .ref y1]) k (by first | assumption | omega) (by first | assumption | omega)) (lw_V q1255 q1257 qs33 q61 q1258) rfl rfl (sb_e [0] rfl rfl) (na := 1) (by decide +kernel) rfl (zrm rfl rfl (rfl) (rfl)) rfl (Nat.le_of_ble_eq_true rfl) dX4_race_15) (fun u => jn_ro (sb_e [0] rfl rfl)) (fun r_15 u hp_15 => ?_)
    have hp_15 : r_15 = zI (bI (0 ≤ k ∧ k ≤ (n : Int) - 1)) := hp_15
    subst hp_15
    refine y_beq (tgt := 33) C dX4_race_18 (by decide) (fun c_18 => ?_) (fun c_18 => ?_)
    · skip
      refine y_iconst C dX4_race_33 ?_
      exact z_iret C hA hQ rfl (Nat.le_of_ble_eq_true rfl) (Nat.le_of_ble_eq_true rfl) ((ki, pl0, itk, kc)) (congrArg zI (by unfold oRace; (try simp only [zTN]); (repeat (first | rw [if_pos (by omega)] | rw [if_neg (by omega)])); first | done | rfl)) (sb_e [0, 1, 2, 3, 4, 5, 6] rfl rfl) dX4_race_34
    · skip
      refine z_iload_n C dX4_race_21 rfl 1 rfl ?_
      refine z_iload_n C dX4_race_22 rfl 2 rfl ?_
      refine y_icmp_eq (tgt := 33) C (by omega) (by omega) dX4_race_23 (by decide) (fun c_23 => ?_) (fun c_23 => ?_)
      · skip
        refine y_iconst C dX4_race_33 ?_
        exact z_iret C hA hQ rfl (Nat.le_of_ble_eq_true rfl) (Nat.le_of_ble_eq_true rfl) ((ki, pl0, itk, kc)) (congrArg zI (by unfold oRace; (try simp only [zTN]); (repeat (first | rw [if_pos (by omega)] | rw [if_neg (by omega)])); first | done | rfl)) (sb_e [0, 1, 2, 3, 4, 5, 6] rfl rfl) dX4_race_34
      · skip
        refine z_iload_n C dX4_race_26 rfl 3 rfl ?_
        refine z_i C (z_runS (As := [.int (zI yard)]) (rest := []) C (ct_X4_isYard (zl X) G yard (by first | assumption | omega)) (lw_S q1251 q1252 q61 q1253) (sb_e [] rfl rfl) (na := 1) (by decide +kernel) rfl (zrm rfl rfl (rfl) (rfl)) rfl (Nat.le_of_ble_eq_true rfl) dX4_race_27) (fun u => jn_ro (sb_e [] rfl rfl)) (fun r_27 u hp_27 => ?_)
        have hp_27 : r_27 = zI (bI (0 ≤ yard ∧ yard ≤ 20)) := hp_27
        subst hp_27
        refine y_bne (tgt := 35) C dX4_race_30 (by decide) (fun c_30 => ?_) (fun c_30 => ?_)
        · skip
          have hne : ¬ h = k := by assumption
          obtain ⟨j, rfl⟩ := Int.eq_ofNat_of_zero_le (show 0 ≤ h by omega)
          obtain ⟨k0, rfl⟩ := Int.eq_ofNat_of_zero_le (show 0 ≤ k by omega)
          refine z_aload_n C dX4_race_35 rfl 0 rfl ?_
          refine z_iload_n C dX4_race_36 rfl 1 rfl ?_
          refine z_iload_n C dX4_race_37 rfl 3 rfl ?_
          refine z_i (ws' := fun u => [(m, .inr (11, [.int (zI (n : Int)), .ref g1, .ref g2, .ref g3, .ref g4, .ref g5, .int (zI oa), .int (zI dy), .ref s1, .ref s2, .ref s3, .ref s4, .ref s5, .ref s6, .int (zI 0), .int (zI rdg), .int (zI plc), .int (zI ibd), .int (zI stm), .ref t1, .ref t2, .ref t3, .ref c0, .ref c1, .ref c2, .ref c3, .int (zI him), .int (zI u.2.1), .int (zI u.2.2.1), u.1, .int (zI chd), .int (zI chf), .ref y0, .int (zI sd), .ref y1])), (g1, AI G 7 (fun z_ => (kd z_ : Int))), (g2, AI G 7 fg), (g3, AI G 7 hm), (g4, AI G 7 at_), (g5, AI G 7 lg), (c0, AI G 38 u.2.2.2)]) C (z_runV (q := 0) (As := [.int (zI (j : Int)), .int (zI yard)]) (rest := []) C (ct_X4_ownRide (zl X) G m g1 g2 g3 g4 g5 s1 s2 s3 s4 s5 s6 t1 t2 t3 c0 c1 c2 c3 y0 y1 0 rdg plc ibd stm him pl0 itk chd chf sd ki kd fg hm at_ lg n oa dy kc j yard (by first | assumption | omega) (by omega) (by first | assumption | omega)) (lw_V q1355 q1357 qs46 q61 q1358) rfl rfl (sb_e [0, 1, 2, 3, 4, 5, 6] rfl rfl) (na := 2) (by decide +kernel) rfl (zrm rfl rfl (rfl) (rfl)) rfl (Nat.le_of_ble_eq_true rfl) dX4_race_38) (fun u => jn_e (wr := []) [0, 1, 2, 3, 4, 5, 6] [] [0, 1, 2, 3, 4, 5, 6] rfl rfl rfl (by decide) rfl rfl) (fun r_38 u hp_38 => ?_)
          obtain ⟨ki9_38, pl9_38, itk9_38, kc9_38⟩ := u
          have hp_38 : r_38 = zI (tkB kd fg hm at_ lg n oa yard 0 j) := hp_38
          subst hp_38
          have htk := tkB_r kd fg hm at_ lg n oa yard 0 j
          refine z_istore (lv' := [(4, .int (zI (tkB kd fg hm at_ lg n oa yard 0 j))), (0, .ref m), (1, .int (zI (j : Int))), (2, .int (zI (k0 : Int))), (3, .int (zI yard))]) C dX4_race_41 (nlt rfl) rfl ?_
          refine z_aload_n C dX4_race_43 rfl 1 rfl ?_
          refine z_iload_n C dX4_race_44 rfl 3 rfl ?_
          refine z_iload_n C dX4_race_45 rfl 4 rfl ?_
          refine z_i (ws' := fun u => [(m, .inr (11, [.int (zI (n : Int)), .ref g1, .ref g2, .ref g3, .ref g4, .ref g5, .int (zI oa), .int (zI dy), .ref s1, .ref s2, .ref s3, .ref s4, .ref s5, .ref s6, .int (zI 0), .int (zI rdg), .int (zI plc), .int (zI ibd), .int (zI stm), .ref t1, .ref t2, .ref t3, .ref c0, .ref c1, .ref c2, .ref c3, .int (zI him), .int (zI u.2.1), .int (zI u.2.2.1), u.1, .int (zI chd), .int (zI chf), .ref y0, .int (zI sd), .ref y1])), (g1, AI G 7 (fun z_ => (kd z_ : Int))), (g2, AI G 7 fg), (g3, AI G 7 hm), (g4, AI G 7 at_), (g5, AI G 7 lg), (c0, AI G 38 u.2.2.2)]) C (z_runV (q := 0) (As := [.int (zI (k0 : Int)), .int (zI yard)]) (rest := []) C (ct_X4_ownRide (zl X) G m g1 g2 g3 g4 g5 s1 s2 s3 s4 s5 s6 t1 t2 t3 c0 c1 c2 c3 y0 y1 0 rdg plc ibd stm him pl9_38 itk9_38 chd chf sd ki9_38 kd fg hm at_ lg n oa dy kc9_38 k0 yard (by first | assumption | omega) (by omega) (by first | assumption | omega)) (lw_V q1355 q1357 qs46 q61 q1358) rfl rfl (sb_e [0, 1, 2, 3, 4, 5, 6] rfl rfl) (na := 2) (by decide +kernel) rfl (zrm rfl rfl (rfl) (rfl)) rfl (Nat.le_of_ble_eq_true rfl) dX4_race_46) (fun u => jn_e (wr := []) [0, 1, 2, 3, 4, 5, 6] [] [0, 1, 2, 3, 4, 5, 6] rfl rfl rfl (by decide) rfl rfl) (fun r_46 u hp_46 => ?_)
          obtain ⟨ki9_46, pl9_46, itk9_46, kc9_46⟩ := u
          have hp_46 : r_46 = zI (tkB kd fg hm at_ lg n oa yard 0 k0) := hp_46
          subst hp_46
          have htk2 := tkB_r kd fg hm at_ lg n oa yard 0 k0
          refine z_istore (lv' := [(5, .int (zI (tkB kd fg hm at_ lg n oa yard 0 k0))), (4, .int (zI (tkB kd fg hm at_ lg n oa yard 0 j))), (0, .ref m), (1, .int (zI (j : Int))), (2, .int (zI (k0 : Int))), (3, .int (zI yard))]) C dX4_race_49 (nlt rfl) rfl ?_
          refine z_iload C dX4_race_51 1 rfl ?_
          refine z_iload C dX4_race_53 0 rfl ?_
          refine y_icmp_ne (tgt := 63) C (by omega) (by omega) dX4_race_55 (by decide) (fun c_55 => ?_) (fun c_55 => ?_)
          · skip
            refine z_iload C dX4_race_63 1 rfl ?_
            refine z_iload C dX4_race_65 0 rfl ?_
            refine y_icmp_ge (tgt := 74) C (by omega) (by omega) dX4_race_67 (by decide) (fun c_67 => ?_) (fun c_67 => ?_)
            · skip
              refine z_iload_n C dX4_race_74 rfl 4 rfl ?_
              exact z_iret C hA hQ rfl (Nat.le_of_ble_eq_true rfl) (Nat.le_of_ble_eq_true rfl) ((ki9_46, pl9_46, itk9_46, kc9_46)) (congrArg zI (by unfold oRace; (try simp only [zTN]); (repeat (first | rw [if_pos (by omega)] | rw [if_neg (by omega)])); first | done | rfl)) (sb_e [0, 1, 2, 3, 4, 5, 6] rfl rfl) dX4_race_75
            · skip
              refine z_iload_n C dX4_race_70 rfl 3 rfl ?_
              refine z_goto (tgt := 75) C dX4_race_71 (by decide) ?_
              exact z_iret C hA hQ rfl (Nat.le_of_ble_eq_true rfl) (Nat.le_of_ble_eq_true rfl) ((ki9_46, pl9_46, itk9_46, kc9_46)) (congrArg zI (by unfold oRace; (try simp only [zTN]); (repeat (first | rw [if_pos (by omega)] | rw [if_neg (by omega)])); first | done | rfl)) (sb_e [0, 1, 2, 3, 4, 5, 6] rfl rfl) dX4_race_75
          · skip
            refine y_bipush C dX4_race_58 (by decide) ?_
            refine z_goto (tgt := 75) C dX4_race_60 (by decide) ?_
            exact z_iret C hA hQ rfl (Nat.le_of_ble_eq_true rfl) (Nat.le_of_ble_eq_true rfl) ((ki9_46, pl9_46, itk9_46, kc9_46)) (congrArg zI (by unfold oRace; (try simp only [zTN]); (repeat (first | rw [if_pos (by omega)] | rw [if_neg (by omega)])); first | done | rfl)) (sb_e [0, 1, 2, 3, 4, 5, 6] rfl rfl) dX4_race_75
        · skip
          refine y_iconst C dX4_race_33 ?_
          exact z_iret C hA hQ rfl (Nat.le_of_ble_eq_true rfl) (Nat.le_of_ble_eq_true rfl) ((ki, pl0, itk, kc)) (congrArg zI (by unfold oRace; (try simp only [zTN]); (repeat (first | rw [if_pos (by omega)] | rw [if_neg (by omega)])); first | done | rfl)) (sb_e [0, 1, 2, 3, 4, 5, 6] rfl rfl) dX4_race_34

set_option maxHeartbeats 4000000 in
theorem ct_X4_walkAhead (l : Launch) (G : ZG) (m : Nat) (g1 : Nat) (g2 : Nat) (g3 : Nat) (g4 : Nat) (g5 : Nat) (s1 : Nat) (s2 : Nat) (s3 : Nat) (s4 : Nat) (s5 : Nat) (s6 : Nat) (t1 : Nat) (t2 : Nat) (t3 : Nat) (c0 : Nat) (c1 : Nat) (c2 : Nat) (c3 : Nat) (y0 : Nat) (y1 : Nat) (thr : Int) (rdg : Int) (plc : Int) (ibd : Int) (stm : Int) (him : Int) (pl0 : Int) (itk : Int) (chd : Int) (chf : Int) (sd : Int) (ki : Value) (kd : Nat → Nat) (fg : Nat → Int) (hm : Nat → Int) (at_ : Nat → Int) (lg : Nat → Int) (n : Nat) (oa : Int) (dy : Int) (kc : Nat → Int) (h : Int) (yard : Int) (t : Int) (what : Int) (hL : LK n kd fg hm at_ lg oa) (rh : -2147483648 ≤ h ∧ h ≤ 2147483647) (ryard : -2147483648 ≤ yard ∧ yard ≤ 2147483647) (rt : -2147483648 ≤ t ∧ t ≤ 2147483647) (rwhat : -2147483648 ≤ what ∧ what ≤ 2147483647) : CT l yX4_walkAhead cX4_walkAhead 9 (some .int) { frames := 6, cells := 0, slots := 0, locals := 141 } G [.ref m, .int (zI h), .int (zI yard), .int (zI t), .int (zI what)] [(m, .inr (11, [.int (zI (n : Int)), .ref g1, .ref g2, .ref g3, .ref g4, .ref g5, .int (zI oa), .int (zI dy), .ref s1, .ref s2, .ref s3, .ref s4, .ref s5, .ref s6, .int (zI thr), .int (zI rdg), .int (zI plc), .int (zI ibd), .int (zI stm), .ref t1, .ref t2, .ref t3, .ref c0, .ref c1, .ref c2, .ref c3, .int (zI him), .int (zI pl0), .int (zI itk), ki, .int (zI chd), .int (zI chf), .ref y0, .int (zI sd), .ref y1])), (g1, AI G 7 (fun z_ => (kd z_ : Int))), (g2, AI G 7 fg), (g3, AI G 7 hm), (g4, AI G 7 at_), (g5, AI G 7 lg), (c0, AI G 38 kc)] (Qi G [(m, .inr (11, [.int (zI (n : Int)), .ref g1, .ref g2, .ref g3, .ref g4, .ref g5, .int (zI oa), .int (zI dy), .ref s1, .ref s2, .ref s3, .ref s4, .ref s5, .ref s6, .int (zI thr), .int (zI rdg), .int (zI plc), .int (zI ibd), .int (zI stm), .ref t1, .ref t2, .ref t3, .ref c0, .ref c1, .ref c2, .ref c3, .int (zI him), .int (zI pl0), .int (zI itk), ki, .int (zI chd), .int (zI chf), .ref y0, .int (zI sd), .ref y1])), (g1, AI G 7 (fun z_ => (kd z_ : Int))), (g2, AI G 7 fg), (g3, AI G 7 hm), (g4, AI G 7 at_), (g5, AI G 7 lg), (c0, AI G 38 kc)] (fun (r : Int32) (u : Value × Int × Int × (Nat → Int)) => r = zI (oWalkAhead kd fg hm at_ lg n oa h yard t what)) (fun u => [(m, .inr (11, [.int (zI (n : Int)), .ref g1, .ref g2, .ref g3, .ref g4, .ref g5, .int (zI oa), .int (zI dy), .ref s1, .ref s2, .ref s3, .ref s4, .ref s5, .ref s6, .int (zI 0), .int (zI rdg), .int (zI plc), .int (zI ibd), .int (zI stm), .ref t1, .ref t2, .ref t3, .ref c0, .ref c1, .ref c2, .ref c3, .int (zI him), .int (zI u.2.1), .int (zI u.2.2.1), u.1, .int (zI chd), .int (zI chf), .ref y0, .int (zI sd), .ref y1])), (g1, AI G 7 (fun z_ => (kd z_ : Int))), (g2, AI G 7 fg), (g3, AI G 7 hm), (g4, AI G 7 at_), (g5, AI G 7 lg), (c0, AI G 38 u.2.2.2)])) := by
  refine z_met (by decide) (Nat.le_of_ble_eq_true rfl) ?_
  intro X A hl0 hA C hQ hin
  subst hl0
  obtain ⟨hn7, hoa, hLj⟩ := id hL
  show Z X _ G 0 0 _ 0 [(0, .ref m), (1, .int (zI h)), (2, .int (zI yard)), (3, .int (zI t)), (4, .int (zI what))] []
  refine z_aload_n C dX4_walkAhead_0 rfl 0 rfl ?_
  refine y_iconst C dX4_walkAhead_1 ?_
  refine z_put (q := 0) (kf := 14) (ws' := [(m, .inr (11, [.int (zI (n : Int)), .ref g1, .ref g2, .ref g3, .ref g4, .ref g5, .int (zI oa), .int (zI dy), .ref s1, .ref s2, .ref s3, .ref s4, .ref s5, .ref s6, .int (zI 0), .int (zI rdg), .int (zI plc), .int (zI ibd), .int (zI stm), .ref t1, .ref t2, .ref t3, .ref c0, .ref c1, .ref c2, .ref c3, .int (zI him), .int (zI pl0), .int (zI itk), ki, .int (zI chd), .int (zI chf), .ref y0, .int (zI sd), .ref y1])), (g1, AI G 7 (fun z_ => (kd z_ : Int))), (g2, AI G 7 fg), (g3, AI G 7 hm), (g4, AI G 7 at_), (g5, AI G 7 lg), (c0, AI G 38 kc)]) C rfl rfl in_X4 tyX4_ok nmX4 (by decide) q1101 rfl rfl rfl rfl rfl (nlt rfl) rfl dX4_walkAhead_2 ?_
  refine z_aload_n C dX4_walkAhead_5 rfl 0 rfl ?_
  refine z_iload_n C dX4_walkAhead_6 rfl 1 rfl ?_
  refine z_i C (z_runV (q := 0) (As := [.int (zI h)]) (rest := []) C (ct_X4_isHorse (zl X) G m g1 g2 g3 g4 g5 n oa dy ([.ref s1, .ref s2, .ref s3, .ref s4, .ref s5, .ref s6, .int (zI 0), .int (zI rdg), .int (zI plc), .int (zI ibd), .int (zI stm), .ref t1, .ref t2, .ref t3, .ref c0, .ref c1, .ref c2, .ref c3, .int (zI him), .int (zI pl0), .int (zI itk), ki, .int (zI chd), .int (zI chf), .ref y0, .int (zI sd), .ref y1]) h (by first | assumption | omega) (by first | assumption | omega)) (lw_V q1255 q1257 qs33 q61 q1258) rfl rfl (sb_e [0] rfl rfl) (na := 1) (by decide +kernel) rfl (zrm rfl rfl (rfl) (rfl)) rfl (Nat.le_of_ble_eq_true rfl) dX4_walkAhead_7) (fun u => jn_ro (sb_e [0] rfl rfl)) (fun r_7 u hp_7 => ?_)
  have hp_7 : r_7 = zI (bI (0 ≤ h ∧ h ≤ (n : Int) - 1)) := hp_7
  subst hp_7
  refine y_beq (tgt := 43) C dX4_walkAhead_10 (by decide) (fun c_10 => ?_) (fun c_10 => ?_)
  · skip
    refine y_iconst C dX4_walkAhead_43 ?_
    exact z_iret C hA hQ rfl (Nat.le_of_ble_eq_true rfl) (Nat.le_of_ble_eq_true rfl) ((ki, pl0, itk, kc)) (congrArg zI (by unfold oWalkAhead; (try simp only [zTN]); (repeat (first | rw [if_pos (by omega)] | rw [if_neg (by omega)])); first | done | rfl)) (sb_e [0, 1, 2, 3, 4, 5, 6] rfl rfl) dX4_walkAhead_44
  · skip
    refine z_iload_n C dX4_walkAhead_13 rfl 2 rfl ?_
    refine z_i C (z_runS (As := [.int (zI yard)]) (rest := []) C (ct_X4_isYard (zl X) G yard (by first | assumption | omega)) (lw_S q1251 q1252 q61 q1253) (sb_e [] rfl rfl) (na := 1) (by decide +kernel) rfl (zrm rfl rfl (rfl) (rfl)) rfl (Nat.le_of_ble_eq_true rfl) dX4_walkAhead_14) (fun u => jn_ro (sb_e [] rfl rfl)) (fun r_14 u hp_14 => ?_)
    have hp_14 : r_14 = zI (bI (0 ≤ yard ∧ yard ≤ 20)) := hp_14
    subst hp_14
    refine y_beq (tgt := 43) C dX4_walkAhead_17 (by decide) (fun c_17 => ?_) (fun c_17 => ?_)
    · skip
      refine y_iconst C dX4_walkAhead_43 ?_
      exact z_iret C hA hQ rfl (Nat.le_of_ble_eq_true rfl) (Nat.le_of_ble_eq_true rfl) ((ki, pl0, itk, kc)) (congrArg zI (by unfold oWalkAhead; (try simp only [zTN]); (repeat (first | rw [if_pos (by omega)] | rw [if_neg (by omega)])); first | done | rfl)) (sb_e [0, 1, 2, 3, 4, 5, 6] rfl rfl) dX4_walkAhead_44
    · skip
      refine z_iload_n C dX4_walkAhead_20 rfl 3 rfl ?_
      refine y_i2l C (by omega) dX4_walkAhead_21 ?_
      refine z_lconst (v := zL 0) C dX4_walkAhead_22 (by decide) ?_
      refine z_ldc2 C q1411 dX4_walkAhead_23 ?_
      refine z_eql (y := zL 30) (by decide) ?_
      refine z_i C (z_runS (As := [.long (zL t), .long (zL 0), .long (zL 30)]) (rest := []) C (ct_X4_in (zl X) G t 0 30 (by first | assumption | omega) (by first | assumption | omega) (by first | assumption | omega)) (lw_S q1207 q1208 q61 q1209) (sb_e [] rfl rfl) (na := 3) (by decide +kernel) rfl (zrm rfl rfl (rfl) (rfl)) rfl (Nat.le_of_ble_eq_true rfl) dX4_walkAhead_26) (fun u => jn_ro (sb_e [] rfl rfl)) (fun r_26 u hp_26 => ?_)
      have hp_26 : r_26 = zI (bI (0 ≤ t ∧ t ≤ 30)) := hp_26
      subst hp_26
      refine y_beq (tgt := 43) C dX4_walkAhead_29 (by decide) (fun c_29 => ?_) (fun c_29 => ?_)
      · skip
        refine y_iconst C dX4_walkAhead_43 ?_
        exact z_iret C hA hQ rfl (Nat.le_of_ble_eq_true rfl) (Nat.le_of_ble_eq_true rfl) ((ki, pl0, itk, kc)) (congrArg zI (by unfold oWalkAhead; (try simp only [zTN]); (repeat (first | rw [if_pos (by omega)] | rw [if_neg (by omega)])); first | done | rfl)) (sb_e [0, 1, 2, 3, 4, 5, 6] rfl rfl) dX4_walkAhead_44
      · skip
        refine z_iload C dX4_walkAhead_32 4 rfl ?_
        refine y_i2l C (by omega) dX4_walkAhead_34 ?_
        refine z_lconst (v := zL 0) C dX4_walkAhead_35 (by decide) ?_
        refine z_lconst (v := zL 1) C dX4_walkAhead_36 (by decide) ?_
        refine z_i C (z_runS (As := [.long (zL what), .long (zL 0), .long (zL 1)]) (rest := []) C (ct_X4_in (zl X) G what 0 1 (by first | assumption | omega) (by first | assumption | omega) (by first | assumption | omega)) (lw_S q1207 q1208 q61 q1209) (sb_e [] rfl rfl) (na := 3) (by decide +kernel) rfl (zrm rfl rfl (rfl) (rfl)) rfl (Nat.le_of_ble_eq_true rfl) dX4_walkAhead_37) (fun u => jn_ro (sb_e [] rfl rfl)) (fun r_37 u hp_37 => ?_)
        have hp_37 : r_37 = zI (bI (0 ≤ what ∧ what ≤ 1)) := hp_37
        subst hp_37
        refine y_bne (tgt := 45) C dX4_walkAhead_40 (by decide) (fun c_40 => ?_) (fun c_40 => ?_)
        · skip
          obtain ⟨j, rfl⟩ := Int.eq_ofNat_of_zero_le (show 0 ≤ h by omega)
          obtain ⟨t0, rfl⟩ := Int.eq_ofNat_of_zero_le (show 0 ≤ t by omega)
          refine y_iconst C dX4_walkAhead_45 ?_
          refine z_istore (lv' := [(5, .int (zI 0)), (0, .ref m), (1, .int (zI (j : Int))), (2, .int (zI yard)), (3, .int (zI (t0 : Int))), (4, .int (zI what))]) C dX4_walkAhead_46 (nlt rfl) rfl ?_
          refine y_iconst C dX4_walkAhead_48 ?_
          refine z_istore (lv' := [(6, .int (zI (-1))), (5, .int (zI 0)), (0, .ref m), (1, .int (zI (j : Int))), (2, .int (zI yard)), (3, .int (zI (t0 : Int))), (4, .int (zI what))]) C dX4_walkAhead_49 (nlt rfl) rfl ?_
          refine z_aload_n C dX4_walkAhead_51 rfl 2 rfl ?_
          refine z_v (ws' := fun u => [(m, .inr (11, [.int (zI (n : Int)), .ref g1, .ref g2, .ref g3, .ref g4, .ref g5, .int (zI oa), .int (zI dy), .ref s1, .ref s2, .ref s3, .ref s4, .ref s5, .ref s6, .int (zI 0), .int (zI rdg), .int (zI plc), .int (zI ibd), .int (zI stm), .ref t1, .ref t2, .ref t3, .ref c0, .ref c1, .ref c2, .ref c3, .int (zI him), .int (zI 38), .int (zI 1), .ref c0, .int (zI chd), .int (zI chf), .ref y0, .int (zI sd), .ref y1])), (g1, AI G 7 (fun z_ => (kd z_ : Int))), (g2, AI G 7 fg), (g3, AI G 7 hm), (g4, AI G 7 at_), (g5, AI G 7 lg), (c0, AI G 38 (encF n oa dy kd fg hm at_ lg))]) C (z_runV (q := 0) (As := []) (rest := []) C (ct_X4_open (zl X) G m g1 g2 g3 g4 g5 s1 s2 s3 s4 s5 s6 t1 t2 t3 c0 c1 c2 c3 y0 y1 0 rdg plc ibd stm him pl0 itk chd chf sd ki kd fg hm at_ lg n oa dy kc ) (lw_V q1231 q1233 qs28 q61 q1234) rfl rfl (sb_e [0, 1, 2, 3, 4, 5, 6] rfl rfl) (na := 0) (by decide +kernel) rfl (zrm rfl rfl (rfl) (rfl)) rfl (Nat.le_of_ble_eq_true rfl) dX4_walkAhead_52) (fun u => jn_e (wr := []) [0, 1, 2, 3, 4, 5, 6] [] [0, 1, 2, 3, 4, 5, 6] rfl rfl rfl (by decide) rfl rfl) (fun u hp_52 => ?_)
          refine y_iconst C dX4_walkAhead_55 ?_
          refine z_istore (lv' := [(7, .int (zI 0)), (6, .int (zI (-1))), (5, .int (zI 0)), (0, .ref m), (1, .int (zI (j : Int))), (2, .int (zI yard)), (3, .int (zI (t0 : Int))), (4, .int (zI what))]) C dX4_walkAhead_56 (nlt rfl) rfl ?_
          have L_58 : ∀ (tt : Nat) (i : Nat) (bst : Int) (lst : Int) (itb : Int), (i ≤ 21) → (MI (walkF kd fg hm at_ lg n oa j yard t0) i bst lst) → 21 - i = tt → Z X (cX4_walkAhead, 9, yX4_walkAhead.cls, (some .int), { frames := 6, cells := 0, slots := 0, locals := 141 }, A) G 0 0 [(m, .inr (11, [.int (zI (n : Int)), .ref g1, .ref g2, .ref g3, .ref g4, .ref g5, .int (zI oa), .int (zI dy), .ref s1, .ref s2, .ref s3, .ref s4, .ref s5, .ref s6, .int (zI 0), .int (zI rdg), .int (zI plc), .int (zI ibd), .int (zI stm), .ref t1, .ref t2, .ref t3, .ref c0, .ref c1, .ref c2, .ref c3, .int (zI him), .int (zI 38), .int (zI itb), .ref c0, .int (zI chd), .int (zI chf), .ref y0, .int (zI sd), .ref y1])), (g1, AI G 7 (fun z_ => (kd z_ : Int))), (g2, AI G 7 fg), (g3, AI G 7 hm), (g4, AI G 7 at_), (g5, AI G 7 lg), (c0, AI G 38 (encF n oa dy kd fg hm at_ lg))] 58 [(7, .int (zI (i : Int))), (6, .int (zI lst)), (5, .int (zI bst)), (0, .ref m), (1, .int (zI (j : Int))), (2, .int (zI yard)), (3, .int (zI (t0 : Int))), (4, .int (zI what))] [] := by
            intro tt
            induction tt using Nat.strongRecOn with
            | _ tt ih_58 =>
              intro i bst lst itb hi hmf ht_58
              have hmb := MI_b hmf (walkF_r kd fg hm at_ lg n oa j yard t0) (by omega)
              refine z_iload C dX4_walkAhead_58 0 rfl ?_
              refine y_bipush C dX4_walkAhead_60 (by decide) ?_
              refine y_icmp_gt (tgt := 138) C (by omega) (by omega) dX4_walkAhead_62 (by decide) (fun c_62 => ?_) (fun c_62 => ?_)
              · skip
                rw [show i = 21 by omega] at hmf
                refine z_iload C dX4_walkAhead_138 7 rfl ?_
                refine y_if_ne (tgt := 148) C (by omega) dX4_walkAhead_140 (by decide) (fun c_140 => ?_) (fun c_140 => ?_)
                · skip
                  refine z_iload C dX4_walkAhead_148 1 rfl ?_
                  exact z_iret C hA hQ rfl (Nat.le_of_ble_eq_true rfl) (Nat.le_of_ble_eq_true rfl) (((.ref c0), 38, itb, (encF n oa dy kd fg hm at_ lg))) (congrArg zI (by unfold oWalkAhead; rw [if_pos (by omega)]; (try simp only [zTN]); rw [MI_e hmf (by omega)]; first | rw [if_pos (by omega)] | rw [if_neg (by omega)])) (sb_e [0, 1, 2, 3, 4, 5, 6] rfl rfl) dX4_walkAhead_150
                · skip
                  refine z_iload C dX4_walkAhead_143 2 rfl ?_
                  refine z_goto (tgt := 150) C dX4_walkAhead_145 (by decide) ?_
                  exact z_iret C hA hQ rfl (Nat.le_of_ble_eq_true rfl) (Nat.le_of_ble_eq_true rfl) (((.ref c0), 38, itb, (encF n oa dy kd fg hm at_ lg))) (congrArg zI (by unfold oWalkAhead; rw [if_pos (by omega)]; (try simp only [zTN]); rw [MI_e hmf (by omega)]; first | rw [if_pos (by omega)] | rw [if_neg (by omega)])) (sb_e [0, 1, 2, 3, 4, 5, 6] rfl rfl) dX4_walkAhead_150
              · skip
                refine z_aload_n C dX4_walkAhead_65 rfl 3 rfl ?_
                refine z_get (q := 0) (kf := 4) (v := .ref g4) C rfl rfl in_X4 (by decide) q1091 (Or.inl rfl) rfl dX4_walkAhead_66 ?_
                refine z_iload_n C dX4_walkAhead_69 rfl 4 rfl ?_
                refine z_iload C dX4_walkAhead_70 0 rfl ?_
                refine y_iast (q := 4) (t0 := 0) (g := va_up at_ j (i : Int)) (ws' := [(m, .inr (11, [.int (zI (n : Int)), .ref g1, .ref g2, .ref g3, .ref g4, .ref g5, .int (zI oa), .int (zI dy), .ref s1, .ref s2, .ref s3, .ref s4, .ref s5, .ref s6, .int (zI 0), .int (zI rdg), .int (zI plc), .int (zI ibd), .int (zI stm), .ref t1, .ref t2, .ref t3, .ref c0, .ref c1, .ref c2, .ref c3, .int (zI him), .int (zI 38), .int (zI itb), .ref c0, .int (zI chd), .int (zI chf), .ref y0, .int (zI sd), .ref y1])), (g1, AI G 7 (fun z_ => (kd z_ : Int))), (g2, AI G 7 fg), (g3, AI G 7 hm), (g4, AI G 7 (va_up at_ j (i : Int))), (g5, AI G 7 lg), (c0, AI G 38 (encF n oa dy kd fg hm at_ lg))]) C rfl rfl (by omega) (by decide) rfl rfl dX4_walkAhead_72 ?_
                refine z_aload_n C dX4_walkAhead_73 rfl 3 rfl ?_
                refine z_iload_n C dX4_walkAhead_74 rfl 6 rfl ?_
                refine z_v (ws' := fun u => [(m, .inr (11, [.int (zI (n : Int)), .ref g1, .ref g2, .ref g3, .ref g4, .ref g5, .int (zI oa), .int (zI (dy + (t0 : Int))), .ref s1, .ref s2, .ref s3, .ref s4, .ref s5, .ref s6, .int (zI 0), .int (zI rdg), .int (zI plc), .int (zI ibd), .int (zI stm), .ref t1, .ref t2, .ref t3, .ref c0, .ref c1, .ref c2, .ref c3, .int (zI him), .int (zI 38), .int (zI itb), .ref c0, .int (zI chd), .int (zI chf), .ref y0, .int (zI sd), .ref y1])), (g1, AI G 7 (fun z_ => (kd z_ : Int))), (g2, AI G 7 fg), (g3, AI G 7 hm), (g4, AI G 7 (va_up at_ j (i : Int))), (g5, AI G 7 (goL kd fg hm (va_up at_ j (i : Int)) oa n t0 lg)), (c0, AI G 38 (encF n oa dy kd fg hm at_ lg))]) C (z_runV (q := 0) (As := [.int (zI (t0 : Int))]) (rest := []) C (ct_X4_goDays (zl X) G m g1 g2 g3 g4 g5 kd fg hm (va_up at_ j (i : Int)) lg n oa dy ([.ref s1, .ref s2, .ref s3, .ref s4, .ref s5, .ref s6, .int (zI 0), .int (zI rdg), .int (zI plc), .int (zI ibd), .int (zI stm), .ref t1, .ref t2, .ref t3, .ref c0, .ref c1, .ref c2, .ref c3, .int (zI him), .int (zI 38), .int (zI itb), .ref c0, .int (zI chd), .int (zI chf), .ref y0, .int (zI sd), .ref y1]) t0 (hL.at (by omega)) (by first | assumption | omega)) (lw_V q1298 q1300 qs42 q61 q1301) rfl rfl (sb_e [0, 1, 2, 3, 4, 5] rfl rfl) (na := 1) (by decide +kernel) rfl (zrm rfl rfl (rfl) (rfl)) rfl (Nat.le_of_ble_eq_true rfl) dX4_walkAhead_75) (fun u => jn_e (wr := [(c0, AI G 38 (encF n oa dy kd fg hm at_ lg))]) [0, 1, 2, 3, 4, 5] [6] [1, 2, 3, 4, 5, 6, 0] rfl rfl rfl (by decide) rfl rfl) (fun u hp_75 => ?_)
                refine z_aload_n C dX4_walkAhead_78 rfl 3 rfl ?_
                refine z_iload_n C dX4_walkAhead_79 rfl 4 rfl ?_
                refine z_iload_n C dX4_walkAhead_80 rfl 5 rfl ?_
                refine z_i (ws' := fun u => [(m, .inr (11, [.int (zI (n : Int)), .ref g1, .ref g2, .ref g3, .ref g4, .ref g5, .int (zI oa), .int (zI ((dy + (t0 : Int)) + ((rdN kd fg hm oa n j yard (va_up at_ j (i : Int)) (goL kd fg hm (va_up at_ j (i : Int)) oa n t0 lg)) : Int))), .ref s1, .ref s2, .ref s3, .ref s4, .ref s5, .ref s6, .int (zI 0), .int (zI rdg), .int (zI plc), .int (zI ibd), .int (zI stm), .ref t1, .ref t2, .ref t3, .ref c0, .ref c1, .ref c2, .ref c3, .int (zI him), .int (zI 38), .int (zI itb), .ref c0, .int (zI chd), .int (zI chf), .ref y0, .int (zI sd), .ref y1])), (g1, AI G 7 (fun z_ => (kd z_ : Int))), (g2, AI G 7 fg), (g3, AI G 7 hm), (g4, AI G 7 (rdA kd fg hm oa n j yard (va_up at_ j (i : Int)) (goL kd fg hm (va_up at_ j (i : Int)) oa n t0 lg))), (g5, AI G 7 (rdL kd fg hm oa n j yard (va_up at_ j (i : Int)) (goL kd fg hm (va_up at_ j (i : Int)) oa n t0 lg))), (c0, AI G 38 (encF n oa dy kd fg hm at_ lg))]) C (z_runV (q := 0) (As := [.int (zI (j : Int)), .int (zI yard)]) (rest := []) C (ct_X4_ride (zl X) G m g1 g2 g3 g4 g5 kd fg hm (va_up at_ j (i : Int)) (goL kd fg hm (va_up at_ j (i : Int)) oa n t0 lg) n oa (dy + (t0 : Int)) ([.ref s1, .ref s2, .ref s3, .ref s4, .ref s5, .ref s6, .int (zI 0), .int (zI rdg), .int (zI plc), .int (zI ibd), .int (zI stm), .ref t1, .ref t2, .ref t3, .ref c0, .ref c1, .ref c2, .ref c3, .int (zI him), .int (zI 38), .int (zI itb), .ref c0, .int (zI chd), .int (zI chf), .ref y0, .int (zI sd), .ref y1]) j yard ((hL.at (by omega)).go t0) (by omega) (by first | assumption | omega)) (lw_V q1259 q1261 qs34 q61 q1262) rfl rfl (sb_e [0, 1, 2, 3, 4, 5] rfl rfl) (na := 2) (by decide +kernel) rfl (zrm rfl rfl (rfl) (rfl)) rfl (Nat.le_of_ble_eq_true rfl) dX4_walkAhead_81) (fun u => jn_e (wr := [(c0, AI G 38 (encF n oa dy kd fg hm at_ lg))]) [0, 1, 2, 3, 4, 5] [6] [1, 2, 3, 4, 5, 6, 0] rfl rfl rfl (by decide) rfl rfl) (fun r_81 u hp_81 => ?_)
                have hp_81 : r_81 = zI ((rdN kd fg hm oa n j yard (va_up at_ j (i : Int)) (goL kd fg hm (va_up at_ j (i : Int)) oa n t0 lg)) : Int) := hp_81
                subst hp_81
                have hwf := walkF_r kd fg hm at_ lg n oa j yard t0 i
                rw [show ((rdN kd fg hm oa n j yard (va_up at_ j (i : Int)) (goL kd fg hm (va_up at_ j (i : Int)) oa n t0 lg)) : Int) = walkF kd fg hm at_ lg n oa j yard t0 i from rfl]
                refine z_istore (lv' := [(8, .int (zI (walkF kd fg hm at_ lg n oa j yard t0 i))), (7, .int (zI (i : Int))), (6, .int (zI lst)), (5, .int (zI bst)), (0, .ref m), (1, .int (zI (j : Int))), (2, .int (zI yard)), (3, .int (zI (t0 : Int))), (4, .int (zI what))]) C dX4_walkAhead_84 (nlt rfl) rfl ?_
                refine z_aload_n C dX4_walkAhead_86 rfl 4 rfl ?_
                refine z_v (ws' := fun u => [(m, .inr (11, [.int (zI (n : Int)), .ref g1, .ref g2, .ref g3, .ref g4, .ref g5, .int (zI oa), .int (zI dy), .ref s1, .ref s2, .ref s3, .ref s4, .ref s5, .ref s6, .int (zI 0), .int (zI rdg), .int (zI plc), .int (zI ibd), .int (zI stm), .ref t1, .ref t2, .ref t3, .ref c0, .ref c1, .ref c2, .ref c3, .int (zI him), .int (zI 38), .int (zI 0), .ref c0, .int (zI chd), .int (zI chf), .ref y0, .int (zI sd), .ref y1])), (g1, AI G 7 (fun z_ => (kd z_ : Int))), (g2, AI G 7 fg), (g3, AI G 7 hm), (g4, AI G 7 at_), (g5, AI G 7 lg), (c0, AI G 38 (encF n oa dy kd fg hm at_ lg))]) C (z_runV (q := 0) (As := []) (rest := []) C (ct_X4_close (zl X) G m g1 g2 g3 g4 g5 s1 s2 s3 s4 s5 s6 t1 t2 t3 c0 c1 c2 c3 y0 y1 0 rdg plc ibd stm him 38 itb chd chf sd (.ref c0) (fun z_ => (kd z_ : Int)) fg hm (rdA kd fg hm oa n j yard (va_up at_ j (i : Int)) (goL kd fg hm (va_up at_ j (i : Int)) oa n t0 lg)) (rdL kd fg hm oa n j yard (va_up at_ j (i : Int)) (goL kd fg hm (va_up at_ j (i : Int)) oa n t0 lg)) n oa ((dy + (t0 : Int)) + ((rdN kd fg hm oa n j yard (va_up at_ j (i : Int)) (goL kd fg hm (va_up at_ j (i : Int)) oa n t0 lg)) : Int)) kd fg hm at_ lg n oa dy ) (lw_V q1302 q1304 qs43 q61 q1305) rfl rfl (sb_e [0, 1, 2, 3, 4, 5, 6] rfl rfl) (na := 0) (by decide +kernel) rfl (zrm rfl rfl (rfl) (rfl)) rfl (Nat.le_of_ble_eq_true rfl) dX4_walkAhead_87) (fun u => jn_e (wr := []) [0, 1, 2, 3, 4, 5, 6] [] [0, 1, 2, 3, 4, 5, 6] rfl rfl rfl (by decide) rfl rfl) (fun u hp_87 => ?_)
                refine z_iload C dX4_walkAhead_90 2 rfl ?_
                refine y_if_lt (tgt := 102) C (by omega) dX4_walkAhead_92 (by decide) (fun c_92 => ?_) (fun c_92 => ?_)
                · skip
                  refine z_iload C dX4_walkAhead_102 1 rfl ?_
                  refine z_goto (tgt := 109) C dX4_walkAhead_104 (by decide) ?_
                  refine z_istore (lv' := [(5, .int (zI (i : Int))), (8, .int (zI (walkF kd fg hm at_ lg n oa j yard t0 i))), (7, .int (zI (i : Int))), (6, .int (zI lst)), (0, .ref m), (1, .int (zI (j : Int))), (2, .int (zI yard)), (3, .int (zI (t0 : Int))), (4, .int (zI what))]) C dX4_walkAhead_109 (nlt rfl) rfl ?_
                  refine z_iload C dX4_walkAhead_111 3 rfl ?_
                  refine y_if_lt (tgt := 123) C (by omega) dX4_walkAhead_113 (by decide) (fun c_113 => ?_) (fun c_113 => ?_)
                  · skip
                    refine z_iload C dX4_walkAhead_123 1 rfl ?_
                    refine z_goto (tgt := 130) C dX4_walkAhead_125 (by decide) ?_
                    refine z_istore (lv' := [(6, .int (zI (walkF kd fg hm at_ lg n oa j yard t0 i))), (5, .int (zI (i : Int))), (8, .int (zI (walkF kd fg hm at_ lg n oa j yard t0 i))), (7, .int (zI (i : Int))), (0, .ref m), (1, .int (zI (j : Int))), (2, .int (zI yard)), (3, .int (zI (t0 : Int))), (4, .int (zI what))]) C dX4_walkAhead_130 (nlt rfl) rfl ?_
                    refine y_iinc (lv' := [(7, .int (zI ((i : Int) + 1))), (6, .int (zI (walkF kd fg hm at_ lg n oa j yard t0 i))), (5, .int (zI (i : Int))), (8, .int (zI (walkF kd fg hm at_ lg n oa j yard t0 i))), (0, .ref m), (1, .int (zI (j : Int))), (2, .int (zI yard)), (3, .int (zI (t0 : Int))), (4, .int (zI what))]) C dX4_walkAhead_132 (q := 3) rfl (nlt rfl) rfl ?_
                    refine z_goto (tgt := 58) C dX4_walkAhead_135 (by decide) ?_
                    refine z_lv (lv' := [(7, .int (zI ((i : Int) + 1))), (6, .int (zI (walkF kd fg hm at_ lg n oa j yard t0 i))), (5, .int (zI (i : Int))), (0, .ref m), (1, .int (zI (j : Int))), (2, .int (zI yard)), (3, .int (zI (t0 : Int))), (4, .int (zI what))]) [0, 1, 2, 4, 5, 6, 7, 8] rfl ?_
                    exact ih_58 _ (by omega) (i + 1) (i : Int) (walkF kd fg hm at_ lg n oa j yard t0 i) 0 (by first | assumption | omega) (by first | (exfalso; omega) | exact MI_t (fun y => (walkF_r kd fg hm at_ lg n oa j yard t0 y).1) hmf (by omega) | exact MI_f hmf (by omega)) rfl
                  · skip
                    refine z_iload C dX4_walkAhead_116 1 rfl ?_
                    refine z_iload C dX4_walkAhead_118 3 rfl ?_
                    refine y_icmp_ge (tgt := 128) C (by omega) (by omega) dX4_walkAhead_120 (by decide) (fun c_120 => ?_) (fun c_120 => ?_)
                    · skip
                      refine z_iload C dX4_walkAhead_128 3 rfl ?_
                      refine z_istore (lv' := [(6, .int (zI lst)), (5, .int (zI (i : Int))), (8, .int (zI (walkF kd fg hm at_ lg n oa j yard t0 i))), (7, .int (zI (i : Int))), (0, .ref m), (1, .int (zI (j : Int))), (2, .int (zI yard)), (3, .int (zI (t0 : Int))), (4, .int (zI what))]) C dX4_walkAhead_130 (nlt rfl) rfl ?_
                      refine y_iinc (lv' := [(7, .int (zI ((i : Int) + 1))), (6, .int (zI lst)), (5, .int (zI (i : Int))), (8, .int (zI (walkF kd fg hm at_ lg n oa j yard t0 i))), (0, .ref m), (1, .int (zI (j : Int))), (2, .int (zI yard)), (3, .int (zI (t0 : Int))), (4, .int (zI what))]) C dX4_walkAhead_132 (q := 3) rfl (nlt rfl) rfl ?_
                      refine z_goto (tgt := 58) C dX4_walkAhead_135 (by decide) ?_
                      refine z_lv (lv' := [(7, .int (zI ((i : Int) + 1))), (6, .int (zI lst)), (5, .int (zI (i : Int))), (0, .ref m), (1, .int (zI (j : Int))), (2, .int (zI yard)), (3, .int (zI (t0 : Int))), (4, .int (zI what))]) [0, 1, 2, 4, 5, 6, 7, 8] rfl ?_
                      exact ih_58 _ (by omega) (i + 1) (i : Int) lst 0 (by first | assumption | omega) (by first | (exfalso; omega) | exact MI_t (fun y => (walkF_r kd fg hm at_ lg n oa j yard t0 y).1) hmf (by omega) | exact MI_f hmf (by omega)) rfl
                    · skip
                      refine z_iload C dX4_walkAhead_123 1 rfl ?_
                      refine z_goto (tgt := 130) C dX4_walkAhead_125 (by decide) ?_
                      refine z_istore (lv' := [(6, .int (zI (walkF kd fg hm at_ lg n oa j yard t0 i))), (5, .int (zI (i : Int))), (8, .int (zI (walkF kd fg hm at_ lg n oa j yard t0 i))), (7, .int (zI (i : Int))), (0, .ref m), (1, .int (zI (j : Int))), (2, .int (zI yard)), (3, .int (zI (t0 : Int))), (4, .int (zI what))]) C dX4_walkAhead_130 (nlt rfl) rfl ?_
                      refine y_iinc (lv' := [(7, .int (zI ((i : Int) + 1))), (6, .int (zI (walkF kd fg hm at_ lg n oa j yard t0 i))), (5, .int (zI (i : Int))), (8, .int (zI (walkF kd fg hm at_ lg n oa j yard t0 i))), (0, .ref m), (1, .int (zI (j : Int))), (2, .int (zI yard)), (3, .int (zI (t0 : Int))), (4, .int (zI what))]) C dX4_walkAhead_132 (q := 3) rfl (nlt rfl) rfl ?_
                      refine z_goto (tgt := 58) C dX4_walkAhead_135 (by decide) ?_
                      refine z_lv (lv' := [(7, .int (zI ((i : Int) + 1))), (6, .int (zI (walkF kd fg hm at_ lg n oa j yard t0 i))), (5, .int (zI (i : Int))), (0, .ref m), (1, .int (zI (j : Int))), (2, .int (zI yard)), (3, .int (zI (t0 : Int))), (4, .int (zI what))]) [0, 1, 2, 4, 5, 6, 7, 8] rfl ?_
                      exact ih_58 _ (by omega) (i + 1) (i : Int) (walkF kd fg hm at_ lg n oa j yard t0 i) 0 (by first | assumption | omega) (by first | (exfalso; omega) | exact MI_t (fun y => (walkF_r kd fg hm at_ lg n oa j yard t0 y).1) hmf (by omega) | exact MI_f hmf (by omega)) rfl
                · skip
                  refine z_iload C dX4_walkAhead_95 0 rfl ?_
                  refine z_iload C dX4_walkAhead_97 2 rfl ?_
                  refine y_icmp_ge (tgt := 107) C (by omega) (by omega) dX4_walkAhead_99 (by decide) (fun c_99 => ?_) (fun c_99 => ?_)
                  · skip
                    refine z_iload C dX4_walkAhead_107 3 rfl ?_
                    refine z_istore (lv' := [(5, .int (zI bst)), (8, .int (zI (walkF kd fg hm at_ lg n oa j yard t0 i))), (7, .int (zI (i : Int))), (6, .int (zI lst)), (0, .ref m), (1, .int (zI (j : Int))), (2, .int (zI yard)), (3, .int (zI (t0 : Int))), (4, .int (zI what))]) C dX4_walkAhead_109 (nlt rfl) rfl ?_
                    refine z_iload C dX4_walkAhead_111 3 rfl ?_
                    refine y_if_lt (tgt := 123) C (by omega) dX4_walkAhead_113 (by decide) (fun c_113 => ?_) (fun c_113 => ?_)
                    · skip
                      refine z_iload C dX4_walkAhead_123 1 rfl ?_
                      refine z_goto (tgt := 130) C dX4_walkAhead_125 (by decide) ?_
                      refine z_istore (lv' := [(6, .int (zI (walkF kd fg hm at_ lg n oa j yard t0 i))), (5, .int (zI bst)), (8, .int (zI (walkF kd fg hm at_ lg n oa j yard t0 i))), (7, .int (zI (i : Int))), (0, .ref m), (1, .int (zI (j : Int))), (2, .int (zI yard)), (3, .int (zI (t0 : Int))), (4, .int (zI what))]) C dX4_walkAhead_130 (nlt rfl) rfl ?_
                      refine y_iinc (lv' := [(7, .int (zI ((i : Int) + 1))), (6, .int (zI (walkF kd fg hm at_ lg n oa j yard t0 i))), (5, .int (zI bst)), (8, .int (zI (walkF kd fg hm at_ lg n oa j yard t0 i))), (0, .ref m), (1, .int (zI (j : Int))), (2, .int (zI yard)), (3, .int (zI (t0 : Int))), (4, .int (zI what))]) C dX4_walkAhead_132 (q := 3) rfl (nlt rfl) rfl ?_
                      refine z_goto (tgt := 58) C dX4_walkAhead_135 (by decide) ?_
                      refine z_lv (lv' := [(7, .int (zI ((i : Int) + 1))), (6, .int (zI (walkF kd fg hm at_ lg n oa j yard t0 i))), (5, .int (zI bst)), (0, .ref m), (1, .int (zI (j : Int))), (2, .int (zI yard)), (3, .int (zI (t0 : Int))), (4, .int (zI what))]) [0, 1, 2, 4, 5, 6, 7, 8] rfl ?_
                      exact ih_58 _ (by omega) (i + 1) bst (walkF kd fg hm at_ lg n oa j yard t0 i) 0 (by first | assumption | omega) (by first | (exfalso; omega) | exact MI_t (fun y => (walkF_r kd fg hm at_ lg n oa j yard t0 y).1) hmf (by omega) | exact MI_f hmf (by omega)) rfl
                    · skip
                      refine z_iload C dX4_walkAhead_116 1 rfl ?_
                      refine z_iload C dX4_walkAhead_118 3 rfl ?_
                      refine y_icmp_ge (tgt := 128) C (by omega) (by omega) dX4_walkAhead_120 (by decide) (fun c_120 => ?_) (fun c_120 => ?_)
                      · skip
                        refine z_iload C dX4_walkAhead_128 3 rfl ?_
                        refine z_istore (lv' := [(6, .int (zI lst)), (5, .int (zI bst)), (8, .int (zI (walkF kd fg hm at_ lg n oa j yard t0 i))), (7, .int (zI (i : Int))), (0, .ref m), (1, .int (zI (j : Int))), (2, .int (zI yard)), (3, .int (zI (t0 : Int))), (4, .int (zI what))]) C dX4_walkAhead_130 (nlt rfl) rfl ?_
                        refine y_iinc (lv' := [(7, .int (zI ((i : Int) + 1))), (6, .int (zI lst)), (5, .int (zI bst)), (8, .int (zI (walkF kd fg hm at_ lg n oa j yard t0 i))), (0, .ref m), (1, .int (zI (j : Int))), (2, .int (zI yard)), (3, .int (zI (t0 : Int))), (4, .int (zI what))]) C dX4_walkAhead_132 (q := 3) rfl (nlt rfl) rfl ?_
                        refine z_goto (tgt := 58) C dX4_walkAhead_135 (by decide) ?_
                        refine z_lv (lv' := [(7, .int (zI ((i : Int) + 1))), (6, .int (zI lst)), (5, .int (zI bst)), (0, .ref m), (1, .int (zI (j : Int))), (2, .int (zI yard)), (3, .int (zI (t0 : Int))), (4, .int (zI what))]) [0, 1, 2, 4, 5, 6, 7, 8] rfl ?_
                        exact ih_58 _ (by omega) (i + 1) bst lst 0 (by first | assumption | omega) (by first | (exfalso; omega) | exact MI_t (fun y => (walkF_r kd fg hm at_ lg n oa j yard t0 y).1) hmf (by omega) | exact MI_f hmf (by omega)) rfl
                      · skip
                        refine z_iload C dX4_walkAhead_123 1 rfl ?_
                        refine z_goto (tgt := 130) C dX4_walkAhead_125 (by decide) ?_
                        refine z_istore (lv' := [(6, .int (zI (walkF kd fg hm at_ lg n oa j yard t0 i))), (5, .int (zI bst)), (8, .int (zI (walkF kd fg hm at_ lg n oa j yard t0 i))), (7, .int (zI (i : Int))), (0, .ref m), (1, .int (zI (j : Int))), (2, .int (zI yard)), (3, .int (zI (t0 : Int))), (4, .int (zI what))]) C dX4_walkAhead_130 (nlt rfl) rfl ?_
                        refine y_iinc (lv' := [(7, .int (zI ((i : Int) + 1))), (6, .int (zI (walkF kd fg hm at_ lg n oa j yard t0 i))), (5, .int (zI bst)), (8, .int (zI (walkF kd fg hm at_ lg n oa j yard t0 i))), (0, .ref m), (1, .int (zI (j : Int))), (2, .int (zI yard)), (3, .int (zI (t0 : Int))), (4, .int (zI what))]) C dX4_walkAhead_132 (q := 3) rfl (nlt rfl) rfl ?_
                        refine z_goto (tgt := 58) C dX4_walkAhead_135 (by decide) ?_
                        refine z_lv (lv' := [(7, .int (zI ((i : Int) + 1))), (6, .int (zI (walkF kd fg hm at_ lg n oa j yard t0 i))), (5, .int (zI bst)), (0, .ref m), (1, .int (zI (j : Int))), (2, .int (zI yard)), (3, .int (zI (t0 : Int))), (4, .int (zI what))]) [0, 1, 2, 4, 5, 6, 7, 8] rfl ?_
                        exact ih_58 _ (by omega) (i + 1) bst (walkF kd fg hm at_ lg n oa j yard t0 i) 0 (by first | assumption | omega) (by first | (exfalso; omega) | exact MI_t (fun y => (walkF_r kd fg hm at_ lg n oa j yard t0 y).1) hmf (by omega) | exact MI_f hmf (by omega)) rfl
                  · skip
                    refine z_iload C dX4_walkAhead_102 1 rfl ?_
                    refine z_goto (tgt := 109) C dX4_walkAhead_104 (by decide) ?_
                    refine z_istore (lv' := [(5, .int (zI (i : Int))), (8, .int (zI (walkF kd fg hm at_ lg n oa j yard t0 i))), (7, .int (zI (i : Int))), (6, .int (zI lst)), (0, .ref m), (1, .int (zI (j : Int))), (2, .int (zI yard)), (3, .int (zI (t0 : Int))), (4, .int (zI what))]) C dX4_walkAhead_109 (nlt rfl) rfl ?_
                    refine z_iload C dX4_walkAhead_111 3 rfl ?_
                    refine y_if_lt (tgt := 123) C (by omega) dX4_walkAhead_113 (by decide) (fun c_113 => ?_) (fun c_113 => ?_)
                    · skip
                      refine z_iload C dX4_walkAhead_123 1 rfl ?_
                      refine z_goto (tgt := 130) C dX4_walkAhead_125 (by decide) ?_
                      refine z_istore (lv' := [(6, .int (zI (walkF kd fg hm at_ lg n oa j yard t0 i))), (5, .int (zI (i : Int))), (8, .int (zI (walkF kd fg hm at_ lg n oa j yard t0 i))), (7, .int (zI (i : Int))), (0, .ref m), (1, .int (zI (j : Int))), (2, .int (zI yard)), (3, .int (zI (t0 : Int))), (4, .int (zI what))]) C dX4_walkAhead_130 (nlt rfl) rfl ?_
                      refine y_iinc (lv' := [(7, .int (zI ((i : Int) + 1))), (6, .int (zI (walkF kd fg hm at_ lg n oa j yard t0 i))), (5, .int (zI (i : Int))), (8, .int (zI (walkF kd fg hm at_ lg n oa j yard t0 i))), (0, .ref m), (1, .int (zI (j : Int))), (2, .int (zI yard)), (3, .int (zI (t0 : Int))), (4, .int (zI what))]) C dX4_walkAhead_132 (q := 3) rfl (nlt rfl) rfl ?_
                      refine z_goto (tgt := 58) C dX4_walkAhead_135 (by decide) ?_
                      refine z_lv (lv' := [(7, .int (zI ((i : Int) + 1))), (6, .int (zI (walkF kd fg hm at_ lg n oa j yard t0 i))), (5, .int (zI (i : Int))), (0, .ref m), (1, .int (zI (j : Int))), (2, .int (zI yard)), (3, .int (zI (t0 : Int))), (4, .int (zI what))]) [0, 1, 2, 4, 5, 6, 7, 8] rfl ?_
                      exact ih_58 _ (by omega) (i + 1) (i : Int) (walkF kd fg hm at_ lg n oa j yard t0 i) 0 (by first | assumption | omega) (by first | (exfalso; omega) | exact MI_t (fun y => (walkF_r kd fg hm at_ lg n oa j yard t0 y).1) hmf (by omega) | exact MI_f hmf (by omega)) rfl
                    · skip
                      refine z_iload C dX4_walkAhead_116 1 rfl ?_
                      refine z_iload C dX4_walkAhead_118 3 rfl ?_
                      refine y_icmp_ge (tgt := 128) C (by omega) (by omega) dX4_walkAhead_120 (by decide) (fun c_120 => ?_) (fun c_120 => ?_)
                      · skip
                        refine z_iload C dX4_walkAhead_128 3 rfl ?_
                        refine z_istore (lv' := [(6, .int (zI lst)), (5, .int (zI (i : Int))), (8, .int (zI (walkF kd fg hm at_ lg n oa j yard t0 i))), (7, .int (zI (i : Int))), (0, .ref m), (1, .int (zI (j : Int))), (2, .int (zI yard)), (3, .int (zI (t0 : Int))), (4, .int (zI what))]) C dX4_walkAhead_130 (nlt rfl) rfl ?_
                        refine y_iinc (lv' := [(7, .int (zI ((i : Int) + 1))), (6, .int (zI lst)), (5, .int (zI (i : Int))), (8, .int (zI (walkF kd fg hm at_ lg n oa j yard t0 i))), (0, .ref m), (1, .int (zI (j : Int))), (2, .int (zI yard)), (3, .int (zI (t0 : Int))), (4, .int (zI what))]) C dX4_walkAhead_132 (q := 3) rfl (nlt rfl) rfl ?_
                        refine z_goto (tgt := 58) C dX4_walkAhead_135 (by decide) ?_
                        refine z_lv (lv' := [(7, .int (zI ((i : Int) + 1))), (6, .int (zI lst)), (5, .int (zI (i : Int))), (0, .ref m), (1, .int (zI (j : Int))), (2, .int (zI yard)), (3, .int (zI (t0 : Int))), (4, .int (zI what))]) [0, 1, 2, 4, 5, 6, 7, 8] rfl ?_
                        exact ih_58 _ (by omega) (i + 1) (i : Int) lst 0 (by first | assumption | omega) (by first | (exfalso; omega) | exact MI_t (fun y => (walkF_r kd fg hm at_ lg n oa j yard t0 y).1) hmf (by omega) | exact MI_f hmf (by omega)) rfl
                      · skip
                        refine z_iload C dX4_walkAhead_123 1 rfl ?_
                        refine z_goto (tgt := 130) C dX4_walkAhead_125 (by decide) ?_
                        refine z_istore (lv' := [(6, .int (zI (walkF kd fg hm at_ lg n oa j yard t0 i))), (5, .int (zI (i : Int))), (8, .int (zI (walkF kd fg hm at_ lg n oa j yard t0 i))), (7, .int (zI (i : Int))), (0, .ref m), (1, .int (zI (j : Int))), (2, .int (zI yard)), (3, .int (zI (t0 : Int))), (4, .int (zI what))]) C dX4_walkAhead_130 (nlt rfl) rfl ?_
                        refine y_iinc (lv' := [(7, .int (zI ((i : Int) + 1))), (6, .int (zI (walkF kd fg hm at_ lg n oa j yard t0 i))), (5, .int (zI (i : Int))), (8, .int (zI (walkF kd fg hm at_ lg n oa j yard t0 i))), (0, .ref m), (1, .int (zI (j : Int))), (2, .int (zI yard)), (3, .int (zI (t0 : Int))), (4, .int (zI what))]) C dX4_walkAhead_132 (q := 3) rfl (nlt rfl) rfl ?_
                        refine z_goto (tgt := 58) C dX4_walkAhead_135 (by decide) ?_
                        refine z_lv (lv' := [(7, .int (zI ((i : Int) + 1))), (6, .int (zI (walkF kd fg hm at_ lg n oa j yard t0 i))), (5, .int (zI (i : Int))), (0, .ref m), (1, .int (zI (j : Int))), (2, .int (zI yard)), (3, .int (zI (t0 : Int))), (4, .int (zI what))]) [0, 1, 2, 4, 5, 6, 7, 8] rfl ?_
                        exact ih_58 _ (by omega) (i + 1) (i : Int) (walkF kd fg hm at_ lg n oa j yard t0 i) 0 (by first | assumption | omega) (by first | (exfalso; omega) | exact MI_t (fun y => (walkF_r kd fg hm at_ lg n oa j yard t0 y).1) hmf (by omega) | exact MI_f hmf (by omega)) rfl
          exact L_58 _ 0 0 (-1) 1 (by first | assumption | omega) (Or.inl ⟨rfl, by omega, by omega, by omega, by omega⟩) rfl
        · skip
          refine y_iconst C dX4_walkAhead_43 ?_
          exact z_iret C hA hQ rfl (Nat.le_of_ble_eq_true rfl) (Nat.le_of_ble_eq_true rfl) ((ki, pl0, itk, kc)) (congrArg zI (by unfold oWalkAhead; (try simp only [zTN]); (repeat (first | rw [if_pos (by omega)] | rw [if_neg (by omega)])); first | done | rfl)) (sb_e [0, 1, 2, 3, 4, 5, 6] rfl rfl) dX4_walkAhead_44

def clampF (f : Nat → Int) (m : Nat) (y : Nat) : Int := if y < m then f y else 0
theorem maxF_c {f : Nat → Int} {m : Nat} : ∀ {n : Nat}, n ≤ m → maxF (clampF f m) n = maxF f n
  | 0, _ => rfl
  | n + 1, h => by
    have e := maxF_c (f := f) (m := m) (n := n) (by omega)
    have e2 : clampF f m n = f n := if_pos (by omega)
    show (if (maxF (clampF f m) n).2 < clampF f m n then _ else _) = (if _ then _ else _)
    rw [e, e2]
set_option maxHeartbeats 4000000 in
theorem ct_X4_hang (l : Launch) (G : ZG) (m : Nat) (g1 : Nat) (g2 : Nat) (g3 : Nat) (g4 : Nat) (g5 : Nat) (s1 : Nat) (s2 : Nat) (s3 : Nat) (s4 : Nat) (s5 : Nat) (s6 : Nat) (t1 : Nat) (t2 : Nat) (t3 : Nat) (c0 : Nat) (c1 : Nat) (c2 : Nat) (c3 : Nat) (y0 : Nat) (y1 : Nat) (thr : Int) (rdg : Int) (plc : Int) (ibd : Int) (stm : Int) (him : Int) (pl0 : Int) (itk : Int) (chd : Int) (chf : Int) (sd : Int) (ki : Value) (kd : Nat → Nat) (fg : Nat → Int) (hm : Nat → Int) (at_ : Nat → Int) (lg : Nat → Int) (n : Nat) (oa : Int) (dy : Int) (kc : Nat → Int) (t : Int) (what : Int) (hL : LK n kd fg hm at_ lg oa) (rt : -2147483648 ≤ t ∧ t ≤ 2147483647) (rwhat : -2147483648 ≤ what ∧ what ≤ 2147483647) : CT l yX4_hang cX4_hang 7 (some .int) { frames := 5, cells := 0, slots := 0, locals := 113 } G [.ref m, .int (zI t), .int (zI what)] [(m, .inr (11, [.int (zI (n : Int)), .ref g1, .ref g2, .ref g3, .ref g4, .ref g5, .int (zI oa), .int (zI dy), .ref s1, .ref s2, .ref s3, .ref s4, .ref s5, .ref s6, .int (zI thr), .int (zI rdg), .int (zI plc), .int (zI ibd), .int (zI stm), .ref t1, .ref t2, .ref t3, .ref c0, .ref c1, .ref c2, .ref c3, .int (zI him), .int (zI pl0), .int (zI itk), ki, .int (zI chd), .int (zI chf), .ref y0, .int (zI sd), .ref y1])), (g1, AI G 7 (fun z_ => (kd z_ : Int))), (g2, AI G 7 fg), (g3, AI G 7 hm), (g4, AI G 7 at_), (g5, AI G 7 lg), (c0, AI G 38 kc)] (Qi G [(m, .inr (11, [.int (zI (n : Int)), .ref g1, .ref g2, .ref g3, .ref g4, .ref g5, .int (zI oa), .int (zI dy), .ref s1, .ref s2, .ref s3, .ref s4, .ref s5, .ref s6, .int (zI thr), .int (zI rdg), .int (zI plc), .int (zI ibd), .int (zI stm), .ref t1, .ref t2, .ref t3, .ref c0, .ref c1, .ref c2, .ref c3, .int (zI him), .int (zI pl0), .int (zI itk), ki, .int (zI chd), .int (zI chf), .ref y0, .int (zI sd), .ref y1])), (g1, AI G 7 (fun z_ => (kd z_ : Int))), (g2, AI G 7 fg), (g3, AI G 7 hm), (g4, AI G 7 at_), (g5, AI G 7 lg), (c0, AI G 38 kc)] (fun (r : Int32) (u : Value × Int × Int × (Nat → Int)) => r = zI (oHang kd fg hm at_ lg n oa t what)) (fun u => [(m, .inr (11, [.int (zI (n : Int)), .ref g1, .ref g2, .ref g3, .ref g4, .ref g5, .int (zI oa), .int (zI dy), .ref s1, .ref s2, .ref s3, .ref s4, .ref s5, .ref s6, .int (zI 0), .int (zI rdg), .int (zI plc), .int (zI ibd), .int (zI stm), .ref t1, .ref t2, .ref t3, .ref c0, .ref c1, .ref c2, .ref c3, .int (zI him), .int (zI u.2.1), .int (zI u.2.2.1), u.1, .int (zI chd), .int (zI chf), .ref y0, .int (zI sd), .ref y1])), (g1, AI G 7 (fun z_ => (kd z_ : Int))), (g2, AI G 7 fg), (g3, AI G 7 hm), (g4, AI G 7 at_), (g5, AI G 7 lg), (c0, AI G 38 u.2.2.2)])) := by
  refine z_met (by decide) (Nat.le_of_ble_eq_true rfl) ?_
  intro X A hl0 hA C hQ hin
  subst hl0
  obtain ⟨hn7, hoa, hLj⟩ := id hL
  show Z X _ G 0 0 _ 0 [(0, .ref m), (1, .int (zI t)), (2, .int (zI what))] []
  refine z_aload_n C dX4_hang_0 rfl 0 rfl ?_
  refine y_iconst C dX4_hang_1 ?_
  refine z_put (q := 0) (kf := 14) (ws' := [(m, .inr (11, [.int (zI (n : Int)), .ref g1, .ref g2, .ref g3, .ref g4, .ref g5, .int (zI oa), .int (zI dy), .ref s1, .ref s2, .ref s3, .ref s4, .ref s5, .ref s6, .int (zI 0), .int (zI rdg), .int (zI plc), .int (zI ibd), .int (zI stm), .ref t1, .ref t2, .ref t3, .ref c0, .ref c1, .ref c2, .ref c3, .int (zI him), .int (zI pl0), .int (zI itk), ki, .int (zI chd), .int (zI chf), .ref y0, .int (zI sd), .ref y1])), (g1, AI G 7 (fun z_ => (kd z_ : Int))), (g2, AI G 7 fg), (g3, AI G 7 hm), (g4, AI G 7 at_), (g5, AI G 7 lg), (c0, AI G 38 kc)]) C rfl rfl in_X4 tyX4_ok nmX4 (by decide) q1101 rfl rfl rfl rfl rfl (nlt rfl) rfl dX4_hang_2 ?_
  refine z_iload_n C dX4_hang_5 rfl 1 rfl ?_
  refine y_i2l C (by omega) dX4_hang_6 ?_
  refine z_lconst (v := zL 0) C dX4_hang_7 (by decide) ?_
  refine z_ldc2 C q1297 dX4_hang_8 ?_
  refine z_eql (y := zL 60) (by decide) ?_
  refine z_i C (z_runS (As := [.long (zL t), .long (zL 0), .long (zL 60)]) (rest := []) C (ct_X4_in (zl X) G t 0 60 (by first | assumption | omega) (by first | assumption | omega) (by first | assumption | omega)) (lw_S q1207 q1208 q61 q1209) (sb_e [] rfl rfl) (na := 3) (by decide +kernel) rfl (zrm rfl rfl (rfl) (rfl)) rfl (Nat.le_of_ble_eq_true rfl) dX4_hang_11) (fun u => jn_ro (sb_e [] rfl rfl)) (fun r_11 u hp_11 => ?_)
  have hp_11 : r_11 = zI (bI (0 ≤ t ∧ t ≤ 60)) := hp_11
  subst hp_11
  refine y_beq (tgt := 27) C dX4_hang_14 (by decide) (fun c_14 => ?_) (fun c_14 => ?_)
  · skip
    refine y_iconst C dX4_hang_27 ?_
    exact z_iret C hA hQ rfl (Nat.le_of_ble_eq_true rfl) (Nat.le_of_ble_eq_true rfl) ((ki, pl0, itk, kc)) (congrArg zI (by unfold oHang; (try simp only [zTN]); (repeat (first | rw [if_pos (by omega)] | rw [if_neg (by omega)])); first | done | rfl)) (sb_e [0, 1, 2, 3, 4, 5, 6] rfl rfl) dX4_hang_28
  · skip
    refine z_iload_n C dX4_hang_17 rfl 2 rfl ?_
    refine y_i2l C (by omega) dX4_hang_18 ?_
    refine z_lconst (v := zL 0) C dX4_hang_19 (by decide) ?_
    refine z_lconst (v := zL 1) C dX4_hang_20 (by decide) ?_
    refine z_i C (z_runS (As := [.long (zL what), .long (zL 0), .long (zL 1)]) (rest := []) C (ct_X4_in (zl X) G what 0 1 (by first | assumption | omega) (by first | assumption | omega) (by first | assumption | omega)) (lw_S q1207 q1208 q61 q1209) (sb_e [] rfl rfl) (na := 3) (by decide +kernel) rfl (zrm rfl rfl (rfl) (rfl)) rfl (Nat.le_of_ble_eq_true rfl) dX4_hang_21) (fun u => jn_ro (sb_e [] rfl rfl)) (fun r_21 u hp_21 => ?_)
    have hp_21 : r_21 = zI (bI (0 ≤ what ∧ what ≤ 1)) := hp_21
    subst hp_21
    refine y_bne (tgt := 29) C dX4_hang_24 (by decide) (fun c_24 => ?_) (fun c_24 => ?_)
    · skip
      obtain ⟨t0, rfl⟩ := Int.eq_ofNat_of_zero_le (show 0 ≤ t by omega)
      refine y_iconst C dX4_hang_29 ?_
      refine z_istore_n (lv' := [(3, .int (zI 0)), (0, .ref m), (1, .int (zI (t0 : Int))), (2, .int (zI what))]) C dX4_hang_30 rfl (nlt rfl) rfl ?_
      refine y_iconst C dX4_hang_31 ?_
      refine z_istore (lv' := [(4, .int (zI (-1))), (3, .int (zI 0)), (0, .ref m), (1, .int (zI (t0 : Int))), (2, .int (zI what))]) C dX4_hang_32 (nlt rfl) rfl ?_
      refine z_aload_n C dX4_hang_34 rfl 2 rfl ?_
      refine z_v (ws' := fun u => [(m, .inr (11, [.int (zI (n : Int)), .ref g1, .ref g2, .ref g3, .ref g4, .ref g5, .int (zI oa), .int (zI dy), .ref s1, .ref s2, .ref s3, .ref s4, .ref s5, .ref s6, .int (zI 0), .int (zI rdg), .int (zI plc), .int (zI ibd), .int (zI stm), .ref t1, .ref t2, .ref t3, .ref c0, .ref c1, .ref c2, .ref c3, .int (zI him), .int (zI 38), .int (zI 1), .ref c0, .int (zI chd), .int (zI chf), .ref y0, .int (zI sd), .ref y1])), (g1, AI G 7 (fun z_ => (kd z_ : Int))), (g2, AI G 7 fg), (g3, AI G 7 hm), (g4, AI G 7 at_), (g5, AI G 7 lg), (c0, AI G 38 (encF n oa dy kd fg hm at_ lg))]) C (z_runV (q := 0) (As := []) (rest := []) C (ct_X4_open (zl X) G m g1 g2 g3 g4 g5 s1 s2 s3 s4 s5 s6 t1 t2 t3 c0 c1 c2 c3 y0 y1 0 rdg plc ibd stm him pl0 itk chd chf sd ki kd fg hm at_ lg n oa dy kc ) (lw_V q1231 q1233 qs28 q61 q1234) rfl rfl (sb_e [0, 1, 2, 3, 4, 5, 6] rfl rfl) (na := 0) (by decide +kernel) rfl (zrm rfl rfl (rfl) (rfl)) rfl (Nat.le_of_ble_eq_true rfl) dX4_hang_35) (fun u => jn_e (wr := []) [0, 1, 2, 3, 4, 5, 6] [] [0, 1, 2, 3, 4, 5, 6] rfl rfl rfl (by decide) rfl rfl) (fun u hp_35 => ?_)
      refine y_iconst C dX4_hang_38 ?_
      refine z_istore (lv' := [(5, .int (zI 0)), (4, .int (zI (-1))), (3, .int (zI 0)), (0, .ref m), (1, .int (zI (t0 : Int))), (2, .int (zI what))]) C dX4_hang_39 (nlt rfl) rfl ?_
      have L_41 : ∀ (tt : Nat) (i : Nat) (bst : Int) (lst : Int) (itb : Int), (i ≤ 21) → (XI (clampF (hangF kd fg hm at_ lg n t0) 21) i bst lst) → 21 - i = tt → Z X (cX4_hang, 7, yX4_hang.cls, (some .int), { frames := 5, cells := 0, slots := 0, locals := 113 }, A) G 0 0 [(m, .inr (11, [.int (zI (n : Int)), .ref g1, .ref g2, .ref g3, .ref g4, .ref g5, .int (zI oa), .int (zI dy), .ref s1, .ref s2, .ref s3, .ref s4, .ref s5, .ref s6, .int (zI 0), .int (zI rdg), .int (zI plc), .int (zI ibd), .int (zI stm), .ref t1, .ref t2, .ref t3, .ref c0, .ref c1, .ref c2, .ref c3, .int (zI him), .int (zI 38), .int (zI itb), .ref c0, .int (zI chd), .int (zI chf), .ref y0, .int (zI sd), .ref y1])), (g1, AI G 7 (fun z_ => (kd z_ : Int))), (g2, AI G 7 fg), (g3, AI G 7 hm), (g4, AI G 7 at_), (g5, AI G 7 lg), (c0, AI G 38 (encF n oa dy kd fg hm at_ lg))] 41 [(5, .int (zI (i : Int))), (4, .int (zI lst)), (3, .int (zI bst)), (0, .ref m), (1, .int (zI (t0 : Int))), (2, .int (zI what))] [] := by
        intro tt
        induction tt using Nat.strongRecOn with
        | _ tt ih_41 =>
          intro i bst lst itb hi hmf ht_41
          have hcr : ∀ y, 0 ≤ clampF (hangF kd fg hm at_ lg n t0) 21 y ∧ clampF (hangF kd fg hm at_ lg n t0) 21 y ≤ 693 := by
            intro y
            unfold clampF
            split
            · exact ((hL.oa (y := (y : Int)) (by omega)).go t0).sum
            · omega
          have hmb := XI_b hmf hcr (by omega)
          refine z_iload C dX4_hang_41 0 rfl ?_
          refine y_bipush C dX4_hang_43 (by decide) ?_
          refine y_icmp_gt (tgt := 105) C (by omega) (by omega) dX4_hang_45 (by decide) (fun c_45 => ?_) (fun c_45 => ?_)
          · skip
            rw [show i = 21 by omega] at hmf
            have hmf := (maxF_c (Nat.le_refl 21)).symm.trans (XI_e hmf (by omega))
            refine z_iload_n C dX4_hang_105 rfl 5 rfl ?_
            refine y_if_ne (tgt := 113) C (by omega) dX4_hang_106 (by decide) (fun c_106 => ?_) (fun c_106 => ?_)
            · skip
              refine z_iload C dX4_hang_113 1 rfl ?_
              exact z_iret C hA hQ rfl (Nat.le_of_ble_eq_true rfl) (Nat.le_of_ble_eq_true rfl) (((.ref c0), 38, itb, (encF n oa dy kd fg hm at_ lg))) (congrArg zI (by unfold oHang; rw [if_pos (by omega)]; (try simp only [zTN]); rw [hmf]; first | rw [if_pos (by omega)] | rw [if_neg (by omega)])) (sb_e [0, 1, 2, 3, 4, 5, 6] rfl rfl) dX4_hang_115
            · skip
              refine z_iload_n C dX4_hang_109 rfl 2 rfl ?_
              refine z_goto (tgt := 115) C dX4_hang_110 (by decide) ?_
              exact z_iret C hA hQ rfl (Nat.le_of_ble_eq_true rfl) (Nat.le_of_ble_eq_true rfl) (((.ref c0), 38, itb, (encF n oa dy kd fg hm at_ lg))) (congrArg zI (by unfold oHang; rw [if_pos (by omega)]; (try simp only [zTN]); rw [hmf]; first | rw [if_pos (by omega)] | rw [if_neg (by omega)])) (sb_e [0, 1, 2, 3, 4, 5, 6] rfl rfl) dX4_hang_115
          · skip
            refine z_aload_n C dX4_hang_48 rfl 3 rfl ?_
            refine z_iload C dX4_hang_49 0 rfl ?_
            refine z_put (q := 0) (kf := 6) (ws' := [(m, .inr (11, [.int (zI (n : Int)), .ref g1, .ref g2, .ref g3, .ref g4, .ref g5, .int (zI (i : Int)), .int (zI dy), .ref s1, .ref s2, .ref s3, .ref s4, .ref s5, .ref s6, .int (zI 0), .int (zI rdg), .int (zI plc), .int (zI ibd), .int (zI stm), .ref t1, .ref t2, .ref t3, .ref c0, .ref c1, .ref c2, .ref c3, .int (zI him), .int (zI 38), .int (zI itb), .ref c0, .int (zI chd), .int (zI chf), .ref y0, .int (zI sd), .ref y1])), (g1, AI G 7 (fun z_ => (kd z_ : Int))), (g2, AI G 7 fg), (g3, AI G 7 hm), (g4, AI G 7 at_), (g5, AI G 7 lg), (c0, AI G 38 (encF n oa dy kd fg hm at_ lg))]) C rfl rfl in_X4 tyX4_ok nmX4 (by decide) q1093 rfl rfl rfl rfl rfl (nlt rfl) rfl dX4_hang_51 ?_
            refine z_aload_n C dX4_hang_54 rfl 3 rfl ?_
            refine z_iload_n C dX4_hang_55 rfl 4 rfl ?_
            refine z_v (ws' := fun u => [(m, .inr (11, [.int (zI (n : Int)), .ref g1, .ref g2, .ref g3, .ref g4, .ref g5, .int (zI (i : Int)), .int (zI (dy + (t0 : Int))), .ref s1, .ref s2, .ref s3, .ref s4, .ref s5, .ref s6, .int (zI 0), .int (zI rdg), .int (zI plc), .int (zI ibd), .int (zI stm), .ref t1, .ref t2, .ref t3, .ref c0, .ref c1, .ref c2, .ref c3, .int (zI him), .int (zI 38), .int (zI itb), .ref c0, .int (zI chd), .int (zI chf), .ref y0, .int (zI sd), .ref y1])), (g1, AI G 7 (fun z_ => (kd z_ : Int))), (g2, AI G 7 fg), (g3, AI G 7 hm), (g4, AI G 7 at_), (g5, AI G 7 (goL kd fg hm at_ (i : Int) n t0 lg)), (c0, AI G 38 (encF n oa dy kd fg hm at_ lg))]) C (z_runV (q := 0) (As := [.int (zI (t0 : Int))]) (rest := []) C (ct_X4_goDays (zl X) G m g1 g2 g3 g4 g5 kd fg hm at_ lg n (i : Int) dy ([.ref s1, .ref s2, .ref s3, .ref s4, .ref s5, .ref s6, .int (zI 0), .int (zI rdg), .int (zI plc), .int (zI ibd), .int (zI stm), .ref t1, .ref t2, .ref t3, .ref c0, .ref c1, .ref c2, .ref c3, .int (zI him), .int (zI 38), .int (zI itb), .ref c0, .int (zI chd), .int (zI chf), .ref y0, .int (zI sd), .ref y1]) t0 (hL.oa (by omega)) (by first | assumption | omega)) (lw_V q1298 q1300 qs42 q61 q1301) rfl rfl (sb_e [0, 1, 2, 3, 4, 5] rfl rfl) (na := 1) (by decide +kernel) rfl (zrm rfl rfl (rfl) (rfl)) rfl (Nat.le_of_ble_eq_true rfl) dX4_hang_56) (fun u => jn_e (wr := [(c0, AI G 38 (encF n oa dy kd fg hm at_ lg))]) [0, 1, 2, 3, 4, 5] [6] [1, 2, 3, 4, 5, 6, 0] rfl rfl rfl (by decide) rfl rfl) (fun u hp_56 => ?_)
            refine z_aload_n C dX4_hang_59 rfl 3 rfl ?_
            refine z_i C (z_runV (q := 0) (As := []) (rest := []) C (ct_X4_allLonging (zl X) G m g1 g2 g3 g4 g5 kd fg hm at_ (goL kd fg hm at_ (i : Int) n t0 lg) n (i : Int) (dy + (t0 : Int)) ([.ref s1, .ref s2, .ref s3, .ref s4, .ref s5, .ref s6, .int (zI 0), .int (zI rdg), .int (zI plc), .int (zI ibd), .int (zI stm), .ref t1, .ref t2, .ref t3, .ref c0, .ref c1, .ref c2, .ref c3, .int (zI him), .int (zI 38), .int (zI itb), .ref c0, .int (zI chd), .int (zI chf), .ref y0, .int (zI sd), .ref y1]) ((hL.oa (by omega)).go t0)) (lw_V q1347 q1349 qs45 q61 q1350) rfl rfl (sb_e [0, 1, 2, 3, 4, 5] rfl rfl) (na := 0) (by decide +kernel) rfl (zrm rfl rfl (rfl) (rfl)) rfl (Nat.le_of_ble_eq_true rfl) dX4_hang_60) (fun u => jn_ro (sb_e [0, 1, 2, 3, 4, 5] rfl rfl)) (fun r_60 u hp_60 => ?_)
            have hp_60 : r_60 = zI (sumL (goL kd fg hm at_ (i : Int) n t0 lg) n) := hp_60
            subst hp_60
            have hhf : 0 ≤ hangF kd fg hm at_ lg n t0 i ∧ hangF kd fg hm at_ lg n t0 i ≤ 693 := ((hL.oa (y := (i : Int)) (by omega)).go t0).sum
            have hce : clampF (hangF kd fg hm at_ lg n t0) 21 i = hangF kd fg hm at_ lg n t0 i := if_pos (by omega)
            rw [show sumL (goL kd fg hm at_ (i : Int) n t0 lg) n = hangF kd fg hm at_ lg n t0 i from rfl]
            refine z_istore (lv' := [(6, .int (zI (hangF kd fg hm at_ lg n t0 i))), (5, .int (zI (i : Int))), (4, .int (zI lst)), (3, .int (zI bst)), (0, .ref m), (1, .int (zI (t0 : Int))), (2, .int (zI what))]) C dX4_hang_63 (nlt rfl) rfl ?_
            refine z_aload_n C dX4_hang_65 rfl 4 rfl ?_
            refine z_v (ws' := fun u => [(m, .inr (11, [.int (zI (n : Int)), .ref g1, .ref g2, .ref g3, .ref g4, .ref g5, .int (zI oa), .int (zI dy), .ref s1, .ref s2, .ref s3, .ref s4, .ref s5, .ref s6, .int (zI 0), .int (zI rdg), .int (zI plc), .int (zI ibd), .int (zI stm), .ref t1, .ref t2, .ref t3, .ref c0, .ref c1, .ref c2, .ref c3, .int (zI him), .int (zI 38), .int (zI 0), .ref c0, .int (zI chd), .int (zI chf), .ref y0, .int (zI sd), .ref y1])), (g1, AI G 7 (fun z_ => (kd z_ : Int))), (g2, AI G 7 fg), (g3, AI G 7 hm), (g4, AI G 7 at_), (g5, AI G 7 lg), (c0, AI G 38 (encF n oa dy kd fg hm at_ lg))]) C (z_runV (q := 0) (As := []) (rest := []) C (ct_X4_close (zl X) G m g1 g2 g3 g4 g5 s1 s2 s3 s4 s5 s6 t1 t2 t3 c0 c1 c2 c3 y0 y1 0 rdg plc ibd stm him 38 itb chd chf sd (.ref c0) (fun z_ => (kd z_ : Int)) fg hm at_ (goL kd fg hm at_ (i : Int) n t0 lg) n (i : Int) (dy + (t0 : Int)) kd fg hm at_ lg n oa dy ) (lw_V q1302 q1304 qs43 q61 q1305) rfl rfl (sb_e [0, 1, 2, 3, 4, 5, 6] rfl rfl) (na := 0) (by decide +kernel) rfl (zrm rfl rfl (rfl) (rfl)) rfl (Nat.le_of_ble_eq_true rfl) dX4_hang_66) (fun u => jn_e (wr := []) [0, 1, 2, 3, 4, 5, 6] [] [0, 1, 2, 3, 4, 5, 6] rfl rfl rfl (by decide) rfl rfl) (fun u hp_66 => ?_)
            refine z_iload C dX4_hang_69 0 rfl ?_
            refine z_iload C dX4_hang_71 2 rfl ?_
            refine y_icmp_le (tgt := 81) C (by omega) (by omega) dX4_hang_73 (by decide) (fun c_73 => ?_) (fun c_73 => ?_)
            · skip
              refine z_iload_n C dX4_hang_81 rfl 3 rfl ?_
              refine z_istore_n (lv' := [(3, .int (zI bst)), (6, .int (zI (hangF kd fg hm at_ lg n t0 i))), (5, .int (zI (i : Int))), (4, .int (zI lst)), (0, .ref m), (1, .int (zI (t0 : Int))), (2, .int (zI what))]) C dX4_hang_82 rfl (nlt rfl) rfl ?_
              refine z_iload C dX4_hang_83 1 rfl ?_
              refine z_iload C dX4_hang_85 3 rfl ?_
              refine y_icmp_le (tgt := 95) C (by omega) (by omega) dX4_hang_87 (by decide) (fun c_87 => ?_) (fun c_87 => ?_)
              · skip
                refine z_iload C dX4_hang_95 3 rfl ?_
                refine z_istore (lv' := [(4, .int (zI lst)), (3, .int (zI bst)), (6, .int (zI (hangF kd fg hm at_ lg n t0 i))), (5, .int (zI (i : Int))), (0, .ref m), (1, .int (zI (t0 : Int))), (2, .int (zI what))]) C dX4_hang_97 (nlt rfl) rfl ?_
                refine y_iinc (lv' := [(5, .int (zI ((i : Int) + 1))), (4, .int (zI lst)), (3, .int (zI bst)), (6, .int (zI (hangF kd fg hm at_ lg n t0 i))), (0, .ref m), (1, .int (zI (t0 : Int))), (2, .int (zI what))]) C dX4_hang_99 (q := 3) rfl (nlt rfl) rfl ?_
                refine z_goto (tgt := 41) C dX4_hang_102 (by decide) ?_
                refine z_lv (lv' := [(5, .int (zI ((i : Int) + 1))), (4, .int (zI lst)), (3, .int (zI bst)), (0, .ref m), (1, .int (zI (t0 : Int))), (2, .int (zI what))]) [0, 1, 2, 4, 5, 6] rfl ?_
                exact ih_41 _ (by omega) (i + 1) bst lst 0 (by first | assumption | omega) (by first | (exfalso; omega) | (rw [← hce]; exact XI_t (fun y => (hcr y).1) hmf (by omega)) | exact XI_f (fun y => (hcr y).1) hmf (by omega)) rfl
              · skip
                refine z_iload C dX4_hang_90 1 rfl ?_
                refine z_goto (tgt := 97) C dX4_hang_92 (by decide) ?_
                refine z_istore (lv' := [(4, .int (zI (hangF kd fg hm at_ lg n t0 i))), (3, .int (zI bst)), (6, .int (zI (hangF kd fg hm at_ lg n t0 i))), (5, .int (zI (i : Int))), (0, .ref m), (1, .int (zI (t0 : Int))), (2, .int (zI what))]) C dX4_hang_97 (nlt rfl) rfl ?_
                refine y_iinc (lv' := [(5, .int (zI ((i : Int) + 1))), (4, .int (zI (hangF kd fg hm at_ lg n t0 i))), (3, .int (zI bst)), (6, .int (zI (hangF kd fg hm at_ lg n t0 i))), (0, .ref m), (1, .int (zI (t0 : Int))), (2, .int (zI what))]) C dX4_hang_99 (q := 3) rfl (nlt rfl) rfl ?_
                refine z_goto (tgt := 41) C dX4_hang_102 (by decide) ?_
                refine z_lv (lv' := [(5, .int (zI ((i : Int) + 1))), (4, .int (zI (hangF kd fg hm at_ lg n t0 i))), (3, .int (zI bst)), (0, .ref m), (1, .int (zI (t0 : Int))), (2, .int (zI what))]) [0, 1, 2, 4, 5, 6] rfl ?_
                exact ih_41 _ (by omega) (i + 1) bst (hangF kd fg hm at_ lg n t0 i) 0 (by first | assumption | omega) (by first | (exfalso; omega) | (rw [← hce]; exact XI_t (fun y => (hcr y).1) hmf (by omega)) | exact XI_f (fun y => (hcr y).1) hmf (by omega)) rfl
            · skip
              refine z_iload C dX4_hang_76 1 rfl ?_
              refine z_goto (tgt := 82) C dX4_hang_78 (by decide) ?_
              refine z_istore_n (lv' := [(3, .int (zI (i : Int))), (6, .int (zI (hangF kd fg hm at_ lg n t0 i))), (5, .int (zI (i : Int))), (4, .int (zI lst)), (0, .ref m), (1, .int (zI (t0 : Int))), (2, .int (zI what))]) C dX4_hang_82 rfl (nlt rfl) rfl ?_
              refine z_iload C dX4_hang_83 1 rfl ?_
              refine z_iload C dX4_hang_85 3 rfl ?_
              refine y_icmp_le (tgt := 95) C (by omega) (by omega) dX4_hang_87 (by decide) (fun c_87 => ?_) (fun c_87 => ?_)
              · skip
                refine z_iload C dX4_hang_95 3 rfl ?_
                refine z_istore (lv' := [(4, .int (zI lst)), (3, .int (zI (i : Int))), (6, .int (zI (hangF kd fg hm at_ lg n t0 i))), (5, .int (zI (i : Int))), (0, .ref m), (1, .int (zI (t0 : Int))), (2, .int (zI what))]) C dX4_hang_97 (nlt rfl) rfl ?_
                refine y_iinc (lv' := [(5, .int (zI ((i : Int) + 1))), (4, .int (zI lst)), (3, .int (zI (i : Int))), (6, .int (zI (hangF kd fg hm at_ lg n t0 i))), (0, .ref m), (1, .int (zI (t0 : Int))), (2, .int (zI what))]) C dX4_hang_99 (q := 3) rfl (nlt rfl) rfl ?_
                refine z_goto (tgt := 41) C dX4_hang_102 (by decide) ?_
                refine z_lv (lv' := [(5, .int (zI ((i : Int) + 1))), (4, .int (zI lst)), (3, .int (zI (i : Int))), (0, .ref m), (1, .int (zI (t0 : Int))), (2, .int (zI what))]) [0, 1, 2, 4, 5, 6] rfl ?_
                exact ih_41 _ (by omega) (i + 1) (i : Int) lst 0 (by first | assumption | omega) (by first | (exfalso; omega) | (rw [← hce]; exact XI_t (fun y => (hcr y).1) hmf (by omega)) | exact XI_f (fun y => (hcr y).1) hmf (by omega)) rfl
              · skip
                refine z_iload C dX4_hang_90 1 rfl ?_
                refine z_goto (tgt := 97) C dX4_hang_92 (by decide) ?_
                refine z_istore (lv' := [(4, .int (zI (hangF kd fg hm at_ lg n t0 i))), (3, .int (zI (i : Int))), (6, .int (zI (hangF kd fg hm at_ lg n t0 i))), (5, .int (zI (i : Int))), (0, .ref m), (1, .int (zI (t0 : Int))), (2, .int (zI what))]) C dX4_hang_97 (nlt rfl) rfl ?_
                refine y_iinc (lv' := [(5, .int (zI ((i : Int) + 1))), (4, .int (zI (hangF kd fg hm at_ lg n t0 i))), (3, .int (zI (i : Int))), (6, .int (zI (hangF kd fg hm at_ lg n t0 i))), (0, .ref m), (1, .int (zI (t0 : Int))), (2, .int (zI what))]) C dX4_hang_99 (q := 3) rfl (nlt rfl) rfl ?_
                refine z_goto (tgt := 41) C dX4_hang_102 (by decide) ?_
                refine z_lv (lv' := [(5, .int (zI ((i : Int) + 1))), (4, .int (zI (hangF kd fg hm at_ lg n t0 i))), (3, .int (zI (i : Int))), (0, .ref m), (1, .int (zI (t0 : Int))), (2, .int (zI what))]) [0, 1, 2, 4, 5, 6] rfl ?_
                exact ih_41 _ (by omega) (i + 1) (i : Int) (hangF kd fg hm at_ lg n t0 i) 0 (by first | assumption | omega) (by first | (exfalso; omega) | (rw [← hce]; exact XI_t (fun y => (hcr y).1) hmf (by omega)) | exact XI_f (fun y => (hcr y).1) hmf (by omega)) rfl
      exact L_41 _ 0 0 (-1) 1 (by first | assumption | omega) (Or.inl ⟨rfl, by omega, by omega, by omega, by omega⟩) rfl
    · skip
      refine y_iconst C dX4_hang_27 ?_
      exact z_iret C hA hQ rfl (Nat.le_of_ble_eq_true rfl) (Nat.le_of_ble_eq_true rfl) ((ki, pl0, itk, kc)) (congrArg zI (by unfold oHang; (try simp only [zTN]); (repeat (first | rw [if_pos (by omega)] | rw [if_neg (by omega)])); first | done | rfl)) (sb_e [0, 1, 2, 3, 4, 5, 6] rfl rfl) dX4_hang_28

