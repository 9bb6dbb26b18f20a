/-! THE MODEL, 13: forged -/
set_option maxRecDepth 100000
/-- the place, and where and how all are, behind k rides of a row -/
def fgR (f : Nat → Int) (kd : Nat → Nat) (fg hm : Nat → Int) (oa : Int) (n : Nat) (at_ lg : Nat → Int) : Nat → Int × (Nat → Int) × (Nat → Int)
  | 0 => (-1, at_, lg)
  | k + 1 => (f (2 * k + 1), rdA kd fg hm oa n (f (2 * k)).toNat (f (2 * k + 1)) (fgR f kd fg hm oa n at_ lg k).2.1 (fgR f kd fg hm oa n at_ lg k).2.2, rdL kd fg hm oa n (f (2 * k)).toNat (f (2 * k + 1)) (fgR f kd fg hm oa n at_ lg k).2.1 (fgR f kd fg hm oa n at_ lg k).2.2)
theorem fgR_s {f : Nat → Int} {kd : Nat → Nat} {fg hm : Nat → Int} {oa : Int} {n : Nat} {at_ lg : Nat → Int} {k h : Nat} {y p : Int} {a l : Nat → Int} (e : fgR f kd fg hm oa n at_ lg k = (p, a, l)) (hh : ((h : Nat) : Int) = f (2 * k)) (hy : y = f (2 * k + 1)) : fgR f kd fg hm oa n at_ lg (k + 1) = (y, rdA kd fg hm oa n h y a l, rdL kd fg hm oa n h y a l) := by
  show (f (2 * k + 1), rdA kd fg hm oa n (f (2 * k)).toNat (f (2 * k + 1)) (fgR f kd fg hm oa n at_ lg k).2.1 (fgR f kd fg hm oa n at_ lg k).2.2, rdL kd fg hm oa n (f (2 * k)).toNat (f (2 * k + 1)) (fgR f kd fg hm oa n at_ lg k).2.1 (fgR f kd fg hm oa n at_ lg k).2.2) = _
  rw [e, ← hh, ← hy]
  rfl
def fgP (f : Nat → Int) (kd : Nat → Nat) (fg hm at_ lg : Nat → Int) (n : Nat) (oa : Int) (k : Nat) : Bool := decide (¬ ((0 ≤ f (2 * k) ∧ f (2 * k) ≤ (n : Int) - 1) ∧ (0 ≤ f (2 * k + 1) ∧ f (2 * k + 1) ≤ 20) ∧ (k = 0 ∨ (fgR f kd fg hm oa n at_ lg k).2.1 (f (2 * k)).toNat = (fgR f kd fg hm oa n at_ lg k).1)))
theorem fgP_e {f : Nat → Int} {kd : Nat → Nat} {fg hm at_ lg : Nat → Int} {n : Nat} {oa : Int} {k : Nat} {h y p : Int} {a l : Nat → Int} (e : fgR f kd fg hm oa n at_ lg k = (p, a, l)) (hh : h = f (2 * k)) (hy : y = f (2 * k + 1)) : ((0 ≤ h ∧ h ≤ (n : Int) - 1) ∧ (0 ≤ y ∧ y ≤ 20) ∧ (k = 0 ∨ a h.toNat = p) → fgP f kd fg hm at_ lg n oa k = false) ∧ (¬ ((0 ≤ h ∧ h ≤ (n : Int) - 1) ∧ (0 ≤ y ∧ y ≤ 20) ∧ (k = 0 ∨ a h.toNat = p)) → fgP f kd fg hm at_ lg n oa k = true) := by
  unfold fgP
  rw [e, ← hh, ← hy]
  exact ⟨fun c => decide_eq_false (fun z => z c), fun c => decide_eq_true c⟩
theorem rd_ok {n : Nat} {kd : Nat → Nat} {fg hm at_ lg : Nat → Int} {oa yard : Int} {j : Nat} (h : LK n kd fg hm at_ lg oa) (hj : j < n) (hy : 0 ≤ yard ∧ yard ≤ 20) : LK n kd fg hm (rdA kd fg hm oa n j yard at_ lg) (rdL kd fg hm oa n j yard at_ lg) oa := rideF_ok hj hy 20 at_ lg h
def oForged (kd : Nat → Nat) (fg : Nat → Int) (hm : Nat → Int) (at_ : Nat → Int) (lg : Nat → Int) (n : Nat) (oa : Int) (hw : Nat → Nat) (kk : Nat → Nat) (rs : Nat → Nat) (rm : Nat → Nat) (kf : Nat → Int) (rw_ : Nat → Int) (d : Int) : Int := if wrZ hw d < 0 then wrZ hw d else if rm d.toNat % 2 = 1 then -13 else firstF (fgP (rowF rw_ d.toNat) kd fg hm at_ lg n oa) (rm d.toNat / 2)
set_option maxHeartbeats 4000000 in
theorem ct_X4_forged (l : Launch) (G : ZG) (m : Nat) (g1 : Nat) (g2 : Nat) (g3 : Nat) (g4 : Nat) (g5 : Nat) (s1 : Nat) (s2 : Nat) (s3 : Nat) (s4 : Nat) (s5 : Nat) (s6 : Nat) (t1 : Nat) (t2 : Nat) (t3 : Nat) (c0 : Nat) (c1 : Nat) (c2 : Nat) (c3 : Nat) (y0 : Nat) (y1 : Nat) (thr : Int) (rdg : Int) (plc : Int) (ibd : Int) (stm : Int) (him : Int) (pl0 : Int) (itk : Int) (chd : Int) (chf : Int) (sd : Int) (ki : Value) (kd : Nat → Nat) (fg : Nat → Int) (hm : Nat → Int) (at_ : Nat → Int) (lg : Nat → Int) (n : Nat) (oa : Int) (dy : Int) (kc : Nat → Int) (hw : Nat → Nat) (kk : Nat → Nat) (rs : Nat → Nat) (rm : Nat → Nat) (kf : Nat → Int) (rw_ : Nat → Int) (d : Int) (hL : LK n kd fg hm at_ lg oa) (hS : SK hw kk rs rm kf rw_) (rd : -2147483648 ≤ d ∧ d ≤ 2147483647) : CT l yX4_forged cX4_forged 11 (some .int) { frames := 6, cells := 0, slots := 0, locals := 141 } G [.ref m, .int (zI d)] [(m, .inr (11, [.int (zI (n : Int)), .ref g1, .ref g2, .ref g3, .ref g4, .ref g5, .int (zI oa), .int (zI dy), .ref s1, .ref s2, .ref s3, .ref s4, .ref s5, .ref s6, .int (zI thr), .int (zI rdg), .int (zI plc), .int (zI ibd), .int (zI stm), .ref t1, .ref t2, .ref t3, .ref c0, .ref c1, .ref c2, .ref c3, .int (zI him), .int (zI pl0), .int (zI itk), ki, .int (zI chd), .int (zI chf), .ref y0, .int (zI sd), .ref y1])), (g1, AI G 7 (fun z_ => (kd z_ : Int))), (g2, AI G 7 fg), (g3, AI G 7 hm), (g4, AI G 7 at_), (g5, AI G 7 lg), (s1, AI G 8 (fun z_ => (hw z_ : Int))), (s2, AI G 8 (fun z_ => (kk z_ : Int))), (s3, AI G 8 kf), (s4, AI G 8 (fun z_ => (rs z_ : Int))), (s5, AI G 8 (fun z_ => (rm z_ : Int))), (s6, AL G 800 rw_), (c0, AI G 38 kc)] (Qi G [(m, .inr (11, [.int (zI (n : Int)), .ref g1, .ref g2, .ref g3, .ref g4, .ref g5, .int (zI oa), .int (zI dy), .ref s1, .ref s2, .ref s3, .ref s4, .ref s5, .ref s6, .int (zI thr), .int (zI rdg), .int (zI plc), .int (zI ibd), .int (zI stm), .ref t1, .ref t2, .ref t3, .ref c0, .ref c1, .ref c2, .ref c3, .int (zI him), .int (zI pl0), .int (zI itk), ki, .int (zI chd), .int (zI chf), .ref y0, .int (zI sd), .ref y1])), (g1, AI G 7 (fun z_ => (kd z_ : Int))), (g2, AI G 7 fg), (g3, AI G 7 hm), (g4, AI G 7 at_), (g5, AI G 7 lg), (s1, AI G 8 (fun z_ => (hw z_ : Int))), (s2, AI G 8 (fun z_ => (kk z_ : Int))), (s3, AI G 8 kf), (s4, AI G 8 (fun z_ => (rs z_ : Int))), (s5, AI G 8 (fun z_ => (rm z_ : Int))), (s6, AL G 800 rw_), (c0, AI G 38 kc)] (fun (r : Int32) (u : Value × Int × Int × (Nat → Int)) => r = zI (oForged kd fg hm at_ lg n oa hw kk rs rm kf rw_ d)) (fun u => [(m, .inr (11, [.int (zI (n : Int)), .ref g1, .ref g2, .ref g3, .ref g4, .ref g5, .int (zI oa), .int (zI dy), .ref s1, .ref s2, .ref s3, .ref s4, .ref s5, .ref s6, .int (zI 0), .int (zI rdg), .int (zI plc), .int (zI ibd), .int (zI stm), .ref t1, .ref t2, .ref t3, .ref c0, .ref c1, .ref c2, .ref c3, .int (zI him), .int (zI u.2.1), .int (zI u.2.2.1), u.1, .int (zI chd), .int (zI chf), .ref y0, .int (zI sd), .ref y1])), (g1, AI G 7 (fun z_ => (kd z_ : Int))), (g2, AI G 7 fg), (g3, AI G 7 hm), (g4, AI G 7 at_), (g5, AI G 7 lg), (s1, AI G 8 (fun z_ => (hw z_ : Int))), (s2, AI G 8 (fun z_ => (kk z_ : Int))), (s3, AI G 8 kf), (s4, AI G 8 (fun z_ => (rs z_ : Int))), (s5, AI G 8 (fun z_ => (rm z_ : Int))), (s6, AL G 800 rw_), (c0, AI G 38 u.2.2.2)])) := by
  refine z_met (by decide) (Nat.le_of_ble_eq_true rfl) ?_
  intro X A hl0 hA C hQ hin
  subst hl0
  obtain ⟨hn7, hoa, hLj⟩ := id hL
  show Z X _ G 0 0 _ 0 [(0, .ref m), (1, .int (zI d))] []
  refine z_aload_n C dX4_forged_0 rfl 0 rfl ?_
  refine y_iconst C dX4_forged_1 ?_
  refine z_put (q := 0) (kf := 14) (ws' := [(m, .inr (11, [.int (zI (n : Int)), .ref g1, .ref g2, .ref g3, .ref g4, .ref g5, .int (zI oa), .int (zI dy), .ref s1, .ref s2, .ref s3, .ref s4, .ref s5, .ref s6, .int (zI 0), .int (zI rdg), .int (zI plc), .int (zI ibd), .int (zI stm), .ref t1, .ref t2, .ref t3, .ref c0, .ref c1, .ref c2, .ref c3, .int (zI him), .int (zI pl0), .int (zI itk), ki, .int (zI chd), .int (zI chf), .ref y0, .int (zI sd), .ref y1])), (g1, AI G 7 (fun z_ => (kd z_ : Int))), (g2, AI G 7 fg), (g3, AI G 7 hm), (g4, AI G 7 at_), (g5, AI G 7 lg), (s1, AI G 8 (fun z_ => (hw z_ : Int))), (s2, AI G 8 (fun z_ => (kk z_ : Int))), (s3, AI G 8 kf), (s4, AI G 8 (fun z_ => (rs z_ : Int))), (s5, AI G 8 (fun z_ => (rm z_ : Int))), (s6, AL G 800 rw_), (c0, AI G 38 kc)]) C rfl rfl in_X4 tyX4_ok nmX4 (by decide) q1101 rfl rfl rfl rfl rfl (nlt rfl) rfl dX4_forged_2 ?_
  refine z_aload_n C dX4_forged_5 rfl 0 rfl ?_
  refine z_iload_n C dX4_forged_6 rfl 1 rfl ?_
  refine z_i C (z_runV (q := 0) (As := [.int (zI d)]) (rest := []) C (ct_X4_wrongRow (zl X) G m g1 g2 g3 g4 g5 s1 s2 s3 s4 s5 s6 t1 t2 t3 c0 c1 c2 c3 y0 y1 0 rdg plc ibd stm him pl0 itk chd chf sd ki n oa dy hw kk rs rm kf rw_ d (by first | assumption | omega) (by first | assumption | omega)) (lw_V q1202 q1204 qs23 q61 q1205) rfl rfl (sb_e [0, 6, 7, 8, 9, 10, 11] rfl rfl) (na := 1) (by decide +kernel) rfl (zrm rfl rfl (rfl) (rfl)) rfl (Nat.le_of_ble_eq_true rfl) dX4_forged_7) (fun u => jn_ro (sb_e [0, 6, 7, 8, 9, 10, 11] rfl rfl)) (fun r_7 u hp_7 => ?_)
  have hp_7 : r_7 = zI (wrZ hw d) := hp_7
  subst hp_7
  have hwr := wrZ_r hw d
  refine z_istore_n (lv' := [(2, .int (zI (wrZ hw d))), (0, .ref m), (1, .int (zI d))]) C dX4_forged_10 rfl (nlt rfl) rfl ?_
  refine z_iload_n C dX4_forged_11 rfl 0 rfl ?_
  refine y_if_ne (tgt := 32) C (by omega) dX4_forged_12 (by decide) (fun c_12 => ?_) (fun c_12 => ?_)
  · skip
    refine z_iload_n C dX4_forged_32 rfl 0 rfl ?_
    refine z_istore_n (lv' := [(2, .int (zI (wrZ hw d))), (0, .ref m), (1, .int (zI d))]) C dX4_forged_33 rfl (nlt rfl) rfl ?_
    refine z_iload_n C dX4_forged_34 rfl 0 rfl ?_
    refine y_if_ge (tgt := 40) C (by omega) dX4_forged_35 (by decide) (fun c_35 => ?_) (fun c_35 => ?_)
    · skip
      exfalso; omega
    · skip
      refine z_iload_n C dX4_forged_38 rfl 0 rfl ?_
      exact z_iret C hA hQ rfl (Nat.le_of_ble_eq_true rfl) (Nat.le_of_ble_eq_true rfl) ((ki, pl0, itk, kc)) (congrArg zI (by unfold oForged; (try simp only [zTN]); repeat (first | rw [if_pos (by omega)] | rw [if_neg (by omega)]))) (sb_e [0, 1, 2, 3, 4, 5, 6, 7, 8, 9, 10, 11, 12] rfl rfl) dX4_forged_39
  · skip
    obtain ⟨hd1, hd2⟩ := wrZ_0 (hw := hw) (d := d) (by omega)
    obtain ⟨e, rfl⟩ := Int.eq_ofNat_of_zero_le (show 0 ≤ d by omega)
    simp only [zTN] at hd2
    obtain ⟨hS1, hS2⟩ := id hS
    have hSe := hS1 e (by omega)
    refine z_aload_n C dX4_forged_15 rfl 1 rfl ?_
    refine z_get (q := 0) (kf := 12) (v := .ref s5) C rfl rfl in_X4 (by decide) q1099 (Or.inl rfl) rfl dX4_forged_16 ?_
    refine z_iload_n C dX4_forged_19 rfl 2 rfl ?_
    refine y_iald (q := 10) (t0 := 0) (v := (rm e : Int)) C rfl rfl (by omega) (by decide) rfl dX4_forged_20 ?_
    refine y_iconst C dX4_forged_21 ?_
    refine y_irem C (by omega) (by omega) dX4_forged_22 ?_
    refine y_iconst C dX4_forged_23 ?_
    refine y_icmp_ne (tgt := 32) C (by omega) (by omega) dX4_forged_24 (by decide) (fun c_24 => ?_) (fun c_24 => ?_)
    · skip
      refine z_iload_n C dX4_forged_32 rfl 0 rfl ?_
      refine z_istore_n (lv' := [(2, .int (zI (wrZ hw (e : Int)))), (0, .ref m), (1, .int (zI (e : Int)))]) C dX4_forged_33 rfl (nlt rfl) rfl ?_
      refine z_iload_n C dX4_forged_34 rfl 0 rfl ?_
      refine y_if_ge (tgt := 40) C (by omega) dX4_forged_35 (by decide) (fun c_35 => ?_) (fun c_35 => ?_)
      · skip
        refine y_bipush C dX4_forged_40 (by decide) ?_
        refine z_istore_n (lv' := [(3, .int (zI (-4))), (2, .int (zI (wrZ hw (e : Int)))), (0, .ref m), (1, .int (zI (e : Int)))]) C dX4_forged_42 rfl (nlt rfl) rfl ?_
        refine y_iconst C dX4_forged_43 ?_
        refine z_istore (lv' := [(4, .int (zI (-1))), (3, .int (zI (-4))), (2, .int (zI (wrZ hw (e : Int)))), (0, .ref m), (1, .int (zI (e : Int)))]) C dX4_forged_44 (nlt rfl) rfl ?_
        refine z_aload_n C dX4_forged_46 rfl 3 rfl ?_
        refine z_v (ws' := fun u => [(m, .inr (11, [.int (zI (n : Int)), .ref g1, .ref g2, .ref g3, .ref g4, .ref g5, .int (zI oa), .int (zI dy), .ref s1, .ref s2, .ref s3, .ref s4, .ref s5, .ref s6, .int (zI 0), .int (zI rdg), .int (zI plc), .int (zI ibd), .int (zI stm), .ref t1, .ref t2, .ref t3, .ref c0, .ref c1, .ref c2, .ref c3, .int (zI him), .int (zI 38), .int (zI 1), .ref c0, .int (zI chd), .int (zI chf), .ref y0, .int (zI sd), .ref y1])), (g1, AI G 7 (fun z_ => (kd z_ : Int))), (g2, AI G 7 fg), (g3, AI G 7 hm), (g4, AI G 7 at_), (g5, AI G 7 lg), (s1, AI G 8 (fun z_ => (hw z_ : Int))), (s2, AI G 8 (fun z_ => (kk z_ : Int))), (s3, AI G 8 kf), (s4, AI G 8 (fun z_ => (rs z_ : Int))), (s5, AI G 8 (fun z_ => (rm z_ : Int))), (s6, AL G 800 rw_), (c0, AI G 38 (encF n oa dy kd fg hm at_ lg))]) C (z_runV (q := 0) (As := []) (rest := []) C (ct_X4_open (zl X) G m g1 g2 g3 g4 g5 s1 s2 s3 s4 s5 s6 t1 t2 t3 c0 c1 c2 c3 y0 y1 0 rdg plc ibd stm him pl0 itk chd chf sd ki kd fg hm at_ lg n oa dy kc ) (lw_V q1231 q1233 qs28 q61 q1234) rfl rfl (sb_e [0, 1, 2, 3, 4, 5, 12] rfl rfl) (na := 0) (by decide +kernel) rfl (zrm rfl rfl (rfl) (rfl)) rfl (Nat.le_of_ble_eq_true rfl) dX4_forged_47) (fun u => jn_e (wr := [(s1, AI G 8 (fun z_ => (hw z_ : Int))), (s2, AI G 8 (fun z_ => (kk z_ : Int))), (s3, AI G 8 kf), (s4, AI G 8 (fun z_ => (rs z_ : Int))), (s5, AI G 8 (fun z_ => (rm z_ : Int))), (s6, AL G 800 rw_)]) [0, 1, 2, 3, 4, 5, 12] [6, 7, 8, 9, 10, 11] [6, 7, 8, 9, 10, 11, 0, 1, 2, 3, 4, 5, 12] rfl rfl rfl (by decide) rfl rfl) (fun u hp_47 => ?_)
        refine y_iconst C dX4_forged_50 ?_
        refine z_istore (lv' := [(5, .int (zI 0)), (4, .int (zI (-1))), (3, .int (zI (-4))), (2, .int (zI (wrZ hw (e : Int)))), (0, .ref m), (1, .int (zI (e : Int)))]) C dX4_forged_51 (nlt rfl) rfl ?_
        have L_53 : ∀ (tt : Nat) (k : Nat) (fnd : Int) (pc : Int) (at1 : Nat → Int) (lg1 : Nat → Int) (mdy : Int), (2 * k ≤ rm e + 1 ∧ k ≤ rm e / 2) → (0 ≤ fnd ∨ fgR (rowF rw_ e) kd fg hm oa n at_ lg k = (pc, at1, lg1)) → (LK n kd fg hm at1 lg1 oa) → (-1 ≤ pc ∧ pc ≤ 20) → (FI (fgP (rowF rw_ e) kd fg hm at_ lg n oa) k fnd) → rm e - k = tt → Z X (cX4_forged, 11, yX4_forged.cls, (some .int), { frames := 6, cells := 0, slots := 0, locals := 141 }, A) G 0 0 [(m, .inr (11, [.int (zI (n : Int)), .ref g1, .ref g2, .ref g3, .ref g4, .ref g5, .int (zI oa), .int (zI mdy), .ref s1, .ref s2, .ref s3, .ref s4, .ref s5, .ref s6, .int (zI 0), .int (zI rdg), .int (zI plc), .int (zI ibd), .int (zI stm), .ref t1, .ref t2, .ref t3, .ref c0, .ref c1, .ref c2, .ref c3, .int (zI him), .int (zI 38), .int (zI 1), .ref c0, .int (zI chd), .int (zI chf), .ref y0, .int (zI sd), .ref y1])), (g1, AI G 7 (fun z_ => (kd z_ : Int))), (g2, AI G 7 fg), (g3, AI G 7 hm), (g4, AI G 7 at1), (g5, AI G 7 lg1), (s1, AI G 8 (fun z_ => (hw z_ : Int))), (s2, AI G 8 (fun z_ => (kk z_ : Int))), (s3, AI G 8 kf), (s4, AI G 8 (fun z_ => (rs z_ : Int))), (s5, AI G 8 (fun z_ => (rm z_ : Int))), (s6, AL G 800 rw_), (c0, AI G 38 (encF n oa dy kd fg hm at_ lg))] 53 [(5, .int (zI (k : Int))), (4, .int (zI pc)), (3, .int (zI fnd)), (0, .ref m), (1, .int (zI (e : Int)))] [] := by
          intro tt
          induction tt using Nat.strongRecOn with
          | _ tt ih_53 =>
            intro k fnd pc at1 lg1 mdy hk0 hsq hL1 hpc hfi ht_53
            have hfb := FI_b hfi
            have hr1 := hS2 (100 * e + 2 * k)
            have hr2 := hS2 (100 * e + (2 * k + 1))
            refine z_iload C dX4_forged_53 0 rfl ?_
            refine z_aload_n C dX4_forged_55 rfl 3 rfl ?_
            refine z_get (q := 0) (kf := 12) (v := .ref s5) C rfl rfl in_X4 (by decide) q1099 (Or.inl rfl) rfl dX4_forged_56 ?_
            refine z_iload_n C dX4_forged_59 rfl 4 rfl ?_
            refine y_iald (q := 10) (t0 := 0) (v := (rm e : Int)) C rfl rfl (by omega) (by decide) rfl dX4_forged_60 ?_
            refine y_iconst C dX4_forged_61 ?_
            refine y_idiv C (by omega) (by omega) dX4_forged_62 ?_
            refine y_icmp_ge (tgt := 209) C (by omega) (by omega) dX4_forged_63 (by decide) (fun c_63 => ?_) (fun c_63 => ?_)
            · skip
              refine z_aload_n C dX4_forged_209 rfl 3 rfl ?_
              refine z_v (ws' := fun u => [(m, .inr (11, [.int (zI (n : Int)), .ref g1, .ref g2, .ref g3, .ref g4, .ref g5, .int (zI oa), .int (zI dy), .ref s1, .ref s2, .ref s3, .ref s4, .ref s5, .ref s6, .int (zI 0), .int (zI rdg), .int (zI plc), .int (zI ibd), .int (zI stm), .ref t1, .ref t2, .ref t3, .ref c0, .ref c1, .ref c2, .ref c3, .int (zI him), .int (zI 38), .int (zI 0), .ref c0, .int (zI chd), .int (zI chf), .ref y0, .int (zI sd), .ref y1])), (g1, AI G 7 (fun z_ => (kd z_ : Int))), (g2, AI G 7 fg), (g3, AI G 7 hm), (g4, AI G 7 at_), (g5, AI G 7 lg), (s1, AI G 8 (fun z_ => (hw z_ : Int))), (s2, AI G 8 (fun z_ => (kk z_ : Int))), (s3, AI G 8 kf), (s4, AI G 8 (fun z_ => (rs z_ : Int))), (s5, AI G 8 (fun z_ => (rm z_ : Int))), (s6, AL G 800 rw_), (c0, AI G 38 (encF n oa dy kd fg hm at_ lg))]) C (z_runV (q := 0) (As := []) (rest := []) C (ct_X4_close (zl X) G m g1 g2 g3 g4 g5 s1 s2 s3 s4 s5 s6 t1 t2 t3 c0 c1 c2 c3 y0 y1 0 rdg plc ibd stm him 38 1 chd chf sd (.ref c0) (fun z_ => (kd z_ : Int)) fg hm at1 lg1 n oa mdy kd fg hm at_ lg n oa dy ) (lw_V q1302 q1304 qs43 q61 q1305) rfl rfl (sb_e [0, 1, 2, 3, 4, 5, 12] rfl rfl) (na := 0) (by decide +kernel) rfl (zrm rfl rfl (rfl) (rfl)) rfl (Nat.le_of_ble_eq_true rfl) dX4_forged_210) (fun u => jn_e (wr := [(s1, AI G 8 (fun z_ => (hw z_ : Int))), (s2, AI G 8 (fun z_ => (kk z_ : Int))), (s3, AI G 8 kf), (s4, AI G 8 (fun z_ => (rs z_ : Int))), (s5, AI G 8 (fun z_ => (rm z_ : Int))), (s6, AL G 800 rw_)]) [0, 1, 2, 3, 4, 5, 12] [6, 7, 8, 9, 10, 11] [6, 7, 8, 9, 10, 11, 0, 1, 2, 3, 4, 5, 12] rfl rfl rfl (by decide) rfl rfl) (fun u hp_210 => ?_)
              refine z_iload_n C dX4_forged_213 rfl 2 rfl ?_
              exact z_iret C hA hQ rfl (Nat.le_of_ble_eq_true rfl) (Nat.le_of_ble_eq_true rfl) (((.ref c0), 38, 0, (encF n oa dy kd fg hm at_ lg))) (congrArg zI (by unfold oForged; simp only [zTN]; rw [if_neg (by omega), if_neg (by omega)]; exact (FI_e hfi (by omega) (by omega)).symm)) (sb_e [0, 1, 2, 3, 4, 5, 6, 7, 8, 9, 10, 11, 12] rfl rfl) dX4_forged_214
            · skip
              refine z_iload_n C dX4_forged_66 rfl 2 rfl ?_
              refine y_if_ge (tgt := 209) C (by omega) dX4_forged_67 (by decide) (fun c_67 => ?_) (fun c_67 => ?_)
              · skip
                refine z_aload_n C dX4_forged_209 rfl 3 rfl ?_
                refine z_v (ws' := fun u => [(m, .inr (11, [.int (zI (n : Int)), .ref g1, .ref g2, .ref g3, .ref g4, .ref g5, .int (zI oa), .int (zI dy), .ref s1, .ref s2, .ref s3, .ref s4, .ref s5, .ref s6, .int (zI 0), .int (zI rdg), .int (zI plc), .int (zI ibd), .int (zI stm), .ref t1, .ref t2, .ref t3, .ref c0, .ref c1, .ref c2, .ref c3, .int (zI him), .int (zI 38), .int (zI 0), .ref c0, .int (zI chd), .int (zI chf), .ref y0, .int (zI sd), .ref y1])), (g1, AI G 7 (fun z_ => (kd z_ : Int))), (g2, AI G 7 fg), (g3, AI G 7 hm), (g4, AI G 7 at_), (g5, AI G 7 lg), (s1, AI G 8 (fun z_ => (hw z_ : Int))), (s2, AI G 8 (fun z_ => (kk z_ : Int))), (s3, AI G 8 kf), (s4, AI G 8 (fun z_ => (rs z_ : Int))), (s5, AI G 8 (fun z_ => (rm z_ : Int))), (s6, AL G 800 rw_), (c0, AI G 38 (encF n oa dy kd fg hm at_ lg))]) C (z_runV (q := 0) (As := []) (rest := []) C (ct_X4_close (zl X) G m g1 g2 g3 g4 g5 s1 s2 s3 s4 s5 s6 t1 t2 t3 c0 c1 c2 c3 y0 y1 0 rdg plc ibd stm him 38 1 chd chf sd (.ref c0) (fun z_ => (kd z_ : Int)) fg hm at1 lg1 n oa mdy kd fg hm at_ lg n oa dy ) (lw_V q1302 q1304 qs43 q61 q1305) rfl rfl (sb_e [0, 1, 2, 3, 4, 5, 12] rfl rfl) (na := 0) (by decide +kernel) rfl (zrm rfl rfl (rfl) (rfl)) rfl (Nat.le_of_ble_eq_true rfl) dX4_forged_210) (fun u => jn_e (wr := [(s1, AI G 8 (fun z_ => (hw z_ : Int))), (s2, AI G 8 (fun z_ => (kk z_ : Int))), (s3, AI G 8 kf), (s4, AI G 8 (fun z_ => (rs z_ : Int))), (s5, AI G 8 (fun z_ => (rm z_ : Int))), (s6, AL G 800 rw_)]) [0, 1, 2, 3, 4, 5, 12] [6, 7, 8, 9, 10, 11] [6, 7, 8, 9, 10, 11, 0, 1, 2, 3, 4, 5, 12] rfl rfl rfl (by decide) rfl rfl) (fun u hp_210 => ?_)
                refine z_iload_n C dX4_forged_213 rfl 2 rfl ?_
                exact z_iret C hA hQ rfl (Nat.le_of_ble_eq_true rfl) (Nat.le_of_ble_eq_true rfl) (((.ref c0), 38, 0, (encF n oa dy kd fg hm at_ lg))) (congrArg zI (by unfold oForged; simp only [zTN]; rw [if_neg (by omega), if_neg (by omega)]; exact (FI_e hfi (by omega) (by omega)).symm)) (sb_e [0, 1, 2, 3, 4, 5, 6, 7, 8, 9, 10, 11, 12] rfl rfl) dX4_forged_214
              · skip
                refine z_aload_n C dX4_forged_70 rfl 3 rfl ?_
                refine z_get (q := 0) (kf := 13) (v := .ref s6) C rfl rfl in_X4 (by decide) q1100 (Or.inl rfl) rfl dX4_forged_71 ?_
                refine y_bipush C dX4_forged_74 (by decide) ?_
                refine z_iload_n C dX4_forged_76 rfl 4 rfl ?_
                refine y_imul C dX4_forged_77 ?_
                refine y_iconst C dX4_forged_78 ?_
                refine z_iload C dX4_forged_79 0 rfl ?_
                refine y_imul C dX4_forged_81 ?_
                refine y_iadd C dX4_forged_82 ?_
                refine y_lald (q := 11) (t0 := 1) (v := rw_ (100 * e + 2 * k)) C rfl rfl (by omega) (by decide) (by rw [show (100 * (e : Int) + 2 * (k : Int)).toNat = 100 * e + 2 * k by omega]) dX4_forged_83 ?_
                refine z_lstore (lv' := [(6, .long (zL (rw_ (100 * e + 2 * k)))), (5, .int (zI (k : Int))), (4, .int (zI pc)), (3, .int (zI fnd)), (0, .ref m), (1, .int (zI (e : Int)))]) C dX4_forged_84 (nlt rfl) rfl ?_
                refine z_aload_n C dX4_forged_86 rfl 4 rfl ?_
                refine z_get (q := 0) (kf := 13) (v := .ref s6) C rfl rfl in_X4 (by decide) q1100 (Or.inl rfl) rfl dX4_forged_87 ?_
                refine y_bipush C dX4_forged_90 (by decide) ?_
                refine z_iload_n C dX4_forged_92 rfl 5 rfl ?_
                refine y_imul C dX4_forged_93 ?_
                refine y_iconst C dX4_forged_94 ?_
                refine z_iload C dX4_forged_95 1 rfl ?_
                refine y_imul C dX4_forged_97 ?_
                refine y_iadd C dX4_forged_98 ?_
                refine y_iconst C dX4_forged_99 ?_
                refine y_iadd C dX4_forged_100 ?_
                refine y_lald (q := 11) (t0 := 1) (v := rw_ (100 * e + (2 * k + 1))) C rfl rfl (by omega) (by decide) (by rw [show (100 * (e : Int) + 2 * (k : Int) + 1).toNat = 100 * e + (2 * k + 1) by omega]) dX4_forged_101 ?_
                refine z_lstore (lv' := [(8, .long (zL (rw_ (100 * e + (2 * k + 1))))), (6, .long (zL (rw_ (100 * e + 2 * k)))), (5, .int (zI (k : Int))), (4, .int (zI pc)), (3, .int (zI fnd)), (0, .ref m), (1, .int (zI (e : Int)))]) C dX4_forged_102 (nlt rfl) rfl ?_
                have hsq2 : fgR (rowF rw_ e) kd fg hm oa n at_ lg k = (pc, at1, lg1) := hsq.resolve_left (by omega)
                obtain ⟨hv, ehv⟩ : ∃ z, z = rowF rw_ e (2 * k) := ⟨_, rfl⟩
                obtain ⟨yv, eyv⟩ : ∃ z, z = rowF rw_ e (2 * k + 1) := ⟨_, rfl⟩
                rw [show rw_ (100 * e + 2 * k) = hv from ehv.symm] at hr1
                rw [show rw_ (100 * e + (2 * k + 1)) = yv from eyv.symm] at hr2
                rw [show rw_ (100 * e + 2 * k) = hv from ehv.symm, show rw_ (100 * e + (2 * k + 1)) = yv from eyv.symm]
                have hfe := fgP_e hsq2 ehv eyv
                refine z_lload C dX4_forged_104 1 rfl ?_
                refine z_lconst (v := zL 0) C dX4_forged_106 (by decide) ?_
                refine z_aload_n C dX4_forged_107 rfl 5 rfl ?_
                refine z_get (q := 0) (kf := 0) (v := .int (zI (n : Int))) C rfl rfl in_X4 (by decide) q1087 (Or.inl rfl) rfl dX4_forged_108 ?_
                refine y_iconst C dX4_forged_111 ?_
                refine y_isub C dX4_forged_112 ?_
                refine y_i2l C (by omega) dX4_forged_113 ?_
                refine z_i C (z_runS (As := [.long (zL hv), .long (zL 0), .long (zL ((n : Int) - 1))]) (rest := []) C (ct_X4_in (zl X) G hv 0 ((n : Int) - 1) (by first | assumption | omega) (by first | assumption | omega) (by first | assumption | omega)) (lw_S q1207 q1208 q61 q1209) (sb_e [] rfl rfl) (na := 3) (by decide +kernel) rfl (zrm rfl rfl (rfl) (rfl)) rfl (Nat.le_of_ble_eq_true rfl) dX4_forged_114) (fun u => jn_ro (sb_e [] rfl rfl)) (fun r_114 u hp_114 => ?_)
                have hp_114 : r_114 = zI (bI (0 ≤ hv ∧ hv ≤ ((n : Int) - 1))) := hp_114
                subst hp_114
                refine y_beq (tgt := 136) C dX4_forged_117 (by decide) (fun c_117 => ?_) (fun c_117 => ?_)
                · skip
                  refine y_iconst C dX4_forged_136 ?_
                  refine z_istore (lv' := [(10, .int (zI 0)), (8, .long (zL yv)), (6, .long (zL hv)), (5, .int (zI (k : Int))), (4, .int (zI pc)), (3, .int (zI fnd)), (0, .ref m), (1, .int (zI (e : Int)))]) C dX4_forged_137 (nlt rfl) rfl ?_
                  refine z_iload C dX4_forged_139 0 rfl ?_
                  refine y_if_eq (tgt := 166) C (by omega) dX4_forged_141 (by decide) (fun c_141 => ?_) (fun c_141 => ?_)
                  · skip
                    refine y_iconst C dX4_forged_166 ?_
                    refine z_istore (lv' := [(10, .int (zI 0)), (8, .long (zL yv)), (6, .long (zL hv)), (5, .int (zI (k : Int))), (4, .int (zI pc)), (3, .int (zI fnd)), (0, .ref m), (1, .int (zI (e : Int)))]) C dX4_forged_167 (nlt rfl) rfl ?_
                    refine z_iload C dX4_forged_169 0 rfl ?_
                    refine y_if_eq (tgt := 179) C (by omega) dX4_forged_171 (by decide) (fun c_171 => ?_) (fun c_171 => ?_)
                    · skip
                      refine z_iload C dX4_forged_179 3 rfl ?_
                      have hnew : FI (fgP (rowF rw_ e) kd fg hm at_ lg n oa) (k + 1) ((k : Int)) := FI_t hfi (by omega) (hfe.2 (by omega))
                      refine z_istore_n (lv' := [(3, .int (zI (k : Int))), (10, .int (zI 0)), (8, .long (zL yv)), (6, .long (zL hv)), (5, .int (zI (k : Int))), (4, .int (zI pc)), (0, .ref m), (1, .int (zI (e : Int)))]) C dX4_forged_181 rfl (nlt rfl) rfl ?_
                      refine z_iload C dX4_forged_182 1 rfl ?_
                      refine y_if_eq (tgt := 203) C (by omega) dX4_forged_184 (by decide) (fun c_184 => ?_) (fun c_184 => ?_)
                      · skip
                        refine y_iinc (lv' := [(5, .int (zI ((k : Int) + 1))), (3, .int (zI (k : Int))), (10, .int (zI 0)), (8, .long (zL yv)), (6, .long (zL hv)), (4, .int (zI pc)), (0, .ref m), (1, .int (zI (e : Int)))]) C dX4_forged_203 (q := 4) rfl (nlt rfl) rfl ?_
                        refine z_goto (tgt := 53) C dX4_forged_206 (by decide) ?_
                        refine z_lv (lv' := [(5, .int (zI ((k : Int) + 1))), (4, .int (zI pc)), (3, .int (zI (k : Int))), (0, .ref m), (1, .int (zI (e : Int)))]) [0, 5, 1, 6, 7] rfl ?_
                        exact ih_53 _ (by omega) (k + 1) (k : Int) pc at1 lg1 mdy (by first | assumption | omega) (Or.inl (by omega)) (hL1) (by first | assumption | omega) (hnew) rfl
                      · skip
                        exfalso; omega
                    · skip
                      exfalso; omega
                  · skip
                    exfalso; omega
                · skip
                  refine z_lload C dX4_forged_120 0 rfl ?_
                  refine z_lconst (v := zL 0) C dX4_forged_122 (by decide) ?_
                  refine z_ldc2 C q1254 dX4_forged_123 ?_
                  refine z_eql (y := zL 20) (by decide) ?_
                  refine z_i C (z_runS (As := [.long (zL yv), .long (zL 0), .long (zL 20)]) (rest := []) C (ct_X4_in (zl X) G yv 0 20 (by first | assumption | omega) (by first | assumption | omega) (by first | assumption | omega)) (lw_S q1207 q1208 q61 q1209) (sb_e [] rfl rfl) (na := 3) (by decide +kernel) rfl (zrm rfl rfl (rfl) (rfl)) rfl (Nat.le_of_ble_eq_true rfl) dX4_forged_126) (fun u => jn_ro (sb_e [] rfl rfl)) (fun r_126 u hp_126 => ?_)
                  have hp_126 : r_126 = zI (bI (0 ≤ yv ∧ yv ≤ 20)) := hp_126
                  subst hp_126
                  refine y_beq (tgt := 136) C dX4_forged_129 (by decide) (fun c_129 => ?_) (fun c_129 => ?_)
                  · skip
                    refine y_iconst C dX4_forged_136 ?_
                    refine z_istore (lv' := [(10, .int (zI 0)), (8, .long (zL yv)), (6, .long (zL hv)), (5, .int (zI (k : Int))), (4, .int (zI pc)), (3, .int (zI fnd)), (0, .ref m), (1, .int (zI (e : Int)))]) C dX4_forged_137 (nlt rfl) rfl ?_
                    refine z_iload C dX4_forged_139 0 rfl ?_
                    refine y_if_eq (tgt := 166) C (by omega) dX4_forged_141 (by decide) (fun c_141 => ?_) (fun c_141 => ?_)
                    · skip
                      refine y_iconst C dX4_forged_166 ?_
                      refine z_istore (lv' := [(10, .int (zI 0)), (8, .long (zL yv)), (6, .long (zL hv)), (5, .int (zI (k : Int))), (4, .int (zI pc)), (3, .int (zI fnd)), (0, .ref m), (1, .int (zI (e : Int)))]) C dX4_forged_167 (nlt rfl) rfl ?_
                      refine z_iload C dX4_forged_169 0 rfl ?_
                      refine y_if_eq (tgt := 179) C (by omega) dX4_forged_171 (by decide) (fun c_171 => ?_) (fun c_171 => ?_)
                      · skip
                        refine z_iload C dX4_forged_179 3 rfl ?_
                        have hnew : FI (fgP (rowF rw_ e) kd fg hm at_ lg n oa) (k + 1) ((k : Int)) := FI_t hfi (by omega) (hfe.2 (by omega))
                        refine z_istore_n (lv' := [(3, .int (zI (k : Int))), (10, .int (zI 0)), (8, .long (zL yv)), (6, .long (zL hv)), (5, .int (zI (k : Int))), (4, .int (zI pc)), (0, .ref m), (1, .int (zI (e : Int)))]) C dX4_forged_181 rfl (nlt rfl) rfl ?_
                        refine z_iload C dX4_forged_182 1 rfl ?_
                        refine y_if_eq (tgt := 203) C (by omega) dX4_forged_184 (by decide) (fun c_184 => ?_) (fun c_184 => ?_)
                        · skip
                          refine y_iinc (lv' := [(5, .int (zI ((k : Int) + 1))), (3, .int (zI (k : Int))), (10, .int (zI 0)), (8, .long (zL yv)), (6, .long (zL hv)), (4, .int (zI pc)), (0, .ref m), (1, .int (zI (e : Int)))]) C dX4_forged_203 (q := 4) rfl (nlt rfl) rfl ?_
                          refine z_goto (tgt := 53) C dX4_forged_206 (by decide) ?_
                          refine z_lv (lv' := [(5, .int (zI ((k : Int) + 1))), (4, .int (zI pc)), (3, .int (zI (k : Int))), (0, .ref m), (1, .int (zI (e : Int)))]) [0, 5, 1, 6, 7] rfl ?_
                          exact ih_53 _ (by omega) (k + 1) (k : Int) pc at1 lg1 mdy (by first | assumption | omega) (Or.inl (by omega)) (hL1) (by first | assumption | omega) (hnew) rfl
                        · skip
                          exfalso; omega
                      · skip
                        exfalso; omega
                    · skip
                      exfalso; omega
                  · skip
                    refine y_iconst C dX4_forged_132 ?_
                    refine z_goto (tgt := 137) C dX4_forged_133 (by decide) ?_
                    refine z_istore (lv' := [(10, .int (zI 1)), (8, .long (zL yv)), (6, .long (zL hv)), (5, .int (zI (k : Int))), (4, .int (zI pc)), (3, .int (zI fnd)), (0, .ref m), (1, .int (zI (e : Int)))]) C dX4_forged_137 (nlt rfl) rfl ?_
                    refine z_iload C dX4_forged_139 0 rfl ?_
                    refine y_if_eq (tgt := 166) C (by omega) dX4_forged_141 (by decide) (fun c_141 => ?_) (fun c_141 => ?_)
                    · skip
                      exfalso; omega
                    · skip
                      obtain ⟨hN, rfl⟩ := Int.eq_ofNat_of_zero_le (show 0 ≤ hv by omega)
                      simp only [zTN] at hfe
                      refine z_iload C dX4_forged_144 3 rfl ?_
                      refine y_if_eq (tgt := 162) C (by omega) dX4_forged_146 (by decide) (fun c_146 => ?_) (fun c_146 => ?_)
                      · skip
                        refine y_iconst C dX4_forged_162 ?_
                        refine z_goto (tgt := 167) C dX4_forged_163 (by decide) ?_
                        refine z_istore (lv' := [(10, .int (zI 1)), (8, .long (zL yv)), (6, .long (zL (hN : Int))), (5, .int (zI (k : Int))), (4, .int (zI pc)), (3, .int (zI fnd)), (0, .ref m), (1, .int (zI (e : Int)))]) C dX4_forged_167 (nlt rfl) rfl ?_
                        refine z_iload C dX4_forged_169 0 rfl ?_
                        refine y_if_eq (tgt := 179) C (by omega) dX4_forged_171 (by decide) (fun c_171 => ?_) (fun c_171 => ?_)
                        · skip
                          exfalso; omega
                        · skip
                          refine y_bipush C dX4_forged_174 (by decide) ?_
                          refine z_goto (tgt := 181) C dX4_forged_176 (by decide) ?_
                          have hnew : FI (fgP (rowF rw_ e) kd fg hm at_ lg n oa) (k + 1) ((-4)) := FI_f hfi (by omega) (hfe.1 ⟨by omega, by omega, by omega⟩)
                          refine z_istore_n (lv' := [(3, .int (zI (-4))), (10, .int (zI 1)), (8, .long (zL yv)), (6, .long (zL (hN : Int))), (5, .int (zI (k : Int))), (4, .int (zI pc)), (0, .ref m), (1, .int (zI (e : Int)))]) C dX4_forged_181 rfl (nlt rfl) rfl ?_
                          refine z_iload C dX4_forged_182 1 rfl ?_
                          refine y_if_eq (tgt := 203) C (by omega) dX4_forged_184 (by decide) (fun c_184 => ?_) (fun c_184 => ?_)
                          · skip
                            exfalso; omega
                          · skip
                            refine z_aload_n C dX4_forged_187 rfl 6 rfl ?_
                            refine z_lload C dX4_forged_188 3 rfl ?_
                            refine y_l2i C (by omega) dX4_forged_190 ?_
                            refine z_lload C dX4_forged_191 2 rfl ?_
                            refine y_l2i C (by omega) dX4_forged_193 ?_
                            refine z_i (ws' := fun u => [(m, .inr (11, [.int (zI (n : Int)), .ref g1, .ref g2, .ref g3, .ref g4, .ref g5, .int (zI oa), .int (zI (mdy + ((rdN kd fg hm oa n hN yv at1 lg1) : Int))), .ref s1, .ref s2, .ref s3, .ref s4, .ref s5, .ref s6, .int (zI 0), .int (zI rdg), .int (zI plc), .int (zI ibd), .int (zI stm), .ref t1, .ref t2, .ref t3, .ref c0, .ref c1, .ref c2, .ref c3, .int (zI him), .int (zI 38), .int (zI 1), .ref c0, .int (zI chd), .int (zI chf), .ref y0, .int (zI sd), .ref y1])), (g1, AI G 7 (fun z_ => (kd z_ : Int))), (g2, AI G 7 fg), (g3, AI G 7 hm), (g4, AI G 7 (rdA kd fg hm oa n hN yv at1 lg1)), (g5, AI G 7 (rdL kd fg hm oa n hN yv at1 lg1)), (s1, AI G 8 (fun z_ => (hw z_ : Int))), (s2, AI G 8 (fun z_ => (kk z_ : Int))), (s3, AI G 8 kf), (s4, AI G 8 (fun z_ => (rs z_ : Int))), (s5, AI G 8 (fun z_ => (rm z_ : Int))), (s6, AL G 800 rw_), (c0, AI G 38 (encF n oa dy kd fg hm at_ lg))]) C (z_runV (q := 0) (As := [.int (zI (hN : Int)), .int (zI yv)]) (rest := []) C (ct_X4_ride (zl X) G m g1 g2 g3 g4 g5 kd fg hm at1 lg1 n oa mdy ([.ref s1, .ref s2, .ref s3, .ref s4, .ref s5, .ref s6, .int (zI 0), .int (zI rdg), .int (zI plc), .int (zI ibd), .int (zI stm), .ref t1, .ref t2, .ref t3, .ref c0, .ref c1, .ref c2, .ref c3, .int (zI him), .int (zI 38), .int (zI 1), .ref c0, .int (zI chd), .int (zI chf), .ref y0, .int (zI sd), .ref y1]) hN yv (hL1) (by omega) (by omega)) (lw_V q1259 q1261 qs34 q61 q1262) rfl rfl (sb_e [0, 1, 2, 3, 4, 5] rfl rfl) (na := 2) (by decide +kernel) rfl (zrm rfl rfl (rfl) (rfl)) rfl (Nat.le_of_ble_eq_true rfl) dX4_forged_194) (fun u => jn_e (wr := [(s1, AI G 8 (fun z_ => (hw z_ : Int))), (s2, AI G 8 (fun z_ => (kk z_ : Int))), (s3, AI G 8 kf), (s4, AI G 8 (fun z_ => (rs z_ : Int))), (s5, AI G 8 (fun z_ => (rm z_ : Int))), (s6, AL G 800 rw_), (c0, AI G 38 (encF n oa dy kd fg hm at_ lg))]) [0, 1, 2, 3, 4, 5] [6, 7, 8, 9, 10, 11, 12] [7, 8, 9, 10, 11, 12, 0, 1, 2, 3, 4, 5, 6] rfl rfl rfl (by decide) rfl rfl) (fun r_194 u hp_194 => ?_)
                            have hp_194 : r_194 = zI ((rdN kd fg hm oa n hN yv at1 lg1) : Int) := hp_194
                            subst hp_194
                            refine z_pop C dX4_forged_197 rfl ?_
                            refine z_lload C dX4_forged_198 2 rfl ?_
                            refine y_l2i C (by omega) dX4_forged_200 ?_
                            refine z_istore (lv' := [(4, .int (zI yv)), (3, .int (zI (-4))), (10, .int (zI 1)), (8, .long (zL yv)), (6, .long (zL (hN : Int))), (5, .int (zI (k : Int))), (0, .ref m), (1, .int (zI (e : Int)))]) C dX4_forged_201 (nlt rfl) rfl ?_
                            refine y_iinc (lv' := [(5, .int (zI ((k : Int) + 1))), (4, .int (zI yv)), (3, .int (zI (-4))), (10, .int (zI 1)), (8, .long (zL yv)), (6, .long (zL (hN : Int))), (0, .ref m), (1, .int (zI (e : Int)))]) C dX4_forged_203 (q := 5) rfl (nlt rfl) rfl ?_
                            refine z_goto (tgt := 53) C dX4_forged_206 (by decide) ?_
                            refine z_lv (lv' := [(5, .int (zI ((k : Int) + 1))), (4, .int (zI yv)), (3, .int (zI (-4))), (0, .ref m), (1, .int (zI (e : Int)))]) [0, 1, 2, 6, 7] rfl ?_
                            exact ih_53 _ (by omega) (k + 1) (-4) yv (rdA kd fg hm oa n hN yv at1 lg1) (rdL kd fg hm oa n hN yv at1 lg1) (mdy + ((rdN kd fg hm oa n hN yv at1 lg1) : Int)) (by first | assumption | omega) (Or.inr (fgR_s hsq2 ehv eyv)) (rd_ok hL1 (by omega) (by omega)) (by first | assumption | omega) (hnew) rfl
                      · skip
                        have hh7 : hN < 7 := by omega
                        have hat7 := (hL1.2.2 hN (by omega)).2.2.2.1
                        refine z_aload_n C dX4_forged_149 rfl 6 rfl ?_
                        refine z_get (q := 0) (kf := 4) (v := .ref g4) C rfl rfl in_X4 (by decide) q1091 (Or.inl rfl) rfl dX4_forged_150 ?_
                        refine z_lload C dX4_forged_153 2 rfl ?_
                        refine y_l2i C (by omega) dX4_forged_155 ?_
                        refine y_iald (q := 4) (t0 := 0) (v := at1 hN) C rfl rfl (by omega) (by decide) rfl dX4_forged_156 ?_
                        refine z_iload C dX4_forged_157 4 rfl ?_
                        refine y_icmp_ne (tgt := 166) C (by omega) (by omega) dX4_forged_159 (by decide) (fun c_159 => ?_) (fun c_159 => ?_)
                        · skip
                          refine y_iconst C dX4_forged_166 ?_
                          refine z_istore (lv' := [(10, .int (zI 0)), (8, .long (zL yv)), (6, .long (zL (hN : Int))), (5, .int (zI (k : Int))), (4, .int (zI pc)), (3, .int (zI fnd)), (0, .ref m), (1, .int (zI (e : Int)))]) C dX4_forged_167 (nlt rfl) rfl ?_
                          refine z_iload C dX4_forged_169 0 rfl ?_
                          refine y_if_eq (tgt := 179) C (by omega) dX4_forged_171 (by decide) (fun c_171 => ?_) (fun c_171 => ?_)
                          · skip
                            refine z_iload C dX4_forged_179 3 rfl ?_
                            have hnew : FI (fgP (rowF rw_ e) kd fg hm at_ lg n oa) (k + 1) ((k : Int)) := FI_t hfi (by omega) (hfe.2 (by omega))
                            refine z_istore_n (lv' := [(3, .int (zI (k : Int))), (10, .int (zI 0)), (8, .long (zL yv)), (6, .long (zL (hN : Int))), (5, .int (zI (k : Int))), (4, .int (zI pc)), (0, .ref m), (1, .int (zI (e : Int)))]) C dX4_forged_181 rfl (nlt rfl) rfl ?_
                            refine z_iload C dX4_forged_182 1 rfl ?_
                            refine y_if_eq (tgt := 203) C (by omega) dX4_forged_184 (by decide) (fun c_184 => ?_) (fun c_184 => ?_)
                            · skip
                              refine y_iinc (lv' := [(5, .int (zI ((k : Int) + 1))), (3, .int (zI (k : Int))), (10, .int (zI 0)), (8, .long (zL yv)), (6, .long (zL (hN : Int))), (4, .int (zI pc)), (0, .ref m), (1, .int (zI (e : Int)))]) C dX4_forged_203 (q := 4) rfl (nlt rfl) rfl ?_
                              refine z_goto (tgt := 53) C dX4_forged_206 (by decide) ?_
                              refine z_lv (lv' := [(5, .int (zI ((k : Int) + 1))), (4, .int (zI pc)), (3, .int (zI (k : Int))), (0, .ref m), (1, .int (zI (e : Int)))]) [0, 5, 1, 6, 7] rfl ?_
                              exact ih_53 _ (by omega) (k + 1) (k : Int) pc at1 lg1 mdy (by first | assumption | omega) (Or.inl (by omega)) (hL1) (by first | assumption | omega) (hnew) rfl
                            · skip
                              exfalso; omega
                          · skip
                            exfalso; omega
                        · skip
                          refine y_iconst C dX4_forged_162 ?_
                          refine z_goto (tgt := 167) C dX4_forged_163 (by decide) ?_
                          refine z_istore (lv' := [(10, .int (zI 1)), (8, .long (zL yv)), (6, .long (zL (hN : Int))), (5, .int (zI (k : Int))), (4, .int (zI pc)), (3, .int (zI fnd)), (0, .ref m), (1, .int (zI (e : Int)))]) C dX4_forged_167 (nlt rfl) rfl ?_
                          refine z_iload C dX4_forged_169 0 rfl ?_
                          refine y_if_eq (tgt := 179) C (by omega) dX4_forged_171 (by decide) (fun c_171 => ?_) (fun c_171 => ?_)
                          · skip
                            exfalso; omega
                          · skip
                            refine y_bipush C dX4_forged_174 (by decide) ?_
                            refine z_goto (tgt := 181) C dX4_forged_176 (by decide) ?_
                            have hnew : FI (fgP (rowF rw_ e) kd fg hm at_ lg n oa) (k + 1) ((-4)) := FI_f hfi (by omega) (hfe.1 ⟨by omega, by omega, by omega⟩)
                            refine z_istore_n (lv' := [(3, .int (zI (-4))), (10, .int (zI 1)), (8, .long (zL yv)), (6, .long (zL (hN : Int))), (5, .int (zI (k : Int))), (4, .int (zI pc)), (0, .ref m), (1, .int (zI (e : Int)))]) C dX4_forged_181 rfl (nlt rfl) rfl ?_
                            refine z_iload C dX4_forged_182 1 rfl ?_
                            refine y_if_eq (tgt := 203) C (by omega) dX4_forged_184 (by decide) (fun c_184 => ?_) (fun c_184 => ?_)
                            · skip
                              exfalso; omega
                            · skip
                              refine z_aload_n C dX4_forged_187 rfl 6 rfl ?_
                              refine z_lload C dX4_forged_188 3 rfl ?_
                              refine y_l2i C (by omega) dX4_forged_190 ?_
                              refine z_lload C dX4_forged_191 2 rfl ?_
                              refine y_l2i C (by omega) dX4_forged_193 ?_
                              refine z_i (ws' := fun u => [(m, .inr (11, [.int (zI (n : Int)), .ref g1, .ref g2, .ref g3, .ref g4, .ref g5, .int (zI oa), .int (zI (mdy + ((rdN kd fg hm oa n hN yv at1 lg1) : Int))), .ref s1, .ref s2, .ref s3, .ref s4, .ref s5, .ref s6, .int (zI 0), .int (zI rdg), .int (zI plc), .int (zI ibd), .int (zI stm), .ref t1, .ref t2, .ref t3, .ref c0, .ref c1, .ref c2, .ref c3, .int (zI him), .int (zI 38), .int (zI 1), .ref c0, .int (zI chd), .int (zI chf), .ref y0, .int (zI sd), .ref y1])), (g1, AI G 7 (fun z_ => (kd z_ : Int))), (g2, AI G 7 fg), (g3, AI G 7 hm), (g4, AI G 7 (rdA kd fg hm oa n hN yv at1 lg1)), (g5, AI G 7 (rdL kd fg hm oa n hN yv at1 lg1)), (s1, AI G 8 (fun z_ => (hw z_ : Int))), (s2, AI G 8 (fun z_ => (kk z_ : Int))), (s3, AI G 8 kf), (s4, AI G 8 (fun z_ => (rs z_ : Int))), (s5, AI G 8 (fun z_ => (rm z_ : Int))), (s6, AL G 800 rw_), (c0, AI G 38 (encF n oa dy kd fg hm at_ lg))]) C (z_runV (q := 0) (As := [.int (zI (hN : Int)), .int (zI yv)]) (rest := []) C (ct_X4_ride (zl X) G m g1 g2 g3 g4 g5 kd fg hm at1 lg1 n oa mdy ([.ref s1, .ref s2, .ref s3, .ref s4, .ref s5, .ref s6, .int (zI 0), .int (zI rdg), .int (zI plc), .int (zI ibd), .int (zI stm), .ref t1, .ref t2, .ref t3, .ref c0, .ref c1, .ref c2, .ref c3, .int (zI him), .int (zI 38), .int (zI 1), .ref c0, .int (zI chd), .int (zI chf), .ref y0, .int (zI sd), .ref y1]) hN yv (hL1) (by omega) (by omega)) (lw_V q1259 q1261 qs34 q61 q1262) rfl rfl (sb_e [0, 1, 2, 3, 4, 5] rfl rfl) (na := 2) (by decide +kernel) rfl (zrm rfl rfl (rfl) (rfl)) rfl (Nat.le_of_ble_eq_true rfl) dX4_forged_194) (fun u => jn_e (wr := [(s1, AI G 8 (fun z_ => (hw z_ : Int))), (s2, AI G 8 (fun z_ => (kk z_ : Int))), (s3, AI G 8 kf), (s4, AI G 8 (fun z_ => (rs z_ : Int))), (s5, AI G 8 (fun z_ => (rm z_ : Int))), (s6, AL G 800 rw_), (c0, AI G 38 (encF n oa dy kd fg hm at_ lg))]) [0, 1, 2, 3, 4, 5] [6, 7, 8, 9, 10, 11, 12] [7, 8, 9, 10, 11, 12, 0, 1, 2, 3, 4, 5, 6] rfl rfl rfl (by decide) rfl rfl) (fun r_194 u hp_194 => ?_)
                              have hp_194 : r_194 = zI ((rdN kd fg hm oa n hN yv at1 lg1) : Int) := hp_194
                              subst hp_194
                              refine z_pop C dX4_forged_197 rfl ?_
                              refine z_lload C dX4_forged_198 2 rfl ?_
                              refine y_l2i C (by omega) dX4_forged_200 ?_
                              refine z_istore (lv' := [(4, .int (zI yv)), (3, .int (zI (-4))), (10, .int (zI 1)), (8, .long (zL yv)), (6, .long (zL (hN : Int))), (5, .int (zI (k : Int))), (0, .ref m), (1, .int (zI (e : Int)))]) C dX4_forged_201 (nlt rfl) rfl ?_
                              refine y_iinc (lv' := [(5, .int (zI ((k : Int) + 1))), (4, .int (zI yv)), (3, .int (zI (-4))), (10, .int (zI 1)), (8, .long (zL yv)), (6, .long (zL (hN : Int))), (0, .ref m), (1, .int (zI (e : Int)))]) C dX4_forged_203 (q := 5) rfl (nlt rfl) rfl ?_
                              refine z_goto (tgt := 53) C dX4_forged_206 (by decide) ?_
                              refine z_lv (lv' := [(5, .int (zI ((k : Int) + 1))), (4, .int (zI yv)), (3, .int (zI (-4))), (0, .ref m), (1, .int (zI (e : Int)))]) [0, 1, 2, 6, 7] rfl ?_
                              exact ih_53 _ (by omega) (k + 1) (-4) yv (rdA kd fg hm oa n hN yv at1 lg1) (rdL kd fg hm oa n hN yv at1 lg1) (mdy + ((rdN kd fg hm oa n hN yv at1 lg1) : Int)) (by first | assumption | omega) (Or.inr (fgR_s hsq2 ehv eyv)) (rd_ok hL1 (by omega) (by omega)) (by first | assumption | omega) (hnew) rfl
        refine z_lv (lv' := [(5, .int (zI 0)), (4, .int (zI (-1))), (3, .int (zI (-4))), (0, .ref m), (1, .int (zI (e : Int)))]) [0, 1, 2, 4, 5] rfl ?_
        exact L_53 _ 0 (-4) (-1) at_ lg dy (by first | assumption | omega) (Or.inr rfl) (hL) (by first | assumption | omega) (FI_0) rfl
      · skip
        refine z_iload_n C dX4_forged_38 rfl 0 rfl ?_
        exact z_iret C hA hQ rfl (Nat.le_of_ble_eq_true rfl) (Nat.le_of_ble_eq_true rfl) ((ki, pl0, itk, kc)) (congrArg zI (by unfold oForged; (try simp only [zTN]); repeat (first | rw [if_pos (by omega)] | rw [if_neg (by omega)]))) (sb_e [0, 1, 2, 3, 4, 5, 6, 7, 8, 9, 10, 11, 12] rfl rfl) dX4_forged_39
    · skip
      refine y_bipush C dX4_forged_27 (by decide) ?_
      refine z_goto (tgt := 33) C dX4_forged_29 (by decide) ?_
      refine z_istore_n (lv' := [(2, .int (zI (-13))), (0, .ref m), (1, .int (zI (e : Int)))]) C dX4_forged_33 rfl (nlt rfl) rfl ?_
      refine z_iload_n C dX4_forged_34 rfl 0 rfl ?_
      refine y_if_ge (tgt := 40) C (by omega) dX4_forged_35 (by decide) (fun c_35 => ?_) (fun c_35 => ?_)
      · skip
        exfalso; omega
      · skip
        refine z_iload_n C dX4_forged_38 rfl 0 rfl ?_
        exact z_iret C hA hQ rfl (Nat.le_of_ble_eq_true rfl) (Nat.le_of_ble_eq_true rfl) ((ki, pl0, itk, kc)) (congrArg zI (by unfold oForged; (try simp only [zTN]); repeat (first | rw [if_pos (by omega)] | rw [if_neg (by omega)]))) (sb_e [0, 1, 2, 3, 4, 5, 6, 7, 8, 9, 10, 11, 12] rfl rfl) dX4_forged_39

