/-! THE MODEL, 4: what it answers -/
set_option maxRecDepth 100000
def MI (f : Nat → Int) (i : Nat) (b l : Int) : Prop := (i = 0 ∧ -4 ≤ l ∧ l < 0 ∧ -4 ≤ b ∧ b ≤ 0) ∨ (0 < i ∧ minF f i = (b, l))
theorem MI_t {f : Nat → Int} {i : Nat} {b l : Int} (hf : ∀ j, 0 ≤ f j) (h : MI f i b l) (c : l < 0 ∨ f i < l) : MI f (i + 1) (i : Int) (f i) := by
  refine Or.inr ⟨Nat.succ_pos i, ?_⟩
  rcases h with ⟨h1, _⟩ | ⟨h1, h2⟩
  · subst h1; exact minF_t' (b := -4) (l := -4) rfl (Or.inl (by decide))
  · refine minF_t' h2 ?_
    rcases minF_w f i b l h2 with ⟨a1, a2, a3⟩ | ⟨a1, a2, a3⟩
    · omega
    · have := hf b.toNat
      omega
theorem MI_f {f : Nat → Int} {i : Nat} {b l : Int} (h : MI f i b l) (c : ¬ (l < 0 ∨ f i < l)) : MI f (i + 1) b l := by
  rcases h with ⟨h1, h2⟩ | ⟨h1, h2⟩
  · exact absurd (Or.inl h2.2.1) c
  · refine Or.inr ⟨Nat.succ_pos i, minF_f' h2 ?_⟩
    rcases minF_w f i b l h2 with ⟨a1, a2, a3⟩ | ⟨a1, a2, a3⟩
    · omega
    · omega
theorem MI_b {f : Nat → Int} {i : Nat} {b l B : Int} (h : MI f i b l) (hf : ∀ j, 0 ≤ f j ∧ f j ≤ B) (hB : 0 ≤ B) : -4 ≤ b ∧ b ≤ i ∧ -4 ≤ l ∧ l ≤ B := by
  rcases h with ⟨h1, h2⟩ | ⟨h1, h2⟩
  · omega
  · have := minF_b h2 hf hB; omega
theorem MI_e {f : Nat → Int} {i : Nat} {b l : Int} (h : MI f i b l) (hi : 0 < i) : minF f i = (b, l) := by
  rcases h with ⟨h1, h2⟩ | ⟨h1, h2⟩
  · omega
  · exact h2
def XI (f : Nat → Int) (i : Nat) (b l : Int) : Prop := (i = 0 ∧ -4 ≤ l ∧ l < 0 ∧ -4 ≤ b ∧ b ≤ 0) ∨ (0 < i ∧ maxF f i = (b, l))
theorem XI_t {f : Nat → Int} {i : Nat} {b l : Int} (hf : ∀ j, 0 ≤ f j) (h : XI f i b l) (c : l < f i) : XI f (i + 1) (i : Int) (f i) := by
  refine Or.inr ⟨Nat.succ_pos i, ?_⟩
  rcases h with ⟨h1, _⟩ | ⟨h1, h2⟩
  · subst h1; exact maxF_t' (b := -4) (l := -4) rfl (by have := hf 0; omega)
  · exact maxF_t' h2 c
theorem XI_f {f : Nat → Int} {i : Nat} {b l : Int} (hf : ∀ j, 0 ≤ f j) (h : XI f i b l) (c : ¬ l < f i) : XI f (i + 1) b l := by
  rcases h with ⟨h1, h2⟩ | ⟨h1, h2⟩
  · have := hf i; omega
  · exact Or.inr ⟨Nat.succ_pos i, maxF_f' h2 c⟩
theorem XI_b {f : Nat → Int} {i : Nat} {b l B : Int} (h : XI f i b l) (hf : ∀ j, 0 ≤ f j ∧ f j ≤ B) (hB : 0 ≤ B) : -4 ≤ b ∧ b ≤ i ∧ -4 ≤ l ∧ l ≤ B := by
  rcases h with ⟨h1, h2⟩ | ⟨h1, h2⟩
  · omega
  · have := maxF_b hf hB h2; omega
theorem XI_e {f : Nat → Int} {i : Nat} {b l : Int} (h : XI f i b l) (hi : 0 < i) : maxF f i = (b, l) := by
  rcases h with ⟨h1, h2⟩ | ⟨h1, h2⟩
  · omega
  · exact h2
theorem minF_bl {f : Nat → Int} {i : Nat} {b l : Int} (h : minF f i = (b, l)) (hf : ∀ j, 0 ≤ f j) : 0 ≤ b → 0 ≤ l := by
  intro hb
  rcases minF_w f i b l h with ⟨a1, a2, a3⟩ | ⟨a1, a2, a3⟩
  · omega
  · have := hf b.toNat; omega
set_option maxHeartbeats 4000000 in
theorem ct_X4_howLong (l : Launch) (G : ZG) (m : Nat) (g1 : Nat) (g2 : Nat) (g3 : Nat) (g4 : Nat) (g5 : Nat) (s1 : Nat) (s2 : Nat) (s3 : Nat) (s4 : Nat) (s5 : Nat) (s6 : Nat) (t1 : Nat) (t2 : Nat) (t3 : Nat) (c0 : Nat) (c1 : Nat) (c2 : Nat) (c3 : Nat) (y0 : Nat) (y1 : Nat) (thr : Int) (rdg : Int) (plc : Int) (ibd : Int) (stm : Int) (him : Int) (pl0 : Int) (itk : Int) (chd : Int) (chf : Int) (sd : Int) (ki : Value) (kd : Nat → Nat) (fg : Nat → Int) (hm : Nat → Int) (at_ : Nat → Int) (lg : Nat → Int) (n : Nat) (oa : Int) (dy : Int) (kc : Nat → Int) (h : Int) (yard : Int) (hL : LK n kd fg hm at_ lg oa) (rh : -2147483648 ≤ h ∧ h ≤ 2147483647) (ryard : -2147483648 ≤ yard ∧ yard ≤ 2147483647) : CT l yX4_howLong cX4_howLong 3 (some .int) { frames := 7, cells := 0, slots := 0, locals := 164 } G [.ref m, .int (zI h), .int (zI yard)] [(m, .inr (11, [.int (zI (n : Int)), .ref g1, .ref g2, .ref g3, .ref g4, .ref g5, .int (zI oa), .int (zI dy), .ref s1, .ref s2, .ref s3, .ref s4, .ref s5, .ref s6, .int (zI thr), .int (zI rdg), .int (zI plc), .int (zI ibd), .int (zI stm), .ref t1, .ref t2, .ref t3, .ref c0, .ref c1, .ref c2, .ref c3, .int (zI him), .int (zI pl0), .int (zI itk), ki, .int (zI chd), .int (zI chf), .ref y0, .int (zI sd), .ref y1])), (g1, AI G 7 (fun z_ => (kd z_ : Int))), (g2, AI G 7 fg), (g3, AI G 7 hm), (g4, AI G 7 at_), (g5, AI G 7 lg), (c0, AI G 38 kc)] (Qi G [(m, .inr (11, [.int (zI (n : Int)), .ref g1, .ref g2, .ref g3, .ref g4, .ref g5, .int (zI oa), .int (zI dy), .ref s1, .ref s2, .ref s3, .ref s4, .ref s5, .ref s6, .int (zI thr), .int (zI rdg), .int (zI plc), .int (zI ibd), .int (zI stm), .ref t1, .ref t2, .ref t3, .ref c0, .ref c1, .ref c2, .ref c3, .int (zI him), .int (zI pl0), .int (zI itk), ki, .int (zI chd), .int (zI chf), .ref y0, .int (zI sd), .ref y1])), (g1, AI G 7 (fun z_ => (kd z_ : Int))), (g2, AI G 7 fg), (g3, AI G 7 hm), (g4, AI G 7 at_), (g5, AI G 7 lg), (c0, AI G 38 kc)] (fun (r : Int32) (u : Value × Int × Int × (Nat → Int)) => r = zI (oHowLong kd fg hm at_ lg n oa h yard)) (fun u => [(m, .inr (11, [.int (zI (n : Int)), .ref g1, .ref g2, .ref g3, .ref g4, .ref g5, .int (zI oa), .int (zI dy), .ref s1, .ref s2, .ref s3, .ref s4, .ref s5, .ref s6, .int (zI 0), .int (zI rdg), .int (zI plc), .int (zI ibd), .int (zI stm), .ref t1, .ref t2, .ref t3, .ref c0, .ref c1, .ref c2, .ref c3, .int (zI him), .int (zI u.2.1), .int (zI u.2.2.1), u.1, .int (zI chd), .int (zI chf), .ref y0, .int (zI sd), .ref y1])), (g1, AI G 7 (fun z_ => (kd z_ : Int))), (g2, AI G 7 fg), (g3, AI G 7 hm), (g4, AI G 7 at_), (g5, AI G 7 lg), (c0, AI G 38 u.2.2.2)])) := by
  refine z_met (by decide) (Nat.le_of_ble_eq_true rfl) ?_
  intro X A hl0 hA C hQ hin
  subst hl0
  obtain ⟨hn7, hoa, hLj⟩ := id hL
  show Z X _ G 0 0 _ 0 [(0, .ref m), (1, .int (zI h)), (2, .int (zI yard))] []
  refine z_aload_n C dX4_howLong_0 rfl 0 rfl ?_
  refine y_iconst C dX4_howLong_1 ?_
  refine z_put (q := 0) (kf := 14) (ws' := [(m, .inr (11, [.int (zI (n : Int)), .ref g1, .ref g2, .ref g3, .ref g4, .ref g5, .int (zI oa), .int (zI dy), .ref s1, .ref s2, .ref s3, .ref s4, .ref s5, .ref s6, .int (zI 0), .int (zI rdg), .int (zI plc), .int (zI ibd), .int (zI stm), .ref t1, .ref t2, .ref t3, .ref c0, .ref c1, .ref c2, .ref c3, .int (zI him), .int (zI pl0), .int (zI itk), ki, .int (zI chd), .int (zI chf), .ref y0, .int (zI sd), .ref y1])), (g1, AI G 7 (fun z_ => (kd z_ : Int))), (g2, AI G 7 fg), (g3, AI G 7 hm), (g4, AI G 7 at_), (g5, AI G 7 lg), (c0, AI G 38 kc)]) C rfl rfl in_X4 tyX4_ok nmX4 (by decide) q1101 rfl rfl rfl rfl rfl (nlt rfl) rfl dX4_howLong_2 ?_
  refine z_aload_n C dX4_howLong_5 rfl 0 rfl ?_
  refine z_iload_n C dX4_howLong_6 rfl 1 rfl ?_
  refine z_i C (z_runV (q := 0) (As := [.int (zI h)]) (rest := []) C (ct_X4_isHorse (zl X) G m g1 g2 g3 g4 g5 n oa dy ([.ref s1, .ref s2, .ref s3, .ref s4, .ref s5, .ref s6, .int (zI 0), .int (zI rdg), .int (zI plc), .int (zI ibd), .int (zI stm), .ref t1, .ref t2, .ref t3, .ref c0, .ref c1, .ref c2, .ref c3, .int (zI him), .int (zI pl0), .int (zI itk), ki, .int (zI chd), .int (zI chf), .ref y0, .int (zI sd), .ref y1]) h (by first | assumption | omega) (by first | assumption | omega)) (lw_V q1255 q1257 qs33 q61 q1258) rfl rfl (sb_e [0] rfl rfl) (na := 1) (by decide +kernel) rfl (zrm rfl rfl (rfl) (rfl)) rfl (Nat.le_of_ble_eq_true rfl) dX4_howLong_7) (fun u => jn_ro (sb_e [0] rfl rfl)) (fun r_7 u hp_7 => ?_)
  have hp_7 : r_7 = zI (bI (0 ≤ h ∧ h ≤ (n : Int) - 1)) := hp_7
  subst hp_7
  refine y_beq (tgt := 29) C dX4_howLong_10 (by decide) (fun c_10 => ?_) (fun c_10 => ?_)
  · skip
    refine y_iconst C dX4_howLong_29 ?_
    exact z_iret C hA hQ rfl (Nat.le_of_ble_eq_true rfl) (Nat.le_of_ble_eq_true rfl) ((ki, pl0, itk, kc)) (congrArg zI (by unfold oHowLong; (try simp only [zTN]); (repeat (first | rw [if_pos (by omega)] | rw [if_neg (by omega)])); first | done | rfl)) (sb_e [0, 1, 2, 3, 4, 5, 6] rfl rfl) dX4_howLong_30
  · skip
    refine z_iload_n C dX4_howLong_13 rfl 2 rfl ?_
    refine z_i C (z_runS (As := [.int (zI yard)]) (rest := []) C (ct_X4_isYard (zl X) G yard (by first | assumption | omega)) (lw_S q1251 q1252 q61 q1253) (sb_e [] rfl rfl) (na := 1) (by decide +kernel) rfl (zrm rfl rfl (rfl) (rfl)) rfl (Nat.le_of_ble_eq_true rfl) dX4_howLong_14) (fun u => jn_ro (sb_e [] rfl rfl)) (fun r_14 u hp_14 => ?_)
    have hp_14 : r_14 = zI (bI (0 ≤ yard ∧ yard ≤ 20)) := hp_14
    subst hp_14
    refine y_beq (tgt := 29) C dX4_howLong_17 (by decide) (fun c_17 => ?_) (fun c_17 => ?_)
    · skip
      refine y_iconst C dX4_howLong_29 ?_
      exact z_iret C hA hQ rfl (Nat.le_of_ble_eq_true rfl) (Nat.le_of_ble_eq_true rfl) ((ki, pl0, itk, kc)) (congrArg zI (by unfold oHowLong; (try simp only [zTN]); (repeat (first | rw [if_pos (by omega)] | rw [if_neg (by omega)])); first | done | rfl)) (sb_e [0, 1, 2, 3, 4, 5, 6] rfl rfl) dX4_howLong_30
    · skip
      obtain ⟨j, rfl⟩ := Int.eq_ofNat_of_zero_le (show 0 ≤ h by omega)
      refine z_aload_n C dX4_howLong_20 rfl 0 rfl ?_
      refine z_iload_n C dX4_howLong_21 rfl 1 rfl ?_
      refine z_iload_n C dX4_howLong_22 rfl 2 rfl ?_
      refine z_i (ws' := fun u => [(m, .inr (11, [.int (zI (n : Int)), .ref g1, .ref g2, .ref g3, .ref g4, .ref g5, .int (zI oa), .int (zI dy), .ref s1, .ref s2, .ref s3, .ref s4, .ref s5, .ref s6, .int (zI 0), .int (zI rdg), .int (zI plc), .int (zI ibd), .int (zI stm), .ref t1, .ref t2, .ref t3, .ref c0, .ref c1, .ref c2, .ref c3, .int (zI him), .int (zI u.2.1), .int (zI u.2.2.1), u.1, .int (zI chd), .int (zI chf), .ref y0, .int (zI sd), .ref y1])), (g1, AI G 7 (fun z_ => (kd z_ : Int))), (g2, AI G 7 fg), (g3, AI G 7 hm), (g4, AI G 7 at_), (g5, AI G 7 lg), (c0, AI G 38 u.2.2.2)]) C (z_runV (q := 0) (As := [.int (zI (j : Int)), .int (zI yard)]) (rest := []) C (ct_X4_ownRide (zl X) G m g1 g2 g3 g4 g5 s1 s2 s3 s4 s5 s6 t1 t2 t3 c0 c1 c2 c3 y0 y1 0 rdg plc ibd stm him pl0 itk chd chf sd ki kd fg hm at_ lg n oa dy kc j yard (by first | assumption | omega) (by first | assumption | omega) (by first | assumption | omega)) (lw_V q1355 q1357 qs46 q61 q1358) rfl rfl (sb_e [0, 1, 2, 3, 4, 5, 6] rfl rfl) (na := 2) (by decide +kernel) rfl (zrm rfl rfl (rfl) (rfl)) rfl (Nat.le_of_ble_eq_true rfl) dX4_howLong_23) (fun u => jn_e (wr := []) [0, 1, 2, 3, 4, 5, 6] [] [0, 1, 2, 3, 4, 5, 6] rfl rfl rfl (by decide) rfl rfl) (fun r_23 u hp_23 => ?_)
      obtain ⟨ki9_23, pl9_23, itk9_23, kc9_23⟩ := u
      have hp_23 : r_23 = zI (tkB kd fg hm at_ lg n oa yard 0 j) := hp_23
      subst hp_23
      refine z_goto (tgt := 30) C dX4_howLong_26 (by decide) ?_
      exact z_iret C hA hQ rfl (Nat.le_of_ble_eq_true rfl) (Nat.le_of_ble_eq_true rfl) ((ki9_23, pl9_23, itk9_23, kc9_23)) (congrArg zI (by unfold oHowLong; (try simp only [zTN]); (repeat (first | rw [if_pos (by omega)] | rw [if_neg (by omega)])); first | done | rfl)) (sb_e [0, 1, 2, 3, 4, 5, 6] rfl rfl) dX4_howLong_30

set_option maxHeartbeats 4000000 in
theorem ct_X4_behind (l : Launch) (G : ZG) (m : Nat) (g1 : Nat) (g2 : Nat) (g3 : Nat) (g4 : Nat) (g5 : Nat) (s1 : Nat) (s2 : Nat) (s3 : Nat) (s4 : Nat) (s5 : Nat) (s6 : Nat) (t1 : Nat) (t2 : Nat) (t3 : Nat) (c0 : Nat) (c1 : Nat) (c2 : Nat) (c3 : Nat) (y0 : Nat) (y1 : Nat) (thr : Int) (rdg : Int) (plc : Int) (ibd : Int) (stm : Int) (him : Int) (pl0 : Int) (itk : Int) (chd : Int) (chf : Int) (sd : Int) (ki : Value) (kd : Nat → Nat) (fg : Nat → Int) (hm : Nat → Int) (at_ : Nat → Int) (lg : Nat → Int) (n : Nat) (oa : Int) (dy : Int) (kc : Nat → Int) (h : Int) (t : Int) (what : Int) (hL : LK n kd fg hm at_ lg oa) (rh : -2147483648 ≤ h ∧ h ≤ 2147483647) (rt : -2147483648 ≤ t ∧ t ≤ 2147483647) (rwhat : -2147483648 ≤ what ∧ what ≤ 2147483647) : CT l yX4_behind cX4_behind 5 (some .int) { frames := 5, cells := 0, slots := 0, locals := 113 } G [.ref m, .int (zI h), .int (zI t), .int (zI what)] [(m, .inr (11, [.int (zI (n : Int)), .ref g1, .ref g2, .ref g3, .ref g4, .ref g5, .int (zI oa), .int (zI dy), .ref s1, .ref s2, .ref s3, .ref s4, .ref s5, .ref s6, .int (zI thr), .int (zI rdg), .int (zI plc), .int (zI ibd), .int (zI stm), .ref t1, .ref t2, .ref t3, .ref c0, .ref c1, .ref c2, .ref c3, .int (zI him), .int (zI pl0), .int (zI itk), ki, .int (zI chd), .int (zI chf), .ref y0, .int (zI sd), .ref y1])), (g1, AI G 7 (fun z_ => (kd z_ : Int))), (g2, AI G 7 fg), (g3, AI G 7 hm), (g4, AI G 7 at_), (g5, AI G 7 lg), (c0, AI G 38 kc)] (Qi G [(m, .inr (11, [.int (zI (n : Int)), .ref g1, .ref g2, .ref g3, .ref g4, .ref g5, .int (zI oa), .int (zI dy), .ref s1, .ref s2, .ref s3, .ref s4, .ref s5, .ref s6, .int (zI thr), .int (zI rdg), .int (zI plc), .int (zI ibd), .int (zI stm), .ref t1, .ref t2, .ref t3, .ref c0, .ref c1, .ref c2, .ref c3, .int (zI him), .int (zI pl0), .int (zI itk), ki, .int (zI chd), .int (zI chf), .ref y0, .int (zI sd), .ref y1])), (g1, AI G 7 (fun z_ => (kd z_ : Int))), (g2, AI G 7 fg), (g3, AI G 7 hm), (g4, AI G 7 at_), (g5, AI G 7 lg), (c0, AI G 38 kc)] (fun (r : Int32) (u : Value × Int × Int × (Nat → Int)) => r = zI (oBehind kd fg hm at_ lg n oa h t what)) (fun u => [(m, .inr (11, [.int (zI (n : Int)), .ref g1, .ref g2, .ref g3, .ref g4, .ref g5, .int (zI oa), .int (zI dy), .ref s1, .ref s2, .ref s3, .ref s4, .ref s5, .ref s6, .int (zI 0), .int (zI rdg), .int (zI plc), .int (zI ibd), .int (zI stm), .ref t1, .ref t2, .ref t3, .ref c0, .ref c1, .ref c2, .ref c3, .int (zI him), .int (zI u.2.1), .int (zI u.2.2.1), u.1, .int (zI chd), .int (zI chf), .ref y0, .int (zI sd), .ref y1])), (g1, AI G 7 (fun z_ => (kd z_ : Int))), (g2, AI G 7 fg), (g3, AI G 7 hm), (g4, AI G 7 at_), (g5, AI G 7 lg), (c0, AI G 38 u.2.2.2)])) := by
  refine z_met (by decide) (Nat.le_of_ble_eq_true rfl) ?_
  intro X A hl0 hA C hQ hin
  subst hl0
  obtain ⟨hn7, hoa, hLj⟩ := id hL
  show Z X _ G 0 0 _ 0 [(0, .ref m), (1, .int (zI h)), (2, .int (zI t)), (3, .int (zI what))] []
  refine z_aload_n C dX4_behind_0 rfl 0 rfl ?_
  refine y_iconst C dX4_behind_1 ?_
  refine z_put (q := 0) (kf := 14) (ws' := [(m, .inr (11, [.int (zI (n : Int)), .ref g1, .ref g2, .ref g3, .ref g4, .ref g5, .int (zI oa), .int (zI dy), .ref s1, .ref s2, .ref s3, .ref s4, .ref s5, .ref s6, .int (zI 0), .int (zI rdg), .int (zI plc), .int (zI ibd), .int (zI stm), .ref t1, .ref t2, .ref t3, .ref c0, .ref c1, .ref c2, .ref c3, .int (zI him), .int (zI pl0), .int (zI itk), ki, .int (zI chd), .int (zI chf), .ref y0, .int (zI sd), .ref y1])), (g1, AI G 7 (fun z_ => (kd z_ : Int))), (g2, AI G 7 fg), (g3, AI G 7 hm), (g4, AI G 7 at_), (g5, AI G 7 lg), (c0, AI G 38 kc)]) C rfl rfl in_X4 tyX4_ok nmX4 (by decide) q1101 rfl rfl rfl rfl rfl (nlt rfl) rfl dX4_behind_2 ?_
  refine z_aload_n C dX4_behind_5 rfl 0 rfl ?_
  refine z_iload_n C dX4_behind_6 rfl 1 rfl ?_
  refine z_i C (z_runV (q := 0) (As := [.int (zI h)]) (rest := []) C (ct_X4_isHorse (zl X) G m g1 g2 g3 g4 g5 n oa dy ([.ref s1, .ref s2, .ref s3, .ref s4, .ref s5, .ref s6, .int (zI 0), .int (zI rdg), .int (zI plc), .int (zI ibd), .int (zI stm), .ref t1, .ref t2, .ref t3, .ref c0, .ref c1, .ref c2, .ref c3, .int (zI him), .int (zI pl0), .int (zI itk), ki, .int (zI chd), .int (zI chf), .ref y0, .int (zI sd), .ref y1]) h (by first | assumption | omega) (by first | assumption | omega)) (lw_V q1255 q1257 qs33 q61 q1258) rfl rfl (sb_e [0] rfl rfl) (na := 1) (by decide +kernel) rfl (zrm rfl rfl (rfl) (rfl)) rfl (Nat.le_of_ble_eq_true rfl) dX4_behind_7) (fun u => jn_ro (sb_e [0] rfl rfl)) (fun r_7 u hp_7 => ?_)
  have hp_7 : r_7 = zI (bI (0 ≤ h ∧ h ≤ (n : Int) - 1)) := hp_7
  subst hp_7
  refine y_beq (tgt := 35) C dX4_behind_10 (by decide) (fun c_10 => ?_) (fun c_10 => ?_)
  · skip
    refine y_iconst C dX4_behind_35 ?_
    exact z_iret C hA hQ rfl (Nat.le_of_ble_eq_true rfl) (Nat.le_of_ble_eq_true rfl) ((ki, pl0, itk, kc)) (congrArg zI (by unfold oBehind; (try simp only [zTN]); (repeat (first | rw [if_pos (by omega)] | rw [if_neg (by omega)])); first | done | rfl)) (sb_e [0, 1, 2, 3, 4, 5, 6] rfl rfl) dX4_behind_36
  · skip
    refine z_iload_n C dX4_behind_13 rfl 2 rfl ?_
    refine y_i2l C (by omega) dX4_behind_14 ?_
    refine z_lconst (v := zL 0) C dX4_behind_15 (by decide) ?_
    refine z_ldc2 C q1297 dX4_behind_16 ?_
    refine z_eql (y := zL 60) (by decide) ?_
    refine z_i C (z_runS (As := [.long (zL t), .long (zL 0), .long (zL 60)]) (rest := []) C (ct_X4_in (zl X) G t 0 60 (by first | assumption | omega) (by first | assumption | omega) (by first | assumption | omega)) (lw_S q1207 q1208 q61 q1209) (sb_e [] rfl rfl) (na := 3) (by decide +kernel) rfl (zrm rfl rfl (rfl) (rfl)) rfl (Nat.le_of_ble_eq_true rfl) dX4_behind_19) (fun u => jn_ro (sb_e [] rfl rfl)) (fun r_19 u hp_19 => ?_)
    have hp_19 : r_19 = zI (bI (0 ≤ t ∧ t ≤ 60)) := hp_19
    subst hp_19
    refine y_beq (tgt := 35) C dX4_behind_22 (by decide) (fun c_22 => ?_) (fun c_22 => ?_)
    · skip
      refine y_iconst C dX4_behind_35 ?_
      exact z_iret C hA hQ rfl (Nat.le_of_ble_eq_true rfl) (Nat.le_of_ble_eq_true rfl) ((ki, pl0, itk, kc)) (congrArg zI (by unfold oBehind; (try simp only [zTN]); (repeat (first | rw [if_pos (by omega)] | rw [if_neg (by omega)])); first | done | rfl)) (sb_e [0, 1, 2, 3, 4, 5, 6] rfl rfl) dX4_behind_36
    · skip
      refine z_iload_n C dX4_behind_25 rfl 3 rfl ?_
      refine y_i2l C (by omega) dX4_behind_26 ?_
      refine z_lconst (v := zL 0) C dX4_behind_27 (by decide) ?_
      refine z_lconst (v := zL 1) C dX4_behind_28 (by decide) ?_
      refine z_i C (z_runS (As := [.long (zL what), .long (zL 0), .long (zL 1)]) (rest := []) C (ct_X4_in (zl X) G what 0 1 (by first | assumption | omega) (by first | assumption | omega) (by first | assumption | omega)) (lw_S q1207 q1208 q61 q1209) (sb_e [] rfl rfl) (na := 3) (by decide +kernel) rfl (zrm rfl rfl (rfl) (rfl)) rfl (Nat.le_of_ble_eq_true rfl) dX4_behind_29) (fun u => jn_ro (sb_e [] rfl rfl)) (fun r_29 u hp_29 => ?_)
      have hp_29 : r_29 = zI (bI (0 ≤ what ∧ what ≤ 1)) := hp_29
      subst hp_29
      refine y_bne (tgt := 37) C dX4_behind_32 (by decide) (fun c_32 => ?_) (fun c_32 => ?_)
      · skip
        obtain ⟨j, rfl⟩ := Int.eq_ofNat_of_zero_le (show 0 ≤ h by omega)
        obtain ⟨t0, rfl⟩ := Int.eq_ofNat_of_zero_le (show 0 ≤ t by omega)
        refine z_aload_n C dX4_behind_37 rfl 0 rfl ?_
        refine z_v (ws' := fun u => [(m, .inr (11, [.int (zI (n : Int)), .ref g1, .ref g2, .ref g3, .ref g4, .ref g5, .int (zI oa), .int (zI dy), .ref s1, .ref s2, .ref s3, .ref s4, .ref s5, .ref s6, .int (zI 0), .int (zI rdg), .int (zI plc), .int (zI ibd), .int (zI stm), .ref t1, .ref t2, .ref t3, .ref c0, .ref c1, .ref c2, .ref c3, .int (zI him), .int (zI 38), .int (zI 1), .ref c0, .int (zI chd), .int (zI chf), .ref y0, .int (zI sd), .ref y1])), (g1, AI G 7 (fun z_ => (kd z_ : Int))), (g2, AI G 7 fg), (g3, AI G 7 hm), (g4, AI G 7 at_), (g5, AI G 7 lg), (c0, AI G 38 (encF n oa dy kd fg hm at_ lg))]) C (z_runV (q := 0) (As := []) (rest := []) C (ct_X4_open (zl X) G m g1 g2 g3 g4 g5 s1 s2 s3 s4 s5 s6 t1 t2 t3 c0 c1 c2 c3 y0 y1 0 rdg plc ibd stm him pl0 itk chd chf sd ki kd fg hm at_ lg n oa dy kc ) (lw_V q1231 q1233 qs28 q61 q1234) rfl rfl (sb_e [0, 1, 2, 3, 4, 5, 6] rfl rfl) (na := 0) (by decide +kernel) rfl (zrm rfl rfl (rfl) (rfl)) rfl (Nat.le_of_ble_eq_true rfl) dX4_behind_38) (fun u => jn_e (wr := []) [0, 1, 2, 3, 4, 5, 6] [] [0, 1, 2, 3, 4, 5, 6] rfl rfl rfl (by decide) rfl rfl) (fun u hp_38 => ?_)
        refine z_aload_n C dX4_behind_41 rfl 0 rfl ?_
        refine z_iload_n C dX4_behind_42 rfl 2 rfl ?_
        refine z_v (ws' := fun u => [(m, .inr (11, [.int (zI (n : Int)), .ref g1, .ref g2, .ref g3, .ref g4, .ref g5, .int (zI oa), .int (zI (dy + (t0 : Int))), .ref s1, .ref s2, .ref s3, .ref s4, .ref s5, .ref s6, .int (zI 0), .int (zI rdg), .int (zI plc), .int (zI ibd), .int (zI stm), .ref t1, .ref t2, .ref t3, .ref c0, .ref c1, .ref c2, .ref c3, .int (zI him), .int (zI 38), .int (zI 1), .ref c0, .int (zI chd), .int (zI chf), .ref y0, .int (zI sd), .ref y1])), (g1, AI G 7 (fun z_ => (kd z_ : Int))), (g2, AI G 7 fg), (g3, AI G 7 hm), (g4, AI G 7 at_), (g5, AI G 7 (goL kd fg hm at_ oa n t0 lg)), (c0, AI G 38 (encF n oa dy kd fg hm at_ lg))]) C (z_runV (q := 0) (As := [.int (zI (t0 : Int))]) (rest := []) C (ct_X4_goDays (zl X) G m g1 g2 g3 g4 g5 kd fg hm at_ lg n oa dy ([.ref s1, .ref s2, .ref s3, .ref s4, .ref s5, .ref s6, .int (zI 0), .int (zI rdg), .int (zI plc), .int (zI ibd), .int (zI stm), .ref t1, .ref t2, .ref t3, .ref c0, .ref c1, .ref c2, .ref c3, .int (zI him), .int (zI 38), .int (zI 1), .ref c0, .int (zI chd), .int (zI chf), .ref y0, .int (zI sd), .ref y1]) t0 (by first | assumption | omega) (by first | assumption | omega)) (lw_V q1298 q1300 qs42 q61 q1301) rfl rfl (sb_e [0, 1, 2, 3, 4, 5] rfl rfl) (na := 1) (by decide +kernel) rfl (zrm rfl rfl (rfl) (rfl)) rfl (Nat.le_of_ble_eq_true rfl) dX4_behind_43) (fun u => jn_e (wr := [(c0, AI G 38 (encF n oa dy kd fg hm at_ lg))]) [0, 1, 2, 3, 4, 5] [6] [1, 2, 3, 4, 5, 6, 0] rfl rfl rfl (by decide) rfl rfl) (fun u hp_43 => ?_)
        refine z_iload_n C dX4_behind_46 rfl 3 rfl ?_
        refine y_if_ne (tgt := 59) C (by omega) dX4_behind_47 (by decide) (fun c_47 => ?_) (fun c_47 => ?_)
        · skip
          refine z_aload_n C dX4_behind_59 rfl 0 rfl ?_
          refine z_iload_n C dX4_behind_60 rfl 1 rfl ?_
          refine z_i C (z_runV (q := 0) (As := [.int (zI (j : Int))]) (rest := []) C (ct_X4_paceOf (zl X) G m g1 g2 g3 g4 g5 kd fg hm at_ (goL kd fg hm at_ oa n t0 lg) n oa (dy + (t0 : Int)) ([.ref s1, .ref s2, .ref s3, .ref s4, .ref s5, .ref s6, .int (zI 0), .int (zI rdg), .int (zI plc), .int (zI ibd), .int (zI stm), .ref t1, .ref t2, .ref t3, .ref c0, .ref c1, .ref c2, .ref c3, .int (zI him), .int (zI 38), .int (zI 1), .ref c0, .int (zI chd), .int (zI chf), .ref y0, .int (zI sd), .ref y1]) j (hL.go t0) (by first | assumption | omega)) (lw_V q1274 q1276 qs37 q61 q1277) rfl rfl (sb_e [0, 1, 2, 3, 4, 5] rfl rfl) (na := 1) (by decide +kernel) rfl (zrm rfl rfl (rfl) (rfl)) rfl (Nat.le_of_ble_eq_true rfl) dX4_behind_61) (fun u => jn_ro (sb_e [0, 1, 2, 3, 4, 5] rfl rfl)) (fun r_61 u hp_61 => ?_)
          have hp_61 : r_61 = zI (paceZ (kd j) (fg j) ((goL kd fg hm at_ oa n t0 lg) j)) := hp_61
          subst hp_61
          refine z_istore (lv' := [(4, .int (zI (paceZ (kd j) (fg j) ((goL kd fg hm at_ oa n t0 lg) j)))), (0, .ref m), (1, .int (zI (j : Int))), (2, .int (zI (t0 : Int))), (3, .int (zI what))]) C dX4_behind_64 (nlt rfl) rfl ?_
          refine z_aload_n C dX4_behind_66 rfl 1 rfl ?_
          refine z_v (ws' := fun u => [(m, .inr (11, [.int (zI (n : Int)), .ref g1, .ref g2, .ref g3, .ref g4, .ref g5, .int (zI oa), .int (zI dy), .ref s1, .ref s2, .ref s3, .ref s4, .ref s5, .ref s6, .int (zI 0), .int (zI rdg), .int (zI plc), .int (zI ibd), .int (zI stm), .ref t1, .ref t2, .ref t3, .ref c0, .ref c1, .ref c2, .ref c3, .int (zI him), .int (zI 38), .int (zI 0), .ref c0, .int (zI chd), .int (zI chf), .ref y0, .int (zI sd), .ref y1])), (g1, AI G 7 (fun z_ => (kd z_ : Int))), (g2, AI G 7 fg), (g3, AI G 7 hm), (g4, AI G 7 at_), (g5, AI G 7 lg), (c0, AI G 38 (encF n oa dy kd fg hm at_ lg))]) C (z_runV (q := 0) (As := []) (rest := []) C (ct_X4_close (zl X) G m g1 g2 g3 g4 g5 s1 s2 s3 s4 s5 s6 t1 t2 t3 c0 c1 c2 c3 y0 y1 0 rdg plc ibd stm him 38 1 chd chf sd (.ref c0) (fun z_ => (kd z_ : Int)) fg hm at_ (goL kd fg hm at_ oa n t0 lg) n oa (dy + (t0 : Int)) kd fg hm at_ lg n oa dy ) (lw_V q1302 q1304 qs43 q61 q1305) rfl rfl (sb_e [0, 1, 2, 3, 4, 5, 6] rfl rfl) (na := 0) (by decide +kernel) rfl (zrm rfl rfl (rfl) (rfl)) rfl (Nat.le_of_ble_eq_true rfl) dX4_behind_67) (fun u => jn_e (wr := []) [0, 1, 2, 3, 4, 5, 6] [] [0, 1, 2, 3, 4, 5, 6] rfl rfl rfl (by decide) rfl rfl) (fun u hp_67 => ?_)
          refine z_iload C dX4_behind_70 0 rfl ?_
          exact z_iret C hA hQ rfl (Nat.le_of_ble_eq_true rfl) (Nat.le_of_ble_eq_true rfl) (((.ref c0), 38, 0, (encF n oa dy kd fg hm at_ lg))) (congrArg zI (by unfold oBehind; (try simp only [zTN]); (repeat (first | rw [if_pos (by omega)] | rw [if_neg (by omega)])); first | done | rfl)) (sb_e [0, 1, 2, 3, 4, 5, 6] rfl rfl) dX4_behind_72
        · skip
          refine z_aload_n C dX4_behind_50 rfl 0 rfl ?_
          refine z_get (q := 0) (kf := 5) (v := .ref g5) C rfl rfl in_X4 (by decide) q1092 (Or.inl rfl) rfl dX4_behind_51 ?_
          refine z_iload_n C dX4_behind_54 rfl 1 rfl ?_
          refine y_iald (q := 5) (t0 := 0) (v := (goL kd fg hm at_ oa n t0 lg) j) C rfl rfl (by omega) (by decide) rfl dX4_behind_55 ?_
          refine z_goto (tgt := 64) C dX4_behind_56 (by decide) ?_
          refine z_istore (lv' := [(4, .int (zI ((goL kd fg hm at_ oa n t0 lg) j))), (0, .ref m), (1, .int (zI (j : Int))), (2, .int (zI (t0 : Int))), (3, .int (zI what))]) C dX4_behind_64 (nlt rfl) rfl ?_
          refine z_aload_n C dX4_behind_66 rfl 1 rfl ?_
          refine z_v (ws' := fun u => [(m, .inr (11, [.int (zI (n : Int)), .ref g1, .ref g2, .ref g3, .ref g4, .ref g5, .int (zI oa), .int (zI dy), .ref s1, .ref s2, .ref s3, .ref s4, .ref s5, .ref s6, .int (zI 0), .int (zI rdg), .int (zI plc), .int (zI ibd), .int (zI stm), .ref t1, .ref t2, .ref t3, .ref c0, .ref c1, .ref c2, .ref c3, .int (zI him), .int (zI 38), .int (zI 0), .ref c0, .int (zI chd), .int (zI chf), .ref y0, .int (zI sd), .ref y1])), (g1, AI G 7 (fun z_ => (kd z_ : Int))), (g2, AI G 7 fg), (g3, AI G 7 hm), (g4, AI G 7 at_), (g5, AI G 7 lg), (c0, AI G 38 (encF n oa dy kd fg hm at_ lg))]) C (z_runV (q := 0) (As := []) (rest := []) C (ct_X4_close (zl X) G m g1 g2 g3 g4 g5 s1 s2 s3 s4 s5 s6 t1 t2 t3 c0 c1 c2 c3 y0 y1 0 rdg plc ibd stm him 38 1 chd chf sd (.ref c0) (fun z_ => (kd z_ : Int)) fg hm at_ (goL kd fg hm at_ oa n t0 lg) n oa (dy + (t0 : Int)) kd fg hm at_ lg n oa dy ) (lw_V q1302 q1304 qs43 q61 q1305) rfl rfl (sb_e [0, 1, 2, 3, 4, 5, 6] rfl rfl) (na := 0) (by decide +kernel) rfl (zrm rfl rfl (rfl) (rfl)) rfl (Nat.le_of_ble_eq_true rfl) dX4_behind_67) (fun u => jn_e (wr := []) [0, 1, 2, 3, 4, 5, 6] [] [0, 1, 2, 3, 4, 5, 6] rfl rfl rfl (by decide) rfl rfl) (fun u hp_67 => ?_)
          refine z_iload C dX4_behind_70 0 rfl ?_
          exact z_iret C hA hQ rfl (Nat.le_of_ble_eq_true rfl) (Nat.le_of_ble_eq_true rfl) (((.ref c0), 38, 0, (encF n oa dy kd fg hm at_ lg))) (congrArg zI (by unfold oBehind; (try simp only [zTN]); (repeat (first | rw [if_pos (by omega)] | rw [if_neg (by omega)])); first | done | rfl)) (sb_e [0, 1, 2, 3, 4, 5, 6] rfl rfl) dX4_behind_72
      · skip
        refine y_iconst C dX4_behind_35 ?_
        exact z_iret C hA hQ rfl (Nat.le_of_ble_eq_true rfl) (Nat.le_of_ble_eq_true rfl) ((ki, pl0, itk, kc)) (congrArg zI (by unfold oBehind; (try simp only [zTN]); (repeat (first | rw [if_pos (by omega)] | rw [if_neg (by omega)])); first | done | rfl)) (sb_e [0, 1, 2, 3, 4, 5, 6] rfl rfl) dX4_behind_36

set_option maxHeartbeats 4000000 in
theorem ct_X4_rides (l : Launch) (G : ZG) (m : Nat) (g1 : Nat) (g2 : Nat) (g3 : Nat) (g4 : Nat) (g5 : Nat) (s1 : Nat) (s2 : Nat) (s3 : Nat) (s4 : Nat) (s5 : Nat) (s6 : Nat) (t1 : Nat) (t2 : Nat) (t3 : Nat) (c0 : Nat) (c1 : Nat) (c2 : Nat) (c3 : Nat) (y0 : Nat) (y1 : Nat) (thr : Int) (rdg : Int) (plc : Int) (ibd : Int) (stm : Int) (him : Int) (pl0 : Int) (itk : Int) (chd : Int) (chf : Int) (sd : Int) (ki : Value) (kd : Nat → Nat) (fg : Nat → Int) (hm : Nat → Int) (at_ : Nat → Int) (lg : Nat → Int) (n : Nat) (oa : Int) (dy : Int) (kc : Nat → Int) (h : Int) (yard : Int) (hL : LK n kd fg hm at_ lg oa) (rh : -2147483648 ≤ h ∧ h ≤ 2147483647) (ryard : -2147483648 ≤ yard ∧ yard ≤ 2147483647) (hdy : 0 ≤ dy ∧ dy ≤ 999) : CT l yX4_rides cX4_rides 4 (some .int) { frames := 6, cells := 0, slots := 0, locals := 141 } G [.ref m, .int (zI h), .int (zI yard)] [(m, .inr (11, [.int (zI (n : Int)), .ref g1, .ref g2, .ref g3, .ref g4, .ref g5, .int (zI oa), .int (zI dy), .ref s1, .ref s2, .ref s3, .ref s4, .ref s5, .ref s6, .int (zI thr), .int (zI rdg), .int (zI plc), .int (zI ibd), .int (zI stm), .ref t1, .ref t2, .ref t3, .ref c0, .ref c1, .ref c2, .ref c3, .int (zI him), .int (zI pl0), .int (zI itk), ki, .int (zI chd), .int (zI chf), .ref y0, .int (zI sd), .ref y1])), (g1, AI G 7 (fun z_ => (kd z_ : Int))), (g2, AI G 7 fg), (g3, AI G 7 hm), (g4, AI G 7 at_), (g5, AI G 7 lg), (c0, AI G 38 kc)] (Qi G [(m, .inr (11, [.int (zI (n : Int)), .ref g1, .ref g2, .ref g3, .ref g4, .ref g5, .int (zI oa), .int (zI dy), .ref s1, .ref s2, .ref s3, .ref s4, .ref s5, .ref s6, .int (zI thr), .int (zI rdg), .int (zI plc), .int (zI ibd), .int (zI stm), .ref t1, .ref t2, .ref t3, .ref c0, .ref c1, .ref c2, .ref c3, .int (zI him), .int (zI pl0), .int (zI itk), ki, .int (zI chd), .int (zI chf), .ref y0, .int (zI sd), .ref y1])), (g1, AI G 7 (fun z_ => (kd z_ : Int))), (g2, AI G 7 fg), (g3, AI G 7 hm), (g4, AI G 7 at_), (g5, AI G 7 lg), (c0, AI G 38 kc)] (fun (r : Int32) (u : Value × Int × Int × (Nat → Int)) => r = zI (oRides kd fg hm at_ lg n oa dy h yard)) (fun u => [(m, .inr (11, [.int (zI (n : Int)), .ref g1, .ref g2, .ref g3, .ref g4, .ref g5, .int (zI oa), .int (zI (if rdOk kd fg hm at_ lg n oa dy h yard then (dy + ((rdN kd fg hm oa n h.toNat yard at_ lg : Nat) : Int)) else dy)), .ref s1, .ref s2, .ref s3, .ref s4, .ref s5, .ref s6, .int (zI 0), .int (zI rdg), .int (zI plc), .int (zI ibd), .int (zI stm), .ref t1, .ref t2, .ref t3, .ref c0, .ref c1, .ref c2, .ref c3, .int (zI him), .int (zI u.2.1), .int (zI u.2.2.1), u.1, .int (zI chd), .int (zI chf), .ref y0, .int (zI sd), .ref y1])), (g1, AI G 7 (fun z_ => (kd z_ : Int))), (g2, AI G 7 fg), (g3, AI G 7 hm), (g4, AI G 7 (if rdOk kd fg hm at_ lg n oa dy h yard then (rdA kd fg hm oa n h.toNat yard at_ lg) else at_)), (g5, AI G 7 (if rdOk kd fg hm at_ lg n oa dy h yard then (rdL kd fg hm oa n h.toNat yard at_ lg) else lg)), (c0, AI G 38 u.2.2.2)])) := by
  refine z_met (by decide) (Nat.le_of_ble_eq_true rfl) ?_
  intro X A hl0 hA C hQ hin
  subst hl0
  obtain ⟨hn7, hoa, hLj⟩ := id hL
  show Z X _ G 0 0 _ 0 [(0, .ref m), (1, .int (zI h)), (2, .int (zI yard))] []
  refine z_aload_n C dX4_rides_0 rfl 0 rfl ?_
  refine y_iconst C dX4_rides_1 ?_
  refine z_put (q := 0) (kf := 14) (ws' := [(m, .inr (11, [.int (zI (n : Int)), .ref g1, .ref g2, .ref g3, .ref g4, .ref g5, .int (zI oa), .int (zI dy), .ref s1, .ref s2, .ref s3, .ref s4, .ref s5, .ref s6, .int (zI 0), .int (zI rdg), .int (zI plc), .int (zI ibd), .int (zI stm), .ref t1, .ref t2, .ref t3, .ref c0, .ref c1, .ref c2, .ref c3, .int (zI him), .int (zI pl0), .int (zI itk), ki, .int (zI chd), .int (zI chf), .ref y0, .int (zI sd), .ref y1])), (g1, AI G 7 (fun z_ => (kd z_ : Int))), (g2, AI G 7 fg), (g3, AI G 7 hm), (g4, AI G 7 at_), (g5, AI G 7 lg), (c0, AI G 38 kc)]) C rfl rfl in_X4 tyX4_ok nmX4 (by decide) q1101 rfl rfl rfl rfl rfl (nlt rfl) rfl dX4_rides_2 ?_
  refine z_aload_n C dX4_rides_5 rfl 0 rfl ?_
  refine z_iload_n C dX4_rides_6 rfl 1 rfl ?_
  refine z_i C (z_runV (q := 0) (As := [.int (zI h)]) (rest := []) C (ct_X4_isHorse (zl X) G m g1 g2 g3 g4 g5 n oa dy ([.ref s1, .ref s2, .ref s3, .ref s4, .ref s5, .ref s6, .int (zI 0), .int (zI rdg), .int (zI plc), .int (zI ibd), .int (zI stm), .ref t1, .ref t2, .ref t3, .ref c0, .ref c1, .ref c2, .ref c3, .int (zI him), .int (zI pl0), .int (zI itk), ki, .int (zI chd), .int (zI chf), .ref y0, .int (zI sd), .ref y1]) h (by first | assumption | omega) (by first | assumption | omega)) (lw_V q1255 q1257 qs33 q61 q1258) rfl rfl (sb_e [0] rfl rfl) (na := 1) (by decide +kernel) rfl (zrm rfl rfl (rfl) (rfl)) rfl (Nat.le_of_ble_eq_true rfl) dX4_rides_7) (fun u => jn_ro (sb_e [0] rfl rfl)) (fun r_7 u hp_7 => ?_)
  have hp_7 : r_7 = zI (bI (0 ≤ h ∧ h ≤ (n : Int) - 1)) := hp_7
  subst hp_7
  refine y_beq (tgt := 20) C dX4_rides_10 (by decide) (fun c_10 => ?_) (fun c_10 => ?_)
  · skip
    refine y_iconst C dX4_rides_20 ?_
    refine z_wsEq (ws' := [(m, .inr (11, [.int (zI (n : Int)), .ref g1, .ref g2, .ref g3, .ref g4, .ref g5, .int (zI oa), .int (zI (if rdOk kd fg hm at_ lg n oa dy h yard then (dy + ((rdN kd fg hm oa n h.toNat yard at_ lg : Nat) : Int)) else dy)), .ref s1, .ref s2, .ref s3, .ref s4, .ref s5, .ref s6, .int (zI 0), .int (zI rdg), .int (zI plc), .int (zI ibd), .int (zI stm), .ref t1, .ref t2, .ref t3, .ref c0, .ref c1, .ref c2, .ref c3, .int (zI him), .int (zI pl0), .int (zI itk), ki, .int (zI chd), .int (zI chf), .ref y0, .int (zI sd), .ref y1])), (g1, AI G 7 (fun z_ => (kd z_ : Int))), (g2, AI G 7 fg), (g3, AI G 7 hm), (g4, AI G 7 (if rdOk kd fg hm at_ lg n oa dy h yard then (rdA kd fg hm oa n h.toNat yard at_ lg) else at_)), (g5, AI G 7 (if rdOk kd fg hm at_ lg n oa dy h yard then (rdL kd fg hm oa n h.toNat yard at_ lg) else lg)), (c0, AI G 38 kc)]) (by simp only [if_neg (show ¬ (rdOk kd fg hm at_ lg n oa dy h yard) from by simp only [rdOk, zTN]; omega), zTN]) ?_
    exact z_iret C hA hQ rfl (Nat.le_of_ble_eq_true rfl) (Nat.le_of_ble_eq_true rfl) ((ki, pl0, itk, kc)) (congrArg zI (by unfold oRides; (try simp only [zTN]); (repeat (first | rw [if_pos (by omega)] | rw [if_neg (by omega)])); first | done | rfl)) (sb_e [0, 1, 2, 3, 4, 5, 6] rfl rfl) dX4_rides_21
  · skip
    refine z_iload_n C dX4_rides_13 rfl 2 rfl ?_
    refine z_i C (z_runS (As := [.int (zI yard)]) (rest := []) C (ct_X4_isYard (zl X) G yard (by first | assumption | omega)) (lw_S q1251 q1252 q61 q1253) (sb_e [] rfl rfl) (na := 1) (by decide +kernel) rfl (zrm rfl rfl (rfl) (rfl)) rfl (Nat.le_of_ble_eq_true rfl) dX4_rides_14) (fun u => jn_ro (sb_e [] rfl rfl)) (fun r_14 u hp_14 => ?_)
    have hp_14 : r_14 = zI (bI (0 ≤ yard ∧ yard ≤ 20)) := hp_14
    subst hp_14
    refine y_bne (tgt := 22) C dX4_rides_17 (by decide) (fun c_17 => ?_) (fun c_17 => ?_)
    · skip
      obtain ⟨j, rfl⟩ := Int.eq_ofNat_of_zero_le (show 0 ≤ h by omega)
      refine z_aload_n C dX4_rides_22 rfl 0 rfl ?_
      refine z_v (ws' := fun u => [(m, .inr (11, [.int (zI (n : Int)), .ref g1, .ref g2, .ref g3, .ref g4, .ref g5, .int (zI oa), .int (zI dy), .ref s1, .ref s2, .ref s3, .ref s4, .ref s5, .ref s6, .int (zI 0), .int (zI rdg), .int (zI plc), .int (zI ibd), .int (zI stm), .ref t1, .ref t2, .ref t3, .ref c0, .ref c1, .ref c2, .ref c3, .int (zI him), .int (zI 38), .int (zI 1), .ref c0, .int (zI chd), .int (zI chf), .ref y0, .int (zI sd), .ref y1])), (g1, AI G 7 (fun z_ => (kd z_ : Int))), (g2, AI G 7 fg), (g3, AI G 7 hm), (g4, AI G 7 at_), (g5, AI G 7 lg), (c0, AI G 38 (encF n oa dy kd fg hm at_ lg))]) C (z_runV (q := 0) (As := []) (rest := []) C (ct_X4_open (zl X) G m g1 g2 g3 g4 g5 s1 s2 s3 s4 s5 s6 t1 t2 t3 c0 c1 c2 c3 y0 y1 0 rdg plc ibd stm him pl0 itk chd chf sd ki kd fg hm at_ lg n oa dy kc ) (lw_V q1231 q1233 qs28 q61 q1234) rfl rfl (sb_e [0, 1, 2, 3, 4, 5, 6] rfl rfl) (na := 0) (by decide +kernel) rfl (zrm rfl rfl (rfl) (rfl)) rfl (Nat.le_of_ble_eq_true rfl) dX4_rides_23) (fun u => jn_e (wr := []) [0, 1, 2, 3, 4, 5, 6] [] [0, 1, 2, 3, 4, 5, 6] rfl rfl rfl (by decide) rfl rfl) (fun u hp_23 => ?_)
      refine z_aload_n C dX4_rides_26 rfl 0 rfl ?_
      refine z_iload_n C dX4_rides_27 rfl 1 rfl ?_
      refine z_iload_n C dX4_rides_28 rfl 2 rfl ?_
      refine z_i (ws' := fun u => [(m, .inr (11, [.int (zI (n : Int)), .ref g1, .ref g2, .ref g3, .ref g4, .ref g5, .int (zI oa), .int (zI (dy + ((rdN kd fg hm oa n j yard at_ lg) : Int))), .ref s1, .ref s2, .ref s3, .ref s4, .ref s5, .ref s6, .int (zI 0), .int (zI rdg), .int (zI plc), .int (zI ibd), .int (zI stm), .ref t1, .ref t2, .ref t3, .ref c0, .ref c1, .ref c2, .ref c3, .int (zI him), .int (zI 38), .int (zI 1), .ref c0, .int (zI chd), .int (zI chf), .ref y0, .int (zI sd), .ref y1])), (g1, AI G 7 (fun z_ => (kd z_ : Int))), (g2, AI G 7 fg), (g3, AI G 7 hm), (g4, AI G 7 (rdA kd fg hm oa n j yard at_ lg)), (g5, AI G 7 (rdL kd fg hm oa n j yard at_ lg)), (c0, AI G 38 (encF n oa dy kd fg hm at_ lg))]) C (z_runV (q := 0) (As := [.int (zI (j : Int)), .int (zI yard)]) (rest := []) C (ct_X4_ride (zl X) G m g1 g2 g3 g4 g5 kd fg hm at_ lg n oa dy ([.ref s1, .ref s2, .ref s3, .ref s4, .ref s5, .ref s6, .int (zI 0), .int (zI rdg), .int (zI plc), .int (zI ibd), .int (zI stm), .ref t1, .ref t2, .ref t3, .ref c0, .ref c1, .ref c2, .ref c3, .int (zI him), .int (zI 38), .int (zI 1), .ref c0, .int (zI chd), .int (zI chf), .ref y0, .int (zI sd), .ref y1]) j yard (by first | assumption | omega) (by first | assumption | omega) (by first | assumption | omega)) (lw_V q1259 q1261 qs34 q61 q1262) rfl rfl (sb_e [0, 1, 2, 3, 4, 5] rfl rfl) (na := 2) (by decide +kernel) rfl (zrm rfl rfl (rfl) (rfl)) rfl (Nat.le_of_ble_eq_true rfl) dX4_rides_29) (fun u => jn_e (wr := [(c0, AI G 38 (encF n oa dy kd fg hm at_ lg))]) [0, 1, 2, 3, 4, 5] [6] [1, 2, 3, 4, 5, 6, 0] rfl rfl rfl (by decide) rfl rfl) (fun r_29 u hp_29 => ?_)
      have hp_29 : r_29 = zI ((rdN kd fg hm oa n j yard at_ lg) : Int) := hp_29
      subst hp_29
      refine z_istore_n (lv' := [(3, .int (zI ((rdN kd fg hm oa n j yard at_ lg) : Int))), (0, .ref m), (1, .int (zI (j : Int))), (2, .int (zI yard))]) C dX4_rides_32 rfl (nlt rfl) rfl ?_
      refine z_aload_n C dX4_rides_33 rfl 1 rfl ?_
      refine z_get (q := 0) (kf := 7) (v := .int (zI (dy + ((rdN kd fg hm oa n j yard at_ lg) : Int)))) C rfl rfl in_X4 (by decide) q1094 (Or.inl rfl) rfl dX4_rides_34 ?_
      refine y_sipush C dX4_rides_37 (by decide) ?_
      refine y_icmp_le (tgt := 50) C (by (have hr20 := rdN_le kd fg hm oa n j yard at_ lg; omega)) (by (have hr20 := rdN_le kd fg hm oa n j yard at_ lg; omega)) dX4_rides_40 (by decide) (fun c_40 => ?_) (fun c_40 => ?_)
      · skip
        refine z_iload_n C dX4_rides_50 rfl 0 rfl ?_
        refine z_wsEq (ws' := [(m, .inr (11, [.int (zI (n : Int)), .ref g1, .ref g2, .ref g3, .ref g4, .ref g5, .int (zI oa), .int (zI (if rdOk kd fg hm at_ lg n oa dy (j : Int) yard then (dy + ((rdN kd fg hm oa n (j : Int).toNat yard at_ lg : Nat) : Int)) else dy)), .ref s1, .ref s2, .ref s3, .ref s4, .ref s5, .ref s6, .int (zI 0), .int (zI rdg), .int (zI plc), .int (zI ibd), .int (zI stm), .ref t1, .ref t2, .ref t3, .ref c0, .ref c1, .ref c2, .ref c3, .int (zI him), .int (zI 38), .int (zI 1), .ref c0, .int (zI chd), .int (zI chf), .ref y0, .int (zI sd), .ref y1])), (g1, AI G 7 (fun z_ => (kd z_ : Int))), (g2, AI G 7 fg), (g3, AI G 7 hm), (g4, AI G 7 (if rdOk kd fg hm at_ lg n oa dy (j : Int) yard then (rdA kd fg hm oa n (j : Int).toNat yard at_ lg) else at_)), (g5, AI G 7 (if rdOk kd fg hm at_ lg n oa dy (j : Int) yard then (rdL kd fg hm oa n (j : Int).toNat yard at_ lg) else lg)), (c0, AI G 38 (encF n oa dy kd fg hm at_ lg))]) (by simp only [if_pos (show (rdOk kd fg hm at_ lg n oa dy (j : Int) yard) from by simp only [rdOk, zTN]; omega), zTN]) ?_
        exact z_iret C hA hQ rfl (Nat.le_of_ble_eq_true rfl) (Nat.le_of_ble_eq_true rfl) (((.ref c0), 38, 1, (encF n oa dy kd fg hm at_ lg))) (congrArg zI (by unfold oRides; (try simp only [zTN]); (repeat (first | rw [if_pos (by omega)] | rw [if_neg (by omega)])); first | done | rfl)) (sb_e [0, 1, 2, 3, 4, 5, 6] rfl rfl) dX4_rides_51
      · skip
        refine z_aload_n C dX4_rides_43 rfl 1 rfl ?_
        refine z_v (ws' := fun u => [(m, .inr (11, [.int (zI (n : Int)), .ref g1, .ref g2, .ref g3, .ref g4, .ref g5, .int (zI oa), .int (zI dy), .ref s1, .ref s2, .ref s3, .ref s4, .ref s5, .ref s6, .int (zI 0), .int (zI rdg), .int (zI plc), .int (zI ibd), .int (zI stm), .ref t1, .ref t2, .ref t3, .ref c0, .ref c1, .ref c2, .ref c3, .int (zI him), .int (zI 38), .int (zI 0), .ref c0, .int (zI chd), .int (zI chf), .ref y0, .int (zI sd), .ref y1])), (g1, AI G 7 (fun z_ => (kd z_ : Int))), (g2, AI G 7 fg), (g3, AI G 7 hm), (g4, AI G 7 at_), (g5, AI G 7 lg), (c0, AI G 38 (encF n oa dy kd fg hm at_ lg))]) C (z_runV (q := 0) (As := []) (rest := []) C (ct_X4_close (zl X) G m g1 g2 g3 g4 g5 s1 s2 s3 s4 s5 s6 t1 t2 t3 c0 c1 c2 c3 y0 y1 0 rdg plc ibd stm him 38 1 chd chf sd (.ref c0) (fun z_ => (kd z_ : Int)) fg hm (rdA kd fg hm oa n j yard at_ lg) (rdL kd fg hm oa n j yard at_ lg) n oa (dy + ((rdN kd fg hm oa n j yard at_ lg) : Int)) kd fg hm at_ lg n oa dy ) (lw_V q1302 q1304 qs43 q61 q1305) rfl rfl (sb_e [0, 1, 2, 3, 4, 5, 6] rfl rfl) (na := 0) (by decide +kernel) rfl (zrm rfl rfl (rfl) (rfl)) rfl (Nat.le_of_ble_eq_true rfl) dX4_rides_44) (fun u => jn_e (wr := []) [0, 1, 2, 3, 4, 5, 6] [] [0, 1, 2, 3, 4, 5, 6] rfl rfl rfl (by decide) rfl rfl) (fun u hp_44 => ?_)
        refine y_bipush C dX4_rides_47 (by decide) ?_
        refine z_wsEq (ws' := [(m, .inr (11, [.int (zI (n : Int)), .ref g1, .ref g2, .ref g3, .ref g4, .ref g5, .int (zI oa), .int (zI (if rdOk kd fg hm at_ lg n oa dy (j : Int) yard then (dy + ((rdN kd fg hm oa n (j : Int).toNat yard at_ lg : Nat) : Int)) else dy)), .ref s1, .ref s2, .ref s3, .ref s4, .ref s5, .ref s6, .int (zI 0), .int (zI rdg), .int (zI plc), .int (zI ibd), .int (zI stm), .ref t1, .ref t2, .ref t3, .ref c0, .ref c1, .ref c2, .ref c3, .int (zI him), .int (zI 38), .int (zI 0), .ref c0, .int (zI chd), .int (zI chf), .ref y0, .int (zI sd), .ref y1])), (g1, AI G 7 (fun z_ => (kd z_ : Int))), (g2, AI G 7 fg), (g3, AI G 7 hm), (g4, AI G 7 (if rdOk kd fg hm at_ lg n oa dy (j : Int) yard then (rdA kd fg hm oa n (j : Int).toNat yard at_ lg) else at_)), (g5, AI G 7 (if rdOk kd fg hm at_ lg n oa dy (j : Int) yard then (rdL kd fg hm oa n (j : Int).toNat yard at_ lg) else lg)), (c0, AI G 38 (encF n oa dy kd fg hm at_ lg))]) (by simp only [if_neg (show ¬ (rdOk kd fg hm at_ lg n oa dy (j : Int) yard) from by simp only [rdOk, zTN]; omega), zTN]) ?_
        exact z_iret C hA hQ rfl (Nat.le_of_ble_eq_true rfl) (Nat.le_of_ble_eq_true rfl) (((.ref c0), 38, 0, (encF n oa dy kd fg hm at_ lg))) (congrArg zI (by unfold oRides; (try simp only [zTN]); (repeat (first | rw [if_pos (by omega)] | rw [if_neg (by omega)])); first | done | rfl)) (sb_e [0, 1, 2, 3, 4, 5, 6] rfl rfl) dX4_rides_49
    · skip
      refine y_iconst C dX4_rides_20 ?_
      refine z_wsEq (ws' := [(m, .inr (11, [.int (zI (n : Int)), .ref g1, .ref g2, .ref g3, .ref g4, .ref g5, .int (zI oa), .int (zI (if rdOk kd fg hm at_ lg n oa dy h yard then (dy + ((rdN kd fg hm oa n h.toNat yard at_ lg : Nat) : Int)) else dy)), .ref s1, .ref s2, .ref s3, .ref s4, .ref s5, .ref s6, .int (zI 0), .int (zI rdg), .int (zI plc), .int (zI ibd), .int (zI stm), .ref t1, .ref t2, .ref t3, .ref c0, .ref c1, .ref c2, .ref c3, .int (zI him), .int (zI pl0), .int (zI itk), ki, .int (zI chd), .int (zI chf), .ref y0, .int (zI sd), .ref y1])), (g1, AI G 7 (fun z_ => (kd z_ : Int))), (g2, AI G 7 fg), (g3, AI G 7 hm), (g4, AI G 7 (if rdOk kd fg hm at_ lg n oa dy h yard then (rdA kd fg hm oa n h.toNat yard at_ lg) else at_)), (g5, AI G 7 (if rdOk kd fg hm at_ lg n oa dy h yard then (rdL kd fg hm oa n h.toNat yard at_ lg) else lg)), (c0, AI G 38 kc)]) (by simp only [if_neg (show ¬ (rdOk kd fg hm at_ lg n oa dy h yard) from by simp only [rdOk, zTN]; omega), zTN]) ?_
      exact z_iret C hA hQ rfl (Nat.le_of_ble_eq_true rfl) (Nat.le_of_ble_eq_true rfl) ((ki, pl0, itk, kc)) (congrArg zI (by unfold oRides; (try simp only [zTN]); (repeat (first | rw [if_pos (by omega)] | rw [if_neg (by omega)])); first | done | rfl)) (sb_e [0, 1, 2, 3, 4, 5, 6] rfl rfl) dX4_rides_21

set_option maxHeartbeats 4000000 in
theorem ct_X4_taken (l : Launch) (G : ZG) (m : Nat) (g1 : Nat) (g2 : Nat) (g3 : Nat) (g4 : Nat) (g5 : Nat) (s1 : Nat) (s2 : Nat) (s3 : Nat) (s4 : Nat) (s5 : Nat) (s6 : Nat) (t1 : Nat) (t2 : Nat) (t3 : Nat) (c0 : Nat) (c1 : Nat) (c2 : Nat) (c3 : Nat) (y0 : Nat) (y1 : Nat) (thr : Int) (rdg : Int) (plc : Int) (ibd : Int) (stm : Int) (him : Int) (pl0 : Int) (itk : Int) (chd : Int) (chf : Int) (sd : Int) (ki : Value) (kd : Nat → Nat) (fg : Nat → Int) (hm : Nat → Int) (at_ : Nat → Int) (lg : Nat → Int) (n : Nat) (oa : Int) (dy : Int) (h : Int) (yard : Int) (hL : LK n kd fg hm at_ lg oa) (rh : -2147483648 ≤ h ∧ h ≤ 2147483647) (ryard : -2147483648 ≤ yard ∧ yard ≤ 2147483647) : CT l yX4_taken cX4_taken 4 (some .int) { frames := 2, cells := 0, slots := 0, locals := 46 } G [.ref m, .int (zI h), .int (zI yard)] [(m, .inr (11, [.int (zI (n : Int)), .ref g1, .ref g2, .ref g3, .ref g4, .ref g5, .int (zI oa), .int (zI dy), .ref s1, .ref s2, .ref s3, .ref s4, .ref s5, .ref s6, .int (zI thr), .int (zI rdg), .int (zI plc), .int (zI ibd), .int (zI stm), .ref t1, .ref t2, .ref t3, .ref c0, .ref c1, .ref c2, .ref c3, .int (zI him), .int (zI pl0), .int (zI itk), ki, .int (zI chd), .int (zI chf), .ref y0, .int (zI sd), .ref y1])), (g1, AI G 7 (fun z_ => (kd z_ : Int))), (g2, AI G 7 fg), (g3, AI G 7 hm), (g4, AI G 7 at_), (g5, AI G 7 lg)] (Qi G [(m, .inr (11, [.int (zI (n : Int)), .ref g1, .ref g2, .ref g3, .ref g4, .ref g5, .int (zI oa), .int (zI dy), .ref s1, .ref s2, .ref s3, .ref s4, .ref s5, .ref s6, .int (zI thr), .int (zI rdg), .int (zI plc), .int (zI ibd), .int (zI stm), .ref t1, .ref t2, .ref t3, .ref c0, .ref c1, .ref c2, .ref c3, .int (zI him), .int (zI pl0), .int (zI itk), ki, .int (zI chd), .int (zI chf), .ref y0, .int (zI sd), .ref y1])), (g1, AI G 7 (fun z_ => (kd z_ : Int))), (g2, AI G 7 fg), (g3, AI G 7 hm), (g4, AI G 7 at_), (g5, AI G 7 lg)] (fun (r : Int32) (u : Unit) => r = zI (oTaken kd fg hm at_ lg n oa h yard)) (fun u => [(m, .inr (11, [.int (zI (n : Int)), .ref g1, .ref g2, .ref g3, .ref g4, .ref g5, .int (zI oa), .int (zI dy), .ref s1, .ref s2, .ref s3, .ref s4, .ref s5, .ref s6, .int (zI 0), .int (zI rdg), .int (zI plc), .int (zI ibd), .int (zI stm), .ref t1, .ref t2, .ref t3, .ref c0, .ref c1, .ref c2, .ref c3, .int (zI him), .int (zI pl0), .int (zI itk), ki, .int (zI chd), .int (zI chf), .ref y0, .int (zI sd), .ref y1])), (g1, AI G 7 (fun z_ => (kd z_ : Int))), (g2, AI G 7 fg), (g3, AI G 7 hm), (g4, AI G 7 (if tkOk n h yard then va_up at_ h.toNat yard else at_)), (g5, AI G 7 lg)])) := by
  refine z_met (by decide) (Nat.le_of_ble_eq_true rfl) ?_
  intro X A hl0 hA C hQ hin
  subst hl0
  obtain ⟨hn7, hoa, hLj⟩ := id hL
  show Z X _ G 0 0 _ 0 [(0, .ref m), (1, .int (zI h)), (2, .int (zI yard))] []
  refine z_aload_n C dX4_taken_0 rfl 0 rfl ?_
  refine y_iconst C dX4_taken_1 ?_
  refine z_put (q := 0) (kf := 14) (ws' := [(m, .inr (11, [.int (zI (n : Int)), .ref g1, .ref g2, .ref g3, .ref g4, .ref g5, .int (zI oa), .int (zI dy), .ref s1, .ref s2, .ref s3, .ref s4, .ref s5, .ref s6, .int (zI 0), .int (zI rdg), .int (zI plc), .int (zI ibd), .int (zI stm), .ref t1, .ref t2, .ref t3, .ref c0, .ref c1, .ref c2, .ref c3, .int (zI him), .int (zI pl0), .int (zI itk), ki, .int (zI chd), .int (zI chf), .ref y0, .int (zI sd), .ref y1])), (g1, AI G 7 (fun z_ => (kd z_ : Int))), (g2, AI G 7 fg), (g3, AI G 7 hm), (g4, AI G 7 at_), (g5, AI G 7 lg)]) C rfl rfl in_X4 tyX4_ok nmX4 (by decide) q1101 rfl rfl rfl rfl rfl (nlt rfl) rfl dX4_taken_2 ?_
  refine z_aload_n C dX4_taken_5 rfl 0 rfl ?_
  refine z_iload_n C dX4_taken_6 rfl 1 rfl ?_
  refine z_i C (z_runV (q := 0) (As := [.int (zI h)]) (rest := []) C (ct_X4_isHorse (zl X) G m g1 g2 g3 g4 g5 n oa dy ([.ref s1, .ref s2, .ref s3, .ref s4, .ref s5, .ref s6, .int (zI 0), .int (zI rdg), .int (zI plc), .int (zI ibd), .int (zI stm), .ref t1, .ref t2, .ref t3, .ref c0, .ref c1, .ref c2, .ref c3, .int (zI him), .int (zI pl0), .int (zI itk), ki, .int (zI chd), .int (zI chf), .ref y0, .int (zI sd), .ref y1]) h (by first | assumption | omega) (by first | assumption | omega)) (lw_V q1255 q1257 qs33 q61 q1258) rfl rfl (sb_e [0] rfl rfl) (na := 1) (by decide +kernel) rfl (zrm rfl rfl (rfl) (rfl)) rfl (Nat.le_of_ble_eq_true rfl) dX4_taken_7) (fun u => jn_ro (sb_e [0] rfl rfl)) (fun r_7 u hp_7 => ?_)
  have hp_7 : r_7 = zI (bI (0 ≤ h ∧ h ≤ (n : Int) - 1)) := hp_7
  subst hp_7
  refine y_beq (tgt := 20) C dX4_taken_10 (by decide) (fun c_10 => ?_) (fun c_10 => ?_)
  · skip
    refine y_iconst C dX4_taken_20 ?_
    refine z_wsEq (ws' := [(m, .inr (11, [.int (zI (n : Int)), .ref g1, .ref g2, .ref g3, .ref g4, .ref g5, .int (zI oa), .int (zI dy), .ref s1, .ref s2, .ref s3, .ref s4, .ref s5, .ref s6, .int (zI 0), .int (zI rdg), .int (zI plc), .int (zI ibd), .int (zI stm), .ref t1, .ref t2, .ref t3, .ref c0, .ref c1, .ref c2, .ref c3, .int (zI him), .int (zI pl0), .int (zI itk), ki, .int (zI chd), .int (zI chf), .ref y0, .int (zI sd), .ref y1])), (g1, AI G 7 (fun z_ => (kd z_ : Int))), (g2, AI G 7 fg), (g3, AI G 7 hm), (g4, AI G 7 (if tkOk n h yard then va_up at_ h.toNat yard else at_)), (g5, AI G 7 lg)]) (by simp only [if_neg (show ¬ (tkOk n h yard) from by simp only [tkOk, zTN]; omega), zTN]) ?_
    exact z_iret C hA hQ rfl (Nat.le_of_ble_eq_true rfl) (Nat.le_of_ble_eq_true rfl) (()) (congrArg zI (by unfold oTaken; (try simp only [zTN]); (repeat (first | rw [if_pos (by omega)] | rw [if_neg (by omega)])); first | done | rfl)) (sb_e [0, 1, 2, 3, 4, 5] rfl rfl) dX4_taken_21
  · skip
    refine z_iload_n C dX4_taken_13 rfl 2 rfl ?_
    refine z_i C (z_runS (As := [.int (zI yard)]) (rest := []) C (ct_X4_isYard (zl X) G yard (by first | assumption | omega)) (lw_S q1251 q1252 q61 q1253) (sb_e [] rfl rfl) (na := 1) (by decide +kernel) rfl (zrm rfl rfl (rfl) (rfl)) rfl (Nat.le_of_ble_eq_true rfl) dX4_taken_14) (fun u => jn_ro (sb_e [] rfl rfl)) (fun r_14 u hp_14 => ?_)
    have hp_14 : r_14 = zI (bI (0 ≤ yard ∧ yard ≤ 20)) := hp_14
    subst hp_14
    refine y_bne (tgt := 22) C dX4_taken_17 (by decide) (fun c_17 => ?_) (fun c_17 => ?_)
    · skip
      obtain ⟨j, rfl⟩ := Int.eq_ofNat_of_zero_le (show 0 ≤ h by omega)
      refine z_aload_n C dX4_taken_22 rfl 0 rfl ?_
      refine z_get (q := 0) (kf := 4) (v := .ref g4) C rfl rfl in_X4 (by decide) q1091 (Or.inl rfl) rfl dX4_taken_23 ?_
      refine z_iload_n C dX4_taken_26 rfl 1 rfl ?_
      refine y_iald (q := 4) (t0 := 0) (v := at_ j) C rfl rfl (by omega) (by decide) rfl dX4_taken_27 ?_
      refine z_istore_n (lv' := [(3, .int (zI (at_ j))), (0, .ref m), (1, .int (zI (j : Int))), (2, .int (zI yard))]) C dX4_taken_28 rfl (nlt rfl) rfl ?_
      refine z_aload_n C dX4_taken_29 rfl 1 rfl ?_
      refine z_get (q := 0) (kf := 4) (v := .ref g4) C rfl rfl in_X4 (by decide) q1091 (Or.inl rfl) rfl dX4_taken_30 ?_
      refine z_iload_n C dX4_taken_33 rfl 2 rfl ?_
      refine z_iload_n C dX4_taken_34 rfl 3 rfl ?_
      refine y_iast (q := 4) (t0 := 0) (g := va_up at_ j yard) (ws' := [(m, .inr (11, [.int (zI (n : Int)), .ref g1, .ref g2, .ref g3, .ref g4, .ref g5, .int (zI oa), .int (zI dy), .ref s1, .ref s2, .ref s3, .ref s4, .ref s5, .ref s6, .int (zI 0), .int (zI rdg), .int (zI plc), .int (zI ibd), .int (zI stm), .ref t1, .ref t2, .ref t3, .ref c0, .ref c1, .ref c2, .ref c3, .int (zI him), .int (zI pl0), .int (zI itk), ki, .int (zI chd), .int (zI chf), .ref y0, .int (zI sd), .ref y1])), (g1, AI G 7 (fun z_ => (kd z_ : Int))), (g2, AI G 7 fg), (g3, AI G 7 hm), (g4, AI G 7 (va_up at_ j yard)), (g5, AI G 7 lg)]) C rfl rfl (by omega) (by decide) rfl rfl dX4_taken_35 ?_
      refine z_iload_n C dX4_taken_36 rfl 0 rfl ?_
      refine z_wsEq (ws' := [(m, .inr (11, [.int (zI (n : Int)), .ref g1, .ref g2, .ref g3, .ref g4, .ref g5, .int (zI oa), .int (zI dy), .ref s1, .ref s2, .ref s3, .ref s4, .ref s5, .ref s6, .int (zI 0), .int (zI rdg), .int (zI plc), .int (zI ibd), .int (zI stm), .ref t1, .ref t2, .ref t3, .ref c0, .ref c1, .ref c2, .ref c3, .int (zI him), .int (zI pl0), .int (zI itk), ki, .int (zI chd), .int (zI chf), .ref y0, .int (zI sd), .ref y1])), (g1, AI G 7 (fun z_ => (kd z_ : Int))), (g2, AI G 7 fg), (g3, AI G 7 hm), (g4, AI G 7 (if tkOk n (j : Int) yard then va_up at_ (j : Int).toNat yard else at_)), (g5, AI G 7 lg)]) (by simp only [if_pos (show (tkOk n (j : Int) yard) from by simp only [tkOk, zTN]; omega), zTN]) ?_
      exact z_iret C hA hQ rfl (Nat.le_of_ble_eq_true rfl) (Nat.le_of_ble_eq_true rfl) (()) (congrArg zI (by unfold oTaken; (try simp only [zTN]); (repeat (first | rw [if_pos (by omega)] | rw [if_neg (by omega)])); first | done | rfl)) (sb_e [0, 1, 2, 3, 4, 5] rfl rfl) dX4_taken_37
    · skip
      refine y_iconst C dX4_taken_20 ?_
      refine z_wsEq (ws' := [(m, .inr (11, [.int (zI (n : Int)), .ref g1, .ref g2, .ref g3, .ref g4, .ref g5, .int (zI oa), .int (zI dy), .ref s1, .ref s2, .ref s3, .ref s4, .ref s5, .ref s6, .int (zI 0), .int (zI rdg), .int (zI plc), .int (zI ibd), .int (zI stm), .ref t1, .ref t2, .ref t3, .ref c0, .ref c1, .ref c2, .ref c3, .int (zI him), .int (zI pl0), .int (zI itk), ki, .int (zI chd), .int (zI chf), .ref y0, .int (zI sd), .ref y1])), (g1, AI G 7 (fun z_ => (kd z_ : Int))), (g2, AI G 7 fg), (g3, AI G 7 hm), (g4, AI G 7 (if tkOk n h yard then va_up at_ h.toNat yard else at_)), (g5, AI G 7 lg)]) (by simp only [if_neg (show ¬ (tkOk n h yard) from by simp only [tkOk, zTN]; omega), zTN]) ?_
      exact z_iret C hA hQ rfl (Nat.le_of_ble_eq_true rfl) (Nat.le_of_ble_eq_true rfl) (()) (congrArg zI (by unfold oTaken; (try simp only [zTN]); (repeat (first | rw [if_pos (by omega)] | rw [if_neg (by omega)])); first | done | rfl)) (sb_e [0, 1, 2, 3, 4, 5] rfl rfl) dX4_taken_21

set_option maxHeartbeats 4000000 in
theorem ct_X4_longs (l : Launch) (G : ZG) (m : Nat) (g1 : Nat) (g2 : Nat) (g3 : Nat) (g4 : Nat) (g5 : Nat) (s1 : Nat) (s2 : Nat) (s3 : Nat) (s4 : Nat) (s5 : Nat) (s6 : Nat) (t1 : Nat) (t2 : Nat) (t3 : Nat) (c0 : Nat) (c1 : Nat) (c2 : Nat) (c3 : Nat) (y0 : Nat) (y1 : Nat) (thr : Int) (rdg : Int) (plc : Int) (ibd : Int) (stm : Int) (him : Int) (pl0 : Int) (itk : Int) (chd : Int) (chf : Int) (sd : Int) (ki : Value) (kd : Nat → Nat) (fg : Nat → Int) (hm : Nat → Int) (at_ : Nat → Int) (lg : Nat → Int) (n : Nat) (oa : Int) (dy : Int) (h : Int) (v : Int) (hL : LK n kd fg hm at_ lg oa) (rh : -2147483648 ≤ h ∧ h ≤ 2147483647) (rv : -2147483648 ≤ v ∧ v ≤ 2147483647) : CT l yX4_longs cX4_longs 4 (some .int) { frames := 2, cells := 0, slots := 0, locals := 46 } G [.ref m, .int (zI h), .int (zI v)] [(m, .inr (11, [.int (zI (n : Int)), .ref g1, .ref g2, .ref g3, .ref g4, .ref g5, .int (zI oa), .int (zI dy), .ref s1, .ref s2, .ref s3, .ref s4, .ref s5, .ref s6, .int (zI thr), .int (zI rdg), .int (zI plc), .int (zI ibd), .int (zI stm), .ref t1, .ref t2, .ref t3, .ref c0, .ref c1, .ref c2, .ref c3, .int (zI him), .int (zI pl0), .int (zI itk), ki, .int (zI chd), .int (zI chf), .ref y0, .int (zI sd), .ref y1])), (g1, AI G 7 (fun z_ => (kd z_ : Int))), (g2, AI G 7 fg), (g3, AI G 7 hm), (g4, AI G 7 at_), (g5, AI G 7 lg)] (Qi G [(m, .inr (11, [.int (zI (n : Int)), .ref g1, .ref g2, .ref g3, .ref g4, .ref g5, .int (zI oa), .int (zI dy), .ref s1, .ref s2, .ref s3, .ref s4, .ref s5, .ref s6, .int (zI thr), .int (zI rdg), .int (zI plc), .int (zI ibd), .int (zI stm), .ref t1, .ref t2, .ref t3, .ref c0, .ref c1, .ref c2, .ref c3, .int (zI him), .int (zI pl0), .int (zI itk), ki, .int (zI chd), .int (zI chf), .ref y0, .int (zI sd), .ref y1])), (g1, AI G 7 (fun z_ => (kd z_ : Int))), (g2, AI G 7 fg), (g3, AI G 7 hm), (g4, AI G 7 at_), (g5, AI G 7 lg)] (fun (r : Int32) (u : Unit) => r = zI (oLongs kd fg hm at_ lg n oa h v)) (fun u => [(m, .inr (11, [.int (zI (n : Int)), .ref g1, .ref g2, .ref g3, .ref g4, .ref g5, .int (zI oa), .int (zI dy), .ref s1, .ref s2, .ref s3, .ref s4, .ref s5, .ref s6, .int (zI 0), .int (zI rdg), .int (zI plc), .int (zI ibd), .int (zI stm), .ref t1, .ref t2, .ref t3, .ref c0, .ref c1, .ref c2, .ref c3, .int (zI him), .int (zI pl0), .int (zI itk), ki, .int (zI chd), .int (zI chf), .ref y0, .int (zI sd), .ref y1])), (g1, AI G 7 (fun z_ => (kd z_ : Int))), (g2, AI G 7 fg), (g3, AI G 7 hm), (g4, AI G 7 at_), (g5, AI G 7 (if lnOk n h v then va_up lg h.toNat v else lg))])) := by
  refine z_met (by decide) (Nat.le_of_ble_eq_true rfl) ?_
  intro X A hl0 hA C hQ hin
  subst hl0
  obtain ⟨hn7, hoa, hLj⟩ := id hL
  show Z X _ G 0 0 _ 0 [(0, .ref m), (1, .int (zI h)), (2, .int (zI v))] []
  refine z_aload_n C dX4_longs_0 rfl 0 rfl ?_
  refine y_iconst C dX4_longs_1 ?_
  refine z_put (q := 0) (kf := 14) (ws' := [(m, .inr (11, [.int (zI (n : Int)), .ref g1, .ref g2, .ref g3, .ref g4, .ref g5, .int (zI oa), .int (zI dy), .ref s1, .ref s2, .ref s3, .ref s4, .ref s5, .ref s6, .int (zI 0), .int (zI rdg), .int (zI plc), .int (zI ibd), .int (zI stm), .ref t1, .ref t2, .ref t3, .ref c0, .ref c1, .ref c2, .ref c3, .int (zI him), .int (zI pl0), .int (zI itk), ki, .int (zI chd), .int (zI chf), .ref y0, .int (zI sd), .ref y1])), (g1, AI G 7 (fun z_ => (kd z_ : Int))), (g2, AI G 7 fg), (g3, AI G 7 hm), (g4, AI G 7 at_), (g5, AI G 7 lg)]) C rfl rfl in_X4 tyX4_ok nmX4 (by decide) q1101 rfl rfl rfl rfl rfl (nlt rfl) rfl dX4_longs_2 ?_
  refine z_aload_n C dX4_longs_5 rfl 0 rfl ?_
  refine z_iload_n C dX4_longs_6 rfl 1 rfl ?_
  refine z_i C (z_runV (q := 0) (As := [.int (zI h)]) (rest := []) C (ct_X4_isHorse (zl X) G m g1 g2 g3 g4 g5 n oa dy ([.ref s1, .ref s2, .ref s3, .ref s4, .ref s5, .ref s6, .int (zI 0), .int (zI rdg), .int (zI plc), .int (zI ibd), .int (zI stm), .ref t1, .ref t2, .ref t3, .ref c0, .ref c1, .ref c2, .ref c3, .int (zI him), .int (zI pl0), .int (zI itk), ki, .int (zI chd), .int (zI chf), .ref y0, .int (zI sd), .ref y1]) h (by first | assumption | omega) (by first | assumption | omega)) (lw_V q1255 q1257 qs33 q61 q1258) rfl rfl (sb_e [0] rfl rfl) (na := 1) (by decide +kernel) rfl (zrm rfl rfl (rfl) (rfl)) rfl (Nat.le_of_ble_eq_true rfl) dX4_longs_7) (fun u => jn_ro (sb_e [0] rfl rfl)) (fun r_7 u hp_7 => ?_)
  have hp_7 : r_7 = zI (bI (0 ≤ h ∧ h ≤ (n : Int) - 1)) := hp_7
  subst hp_7
  refine y_beq (tgt := 25) C dX4_longs_10 (by decide) (fun c_10 => ?_) (fun c_10 => ?_)
  · skip
    refine y_iconst C dX4_longs_25 ?_
    refine z_wsEq (ws' := [(m, .inr (11, [.int (zI (n : Int)), .ref g1, .ref g2, .ref g3, .ref g4, .ref g5, .int (zI oa), .int (zI dy), .ref s1, .ref s2, .ref s3, .ref s4, .ref s5, .ref s6, .int (zI 0), .int (zI rdg), .int (zI plc), .int (zI ibd), .int (zI stm), .ref t1, .ref t2, .ref t3, .ref c0, .ref c1, .ref c2, .ref c3, .int (zI him), .int (zI pl0), .int (zI itk), ki, .int (zI chd), .int (zI chf), .ref y0, .int (zI sd), .ref y1])), (g1, AI G 7 (fun z_ => (kd z_ : Int))), (g2, AI G 7 fg), (g3, AI G 7 hm), (g4, AI G 7 at_), (g5, AI G 7 (if lnOk n h v then va_up lg h.toNat v else lg))]) (by simp only [if_neg (show ¬ (lnOk n h v) from by simp only [lnOk, zTN]; omega), zTN]) ?_
    exact z_iret C hA hQ rfl (Nat.le_of_ble_eq_true rfl) (Nat.le_of_ble_eq_true rfl) (()) (congrArg zI (by unfold oLongs; (try simp only [zTN]); (repeat (first | rw [if_pos (by omega)] | rw [if_neg (by omega)])); first | done | rfl)) (sb_e [0, 1, 2, 3, 4, 5] rfl rfl) dX4_longs_26
  · skip
    refine z_iload_n C dX4_longs_13 rfl 2 rfl ?_
    refine y_i2l C (by omega) dX4_longs_14 ?_
    refine z_lconst (v := zL 0) C dX4_longs_15 (by decide) ?_
    refine z_ldc2 C q1338 dX4_longs_16 ?_
    refine z_eql (y := zL 99) (by decide) ?_
    refine z_i C (z_runS (As := [.long (zL v), .long (zL 0), .long (zL 99)]) (rest := []) C (ct_X4_in (zl X) G v 0 99 (by first | assumption | omega) (by first | assumption | omega) (by first | assumption | omega)) (lw_S q1207 q1208 q61 q1209) (sb_e [] rfl rfl) (na := 3) (by decide +kernel) rfl (zrm rfl rfl (rfl) (rfl)) rfl (Nat.le_of_ble_eq_true rfl) dX4_longs_19) (fun u => jn_ro (sb_e [] rfl rfl)) (fun r_19 u hp_19 => ?_)
    have hp_19 : r_19 = zI (bI (0 ≤ v ∧ v ≤ 99)) := hp_19
    subst hp_19
    refine y_bne (tgt := 27) C dX4_longs_22 (by decide) (fun c_22 => ?_) (fun c_22 => ?_)
    · skip
      obtain ⟨j, rfl⟩ := Int.eq_ofNat_of_zero_le (show 0 ≤ h by omega)
      refine z_aload_n C dX4_longs_27 rfl 0 rfl ?_
      refine z_get (q := 0) (kf := 5) (v := .ref g5) C rfl rfl in_X4 (by decide) q1092 (Or.inl rfl) rfl dX4_longs_28 ?_
      refine z_iload_n C dX4_longs_31 rfl 1 rfl ?_
      refine y_iald (q := 5) (t0 := 0) (v := lg j) C rfl rfl (by omega) (by decide) rfl dX4_longs_32 ?_
      refine z_istore_n (lv' := [(3, .int (zI (lg j))), (0, .ref m), (1, .int (zI (j : Int))), (2, .int (zI v))]) C dX4_longs_33 rfl (nlt rfl) rfl ?_
      refine z_aload_n C dX4_longs_34 rfl 1 rfl ?_
      refine z_get (q := 0) (kf := 5) (v := .ref g5) C rfl rfl in_X4 (by decide) q1092 (Or.inl rfl) rfl dX4_longs_35 ?_
      refine z_iload_n C dX4_longs_38 rfl 2 rfl ?_
      refine z_iload_n C dX4_longs_39 rfl 3 rfl ?_
      refine y_iast (q := 5) (t0 := 0) (g := va_up lg j v) (ws' := [(m, .inr (11, [.int (zI (n : Int)), .ref g1, .ref g2, .ref g3, .ref g4, .ref g5, .int (zI oa), .int (zI dy), .ref s1, .ref s2, .ref s3, .ref s4, .ref s5, .ref s6, .int (zI 0), .int (zI rdg), .int (zI plc), .int (zI ibd), .int (zI stm), .ref t1, .ref t2, .ref t3, .ref c0, .ref c1, .ref c2, .ref c3, .int (zI him), .int (zI pl0), .int (zI itk), ki, .int (zI chd), .int (zI chf), .ref y0, .int (zI sd), .ref y1])), (g1, AI G 7 (fun z_ => (kd z_ : Int))), (g2, AI G 7 fg), (g3, AI G 7 hm), (g4, AI G 7 at_), (g5, AI G 7 (va_up lg j v))]) C rfl rfl (by omega) (by decide) rfl rfl dX4_longs_40 ?_
      refine z_iload_n C dX4_longs_41 rfl 0 rfl ?_
      refine z_wsEq (ws' := [(m, .inr (11, [.int (zI (n : Int)), .ref g1, .ref g2, .ref g3, .ref g4, .ref g5, .int (zI oa), .int (zI dy), .ref s1, .ref s2, .ref s3, .ref s4, .ref s5, .ref s6, .int (zI 0), .int (zI rdg), .int (zI plc), .int (zI ibd), .int (zI stm), .ref t1, .ref t2, .ref t3, .ref c0, .ref c1, .ref c2, .ref c3, .int (zI him), .int (zI pl0), .int (zI itk), ki, .int (zI chd), .int (zI chf), .ref y0, .int (zI sd), .ref y1])), (g1, AI G 7 (fun z_ => (kd z_ : Int))), (g2, AI G 7 fg), (g3, AI G 7 hm), (g4, AI G 7 at_), (g5, AI G 7 (if lnOk n (j : Int) v then va_up lg (j : Int).toNat v else lg))]) (by simp only [if_pos (show (lnOk n (j : Int) v) from by simp only [lnOk, zTN]; omega), zTN]) ?_
      exact z_iret C hA hQ rfl (Nat.le_of_ble_eq_true rfl) (Nat.le_of_ble_eq_true rfl) (()) (congrArg zI (by unfold oLongs; (try simp only [zTN]); (repeat (first | rw [if_pos (by omega)] | rw [if_neg (by omega)])); first | done | rfl)) (sb_e [0, 1, 2, 3, 4, 5] rfl rfl) dX4_longs_42
    · skip
      refine y_iconst C dX4_longs_25 ?_
      refine z_wsEq (ws' := [(m, .inr (11, [.int (zI (n : Int)), .ref g1, .ref g2, .ref g3, .ref g4, .ref g5, .int (zI oa), .int (zI dy), .ref s1, .ref s2, .ref s3, .ref s4, .ref s5, .ref s6, .int (zI 0), .int (zI rdg), .int (zI plc), .int (zI ibd), .int (zI stm), .ref t1, .ref t2, .ref t3, .ref c0, .ref c1, .ref c2, .ref c3, .int (zI him), .int (zI pl0), .int (zI itk), ki, .int (zI chd), .int (zI chf), .ref y0, .int (zI sd), .ref y1])), (g1, AI G 7 (fun z_ => (kd z_ : Int))), (g2, AI G 7 fg), (g3, AI G 7 hm), (g4, AI G 7 at_), (g5, AI G 7 (if lnOk n h v then va_up lg h.toNat v else lg))]) (by simp only [if_neg (show ¬ (lnOk n h v) from by simp only [lnOk, zTN]; omega), zTN]) ?_
      exact z_iret C hA hQ rfl (Nat.le_of_ble_eq_true rfl) (Nat.le_of_ble_eq_true rfl) (()) (congrArg zI (by unfold oLongs; (try simp only [zTN]); (repeat (first | rw [if_pos (by omega)] | rw [if_neg (by omega)])); first | done | rfl)) (sb_e [0, 1, 2, 3, 4, 5] rfl rfl) dX4_longs_26

set_option maxHeartbeats 4000000 in
theorem ct_X4_hangs (l : Launch) (G : ZG) (m : Nat) (g1 : Nat) (g2 : Nat) (g3 : Nat) (g4 : Nat) (g5 : Nat) (s1 : Nat) (s2 : Nat) (s3 : Nat) (s4 : Nat) (s5 : Nat) (s6 : Nat) (t1 : Nat) (t2 : Nat) (t3 : Nat) (c0 : Nat) (c1 : Nat) (c2 : Nat) (c3 : Nat) (y0 : Nat) (y1 : Nat) (thr : Int) (rdg : Int) (plc : Int) (ibd : Int) (stm : Int) (him : Int) (pl0 : Int) (itk : Int) (chd : Int) (chf : Int) (sd : Int) (ki : Value) (kd : Nat → Nat) (fg : Nat → Int) (hm : Nat → Int) (at_ : Nat → Int) (lg : Nat → Int) (n : Nat) (oa : Int) (dy : Int) (yard : Int) (hL : LK n kd fg hm at_ lg oa) (ryard : -2147483648 ≤ yard ∧ yard ≤ 2147483647) : CT l yX4_hangs cX4_hangs 3 (some .int) { frames := 2, cells := 0, slots := 0, locals := 45 } G [.ref m, .int (zI yard)] [(m, .inr (11, [.int (zI (n : Int)), .ref g1, .ref g2, .ref g3, .ref g4, .ref g5, .int (zI oa), .int (zI dy), .ref s1, .ref s2, .ref s3, .ref s4, .ref s5, .ref s6, .int (zI thr), .int (zI rdg), .int (zI plc), .int (zI ibd), .int (zI stm), .ref t1, .ref t2, .ref t3, .ref c0, .ref c1, .ref c2, .ref c3, .int (zI him), .int (zI pl0), .int (zI itk), ki, .int (zI chd), .int (zI chf), .ref y0, .int (zI sd), .ref y1])), (g1, AI G 7 (fun z_ => (kd z_ : Int))), (g2, AI G 7 fg), (g3, AI G 7 hm), (g4, AI G 7 at_), (g5, AI G 7 lg)] (Qi G [(m, .inr (11, [.int (zI (n : Int)), .ref g1, .ref g2, .ref g3, .ref g4, .ref g5, .int (zI oa), .int (zI dy), .ref s1, .ref s2, .ref s3, .ref s4, .ref s5, .ref s6, .int (zI thr), .int (zI rdg), .int (zI plc), .int (zI ibd), .int (zI stm), .ref t1, .ref t2, .ref t3, .ref c0, .ref c1, .ref c2, .ref c3, .int (zI him), .int (zI pl0), .int (zI itk), ki, .int (zI chd), .int (zI chf), .ref y0, .int (zI sd), .ref y1])), (g1, AI G 7 (fun z_ => (kd z_ : Int))), (g2, AI G 7 fg), (g3, AI G 7 hm), (g4, AI G 7 at_), (g5, AI G 7 lg)] (fun (r : Int32) (u : Unit) => r = zI (oHangs kd fg hm at_ lg n oa yard)) (fun u => [(m, .inr (11, [.int (zI (n : Int)), .ref g1, .ref g2, .ref g3, .ref g4, .ref g5, .int (zI (if hgOk yard then yard else oa)), .int (zI dy), .ref s1, .ref s2, .ref s3, .ref s4, .ref s5, .ref s6, .int (zI 0), .int (zI rdg), .int (zI plc), .int (zI ibd), .int (zI stm), .ref t1, .ref t2, .ref t3, .ref c0, .ref c1, .ref c2, .ref c3, .int (zI him), .int (zI pl0), .int (zI itk), ki, .int (zI chd), .int (zI chf), .ref y0, .int (zI sd), .ref y1])), (g1, AI G 7 (fun z_ => (kd z_ : Int))), (g2, AI G 7 fg), (g3, AI G 7 hm), (g4, AI G 7 at_), (g5, AI G 7 lg)])) := by
  refine z_met (by decide) (Nat.le_of_ble_eq_true rfl) ?_
  intro X A hl0 hA C hQ hin
  subst hl0
  obtain ⟨hn7, hoa, hLj⟩ := id hL
  show Z X _ G 0 0 _ 0 [(0, .ref m), (1, .int (zI yard))] []
  refine z_aload_n C dX4_hangs_0 rfl 0 rfl ?_
  refine y_iconst C dX4_hangs_1 ?_
  refine z_put (q := 0) (kf := 14) (ws' := [(m, .inr (11, [.int (zI (n : Int)), .ref g1, .ref g2, .ref g3, .ref g4, .ref g5, .int (zI oa), .int (zI dy), .ref s1, .ref s2, .ref s3, .ref s4, .ref s5, .ref s6, .int (zI 0), .int (zI rdg), .int (zI plc), .int (zI ibd), .int (zI stm), .ref t1, .ref t2, .ref t3, .ref c0, .ref c1, .ref c2, .ref c3, .int (zI him), .int (zI pl0), .int (zI itk), ki, .int (zI chd), .int (zI chf), .ref y0, .int (zI sd), .ref y1])), (g1, AI G 7 (fun z_ => (kd z_ : Int))), (g2, AI G 7 fg), (g3, AI G 7 hm), (g4, AI G 7 at_), (g5, AI G 7 lg)]) C rfl rfl in_X4 tyX4_ok nmX4 (by decide) q1101 rfl rfl rfl rfl rfl (nlt rfl) rfl dX4_hangs_2 ?_
  refine z_iload_n C dX4_hangs_5 rfl 1 rfl ?_
  refine z_i C (z_runS (As := [.int (zI yard)]) (rest := []) C (ct_X4_isYard (zl X) G yard (by first | assumption | omega)) (lw_S q1251 q1252 q61 q1253) (sb_e [] rfl rfl) (na := 1) (by decide +kernel) rfl (zrm rfl rfl (rfl) (rfl)) rfl (Nat.le_of_ble_eq_true rfl) dX4_hangs_6) (fun u => jn_ro (sb_e [] rfl rfl)) (fun r_6 u hp_6 => ?_)
  have hp_6 : r_6 = zI (bI (0 ≤ yard ∧ yard ≤ 20)) := hp_6
  subst hp_6
  refine y_bne (tgt := 14) C dX4_hangs_9 (by decide) (fun c_9 => ?_) (fun c_9 => ?_)
  · skip
    refine z_aload_n C dX4_hangs_14 rfl 0 rfl ?_
    refine z_get (q := 0) (kf := 6) (v := .int (zI oa)) C rfl rfl in_X4 (by decide) q1093 (Or.inl rfl) rfl dX4_hangs_15 ?_
    refine z_istore_n (lv' := [(2, .int (zI oa)), (0, .ref m), (1, .int (zI yard))]) C dX4_hangs_18 rfl (nlt rfl) rfl ?_
    refine z_aload_n C dX4_hangs_19 rfl 1 rfl ?_
    refine z_iload_n C dX4_hangs_20 rfl 2 rfl ?_
    refine z_put (q := 0) (kf := 6) (ws' := [(m, .inr (11, [.int (zI (n : Int)), .ref g1, .ref g2, .ref g3, .ref g4, .ref g5, .int (zI yard), .int (zI dy), .ref s1, .ref s2, .ref s3, .ref s4, .ref s5, .ref s6, .int (zI 0), .int (zI rdg), .int (zI plc), .int (zI ibd), .int (zI stm), .ref t1, .ref t2, .ref t3, .ref c0, .ref c1, .ref c2, .ref c3, .int (zI him), .int (zI pl0), .int (zI itk), ki, .int (zI chd), .int (zI chf), .ref y0, .int (zI sd), .ref y1])), (g1, AI G 7 (fun z_ => (kd z_ : Int))), (g2, AI G 7 fg), (g3, AI G 7 hm), (g4, AI G 7 at_), (g5, AI G 7 lg)]) C rfl rfl in_X4 tyX4_ok nmX4 (by decide) q1093 rfl rfl rfl rfl rfl (nlt rfl) rfl dX4_hangs_21 ?_
    refine z_iload_n C dX4_hangs_24 rfl 0 rfl ?_
    refine z_wsEq (ws' := [(m, .inr (11, [.int (zI (n : Int)), .ref g1, .ref g2, .ref g3, .ref g4, .ref g5, .int (zI (if hgOk yard then yard else oa)), .int (zI dy), .ref s1, .ref s2, .ref s3, .ref s4, .ref s5, .ref s6, .int (zI 0), .int (zI rdg), .int (zI plc), .int (zI ibd), .int (zI stm), .ref t1, .ref t2, .ref t3, .ref c0, .ref c1, .ref c2, .ref c3, .int (zI him), .int (zI pl0), .int (zI itk), ki, .int (zI chd), .int (zI chf), .ref y0, .int (zI sd), .ref y1])), (g1, AI G 7 (fun z_ => (kd z_ : Int))), (g2, AI G 7 fg), (g3, AI G 7 hm), (g4, AI G 7 at_), (g5, AI G 7 lg)]) (by simp only [if_pos (show (hgOk yard) from by simp only [hgOk, zTN]; omega), zTN]) ?_
    exact z_iret C hA hQ rfl (Nat.le_of_ble_eq_true rfl) (Nat.le_of_ble_eq_true rfl) (()) (congrArg zI (by unfold oHangs; (try simp only [zTN]); (repeat (first | rw [if_pos (by omega)] | rw [if_neg (by omega)])); first | done | rfl)) (sb_e [0, 1, 2, 3, 4, 5] rfl rfl) dX4_hangs_25
  · skip
    refine y_iconst C dX4_hangs_12 ?_
    refine z_wsEq (ws' := [(m, .inr (11, [.int (zI (n : Int)), .ref g1, .ref g2, .ref g3, .ref g4, .ref g5, .int (zI (if hgOk yard then yard else oa)), .int (zI dy), .ref s1, .ref s2, .ref s3, .ref s4, .ref s5, .ref s6, .int (zI 0), .int (zI rdg), .int (zI plc), .int (zI ibd), .int (zI stm), .ref t1, .ref t2, .ref t3, .ref c0, .ref c1, .ref c2, .ref c3, .int (zI him), .int (zI pl0), .int (zI itk), ki, .int (zI chd), .int (zI chf), .ref y0, .int (zI sd), .ref y1])), (g1, AI G 7 (fun z_ => (kd z_ : Int))), (g2, AI G 7 fg), (g3, AI G 7 hm), (g4, AI G 7 at_), (g5, AI G 7 lg)]) (by simp only [if_neg (show ¬ (hgOk yard) from by simp only [hgOk, zTN]; omega), zTN]) ?_
    exact z_iret C hA hQ rfl (Nat.le_of_ble_eq_true rfl) (Nat.le_of_ble_eq_true rfl) (()) (congrArg zI (by unfold oHangs; (try simp only [zTN]); (repeat (first | rw [if_pos (by omega)] | rw [if_neg (by omega)])); first | done | rfl)) (sb_e [0, 1, 2, 3, 4, 5] rfl rfl) dX4_hangs_13

set_option maxHeartbeats 4000000 in
theorem ct_X4_daysCome (l : Launch) (G : ZG) (m : Nat) (g1 : Nat) (g2 : Nat) (g3 : Nat) (g4 : Nat) (g5 : Nat) (kd : Nat → Nat) (fg : Nat → Int) (hm : Nat → Int) (at_ : Nat → Int) (lg : Nat → Int) (n : Nat) (oa : Int) (dy : Int) (rs : List Value) (t : Int) (hL : LK n kd fg hm at_ lg oa) (ht : -2147483648 ≤ t ∧ t ≤ 2147483647) (hdy : 0 ≤ dy ∧ dy ≤ 1998) : CT l yX4_daysCome cX4_daysCome 3 (some .boolean) { frames := 5, cells := 0, slots := 0, locals := 113 } G [.ref m, .int (zI t)] [(m, .inr (11, .int (zI (n : Int)) :: .ref g1 :: .ref g2 :: .ref g3 :: .ref g4 :: .ref g5 :: .int (zI oa) :: .int (zI dy) :: rs)), (g1, AI G 7 (fun z_ => (kd z_ : Int))), (g2, AI G 7 fg), (g3, AI G 7 hm), (g4, AI G 7 at_), (g5, AI G 7 lg)] (Qi G [(m, .inr (11, .int (zI (n : Int)) :: .ref g1 :: .ref g2 :: .ref g3 :: .ref g4 :: .ref g5 :: .int (zI oa) :: .int (zI dy) :: rs)), (g1, AI G 7 (fun z_ => (kd z_ : Int))), (g2, AI G 7 fg), (g3, AI G 7 hm), (g4, AI G 7 at_), (g5, AI G 7 lg)] (fun (r : Int32) (u : Unit) => r = zI (bI (dsOk dy t))) (fun u => [(m, .inr (11, .int (zI (n : Int)) :: .ref g1 :: .ref g2 :: .ref g3 :: .ref g4 :: .ref g5 :: .int (zI oa) :: .int (zI (if dsOk dy t then dy + t else dy)) :: rs)), (g1, AI G 7 (fun z_ => (kd z_ : Int))), (g2, AI G 7 fg), (g3, AI G 7 hm), (g4, AI G 7 at_), (g5, AI G 7 (if dsOk dy t then goL kd fg hm at_ oa n t.toNat lg else lg))])) := by
  refine z_met (by decide) (Nat.le_of_ble_eq_true rfl) ?_
  intro X A hl0 hA C hQ hin
  subst hl0
  obtain ⟨hn7, hoa, hLj⟩ := id hL
  show Z X _ G 0 0 _ 0 [(0, .ref m), (1, .int (zI t))] []
  refine z_iload_n C dX4_daysCome_0 rfl 1 rfl ?_
  refine y_i2l C (by omega) dX4_daysCome_1 ?_
  refine z_lconst (v := zL 1) C dX4_daysCome_2 (by decide) ?_
  refine z_ldc2 C q1297 dX4_daysCome_3 ?_
  refine z_eql (y := zL 60) (by decide) ?_
  refine z_i C (z_runS (As := [.long (zL t), .long (zL 1), .long (zL 60)]) (rest := []) C (ct_X4_in (zl X) G t 1 60 (by first | assumption | omega) (by first | assumption | omega) (by first | assumption | omega)) (lw_S q1207 q1208 q61 q1209) (sb_e [] rfl rfl) (na := 3) (by decide +kernel) rfl (zrm rfl rfl (rfl) (rfl)) rfl (Nat.le_of_ble_eq_true rfl) dX4_daysCome_6) (fun u => jn_ro (sb_e [] rfl rfl)) (fun r_6 u hp_6 => ?_)
  have hp_6 : r_6 = zI (bI (1 ≤ t ∧ t ≤ 60)) := hp_6
  subst hp_6
  refine y_beq (tgt := 28) C dX4_daysCome_9 (by decide) (fun c_9 => ?_) (fun c_9 => ?_)
  · skip
    refine y_iconst C dX4_daysCome_28 ?_
    refine z_istore_n (lv' := [(2, .int (zI 0)), (0, .ref m), (1, .int (zI t))]) C dX4_daysCome_29 rfl (nlt rfl) rfl ?_
    refine z_iload_n C dX4_daysCome_30 rfl 0 rfl ?_
    refine y_if_eq (tgt := 39) C (by omega) dX4_daysCome_31 (by decide) (fun c_31 => ?_) (fun c_31 => ?_)
    · skip
      have hno : ¬ dsOk dy t := by simp only [dsOk]; first | omega | (exfalso; omega)
      refine z_iload_n C dX4_daysCome_39 rfl 0 rfl ?_
      refine z_wsEq (ws' := [(m, .inr (11, .int (zI (n : Int)) :: .ref g1 :: .ref g2 :: .ref g3 :: .ref g4 :: .ref g5 :: .int (zI oa) :: .int (zI (if dsOk dy t then dy + t else dy)) :: rs)), (g1, AI G 7 (fun z_ => (kd z_ : Int))), (g2, AI G 7 fg), (g3, AI G 7 hm), (g4, AI G 7 at_), (g5, AI G 7 (if dsOk dy t then goL kd fg hm at_ oa n t.toNat lg else lg))]) (by first | (exfalso; omega) | (simp only [if_neg hno])) ?_
      exact z_zret C hA hQ rfl (Nat.le_of_ble_eq_true rfl) (Nat.le_of_ble_eq_true rfl) (()) (congrArg zI (bI_f (by simp only [dsOk]; first | omega | (exfalso; omega))).symm) (rfl) (sb_e [0, 1, 2, 3, 4, 5] rfl rfl) dX4_daysCome_40
    · skip
      obtain ⟨t0, rfl⟩ := Int.eq_ofNat_of_zero_le (show 0 ≤ t by omega)
      refine z_aload_n C dX4_daysCome_34 rfl 1 rfl ?_
      refine z_iload_n C dX4_daysCome_35 rfl 2 rfl ?_
      refine z_v (ws' := fun u => [(m, .inr (11, .int (zI (n : Int)) :: .ref g1 :: .ref g2 :: .ref g3 :: .ref g4 :: .ref g5 :: .int (zI oa) :: .int (zI (dy + (t0 : Int))) :: rs)), (g1, AI G 7 (fun z_ => (kd z_ : Int))), (g2, AI G 7 fg), (g3, AI G 7 hm), (g4, AI G 7 at_), (g5, AI G 7 (goL kd fg hm at_ oa n t0 lg))]) C (z_runV (q := 0) (As := [.int (zI (t0 : Int))]) (rest := []) C (ct_X4_goDays (zl X) G m g1 g2 g3 g4 g5 kd fg hm at_ lg n oa dy rs t0 (by first | assumption | omega) (by first | assumption | omega)) (lw_V q1298 q1300 qs42 q61 q1301) rfl rfl (sb_e [0, 1, 2, 3, 4, 5] rfl rfl) (na := 1) (by decide +kernel) rfl (zrm rfl rfl (rfl) (rfl)) rfl (Nat.le_of_ble_eq_true rfl) dX4_daysCome_36) (fun u => jn_e (wr := []) [0, 1, 2, 3, 4, 5] [] [0, 1, 2, 3, 4, 5] rfl rfl rfl (by decide) rfl rfl) (fun u hp_36 => ?_)
      refine z_iload_n C dX4_daysCome_39 rfl 0 rfl ?_
      refine z_wsEq (ws' := [(m, .inr (11, .int (zI (n : Int)) :: .ref g1 :: .ref g2 :: .ref g3 :: .ref g4 :: .ref g5 :: .int (zI oa) :: .int (zI (if dsOk dy (t0 : Int) then dy + (t0 : Int) else dy)) :: rs)), (g1, AI G 7 (fun z_ => (kd z_ : Int))), (g2, AI G 7 fg), (g3, AI G 7 hm), (g4, AI G 7 at_), (g5, AI G 7 (if dsOk dy (t0 : Int) then goL kd fg hm at_ oa n (t0 : Int).toNat lg else lg))]) (by first | (exfalso; omega) | (simp only [if_pos (show dsOk dy (t0 : Int) from by simp only [dsOk]; omega), zTN])) ?_
      exact z_zret C hA hQ rfl (Nat.le_of_ble_eq_true rfl) (Nat.le_of_ble_eq_true rfl) (()) (congrArg zI (bI_f (by simp only [dsOk]; first | omega | (exfalso; omega))).symm) (rfl) (sb_e [0, 1, 2, 3, 4, 5] rfl rfl) dX4_daysCome_40
  · skip
    refine z_aload_n C dX4_daysCome_12 rfl 0 rfl ?_
    refine z_get (q := 0) (kf := 7) (v := .int (zI dy)) C rfl rfl in_X4 (by decide) q1094 (Or.inl rfl) rfl dX4_daysCome_13 ?_
    refine z_iload_n C dX4_daysCome_16 rfl 1 rfl ?_
    refine y_iadd C dX4_daysCome_17 ?_
    refine y_sipush C dX4_daysCome_18 (by decide) ?_
    refine y_icmp_gt (tgt := 28) C (by omega) (by omega) dX4_daysCome_21 (by decide) (fun c_21 => ?_) (fun c_21 => ?_)
    · skip
      refine y_iconst C dX4_daysCome_28 ?_
      refine z_istore_n (lv' := [(2, .int (zI 0)), (0, .ref m), (1, .int (zI t))]) C dX4_daysCome_29 rfl (nlt rfl) rfl ?_
      refine z_iload_n C dX4_daysCome_30 rfl 0 rfl ?_
      refine y_if_eq (tgt := 39) C (by omega) dX4_daysCome_31 (by decide) (fun c_31 => ?_) (fun c_31 => ?_)
      · skip
        have hno : ¬ dsOk dy t := by simp only [dsOk]; first | omega | (exfalso; omega)
        refine z_iload_n C dX4_daysCome_39 rfl 0 rfl ?_
        refine z_wsEq (ws' := [(m, .inr (11, .int (zI (n : Int)) :: .ref g1 :: .ref g2 :: .ref g3 :: .ref g4 :: .ref g5 :: .int (zI oa) :: .int (zI (if dsOk dy t then dy + t else dy)) :: rs)), (g1, AI G 7 (fun z_ => (kd z_ : Int))), (g2, AI G 7 fg), (g3, AI G 7 hm), (g4, AI G 7 at_), (g5, AI G 7 (if dsOk dy t then goL kd fg hm at_ oa n t.toNat lg else lg))]) (by first | (exfalso; omega) | (simp only [if_neg hno])) ?_
        exact z_zret C hA hQ rfl (Nat.le_of_ble_eq_true rfl) (Nat.le_of_ble_eq_true rfl) (()) (congrArg zI (bI_f (by simp only [dsOk]; first | omega | (exfalso; omega))).symm) (rfl) (sb_e [0, 1, 2, 3, 4, 5] rfl rfl) dX4_daysCome_40
      · skip
        obtain ⟨t0, rfl⟩ := Int.eq_ofNat_of_zero_le (show 0 ≤ t by omega)
        refine z_aload_n C dX4_daysCome_34 rfl 1 rfl ?_
        refine z_iload_n C dX4_daysCome_35 rfl 2 rfl ?_
        refine z_v (ws' := fun u => [(m, .inr (11, .int (zI (n : Int)) :: .ref g1 :: .ref g2 :: .ref g3 :: .ref g4 :: .ref g5 :: .int (zI oa) :: .int (zI (dy + (t0 : Int))) :: rs)), (g1, AI G 7 (fun z_ => (kd z_ : Int))), (g2, AI G 7 fg), (g3, AI G 7 hm), (g4, AI G 7 at_), (g5, AI G 7 (goL kd fg hm at_ oa n t0 lg))]) C (z_runV (q := 0) (As := [.int (zI (t0 : Int))]) (rest := []) C (ct_X4_goDays (zl X) G m g1 g2 g3 g4 g5 kd fg hm at_ lg n oa dy rs t0 (by first | assumption | omega) (by first | assumption | omega)) (lw_V q1298 q1300 qs42 q61 q1301) rfl rfl (sb_e [0, 1, 2, 3, 4, 5] rfl rfl) (na := 1) (by decide +kernel) rfl (zrm rfl rfl (rfl) (rfl)) rfl (Nat.le_of_ble_eq_true rfl) dX4_daysCome_36) (fun u => jn_e (wr := []) [0, 1, 2, 3, 4, 5] [] [0, 1, 2, 3, 4, 5] rfl rfl rfl (by decide) rfl rfl) (fun u hp_36 => ?_)
        refine z_iload_n C dX4_daysCome_39 rfl 0 rfl ?_
        refine z_wsEq (ws' := [(m, .inr (11, .int (zI (n : Int)) :: .ref g1 :: .ref g2 :: .ref g3 :: .ref g4 :: .ref g5 :: .int (zI oa) :: .int (zI (if dsOk dy (t0 : Int) then dy + (t0 : Int) else dy)) :: rs)), (g1, AI G 7 (fun z_ => (kd z_ : Int))), (g2, AI G 7 fg), (g3, AI G 7 hm), (g4, AI G 7 at_), (g5, AI G 7 (if dsOk dy (t0 : Int) then goL kd fg hm at_ oa n (t0 : Int).toNat lg else lg))]) (by first | (exfalso; omega) | (simp only [if_pos (show dsOk dy (t0 : Int) from by simp only [dsOk]; omega), zTN])) ?_
        exact z_zret C hA hQ rfl (Nat.le_of_ble_eq_true rfl) (Nat.le_of_ble_eq_true rfl) (()) (congrArg zI (bI_f (by simp only [dsOk]; first | omega | (exfalso; omega))).symm) (rfl) (sb_e [0, 1, 2, 3, 4, 5] rfl rfl) dX4_daysCome_40
    · skip
      refine y_iconst C dX4_daysCome_24 ?_
      refine z_goto (tgt := 29) C dX4_daysCome_25 (by decide) ?_
      refine z_istore_n (lv' := [(2, .int (zI 1)), (0, .ref m), (1, .int (zI t))]) C dX4_daysCome_29 rfl (nlt rfl) rfl ?_
      refine z_iload_n C dX4_daysCome_30 rfl 0 rfl ?_
      refine y_if_eq (tgt := 39) C (by omega) dX4_daysCome_31 (by decide) (fun c_31 => ?_) (fun c_31 => ?_)
      · skip
        have hno : ¬ dsOk dy t := by simp only [dsOk]; first | omega | (exfalso; omega)
        refine z_iload_n C dX4_daysCome_39 rfl 0 rfl ?_
        refine z_wsEq (ws' := [(m, .inr (11, .int (zI (n : Int)) :: .ref g1 :: .ref g2 :: .ref g3 :: .ref g4 :: .ref g5 :: .int (zI oa) :: .int (zI (if dsOk dy t then dy + t else dy)) :: rs)), (g1, AI G 7 (fun z_ => (kd z_ : Int))), (g2, AI G 7 fg), (g3, AI G 7 hm), (g4, AI G 7 at_), (g5, AI G 7 (if dsOk dy t then goL kd fg hm at_ oa n t.toNat lg else lg))]) (by first | (exfalso; omega) | (simp only [if_neg hno])) ?_
        exact z_zret C hA hQ rfl (Nat.le_of_ble_eq_true rfl) (Nat.le_of_ble_eq_true rfl) (()) (congrArg zI (bI_t (by simp only [dsOk]; first | omega | (exfalso; omega))).symm) (rfl) (sb_e [0, 1, 2, 3, 4, 5] rfl rfl) dX4_daysCome_40
      · skip
        obtain ⟨t0, rfl⟩ := Int.eq_ofNat_of_zero_le (show 0 ≤ t by omega)
        refine z_aload_n C dX4_daysCome_34 rfl 1 rfl ?_
        refine z_iload_n C dX4_daysCome_35 rfl 2 rfl ?_
        refine z_v (ws' := fun u => [(m, .inr (11, .int (zI (n : Int)) :: .ref g1 :: .ref g2 :: .ref g3 :: .ref g4 :: .ref g5 :: .int (zI oa) :: .int (zI (dy + (t0 : Int))) :: rs)), (g1, AI G 7 (fun z_ => (kd z_ : Int))), (g2, AI G 7 fg), (g3, AI G 7 hm), (g4, AI G 7 at_), (g5, AI G 7 (goL kd fg hm at_ oa n t0 lg))]) C (z_runV (q := 0) (As := [.int (zI (t0 : Int))]) (rest := []) C (ct_X4_goDays (zl X) G m g1 g2 g3 g4 g5 kd fg hm at_ lg n oa dy rs t0 (by first | assumption | omega) (by first | assumption | omega)) (lw_V q1298 q1300 qs42 q61 q1301) rfl rfl (sb_e [0, 1, 2, 3, 4, 5] rfl rfl) (na := 1) (by decide +kernel) rfl (zrm rfl rfl (rfl) (rfl)) rfl (Nat.le_of_ble_eq_true rfl) dX4_daysCome_36) (fun u => jn_e (wr := []) [0, 1, 2, 3, 4, 5] [] [0, 1, 2, 3, 4, 5] rfl rfl rfl (by decide) rfl rfl) (fun u hp_36 => ?_)
        refine z_iload_n C dX4_daysCome_39 rfl 0 rfl ?_
        refine z_wsEq (ws' := [(m, .inr (11, .int (zI (n : Int)) :: .ref g1 :: .ref g2 :: .ref g3 :: .ref g4 :: .ref g5 :: .int (zI oa) :: .int (zI (if dsOk dy (t0 : Int) then dy + (t0 : Int) else dy)) :: rs)), (g1, AI G 7 (fun z_ => (kd z_ : Int))), (g2, AI G 7 fg), (g3, AI G 7 hm), (g4, AI G 7 at_), (g5, AI G 7 (if dsOk dy (t0 : Int) then goL kd fg hm at_ oa n (t0 : Int).toNat lg else lg))]) (by first | (exfalso; omega) | (simp only [if_pos (show dsOk dy (t0 : Int) from by simp only [dsOk]; omega), zTN])) ?_
        exact z_zret C hA hQ rfl (Nat.le_of_ble_eq_true rfl) (Nat.le_of_ble_eq_true rfl) (()) (congrArg zI (bI_t (by simp only [dsOk]; first | omega | (exfalso; omega))).symm) (rfl) (sb_e [0, 1, 2, 3, 4, 5] rfl rfl) dX4_daysCome_40

set_option maxHeartbeats 4000000 in
theorem ct_X4_days (l : Launch) (G : ZG) (m : Nat) (g1 : Nat) (g2 : Nat) (g3 : Nat) (g4 : Nat) (g5 : Nat) (s1 : Nat) (s2 : Nat) (s3 : Nat) (s4 : Nat) (s5 : Nat) (s6 : Nat) (t1 : Nat) (t2 : Nat) (t3 : Nat) (c0 : Nat) (c1 : Nat) (c2 : Nat) (c3 : Nat) (y0 : Nat) (y1 : Nat) (thr : Int) (rdg : Int) (plc : Int) (ibd : Int) (stm : Int) (him : Int) (pl0 : Int) (itk : Int) (chd : Int) (chf : Int) (sd : Int) (ki : Value) (kd : Nat → Nat) (fg : Nat → Int) (hm : Nat → Int) (at_ : Nat → Int) (lg : Nat → Int) (n : Nat) (oa : Int) (dy : Int) (t : Int) (hL : LK n kd fg hm at_ lg oa) (rt : -2147483648 ≤ t ∧ t ≤ 2147483647) (hdy : 0 ≤ dy ∧ dy ≤ 999) : CT l yX4_days cX4_days 2 (some .int) { frames := 6, cells := 0, slots := 0, locals := 135 } G [.ref m, .int (zI t)] [(m, .inr (11, [.int (zI (n : Int)), .ref g1, .ref g2, .ref g3, .ref g4, .ref g5, .int (zI oa), .int (zI dy), .ref s1, .ref s2, .ref s3, .ref s4, .ref s5, .ref s6, .int (zI thr), .int (zI rdg), .int (zI plc), .int (zI ibd), .int (zI stm), .ref t1, .ref t2, .ref t3, .ref c0, .ref c1, .ref c2, .ref c3, .int (zI him), .int (zI pl0), .int (zI itk), ki, .int (zI chd), .int (zI chf), .ref y0, .int (zI sd), .ref y1])), (g1, AI G 7 (fun z_ => (kd z_ : Int))), (g2, AI G 7 fg), (g3, AI G 7 hm), (g4, AI G 7 at_), (g5, AI G 7 lg)] (Qi G [(m, .inr (11, [.int (zI (n : Int)), .ref g1, .ref g2, .ref g3, .ref g4, .ref g5, .int (zI oa), .int (zI dy), .ref s1, .ref s2, .ref s3, .ref s4, .ref s5, .ref s6, .int (zI thr), .int (zI rdg), .int (zI plc), .int (zI ibd), .int (zI stm), .ref t1, .ref t2, .ref t3, .ref c0, .ref c1, .ref c2, .ref c3, .int (zI him), .int (zI pl0), .int (zI itk), ki, .int (zI chd), .int (zI chf), .ref y0, .int (zI sd), .ref y1])), (g1, AI G 7 (fun z_ => (kd z_ : Int))), (g2, AI G 7 fg), (g3, AI G 7 hm), (g4, AI G 7 at_), (g5, AI G 7 lg)] (fun (r : Int32) (u : Unit) => r = zI (oDays kd fg hm at_ lg n oa dy t)) (fun u => [(m, .inr (11, [.int (zI (n : Int)), .ref g1, .ref g2, .ref g3, .ref g4, .ref g5, .int (zI oa), .int (zI (if dsOk dy t then dy + t else dy)), .ref s1, .ref s2, .ref s3, .ref s4, .ref s5, .ref s6, .int (zI 0), .int (zI rdg), .int (zI plc), .int (zI ibd), .int (zI stm), .ref t1, .ref t2, .ref t3, .ref c0, .ref c1, .ref c2, .ref c3, .int (zI him), .int (zI pl0), .int (zI itk), ki, .int (zI chd), .int (zI chf), .ref y0, .int (zI sd), .ref y1])), (g1, AI G 7 (fun z_ => (kd z_ : Int))), (g2, AI G 7 fg), (g3, AI G 7 hm), (g4, AI G 7 at_), (g5, AI G 7 (if dsOk dy t then goL kd fg hm at_ oa n t.toNat lg else lg))])) := by
  refine z_met (by decide) (Nat.le_of_ble_eq_true rfl) ?_
  intro X A hl0 hA C hQ hin
  subst hl0
  obtain ⟨hn7, hoa, hLj⟩ := id hL
  show Z X _ G 0 0 _ 0 [(0, .ref m), (1, .int (zI t))] []
  refine z_aload_n C dX4_days_0 rfl 0 rfl ?_
  refine y_iconst C dX4_days_1 ?_
  refine z_put (q := 0) (kf := 14) (ws' := [(m, .inr (11, [.int (zI (n : Int)), .ref g1, .ref g2, .ref g3, .ref g4, .ref g5, .int (zI oa), .int (zI dy), .ref s1, .ref s2, .ref s3, .ref s4, .ref s5, .ref s6, .int (zI 0), .int (zI rdg), .int (zI plc), .int (zI ibd), .int (zI stm), .ref t1, .ref t2, .ref t3, .ref c0, .ref c1, .ref c2, .ref c3, .int (zI him), .int (zI pl0), .int (zI itk), ki, .int (zI chd), .int (zI chf), .ref y0, .int (zI sd), .ref y1])), (g1, AI G 7 (fun z_ => (kd z_ : Int))), (g2, AI G 7 fg), (g3, AI G 7 hm), (g4, AI G 7 at_), (g5, AI G 7 lg)]) C rfl rfl in_X4 tyX4_ok nmX4 (by decide) q1101 rfl rfl rfl rfl rfl (nlt rfl) rfl dX4_days_2 ?_
  refine z_iload_n C dX4_days_5 rfl 1 rfl ?_
  refine y_i2l C (by omega) dX4_days_6 ?_
  refine z_lconst (v := zL 1) C dX4_days_7 (by decide) ?_
  refine z_ldc2 C q1297 dX4_days_8 ?_
  refine z_eql (y := zL 60) (by decide) ?_
  refine z_i C (z_runS (As := [.long (zL t), .long (zL 1), .long (zL 60)]) (rest := []) C (ct_X4_in (zl X) G t 1 60 (by first | assumption | omega) (by first | assumption | omega) (by first | assumption | omega)) (lw_S q1207 q1208 q61 q1209) (sb_e [] rfl rfl) (na := 3) (by decide +kernel) rfl (zrm rfl rfl (rfl) (rfl)) rfl (Nat.le_of_ble_eq_true rfl) dX4_days_11) (fun u => jn_ro (sb_e [] rfl rfl)) (fun r_11 u hp_11 => ?_)
  have hp_11 : r_11 = zI (bI (1 ≤ t ∧ t ≤ 60)) := hp_11
  subst hp_11
  refine y_bne (tgt := 19) C dX4_days_14 (by decide) (fun c_14 => ?_) (fun c_14 => ?_)
  · skip
    refine z_aload_n C dX4_days_19 rfl 0 rfl ?_
    refine z_iload_n C dX4_days_20 rfl 1 rfl ?_
    refine z_i (ws' := fun u => [(m, .inr (11, [.int (zI (n : Int)), .ref g1, .ref g2, .ref g3, .ref g4, .ref g5, .int (zI oa), .int (zI (if dsOk dy t then dy + t else dy)), .ref s1, .ref s2, .ref s3, .ref s4, .ref s5, .ref s6, .int (zI 0), .int (zI rdg), .int (zI plc), .int (zI ibd), .int (zI stm), .ref t1, .ref t2, .ref t3, .ref c0, .ref c1, .ref c2, .ref c3, .int (zI him), .int (zI pl0), .int (zI itk), ki, .int (zI chd), .int (zI chf), .ref y0, .int (zI sd), .ref y1])), (g1, AI G 7 (fun z_ => (kd z_ : Int))), (g2, AI G 7 fg), (g3, AI G 7 hm), (g4, AI G 7 at_), (g5, AI G 7 (if dsOk dy t then goL kd fg hm at_ oa n t.toNat lg else lg))]) C (z_runV (q := 0) (As := [.int (zI t)]) (rest := []) C (ct_X4_daysCome (zl X) G m g1 g2 g3 g4 g5 kd fg hm at_ lg n oa dy ([.ref s1, .ref s2, .ref s3, .ref s4, .ref s5, .ref s6, .int (zI 0), .int (zI rdg), .int (zI plc), .int (zI ibd), .int (zI stm), .ref t1, .ref t2, .ref t3, .ref c0, .ref c1, .ref c2, .ref c3, .int (zI him), .int (zI pl0), .int (zI itk), ki, .int (zI chd), .int (zI chf), .ref y0, .int (zI sd), .ref y1]) t (by first | assumption | omega) (by first | assumption | omega) (by first | assumption | omega)) (lw_V q1293 q1295 qs41 q61 q1296) rfl rfl (sb_e [0, 1, 2, 3, 4, 5] rfl rfl) (na := 1) (by decide +kernel) rfl (zrm rfl rfl (rfl) (rfl)) rfl (Nat.le_of_ble_eq_true rfl) dX4_days_21) (fun u => jn_e (wr := []) [0, 1, 2, 3, 4, 5] [] [0, 1, 2, 3, 4, 5] rfl rfl rfl (by decide) rfl rfl) (fun r_21 u hp_21 => ?_)
    have hp_21 : r_21 = zI (bI (dsOk dy t)) := hp_21
    subst hp_21
    refine y_beq (tgt := 34) C dX4_days_24 (by decide) (fun c_24 => ?_) (fun c_24 => ?_)
    · skip
      refine z_wsEq (ws' := [(m, .inr (11, [.int (zI (n : Int)), .ref g1, .ref g2, .ref g3, .ref g4, .ref g5, .int (zI oa), .int (zI dy), .ref s1, .ref s2, .ref s3, .ref s4, .ref s5, .ref s6, .int (zI 0), .int (zI rdg), .int (zI plc), .int (zI ibd), .int (zI stm), .ref t1, .ref t2, .ref t3, .ref c0, .ref c1, .ref c2, .ref c3, .int (zI him), .int (zI pl0), .int (zI itk), ki, .int (zI chd), .int (zI chf), .ref y0, .int (zI sd), .ref y1])), (g1, AI G 7 (fun z_ => (kd z_ : Int))), (g2, AI G 7 fg), (g3, AI G 7 hm), (g4, AI G 7 at_), (g5, AI G 7 lg)]) (by simp only [if_neg c_24]) ?_
      refine y_bipush C dX4_days_34 (by decide) ?_
      refine z_wsEq (ws' := [(m, .inr (11, [.int (zI (n : Int)), .ref g1, .ref g2, .ref g3, .ref g4, .ref g5, .int (zI oa), .int (zI (if dsOk dy t then dy + t else dy)), .ref s1, .ref s2, .ref s3, .ref s4, .ref s5, .ref s6, .int (zI 0), .int (zI rdg), .int (zI plc), .int (zI ibd), .int (zI stm), .ref t1, .ref t2, .ref t3, .ref c0, .ref c1, .ref c2, .ref c3, .int (zI him), .int (zI pl0), .int (zI itk), ki, .int (zI chd), .int (zI chf), .ref y0, .int (zI sd), .ref y1])), (g1, AI G 7 (fun z_ => (kd z_ : Int))), (g2, AI G 7 fg), (g3, AI G 7 hm), (g4, AI G 7 at_), (g5, AI G 7 (if dsOk dy t then goL kd fg hm at_ oa n t.toNat lg else lg))]) (by simp only [if_neg c_24]) ?_
      exact z_iret C hA hQ rfl (Nat.le_of_ble_eq_true rfl) (Nat.le_of_ble_eq_true rfl) (()) (congrArg zI (by have c := c_24; simp only [dsOk] at c; unfold oDays; repeat (first | rw [if_pos (by omega)] | rw [if_neg (by omega)]))) (sb_e [0, 1, 2, 3, 4, 5] rfl rfl) dX4_days_36
    · skip
      refine z_wsEq (ws' := [(m, .inr (11, [.int (zI (n : Int)), .ref g1, .ref g2, .ref g3, .ref g4, .ref g5, .int (zI oa), .int (zI (dy + t)), .ref s1, .ref s2, .ref s3, .ref s4, .ref s5, .ref s6, .int (zI 0), .int (zI rdg), .int (zI plc), .int (zI ibd), .int (zI stm), .ref t1, .ref t2, .ref t3, .ref c0, .ref c1, .ref c2, .ref c3, .int (zI him), .int (zI pl0), .int (zI itk), ki, .int (zI chd), .int (zI chf), .ref y0, .int (zI sd), .ref y1])), (g1, AI G 7 (fun z_ => (kd z_ : Int))), (g2, AI G 7 fg), (g3, AI G 7 hm), (g4, AI G 7 at_), (g5, AI G 7 (goL kd fg hm at_ oa n t.toNat lg))]) (by simp only [if_pos c_24]) ?_
      refine z_aload_n C dX4_days_27 rfl 0 rfl ?_
      refine z_i C (z_runV (q := 0) (As := []) (rest := []) C (ct_X4_allLonging (zl X) G m g1 g2 g3 g4 g5 kd fg hm at_ (goL kd fg hm at_ oa n t.toNat lg) n oa (dy + t) ([.ref s1, .ref s2, .ref s3, .ref s4, .ref s5, .ref s6, .int (zI 0), .int (zI rdg), .int (zI plc), .int (zI ibd), .int (zI stm), .ref t1, .ref t2, .ref t3, .ref c0, .ref c1, .ref c2, .ref c3, .int (zI him), .int (zI pl0), .int (zI itk), ki, .int (zI chd), .int (zI chf), .ref y0, .int (zI sd), .ref y1]) (hL.go t.toNat)) (lw_V q1347 q1349 qs45 q61 q1350) rfl rfl (sb_e [0, 1, 2, 3, 4, 5] rfl rfl) (na := 0) (by decide +kernel) rfl (zrm rfl rfl (rfl) (rfl)) rfl (Nat.le_of_ble_eq_true rfl) dX4_days_28) (fun u => jn_ro (sb_e [0, 1, 2, 3, 4, 5] rfl rfl)) (fun r_28 u hp_28 => ?_)
      have hp_28 : r_28 = zI (sumL (goL kd fg hm at_ oa n t.toNat lg) n) := hp_28
      subst hp_28
      refine z_goto (tgt := 36) C dX4_days_31 (by decide) ?_
      refine z_wsEq (ws' := [(m, .inr (11, [.int (zI (n : Int)), .ref g1, .ref g2, .ref g3, .ref g4, .ref g5, .int (zI oa), .int (zI (if dsOk dy t then dy + t else dy)), .ref s1, .ref s2, .ref s3, .ref s4, .ref s5, .ref s6, .int (zI 0), .int (zI rdg), .int (zI plc), .int (zI ibd), .int (zI stm), .ref t1, .ref t2, .ref t3, .ref c0, .ref c1, .ref c2, .ref c3, .int (zI him), .int (zI pl0), .int (zI itk), ki, .int (zI chd), .int (zI chf), .ref y0, .int (zI sd), .ref y1])), (g1, AI G 7 (fun z_ => (kd z_ : Int))), (g2, AI G 7 fg), (g3, AI G 7 hm), (g4, AI G 7 at_), (g5, AI G 7 (if dsOk dy t then goL kd fg hm at_ oa n t.toNat lg else lg))]) (by simp only [if_pos c_24]) ?_
      exact z_iret C hA hQ rfl (Nat.le_of_ble_eq_true rfl) (Nat.le_of_ble_eq_true rfl) (()) (congrArg zI (by have c := c_24; simp only [dsOk] at c; unfold oDays; repeat (first | rw [if_pos (by omega)] | rw [if_neg (by omega)]))) (sb_e [0, 1, 2, 3, 4, 5] rfl rfl) dX4_days_36
  · skip
    refine y_iconst C dX4_days_17 ?_
    refine z_wsEq (ws' := [(m, .inr (11, [.int (zI (n : Int)), .ref g1, .ref g2, .ref g3, .ref g4, .ref g5, .int (zI oa), .int (zI (if dsOk dy t then dy + t else dy)), .ref s1, .ref s2, .ref s3, .ref s4, .ref s5, .ref s6, .int (zI 0), .int (zI rdg), .int (zI plc), .int (zI ibd), .int (zI stm), .ref t1, .ref t2, .ref t3, .ref c0, .ref c1, .ref c2, .ref c3, .int (zI him), .int (zI pl0), .int (zI itk), ki, .int (zI chd), .int (zI chf), .ref y0, .int (zI sd), .ref y1])), (g1, AI G 7 (fun z_ => (kd z_ : Int))), (g2, AI G 7 fg), (g3, AI G 7 hm), (g4, AI G 7 at_), (g5, AI G 7 (if dsOk dy t then goL kd fg hm at_ oa n t.toNat lg else lg))]) (by simp only [if_neg (show ¬ dsOk dy t from by simp only [dsOk]; omega)]) ?_
    exact z_iret C hA hQ rfl (Nat.le_of_ble_eq_true rfl) (Nat.le_of_ble_eq_true rfl) (()) (congrArg zI (by unfold oDays; (try simp only [zTN]); (repeat (first | rw [if_pos (by omega)] | rw [if_neg (by omega)])); first | done | rfl)) (sb_e [0, 1, 2, 3, 4, 5] rfl rfl) dX4_days_18

set_option maxHeartbeats 4000000 in
theorem ct_X4_hurry (l : Launch) (G : ZG) (m : Nat) (g1 : Nat) (g2 : Nat) (g3 : Nat) (g4 : Nat) (g5 : Nat) (s1 : Nat) (s2 : Nat) (s3 : Nat) (s4 : Nat) (s5 : Nat) (s6 : Nat) (t1 : Nat) (t2 : Nat) (t3 : Nat) (c0 : Nat) (c1 : Nat) (c2 : Nat) (c3 : Nat) (y0 : Nat) (y1 : Nat) (thr : Int) (rdg : Int) (plc : Int) (ibd : Int) (stm : Int) (him : Int) (pl0 : Int) (itk : Int) (chd : Int) (chf : Int) (sd : Int) (ki : Value) (kd : Nat → Nat) (fg : Nat → Int) (hm : Nat → Int) (at_ : Nat → Int) (lg : Nat → Int) (n : Nat) (oa : Int) (dy : Int) (kc : Nat → Int) (yard : Int) (what : Int) (hL : LK n kd fg hm at_ lg oa) (ryard : -2147483648 ≤ yard ∧ yard ≤ 2147483647) (rwhat : -2147483648 ≤ what ∧ what ≤ 2147483647) : CT l yX4_hurry cX4_hurry 7 (some .int) { frames := 7, cells := 0, slots := 0, locals := 164 } G [.ref m, .int (zI yard), .int (zI what)] [(m, .inr (11, [.int (zI (n : Int)), .ref g1, .ref g2, .ref g3, .ref g4, .ref g5, .int (zI oa), .int (zI dy), .ref s1, .ref s2, .ref s3, .ref s4, .ref s5, .ref s6, .int (zI thr), .int (zI rdg), .int (zI plc), .int (zI ibd), .int (zI stm), .ref t1, .ref t2, .ref t3, .ref c0, .ref c1, .ref c2, .ref c3, .int (zI him), .int (zI pl0), .int (zI itk), ki, .int (zI chd), .int (zI chf), .ref y0, .int (zI sd), .ref y1])), (g1, AI G 7 (fun z_ => (kd z_ : Int))), (g2, AI G 7 fg), (g3, AI G 7 hm), (g4, AI G 7 at_), (g5, AI G 7 lg), (c0, AI G 38 kc)] (Qi G [(m, .inr (11, [.int (zI (n : Int)), .ref g1, .ref g2, .ref g3, .ref g4, .ref g5, .int (zI oa), .int (zI dy), .ref s1, .ref s2, .ref s3, .ref s4, .ref s5, .ref s6, .int (zI thr), .int (zI rdg), .int (zI plc), .int (zI ibd), .int (zI stm), .ref t1, .ref t2, .ref t3, .ref c0, .ref c1, .ref c2, .ref c3, .int (zI him), .int (zI pl0), .int (zI itk), ki, .int (zI chd), .int (zI chf), .ref y0, .int (zI sd), .ref y1])), (g1, AI G 7 (fun z_ => (kd z_ : Int))), (g2, AI G 7 fg), (g3, AI G 7 hm), (g4, AI G 7 at_), (g5, AI G 7 lg), (c0, AI G 38 kc)] (fun (r : Int32) (u : Value × Int × Int × (Nat → Int)) => r = zI (oHurry kd fg hm at_ lg n oa yard what)) (fun u => [(m, .inr (11, [.int (zI (n : Int)), .ref g1, .ref g2, .ref g3, .ref g4, .ref g5, .int (zI oa), .int (zI dy), .ref s1, .ref s2, .ref s3, .ref s4, .ref s5, .ref s6, .int (zI 0), .int (zI rdg), .int (zI plc), .int (zI ibd), .int (zI stm), .ref t1, .ref t2, .ref t3, .ref c0, .ref c1, .ref c2, .ref c3, .int (zI him), .int (zI u.2.1), .int (zI u.2.2.1), u.1, .int (zI chd), .int (zI chf), .ref y0, .int (zI sd), .ref y1])), (g1, AI G 7 (fun z_ => (kd z_ : Int))), (g2, AI G 7 fg), (g3, AI G 7 hm), (g4, AI G 7 at_), (g5, AI G 7 lg), (c0, AI G 38 u.2.2.2)])) := by
  refine z_met (by decide) (Nat.le_of_ble_eq_true rfl) ?_
  intro X A hl0 hA C hQ hin
  subst hl0
  obtain ⟨hn7, hoa, hLj⟩ := id hL
  show Z X _ G 0 0 _ 0 [(0, .ref m), (1, .int (zI yard)), (2, .int (zI what))] []
  refine z_aload_n C dX4_hurry_0 rfl 0 rfl ?_
  refine y_iconst C dX4_hurry_1 ?_
  refine z_put (q := 0) (kf := 14) (ws' := [(m, .inr (11, [.int (zI (n : Int)), .ref g1, .ref g2, .ref g3, .ref g4, .ref g5, .int (zI oa), .int (zI dy), .ref s1, .ref s2, .ref s3, .ref s4, .ref s5, .ref s6, .int (zI 0), .int (zI rdg), .int (zI plc), .int (zI ibd), .int (zI stm), .ref t1, .ref t2, .ref t3, .ref c0, .ref c1, .ref c2, .ref c3, .int (zI him), .int (zI pl0), .int (zI itk), ki, .int (zI chd), .int (zI chf), .ref y0, .int (zI sd), .ref y1])), (g1, AI G 7 (fun z_ => (kd z_ : Int))), (g2, AI G 7 fg), (g3, AI G 7 hm), (g4, AI G 7 at_), (g5, AI G 7 lg), (c0, AI G 38 kc)]) C rfl rfl in_X4 tyX4_ok nmX4 (by decide) q1101 rfl rfl rfl rfl rfl (nlt rfl) rfl dX4_hurry_2 ?_
  refine z_iload_n C dX4_hurry_5 rfl 1 rfl ?_
  refine z_i C (z_runS (As := [.int (zI yard)]) (rest := []) C (ct_X4_isYard (zl X) G yard (by first | assumption | omega)) (lw_S q1251 q1252 q61 q1253) (sb_e [] rfl rfl) (na := 1) (by decide +kernel) rfl (zrm rfl rfl (rfl) (rfl)) rfl (Nat.le_of_ble_eq_true rfl) dX4_hurry_6) (fun u => jn_ro (sb_e [] rfl rfl)) (fun r_6 u hp_6 => ?_)
  have hp_6 : r_6 = zI (bI (0 ≤ yard ∧ yard ≤ 20)) := hp_6
  subst hp_6
  refine y_beq (tgt := 22) C dX4_hurry_9 (by decide) (fun c_9 => ?_) (fun c_9 => ?_)
  · skip
    refine y_iconst C dX4_hurry_22 ?_
    exact z_iret C hA hQ rfl (Nat.le_of_ble_eq_true rfl) (Nat.le_of_ble_eq_true rfl) ((ki, pl0, itk, kc)) (congrArg zI (by unfold oHurry; (try simp only [zTN]); (repeat (first | rw [if_pos (by omega)] | rw [if_neg (by omega)])); first | done | rfl)) (sb_e [0, 1, 2, 3, 4, 5, 6] rfl rfl) dX4_hurry_23
  · skip
    refine z_iload_n C dX4_hurry_12 rfl 2 rfl ?_
    refine y_i2l C (by omega) dX4_hurry_13 ?_
    refine z_lconst (v := zL 0) C dX4_hurry_14 (by decide) ?_
    refine z_lconst (v := zL 1) C dX4_hurry_15 (by decide) ?_
    refine z_i C (z_runS (As := [.long (zL what), .long (zL 0), .long (zL 1)]) (rest := []) C (ct_X4_in (zl X) G what 0 1 (by first | assumption | omega) (by first | assumption | omega) (by first | assumption | omega)) (lw_S q1207 q1208 q61 q1209) (sb_e [] rfl rfl) (na := 3) (by decide +kernel) rfl (zrm rfl rfl (rfl) (rfl)) rfl (Nat.le_of_ble_eq_true rfl) dX4_hurry_16) (fun u => jn_ro (sb_e [] rfl rfl)) (fun r_16 u hp_16 => ?_)
    have hp_16 : r_16 = zI (bI (0 ≤ what ∧ what ≤ 1)) := hp_16
    subst hp_16
    refine y_bne (tgt := 24) C dX4_hurry_19 (by decide) (fun c_19 => ?_) (fun c_19 => ?_)
    · skip
      refine y_bipush C dX4_hurry_24 (by decide) ?_
      refine z_istore_n (lv' := [(3, .int (zI (-4))), (0, .ref m), (1, .int (zI yard)), (2, .int (zI what))]) C dX4_hurry_26 rfl (nlt rfl) rfl ?_
      refine y_bipush C dX4_hurry_27 (by decide) ?_
      refine z_istore (lv' := [(4, .int (zI (-4))), (3, .int (zI (-4))), (0, .ref m), (1, .int (zI yard)), (2, .int (zI what))]) C dX4_hurry_29 (nlt rfl) rfl ?_
      refine y_iconst C dX4_hurry_31 ?_
      refine z_istore (lv' := [(5, .int (zI 0)), (4, .int (zI (-4))), (3, .int (zI (-4))), (0, .ref m), (1, .int (zI yard)), (2, .int (zI what))]) C dX4_hurry_32 (nlt rfl) rfl ?_
      have L_34 : ∀ (tt : Nat) (i : Nat) (bst : Int) (lst : Int) (kib : Value) (plb : Int) (itb : Int) (kcb : Nat → Int), (i ≤ n) → (minF (tkB kd fg hm at_ lg n oa yard 0) i = (bst, lst)) → n - i = tt → Z X (cX4_hurry, 7, yX4_hurry.cls, (some .int), { frames := 7, cells := 0, slots := 0, locals := 164 }, A) G 0 0 [(m, .inr (11, [.int (zI (n : Int)), .ref g1, .ref g2, .ref g3, .ref g4, .ref g5, .int (zI oa), .int (zI dy), .ref s1, .ref s2, .ref s3, .ref s4, .ref s5, .ref s6, .int (zI 0), .int (zI rdg), .int (zI plc), .int (zI ibd), .int (zI stm), .ref t1, .ref t2, .ref t3, .ref c0, .ref c1, .ref c2, .ref c3, .int (zI him), .int (zI plb), .int (zI itb), kib, .int (zI chd), .int (zI chf), .ref y0, .int (zI sd), .ref y1])), (g1, AI G 7 (fun z_ => (kd z_ : Int))), (g2, AI G 7 fg), (g3, AI G 7 hm), (g4, AI G 7 at_), (g5, AI G 7 lg), (c0, AI G 38 kcb)] 34 [(5, .int (zI (i : Int))), (4, .int (zI lst)), (3, .int (zI bst)), (0, .ref m), (1, .int (zI yard)), (2, .int (zI what))] [] := by
        intro tt
        induction tt using Nat.strongRecOn with
        | _ tt ih_34 =>
          intro i bst lst kib plb itb kcb hi hmf ht_34
          have hmb := minF_b hmf (fun j => tkB_r kd fg hm at_ lg n oa yard 0 j) (by omega)
          have hml := minF_bl hmf (fun j => ((fun j => tkB_r kd fg hm at_ lg n oa yard 0 j) j).1)
          refine z_iload C dX4_hurry_34 0 rfl ?_
          refine z_aload_n C dX4_hurry_36 rfl 3 rfl ?_
          refine z_get (q := 0) (kf := 0) (v := .int (zI (n : Int))) C rfl rfl in_X4 (by decide) q1087 (Or.inl rfl) rfl dX4_hurry_37 ?_
          refine y_icmp_ge (tgt := 98) C (by omega) (by omega) dX4_hurry_40 (by decide) (fun c_40 => ?_) (fun c_40 => ?_)
          · skip
            rw [show i = n by omega] at hmf
            refine z_iload_n C dX4_hurry_98 rfl 5 rfl ?_
            refine y_if_ne (tgt := 106) C (by omega) dX4_hurry_99 (by decide) (fun c_99 => ?_) (fun c_99 => ?_)
            · skip
              refine z_iload C dX4_hurry_106 1 rfl ?_
              exact z_iret C hA hQ rfl (Nat.le_of_ble_eq_true rfl) (Nat.le_of_ble_eq_true rfl) ((kib, plb, itb, kcb)) (congrArg zI (by unfold oHurry; rw [if_pos (by omega)]; rw [hmf]; first | rw [if_pos (by omega)] | rw [if_neg (by omega)])) (sb_e [0, 1, 2, 3, 4, 5, 6] rfl rfl) dX4_hurry_108
            · skip
              refine z_iload_n C dX4_hurry_102 rfl 2 rfl ?_
              refine z_goto (tgt := 108) C dX4_hurry_103 (by decide) ?_
              exact z_iret C hA hQ rfl (Nat.le_of_ble_eq_true rfl) (Nat.le_of_ble_eq_true rfl) ((kib, plb, itb, kcb)) (congrArg zI (by unfold oHurry; rw [if_pos (by omega)]; rw [hmf]; first | rw [if_pos (by omega)] | rw [if_neg (by omega)])) (sb_e [0, 1, 2, 3, 4, 5, 6] rfl rfl) dX4_hurry_108
          · skip
            refine z_aload_n C dX4_hurry_43 rfl 3 rfl ?_
            refine z_iload C dX4_hurry_44 0 rfl ?_
            refine z_iload_n C dX4_hurry_46 rfl 4 rfl ?_
            refine z_i (ws' := fun u => [(m, .inr (11, [.int (zI (n : Int)), .ref g1, .ref g2, .ref g3, .ref g4, .ref g5, .int (zI oa), .int (zI dy), .ref s1, .ref s2, .ref s3, .ref s4, .ref s5, .ref s6, .int (zI 0), .int (zI rdg), .int (zI plc), .int (zI ibd), .int (zI stm), .ref t1, .ref t2, .ref t3, .ref c0, .ref c1, .ref c2, .ref c3, .int (zI him), .int (zI u.2.1), .int (zI u.2.2.1), u.1, .int (zI chd), .int (zI chf), .ref y0, .int (zI sd), .ref y1])), (g1, AI G 7 (fun z_ => (kd z_ : Int))), (g2, AI G 7 fg), (g3, AI G 7 hm), (g4, AI G 7 at_), (g5, AI G 7 lg), (c0, AI G 38 u.2.2.2)]) C (z_runV (q := 0) (As := [.int (zI (i : Int)), .int (zI yard)]) (rest := []) C (ct_X4_ownRide (zl X) G m g1 g2 g3 g4 g5 s1 s2 s3 s4 s5 s6 t1 t2 t3 c0 c1 c2 c3 y0 y1 0 rdg plc ibd stm him plb itb chd chf sd kib kd fg hm at_ lg n oa dy kcb i yard (by first | assumption | omega) (by omega) (by first | assumption | omega)) (lw_V q1355 q1357 qs46 q61 q1358) rfl rfl (sb_e [0, 1, 2, 3, 4, 5, 6] rfl rfl) (na := 2) (by decide +kernel) rfl (zrm rfl rfl (rfl) (rfl)) rfl (Nat.le_of_ble_eq_true rfl) dX4_hurry_47) (fun u => jn_e (wr := []) [0, 1, 2, 3, 4, 5, 6] [] [0, 1, 2, 3, 4, 5, 6] rfl rfl rfl (by decide) rfl rfl) (fun r_47 u hp_47 => ?_)
            obtain ⟨ki9_47, pl9_47, itk9_47, kc9_47⟩ := u
            have hp_47 : r_47 = zI (tkB kd fg hm at_ lg n oa yard 0 i) := hp_47
            subst hp_47
            have htk := tkB_r kd fg hm at_ lg n oa yard 0 i
            refine z_istore (lv' := [(6, .int (zI (tkB kd fg hm at_ lg n oa yard 0 i))), (5, .int (zI (i : Int))), (4, .int (zI lst)), (3, .int (zI bst)), (0, .ref m), (1, .int (zI yard)), (2, .int (zI what))]) C dX4_hurry_50 (nlt rfl) rfl ?_
            refine z_iload C dX4_hurry_52 2 rfl ?_
            refine y_if_lt (tgt := 64) C (by omega) dX4_hurry_54 (by decide) (fun c_54 => ?_) (fun c_54 => ?_)
            · skip
              refine z_iload C dX4_hurry_64 1 rfl ?_
              refine z_goto (tgt := 70) C dX4_hurry_66 (by decide) ?_
              refine z_istore_n (lv' := [(3, .int (zI (i : Int))), (6, .int (zI (tkB kd fg hm at_ lg n oa yard 0 i))), (5, .int (zI (i : Int))), (4, .int (zI lst)), (0, .ref m), (1, .int (zI yard)), (2, .int (zI what))]) C dX4_hurry_70 rfl (nlt rfl) rfl ?_
              refine z_iload C dX4_hurry_71 3 rfl ?_
              refine y_if_lt (tgt := 83) C (by omega) dX4_hurry_73 (by decide) (fun c_73 => ?_) (fun c_73 => ?_)
              · skip
                refine z_iload C dX4_hurry_83 1 rfl ?_
                refine z_goto (tgt := 90) C dX4_hurry_85 (by decide) ?_
                refine z_istore (lv' := [(4, .int (zI (tkB kd fg hm at_ lg n oa yard 0 i))), (3, .int (zI (i : Int))), (6, .int (zI (tkB kd fg hm at_ lg n oa yard 0 i))), (5, .int (zI (i : Int))), (0, .ref m), (1, .int (zI yard)), (2, .int (zI what))]) C dX4_hurry_90 (nlt rfl) rfl ?_
                refine y_iinc (lv' := [(5, .int (zI ((i : Int) + 1))), (4, .int (zI (tkB kd fg hm at_ lg n oa yard 0 i))), (3, .int (zI (i : Int))), (6, .int (zI (tkB kd fg hm at_ lg n oa yard 0 i))), (0, .ref m), (1, .int (zI yard)), (2, .int (zI what))]) C dX4_hurry_92 (q := 3) rfl (nlt rfl) rfl ?_
                refine z_goto (tgt := 34) C dX4_hurry_95 (by decide) ?_
                refine z_lv (lv' := [(5, .int (zI ((i : Int) + 1))), (4, .int (zI (tkB kd fg hm at_ lg n oa yard 0 i))), (3, .int (zI (i : Int))), (0, .ref m), (1, .int (zI yard)), (2, .int (zI what))]) [0, 1, 2, 4, 5, 6] rfl ?_
                exact ih_34 _ (by omega) (i + 1) (i : Int) (tkB kd fg hm at_ lg n oa yard 0 i) ki9_47 pl9_47 itk9_47 kc9_47 (by first | assumption | omega) (by first | (exfalso; omega) | exact minF_t' hmf (by omega) | exact minF_f' hmf (by omega)) rfl
              · skip
                refine z_iload C dX4_hurry_76 1 rfl ?_
                refine z_iload C dX4_hurry_78 3 rfl ?_
                refine y_icmp_ge (tgt := 88) C (by omega) (by omega) dX4_hurry_80 (by decide) (fun c_80 => ?_) (fun c_80 => ?_)
                · skip
                  refine z_iload C dX4_hurry_88 3 rfl ?_
                  refine z_istore (lv' := [(4, .int (zI lst)), (3, .int (zI (i : Int))), (6, .int (zI (tkB kd fg hm at_ lg n oa yard 0 i))), (5, .int (zI (i : Int))), (0, .ref m), (1, .int (zI yard)), (2, .int (zI what))]) C dX4_hurry_90 (nlt rfl) rfl ?_
                  refine y_iinc (lv' := [(5, .int (zI ((i : Int) + 1))), (4, .int (zI lst)), (3, .int (zI (i : Int))), (6, .int (zI (tkB kd fg hm at_ lg n oa yard 0 i))), (0, .ref m), (1, .int (zI yard)), (2, .int (zI what))]) C dX4_hurry_92 (q := 3) rfl (nlt rfl) rfl ?_
                  refine z_goto (tgt := 34) C dX4_hurry_95 (by decide) ?_
                  refine z_lv (lv' := [(5, .int (zI ((i : Int) + 1))), (4, .int (zI lst)), (3, .int (zI (i : Int))), (0, .ref m), (1, .int (zI yard)), (2, .int (zI what))]) [0, 1, 2, 4, 5, 6] rfl ?_
                  exact ih_34 _ (by omega) (i + 1) (i : Int) lst ki9_47 pl9_47 itk9_47 kc9_47 (by first | assumption | omega) (by first | (exfalso; omega) | exact minF_t' hmf (by omega) | exact minF_f' hmf (by omega)) rfl
                · skip
                  refine z_iload C dX4_hurry_83 1 rfl ?_
                  refine z_goto (tgt := 90) C dX4_hurry_85 (by decide) ?_
                  refine z_istore (lv' := [(4, .int (zI (tkB kd fg hm at_ lg n oa yard 0 i))), (3, .int (zI (i : Int))), (6, .int (zI (tkB kd fg hm at_ lg n oa yard 0 i))), (5, .int (zI (i : Int))), (0, .ref m), (1, .int (zI yard)), (2, .int (zI what))]) C dX4_hurry_90 (nlt rfl) rfl ?_
                  refine y_iinc (lv' := [(5, .int (zI ((i : Int) + 1))), (4, .int (zI (tkB kd fg hm at_ lg n oa yard 0 i))), (3, .int (zI (i : Int))), (6, .int (zI (tkB kd fg hm at_ lg n oa yard 0 i))), (0, .ref m), (1, .int (zI yard)), (2, .int (zI what))]) C dX4_hurry_92 (q := 3) rfl (nlt rfl) rfl ?_
                  refine z_goto (tgt := 34) C dX4_hurry_95 (by decide) ?_
                  refine z_lv (lv' := [(5, .int (zI ((i : Int) + 1))), (4, .int (zI (tkB kd fg hm at_ lg n oa yard 0 i))), (3, .int (zI (i : Int))), (0, .ref m), (1, .int (zI yard)), (2, .int (zI what))]) [0, 1, 2, 4, 5, 6] rfl ?_
                  exact ih_34 _ (by omega) (i + 1) (i : Int) (tkB kd fg hm at_ lg n oa yard 0 i) ki9_47 pl9_47 itk9_47 kc9_47 (by first | assumption | omega) (by first | (exfalso; omega) | exact minF_t' hmf (by omega) | exact minF_f' hmf (by omega)) rfl
            · skip
              refine z_iload C dX4_hurry_57 0 rfl ?_
              refine z_iload C dX4_hurry_59 2 rfl ?_
              refine y_icmp_ge (tgt := 69) C (by omega) (by omega) dX4_hurry_61 (by decide) (fun c_61 => ?_) (fun c_61 => ?_)
              · skip
                refine z_iload_n C dX4_hurry_69 rfl 3 rfl ?_
                refine z_istore_n (lv' := [(3, .int (zI bst)), (6, .int (zI (tkB kd fg hm at_ lg n oa yard 0 i))), (5, .int (zI (i : Int))), (4, .int (zI lst)), (0, .ref m), (1, .int (zI yard)), (2, .int (zI what))]) C dX4_hurry_70 rfl (nlt rfl) rfl ?_
                refine z_iload C dX4_hurry_71 3 rfl ?_
                refine y_if_lt (tgt := 83) C (by omega) dX4_hurry_73 (by decide) (fun c_73 => ?_) (fun c_73 => ?_)
                · skip
                  refine z_iload C dX4_hurry_83 1 rfl ?_
                  refine z_goto (tgt := 90) C dX4_hurry_85 (by decide) ?_
                  refine z_istore (lv' := [(4, .int (zI (tkB kd fg hm at_ lg n oa yard 0 i))), (3, .int (zI bst)), (6, .int (zI (tkB kd fg hm at_ lg n oa yard 0 i))), (5, .int (zI (i : Int))), (0, .ref m), (1, .int (zI yard)), (2, .int (zI what))]) C dX4_hurry_90 (nlt rfl) rfl ?_
                  refine y_iinc (lv' := [(5, .int (zI ((i : Int) + 1))), (4, .int (zI (tkB kd fg hm at_ lg n oa yard 0 i))), (3, .int (zI bst)), (6, .int (zI (tkB kd fg hm at_ lg n oa yard 0 i))), (0, .ref m), (1, .int (zI yard)), (2, .int (zI what))]) C dX4_hurry_92 (q := 3) rfl (nlt rfl) rfl ?_
                  refine z_goto (tgt := 34) C dX4_hurry_95 (by decide) ?_
                  refine z_lv (lv' := [(5, .int (zI ((i : Int) + 1))), (4, .int (zI (tkB kd fg hm at_ lg n oa yard 0 i))), (3, .int (zI bst)), (0, .ref m), (1, .int (zI yard)), (2, .int (zI what))]) [0, 1, 2, 4, 5, 6] rfl ?_
                  exact ih_34 _ (by omega) (i + 1) bst (tkB kd fg hm at_ lg n oa yard 0 i) ki9_47 pl9_47 itk9_47 kc9_47 (by first | assumption | omega) (by first | (exfalso; omega) | exact minF_t' hmf (by omega) | exact minF_f' hmf (by omega)) rfl
                · skip
                  refine z_iload C dX4_hurry_76 1 rfl ?_
                  refine z_iload C dX4_hurry_78 3 rfl ?_
                  refine y_icmp_ge (tgt := 88) C (by omega) (by omega) dX4_hurry_80 (by decide) (fun c_80 => ?_) (fun c_80 => ?_)
                  · skip
                    refine z_iload C dX4_hurry_88 3 rfl ?_
                    refine z_istore (lv' := [(4, .int (zI lst)), (3, .int (zI bst)), (6, .int (zI (tkB kd fg hm at_ lg n oa yard 0 i))), (5, .int (zI (i : Int))), (0, .ref m), (1, .int (zI yard)), (2, .int (zI what))]) C dX4_hurry_90 (nlt rfl) rfl ?_
                    refine y_iinc (lv' := [(5, .int (zI ((i : Int) + 1))), (4, .int (zI lst)), (3, .int (zI bst)), (6, .int (zI (tkB kd fg hm at_ lg n oa yard 0 i))), (0, .ref m), (1, .int (zI yard)), (2, .int (zI what))]) C dX4_hurry_92 (q := 3) rfl (nlt rfl) rfl ?_
                    refine z_goto (tgt := 34) C dX4_hurry_95 (by decide) ?_
                    refine z_lv (lv' := [(5, .int (zI ((i : Int) + 1))), (4, .int (zI lst)), (3, .int (zI bst)), (0, .ref m), (1, .int (zI yard)), (2, .int (zI what))]) [0, 1, 2, 4, 5, 6] rfl ?_
                    exact ih_34 _ (by omega) (i + 1) bst lst ki9_47 pl9_47 itk9_47 kc9_47 (by first | assumption | omega) (by first | (exfalso; omega) | exact minF_t' hmf (by omega) | exact minF_f' hmf (by omega)) rfl
                  · skip
                    refine z_iload C dX4_hurry_83 1 rfl ?_
                    refine z_goto (tgt := 90) C dX4_hurry_85 (by decide) ?_
                    refine z_istore (lv' := [(4, .int (zI (tkB kd fg hm at_ lg n oa yard 0 i))), (3, .int (zI bst)), (6, .int (zI (tkB kd fg hm at_ lg n oa yard 0 i))), (5, .int (zI (i : Int))), (0, .ref m), (1, .int (zI yard)), (2, .int (zI what))]) C dX4_hurry_90 (nlt rfl) rfl ?_
                    refine y_iinc (lv' := [(5, .int (zI ((i : Int) + 1))), (4, .int (zI (tkB kd fg hm at_ lg n oa yard 0 i))), (3, .int (zI bst)), (6, .int (zI (tkB kd fg hm at_ lg n oa yard 0 i))), (0, .ref m), (1, .int (zI yard)), (2, .int (zI what))]) C dX4_hurry_92 (q := 3) rfl (nlt rfl) rfl ?_
                    refine z_goto (tgt := 34) C dX4_hurry_95 (by decide) ?_
                    refine z_lv (lv' := [(5, .int (zI ((i : Int) + 1))), (4, .int (zI (tkB kd fg hm at_ lg n oa yard 0 i))), (3, .int (zI bst)), (0, .ref m), (1, .int (zI yard)), (2, .int (zI what))]) [0, 1, 2, 4, 5, 6] rfl ?_
                    exact ih_34 _ (by omega) (i + 1) bst (tkB kd fg hm at_ lg n oa yard 0 i) ki9_47 pl9_47 itk9_47 kc9_47 (by first | assumption | omega) (by first | (exfalso; omega) | exact minF_t' hmf (by omega) | exact minF_f' hmf (by omega)) rfl
              · skip
                refine z_iload C dX4_hurry_64 1 rfl ?_
                refine z_goto (tgt := 70) C dX4_hurry_66 (by decide) ?_
                refine z_istore_n (lv' := [(3, .int (zI (i : Int))), (6, .int (zI (tkB kd fg hm at_ lg n oa yard 0 i))), (5, .int (zI (i : Int))), (4, .int (zI lst)), (0, .ref m), (1, .int (zI yard)), (2, .int (zI what))]) C dX4_hurry_70 rfl (nlt rfl) rfl ?_
                refine z_iload C dX4_hurry_71 3 rfl ?_
                refine y_if_lt (tgt := 83) C (by omega) dX4_hurry_73 (by decide) (fun c_73 => ?_) (fun c_73 => ?_)
                · skip
                  refine z_iload C dX4_hurry_83 1 rfl ?_
                  refine z_goto (tgt := 90) C dX4_hurry_85 (by decide) ?_
                  refine z_istore (lv' := [(4, .int (zI (tkB kd fg hm at_ lg n oa yard 0 i))), (3, .int (zI (i : Int))), (6, .int (zI (tkB kd fg hm at_ lg n oa yard 0 i))), (5, .int (zI (i : Int))), (0, .ref m), (1, .int (zI yard)), (2, .int (zI what))]) C dX4_hurry_90 (nlt rfl) rfl ?_
                  refine y_iinc (lv' := [(5, .int (zI ((i : Int) + 1))), (4, .int (zI (tkB kd fg hm at_ lg n oa yard 0 i))), (3, .int (zI (i : Int))), (6, .int (zI (tkB kd fg hm at_ lg n oa yard 0 i))), (0, .ref m), (1, .int (zI yard)), (2, .int (zI what))]) C dX4_hurry_92 (q := 3) rfl (nlt rfl) rfl ?_
                  refine z_goto (tgt := 34) C dX4_hurry_95 (by decide) ?_
                  refine z_lv (lv' := [(5, .int (zI ((i : Int) + 1))), (4, .int (zI (tkB kd fg hm at_ lg n oa yard 0 i))), (3, .int (zI (i : Int))), (0, .ref m), (1, .int (zI yard)), (2, .int (zI what))]) [0, 1, 2, 4, 5, 6] rfl ?_
                  exact ih_34 _ (by omega) (i + 1) (i : Int) (tkB kd fg hm at_ lg n oa yard 0 i) ki9_47 pl9_47 itk9_47 kc9_47 (by first | assumption | omega) (by first | (exfalso; omega) | exact minF_t' hmf (by omega) | exact minF_f' hmf (by omega)) rfl
                · skip
                  refine z_iload C dX4_hurry_76 1 rfl ?_
                  refine z_iload C dX4_hurry_78 3 rfl ?_
                  refine y_icmp_ge (tgt := 88) C (by omega) (by omega) dX4_hurry_80 (by decide) (fun c_80 => ?_) (fun c_80 => ?_)
                  · skip
                    refine z_iload C dX4_hurry_88 3 rfl ?_
                    refine z_istore (lv' := [(4, .int (zI lst)), (3, .int (zI (i : Int))), (6, .int (zI (tkB kd fg hm at_ lg n oa yard 0 i))), (5, .int (zI (i : Int))), (0, .ref m), (1, .int (zI yard)), (2, .int (zI what))]) C dX4_hurry_90 (nlt rfl) rfl ?_
                    refine y_iinc (lv' := [(5, .int (zI ((i : Int) + 1))), (4, .int (zI lst)), (3, .int (zI (i : Int))), (6, .int (zI (tkB kd fg hm at_ lg n oa yard 0 i))), (0, .ref m), (1, .int (zI yard)), (2, .int (zI what))]) C dX4_hurry_92 (q := 3) rfl (nlt rfl) rfl ?_
                    refine z_goto (tgt := 34) C dX4_hurry_95 (by decide) ?_
                    refine z_lv (lv' := [(5, .int (zI ((i : Int) + 1))), (4, .int (zI lst)), (3, .int (zI (i : Int))), (0, .ref m), (1, .int (zI yard)), (2, .int (zI what))]) [0, 1, 2, 4, 5, 6] rfl ?_
                    exact ih_34 _ (by omega) (i + 1) (i : Int) lst ki9_47 pl9_47 itk9_47 kc9_47 (by first | assumption | omega) (by first | (exfalso; omega) | exact minF_t' hmf (by omega) | exact minF_f' hmf (by omega)) rfl
                  · skip
                    refine z_iload C dX4_hurry_83 1 rfl ?_
                    refine z_goto (tgt := 90) C dX4_hurry_85 (by decide) ?_
                    refine z_istore (lv' := [(4, .int (zI (tkB kd fg hm at_ lg n oa yard 0 i))), (3, .int (zI (i : Int))), (6, .int (zI (tkB kd fg hm at_ lg n oa yard 0 i))), (5, .int (zI (i : Int))), (0, .ref m), (1, .int (zI yard)), (2, .int (zI what))]) C dX4_hurry_90 (nlt rfl) rfl ?_
                    refine y_iinc (lv' := [(5, .int (zI ((i : Int) + 1))), (4, .int (zI (tkB kd fg hm at_ lg n oa yard 0 i))), (3, .int (zI (i : Int))), (6, .int (zI (tkB kd fg hm at_ lg n oa yard 0 i))), (0, .ref m), (1, .int (zI yard)), (2, .int (zI what))]) C dX4_hurry_92 (q := 3) rfl (nlt rfl) rfl ?_
                    refine z_goto (tgt := 34) C dX4_hurry_95 (by decide) ?_
                    refine z_lv (lv' := [(5, .int (zI ((i : Int) + 1))), (4, .int (zI (tkB kd fg hm at_ lg n oa yard 0 i))), (3, .int (zI (i : Int))), (0, .ref m), (1, .int (zI yard)), (2, .int (zI what))]) [0, 1, 2, 4, 5, 6] rfl ?_
                    exact ih_34 _ (by omega) (i + 1) (i : Int) (tkB kd fg hm at_ lg n oa yard 0 i) ki9_47 pl9_47 itk9_47 kc9_47 (by first | assumption | omega) (by first | (exfalso; omega) | exact minF_t' hmf (by omega) | exact minF_f' hmf (by omega)) rfl
      exact L_34 _ 0 (-4) (-4) ki pl0 itk kc (by first | assumption | omega) (rfl) rfl
    · skip
      refine y_iconst C dX4_hurry_22 ?_
      exact z_iret C hA hQ rfl (Nat.le_of_ble_eq_true rfl) (Nat.le_of_ble_eq_true rfl) ((ki, pl0, itk, kc)) (congrArg zI (by unfold oHurry; (try simp only [zTN]); (repeat (first | rw [if_pos (by omega)] | rw [if_neg (by omega)])); first | done | rfl)) (sb_e [0, 1, 2, 3, 4, 5, 6] rfl rfl) dX4_hurry_23

set_option maxHeartbeats 4000000 in
theorem ct_X4_fastest (l : Launch) (G : ZG) (m : Nat) (g1 : Nat) (g2 : Nat) (g3 : Nat) (g4 : Nat) (g5 : Nat) (s1 : Nat) (s2 : Nat) (s3 : Nat) (s4 : Nat) (s5 : Nat) (s6 : Nat) (t1 : Nat) (t2 : Nat) (t3 : Nat) (c0 : Nat) (c1 : Nat) (c2 : Nat) (c3 : Nat) (y0 : Nat) (y1 : Nat) (thr : Int) (rdg : Int) (plc : Int) (ibd : Int) (stm : Int) (him : Int) (pl0 : Int) (itk : Int) (chd : Int) (chf : Int) (sd : Int) (ki : Value) (kd : Nat → Nat) (fg : Nat → Int) (hm : Nat → Int) (at_ : Nat → Int) (lg : Nat → Int) (n : Nat) (oa : Int) (dy : Int) (kc : Nat → Int) (t : Int) (hL : LK n kd fg hm at_ lg oa) (rt : -2147483648 ≤ t ∧ t ≤ 2147483647) : CT l yX4_fastest cX4_fastest 4 (some .int) { frames := 5, cells := 0, slots := 0, locals := 113 } G [.ref m, .int (zI t)] [(m, .inr (11, [.int (zI (n : Int)), .ref g1, .ref g2, .ref g3, .ref g4, .ref g5, .int (zI oa), .int (zI dy), .ref s1, .ref s2, .ref s3, .ref s4, .ref s5, .ref s6, .int (zI thr), .int (zI rdg), .int (zI plc), .int (zI ibd), .int (zI stm), .ref t1, .ref t2, .ref t3, .ref c0, .ref c1, .ref c2, .ref c3, .int (zI him), .int (zI pl0), .int (zI itk), ki, .int (zI chd), .int (zI chf), .ref y0, .int (zI sd), .ref y1])), (g1, AI G 7 (fun z_ => (kd z_ : Int))), (g2, AI G 7 fg), (g3, AI G 7 hm), (g4, AI G 7 at_), (g5, AI G 7 lg), (c0, AI G 38 kc)] (Qi G [(m, .inr (11, [.int (zI (n : Int)), .ref g1, .ref g2, .ref g3, .ref g4, .ref g5, .int (zI oa), .int (zI dy), .ref s1, .ref s2, .ref s3, .ref s4, .ref s5, .ref s6, .int (zI thr), .int (zI rdg), .int (zI plc), .int (zI ibd), .int (zI stm), .ref t1, .ref t2, .ref t3, .ref c0, .ref c1, .ref c2, .ref c3, .int (zI him), .int (zI pl0), .int (zI itk), ki, .int (zI chd), .int (zI chf), .ref y0, .int (zI sd), .ref y1])), (g1, AI G 7 (fun z_ => (kd z_ : Int))), (g2, AI G 7 fg), (g3, AI G 7 hm), (g4, AI G 7 at_), (g5, AI G 7 lg), (c0, AI G 38 kc)] (fun (r : Int32) (u : Value × Int × Int × (Nat → Int)) => r = zI (oFastest kd fg hm at_ lg n oa t)) (fun u => [(m, .inr (11, [.int (zI (n : Int)), .ref g1, .ref g2, .ref g3, .ref g4, .ref g5, .int (zI oa), .int (zI dy), .ref s1, .ref s2, .ref s3, .ref s4, .ref s5, .ref s6, .int (zI 0), .int (zI rdg), .int (zI plc), .int (zI ibd), .int (zI stm), .ref t1, .ref t2, .ref t3, .ref c0, .ref c1, .ref c2, .ref c3, .int (zI him), .int (zI u.2.1), .int (zI u.2.2.1), u.1, .int (zI chd), .int (zI chf), .ref y0, .int (zI sd), .ref y1])), (g1, AI G 7 (fun z_ => (kd z_ : Int))), (g2, AI G 7 fg), (g3, AI G 7 hm), (g4, AI G 7 at_), (g5, AI G 7 lg), (c0, AI G 38 u.2.2.2)])) := by
  refine z_met (by decide) (Nat.le_of_ble_eq_true rfl) ?_
  intro X A hl0 hA C hQ hin
  subst hl0
  obtain ⟨hn7, hoa, hLj⟩ := id hL
  show Z X _ G 0 0 _ 0 [(0, .ref m), (1, .int (zI t))] []
  refine z_aload_n C dX4_fastest_0 rfl 0 rfl ?_
  refine y_iconst C dX4_fastest_1 ?_
  refine z_put (q := 0) (kf := 14) (ws' := [(m, .inr (11, [.int (zI (n : Int)), .ref g1, .ref g2, .ref g3, .ref g4, .ref g5, .int (zI oa), .int (zI dy), .ref s1, .ref s2, .ref s3, .ref s4, .ref s5, .ref s6, .int (zI 0), .int (zI rdg), .int (zI plc), .int (zI ibd), .int (zI stm), .ref t1, .ref t2, .ref t3, .ref c0, .ref c1, .ref c2, .ref c3, .int (zI him), .int (zI pl0), .int (zI itk), ki, .int (zI chd), .int (zI chf), .ref y0, .int (zI sd), .ref y1])), (g1, AI G 7 (fun z_ => (kd z_ : Int))), (g2, AI G 7 fg), (g3, AI G 7 hm), (g4, AI G 7 at_), (g5, AI G 7 lg), (c0, AI G 38 kc)]) C rfl rfl in_X4 tyX4_ok nmX4 (by decide) q1101 rfl rfl rfl rfl rfl (nlt rfl) rfl dX4_fastest_2 ?_
  refine z_iload_n C dX4_fastest_5 rfl 1 rfl ?_
  refine y_i2l C (by omega) dX4_fastest_6 ?_
  refine z_lconst (v := zL 0) C dX4_fastest_7 (by decide) ?_
  refine z_ldc2 C q1297 dX4_fastest_8 ?_
  refine z_eql (y := zL 60) (by decide) ?_
  refine z_i C (z_runS (As := [.long (zL t), .long (zL 0), .long (zL 60)]) (rest := []) C (ct_X4_in (zl X) G t 0 60 (by first | assumption | omega) (by first | assumption | omega) (by first | assumption | omega)) (lw_S q1207 q1208 q61 q1209) (sb_e [] rfl rfl) (na := 3) (by decide +kernel) rfl (zrm rfl rfl (rfl) (rfl)) rfl (Nat.le_of_ble_eq_true rfl) dX4_fastest_11) (fun u => jn_ro (sb_e [] rfl rfl)) (fun r_11 u hp_11 => ?_)
  have hp_11 : r_11 = zI (bI (0 ≤ t ∧ t ≤ 60)) := hp_11
  subst hp_11
  refine y_bne (tgt := 19) C dX4_fastest_14 (by decide) (fun c_14 => ?_) (fun c_14 => ?_)
  · skip
    obtain ⟨t0, rfl⟩ := Int.eq_ofNat_of_zero_le (show 0 ≤ t by omega)
    refine z_aload_n C dX4_fastest_19 rfl 0 rfl ?_
    refine z_v (ws' := fun u => [(m, .inr (11, [.int (zI (n : Int)), .ref g1, .ref g2, .ref g3, .ref g4, .ref g5, .int (zI oa), .int (zI dy), .ref s1, .ref s2, .ref s3, .ref s4, .ref s5, .ref s6, .int (zI 0), .int (zI rdg), .int (zI plc), .int (zI ibd), .int (zI stm), .ref t1, .ref t2, .ref t3, .ref c0, .ref c1, .ref c2, .ref c3, .int (zI him), .int (zI 38), .int (zI 1), .ref c0, .int (zI chd), .int (zI chf), .ref y0, .int (zI sd), .ref y1])), (g1, AI G 7 (fun z_ => (kd z_ : Int))), (g2, AI G 7 fg), (g3, AI G 7 hm), (g4, AI G 7 at_), (g5, AI G 7 lg), (c0, AI G 38 (encF n oa dy kd fg hm at_ lg))]) C (z_runV (q := 0) (As := []) (rest := []) C (ct_X4_open (zl X) G m g1 g2 g3 g4 g5 s1 s2 s3 s4 s5 s6 t1 t2 t3 c0 c1 c2 c3 y0 y1 0 rdg plc ibd stm him pl0 itk chd chf sd ki kd fg hm at_ lg n oa dy kc ) (lw_V q1231 q1233 qs28 q61 q1234) rfl rfl (sb_e [0, 1, 2, 3, 4, 5, 6] rfl rfl) (na := 0) (by decide +kernel) rfl (zrm rfl rfl (rfl) (rfl)) rfl (Nat.le_of_ble_eq_true rfl) dX4_fastest_20) (fun u => jn_e (wr := []) [0, 1, 2, 3, 4, 5, 6] [] [0, 1, 2, 3, 4, 5, 6] rfl rfl rfl (by decide) rfl rfl) (fun u hp_20 => ?_)
    refine z_aload_n C dX4_fastest_23 rfl 0 rfl ?_
    refine z_iload_n C dX4_fastest_24 rfl 1 rfl ?_
    refine z_v (ws' := fun u => [(m, .inr (11, [.int (zI (n : Int)), .ref g1, .ref g2, .ref g3, .ref g4, .ref g5, .int (zI oa), .int (zI (dy + (t0 : Int))), .ref s1, .ref s2, .ref s3, .ref s4, .ref s5, .ref s6, .int (zI 0), .int (zI rdg), .int (zI plc), .int (zI ibd), .int (zI stm), .ref t1, .ref t2, .ref t3, .ref c0, .ref c1, .ref c2, .ref c3, .int (zI him), .int (zI 38), .int (zI 1), .ref c0, .int (zI chd), .int (zI chf), .ref y0, .int (zI sd), .ref y1])), (g1, AI G 7 (fun z_ => (kd z_ : Int))), (g2, AI G 7 fg), (g3, AI G 7 hm), (g4, AI G 7 at_), (g5, AI G 7 (goL kd fg hm at_ oa n t0 lg)), (c0, AI G 38 (encF n oa dy kd fg hm at_ lg))]) C (z_runV (q := 0) (As := [.int (zI (t0 : Int))]) (rest := []) C (ct_X4_goDays (zl X) G m g1 g2 g3 g4 g5 kd fg hm at_ lg n oa dy ([.ref s1, .ref s2, .ref s3, .ref s4, .ref s5, .ref s6, .int (zI 0), .int (zI rdg), .int (zI plc), .int (zI ibd), .int (zI stm), .ref t1, .ref t2, .ref t3, .ref c0, .ref c1, .ref c2, .ref c3, .int (zI him), .int (zI 38), .int (zI 1), .ref c0, .int (zI chd), .int (zI chf), .ref y0, .int (zI sd), .ref y1]) t0 (by first | assumption | omega) (by first | assumption | omega)) (lw_V q1298 q1300 qs42 q61 q1301) rfl rfl (sb_e [0, 1, 2, 3, 4, 5] rfl rfl) (na := 1) (by decide +kernel) rfl (zrm rfl rfl (rfl) (rfl)) rfl (Nat.le_of_ble_eq_true rfl) dX4_fastest_25) (fun u => jn_e (wr := [(c0, AI G 38 (encF n oa dy kd fg hm at_ lg))]) [0, 1, 2, 3, 4, 5] [6] [1, 2, 3, 4, 5, 6, 0] rfl rfl rfl (by decide) rfl rfl) (fun u hp_25 => ?_)
    refine y_bipush C dX4_fastest_28 (by decide) ?_
    refine z_istore_n (lv' := [(2, .int (zI (-4))), (0, .ref m), (1, .int (zI (t0 : Int)))]) C dX4_fastest_30 rfl (nlt rfl) rfl ?_
    refine y_iconst C dX4_fastest_31 ?_
    refine z_istore_n (lv' := [(3, .int (zI 0)), (2, .int (zI (-4))), (0, .ref m), (1, .int (zI (t0 : Int)))]) C dX4_fastest_32 rfl (nlt rfl) rfl ?_
    have L_33 : ∀ (tt : Nat) (i : Nat) (bst : Int) (lst : Int), (i ≤ n) → (minF (npF kd fg (goL kd fg hm at_ oa n t0 lg)) i = (bst, lst)) → n - i = tt → Z X (cX4_fastest, 4, yX4_fastest.cls, (some .int), { frames := 5, cells := 0, slots := 0, locals := 113 }, A) G 0 0 [(m, .inr (11, [.int (zI (n : Int)), .ref g1, .ref g2, .ref g3, .ref g4, .ref g5, .int (zI oa), .int (zI (dy + (t0 : Int))), .ref s1, .ref s2, .ref s3, .ref s4, .ref s5, .ref s6, .int (zI 0), .int (zI rdg), .int (zI plc), .int (zI ibd), .int (zI stm), .ref t1, .ref t2, .ref t3, .ref c0, .ref c1, .ref c2, .ref c3, .int (zI him), .int (zI 38), .int (zI 1), .ref c0, .int (zI chd), .int (zI chf), .ref y0, .int (zI sd), .ref y1])), (g1, AI G 7 (fun z_ => (kd z_ : Int))), (g2, AI G 7 fg), (g3, AI G 7 hm), (g4, AI G 7 at_), (g5, AI G 7 (goL kd fg hm at_ oa n t0 lg)), (c0, AI G 38 (encF n oa dy kd fg hm at_ lg))] 33 [(3, .int (zI (i : Int))), (2, .int (zI bst)), (0, .ref m), (1, .int (zI (t0 : Int)))] [] := by
      intro tt
      induction tt using Nat.strongRecOn with
      | _ tt ih_33 =>
        intro i bst lst hi hmf ht_33
        have hmw := minF_w _ _ _ _ hmf
        refine z_iload_n C dX4_fastest_33 rfl 0 rfl ?_
        refine z_aload_n C dX4_fastest_34 rfl 2 rfl ?_
        refine z_get (q := 0) (kf := 0) (v := .int (zI (n : Int))) C rfl rfl in_X4 (by decide) q1087 (Or.inl rfl) rfl dX4_fastest_35 ?_
        refine y_icmp_ge (tgt := 70) C (by omega) (by omega) dX4_fastest_38 (by decide) (fun c_38 => ?_) (fun c_38 => ?_)
        · skip
          rw [show i = n by omega] at hmf
          refine z_aload_n C dX4_fastest_70 rfl 2 rfl ?_
          refine z_v (ws' := fun u => [(m, .inr (11, [.int (zI (n : Int)), .ref g1, .ref g2, .ref g3, .ref g4, .ref g5, .int (zI oa), .int (zI dy), .ref s1, .ref s2, .ref s3, .ref s4, .ref s5, .ref s6, .int (zI 0), .int (zI rdg), .int (zI plc), .int (zI ibd), .int (zI stm), .ref t1, .ref t2, .ref t3, .ref c0, .ref c1, .ref c2, .ref c3, .int (zI him), .int (zI 38), .int (zI 0), .ref c0, .int (zI chd), .int (zI chf), .ref y0, .int (zI sd), .ref y1])), (g1, AI G 7 (fun z_ => (kd z_ : Int))), (g2, AI G 7 fg), (g3, AI G 7 hm), (g4, AI G 7 at_), (g5, AI G 7 lg), (c0, AI G 38 (encF n oa dy kd fg hm at_ lg))]) C (z_runV (q := 0) (As := []) (rest := []) C (ct_X4_close (zl X) G m g1 g2 g3 g4 g5 s1 s2 s3 s4 s5 s6 t1 t2 t3 c0 c1 c2 c3 y0 y1 0 rdg plc ibd stm him 38 1 chd chf sd (.ref c0) (fun z_ => (kd z_ : Int)) fg hm at_ (goL kd fg hm at_ oa n t0 lg) n oa (dy + (t0 : Int)) kd fg hm at_ lg n oa dy ) (lw_V q1302 q1304 qs43 q61 q1305) rfl rfl (sb_e [0, 1, 2, 3, 4, 5, 6] rfl rfl) (na := 0) (by decide +kernel) rfl (zrm rfl rfl (rfl) (rfl)) rfl (Nat.le_of_ble_eq_true rfl) dX4_fastest_71) (fun u => jn_e (wr := []) [0, 1, 2, 3, 4, 5, 6] [] [0, 1, 2, 3, 4, 5, 6] rfl rfl rfl (by decide) rfl rfl) (fun u hp_71 => ?_)
          refine z_iload_n C dX4_fastest_74 rfl 1 rfl ?_
          exact z_iret C hA hQ rfl (Nat.le_of_ble_eq_true rfl) (Nat.le_of_ble_eq_true rfl) (((.ref c0), 38, 0, (encF n oa dy kd fg hm at_ lg))) (congrArg zI (by unfold oFastest; rw [if_pos (by omega)]; simp only [zTN]; rw [hmf])) (sb_e [0, 1, 2, 3, 4, 5, 6] rfl rfl) dX4_fastest_75
        · skip
          refine z_iload_n C dX4_fastest_41 rfl 1 rfl ?_
          refine y_if_lt (tgt := 58) C (by omega) dX4_fastest_42 (by decide) (fun c_42 => ?_) (fun c_42 => ?_)
          · skip
            refine z_iload_n C dX4_fastest_58 rfl 0 rfl ?_
            refine z_goto (tgt := 63) C dX4_fastest_59 (by decide) ?_
            refine z_istore_n (lv' := [(2, .int (zI (i : Int))), (3, .int (zI (i : Int))), (0, .ref m), (1, .int (zI (t0 : Int)))]) C dX4_fastest_63 rfl (nlt rfl) rfl ?_
            refine y_iinc (lv' := [(3, .int (zI ((i : Int) + 1))), (2, .int (zI (i : Int))), (0, .ref m), (1, .int (zI (t0 : Int)))]) C dX4_fastest_64 (q := 1) rfl (nlt rfl) rfl ?_
            refine z_goto (tgt := 33) C dX4_fastest_67 (by decide) ?_
            exact ih_33 _ (by omega) (i + 1) (i : Int) (npF kd fg (goL kd fg hm at_ oa n t0 lg) i) (by first | assumption | omega) (by first | exact minF_t' hmf (by unfold npF; omega) | exact minF_f' hmf (by unfold npF; omega)) rfl
          · skip
            obtain ⟨b, rfl⟩ := Int.eq_ofNat_of_zero_le (show 0 ≤ bst by omega)
            have hmw2 : (b : Nat) < i ∧ lst = -(paceZ (kd b) (fg b) (goL kd fg hm at_ oa n t0 lg b)) := by
              rcases hmw with ⟨q1, q2, q3⟩ | ⟨q1, q2, q3⟩
              · omega
              · exact ⟨by omega, q3⟩
            have hpi := (hL.go t0).pace (j := i) (by omega)
            have hpb := (hL.go t0).pace (j := b) (by omega)
            refine z_aload_n C dX4_fastest_45 rfl 2 rfl ?_
            refine z_iload_n C dX4_fastest_46 rfl 0 rfl ?_
            refine z_i C (z_runV (q := 0) (As := [.int (zI (i : Int))]) (rest := []) C (ct_X4_paceOf (zl X) G m g1 g2 g3 g4 g5 kd fg hm at_ (goL kd fg hm at_ oa n t0 lg) n oa (dy + (t0 : Int)) ([.ref s1, .ref s2, .ref s3, .ref s4, .ref s5, .ref s6, .int (zI 0), .int (zI rdg), .int (zI plc), .int (zI ibd), .int (zI stm), .ref t1, .ref t2, .ref t3, .ref c0, .ref c1, .ref c2, .ref c3, .int (zI him), .int (zI 38), .int (zI 1), .ref c0, .int (zI chd), .int (zI chf), .ref y0, .int (zI sd), .ref y1]) i (hL.go t0) (by omega)) (lw_V q1274 q1276 qs37 q61 q1277) rfl rfl (sb_e [0, 1, 2, 3, 4, 5] rfl rfl) (na := 1) (by decide +kernel) rfl (zrm rfl rfl (rfl) (rfl)) rfl (Nat.le_of_ble_eq_true rfl) dX4_fastest_47) (fun u => jn_ro (sb_e [0, 1, 2, 3, 4, 5] rfl rfl)) (fun r_47 u hp_47 => ?_)
            have hp_47 : r_47 = zI (paceZ (kd i) (fg i) ((goL kd fg hm at_ oa n t0 lg) i)) := hp_47
            subst hp_47
            refine z_aload_n C dX4_fastest_50 rfl 2 rfl ?_
            refine z_iload_n C dX4_fastest_51 rfl 1 rfl ?_
            refine z_i C (z_runV (q := 0) (As := [.int (zI (b : Int))]) (rest := [.int (zI (paceZ (kd i) (fg i) ((goL kd fg hm at_ oa n t0 lg) i)))]) C (ct_X4_paceOf (zl X) G m g1 g2 g3 g4 g5 kd fg hm at_ (goL kd fg hm at_ oa n t0 lg) n oa (dy + (t0 : Int)) ([.ref s1, .ref s2, .ref s3, .ref s4, .ref s5, .ref s6, .int (zI 0), .int (zI rdg), .int (zI plc), .int (zI ibd), .int (zI stm), .ref t1, .ref t2, .ref t3, .ref c0, .ref c1, .ref c2, .ref c3, .int (zI him), .int (zI 38), .int (zI 1), .ref c0, .int (zI chd), .int (zI chf), .ref y0, .int (zI sd), .ref y1]) b (hL.go t0) (by omega)) (lw_V q1274 q1276 qs37 q61 q1277) rfl rfl (sb_e [0, 1, 2, 3, 4, 5] rfl rfl) (na := 1) (by decide +kernel) rfl (zrm rfl rfl (rfl) (rfl)) rfl (Nat.le_of_ble_eq_true rfl) dX4_fastest_52) (fun u => jn_ro (sb_e [0, 1, 2, 3, 4, 5] rfl rfl)) (fun r_52 u hp_52 => ?_)
            have hp_52 : r_52 = zI (paceZ (kd b) (fg b) ((goL kd fg hm at_ oa n t0 lg) b)) := hp_52
            subst hp_52
            refine y_icmp_le (tgt := 62) C (by omega) (by omega) dX4_fastest_55 (by decide) (fun c_55 => ?_) (fun c_55 => ?_)
            · skip
              refine z_iload_n C dX4_fastest_62 rfl 1 rfl ?_
              refine z_istore_n (lv' := [(2, .int (zI (b : Int))), (3, .int (zI (i : Int))), (0, .ref m), (1, .int (zI (t0 : Int)))]) C dX4_fastest_63 rfl (nlt rfl) rfl ?_
              refine y_iinc (lv' := [(3, .int (zI ((i : Int) + 1))), (2, .int (zI (b : Int))), (0, .ref m), (1, .int (zI (t0 : Int)))]) C dX4_fastest_64 (q := 1) rfl (nlt rfl) rfl ?_
              refine z_goto (tgt := 33) C dX4_fastest_67 (by decide) ?_
              exact ih_33 _ (by omega) (i + 1) (b : Int) lst (by first | assumption | omega) (by first | exact minF_t' hmf (by unfold npF; omega) | exact minF_f' hmf (by unfold npF; omega)) rfl
            · skip
              refine z_iload_n C dX4_fastest_58 rfl 0 rfl ?_
              refine z_goto (tgt := 63) C dX4_fastest_59 (by decide) ?_
              refine z_istore_n (lv' := [(2, .int (zI (i : Int))), (3, .int (zI (i : Int))), (0, .ref m), (1, .int (zI (t0 : Int)))]) C dX4_fastest_63 rfl (nlt rfl) rfl ?_
              refine y_iinc (lv' := [(3, .int (zI ((i : Int) + 1))), (2, .int (zI (i : Int))), (0, .ref m), (1, .int (zI (t0 : Int)))]) C dX4_fastest_64 (q := 1) rfl (nlt rfl) rfl ?_
              refine z_goto (tgt := 33) C dX4_fastest_67 (by decide) ?_
              exact ih_33 _ (by omega) (i + 1) (i : Int) (npF kd fg (goL kd fg hm at_ oa n t0 lg) i) (by first | assumption | omega) (by first | exact minF_t' hmf (by unfold npF; omega) | exact minF_f' hmf (by unfold npF; omega)) rfl
    exact L_33 _ 0 (-4) (-4) (by first | assumption | omega) (rfl) rfl
  · skip
    refine y_iconst C dX4_fastest_17 ?_
    exact z_iret C hA hQ rfl (Nat.le_of_ble_eq_true rfl) (Nat.le_of_ble_eq_true rfl) ((ki, pl0, itk, kc)) (congrArg zI (by unfold oFastest; (try simp only [zTN]); (repeat (first | rw [if_pos (by omega)] | rw [if_neg (by omega)])); first | done | rfl)) (sb_e [0, 1, 2, 3, 4, 5, 6] rfl rfl) dX4_fastest_18

theorem or_0 (a : Int32) : a ||| zI 0 = a := by show a ||| (0 : Int32) = a; exact Int32.or_zero
set_option maxHeartbeats 4000000 in
theorem ct_X4_away (l : Launch) (G : ZG) (m : Nat) (g1 : Nat) (g2 : Nat) (g3 : Nat) (g4 : Nat) (g5 : Nat) (s1 : Nat) (s2 : Nat) (s3 : Nat) (s4 : Nat) (s5 : Nat) (s6 : Nat) (t1 : Nat) (t2 : Nat) (t3 : Nat) (c0 : Nat) (c1 : Nat) (c2 : Nat) (c3 : Nat) (y0 : Nat) (y1 : Nat) (thr : Int) (rdg : Int) (plc : Int) (ibd : Int) (stm : Int) (him : Int) (pl0 : Int) (itk : Int) (chd : Int) (chf : Int) (sd : Int) (ki : Value) (kd : Nat → Nat) (fg : Nat → Int) (hm : Nat → Int) (at_ : Nat → Int) (lg : Nat → Int) (n : Nat) (oa : Int) (dy : Int) (hL : LK n kd fg hm at_ lg oa) : CT l yX4_away cX4_away 3 (some .int) { frames := 2, cells := 0, slots := 0, locals := 46 } G [.ref m] [(m, .inr (11, [.int (zI (n : Int)), .ref g1, .ref g2, .ref g3, .ref g4, .ref g5, .int (zI oa), .int (zI dy), .ref s1, .ref s2, .ref s3, .ref s4, .ref s5, .ref s6, .int (zI thr), .int (zI rdg), .int (zI plc), .int (zI ibd), .int (zI stm), .ref t1, .ref t2, .ref t3, .ref c0, .ref c1, .ref c2, .ref c3, .int (zI him), .int (zI pl0), .int (zI itk), ki, .int (zI chd), .int (zI chf), .ref y0, .int (zI sd), .ref y1])), (g1, AI G 7 (fun z_ => (kd z_ : Int))), (g2, AI G 7 fg), (g3, AI G 7 hm), (g4, AI G 7 at_), (g5, AI G 7 lg)] (Qi G [(m, .inr (11, [.int (zI (n : Int)), .ref g1, .ref g2, .ref g3, .ref g4, .ref g5, .int (zI oa), .int (zI dy), .ref s1, .ref s2, .ref s3, .ref s4, .ref s5, .ref s6, .int (zI thr), .int (zI rdg), .int (zI plc), .int (zI ibd), .int (zI stm), .ref t1, .ref t2, .ref t3, .ref c0, .ref c1, .ref c2, .ref c3, .int (zI him), .int (zI pl0), .int (zI itk), ki, .int (zI chd), .int (zI chf), .ref y0, .int (zI sd), .ref y1])), (g1, AI G 7 (fun z_ => (kd z_ : Int))), (g2, AI G 7 fg), (g3, AI G 7 hm), (g4, AI G 7 at_), (g5, AI G 7 lg)] (fun (r : Int32) (u : Unit) => r = awayF kd hm at_ oa n) (fun u => [(m, .inr (11, [.int (zI (n : Int)), .ref g1, .ref g2, .ref g3, .ref g4, .ref g5, .int (zI oa), .int (zI dy), .ref s1, .ref s2, .ref s3, .ref s4, .ref s5, .ref s6, .int (zI 0), .int (zI rdg), .int (zI plc), .int (zI ibd), .int (zI stm), .ref t1, .ref t2, .ref t3, .ref c0, .ref c1, .ref c2, .ref c3, .int (zI him), .int (zI pl0), .int (zI itk), ki, .int (zI chd), .int (zI chf), .ref y0, .int (zI sd), .ref y1])), (g1, AI G 7 (fun z_ => (kd z_ : Int))), (g2, AI G 7 fg), (g3, AI G 7 hm), (g4, AI G 7 at_), (g5, AI G 7 lg)])) := by
  refine z_met (by decide) (Nat.le_of_ble_eq_true rfl) ?_
  intro X A hl0 hA C hQ hin
  subst hl0
  obtain ⟨hn7, hoa, hLj⟩ := id hL
  show Z X _ G 0 0 _ 0 [(0, .ref m)] []
  refine z_aload_n C dX4_away_0 rfl 0 rfl ?_
  refine y_iconst C dX4_away_1 ?_
  refine z_put (q := 0) (kf := 14) (ws' := [(m, .inr (11, [.int (zI (n : Int)), .ref g1, .ref g2, .ref g3, .ref g4, .ref g5, .int (zI oa), .int (zI dy), .ref s1, .ref s2, .ref s3, .ref s4, .ref s5, .ref s6, .int (zI 0), .int (zI rdg), .int (zI plc), .int (zI ibd), .int (zI stm), .ref t1, .ref t2, .ref t3, .ref c0, .ref c1, .ref c2, .ref c3, .int (zI him), .int (zI pl0), .int (zI itk), ki, .int (zI chd), .int (zI chf), .ref y0, .int (zI sd), .ref y1])), (g1, AI G 7 (fun z_ => (kd z_ : Int))), (g2, AI G 7 fg), (g3, AI G 7 hm), (g4, AI G 7 at_), (g5, AI G 7 lg)]) C rfl rfl in_X4 tyX4_ok nmX4 (by decide) q1101 rfl rfl rfl rfl rfl (nlt rfl) rfl dX4_away_2 ?_
  refine y_iconst C dX4_away_5 ?_
  refine z_istore_n (lv' := [(1, .int (zI 0)), (0, .ref m)]) C dX4_away_6 rfl (nlt rfl) rfl ?_
  refine y_iconst C dX4_away_7 ?_
  refine z_istore_n (lv' := [(2, .int (zI 0)), (1, .int (zI 0)), (0, .ref m)]) C dX4_away_8 rfl (nlt rfl) rfl ?_
  have L_9 : ∀ (tt : Nat) (i : Nat) (set : Int32), (i ≤ n) → (set = awayF kd hm at_ oa i) → n - i = tt → Z X (cX4_away, 3, yX4_away.cls, (some .int), { frames := 2, cells := 0, slots := 0, locals := 46 }, A) G 0 0 [(m, .inr (11, [.int (zI (n : Int)), .ref g1, .ref g2, .ref g3, .ref g4, .ref g5, .int (zI oa), .int (zI dy), .ref s1, .ref s2, .ref s3, .ref s4, .ref s5, .ref s6, .int (zI 0), .int (zI rdg), .int (zI plc), .int (zI ibd), .int (zI stm), .ref t1, .ref t2, .ref t3, .ref c0, .ref c1, .ref c2, .ref c3, .int (zI him), .int (zI pl0), .int (zI itk), ki, .int (zI chd), .int (zI chf), .ref y0, .int (zI sd), .ref y1])), (g1, AI G 7 (fun z_ => (kd z_ : Int))), (g2, AI G 7 fg), (g3, AI G 7 hm), (g4, AI G 7 at_), (g5, AI G 7 lg)] 9 [(2, .int (zI (i : Int))), (1, .int set), (0, .ref m)] [] := by
    intro tt
    induction tt using Nat.strongRecOn with
    | _ tt ih_9 =>
      intro i set hi hst ht_9
      refine z_iload_n C dX4_away_9 rfl 0 rfl ?_
      refine z_aload_n C dX4_away_10 rfl 2 rfl ?_
      refine z_get (q := 0) (kf := 0) (v := .int (zI (n : Int))) C rfl rfl in_X4 (by decide) q1087 (Or.inl rfl) rfl dX4_away_11 ?_
      refine y_icmp_ge (tgt := 47) C (by omega) (by omega) dX4_away_14 (by decide) (fun c_14 => ?_) (fun c_14 => ?_)
      · skip
        refine z_iload_n C dX4_away_47 rfl 1 rfl ?_
        rw [show i = n by omega] at hst
        exact z_iret C hA hQ rfl (Nat.le_of_ble_eq_true rfl) (Nat.le_of_ble_eq_true rfl) (()) (hst) (sb_e [0, 1, 2, 3, 4, 5] rfl rfl) dX4_away_48
      · skip
        refine z_iload_n C dX4_away_17 rfl 1 rfl ?_
        refine z_aload_n C dX4_away_18 rfl 2 rfl ?_
        refine z_get (q := 0) (kf := 4) (v := .ref g4) C rfl rfl in_X4 (by decide) q1091 (Or.inl rfl) rfl dX4_away_19 ?_
        refine z_iload_n C dX4_away_22 rfl 0 rfl ?_
        refine y_iald (q := 4) (t0 := 0) (v := at_ i) C rfl rfl (by omega) (by decide) rfl dX4_away_23 ?_
        refine z_aload_n C dX4_away_24 rfl 2 rfl ?_
        obtain ⟨hk1, hf1, hm1, ha1, hl1⟩ := hLj i (by omega)
        have hg := goalZ_r (k := kd i) hm1 ha1 hoa
        refine z_iload_n C dX4_away_25 rfl 0 rfl ?_
        refine z_i C (z_runV (q := 0) (As := [.int (zI (i : Int))]) (rest := [.int (zI (at_ i)), .int set]) C (ct_X4_goalOf (zl X) G m g1 g2 g3 g4 g5 kd fg hm at_ lg n oa dy ([.ref s1, .ref s2, .ref s3, .ref s4, .ref s5, .ref s6, .int (zI 0), .int (zI rdg), .int (zI plc), .int (zI ibd), .int (zI stm), .ref t1, .ref t2, .ref t3, .ref c0, .ref c1, .ref c2, .ref c3, .int (zI him), .int (zI pl0), .int (zI itk), ki, .int (zI chd), .int (zI chf), .ref y0, .int (zI sd), .ref y1]) i (by first | assumption | omega) (by omega)) (lw_V q1267 q1269 qs36 q61 q1270) rfl rfl (sb_e [0, 1, 2, 3, 4, 5] rfl rfl) (na := 1) (by decide +kernel) rfl (zrm rfl rfl (rfl) (rfl)) rfl (Nat.le_of_ble_eq_true rfl) dX4_away_26) (fun u => jn_ro (sb_e [0, 1, 2, 3, 4, 5] rfl rfl)) (fun r_26 u hp_26 => ?_)
        have hp_26 : r_26 = zI (goalZ (kd i) (hm i) (at_ i) oa) := hp_26
        subst hp_26
        refine y_icmp_eq (tgt := 38) C (by omega) (by omega) dX4_away_29 (by decide) (fun c_29 => ?_) (fun c_29 => ?_)
        · skip
          refine y_iconst C dX4_away_38 ?_
          refine z_ior C dX4_away_39 rfl ?_
          refine z_istore_n (lv' := [(1, .int (set ||| (zI 0))), (2, .int (zI (i : Int))), (0, .ref m)]) C dX4_away_40 rfl (nlt rfl) rfl ?_
          refine y_iinc (lv' := [(2, .int (zI ((i : Int) + 1))), (1, .int (set ||| (zI 0))), (0, .ref m)]) C dX4_away_41 (q := 1) rfl (nlt rfl) rfl ?_
          refine z_goto (tgt := 9) C dX4_away_44 (by decide) ?_
          exact ih_9 _ (by omega) (i + 1) ((set ||| (zI 0))) (by first | assumption | omega) (by first | rw [hst, awayF_t c_29] | rw [hst, awayF_f c_29]) rfl
        · skip
          refine y_iconst C dX4_away_32 ?_
          refine z_iload_n C dX4_away_33 rfl 0 rfl ?_
          refine z_ishl C dX4_away_34 rfl ?_
          refine z_goto (tgt := 39) C dX4_away_35 (by decide) ?_
          refine z_ior C dX4_away_39 rfl ?_
          refine z_istore_n (lv' := [(1, .int (set ||| ((zI 1) <<< ((zI (i : Int)) &&& 31)))), (2, .int (zI (i : Int))), (0, .ref m)]) C dX4_away_40 rfl (nlt rfl) rfl ?_
          refine y_iinc (lv' := [(2, .int (zI ((i : Int) + 1))), (1, .int (set ||| ((zI 1) <<< ((zI (i : Int)) &&& 31)))), (0, .ref m)]) C dX4_away_41 (q := 1) rfl (nlt rfl) rfl ?_
          refine z_goto (tgt := 9) C dX4_away_44 (by decide) ?_
          exact ih_9 _ (by omega) (i + 1) ((set ||| ((zI 1) <<< ((zI (i : Int)) &&& 31)))) (by first | assumption | omega) (by first | rw [hst, awayF_t c_29] | rw [hst, awayF_f c_29]) rfl
  exact L_9 _ 0 (zI 0) (by first | assumption | omega) (rfl) rfl

