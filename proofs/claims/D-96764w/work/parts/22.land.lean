/-! LAND: pure laws and contracts -/
set_option maxRecDepth 100000
def cmpZ (a b : Int) : Int := if a < b then -1 else if a = b then 0 else 1
def dayZ (k : Nat) (f hm at_ oa lg : Int) : Int := if at_ = goalZ k hm at_ oa then lg / 2 else min 99 (lg + pinesZ k f (zAbs (goalZ k hm at_ oa - at_)))
theorem dayZ_t {k : Nat} {f hm at_ oa lg : Int} (h : at_ = goalZ k hm at_ oa) : dayZ k f hm at_ oa lg = lg / 2 := if_pos h
theorem dayZ_f {k : Nat} {f hm at_ oa lg : Int} (h : ¬ at_ = goalZ k hm at_ oa) : dayZ k f hm at_ oa lg = min 99 (lg + pinesZ k f (zAbs (goalZ k hm at_ oa - at_))) := if_neg h
/-- the horses' longings a day later, the first n of them -/
def dayL (kd : Nat → Nat) (fg hm at_ : Nat → Int) (oa : Int) (n : Nat) (lg : Nat → Int) : Nat → Int := fun j => if j < n then dayZ (kd j) (fg j) (hm j) (at_ j) oa (lg j) else lg j
def dayB (b : Int) (kd : Nat → Nat) (fg hm at_ : Nat → Int) (oa : Int) (n : Nat) (lg : Nat → Int) : Nat → Int := if b = 0 then dayL kd fg hm at_ oa n lg else lg
def goL (kd : Nat → Nat) (fg hm at_ : Nat → Int) (oa : Int) (n : Nat) : Nat → (Nat → Int) → Nat → Int
  | 0, lg => lg
  | t + 1, lg => dayL kd fg hm at_ oa n (goL kd fg hm at_ oa n t lg)
theorem dayL_0 {kd : Nat → Nat} {fg hm at_ : Nat → Int} {oa : Int} {lg : Nat → Int} : dayL kd fg hm at_ oa 0 lg = lg := by funext j; simp [dayL]
theorem dayL_succ {kd : Nat → Nat} {fg hm at_ : Nat → Int} {oa : Int} {i : Nat} {lg : Nat → Int} : va_up (dayL kd fg hm at_ oa i lg) i (dayZ (kd i) (fg i) (hm i) (at_ i) oa (dayL kd fg hm at_ oa i lg i)) = dayL kd fg hm at_ oa (i + 1) lg := by
  funext j
  have e : dayL kd fg hm at_ oa i lg i = lg i := by simp [dayL]
  rw [e]
  unfold va_up dayL
  by_cases h : j = i
  · subst h; simp
  · by_cases h2 : j < i
    · have h3 : j < i + 1 := by omega
      simp [h, h2, h3]
    · have h3 : ¬ j < i + 1 := by omega
      simp [h, h2, h3]
/-- a land in its bounds -/
def LK (n : Nat) (kd : Nat → Nat) (fg hm at_ lg : Nat → Int) (oa : Int) : Prop := n ≤ 7 ∧ (0 ≤ oa ∧ oa ≤ 20) ∧ ∀ j, j < n → kd j < 8 ∧ (0 ≤ fg j ∧ fg j ≤ 9) ∧ (0 ≤ hm j ∧ hm j ≤ 20) ∧ (0 ≤ at_ j ∧ at_ j ≤ 20) ∧ (0 ≤ lg j ∧ lg j ≤ 99)
theorem dayZ_r {k : Nat} {f hm at_ oa lg : Int} (hf : 0 ≤ f ∧ f ≤ 9) (h1 : 0 ≤ hm ∧ hm ≤ 20) (h2 : 0 ≤ at_ ∧ at_ ≤ 20) (h3 : 0 ≤ oa ∧ oa ≤ 20) (h4 : 0 ≤ lg ∧ lg ≤ 99) : 0 ≤ dayZ k f hm at_ oa lg ∧ dayZ k f hm at_ oa lg ≤ 99 := by
  have hg := goalZ_r (k := k) h1 h2 h3
  have ha : 0 ≤ zAbs (goalZ k hm at_ oa - at_) ∧ zAbs (goalZ k hm at_ oa - at_) ≤ 20 := ⟨zAbs_nn _, zAbs_le.mpr ⟨by omega, by omega⟩⟩
  have hp := pinesZ_r (k := k) hf ha
  unfold dayZ
  split <;> omega
theorem LK.day {n m : Nat} {kd : Nat → Nat} {fg hm at_ lg : Nat → Int} {oa : Int} (h : LK n kd fg hm at_ lg oa) : LK n kd fg hm at_ (dayL kd fg hm at_ oa m lg) oa := by
  obtain ⟨h1, h2, h3⟩ := h
  refine ⟨h1, h2, fun j hj => ?_⟩
  obtain ⟨a, b, c, d, e⟩ := h3 j hj
  refine ⟨a, b, c, d, ?_⟩
  unfold dayL
  by_cases hm0 : j < m
  · rw [if_pos hm0]; exact dayZ_r b c d h2 e
  · rw [if_neg hm0]; exact e
theorem LK.dayB {n m : Nat} {kd : Nat → Nat} {fg hm at_ lg : Nat → Int} {oa b : Int} (h : LK n kd fg hm at_ lg oa) : LK n kd fg hm at_ (dayB b kd fg hm at_ oa m lg) oa := by
  show LK n kd fg hm at_ (if b = 0 then dayL kd fg hm at_ oa m lg else lg) oa
  split
  · exact h.day
  · exact h
theorem LK.go {n : Nat} {kd : Nat → Nat} {fg hm at_ lg : Nat → Int} {oa : Int} (h : LK n kd fg hm at_ lg oa) (t : Nat) : LK n kd fg hm at_ (goL kd fg hm at_ oa n t lg) oa := by
  induction t with
  | zero => exact h
  | succ t ih => exact ih.day
/-- one day of a ride: where one is then -/
def stepZ (k : Nat) (f hm at_ oa lg yard : Int) : Int :=
  if at_ < yard then at_ + min (yard - at_) (if at_ < goalZ k hm at_ oa then min (paceZ k f lg) (goalZ k hm at_ oa - at_) else walkZ k)
  else at_ - min (at_ - yard) (if goalZ k hm at_ oa < at_ then min (paceZ k f lg) (at_ - goalZ k hm at_ oa) else walkZ k)
theorem stepZ_r {k : Nat} {f hm at_ oa lg yard : Int} (hf : 0 ≤ f ∧ f ≤ 9) (h1 : 0 ≤ hm ∧ hm ≤ 20) (h2 : 0 ≤ at_ ∧ at_ ≤ 20) (h3 : 0 ≤ oa ∧ oa ≤ 20) (h4 : 0 ≤ lg ∧ lg ≤ 99) (h5 : 0 ≤ yard ∧ yard ≤ 20) : 0 ≤ stepZ k f hm at_ oa lg yard ∧ stepZ k f hm at_ oa lg yard ≤ 20 := by
  have hg := goalZ_r (k := k) h1 h2 h3
  have hp := paceZ_r (k := k) hf h4
  have hw := walkZ_r k
  unfold stepZ
  split <;> split <;> omega
/-- a day's step takes one nearer -/
theorem stepZ_near {k : Nat} {f hm at_ oa lg yard : Int} (hf : 0 ≤ f ∧ f ≤ 9) (h1 : 0 ≤ hm ∧ hm ≤ 20) (h2 : 0 ≤ at_ ∧ at_ ≤ 20) (h3 : 0 ≤ oa ∧ oa ≤ 20) (h4 : 0 ≤ lg ∧ lg ≤ 99) (h5 : 0 ≤ yard ∧ yard ≤ 20) (hne : ¬ at_ = yard) : (stepZ k f hm at_ oa lg yard - yard).natAbs < (at_ - yard).natAbs := by
  have hg := goalZ_r (k := k) h1 h2 h3
  have hp := paceZ_r (k := k) hf h4
  have hw := walkZ_r k
  unfold stepZ
  split <;> split <;> omega
theorem LK.at {n : Nat} {kd : Nat → Nat} {fg hm at_ lg : Nat → Int} {oa x : Int} {j : Nat} (h : LK n kd fg hm at_ lg oa) (hx : 0 ≤ x ∧ x ≤ 20) : LK n kd fg hm (va_up at_ j x) lg oa := by
  obtain ⟨h1, h2, h3⟩ := h
  refine ⟨h1, h2, fun i hi => ?_⟩
  obtain ⟨a, b, c, d, e⟩ := h3 i hi
  refine ⟨a, b, c, ?_, e⟩
  unfold va_up
  split
  · exact hx
  · exact d
/-- a ride of at most t days: how many, and where and how all are then -/
def rideF (kd : Nat → Nat) (fg hm : Nat → Int) (oa : Int) (n j : Nat) (yard : Int) : Nat → (Nat → Int) → (Nat → Int) → Nat × (Nat → Int) × (Nat → Int)
  | 0, at_, lg => (0, at_, lg)
  | t + 1, at_, lg => if at_ j = yard then (0, at_, lg) else
      ((rideF kd fg hm oa n j yard t (va_up at_ j (stepZ (kd j) (fg j) (hm j) (at_ j) oa (lg j) yard)) (dayL kd fg hm (va_up at_ j (stepZ (kd j) (fg j) (hm j) (at_ j) oa (lg j) yard)) oa n lg)).1 + 1,
       (rideF kd fg hm oa n j yard t (va_up at_ j (stepZ (kd j) (fg j) (hm j) (at_ j) oa (lg j) yard)) (dayL kd fg hm (va_up at_ j (stepZ (kd j) (fg j) (hm j) (at_ j) oa (lg j) yard)) oa n lg)).2)
abbrev rdN (kd : Nat → Nat) (fg hm : Nat → Int) (oa : Int) (n j : Nat) (yard : Int) (at_ lg : Nat → Int) : Nat := (rideF kd fg hm oa n j yard 20 at_ lg).1
abbrev rdA (kd : Nat → Nat) (fg hm : Nat → Int) (oa : Int) (n j : Nat) (yard : Int) (at_ lg : Nat → Int) : Nat → Int := (rideF kd fg hm oa n j yard 20 at_ lg).2.1
abbrev rdL (kd : Nat → Nat) (fg hm : Nat → Int) (oa : Int) (n j : Nat) (yard : Int) (at_ lg : Nat → Int) : Nat → Int := (rideF kd fg hm oa n j yard 20 at_ lg).2.2
theorem rideF_le (kd : Nat → Nat) (fg hm : Nat → Int) (oa : Int) (n j : Nat) (yard : Int) : ∀ (t : Nat) (at_ lg : Nat → Int), (rideF kd fg hm oa n j yard t at_ lg).1 ≤ t := by
  intro t
  induction t with
  | zero => intro at_ lg; exact Nat.le_refl 0
  | succ t ih =>
    intro at_ lg
    unfold rideF
    split
    · exact Nat.zero_le _
    · exact Nat.succ_le_succ (ih _ _)
theorem rideF_ok {kd : Nat → Nat} {fg hm : Nat → Int} {oa : Int} {n j : Nat} {yard : Int} (hj : j < n) (hy : 0 ≤ yard ∧ yard ≤ 20) : ∀ (t : Nat) (at_ lg : Nat → Int), LK n kd fg hm at_ lg oa → LK n kd fg hm (rideF kd fg hm oa n j yard t at_ lg).2.1 (rideF kd fg hm oa n j yard t at_ lg).2.2 oa := by
  intro t
  induction t with
  | zero => intro at_ lg h; exact h
  | succ t ih =>
    intro at_ lg h
    unfold rideF
    split
    · exact h
    · obtain ⟨a, b, c, d, e⟩ := h.2.2 j hj
      exact ih _ _ (h.at (stepZ_r b c d h.2.1 e hy)).day
theorem rideF_0 {kd : Nat → Nat} {fg hm : Nat → Int} {oa : Int} {n j t : Nat} {yard : Int} {at_ lg : Nat → Int} (h : at_ j = yard) : rideF kd fg hm oa n j yard t at_ lg = (0, at_, lg) := by
  cases t with
  | zero => rfl
  | succ t => unfold rideF; rw [if_pos h]
theorem rideF_s {kd : Nat → Nat} {fg hm : Nat → Int} {oa : Int} {n j t : Nat} {yard : Int} {at_ lg : Nat → Int} (h : ¬ at_ j = yard) : rideF kd fg hm oa n j yard (t + 1) at_ lg = ((rideF kd fg hm oa n j yard t (va_up at_ j (stepZ (kd j) (fg j) (hm j) (at_ j) oa (lg j) yard)) (dayL kd fg hm (va_up at_ j (stepZ (kd j) (fg j) (hm j) (at_ j) oa (lg j) yard)) oa n lg)).1 + 1, (rideF kd fg hm oa n j yard t (va_up at_ j (stepZ (kd j) (fg j) (hm j) (at_ j) oa (lg j) yard)) (dayL kd fg hm (va_up at_ j (stepZ (kd j) (fg j) (hm j) (at_ j) oa (lg j) yard)) oa n lg)).2) := by
  show (if _ then _ else _) = _
  rw [if_neg h]
def sumL (lg : Nat → Int) : Nat → Int
  | 0 => 0
  | n + 1 => sumL lg n + lg n
theorem sumL_r {lg : Nat → Int} {n : Nat} (h : ∀ j, j < n → 0 ≤ lg j ∧ lg j ≤ 99) : 0 ≤ sumL lg n ∧ sumL lg n ≤ 99 * n := by
  induction n with
  | zero => exact ⟨Int.le_refl _, by simp [sumL]⟩
  | succ n ih =>
    have h1 := ih (fun j hj => h j (by omega))
    have h2 := h n (by omega)
    show 0 ≤ sumL lg n + lg n ∧ sumL lg n + lg n ≤ 99 * ((n + 1 : Nat) : Int)
    omega
/-- how many are at their goals -/
def manyL (kd : Nat → Nat) (hm at_ : Nat → Int) (oa : Int) : Nat → Int
  | 0 => 0
  | n + 1 => manyL kd hm at_ oa n + bI (at_ n = goalZ (kd n) (hm n) (at_ n) oa)
theorem manyL_r {kd : Nat → Nat} {hm at_ : Nat → Int} {oa : Int} (n : Nat) : 0 ≤ manyL kd hm at_ oa n ∧ manyL kd hm at_ oa n ≤ n := by
  induction n with
  | zero => exact ⟨Int.le_refl _, Int.le_refl _⟩
  | succ n ih =>
    have h2 := bI_r (p := at_ n = goalZ (kd n) (hm n) (at_ n) oa)
    show 0 ≤ manyL kd hm at_ oa n + _ ∧ manyL kd hm at_ oa n + _ ≤ ((n + 1 : Nat) : Int)
    omega

set_option maxHeartbeats 4000000 in
theorem ct_X1_isIn (l : Launch) (G : ZG) (v : Int) (lo : Int) (hi : Int) (hv : -2147483648 ≤ v ∧ v ≤ 2147483647) (hlo : -2147483648 ≤ lo ∧ lo ≤ 2147483647) (hhi : -2147483648 ≤ hi ∧ hi ≤ 2147483647) : CT l yX1_isIn cX1_isIn 3 (some .boolean) { frames := 0, cells := 0, slots := 0, locals := 0 } G [.int (zI v), .int (zI lo), .int (zI hi)] [] (Qi G [] (fun (r : Int32) (u : Unit) => r = zI (bI (lo ≤ v ∧ v ≤ hi))) (fun u => [])) := by
  refine z_met (by decide) (Nat.le_of_ble_eq_true rfl) ?_
  intro X A hl0 hA C hQ hin
  subst hl0
  show Z X _ G 0 0 _ 0 [(0, .int (zI v)), (1, .int (zI lo)), (2, .int (zI hi))] []
  refine z_iload_n C dX1_isIn_0 rfl 0 rfl ?_
  refine z_iload_n C dX1_isIn_1 rfl 1 rfl ?_
  refine y_icmp_lt (tgt := 14) C (by omega) (by omega) dX1_isIn_2 (by decide) (fun c_2 => ?_) (fun c_2 => ?_)
  · skip
    refine y_iconst C dX1_isIn_14 ?_
    exact z_zret C hA hQ rfl (Nat.le_of_ble_eq_true rfl) (Nat.le_of_ble_eq_true rfl) (()) (congrArg zI (bI_f (by omega)).symm) (rfl) (sb_e [] rfl rfl) dX1_isIn_15
  · skip
    refine z_iload_n C dX1_isIn_5 rfl 0 rfl ?_
    refine z_iload_n C dX1_isIn_6 rfl 2 rfl ?_
    refine y_icmp_gt (tgt := 14) C (by omega) (by omega) dX1_isIn_7 (by decide) (fun c_7 => ?_) (fun c_7 => ?_)
    · skip
      refine y_iconst C dX1_isIn_14 ?_
      exact z_zret C hA hQ rfl (Nat.le_of_ble_eq_true rfl) (Nat.le_of_ble_eq_true rfl) (()) (congrArg zI (bI_f (by omega)).symm) (rfl) (sb_e [] rfl rfl) dX1_isIn_15
    · skip
      refine y_iconst C dX1_isIn_10 ?_
      refine z_goto (tgt := 15) C dX1_isIn_11 (by decide) ?_
      exact z_zret C hA hQ rfl (Nat.le_of_ble_eq_true rfl) (Nat.le_of_ble_eq_true rfl) (()) (congrArg zI (bI_t (by omega)).symm) (rfl) (sb_e [] rfl rfl) dX1_isIn_15

set_option maxHeartbeats 4000000 in
theorem ct_J5_compare (l : Launch) (G : ZG) (a : Int) (b : Int) (ha : -2147483648 ≤ a ∧ a ≤ 2147483647) (hb : -2147483648 ≤ b ∧ b ≤ 2147483647) : CT l yJ5_compare cJ5_compare 2 (some .int) { frames := 0, cells := 0, slots := 0, locals := 0 } G [.int (zI a), .int (zI b)] [] (Qi G [] (fun (r : Int32) (u : Unit) => r = zI (cmpZ a b)) (fun u => [])) := by
  refine z_met (by decide) (Nat.le_of_ble_eq_true rfl) ?_
  intro X A hl0 hA C hQ hin
  subst hl0
  show Z X _ G 0 0 _ 0 [(0, .int (zI a)), (1, .int (zI b))] []
  refine z_iload_n C dJ5_compare_0 rfl 0 rfl ?_
  refine z_iload_n C dJ5_compare_1 rfl 1 rfl ?_
  refine y_icmp_ge (tgt := 9) C (by omega) (by omega) dJ5_compare_2 (by decide) (fun c_2 => ?_) (fun c_2 => ?_)
  · skip
    refine z_iload_n C dJ5_compare_9 rfl 0 rfl ?_
    refine z_iload_n C dJ5_compare_10 rfl 1 rfl ?_
    refine y_icmp_ne (tgt := 18) C (by omega) (by omega) dJ5_compare_11 (by decide) (fun c_11 => ?_) (fun c_11 => ?_)
    · skip
      refine y_iconst C dJ5_compare_18 ?_
      exact z_iret C hA hQ rfl (Nat.le_of_ble_eq_true rfl) (Nat.le_of_ble_eq_true rfl) (()) (congrArg zI (by unfold cmpZ; rw [if_neg (by omega), if_neg (by omega)])) (sb_e [] rfl rfl) dJ5_compare_19
    · skip
      refine y_iconst C dJ5_compare_14 ?_
      refine z_goto (tgt := 19) C dJ5_compare_15 (by decide) ?_
      exact z_iret C hA hQ rfl (Nat.le_of_ble_eq_true rfl) (Nat.le_of_ble_eq_true rfl) (()) (congrArg zI (by unfold cmpZ; rw [if_neg (by omega), if_pos (by omega)])) (sb_e [] rfl rfl) dJ5_compare_19
  · skip
    refine y_iconst C dJ5_compare_5 ?_
    refine z_goto (tgt := 19) C dJ5_compare_6 (by decide) ?_
    exact z_iret C hA hQ rfl (Nat.le_of_ble_eq_true rfl) (Nat.le_of_ble_eq_true rfl) (()) (congrArg zI (by unfold cmpZ; rw [if_pos (by omega)])) (sb_e [] rfl rfl) dJ5_compare_19

set_option maxHeartbeats 4000000 in
theorem ct_X2_isHorse (l : Launch) (G : ZG) (a0 : Nat) (a1 : Nat) (a2 : Nat) (a3 : Nat) (a4 : Nat) (n : Nat) (oa : Int) (dy : Int) (h : Int) (hn7 : n ≤ 7) (hh : -2147483648 ≤ h ∧ h ≤ 2147483647) : CT l yX2_isHorse cX2_isHorse 2 (some .boolean) { frames := 1, cells := 0, slots := 0, locals := 22 } G [.ref a0, .int (zI h)] [(a0, .inr (8, [.ref a1, .ref a2, .ref a3, .ref a4, .int (zI (n : Int)), .int (zI oa), .int (zI dy)]))] (Qi G [(a0, .inr (8, [.ref a1, .ref a2, .ref a3, .ref a4, .int (zI (n : Int)), .int (zI oa), .int (zI dy)]))] (fun (r : Int32) (u : Unit) => r = zI (bI (0 ≤ h ∧ h ≤ (n : Int) - 1))) (fun u => [(a0, .inr (8, [.ref a1, .ref a2, .ref a3, .ref a4, .int (zI (n : Int)), .int (zI oa), .int (zI dy)]))])) := by
  refine z_met (by decide) (Nat.le_of_ble_eq_true rfl) ?_
  intro X A hl0 hA C hQ hin
  subst hl0
  show Z X _ G 0 0 _ 0 [(0, .ref a0), (1, .int (zI h))] []
  refine z_iload_n C dX2_isHorse_0 rfl 1 rfl ?_
  refine y_iconst C dX2_isHorse_1 ?_
  refine z_aload_n C dX2_isHorse_2 rfl 0 rfl ?_
  refine z_get (q := 0) (kf := 4) (v := .int (zI (n : Int))) C rfl rfl in_X2 (by decide) q845 (Or.inl rfl) rfl dX2_isHorse_3 ?_
  refine y_iconst C dX2_isHorse_6 ?_
  refine y_isub C dX2_isHorse_7 ?_
  refine z_i C (z_runSN (As := [.int (zI h), .int (zI 0), .int (zI ((n : Int) - 1))]) (rest := []) C (ct_X1_isIn (zl X) G h 0 ((n : Int) - 1) (by first | assumption | omega) (by first | assumption | omega) (by first | assumption | omega)) q191 q58 q190 (gw_0 C.gk.2.1) (sb_e [] rfl rfl) (na := 3) (by decide +kernel) rfl (zrm rfl rfl (rfl) (rfl)) rfl (Nat.le_of_ble_eq_true rfl) dX2_isHorse_8) (fun u => jn_ro (sb_e [] rfl rfl)) (fun r_8 u hp_8 => ?_)
  have hp_8 : r_8 = zI (bI (0 ≤ h ∧ h ≤ ((n : Int) - 1))) := hp_8
  subst hp_8
  exact z_zret C hA hQ rfl (Nat.le_of_ble_eq_true rfl) (Nat.le_of_ble_eq_true rfl) (()) (rfl) (bI_nar) (sb_e [0] rfl rfl) dX2_isHorse_11

set_option maxHeartbeats 4000000 in
theorem ct_X2_goal (l : Launch) (G : ZG) (a0 : Nat) (a1 : Nat) (a2 : Nat) (a3 : Nat) (a4 : Nat) (r : Nat → Option Nat) (hm : Nat → Int) (at_ : Nat → Int) (lg : Nat → Int) (n : Nat) (oa : Int) (dy : Int) (LP : List Nat) (hk : Nat → Nat) (hf : Nat → Int) (kd : Nat → Nat) (fg : Nat → Int) (j : Nat) (hH : HR LP hk hf r n kd fg) (hL : LK n kd fg hm at_ lg oa) (hj : j < n) : CT l yX2_goal cX2_goal 2 (some .int) { frames := 3, cells := 0, slots := 0, locals := 58 } G [.ref a0, .int (zI (j : Int))] ([(a0, .inr (8, [.ref a1, .ref a2, .ref a3, .ref a4, .int (zI (n : Int)), .int (zI oa), .int (zI dy)])), (a1, AQ G 4 7 r), (a2, AI G 7 hm), (a3, AI G 7 at_), (a4, AI G 7 lg)] ++ PL LP hk hf) (Qi G ([(a0, .inr (8, [.ref a1, .ref a2, .ref a3, .ref a4, .int (zI (n : Int)), .int (zI oa), .int (zI dy)])), (a1, AQ G 4 7 r), (a2, AI G 7 hm), (a3, AI G 7 at_), (a4, AI G 7 lg)] ++ PL LP hk hf) (fun (r : Int32) (u : Unit) => r = zI (goalZ (kd j) (hm j) (at_ j) oa)) (fun u => ([(a0, .inr (8, [.ref a1, .ref a2, .ref a3, .ref a4, .int (zI (n : Int)), .int (zI oa), .int (zI dy)])), (a1, AQ G 4 7 r), (a2, AI G 7 hm), (a3, AI G 7 at_), (a4, AI G 7 lg)] ++ PL LP hk hf))) := by
  refine z_met (by decide) (Nat.le_of_ble_eq_true rfl) ?_
  intro X A hl0 hA C hQ hin
  subst hl0
  obtain ⟨hn7, hoa, hLj⟩ := id hL
  obtain ⟨hk1, hf1, hm1, ha1, hl1⟩ := hLj j hj
  obtain ⟨y, hy1, hy2, hy3, hy4⟩ := hH j hj
  have hg := goalZ_r (k := kd j) hm1 ha1 hoa
  show Z X _ G 0 0 _ 0 [(0, .ref a0), (1, .int (zI (j : Int)))] []
  refine z_aload_n C dX2_goal_0 rfl 0 rfl ?_
  refine z_get (q := 0) (kf := 0) (v := .ref a1) C rfl rfl in_X2 (by decide) q837 (Or.inl rfl) rfl dX2_goal_1 ?_
  refine z_iload_n C dX2_goal_4 rfl 1 rfl ?_
  refine y_aldq (q := 1) (t0 := 4) (v := .ref y) C rfl rfl (by omega) (by decide) (by show va_rf (r j) = _; rw [hy1]; rfl) dX2_goal_5 ?_
  refine z_aload_n C dX2_goal_6 rfl 0 rfl ?_
  refine z_get (q := 0) (kf := 1) (v := .ref a2) C rfl rfl in_X2 (by decide) q839 (Or.inl rfl) rfl dX2_goal_7 ?_
  refine z_iload_n C dX2_goal_10 rfl 1 rfl ?_
  refine y_iald (q := 2) (t0 := 0) (v := hm j) C rfl rfl (by omega) (by decide) rfl dX2_goal_11 ?_
  refine z_aload_n C dX2_goal_12 rfl 0 rfl ?_
  refine z_get (q := 0) (kf := 2) (v := .ref a3) C rfl rfl in_X2 (by decide) q841 (Or.inl rfl) rfl dX2_goal_13 ?_
  refine z_iload_n C dX2_goal_16 rfl 1 rfl ?_
  refine y_iald (q := 3) (t0 := 0) (v := at_ j) C rfl rfl (by omega) (by decide) rfl dX2_goal_17 ?_
  refine z_aload_n C dX2_goal_18 rfl 0 rfl ?_
  refine z_get (q := 0) (kf := 5) (v := .int (zI oa)) C rfl rfl in_X2 (by decide) q847 (Or.inl rfl) rfl dX2_goal_19 ?_
  obtain ⟨q_22, hq_22⟩ := pl_at (E := [(a0, .inr (8, [.ref a1, .ref a2, .ref a3, .ref a4, .int (zI (n : Int)), .int (zI oa), .int (zI dy)])), (a1, AQ G 4 7 r), (a2, AI G 7 hm), (a3, AI G 7 at_), (a4, AI G 7 lg)]) (hk := hk) (hf := hf) hy2
  rw [hy3, hy4] at hq_22
  refine dsp_goal C (kd := kd j) (f := fg j) hk1 hq_22 (C.ts _ q411) hm1 ha1 hoa (Nat.le_of_ble_eq_true rfl) (Nat.le_of_ble_eq_true rfl) (Nat.le_of_ble_eq_true rfl) (Nat.le_of_ble_eq_true rfl) (Nat.le_of_ble_eq_true rfl) dX2_goal_22 ?_
  exact z_iret C hA hQ rfl (Nat.le_of_ble_eq_true rfl) (Nat.le_of_ble_eq_true rfl) (()) (rfl) (sb_p [0, 1, 2, 3, 4] rfl rfl) dX2_goal_25

set_option maxHeartbeats 4000000 in
theorem ct_X2_pace (l : Launch) (G : ZG) (a0 : Nat) (a1 : Nat) (a2 : Nat) (a3 : Nat) (a4 : Nat) (r : Nat → Option Nat) (hm : Nat → Int) (at_ : Nat → Int) (lg : Nat → Int) (n : Nat) (oa : Int) (dy : Int) (LP : List Nat) (hk : Nat → Nat) (hf : Nat → Int) (kd : Nat → Nat) (fg : Nat → Int) (j : Nat) (hH : HR LP hk hf r n kd fg) (hL : LK n kd fg hm at_ lg oa) (hj : j < n) : CT l yX2_pace cX2_pace 2 (some .int) { frames := 2, cells := 0, slots := 0, locals := 42 } G [.ref a0, .int (zI (j : Int))] ([(a0, .inr (8, [.ref a1, .ref a2, .ref a3, .ref a4, .int (zI (n : Int)), .int (zI oa), .int (zI dy)])), (a1, AQ G 4 7 r), (a2, AI G 7 hm), (a3, AI G 7 at_), (a4, AI G 7 lg)] ++ PL LP hk hf) (Qi G ([(a0, .inr (8, [.ref a1, .ref a2, .ref a3, .ref a4, .int (zI (n : Int)), .int (zI oa), .int (zI dy)])), (a1, AQ G 4 7 r), (a2, AI G 7 hm), (a3, AI G 7 at_), (a4, AI G 7 lg)] ++ PL LP hk hf) (fun (r : Int32) (u : Unit) => r = zI (paceZ (kd j) (fg j) (lg j))) (fun u => ([(a0, .inr (8, [.ref a1, .ref a2, .ref a3, .ref a4, .int (zI (n : Int)), .int (zI oa), .int (zI dy)])), (a1, AQ G 4 7 r), (a2, AI G 7 hm), (a3, AI G 7 at_), (a4, AI G 7 lg)] ++ PL LP hk hf))) := by
  refine z_met (by decide) (Nat.le_of_ble_eq_true rfl) ?_
  intro X A hl0 hA C hQ hin
  subst hl0
  obtain ⟨hn7, hoa, hLj⟩ := id hL
  obtain ⟨hk1, hf1, hm1, ha1, hl1⟩ := hLj j hj
  obtain ⟨y, hy1, hy2, hy3, hy4⟩ := hH j hj
  have hg := goalZ_r (k := kd j) hm1 ha1 hoa
  show Z X _ G 0 0 _ 0 [(0, .ref a0), (1, .int (zI (j : Int)))] []
  refine z_aload_n C dX2_pace_0 rfl 0 rfl ?_
  refine z_get (q := 0) (kf := 0) (v := .ref a1) C rfl rfl in_X2 (by decide) q837 (Or.inl rfl) rfl dX2_pace_1 ?_
  refine z_iload_n C dX2_pace_4 rfl 1 rfl ?_
  refine y_aldq (q := 1) (t0 := 4) (v := .ref y) C rfl rfl (by omega) (by decide) (by show va_rf (r j) = _; rw [hy1]; rfl) dX2_pace_5 ?_
  refine z_aload_n C dX2_pace_6 rfl 0 rfl ?_
  refine z_get (q := 0) (kf := 3) (v := .ref a4) C rfl rfl in_X2 (by decide) q843 (Or.inl rfl) rfl dX2_pace_7 ?_
  refine z_iload_n C dX2_pace_10 rfl 1 rfl ?_
  refine y_iald (q := 4) (t0 := 0) (v := lg j) C rfl rfl (by omega) (by decide) rfl dX2_pace_11 ?_
  obtain ⟨q_12, hq_12⟩ := pl_at (E := [(a0, .inr (8, [.ref a1, .ref a2, .ref a3, .ref a4, .int (zI (n : Int)), .int (zI oa), .int (zI dy)])), (a1, AQ G 4 7 r), (a2, AI G 7 hm), (a3, AI G 7 at_), (a4, AI G 7 lg)]) (hk := hk) (hf := hf) hy2
  rw [hy3, hy4] at hq_12
  refine dsp_pace C (kd := kd j) (f := fg j) hk1 hq_12 (C.ts _ q442) hl1 hf1 (Nat.le_of_ble_eq_true rfl) (Nat.le_of_ble_eq_true rfl) (Nat.le_of_ble_eq_true rfl) (Nat.le_of_ble_eq_true rfl) (Nat.le_of_ble_eq_true rfl) dX2_pace_12 ?_
  exact z_iret C hA hQ rfl (Nat.le_of_ble_eq_true rfl) (Nat.le_of_ble_eq_true rfl) (()) (rfl) (sb_p [0, 1, 2, 3, 4] rfl rfl) dX2_pace_15

set_option maxHeartbeats 4000000 in
theorem ct_X2_isAtGoal (l : Launch) (G : ZG) (a0 : Nat) (a1 : Nat) (a2 : Nat) (a3 : Nat) (a4 : Nat) (r : Nat → Option Nat) (hm : Nat → Int) (at_ : Nat → Int) (lg : Nat → Int) (n : Nat) (oa : Int) (dy : Int) (LP : List Nat) (hk : Nat → Nat) (hf : Nat → Int) (kd : Nat → Nat) (fg : Nat → Int) (j : Nat) (hH : HR LP hk hf r n kd fg) (hL : LK n kd fg hm at_ lg oa) (hj : j < n) : CT l yX2_isAtGoal cX2_isAtGoal 2 (some .boolean) { frames := 4, cells := 0, slots := 0, locals := 79 } G [.ref a0, .int (zI (j : Int))] ([(a0, .inr (8, [.ref a1, .ref a2, .ref a3, .ref a4, .int (zI (n : Int)), .int (zI oa), .int (zI dy)])), (a1, AQ G 4 7 r), (a2, AI G 7 hm), (a3, AI G 7 at_), (a4, AI G 7 lg)] ++ PL LP hk hf) (Qi G ([(a0, .inr (8, [.ref a1, .ref a2, .ref a3, .ref a4, .int (zI (n : Int)), .int (zI oa), .int (zI dy)])), (a1, AQ G 4 7 r), (a2, AI G 7 hm), (a3, AI G 7 at_), (a4, AI G 7 lg)] ++ PL LP hk hf) (fun (r : Int32) (u : Unit) => r = zI (bI (at_ j = goalZ (kd j) (hm j) (at_ j) oa))) (fun u => ([(a0, .inr (8, [.ref a1, .ref a2, .ref a3, .ref a4, .int (zI (n : Int)), .int (zI oa), .int (zI dy)])), (a1, AQ G 4 7 r), (a2, AI G 7 hm), (a3, AI G 7 at_), (a4, AI G 7 lg)] ++ PL LP hk hf))) := by
  refine z_met (by decide) (Nat.le_of_ble_eq_true rfl) ?_
  intro X A hl0 hA C hQ hin
  subst hl0
  obtain ⟨hn7, hoa, hLj⟩ := id hL
  obtain ⟨hk1, hf1, hm1, ha1, hl1⟩ := hLj j hj
  obtain ⟨y, hy1, hy2, hy3, hy4⟩ := hH j hj
  have hg := goalZ_r (k := kd j) hm1 ha1 hoa
  show Z X _ G 0 0 _ 0 [(0, .ref a0), (1, .int (zI (j : Int)))] []
  refine z_aload_n C dX2_isAtGoal_0 rfl 0 rfl ?_
  refine z_get (q := 0) (kf := 2) (v := .ref a3) C rfl rfl in_X2 (by decide) q841 (Or.inl rfl) rfl dX2_isAtGoal_1 ?_
  refine z_iload_n C dX2_isAtGoal_4 rfl 1 rfl ?_
  refine y_iald (q := 3) (t0 := 0) (v := at_ j) C rfl rfl (by omega) (by decide) rfl dX2_isAtGoal_5 ?_
  refine z_aload_n C dX2_isAtGoal_6 rfl 0 rfl ?_
  refine z_iload_n C dX2_isAtGoal_7 rfl 1 rfl ?_
  refine z_i C (z_runV (q := 0) (As := [.int (zI (j : Int))]) (rest := [.int (zI (at_ j))]) C (ct_X2_goal (zl X) G a0 a1 a2 a3 a4 r hm at_ lg n oa dy LP hk hf kd fg j (by first | assumption | omega) (by first | assumption | omega) (by first | assumption | omega)) (lw_V q407 q408 q409 q59 q410) rfl rfl (sb_p [0, 1, 2, 3, 4] rfl rfl) (na := 1) (by decide +kernel) rfl (zrm rfl rfl (rfl) (rfl)) rfl (Nat.le_of_ble_eq_true rfl) dX2_isAtGoal_8) (fun u => jn_ro (sb_p [0, 1, 2, 3, 4] rfl rfl)) (fun r_8 u hp_8 => ?_)
  have hp_8 : r_8 = zI (goalZ (kd j) (hm j) (at_ j) oa) := hp_8
  subst hp_8
  refine y_icmp_ne (tgt := 18) C (by omega) (by omega) dX2_isAtGoal_11 (by decide) (fun c_11 => ?_) (fun c_11 => ?_)
  · skip
    refine y_iconst C dX2_isAtGoal_18 ?_
    exact z_zret C hA hQ rfl (Nat.le_of_ble_eq_true rfl) (Nat.le_of_ble_eq_true rfl) (()) (congrArg zI (bI_f (by omega)).symm) (rfl) (sb_p [0, 1, 2, 3, 4] rfl rfl) dX2_isAtGoal_19
  · skip
    refine y_iconst C dX2_isAtGoal_14 ?_
    refine z_goto (tgt := 19) C dX2_isAtGoal_15 (by decide) ?_
    exact z_zret C hA hQ rfl (Nat.le_of_ble_eq_true rfl) (Nat.le_of_ble_eq_true rfl) (()) (congrArg zI (bI_t (by omega)).symm) (rfl) (sb_p [0, 1, 2, 3, 4] rfl rfl) dX2_isAtGoal_19

set_option maxHeartbeats 4000000 in
theorem ct_X2_pinesOne (l : Launch) (G : ZG) (a0 : Nat) (a1 : Nat) (a2 : Nat) (a3 : Nat) (a4 : Nat) (r : Nat → Option Nat) (hm : Nat → Int) (at_ : Nat → Int) (lg : Nat → Int) (n : Nat) (oa : Int) (dy : Int) (LP : List Nat) (hk : Nat → Nat) (hf : Nat → Int) (kd : Nat → Nat) (fg : Nat → Int) (j : Nat) (hH : HR LP hk hf r n kd fg) (hL : LK n kd fg hm at_ lg oa) (hj : j < n) : CT l yX2_pinesOne cX2_pinesOne 2 none { frames := 5, cells := 0, slots := 0, locals := 100 } G [.ref a0, .int (zI (j : Int))] ([(a0, .inr (8, [.ref a1, .ref a2, .ref a3, .ref a4, .int (zI (n : Int)), .int (zI oa), .int (zI dy)])), (a1, AQ G 4 7 r), (a2, AI G 7 hm), (a3, AI G 7 at_), (a4, AI G 7 lg)] ++ PL LP hk hf) (Qv G ([(a0, .inr (8, [.ref a1, .ref a2, .ref a3, .ref a4, .int (zI (n : Int)), .int (zI oa), .int (zI dy)])), (a1, AQ G 4 7 r), (a2, AI G 7 hm), (a3, AI G 7 at_), (a4, AI G 7 lg)] ++ PL LP hk hf) (fun (u : Unit) => True) (fun u => ([(a0, .inr (8, [.ref a1, .ref a2, .ref a3, .ref a4, .int (zI (n : Int)), .int (zI oa), .int (zI dy)])), (a1, AQ G 4 7 r), (a2, AI G 7 hm), (a3, AI G 7 at_), (a4, AI G 7 (va_up lg j (dayZ (kd j) (fg j) (hm j) (at_ j) oa (lg j))))] ++ PL LP hk hf))) := by
  refine z_met (by decide) (Nat.le_of_ble_eq_true rfl) ?_
  intro X A hl0 hA C hQ hin
  subst hl0
  obtain ⟨hn7, hoa, hLj⟩ := id hL
  obtain ⟨hk1, hf1, hm1, ha1, hl1⟩ := hLj j hj
  obtain ⟨y, hy1, hy2, hy3, hy4⟩ := hH j hj
  have hg := goalZ_r (k := kd j) hm1 ha1 hoa
  have hma : 0 ≤ zAbs (goalZ (kd j) (hm j) (at_ j) oa - at_ j) ∧ zAbs (goalZ (kd j) (hm j) (at_ j) oa - at_ j) ≤ 20 := ⟨zAbs_nn _, zAbs_le.mpr ⟨by omega, by omega⟩⟩
  show Z X _ G 0 0 _ 0 [(0, .ref a0), (1, .int (zI (j : Int)))] []
  refine z_aload_n C dX2_pinesOne_0 rfl 0 rfl ?_
  refine z_iload_n C dX2_pinesOne_1 rfl 1 rfl ?_
  refine z_i C (z_runV (q := 0) (As := [.int (zI (j : Int))]) (rest := []) C (ct_X2_isAtGoal (zl X) G a0 a1 a2 a3 a4 r hm at_ lg n oa dy LP hk hf kd fg j (by first | assumption | omega) (by first | assumption | omega) (by first | assumption | omega)) (lw_V q500 q501 q502 q59 q503) rfl rfl (sb_p [0, 1, 2, 3, 4] rfl rfl) (na := 1) (by decide +kernel) rfl (zrm rfl rfl (rfl) (rfl)) rfl (Nat.le_of_ble_eq_true rfl) dX2_pinesOne_2) (fun u => jn_ro (sb_p [0, 1, 2, 3, 4] rfl rfl)) (fun r_2 u hp_2 => ?_)
  have hp_2 : r_2 = zI (bI (at_ j = goalZ (kd j) (hm j) (at_ j) oa)) := hp_2
  subst hp_2
  refine y_beq (tgt := 21) C dX2_pinesOne_5 (by decide) (fun c_5 => ?_) (fun c_5 => ?_)
  · skip
    refine z_aload_n C dX2_pinesOne_21 rfl 0 rfl ?_
    refine z_get (q := 0) (kf := 3) (v := .ref a4) C rfl rfl in_X2 (by decide) q843 (Or.inl rfl) rfl dX2_pinesOne_22 ?_
    refine z_iload_n C dX2_pinesOne_25 rfl 1 rfl ?_
    refine y_bipush C dX2_pinesOne_26 (by decide) ?_
    refine z_aload_n C dX2_pinesOne_28 rfl 0 rfl ?_
    refine z_get (q := 0) (kf := 3) (v := .ref a4) C rfl rfl in_X2 (by decide) q843 (Or.inl rfl) rfl dX2_pinesOne_29 ?_
    refine z_iload_n C dX2_pinesOne_32 rfl 1 rfl ?_
    refine y_iald (q := 4) (t0 := 0) (v := lg j) C rfl rfl (by omega) (by decide) rfl dX2_pinesOne_33 ?_
    refine z_aload_n C dX2_pinesOne_34 rfl 0 rfl ?_
    refine z_get (q := 0) (kf := 0) (v := .ref a1) C rfl rfl in_X2 (by decide) q837 (Or.inl rfl) rfl dX2_pinesOne_35 ?_
    refine z_iload_n C dX2_pinesOne_38 rfl 1 rfl ?_
    refine y_aldq (q := 1) (t0 := 4) (v := .ref y) C rfl rfl (by omega) (by decide) (by show va_rf (r j) = _; rw [hy1]; rfl) dX2_pinesOne_39 ?_
    refine z_aload_n C dX2_pinesOne_40 rfl 0 rfl ?_
    refine z_iload_n C dX2_pinesOne_41 rfl 1 rfl ?_
    refine z_i C (z_runV (q := 0) (As := [.int (zI (j : Int))]) (rest := [.ref y, .int (zI (lg j)), .int (zI 99), .int (zI (j : Int)), .ref a4]) C (ct_X2_goal (zl X) G a0 a1 a2 a3 a4 r hm at_ lg n oa dy LP hk hf kd fg j (by first | assumption | omega) (by first | assumption | omega) (by first | assumption | omega)) (lw_V q407 q408 q409 q59 q410) rfl rfl (sb_p [0, 1, 2, 3, 4] rfl rfl) (na := 1) (by decide +kernel) rfl (zrm rfl rfl (rfl) (rfl)) rfl (Nat.le_of_ble_eq_true rfl) dX2_pinesOne_42) (fun u => jn_ro (sb_p [0, 1, 2, 3, 4] rfl rfl)) (fun r_42 u hp_42 => ?_)
    have hp_42 : r_42 = zI (goalZ (kd j) (hm j) (at_ j) oa) := hp_42
    subst hp_42
    refine z_aload_n C dX2_pinesOne_45 rfl 0 rfl ?_
    refine z_get (q := 0) (kf := 2) (v := .ref a3) C rfl rfl in_X2 (by decide) q841 (Or.inl rfl) rfl dX2_pinesOne_46 ?_
    refine z_iload_n C dX2_pinesOne_49 rfl 1 rfl ?_
    refine y_iald (q := 3) (t0 := 0) (v := at_ j) C rfl rfl (by omega) (by decide) rfl dX2_pinesOne_50 ?_
    refine y_isub C dX2_pinesOne_51 ?_
    refine y_abs C q404 q405 q80 q406 (Nat.le_of_ble_eq_true rfl) (Nat.le_of_ble_eq_true rfl) (Nat.le_of_ble_eq_true rfl) (Nat.le_of_ble_eq_true rfl) (by omega) dX2_pinesOne_52 ?_
    obtain ⟨q_55, hq_55⟩ := pl_at (E := [(a0, .inr (8, [.ref a1, .ref a2, .ref a3, .ref a4, .int (zI (n : Int)), .int (zI oa), .int (zI dy)])), (a1, AQ G 4 7 r), (a2, AI G 7 hm), (a3, AI G 7 at_), (a4, AI G 7 lg)]) (hk := hk) (hf := hf) hy2
    rw [hy3, hy4] at hq_55
    refine dsp_pines C (kd := kd j) (f := fg j) hk1 hq_55 (C.ts _ q504) hma hf1 (Nat.le_of_ble_eq_true rfl) (Nat.le_of_ble_eq_true rfl) (Nat.le_of_ble_eq_true rfl) (Nat.le_of_ble_eq_true rfl) (Nat.le_of_ble_eq_true rfl) dX2_pinesOne_55 ?_
    refine y_iadd C dX2_pinesOne_58 ?_
    have hpz := pinesZ_r (k := kd j) hf1 hma
    refine y_min C q469 q470 q80 q471 (Nat.le_of_ble_eq_true rfl) (Nat.le_of_ble_eq_true rfl) (Nat.le_of_ble_eq_true rfl) (Nat.le_of_ble_eq_true rfl) (by omega) (by omega) dX2_pinesOne_59 ?_
    refine y_iast (q := 4) (t0 := 0) (g := va_up lg j (dayZ (kd j) (fg j) (hm j) (at_ j) oa (lg j))) (ws' := ([(a0, .inr (8, [.ref a1, .ref a2, .ref a3, .ref a4, .int (zI (n : Int)), .int (zI oa), .int (zI dy)])), (a1, AQ G 4 7 r), (a2, AI G 7 hm), (a3, AI G 7 at_), (a4, AI G 7 (va_up lg j (dayZ (kd j) (fg j) (hm j) (at_ j) oa (lg j))))] ++ PL LP hk hf)) C rfl rfl (by omega) (by decide) (by rw [dayZ_f c_5]; rfl) rfl dX2_pinesOne_62 ?_
    exact z_vret C hA hQ rfl (Nat.le_of_ble_eq_true rfl) (Nat.le_of_ble_eq_true rfl) (()) (trivial) (sb_p [0, 1, 2, 3, 4] rfl rfl) dX2_pinesOne_63
  · skip
    refine z_aload_n C dX2_pinesOne_8 rfl 0 rfl ?_
    refine z_get (q := 0) (kf := 3) (v := .ref a4) C rfl rfl in_X2 (by decide) q843 (Or.inl rfl) rfl dX2_pinesOne_9 ?_
    refine z_iload_n C dX2_pinesOne_12 rfl 1 rfl ?_
    refine z_dup2 C dX2_pinesOne_13 rfl rfl ?_
    refine y_iald (q := 4) (t0 := 0) (v := lg j) C rfl rfl (by omega) (by decide) rfl dX2_pinesOne_14 ?_
    refine y_iconst C dX2_pinesOne_15 ?_
    refine y_idiv C (by omega) (by omega) dX2_pinesOne_16 ?_
    refine y_iast (q := 4) (t0 := 0) (g := va_up lg j (dayZ (kd j) (fg j) (hm j) (at_ j) oa (lg j))) (ws' := ([(a0, .inr (8, [.ref a1, .ref a2, .ref a3, .ref a4, .int (zI (n : Int)), .int (zI oa), .int (zI dy)])), (a1, AQ G 4 7 r), (a2, AI G 7 hm), (a3, AI G 7 at_), (a4, AI G 7 (va_up lg j (dayZ (kd j) (fg j) (hm j) (at_ j) oa (lg j))))] ++ PL LP hk hf)) C rfl rfl (by omega) (by decide) (by rw [dayZ_t c_5]; rfl) rfl dX2_pinesOne_17 ?_
    refine z_goto (tgt := 63) C dX2_pinesOne_18 (by decide) ?_
    exact z_vret C hA hQ rfl (Nat.le_of_ble_eq_true rfl) (Nat.le_of_ble_eq_true rfl) (()) (trivial) (sb_p [0, 1, 2, 3, 4] rfl rfl) dX2_pinesOne_63

set_option maxHeartbeats 4000000 in
theorem ct_X2_goesDay (l : Launch) (G : ZG) (a0 : Nat) (a1 : Nat) (a2 : Nat) (a3 : Nat) (a4 : Nat) (r : Nat → Option Nat) (hm : Nat → Int) (at_ : Nat → Int) (lg : Nat → Int) (n : Nat) (oa : Int) (dy : Int) (LP : List Nat) (hk : Nat → Nat) (hf : Nat → Int) (kd : Nat → Nat) (fg : Nat → Int) (b : Int) (hH : HR LP hk hf r n kd fg) (hL : LK n kd fg hm at_ lg oa) (hb : 0 ≤ b ∧ b ≤ 1) : CT l yX2_goesDay cX2_goesDay 3 none { frames := 6, cells := 0, slots := 0, locals := 121 } G [.ref a0, .int (zI b)] ([(a0, .inr (8, [.ref a1, .ref a2, .ref a3, .ref a4, .int (zI (n : Int)), .int (zI oa), .int (zI dy)])), (a1, AQ G 4 7 r), (a2, AI G 7 hm), (a3, AI G 7 at_), (a4, AI G 7 lg)] ++ PL LP hk hf) (Qv G ([(a0, .inr (8, [.ref a1, .ref a2, .ref a3, .ref a4, .int (zI (n : Int)), .int (zI oa), .int (zI dy)])), (a1, AQ G 4 7 r), (a2, AI G 7 hm), (a3, AI G 7 at_), (a4, AI G 7 lg)] ++ PL LP hk hf) (fun (u : Unit) => True) (fun u => ([(a0, .inr (8, [.ref a1, .ref a2, .ref a3, .ref a4, .int (zI (n : Int)), .int (zI oa), .int (zI (dy + 1))])), (a1, AQ G 4 7 r), (a2, AI G 7 hm), (a3, AI G 7 at_), (a4, AI G 7 (dayB b kd fg hm at_ oa n lg))] ++ PL LP hk hf))) := by
  refine z_met (by decide) (Nat.le_of_ble_eq_true rfl) ?_
  intro X A hl0 hA C hQ hin
  subst hl0
  obtain ⟨hn7, hoa, hLj⟩ := id hL
  show Z X _ G 0 0 _ 0 [(0, .ref a0), (1, .int (zI b))] []
  refine z_aload_n C dX2_goesDay_0 rfl 0 rfl ?_
  refine z_dup C dX2_goesDay_1 rfl ?_
  refine z_get (q := 0) (kf := 6) (v := .int (zI dy)) C rfl rfl in_X2 (by decide) q849 (Or.inl rfl) rfl dX2_goesDay_2 ?_
  refine y_iconst C dX2_goesDay_5 ?_
  refine y_iadd C dX2_goesDay_6 ?_
  refine z_put (q := 0) (kf := 6) (ws' := ([(a0, .inr (8, [.ref a1, .ref a2, .ref a3, .ref a4, .int (zI (n : Int)), .int (zI oa), .int (zI (dy + 1))])), (a1, AQ G 4 7 r), (a2, AI G 7 hm), (a3, AI G 7 at_), (a4, AI G 7 lg)] ++ PL LP hk hf)) C rfl rfl in_X2 tyX2_ok nmX2 (by decide) q849 rfl rfl rfl rfl rfl (nlt rfl) rfl dX2_goesDay_7 ?_
  refine y_iconst C dX2_goesDay_10 ?_
  refine z_istore_n (lv' := [(2, .int (zI 0)), (0, .ref a0), (1, .int (zI b))]) C dX2_goesDay_11 rfl (nlt rfl) rfl ?_
  have L_12 : ∀ (t : Nat) (i : Nat), (i ≤ n) → (b = 0 ∨ i = 0) → n - i = t → Z X (cX2_goesDay, 3, yX2_goesDay.cls, none, { frames := 6, cells := 0, slots := 0, locals := 121 }, A) G 0 0 ([(a0, .inr (8, [.ref a1, .ref a2, .ref a3, .ref a4, .int (zI (n : Int)), .int (zI oa), .int (zI (dy + 1))])), (a1, AQ G 4 7 r), (a2, AI G 7 hm), (a3, AI G 7 at_), (a4, AI G 7 (dayL kd fg hm at_ oa i lg))] ++ PL LP hk hf) 12 [(0, .ref a0), (1, .int (zI b)), (2, .int (zI (i : Int)))] [] := by
    intro t
    induction t using Nat.strongRecOn with
    | _ t ih_12 =>
      intro i hi hbi ht_12
      refine z_iload_n C dX2_goesDay_12 rfl 2 rfl ?_
      refine z_aload_n C dX2_goesDay_13 rfl 0 rfl ?_
      refine z_get (q := 0) (kf := 4) (v := .int (zI (n : Int))) C rfl rfl in_X2 (by decide) q845 (Or.inl rfl) rfl dX2_goesDay_14 ?_
      refine y_icmp_ge (tgt := 35) C (by omega) (by omega) dX2_goesDay_17 (by decide) (fun c_17 => ?_) (fun c_17 => ?_)
      · skip
        have ee : dayL kd fg hm at_ oa i lg = dayB b kd fg hm at_ oa n lg := by
          unfold dayB
          rcases hbi with h | h
          · rw [if_pos h]; congr 1; omega
          · subst h; split
            · have : n = 0 := by omega
              subst this; rfl
            · exact dayL_0
        rw [ee]
        exact z_vret C hA hQ rfl (Nat.le_of_ble_eq_true rfl) (Nat.le_of_ble_eq_true rfl) (()) (trivial) (sb_p [0, 1, 2, 3, 4] rfl rfl) dX2_goesDay_35
      · skip
        refine z_iload_n C dX2_goesDay_20 rfl 1 rfl ?_
        refine y_if_ne (tgt := 35) C (by omega) dX2_goesDay_21 (by decide) (fun c_21 => ?_) (fun c_21 => ?_)
        · skip
          have ee : dayL kd fg hm at_ oa i lg = dayB b kd fg hm at_ oa n lg := by
            unfold dayB
            rcases hbi with h | h
            · rw [if_pos h]; congr 1; omega
            · subst h; split
              · have : n = 0 := by omega
                subst this; rfl
              · exact dayL_0
          rw [ee]
          exact z_vret C hA hQ rfl (Nat.le_of_ble_eq_true rfl) (Nat.le_of_ble_eq_true rfl) (()) (trivial) (sb_p [0, 1, 2, 3, 4] rfl rfl) dX2_goesDay_35
        · skip
          refine z_aload_n C dX2_goesDay_24 rfl 0 rfl ?_
          refine z_iload_n C dX2_goesDay_25 rfl 2 rfl ?_
          refine z_v (ws' := fun u => ([(a0, .inr (8, [.ref a1, .ref a2, .ref a3, .ref a4, .int (zI (n : Int)), .int (zI oa), .int (zI (dy + 1))])), (a1, AQ G 4 7 r), (a2, AI G 7 hm), (a3, AI G 7 at_), (a4, AI G 7 (va_up (dayL kd fg hm at_ oa i lg) i (dayZ (kd i) (fg i) (hm i) (at_ i) oa ((dayL kd fg hm at_ oa i lg) i))))] ++ PL LP hk hf)) C (z_runV (q := 0) (As := [.int (zI (i : Int))]) (rest := []) C (ct_X2_pinesOne (zl X) G a0 a1 a2 a3 a4 r hm at_ (dayL kd fg hm at_ oa i lg) n oa (dy + 1) LP hk hf kd fg i (by first | assumption | omega) (hL.day) (by omega)) (lw_V q495 q497 qs11 q59 q499) rfl rfl (sb_p [0, 1, 2, 3, 4] rfl rfl) (na := 1) (by decide +kernel) rfl (zrm rfl rfl (rfl) (rfl)) rfl (Nat.le_of_ble_eq_true rfl) dX2_goesDay_26) (fun u => jn_p (Lr := []) [0, 1, 2, 3, 4] [] [0, 1, 2, 3, 4] rfl rfl rfl (by decide) rfl rfl) (fun u hp_26 => ?_)
          rw [dayL_succ]
          refine y_iinc (lv' := [(2, .int (zI ((i : Int) + 1))), (0, .ref a0), (1, .int (zI b))]) C dX2_goesDay_29 (q := 2) rfl (nlt rfl) rfl ?_
          refine z_goto (tgt := 12) C dX2_goesDay_32 (by decide) ?_
          refine z_lv (lv' := [(0, .ref a0), (1, .int (zI b)), (2, .int (zI ((i : Int) + 1)))]) [1, 2, 0] rfl ?_
          exact ih_12 _ (by omega) (i + 1) (by first | assumption | omega) (Or.inl (by omega)) rfl
  refine z_lv (lv' := [(0, .ref a0), (1, .int (zI b)), (2, .int (zI 0))]) [1, 2, 0] rfl ?_
  rw [show lg = dayL kd fg hm at_ oa 0 lg from dayL_0.symm]
  exact L_12 _ 0 (by first | assumption | omega) (Or.inr rfl) rfl

