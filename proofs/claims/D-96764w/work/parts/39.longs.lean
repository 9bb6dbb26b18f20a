/-! LONGS: divisors, parts, storms, means (both) -/
set_option maxRecDepth 100000
theorem zL_div {a b : Int} (ha : 0 ≤ a ∧ a ≤ 9223372036854775807) (hb : 0 < b ∧ b ≤ 9223372036854775807) : zL a / zL b = zL (a / b) := by
  have h1 : 0 ≤ a / b := Int.ediv_nonneg ha.1 (by omega)
  have h2 : a / b ≤ a := Int.ediv_le_self b ha.1
  apply Int64.toInt_inj.mp
  rw [Int64.toInt_div, zL_toInt (by omega), zL_toInt (by omega), zL_toInt (by omega), Int.tdiv_eq_ediv_of_nonneg ha.1]
  exact Int.bmod_eq_of_le (by omega) (by omega)
theorem zL_rem {a b : Int} (ha : 0 ≤ a ∧ a ≤ 9223372036854775807) (hb : 0 < b ∧ b ≤ 9223372036854775807) : zL a - zL a / zL b * zL b = zL (a % b) := by
  rw [zL_div ha hb, zL_mul, zL_sub, Int.emod_def, Int.mul_comm]
theorem zL_ne0 {a : Int} (hb : 0 < a ∧ a ≤ 9223372036854775807) : ¬ zL a = 0 := by
  intro h
  have h2 : zL a = zL 0 := h
  rw [zL_eq (by omega) (by omega)] at h2
  omega
section LDIV
variable {X : ZE} {Y : ZY} {G : ZG} {k n : Nat} {ws : va_W} {pc : Nat} {lv : List (Nat × Value)} {st : List Value}
theorem y_ldiv (C : CX X Y G) {a b : Int} (ha : 0 ≤ a ∧ a ≤ 9223372036854775807) (hb : 0 < b ∧ b ≤ 9223372036854775807) (d : decode (zcc Y) pc = .ok (.ldiv, 1)) (z : Z X Y G k n ws (pc + 1) lv (.long (zL (a / b)) :: st)) : Z X Y G k n ws pc lv (.long (zL b) :: .long (zL a) :: st) := z_ldiv C d (zL_ne0 hb) (zL_div ha hb) z
theorem y_lrem (C : CX X Y G) {a b : Int} (ha : 0 ≤ a ∧ a ≤ 9223372036854775807) (hb : 0 < b ∧ b ≤ 9223372036854775807) (d : decode (zcc Y) pc = .ok (.lrem, 1)) (z : Z X Y G k n ws (pc + 1) lv (.long (zL (a % b)) :: st)) : Z X Y G k n ws pc lv (.long (zL b) :: .long (zL a) :: st) := z_lrem C d (zL_ne0 hb) (zL_rem ha hb) z
end LDIV
def gcdZ (a b : Int) : Int := (Nat.gcd a.toNat b.toNat : Int)
theorem gcdZ_0 {a b : Int} (ha : 0 ≤ a) (h : b = 0) : gcdZ a b = a := by subst h; unfold gcdZ; rw [show (0 : Int).toNat = 0 from rfl, Nat.gcd_zero_right]; omega
theorem gcdZ_s {a b : Int} (ha : 0 ≤ a) (hb : 0 ≤ b) : gcdZ b (a % b) = gcdZ a b := by
  obtain ⟨i, rfl⟩ := Int.eq_ofNat_of_zero_le ha
  obtain ⟨j, rfl⟩ := Int.eq_ofNat_of_zero_le hb
  unfold gcdZ
  rw [show (((i : Nat) : Int) % ((j : Nat) : Int)).toNat = i % j by rw [← Int.natCast_emod]; rfl]
  show ((Nat.gcd j (i % j) : Nat) : Int) = ((Nat.gcd i j : Nat) : Int)
  rw [Nat.gcd_comm i j, Nat.gcd_rec j i, Nat.gcd_comm (i % j) j]
theorem gcdZ_pos {a b : Int} (h : 0 < a ∨ 0 < b) : 0 < gcdZ a b := by
  have : 0 < Nat.gcd a.toNat b.toNat := by
    rcases h with h | h
    · exact Nat.gcd_pos_of_pos_left _ (by omega)
    · exact Nat.gcd_pos_of_pos_right _ (by omega)
  unfold gcdZ; omega
theorem gcdZ_le {a b : Int} (hb : 0 < b) : gcdZ a b ≤ b := by
  have : Nat.gcd a.toNat b.toNat ≤ b.toNat := Nat.gcd_le_right _ (by omega)
  unfold gcdZ; omega
def dvOk : Nat → Int → Int → Prop
  | 0, _, b => b = 0
  | f + 1, a, b => b = 0 ∨ dvOk f b (a % b)
theorem dvOk_p : ∀ (k : Nat) (a b : Int), 0 ≤ a → 0 ≤ b → b < 2 ^ k → dvOk (2 * k) a b
  | 0, a, b, ha, hb, h => by
    show b = 0
    have h : b < 1 := h
    omega
  | k + 1, a, b, ha, hb, h => by
    show b = 0 ∨ ((a % b) = 0 ∨ dvOk (2 * k) (a % b) (b % (a % b)))
    by_cases c : b = 0
    · exact Or.inl c
    · refine Or.inr ?_
      by_cases c2 : a % b = 0
      · exact Or.inl c2
      · refine Or.inr (dvOk_p k _ _ (Int.emod_nonneg _ c) (Int.emod_nonneg _ c2) ?_)
        have h1 : 0 ≤ a % b := Int.emod_nonneg _ (by omega)
        have h2 : a % b < b := Int.emod_lt_of_pos _ (by omega)
        have h3 : b % (a % b) < a % b := Int.emod_lt_of_pos _ (by omega)
        have hp : (2 : Int) ^ (k + 1) = 2 * 2 ^ k := by rw [Int.pow_succ, Int.mul_comm]
        rw [hp] at h
        by_cases c3 : a % b ≤ 2 ^ k
        · omega
        · have e : b % (a % b) = b - a % b := by
            have e2 : b % (a % b) = (b - a % b) % (a % b) := by
              have e3 : b = (b - a % b) + a % b := by omega
              have e4 : ((b - a % b) + a % b) % (a % b) = (b - a % b) % (a % b) := by first | exact Int.add_emod_right _ _ | exact Int.add_emod_self
              rw [← e3] at e4
              exact e4
            rw [e2]
            exact Int.emod_eq_of_lt (by omega) (by omega)
          omega
/-- a quotient's upper or lower part, in lowest terms -/
def partZ (up down part : Int) : Int := (if part = 0 then up else down) / gcdZ up down
set_option maxHeartbeats 4000000 in
theorem ct_X1_divisor (l : Launch) (G : ZG) (f : Nat) : ∀ (a b : Int), (0 ≤ a ∧ a ≤ 4611686018427387904) → (0 ≤ b ∧ b ≤ 4611686018427387904) → dvOk f a b → CT l yX1_divisor cX1_divisor 4 (some .long) { frames := f, locals := 30 * f } G [.long (zL a), .long (zL b)] [] (Ql G [] (fun (r : Int64) (u : Unit) => r = zL (gcdZ a b)) (fun u => [])) := by
  induction f with
  | zero =>
    intro a b ha hb hf
    refine z_met (by decide) (Nat.le_of_ble_eq_true rfl) ?_
    intro X A hl0 hA C hQ hin
    subst hl0
    show Z X _ G 0 0 _ 0 [(0, .long (zL a)), (2, .long (zL b))] []
    refine z_lload_n C dX1_divisor_0 rfl 1 rfl ?_
    refine z_lconst (v := zL 0) C dX1_divisor_1 (by decide) ?_
    refine y_lcmp C (by omega) (by omega) dX1_divisor_2 ?_
    refine y_if_ne (tgt := 10) C (by have := lcmpZ_r b 0; omega) dX1_divisor_3 (by decide) (fun c_3 => ?_) (fun c_3 => ?_)
    · skip
      exact absurd hf (fun q => c_3 ((lcmpZ_eq b 0).mpr q))
    · skip
      have e3 : b = 0 := (lcmpZ_eq b 0).mp c_3
      refine z_lload_n C dX1_divisor_6 rfl 0 rfl ?_
      refine z_goto (tgt := 17) C dX1_divisor_7 (by decide) ?_
      exact z_lret C hA hQ rfl (Nat.le_of_ble_eq_true rfl) (Nat.le_of_ble_eq_true rfl) (()) (congrArg zL (gcdZ_0 (by omega) e3).symm) (sb_e [] rfl rfl) dX1_divisor_17

  | succ f ihf =>
    intro a b ha hb hf
    refine z_met (by decide) (Nat.le_of_ble_eq_true rfl) ?_
    intro X A hl0 hA C hQ hin
    subst hl0
    show Z X _ G 0 0 _ 0 [(0, .long (zL a)), (2, .long (zL b))] []
    refine z_lload_n C dX1_divisor_0 rfl 1 rfl ?_
    refine z_lconst (v := zL 0) C dX1_divisor_1 (by decide) ?_
    refine y_lcmp C (by omega) (by omega) dX1_divisor_2 ?_
    refine y_if_ne (tgt := 10) C (by have := lcmpZ_r b 0; omega) dX1_divisor_3 (by decide) (fun c_3 => ?_) (fun c_3 => ?_)
    · skip
      have e3 : ¬ b = 0 := fun q => c_3 ((lcmpZ_eq b 0).mpr q)
      have hf2 : dvOk f b (a % b) := hf.resolve_left e3
      have h1 : 0 ≤ a % b := Int.emod_nonneg _ (by omega)
      have h2 : a % b < b := Int.emod_lt_of_pos _ (by omega)
      refine z_lload_n C dX1_divisor_10 rfl 1 rfl ?_
      refine z_lload_n C dX1_divisor_11 rfl 0 rfl ?_
      refine z_lload_n C dX1_divisor_12 rfl 1 rfl ?_
      refine y_lrem C (by omega) (by omega) dX1_divisor_13 ?_
      refine z_l C (z_runS (As := [.long (zL b), .long (zL (a % b))]) (rest := []) C (ihf b (a % b) (by first | assumption | omega) (by first | assumption | omega) (hf2)) (lw_S q783 q784 q58 q785) (sb_e [] rfl rfl) (na := 2) (by decide +kernel) rfl (zrm (nb (Nat.le_refl _)) (nb (show 8 + (4 + 11) + 30 * f ≤ 30 * (f + 1) by omega)) rfl rfl) rfl (Nat.le_of_ble_eq_true rfl) dX1_divisor_14) (fun u => jn_ro (sb_e [] rfl rfl)) (fun r_14 u hp_14 => ?_)
      have hp_14 : r_14 = zL (gcdZ b (a % b)) := hp_14
      subst hp_14
      exact z_lret C hA hQ rfl (Nat.le_of_ble_eq_true rfl) (Nat.le_of_ble_eq_true rfl) (()) (congrArg zL (gcdZ_s (by omega) (by omega))) (sb_e [] rfl rfl) dX1_divisor_17
    · skip
      have e3 : b = 0 := (lcmpZ_eq b 0).mp c_3
      refine z_lload_n C dX1_divisor_6 rfl 0 rfl ?_
      refine z_goto (tgt := 17) C dX1_divisor_7 (by decide) ?_
      exact z_lret C hA hQ rfl (Nat.le_of_ble_eq_true rfl) (Nat.le_of_ble_eq_true rfl) (()) (congrArg zL (gcdZ_0 (by omega) e3).symm) (sb_e [] rfl rfl) dX1_divisor_17

theorem ct_X1_div64 (l : Launch) (G : ZG) (a b : Int) (ha : 0 ≤ a ∧ a ≤ 4611686018427387904) (hb : 0 ≤ b ∧ b ≤ 4611686018427387904) (hb2 : b ≤ 4294967295) : CT l yX1_divisor cX1_divisor 4 (some .long) { frames := 64, cells := 0, slots := 0, locals := 1920 } G [.long (zL a), .long (zL b)] [] (Ql G [] (fun (r : Int64) (u : Unit) => r = zL (gcdZ a b)) (fun u => [])) := ct_X1_divisor l G 64 a b ha hb (dvOk_p 32 a b ha.1 hb.1 (by show b < 4294967296; omega))
set_option maxHeartbeats 4000000 in
theorem ct_X1_partOf (l : Launch) (G : ZG) (u0 : Int) (d0 : Int) (p0 : Int) (hu : 0 ≤ u0 ∧ u0 ≤ 4611686018427387904) (hd : 0 < d0 ∧ d0 ≤ 4294967295) (hp : 0 ≤ p0 ∧ p0 ≤ 1) : CT l yX1_partOf cX1_partOf 5 (some .long) { frames := 65, cells := 0, slots := 0, locals := 1943 } G [.long (zL u0), .long (zL d0), .int (zI p0)] [] (Ql G [] (fun (r : Int64) (u : Unit) => r = zL (partZ u0 d0 p0)) (fun u => [])) := by
  refine z_met (by decide) (Nat.le_of_ble_eq_true rfl) ?_
  intro X A hl0 hA C hQ hin
  subst hl0
  show Z X _ G 0 0 _ 0 [(0, .long (zL u0)), (2, .long (zL d0)), (4, .int (zI p0))] []
  refine z_iload C dX1_partOf_0 2 rfl ?_
  refine y_if_ne (tgt := 9) C (by omega) dX1_partOf_2 (by decide) (fun c_2 => ?_) (fun c_2 => ?_)
  · skip
    refine z_lload_n C dX1_partOf_9 rfl 1 rfl ?_
    refine z_lload_n C dX1_partOf_10 rfl 0 rfl ?_
    refine z_lload_n C dX1_partOf_11 rfl 1 rfl ?_
    refine z_l C (z_runS (As := [.long (zL u0), .long (zL d0)]) (rest := [.long (zL d0)]) C (ct_X1_div64 (zl X) G u0 d0 (by first | assumption | omega) (by first | assumption | omega) (by first | assumption | omega)) (lw_S q783 q784 q58 q785) (sb_e [] rfl rfl) (na := 2) (by decide +kernel) rfl (zrm rfl rfl (rfl) (rfl)) rfl (Nat.le_of_ble_eq_true rfl) dX1_partOf_12) (fun u => jn_ro (sb_e [] rfl rfl)) (fun r_12 u hp_12 => ?_)
    have hp_12 : r_12 = zL (gcdZ u0 d0) := hp_12
    subst hp_12
    have hgp := gcdZ_pos (a := u0) (b := d0) (Or.inr hd.1)
    have hgl := gcdZ_le (a := u0) hd.1
    refine y_ldiv C (by omega) (by omega) dX1_partOf_15 ?_
    exact z_lret C hA hQ rfl (Nat.le_of_ble_eq_true rfl) (Nat.le_of_ble_eq_true rfl) (()) (congrArg zL (by unfold partZ; first | rw [if_pos (by omega)] | rw [if_neg (by omega)])) (sb_e [] rfl rfl) dX1_partOf_16
  · skip
    refine z_lload_n C dX1_partOf_5 rfl 0 rfl ?_
    refine z_goto (tgt := 10) C dX1_partOf_6 (by decide) ?_
    refine z_lload_n C dX1_partOf_10 rfl 0 rfl ?_
    refine z_lload_n C dX1_partOf_11 rfl 1 rfl ?_
    refine z_l C (z_runS (As := [.long (zL u0), .long (zL d0)]) (rest := [.long (zL u0)]) C (ct_X1_div64 (zl X) G u0 d0 (by first | assumption | omega) (by first | assumption | omega) (by first | assumption | omega)) (lw_S q783 q784 q58 q785) (sb_e [] rfl rfl) (na := 2) (by decide +kernel) rfl (zrm rfl rfl (rfl) (rfl)) rfl (Nat.le_of_ble_eq_true rfl) dX1_partOf_12) (fun u => jn_ro (sb_e [] rfl rfl)) (fun r_12 u hp_12 => ?_)
    have hp_12 : r_12 = zL (gcdZ u0 d0) := hp_12
    subst hp_12
    have hgp := gcdZ_pos (a := u0) (b := d0) (Or.inr hd.1)
    have hgl := gcdZ_le (a := u0) hd.1
    refine y_ldiv C (by omega) (by omega) dX1_partOf_15 ?_
    exact z_lret C hA hQ rfl (Nat.le_of_ble_eq_true rfl) (Nat.le_of_ble_eq_true rfl) (()) (congrArg zL (by unfold partZ; first | rw [if_pos (by omega)] | rw [if_neg (by omega)])) (sb_e [] rfl rfl) dX1_partOf_16

set_option maxHeartbeats 4000000 in
theorem ct_X4_divisor (l : Launch) (G : ZG) (a : Int) (b : Int) (ha : 0 ≤ a ∧ a ≤ 4611686018427387904) (hb : 0 ≤ b ∧ b ≤ 4611686018427387904) : CT l yX4_divisor cX4_divisor 10 (some .long) { frames := 0, cells := 0, slots := 0, locals := 0 } G [.long (zL a), .long (zL b)] [] (Ql G [] (fun (r : Int64) (u : Unit) => r = zL (gcdZ a b)) (fun u => [])) := by
  refine z_met (by decide) (Nat.le_of_ble_eq_true rfl) ?_
  intro X A hl0 hA C hQ hin
  subst hl0
  show Z X _ G 0 0 _ 0 [(0, .long (zL a)), (2, .long (zL b))] []
  refine z_lload_n C dX4_divisor_0 rfl 0 rfl ?_
  refine z_lstore (lv' := [(4, .long (zL a)), (0, .long (zL a)), (2, .long (zL b))]) C dX4_divisor_1 (nlt rfl) rfl ?_
  refine z_lload_n C dX4_divisor_3 rfl 2 rfl ?_
  refine z_lstore (lv' := [(6, .long (zL b)), (4, .long (zL a)), (0, .long (zL a)), (2, .long (zL b))]) C dX4_divisor_4 (nlt rfl) rfl ?_
  have L_6 : ∀ (tt : Nat) (p : Int) (q : Int), (0 ≤ p ∧ p ≤ 4611686018427387904) → (0 ≤ q ∧ q ≤ 4611686018427387904) → (gcdZ p q = gcdZ a b) → q.toNat = tt → Z X (cX4_divisor, 10, yX4_divisor.cls, (some .long), { frames := 0, cells := 0, slots := 0, locals := 0 }, A) G 0 0 [] 6 [(6, .long (zL q)), (4, .long (zL p))] [] := by
    intro tt
    induction tt using Nat.strongRecOn with
    | _ tt ih_6 =>
      intro p q hp hq hg ht_6
      refine z_lload C dX4_divisor_6 0 rfl ?_
      refine z_lconst (v := zL 0) C dX4_divisor_8 (by decide) ?_
      refine y_lcmp C (by omega) (by omega) dX4_divisor_9 ?_
      refine y_if_eq (tgt := 31) C (by have := lcmpZ_r q 0; omega) dX4_divisor_10 (by decide) (fun c_10 => ?_) (fun c_10 => ?_)
      · skip
        have e3 : q = 0 := (lcmpZ_eq q 0).mp c_10
        refine z_lload C dX4_divisor_31 1 rfl ?_
        exact z_lret C hA hQ rfl (Nat.le_of_ble_eq_true rfl) (Nat.le_of_ble_eq_true rfl) (()) (congrArg zL ((gcdZ_0 (by omega) e3).symm.trans hg)) (sb_e [] rfl rfl) dX4_divisor_33
      · skip
        have e3 : ¬ q = 0 := fun z => c_10 ((lcmpZ_eq q 0).mpr z)
        have h1 : 0 ≤ p % q := Int.emod_nonneg _ (by omega)
        have h2 : p % q < q := Int.emod_lt_of_pos _ (by omega)
        refine z_lload C dX4_divisor_13 1 rfl ?_
        refine z_lload C dX4_divisor_15 0 rfl ?_
        refine y_lrem C (by omega) (by omega) dX4_divisor_17 ?_
        refine z_lstore (lv' := [(8, .long (zL (p % q))), (6, .long (zL q)), (4, .long (zL p))]) C dX4_divisor_18 (nlt rfl) rfl ?_
        refine z_lload C dX4_divisor_20 1 rfl ?_
        refine z_lstore (lv' := [(4, .long (zL q)), (8, .long (zL (p % q))), (6, .long (zL q))]) C dX4_divisor_22 (nlt rfl) rfl ?_
        refine z_lload C dX4_divisor_24 1 rfl ?_
        refine z_lstore (lv' := [(6, .long (zL (p % q))), (4, .long (zL q)), (8, .long (zL (p % q)))]) C dX4_divisor_26 (nlt rfl) rfl ?_
        refine z_goto (tgt := 6) C dX4_divisor_28 (by decide) ?_
        refine z_lv (lv' := [(6, .long (zL (p % q))), (4, .long (zL q))]) [0, 1] rfl ?_
        exact ih_6 _ (by omega) q (p % q) (by first | assumption | omega) (⟨by omega, by omega⟩) ((gcdZ_s (by omega) (by omega)).trans hg) rfl
  refine z_lv (lv' := [(6, .long (zL b)), (4, .long (zL a))]) [0, 1] rfl ?_
  exact L_6 _ a b (by first | assumption | omega) (by first | assumption | omega) (rfl) rfl

def partM (up down part : Int) : Int := if up = 0 then part else partZ up down part
theorem partM_e {up down part : Int} (hd : 0 < down) (hu : 0 ≤ up) (hp : 0 ≤ part ∧ part ≤ 1) : partM up down part = partZ up down part := by
  unfold partM
  split
  · rename_i h
    subst h
    unfold partZ
    have e : gcdZ 0 down = down := by unfold gcdZ; rw [show (0 : Int).toNat = 0 from rfl, Nat.gcd_zero_left]; omega
    rw [e]
    split
    · rw [Int.zero_ediv]; omega
    · rw [Int.ediv_self (by omega)]; omega
  · rfl
set_option maxHeartbeats 4000000 in
theorem ct_X4_partOf (l : Launch) (G : ZG) (u0 : Int) (d0 : Int) (p0 : Int) (hu : 0 ≤ u0 ∧ u0 ≤ 4611686018427387904) (hd : 0 ≤ d0 ∧ d0 ≤ 4294967295) (hp : 0 ≤ p0 ∧ p0 ≤ 1) : CT l yX4_partOf cX4_partOf 7 (some .long) { frames := 1, cells := 0, slots := 0, locals := 29 } G [.long (zL u0), .long (zL d0), .int (zI p0)] [] (Ql G [] (fun (r : Int64) (u : Unit) => r = zL (partM u0 d0 p0)) (fun u => [])) := by
  refine z_met (by decide) (Nat.le_of_ble_eq_true rfl) ?_
  intro X A hl0 hA C hQ hin
  subst hl0
  show Z X _ G 0 0 _ 0 [(0, .long (zL u0)), (2, .long (zL d0)), (4, .int (zI p0))] []
  refine z_lload_n C dX4_partOf_0 rfl 0 rfl ?_
  refine z_lconst (v := zL 0) C dX4_partOf_1 (by decide) ?_
  refine y_lcmp C (by omega) (by omega) dX4_partOf_2 ?_
  refine y_if_ne (tgt := 10) C (by have := lcmpZ_r u0 0; omega) dX4_partOf_3 (by decide) (fun c_3 => ?_) (fun c_3 => ?_)
  · skip
    have e3 : ¬ u0 = 0 := fun q => c_3 ((lcmpZ_eq u0 0).mpr q)
    refine z_lload_n C dX4_partOf_10 rfl 0 rfl ?_
    refine z_lload_n C dX4_partOf_11 rfl 1 rfl ?_
    refine z_l C (z_runS (As := [.long (zL u0), .long (zL d0)]) (rest := []) C (ct_X4_divisor (zl X) G u0 d0 (by first | assumption | omega) (by first | assumption | omega)) (lw_S q1479 q1480 q61 q1481) (sb_e [] rfl rfl) (na := 2) (by decide +kernel) rfl (zrm rfl rfl (rfl) (rfl)) rfl (Nat.le_of_ble_eq_true rfl) dX4_partOf_12) (fun u => jn_ro (sb_e [] rfl rfl)) (fun r_12 u hp_12 => ?_)
    have hp_12 : r_12 = zL (gcdZ u0 d0) := hp_12
    subst hp_12
    have hgp := gcdZ_pos (a := u0) (b := d0) (Or.inl (by omega))
    have hgl : gcdZ u0 d0 ≤ u0 := by
      have : Nat.gcd u0.toNat d0.toNat ≤ u0.toNat := Nat.gcd_le_left _ (by omega)
      unfold gcdZ; omega
    refine z_lstore (lv' := [(5, .long (zL (gcdZ u0 d0))), (0, .long (zL u0)), (2, .long (zL d0)), (4, .int (zI p0))]) C dX4_partOf_15 (nlt rfl) rfl ?_
    refine z_iload C dX4_partOf_17 3 rfl ?_
    refine y_if_ne (tgt := 29) C (by omega) dX4_partOf_19 (by decide) (fun c_19 => ?_) (fun c_19 => ?_)
    · skip
      refine z_lload_n C dX4_partOf_29 rfl 2 rfl ?_
      refine z_lload C dX4_partOf_30 0 rfl ?_
      refine y_ldiv C (by omega) (by omega) dX4_partOf_32 ?_
      exact z_lret C hA hQ rfl (Nat.le_of_ble_eq_true rfl) (Nat.le_of_ble_eq_true rfl) (()) (congrArg zL (by unfold partM; first | rw [if_pos e3] | (rw [if_neg e3]; unfold partZ; first | rw [if_pos (by omega)] | rw [if_neg (by omega)]))) (sb_e [] rfl rfl) dX4_partOf_33
    · skip
      refine z_lload_n C dX4_partOf_22 rfl 1 rfl ?_
      refine z_lload C dX4_partOf_23 0 rfl ?_
      refine y_ldiv C (by omega) (by omega) dX4_partOf_25 ?_
      refine z_goto (tgt := 33) C dX4_partOf_26 (by decide) ?_
      exact z_lret C hA hQ rfl (Nat.le_of_ble_eq_true rfl) (Nat.le_of_ble_eq_true rfl) (()) (congrArg zL (by unfold partM; first | rw [if_pos e3] | (rw [if_neg e3]; unfold partZ; first | rw [if_pos (by omega)] | rw [if_neg (by omega)]))) (sb_e [] rfl rfl) dX4_partOf_33
  · skip
    have e3 : u0 = 0 := (lcmpZ_eq u0 0).mp c_3
    refine z_iload C dX4_partOf_6 2 rfl ?_
    refine y_i2l C (by omega) dX4_partOf_8 ?_
    exact z_lret C hA hQ rfl (Nat.le_of_ble_eq_true rfl) (Nat.le_of_ble_eq_true rfl) (()) (congrArg zL (by unfold partM; first | rw [if_pos e3] | (rw [if_neg e3]; unfold partZ; first | rw [if_pos (by omega)] | rw [if_neg (by omega)]))) (sb_e [] rfl rfl) dX4_partOf_9

def oMean (kd : Nat → Nat) (fg : Nat → Int) (hm : Nat → Int) (at_ : Nat → Int) (lg : Nat → Int) (n : Nat) (oa : Int) (part : Int) : Int := if 0 ≤ part ∧ part ≤ 1 then (if n = 0 then part else partZ (sumL lg n) (n : Int) part) else 1000000001
theorem sumL_0n {lg : Nat → Int} {n : Nat} (h : n = 0) : sumL lg n = 0 := by subst h; rfl
set_option maxHeartbeats 4000000 in
theorem ct_X1_mean (l : Launch) (G : ZG) (x : Nat) (b0 : Nat) (m0 : Nat) (tl : Nat) (le : Nat) (sh : Nat) (im : Int) (fw : Int) (fh : Int) (lo : Int) (a0 : Nat) (a1 : Nat) (a2 : Nat) (a3 : Nat) (a4 : Nat) (r : Nat → Option Nat) (hm : Nat → Int) (at_ : Nat → Int) (lg : Nat → Int) (n : Nat) (oa : Int) (dy : Int) (LP : List Nat) (hk : Nat → Nat) (hf : Nat → Int) (kd : Nat → Nat) (fg : Nat → Int) (part : Int) (hH : HR LP hk hf r n kd fg) (hL : LK n kd fg hm at_ lg oa) (rpart : -2147483648 ≤ part ∧ part ≤ 2147483647) : CT l yX1_mean cX1_mean 2 (some .long) { frames := 66, cells := 0, slots := 0, locals := 1967 } G [.ref x, .int (zI part)] ([(x, .inr (10, [.ref a0, .ref b0, .ref m0, .int (zI im), .ref tl, .ref le, .int (zI fw), .int (zI fh), .int (zI lo), .ref sh])), (a0, .inr (8, [.ref a1, .ref a2, .ref a3, .ref a4, .int (zI (n : Int)), .int (zI oa), .int (zI dy)])), (a1, AQ G 4 7 r), (a2, AI G 7 hm), (a3, AI G 7 at_), (a4, AI G 7 lg)] ++ PL LP hk hf) (Ql G ([(x, .inr (10, [.ref a0, .ref b0, .ref m0, .int (zI im), .ref tl, .ref le, .int (zI fw), .int (zI fh), .int (zI lo), .ref sh])), (a0, .inr (8, [.ref a1, .ref a2, .ref a3, .ref a4, .int (zI (n : Int)), .int (zI oa), .int (zI dy)])), (a1, AQ G 4 7 r), (a2, AI G 7 hm), (a3, AI G 7 at_), (a4, AI G 7 lg)] ++ PL LP hk hf) (fun (r : Int64) (u : Unit) => r = zL (oMean kd fg hm at_ lg n oa part)) (fun u => ([(x, .inr (10, [.ref a0, .ref b0, .ref m0, .int (zI im), .ref tl, .ref le, .int (zI fw), .int (zI fh), .int (zI lo), .ref sh])), (a0, .inr (8, [.ref a1, .ref a2, .ref a3, .ref a4, .int (zI (n : Int)), .int (zI oa), .int (zI dy)])), (a1, AQ G 4 7 r), (a2, AI G 7 hm), (a3, AI G 7 at_), (a4, AI G 7 lg)] ++ PL LP hk hf))) := by
  refine z_met (by decide) (Nat.le_of_ble_eq_true rfl) ?_
  intro X A hl0 hA C hQ hin
  subst hl0
  obtain ⟨hn7, hoa, hLj⟩ := id hL
  show Z X _ G 0 0 _ 0 [(0, .ref x), (1, .int (zI part))] []
  refine z_iload_n C dX1_mean_0 rfl 1 rfl ?_
  refine y_iconst C dX1_mean_1 ?_
  refine y_iconst C dX1_mean_2 ?_
  refine z_i C (z_runS (As := [.int (zI part), .int (zI 0), .int (zI 1)]) (rest := []) C (ct_X1_isIn (zl X) G part 0 1 (by first | assumption | omega) (by first | assumption | omega) (by first | assumption | omega)) (lw_S q189 q190 q58 q191) (sb_e [] rfl rfl) (na := 3) (by decide +kernel) rfl (zrm rfl rfl (rfl) (rfl)) rfl (Nat.le_of_ble_eq_true rfl) dX1_mean_3) (fun u => jn_ro (sb_e [] rfl rfl)) (fun r_3 u hp_3 => ?_)
  have hp_3 : r_3 = zI (bI (0 ≤ part ∧ part ≤ 1)) := hp_3
  subst hp_3
  refine y_bne (tgt := 13) C dX1_mean_6 (by decide) (fun c_6 => ?_) (fun c_6 => ?_)
  · skip
    have hsl := hL.sum
    refine z_aload_n C dX1_mean_13 rfl 0 rfl ?_
    refine z_get (q := 0) (kf := 0) (v := .ref a0) C rfl rfl in_X1 (by decide) q880 (Or.inl rfl) rfl dX1_mean_14 ?_
    refine z_get (q := 1) (kf := 4) (v := .int (zI (n : Int))) C rfl rfl in_X2 (by decide) q846 (Or.inl rfl) rfl dX1_mean_17 ?_
    refine y_if_ne (tgt := 28) C (by omega) dX1_mean_20 (by decide) (fun c_20 => ?_) (fun c_20 => ?_)
    · skip
      refine z_aload_n C dX1_mean_28 rfl 0 rfl ?_
      refine z_get (q := 0) (kf := 0) (v := .ref a0) C rfl rfl in_X1 (by decide) q880 (Or.inl rfl) rfl dX1_mean_29 ?_
      refine z_i C (z_runV (q := 1) (As := []) (rest := []) C (ct_X2_allLonging (zl X) G a0 a1 a2 a3 a4 lg n oa dy (by first | assumption | omega)) (lw_V q597 q598 q599 q59 q600) rfl rfl (sb_e [1, 5] rfl rfl) (na := 0) (by decide +kernel) rfl (zrm rfl rfl (rfl) (rfl)) rfl (Nat.le_of_ble_eq_true rfl) dX1_mean_32) (fun u => jn_ro (sb_e [1, 5] rfl rfl)) (fun r_32 u hp_32 => ?_)
      have hp_32 : r_32 = zI (sumL lg n) := hp_32
      subst hp_32
      refine y_i2l C (by omega) dX1_mean_35 ?_
      refine z_aload_n C dX1_mean_36 rfl 0 rfl ?_
      refine z_get (q := 0) (kf := 0) (v := .ref a0) C rfl rfl in_X1 (by decide) q880 (Or.inl rfl) rfl dX1_mean_37 ?_
      refine z_get (q := 1) (kf := 4) (v := .int (zI (n : Int))) C rfl rfl in_X2 (by decide) q846 (Or.inl rfl) rfl dX1_mean_40 ?_
      refine y_i2l C (by omega) dX1_mean_43 ?_
      refine z_iload_n C dX1_mean_44 rfl 1 rfl ?_
      refine z_l C (z_runS (As := [.long (zL (sumL lg n)), .long (zL (n : Int)), .int (zI part)]) (rest := []) C (ct_X1_partOf (zl X) G (sumL lg n) (n : Int) part (by first | assumption | omega) (by first | assumption | omega) (by first | assumption | omega)) (lw_S q780 q781 q58 q782) (sb_e [] rfl rfl) (na := 3) (by decide +kernel) rfl (zrm rfl rfl (rfl) (rfl)) rfl (Nat.le_of_ble_eq_true rfl) dX1_mean_45) (fun u => jn_ro (sb_e [] rfl rfl)) (fun r_45 u hp_45 => ?_)
      have hp_45 : r_45 = zL (partZ (sumL lg n) (n : Int) part) := hp_45
      subst hp_45
      exact z_lret C hA hQ rfl (Nat.le_of_ble_eq_true rfl) (Nat.le_of_ble_eq_true rfl) (()) (congrArg zL (by unfold oMean; (repeat (first | rw [if_pos (by omega)] | rw [if_neg (by omega)])))) (sb_p [0, 1, 2, 3, 4, 5] rfl rfl) dX1_mean_48
    · skip
      refine z_iload_n C dX1_mean_23 rfl 1 rfl ?_
      refine y_i2l C (by omega) dX1_mean_24 ?_
      refine z_goto (tgt := 48) C dX1_mean_25 (by decide) ?_
      exact z_lret C hA hQ rfl (Nat.le_of_ble_eq_true rfl) (Nat.le_of_ble_eq_true rfl) (()) (congrArg zL (by unfold oMean; (repeat (first | rw [if_pos (by omega)] | rw [if_neg (by omega)])))) (sb_p [0, 1, 2, 3, 4, 5] rfl rfl) dX1_mean_48
  · skip
    refine z_ldc2 C q779 dX1_mean_9 ?_
    refine z_eql (y := zL 1000000001) (by decide) ?_
    exact z_lret C hA hQ rfl (Nat.le_of_ble_eq_true rfl) (Nat.le_of_ble_eq_true rfl) (()) (congrArg zL (by unfold oMean; (repeat (first | rw [if_pos (by omega)] | rw [if_neg (by omega)])))) (sb_p [0, 1, 2, 3, 4, 5] rfl rfl) dX1_mean_12

set_option maxHeartbeats 4000000 in
theorem ct_X4_mean (l : Launch) (G : ZG) (m : Nat) (g1 : Nat) (g2 : Nat) (g3 : Nat) (g4 : Nat) (g5 : Nat) (s1 : Nat) (s2 : Nat) (s3 : Nat) (s4 : Nat) (s5 : Nat) (s6 : Nat) (t1 : Nat) (t2 : Nat) (t3 : Nat) (c0 : Nat) (c1 : Nat) (c2 : Nat) (c3 : Nat) (y0 : Nat) (y1 : Nat) (thr : Int) (rdg : Int) (plc : Int) (ibd : Int) (stm : Int) (him : Int) (pl0 : Int) (itk : Int) (chd : Int) (chf : Int) (sd : Int) (ki : Value) (kd : Nat → Nat) (fg : Nat → Int) (hm : Nat → Int) (at_ : Nat → Int) (lg : Nat → Int) (n : Nat) (oa : Int) (dy : Int) (part : Int) (hL : LK n kd fg hm at_ lg oa) (rpart : -2147483648 ≤ part ∧ part ≤ 2147483647) : CT l yX4_mean cX4_mean 2 (some .long) { frames := 2, cells := 0, slots := 0, locals := 55 } G [.ref m, .int (zI part)] [(m, .inr (11, [.int (zI (n : Int)), .ref g1, .ref g2, .ref g3, .ref g4, .ref g5, .int (zI oa), .int (zI dy), .ref s1, .ref s2, .ref s3, .ref s4, .ref s5, .ref s6, .int (zI thr), .int (zI rdg), .int (zI plc), .int (zI ibd), .int (zI stm), .ref t1, .ref t2, .ref t3, .ref c0, .ref c1, .ref c2, .ref c3, .int (zI him), .int (zI pl0), .int (zI itk), ki, .int (zI chd), .int (zI chf), .ref y0, .int (zI sd), .ref y1])), (g1, AI G 7 (fun z_ => (kd z_ : Int))), (g2, AI G 7 fg), (g3, AI G 7 hm), (g4, AI G 7 at_), (g5, AI G 7 lg)] (Ql G [(m, .inr (11, [.int (zI (n : Int)), .ref g1, .ref g2, .ref g3, .ref g4, .ref g5, .int (zI oa), .int (zI dy), .ref s1, .ref s2, .ref s3, .ref s4, .ref s5, .ref s6, .int (zI thr), .int (zI rdg), .int (zI plc), .int (zI ibd), .int (zI stm), .ref t1, .ref t2, .ref t3, .ref c0, .ref c1, .ref c2, .ref c3, .int (zI him), .int (zI pl0), .int (zI itk), ki, .int (zI chd), .int (zI chf), .ref y0, .int (zI sd), .ref y1])), (g1, AI G 7 (fun z_ => (kd z_ : Int))), (g2, AI G 7 fg), (g3, AI G 7 hm), (g4, AI G 7 at_), (g5, AI G 7 lg)] (fun (r : Int64) (u : Unit) => r = zL (oMean kd fg hm at_ lg n oa part)) (fun u => [(m, .inr (11, [.int (zI (n : Int)), .ref g1, .ref g2, .ref g3, .ref g4, .ref g5, .int (zI oa), .int (zI dy), .ref s1, .ref s2, .ref s3, .ref s4, .ref s5, .ref s6, .int (zI 0), .int (zI rdg), .int (zI plc), .int (zI ibd), .int (zI stm), .ref t1, .ref t2, .ref t3, .ref c0, .ref c1, .ref c2, .ref c3, .int (zI him), .int (zI pl0), .int (zI itk), ki, .int (zI chd), .int (zI chf), .ref y0, .int (zI sd), .ref y1])), (g1, AI G 7 (fun z_ => (kd z_ : Int))), (g2, AI G 7 fg), (g3, AI G 7 hm), (g4, AI G 7 at_), (g5, AI G 7 lg)])) := by
  refine z_met (by decide) (Nat.le_of_ble_eq_true rfl) ?_
  intro X A hl0 hA C hQ hin
  subst hl0
  obtain ⟨hn7, hoa, hLj⟩ := id hL
  show Z X _ G 0 0 _ 0 [(0, .ref m), (1, .int (zI part))] []
  refine z_aload_n C dX4_mean_0 rfl 0 rfl ?_
  refine y_iconst C dX4_mean_1 ?_
  refine z_put (q := 0) (kf := 14) (ws' := [(m, .inr (11, [.int (zI (n : Int)), .ref g1, .ref g2, .ref g3, .ref g4, .ref g5, .int (zI oa), .int (zI dy), .ref s1, .ref s2, .ref s3, .ref s4, .ref s5, .ref s6, .int (zI 0), .int (zI rdg), .int (zI plc), .int (zI ibd), .int (zI stm), .ref t1, .ref t2, .ref t3, .ref c0, .ref c1, .ref c2, .ref c3, .int (zI him), .int (zI pl0), .int (zI itk), ki, .int (zI chd), .int (zI chf), .ref y0, .int (zI sd), .ref y1])), (g1, AI G 7 (fun z_ => (kd z_ : Int))), (g2, AI G 7 fg), (g3, AI G 7 hm), (g4, AI G 7 at_), (g5, AI G 7 lg)]) C rfl rfl in_X4 tyX4_ok nmX4 (by decide) q1101 rfl rfl rfl rfl rfl (nlt rfl) rfl dX4_mean_2 ?_
  refine z_iload_n C dX4_mean_5 rfl 1 rfl ?_
  refine y_i2l C (by omega) dX4_mean_6 ?_
  refine z_lconst (v := zL 0) C dX4_mean_7 (by decide) ?_
  refine z_lconst (v := zL 1) C dX4_mean_8 (by decide) ?_
  refine z_i C (z_runS (As := [.long (zL part), .long (zL 0), .long (zL 1)]) (rest := []) C (ct_X4_in (zl X) G part 0 1 (by first | assumption | omega) (by first | assumption | omega) (by first | assumption | omega)) (lw_S q1207 q1208 q61 q1209) (sb_e [] rfl rfl) (na := 3) (by decide +kernel) rfl (zrm rfl rfl (rfl) (rfl)) rfl (Nat.le_of_ble_eq_true rfl) dX4_mean_9) (fun u => jn_ro (sb_e [] rfl rfl)) (fun r_9 u hp_9 => ?_)
  have hp_9 : r_9 = zI (bI (0 ≤ part ∧ part ≤ 1)) := hp_9
  subst hp_9
  refine y_beq (tgt := 32) C dX4_mean_12 (by decide) (fun c_12 => ?_) (fun c_12 => ?_)
  · skip
    refine z_ldc2 C q1472 dX4_mean_32 ?_
    refine z_eql (y := zL 1000000001) (by decide) ?_
    exact z_lret C hA hQ rfl (Nat.le_of_ble_eq_true rfl) (Nat.le_of_ble_eq_true rfl) (()) (congrArg zL (by unfold oMean; (repeat (first | rw [if_pos (by omega)] | rw [if_neg (by omega)])))) (sb_e [0, 1, 2, 3, 4, 5] rfl rfl) dX4_mean_35
  · skip
    have hsl := hL.sum
    refine z_aload_n C dX4_mean_15 rfl 0 rfl ?_
    refine z_i C (z_runV (q := 0) (As := []) (rest := []) C (ct_X4_allLonging (zl X) G m g1 g2 g3 g4 g5 kd fg hm at_ lg n oa dy ([.ref s1, .ref s2, .ref s3, .ref s4, .ref s5, .ref s6, .int (zI 0), .int (zI rdg), .int (zI plc), .int (zI ibd), .int (zI stm), .ref t1, .ref t2, .ref t3, .ref c0, .ref c1, .ref c2, .ref c3, .int (zI him), .int (zI pl0), .int (zI itk), ki, .int (zI chd), .int (zI chf), .ref y0, .int (zI sd), .ref y1]) (by first | assumption | omega)) (lw_V q1347 q1349 qs45 q61 q1350) rfl rfl (sb_e [0, 1, 2, 3, 4, 5] rfl rfl) (na := 0) (by decide +kernel) rfl (zrm rfl rfl (rfl) (rfl)) rfl (Nat.le_of_ble_eq_true rfl) dX4_mean_16) (fun u => jn_ro (sb_e [0, 1, 2, 3, 4, 5] rfl rfl)) (fun r_16 u hp_16 => ?_)
    have hp_16 : r_16 = zI (sumL lg n) := hp_16
    subst hp_16
    refine y_i2l C (by omega) dX4_mean_19 ?_
    refine z_aload_n C dX4_mean_20 rfl 0 rfl ?_
    refine z_get (q := 0) (kf := 0) (v := .int (zI (n : Int))) C rfl rfl in_X4 (by decide) q1087 (Or.inl rfl) rfl dX4_mean_21 ?_
    refine y_i2l C (by omega) dX4_mean_24 ?_
    refine z_iload_n C dX4_mean_25 rfl 1 rfl ?_
    refine z_l C (z_runS (As := [.long (zL (sumL lg n)), .long (zL (n : Int)), .int (zI part)]) (rest := []) C (ct_X4_partOf (zl X) G (sumL lg n) (n : Int) part (by first | assumption | omega) (by first | assumption | omega) (by first | assumption | omega)) (lw_S q1476 q1477 q61 q1478) (sb_e [] rfl rfl) (na := 3) (by decide +kernel) rfl (zrm rfl rfl (rfl) (rfl)) rfl (Nat.le_of_ble_eq_true rfl) dX4_mean_26) (fun u => jn_ro (sb_e [] rfl rfl)) (fun r_26 u hp_26 => ?_)
    have hp_26 : r_26 = zL (partM (sumL lg n) (n : Int) part) := hp_26
    subst hp_26
    refine z_goto (tgt := 35) C dX4_mean_29 (by decide) ?_
    exact z_lret C hA hQ rfl (Nat.le_of_ble_eq_true rfl) (Nat.le_of_ble_eq_true rfl) (()) (congrArg zL (by unfold oMean; rw [if_pos (by omega)]; by_cases e : n = 0; (rw [if_pos e]; unfold partM; rw [if_pos (sumL_0n e)]); (rw [if_neg e]; exact partM_e (by omega) (by omega) (by omega)))) (sb_e [0, 1, 2, 3, 4, 5] rfl rfl) dX4_mean_35

