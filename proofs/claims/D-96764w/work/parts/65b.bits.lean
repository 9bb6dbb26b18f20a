/-! BITS: how many of a set -/
set_option maxRecDepth 100000
def bc1 (s : Int32) : Int32 := s - ((s.toUInt32 >>> ((zI 1).toUInt32 &&& Int32.toUInt32 31)).toInt32 &&& zI 1431655765)
def bc2 (s : Int32) : Int32 := (s &&& zI 858993459) + ((s.toUInt32 >>> ((zI 2).toUInt32 &&& Int32.toUInt32 31)).toInt32 &&& zI 858993459)
def bc3 (s : Int32) : Int32 := (s + (s.toUInt32 >>> ((zI 4).toUInt32 &&& Int32.toUInt32 31)).toInt32) &&& zI 252645135
def bc4 (s : Int32) : Int32 := s + (s.toUInt32 >>> ((zI 8).toUInt32 &&& Int32.toUInt32 31)).toInt32
def bc5 (s : Int32) : Int32 := s + (s.toUInt32 >>> ((zI 16).toUInt32 &&& Int32.toUInt32 31)).toInt32
def bcF (s : Int32) : Int32 := bc5 (bc4 (bc3 (bc2 (bc1 s)))) &&& zI 63
theorem land_cut {i a b c d : Nat} (hb : b < 2 ^ i) (hd : d < 2 ^ i) : (2 ^ i * a + b) &&& (2 ^ i * c + d) = 2 ^ i * (a &&& c) + (b &&& d) := by
  apply Nat.eq_of_testBit_eq
  intro j
  rw [Nat.testBit_and, Nat.testBit_two_pow_mul_add a hb, Nat.testBit_two_pow_mul_add c hd, Nat.testBit_two_pow_mul_add (a &&& c) (Nat.and_lt_two_pow b hd)]
  split
  · rw [Nat.testBit_and]
  · rw [Nat.testBit_and]
theorem land8 {a b c d : Nat} (hb : b < 256) (hd : d < 256) : (256 * a + b) &&& (256 * c + d) = 256 * (a &&& c) + (b &&& d) := land_cut (i := 8) hb hd
/-- a byte's steps -/
def tb1_ (b : Nat) : Nat := b - ((b / 2) &&& 85)
def tb2_ (b : Nat) : Nat := (b &&& 51) + ((b / 4) &&& 51)
def tb3_ (b : Nat) : Nat := (b + b / 16) &&& 15
set_option maxHeartbeats 4000000 in
theorem tb_1 : ∀ b, b < 256 → ((b / 2) &&& 85) ≤ b ∧ ∀ r, r < 2 → ((128 * r + b / 2) &&& 85) = ((b / 2) &&& 85) := by decide +kernel
set_option maxHeartbeats 4000000 in
theorem tb_2 : ∀ b, b < 256 → ∀ r, r < 4 → ((64 * r + b / 4) &&& 51) = ((b / 4) &&& 51) := by decide +kernel
set_option maxHeartbeats 4000000 in
theorem tb_2r : ∀ b, b < 256 → tb2_ (tb1_ b) ≤ 68 ∧ tb2_ (tb1_ b) % 16 ≤ 4 ∧ tb1_ b < 256 ∧ tb3_ (tb2_ (tb1_ b)) ≤ 8 := by decide +kernel
set_option maxHeartbeats 4000000 in
theorem tb_3 : ∀ b, b < 69 → ∀ r, r < 5 → ((16 * r + (b + b / 16)) &&& 15) = ((b + b / 16) &&& 15) := by decide +kernel
set_option maxHeartbeats 4000000 in
theorem tb_top : ∀ h, h < 32 → (h - ((h / 2) &&& 21845)) = tb1_ h ∧ ((tb1_ h &&& 13107) + ((tb1_ h / 4) &&& 13107)) = tb2_ (tb1_ h) ∧ ((tb2_ (tb1_ h) + tb2_ (tb1_ h) / 16) &&& 3855) = tb3_ (tb2_ (tb1_ h)) := by decide +kernel
set_option maxHeartbeats 4000000 in
theorem tb_p : ∀ v, v < 256 → tb3_ (tb2_ (tb1_ v)) = v % 2 + v / 2 % 2 + v / 4 % 2 + v / 8 % 2 + v / 16 % 2 + v / 32 % 2 + v / 64 % 2 + v / 128 % 2 := by decide +kernel
theorem tb_pop (b0 : Nat) (h0 : b0 < 2) (b1 : Nat) (h1 : b1 < 2) (b2 : Nat) (h2 : b2 < 2) (b3 : Nat) (h3 : b3 < 2) (b4 : Nat) (h4 : b4 < 2) (b5 : Nat) (h5 : b5 < 2) (b6 : Nat) (h6 : b6 < 2) (b7 : Nat) (h7 : b7 < 2) : tb3_ (tb2_ (tb1_ (b0 + 2 * b1 + 4 * b2 + 8 * b3 + 16 * b4 + 32 * b5 + 64 * b6 + 128 * b7))) = b0 + b1 + b2 + b3 + b4 + b5 + b6 + b7 :=
  (tb_p _ (by omega)).trans (by omega)
theorem st_1 {a b M : Nat} (hb : b < 256) : (256 * a + b) - (((256 * a + b) / 2) &&& (256 * M + 85)) = 256 * (a - ((a / 2) &&& M)) + tb1_ b := by
  obtain ⟨h1, h2⟩ := tb_1 b hb
  have e : (256 * a + b) / 2 = 256 * (a / 2) + (128 * (a % 2) + b / 2) := by omega
  rw [e, land8 (by omega) (by decide), h2 (a % 2) (by omega)]
  have h3 : ((a / 2) &&& M) ≤ a := Nat.le_trans Nat.and_le_left (Nat.div_le_self _ _)
  unfold tb1_
  omega
theorem st_2 {a b M : Nat} (hb : b < 256) : ((256 * a + b) &&& (256 * M + 51)) + (((256 * a + b) / 4) &&& (256 * M + 51)) = 256 * ((a &&& M) + ((a / 4) &&& M)) + tb2_ b := by
  have h2 := tb_2 b hb (a % 4) (by omega)
  have e : (256 * a + b) / 4 = 256 * (a / 4) + (64 * (a % 4) + b / 4) := by omega
  rw [e, land8 hb (by decide), land8 (by omega) (by decide), h2]
  unfold tb2_
  omega
theorem st_3 {a b M : Nat} (hb : b ≤ 68) (ha : a % 16 ≤ 4) : ((256 * a + b) + (256 * a + b) / 16) &&& (256 * M + 15) = 256 * ((a + a / 16) &&& M) + tb3_ b := by
  have h2 := tb_3 b (by omega) (a % 16) (by omega)
  have e : (256 * a + b) + (256 * a + b) / 16 = 256 * (a + a / 16) + (16 * (a % 16) + (b + b / 16)) := by omega
  rw [e, land8 (by omega) (by decide), h2]
  rfl
def nc1 (x : Nat) : Nat := x - ((x / 2) &&& 1431655765)
def nc2 (x : Nat) : Nat := (x &&& 858993459) + ((x / 4) &&& 858993459)
def nc3 (x : Nat) : Nat := (x + x / 16) &&& 252645135
theorem nc_all {l m h : Nat} (hl : l < 256) (hm : m < 256) (hh : h < 32) : nc3 (nc2 (nc1 (256 * (256 * h + m) + l))) = 256 * (256 * tb3_ (tb2_ (tb1_ h)) + tb3_ (tb2_ (tb1_ m))) + tb3_ (tb2_ (tb1_ l)) := by
  obtain ⟨t1, t2, t3⟩ := tb_top h hh
  obtain ⟨l1, l2, l3, l4⟩ := tb_2r l hl
  obtain ⟨m1, m2, m3, m4⟩ := tb_2r m hm
  obtain ⟨h1, h2, h3, h4⟩ := tb_2r h (by omega)
  have e1 : nc1 (256 * (256 * h + m) + l) = 256 * (256 * tb1_ h + tb1_ m) + tb1_ l := by
    show (256 * (256 * h + m) + l) - (((256 * (256 * h + m) + l) / 2) &&& (256 * (256 * 21845 + 85) + 85)) = _
    rw [st_1 hl, st_1 hm, t1]
  have e2 : nc2 (256 * (256 * tb1_ h + tb1_ m) + tb1_ l) = 256 * (256 * tb2_ (tb1_ h) + tb2_ (tb1_ m)) + tb2_ (tb1_ l) := by
    show ((256 * (256 * tb1_ h + tb1_ m) + tb1_ l) &&& (256 * (256 * 13107 + 51) + 51)) + (((256 * (256 * tb1_ h + tb1_ m) + tb1_ l) / 4) &&& (256 * (256 * 13107 + 51) + 51)) = _
    rw [st_2 l3, st_2 m3, t2]
  rw [e1, e2]
  show ((256 * (256 * tb2_ (tb1_ h) + tb2_ (tb1_ m)) + tb2_ (tb1_ l)) + (256 * (256 * tb2_ (tb1_ h) + tb2_ (tb1_ m)) + tb2_ (tb1_ l)) / 16) &&& (256 * (256 * 3855 + 15) + 15) = _
  rw [st_3 l1 (by omega), st_3 m1 h2, t3]
/-! the machine's ints -/
theorem zN_bv (n : Nat) : (zI (n : Int)).toBitVec = BitVec.ofNat 32 n := by
  show BitVec.ofInt 32 (n : Int) = _
  exact BitVec.ofInt_natCast 32 n
theorem zN_and {a b : Nat} (ha : a < 4294967296) (hb : b < 4294967296) : zI (a : Int) &&& zI (b : Int) = zI ((a &&& b : Nat) : Int) := by
  apply Int32.toBitVec_inj.mp
  show (zI (a : Int)).toBitVec &&& (zI (b : Int)).toBitVec = _
  rw [zN_bv, zN_bv, zN_bv]
  apply BitVec.eq_of_toNat_eq
  rw [BitVec.toNat_and, BitVec.toNat_ofNat, BitVec.toNat_ofNat, BitVec.toNat_ofNat, Nat.mod_eq_of_lt ha, Nat.mod_eq_of_lt hb, Nat.mod_eq_of_lt (Nat.lt_of_le_of_lt Nat.and_le_left ha)]
theorem zN_or {a b : Nat} (ha : a < 2 ^ 32) (hb : b < 2 ^ 32) : zI (a : Int) ||| zI (b : Int) = zI ((a ||| b : Nat) : Int) := by
  apply Int32.toBitVec_inj.mp
  show (zI (a : Int)).toBitVec ||| (zI (b : Int)).toBitVec = _
  rw [zN_bv, zN_bv, zN_bv]
  apply BitVec.eq_of_toNat_eq
  rw [BitVec.toNat_or, BitVec.toNat_ofNat, BitVec.toNat_ofNat, BitVec.toNat_ofNat, Nat.mod_eq_of_lt ha, Nat.mod_eq_of_lt hb, Nat.mod_eq_of_lt (Nat.or_lt_two_pow ha hb)]
theorem zN_shr {n k : Nat} (hn : n < 4294967296) (hk : k < 32) : ((zI (n : Int)).toUInt32 >>> ((zI (k : Int)).toUInt32 &&& Int32.toUInt32 31)).toInt32 = zI ((n / 2 ^ k : Nat) : Int) := by
  apply Int32.toBitVec_inj.mp
  have hsh : ((zI (k : Int)).toUInt32 &&& Int32.toUInt32 31).toNat = k := by
    have h0 : ((zI (k : Int)).toUInt32 &&& Int32.toUInt32 31).toNat = (zI (k : Int)).toBitVec.toNat &&& 31 := by
      show ((zI (k : Int)).toBitVec &&& 31#32).toNat = _
      rw [BitVec.toNat_and]; rfl
    rw [h0, zN_bv, BitVec.toNat_ofNat, Nat.mod_eq_of_lt (by omega), show (31 : Nat) = 2 ^ 5 - 1 by decide, Nat.and_two_pow_sub_one_eq_mod]
    exact Nat.mod_eq_of_lt hk
  rw [zN_bv]
  apply BitVec.eq_of_toNat_eq
  have h1 : ((zI (n : Int)).toUInt32 >>> ((zI (k : Int)).toUInt32 &&& Int32.toUInt32 31)).toInt32.toBitVec.toNat = ((zI (n : Int)).toUInt32 >>> ((zI (k : Int)).toUInt32 &&& Int32.toUInt32 31)).toNat := rfl
  rw [h1, UInt32.toNat_shiftRight, hsh, Nat.mod_eq_of_lt hk, BitVec.toNat_ofNat]
  have h2 : (zI (n : Int)).toUInt32.toNat = n := by
    show (zI (n : Int)).toBitVec.toNat = n
    rw [zN_bv, BitVec.toNat_ofNat, Nat.mod_eq_of_lt hn]
  rw [h2, Nat.shiftRight_eq_div_pow, Nat.mod_eq_of_lt (Nat.lt_of_le_of_lt (Nat.div_le_self _ _) hn)]
theorem bc_n {x : Nat} (hx : x < 2097152) : bcF (zI (x : Int)) = zI (((nc3 (nc2 (nc1 x)) + nc3 (nc2 (nc1 x)) / 256 + (nc3 (nc2 (nc1 x)) + nc3 (nc2 (nc1 x)) / 256) / 65536) % 64 : Nat) : Int) := by
  have l1 : ((x / 2) &&& 1431655765) ≤ x := Nat.le_trans Nat.and_le_left (Nat.div_le_self _ _)
  have e1 : bc1 (zI (x : Int)) = zI ((nc1 x : Nat) : Int) := by
    unfold bc1
    rw [show zI 1 = zI ((1 : Nat) : Int) from rfl, zN_shr (by omega) (by decide), show zI 1431655765 = zI ((1431655765 : Nat) : Int) from rfl, zN_and (by omega) (by decide), zI_sub]
    congr 1
    unfold nc1
    rw [show x / 2 ^ 1 = x / 2 from rfl]
    omega
  have b1 : nc1 x < 2097152 := by unfold nc1; omega
  have e2 : bc2 (zI ((nc1 x : Nat) : Int)) = zI ((nc2 (nc1 x) : Nat) : Int) := by
    unfold bc2
    rw [show zI 2 = zI ((2 : Nat) : Int) from rfl, zN_shr (by omega) (by decide), show zI 858993459 = zI ((858993459 : Nat) : Int) from rfl, zN_and (by omega) (by decide), zN_and (by rw [show nc1 x / 2 ^ 2 = nc1 x / 4 from rfl]; omega) (by decide), zI_add]
    rfl
  have b2 : nc2 (nc1 x) < 4194304 := by
    have h1 : (nc1 x &&& 858993459) ≤ nc1 x := Nat.and_le_left
    have h2 : ((nc1 x / 4) &&& 858993459) ≤ nc1 x / 4 := Nat.and_le_left
    unfold nc2; omega
  have e3 : bc3 (zI ((nc2 (nc1 x) : Nat) : Int)) = zI ((nc3 (nc2 (nc1 x)) : Nat) : Int) := by
    unfold bc3
    rw [show zI 4 = zI ((4 : Nat) : Int) from rfl, zN_shr (by omega) (by decide), zI_add, show ((nc2 (nc1 x) : Nat) : Int) + ((nc2 (nc1 x) / 2 ^ 4 : Nat) : Int) = ((nc2 (nc1 x) + nc2 (nc1 x) / 16 : Nat) : Int) from rfl, show zI 252645135 = zI ((252645135 : Nat) : Int) from rfl, zN_and (by omega) (by decide)]
    rfl
  obtain ⟨c, hc⟩ : ∃ c, c = nc3 (nc2 (nc1 x)) := ⟨_, rfl⟩
  have b3 : c < 8388608 := by
    have h1 : ((nc2 (nc1 x) + nc2 (nc1 x) / 16) &&& 252645135) ≤ nc2 (nc1 x) + nc2 (nc1 x) / 16 := Nat.and_le_left
    have h2 : c = ((nc2 (nc1 x) + nc2 (nc1 x) / 16) &&& 252645135) := hc
    omega
  unfold bcF
  rw [e1, e2, e3, ← hc]
  have e4 : bc4 (zI (c : Int)) = zI ((c + c / 256 : Nat) : Int) := by
    unfold bc4
    rw [show zI 8 = zI ((8 : Nat) : Int) from rfl, zN_shr (by omega) (by decide), zI_add]
    rfl
  obtain ⟨d, hd⟩ : ∃ d, d = c + c / 256 := ⟨_, rfl⟩
  rw [e4, ← hd]
  have e5 : bc5 (zI (d : Int)) = zI ((d + d / 65536 : Nat) : Int) := by
    unfold bc5
    rw [show zI 16 = zI ((16 : Nat) : Int) from rfl, zN_shr (by omega) (by decide), zI_add]
    rfl
  rw [e5, show zI 63 = zI ((63 : Nat) : Int) from rfl, zN_and (by omega) (by decide), show (63 : Nat) = 2 ^ 6 - 1 by decide, Nat.and_two_pow_sub_one_eq_mod]
/-- a set of bits as a number -/
def bvF (b : Nat → Int) : Nat → Nat
  | 0 => 0
  | i + 1 => bvF b i + (if b i = 0 then 0 else 2 ^ i)
theorem bvF_lt (b : Nat → Int) : ∀ i, bvF b i < 2 ^ i
  | 0 => by show 0 < 1; decide
  | i + 1 => by
    have := bvF_lt b i
    show bvF b i + (if b i = 0 then 0 else 2 ^ i) < 2 ^ (i + 1)
    rw [Nat.pow_succ]
    split <;> omega
theorem sh_1 : ∀ i : Nat, i < 21 → (zI 1 <<< (zI (i : Int) &&& 31)) = zI ((2 ^ i : Nat) : Int) := by decide +kernel
theorem bits_bv (b : Nat → Int) : ∀ i, i ≤ 21 → bitsF b i = zI ((bvF b i : Nat) : Int)
  | 0, _ => rfl
  | i + 1, hi => by
    have ih := bits_bv b i (by omega)
    have hl := bvF_lt b i
    have hp : 2 ^ i ≤ 2 ^ 20 := Nat.pow_le_pow_right (by decide) (by omega)
    by_cases c : b i = 0
    · rw [bitsF_f c, ih, show zI 0 = zI ((0 : Nat) : Int) from rfl, zN_or (by omega) (by decide), Nat.or_zero]
      congr 2
      show bvF b i = bvF b i + (if b i = 0 then 0 else 2 ^ i)
      rw [if_pos c]; rfl
    · rw [bitsF_t c, ih, sh_1 i (by omega), zN_or (by omega) (by omega)]
      congr 2
      show (bvF b i ||| 2 ^ i) = bvF b i + (if b i = 0 then 0 else 2 ^ i)
      rw [if_neg c]
      have h := Nat.two_pow_add_eq_or_of_lt hl 1
      rw [Nat.mul_one] at h
      rw [Nat.or_comm, ← h, Nat.add_comm]
theorem fin_mod {P Q R : Nat} (hP : P ≤ 8) (hQ : Q ≤ 8) (hR : R ≤ 8) : ((256 * (256 * R + Q) + P) + (256 * (256 * R + Q) + P) / 256 + ((256 * (256 * R + Q) + P) + (256 * (256 * R + Q) + P) / 256) / 65536) % 64 = P + Q + R := by
  have e1 : (256 * (256 * R + Q) + P) / 256 = 256 * R + Q := by omega
  rw [e1]
  have e2 : (256 * (256 * R + Q) + P + (256 * R + Q)) / 65536 = R := by omega
  rw [e2]
  omega
theorem bc_sum {b : Nat → Int} (h : ∀ q, b q = 0 ∨ b q = 1) : bcF (bitsF b 21) = zI (sumF b 21) := by
  obtain ⟨d, hd⟩ : ∃ d : Nat → Nat, ∀ q, b q = (d q : Int) ∧ d q < 2 ∧ ∀ x : Nat, (if b q = 0 then 0 else x) = d q * x := by
    refine ⟨fun q => if b q = 0 then 0 else 1, fun q => ?_⟩
    show b q = ((if b q = 0 then 0 else 1 : Nat) : Int) ∧ (if b q = 0 then 0 else 1) < 2 ∧ ∀ x : Nat, (if b q = 0 then 0 else x) = (if b q = 0 then 0 else 1) * x
    rcases h q with e | e
    · rw [e]; exact ⟨rfl, by decide, fun x => by rw [if_pos rfl, if_pos rfl, Nat.zero_mul]⟩
    · rw [e]; exact ⟨rfl, by decide, fun x => by rw [if_neg (by decide), if_neg (by decide), Nat.one_mul]⟩
  have hv : bvF b 21 = 256 * (256 * (d 16 + 2 * d 17 + 4 * d 18 + 8 * d 19 + 16 * d 20) + (d 8 + 2 * d 9 + 4 * d 10 + 8 * d 11 + 16 * d 12 + 32 * d 13 + 64 * d 14 + 128 * d 15)) + (d 0 + 2 * d 1 + 4 * d 2 + 8 * d 3 + 16 * d 4 + 32 * d 5 + 64 * d 6 + 128 * d 7) := by
    simp only [bvF, (hd _).2.2]
    omega
  have hs : sumF b 21 = ((d 0 + d 1 + d 2 + d 3 + d 4 + d 5 + d 6 + d 7 + (d 8 + d 9 + d 10 + d 11 + d 12 + d 13 + d 14 + d 15) + (d 16 + d 17 + d 18 + d 19 + d 20) : Nat) : Int) := by
    simp only [sumF, (hd _).1]
    omega
  have q := fun i => (hd i).2.1
  have q0 := q 0; have q1 := q 1; have q2 := q 2; have q3 := q 3; have q4 := q 4; have q5 := q 5; have q6 := q 6; have q7 := q 7; have q8 := q 8; have q9 := q 9; have q10 := q 10; have q11 := q 11; have q12 := q 12; have q13 := q 13; have q14 := q 14; have q15 := q 15; have q16 := q 16; have q17 := q 17; have q18 := q 18; have q19 := q 19; have q20 := q 20
  have p1 := tb_pop _ q0 _ q1 _ q2 _ q3 _ q4 _ q5 _ q6 _ q7
  have p2 := tb_pop _ q8 _ q9 _ q10 _ q11 _ q12 _ q13 _ q14 _ q15
  have p3 := tb_pop _ q16 _ q17 _ q18 _ q19 _ q20 0 (by decide) 0 (by decide) 0 (by decide)
  simp only [Nat.mul_zero, Nat.add_zero] at p3
  rw [bits_bv b 21 (Nat.le_refl _), bc_n (Nat.lt_of_lt_of_le (bvF_lt b 21) (by decide)), hv, nc_all (by omega) (by omega) (by omega), p1, p2, p3, hs, fin_mod (by omega) (by omega) (by omega)]
