/-! OPS: what the component and the model both compute (plain) -/
theorem i_of_eq {a b : Int} (h : a = b) : zI a = zI b := congrArg zI h
/-- how long one takes, waiting w days first -/
def tkB (kd : Nat → Nat) (fg hm at_ lg : Nat → Int) (n : Nat) (oa yard : Int) (w j : Nat) : Int := ((rdN kd fg hm oa n j yard at_ (goL kd fg hm at_ oa n w lg) : Nat) : Int)
theorem tkB_r (kd : Nat → Nat) (fg hm at_ lg : Nat → Int) (n : Nat) (oa yard : Int) (w j : Nat) : 0 ≤ tkB kd fg hm at_ lg n oa yard w j ∧ tkB kd fg hm at_ lg n oa yard w j ≤ 20 := by
  have h := rideF_le kd fg hm oa n j yard 20 at_ (goL kd fg hm at_ oa n w lg)
  unfold tkB
  show 0 ≤ (((rideF kd fg hm oa n j yard 20 at_ (goL kd fg hm at_ oa n w lg)).1 : Nat) : Int) ∧ (((rideF kd fg hm oa n j yard 20 at_ (goL kd fg hm at_ oa n w lg)).1 : Nat) : Int) ≤ 20
  omega
/-- the first least of f 0 .. -/
def minF (f : Nat → Int) : Nat → Int × Int
  | 0 => (-4, -4)
  | i + 1 => if (minF f i).1 < 0 ∨ f i < (minF f i).2 then ((i : Int), f i) else minF f i
theorem minF_t {f : Nat → Int} {i : Nat} (h : (minF f i).1 < 0 ∨ f i < (minF f i).2) : minF f (i + 1) = ((i : Int), f i) := if_pos h
theorem minF_f {f : Nat → Int} {i : Nat} (h : ¬ ((minF f i).1 < 0 ∨ f i < (minF f i).2)) : minF f (i + 1) = minF f i := if_neg h
theorem minF_r {f : Nat → Int} {B : Int} (h : ∀ j, 0 ≤ f j ∧ f j ≤ B) : ∀ n, (minF f n = (-4, -4) ∧ n = 0) ∨ (0 ≤ (minF f n).1 ∧ (minF f n).1 < n ∧ 0 ≤ (minF f n).2 ∧ (minF f n).2 ≤ B ∧ (minF f n).2 = f (minF f n).1.toNat) := by
  intro n
  induction n with
  | zero => exact Or.inl ⟨rfl, rfl⟩
  | succ n ih =>
    refine Or.inr ?_
    by_cases c : (minF f n).1 < 0 ∨ f n < (minF f n).2
    · rw [minF_t c]
      have := h n
      refine ⟨?_, ?_, this.1, this.2, ?_⟩
      · show (0 : Int) ≤ (n : Int); omega
      · show (n : Int) < ((n + 1 : Nat) : Int); omega
      · show f n = f ((n : Int)).toNat; rfl
    · rw [minF_f c]
      rcases ih with ⟨e, _⟩ | ⟨a1, a2, a3⟩
      · exact absurd (Or.inl (by rw [e]; decide)) c
      · exact ⟨a1, by omega, a3⟩
/-- the first greatest of f 0 .. -/
def maxF (f : Nat → Int) : Nat → Int × Int
  | 0 => (-4, -4)
  | i + 1 => if (maxF f i).2 < f i then ((i : Int), f i) else maxF f i
theorem maxF_t {f : Nat → Int} {i : Nat} (h : (maxF f i).2 < f i) : maxF f (i + 1) = ((i : Int), f i) := if_pos h
theorem maxF_f {f : Nat → Int} {i : Nat} (h : ¬ (maxF f i).2 < f i) : maxF f (i + 1) = maxF f i := if_neg h
theorem maxF_r {f : Nat → Int} {B : Int} (h : ∀ j, 0 ≤ f j ∧ f j ≤ B) : ∀ n, (maxF f n = (-4, -4) ∧ n = 0) ∨ (0 ≤ (maxF f n).1 ∧ (maxF f n).1 < n ∧ 0 ≤ (maxF f n).2 ∧ (maxF f n).2 ≤ B ∧ (maxF f n).2 = f (maxF f n).1.toNat) := by
  intro n
  induction n with
  | zero => exact Or.inl ⟨rfl, rfl⟩
  | succ n ih =>
    refine Or.inr ?_
    by_cases c : (maxF f n).2 < f n
    · rw [maxF_t c]
      have := h n
      refine ⟨?_, ?_, this.1, this.2, ?_⟩
      · show (0 : Int) ≤ (n : Int); omega
      · show (n : Int) < ((n + 1 : Nat) : Int); omega
      · show f n = f ((n : Int)).toNat; rfl
    · rw [maxF_f c]
      rcases ih with ⟨e, _⟩ | ⟨a1, a2, a3⟩
      · exfalso; apply c; rw [e]; have := (h n).1; show (-4 : Int) < f n; omega
      · exact ⟨a1, by omega, a3⟩
/-- the first that is so, of 0 .. n-1, or none -/
def firstF (p : Nat → Bool) : Nat → Int
  | 0 => -4
  | i + 1 => if firstF p i < 0 then (if p i then (i : Int) else -4) else firstF p i
theorem firstF_no {p : Nat → Bool} : ∀ {n : Nat}, (∀ j, j < n → p j = false) → firstF p n = -4
  | 0, _ => rfl
  | n + 1, h => by
    have e := firstF_no (n := n) (fun j hj => h j (by omega))
    show (if firstF p n < 0 then (if p n then (n : Int) else -4) else firstF p n) = -4
    rw [e, if_pos (by decide), h n (by omega)]; rfl
theorem firstF_at {p : Nat → Bool} {i : Nat} (h : ∀ j, j < i → p j = false) (hi : p i = true) : ∀ {n : Nat}, i < n → firstF p n = (i : Int)
  | 0, hn => absurd hn (Nat.not_lt_zero _)
  | n + 1, hn => by
    show (if firstF p n < 0 then (if p n then (n : Int) else -4) else firstF p n) = (i : Int)
    by_cases c : i = n
    · subst c
      rw [firstF_no h, if_pos (by decide), hi]; rfl
    · rw [firstF_at h hi (n := n) (by omega), if_neg (by omega)]
theorem firstF_r {p : Nat → Bool} : ∀ (n : Nat), firstF p n = -4 ∨ (0 ≤ firstF p n ∧ firstF p n < n)
  | 0 => Or.inl rfl
  | n + 1 => by
    show (if firstF p n < 0 then (if p n then (n : Int) else -4) else firstF p n) = -4 ∨ _
    have ih := firstF_r (p := p) n
    have e : firstF p (n + 1) = (if firstF p n < 0 then (if p n then (n : Int) else -4) else firstF p n) := rfl
    rw [e]
    split
    · split
      · right; omega
      · left; rfl
    · right; omega
def sumF (f : Nat → Int) : Nat → Int
  | 0 => 0
  | i + 1 => sumF f i + f i
theorem sumF_r {f : Nat → Int} {B : Int} (h : ∀ j, 0 ≤ f j ∧ f j ≤ B) (hB : 0 ≤ B) : ∀ n : Nat, 0 ≤ sumF f n ∧ sumF f n ≤ B * n
  | 0 => ⟨Int.le_refl _, by show (0 : Int) ≤ B * 0; omega⟩
  | n + 1 => by
    have ih := sumF_r h hB n
    have := h n
    show 0 ≤ sumF f n + f n ∧ sumF f n + f n ≤ B * ((n + 1 : Nat) : Int)
    have e : B * ((n + 1 : Nat) : Int) = B * (n : Int) + B := by
      rw [show ((n + 1 : Nat) : Int) = (n : Int) + 1 by omega, Int.mul_add, Int.mul_one]
    rw [e]; omega
theorem zTN (j : Nat) : ((j : Nat) : Int).toNat = j := rfl
theorem rdN_le (kd : Nat → Nat) (fg hm : Nat → Int) (oa : Int) (n j : Nat) (yard : Int) (at_ lg : Nat → Int) : rdN kd fg hm oa n j yard at_ lg ≤ 20 := rideF_le kd fg hm oa n j yard 20 at_ lg
theorem minF_t' {f : Nat → Int} {i : Nat} {b l : Int} (h : minF f i = (b, l)) (c : b < 0 ∨ f i < l) : minF f (i + 1) = ((i : Int), f i) := minF_t (by rw [h]; exact c)
theorem minF_f' {f : Nat → Int} {i : Nat} {b l : Int} (h : minF f i = (b, l)) (c : ¬ (b < 0 ∨ f i < l)) : minF f (i + 1) = (b, l) := (minF_f (by rw [h]; exact c)).trans h
theorem maxF_t' {f : Nat → Int} {i : Nat} {b l : Int} (h : maxF f i = (b, l)) (c : l < f i) : maxF f (i + 1) = ((i : Int), f i) := maxF_t (by rw [h]; exact c)
theorem maxF_f' {f : Nat → Int} {i : Nat} {b l : Int} (h : maxF f i = (b, l)) (c : ¬ l < f i) : maxF f (i + 1) = (b, l) := (maxF_f (by rw [h]; exact c)).trans h
theorem minF_w (f : Nat → Int) : ∀ (n : Nat) (b l : Int), minF f n = (b, l) → (b = -4 ∧ l = -4 ∧ n = 0) ∨ (0 ≤ b ∧ b < n ∧ l = f b.toNat)
  | 0, b, l, h => by
    have h1 : (-4 : Int) = b := congrArg Prod.fst h
    have h2 : (-4 : Int) = l := congrArg Prod.snd h
    exact Or.inl ⟨h1.symm, h2.symm, rfl⟩
  | n + 1, b, l, h => by
    refine Or.inr ?_
    by_cases c : (minF f n).1 < 0 ∨ f n < (minF f n).2
    · rw [minF_t c] at h
      have h1 : (n : Int) = b := congrArg Prod.fst h
      have h2 : f n = l := congrArg Prod.snd h
      subst h1
      exact ⟨by omega, by omega, h2.symm⟩
    · rw [minF_f c] at h
      rcases minF_w f n b l h with ⟨a1, a2, a3⟩ | ⟨a1, a2, a3⟩
      · exact absurd (Or.inl (by rw [h]; show b < 0; omega)) c
      · exact ⟨a1, by omega, a3⟩
theorem minF_b {f : Nat → Int} {n : Nat} {b l B : Int} (h : minF f n = (b, l)) (hf : ∀ j, 0 ≤ f j ∧ f j ≤ B) (hB : 0 ≤ B) : -4 ≤ b ∧ b ≤ n ∧ -4 ≤ l ∧ l ≤ B ∧ (b < 0 → n = 0 ∧ b = -4 ∧ l = -4) := by
  rcases minF_w f n b l h with ⟨a1, a2, a3⟩ | ⟨a1, a2, a3⟩
  · omega
  · have := hf b.toNat; omega
theorem maxF_b {f : Nat → Int} {B : Int} (hf : ∀ j, 0 ≤ f j ∧ f j ≤ B) (hB : 0 ≤ B) : ∀ {n : Nat} {b l : Int}, maxF f n = (b, l) → -4 ≤ b ∧ b ≤ n ∧ -4 ≤ l ∧ l ≤ B ∧ (b < 0 → n = 0 ∧ b = -4 ∧ l = -4) ∧ (0 ≤ b → 0 ≤ l) := by
  intro n b l h
  rcases maxF_r hf n with ⟨e, e2⟩ | ⟨a1, a2, a3, a4, a5⟩
  · rw [e] at h
    have h1 : (-4 : Int) = b := congrArg Prod.fst h
    have h2 : (-4 : Int) = l := congrArg Prod.snd h
    omega
  · rw [h] at a1 a2 a3 a4
    have b1 : 0 ≤ b := a1
    have b2 : b < n := a2
    have b3 : 0 ≤ l := a3
    have b4 : l ≤ B := a4
    omega
theorem LK.oa {n : Nat} {kd : Nat → Nat} {fg hm at_ lg : Nat → Int} {oa y : Int} (h : LK n kd fg hm at_ lg oa) (hy : 0 ≤ y ∧ y ≤ 20) : LK n kd fg hm at_ lg y := ⟨h.1, hy, h.2.2⟩
theorem LK.lg {n : Nat} {kd : Nat → Nat} {fg hm at_ lg : Nat → Int} {oa y : Int} {j : Nat} (h : LK n kd fg hm at_ lg oa) (hy : 0 ≤ y ∧ y ≤ 99) : LK n kd fg hm at_ (va_up lg j y) oa := by
  obtain ⟨h1, h2, h3⟩ := h
  refine ⟨h1, h2, fun i hi => ?_⟩
  obtain ⟨a, b, c, d, e⟩ := h3 i hi
  refine ⟨a, b, c, d, ?_⟩
  unfold va_up
  split
  · exact hy
  · exact e
theorem LK.hm {n : Nat} {kd : Nat → Nat} {fg hm at_ lg : Nat → Int} {oa y : Int} {j : Nat} (h : LK n kd fg hm at_ lg oa) (hy : 0 ≤ y ∧ y ≤ 20) : LK n kd fg (va_up hm j y) at_ lg oa := by
  obtain ⟨h1, h2, h3⟩ := h
  refine ⟨h1, h2, fun i hi => ?_⟩
  obtain ⟨a, b, c, d, e⟩ := h3 i hi
  refine ⟨a, b, ?_, d, e⟩
  unfold va_up
  split
  · exact hy
  · exact c
theorem LK.pace {n : Nat} {kd : Nat → Nat} {fg hm at_ lg : Nat → Int} {oa : Int} (h : LK n kd fg hm at_ lg oa) {j : Nat} (hj : j < n) : 1 ≤ paceZ (kd j) (fg j) (lg j) ∧ paceZ (kd j) (fg j) (lg j) ≤ 60 := by
  obtain ⟨a, b, c, d, e⟩ := h.2.2 j hj
  have := paceZ_r (k := kd j) b e
  omega
theorem LK.sum {n : Nat} {kd : Nat → Nat} {fg hm at_ lg : Nat → Int} {oa : Int} (h : LK n kd fg hm at_ lg oa) : 0 ≤ sumL lg n ∧ sumL lg n ≤ 693 := by
  have h1 := h.1
  have := sumL_r (n := n) (fun j hj => (h.2.2 j hj).2.2.2.2)
  omega
