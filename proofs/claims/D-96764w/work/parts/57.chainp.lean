/-! CHAIN, the plain law -/
set_option maxRecDepth 100000
def foldN (g : Nat → Int × Int → Int × Int) : Nat → Int × Int → Int × Int
  | 0, s => s
  | i + 1, s => g i (foldN g i s)
theorem foldN_skip {g : Nat → Int × Int → Int × Int} {a : Nat} {s : Int × Int} : ∀ (c : Nat), (∀ i, a ≤ i → i < a + c → ∀ s, g i s = s) → foldN g (a + c) s = foldN g a s
  | 0, _ => rfl
  | c + 1, h => by
    show g (a + c) (foldN g (a + c) s) = _
    rw [h (a + c) (by omega) (by omega), foldN_skip c (fun i h1 h2 => h i h1 (by omega))]
theorem foldN_id {g : Nat → Int × Int → Int × Int} {s : Int × Int} : ∀ (m : Nat), (∀ i, i < m → g i s = s) → foldN g m s = s
  | 0, _ => rfl
  | m + 1, h => by
    show g m (foldN g m s) = s
    rw [foldN_id m (fun i hi => h i (by omega)), h m (by omega)]
theorem foldN_inv {g : Nat → Int × Int → Int × Int} {P : Int × Int → Prop} {s : Int × Int} (h0 : P s) : ∀ (m : Nat), (∀ i, i < m → ∀ t, P t → P (g i t)) → P (foldN g m s)
  | 0, _ => h0
  | m + 1, h => h m (by omega) _ (foldN_inv h0 m (fun i hi => h i (by omega)))
/-- another's place is the same behind a ride -/
theorem rideF_oth {kd : Nat → Nat} {fg hm : Nat → Int} {oa : Int} {n j : Nat} {yard : Int} {i : Nat} (hi : i ≠ j) : ∀ (t : Nat) (at_ lg : Nat → Int), (rideF kd fg hm oa n j yard t at_ lg).2.1 i = at_ i
  | 0, _, _ => rfl
  | t + 1, at_, lg => by
    by_cases h : at_ j = yard
    · rw [rideF_0 h]
    · rw [rideF_s h]
      show (rideF kd fg hm oa n j yard t _ _).2.1 i = at_ i
      rw [rideF_oth hi t]
      exact if_neg hi
/-- from a place on, with at most L rides more, no horse of the set um: the best of s and of all that comes to the end -/
def chF (kd : Nat → Nat) (fg hm : Nat → Int) (n : Nat) (oa to : Int) : Nat → Nat → (Nat → Int) → (Nat → Int) → Int → Int → Int → Int × Int → Int × Int
  | 0, _, _, _, pl, d, f, s => if pl = to then tkC s d f else s
  | L + 1, um, at_, lg, pl, d, f, s => if pl = to then tkC s d f else
      foldN (fun k s => if um.testBit (k / 21) = false ∧ at_ (k / 21) = pl ∧ ¬ ((k % 21 : Nat) : Int) = pl then
        chF kd fg hm n oa to L (um ||| 1 <<< (k / 21)) (rdA kd fg hm oa n (k / 21) ((k % 21 : Nat) : Int) at_ lg) (rdL kd fg hm oa n (k / 21) ((k % 21 : Nat) : Int) at_ lg) ((k % 21 : Nat) : Int) (d + ((rdN kd fg hm oa n (k / 21) ((k % 21 : Nat) : Int) at_ lg : Nat) : Int)) (if um = 0 then ((k / 21 : Nat) : Int) else f) s else s) (21 * n) s
/-- what one ride more does -/
def chG (kd : Nat → Nat) (fg hm : Nat → Int) (n : Nat) (oa to : Int) (L um : Nat) (at_ lg : Nat → Int) (pl d f : Int) : Nat → Int × Int → Int × Int := fun k s =>
  if um.testBit (k / 21) = false ∧ at_ (k / 21) = pl ∧ ¬ ((k % 21 : Nat) : Int) = pl then
        chF kd fg hm n oa to L (um ||| 1 <<< (k / 21)) (rdA kd fg hm oa n (k / 21) ((k % 21 : Nat) : Int) at_ lg) (rdL kd fg hm oa n (k / 21) ((k % 21 : Nat) : Int) at_ lg) ((k % 21 : Nat) : Int) (d + ((rdN kd fg hm oa n (k / 21) ((k % 21 : Nat) : Int) at_ lg : Nat) : Int)) (if um = 0 then ((k / 21 : Nat) : Int) else f) s else s
section CHP
variable {kd : Nat → Nat} {fg hm : Nat → Int} {n : Nat} {oa to : Int} {L um : Nat} {at_ lg : Nat → Int} {pl d f : Int} {s : Int × Int}
theorem chF_s : chF kd fg hm n oa to (L + 1) um at_ lg pl d f s = if pl = to then tkC s d f else foldN (chG kd fg hm n oa to L um at_ lg pl d f) (21 * n) s := rfl
theorem chF_to : ∀ (L : Nat), pl = to → chF kd fg hm n oa to L um at_ lg pl d f s = tkC s d f
  | 0, h => if_pos h
  | L + 1, h => by rw [chF_s, if_pos h]
theorem chF_0n (h : ¬ pl = to) : chF kd fg hm n oa to 0 um at_ lg pl d f s = s := if_neg h
theorem chF_sn (h : ¬ pl = to) : chF kd fg hm n oa to (L + 1) um at_ lg pl d f s = foldN (chG kd fg hm n oa to L um at_ lg pl d f) (21 * n) s := by rw [chF_s, if_neg h]
theorem chG_t {b y : Nat} (hy : y < 21) (h1 : um.testBit b = false) (h2 : at_ b = pl) (h3 : ¬ (y : Int) = pl) : chG kd fg hm n oa to L um at_ lg pl d f (21 * b + y) s = chF kd fg hm n oa to L (um ||| 1 <<< b) (rdA kd fg hm oa n b (y : Int) at_ lg) (rdL kd fg hm oa n b (y : Int) at_ lg) (y : Int) (d + ((rdN kd fg hm oa n b (y : Int) at_ lg : Nat) : Int)) (if um = 0 then ((b : Nat) : Int) else f) s := by
  have e1 : (21 * b + y) / 21 = b := by omega
  have e2 : (21 * b + y) % 21 = y := by omega
  unfold chG
  rw [e1, e2, if_pos ⟨h1, h2, h3⟩]
theorem chG_f {b y : Nat} (hy : y < 21) (h : ¬ (um.testBit b = false ∧ at_ b = pl ∧ ¬ (y : Int) = pl)) : chG kd fg hm n oa to L um at_ lg pl d f (21 * b + y) s = s := by
  have e1 : (21 * b + y) / 21 = b := by omega
  have e2 : (21 * b + y) % 21 = y := by omega
  unfold chG
  rw [e1, e2, if_neg h]
theorem tkC_old (h1 : 0 ≤ s.1) (h2 : s.1 ≤ d) : tkC s d f = s := if_neg (by omega)
/-- no better than what there is: nothing comes of it -/
theorem chF_old : ∀ (L um : Nat) (at_ lg : Nat → Int) (pl d f : Int), 0 ≤ s.1 → s.1 ≤ d → chF kd fg hm n oa to L um at_ lg pl d f s = s
  | 0, um, at_, lg, pl, d, f, h1, h2 => by
    by_cases c : pl = to
    · rw [chF_to 0 c, tkC_old h1 h2]
    · exact if_neg c
  | L + 1, um, at_, lg, pl, d, f, h1, h2 => by
    by_cases c : pl = to
    · rw [chF_to _ c, tkC_old h1 h2]
    · rw [chF_sn c]
      refine foldN_id _ (fun i hi => ?_)
      unfold chG
      split
      · exact chF_old L _ _ _ _ _ _ h1 (by omega)
      · rfl
/-- nobody there who could ride on: nothing comes of it -/
theorem chF_none (h0 : ¬ pl = to) (h : ∀ b, b < n → um.testBit b = false → ¬ at_ b = pl) : chF kd fg hm n oa to L um at_ lg pl d f s = s := by
  cases L with
  | zero => exact if_neg h0
  | succ L =>
    rw [chF_sn h0]
    refine foldN_id _ (fun i hi => ?_)
    unfold chG
    refine if_neg (fun c => h (i / 21) (by omega) c.1 c.2.1)
/-- .. seen ahead of the ride -/
theorem chF_idle {b y : Nat} (h0 : ¬ (y : Int) = to) (h : ∀ i, i < n → (um ||| 1 <<< b).testBit i = false → ¬ at_ i = (y : Int)) : chF kd fg hm n oa to L (um ||| 1 <<< b) (rdA kd fg hm oa n b (y : Int) at_ lg) (rdL kd fg hm oa n b (y : Int) at_ lg) (y : Int) d f s = s := by
  refine chF_none h0 (fun i hi ht => ?_)
  have hne : i ≠ b := by
    intro e
    subst e
    rw [Nat.testBit_or, Nat.one_shiftLeft, Nat.testBit_two_pow_self, Bool.or_true] at ht
    cases ht
  show ¬ (rideF kd fg hm oa n b (y : Int) 20 at_ lg).2.1 i = _
  rw [rideF_oth hne]
  exact h i hi ht
/-- the best so far in its bounds -/
def CI (s : Int × Int) : Prop := s = (-4, -4) ∨ (0 ≤ s.1 ∧ s.1 ≤ 60 ∧ -4 ≤ s.2 ∧ s.2 ≤ 7)
theorem CI.tk {s : Int × Int} (h : CI s) (hd : 0 ≤ d ∧ d ≤ 60) (hf : -4 ≤ f ∧ f ≤ 7) : CI (tkC s d f) := by
  unfold tkC
  split
  · exact Or.inr ⟨hd.1, hd.2, hf.1, hf.2⟩
  · exact h
theorem chF_ci : ∀ (L um : Nat) (at_ lg : Nat → Int) (pl d f : Int) (s : Int × Int), n ≤ 7 → CI s → 0 ≤ d → d + 20 * (L : Int) ≤ 60 → (-4 ≤ f ∧ f ≤ 7) → CI (chF kd fg hm n oa to L um at_ lg pl d f s)
  | 0, um, at_, lg, pl, d, f, s, hn, hs, h1, h2, h3 => by
    by_cases c : pl = to
    · rw [chF_to 0 c]; exact hs.tk ⟨h1, by omega⟩ h3
    · rw [chF_0n c]; exact hs
  | L + 1, um, at_, lg, pl, d, f, s, hn, hs, h1, h2, h3 => by
    by_cases c : pl = to
    · rw [chF_to _ c]; exact hs.tk ⟨h1, by omega⟩ h3
    · rw [chF_sn c]
      refine foldN_inv hs _ (fun i hi t ht => ?_)
      unfold chG
      split
      · have hr := rdN_le kd fg hm oa n (i / 21) ((i % 21 : Nat) : Int) at_ lg
        refine chF_ci L _ _ _ _ _ _ _ hn ht (by omega) (by omega) ?_
        split
        · omega
        · exact h3
      · exact ht
theorem chG_ci {k : Nat} (hn : n ≤ 7) (hs : CI s) (h1 : 0 ≤ d) (h2 : d + 20 * ((L + 1 : Nat) : Int) ≤ 60) (h3 : -4 ≤ f ∧ f ≤ 7) (hk : k < 21 * n) : CI (chG kd fg hm n oa to L um at_ lg pl d f k s) := by
  unfold chG
  split
  · have hr := rdN_le kd fg hm oa n (k / 21) ((k % 21 : Nat) : Int) at_ lg
    refine chF_ci L _ _ _ _ _ _ _ hn hs (by omega) (by omega) ?_
    split
    · omega
    · exact h3
  · exact hs
theorem foldG_ci {k : Nat} (hn : n ≤ 7) (hs : CI s) (h1 : 0 ≤ d) (h2 : d + 20 * ((L + 1 : Nat) : Int) ≤ 60) (h3 : -4 ≤ f ∧ f ≤ 7) (hk : k ≤ 21 * n) : CI (foldN (chG kd fg hm n oa to L um at_ lg pl d f) k s) :=
  foldN_inv hs _ (fun i hi t ht => chG_ci hn ht h1 h2 h3 (by omega))
/-- what a third ride does, to the end alone -/
def thG (kd : Nat → Nat) (fg hm : Nat → Int) (n : Nat) (oa to : Int) (um : Nat) (at_ lg : Nat → Int) (pl d f : Int) : Nat → Int × Int → Int × Int := fun c s =>
  if um.testBit c = false ∧ at_ c = pl then tkC s (d + ((rdN kd fg hm oa n c to at_ lg : Nat) : Int)) f else s
theorem thG_row (hu : ¬ um = 0) (h0 : ¬ pl = to) (ht : 0 ≤ to ∧ to ≤ 20) (m : Nat) : ∀ (j : Nat), j ≤ 21 → foldN (chG kd fg hm n oa to 0 um at_ lg pl d f) (21 * m + j) s = if (j : Int) ≤ to then foldN (chG kd fg hm n oa to 0 um at_ lg pl d f) (21 * m) s else thG kd fg hm n oa to um at_ lg pl d f m (foldN (chG kd fg hm n oa to 0 um at_ lg pl d f) (21 * m) s)
  | 0, _ => by rw [if_pos (by omega)]; rfl
  | j + 1, hj => by
    have ih := thG_row hu h0 ht m j (by omega)
    show chG kd fg hm n oa to 0 um at_ lg pl d f (21 * m + j) (foldN (chG kd fg hm n oa to 0 um at_ lg pl d f) (21 * m + j) s) = _
    rw [ih]
    by_cases c1 : (j : Int) < to
    · rw [if_pos (by omega), if_pos (by omega)]
      by_cases c2 : um.testBit m = false ∧ at_ m = pl ∧ ¬ (j : Int) = pl
      · rw [chG_t (by omega) c2.1 c2.2.1 c2.2.2, chF_0n (by omega)]
      · rw [chG_f (by omega) c2]
    · by_cases c3 : (j : Int) = to
      · rw [if_pos (by omega), if_neg (by omega)]
        unfold thG
        by_cases c2 : um.testBit m = false ∧ at_ m = pl
        · rw [if_pos c2, chG_t (by omega) c2.1 c2.2 (by omega), chF_to 0 c3, if_neg hu, c3]
        · rw [if_neg c2, chG_f (by omega) (fun z => c2 ⟨z.1, z.2.1⟩)]
      · rw [if_neg (by omega), if_neg (by omega)]
        by_cases c2 : um.testBit m = false ∧ at_ m = pl ∧ ¬ (j : Int) = pl
        · rw [chG_t (by omega) c2.1 c2.2.1 c2.2.2, chF_0n c3]
        · rw [chG_f (by omega) c2]
theorem thG_all (hu : ¬ um = 0) (h0 : ¬ pl = to) (ht : 0 ≤ to ∧ to ≤ 20) : ∀ (m : Nat), foldN (chG kd fg hm n oa to 0 um at_ lg pl d f) (21 * m) s = foldN (thG kd fg hm n oa to um at_ lg pl d f) m s
  | 0 => rfl
  | m + 1 => by
    have h := thG_row (kd := kd) (fg := fg) (hm := hm) (n := n) (oa := oa) (at_ := at_) (lg := lg) (d := d) (f := f) (s := s) hu h0 ht m 21 (Nat.le_refl _)
    rw [if_neg (by omega), thG_all hu h0 ht m] at h
    exact h
theorem thG_t {c : Nat} (h1 : um.testBit c = false) (h2 : at_ c = pl) : thG kd fg hm n oa to um at_ lg pl d f c s = tkC s (d + ((rdN kd fg hm oa n c to at_ lg : Nat) : Int)) f := if_pos ⟨h1, h2⟩
theorem thG_f {c : Nat} (h : ¬ (um.testBit c = false ∧ at_ c = pl)) : thG kd fg hm n oa to um at_ lg pl d f c s = s := if_neg h
theorem thG_ci {k : Nat} (hs : CI s) (h1 : 0 ≤ d) (h2 : d + 20 ≤ 60) (h3 : -4 ≤ f ∧ f ≤ 7) : CI (foldN (thG kd fg hm n oa to um at_ lg pl d f) k s) := by
  refine foldN_inv hs _ (fun i hi t ht => ?_)
  unfold thG
  split
  · have hr := rdN_le kd fg hm oa n i to at_ lg
    exact ht.tk ⟨by omega, by omega⟩ h3
  · exact ht
end CHP
/-- the sets of horses -/
theorem tb1 {a c : Nat} : (0 ||| 1 <<< a).testBit c = false ↔ ¬ c = a := by
  rw [Nat.zero_or, Nat.one_shiftLeft, Nat.testBit_two_pow]
  simp [eq_comm]
theorem tb2 {a b c : Nat} : ((0 ||| 1 <<< a) ||| 1 <<< b).testBit c = false ↔ ¬ c = a ∧ ¬ c = b := by
  rw [Nat.testBit_or, Bool.or_eq_false_iff, tb1, Nat.one_shiftLeft, Nat.testBit_two_pow]
  simp [eq_comm]
theorem um_ne {u b : Nat} : ¬ (u ||| 1 <<< b) = 0 := by
  intro h
  have h1 := congrArg (fun z => Nat.testBit z b) h
  simp [Nat.testBit_or, Nat.one_shiftLeft, Nat.testBit_two_pow_self] at h1
theorem um_lt {u b : Nat} (hu : u < 128) (hb : b < 7) : (u ||| 1 <<< b) < 128 := by
  have h1 : 1 <<< b < 2 ^ 7 := by
    rw [Nat.one_shiftLeft]
    exact Nat.pow_lt_pow_right (by decide) hb
  exact Nat.or_lt_two_pow (n := 7) hu h1
def hasB (s k : Nat) : Int := if s.testBit k then 1 else 0
set_option maxHeartbeats 4000000 in
theorem hasQ_all : ∀ u : Nat, u < 128 → ∀ h : Nat, h < 7 → hasQ (zI (u : Int)) (zI (h : Int)) = hasB u h ∧ (zI (u : Int) ||| (zI 1 <<< (zI (h : Int) &&& 31))) = zI ((u ||| 1 <<< h : Nat) : Int) := by decide +kernel
theorem hasQ_n {u h : Nat} (hu : u < 128) (hh : h < 7) : hasQ (zI (u : Int)) (zI (h : Int)) = hasB u h := (hasQ_all u hu h hh).1
theorem mask_or {u h : Nat} (hu : u < 128) (hh : h < 7) : (zI (u : Int) ||| (zI 1 <<< (zI (h : Int) &&& 31))) = zI ((u ||| 1 <<< h : Nat) : Int) := (hasQ_all u hu h hh).2
theorem hasB_r (s k : Nat) : 0 ≤ hasB s k ∧ hasB s k ≤ 1 := by unfold hasB; split <;> omega
theorem hasB_0 {s k : Nat} (h : hasB s k = 0) : s.testBit k = false := by
  unfold hasB at h
  split at h
  · omega
  · rename_i c; simpa using c
theorem hasB_1 {s k : Nat} (h : ¬ hasB s k = 0) : ¬ s.testBit k = false := by
  unfold hasB at h
  split at h
  · rename_i c; rw [c]; decide
  · omega
/-- how the component keeps the best: none is the most there can be -/
def encW (x : Int) : Int := if x < 0 then 1000000000 else x
theorem encW_r {s : Int × Int} (h : CI s) : 0 ≤ encW s.1 ∧ encW s.1 ≤ 1000000000 := by
  unfold encW
  rcases h with h | ⟨h1, h2, -, -⟩
  · rw [h]; rw [if_pos (by decide)]; omega
  · split <;> omega
theorem encW_p {x : Int} (h : 0 ≤ x) : encW x = x := if_neg (by omega)
theorem encW_t {s : Int × Int} {d f : Int} (hd : 0 ≤ d) (h : d < encW s.1) : tkC s d f = (d, f) := by
  unfold encW at h
  unfold tkC
  by_cases c : s.1 < 0
  · exact if_pos (Or.inl c)
  · rw [if_neg c] at h; exact if_pos (Or.inr h)
theorem encW_f {s : Int × Int} {d : Int} (hd : d ≤ 60) (h : encW s.1 ≤ d) : 0 ≤ s.1 ∧ s.1 ≤ d := by
  unfold encW at h
  split at h
  · omega
  · omega
theorem encW_n {s : Int × Int} (h : CI s) : encW s.1 = 1000000000 ↔ s.1 < 0 := by
  unfold encW
  rcases h with h | ⟨h1, h2, -, -⟩
  · rw [h]; exact ⟨fun _ => by decide, fun _ => by rw [if_pos (by decide)]⟩
  · rw [if_neg (by omega)]; omega
/-- the chain's answer -/
def oChain (kd : Nat → Nat) (fg hm at_ lg : Nat → Int) (n : Nat) (oa : Int) (from_ to what : Int) : Int := if (0 ≤ from_ ∧ from_ ≤ 20) ∧ (0 ≤ to ∧ to ≤ 20) ∧ (0 ≤ what ∧ what ≤ 1) then (if what = 0 then (chF kd fg hm n oa to 3 0 at_ lg from_ 0 (-4) (-4, -4)).1 else (chF kd fg hm n oa to 3 0 at_ lg from_ 0 (-4) (-4, -4)).2) else -1
theorem CI_b {a b : Int} (h : CI (a, b)) : -4 ≤ a ∧ a ≤ 60 ∧ -4 ≤ b ∧ b ≤ 7 := by
  rcases h with h | ⟨h1, h2, h3, h4⟩
  · cases h; omega
  · have h1 : 0 ≤ a := h1
    have h2 : a ≤ 60 := h2
    have h3 : -4 ≤ b := h3
    have h4 : b ≤ 7 := h4
    omega
theorem CI_0 : CI (-4, -4) := Or.inl rfl
section OCH
variable {kd : Nat → Nat} {fg hm at_ lg : Nat → Int} {n : Nat} {oa from_ to what : Int}
theorem oChain_no (h : ¬ ((0 ≤ from_ ∧ from_ ≤ 20) ∧ (0 ≤ to ∧ to ≤ 20) ∧ (0 ≤ what ∧ what ≤ 1))) : oChain kd fg hm at_ lg n oa from_ to what = -1 := if_neg h
theorem oChain_eq (h : (0 ≤ from_ ∧ from_ ≤ 20) ∧ (0 ≤ to ∧ to ≤ 20) ∧ (0 ≤ what ∧ what ≤ 1)) (e : from_ = to) : oChain kd fg hm at_ lg n oa from_ to what = if what = 0 then 0 else -4 := by
  unfold oChain
  rw [if_pos h, chF_to 3 e]
  rfl
theorem oChain_ne {t1 t2 : Int} (h : (0 ≤ from_ ∧ from_ ≤ 20) ∧ (0 ≤ to ∧ to ≤ 20) ∧ (0 ≤ what ∧ what ≤ 1)) (e : ¬ from_ = to) (hs : foldN (chG kd fg hm n oa to 2 0 at_ lg from_ 0 (-4)) (21 * n) (-4, -4) = (t1, t2)) : oChain kd fg hm at_ lg n oa from_ to what = if what = 0 then t1 else t2 := by
  unfold oChain
  rw [if_pos h, chF_sn e, hs]
theorem oChain_ch {t1 t2 : Int} (h : (0 ≤ from_ ∧ from_ ≤ 20) ∧ (0 ≤ to ∧ to ≤ 20) ∧ (0 ≤ what ∧ what ≤ 1)) (hs : chF kd fg hm n oa to 3 0 at_ lg from_ 0 (-4) (-4, -4) = (t1, t2)) : oChain kd fg hm at_ lg n oa from_ to what = if what = 0 then t1 else t2 := by
  unfold oChain
  rw [if_pos h, hs]
end OCH
theorem CI_n {a b : Int} (h : CI (a, b)) (ha : a < 0) : a = -4 ∧ b = -4 := by
  rcases h with h | ⟨h1, -, -, -⟩
  · cases h; exact ⟨rfl, rfl⟩
  · have h1 : 0 ≤ a := h1
    omega
