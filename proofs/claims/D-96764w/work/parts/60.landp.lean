/-! A LAND'S TEXT, the plain law: reading it and what is told coming -/
set_option maxRecDepth 100000
/-- the sign at p, or e behind the end -/
def hereF (f : Nat → Int) (m p : Nat) (e : Int) : Int := if p < m then f p else e
theorem hereF_r {f : Nat → Int} {m p : Nat} {e : Int} (hf : ∀ k, -2147483648 ≤ f k ∧ f k ≤ 2147483647) (he : -2147483648 ≤ e ∧ e ≤ 2147483647) : -2147483648 ≤ hereF f m p e ∧ hereF f m p e ≤ 2147483647 := by
  unfold hereF; split
  · exact hf p
  · exact he
abbrev isD (f : Nat → Int) (m p : Nat) : Prop := p < m ∧ 48 ≤ f p ∧ f p ≤ 57
theorem hereF_d {f : Nat → Int} {m p : Nat} {e : Int} (he : e < 0) : (48 ≤ hereF f m p e ∧ hereF f m p e ≤ 57) ↔ isD f m p := by
  unfold hereF isD
  split
  · constructor
    · intro h; exact ⟨by assumption, h⟩
    · intro h; exact h.2
  · constructor
    · intro h; omega
    · intro h; omega
theorem hereF_i {f : Nat → Int} {m p : Nat} {e : Int} (h : p < m) : hereF f m p e = f p := if_pos h
theorem hereF_is {f : Nat → Int} {m p : Nat} {e c : Int} (he : e < 0) (hc : 0 ≤ c) : hereF f m p e = c ↔ (p < m ∧ f p = c) := by
  unfold hereF
  split
  · constructor
    · intro h; exact ⟨by assumption, h⟩
    · intro h; exact h.2
  · constructor
    · intro h; omega
    · intro h; omega
/-- digits from p on, when all was well so far (b = 0): where one stands then, whether it is bad, the number -/
def dgN (f : Nat → Int) (m : Nat) (b : Int) (p : Nat) : Nat → Nat × Int × Int
  | 0 => (p, b, 0)
  | k + 1 => if (dgN f m b p k).2.1 = 1 ∨ ¬ isD f m (dgN f m b p k).1 then ((dgN f m b p k).1, 1, 0) else ((dgN f m b p k).1 + 1, 0, 10 * (dgN f m b p k).2.2 + f (dgN f m b p k).1 - 48)
section DG
variable {f : Nat → Int} {m p k p1 : Nat} {b b1 v1 : Int}
theorem dgN_bad (h : dgN f m b p k = (p1, b1, v1)) (c : b1 = 1 ∨ ¬ isD f m p1) : dgN f m b p (k + 1) = (p1, 1, 0) := by
  show (if _ then _ else _) = _
  rw [h]; exact if_pos c
theorem dgN_ok (h : dgN f m b p k = (p1, b1, v1)) (hb : b1 = 0) (c : isD f m p1) : dgN f m b p (k + 1) = (p1 + 1, 0, 10 * v1 + f p1 - 48) := by
  show (if _ then _ else _) = _
  rw [h]; exact if_neg (fun (z : b1 = 1 ∨ ¬ isD f m p1) => z.elim (fun q => by omega) (fun q => q c))
theorem dgN_all (hb : b = 0 ∨ b = 1) : ∀ (k p1 : Nat) (b1 v1 : Int), dgN f m b p k = (p1, b1, v1) → (b1 = 0 ∨ b1 = 1) ∧ p ≤ p1 ∧ p1 ≤ p + k ∧ (b1 = 0 → b = 0 ∧ p1 = p + k ∧ (k = 0 ∨ p1 ≤ m)) ∧ (p ≤ m → p1 ≤ m) ∧ 0 ≤ v1 ∧ (k = 0 → v1 = 0) ∧ (k ≤ 1 → v1 ≤ 9) ∧ (k ≤ 2 → v1 ≤ 99)
  | 0, p1, b1, v1, h => by
    have h : (p, b, (0 : Int)) = (p1, b1, v1) := h
    cases h
    refine ⟨hb, by omega, by omega, fun z => ⟨z, by omega, Or.inl rfl⟩, fun z => z, by omega, fun _ => rfl, fun _ => by omega, fun _ => by omega⟩
  | k + 1, p1, b1, v1, h => by
    obtain ⟨p0, b0, v0, h0⟩ : ∃ p0 b0 v0, dgN f m b p k = (p0, b0, v0) := ⟨_, _, _, rfl⟩
    obtain ⟨a1, a2, a3, a4, a5, a6, a7, a8, a9⟩ := dgN_all hb k p0 b0 v0 h0
    by_cases c : b0 = 1 ∨ ¬ isD f m p0
    · rw [dgN_bad h0 c] at h
      cases h
      refine ⟨Or.inr rfl, a2, by omega, fun z => by omega, a5, by omega, fun z => by omega, fun _ => by omega, fun _ => by omega⟩
    · have c1 : b0 = 0 := by
        rcases a1 with z | z
        · exact z
        · exact absurd (Or.inl z) c
      have c2 : isD f m p0 := Classical.byContradiction fun z => c (Or.inr z)
      rw [dgN_ok h0 c1 c2] at h
      cases h
      obtain ⟨d1, d2, d3⟩ := c2
      obtain ⟨e1, e2, e3⟩ := a4 c1
      refine ⟨Or.inl rfl, by omega, by omega, fun _ => ⟨e1, by omega, Or.inr (by omega)⟩, fun _ => by omega, by omega, fun z => by omega, fun z => ?_, fun z => ?_⟩
      · have := a7 (by omega); omega
      · have := a8 (by omega); omega
end DG
/-- how many digits a statement's number has -/
def wid (c : Int) (i : Nat) : Nat := if i = 0 then (if c = 111 ∨ c = 100 then 2 else 1) else if i = 1 then (if c = 104 then 1 else if c = 114 ∨ c = 108 then 2 else 0) else (if c = 104 then 2 else 0)
/-- where one stands behind i numbers, and whether it is bad -/
def sN (f : Nat → Int) (m : Nat) (c : Int) (p : Nat) : Nat → Nat × Int
  | 0 => (p, 0)
  | i + 1 => ((dgN f m (sN f m c p i).2 (sN f m c p i).1 (wid c i)).1, (dgN f m (sN f m c p i).2 (sN f m c p i).1 (wid c i)).2.1)
/-- the i-th number -/
def sV (f : Nat → Int) (m : Nat) (c : Int) (p : Nat) (i : Nat) : Int := (dgN f m (sN f m c p i).2 (sN f m c p i).1 (wid c i)).2.2
theorem sN_s {f : Nat → Int} {m p i p1 p2 : Nat} {c b1 b2 v2 : Int} (h : sN f m c p i = (p1, b1)) (hd : dgN f m b1 p1 (wid c i) = (p2, b2, v2)) : sN f m c p (i + 1) = (p2, b2) ∧ sV f m c p i = v2 := by
  constructor
  · show ((dgN f m (sN f m c p i).2 (sN f m c p i).1 (wid c i)).1, (dgN f m (sN f m c p i).2 (sN f m c p i).1 (wid c i)).2.1) = _
    rw [h]
    show ((dgN f m b1 p1 (wid c i)).1, (dgN f m b1 p1 (wid c i)).2.1) = _
    rw [hd]
  · show (dgN f m (sN f m c p i).2 (sN f m c p i).1 (wid c i)).2.2 = _
    rw [h]
    show (dgN f m b1 p1 (wid c i)).2.2 = _
    rw [hd]
theorem sN_z {f : Nat → Int} {m p i p1 : Nat} {c b1 : Int} (h : sN f m c p i = (p1, b1)) (hw : wid c i = 0) : sN f m c p (i + 1) = (p1, b1) ∧ sV f m c p i = 0 := by
  refine sN_s h (v2 := 0) ?_
  rw [hw]; rfl
section WD
variable {c : Int}
theorem wid_h (h : c = 104) : wid c 0 = 1 ∧ wid c 1 = 1 ∧ wid c 2 = 2 ∧ wid c 3 = 2 := by subst h; decide
theorem wid_r (h : c = 114 ∨ c = 108) : wid c 0 = 1 ∧ wid c 1 = 2 ∧ wid c 2 = 0 ∧ wid c 3 = 0 := by rcases h with h | h <;> subst h <;> decide
theorem wid_o (h : c = 111 ∨ c = 100) : wid c 0 = 2 ∧ wid c 1 = 0 ∧ wid c 2 = 0 ∧ wid c 3 = 0 := by rcases h with h | h <;> subst h <;> decide
end WD
section NUMS
variable {f : Nat → Int} {m p p1 p2 p3 p4 : Nat} {c b1 b2 b3 b4 w1 w2 w3 w4 : Int}
theorem nums_h (h : c = 104) (h1 : dgN f m 0 p 1 = (p1, b1, w1)) (h2 : dgN f m b1 p1 1 = (p2, b2, w2)) (h3 : dgN f m b2 p2 2 = (p3, b3, w3)) (h4 : dgN f m b3 p3 2 = (p4, b4, w4)) : sN f m c p 4 = (p4, b4) ∧ sV f m c p 0 = w1 ∧ sV f m c p 1 = w2 ∧ sV f m c p 2 = w3 ∧ sV f m c p 3 = w4 := by
  obtain ⟨e0, e1, e2, e3⟩ := wid_h h
  obtain ⟨a1, v1⟩ := sN_s (f := f) (m := m) (c := c) (p := p) (i := 0) rfl (show dgN f m 0 p (wid c 0) = (p1, b1, w1) by rw [e0]; exact h1)
  obtain ⟨a2, v2⟩ := sN_s a1 (show dgN f m b1 p1 (wid c 1) = (p2, b2, w2) by rw [e1]; exact h2)
  obtain ⟨a3, v3⟩ := sN_s a2 (show dgN f m b2 p2 (wid c 2) = (p3, b3, w3) by rw [e2]; exact h3)
  obtain ⟨a4, v4⟩ := sN_s a3 (show dgN f m b3 p3 (wid c 3) = (p4, b4, w4) by rw [e3]; exact h4)
  exact ⟨a4, v1, v2, v3, v4⟩
theorem nums_r (h : c = 114 ∨ c = 108) (h1 : dgN f m 0 p 1 = (p1, b1, w1)) (h2 : dgN f m b1 p1 2 = (p2, b2, w2)) : sN f m c p 4 = (p2, b2) ∧ sV f m c p 0 = w1 ∧ sV f m c p 1 = w2 := by
  obtain ⟨e0, e1, e2, e3⟩ := wid_r h
  obtain ⟨a1, v1⟩ := sN_s (f := f) (m := m) (c := c) (p := p) (i := 0) rfl (show dgN f m 0 p (wid c 0) = (p1, b1, w1) by rw [e0]; exact h1)
  obtain ⟨a2, v2⟩ := sN_s a1 (show dgN f m b1 p1 (wid c 1) = (p2, b2, w2) by rw [e1]; exact h2)
  obtain ⟨a3, v3⟩ := sN_z a2 e2
  obtain ⟨a4, v4⟩ := sN_z a3 e3
  exact ⟨a4, v1, v2⟩
theorem nums_o (h : c = 111 ∨ c = 100) (h1 : dgN f m 0 p 2 = (p1, b1, w1)) : sN f m c p 4 = (p1, b1) ∧ sV f m c p 0 = w1 := by
  obtain ⟨e0, e1, e2, e3⟩ := wid_o h
  obtain ⟨a1, v1⟩ := sN_s (f := f) (m := m) (c := c) (p := p) (i := 0) rfl (show dgN f m 0 p (wid c 0) = (p1, b1, w1) by rw [e0]; exact h1)
  obtain ⟨a2, v2⟩ := sN_z a1 e1
  obtain ⟨a3, v3⟩ := sN_z a2 e2
  obtain ⟨a4, v4⟩ := sN_z a3 e3
  exact ⟨a4, v1⟩
end NUMS
/-- a bad number stays bad, its place stays -/
theorem dgN_stuck {f : Nat → Int} {m p : Nat} : ∀ k, (dgN f m 1 p k).1 = p ∧ (dgN f m 1 p k).2.1 = 1
  | 0 => ⟨rfl, rfl⟩
  | k + 1 => by
    obtain ⟨p0, b0, v0, h0⟩ : ∃ p0 b0 v0, dgN f m 1 p k = (p0, b0, v0) := ⟨_, _, _, rfl⟩
    have ih := dgN_stuck (f := f) (m := m) (p := p) k
    rw [h0] at ih
    obtain ⟨e1, e2⟩ := ih
    rw [dgN_bad h0 (Or.inl e2)]
    exact ⟨e1, rfl⟩
theorem sN_stuck {f : Nat → Int} {m p i p1 : Nat} {c : Int} (h : sN f m c p i = (p1, 1)) : ∀ k, sN f m c p (i + k) = (p1, 1)
  | 0 => h
  | k + 1 => by
    have ih := sN_stuck h k
    have e := dgN_stuck (f := f) (m := m) (p := p1) (wid c (i + k))
    show ((dgN f m (sN f m c p (i + k)).2 (sN f m c p (i + k)).1 (wid c (i + k))).1, (dgN f m (sN f m c p (i + k)).2 (sN f m c p (i + k)).1 (wid c (i + k))).2.1) = _
    rw [ih]
    exact Prod.ext e.1 e.2
abbrev isL (c : Int) : Prop := c = 104 ∨ c = 114 ∨ c = 111 ∨ c = 100 ∨ c = 108
theorem sN_all {f : Nat → Int} {m p : Nat} {c : Int} : ∀ i p1 b1, sN f m c p i = (p1, b1) → (b1 = 0 ∨ b1 = 1) ∧ p ≤ p1 ∧ p1 ≤ p + 2 * i ∧ (p ≤ m → p1 ≤ m)
  | 0, p1, b1, h => by
    have h : (p, (0 : Int)) = (p1, b1) := h
    cases h
    exact ⟨Or.inl rfl, by omega, by omega, fun z => z⟩
  | i + 1, p1, b1, h => by
    obtain ⟨p0, b0, h0⟩ : ∃ p0 b0, sN f m c p i = (p0, b0) := ⟨_, _, rfl⟩
    obtain ⟨a1, a2, a3, a4⟩ := sN_all i p0 b0 h0
    obtain ⟨q, b, v, hd⟩ : ∃ q b v, dgN f m b0 p0 (wid c i) = (q, b, v) := ⟨_, _, _, rfl⟩
    rw [(sN_s h0 hd).1] at h
    cases h
    obtain ⟨d1, d2, d3, d4, d5, -⟩ := dgN_all a1 _ _ _ _ hd
    have hw : wid c i ≤ 2 := by unfold wid; repeat (first | split | omega)
    exact ⟨d1, by omega, by omega, fun z => d5 (a4 z)⟩
theorem sV_r {f : Nat → Int} {m p : Nat} {c : Int} (i : Nat) : 0 ≤ sV f m c p i ∧ sV f m c p i ≤ 99 ∧ (wid c i ≤ 1 → sV f m c p i ≤ 9) := by
  obtain ⟨p0, b0, h0⟩ : ∃ p0 b0, sN f m c p i = (p0, b0) := ⟨_, _, rfl⟩
  obtain ⟨a1, a2, a3, a4⟩ := sN_all i p0 b0 h0
  obtain ⟨q, b, v, hd⟩ : ∃ q b v, dgN f m b0 p0 (wid c i) = (q, b, v) := ⟨_, _, _, rfl⟩
  rw [(sN_s h0 hd).2]
  obtain ⟨d1, d2, d3, d4, d5, d6, d7, d8, d9⟩ := dgN_all a1 _ _ _ _ hd
  have hw : wid c i ≤ 2 := by unfold wid; repeat (first | split | omega)
  exact ⟨d6, d9 hw, d8⟩
/-- a statement from p on: where one stands behind it, whether it is bad -/
def stF (f : Nat → Int) (m p : Nat) : Nat × Int := if p < m ∧ isL (f p) then (if (sN f m (f p) (p + 1) 4).2 = 0 ∧ (sN f m (f p) (p + 1) 4).1 < m ∧ f (sN f m (f p) (p + 1) 4).1 = 59 then ((sN f m (f p) (p + 1) 4).1 + 1, 0) else ((sN f m (f p) (p + 1) 4).1, 1)) else (p, 1)
section ST
variable {f : Nat → Int} {m p q : Nat} {b : Int}
theorem stF_no (h : ¬ (p < m ∧ isL (f p))) : stF f m p = (p, 1) := if_neg h
theorem stF_ok (h : p < m ∧ isL (f p)) (hs : sN f m (f p) (p + 1) 4 = (q, b)) (h2 : b = 0 ∧ q < m ∧ f q = 59) : stF f m p = (q + 1, 0) := by
  unfold stF
  rw [if_pos h, hs]; exact if_pos h2
theorem stF_bad (h : p < m ∧ isL (f p)) (hs : sN f m (f p) (p + 1) 4 = (q, b)) (h2 : ¬ (b = 0 ∧ q < m ∧ f q = 59)) : stF f m p = (q, 1) := by
  unfold stF
  rw [if_pos h, hs]; exact if_neg h2
theorem sN_long {c : Int} (hc : isL c) (hs : sN f m c p 4 = (q, 0)) : p + 2 ≤ q := by
  obtain ⟨p1, b1, w1, h1⟩ : ∃ p1 b1 w1, dgN f m 0 p (wid c 0) = (p1, b1, w1) := ⟨_, _, _, rfl⟩
  obtain ⟨p2, b2, w2, h2⟩ : ∃ p2 b2 w2, dgN f m b1 p1 (wid c 1) = (p2, b2, w2) := ⟨_, _, _, rfl⟩
  obtain ⟨p3, b3, w3, h3⟩ : ∃ p3 b3 w3, dgN f m b2 p2 (wid c 2) = (p3, b3, w3) := ⟨_, _, _, rfl⟩
  obtain ⟨p4, b4, w4, h4⟩ : ∃ p4 b4 w4, dgN f m b3 p3 (wid c 3) = (p4, b4, w4) := ⟨_, _, _, rfl⟩
  have a1 := (sN_s (f := f) (m := m) (c := c) (p := p) (i := 0) rfl h1).1
  have a2 := (sN_s a1 h2).1
  have a3 := (sN_s a2 h3).1
  have a4 := (sN_s a3 h4).1
  rw [a4] at hs
  cases hs
  obtain ⟨d1, -, -, e1, -⟩ := dgN_all (Or.inl rfl) _ _ _ _ h1
  obtain ⟨d2, -, -, e2, -⟩ := dgN_all d1 _ _ _ _ h2
  obtain ⟨d3, -, -, e3, -⟩ := dgN_all d2 _ _ _ _ h3
  obtain ⟨d4, -, -, e4, -⟩ := dgN_all d3 _ _ _ _ h4
  obtain ⟨x3, y4, -⟩ := e4 rfl
  obtain ⟨x2, y3, -⟩ := e3 x3
  obtain ⟨x1, y2, -⟩ := e2 x2
  obtain ⟨x0, y1, -⟩ := e1 x1
  rcases hc with h | h | h | h | h
  · have := wid_h h; omega
  · have := wid_r (Or.inl h); omega
  · have := wid_o (Or.inl h); omega
  · have := wid_o (Or.inr h); omega
  · have := wid_r (Or.inr h); omega
theorem stF_all (h : stF f m p = (q, b)) : (b = 0 ∨ b = 1) ∧ p ≤ q ∧ q ≤ p + 10 ∧ (p ≤ m → q ≤ m) ∧ (b = 0 → p + 4 ≤ q ∧ q ≤ m ∧ p < m ∧ isL (f p)) := by
  by_cases c : p < m ∧ isL (f p)
  · obtain ⟨q0, b0, hs⟩ : ∃ q0 b0, sN f m (f p) (p + 1) 4 = (q0, b0) := ⟨_, _, rfl⟩
    obtain ⟨a1, a2, a3, a4⟩ := sN_all 4 q0 b0 hs
    by_cases c2 : b0 = 0 ∧ q0 < m ∧ f q0 = 59
    · rw [stF_ok c hs c2] at h
      cases h
      obtain ⟨e1, e2, e3⟩ := c2
      subst e1
      have := sN_long c.2 hs
      exact ⟨Or.inl rfl, by omega, by omega, fun _ => by omega, fun _ => ⟨by omega, by omega, c.1, c.2⟩⟩
    · rw [stF_bad c hs c2] at h
      cases h
      exact ⟨Or.inr rfl, by omega, by omega, fun z => a4 (by omega), fun z => by omega⟩
  · rw [stF_no c] at h
    cases h
    exact ⟨Or.inr rfl, by omega, by omega, fun z => z, fun z => by omega⟩
end ST
/-- where the k-th statement begins -/
def spF (f : Nat → Int) (m : Nat) : Nat → Nat
  | 0 => 0
  | k + 1 => (stF f m (spF f m k)).1
theorem spF_s {f : Nat → Int} {m k p : Nat} {b : Int} (h : stF f m (spF f m k) = (p, b)) : spF f m (k + 1) = p := by
  show (stF f m (spF f m k)).1 = p
  rw [h]
/-- how many statements are read: to the first bad one, or to the end -/
def cntF (f : Nat → Int) (m : Nat) : Nat → Nat → Nat
  | 0, k => k
  | t + 1, k => if (stF f m (spF f m k)).2 = 0 ∧ spF f m (k + 1) < m then cntF f m t (k + 1) else k + 1
theorem cntF_on {f : Nat → Int} {m t k : Nat} (h : (stF f m (spF f m k)).2 = 0 ∧ spF f m (k + 1) < m) : cntF f m (t + 1) k = cntF f m t (k + 1) := if_pos h
theorem cntF_end {f : Nat → Int} {m t k : Nat} (h : ¬ ((stF f m (spF f m k)).2 = 0 ∧ spF f m (k + 1) < m)) : cntF f m (t + 1) k = k + 1 := if_neg h
/-- a land: how many horses, their kinds, figures, homes, places, longings, the oats, the day -/
abbrev LSt : Type := Nat × (Nat → Nat) × (Nat → Int) × (Nat → Int) × (Nat → Int) × (Nat → Int) × Int × Int
/-- what is told comes -/
def comeF (c a b d e : Int) (s : LSt) : Option LSt :=
  match s with
  | (n, kd, fg, hm, at_, lg, oa, dy) =>
    if c = 104 then (if a < 8 ∧ (0 ≤ d ∧ d ≤ 20) ∧ (0 ≤ e ∧ e ≤ 20) ∧ n < 7 then some (n + 1, upN kd n a.toNat, va_up fg n b, va_up hm n d, va_up at_ n e, va_up lg n 0, oa, dy) else none)
    else if c = 114 then (if ((0 ≤ a ∧ a ≤ (n : Int) - 1) ∧ (0 ≤ b ∧ b ≤ 20)) ∧ dy + ((rdN kd fg hm oa n a.toNat b at_ lg : Nat) : Int) ≤ 999 then some (n, kd, fg, hm, rdA kd fg hm oa n a.toNat b at_ lg, rdL kd fg hm oa n a.toNat b at_ lg, oa, dy + ((rdN kd fg hm oa n a.toNat b at_ lg : Nat) : Int)) else none)
    else if c = 111 then (if 0 ≤ a ∧ a ≤ 20 then some (n, kd, fg, hm, at_, lg, a, dy) else none)
    else if c = 100 then (if (1 ≤ a ∧ a ≤ 60) ∧ dy + a ≤ 999 then some (n, kd, fg, hm, at_, goL kd fg hm at_ oa n a.toNat lg, oa, dy + a) else none)
    else (if 0 ≤ a ∧ a ≤ (n : Int) - 1 then some (n, kd, fg, hm, at_, va_up lg a.toNat b, oa, dy) else none)
section CO
variable {c a b d e oa dy : Int} {n : Nat} {kd : Nat → Nat} {fg hm at_ lg : Nat → Int}
theorem come_hy (hc : c = 104) (h : a < 8 ∧ (0 ≤ d ∧ d ≤ 20) ∧ (0 ≤ e ∧ e ≤ 20) ∧ n < 7) : comeF c a b d e (n, kd, fg, hm, at_, lg, oa, dy) = some (n + 1, upN kd n a.toNat, va_up fg n b, va_up hm n d, va_up at_ n e, va_up lg n 0, oa, dy) := by
  unfold comeF; dsimp only; rw [if_pos hc, if_pos h]
theorem come_hn (hc : c = 104) (h : ¬ (a < 8 ∧ (0 ≤ d ∧ d ≤ 20) ∧ (0 ≤ e ∧ e ≤ 20) ∧ n < 7)) : comeF c a b d e (n, kd, fg, hm, at_, lg, oa, dy) = none := by
  unfold comeF; dsimp only; rw [if_pos hc, if_neg h]
theorem come_ry (hc : c = 114) (h : ((0 ≤ a ∧ a ≤ (n : Int) - 1) ∧ (0 ≤ b ∧ b ≤ 20)) ∧ dy + ((rdN kd fg hm oa n a.toNat b at_ lg : Nat) : Int) ≤ 999) : comeF c a b d e (n, kd, fg, hm, at_, lg, oa, dy) = some (n, kd, fg, hm, rdA kd fg hm oa n a.toNat b at_ lg, rdL kd fg hm oa n a.toNat b at_ lg, oa, dy + ((rdN kd fg hm oa n a.toNat b at_ lg : Nat) : Int)) := by
  unfold comeF; dsimp only; rw [if_neg (by omega), if_pos hc, if_pos h]
theorem come_rn (hc : c = 114) (h : ¬ (((0 ≤ a ∧ a ≤ (n : Int) - 1) ∧ (0 ≤ b ∧ b ≤ 20)) ∧ dy + ((rdN kd fg hm oa n a.toNat b at_ lg : Nat) : Int) ≤ 999)) : comeF c a b d e (n, kd, fg, hm, at_, lg, oa, dy) = none := by
  unfold comeF; dsimp only; rw [if_neg (by omega), if_pos hc, if_neg h]
theorem come_oy (hc : c = 111) (h : 0 ≤ a ∧ a ≤ 20) : comeF c a b d e (n, kd, fg, hm, at_, lg, oa, dy) = some (n, kd, fg, hm, at_, lg, a, dy) := by
  unfold comeF; dsimp only; rw [if_neg (by omega), if_neg (by omega), if_pos hc, if_pos h]
theorem come_on (hc : c = 111) (h : ¬ (0 ≤ a ∧ a ≤ 20)) : comeF c a b d e (n, kd, fg, hm, at_, lg, oa, dy) = none := by
  unfold comeF; dsimp only; rw [if_neg (by omega), if_neg (by omega), if_pos hc, if_neg h]
theorem come_dy (hc : c = 100) (h : (1 ≤ a ∧ a ≤ 60) ∧ dy + a ≤ 999) : comeF c a b d e (n, kd, fg, hm, at_, lg, oa, dy) = some (n, kd, fg, hm, at_, goL kd fg hm at_ oa n a.toNat lg, oa, dy + a) := by
  unfold comeF; dsimp only; rw [if_neg (by omega), if_neg (by omega), if_neg (by omega), if_pos hc, if_pos h]
theorem come_dn (hc : c = 100) (h : ¬ ((1 ≤ a ∧ a ≤ 60) ∧ dy + a ≤ 999)) : comeF c a b d e (n, kd, fg, hm, at_, lg, oa, dy) = none := by
  unfold comeF; dsimp only; rw [if_neg (by omega), if_neg (by omega), if_neg (by omega), if_pos hc, if_neg h]
theorem come_ly (hc : c = 108) (h : 0 ≤ a ∧ a ≤ (n : Int) - 1) : comeF c a b d e (n, kd, fg, hm, at_, lg, oa, dy) = some (n, kd, fg, hm, at_, va_up lg a.toNat b, oa, dy) := by
  unfold comeF; dsimp only; rw [if_neg (by omega), if_neg (by omega), if_neg (by omega), if_neg (by omega), if_pos h]
theorem come_ln (hc : c = 108) (h : ¬ (0 ≤ a ∧ a ≤ (n : Int) - 1)) : comeF c a b d e (n, kd, fg, hm, at_, lg, oa, dy) = none := by
  unfold comeF; dsimp only; rw [if_neg (by omega), if_neg (by omega), if_neg (by omega), if_neg (by omega), if_neg h]
end CO
/-- a land in its bounds -/
def LKS (s : LSt) : Prop := match s with
  | (n, kd, fg, hm, at_, lg, oa, dy) => LK n kd fg hm at_ lg oa ∧ 0 ≤ dy ∧ dy ≤ 999
theorem LKS.mk {n : Nat} {kd : Nat → Nat} {fg hm at_ lg : Nat → Int} {oa dy : Int} (h : LK n kd fg hm at_ lg oa) (hd : 0 ≤ dy ∧ dy ≤ 999) : LKS (n, kd, fg, hm, at_, lg, oa, dy) := ⟨h, hd⟩
theorem LK.come {n : Nat} {kd : Nat → Nat} {fg hm at_ lg : Nat → Int} {oa b d e : Int} {k : Nat} (h : LK n kd fg hm at_ lg oa) (hn : n < 7) (hk : k < 8) (hb : 0 ≤ b ∧ b ≤ 9) (hd : 0 ≤ d ∧ d ≤ 20) (he : 0 ≤ e ∧ e ≤ 20) : LK (n + 1) (upN kd n k) (va_up fg n b) (va_up hm n d) (va_up at_ n e) (va_up lg n 0) oa := by
  obtain ⟨h1, h2, h3⟩ := h
  refine ⟨by omega, h2, fun j hj => ?_⟩
  unfold upN va_up
  by_cases c : j = n
  · simp only [c, if_true]
    exact ⟨hk, hb, hd, he, by omega⟩
  · simp only [c, if_false]
    exact h3 j (by omega)
theorem comeF_ok {c a b d e : Int} {s s' : LSt} (hs : LKS s) (ha : 0 ≤ a ∧ a ≤ 99) (hb : 0 ≤ b ∧ b ≤ 99) (hb9 : c = 104 → b ≤ 9) (hc : isL c) (h : comeF c a b d e s = some s') : LKS s' := by
  obtain ⟨n, kd, fg, hm, at_, lg, oa, dy⟩ := s
  obtain ⟨hL, hd1, hd2⟩ := hs
  rcases hc with hc | hc | hc | hc | hc
  · by_cases q : a < 8 ∧ (0 ≤ d ∧ d ≤ 20) ∧ (0 ≤ e ∧ e ≤ 20) ∧ n < 7
    · rw [come_hy hc q] at h; cases h
      have := hb9 hc
      exact ⟨hL.come q.2.2.2 (by omega) (by omega) q.2.1 q.2.2.1, hd1, hd2⟩
    · rw [come_hn hc q] at h; cases h
  · by_cases q : ((0 ≤ a ∧ a ≤ (n : Int) - 1) ∧ (0 ≤ b ∧ b ≤ 20)) ∧ dy + ((rdN kd fg hm oa n a.toNat b at_ lg : Nat) : Int) ≤ 999
    · rw [come_ry hc q] at h; cases h
      exact ⟨rideF_ok (by omega) q.1.2 20 at_ lg hL, by omega, q.2⟩
    · rw [come_rn hc q] at h; cases h
  · by_cases q : 0 ≤ a ∧ a ≤ 20
    · rw [come_oy hc q] at h; cases h
      exact ⟨hL.oa q, hd1, hd2⟩
    · rw [come_on hc q] at h; cases h
  · by_cases q : (1 ≤ a ∧ a ≤ 60) ∧ dy + a ≤ 999
    · rw [come_dy hc q] at h; cases h
      exact ⟨hL.go _, by omega, q.2⟩
    · rw [come_dn hc q] at h; cases h
  · by_cases q : 0 ≤ a ∧ a ≤ (n : Int) - 1
    · rw [come_ly hc q] at h; cases h
      exact ⟨hL.lg hb, hd1, hd2⟩
    · rw [come_ln hc q] at h; cases h
/-- the k-th statement comes -/
def cmK (f : Nat → Int) (m k : Nat) (s : LSt) : Option LSt := comeF (f (spF f m k)) (sV f m (f (spF f m k)) (spF f m k + 1) 0) (sV f m (f (spF f m k)) (spF f m k + 1) 1) (sV f m (f (spF f m k)) (spF f m k + 1) 2) (sV f m (f (spF f m k)) (spF f m k + 1) 3) s
theorem cmK_ok {f : Nat → Int} {m k : Nat} {s s' : LSt} (hs : LKS s) (hc : isL (f (spF f m k))) (h : cmK f m k s = some s') : LKS s' := by
  have h0 := sV_r (f := f) (m := m) (p := spF f m k + 1) (c := f (spF f m k)) 0
  have h1 := sV_r (f := f) (m := m) (p := spF f m k + 1) (c := f (spF f m k)) 1
  refine comeF_ok hs ⟨h0.1, h0.2.1⟩ ⟨h1.1, h1.2.1⟩ (fun z => h1.2.2 ?_) hc h
  rw [(wid_h z).2.1]; omega
/-- t statements more come, from the k-th on: what is answered, the land then -/
def rnF (f : Nat → Int) (m : Nat) : Nat → Nat → LSt → Int × Option LSt
  | 0, k, s => ((k : Int), some s)
  | t + 1, k, s => match cmK f m k s with
    | none => (-2000 - (spF f m k : Int), none)
    | some s' => rnF f m t (k + 1) s'
theorem rnF_no {f : Nat → Int} {m t k : Nat} {s : LSt} (h : cmK f m k s = none) : rnF f m (t + 1) k s = (-2000 - (spF f m k : Int), none) := by
  show (match cmK f m k s with | none => (-2000 - (spF f m k : Int), none) | some s' => rnF f m t (k + 1) s') = _
  rw [h]
theorem rnF_on {f : Nat → Int} {m t k : Nat} {s s' : LSt} (h : cmK f m k s = some s') : rnF f m (t + 1) k s = rnF f m t (k + 1) s' := by
  show (match cmK f m k s with | none => (-2000 - (spF f m k : Int), none) | some s' => rnF f m t (k + 1) s') = _
  rw [h]
/-- a land's text read, and come -/
def txF (f : Nat → Int) (m : Nat) (s : LSt) : Int × Option LSt :=
  if (stF f m (spF f m (cntF f m 26 0 - 1))).2 = 0 then rnF f m (cntF f m 26 0) 0 s else (-1000 - (spF f m (cntF f m 26 0) : Int), none)
theorem txF_bad {f : Nat → Int} {m k : Nat} {s : LSt} (h : cntF f m 26 0 = k + 1) (hb : ¬ (stF f m (spF f m k)).2 = 0) : txF f m s = (-1000 - (spF f m (k + 1) : Int), none) := by
  unfold txF
  rw [h, show k + 1 - 1 = k by omega, if_neg hb]
theorem txF_ok {f : Nat → Int} {m k : Nat} {s : LSt} (h : cntF f m 26 0 = k + 1) (hb : (stF f m (spF f m k)).2 = 0) : txF f m s = rnF f m (k + 1) 0 s := by
  unfold txF
  rw [h, show k + 1 - 1 = k by omega, if_pos hb]
/-- land(d): what is answered -/
def wlZ (hw rs : Nat → Nat) (d : Int) : Int := if wrZ hw d < 0 then wrZ hw d else if rs d.toNat = 0 then 0 else -12
def oLand (hw rs rm : Nat → Nat) (rw_ : Nat → Int) (d : Int) (s : LSt) : Int × Option LSt := if wlZ hw rs d < 0 then (wlZ hw rs d, none) else txF (rowF rw_ d.toNat) (rm d.toNat) s
/-- the land behind it -/
def ldS (o : Option LSt) (s : LSt) : LSt := match o with
  | none => s
  | some s' => s'
theorem up_eq {f : Nat → Int} {k : Nat} {x : Int} : va_up f k x k = x := if_pos rfl
theorem up_ne {f : Nat → Int} {k j : Nat} {x : Int} (h : ¬ j = k) : va_up f k x j = f j := if_neg h
theorem hereF_L {f : Nat → Int} {m p : Nat} : isL (hereF f m p (-999)) ↔ (p < m ∧ isL (f p)) := by
  unfold hereF isL
  split
  · constructor
    · intro h; exact ⟨by assumption, h⟩
    · intro h; exact h.2
  · constructor
    · intro h; omega
    · intro h; omega
theorem hereF_L1 {f : Nat → Int} {m p : Nat} : isL (hereF f m p (-1)) ↔ (p < m ∧ isL (f p)) := by
  unfold hereF isL
  split
  · constructor
    · intro h; exact ⟨by assumption, h⟩
    · intro h; exact h.2
  · constructor
    · intro h; omega
    · intro h; omega
/-- the numbers of the statement at p, in a row from q on -/
def tvF (f : Nat → Int) (m p : Nat) (t : Nat → Int) (q : Nat) : Prop := t q = sV f m (f p) (p + 1) 0 ∧ (f p = 104 ∨ f p = 114 ∨ f p = 108 → t (q + 1) = sV f m (f p) (p + 1) 1) ∧ (f p = 104 → t (q + 2) = sV f m (f p) (p + 1) 2 ∧ t (q + 3) = sV f m (f p) (p + 1) 3)
theorem tvF_cg {f : Nat → Int} {m p q : Nat} {t t2 : Nat → Int} (h : tvF f m p t q) (e : ∀ j, j < q + 4 → t2 j = t j) : tvF f m p t2 q := by
  obtain ⟨h0, h1, h2⟩ := h
  refine ⟨by rw [e _ (by omega)]; exact h0, fun z => by rw [e _ (by omega)]; exact h1 z, fun z => ⟨by rw [e _ (by omega)]; exact (h2 z).1, by rw [e _ (by omega)]; exact (h2 z).2⟩⟩
/-- what has been read: k statements, the last bad if b -/
def rdS (f : Nat → Int) (m k p : Nat) (b : Int) : Prop := (k = 0 ∧ b = 0 ∧ p = 0) ∨ (∃ k', k = k' + 1 ∧ k' ≤ 25 ∧ cntF f m 26 0 = cntF f m (26 - k') k' ∧ stF f m (spF f m k') = (p, b) ∧ p = spF f m k ∧ 4 * k' ≤ spF f m k' ∧ spF f m k' ≤ m ∧ (∀ j, j < k' → (stF f m (spF f m j)).2 = 0))
theorem rdS_p {f : Nat → Int} {m k p : Nat} {b : Int} (h : rdS f m k p b) : p = spF f m k ∧ k ≤ 26 ∧ p ≤ m ∧ (b = 0 ∨ b = 1) := by
  rcases h with ⟨h1, h2, h3⟩ | ⟨k', h1, h2, h3, h4, h5, h6, h7, h8⟩
  · subst h1; exact ⟨h3, by omega, by omega, Or.inl h2⟩
  · have := stF_all h4
    exact ⟨h5, by omega, by omega, this.1⟩
/-- on: the next is read -/
theorem rdS_on {f : Nat → Int} {m k p : Nat} {b : Int} (hm : m ≤ 100) (h : rdS f m k p b) (hb : b = 0) (hc : k = 0 ∨ p < m) {p2 : Nat} {b2 : Int} (hs : stF f m p = (p2, b2)) : rdS f m (k + 1) p2 b2 ∧ k ≤ 25 ∧ (k = 0 ∨ 4 * k ≤ p) := by
  rcases h with ⟨h1, h2, h3⟩ | ⟨k', h1, h2, h3, h4, h5, h6, h7, h8⟩
  · subst h1; subst h3
    refine ⟨Or.inr ⟨0, rfl, by omega, rfl, hs, (spF_s hs).symm, by show 4 * 0 ≤ 0; omega, Nat.zero_le _, fun j hj => absurd hj (Nat.not_lt_zero j)⟩, by omega, Or.inl rfl⟩
  · have ha := stF_all h4
    have hp : p < m := by omega
    have h4p := ha.2.2.2.2 hb
    have hk : 4 * k ≤ p := by omega
    have hcnt : cntF f m (26 - k') k' = cntF f m (26 - k) k := by
      rw [show 26 - k' = (26 - k) + 1 by omega, h1]
      refine cntF_on ⟨by rw [h4]; exact hb, ?_⟩
      rw [← h1, ← h5]; exact hp
    refine ⟨Or.inr ⟨k, rfl, by omega, h3.trans hcnt, by rw [← h5]; exact hs, (spF_s (by rw [← h5]; exact hs)).symm, by rw [← h5]; exact hk, by rw [← h5]; omega, fun j hj => ?_⟩, by omega, Or.inr hk⟩
    by_cases c : j < k'
    · exact h8 j c
    · rw [show j = k' by omega, h4]; exact hb
/-- (folded: omega looks at what it can see) -/
def CNT (f : Nat → Int) (m k : Nat) : Prop := cntF f m 26 0 = k
def BDF (f : Nat → Int) (m k : Nat) (b : Int) : Prop := (stF f m (spF f m k)).2 = b
theorem txF_badC {f : Nat → Int} {m k : Nat} {s : LSt} {b : Int} (h : CNT f m (k + 1)) (hb : BDF f m k b) (h0 : ¬ b = 0) : txF f m s = (-1000 - (spF f m (k + 1) : Int), none) := txF_bad h (fun z => h0 (hb.symm.trans z))
theorem txF_okC {f : Nat → Int} {m k : Nat} {s : LSt} {b : Int} (h : CNT f m (k + 1)) (hb : BDF f m k b) (h0 : b = 0) : txF f m s = rnF f m (k + 1) 0 s := txF_ok h (hb.trans h0)
/-- the end of reading -/
theorem rdS_end {f : Nat → Int} {m k p : Nat} {b : Int} (h : rdS f m k p b) (hc : ¬ (b = 0 ∧ (k = 0 ∨ p < m))) : ∃ k', k = k' + 1 ∧ CNT f m (k' + 1) ∧ BDF f m k' b ∧ (b = 0 → ∀ j, j < k → spF f m j < m ∧ isL (f (spF f m j))) := by
  rcases h with ⟨h1, h2, h3⟩ | ⟨k', h1, h2, h3, h4, h5, h6, h7, h8⟩
  · exact absurd ⟨h2, Or.inl h1⟩ hc
  · refine ⟨k', h1, ?_, by unfold BDF; rw [h4], fun hb j hj => ?_⟩
    · unfold CNT
      rw [h3, show 26 - k' = (25 - k') + 1 by omega]
      refine cntF_end (fun z => hc ⟨?_, Or.inr ?_⟩)
      · have := z.1; rw [h4] at this; exact this
      · have := z.2; rw [← h1, ← h5] at this; exact this
    · have hz : (stF f m (spF f m j)).2 = 0 := by
        by_cases c : j < k'
        · exact h8 j c
        · rw [show j = k' by omega, h4]; exact hb
      have := stF_all (f := f) (m := m) (p := spF f m j) (q := (stF f m (spF f m j)).1) (b := (stF f m (spF f m j)).2) rfl
      exact ⟨(this.2.2.2.2 hz).2.2.1, (this.2.2.2.2 hz).2.2.2⟩
section OL
variable {hw rs rm : Nat → Nat} {rw_ : Nat → Int} {d : Int} {s : LSt}
theorem oLand_w (h : wrZ hw d < 0) : oLand hw rs rm rw_ d s = (wrZ hw d, none) := by
  have e : wlZ hw rs d = wrZ hw d := if_pos h
  unfold oLand
  rw [e, if_pos h]
theorem oLand_s (h : ¬ wrZ hw d < 0) (h2 : ¬ rs d.toNat = 0) : oLand hw rs rm rw_ d s = (-12, none) := by
  have e : wlZ hw rs d = -12 := by unfold wlZ; rw [if_neg h, if_neg h2]
  unfold oLand
  rw [e, if_pos (by decide)]
theorem oLand_t (h : ¬ wrZ hw d < 0) (h2 : rs d.toNat = 0) : oLand hw rs rm rw_ d s = txF (rowF rw_ d.toNat) (rm d.toNat) s := by
  have e : wlZ hw rs d = 0 := by unfold wlZ; rw [if_neg h, if_pos h2]
  unfold oLand
  rw [e, if_neg (by decide)]
end OL
theorem LKS.d {n : Nat} {kd : Nat → Nat} {fg hm at_ lg : Nat → Int} {oa dy : Int} (h : LKS (n, kd, fg, hm, at_, lg, oa, dy)) : LK n kd fg hm at_ lg oa ∧ 0 ≤ dy ∧ dy ≤ 999 := h
/-- a statement's data, named -/
theorem cm_data {f : Nat → Int} {m k : Nat} {lf tf : Nat → Int} (hg : spF f m k < m ∧ isL (f (spF f m k))) (hl : lf k = f (spF f m k)) (hv : tvF f m (spF f m k) tf (4 * k)) : ∃ c a b d e : Int, isL c ∧ lf k = c ∧ tf (4 * k) = a ∧ (c = 104 ∨ c = 114 ∨ c = 108 → tf (4 * k + 1) = b) ∧ (c = 104 → tf (4 * k + 2) = d ∧ tf (4 * k + 3) = e) ∧ ((0 ≤ a ∧ a ≤ 99) ∧ (0 ≤ b ∧ b ≤ 99) ∧ (0 ≤ d ∧ d ≤ 99) ∧ (0 ≤ e ∧ e ≤ 99)) ∧ ∀ s, cmK f m k s = comeF c a b d e s := by
  have hr : ∀ i, 0 ≤ sV f m (f (spF f m k)) (spF f m k + 1) i ∧ sV f m (f (spF f m k)) (spF f m k + 1) i ≤ 99 := fun i => ⟨(sV_r i).1, (sV_r i).2.1⟩
  exact ⟨_, _, _, _, _, hg.2, hl, hv.1, hv.2.1, hv.2.2, ⟨hr 0, hr 1, hr 2, hr 3⟩, fun s => rfl⟩
