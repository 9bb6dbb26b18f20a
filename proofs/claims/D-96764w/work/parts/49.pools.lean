/-! POOLS: worlds with a middle that a callee has not -/
set_option maxRecDepth 100000
theorem jn_g {ws wc wf ws' : va_W} (g : Nat → Nat) (hg : ∀ (k : Nat) (q : Nat × va_E), wc[k]? = some q → ws[g k]? = some q) (b : Nat → Bool) (s : Nat → Nat)
    (h1 : ∀ (k : Nat) (q : Nat × va_E), ws'[k]? = some q → b k = true → ws[s k]? = some q ∧ ∀ j, j < wc.length → g j ≠ s k)
    (h2 : ∀ (k : Nat) (q : Nat × va_E), ws'[k]? = some q → b k = false → wf[s k]? = some q)
    (inj : ∀ i j, i < ws'.length → j < ws'.length → b i = b j → s i = s j → i = j) : JN ws wc wf ws' := by
  intro G H H1 A0 hP hD hk hF hP1 hD1
  have apart : ∀ (k : Nat) (q : Nat × va_E), ws'[k]? = some q → b k = true → q.1 < H.size ∧ ¬ va_A wc H.size q.1 := by
    intro k q hq hb
    obtain ⟨e1, e2⟩ := h1 k q hq hb
    have hl := (hP _ q e1).lt
    refine ⟨hl, fun h => ?_⟩
    rcases h with ⟨j, e, hj⟩ | h
    · have hw := hg j _ hj
      have ht := hD.1 _ _ _ _ e1 hw rfl
      exact e2 j (List.getElem?_eq_some_iff.mp hj).1 ht.symm
    · omega
  constructor
  · intro k q hq
    cases hb : b k with
    | true => exact (hP _ q (h1 k q hq hb).1).kept (hk q.1 (apart k q hq hb).1 (apart k q hq hb).2)
    | false => exact hP1 _ q (h2 k q hq hb)
  · constructor
    · intro i j p q hp hq e
      have li := (List.getElem?_eq_some_iff.mp hp).1
      have lj := (List.getElem?_eq_some_iff.mp hq).1
      cases hbi : b i with
      | false =>
        cases hbj : b j with
        | false => exact inj i j li lj (hbi.trans hbj.symm) (hD1.1 _ _ _ _ (h2 i p hp hbi) (h2 j q hq hbj) e)
        | true => exact absurd (e ▸ hD1.2 _ _ (h2 i p hp hbi)) (apart j q hq hbj).2
      | true =>
        cases hbj : b j with
        | false => exact absurd (e.symm ▸ hD1.2 _ _ (h2 j q hq hbj)) (apart i p hp hbi).2
        | true => exact inj i j li lj (hbi.trans hbj.symm) (hD.1 _ _ _ _ (h1 i p hp hbi).1 (h1 j q hq hbj).1 e)
    · intro k q hq
      cases hb : b k with
      | true => exact hD.2 _ q (h1 k q hq hb).1
      | false => exact hF _ (hD1.2 _ q (h2 k q hq hb))
theorem mid_map {L M : va_W} : ∀ (is : List Nat) (Lc : va_W), is.map (fun i => L[i]?) = Lc.map some → is.map (fun i => (L ++ M)[i]?) = Lc.map some
  | [], _, h => h
  | i :: is, [], h => by cases h
  | i :: is, c :: Lc, h => by
    have h1 : L[i]? = some c := (List.cons.inj h).1
    have h2 := mid_map (M := M) is Lc (List.cons.inj h).2
    have h3 : (L ++ M)[i]? = some c := by rw [List.getElem?_append_left (List.getElem?_eq_some_iff.mp h1).1, h1]
    show (L ++ M)[i]? :: is.map (fun i => (L ++ M)[i]?) = some c :: Lc.map some
    rw [h3, h2]
theorem sb_m {L Lc M P : va_W} (is : List Nat) (h : is.map (fun i => L[i]?) = Lc.map some) (hn : va_nd is = true) : SB (L ++ (M ++ P)) (Lc ++ P) := by
  rw [← List.append_assoc]; exact sb_p is (mid_map is Lc h) hn
theorem jn_frame {ws wc wf ws' M : va_W} (hs : SB ws wc) (h : JN ws wc wf ws') : JN (ws ++ M) wc wf (ws' ++ M) := by
  intro G H H1 A0 hP hD hk hF hP1 hD1
  have inl : ∀ (k : Nat) (q : Nat × va_E), ws[k]? = some q → (ws ++ M)[k]? = some q := fun k q hq => by
    rw [List.getElem?_append_left (List.getElem?_eq_some_iff.mp hq).1]; exact hq
  have inr : ∀ (k : Nat) (q : Nat × va_E), M[k]? = some q → (ws ++ M)[ws.length + k]? = some q := fun k q hq => by
    rw [List.getElem?_append_right (by omega), show ws.length + k - ws.length = k by omega]; exact hq
  have noB : ∀ (i : Nat) (p : Nat × va_E), ws[i]? = some p → ¬ ∃ (k : Nat) (e : va_E), M[k]? = some (p.1, e) := by
    intro i p hp hB
    obtain ⟨k, e, hM⟩ := hB
    have li := (List.getElem?_eq_some_iff.mp hp).1
    have := hD.1 _ _ _ _ (inl i p hp) (inr k _ hM) rfl
    omega
  have hF' : ∀ q, va_A wc H.size q → A0 q ∧ ¬ ∃ (k : Nat) (e : va_E), M[k]? = some (q, e) := by
    intro q hq
    refine ⟨hF q hq, ?_⟩
    rcases hq with ⟨j, e, hj⟩ | hq
    · obtain ⟨g, g1, g2⟩ := hs
      exact noB _ _ (g1 j _ hj)
    · rintro ⟨k, e, hM⟩
      have := (hP _ _ (inr k _ hM)).lt
      have this : q < H.size := this
      omega
  obtain ⟨p1, d1⟩ := h G H H1 (fun q => A0 q ∧ ¬ ∃ (k : Nat) (e : va_E), M[k]? = some (q, e)) (fun k q hq => hP k q (inl k q hq)) ⟨fun i j p q hp hq e => hD.1 i j p q (inl i p hp) (inl j q hq) e, fun k q hq => ⟨hD.2 k q (inl k q hq), noB k q hq⟩⟩ hk hF' hP1 hD1
  have sp : ∀ (k : Nat) (q : Nat × va_E), (ws' ++ M)[k]? = some q → ws'[k]? = some q ∨ ∃ i, k = ws'.length + i ∧ M[i]? = some q := by
    intro k q hq
    by_cases c : k < ws'.length
    · rw [List.getElem?_append_left c] at hq; exact Or.inl hq
    · rw [List.getElem?_append_right (by omega)] at hq
      exact Or.inr ⟨k - ws'.length, by omega, hq⟩
  constructor
  · intro k q hq
    rcases sp k q hq with h1 | ⟨i, hi, h1⟩
    · exact p1 k q h1
    · have hm := inr i q h1
      exact (hP _ q hm).kept (hk q.1 (hP _ q hm).lt (fun z => (hF' _ z).2 ⟨i, q.2, h1⟩))
  · constructor
    · intro i j p q hp hq e
      rcases sp i p hp with h1 | ⟨a, ha, h1⟩ <;> rcases sp j q hq with h2 | ⟨b, hb, h2⟩
      · exact d1.1 i j p q h1 h2 e
      · exact absurd ⟨b, q.2, by rw [e]; exact h2⟩ (d1.2 i p h1).2
      · exact absurd ⟨a, p.2, by rw [← e]; exact h1⟩ (d1.2 j q h2).2
      · have := hD.1 _ _ _ _ (inr a p h1) (inr b q h2) e
        omega
    · intro k q hq
      rcases sp k q hq with h1 | ⟨i, hi, h1⟩
      · exact (d1.2 k q h1).1
      · exact hD.2 _ q (inr i q h1)
theorem jn_perm {ws wc wf ws' ws1 ws1' : va_W} (s1 : SB ws ws1) (h : JN ws1 wc wf ws1') (s2 : SB ws1' ws') : JN ws wc wf ws' := by
  intro G H H1 A0 hP hD hk hF hP1 hD1
  obtain ⟨a, b⟩ := h G H H1 A0 (s1.P hP) (s1.D hD) hk hF hP1 hD1
  exact ⟨s2.P a, s2.D b⟩
theorem sb_sw {L A B : va_W} : SB (L ++ (A ++ B)) (L ++ (B ++ A)) := by
  refine ⟨fun k => if k < L.length then k else if k < L.length + B.length then k + A.length else k - B.length, fun k q hk => ?_, fun i j hi hj e => ?_⟩
  · show (L ++ (A ++ B))[if k < L.length then k else if k < L.length + B.length then k + A.length else k - B.length]? = some q
    by_cases c1 : k < L.length
    · rw [if_pos c1, List.getElem?_append_left c1]
      rw [List.getElem?_append_left c1] at hk; exact hk
    · rw [List.getElem?_append_right (by omega)] at hk
      rw [if_neg c1]
      by_cases c2 : k < L.length + B.length
      · rw [if_pos c2, List.getElem?_append_right (by omega), List.getElem?_append_right (by omega), show k + A.length - L.length - A.length = k - L.length by omega]
        rw [List.getElem?_append_left (by omega)] at hk; exact hk
      · rw [List.getElem?_append_right (by omega)] at hk
        have hl := (List.getElem?_eq_some_iff.mp hk).1
        rw [if_neg c2, List.getElem?_append_right (by omega), List.getElem?_append_left (by omega), show k - B.length - L.length = k - L.length - B.length by omega]; exact hk
  · have e : (if i < L.length then i else if i < L.length + B.length then i + A.length else i - B.length) = (if j < L.length then j else if j < L.length + B.length then j + A.length else j - B.length) := e
    simp only [List.length_append] at hi hj
    split at e <;> split at e <;> (try split at e) <;> (try split at e) <;> omega
/-- a call of one that has the pool P, with a middle M that it has not -/
theorem jn_m {L Lc Lf Lr L' M P P1 : va_W} (isC isR js : List Nat) (hC : isC.map (fun i => L[i]?) = Lc.map some) (hR : isR.map (fun i => L[i]?) = Lr.map some) (hn : va_nd isR = true) (hdis : ∀ i ∈ isR, i ∉ isC) (hj : js.map (fun i => (Lr ++ Lf)[i]?) = L'.map some) (hnj : va_nd js = true) (hnC : va_nd isC = true) : JN (L ++ (M ++ P)) (Lc ++ P) (Lf ++ P1) (L' ++ (M ++ P1)) := by
  refine jn_perm (ws1 := (L ++ P) ++ M) (ws1' := (L' ++ P1) ++ M) ?_ (jn_frame (sb_p isC hC hnC) (jn_p isC isR js hC hR hn hdis hj hnj)) ?_
  · rw [List.append_assoc]; exact sb_sw
  · rw [List.append_assoc]; exact sb_sw
/-- addresses are apart -/
theorem z_nd {X : ZE} {Y : ZY} {G : ZG} {k n : Nat} {ws : va_W} {pc : Nat} {lv : List (Nat × Value)} {st : List Value} (z : (∀ (i j : Nat) (p q : Nat × va_E), ws[i]? = some p → ws[j]? = some q → p.1 = q.1 → i = j) → Z X Y G k n ws pc lv st) : Z X Y G k n ws pc lv st := fun H locs ls hP hD hS hl => z hD.1 H locs ls hP hD hS hl
theorem mid_get {L M P : va_W} {k : Nat} {q : Nat × va_E} (h : (L ++ M)[k]? = some q) : (L ++ (M ++ P))[k]? = some q := by
  rw [← List.append_assoc, List.getElem?_append_left (List.getElem?_eq_some_iff.mp h).1]; exact h
theorem mid_set {L M M' P : va_W} {k : Nat} {p q : Nat × va_E} (h : (L ++ M)[k]? = some p) (hs : (L ++ M).set k q = L ++ M') : (L ++ (M ++ P)).set k q = L ++ (M' ++ P) := by
  have hl := (List.getElem?_eq_some_iff.mp h).1
  rw [← List.append_assoc, List.set_append_left _ _ hl, hs, List.append_assoc]
