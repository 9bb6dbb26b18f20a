/-! A ROW OUT OF ITS POOL -/
set_option maxRecDepth 100000
/-- the pool of rows: sort, length, content by address -/
def RP (G : ZG) (RL : List Nat) (rso rn : Nat → Nat) (rf : Nat → Nat → Int) : va_W := va_pl RL (fun a => RWc G (rso a) (rn a) (rf a))
theorem sb_in {L M P : va_W} {w : Nat} {e : va_E} (h : (w, e) ∈ M) : SB (L ++ (M ++ P)) [(w, e)] := by
  obtain ⟨i, hi⟩ := List.getElem?_of_mem h
  have hl := (List.getElem?_eq_some_iff.mp hi).1
  refine ⟨fun _ => L.length + i, fun k q hk => ?_, fun a b ha hb _ => ?_⟩
  · cases k with
    | zero =>
      have e1 : (w, e) = q := Option.some.inj hk
      show (L ++ (M ++ P))[L.length + i]? = some q
      rw [List.getElem?_append_right (by omega), List.getElem?_append_left (by omega), show L.length + i - L.length = i by omega, hi, e1]
    | succ k => cases hk
  · have ha : a < 1 := ha
    have hb : b < 1 := hb
    omega
/-- two neighbours changed about -/
theorem sb_nb {L A C T : va_W} : SB (L ++ (A ++ (C ++ T))) (L ++ (C ++ (A ++ T))) := by
  refine ⟨fun k => if k < L.length then k else if k < L.length + C.length then k + A.length else if k < L.length + C.length + A.length then k - C.length else k, fun k q hk => ?_, fun i j hi hj e => ?_⟩
  · show (L ++ (A ++ (C ++ T)))[if k < L.length then k else if k < L.length + C.length then k + A.length else if k < L.length + C.length + A.length then k - C.length else k]? = some q
    by_cases c1 : k < L.length
    · rw [if_pos c1, List.getElem?_append_left c1]
      rw [List.getElem?_append_left c1] at hk; exact hk
    · rw [List.getElem?_append_right (by omega)] at hk
      rw [if_neg c1]
      by_cases c2 : k < L.length + C.length
      · rw [List.getElem?_append_left (by omega)] at hk
        rw [if_pos c2, List.getElem?_append_right (by omega), List.getElem?_append_right (by omega), List.getElem?_append_left (by omega), show k + A.length - L.length - A.length = k - L.length by omega]; exact hk
      · rw [List.getElem?_append_right (by omega)] at hk
        rw [if_neg c2]
        by_cases c3 : k < L.length + C.length + A.length
        · rw [List.getElem?_append_left (by omega)] at hk
          rw [if_pos c3, List.getElem?_append_right (by omega), List.getElem?_append_left (by omega), show k - C.length - L.length = k - L.length - C.length by omega]; exact hk
        · rw [List.getElem?_append_right (by omega)] at hk
          rw [if_neg c3, List.getElem?_append_right (by omega), List.getElem?_append_right (by omega), List.getElem?_append_right (by omega), show k - L.length - A.length - C.length = k - L.length - C.length - A.length by omega]; exact hk
  · have e : (if i < L.length then i else if i < L.length + C.length then i + A.length else if i < L.length + C.length + A.length then i - C.length else i) = (if j < L.length then j else if j < L.length + C.length then j + A.length else if j < L.length + C.length + A.length then j - C.length else j) := e
    by_cases a1 : i < L.length <;> by_cases a2 : i < L.length + C.length <;> by_cases a3 : i < L.length + C.length + A.length <;> by_cases b1 : j < L.length <;> by_cases b2 : j < L.length + C.length <;> by_cases b3 : j < L.length + C.length + A.length <;> simp only [a1, a2, a3, b1, b2, b3, if_true, if_false] at e <;> omega
/-- a row's cell c out of the middle A ++ c :: B, to the cells' end -/
theorem sb_out {L A B P : va_W} {c : Nat × va_E} : SB (L ++ ((A ++ c :: B) ++ P)) ((L ++ [c]) ++ ((A ++ B) ++ P)) := by
  have h := sb_nb (L := L) (A := A) (C := [c]) (T := B ++ P)
  rw [show (A ++ c :: B) ++ P = A ++ ([c] ++ (B ++ P)) by simp, show (L ++ [c]) ++ ((A ++ B) ++ P) = L ++ ([c] ++ (A ++ (B ++ P))) by simp]
  exact h
theorem sb_back {L A B P : va_W} {c : Nat × va_E} : SB ((L ++ [c]) ++ ((A ++ B) ++ P)) (L ++ ((A ++ c :: B) ++ P)) := by
  have h := sb_nb (L := L) (A := [c]) (C := A) (T := B ++ P)
  rw [show (A ++ c :: B) ++ P = A ++ ([c] ++ (B ++ P)) by simp, show (L ++ [c]) ++ ((A ++ B) ++ P) = L ++ ([c] ++ (A ++ (B ++ P))) by simp]
  exact h
