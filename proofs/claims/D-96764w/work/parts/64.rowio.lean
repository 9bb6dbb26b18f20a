/-! ROWS in and out of the shelves' middle -/
set_option maxRecDepth 100000
section RIO
variable {X : ZE} {Y : ZY} {G : ZG} {k n : Nat} {pc : Nat} {lv : List (Nat × Value)} {st : List Value}
variable {sa ha ra hw rs rm : Nat → Nat} {rw_ : Nat → Int} {d : Nat} {L P A B : va_W}
/-- a row's cell among others, its content told otherwise -/
theorem z_rowE {s m0 q a : Nat} {f g : Nat → Int} {ws ws' : va_W} (he : ws[q]? = some (a, RWc G s m0 f)) (h : ∀ j, j < m0 → f j = g j) (hw' : ws.set q (a, RWc G s m0 g) = ws') (z : Z X Y G k n ws' pc lv st) : Z X Y G k n ws pc lv st := z_cellI (f := f) (g := g) he h hw' z
theorem set_last {L T : va_W} {c e : Nat × va_E} : ((L ++ [c]) ++ T).set L.length e = (L ++ [e]) ++ T := by
  rw [List.append_assoc, List.append_assoc, List.set_append_right _ _ (Nat.le_refl _), Nat.sub_self]
  rfl
theorem get_last {L T : va_W} {c : Nat × va_E} : ((L ++ [c]) ++ T)[L.length]? = some c := by
  rw [List.append_assoc, List.getElem?_append_right (Nat.le_refl _), Nat.sub_self]
  rfl
/-- a row out of the middle: it stands behind the cells -/
theorem z_rowOut (hd : d < 8) (h2 : hw d = 2) (hm : rm d ≤ 100) (z : ∀ A B : va_W, SW G sa ha ra hw rs rm rw_ = A ++ (ra d, RWc G (rs d) (rm d) (rowC rw_ d)) :: B → (∀ rw2 : Nat → Int, (∀ q, (q < 100 * d ∨ 100 * d + 100 ≤ q) → rw2 q = rw_ q) → SW G sa ha ra hw rs rm rw2 = A ++ (ra d, RWc G (rs d) (rm d) (rowC rw2 d)) :: B) → Z X Y G k n ((L ++ [(ra d, RWc G (rs d) (rm d) (rowF rw_ d))]) ++ ((A ++ B) ++ P)) pc lv st) : Z X Y G k n (L ++ (SW G sa ha ra hw rs rm rw_ ++ P)) pc lv st := by
  obtain ⟨A, B, e, hcg⟩ := sw_row (G := G) (sa := sa) (ha := ha) (ra := ra) (rs := rs) (rm := rm) (rw_ := rw_) hd h2
  have z1 := z A B e hcg
  rw [e]
  refine z_sb sb_out ?_
  exact z_rowE get_last (fun j hj => rowC_F (by omega)) set_last z1
/-- .. and back -/
theorem z_rowIn {rw2 : Nat → Int} (hm : rm d ≤ 100) (e : SW G sa ha ra hw rs rm rw2 = A ++ (ra d, RWc G (rs d) (rm d) (rowC rw2 d)) :: B) (z : Z X Y G k n (L ++ (SW G sa ha ra hw rs rm rw2 ++ P)) pc lv st) : Z X Y G k n ((L ++ [(ra d, RWc G (rs d) (rm d) (rowF rw2 d))]) ++ ((A ++ B) ++ P)) pc lv st := by
  refine z_rowE get_last (g := rowC rw2 d) (fun j hj => (rowC_F (by omega)).symm) set_last ?_
  refine z_sb sb_back ?_
  rw [← e]
  exact z
/-- what kept horses are: of the pool, of the kind and the figure that the shelves tell -/
def KH (LP : List Nat) (hk : Nat → Nat) (hf : Nat → Int) (ha hw kk : Nat → Nat) (kf : Nat → Int) : Prop := ∀ q, q < 8 → hw q = 1 → ha q ∈ LP ∧ hk (ha q) = kk q ∧ hf (ha q) = kf q
end RIO
