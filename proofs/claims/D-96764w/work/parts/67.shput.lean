/-! A SHELF IS GIVEN SOMETHING ELSE TO HOLD -/
set_option maxRecDepth 100000
section SHP
variable {X : ZE} {Y : ZY} {G : ZG} {k n : Nat} {pc : Nat} {lv : List (Nat × Value)} {st : List Value}
variable {sa ha ra hw rs rm ha2 ra2 hw2 rs2 rm2 : Nat → Nat} {rw_ rw2 : Nat → Int} {d : Nat} {L P S : va_W}
theorem sw_set {v : Value} (hd : d < 8) (hv : v = hvF hw2 ha2 ra2 d) (hag : ∀ j, j < 8 → ¬ j = d → hvF hw2 ha2 ra2 j = hvF hw ha ra j) : (L ++ (SW G sa ha ra hw rs rm rw_ ++ P)).set (L.length + d) (sa d, .inr (9, [v])) = L ++ ((SHs sa (hvF hw2 ha2 ra2) 0 8 ++ RWs G hw ra rs rm rw_ 0 8) ++ P) := by
  have e := SHs_split (sa := sa) (hv := hvF hw ha ra) d 0 (7 - d)
  have e2 := SHs_split (sa := sa) (hv := hvF hw2 ha2 ra2) d 0 (7 - d)
  rw [show d + (7 - d + 1) = 8 by omega, Nat.zero_add] at e e2
  have hl := SHs_len (sa := sa) (hv := hvF hw ha ra) d 0
  have c1 : SHs sa (hvF hw2 ha2 ra2) 0 d = SHs sa (hvF hw ha ra) 0 d := SHs_cg d 0 (fun j h1 h2 => hag j (by omega) (by omega))
  have c2 : SHs sa (hvF hw2 ha2 ra2) (d + 1) (7 - d) = SHs sa (hvF hw ha ra) (d + 1) (7 - d) := SHs_cg (7 - d) (d + 1) (fun j h1 h2 => hag j (by omega) (by omega))
  unfold SW
  rw [e2, c1, c2, e, List.set_append_right _ _ (by omega), show L.length + d - L.length = d by omega]
  congr 1
  rw [List.append_assoc, List.append_assoc, List.append_assoc, List.append_assoc, List.set_append_right _ _ (by omega), hl, Nat.sub_self, hv]
  rfl
/-- putfield held -/
theorem z_shPut (C : CX X Y G) {v : Value} {idx : Nat} (hd : d < 8) (hv : v = hvF hw2 ha2 ra2 d) (hr : v = .null ∨ ∃ a, v = .ref a) (hag : ∀ j, j < 8 → ¬ j = d → hvF hw2 ha2 ra2 j = hvF hw ha ra j) (hlink : Cond.fieldLink (zow Y) idx "HiredByLonging$Shelf" "held" "Ljava/lang/Object;" ∈ lw_all) (dc : decode (zcc Y) pc = .ok (.putfield idx, 3)) (z : Z X Y G k n (L ++ ((SHs sa (hvF hw2 ha2 ra2) 0 8 ++ RWs G hw ra rs rm rw_ 0 8) ++ P)) (pc + 3) lv st) : Z X Y G k n (L ++ (SW G sa ha ra hw rs rm rw_ ++ P)) pc lv (v :: .ref (sa d) :: st) := by
  have hn : narrow (.object "java/lang/Object") v = v := by
    rcases hr with e | ⟨a, e⟩ <;> subst e <;> rfl
  have hf : fits (.object "java/lang/Object") v = true := by
    rcases hr with e | ⟨a, e⟩ <;> subst e <;> rfl
  exact z_put (kf := 0) C (sw_at (L := L) hd) rfl in_X3 tyX3_ok nmX3 (by decide) hlink rfl rfl rfl hn hf (nlt rfl) (sw_set hd hv hag) dc z
/-- the row that stood there is left out -/
theorem sb_rwNo (hd : d < 8) (h2 : ¬ hw2 d = 2) (hag : ∀ j, j < 8 → ¬ j = d → RW1 G hw ra rs rm rw_ j = RW1 G hw2 ra2 rs2 rm2 rw2 j) : SB (L ++ ((S ++ RWs G hw ra rs rm rw_ 0 8) ++ P)) (L ++ ((S ++ RWs G hw2 ra2 rs2 rm2 rw2 0 8) ++ P)) := by
  have e := RWs_split (G := G) (hw := hw) (ra := ra) (rs := rs) (rm := rm) (rw_ := rw_) d 0 (7 - d)
  have e2 := RWs_split (G := G) (hw := hw2) (ra := ra2) (rs := rs2) (rm := rm2) (rw_ := rw2) d 0 (7 - d)
  rw [show d + (7 - d + 1) = 8 by omega, Nat.zero_add] at e e2
  have key : ∀ (n i : Nat), (∀ j, i ≤ j → j < i + n → j < 8 ∧ ¬ j = d) → RWs G hw ra rs rm rw_ i n = RWs G hw2 ra2 rs2 rm2 rw2 i n := by
    intro n
    induction n with
    | zero => intro i _; rfl
    | succ n ih =>
      intro i h
      have hi := h i (by omega) (by omega)
      show RW1 G hw ra rs rm rw_ i ++ RWs G hw ra rs rm rw_ (i + 1) n = RW1 G hw2 ra2 rs2 rm2 rw2 i ++ RWs G hw2 ra2 rs2 rm2 rw2 (i + 1) n
      rw [hag i hi.1 hi.2, ih (i + 1) (fun j h1 h3 => h j (by omega) (by omega))]
  have c0 : RW1 G hw2 ra2 rs2 rm2 rw2 d = [] := if_neg h2
  rw [e, e2, key d 0 (fun j h1 h3 => by omega), key (7 - d) (d + 1) (fun j h1 h3 => by omega), c0]
  have h := sb_drop (L := L ++ (S ++ RWs G hw2 ra2 rs2 rm2 rw2 0 d)) (A := RW1 G hw ra rs rm rw_ d) (T := RWs G hw2 ra2 rs2 rm2 rw2 (d + 1) (7 - d) ++ P)
  simp only [List.append_assoc, List.nil_append] at h ⊢
  exact h
/-- a new row takes the place -/
theorem sb_rwYes {c : Nat × va_E} (hd : d < 8) (h2 : RW1 G hw2 ra2 rs2 rm2 rw2 d = [c]) (hag : ∀ j, j < 8 → ¬ j = d → RW1 G hw ra rs rm rw_ j = RW1 G hw2 ra2 rs2 rm2 rw2 j) : SB ((c :: L) ++ ((S ++ RWs G hw ra rs rm rw_ 0 8) ++ P)) (L ++ ((S ++ RWs G hw2 ra2 rs2 rm2 rw2 0 8) ++ P)) := by
  have e := RWs_split (G := G) (hw := hw) (ra := ra) (rs := rs) (rm := rm) (rw_ := rw_) d 0 (7 - d)
  have e2 := RWs_split (G := G) (hw := hw2) (ra := ra2) (rs := rs2) (rm := rm2) (rw_ := rw2) d 0 (7 - d)
  rw [show d + (7 - d + 1) = 8 by omega, Nat.zero_add] at e e2
  have key : ∀ (n i : Nat), (∀ j, i ≤ j → j < i + n → j < 8 ∧ ¬ j = d) → RWs G hw ra rs rm rw_ i n = RWs G hw2 ra2 rs2 rm2 rw2 i n := by
    intro n
    induction n with
    | zero => intro i _; rfl
    | succ n ih =>
      intro i h
      have hi := h i (by omega) (by omega)
      show RW1 G hw ra rs rm rw_ i ++ RWs G hw ra rs rm rw_ (i + 1) n = RW1 G hw2 ra2 rs2 rm2 rw2 i ++ RWs G hw2 ra2 rs2 rm2 rw2 (i + 1) n
      rw [hag i hi.1 hi.2, ih (i + 1) (fun j h1 h3 => h j (by omega) (by omega))]
  rw [e, e2, key d 0 (fun j h1 h3 => by omega), key (7 - d) (d + 1) (fun j h1 h3 => by omega), h2]
  have h := sb_nb (L := []) (A := [c]) (C := L ++ (S ++ RWs G hw2 ra2 rs2 rm2 rw2 0 d)) (T := RW1 G hw ra rs rm rw_ d ++ (RWs G hw2 ra2 rs2 rm2 rw2 (d + 1) (7 - d) ++ P))
  have h3 := sb_drop (L := L ++ (S ++ (RWs G hw2 ra2 rs2 rm2 rw2 0 d ++ [c]))) (A := RW1 G hw ra rs rm rw_ d) (T := RWs G hw2 ra2 rs2 rm2 rw2 (d + 1) (7 - d) ++ P)
  simp only [List.append_assoc, List.nil_append, List.singleton_append, List.cons_append] at h h3 ⊢
  exact sb_trans h h3
end SHP
