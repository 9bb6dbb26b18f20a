/-! SHELVES: the component's shelves and the rows on them, a middle of the world -/
set_option maxRecDepth 100000
/-- what a shelf holds -/
def hvF (hw ha ra : Nat → Nat) (d : Nat) : Value := if hw d = 0 then .null else if hw d = 1 then .ref (ha d) else .ref (ra d)
theorem hvF_0 {hw ha ra : Nat → Nat} {d : Nat} (h : hw d = 0) : hvF hw ha ra d = .null := if_pos h
theorem hvF_1 {hw ha ra : Nat → Nat} {d : Nat} (h : hw d = 1) : hvF hw ha ra d = .ref (ha d) := by
  unfold hvF; rw [if_neg (by omega), if_pos h]
theorem hvF_2 {hw ha ra : Nat → Nat} {d : Nat} (h : hw d = 2) : hvF hw ha ra d = .ref (ra d) := by
  unfold hvF; rw [if_neg (by omega), if_neg (by omega)]
/-- a row's content, by its places alone -/
def rowC (rw_ : Nat → Int) (e : Nat) : Nat → Int := fun k => if k < 100 then rw_ (100 * e + k) else 0
theorem rowC_F {rw_ : Nat → Int} {e k : Nat} (h : k < 100) : rowC rw_ e k = rowF rw_ e k := if_pos h
theorem rowC_cg {f g : Nat → Int} {e : Nat} (h : ∀ k, k < 100 → f (100 * e + k) = g (100 * e + k)) : rowC f e = rowC g e := by
  funext k
  unfold rowC
  split
  · exact h k (by assumption)
  · rfl
def SHs (sa : Nat → Nat) (hv : Nat → Value) : Nat → Nat → va_W
  | _, 0 => []
  | i, n + 1 => (sa i, .inr (9, [hv i])) :: SHs sa hv (i + 1) n
def RW1 (G : ZG) (hw ra rs rm : Nat → Nat) (rw_ : Nat → Int) (i : Nat) : va_W := if hw i = 2 then [(ra i, RWc G (rs i) (rm i) (rowC rw_ i))] else []
def RWs (G : ZG) (hw ra rs rm : Nat → Nat) (rw_ : Nat → Int) : Nat → Nat → va_W
  | _, 0 => []
  | i, n + 1 => RW1 G hw ra rs rm rw_ i ++ RWs G hw ra rs rm rw_ (i + 1) n
/-- shelves and rows -/
def SW (G : ZG) (sa ha ra hw rs rm : Nat → Nat) (rw_ : Nat → Int) : va_W := SHs sa (hvF hw ha ra) 0 8 ++ RWs G hw ra rs rm rw_ 0 8
theorem SHs_split {sa : Nat → Nat} {hv : Nat → Value} : ∀ (k i n : Nat), SHs sa hv i (k + (n + 1)) = SHs sa hv i k ++ ((sa (i + k), (.inr (9, [hv (i + k)]) : va_E)) :: SHs sa hv (i + k + 1) n)
  | 0, i, n => by rw [Nat.zero_add]; rfl
  | k + 1, i, n => by
    have h := SHs_split (sa := sa) (hv := hv) k (i + 1) n
    rw [show k + 1 + (n + 1) = (k + (n + 1)) + 1 by omega]
    show (sa i, (.inr (9, [hv i]) : va_E)) :: SHs sa hv (i + 1) (k + (n + 1)) = ((sa i, (.inr (9, [hv i]) : va_E)) :: SHs sa hv (i + 1) k) ++ _
    rw [h, show i + 1 + k = i + (k + 1) by omega]
    rfl
theorem SHs_cg {sa : Nat → Nat} {hv hv2 : Nat → Value} : ∀ (n i : Nat), (∀ j, i ≤ j → j < i + n → hv j = hv2 j) → SHs sa hv i n = SHs sa hv2 i n
  | 0, _, _ => rfl
  | n + 1, i, h => by
    show (sa i, (.inr (9, [hv i]) : va_E)) :: SHs sa hv (i + 1) n = (sa i, (.inr (9, [hv2 i]) : va_E)) :: SHs sa hv2 (i + 1) n
    rw [h i (by omega) (by omega), SHs_cg n (i + 1) (fun j h1 h2 => h j (by omega) (by omega))]
theorem SHs_len {sa : Nat → Nat} {hv : Nat → Value} : ∀ (n i : Nat), (SHs sa hv i n).length = n
  | 0, _ => rfl
  | n + 1, i => by
    show (SHs sa hv (i + 1) n).length + 1 = n + 1
    rw [SHs_len n]
theorem RWs_split {G : ZG} {hw ra rs rm : Nat → Nat} {rw_ : Nat → Int} : ∀ (k i n : Nat), RWs G hw ra rs rm rw_ i (k + (n + 1)) = RWs G hw ra rs rm rw_ i k ++ (RW1 G hw ra rs rm rw_ (i + k) ++ RWs G hw ra rs rm rw_ (i + k + 1) n)
  | 0, i, n => by rw [Nat.zero_add]; rfl
  | k + 1, i, n => by
    have h := RWs_split (G := G) (hw := hw) (ra := ra) (rs := rs) (rm := rm) (rw_ := rw_) k (i + 1) n
    rw [show k + 1 + (n + 1) = (k + (n + 1)) + 1 by omega]
    show RW1 G hw ra rs rm rw_ i ++ RWs G hw ra rs rm rw_ (i + 1) (k + (n + 1)) = (RW1 G hw ra rs rm rw_ i ++ RWs G hw ra rs rm rw_ (i + 1) k) ++ _
    rw [h, show i + 1 + k = i + (k + 1) by omega, List.append_assoc]
theorem RW1_cg {G : ZG} {hw ra rs rm hw2 ra2 rs2 rm2 : Nat → Nat} {rw_ rw2 : Nat → Int} {j : Nat} (h1 : hw j = 2 ↔ hw2 j = 2) (h2 : hw j = 2 → ra j = ra2 j ∧ rs j = rs2 j ∧ rm j = rm2 j ∧ ∀ k, k < 100 → rw_ (100 * j + k) = rw2 (100 * j + k)) : RW1 G hw ra rs rm rw_ j = RW1 G hw2 ra2 rs2 rm2 rw2 j := by
  unfold RW1
  by_cases c : hw j = 2
  · obtain ⟨e1, e2, e3, e4⟩ := h2 c
    rw [if_pos c, if_pos (h1.mp c), e1, e2, e3, rowC_cg e4]
  · rw [if_neg c, if_neg (fun z => c (h1.mpr z))]
theorem RWs_cg {G : ZG} {hw ra rs rm hw2 ra2 rs2 rm2 : Nat → Nat} {rw_ rw2 : Nat → Int} : ∀ (n i : Nat), (∀ j, i ≤ j → j < i + n → (hw j = 2 ↔ hw2 j = 2) ∧ (hw j = 2 → ra j = ra2 j ∧ rs j = rs2 j ∧ rm j = rm2 j ∧ ∀ k, k < 100 → rw_ (100 * j + k) = rw2 (100 * j + k))) → RWs G hw ra rs rm rw_ i n = RWs G hw2 ra2 rs2 rm2 rw2 i n
  | 0, _, _ => rfl
  | n + 1, i, h => by
    have hi := h i (by omega) (by omega)
    show RW1 G hw ra rs rm rw_ i ++ RWs G hw ra rs rm rw_ (i + 1) n = RW1 G hw2 ra2 rs2 rm2 rw2 i ++ RWs G hw2 ra2 rs2 rm2 rw2 (i + 1) n
    rw [RW1_cg hi.1 hi.2, RWs_cg n (i + 1) (fun j h1 h2 => h j (by omega) (by omega))]
section SWL
variable {G : ZG} {sa ha ra hw rs rm : Nat → Nat} {rw_ : Nat → Int} {d : Nat}
/-- a shelf's cell in the world -/
theorem sw_at {L P : va_W} (hd : d < 8) : (L ++ (SW G sa ha ra hw rs rm rw_ ++ P))[L.length + d]? = some (sa d, .inr (9, [hvF hw ha ra d])) := by
  have e := SHs_split (sa := sa) (hv := hvF hw ha ra) d 0 (7 - d)
  rw [show d + (7 - d + 1) = 8 by omega, Nat.zero_add] at e
  have hl := SHs_len (sa := sa) (hv := hvF hw ha ra) d 0
  rw [List.getElem?_append_right (by omega), show L.length + d - L.length = d by omega]
  unfold SW
  rw [e, List.append_assoc, List.append_assoc, List.getElem?_append_right (by omega), hl, Nat.sub_self]
  rfl
/-- a row's cell out of them -/
theorem sw_row (hd : d < 8) (h2 : hw d = 2) : ∃ A B : va_W, SW G sa ha ra hw rs rm rw_ = A ++ (ra d, RWc G (rs d) (rm d) (rowC rw_ d)) :: B ∧ ∀ rw2 : Nat → Int, (∀ q, (q < 100 * d ∨ 100 * d + 100 ≤ q) → rw2 q = rw_ q) → SW G sa ha ra hw rs rm rw2 = A ++ (ra d, RWc G (rs d) (rm d) (rowC rw2 d)) :: B := by
  have key : ∀ rw2 : Nat → Int, (∀ q, (q < 100 * d ∨ 100 * d + 100 ≤ q) → rw2 q = rw_ q) → SW G sa ha ra hw rs rm rw2 = (SHs sa (hvF hw ha ra) 0 8 ++ RWs G hw ra rs rm rw_ 0 d) ++ (ra d, RWc G (rs d) (rm d) (rowC rw2 d)) :: RWs G hw ra rs rm rw_ (d + 1) (7 - d) := by
    intro rw2 hq
    have e := RWs_split (G := G) (hw := hw) (ra := ra) (rs := rs) (rm := rm) (rw_ := rw2) d 0 (7 - d)
    rw [show d + (7 - d + 1) = 8 by omega, Nat.zero_add] at e
    unfold SW
    rw [e, RWs_cg (hw2 := hw) (ra2 := ra) (rs2 := rs) (rm2 := rm) (rw2 := rw_) d 0 (fun j h1 h2 => ⟨Iff.rfl, fun _ => ⟨rfl, rfl, rfl, fun k hk => hq _ (by omega)⟩⟩),
      RWs_cg (hw2 := hw) (ra2 := ra) (rs2 := rs) (rm2 := rm) (rw2 := rw_) (7 - d) (d + 1) (fun j h1 h2 => ⟨Iff.rfl, fun _ => ⟨rfl, rfl, rfl, fun k hk => hq _ (by omega)⟩⟩)]
    unfold RW1
    rw [if_pos h2]
    simp [List.append_assoc]
  exact ⟨_, _, key rw_ (fun _ _ => rfl), key⟩
end SWL
section SBR
variable {X : ZE} {Y : ZY} {G : ZG} {k n : Nat} {ws : va_W} {pc : Nat} {lv : List (Nat × Value)} {st : List Value}
theorem z_sb {ws' : va_W} (h : SB ws ws') (z : Z X Y G k n ws' pc lv st) : Z X Y G k n ws pc lv st := fun H locs ls hP hD hS hl => z H locs ls (h.P hP) (h.D hD) hS hl
theorem sb_rfl {ws : va_W} : SB ws ws := ⟨fun i => i, fun _ _ h => h, fun _ _ _ _ h => h⟩
theorem sb_trans {a b c : va_W} (h1 : SB a b) (h2 : SB b c) : SB a c := by
  obtain ⟨g, g1, g2⟩ := h1
  obtain ⟨f, f1, f2⟩ := h2
  have hl : ∀ i, i < c.length → f i < b.length := fun i hi => (List.getElem?_eq_some_iff.mp (f1 i c[i] (List.getElem?_eq_getElem hi))).1
  exact ⟨fun i => g (f i), fun i q hq => g1 _ _ (f1 i q hq), fun i j hi hj e => f2 i j hi hj (g2 _ _ (hl i hi) (hl j hj) e)⟩
/-- a part left out -/
theorem sb_drop {L A T : va_W} : SB (L ++ (A ++ T)) (L ++ T) := by
  refine ⟨fun k => if k < L.length then k else k + A.length, fun k q hk => ?_, fun i j hi hj e => ?_⟩
  · show (L ++ (A ++ T))[if k < L.length then k else k + A.length]? = some q
    by_cases c : k < L.length
    · rw [if_pos c, List.getElem?_append_left c]
      rw [List.getElem?_append_left c] at hk; exact hk
    · rw [if_neg c, List.getElem?_append_right (by omega), List.getElem?_append_right (by omega), show k + A.length - L.length - A.length = k - L.length by omega]
      rw [List.getElem?_append_right (by omega)] at hk; exact hk
  · have e : (if i < L.length then i else i + A.length) = (if j < L.length then j else j + A.length) := e
    split at e <;> split at e <;> omega
/-- a horse of the pool behind a middle -/
theorem mid_pl {L M : va_W} {LP : List Nat} {hk : Nat → Nat} {hf : Nat → Int} {y : Nat} (h : y ∈ LP) : ∃ q : Nat, (L ++ (M ++ PL LP hk hf))[q]? = some (y, (.inr (hk y, [.int (zI (hf y))]) : va_E)) := by
  rw [← List.append_assoc]
  exact pl_at h
/-- one who is not an array -/
theorem z_hno {U : State} (h : GC U) {k0 : Nat} (hk : k0 < 8) : ∃ r : vw_C, CL[k0]? = some r ∧ va_Nc r.1 "[B" U ∧ va_Nc r.1 "[S" U ∧ va_Nc r.1 "[I" U := by
  rcases (show k0 = 0 ∨ k0 = 1 ∨ k0 = 2 ∨ k0 = 3 ∨ k0 = 4 ∨ k0 = 5 ∨ k0 = 6 ∨ k0 = 7 by omega) with rfl | rfl | rfl | rfl | rfl | rfl | rfl | rfl
  · exact ⟨_, rfl, gc_0 h, gc_1 h, gc_2 h⟩
  · exact ⟨_, rfl, gc_3 h, gc_4 h, gc_5 h⟩
  · exact ⟨_, rfl, gc_6 h, gc_7 h, gc_8 h⟩
  · exact ⟨_, rfl, gc_9 h, gc_10 h, gc_11 h⟩
  · exact ⟨_, rfl, gc_12 h, gc_13 h, gc_14 h⟩
  · exact ⟨_, rfl, gc_15 h, gc_16 h, gc_17 h⟩
  · exact ⟨_, rfl, gc_18 h, gc_19 h, gc_20 h⟩
  · exact ⟨_, rfl, gc_21 h, gc_22 h, gc_23 h⟩
/-- a horse is no array -/
theorem z_instH (C : CX X Y G) {nm : String} {q a idx k0 : Nat} {fs : List Value} (hl : Cond.classLink (zow Y) idx nm ∈ lw_all) (hk : k0 < 8) (hnm : nm = "[B" ∨ nm = "[S" ∨ nm = "[I") (he : ws[q]? = some (a, .inr (k0, fs))) (d : decode (zcc Y) pc = .ok (.instanceof idx, 3)) (z : Z X Y G k n ws (pc + 3) lv (.int (zI 0) :: st)) : Z X Y G k n ws pc lv (.ref a :: st) := by
  obtain ⟨r, hr, h1, h2, h3⟩ := z_hno C.gk.2.2.1 hk
  obtain ⟨Cn, T, N⟩ := r
  refine z_instON C hl hr he ?_ d z
  rcases hnm with e | e | e <;> subst e
  · exact h1
  · exact h2
  · exact h3
/-- a horse is a horse -/
theorem z_castH (C : CX X Y G) {q a idx k0 : Nat} {fs : List Value} (hl : Cond.classLink (zow Y) idx "HiredByLonging$Horse" ∈ lw_all) (hk : k0 < 8) (he : ws[q]? = some (a, .inr (k0, fs))) (d : decode (zcc Y) pc = .ok (.checkcast idx, 3)) (z : Z X Y G k n ws (pc + 3) lv (.ref a :: st)) : Z X Y G k n ws pc lv (.ref a :: st) := by
  intro H locs ls hP hD hS hl2
  have hg := C.gk.2.1
  obtain ⟨r, hr, -⟩ := z_hno C.gk.2.2.1 hk
  have hrv := va_recv C.K hP hr he
  rcases (show k0 = 0 ∨ k0 = 1 ∨ k0 = 2 ∨ k0 = 3 ∨ k0 = 4 ∨ k0 = 5 ∨ k0 = 6 ∨ k0 = 7 by omega) with rfl | rfl | rfl | rfl | rfl | rfl | rfl | rfl <;> cases hr
  · exact va_castS C.x C.b C.own (C.ts _ hl) (C.K.1 0 _ rfl).2 hrv d (z H locs ls hP hD hS hl2)
  · exact va_castY C.x C.b C.own (C.ts _ hl) (va_Nw.of rfl (gw_13 (A := zar X) hg)) hrv d (z H locs ls hP hD hS hl2)
  · exact va_castY C.x C.b C.own (C.ts _ hl) (va_Nw.of rfl (gw_14 (A := zar X) hg)) hrv d (z H locs ls hP hD hS hl2)
  · exact va_castY C.x C.b C.own (C.ts _ hl) (va_Nw.of rfl (gw_15 (A := zar X) hg)) hrv d (z H locs ls hP hD hS hl2)
  · exact va_castY C.x C.b C.own (C.ts _ hl) (va_Nw.of rfl (gw_16 (A := zar X) hg)) hrv d (z H locs ls hP hD hS hl2)
  · exact va_castY C.x C.b C.own (C.ts _ hl) (va_Nw.of rfl (gw_17 (A := zar X) hg)) hrv d (z H locs ls hP hD hS hl2)
  · exact va_castY C.x C.b C.own (C.ts _ hl) (va_Nw.of rfl (gw_18 (A := zar X) hg)) hrv d (z H locs ls hP hD hS hl2)
  · exact va_castY C.x C.b C.own (C.ts _ hl) (va_Nw.of rfl (gw_19 (A := zar X) hg)) hrv d (z H locs ls hP hD hS hl2)
theorem z_castN (C : CX X Y G) {idx : Nat} (d : decode (zcc Y) pc = .ok (.checkcast idx, 3)) (z : Z X Y G k n ws (pc + 3) lv (.null :: st)) : Z X Y G k n ws pc lv (.null :: st) := fun H locs ls hP hD hS hl2 =>
  lv_castN C.x C.b d (z H locs ls hP hD hS hl2)
end SBR
