/-! BOOLEANS, POOLS OF HORSES, ARRAY COPIES over Z -/
set_option maxRecDepth 100000
def bI (p : Prop) [Decidable p] : Int := if p then 1 else 0
theorem bI_t {p : Prop} [Decidable p] (h : p) : bI p = 1 := if_pos h
theorem bI_f {p : Prop} [Decidable p] (h : ¬ p) : bI p = 0 := if_neg h
theorem bI_eq0 {p : Prop} [Decidable p] : bI p = 0 ↔ ¬ p := by unfold bI; split <;> simp_all
theorem bI_eq1 {p : Prop} [Decidable p] : bI p = 1 ↔ p := by unfold bI; split <;> simp_all
theorem bI_r {p : Prop} [Decidable p] : 0 ≤ bI p ∧ bI p ≤ 1 := by unfold bI; split <;> omega
theorem bI_cg {p q : Prop} [Decidable p] [Decidable q] (h : p ↔ q) : bI p = bI q := by unfold bI; simp only [h]
theorem bI_nar {p : Prop} [Decidable p] : narrow .boolean (.int (zI (bI p))) = .int (zI (bI p)) := by unfold bI; split <;> rfl
theorem bI_fit {p : Prop} [Decidable p] : fits .boolean (.int (zI (bI p))) = true := by unfold bI; split <;> rfl
section BR
variable {X : ZE} {Y : ZY} {G : ZG} {k n : Nat} {ws : va_W} {pc : Nat} {lv : List (Nat × Value)} {st : List Value}
theorem y_beq (C : CX X Y G) {p : Prop} [Decidable p] {off : Int} {tgt : Nat} (d : decode (zcc Y) pc = .ok (.ifCond .eq off, 3)) (ht : (pc : Int) + off = (tgt : Int)) (zt : ¬ p → Z X Y G k n ws tgt lv st) (zf : p → Z X Y G k n ws (pc + 3) lv st) : Z X Y G k n ws pc lv (.int (zI (bI p)) :: st) :=
  y_if_eq C (by have := bI_r (p := p); omega) d ht (fun h => zt (bI_eq0.mp h)) (fun h => zf (Decidable.byContradiction fun q => h (bI_f q)))
theorem y_bne (C : CX X Y G) {p : Prop} [Decidable p] {off : Int} {tgt : Nat} (d : decode (zcc Y) pc = .ok (.ifCond .ne off, 3)) (ht : (pc : Int) + off = (tgt : Int)) (zt : p → Z X Y G k n ws tgt lv st) (zf : ¬ p → Z X Y G k n ws (pc + 3) lv st) : Z X Y G k n ws pc lv (.int (zI (bI p)) :: st) :=
  y_if_ne C (by have := bI_r (p := p); omega) d ht (fun h => zt (Decidable.byContradiction fun q => h (bI_f q))) (fun h => zf (bI_eq0.mp h))
end BR
/-- the pool of horses: kinds and figures by address -/
def PL (LP : List Nat) (hk : Nat → Nat) (hf : Nat → Int) : va_W := va_pl LP (fun a => .inr (hk a, [.int (zI (hf a))]))
theorem pl_at {E : va_W} {LP : List Nat} {hk : Nat → Nat} {hf : Nat → Int} {y : Nat} (h : y ∈ LP) : ∃ q : Nat, (E ++ PL LP hk hf)[q]? = some (y, (.inr (hk y, [.int (zI (hf y))]) : va_E)) := va_pl_get h
/-- every horse of the pool is one of the eight kinds, its figure a digit -/
def PK (LP : List Nat) (hk : Nat → Nat) (hf : Nat → Int) : Prop := ∀ y, y ∈ LP → hk y < 8 ∧ 0 ≤ hf y ∧ hf y ≤ 9
/-- a land's references: n horses of the pool, of kinds kd and figures fg -/
def HR (LP : List Nat) (hk : Nat → Nat) (hf : Nat → Int) (r : Nat → Option Nat) (n : Nat) (kd : Nat → Nat) (fg : Nat → Int) : Prop := ∀ j, j < n → ∃ y, r j = some y ∧ y ∈ LP ∧ hk y = kd j ∧ hf y = fg j
/-- what a land's references may be at all -/
def RV (LP : List Nat) (r : Nat → Option Nat) : Prop := ∀ j, j < 7 → ∀ y, r j = some y → y ∈ LP
theorem arr_extI {f g : Nat → Int32} {m0 : Nat} {cA : ClassId} (h : ∀ j, j < m0 → f j = g j) : vp_cell cA (m0, .inl f) = vp_cell cA (m0, .inl g) := by
  rw [vp_cell_i, vp_cell_i]
  unfold arrV
  congr 1
  apply Array.ext
  · simp
  · intro i h1 h2
    simp only [Array.size_ofFn] at h1
    simp [h i h1]
theorem arr_extQ {f g : Nat → Option Nat} {m0 : Nat} {cA : ClassId} (h : ∀ j, j < m0 → f j = g j) : vp_cell cA (m0, .inr (.inr (.inr (.inr f)))) = vp_cell cA (m0, .inr (.inr (.inr (.inr g)))) := by
  rw [vp_cell_q, vp_cell_q]
  unfold arrV
  congr 1
  apply Array.ext
  · simp
  · intro i h1 h2
    simp only [Array.size_ofFn] at h1
    simp [h i h1]
theorem zI_clamp (m : Nat) (h : m < 2147483648) : (zI (m : Int)).toNatClampNeg = m := by rw [zI_n]; exact nI_clamp h
theorem zI_pos (m : Nat) (h : m < 2147483648) : ¬ zI (m : Int) < 0 := by rw [zI_n]; exact nI_pos h
section CP
variable {X : ZE} {Y : ZY} {G : ZG} {k n : Nat} {ws : va_W} {pc : Nat} {lv : List (Nat × Value)} {st : List Value}
/-- System.arraycopy of a whole int array -/
theorem y_copyI (C : CX X Y G) {idx q0 q1 t0 a0 a m0 : Nat} {cA : ClassId} {f g : Nat → Int} {ws' : va_W} {em : Int} (hlink : Cond.methodLink (zow Y) idx arraycopyName ∈ lw_all) (he0 : ws[q0]? = some (a0, .inl (cA, m0, .inl (IA f)))) (he1 : ws[q1]? = some (a, .inl (cA, m0, .inl (IA g)))) (ht : (zT G)[t0]? = some (cA, .int)) (hem : em = (m0 : Int)) (hm : m0 < 2147483648) (hF : 1 ≤ (zR Y).frames) (hlo : (st.map fun v => v.category).sum + 18 ≤ (zR Y).locals) (hw : ws.set q1 (a, .inl (cA, m0, .inl (IA f))) = ws') (d : decode (zcc Y) pc = .ok (.invokestatic idx, 3)) (z : Z X Y G k n ws' (pc + 3) lv st) : Z X Y G k n ws pc lv (.int (zI em) :: .int (zI 0) :: .ref a :: .int (zI 0) :: .ref a0 :: st) := by
  subst hem
  intro H locs ls hP hD hS hl
  have e0 : (zI 0).toNatClampNeg = 0 := zI_clamp 0 (by decide)
  have em := zI_clamp m0 hm
  refine va_copyi (D := zD G) (tys := zT G) (ty := .int) C.x C.b (by rw [C.ml]; exact hl.1.symm) C.own (C.ts _ hlink) (C.ts _ q291) (C.ts _ q290) (C.ts _ q70) C.K hP hD hS q0 q1 t0 t0 he0 he1 ht ht rfl (zI_pos 0 (by decide)) (zI_pos 0 (by decide)) (zI_pos m0 hm) (by rw [e0, em]; omega) (by rw [e0, em]; omega) (fun i hi => rfl) hF (by show _ + ((5 + 2) + 11) ≤ _; omega) d (fun H1 locs1 hP1 hD1 hS1 => ?_)
  refine z H1 locs1 ls ?_ ?_ hS1 hl
  · rw [← hw]
    have h1 := hP1.set hD1 (p := q1) (a := a) (e := .inl (cA, m0, .inl (IA f))) (H1 := H1) (List.getElem?_set_self (List.getElem?_eq_some_iff.mp he1).1) (by
      show H1[a]? = some (vp_cell _ _)
      have h2 := hP1 q1 _ (List.getElem?_set_self (List.getElem?_eq_some_iff.mp he1).1)
      have h3 : H1[a]? = some (vp_cell _ _) := h2
      rw [h3, e0, em]
      exact congrArg some (arr_extI fun j hj => by simp [va_cpy, hj])) (fun _ _ => rfl)
    rw [List.set_set] at h1
    exact h1
  · rw [← hw]
    have h1 := hD1.set (p := q1) (a := a) (e := .inl (cA, m0, .inl (IA f))) (List.getElem?_set_self (List.getElem?_eq_some_iff.mp he1).1)
    rw [List.set_set] at h1
    exact h1
/-- .. of a whole array of references, all of which are horses of the world -/
theorem y_copyQ (C : CX X Y G) {idx q0 q1 t0 a0 a m0 : Nat} {Cn : String} {cA : ClassId} {f g : Nat → Option Nat} {ws' : va_W} {em : Int} (hlink : Cond.methodLink (zow Y) idx arraycopyName ∈ lw_all) (he0 : ws[q0]? = some (a0, .inl (cA, m0, .inr (.inr (.inr (.inr f)))))) (he1 : ws[q1]? = some (a, .inl (cA, m0, .inr (.inr (.inr (.inr g)))))) (ht : (zT G)[t0]? = some (cA, .object Cn)) (hem : em = (m0 : Int)) (hm : m0 < 2147483648) (hel : ∀ H, va_P (zD G) CL ws H → ∀ i, i < m0 → ∀ y, f i = some y → va_Any Cn (zs X) H y) (hF : 1 ≤ (zR Y).frames) (hlo : (st.map fun v => v.category).sum + 18 ≤ (zR Y).locals) (hw : ws.set q1 (a, .inl (cA, m0, .inr (.inr (.inr (.inr f))))) = ws') (d : decode (zcc Y) pc = .ok (.invokestatic idx, 3)) (z : Z X Y G k n ws' (pc + 3) lv st) : Z X Y G k n ws pc lv (.int (zI em) :: .int (zI 0) :: .ref a :: .int (zI 0) :: .ref a0 :: st) := by
  subst hem
  intro H locs ls hP hD hS hl
  have e0 : (zI 0).toNatClampNeg = 0 := zI_clamp 0 (by decide)
  have em := zI_clamp m0 hm
  refine va_copyM (D := zD G) (tys := zT G) C.x C.b (by rw [C.ml]; exact hl.1.symm) C.own (C.ts _ hlink) (C.ts _ q291) (C.ts _ q290) (C.ts _ q70) C.K hP hD hS q0 q1 t0 t0 he0 he1 ht ht (zI_pos 0 (by decide)) (zI_pos 0 (by decide)) (zI_pos m0 hm) (by rw [e0, em]; omega) (by rw [e0, em]; omega) (fun i hi y hy => hel H hP i (by rw [em] at hi; exact hi) y (by rw [e0, Nat.zero_add] at hy; exact hy)) hF (by show _ + ((5 + 2) + 11) ≤ _; omega) d (fun H1 locs1 hP1 hD1 hS1 => ?_)
  refine z H1 locs1 ls ?_ ?_ hS1 hl
  · rw [← hw]
    have h1 := hP1.set hD1 (p := q1) (a := a) (e := .inl (cA, m0, .inr (.inr (.inr (.inr f))))) (H1 := H1) (List.getElem?_set_self (List.getElem?_eq_some_iff.mp he1).1) (by
      show H1[a]? = some (vp_cell _ _)
      have h2 := hP1 q1 _ (List.getElem?_set_self (List.getElem?_eq_some_iff.mp he1).1)
      have h3 : H1[a]? = some (vp_cell _ _) := h2
      rw [h3, e0, em]
      exact congrArg some (arr_extQ fun j hj => by simp [va_cpy, hj])) (fun _ _ => rfl)
    rw [List.set_set] at h1
    exact h1
  · rw [← hw]
    have h1 := hD1.set (p := q1) (a := a) (e := .inl (cA, m0, .inr (.inr (.inr (.inr f))))) (List.getElem?_set_self (List.getElem?_eq_some_iff.mp he1).1)
    rw [List.set_set] at h1
    exact h1
theorem z_asgHorse (C : CX X Y G) {kd : Nat} {r : vw_C} (hk : kd < 8) (hc : CL[kd]? = some r) : ∀ comp c0 : ClassId, (zs X).vm.findClass RX8 = some comp → (zs X).vm.findClass r.1 = some c0 → (zs X).vm.assignable c0 comp = true := by
  intro comp c0 h1 h2
  have key : ∀ w : Cond, ∀ Cn, w = .castable Cn "HiredByLonging$Horse" → r.1 = Cn → w.before (zar X) (zs X) = true → (zs X).vm.assignable c0 comp = true := by
    intro w Cn e1 e2 h
    subst e1
    obtain ⟨a, b, f1, f2, f3⟩ := Cond.castable_spec h
    rw [← e2] at f1
    cases h2.symm.trans f1
    cases h1.symm.trans f2
    exact f3
  have hg := C.gk.2.1
  rcases (show kd = 0 ∨ kd = 1 ∨ kd = 2 ∨ kd = 3 ∨ kd = 4 ∨ kd = 5 ∨ kd = 6 ∨ kd = 7 by omega) with rfl | rfl | rfl | rfl | rfl | rfl | rfl | rfl <;> cases hc
  · cases h1.symm.trans h2
    exact va_assign (C.K.1 0 _ rfl).2 |> fun h => by
      have hh := (C.K.1 0 _ rfl).2.1
      cases h1.symm.trans hh
      exact h
  · exact key _ _ rfl rfl (gw_13 hg)
  · exact key _ _ rfl rfl (gw_14 hg)
  · exact key _ _ rfl rfl (gw_15 hg)
  · exact key _ _ rfl rfl (gw_16 hg)
  · exact key _ _ rfl rfl (gw_17 hg)
  · exact key _ _ rfl rfl (gw_18 hg)
  · exact key _ _ rfl rfl (gw_19 hg)
theorem z_anyHorse (C : CX X Y G) {q y kd : Nat} {vs : List Value} {H : Heap} (hk : kd < 8) (he : ws[q]? = some (y, .inr (kd, vs))) (hP : va_P (zD G) CL ws H) : va_Any RX8 (zs X) H y := by
  obtain ⟨r, hr, -⟩ := hP q _ he
  exact va_rAny C.K hP he hr (z_asgHorse C hk hr)
/-- a horse into a land's row of horses -/
theorem y_astH (C : CX X Y G) {a m0 q t0 qk v kd : Nat} {cA : ClassId} {vs : List Value} {f g : Nat → Option Nat} {e : Int} {ws' : va_W} (he : ws[q]? = some (a, .inl (cA, m0, .inr (.inr (.inr (.inr f)))))) (ht : (zT G)[t0]? = some (cA, .object RX8)) (hk : kd < 8) (hv : ws[qk]? = some (v, .inr (kd, vs))) (hi : 0 ≤ e ∧ e < m0) (hm : m0 < 2147483648) (hg : va_up f e.toNat (some v) = g) (hw : ws.set q (a, .inl (cA, m0, .inr (.inr (.inr (.inr g))))) = ws') (d : decode (zcc Y) pc = .ok (.aastore, 1)) (z : Z X Y G k n ws' (pc + 1) lv st) : Z X Y G k n ws pc lv (.ref v :: .int (zI e) :: .ref a :: st) := by
  intro H locs ls hP hD hS hl
  have hi1 : zI e = nI e.toNat := zI_i hi.1
  refine va_astqM (D := zD G) (tys := zT G) C.x C.b C.K hP hD hS q t0 he ht (z_anyHorse C hk hv hP) (i := zI e) (by rw [hi1]; exact vp_in_nI (by omega) hm) d ?_
  rw [hi1, nI_clamp (by omega), hg, hw]
  exact fun H1 locs1 hP1 hD1 hS1 => z H1 locs1 ls hP1 hD1 hS1 hl
end CP
/-- fewer cells before a tail -/
theorem z_wsp {X : ZE} {Y : ZY} {G : ZG} {k n : Nat} {L L' P : va_W} {pc : Nat} {lv : List (Nat × Value)} {st : List Value} (is : List Nat) (h : is.map (fun i => L[i]?) = L'.map some) (hn : va_nd is = true) (z : Z X Y G k n (L' ++ P) pc lv st) : Z X Y G k n (L ++ P) pc lv st := fun H locs ls hP hD hS hl => z H locs ls (hP.part is h) (hD.part is hn h) hS hl
theorem nlt {a b : Nat} (h : Nat.ble (a + 1) b = true) : a < b := Nat.le_of_ble_eq_true h
