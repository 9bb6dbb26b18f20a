/-! ints as Int: every int of the walks is zI of an Int -/
set_option maxRecDepth 100000
def zI (a : Int) : Int32 := Int32.ofInt a
def zL (a : Int) : Int64 := Int64.ofInt a
theorem zI_toInt {a : Int} (h : -2147483648 ≤ a ∧ a ≤ 2147483647) : (zI a).toInt = a := by
  unfold zI
  rw [Int32.toInt_ofInt]
  show Int.bmod a 4294967296 = a
  rw [Int.bmod_def]
  omega
theorem zI_of (x : Int32) : x = zI x.toInt := (Int32.ofInt_toInt x).symm
theorem zI_rng (x : Int32) : -2147483648 ≤ x.toInt ∧ x.toInt ≤ 2147483647 := by
  have h1 := Int32.le_toInt x
  have h2 := Int32.toInt_lt x
  omega
theorem zI_all (x : Int32) : ∃ a : Int, x = zI a ∧ -2147483648 ≤ a ∧ a ≤ 2147483647 := ⟨x.toInt, zI_of x, zI_rng x⟩
theorem zI_add (a b : Int) : zI a + zI b = zI (a + b) := (Int32.ofInt_add a b).symm
theorem zI_sub (a b : Int) : zI a - zI b = zI (a - b) := (Int32.ofInt_sub a b).symm
theorem zI_mul (a b : Int) : zI a * zI b = zI (a * b) := (Int32.ofInt_mul a b).symm
theorem zI_neg (a : Int) : -zI a = zI (-a) := (Int32.ofInt_neg a).symm
theorem zI_lt {a b : Int} (ha : -2147483648 ≤ a ∧ a ≤ 2147483647) (hb : -2147483648 ≤ b ∧ b ≤ 2147483647) : zI a < zI b ↔ a < b := by
  rw [Int32.lt_iff_toInt_lt, zI_toInt ha, zI_toInt hb]
theorem zI_le {a b : Int} (ha : -2147483648 ≤ a ∧ a ≤ 2147483647) (hb : -2147483648 ≤ b ∧ b ≤ 2147483647) : zI a ≤ zI b ↔ a ≤ b := by
  rw [Int32.le_iff_toInt_le, zI_toInt ha, zI_toInt hb]
theorem zI_eq {a b : Int} (ha : -2147483648 ≤ a ∧ a ≤ 2147483647) (hb : -2147483648 ≤ b ∧ b ≤ 2147483647) : zI a = zI b ↔ a = b := by
  rw [← Int32.toInt_inj, zI_toInt ha, zI_toInt hb]
theorem zI_n (j : Nat) : zI (j : Int) = nI j := by
  apply Int32.toInt_inj.mp
  unfold zI nI
  rw [Int32.toInt_ofInt, Int32.toInt_ofNat']
theorem zI_i {a : Int} (h : 0 ≤ a) : zI a = nI a.toNat := by
  rw [← zI_n, Int.toNat_of_nonneg h]
theorem zI_div {a b : Int} (ha : 0 ≤ a ∧ a ≤ 2147483647) (hb : 0 < b ∧ b ≤ 2147483647) : zI a / zI b = zI (a / b) := by
  obtain ⟨i, rfl⟩ := Int.eq_ofNat_of_zero_le ha.1
  obtain ⟨j, rfl⟩ := Int.eq_ofNat_of_zero_le (Int.le_of_lt hb.1)
  rw [zI_n, zI_n, pk_div (by omega) (by omega) (by omega), ← zI_n]
  rfl
theorem zI_rem {a b : Int} (ha : 0 ≤ a ∧ a ≤ 2147483647) (hb : 0 < b ∧ b ≤ 2147483647) : zI a - zI a / zI b * zI b = zI (a % b) := by
  obtain ⟨i, rfl⟩ := Int.eq_ofNat_of_zero_le ha.1
  obtain ⟨j, rfl⟩ := Int.eq_ofNat_of_zero_le (Int.le_of_lt hb.1)
  rw [zI_n, zI_n, pk_rem (by omega) (by omega) (by omega), ← zI_n]
  rfl
theorem zI_ne0 {a : Int} (hb : 0 < a ∧ a ≤ 2147483647) : ¬ zI a = 0 := by
  intro h
  have h2 : zI a = zI 0 := h
  rw [zI_eq (by omega) (by omega)] at h2
  omega
theorem zI_min {a b : Int} (ha : -2147483648 ≤ a ∧ a ≤ 2147483647) (hb : -2147483648 ≤ b ∧ b ≤ 2147483647) : (if zI b < zI a then zI b else zI a) = zI (min a b) := by
  by_cases h : b < a
  · rw [if_pos ((zI_lt hb ha).mpr h), Int.min_eq_right (by omega)]
  · rw [if_neg (fun q => h ((zI_lt hb ha).mp q)), Int.min_eq_left (by omega)]
def zAbs (a : Int) : Int := if 0 ≤ a then a else -a
theorem zI_abs {a : Int} (ha : -2147483647 ≤ a ∧ a ≤ 2147483647) : (if 0 ≤ zI a then zI a else 0 - zI a) = zI (zAbs a) := by
  have h0 : (0 : Int32) = zI 0 := rfl
  unfold zAbs
  by_cases h : 0 ≤ a
  · rw [if_pos (by rw [h0, zI_le (by omega) (by omega)]; exact h), if_pos h]
  · rw [if_neg (by rw [h0, zI_le (by omega) (by omega)]; exact h), if_neg h, h0, zI_sub]
    congr 1
    omega
theorem zAbs_le {a m : Int} : zAbs a ≤ m ↔ a ≤ m ∧ -m ≤ a := by unfold zAbs; split <;> omega
theorem zAbs_nn (a : Int) : 0 ≤ zAbs a := by unfold zAbs; split <;> omega
/-- an int array's contents -/
def IA (f : Nat → Int) : Nat → Int32 := fun j => zI (f j)
def LA (f : Nat → Int) : Nat → Int64 := fun j => zL (f j)
theorem IA_up (f : Nat → Int) (k : Nat) (x : Int) : upd (IA f) k (zI x) = IA (va_up f k x) := by
  funext j
  by_cases h : j = k <;> simp [upd, IA, va_up, h]
theorem LA_up (f : Nat → Int) (k : Nat) (x : Int) : vp_updL (LA f) k (zL x) = LA (va_up f k x) := by
  funext j
  by_cases h : j = k <;> simp [vp_updL, LA, va_up, h]
theorem IA_0 : (fun _ => (0 : Int32)) = IA (fun _ => 0) := rfl
theorem LA_0 : (fun _ => (0 : Int64)) = LA (fun _ => 0) := rfl
/-- a cell's contents matter below its length alone -/
theorem IA_ext {f g : Nat → Int} {m0 : Nat} {cA : ClassId} (h : ∀ j, j < m0 → f j = g j) : vp_cell cA (m0, .inl (IA f)) = vp_cell cA (m0, .inl (IA g)) := by
  rw [vp_cell_i, vp_cell_i]
  unfold arrV
  congr 1
  apply Array.ext
  · simp
  · intro i h1 h2
    simp only [Array.size_ofFn] at h1
    simp [IA, h i h1]
theorem LA_ext {f g : Nat → Int} {m0 : Nat} {cA : ClassId} (h : ∀ j, j < m0 → f j = g j) : vp_cell cA (m0, .inr (.inl (LA f))) = vp_cell cA (m0, .inr (.inl (LA g))) := by
  rw [vp_cell_l, vp_cell_l]
  unfold arrV
  congr 1
  apply Array.ext
  · simp
  · intro i h1 h2
    simp only [Array.size_ofFn] at h1
    simp [LA, h i h1]
abbrev AI (G : ZG) (m0 : Nat) (f : Nat → Int) : va_E := .inl (G.2.2 0, m0, .inl (IA f))
abbrev AL (G : ZG) (m0 : Nat) (f : Nat → Int) : va_E := .inl (G.2.2 1, m0, .inr (.inl (LA f)))
abbrev AQ (G : ZG) (t : Nat) (m0 : Nat) (f : Nat → Option Nat) : va_E := .inl (G.2.2 t, m0, .inr (.inr (.inr (.inr f))))
section YR
variable {X : ZE} {Y : ZY} {G : ZG} {k n : Nat} {ws : va_W} {pc : Nat} {lv : List (Nat × Value)} {st : List Value}
/-- other contents below the length, the same cell -/
theorem z_cellI {q a m0 : Nat} {cA : ClassId} {f g : Nat → Int} {ws' : va_W} (he : ws[q]? = some (a, .inl (cA, m0, .inl (IA f)))) (h : ∀ j, j < m0 → f j = g j) (hw : ws.set q (a, .inl (cA, m0, .inl (IA g))) = ws') (z : Z X Y G k n ws' pc lv st) : Z X Y G k n ws pc lv st := by
  subst hw
  intro H locs ls hP hD hS hl
  refine z H locs ls ?_ (hD.set he) hS hl
  refine hP.set hD he ?_ (fun _ _ => rfl)
  show H[a]? = some (vp_cell _ _)
  rw [← IA_ext h]
  exact hP q _ he
theorem z_cellL {q a m0 : Nat} {cA : ClassId} {f g : Nat → Int} {ws' : va_W} (he : ws[q]? = some (a, .inl (cA, m0, .inr (.inl (LA f))))) (h : ∀ j, j < m0 → f j = g j) (hw : ws.set q (a, .inl (cA, m0, .inr (.inl (LA g)))) = ws') (z : Z X Y G k n ws' pc lv st) : Z X Y G k n ws pc lv st := by
  subst hw
  intro H locs ls hP hD hS hl
  refine z H locs ls ?_ (hD.set he) hS hl
  refine hP.set hD he ?_ (fun _ _ => rfl)
  show H[a]? = some (vp_cell _ _)
  rw [← LA_ext h]
  exact hP q _ he
theorem y_iald (C : CX X Y G) {a m0 q t0 : Nat} {cA : ClassId} {f : Nat → Int} {e v : Int} (he : ws[q]? = some (a, .inl (cA, m0, .inl (IA f)))) (ht : (zT G)[t0]? = some (cA, .int)) (hi : 0 ≤ e ∧ e < m0) (hm : m0 < 2147483648) (hv : f e.toNat = v) (d : decode (zcc Y) pc = .ok (.iaload, 1)) (z : Z X Y G k n ws (pc + 1) lv (.int (zI v) :: st)) : Z X Y G k n ws pc lv (.int (zI e) :: .ref a :: st) := z_iald C he ht (zI_i hi.1) (by omega) hm (by rw [← hv]; rfl) d z
theorem y_lald (C : CX X Y G) {a m0 q t0 : Nat} {cA : ClassId} {f : Nat → Int} {e v : Int} (he : ws[q]? = some (a, .inl (cA, m0, .inr (.inl (LA f))))) (ht : (zT G)[t0]? = some (cA, .long)) (hi : 0 ≤ e ∧ e < m0) (hm : m0 < 2147483648) (hv : f e.toNat = v) (d : decode (zcc Y) pc = .ok (.laload, 1)) (z : Z X Y G k n ws (pc + 1) lv (.long (zL v) :: st)) : Z X Y G k n ws pc lv (.int (zI e) :: .ref a :: st) := z_lald C he ht (zI_i hi.1) (by omega) hm (by rw [← hv]; rfl) d z
theorem y_bald (C : CX X Y G) {a m0 q t0 : Nat} {cA : ClassId} {f : Nat → Int} {e v : Int} (he : ws[q]? = some (a, .inl (cA, m0, .inl (IA f)))) (ht : (zT G)[t0]? = some (cA, .byte)) (hi : 0 ≤ e ∧ e < m0) (hm : m0 < 2147483648) (hv : f e.toNat = v) (d : decode (zcc Y) pc = .ok (.baload, 1)) (z : Z X Y G k n ws (pc + 1) lv (.int (zI v) :: st)) : Z X Y G k n ws pc lv (.int (zI e) :: .ref a :: st) := z_bald C he ht (zI_i hi.1) (by omega) hm (by rw [← hv]; rfl) d z
theorem y_sald (C : CX X Y G) {a m0 q t0 : Nat} {cA : ClassId} {f : Nat → Int} {e v : Int} (he : ws[q]? = some (a, .inl (cA, m0, .inl (IA f)))) (ht : (zT G)[t0]? = some (cA, .short)) (hi : 0 ≤ e ∧ e < m0) (hm : m0 < 2147483648) (hv : f e.toNat = v) (d : decode (zcc Y) pc = .ok (.saload, 1)) (z : Z X Y G k n ws (pc + 1) lv (.int (zI v) :: st)) : Z X Y G k n ws pc lv (.int (zI e) :: .ref a :: st) := z_sald C he ht (zI_i hi.1) (by omega) hm (by rw [← hv]; rfl) d z
theorem y_iast (C : CX X Y G) {a m0 q t0 : Nat} {cA : ClassId} {f g : Nat → Int} {e x : Int} {ws' : va_W} (he : ws[q]? = some (a, .inl (cA, m0, .inl (IA f)))) (ht : (zT G)[t0]? = some (cA, .int)) (hi : 0 ≤ e ∧ e < m0) (hm : m0 < 2147483648) (hg : va_up f e.toNat x = g) (hw : ws.set q (a, .inl (cA, m0, .inl (IA g))) = ws') (d : decode (zcc Y) pc = .ok (.iastore, 1)) (z : Z X Y G k n ws' (pc + 1) lv st) : Z X Y G k n ws pc lv (.int (zI x) :: .int (zI e) :: .ref a :: st) := z_iast C he ht (zI_i hi.1) (by omega) hm (by rw [IA_up, hg]; exact hw) d z
theorem y_last (C : CX X Y G) {a m0 q t0 : Nat} {cA : ClassId} {f g : Nat → Int} {e x : Int} {ws' : va_W} (he : ws[q]? = some (a, .inl (cA, m0, .inr (.inl (LA f))))) (ht : (zT G)[t0]? = some (cA, .long)) (hi : 0 ≤ e ∧ e < m0) (hm : m0 < 2147483648) (hg : va_up f e.toNat x = g) (hw : ws.set q (a, .inl (cA, m0, .inr (.inl (LA g)))) = ws') (d : decode (zcc Y) pc = .ok (.lastore, 1)) (z : Z X Y G k n ws' (pc + 1) lv st) : Z X Y G k n ws pc lv (.long (zL x) :: .int (zI e) :: .ref a :: st) := z_last C he ht (zI_i hi.1) (by omega) hm (by rw [LA_up, hg]; exact hw) d z
theorem y_aldq (C : CX X Y G) {a m0 q t0 : Nat} {cA : ClassId} {Cn : String} {f : Nat → Option Nat} {e : Int} {v : Value} (he : ws[q]? = some (a, .inl (cA, m0, .inr (.inr (.inr (.inr f)))))) (ht : (zT G)[t0]? = some (cA, .object Cn)) (hi : 0 ≤ e ∧ e < m0) (hm : m0 < 2147483648) (hv : va_rf (f e.toNat) = v) (d : decode (zcc Y) pc = .ok (.aaload, 1)) (z : Z X Y G k n ws (pc + 1) lv (v :: st)) : Z X Y G k n ws pc lv (.int (zI e) :: .ref a :: st) := z_aldq C he ht (zI_i hi.1) (by omega) hm hv d z
theorem y_alen (C : CX X Y G) {a q t0 : Nat} {cA : ClassId} {x : vp_A} {ty : FieldType} {v : Int} (he : ws[q]? = some (a, .inl (cA, x))) (ht : (zT G)[t0]? = some (cA, ty)) (hv : ((x.1 : Nat) : Int) = v) (d : decode (zcc Y) pc = .ok (.arraylength, 1)) (z : Z X Y G k n ws (pc + 1) lv (.int (zI v) :: st)) : Z X Y G k n ws pc lv (.ref a :: st) := z_alen C he ht (by rw [← hv, zI_n]) d z
theorem y_iconst (C : CX X Y G) {c : Int} (d : decode (zcc Y) pc = .ok (.iconst c, 1)) (z : Z X Y G k n ws (pc + 1) lv (.int (zI c) :: st)) : Z X Y G k n ws pc lv st := z_iconst C d rfl z
theorem y_bipush (C : CX X Y G) {c : Int} (d : decode (zcc Y) pc = .ok (.bipush c, 2)) (hc : (Int8.ofInt c).toInt32 = zI c) (z : Z X Y G k n ws (pc + 2) lv (.int (zI c) :: st)) : Z X Y G k n ws pc lv st := z_bipush C d hc z
theorem y_sipush (C : CX X Y G) {c : Int} (d : decode (zcc Y) pc = .ok (.sipush c, 3)) (hc : (Int16.ofInt c).toInt32 = zI c) (z : Z X Y G k n ws (pc + 3) lv (.int (zI c) :: st)) : Z X Y G k n ws pc lv st := z_sipush C d hc z
theorem y_idiv (C : CX X Y G) {a b : Int} (ha : 0 ≤ a ∧ a ≤ 2147483647) (hb : 0 < b ∧ b ≤ 2147483647) (d : decode (zcc Y) pc = .ok (.idiv, 1)) (z : Z X Y G k n ws (pc + 1) lv (.int (zI (a / b)) :: st)) : Z X Y G k n ws pc lv (.int (zI b) :: .int (zI a) :: st) := z_idiv C d (zI_ne0 hb) (zI_div ha hb) z
theorem y_irem (C : CX X Y G) {a b : Int} (ha : 0 ≤ a ∧ a ≤ 2147483647) (hb : 0 < b ∧ b ≤ 2147483647) (d : decode (zcc Y) pc = .ok (.irem, 1)) (z : Z X Y G k n ws (pc + 1) lv (.int (zI (a % b)) :: st)) : Z X Y G k n ws pc lv (.int (zI b) :: .int (zI a) :: st) := z_irem C d (zI_ne0 hb) (zI_rem ha hb) z
theorem y_iadd (C : CX X Y G) {a b : Int} (d : decode (zcc Y) pc = .ok (.iadd, 1)) (z : Z X Y G k n ws (pc + 1) lv (.int (zI (a + b)) :: st)) : Z X Y G k n ws pc lv (.int (zI b) :: .int (zI a) :: st) := z_iadd C d (zI_add a b) z
theorem y_isub (C : CX X Y G) {a b : Int} (d : decode (zcc Y) pc = .ok (.isub, 1)) (z : Z X Y G k n ws (pc + 1) lv (.int (zI (a - b)) :: st)) : Z X Y G k n ws pc lv (.int (zI b) :: .int (zI a) :: st) := z_isub C d (zI_sub a b) z
theorem y_imul (C : CX X Y G) {a b : Int} (d : decode (zcc Y) pc = .ok (.imul, 1)) (z : Z X Y G k n ws (pc + 1) lv (.int (zI (a * b)) :: st)) : Z X Y G k n ws pc lv (.int (zI b) :: .int (zI a) :: st) := z_imul C d (zI_mul a b) z
theorem y_ineg (C : CX X Y G) {a : Int} (d : decode (zcc Y) pc = .ok (.ineg, 1)) (z : Z X Y G k n ws (pc + 1) lv (.int (zI (-a)) :: st)) : Z X Y G k n ws pc lv (.int (zI a) :: st) := z_ineg C d (zI_neg a) z
theorem y_iinc (C : CX X Y G) {i q : Nat} {c a : Int} {lv' : List (Nat × Value)} (d : decode (zcc Y) pc = .ok (.iinc i c, 3)) (hq : lv[q]? = some (i, .int (zI a))) (hn : i < znL Y) (hf : (i, Value.int (zI (a + c))) :: lv.filter (fun q => !(q.1 == i) && !(q.1 + 1 == i && q.2.category == 2)) = lv') (z : Z X Y G k n ws (pc + 3) lv' st) : Z X Y G k n ws pc lv st := z_iinc C d hq (zI_add a c) hn hf z
/-- the top, named by an equal Int -/
theorem y_eq {a b : Int} (h : a = b) (z : Z X Y G k n ws pc lv (.int (zI b) :: st)) : Z X Y G k n ws pc lv (.int (zI a) :: st) := h ▸ z
theorem y_top {a : Int} (z : ∀ b : Int, b = a → Z X Y G k n ws pc lv (.int (zI b) :: st)) : Z X Y G k n ws pc lv (.int (zI a) :: st) := z a rfl
theorem y_min (C : CX X Y G) {idx : Nat} {a b : Int} (hlink : Cond.methodLink (zow Y) idx Lib.Math.min.name ∈ lw_all) (hstat : Cond.static Lib.Math.min.name ∈ lw_all) (hini : Cond.initialized "java/lang/Math" ∈ lw_all) (hcode : Cond.code Lib.Math.min.name Lib.Math.min.code 2 (some .int) ∈ lw_all) (hf : 1 ≤ (zR Y).frames) (hlo : (st.map fun v => v.category).sum + 13 ≤ (zR Y).locals) (hk : k ≤ (zR Y).cells) (hs : n ≤ (zR Y).slots) (ha : -2147483648 ≤ a ∧ a ≤ 2147483647) (hb : -2147483648 ≤ b ∧ b ≤ 2147483647) (d : decode (zcc Y) pc = .ok (.invokestatic idx, 3)) (z : Z X Y G k n ws (pc + 3) lv (.int (zI (min a b)) :: st)) : Z X Y G k n ws pc lv (.int (zI b) :: .int (zI a) :: st) := z_min C hlink hstat hini hcode hf hlo hk hs (zI_min ha hb) d z
theorem y_abs (C : CX X Y G) {idx : Nat} {a : Int} (hlink : Cond.methodLink (zow Y) idx Lib.Math.abs.name ∈ lw_all) (hstat : Cond.static Lib.Math.abs.name ∈ lw_all) (hini : Cond.initialized "java/lang/Math" ∈ lw_all) (hcode : Cond.code Lib.Math.abs.name Lib.Math.abs.code 1 (some .int) ∈ lw_all) (hf : 1 ≤ (zR Y).frames) (hlo : (st.map fun v => v.category).sum + 13 ≤ (zR Y).locals) (hk : k ≤ (zR Y).cells) (hs : n ≤ (zR Y).slots) (ha : -2147483647 ≤ a ∧ a ≤ 2147483647) (d : decode (zcc Y) pc = .ok (.invokestatic idx, 3)) (z : Z X Y G k n ws (pc + 3) lv (.int (zI (zAbs a)) :: st)) : Z X Y G k n ws pc lv (.int (zI a) :: st) := z_abs C hlink hstat hini hcode hf hlo hk hs (zI_abs ha) d z

theorem y_icmp_eq (C : CX X Y G) {a b : Int} {off : Int} {tgt : Nat} (ha : -2147483648 ≤ a ∧ a ≤ 2147483647) (hb : -2147483648 ≤ b ∧ b ≤ 2147483647) (d : decode (zcc Y) pc = .ok (.if_icmp .eq off, 3)) (ht : (pc : Int) + off = (tgt : Int)) (zt : a = b → Z X Y G k n ws tgt lv st) (zf : ¬ a = b → Z X Y G k n ws (pc + 3) lv st) : Z X Y G k n ws pc lv (.int (zI b) :: .int (zI a) :: st) := z_icmp_eq C d ht (fun h => zt ((zI_eq ha hb).mp h)) (fun h => zf (fun q => h ((zI_eq ha hb).mpr q)))
theorem y_if_eq (C : CX X Y G) {a : Int} {off : Int} {tgt : Nat} (ha : -2147483648 ≤ a ∧ a ≤ 2147483647) (d : decode (zcc Y) pc = .ok (.ifCond .eq off, 3)) (ht : (pc : Int) + off = (tgt : Int)) (zt : a = 0 → Z X Y G k n ws tgt lv st) (zf : ¬ a = 0 → Z X Y G k n ws (pc + 3) lv st) : Z X Y G k n ws pc lv (.int (zI a) :: st) := by
  have hb : -2147483648 ≤ (0 : Int) ∧ (0 : Int) ≤ 2147483647 := by omega
  exact z_if_eq C d ht (fun h => by have h : _ := h; rw [show (0 : Int32) = zI 0 from rfl] at h; exact zt ((zI_eq ha hb).mp h)) (fun h => by rw [show (0 : Int32) = zI 0 from rfl] at h; exact zf (fun q => h ((zI_eq ha hb).mpr q)))
theorem y_icmp_ne (C : CX X Y G) {a b : Int} {off : Int} {tgt : Nat} (ha : -2147483648 ≤ a ∧ a ≤ 2147483647) (hb : -2147483648 ≤ b ∧ b ≤ 2147483647) (d : decode (zcc Y) pc = .ok (.if_icmp .ne off, 3)) (ht : (pc : Int) + off = (tgt : Int)) (zt : ¬ a = b → Z X Y G k n ws tgt lv st) (zf : a = b → Z X Y G k n ws (pc + 3) lv st) : Z X Y G k n ws pc lv (.int (zI b) :: .int (zI a) :: st) := z_icmp_ne C d ht (fun h => zt (fun q => h ((zI_eq ha hb).mpr q))) (fun h => zf ((zI_eq ha hb).mp h))
theorem y_if_ne (C : CX X Y G) {a : Int} {off : Int} {tgt : Nat} (ha : -2147483648 ≤ a ∧ a ≤ 2147483647) (d : decode (zcc Y) pc = .ok (.ifCond .ne off, 3)) (ht : (pc : Int) + off = (tgt : Int)) (zt : ¬ a = 0 → Z X Y G k n ws tgt lv st) (zf : a = 0 → Z X Y G k n ws (pc + 3) lv st) : Z X Y G k n ws pc lv (.int (zI a) :: st) := by
  have hb : -2147483648 ≤ (0 : Int) ∧ (0 : Int) ≤ 2147483647 := by omega
  exact z_if_ne C d ht (fun h => by have h : _ := h; rw [show (0 : Int32) = zI 0 from rfl] at h; exact zt (fun q => h ((zI_eq ha hb).mpr q))) (fun h => by rw [show (0 : Int32) = zI 0 from rfl] at h; exact zf ((zI_eq ha hb).mp h))
theorem y_icmp_lt (C : CX X Y G) {a b : Int} {off : Int} {tgt : Nat} (ha : -2147483648 ≤ a ∧ a ≤ 2147483647) (hb : -2147483648 ≤ b ∧ b ≤ 2147483647) (d : decode (zcc Y) pc = .ok (.if_icmp .lt off, 3)) (ht : (pc : Int) + off = (tgt : Int)) (zt : a < b → Z X Y G k n ws tgt lv st) (zf : b ≤ a → Z X Y G k n ws (pc + 3) lv st) : Z X Y G k n ws pc lv (.int (zI b) :: .int (zI a) :: st) := z_icmp_lt C d ht (fun h => zt ((zI_lt ha hb).mp h)) (fun h => zf (Int.not_lt.mp (fun q => h ((zI_lt ha hb).mpr q))))
theorem y_if_lt (C : CX X Y G) {a : Int} {off : Int} {tgt : Nat} (ha : -2147483648 ≤ a ∧ a ≤ 2147483647) (d : decode (zcc Y) pc = .ok (.ifCond .lt off, 3)) (ht : (pc : Int) + off = (tgt : Int)) (zt : a < 0 → Z X Y G k n ws tgt lv st) (zf : 0 ≤ a → Z X Y G k n ws (pc + 3) lv st) : Z X Y G k n ws pc lv (.int (zI a) :: st) := by
  have hb : -2147483648 ≤ (0 : Int) ∧ (0 : Int) ≤ 2147483647 := by omega
  exact z_if_lt C d ht (fun h => by have h : _ := h; rw [show (0 : Int32) = zI 0 from rfl] at h; exact zt ((zI_lt ha hb).mp h)) (fun h => by rw [show (0 : Int32) = zI 0 from rfl] at h; exact zf (Int.not_lt.mp (fun q => h ((zI_lt ha hb).mpr q))))
theorem y_icmp_ge (C : CX X Y G) {a b : Int} {off : Int} {tgt : Nat} (ha : -2147483648 ≤ a ∧ a ≤ 2147483647) (hb : -2147483648 ≤ b ∧ b ≤ 2147483647) (d : decode (zcc Y) pc = .ok (.if_icmp .ge off, 3)) (ht : (pc : Int) + off = (tgt : Int)) (zt : b ≤ a → Z X Y G k n ws tgt lv st) (zf : a < b → Z X Y G k n ws (pc + 3) lv st) : Z X Y G k n ws pc lv (.int (zI b) :: .int (zI a) :: st) := z_icmp_ge C d ht (fun h => zt ((zI_le hb ha).mp h)) (fun h => zf (Int.not_le.mp (fun q => h ((zI_le hb ha).mpr q))))
theorem y_if_ge (C : CX X Y G) {a : Int} {off : Int} {tgt : Nat} (ha : -2147483648 ≤ a ∧ a ≤ 2147483647) (d : decode (zcc Y) pc = .ok (.ifCond .ge off, 3)) (ht : (pc : Int) + off = (tgt : Int)) (zt : 0 ≤ a → Z X Y G k n ws tgt lv st) (zf : a < 0 → Z X Y G k n ws (pc + 3) lv st) : Z X Y G k n ws pc lv (.int (zI a) :: st) := by
  have hb : -2147483648 ≤ (0 : Int) ∧ (0 : Int) ≤ 2147483647 := by omega
  exact z_if_ge C d ht (fun h => by have h : _ := h; rw [show (0 : Int32) = zI 0 from rfl] at h; exact zt ((zI_le hb ha).mp h)) (fun h => by rw [show (0 : Int32) = zI 0 from rfl] at h; exact zf (Int.not_le.mp (fun q => h ((zI_le hb ha).mpr q))))
theorem y_icmp_gt (C : CX X Y G) {a b : Int} {off : Int} {tgt : Nat} (ha : -2147483648 ≤ a ∧ a ≤ 2147483647) (hb : -2147483648 ≤ b ∧ b ≤ 2147483647) (d : decode (zcc Y) pc = .ok (.if_icmp .gt off, 3)) (ht : (pc : Int) + off = (tgt : Int)) (zt : b < a → Z X Y G k n ws tgt lv st) (zf : a ≤ b → Z X Y G k n ws (pc + 3) lv st) : Z X Y G k n ws pc lv (.int (zI b) :: .int (zI a) :: st) := z_icmp_gt C d ht (fun h => zt ((zI_lt hb ha).mp h)) (fun h => zf (Int.not_lt.mp (fun q => h ((zI_lt hb ha).mpr q))))
theorem y_if_gt (C : CX X Y G) {a : Int} {off : Int} {tgt : Nat} (ha : -2147483648 ≤ a ∧ a ≤ 2147483647) (d : decode (zcc Y) pc = .ok (.ifCond .gt off, 3)) (ht : (pc : Int) + off = (tgt : Int)) (zt : 0 < a → Z X Y G k n ws tgt lv st) (zf : a ≤ 0 → Z X Y G k n ws (pc + 3) lv st) : Z X Y G k n ws pc lv (.int (zI a) :: st) := by
  have hb : -2147483648 ≤ (0 : Int) ∧ (0 : Int) ≤ 2147483647 := by omega
  exact z_if_gt C d ht (fun h => by have h : _ := h; rw [show (0 : Int32) = zI 0 from rfl] at h; exact zt ((zI_lt hb ha).mp h)) (fun h => by rw [show (0 : Int32) = zI 0 from rfl] at h; exact zf (Int.not_lt.mp (fun q => h ((zI_lt hb ha).mpr q))))
theorem y_icmp_le (C : CX X Y G) {a b : Int} {off : Int} {tgt : Nat} (ha : -2147483648 ≤ a ∧ a ≤ 2147483647) (hb : -2147483648 ≤ b ∧ b ≤ 2147483647) (d : decode (zcc Y) pc = .ok (.if_icmp .le off, 3)) (ht : (pc : Int) + off = (tgt : Int)) (zt : a ≤ b → Z X Y G k n ws tgt lv st) (zf : b < a → Z X Y G k n ws (pc + 3) lv st) : Z X Y G k n ws pc lv (.int (zI b) :: .int (zI a) :: st) := z_icmp_le C d ht (fun h => zt ((zI_le ha hb).mp h)) (fun h => zf (Int.not_le.mp (fun q => h ((zI_le ha hb).mpr q))))
theorem y_if_le (C : CX X Y G) {a : Int} {off : Int} {tgt : Nat} (ha : -2147483648 ≤ a ∧ a ≤ 2147483647) (d : decode (zcc Y) pc = .ok (.ifCond .le off, 3)) (ht : (pc : Int) + off = (tgt : Int)) (zt : a ≤ 0 → Z X Y G k n ws tgt lv st) (zf : 0 < a → Z X Y G k n ws (pc + 3) lv st) : Z X Y G k n ws pc lv (.int (zI a) :: st) := by
  have hb : -2147483648 ≤ (0 : Int) ∧ (0 : Int) ≤ 2147483647 := by omega
  exact z_if_le C d ht (fun h => by have h : _ := h; rw [show (0 : Int32) = zI 0 from rfl] at h; exact zt ((zI_le ha hb).mp h)) (fun h => by rw [show (0 : Int32) = zI 0 from rfl] at h; exact zf (Int.not_le.mp (fun q => h ((zI_le ha hb).mpr q))))
theorem y_tabIn (C : CX X Y G) {dflt lo hi : Int} {offs : Array Int} {len : Nat} {a off : Int} {tgt : Nat} (ha : -2147483648 ≤ a ∧ a ≤ 2147483647) (d : decode (zcc Y) pc = .ok (.tableswitch dflt lo hi offs, len)) (h : lo ≤ a ∧ a ≤ hi) (ho : offs[(a - lo).toNat]? = some off) (ht : (pc : Int) + off = (tgt : Int)) (z : Z X Y G k n ws tgt lv st) : Z X Y G k n ws pc lv (.int (zI a) :: st) := z_tabIn C d (by rw [zI_toInt ha]; omega) (by rw [zI_toInt ha]; omega) (by rw [zI_toInt ha]; exact ho) ht z
theorem y_tabOut (C : CX X Y G) {dflt lo hi : Int} {offs : Array Int} {len : Nat} {a : Int} {tgt : Nat} (ha : -2147483648 ≤ a ∧ a ≤ 2147483647) (d : decode (zcc Y) pc = .ok (.tableswitch dflt lo hi offs, len)) (h : a < lo ∨ hi < a) (ht : (pc : Int) + dflt = (tgt : Int)) (z : Z X Y G k n ws tgt lv st) : Z X Y G k n ws pc lv (.int (zI a) :: st) := z_tabOut C d (by rw [zI_toInt ha]; omega) ht z
theorem y_lookup (C : CX X Y G) {dflt : Int} {ps : Array (Int × Int)} {len : Nat} {a off : Int} {tgt : Nat} (ha : -2147483648 ≤ a ∧ a ≤ 2147483647) (d : decode (zcc Y) pc = .ok (.lookupswitch dflt ps, len)) (hp : (ps.toList.zip (ps.toList.drop 1)).all (fun (a, next) => a.1 < next.1) = true) (ho : Op.lookupswitch.offset ps.toList dflt a = off) (ht : (pc : Int) + off = (tgt : Int)) (z : Z X Y G k n ws tgt lv st) : Z X Y G k n ws pc lv (.int (zI a) :: st) := z_lookup C d hp (by rw [zI_toInt ha]; exact ho) ht z
end YR

