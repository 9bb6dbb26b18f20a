/-! A NEW HORSE INTO THE POOL -/
set_option maxRecDepth 100000
theorem pl_cg {LP : List Nat} {hk hk2 : Nat → Nat} {hf hf2 : Nat → Int} (h : ∀ y, y ∈ LP → hk y = hk2 y ∧ hf y = hf2 y) : PL LP hk hf = PL LP hk2 hf2 := by
  unfold PL va_pl
  refine List.map_congr_left (fun y hy => ?_)
  obtain ⟨e1, e2⟩ := h y hy
  show (y, (.inr (hk y, [.int (zI (hf y))]) : va_E)) = (y, .inr (hk2 y, [.int (zI (hf2 y))]))
  rw [e1, e2]
theorem pl_cons {LP : List Nat} {hk : Nat → Nat} {hf : Nat → Int} {q k0 : Nat} {f : Int} (hq : ¬ q ∈ LP) : PL (q :: LP) (upN hk q k0) (va_up hf q f) = (q, (.inr (k0, [.int (zI f)]) : va_E)) :: PL LP hk hf := by
  have e1 : upN hk q k0 q = k0 := if_pos rfl
  have e2 : va_up hf q f q = f := if_pos rfl
  have e3 : PL LP (upN hk q k0) (va_up hf q f) = PL LP hk hf := pl_cg (fun y hy => ⟨if_neg (fun (e : y = q) => hq (e ▸ hy)), if_neg (fun (e : y = q) => hq (e ▸ hy))⟩)
  rw [← e3]
  show (q, (.inr (upN hk q k0 q, [.int (zI (va_up hf q f q))]) : va_E)) :: PL LP (upN hk q k0) (va_up hf q f) = _
  rw [e1, e2]
section PSH
variable {X : ZE} {Y : ZY} {G : ZG} {k n : Nat} {pc : Nat} {lv : List (Nat × Value)} {st : List Value}
variable {L M : va_W} {LP : List Nat} {hk : Nat → Nat} {hf : Nat → Int} {q k0 : Nat} {f : Int}
theorem z_push (z : ¬ q ∈ LP → Z X Y G k n (L ++ (M ++ PL (q :: LP) (upN hk q k0) (va_up hf q f))) pc lv st) : Z X Y G k n (((q, (.inr (k0, [.int (zI f)]) : va_E)) :: L) ++ (M ++ PL LP hk hf)) pc lv st := by
  refine z_nd (fun hnd => ?_)
  have hq : ¬ q ∈ LP := by
    intro hy
    have hm : (q, (.inr (hk q, [.int (zI (hf q))]) : va_E)) ∈ PL LP hk hf := List.mem_map.mpr ⟨q, hy, rfl⟩
    obtain ⟨i, hi⟩ := List.getElem?_of_mem hm
    have h1 : (((q, (.inr (k0, [.int (zI f)]) : va_E)) :: L) ++ (M ++ PL LP hk hf))[L.length + 1 + M.length + i]? = some (q, .inr (hk q, [.int (zI (hf q))])) := by
      rw [List.getElem?_append_right (by simp; omega), List.getElem?_append_right (by simp; omega)]
      have e : L.length + 1 + M.length + i - ((q, (.inr (k0, [.int (zI f)]) : va_E)) :: L).length - M.length = i := by
        show L.length + 1 + M.length + i - (L.length + 1) - M.length = i
        omega
      rw [e]; exact hi
    have h2 := hnd 0 (L.length + 1 + M.length + i) _ _ rfl h1 rfl
    omega
  have z1 := z hq
  rw [pl_cons hq] at z1
  refine z_sb ?_ z1
  have h := sb_nb (L := []) (A := [(q, (.inr (k0, [.int (zI f)]) : va_E))]) (C := L ++ M) (T := PL LP hk hf)
  simp only [List.nil_append, List.append_assoc, List.singleton_append] at h
  exact h
/-- and out of it again -/
theorem z_unpush (hq : ¬ q ∈ LP) (z : Z X Y G k n (L ++ (M ++ PL LP hk hf)) pc lv st) : Z X Y G k n (L ++ (M ++ PL (q :: LP) (upN hk q k0) (va_up hf q f))) pc lv st := by
  rw [pl_cons hq]
  refine z_sb ?_ z
  have h := sb_drop (L := L ++ M) (A := [(q, (.inr (k0, [.int (zI f)]) : va_E))]) (T := PL LP hk hf)
  simp only [List.append_assoc, List.singleton_append] at h
  exact h
end PSH
/-- a pool that has grown -/
def PX (LP : List Nat) (hk : Nat → Nat) (hf : Nat → Int) (LP2 : List Nat) (hk2 : Nat → Nat) (hf2 : Nat → Int) : Prop := (∀ y, y ∈ LP → y ∈ LP2 ∧ hk2 y = hk y ∧ hf2 y = hf y) ∧ PK LP2 hk2 hf2
theorem PX.rfl {LP : List Nat} {hk : Nat → Nat} {hf : Nat → Int} (h : PK LP hk hf) : PX LP hk hf LP hk hf := ⟨fun y hy => ⟨hy, _root_.rfl, _root_.rfl⟩, h⟩
theorem PX.push {LP : List Nat} {hk : Nat → Nat} {hf : Nat → Int} {q k0 : Nat} {f : Int} (h : PK LP hk hf) (hq : ¬ q ∈ LP) (hk0 : k0 < 8) (hf0 : 0 ≤ f ∧ f ≤ 9) : PX LP hk hf (q :: LP) (upN hk q k0) (va_up hf q f) := by
  refine ⟨fun y hy => ⟨List.mem_cons_of_mem _ hy, if_neg (fun (e : y = q) => hq (e ▸ hy)), if_neg (fun (e : y = q) => hq (e ▸ hy))⟩, fun y hy => ?_⟩
  rcases List.mem_cons.mp hy with e | e
  · subst e
    have e1 : upN hk y k0 y = k0 := if_pos _root_.rfl
    have e2 : va_up hf y f y = f := if_pos _root_.rfl
    rw [e1, e2]; exact ⟨hk0, hf0⟩
  · have e1 : upN hk q k0 y = hk y := if_neg (fun (z : y = q) => hq (z ▸ e))
    have e2 : va_up hf q f y = hf y := if_neg (fun (z : y = q) => hq (z ▸ e))
    rw [e1, e2]; exact h y e
theorem PX.trans {LP LP2 LP3 : List Nat} {hk hk2 hk3 : Nat → Nat} {hf hf2 hf3 : Nat → Int} (h1 : PX LP hk hf LP2 hk2 hf2) (h2 : PX LP2 hk2 hf2 LP3 hk3 hf3) : PX LP hk hf LP3 hk3 hf3 := by
  refine ⟨fun y hy => ?_, h2.2⟩
  obtain ⟨a, b, c⟩ := h1.1 y hy
  obtain ⟨d, e, g⟩ := h2.1 y a
  exact ⟨d, e.trans b, g.trans c⟩
theorem HR.px {LP LP2 : List Nat} {hk hk2 : Nat → Nat} {hf hf2 : Nat → Int} {r : Nat → Option Nat} {n : Nat} {kd : Nat → Nat} {fg : Nat → Int} (h : HR LP hk hf r n kd fg) (p : PX LP hk hf LP2 hk2 hf2) : HR LP2 hk2 hf2 r n kd fg := by
  intro j hj
  obtain ⟨y, a, b, c, d⟩ := h j hj
  obtain ⟨e1, e2, e3⟩ := p.1 y b
  exact ⟨y, a, e1, e2.trans c, e3.trans d⟩
theorem RV.px {LP LP2 : List Nat} {hk hk2 : Nat → Nat} {hf hf2 : Nat → Int} {r : Nat → Option Nat} (h : RV LP r) (p : PX LP hk hf LP2 hk2 hf2) : RV LP2 r := fun j hj y hy => (p.1 y (h j hj y hy)).1
theorem KH.px {LP LP2 : List Nat} {hk hk2 : Nat → Nat} {hf hf2 : Nat → Int} {ha hw kk : Nat → Nat} {kf : Nat → Int} (h : KH LP hk hf ha hw kk kf) (p : PX LP hk hf LP2 hk2 hf2) : KH LP2 hk2 hf2 ha hw kk kf := by
  intro q hq h1
  obtain ⟨a, b, c⟩ := h q hq h1
  obtain ⟨e1, e2, e3⟩ := p.1 _ a
  exact ⟨e1, e2.trans b, e3.trans c⟩
/-- a horse of the pool for a callee -/
theorem sb_pl {L M : va_W} {LP : List Nat} {hk : Nat → Nat} {hf : Nat → Int} {y : Nat} (h : y ∈ LP) : SB (L ++ (M ++ PL LP hk hf)) [(y, (.inr (hk y, [.int (zI (hf y))]) : va_E))] := by
  have hm : (y, (.inr (hk y, [.int (zI (hf y))]) : va_E)) ∈ PL LP hk hf := List.mem_map.mpr ⟨y, h, rfl⟩
  have h1 := sb_in (L := L ++ M) (M := PL LP hk hf) (P := []) hm
  rw [List.append_nil, List.append_assoc] at h1
  exact h1
