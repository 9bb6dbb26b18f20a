/-! THE MODEL, 8: shelves -/
set_option maxRecDepth 100000
def nb8 (a : Int) : Int := Int.bmod a 256
def nb16 (a : Int) : Int := Int.bmod a 65536
theorem nb8_r (a : Int) : -128 ≤ nb8 a ∧ nb8 a ≤ 127 := by
  have h1 := Int.le_bmod (x := a) (m := 256) (by decide)
  have h2 := Int.bmod_lt (x := a) (m := 256) (by decide)
  unfold nb8; omega
theorem nb16_r (a : Int) : -32768 ≤ nb16 a ∧ nb16 a ≤ 32767 := by
  have h1 := Int.le_bmod (x := a) (m := 65536) (by decide)
  have h2 := Int.bmod_lt (x := a) (m := 65536) (by decide)
  unfold nb16; omega
section NARROW
variable {X : ZE} {Y : ZY} {G : ZG} {k n : Nat} {ws : va_W} {pc : Nat} {lv : List (Nat × Value)} {st : List Value}
theorem zI_b8 (a : Int) : (zI a).toInt8.toInt32 = zI (nb8 a) := by
  apply Int32.toInt_inj.mp
  rw [Int8.toInt_toInt32, zI_toInt (by have := nb8_r a; omega)]
  show ((Int32.ofInt a).toInt8).toInt = nb8 a
  rw [Int32.toInt8_ofInt, Int8.toInt_ofInt]
  rfl
theorem zI_b16 (a : Int) : (zI a).toInt16.toInt32 = zI (nb16 a) := by
  apply Int32.toInt_inj.mp
  rw [Int16.toInt_toInt32, zI_toInt (by have := nb16_r a; omega)]
  show ((Int32.ofInt a).toInt16).toInt = nb16 a
  rw [Int32.toInt16_ofInt, Int16.toInt_ofInt]
  rfl
theorem y_i2b (C : CX X Y G) {a : Int} (d : decode (zcc Y) pc = .ok (.i2b, 1)) (z : Z X Y G k n ws (pc + 1) lv (.int (zI (nb8 a)) :: st)) : Z X Y G k n ws pc lv (.int (zI a) :: st) := z_i2b C d (zI_b8 a) z
theorem y_i2s (C : CX X Y G) {a : Int} (d : decode (zcc Y) pc = .ok (.i2s, 1)) (z : Z X Y G k n ws (pc + 1) lv (.int (zI (nb16 a)) :: st)) : Z X Y G k n ws pc lv (.int (zI a) :: st) := z_i2s C d (zI_b16 a) z
end NARROW
/-- shelves in their bounds: what each holds, kept kind and figure, the row's sort and many, the rows -/
def SK (hw kk rs rm : Nat → Nat) (kf rw_ : Nat → Int) : Prop := (∀ d, d < 8 → hw d ≤ 2 ∧ kk d < 8 ∧ (0 ≤ kf d ∧ kf d ≤ 9) ∧ rs d ≤ 2 ∧ rm d ≤ 100) ∧ ∀ i, -2147483648 ≤ rw_ i ∧ rw_ i ≤ 2147483647
def narrowZ (v : Int) (s : Nat) : Int := if s = 0 then nb8 v else if s = 1 then nb16 v else v
theorem narrowZ_r {v : Int} (s : Nat) (h : -2147483648 ≤ v ∧ v ≤ 2147483647) : -2147483648 ≤ narrowZ v s ∧ narrowZ v s ≤ 2147483647 := by
  have h1 := nb8_r v
  have h2 := nb16_r v
  unfold narrowZ; split <;> (try split) <;> omega
def wkZ (hw : Nat → Nat) (d : Int) : Int := if 0 ≤ d ∧ d ≤ 7 then (if hw d.toNat = 0 then -11 else if hw d.toNat = 1 then 0 else -12) else -1
def wrZ (hw : Nat → Nat) (d : Int) : Int := if 0 ≤ d ∧ d ≤ 7 then (if hw d.toNat = 0 then -11 else if hw d.toNat = 2 then 0 else -12) else -1
theorem wkZ_r (hw : Nat → Nat) (d : Int) : -12 ≤ wkZ hw d ∧ wkZ hw d ≤ 0 := by unfold wkZ; split <;> (try split) <;> (try split) <;> omega
theorem wrZ_r (hw : Nat → Nat) (d : Int) : -12 ≤ wrZ hw d ∧ wrZ hw d ≤ 0 := by unfold wrZ; split <;> (try split) <;> (try split) <;> omega
theorem wkZ_0 {hw : Nat → Nat} {d : Int} (h : 0 ≤ wkZ hw d) : (0 ≤ d ∧ d ≤ 7) ∧ hw d.toNat = 1 := by
  unfold wkZ at h
  split at h
  · split at h
    · omega
    · split at h
      · rename_i a b c; exact ⟨a, c⟩
      · omega
  · omega
theorem wrZ_0 {hw : Nat → Nat} {d : Int} (h : 0 ≤ wrZ hw d) : (0 ≤ d ∧ d ≤ 7) ∧ hw d.toNat = 2 := by
  unfold wrZ at h
  split at h
  · split at h
    · omega
    · split at h
      · rename_i a b c; exact ⟨a, c⟩
      · omega
  · omega
def upN (f : Nat → Nat) (j x : Nat) : Nat → Nat := fun i => if i = j then x else f i
theorem upN_c {f : Nat → Nat} {j x : Nat} : va_up (fun z_ => (f z_ : Int)) j (x : Int) = fun z_ => (upN f j x z_ : Int) := by
  funext i
  unfold va_up upN
  split <;> rfl
set_option maxHeartbeats 4000000 in
theorem ct_X4_wrongKept (l : Launch) (G : ZG) (m : Nat) (g1 : Nat) (g2 : Nat) (g3 : Nat) (g4 : Nat) (g5 : Nat) (s1 : Nat) (s2 : Nat) (s3 : Nat) (s4 : Nat) (s5 : Nat) (s6 : Nat) (t1 : Nat) (t2 : Nat) (t3 : Nat) (c0 : Nat) (c1 : Nat) (c2 : Nat) (c3 : Nat) (y0 : Nat) (y1 : Nat) (thr : Int) (rdg : Int) (plc : Int) (ibd : Int) (stm : Int) (him : Int) (pl0 : Int) (itk : Int) (chd : Int) (chf : Int) (sd : Int) (ki : Value) (n : Nat) (oa : Int) (dy : Int) (hw : Nat → Nat) (kk : Nat → Nat) (rs : Nat → Nat) (rm : Nat → Nat) (kf : Nat → Int) (rw_ : Nat → Int) (d : Int) (hS : SK hw kk rs rm kf rw_) (rd : -2147483648 ≤ d ∧ d ≤ 2147483647) : CT l yX4_wrongKept cX4_wrongKept 2 (some .int) { frames := 1, cells := 0, slots := 0, locals := 25 } G [.ref m, .int (zI d)] [(m, .inr (11, [.int (zI (n : Int)), .ref g1, .ref g2, .ref g3, .ref g4, .ref g5, .int (zI oa), .int (zI dy), .ref s1, .ref s2, .ref s3, .ref s4, .ref s5, .ref s6, .int (zI thr), .int (zI rdg), .int (zI plc), .int (zI ibd), .int (zI stm), .ref t1, .ref t2, .ref t3, .ref c0, .ref c1, .ref c2, .ref c3, .int (zI him), .int (zI pl0), .int (zI itk), ki, .int (zI chd), .int (zI chf), .ref y0, .int (zI sd), .ref y1])), (s1, AI G 8 (fun z_ => (hw z_ : Int))), (s2, AI G 8 (fun z_ => (kk z_ : Int))), (s3, AI G 8 kf), (s4, AI G 8 (fun z_ => (rs z_ : Int))), (s5, AI G 8 (fun z_ => (rm z_ : Int))), (s6, AL G 800 rw_)] (Qi G [(m, .inr (11, [.int (zI (n : Int)), .ref g1, .ref g2, .ref g3, .ref g4, .ref g5, .int (zI oa), .int (zI dy), .ref s1, .ref s2, .ref s3, .ref s4, .ref s5, .ref s6, .int (zI thr), .int (zI rdg), .int (zI plc), .int (zI ibd), .int (zI stm), .ref t1, .ref t2, .ref t3, .ref c0, .ref c1, .ref c2, .ref c3, .int (zI him), .int (zI pl0), .int (zI itk), ki, .int (zI chd), .int (zI chf), .ref y0, .int (zI sd), .ref y1])), (s1, AI G 8 (fun z_ => (hw z_ : Int))), (s2, AI G 8 (fun z_ => (kk z_ : Int))), (s3, AI G 8 kf), (s4, AI G 8 (fun z_ => (rs z_ : Int))), (s5, AI G 8 (fun z_ => (rm z_ : Int))), (s6, AL G 800 rw_)] (fun (r : Int32) (u : Unit) => r = zI (wkZ hw d)) (fun u => [(m, .inr (11, [.int (zI (n : Int)), .ref g1, .ref g2, .ref g3, .ref g4, .ref g5, .int (zI oa), .int (zI dy), .ref s1, .ref s2, .ref s3, .ref s4, .ref s5, .ref s6, .int (zI thr), .int (zI rdg), .int (zI plc), .int (zI ibd), .int (zI stm), .ref t1, .ref t2, .ref t3, .ref c0, .ref c1, .ref c2, .ref c3, .int (zI him), .int (zI pl0), .int (zI itk), ki, .int (zI chd), .int (zI chf), .ref y0, .int (zI sd), .ref y1])), (s1, AI G 8 (fun z_ => (hw z_ : Int))), (s2, AI G 8 (fun z_ => (kk z_ : Int))), (s3, AI G 8 kf), (s4, AI G 8 (fun z_ => (rs z_ : Int))), (s5, AI G 8 (fun z_ => (rm z_ : Int))), (s6, AL G 800 rw_)])) := by
  refine z_met (by decide) (Nat.le_of_ble_eq_true rfl) ?_
  intro X A hl0 hA C hQ hin
  subst hl0
  show Z X _ G 0 0 _ 0 [(0, .ref m), (1, .int (zI d))] []
  refine z_iload_n C dX4_wrongKept_0 rfl 1 rfl ?_
  refine y_i2l C (by omega) dX4_wrongKept_1 ?_
  refine z_lconst (v := zL 0) C dX4_wrongKept_2 (by decide) ?_
  refine z_ldc2 C q1206 dX4_wrongKept_3 ?_
  refine z_eql (y := zL 7) (by decide) ?_
  refine z_i C (z_runS (As := [.long (zL d), .long (zL 0), .long (zL 7)]) (rest := []) C (ct_X4_in (zl X) G d 0 7 (by first | assumption | omega) (by first | assumption | omega) (by first | assumption | omega)) (lw_S q1207 q1208 q61 q1209) (sb_e [] rfl rfl) (na := 3) (by decide +kernel) rfl (zrm rfl rfl (rfl) (rfl)) rfl (Nat.le_of_ble_eq_true rfl) dX4_wrongKept_6) (fun u => jn_ro (sb_e [] rfl rfl)) (fun r_6 u hp_6 => ?_)
  have hp_6 : r_6 = zI (bI (0 ≤ d ∧ d ≤ 7)) := hp_6
  subst hp_6
  refine y_bne (tgt := 16) C dX4_wrongKept_9 (by decide) (fun c_9 => ?_) (fun c_9 => ?_)
  · skip
    obtain ⟨e, rfl⟩ := Int.eq_ofNat_of_zero_le (show 0 ≤ d by omega)
    obtain ⟨hS1, hS2⟩ := id hS
    have hSe := hS1 e (by omega)
    refine z_aload_n C dX4_wrongKept_16 rfl 0 rfl ?_
    refine z_get (q := 0) (kf := 8) (v := .ref s1) C rfl rfl in_X4 (by decide) q1095 (Or.inl rfl) rfl dX4_wrongKept_17 ?_
    refine z_iload_n C dX4_wrongKept_20 rfl 1 rfl ?_
    refine y_iald (q := 1) (t0 := 0) (v := (hw e : Int)) C rfl rfl (by omega) (by decide) rfl dX4_wrongKept_21 ?_
    refine y_if_ne (tgt := 30) C (by omega) dX4_wrongKept_22 (by decide) (fun c_22 => ?_) (fun c_22 => ?_)
    · skip
      refine z_aload_n C dX4_wrongKept_30 rfl 0 rfl ?_
      refine z_get (q := 0) (kf := 8) (v := .ref s1) C rfl rfl in_X4 (by decide) q1095 (Or.inl rfl) rfl dX4_wrongKept_31 ?_
      refine z_iload_n C dX4_wrongKept_34 rfl 1 rfl ?_
      refine y_iald (q := 1) (t0 := 0) (v := (hw e : Int)) C rfl rfl (by omega) (by decide) rfl dX4_wrongKept_35 ?_
      refine y_iconst C dX4_wrongKept_36 ?_
      refine y_icmp_eq (tgt := 45) C (by omega) (by omega) dX4_wrongKept_37 (by decide) (fun c_37 => ?_) (fun c_37 => ?_)
      · skip
        refine y_iconst C dX4_wrongKept_45 ?_
        exact z_iret C hA hQ rfl (Nat.le_of_ble_eq_true rfl) (Nat.le_of_ble_eq_true rfl) (()) (congrArg zI (by unfold wkZ; (try simp only [zTN]); repeat (first | rw [if_pos (by omega)] | rw [if_neg (by omega)]))) (sb_e [0, 1, 2, 3, 4, 5, 6] rfl rfl) dX4_wrongKept_46
      · skip
        refine y_bipush C dX4_wrongKept_40 (by decide) ?_
        refine z_goto (tgt := 46) C dX4_wrongKept_42 (by decide) ?_
        exact z_iret C hA hQ rfl (Nat.le_of_ble_eq_true rfl) (Nat.le_of_ble_eq_true rfl) (()) (congrArg zI (by unfold wkZ; (try simp only [zTN]); repeat (first | rw [if_pos (by omega)] | rw [if_neg (by omega)]))) (sb_e [0, 1, 2, 3, 4, 5, 6] rfl rfl) dX4_wrongKept_46
    · skip
      refine y_bipush C dX4_wrongKept_25 (by decide) ?_
      refine z_goto (tgt := 46) C dX4_wrongKept_27 (by decide) ?_
      exact z_iret C hA hQ rfl (Nat.le_of_ble_eq_true rfl) (Nat.le_of_ble_eq_true rfl) (()) (congrArg zI (by unfold wkZ; (try simp only [zTN]); repeat (first | rw [if_pos (by omega)] | rw [if_neg (by omega)]))) (sb_e [0, 1, 2, 3, 4, 5, 6] rfl rfl) dX4_wrongKept_46
  · skip
    refine y_iconst C dX4_wrongKept_12 ?_
    refine z_goto (tgt := 46) C dX4_wrongKept_13 (by decide) ?_
    exact z_iret C hA hQ rfl (Nat.le_of_ble_eq_true rfl) (Nat.le_of_ble_eq_true rfl) (()) (congrArg zI (by unfold wkZ; (try simp only [zTN]); repeat (first | rw [if_pos (by omega)] | rw [if_neg (by omega)]))) (sb_e [0, 1, 2, 3, 4, 5, 6] rfl rfl) dX4_wrongKept_46

set_option maxHeartbeats 4000000 in
theorem ct_X4_wrongRow (l : Launch) (G : ZG) (m : Nat) (g1 : Nat) (g2 : Nat) (g3 : Nat) (g4 : Nat) (g5 : Nat) (s1 : Nat) (s2 : Nat) (s3 : Nat) (s4 : Nat) (s5 : Nat) (s6 : Nat) (t1 : Nat) (t2 : Nat) (t3 : Nat) (c0 : Nat) (c1 : Nat) (c2 : Nat) (c3 : Nat) (y0 : Nat) (y1 : Nat) (thr : Int) (rdg : Int) (plc : Int) (ibd : Int) (stm : Int) (him : Int) (pl0 : Int) (itk : Int) (chd : Int) (chf : Int) (sd : Int) (ki : Value) (n : Nat) (oa : Int) (dy : Int) (hw : Nat → Nat) (kk : Nat → Nat) (rs : Nat → Nat) (rm : Nat → Nat) (kf : Nat → Int) (rw_ : Nat → Int) (d : Int) (hS : SK hw kk rs rm kf rw_) (rd : -2147483648 ≤ d ∧ d ≤ 2147483647) : CT l yX4_wrongRow cX4_wrongRow 2 (some .int) { frames := 1, cells := 0, slots := 0, locals := 25 } G [.ref m, .int (zI d)] [(m, .inr (11, [.int (zI (n : Int)), .ref g1, .ref g2, .ref g3, .ref g4, .ref g5, .int (zI oa), .int (zI dy), .ref s1, .ref s2, .ref s3, .ref s4, .ref s5, .ref s6, .int (zI thr), .int (zI rdg), .int (zI plc), .int (zI ibd), .int (zI stm), .ref t1, .ref t2, .ref t3, .ref c0, .ref c1, .ref c2, .ref c3, .int (zI him), .int (zI pl0), .int (zI itk), ki, .int (zI chd), .int (zI chf), .ref y0, .int (zI sd), .ref y1])), (s1, AI G 8 (fun z_ => (hw z_ : Int))), (s2, AI G 8 (fun z_ => (kk z_ : Int))), (s3, AI G 8 kf), (s4, AI G 8 (fun z_ => (rs z_ : Int))), (s5, AI G 8 (fun z_ => (rm z_ : Int))), (s6, AL G 800 rw_)] (Qi G [(m, .inr (11, [.int (zI (n : Int)), .ref g1, .ref g2, .ref g3, .ref g4, .ref g5, .int (zI oa), .int (zI dy), .ref s1, .ref s2, .ref s3, .ref s4, .ref s5, .ref s6, .int (zI thr), .int (zI rdg), .int (zI plc), .int (zI ibd), .int (zI stm), .ref t1, .ref t2, .ref t3, .ref c0, .ref c1, .ref c2, .ref c3, .int (zI him), .int (zI pl0), .int (zI itk), ki, .int (zI chd), .int (zI chf), .ref y0, .int (zI sd), .ref y1])), (s1, AI G 8 (fun z_ => (hw z_ : Int))), (s2, AI G 8 (fun z_ => (kk z_ : Int))), (s3, AI G 8 kf), (s4, AI G 8 (fun z_ => (rs z_ : Int))), (s5, AI G 8 (fun z_ => (rm z_ : Int))), (s6, AL G 800 rw_)] (fun (r : Int32) (u : Unit) => r = zI (wrZ hw d)) (fun u => [(m, .inr (11, [.int (zI (n : Int)), .ref g1, .ref g2, .ref g3, .ref g4, .ref g5, .int (zI oa), .int (zI dy), .ref s1, .ref s2, .ref s3, .ref s4, .ref s5, .ref s6, .int (zI thr), .int (zI rdg), .int (zI plc), .int (zI ibd), .int (zI stm), .ref t1, .ref t2, .ref t3, .ref c0, .ref c1, .ref c2, .ref c3, .int (zI him), .int (zI pl0), .int (zI itk), ki, .int (zI chd), .int (zI chf), .ref y0, .int (zI sd), .ref y1])), (s1, AI G 8 (fun z_ => (hw z_ : Int))), (s2, AI G 8 (fun z_ => (kk z_ : Int))), (s3, AI G 8 kf), (s4, AI G 8 (fun z_ => (rs z_ : Int))), (s5, AI G 8 (fun z_ => (rm z_ : Int))), (s6, AL G 800 rw_)])) := by
  refine z_met (by decide) (Nat.le_of_ble_eq_true rfl) ?_
  intro X A hl0 hA C hQ hin
  subst hl0
  show Z X _ G 0 0 _ 0 [(0, .ref m), (1, .int (zI d))] []
  refine z_iload_n C dX4_wrongRow_0 rfl 1 rfl ?_
  refine y_i2l C (by omega) dX4_wrongRow_1 ?_
  refine z_lconst (v := zL 0) C dX4_wrongRow_2 (by decide) ?_
  refine z_ldc2 C q1206 dX4_wrongRow_3 ?_
  refine z_eql (y := zL 7) (by decide) ?_
  refine z_i C (z_runS (As := [.long (zL d), .long (zL 0), .long (zL 7)]) (rest := []) C (ct_X4_in (zl X) G d 0 7 (by first | assumption | omega) (by first | assumption | omega) (by first | assumption | omega)) (lw_S q1207 q1208 q61 q1209) (sb_e [] rfl rfl) (na := 3) (by decide +kernel) rfl (zrm rfl rfl (rfl) (rfl)) rfl (Nat.le_of_ble_eq_true rfl) dX4_wrongRow_6) (fun u => jn_ro (sb_e [] rfl rfl)) (fun r_6 u hp_6 => ?_)
  have hp_6 : r_6 = zI (bI (0 ≤ d ∧ d ≤ 7)) := hp_6
  subst hp_6
  refine y_bne (tgt := 16) C dX4_wrongRow_9 (by decide) (fun c_9 => ?_) (fun c_9 => ?_)
  · skip
    obtain ⟨e, rfl⟩ := Int.eq_ofNat_of_zero_le (show 0 ≤ d by omega)
    obtain ⟨hS1, hS2⟩ := id hS
    have hSe := hS1 e (by omega)
    refine z_aload_n C dX4_wrongRow_16 rfl 0 rfl ?_
    refine z_get (q := 0) (kf := 8) (v := .ref s1) C rfl rfl in_X4 (by decide) q1095 (Or.inl rfl) rfl dX4_wrongRow_17 ?_
    refine z_iload_n C dX4_wrongRow_20 rfl 1 rfl ?_
    refine y_iald (q := 1) (t0 := 0) (v := (hw e : Int)) C rfl rfl (by omega) (by decide) rfl dX4_wrongRow_21 ?_
    refine y_if_ne (tgt := 30) C (by omega) dX4_wrongRow_22 (by decide) (fun c_22 => ?_) (fun c_22 => ?_)
    · skip
      refine z_aload_n C dX4_wrongRow_30 rfl 0 rfl ?_
      refine z_get (q := 0) (kf := 8) (v := .ref s1) C rfl rfl in_X4 (by decide) q1095 (Or.inl rfl) rfl dX4_wrongRow_31 ?_
      refine z_iload_n C dX4_wrongRow_34 rfl 1 rfl ?_
      refine y_iald (q := 1) (t0 := 0) (v := (hw e : Int)) C rfl rfl (by omega) (by decide) rfl dX4_wrongRow_35 ?_
      refine y_iconst C dX4_wrongRow_36 ?_
      refine y_icmp_eq (tgt := 45) C (by omega) (by omega) dX4_wrongRow_37 (by decide) (fun c_37 => ?_) (fun c_37 => ?_)
      · skip
        refine y_iconst C dX4_wrongRow_45 ?_
        exact z_iret C hA hQ rfl (Nat.le_of_ble_eq_true rfl) (Nat.le_of_ble_eq_true rfl) (()) (congrArg zI (by unfold wrZ; (try simp only [zTN]); repeat (first | rw [if_pos (by omega)] | rw [if_neg (by omega)]))) (sb_e [0, 1, 2, 3, 4, 5, 6] rfl rfl) dX4_wrongRow_46
      · skip
        refine y_bipush C dX4_wrongRow_40 (by decide) ?_
        refine z_goto (tgt := 46) C dX4_wrongRow_42 (by decide) ?_
        exact z_iret C hA hQ rfl (Nat.le_of_ble_eq_true rfl) (Nat.le_of_ble_eq_true rfl) (()) (congrArg zI (by unfold wrZ; (try simp only [zTN]); repeat (first | rw [if_pos (by omega)] | rw [if_neg (by omega)]))) (sb_e [0, 1, 2, 3, 4, 5, 6] rfl rfl) dX4_wrongRow_46
    · skip
      refine y_bipush C dX4_wrongRow_25 (by decide) ?_
      refine z_goto (tgt := 46) C dX4_wrongRow_27 (by decide) ?_
      exact z_iret C hA hQ rfl (Nat.le_of_ble_eq_true rfl) (Nat.le_of_ble_eq_true rfl) (()) (congrArg zI (by unfold wrZ; (try simp only [zTN]); repeat (first | rw [if_pos (by omega)] | rw [if_neg (by omega)]))) (sb_e [0, 1, 2, 3, 4, 5, 6] rfl rfl) dX4_wrongRow_46
  · skip
    refine y_iconst C dX4_wrongRow_12 ?_
    refine z_goto (tgt := 46) C dX4_wrongRow_13 (by decide) ?_
    exact z_iret C hA hQ rfl (Nat.le_of_ble_eq_true rfl) (Nat.le_of_ble_eq_true rfl) (()) (congrArg zI (by unfold wrZ; (try simp only [zTN]); repeat (first | rw [if_pos (by omega)] | rw [if_neg (by omega)]))) (sb_e [0, 1, 2, 3, 4, 5, 6] rfl rfl) dX4_wrongRow_46

abbrev kpOk (d what k f : Int) : Prop := (0 ≤ d ∧ d ≤ 7) ∧ (0 ≤ what ∧ what ≤ 1) ∧ (what = 1 → (0 ≤ k ∧ k ≤ 7) ∧ (0 ≤ f ∧ f ≤ 9))
def oKeep (d what k f : Int) : Int := if kpOk d what k f then 0 else -1
set_option maxHeartbeats 4000000 in
theorem ct_X4_keep (l : Launch) (G : ZG) (m : Nat) (g1 : Nat) (g2 : Nat) (g3 : Nat) (g4 : Nat) (g5 : Nat) (s1 : Nat) (s2 : Nat) (s3 : Nat) (s4 : Nat) (s5 : Nat) (s6 : Nat) (t1 : Nat) (t2 : Nat) (t3 : Nat) (c0 : Nat) (c1 : Nat) (c2 : Nat) (c3 : Nat) (y0 : Nat) (y1 : Nat) (thr : Int) (rdg : Int) (plc : Int) (ibd : Int) (stm : Int) (him : Int) (pl0 : Int) (itk : Int) (chd : Int) (chf : Int) (sd : Int) (ki : Value) (n : Nat) (oa : Int) (dy : Int) (hw : Nat → Nat) (kk : Nat → Nat) (rs : Nat → Nat) (rm : Nat → Nat) (kf : Nat → Int) (rw_ : Nat → Int) (d : Int) (what : Int) (k : Int) (f : Int) (hS : SK hw kk rs rm kf rw_) (rd : -2147483648 ≤ d ∧ d ≤ 2147483647) (rwhat : -2147483648 ≤ what ∧ what ≤ 2147483647) (rk : -2147483648 ≤ k ∧ k ≤ 2147483647) (rf : -2147483648 ≤ f ∧ f ≤ 2147483647) : CT l yX4_keep cX4_keep 5 (some .int) { frames := 1, cells := 0, slots := 0, locals := 25 } G [.ref m, .int (zI d), .int (zI what), .int (zI k), .int (zI f)] [(m, .inr (11, [.int (zI (n : Int)), .ref g1, .ref g2, .ref g3, .ref g4, .ref g5, .int (zI oa), .int (zI dy), .ref s1, .ref s2, .ref s3, .ref s4, .ref s5, .ref s6, .int (zI thr), .int (zI rdg), .int (zI plc), .int (zI ibd), .int (zI stm), .ref t1, .ref t2, .ref t3, .ref c0, .ref c1, .ref c2, .ref c3, .int (zI him), .int (zI pl0), .int (zI itk), ki, .int (zI chd), .int (zI chf), .ref y0, .int (zI sd), .ref y1])), (s1, AI G 8 (fun z_ => (hw z_ : Int))), (s2, AI G 8 (fun z_ => (kk z_ : Int))), (s3, AI G 8 kf), (s4, AI G 8 (fun z_ => (rs z_ : Int))), (s5, AI G 8 (fun z_ => (rm z_ : Int))), (s6, AL G 800 rw_)] (Qi G [(m, .inr (11, [.int (zI (n : Int)), .ref g1, .ref g2, .ref g3, .ref g4, .ref g5, .int (zI oa), .int (zI dy), .ref s1, .ref s2, .ref s3, .ref s4, .ref s5, .ref s6, .int (zI thr), .int (zI rdg), .int (zI plc), .int (zI ibd), .int (zI stm), .ref t1, .ref t2, .ref t3, .ref c0, .ref c1, .ref c2, .ref c3, .int (zI him), .int (zI pl0), .int (zI itk), ki, .int (zI chd), .int (zI chf), .ref y0, .int (zI sd), .ref y1])), (s1, AI G 8 (fun z_ => (hw z_ : Int))), (s2, AI G 8 (fun z_ => (kk z_ : Int))), (s3, AI G 8 kf), (s4, AI G 8 (fun z_ => (rs z_ : Int))), (s5, AI G 8 (fun z_ => (rm z_ : Int))), (s6, AL G 800 rw_)] (fun (r : Int32) (u : Unit) => r = zI (oKeep d what k f)) (fun u => [(m, .inr (11, [.int (zI (n : Int)), .ref g1, .ref g2, .ref g3, .ref g4, .ref g5, .int (zI oa), .int (zI dy), .ref s1, .ref s2, .ref s3, .ref s4, .ref s5, .ref s6, .int (zI 0), .int (zI rdg), .int (zI plc), .int (zI ibd), .int (zI stm), .ref t1, .ref t2, .ref t3, .ref c0, .ref c1, .ref c2, .ref c3, .int (zI him), .int (zI pl0), .int (zI itk), ki, .int (zI chd), .int (zI chf), .ref y0, .int (zI sd), .ref y1])), (s1, AI G 8 (fun z_ => ((if kpOk d what k f then upN hw d.toNat what.toNat else hw) z_ : Int))), (s2, AI G 8 (fun z_ => ((if kpOk d what k f then upN kk d.toNat (if what = 1 then k.toNat else 0) else kk) z_ : Int))), (s3, AI G 8 (if kpOk d what k f then va_up kf d.toNat (if what = 1 then f else 0) else kf)), (s4, AI G 8 (fun z_ => (rs z_ : Int))), (s5, AI G 8 (fun z_ => (rm z_ : Int))), (s6, AL G 800 rw_)])) := by
  refine z_met (by decide) (Nat.le_of_ble_eq_true rfl) ?_
  intro X A hl0 hA C hQ hin
  subst hl0
  show Z X _ G 0 0 _ 0 [(0, .ref m), (1, .int (zI d)), (2, .int (zI what)), (3, .int (zI k)), (4, .int (zI f))] []
  refine z_aload_n C dX4_keep_0 rfl 0 rfl ?_
  refine y_iconst C dX4_keep_1 ?_
  refine z_put (q := 0) (kf := 14) (ws' := [(m, .inr (11, [.int (zI (n : Int)), .ref g1, .ref g2, .ref g3, .ref g4, .ref g5, .int (zI oa), .int (zI dy), .ref s1, .ref s2, .ref s3, .ref s4, .ref s5, .ref s6, .int (zI 0), .int (zI rdg), .int (zI plc), .int (zI ibd), .int (zI stm), .ref t1, .ref t2, .ref t3, .ref c0, .ref c1, .ref c2, .ref c3, .int (zI him), .int (zI pl0), .int (zI itk), ki, .int (zI chd), .int (zI chf), .ref y0, .int (zI sd), .ref y1])), (s1, AI G 8 (fun z_ => (hw z_ : Int))), (s2, AI G 8 (fun z_ => (kk z_ : Int))), (s3, AI G 8 kf), (s4, AI G 8 (fun z_ => (rs z_ : Int))), (s5, AI G 8 (fun z_ => (rm z_ : Int))), (s6, AL G 800 rw_)]) C rfl rfl in_X4 tyX4_ok nmX4 (by decide) q1101 rfl rfl rfl rfl rfl (nlt rfl) rfl dX4_keep_2 ?_
  refine z_iload_n C dX4_keep_5 rfl 1 rfl ?_
  refine y_i2l C (by omega) dX4_keep_6 ?_
  refine z_lconst (v := zL 0) C dX4_keep_7 (by decide) ?_
  refine z_ldc2 C q1206 dX4_keep_8 ?_
  refine z_eql (y := zL 7) (by decide) ?_
  refine z_i C (z_runS (As := [.long (zL d), .long (zL 0), .long (zL 7)]) (rest := []) C (ct_X4_in (zl X) G d 0 7 (by first | assumption | omega) (by first | assumption | omega) (by first | assumption | omega)) (lw_S q1207 q1208 q61 q1209) (sb_e [] rfl rfl) (na := 3) (by decide +kernel) rfl (zrm rfl rfl (rfl) (rfl)) rfl (Nat.le_of_ble_eq_true rfl) dX4_keep_11) (fun u => jn_ro (sb_e [] rfl rfl)) (fun r_11 u hp_11 => ?_)
  have hp_11 : r_11 = zI (bI (0 ≤ d ∧ d ≤ 7)) := hp_11
  subst hp_11
  refine y_beq (tgt := 57) C dX4_keep_14 (by decide) (fun c_14 => ?_) (fun c_14 => ?_)
  · skip
    refine y_iconst C dX4_keep_57 ?_
    refine z_wsEq (ws' := [(m, .inr (11, [.int (zI (n : Int)), .ref g1, .ref g2, .ref g3, .ref g4, .ref g5, .int (zI oa), .int (zI dy), .ref s1, .ref s2, .ref s3, .ref s4, .ref s5, .ref s6, .int (zI 0), .int (zI rdg), .int (zI plc), .int (zI ibd), .int (zI stm), .ref t1, .ref t2, .ref t3, .ref c0, .ref c1, .ref c2, .ref c3, .int (zI him), .int (zI pl0), .int (zI itk), ki, .int (zI chd), .int (zI chf), .ref y0, .int (zI sd), .ref y1])), (s1, AI G 8 (fun z_ => ((if kpOk d what k f then upN hw d.toNat what.toNat else hw) z_ : Int))), (s2, AI G 8 (fun z_ => ((if kpOk d what k f then upN kk d.toNat (if what = 1 then k.toNat else 0) else kk) z_ : Int))), (s3, AI G 8 (if kpOk d what k f then va_up kf d.toNat (if what = 1 then f else 0) else kf)), (s4, AI G 8 (fun z_ => (rs z_ : Int))), (s5, AI G 8 (fun z_ => (rm z_ : Int))), (s6, AL G 800 rw_)]) (by simp only [if_neg (show ¬ kpOk d what k f from by simp only [kpOk]; omega)]) ?_
    exact z_iret C hA hQ rfl (Nat.le_of_ble_eq_true rfl) (Nat.le_of_ble_eq_true rfl) (()) (congrArg zI (by unfold oKeep; rw [if_neg (show ¬ kpOk d what k f from by simp only [kpOk]; omega)])) (sb_e [0, 1, 2, 3, 4, 5, 6] rfl rfl) dX4_keep_58
  · skip
    refine z_iload_n C dX4_keep_17 rfl 2 rfl ?_
    refine y_i2l C (by omega) dX4_keep_18 ?_
    refine z_lconst (v := zL 0) C dX4_keep_19 (by decide) ?_
    refine z_lconst (v := zL 1) C dX4_keep_20 (by decide) ?_
    refine z_i C (z_runS (As := [.long (zL what), .long (zL 0), .long (zL 1)]) (rest := []) C (ct_X4_in (zl X) G what 0 1 (by first | assumption | omega) (by first | assumption | omega) (by first | assumption | omega)) (lw_S q1207 q1208 q61 q1209) (sb_e [] rfl rfl) (na := 3) (by decide +kernel) rfl (zrm rfl rfl (rfl) (rfl)) rfl (Nat.le_of_ble_eq_true rfl) dX4_keep_21) (fun u => jn_ro (sb_e [] rfl rfl)) (fun r_21 u hp_21 => ?_)
    have hp_21 : r_21 = zI (bI (0 ≤ what ∧ what ≤ 1)) := hp_21
    subst hp_21
    refine y_beq (tgt := 57) C dX4_keep_24 (by decide) (fun c_24 => ?_) (fun c_24 => ?_)
    · skip
      refine y_iconst C dX4_keep_57 ?_
      refine z_wsEq (ws' := [(m, .inr (11, [.int (zI (n : Int)), .ref g1, .ref g2, .ref g3, .ref g4, .ref g5, .int (zI oa), .int (zI dy), .ref s1, .ref s2, .ref s3, .ref s4, .ref s5, .ref s6, .int (zI 0), .int (zI rdg), .int (zI plc), .int (zI ibd), .int (zI stm), .ref t1, .ref t2, .ref t3, .ref c0, .ref c1, .ref c2, .ref c3, .int (zI him), .int (zI pl0), .int (zI itk), ki, .int (zI chd), .int (zI chf), .ref y0, .int (zI sd), .ref y1])), (s1, AI G 8 (fun z_ => ((if kpOk d what k f then upN hw d.toNat what.toNat else hw) z_ : Int))), (s2, AI G 8 (fun z_ => ((if kpOk d what k f then upN kk d.toNat (if what = 1 then k.toNat else 0) else kk) z_ : Int))), (s3, AI G 8 (if kpOk d what k f then va_up kf d.toNat (if what = 1 then f else 0) else kf)), (s4, AI G 8 (fun z_ => (rs z_ : Int))), (s5, AI G 8 (fun z_ => (rm z_ : Int))), (s6, AL G 800 rw_)]) (by simp only [if_neg (show ¬ kpOk d what k f from by simp only [kpOk]; omega)]) ?_
      exact z_iret C hA hQ rfl (Nat.le_of_ble_eq_true rfl) (Nat.le_of_ble_eq_true rfl) (()) (congrArg zI (by unfold oKeep; rw [if_neg (show ¬ kpOk d what k f from by simp only [kpOk]; omega)])) (sb_e [0, 1, 2, 3, 4, 5, 6] rfl rfl) dX4_keep_58
    · skip
      refine z_iload_n C dX4_keep_27 rfl 2 rfl ?_
      refine y_iconst C dX4_keep_28 ?_
      refine y_icmp_ne (tgt := 59) C (by omega) (by omega) dX4_keep_29 (by decide) (fun c_29 => ?_) (fun c_29 => ?_)
      · skip
        obtain ⟨e, rfl⟩ := Int.eq_ofNat_of_zero_le (show 0 ≤ d by omega)
        obtain ⟨wt, rfl⟩ := Int.eq_ofNat_of_zero_le (show 0 ≤ what by omega)
        refine z_aload_n C dX4_keep_59 rfl 0 rfl ?_
        refine z_get (q := 0) (kf := 8) (v := .ref s1) C rfl rfl in_X4 (by decide) q1095 (Or.inl rfl) rfl dX4_keep_60 ?_
        refine z_iload_n C dX4_keep_63 rfl 1 rfl ?_
        refine z_iload_n C dX4_keep_64 rfl 2 rfl ?_
        refine y_iast (q := 1) (t0 := 0) (g := fun z_ => (upN hw e wt z_ : Int)) (ws' := [(m, .inr (11, [.int (zI (n : Int)), .ref g1, .ref g2, .ref g3, .ref g4, .ref g5, .int (zI oa), .int (zI dy), .ref s1, .ref s2, .ref s3, .ref s4, .ref s5, .ref s6, .int (zI 0), .int (zI rdg), .int (zI plc), .int (zI ibd), .int (zI stm), .ref t1, .ref t2, .ref t3, .ref c0, .ref c1, .ref c2, .ref c3, .int (zI him), .int (zI pl0), .int (zI itk), ki, .int (zI chd), .int (zI chf), .ref y0, .int (zI sd), .ref y1])), (s1, AI G 8 (fun z_ => (upN hw e wt z_ : Int))), (s2, AI G 8 (fun z_ => (kk z_ : Int))), (s3, AI G 8 kf), (s4, AI G 8 (fun z_ => (rs z_ : Int))), (s5, AI G 8 (fun z_ => (rm z_ : Int))), (s6, AL G 800 rw_)]) C rfl rfl (by omega) (by decide) upN_c rfl dX4_keep_65 ?_
        refine z_aload_n C dX4_keep_66 rfl 0 rfl ?_
        refine z_get (q := 0) (kf := 9) (v := .ref s2) C rfl rfl in_X4 (by decide) q1096 (Or.inl rfl) rfl dX4_keep_67 ?_
        refine z_iload_n C dX4_keep_70 rfl 1 rfl ?_
        refine z_iload_n C dX4_keep_71 rfl 2 rfl ?_
        refine y_iconst C dX4_keep_72 ?_
        refine y_icmp_ne (tgt := 80) C (by omega) (by omega) dX4_keep_73 (by decide) (fun c_73 => ?_) (fun c_73 => ?_)
        · skip
          refine y_iconst C dX4_keep_80 ?_
          refine y_iast (q := 2) (t0 := 0) (g := fun z_ => (upN kk e (if (wt : Int) = 1 then k.toNat else 0) z_ : Int)) (ws' := [(m, .inr (11, [.int (zI (n : Int)), .ref g1, .ref g2, .ref g3, .ref g4, .ref g5, .int (zI oa), .int (zI dy), .ref s1, .ref s2, .ref s3, .ref s4, .ref s5, .ref s6, .int (zI 0), .int (zI rdg), .int (zI plc), .int (zI ibd), .int (zI stm), .ref t1, .ref t2, .ref t3, .ref c0, .ref c1, .ref c2, .ref c3, .int (zI him), .int (zI pl0), .int (zI itk), ki, .int (zI chd), .int (zI chf), .ref y0, .int (zI sd), .ref y1])), (s1, AI G 8 (fun z_ => (upN hw e wt z_ : Int))), (s2, AI G 8 (fun z_ => (upN kk e (if (wt : Int) = 1 then k.toNat else 0) z_ : Int))), (s3, AI G 8 kf), (s4, AI G 8 (fun z_ => (rs z_ : Int))), (s5, AI G 8 (fun z_ => (rm z_ : Int))), (s6, AL G 800 rw_)]) C rfl rfl (by omega) (by decide) (by first | (exfalso; omega) | (rw [← upN_c]; congr 1; first | (rw [if_pos (by omega)]; omega) | (rw [if_neg (by omega)]; rfl))) rfl dX4_keep_81 ?_
          refine z_aload_n C dX4_keep_82 rfl 0 rfl ?_
          refine z_get (q := 0) (kf := 10) (v := .ref s3) C rfl rfl in_X4 (by decide) q1097 (Or.inl rfl) rfl dX4_keep_83 ?_
          refine z_iload_n C dX4_keep_86 rfl 1 rfl ?_
          refine z_iload_n C dX4_keep_87 rfl 2 rfl ?_
          refine y_iconst C dX4_keep_88 ?_
          refine y_icmp_ne (tgt := 97) C (by omega) (by omega) dX4_keep_89 (by decide) (fun c_89 => ?_) (fun c_89 => ?_)
          · skip
            refine y_iconst C dX4_keep_97 ?_
            refine y_iast (q := 3) (t0 := 0) (g := va_up kf e (if (wt : Int) = 1 then f else 0)) (ws' := [(m, .inr (11, [.int (zI (n : Int)), .ref g1, .ref g2, .ref g3, .ref g4, .ref g5, .int (zI oa), .int (zI dy), .ref s1, .ref s2, .ref s3, .ref s4, .ref s5, .ref s6, .int (zI 0), .int (zI rdg), .int (zI plc), .int (zI ibd), .int (zI stm), .ref t1, .ref t2, .ref t3, .ref c0, .ref c1, .ref c2, .ref c3, .int (zI him), .int (zI pl0), .int (zI itk), ki, .int (zI chd), .int (zI chf), .ref y0, .int (zI sd), .ref y1])), (s1, AI G 8 (fun z_ => (upN hw e wt z_ : Int))), (s2, AI G 8 (fun z_ => (upN kk e (if (wt : Int) = 1 then k.toNat else 0) z_ : Int))), (s3, AI G 8 (va_up kf e (if (wt : Int) = 1 then f else 0))), (s4, AI G 8 (fun z_ => (rs z_ : Int))), (s5, AI G 8 (fun z_ => (rm z_ : Int))), (s6, AL G 800 rw_)]) C rfl rfl (by omega) (by decide) (by first | (exfalso; omega) | (congr 1; first | (rw [if_pos (by omega)]; done) | (rw [if_neg (by omega)]; done))) rfl dX4_keep_98 ?_
            refine y_iconst C dX4_keep_99 ?_
            refine z_wsEq (ws' := [(m, .inr (11, [.int (zI (n : Int)), .ref g1, .ref g2, .ref g3, .ref g4, .ref g5, .int (zI oa), .int (zI dy), .ref s1, .ref s2, .ref s3, .ref s4, .ref s5, .ref s6, .int (zI 0), .int (zI rdg), .int (zI plc), .int (zI ibd), .int (zI stm), .ref t1, .ref t2, .ref t3, .ref c0, .ref c1, .ref c2, .ref c3, .int (zI him), .int (zI pl0), .int (zI itk), ki, .int (zI chd), .int (zI chf), .ref y0, .int (zI sd), .ref y1])), (s1, AI G 8 (fun z_ => ((if kpOk (e : Int) (wt : Int) k f then upN hw (e : Int).toNat (wt : Int).toNat else hw) z_ : Int))), (s2, AI G 8 (fun z_ => ((if kpOk (e : Int) (wt : Int) k f then upN kk (e : Int).toNat (if (wt : Int) = 1 then k.toNat else 0) else kk) z_ : Int))), (s3, AI G 8 (if kpOk (e : Int) (wt : Int) k f then va_up kf (e : Int).toNat (if (wt : Int) = 1 then f else 0) else kf)), (s4, AI G 8 (fun z_ => (rs z_ : Int))), (s5, AI G 8 (fun z_ => (rm z_ : Int))), (s6, AL G 800 rw_)]) (by simp only [if_pos (show kpOk (e : Int) (wt : Int) k f from by simp only [kpOk]; omega), zTN]) ?_
            exact z_iret C hA hQ rfl (Nat.le_of_ble_eq_true rfl) (Nat.le_of_ble_eq_true rfl) (()) (congrArg zI (by unfold oKeep; rw [if_pos (show kpOk (e : Int) (wt : Int) k f from by simp only [kpOk]; omega)])) (sb_e [0, 1, 2, 3, 4, 5, 6] rfl rfl) dX4_keep_100
          · skip
            refine z_iload C dX4_keep_92 4 rfl ?_
            refine z_goto (tgt := 98) C dX4_keep_94 (by decide) ?_
            refine y_iast (q := 3) (t0 := 0) (g := va_up kf e (if (wt : Int) = 1 then f else 0)) (ws' := [(m, .inr (11, [.int (zI (n : Int)), .ref g1, .ref g2, .ref g3, .ref g4, .ref g5, .int (zI oa), .int (zI dy), .ref s1, .ref s2, .ref s3, .ref s4, .ref s5, .ref s6, .int (zI 0), .int (zI rdg), .int (zI plc), .int (zI ibd), .int (zI stm), .ref t1, .ref t2, .ref t3, .ref c0, .ref c1, .ref c2, .ref c3, .int (zI him), .int (zI pl0), .int (zI itk), ki, .int (zI chd), .int (zI chf), .ref y0, .int (zI sd), .ref y1])), (s1, AI G 8 (fun z_ => (upN hw e wt z_ : Int))), (s2, AI G 8 (fun z_ => (upN kk e (if (wt : Int) = 1 then k.toNat else 0) z_ : Int))), (s3, AI G 8 (va_up kf e (if (wt : Int) = 1 then f else 0))), (s4, AI G 8 (fun z_ => (rs z_ : Int))), (s5, AI G 8 (fun z_ => (rm z_ : Int))), (s6, AL G 800 rw_)]) C rfl rfl (by omega) (by decide) (by first | (exfalso; omega) | (congr 1; first | (rw [if_pos (by omega)]; done) | (rw [if_neg (by omega)]; done))) rfl dX4_keep_98 ?_
            refine y_iconst C dX4_keep_99 ?_
            refine z_wsEq (ws' := [(m, .inr (11, [.int (zI (n : Int)), .ref g1, .ref g2, .ref g3, .ref g4, .ref g5, .int (zI oa), .int (zI dy), .ref s1, .ref s2, .ref s3, .ref s4, .ref s5, .ref s6, .int (zI 0), .int (zI rdg), .int (zI plc), .int (zI ibd), .int (zI stm), .ref t1, .ref t2, .ref t3, .ref c0, .ref c1, .ref c2, .ref c3, .int (zI him), .int (zI pl0), .int (zI itk), ki, .int (zI chd), .int (zI chf), .ref y0, .int (zI sd), .ref y1])), (s1, AI G 8 (fun z_ => ((if kpOk (e : Int) (wt : Int) k f then upN hw (e : Int).toNat (wt : Int).toNat else hw) z_ : Int))), (s2, AI G 8 (fun z_ => ((if kpOk (e : Int) (wt : Int) k f then upN kk (e : Int).toNat (if (wt : Int) = 1 then k.toNat else 0) else kk) z_ : Int))), (s3, AI G 8 (if kpOk (e : Int) (wt : Int) k f then va_up kf (e : Int).toNat (if (wt : Int) = 1 then f else 0) else kf)), (s4, AI G 8 (fun z_ => (rs z_ : Int))), (s5, AI G 8 (fun z_ => (rm z_ : Int))), (s6, AL G 800 rw_)]) (by simp only [if_pos (show kpOk (e : Int) (wt : Int) k f from by simp only [kpOk]; omega), zTN]) ?_
            exact z_iret C hA hQ rfl (Nat.le_of_ble_eq_true rfl) (Nat.le_of_ble_eq_true rfl) (()) (congrArg zI (by unfold oKeep; rw [if_pos (show kpOk (e : Int) (wt : Int) k f from by simp only [kpOk]; omega)])) (sb_e [0, 1, 2, 3, 4, 5, 6] rfl rfl) dX4_keep_100
        · skip
          refine z_iload_n C dX4_keep_76 rfl 3 rfl ?_
          refine z_goto (tgt := 81) C dX4_keep_77 (by decide) ?_
          refine y_iast (q := 2) (t0 := 0) (g := fun z_ => (upN kk e (if (wt : Int) = 1 then k.toNat else 0) z_ : Int)) (ws' := [(m, .inr (11, [.int (zI (n : Int)), .ref g1, .ref g2, .ref g3, .ref g4, .ref g5, .int (zI oa), .int (zI dy), .ref s1, .ref s2, .ref s3, .ref s4, .ref s5, .ref s6, .int (zI 0), .int (zI rdg), .int (zI plc), .int (zI ibd), .int (zI stm), .ref t1, .ref t2, .ref t3, .ref c0, .ref c1, .ref c2, .ref c3, .int (zI him), .int (zI pl0), .int (zI itk), ki, .int (zI chd), .int (zI chf), .ref y0, .int (zI sd), .ref y1])), (s1, AI G 8 (fun z_ => (upN hw e wt z_ : Int))), (s2, AI G 8 (fun z_ => (upN kk e (if (wt : Int) = 1 then k.toNat else 0) z_ : Int))), (s3, AI G 8 kf), (s4, AI G 8 (fun z_ => (rs z_ : Int))), (s5, AI G 8 (fun z_ => (rm z_ : Int))), (s6, AL G 800 rw_)]) C rfl rfl (by omega) (by decide) (by first | (exfalso; omega) | (rw [← upN_c]; congr 1; first | (rw [if_pos (by omega)]; omega) | (rw [if_neg (by omega)]; rfl))) rfl dX4_keep_81 ?_
          refine z_aload_n C dX4_keep_82 rfl 0 rfl ?_
          refine z_get (q := 0) (kf := 10) (v := .ref s3) C rfl rfl in_X4 (by decide) q1097 (Or.inl rfl) rfl dX4_keep_83 ?_
          refine z_iload_n C dX4_keep_86 rfl 1 rfl ?_
          refine z_iload_n C dX4_keep_87 rfl 2 rfl ?_
          refine y_iconst C dX4_keep_88 ?_
          refine y_icmp_ne (tgt := 97) C (by omega) (by omega) dX4_keep_89 (by decide) (fun c_89 => ?_) (fun c_89 => ?_)
          · skip
            refine y_iconst C dX4_keep_97 ?_
            refine y_iast (q := 3) (t0 := 0) (g := va_up kf e (if (wt : Int) = 1 then f else 0)) (ws' := [(m, .inr (11, [.int (zI (n : Int)), .ref g1, .ref g2, .ref g3, .ref g4, .ref g5, .int (zI oa), .int (zI dy), .ref s1, .ref s2, .ref s3, .ref s4, .ref s5, .ref s6, .int (zI 0), .int (zI rdg), .int (zI plc), .int (zI ibd), .int (zI stm), .ref t1, .ref t2, .ref t3, .ref c0, .ref c1, .ref c2, .ref c3, .int (zI him), .int (zI pl0), .int (zI itk), ki, .int (zI chd), .int (zI chf), .ref y0, .int (zI sd), .ref y1])), (s1, AI G 8 (fun z_ => (upN hw e wt z_ : Int))), (s2, AI G 8 (fun z_ => (upN kk e (if (wt : Int) = 1 then k.toNat else 0) z_ : Int))), (s3, AI G 8 (va_up kf e (if (wt : Int) = 1 then f else 0))), (s4, AI G 8 (fun z_ => (rs z_ : Int))), (s5, AI G 8 (fun z_ => (rm z_ : Int))), (s6, AL G 800 rw_)]) C rfl rfl (by omega) (by decide) (by first | (exfalso; omega) | (congr 1; first | (rw [if_pos (by omega)]; done) | (rw [if_neg (by omega)]; done))) rfl dX4_keep_98 ?_
            refine y_iconst C dX4_keep_99 ?_
            refine z_wsEq (ws' := [(m, .inr (11, [.int (zI (n : Int)), .ref g1, .ref g2, .ref g3, .ref g4, .ref g5, .int (zI oa), .int (zI dy), .ref s1, .ref s2, .ref s3, .ref s4, .ref s5, .ref s6, .int (zI 0), .int (zI rdg), .int (zI plc), .int (zI ibd), .int (zI stm), .ref t1, .ref t2, .ref t3, .ref c0, .ref c1, .ref c2, .ref c3, .int (zI him), .int (zI pl0), .int (zI itk), ki, .int (zI chd), .int (zI chf), .ref y0, .int (zI sd), .ref y1])), (s1, AI G 8 (fun z_ => ((if kpOk (e : Int) (wt : Int) k f then upN hw (e : Int).toNat (wt : Int).toNat else hw) z_ : Int))), (s2, AI G 8 (fun z_ => ((if kpOk (e : Int) (wt : Int) k f then upN kk (e : Int).toNat (if (wt : Int) = 1 then k.toNat else 0) else kk) z_ : Int))), (s3, AI G 8 (if kpOk (e : Int) (wt : Int) k f then va_up kf (e : Int).toNat (if (wt : Int) = 1 then f else 0) else kf)), (s4, AI G 8 (fun z_ => (rs z_ : Int))), (s5, AI G 8 (fun z_ => (rm z_ : Int))), (s6, AL G 800 rw_)]) (by simp only [if_pos (show kpOk (e : Int) (wt : Int) k f from by simp only [kpOk]; omega), zTN]) ?_
            exact z_iret C hA hQ rfl (Nat.le_of_ble_eq_true rfl) (Nat.le_of_ble_eq_true rfl) (()) (congrArg zI (by unfold oKeep; rw [if_pos (show kpOk (e : Int) (wt : Int) k f from by simp only [kpOk]; omega)])) (sb_e [0, 1, 2, 3, 4, 5, 6] rfl rfl) dX4_keep_100
          · skip
            refine z_iload C dX4_keep_92 4 rfl ?_
            refine z_goto (tgt := 98) C dX4_keep_94 (by decide) ?_
            refine y_iast (q := 3) (t0 := 0) (g := va_up kf e (if (wt : Int) = 1 then f else 0)) (ws' := [(m, .inr (11, [.int (zI (n : Int)), .ref g1, .ref g2, .ref g3, .ref g4, .ref g5, .int (zI oa), .int (zI dy), .ref s1, .ref s2, .ref s3, .ref s4, .ref s5, .ref s6, .int (zI 0), .int (zI rdg), .int (zI plc), .int (zI ibd), .int (zI stm), .ref t1, .ref t2, .ref t3, .ref c0, .ref c1, .ref c2, .ref c3, .int (zI him), .int (zI pl0), .int (zI itk), ki, .int (zI chd), .int (zI chf), .ref y0, .int (zI sd), .ref y1])), (s1, AI G 8 (fun z_ => (upN hw e wt z_ : Int))), (s2, AI G 8 (fun z_ => (upN kk e (if (wt : Int) = 1 then k.toNat else 0) z_ : Int))), (s3, AI G 8 (va_up kf e (if (wt : Int) = 1 then f else 0))), (s4, AI G 8 (fun z_ => (rs z_ : Int))), (s5, AI G 8 (fun z_ => (rm z_ : Int))), (s6, AL G 800 rw_)]) C rfl rfl (by omega) (by decide) (by first | (exfalso; omega) | (congr 1; first | (rw [if_pos (by omega)]; done) | (rw [if_neg (by omega)]; done))) rfl dX4_keep_98 ?_
            refine y_iconst C dX4_keep_99 ?_
            refine z_wsEq (ws' := [(m, .inr (11, [.int (zI (n : Int)), .ref g1, .ref g2, .ref g3, .ref g4, .ref g5, .int (zI oa), .int (zI dy), .ref s1, .ref s2, .ref s3, .ref s4, .ref s5, .ref s6, .int (zI 0), .int (zI rdg), .int (zI plc), .int (zI ibd), .int (zI stm), .ref t1, .ref t2, .ref t3, .ref c0, .ref c1, .ref c2, .ref c3, .int (zI him), .int (zI pl0), .int (zI itk), ki, .int (zI chd), .int (zI chf), .ref y0, .int (zI sd), .ref y1])), (s1, AI G 8 (fun z_ => ((if kpOk (e : Int) (wt : Int) k f then upN hw (e : Int).toNat (wt : Int).toNat else hw) z_ : Int))), (s2, AI G 8 (fun z_ => ((if kpOk (e : Int) (wt : Int) k f then upN kk (e : Int).toNat (if (wt : Int) = 1 then k.toNat else 0) else kk) z_ : Int))), (s3, AI G 8 (if kpOk (e : Int) (wt : Int) k f then va_up kf (e : Int).toNat (if (wt : Int) = 1 then f else 0) else kf)), (s4, AI G 8 (fun z_ => (rs z_ : Int))), (s5, AI G 8 (fun z_ => (rm z_ : Int))), (s6, AL G 800 rw_)]) (by simp only [if_pos (show kpOk (e : Int) (wt : Int) k f from by simp only [kpOk]; omega), zTN]) ?_
            exact z_iret C hA hQ rfl (Nat.le_of_ble_eq_true rfl) (Nat.le_of_ble_eq_true rfl) (()) (congrArg zI (by unfold oKeep; rw [if_pos (show kpOk (e : Int) (wt : Int) k f from by simp only [kpOk]; omega)])) (sb_e [0, 1, 2, 3, 4, 5, 6] rfl rfl) dX4_keep_100
      · skip
        refine z_iload_n C dX4_keep_32 rfl 3 rfl ?_
        refine y_i2l C (by omega) dX4_keep_33 ?_
        refine z_lconst (v := zL 0) C dX4_keep_34 (by decide) ?_
        refine z_ldc2 C q1206 dX4_keep_35 ?_
        refine z_eql (y := zL 7) (by decide) ?_
        refine z_i C (z_runS (As := [.long (zL k), .long (zL 0), .long (zL 7)]) (rest := []) C (ct_X4_in (zl X) G k 0 7 (by first | assumption | omega) (by first | assumption | omega) (by first | assumption | omega)) (lw_S q1207 q1208 q61 q1209) (sb_e [] rfl rfl) (na := 3) (by decide +kernel) rfl (zrm rfl rfl (rfl) (rfl)) rfl (Nat.le_of_ble_eq_true rfl) dX4_keep_38) (fun u => jn_ro (sb_e [] rfl rfl)) (fun r_38 u hp_38 => ?_)
        have hp_38 : r_38 = zI (bI (0 ≤ k ∧ k ≤ 7)) := hp_38
        subst hp_38
        refine y_beq (tgt := 57) C dX4_keep_41 (by decide) (fun c_41 => ?_) (fun c_41 => ?_)
        · skip
          refine y_iconst C dX4_keep_57 ?_
          refine z_wsEq (ws' := [(m, .inr (11, [.int (zI (n : Int)), .ref g1, .ref g2, .ref g3, .ref g4, .ref g5, .int (zI oa), .int (zI dy), .ref s1, .ref s2, .ref s3, .ref s4, .ref s5, .ref s6, .int (zI 0), .int (zI rdg), .int (zI plc), .int (zI ibd), .int (zI stm), .ref t1, .ref t2, .ref t3, .ref c0, .ref c1, .ref c2, .ref c3, .int (zI him), .int (zI pl0), .int (zI itk), ki, .int (zI chd), .int (zI chf), .ref y0, .int (zI sd), .ref y1])), (s1, AI G 8 (fun z_ => ((if kpOk d what k f then upN hw d.toNat what.toNat else hw) z_ : Int))), (s2, AI G 8 (fun z_ => ((if kpOk d what k f then upN kk d.toNat (if what = 1 then k.toNat else 0) else kk) z_ : Int))), (s3, AI G 8 (if kpOk d what k f then va_up kf d.toNat (if what = 1 then f else 0) else kf)), (s4, AI G 8 (fun z_ => (rs z_ : Int))), (s5, AI G 8 (fun z_ => (rm z_ : Int))), (s6, AL G 800 rw_)]) (by simp only [if_neg (show ¬ kpOk d what k f from by simp only [kpOk]; omega)]) ?_
          exact z_iret C hA hQ rfl (Nat.le_of_ble_eq_true rfl) (Nat.le_of_ble_eq_true rfl) (()) (congrArg zI (by unfold oKeep; rw [if_neg (show ¬ kpOk d what k f from by simp only [kpOk]; omega)])) (sb_e [0, 1, 2, 3, 4, 5, 6] rfl rfl) dX4_keep_58
        · skip
          refine z_iload C dX4_keep_44 4 rfl ?_
          refine y_i2l C (by omega) dX4_keep_46 ?_
          refine z_lconst (v := zL 0) C dX4_keep_47 (by decide) ?_
          refine z_ldc2 C q1517 dX4_keep_48 ?_
          refine z_eql (y := zL 9) (by decide) ?_
          refine z_i C (z_runS (As := [.long (zL f), .long (zL 0), .long (zL 9)]) (rest := []) C (ct_X4_in (zl X) G f 0 9 (by first | assumption | omega) (by first | assumption | omega) (by first | assumption | omega)) (lw_S q1207 q1208 q61 q1209) (sb_e [] rfl rfl) (na := 3) (by decide +kernel) rfl (zrm rfl rfl (rfl) (rfl)) rfl (Nat.le_of_ble_eq_true rfl) dX4_keep_51) (fun u => jn_ro (sb_e [] rfl rfl)) (fun r_51 u hp_51 => ?_)
          have hp_51 : r_51 = zI (bI (0 ≤ f ∧ f ≤ 9)) := hp_51
          subst hp_51
          refine y_bne (tgt := 59) C dX4_keep_54 (by decide) (fun c_54 => ?_) (fun c_54 => ?_)
          · skip
            obtain ⟨e, rfl⟩ := Int.eq_ofNat_of_zero_le (show 0 ≤ d by omega)
            obtain ⟨wt, rfl⟩ := Int.eq_ofNat_of_zero_le (show 0 ≤ what by omega)
            refine z_aload_n C dX4_keep_59 rfl 0 rfl ?_
            refine z_get (q := 0) (kf := 8) (v := .ref s1) C rfl rfl in_X4 (by decide) q1095 (Or.inl rfl) rfl dX4_keep_60 ?_
            refine z_iload_n C dX4_keep_63 rfl 1 rfl ?_
            refine z_iload_n C dX4_keep_64 rfl 2 rfl ?_
            refine y_iast (q := 1) (t0 := 0) (g := fun z_ => (upN hw e wt z_ : Int)) (ws' := [(m, .inr (11, [.int (zI (n : Int)), .ref g1, .ref g2, .ref g3, .ref g4, .ref g5, .int (zI oa), .int (zI dy), .ref s1, .ref s2, .ref s3, .ref s4, .ref s5, .ref s6, .int (zI 0), .int (zI rdg), .int (zI plc), .int (zI ibd), .int (zI stm), .ref t1, .ref t2, .ref t3, .ref c0, .ref c1, .ref c2, .ref c3, .int (zI him), .int (zI pl0), .int (zI itk), ki, .int (zI chd), .int (zI chf), .ref y0, .int (zI sd), .ref y1])), (s1, AI G 8 (fun z_ => (upN hw e wt z_ : Int))), (s2, AI G 8 (fun z_ => (kk z_ : Int))), (s3, AI G 8 kf), (s4, AI G 8 (fun z_ => (rs z_ : Int))), (s5, AI G 8 (fun z_ => (rm z_ : Int))), (s6, AL G 800 rw_)]) C rfl rfl (by omega) (by decide) upN_c rfl dX4_keep_65 ?_
            refine z_aload_n C dX4_keep_66 rfl 0 rfl ?_
            refine z_get (q := 0) (kf := 9) (v := .ref s2) C rfl rfl in_X4 (by decide) q1096 (Or.inl rfl) rfl dX4_keep_67 ?_
            refine z_iload_n C dX4_keep_70 rfl 1 rfl ?_
            refine z_iload_n C dX4_keep_71 rfl 2 rfl ?_
            refine y_iconst C dX4_keep_72 ?_
            refine y_icmp_ne (tgt := 80) C (by omega) (by omega) dX4_keep_73 (by decide) (fun c_73 => ?_) (fun c_73 => ?_)
            · skip
              refine y_iconst C dX4_keep_80 ?_
              refine y_iast (q := 2) (t0 := 0) (g := fun z_ => (upN kk e (if (wt : Int) = 1 then k.toNat else 0) z_ : Int)) (ws' := [(m, .inr (11, [.int (zI (n : Int)), .ref g1, .ref g2, .ref g3, .ref g4, .ref g5, .int (zI oa), .int (zI dy), .ref s1, .ref s2, .ref s3, .ref s4, .ref s5, .ref s6, .int (zI 0), .int (zI rdg), .int (zI plc), .int (zI ibd), .int (zI stm), .ref t1, .ref t2, .ref t3, .ref c0, .ref c1, .ref c2, .ref c3, .int (zI him), .int (zI pl0), .int (zI itk), ki, .int (zI chd), .int (zI chf), .ref y0, .int (zI sd), .ref y1])), (s1, AI G 8 (fun z_ => (upN hw e wt z_ : Int))), (s2, AI G 8 (fun z_ => (upN kk e (if (wt : Int) = 1 then k.toNat else 0) z_ : Int))), (s3, AI G 8 kf), (s4, AI G 8 (fun z_ => (rs z_ : Int))), (s5, AI G 8 (fun z_ => (rm z_ : Int))), (s6, AL G 800 rw_)]) C rfl rfl (by omega) (by decide) (by first | (exfalso; omega) | (rw [← upN_c]; congr 1; first | (rw [if_pos (by omega)]; omega) | (rw [if_neg (by omega)]; rfl))) rfl dX4_keep_81 ?_
              refine z_aload_n C dX4_keep_82 rfl 0 rfl ?_
              refine z_get (q := 0) (kf := 10) (v := .ref s3) C rfl rfl in_X4 (by decide) q1097 (Or.inl rfl) rfl dX4_keep_83 ?_
              refine z_iload_n C dX4_keep_86 rfl 1 rfl ?_
              refine z_iload_n C dX4_keep_87 rfl 2 rfl ?_
              refine y_iconst C dX4_keep_88 ?_
              refine y_icmp_ne (tgt := 97) C (by omega) (by omega) dX4_keep_89 (by decide) (fun c_89 => ?_) (fun c_89 => ?_)
              · skip
                refine y_iconst C dX4_keep_97 ?_
                refine y_iast (q := 3) (t0 := 0) (g := va_up kf e (if (wt : Int) = 1 then f else 0)) (ws' := [(m, .inr (11, [.int (zI (n : Int)), .ref g1, .ref g2, .ref g3, .ref g4, .ref g5, .int (zI oa), .int (zI dy), .ref s1, .ref s2, .ref s3, .ref s4, .ref s5, .ref s6, .int (zI 0), .int (zI rdg), .int (zI plc), .int (zI ibd), .int (zI stm), .ref t1, .ref t2, .ref t3, .ref c0, .ref c1, .ref c2, .ref c3, .int (zI him), .int (zI pl0), .int (zI itk), ki, .int (zI chd), .int (zI chf), .ref y0, .int (zI sd), .ref y1])), (s1, AI G 8 (fun z_ => (upN hw e wt z_ : Int))), (s2, AI G 8 (fun z_ => (upN kk e (if (wt : Int) = 1 then k.toNat else 0) z_ : Int))), (s3, AI G 8 (va_up kf e (if (wt : Int) = 1 then f else 0))), (s4, AI G 8 (fun z_ => (rs z_ : Int))), (s5, AI G 8 (fun z_ => (rm z_ : Int))), (s6, AL G 800 rw_)]) C rfl rfl (by omega) (by decide) (by first | (exfalso; omega) | (congr 1; first | (rw [if_pos (by omega)]; done) | (rw [if_neg (by omega)]; done))) rfl dX4_keep_98 ?_
                refine y_iconst C dX4_keep_99 ?_
                refine z_wsEq (ws' := [(m, .inr (11, [.int (zI (n : Int)), .ref g1, .ref g2, .ref g3, .ref g4, .ref g5, .int (zI oa), .int (zI dy), .ref s1, .ref s2, .ref s3, .ref s4, .ref s5, .ref s6, .int (zI 0), .int (zI rdg), .int (zI plc), .int (zI ibd), .int (zI stm), .ref t1, .ref t2, .ref t3, .ref c0, .ref c1, .ref c2, .ref c3, .int (zI him), .int (zI pl0), .int (zI itk), ki, .int (zI chd), .int (zI chf), .ref y0, .int (zI sd), .ref y1])), (s1, AI G 8 (fun z_ => ((if kpOk (e : Int) (wt : Int) k f then upN hw (e : Int).toNat (wt : Int).toNat else hw) z_ : Int))), (s2, AI G 8 (fun z_ => ((if kpOk (e : Int) (wt : Int) k f then upN kk (e : Int).toNat (if (wt : Int) = 1 then k.toNat else 0) else kk) z_ : Int))), (s3, AI G 8 (if kpOk (e : Int) (wt : Int) k f then va_up kf (e : Int).toNat (if (wt : Int) = 1 then f else 0) else kf)), (s4, AI G 8 (fun z_ => (rs z_ : Int))), (s5, AI G 8 (fun z_ => (rm z_ : Int))), (s6, AL G 800 rw_)]) (by simp only [if_pos (show kpOk (e : Int) (wt : Int) k f from by simp only [kpOk]; omega), zTN]) ?_
                exact z_iret C hA hQ rfl (Nat.le_of_ble_eq_true rfl) (Nat.le_of_ble_eq_true rfl) (()) (congrArg zI (by unfold oKeep; rw [if_pos (show kpOk (e : Int) (wt : Int) k f from by simp only [kpOk]; omega)])) (sb_e [0, 1, 2, 3, 4, 5, 6] rfl rfl) dX4_keep_100
              · skip
                refine z_iload C dX4_keep_92 4 rfl ?_
                refine z_goto (tgt := 98) C dX4_keep_94 (by decide) ?_
                refine y_iast (q := 3) (t0 := 0) (g := va_up kf e (if (wt : Int) = 1 then f else 0)) (ws' := [(m, .inr (11, [.int (zI (n : Int)), .ref g1, .ref g2, .ref g3, .ref g4, .ref g5, .int (zI oa), .int (zI dy), .ref s1, .ref s2, .ref s3, .ref s4, .ref s5, .ref s6, .int (zI 0), .int (zI rdg), .int (zI plc), .int (zI ibd), .int (zI stm), .ref t1, .ref t2, .ref t3, .ref c0, .ref c1, .ref c2, .ref c3, .int (zI him), .int (zI pl0), .int (zI itk), ki, .int (zI chd), .int (zI chf), .ref y0, .int (zI sd), .ref y1])), (s1, AI G 8 (fun z_ => (upN hw e wt z_ : Int))), (s2, AI G 8 (fun z_ => (upN kk e (if (wt : Int) = 1 then k.toNat else 0) z_ : Int))), (s3, AI G 8 (va_up kf e (if (wt : Int) = 1 then f else 0))), (s4, AI G 8 (fun z_ => (rs z_ : Int))), (s5, AI G 8 (fun z_ => (rm z_ : Int))), (s6, AL G 800 rw_)]) C rfl rfl (by omega) (by decide) (by first | (exfalso; omega) | (congr 1; first | (rw [if_pos (by omega)]; done) | (rw [if_neg (by omega)]; done))) rfl dX4_keep_98 ?_
                refine y_iconst C dX4_keep_99 ?_
                refine z_wsEq (ws' := [(m, .inr (11, [.int (zI (n : Int)), .ref g1, .ref g2, .ref g3, .ref g4, .ref g5, .int (zI oa), .int (zI dy), .ref s1, .ref s2, .ref s3, .ref s4, .ref s5, .ref s6, .int (zI 0), .int (zI rdg), .int (zI plc), .int (zI ibd), .int (zI stm), .ref t1, .ref t2, .ref t3, .ref c0, .ref c1, .ref c2, .ref c3, .int (zI him), .int (zI pl0), .int (zI itk), ki, .int (zI chd), .int (zI chf), .ref y0, .int (zI sd), .ref y1])), (s1, AI G 8 (fun z_ => ((if kpOk (e : Int) (wt : Int) k f then upN hw (e : Int).toNat (wt : Int).toNat else hw) z_ : Int))), (s2, AI G 8 (fun z_ => ((if kpOk (e : Int) (wt : Int) k f then upN kk (e : Int).toNat (if (wt : Int) = 1 then k.toNat else 0) else kk) z_ : Int))), (s3, AI G 8 (if kpOk (e : Int) (wt : Int) k f then va_up kf (e : Int).toNat (if (wt : Int) = 1 then f else 0) else kf)), (s4, AI G 8 (fun z_ => (rs z_ : Int))), (s5, AI G 8 (fun z_ => (rm z_ : Int))), (s6, AL G 800 rw_)]) (by simp only [if_pos (show kpOk (e : Int) (wt : Int) k f from by simp only [kpOk]; omega), zTN]) ?_
                exact z_iret C hA hQ rfl (Nat.le_of_ble_eq_true rfl) (Nat.le_of_ble_eq_true rfl) (()) (congrArg zI (by unfold oKeep; rw [if_pos (show kpOk (e : Int) (wt : Int) k f from by simp only [kpOk]; omega)])) (sb_e [0, 1, 2, 3, 4, 5, 6] rfl rfl) dX4_keep_100
            · skip
              refine z_iload_n C dX4_keep_76 rfl 3 rfl ?_
              refine z_goto (tgt := 81) C dX4_keep_77 (by decide) ?_
              refine y_iast (q := 2) (t0 := 0) (g := fun z_ => (upN kk e (if (wt : Int) = 1 then k.toNat else 0) z_ : Int)) (ws' := [(m, .inr (11, [.int (zI (n : Int)), .ref g1, .ref g2, .ref g3, .ref g4, .ref g5, .int (zI oa), .int (zI dy), .ref s1, .ref s2, .ref s3, .ref s4, .ref s5, .ref s6, .int (zI 0), .int (zI rdg), .int (zI plc), .int (zI ibd), .int (zI stm), .ref t1, .ref t2, .ref t3, .ref c0, .ref c1, .ref c2, .ref c3, .int (zI him), .int (zI pl0), .int (zI itk), ki, .int (zI chd), .int (zI chf), .ref y0, .int (zI sd), .ref y1])), (s1, AI G 8 (fun z_ => (upN hw e wt z_ : Int))), (s2, AI G 8 (fun z_ => (upN kk e (if (wt : Int) = 1 then k.toNat else 0) z_ : Int))), (s3, AI G 8 kf), (s4, AI G 8 (fun z_ => (rs z_ : Int))), (s5, AI G 8 (fun z_ => (rm z_ : Int))), (s6, AL G 800 rw_)]) C rfl rfl (by omega) (by decide) (by first | (exfalso; omega) | (rw [← upN_c]; congr 1; first | (rw [if_pos (by omega)]; omega) | (rw [if_neg (by omega)]; rfl))) rfl dX4_keep_81 ?_
              refine z_aload_n C dX4_keep_82 rfl 0 rfl ?_
              refine z_get (q := 0) (kf := 10) (v := .ref s3) C rfl rfl in_X4 (by decide) q1097 (Or.inl rfl) rfl dX4_keep_83 ?_
              refine z_iload_n C dX4_keep_86 rfl 1 rfl ?_
              refine z_iload_n C dX4_keep_87 rfl 2 rfl ?_
              refine y_iconst C dX4_keep_88 ?_
              refine y_icmp_ne (tgt := 97) C (by omega) (by omega) dX4_keep_89 (by decide) (fun c_89 => ?_) (fun c_89 => ?_)
              · skip
                refine y_iconst C dX4_keep_97 ?_
                refine y_iast (q := 3) (t0 := 0) (g := va_up kf e (if (wt : Int) = 1 then f else 0)) (ws' := [(m, .inr (11, [.int (zI (n : Int)), .ref g1, .ref g2, .ref g3, .ref g4, .ref g5, .int (zI oa), .int (zI dy), .ref s1, .ref s2, .ref s3, .ref s4, .ref s5, .ref s6, .int (zI 0), .int (zI rdg), .int (zI plc), .int (zI ibd), .int (zI stm), .ref t1, .ref t2, .ref t3, .ref c0, .ref c1, .ref c2, .ref c3, .int (zI him), .int (zI pl0), .int (zI itk), ki, .int (zI chd), .int (zI chf), .ref y0, .int (zI sd), .ref y1])), (s1, AI G 8 (fun z_ => (upN hw e wt z_ : Int))), (s2, AI G 8 (fun z_ => (upN kk e (if (wt : Int) = 1 then k.toNat else 0) z_ : Int))), (s3, AI G 8 (va_up kf e (if (wt : Int) = 1 then f else 0))), (s4, AI G 8 (fun z_ => (rs z_ : Int))), (s5, AI G 8 (fun z_ => (rm z_ : Int))), (s6, AL G 800 rw_)]) C rfl rfl (by omega) (by decide) (by first | (exfalso; omega) | (congr 1; first | (rw [if_pos (by omega)]; done) | (rw [if_neg (by omega)]; done))) rfl dX4_keep_98 ?_
                refine y_iconst C dX4_keep_99 ?_
                refine z_wsEq (ws' := [(m, .inr (11, [.int (zI (n : Int)), .ref g1, .ref g2, .ref g3, .ref g4, .ref g5, .int (zI oa), .int (zI dy), .ref s1, .ref s2, .ref s3, .ref s4, .ref s5, .ref s6, .int (zI 0), .int (zI rdg), .int (zI plc), .int (zI ibd), .int (zI stm), .ref t1, .ref t2, .ref t3, .ref c0, .ref c1, .ref c2, .ref c3, .int (zI him), .int (zI pl0), .int (zI itk), ki, .int (zI chd), .int (zI chf), .ref y0, .int (zI sd), .ref y1])), (s1, AI G 8 (fun z_ => ((if kpOk (e : Int) (wt : Int) k f then upN hw (e : Int).toNat (wt : Int).toNat else hw) z_ : Int))), (s2, AI G 8 (fun z_ => ((if kpOk (e : Int) (wt : Int) k f then upN kk (e : Int).toNat (if (wt : Int) = 1 then k.toNat else 0) else kk) z_ : Int))), (s3, AI G 8 (if kpOk (e : Int) (wt : Int) k f then va_up kf (e : Int).toNat (if (wt : Int) = 1 then f else 0) else kf)), (s4, AI G 8 (fun z_ => (rs z_ : Int))), (s5, AI G 8 (fun z_ => (rm z_ : Int))), (s6, AL G 800 rw_)]) (by simp only [if_pos (show kpOk (e : Int) (wt : Int) k f from by simp only [kpOk]; omega), zTN]) ?_
                exact z_iret C hA hQ rfl (Nat.le_of_ble_eq_true rfl) (Nat.le_of_ble_eq_true rfl) (()) (congrArg zI (by unfold oKeep; rw [if_pos (show kpOk (e : Int) (wt : Int) k f from by simp only [kpOk]; omega)])) (sb_e [0, 1, 2, 3, 4, 5, 6] rfl rfl) dX4_keep_100
              · skip
                refine z_iload C dX4_keep_92 4 rfl ?_
                refine z_goto (tgt := 98) C dX4_keep_94 (by decide) ?_
                refine y_iast (q := 3) (t0 := 0) (g := va_up kf e (if (wt : Int) = 1 then f else 0)) (ws' := [(m, .inr (11, [.int (zI (n : Int)), .ref g1, .ref g2, .ref g3, .ref g4, .ref g5, .int (zI oa), .int (zI dy), .ref s1, .ref s2, .ref s3, .ref s4, .ref s5, .ref s6, .int (zI 0), .int (zI rdg), .int (zI plc), .int (zI ibd), .int (zI stm), .ref t1, .ref t2, .ref t3, .ref c0, .ref c1, .ref c2, .ref c3, .int (zI him), .int (zI pl0), .int (zI itk), ki, .int (zI chd), .int (zI chf), .ref y0, .int (zI sd), .ref y1])), (s1, AI G 8 (fun z_ => (upN hw e wt z_ : Int))), (s2, AI G 8 (fun z_ => (upN kk e (if (wt : Int) = 1 then k.toNat else 0) z_ : Int))), (s3, AI G 8 (va_up kf e (if (wt : Int) = 1 then f else 0))), (s4, AI G 8 (fun z_ => (rs z_ : Int))), (s5, AI G 8 (fun z_ => (rm z_ : Int))), (s6, AL G 800 rw_)]) C rfl rfl (by omega) (by decide) (by first | (exfalso; omega) | (congr 1; first | (rw [if_pos (by omega)]; done) | (rw [if_neg (by omega)]; done))) rfl dX4_keep_98 ?_
                refine y_iconst C dX4_keep_99 ?_
                refine z_wsEq (ws' := [(m, .inr (11, [.int (zI (n : Int)), .ref g1, .ref g2, .ref g3, .ref g4, .ref g5, .int (zI oa), .int (zI dy), .ref s1, .ref s2, .ref s3, .ref s4, .ref s5, .ref s6, .int (zI 0), .int (zI rdg), .int (zI plc), .int (zI ibd), .int (zI stm), .ref t1, .ref t2, .ref t3, .ref c0, .ref c1, .ref c2, .ref c3, .int (zI him), .int (zI pl0), .int (zI itk), ki, .int (zI chd), .int (zI chf), .ref y0, .int (zI sd), .ref y1])), (s1, AI G 8 (fun z_ => ((if kpOk (e : Int) (wt : Int) k f then upN hw (e : Int).toNat (wt : Int).toNat else hw) z_ : Int))), (s2, AI G 8 (fun z_ => ((if kpOk (e : Int) (wt : Int) k f then upN kk (e : Int).toNat (if (wt : Int) = 1 then k.toNat else 0) else kk) z_ : Int))), (s3, AI G 8 (if kpOk (e : Int) (wt : Int) k f then va_up kf (e : Int).toNat (if (wt : Int) = 1 then f else 0) else kf)), (s4, AI G 8 (fun z_ => (rs z_ : Int))), (s5, AI G 8 (fun z_ => (rm z_ : Int))), (s6, AL G 800 rw_)]) (by simp only [if_pos (show kpOk (e : Int) (wt : Int) k f from by simp only [kpOk]; omega), zTN]) ?_
                exact z_iret C hA hQ rfl (Nat.le_of_ble_eq_true rfl) (Nat.le_of_ble_eq_true rfl) (()) (congrArg zI (by unfold oKeep; rw [if_pos (show kpOk (e : Int) (wt : Int) k f from by simp only [kpOk]; omega)])) (sb_e [0, 1, 2, 3, 4, 5, 6] rfl rfl) dX4_keep_100
          · skip
            refine y_iconst C dX4_keep_57 ?_
            refine z_wsEq (ws' := [(m, .inr (11, [.int (zI (n : Int)), .ref g1, .ref g2, .ref g3, .ref g4, .ref g5, .int (zI oa), .int (zI dy), .ref s1, .ref s2, .ref s3, .ref s4, .ref s5, .ref s6, .int (zI 0), .int (zI rdg), .int (zI plc), .int (zI ibd), .int (zI stm), .ref t1, .ref t2, .ref t3, .ref c0, .ref c1, .ref c2, .ref c3, .int (zI him), .int (zI pl0), .int (zI itk), ki, .int (zI chd), .int (zI chf), .ref y0, .int (zI sd), .ref y1])), (s1, AI G 8 (fun z_ => ((if kpOk d what k f then upN hw d.toNat what.toNat else hw) z_ : Int))), (s2, AI G 8 (fun z_ => ((if kpOk d what k f then upN kk d.toNat (if what = 1 then k.toNat else 0) else kk) z_ : Int))), (s3, AI G 8 (if kpOk d what k f then va_up kf d.toNat (if what = 1 then f else 0) else kf)), (s4, AI G 8 (fun z_ => (rs z_ : Int))), (s5, AI G 8 (fun z_ => (rm z_ : Int))), (s6, AL G 800 rw_)]) (by simp only [if_neg (show ¬ kpOk d what k f from by simp only [kpOk]; omega)]) ?_
            exact z_iret C hA hQ rfl (Nat.le_of_ble_eq_true rfl) (Nat.le_of_ble_eq_true rfl) (()) (congrArg zI (by unfold oKeep; rw [if_neg (show ¬ kpOk d what k f from by simp only [kpOk]; omega)])) (sb_e [0, 1, 2, 3, 4, 5, 6] rfl rfl) dX4_keep_58

