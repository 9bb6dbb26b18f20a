/-! ROWS on the component's side: sizes, elements, sorts -/
set_option maxRecDepth 100000
set_option maxHeartbeats 4000000 in
theorem ct_X1_sizeOf_0 (l : Launch) (G : ZG) (w : Nat) (n : Nat) (f : Nat → Int) (hn : n ≤ 100) : CT l yX1_sizeOf cX1_sizeOf 1 (some .int) { frames := 0, cells := 0, slots := 0, locals := 0 } G [.ref w] [(w, .inl (G.2.2 2, n, .inl (IA f)))] (Qi G [(w, .inl (G.2.2 2, n, .inl (IA f)))] (fun (r : Int32) (u : Unit) => r = zI (n : Int)) (fun u => [(w, .inl (G.2.2 2, n, .inl (IA f)))])) := by
  refine z_met (by decide) (Nat.le_of_ble_eq_true rfl) ?_
  intro X A hl0 hA C hQ hin
  subst hl0
  show Z X _ G 0 0 _ 0 [(0, .ref w)] []
  refine z_aload_n C dX1_sizeOf_0 rfl 0 rfl ?_
  refine z_instA (q := 0) C q192 rfl ((z_nm (t0 := 2) C).1 rfl) dX1_sizeOf_1 ?_
  refine y_if_eq (tgt := 15) C (by omega) dX1_sizeOf_4 (by decide) (fun c_4 => ?_) (fun c_4 => ?_)
  · skip
    exact absurd c_4 (by decide)
  · skip
    refine z_aload_n C dX1_sizeOf_7 rfl 0 rfl ?_
    refine z_castA (q := 0) C q192 rfl ((z_nm (t0 := 2) C).1 rfl) dX1_sizeOf_8 ?_
    refine y_alen (q := 0) (t0 := 2) (v := (n : Int)) C rfl rfl rfl dX1_sizeOf_11 ?_
    refine z_goto (tgt := 35) C dX1_sizeOf_12 (by decide) ?_
    exact z_iret C hA hQ rfl (Nat.le_of_ble_eq_true rfl) (Nat.le_of_ble_eq_true rfl) (()) (rfl) (sb_e [0] rfl rfl) dX1_sizeOf_35

set_option maxHeartbeats 4000000 in
theorem ct_X1_sizeOf_1 (l : Launch) (G : ZG) (w : Nat) (n : Nat) (f : Nat → Int) (hn : n ≤ 100) : CT l yX1_sizeOf cX1_sizeOf 1 (some .int) { frames := 0, cells := 0, slots := 0, locals := 0 } G [.ref w] [(w, .inl (G.2.2 3, n, .inl (IA f)))] (Qi G [(w, .inl (G.2.2 3, n, .inl (IA f)))] (fun (r : Int32) (u : Unit) => r = zI (n : Int)) (fun u => [(w, .inl (G.2.2 3, n, .inl (IA f)))])) := by
  refine z_met (by decide) (Nat.le_of_ble_eq_true rfl) ?_
  intro X A hl0 hA C hQ hin
  subst hl0
  show Z X _ G 0 0 _ 0 [(0, .ref w)] []
  refine z_aload_n C dX1_sizeOf_0 rfl 0 rfl ?_
  refine z_instNo (q := 0) C q192 rfl ((z_nm (t0 := 3) C).2.1 rfl) (gc_28 C.gk.2.2.1) dX1_sizeOf_1 ?_
  refine y_if_eq (tgt := 15) C (by omega) dX1_sizeOf_4 (by decide) (fun c_4 => ?_) (fun c_4 => ?_)
  · skip
    refine z_aload_n C dX1_sizeOf_15 rfl 0 rfl ?_
    refine z_instA (q := 0) C q733 rfl ((z_nm (t0 := 3) C).2.1 rfl) dX1_sizeOf_16 ?_
    refine y_if_eq (tgt := 30) C (by omega) dX1_sizeOf_19 (by decide) (fun c_19 => ?_) (fun c_19 => ?_)
    · skip
      exact absurd c_19 (by decide)
    · skip
      refine z_aload_n C dX1_sizeOf_22 rfl 0 rfl ?_
      refine z_castA (q := 0) C q733 rfl ((z_nm (t0 := 3) C).2.1 rfl) dX1_sizeOf_23 ?_
      refine y_alen (q := 0) (t0 := 3) (v := (n : Int)) C rfl rfl rfl dX1_sizeOf_26 ?_
      refine z_goto (tgt := 35) C dX1_sizeOf_27 (by decide) ?_
      exact z_iret C hA hQ rfl (Nat.le_of_ble_eq_true rfl) (Nat.le_of_ble_eq_true rfl) (()) (rfl) (sb_e [0] rfl rfl) dX1_sizeOf_35
  · skip
    exact absurd c_4 (by decide)

set_option maxHeartbeats 4000000 in
theorem ct_X1_sizeOf_2 (l : Launch) (G : ZG) (w : Nat) (n : Nat) (f : Nat → Int) (hn : n ≤ 100) : CT l yX1_sizeOf cX1_sizeOf 1 (some .int) { frames := 0, cells := 0, slots := 0, locals := 0 } G [.ref w] [(w, AI G n f)] (Qi G [(w, AI G n f)] (fun (r : Int32) (u : Unit) => r = zI (n : Int)) (fun u => [(w, AI G n f)])) := by
  refine z_met (by decide) (Nat.le_of_ble_eq_true rfl) ?_
  intro X A hl0 hA C hQ hin
  subst hl0
  show Z X _ G 0 0 _ 0 [(0, .ref w)] []
  refine z_aload_n C dX1_sizeOf_0 rfl 0 rfl ?_
  refine z_instNo (q := 0) C q192 rfl ((z_nm (t0 := 0) C).2.2 rfl) (gc_31 C.gk.2.2.1) dX1_sizeOf_1 ?_
  refine y_if_eq (tgt := 15) C (by omega) dX1_sizeOf_4 (by decide) (fun c_4 => ?_) (fun c_4 => ?_)
  · skip
    refine z_aload_n C dX1_sizeOf_15 rfl 0 rfl ?_
    refine z_instNo (q := 0) C q733 rfl ((z_nm (t0 := 0) C).2.2 rfl) (gc_32 C.gk.2.2.1) dX1_sizeOf_16 ?_
    refine y_if_eq (tgt := 30) C (by omega) dX1_sizeOf_19 (by decide) (fun c_19 => ?_) (fun c_19 => ?_)
    · skip
      refine z_aload_n C dX1_sizeOf_30 rfl 0 rfl ?_
      refine z_castA (q := 0) C q734 rfl ((z_nm (t0 := 0) C).2.2 rfl) dX1_sizeOf_31 ?_
      refine y_alen (q := 0) (t0 := 0) (v := (n : Int)) C rfl rfl rfl dX1_sizeOf_34 ?_
      exact z_iret C hA hQ rfl (Nat.le_of_ble_eq_true rfl) (Nat.le_of_ble_eq_true rfl) (()) (rfl) (sb_e [0] rfl rfl) dX1_sizeOf_35
    · skip
      exact absurd c_19 (by decide)
  · skip
    exact absurd c_4 (by decide)

set_option maxHeartbeats 4000000 in
theorem ct_X1_elementOf_0 (l : Launch) (G : ZG) (w : Nat) (n : Nat) (f : Nat → Int) (k : Nat) (hn : n ≤ 100) (hk : k < n) : CT l yX1_elementOf cX1_elementOf 2 (some .int) { frames := 0, cells := 0, slots := 0, locals := 0 } G [.ref w, .int (zI (k : Int))] [(w, .inl (G.2.2 2, n, .inl (IA f)))] (Qi G [(w, .inl (G.2.2 2, n, .inl (IA f)))] (fun (r : Int32) (u : Unit) => r = zI (f k)) (fun u => [(w, .inl (G.2.2 2, n, .inl (IA f)))])) := by
  refine z_met (by decide) (Nat.le_of_ble_eq_true rfl) ?_
  intro X A hl0 hA C hQ hin
  subst hl0
  show Z X _ G 0 0 _ 0 [(0, .ref w), (1, .int (zI (k : Int)))] []
  refine z_aload_n C dX1_elementOf_0 rfl 0 rfl ?_
  refine z_instA (q := 0) C q192 rfl ((z_nm (t0 := 2) C).1 rfl) dX1_elementOf_1 ?_
  refine y_if_eq (tgt := 16) C (by omega) dX1_elementOf_4 (by decide) (fun c_4 => ?_) (fun c_4 => ?_)
  · skip
    exact absurd c_4 (by decide)
  · skip
    refine z_aload_n C dX1_elementOf_7 rfl 0 rfl ?_
    refine z_castA (q := 0) C q192 rfl ((z_nm (t0 := 2) C).1 rfl) dX1_elementOf_8 ?_
    refine z_iload_n C dX1_elementOf_11 rfl 1 rfl ?_
    refine y_bald (q := 0) (t0 := 2) (v := f k) C rfl rfl (by omega) (by omega) rfl dX1_elementOf_12 ?_
    refine z_goto (tgt := 38) C dX1_elementOf_13 (by decide) ?_
    exact z_iret C hA hQ rfl (Nat.le_of_ble_eq_true rfl) (Nat.le_of_ble_eq_true rfl) (()) (rfl) (sb_e [0] rfl rfl) dX1_elementOf_38

set_option maxHeartbeats 4000000 in
theorem ct_X1_leastElement_0 (l : Launch) (G : ZG) (w : Nat) (n : Nat) (f : Nat → Int)  : CT l yX1_leastElement cX1_leastElement 1 (some .int) { frames := 0, cells := 0, slots := 0, locals := 0 } G [.ref w] [(w, .inl (G.2.2 2, n, .inl (IA f)))] (Qi G [(w, .inl (G.2.2 2, n, .inl (IA f)))] (fun (r : Int32) (u : Unit) => r = zI (skZ 0)) (fun u => [(w, .inl (G.2.2 2, n, .inl (IA f)))])) := by
  refine z_met (by decide) (Nat.le_of_ble_eq_true rfl) ?_
  intro X A hl0 hA C hQ hin
  subst hl0
  show Z X _ G 0 0 _ 0 [(0, .ref w)] []
  refine z_aload_n C dX1_leastElement_0 rfl 0 rfl ?_
  refine z_instA (q := 0) C q192 rfl ((z_nm (t0 := 2) C).1 rfl) dX1_leastElement_1 ?_
  refine y_if_eq (tgt := 12) C (by omega) dX1_leastElement_4 (by decide) (fun c_4 => ?_) (fun c_4 => ?_)
  · skip
    exact absurd c_4 (by decide)
  · skip
    refine y_bipush C dX1_leastElement_7 (by decide) ?_
    refine z_goto (tgt := 27) C dX1_leastElement_9 (by decide) ?_
    exact z_iret C hA hQ rfl (Nat.le_of_ble_eq_true rfl) (Nat.le_of_ble_eq_true rfl) (()) (congrArg zI (by decide)) (sb_e [0] rfl rfl) dX1_leastElement_27

set_option maxHeartbeats 4000000 in
theorem ct_X1_sortOf_0 (l : Launch) (G : ZG) (w : Nat) (n : Nat) (f : Nat → Int)  : CT l yX1_sortOf cX1_sortOf 1 (some .int) { frames := 0, cells := 0, slots := 0, locals := 0 } G [.ref w] [(w, .inl (G.2.2 2, n, .inl (IA f)))] (Qi G [(w, .inl (G.2.2 2, n, .inl (IA f)))] (fun (r : Int32) (u : Unit) => r = zI 0) (fun u => [(w, .inl (G.2.2 2, n, .inl (IA f)))])) := by
  refine z_met (by decide) (Nat.le_of_ble_eq_true rfl) ?_
  intro X A hl0 hA C hQ hin
  subst hl0
  show Z X _ G 0 0 _ 0 [(0, .ref w)] []
  refine z_aload_n C dX1_sortOf_0 rfl 0 rfl ?_
  refine z_instA (q := 0) C q192 rfl ((z_nm (t0 := 2) C).1 rfl) dX1_sortOf_1 ?_
  refine y_if_eq (tgt := 11) C (by omega) dX1_sortOf_4 (by decide) (fun c_4 => ?_) (fun c_4 => ?_)
  · skip
    exact absurd c_4 (by decide)
  · skip
    refine y_iconst C dX1_sortOf_7 ?_
    refine z_goto (tgt := 34) C dX1_sortOf_8 (by decide) ?_
    exact z_iret C hA hQ rfl (Nat.le_of_ble_eq_true rfl) (Nat.le_of_ble_eq_true rfl) (()) (rfl) (sb_e [0] rfl rfl) dX1_sortOf_34

set_option maxHeartbeats 4000000 in
theorem ct_X1_elementOf_1 (l : Launch) (G : ZG) (w : Nat) (n : Nat) (f : Nat → Int) (k : Nat) (hn : n ≤ 100) (hk : k < n) : CT l yX1_elementOf cX1_elementOf 2 (some .int) { frames := 0, cells := 0, slots := 0, locals := 0 } G [.ref w, .int (zI (k : Int))] [(w, .inl (G.2.2 3, n, .inl (IA f)))] (Qi G [(w, .inl (G.2.2 3, n, .inl (IA f)))] (fun (r : Int32) (u : Unit) => r = zI (f k)) (fun u => [(w, .inl (G.2.2 3, n, .inl (IA f)))])) := by
  refine z_met (by decide) (Nat.le_of_ble_eq_true rfl) ?_
  intro X A hl0 hA C hQ hin
  subst hl0
  show Z X _ G 0 0 _ 0 [(0, .ref w), (1, .int (zI (k : Int)))] []
  refine z_aload_n C dX1_elementOf_0 rfl 0 rfl ?_
  refine z_instNo (q := 0) C q192 rfl ((z_nm (t0 := 3) C).2.1 rfl) (gc_28 C.gk.2.2.1) dX1_elementOf_1 ?_
  refine y_if_eq (tgt := 16) C (by omega) dX1_elementOf_4 (by decide) (fun c_4 => ?_) (fun c_4 => ?_)
  · skip
    refine z_aload_n C dX1_elementOf_16 rfl 0 rfl ?_
    refine z_instA (q := 0) C q733 rfl ((z_nm (t0 := 3) C).2.1 rfl) dX1_elementOf_17 ?_
    refine y_if_eq (tgt := 32) C (by omega) dX1_elementOf_20 (by decide) (fun c_20 => ?_) (fun c_20 => ?_)
    · skip
      exact absurd c_20 (by decide)
    · skip
      refine z_aload_n C dX1_elementOf_23 rfl 0 rfl ?_
      refine z_castA (q := 0) C q733 rfl ((z_nm (t0 := 3) C).2.1 rfl) dX1_elementOf_24 ?_
      refine z_iload_n C dX1_elementOf_27 rfl 1 rfl ?_
      refine y_sald (q := 0) (t0 := 3) (v := f k) C rfl rfl (by omega) (by omega) rfl dX1_elementOf_28 ?_
      refine z_goto (tgt := 38) C dX1_elementOf_29 (by decide) ?_
      exact z_iret C hA hQ rfl (Nat.le_of_ble_eq_true rfl) (Nat.le_of_ble_eq_true rfl) (()) (rfl) (sb_e [0] rfl rfl) dX1_elementOf_38
  · skip
    exact absurd c_4 (by decide)

set_option maxHeartbeats 4000000 in
theorem ct_X1_leastElement_1 (l : Launch) (G : ZG) (w : Nat) (n : Nat) (f : Nat → Int)  : CT l yX1_leastElement cX1_leastElement 1 (some .int) { frames := 0, cells := 0, slots := 0, locals := 0 } G [.ref w] [(w, .inl (G.2.2 3, n, .inl (IA f)))] (Qi G [(w, .inl (G.2.2 3, n, .inl (IA f)))] (fun (r : Int32) (u : Unit) => r = zI (skZ 1)) (fun u => [(w, .inl (G.2.2 3, n, .inl (IA f)))])) := by
  refine z_met (by decide) (Nat.le_of_ble_eq_true rfl) ?_
  intro X A hl0 hA C hQ hin
  subst hl0
  show Z X _ G 0 0 _ 0 [(0, .ref w)] []
  refine z_aload_n C dX1_leastElement_0 rfl 0 rfl ?_
  refine z_instNo (q := 0) C q192 rfl ((z_nm (t0 := 3) C).2.1 rfl) (gc_28 C.gk.2.2.1) dX1_leastElement_1 ?_
  refine y_if_eq (tgt := 12) C (by omega) dX1_leastElement_4 (by decide) (fun c_4 => ?_) (fun c_4 => ?_)
  · skip
    refine z_aload_n C dX1_leastElement_12 rfl 0 rfl ?_
    refine z_instA (q := 0) C q733 rfl ((z_nm (t0 := 3) C).2.1 rfl) dX1_leastElement_13 ?_
    refine y_if_eq (tgt := 25) C (by omega) dX1_leastElement_16 (by decide) (fun c_16 => ?_) (fun c_16 => ?_)
    · skip
      exact absurd c_16 (by decide)
    · skip
      refine y_sipush C dX1_leastElement_19 (by decide) ?_
      refine z_goto (tgt := 27) C dX1_leastElement_22 (by decide) ?_
      exact z_iret C hA hQ rfl (Nat.le_of_ble_eq_true rfl) (Nat.le_of_ble_eq_true rfl) (()) (congrArg zI (by decide)) (sb_e [0] rfl rfl) dX1_leastElement_27
  · skip
    exact absurd c_4 (by decide)

set_option maxHeartbeats 4000000 in
theorem ct_X1_sortOf_1 (l : Launch) (G : ZG) (w : Nat) (n : Nat) (f : Nat → Int)  : CT l yX1_sortOf cX1_sortOf 1 (some .int) { frames := 0, cells := 0, slots := 0, locals := 0 } G [.ref w] [(w, .inl (G.2.2 3, n, .inl (IA f)))] (Qi G [(w, .inl (G.2.2 3, n, .inl (IA f)))] (fun (r : Int32) (u : Unit) => r = zI 1) (fun u => [(w, .inl (G.2.2 3, n, .inl (IA f)))])) := by
  refine z_met (by decide) (Nat.le_of_ble_eq_true rfl) ?_
  intro X A hl0 hA C hQ hin
  subst hl0
  show Z X _ G 0 0 _ 0 [(0, .ref w)] []
  refine z_aload_n C dX1_sortOf_0 rfl 0 rfl ?_
  refine z_instNo (q := 0) C q192 rfl ((z_nm (t0 := 3) C).2.1 rfl) (gc_28 C.gk.2.2.1) dX1_sortOf_1 ?_
  refine y_if_eq (tgt := 11) C (by omega) dX1_sortOf_4 (by decide) (fun c_4 => ?_) (fun c_4 => ?_)
  · skip
    refine z_aload_n C dX1_sortOf_11 rfl 0 rfl ?_
    refine z_instA (q := 0) C q733 rfl ((z_nm (t0 := 3) C).2.1 rfl) dX1_sortOf_12 ?_
    refine y_if_eq (tgt := 22) C (by omega) dX1_sortOf_15 (by decide) (fun c_15 => ?_) (fun c_15 => ?_)
    · skip
      exact absurd c_15 (by decide)
    · skip
      refine y_iconst C dX1_sortOf_18 ?_
      refine z_goto (tgt := 34) C dX1_sortOf_19 (by decide) ?_
      exact z_iret C hA hQ rfl (Nat.le_of_ble_eq_true rfl) (Nat.le_of_ble_eq_true rfl) (()) (rfl) (sb_e [0] rfl rfl) dX1_sortOf_34
  · skip
    exact absurd c_4 (by decide)

set_option maxHeartbeats 4000000 in
theorem ct_X1_elementOf_2 (l : Launch) (G : ZG) (w : Nat) (n : Nat) (f : Nat → Int) (k : Nat) (hn : n ≤ 100) (hk : k < n) : CT l yX1_elementOf cX1_elementOf 2 (some .int) { frames := 0, cells := 0, slots := 0, locals := 0 } G [.ref w, .int (zI (k : Int))] [(w, AI G n f)] (Qi G [(w, AI G n f)] (fun (r : Int32) (u : Unit) => r = zI (f k)) (fun u => [(w, AI G n f)])) := by
  refine z_met (by decide) (Nat.le_of_ble_eq_true rfl) ?_
  intro X A hl0 hA C hQ hin
  subst hl0
  show Z X _ G 0 0 _ 0 [(0, .ref w), (1, .int (zI (k : Int)))] []
  refine z_aload_n C dX1_elementOf_0 rfl 0 rfl ?_
  refine z_instNo (q := 0) C q192 rfl ((z_nm (t0 := 0) C).2.2 rfl) (gc_31 C.gk.2.2.1) dX1_elementOf_1 ?_
  refine y_if_eq (tgt := 16) C (by omega) dX1_elementOf_4 (by decide) (fun c_4 => ?_) (fun c_4 => ?_)
  · skip
    refine z_aload_n C dX1_elementOf_16 rfl 0 rfl ?_
    refine z_instNo (q := 0) C q733 rfl ((z_nm (t0 := 0) C).2.2 rfl) (gc_32 C.gk.2.2.1) dX1_elementOf_17 ?_
    refine y_if_eq (tgt := 32) C (by omega) dX1_elementOf_20 (by decide) (fun c_20 => ?_) (fun c_20 => ?_)
    · skip
      refine z_aload_n C dX1_elementOf_32 rfl 0 rfl ?_
      refine z_castA (q := 0) C q734 rfl ((z_nm (t0 := 0) C).2.2 rfl) dX1_elementOf_33 ?_
      refine z_iload_n C dX1_elementOf_36 rfl 1 rfl ?_
      refine y_iald (q := 0) (t0 := 0) (v := f k) C rfl rfl (by omega) (by omega) rfl dX1_elementOf_37 ?_
      exact z_iret C hA hQ rfl (Nat.le_of_ble_eq_true rfl) (Nat.le_of_ble_eq_true rfl) (()) (rfl) (sb_e [0] rfl rfl) dX1_elementOf_38
    · skip
      exact absurd c_20 (by decide)
  · skip
    exact absurd c_4 (by decide)

set_option maxHeartbeats 4000000 in
theorem ct_X1_leastElement_2 (l : Launch) (G : ZG) (w : Nat) (n : Nat) (f : Nat → Int)  : CT l yX1_leastElement cX1_leastElement 1 (some .int) { frames := 0, cells := 0, slots := 0, locals := 0 } G [.ref w] [(w, AI G n f)] (Qi G [(w, AI G n f)] (fun (r : Int32) (u : Unit) => r = zI (skZ 2)) (fun u => [(w, AI G n f)])) := by
  refine z_met (by decide) (Nat.le_of_ble_eq_true rfl) ?_
  intro X A hl0 hA C hQ hin
  subst hl0
  show Z X _ G 0 0 _ 0 [(0, .ref w)] []
  refine z_aload_n C dX1_leastElement_0 rfl 0 rfl ?_
  refine z_instNo (q := 0) C q192 rfl ((z_nm (t0 := 0) C).2.2 rfl) (gc_31 C.gk.2.2.1) dX1_leastElement_1 ?_
  refine y_if_eq (tgt := 12) C (by omega) dX1_leastElement_4 (by decide) (fun c_4 => ?_) (fun c_4 => ?_)
  · skip
    refine z_aload_n C dX1_leastElement_12 rfl 0 rfl ?_
    refine z_instNo (q := 0) C q733 rfl ((z_nm (t0 := 0) C).2.2 rfl) (gc_32 C.gk.2.2.1) dX1_leastElement_13 ?_
    refine y_if_eq (tgt := 25) C (by omega) dX1_leastElement_16 (by decide) (fun c_16 => ?_) (fun c_16 => ?_)
    · skip
      refine z_ldc C q751 dX1_leastElement_25 ?_
      refine z_eqi (y := zI (-2147483648)) (by decide) ?_
      exact z_iret C hA hQ rfl (Nat.le_of_ble_eq_true rfl) (Nat.le_of_ble_eq_true rfl) (()) (congrArg zI (by decide)) (sb_e [0] rfl rfl) dX1_leastElement_27
    · skip
      exact absurd c_16 (by decide)
  · skip
    exact absurd c_4 (by decide)

set_option maxHeartbeats 4000000 in
theorem ct_X1_sortOf_2 (l : Launch) (G : ZG) (w : Nat) (n : Nat) (f : Nat → Int)  : CT l yX1_sortOf cX1_sortOf 1 (some .int) { frames := 0, cells := 0, slots := 0, locals := 0 } G [.ref w] [(w, AI G n f)] (Qi G [(w, AI G n f)] (fun (r : Int32) (u : Unit) => r = zI 2) (fun u => [(w, AI G n f)])) := by
  refine z_met (by decide) (Nat.le_of_ble_eq_true rfl) ?_
  intro X A hl0 hA C hQ hin
  subst hl0
  show Z X _ G 0 0 _ 0 [(0, .ref w)] []
  refine z_aload_n C dX1_sortOf_0 rfl 0 rfl ?_
  refine z_instNo (q := 0) C q192 rfl ((z_nm (t0 := 0) C).2.2 rfl) (gc_31 C.gk.2.2.1) dX1_sortOf_1 ?_
  refine y_if_eq (tgt := 11) C (by omega) dX1_sortOf_4 (by decide) (fun c_4 => ?_) (fun c_4 => ?_)
  · skip
    refine z_aload_n C dX1_sortOf_11 rfl 0 rfl ?_
    refine z_instNo (q := 0) C q733 rfl ((z_nm (t0 := 0) C).2.2 rfl) (gc_32 C.gk.2.2.1) dX1_sortOf_12 ?_
    refine y_if_eq (tgt := 22) C (by omega) dX1_sortOf_15 (by decide) (fun c_15 => ?_) (fun c_15 => ?_)
    · skip
      refine z_aload_n C dX1_sortOf_22 rfl 0 rfl ?_
      refine z_instA (q := 0) C q734 rfl ((z_nm (t0 := 0) C).2.2 rfl) dX1_sortOf_23 ?_
      refine y_if_eq (tgt := 33) C (by omega) dX1_sortOf_26 (by decide) (fun c_26 => ?_) (fun c_26 => ?_)
      · skip
        exact absurd c_26 (by decide)
      · skip
        refine y_iconst C dX1_sortOf_29 ?_
        refine z_goto (tgt := 34) C dX1_sortOf_30 (by decide) ?_
        exact z_iret C hA hQ rfl (Nat.le_of_ble_eq_true rfl) (Nat.le_of_ble_eq_true rfl) (()) (rfl) (sb_e [0] rfl rfl) dX1_sortOf_34
    · skip
      exact absurd c_15 (by decide)
  · skip
    exact absurd c_4 (by decide)

set_option maxHeartbeats 4000000 in
theorem ct_X1_isSkipped_0 (l : Launch) (G : ZG) (w : Nat) (n : Nat) (f : Nat → Int) (k : Nat) (hn : n ≤ 100) (hk : k < n) (hr : -2147483648 ≤ f k ∧ f k ≤ 2147483647) : CT l yX1_isSkipped cX1_isSkipped 2 (some .boolean) { frames := 1, cells := 0, slots := 0, locals := 21 } G [.ref w, .int (zI (k : Int))] [(w, .inl (G.2.2 2, n, .inl (IA f)))] (Qi G [(w, .inl (G.2.2 2, n, .inl (IA f)))] (fun (r : Int32) (u : Unit) => r = zI (bI (f k = skZ 0))) (fun u => [(w, .inl (G.2.2 2, n, .inl (IA f)))])) := by
  refine z_met (by decide) (Nat.le_of_ble_eq_true rfl) ?_
  intro X A hl0 hA C hQ hin
  subst hl0
  show Z X _ G 0 0 _ 0 [(0, .ref w), (1, .int (zI (k : Int)))] []
  refine z_aload_n C dX1_isSkipped_0 rfl 0 rfl ?_
  refine z_iload_n C dX1_isSkipped_1 rfl 1 rfl ?_
  refine z_i C (z_runS (As := [.ref w, .int (zI (k : Int))]) (rest := []) C (ct_X1_elementOf_0 (zl X) G w n f k (by first | assumption | omega) (by first | assumption | omega)) (lw_S q745 q746 q58 q747) (sb_e [0] rfl rfl) (na := 2) (by decide +kernel) rfl (zrm rfl rfl (rfl) (rfl)) rfl (Nat.le_of_ble_eq_true rfl) dX1_isSkipped_2) (fun u => jn_ro (sb_e [0] rfl rfl)) (fun r_2 u hp_2 => ?_)
  have hp_2 : r_2 = zI (f k) := hp_2
  subst hp_2
  refine z_aload_n C dX1_isSkipped_5 rfl 0 rfl ?_
  refine z_i C (z_runS (As := [.ref w]) (rest := [.int (zI (f k))]) C (ct_X1_leastElement_0 (zl X) G w n f ) (lw_S q748 q749 q58 q750) (sb_e [0] rfl rfl) (na := 1) (by decide +kernel) rfl (zrm rfl rfl (rfl) (rfl)) rfl (Nat.le_of_ble_eq_true rfl) dX1_isSkipped_6) (fun u => jn_ro (sb_e [0] rfl rfl)) (fun r_6 u hp_6 => ?_)
  have hp_6 : r_6 = zI (skZ 0) := hp_6
  subst hp_6
  have hsk := skZ_r 0
  refine y_icmp_ne (tgt := 16) C (by omega) (by omega) dX1_isSkipped_9 (by decide) (fun c_9 => ?_) (fun c_9 => ?_)
  · skip
    refine y_iconst C dX1_isSkipped_16 ?_
    exact z_zret C hA hQ rfl (Nat.le_of_ble_eq_true rfl) (Nat.le_of_ble_eq_true rfl) (()) (congrArg zI (bI_f (by omega)).symm) (rfl) (sb_e [0] rfl rfl) dX1_isSkipped_17
  · skip
    refine y_iconst C dX1_isSkipped_12 ?_
    refine z_goto (tgt := 17) C dX1_isSkipped_13 (by decide) ?_
    exact z_zret C hA hQ rfl (Nat.le_of_ble_eq_true rfl) (Nat.le_of_ble_eq_true rfl) (()) (congrArg zI (bI_t (by omega)).symm) (rfl) (sb_e [0] rfl rfl) dX1_isSkipped_17

set_option maxHeartbeats 4000000 in
theorem ct_X1_isSkipped_1 (l : Launch) (G : ZG) (w : Nat) (n : Nat) (f : Nat → Int) (k : Nat) (hn : n ≤ 100) (hk : k < n) (hr : -2147483648 ≤ f k ∧ f k ≤ 2147483647) : CT l yX1_isSkipped cX1_isSkipped 2 (some .boolean) { frames := 1, cells := 0, slots := 0, locals := 21 } G [.ref w, .int (zI (k : Int))] [(w, .inl (G.2.2 3, n, .inl (IA f)))] (Qi G [(w, .inl (G.2.2 3, n, .inl (IA f)))] (fun (r : Int32) (u : Unit) => r = zI (bI (f k = skZ 1))) (fun u => [(w, .inl (G.2.2 3, n, .inl (IA f)))])) := by
  refine z_met (by decide) (Nat.le_of_ble_eq_true rfl) ?_
  intro X A hl0 hA C hQ hin
  subst hl0
  show Z X _ G 0 0 _ 0 [(0, .ref w), (1, .int (zI (k : Int)))] []
  refine z_aload_n C dX1_isSkipped_0 rfl 0 rfl ?_
  refine z_iload_n C dX1_isSkipped_1 rfl 1 rfl ?_
  refine z_i C (z_runS (As := [.ref w, .int (zI (k : Int))]) (rest := []) C (ct_X1_elementOf_1 (zl X) G w n f k (by first | assumption | omega) (by first | assumption | omega)) (lw_S q745 q746 q58 q747) (sb_e [0] rfl rfl) (na := 2) (by decide +kernel) rfl (zrm rfl rfl (rfl) (rfl)) rfl (Nat.le_of_ble_eq_true rfl) dX1_isSkipped_2) (fun u => jn_ro (sb_e [0] rfl rfl)) (fun r_2 u hp_2 => ?_)
  have hp_2 : r_2 = zI (f k) := hp_2
  subst hp_2
  refine z_aload_n C dX1_isSkipped_5 rfl 0 rfl ?_
  refine z_i C (z_runS (As := [.ref w]) (rest := [.int (zI (f k))]) C (ct_X1_leastElement_1 (zl X) G w n f ) (lw_S q748 q749 q58 q750) (sb_e [0] rfl rfl) (na := 1) (by decide +kernel) rfl (zrm rfl rfl (rfl) (rfl)) rfl (Nat.le_of_ble_eq_true rfl) dX1_isSkipped_6) (fun u => jn_ro (sb_e [0] rfl rfl)) (fun r_6 u hp_6 => ?_)
  have hp_6 : r_6 = zI (skZ 1) := hp_6
  subst hp_6
  have hsk := skZ_r 1
  refine y_icmp_ne (tgt := 16) C (by omega) (by omega) dX1_isSkipped_9 (by decide) (fun c_9 => ?_) (fun c_9 => ?_)
  · skip
    refine y_iconst C dX1_isSkipped_16 ?_
    exact z_zret C hA hQ rfl (Nat.le_of_ble_eq_true rfl) (Nat.le_of_ble_eq_true rfl) (()) (congrArg zI (bI_f (by omega)).symm) (rfl) (sb_e [0] rfl rfl) dX1_isSkipped_17
  · skip
    refine y_iconst C dX1_isSkipped_12 ?_
    refine z_goto (tgt := 17) C dX1_isSkipped_13 (by decide) ?_
    exact z_zret C hA hQ rfl (Nat.le_of_ble_eq_true rfl) (Nat.le_of_ble_eq_true rfl) (()) (congrArg zI (bI_t (by omega)).symm) (rfl) (sb_e [0] rfl rfl) dX1_isSkipped_17

set_option maxHeartbeats 4000000 in
theorem ct_X1_isSkipped_2 (l : Launch) (G : ZG) (w : Nat) (n : Nat) (f : Nat → Int) (k : Nat) (hn : n ≤ 100) (hk : k < n) (hr : -2147483648 ≤ f k ∧ f k ≤ 2147483647) : CT l yX1_isSkipped cX1_isSkipped 2 (some .boolean) { frames := 1, cells := 0, slots := 0, locals := 21 } G [.ref w, .int (zI (k : Int))] [(w, AI G n f)] (Qi G [(w, AI G n f)] (fun (r : Int32) (u : Unit) => r = zI (bI (f k = skZ 2))) (fun u => [(w, AI G n f)])) := by
  refine z_met (by decide) (Nat.le_of_ble_eq_true rfl) ?_
  intro X A hl0 hA C hQ hin
  subst hl0
  show Z X _ G 0 0 _ 0 [(0, .ref w), (1, .int (zI (k : Int)))] []
  refine z_aload_n C dX1_isSkipped_0 rfl 0 rfl ?_
  refine z_iload_n C dX1_isSkipped_1 rfl 1 rfl ?_
  refine z_i C (z_runS (As := [.ref w, .int (zI (k : Int))]) (rest := []) C (ct_X1_elementOf_2 (zl X) G w n f k (by first | assumption | omega) (by first | assumption | omega)) (lw_S q745 q746 q58 q747) (sb_e [0] rfl rfl) (na := 2) (by decide +kernel) rfl (zrm rfl rfl (rfl) (rfl)) rfl (Nat.le_of_ble_eq_true rfl) dX1_isSkipped_2) (fun u => jn_ro (sb_e [0] rfl rfl)) (fun r_2 u hp_2 => ?_)
  have hp_2 : r_2 = zI (f k) := hp_2
  subst hp_2
  refine z_aload_n C dX1_isSkipped_5 rfl 0 rfl ?_
  refine z_i C (z_runS (As := [.ref w]) (rest := [.int (zI (f k))]) C (ct_X1_leastElement_2 (zl X) G w n f ) (lw_S q748 q749 q58 q750) (sb_e [0] rfl rfl) (na := 1) (by decide +kernel) rfl (zrm rfl rfl (rfl) (rfl)) rfl (Nat.le_of_ble_eq_true rfl) dX1_isSkipped_6) (fun u => jn_ro (sb_e [0] rfl rfl)) (fun r_6 u hp_6 => ?_)
  have hp_6 : r_6 = zI (skZ 2) := hp_6
  subst hp_6
  have hsk := skZ_r 2
  refine y_icmp_ne (tgt := 16) C (by omega) (by omega) dX1_isSkipped_9 (by decide) (fun c_9 => ?_) (fun c_9 => ?_)
  · skip
    refine y_iconst C dX1_isSkipped_16 ?_
    exact z_zret C hA hQ rfl (Nat.le_of_ble_eq_true rfl) (Nat.le_of_ble_eq_true rfl) (()) (congrArg zI (bI_f (by omega)).symm) (rfl) (sb_e [0] rfl rfl) dX1_isSkipped_17
  · skip
    refine y_iconst C dX1_isSkipped_12 ?_
    refine z_goto (tgt := 17) C dX1_isSkipped_13 (by decide) ?_
    exact z_zret C hA hQ rfl (Nat.le_of_ble_eq_true rfl) (Nat.le_of_ble_eq_true rfl) (()) (congrArg zI (bI_t (by omega)).symm) (rfl) (sb_e [0] rfl rfl) dX1_isSkipped_17

