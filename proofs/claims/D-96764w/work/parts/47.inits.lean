/-! CONSTRUCTORS -/
set_option maxRecDepth 100000
set_option maxHeartbeats 4000000 in
theorem ct_X4_init (l : Launch) (G : ZG) (m : Nat)  : CT l yX4_init cX4_init 1 none { frames := 1, cells := 20, slots := 1437, locals := 12 } G [.ref m] [(m, .inr (11, [.int (zI 0), .null, .null, .null, .null, .null, .int (zI 0), .int (zI 0), .null, .null, .null, .null, .null, .null, .int (zI 0), .int (zI 0), .int (zI 0), .int (zI 0), .int (zI 0), .null, .null, .null, .null, .null, .null, .null, .int (zI 0), .int (zI 0), .int (zI 0), .null, .int (zI 0), .int (zI 0), .null, .int (zI 0), .null]))] (Qv G [(m, .inr (11, [.int (zI 0), .null, .null, .null, .null, .null, .int (zI 0), .int (zI 0), .null, .null, .null, .null, .null, .null, .int (zI 0), .int (zI 0), .int (zI 0), .int (zI 0), .int (zI 0), .null, .null, .null, .null, .null, .null, .null, .int (zI 0), .int (zI 0), .int (zI 0), .null, .int (zI 0), .int (zI 0), .null, .int (zI 0), .null]))] (fun (u : Nat × Nat × Nat × Nat × Nat × Nat × Nat × Nat × Nat × Nat × Nat × Nat × Nat × Nat × Nat × Nat × Nat × Nat × Nat × Nat) => True) (fun u => [(m, .inr (11, [.int (zI 0), .ref u.1, .ref u.2.1, .ref u.2.2.1, .ref u.2.2.2.1, .ref u.2.2.2.2.1, .int (zI 0), .int (zI 0), .ref u.2.2.2.2.2.1, .ref u.2.2.2.2.2.2.1, .ref u.2.2.2.2.2.2.2.1, .ref u.2.2.2.2.2.2.2.2.1, .ref u.2.2.2.2.2.2.2.2.2.1, .ref u.2.2.2.2.2.2.2.2.2.2.1, .int (zI 0), .int (zI 0), .int (zI 0), .int (zI 0), .int (zI 0), .ref u.2.2.2.2.2.2.2.2.2.2.2.1, .ref u.2.2.2.2.2.2.2.2.2.2.2.2.1, .ref u.2.2.2.2.2.2.2.2.2.2.2.2.2.1, .ref u.2.2.2.2.2.2.2.2.2.2.2.2.2.2.1, .ref u.2.2.2.2.2.2.2.2.2.2.2.2.2.2.2.1, .ref u.2.2.2.2.2.2.2.2.2.2.2.2.2.2.2.2.1, .ref u.2.2.2.2.2.2.2.2.2.2.2.2.2.2.2.2.2.1, .int (zI 0), .int (zI 0), .int (zI 0), .null, .int (zI 0), .int (zI 0), .ref u.2.2.2.2.2.2.2.2.2.2.2.2.2.2.2.2.2.2.1, .int (zI 0), .ref u.2.2.2.2.2.2.2.2.2.2.2.2.2.2.2.2.2.2.2])), (u.1, AI G 7 (fun _ => 0)), (u.2.1, AI G 7 (fun _ => 0)), (u.2.2.1, AI G 7 (fun _ => 0)), (u.2.2.2.1, AI G 7 (fun _ => 0)), (u.2.2.2.2.1, AI G 7 (fun _ => 0)), (u.2.2.2.2.2.1, AI G 8 (fun _ => 0)), (u.2.2.2.2.2.2.1, AI G 8 (fun _ => 0)), (u.2.2.2.2.2.2.2.1, AI G 8 (fun _ => 0)), (u.2.2.2.2.2.2.2.2.1, AI G 8 (fun _ => 0)), (u.2.2.2.2.2.2.2.2.2.1, AI G 8 (fun _ => 0)), (u.2.2.2.2.2.2.2.2.2.2.1, AL G 800 (fun _ => 0)), (u.2.2.2.2.2.2.2.2.2.2.2.1, AI G 51 (fun _ => 0)), (u.2.2.2.2.2.2.2.2.2.2.2.2.1, AI G 51 (fun _ => 0)), (u.2.2.2.2.2.2.2.2.2.2.2.2.2.1, AI G 204 (fun _ => 0)), (u.2.2.2.2.2.2.2.2.2.2.2.2.2.2.1, AI G 38 (fun _ => 0)), (u.2.2.2.2.2.2.2.2.2.2.2.2.2.2.2.1, AI G 38 (fun _ => 0)), (u.2.2.2.2.2.2.2.2.2.2.2.2.2.2.2.2.1, AI G 38 (fun _ => 0)), (u.2.2.2.2.2.2.2.2.2.2.2.2.2.2.2.2.2.1, AI G 38 (fun _ => 0)), (u.2.2.2.2.2.2.2.2.2.2.2.2.2.2.2.2.2.2.1, AI G 4 (fun _ => 0)), (u.2.2.2.2.2.2.2.2.2.2.2.2.2.2.2.2.2.2.2, AL G 100 (fun _ => 0))])) := by
  refine z_met (by decide) (Nat.le_of_ble_eq_true rfl) ?_
  intro X A hl0 hA C hQ hin
  subst hl0
  show Z X _ G 0 0 _ 0 [(0, .ref m)] []
  refine z_aload_n C dX4_init_0 rfl 0 rfl ?_
  refine z_objInit C q1086 q106 q107 (Nat.le_of_ble_eq_true rfl) (Nat.le_of_ble_eq_true rfl) dX4_init_1 ?_
  refine z_aload_n C dX4_init_4 rfl 0 rfl ?_
  refine y_bipush C dX4_init_5 (by decide) ?_
  refine z_newa (atype := .int) (ty := .int) (t0 := 0) (m0 := 7) (a0 := (7, .inl (IA (fun _ => 0)))) C q245 rfl rfl (fun _ => rfl) (by decide) (by decide) (by decide) (Nat.le_of_ble_eq_true rfl) (Nat.le_of_ble_eq_true rfl) dX4_init_7 (fun q_7 => ?_)
  refine z_wsEq (ws' := [(q_7, AI G 7 (fun _ => 0)), (m, .inr (11, [.int (zI 0), .null, .null, .null, .null, .null, .int (zI 0), .int (zI 0), .null, .null, .null, .null, .null, .null, .int (zI 0), .int (zI 0), .int (zI 0), .int (zI 0), .int (zI 0), .null, .null, .null, .null, .null, .null, .null, .int (zI 0), .int (zI 0), .int (zI 0), .null, .int (zI 0), .int (zI 0), .null, .int (zI 0), .null]))]) rfl ?_
  refine z_putF (q := 1) (kf := 1) (ws' := [(q_7, AI G 7 (fun _ => 0)), (m, .inr (11, [.int (zI 0), .ref q_7, .null, .null, .null, .null, .int (zI 0), .int (zI 0), .null, .null, .null, .null, .null, .null, .int (zI 0), .int (zI 0), .int (zI 0), .int (zI 0), .int (zI 0), .null, .null, .null, .null, .null, .null, .null, .int (zI 0), .int (zI 0), .int (zI 0), .null, .int (zI 0), .int (zI 0), .null, .int (zI 0), .null]))]) C rfl rfl in_X4 tyX4_ok nmX4 (by decide) q1088 rfl rfl hin rfl rfl rfl rfl (nlt rfl) rfl dX4_init_9 ?_
  refine z_aload_n C dX4_init_12 rfl 0 rfl ?_
  refine y_bipush C dX4_init_13 (by decide) ?_
  refine z_newa (atype := .int) (ty := .int) (t0 := 0) (m0 := 7) (a0 := (7, .inl (IA (fun _ => 0)))) C q245 rfl rfl (fun _ => rfl) (by decide) (by decide) (by decide) (Nat.le_of_ble_eq_true rfl) (Nat.le_of_ble_eq_true rfl) dX4_init_15 (fun q_15 => ?_)
  refine z_wsEq (ws' := [(q_15, AI G 7 (fun _ => 0)), (q_7, AI G 7 (fun _ => 0)), (m, .inr (11, [.int (zI 0), .ref q_7, .null, .null, .null, .null, .int (zI 0), .int (zI 0), .null, .null, .null, .null, .null, .null, .int (zI 0), .int (zI 0), .int (zI 0), .int (zI 0), .int (zI 0), .null, .null, .null, .null, .null, .null, .null, .int (zI 0), .int (zI 0), .int (zI 0), .null, .int (zI 0), .int (zI 0), .null, .int (zI 0), .null]))]) rfl ?_
  refine z_putF (q := 2) (kf := 2) (ws' := [(q_15, AI G 7 (fun _ => 0)), (q_7, AI G 7 (fun _ => 0)), (m, .inr (11, [.int (zI 0), .ref q_7, .ref q_15, .null, .null, .null, .int (zI 0), .int (zI 0), .null, .null, .null, .null, .null, .null, .int (zI 0), .int (zI 0), .int (zI 0), .int (zI 0), .int (zI 0), .null, .null, .null, .null, .null, .null, .null, .int (zI 0), .int (zI 0), .int (zI 0), .null, .int (zI 0), .int (zI 0), .null, .int (zI 0), .null]))]) C rfl rfl in_X4 tyX4_ok nmX4 (by decide) q1089 rfl rfl hin rfl rfl rfl rfl (nlt rfl) rfl dX4_init_17 ?_
  refine z_aload_n C dX4_init_20 rfl 0 rfl ?_
  refine y_bipush C dX4_init_21 (by decide) ?_
  refine z_newa (atype := .int) (ty := .int) (t0 := 0) (m0 := 7) (a0 := (7, .inl (IA (fun _ => 0)))) C q245 rfl rfl (fun _ => rfl) (by decide) (by decide) (by decide) (Nat.le_of_ble_eq_true rfl) (Nat.le_of_ble_eq_true rfl) dX4_init_23 (fun q_23 => ?_)
  refine z_wsEq (ws' := [(q_23, AI G 7 (fun _ => 0)), (q_15, AI G 7 (fun _ => 0)), (q_7, AI G 7 (fun _ => 0)), (m, .inr (11, [.int (zI 0), .ref q_7, .ref q_15, .null, .null, .null, .int (zI 0), .int (zI 0), .null, .null, .null, .null, .null, .null, .int (zI 0), .int (zI 0), .int (zI 0), .int (zI 0), .int (zI 0), .null, .null, .null, .null, .null, .null, .null, .int (zI 0), .int (zI 0), .int (zI 0), .null, .int (zI 0), .int (zI 0), .null, .int (zI 0), .null]))]) rfl ?_
  refine z_putF (q := 3) (kf := 3) (ws' := [(q_23, AI G 7 (fun _ => 0)), (q_15, AI G 7 (fun _ => 0)), (q_7, AI G 7 (fun _ => 0)), (m, .inr (11, [.int (zI 0), .ref q_7, .ref q_15, .ref q_23, .null, .null, .int (zI 0), .int (zI 0), .null, .null, .null, .null, .null, .null, .int (zI 0), .int (zI 0), .int (zI 0), .int (zI 0), .int (zI 0), .null, .null, .null, .null, .null, .null, .null, .int (zI 0), .int (zI 0), .int (zI 0), .null, .int (zI 0), .int (zI 0), .null, .int (zI 0), .null]))]) C rfl rfl in_X4 tyX4_ok nmX4 (by decide) q1090 rfl rfl hin rfl rfl rfl rfl (nlt rfl) rfl dX4_init_25 ?_
  refine z_aload_n C dX4_init_28 rfl 0 rfl ?_
  refine y_bipush C dX4_init_29 (by decide) ?_
  refine z_newa (atype := .int) (ty := .int) (t0 := 0) (m0 := 7) (a0 := (7, .inl (IA (fun _ => 0)))) C q245 rfl rfl (fun _ => rfl) (by decide) (by decide) (by decide) (Nat.le_of_ble_eq_true rfl) (Nat.le_of_ble_eq_true rfl) dX4_init_31 (fun q_31 => ?_)
  refine z_wsEq (ws' := [(q_31, AI G 7 (fun _ => 0)), (q_23, AI G 7 (fun _ => 0)), (q_15, AI G 7 (fun _ => 0)), (q_7, AI G 7 (fun _ => 0)), (m, .inr (11, [.int (zI 0), .ref q_7, .ref q_15, .ref q_23, .null, .null, .int (zI 0), .int (zI 0), .null, .null, .null, .null, .null, .null, .int (zI 0), .int (zI 0), .int (zI 0), .int (zI 0), .int (zI 0), .null, .null, .null, .null, .null, .null, .null, .int (zI 0), .int (zI 0), .int (zI 0), .null, .int (zI 0), .int (zI 0), .null, .int (zI 0), .null]))]) rfl ?_
  refine z_putF (q := 4) (kf := 4) (ws' := [(q_31, AI G 7 (fun _ => 0)), (q_23, AI G 7 (fun _ => 0)), (q_15, AI G 7 (fun _ => 0)), (q_7, AI G 7 (fun _ => 0)), (m, .inr (11, [.int (zI 0), .ref q_7, .ref q_15, .ref q_23, .ref q_31, .null, .int (zI 0), .int (zI 0), .null, .null, .null, .null, .null, .null, .int (zI 0), .int (zI 0), .int (zI 0), .int (zI 0), .int (zI 0), .null, .null, .null, .null, .null, .null, .null, .int (zI 0), .int (zI 0), .int (zI 0), .null, .int (zI 0), .int (zI 0), .null, .int (zI 0), .null]))]) C rfl rfl in_X4 tyX4_ok nmX4 (by decide) q1091 rfl rfl hin rfl rfl rfl rfl (nlt rfl) rfl dX4_init_33 ?_
  refine z_aload_n C dX4_init_36 rfl 0 rfl ?_
  refine y_bipush C dX4_init_37 (by decide) ?_
  refine z_newa (atype := .int) (ty := .int) (t0 := 0) (m0 := 7) (a0 := (7, .inl (IA (fun _ => 0)))) C q245 rfl rfl (fun _ => rfl) (by decide) (by decide) (by decide) (Nat.le_of_ble_eq_true rfl) (Nat.le_of_ble_eq_true rfl) dX4_init_39 (fun q_39 => ?_)
  refine z_wsEq (ws' := [(q_39, AI G 7 (fun _ => 0)), (q_31, AI G 7 (fun _ => 0)), (q_23, AI G 7 (fun _ => 0)), (q_15, AI G 7 (fun _ => 0)), (q_7, AI G 7 (fun _ => 0)), (m, .inr (11, [.int (zI 0), .ref q_7, .ref q_15, .ref q_23, .ref q_31, .null, .int (zI 0), .int (zI 0), .null, .null, .null, .null, .null, .null, .int (zI 0), .int (zI 0), .int (zI 0), .int (zI 0), .int (zI 0), .null, .null, .null, .null, .null, .null, .null, .int (zI 0), .int (zI 0), .int (zI 0), .null, .int (zI 0), .int (zI 0), .null, .int (zI 0), .null]))]) rfl ?_
  refine z_putF (q := 5) (kf := 5) (ws' := [(q_39, AI G 7 (fun _ => 0)), (q_31, AI G 7 (fun _ => 0)), (q_23, AI G 7 (fun _ => 0)), (q_15, AI G 7 (fun _ => 0)), (q_7, AI G 7 (fun _ => 0)), (m, .inr (11, [.int (zI 0), .ref q_7, .ref q_15, .ref q_23, .ref q_31, .ref q_39, .int (zI 0), .int (zI 0), .null, .null, .null, .null, .null, .null, .int (zI 0), .int (zI 0), .int (zI 0), .int (zI 0), .int (zI 0), .null, .null, .null, .null, .null, .null, .null, .int (zI 0), .int (zI 0), .int (zI 0), .null, .int (zI 0), .int (zI 0), .null, .int (zI 0), .null]))]) C rfl rfl in_X4 tyX4_ok nmX4 (by decide) q1092 rfl rfl hin rfl rfl rfl rfl (nlt rfl) rfl dX4_init_41 ?_
  refine z_aload_n C dX4_init_44 rfl 0 rfl ?_
  refine y_bipush C dX4_init_45 (by decide) ?_
  refine z_newa (atype := .int) (ty := .int) (t0 := 0) (m0 := 8) (a0 := (8, .inl (IA (fun _ => 0)))) C q245 rfl rfl (fun _ => rfl) (by decide) (by decide) (by decide) (Nat.le_of_ble_eq_true rfl) (Nat.le_of_ble_eq_true rfl) dX4_init_47 (fun q_47 => ?_)
  refine z_wsEq (ws' := [(q_47, AI G 8 (fun _ => 0)), (q_39, AI G 7 (fun _ => 0)), (q_31, AI G 7 (fun _ => 0)), (q_23, AI G 7 (fun _ => 0)), (q_15, AI G 7 (fun _ => 0)), (q_7, AI G 7 (fun _ => 0)), (m, .inr (11, [.int (zI 0), .ref q_7, .ref q_15, .ref q_23, .ref q_31, .ref q_39, .int (zI 0), .int (zI 0), .null, .null, .null, .null, .null, .null, .int (zI 0), .int (zI 0), .int (zI 0), .int (zI 0), .int (zI 0), .null, .null, .null, .null, .null, .null, .null, .int (zI 0), .int (zI 0), .int (zI 0), .null, .int (zI 0), .int (zI 0), .null, .int (zI 0), .null]))]) rfl ?_
  refine z_putF (q := 6) (kf := 8) (ws' := [(q_47, AI G 8 (fun _ => 0)), (q_39, AI G 7 (fun _ => 0)), (q_31, AI G 7 (fun _ => 0)), (q_23, AI G 7 (fun _ => 0)), (q_15, AI G 7 (fun _ => 0)), (q_7, AI G 7 (fun _ => 0)), (m, .inr (11, [.int (zI 0), .ref q_7, .ref q_15, .ref q_23, .ref q_31, .ref q_39, .int (zI 0), .int (zI 0), .ref q_47, .null, .null, .null, .null, .null, .int (zI 0), .int (zI 0), .int (zI 0), .int (zI 0), .int (zI 0), .null, .null, .null, .null, .null, .null, .null, .int (zI 0), .int (zI 0), .int (zI 0), .null, .int (zI 0), .int (zI 0), .null, .int (zI 0), .null]))]) C rfl rfl in_X4 tyX4_ok nmX4 (by decide) q1095 rfl rfl hin rfl rfl rfl rfl (nlt rfl) rfl dX4_init_49 ?_
  refine z_aload_n C dX4_init_52 rfl 0 rfl ?_
  refine y_bipush C dX4_init_53 (by decide) ?_
  refine z_newa (atype := .int) (ty := .int) (t0 := 0) (m0 := 8) (a0 := (8, .inl (IA (fun _ => 0)))) C q245 rfl rfl (fun _ => rfl) (by decide) (by decide) (by decide) (Nat.le_of_ble_eq_true rfl) (Nat.le_of_ble_eq_true rfl) dX4_init_55 (fun q_55 => ?_)
  refine z_wsEq (ws' := [(q_55, AI G 8 (fun _ => 0)), (q_47, AI G 8 (fun _ => 0)), (q_39, AI G 7 (fun _ => 0)), (q_31, AI G 7 (fun _ => 0)), (q_23, AI G 7 (fun _ => 0)), (q_15, AI G 7 (fun _ => 0)), (q_7, AI G 7 (fun _ => 0)), (m, .inr (11, [.int (zI 0), .ref q_7, .ref q_15, .ref q_23, .ref q_31, .ref q_39, .int (zI 0), .int (zI 0), .ref q_47, .null, .null, .null, .null, .null, .int (zI 0), .int (zI 0), .int (zI 0), .int (zI 0), .int (zI 0), .null, .null, .null, .null, .null, .null, .null, .int (zI 0), .int (zI 0), .int (zI 0), .null, .int (zI 0), .int (zI 0), .null, .int (zI 0), .null]))]) rfl ?_
  refine z_putF (q := 7) (kf := 9) (ws' := [(q_55, AI G 8 (fun _ => 0)), (q_47, AI G 8 (fun _ => 0)), (q_39, AI G 7 (fun _ => 0)), (q_31, AI G 7 (fun _ => 0)), (q_23, AI G 7 (fun _ => 0)), (q_15, AI G 7 (fun _ => 0)), (q_7, AI G 7 (fun _ => 0)), (m, .inr (11, [.int (zI 0), .ref q_7, .ref q_15, .ref q_23, .ref q_31, .ref q_39, .int (zI 0), .int (zI 0), .ref q_47, .ref q_55, .null, .null, .null, .null, .int (zI 0), .int (zI 0), .int (zI 0), .int (zI 0), .int (zI 0), .null, .null, .null, .null, .null, .null, .null, .int (zI 0), .int (zI 0), .int (zI 0), .null, .int (zI 0), .int (zI 0), .null, .int (zI 0), .null]))]) C rfl rfl in_X4 tyX4_ok nmX4 (by decide) q1096 rfl rfl hin rfl rfl rfl rfl (nlt rfl) rfl dX4_init_57 ?_
  refine z_aload_n C dX4_init_60 rfl 0 rfl ?_
  refine y_bipush C dX4_init_61 (by decide) ?_
  refine z_newa (atype := .int) (ty := .int) (t0 := 0) (m0 := 8) (a0 := (8, .inl (IA (fun _ => 0)))) C q245 rfl rfl (fun _ => rfl) (by decide) (by decide) (by decide) (Nat.le_of_ble_eq_true rfl) (Nat.le_of_ble_eq_true rfl) dX4_init_63 (fun q_63 => ?_)
  refine z_wsEq (ws' := [(q_63, AI G 8 (fun _ => 0)), (q_55, AI G 8 (fun _ => 0)), (q_47, AI G 8 (fun _ => 0)), (q_39, AI G 7 (fun _ => 0)), (q_31, AI G 7 (fun _ => 0)), (q_23, AI G 7 (fun _ => 0)), (q_15, AI G 7 (fun _ => 0)), (q_7, AI G 7 (fun _ => 0)), (m, .inr (11, [.int (zI 0), .ref q_7, .ref q_15, .ref q_23, .ref q_31, .ref q_39, .int (zI 0), .int (zI 0), .ref q_47, .ref q_55, .null, .null, .null, .null, .int (zI 0), .int (zI 0), .int (zI 0), .int (zI 0), .int (zI 0), .null, .null, .null, .null, .null, .null, .null, .int (zI 0), .int (zI 0), .int (zI 0), .null, .int (zI 0), .int (zI 0), .null, .int (zI 0), .null]))]) rfl ?_
  refine z_putF (q := 8) (kf := 10) (ws' := [(q_63, AI G 8 (fun _ => 0)), (q_55, AI G 8 (fun _ => 0)), (q_47, AI G 8 (fun _ => 0)), (q_39, AI G 7 (fun _ => 0)), (q_31, AI G 7 (fun _ => 0)), (q_23, AI G 7 (fun _ => 0)), (q_15, AI G 7 (fun _ => 0)), (q_7, AI G 7 (fun _ => 0)), (m, .inr (11, [.int (zI 0), .ref q_7, .ref q_15, .ref q_23, .ref q_31, .ref q_39, .int (zI 0), .int (zI 0), .ref q_47, .ref q_55, .ref q_63, .null, .null, .null, .int (zI 0), .int (zI 0), .int (zI 0), .int (zI 0), .int (zI 0), .null, .null, .null, .null, .null, .null, .null, .int (zI 0), .int (zI 0), .int (zI 0), .null, .int (zI 0), .int (zI 0), .null, .int (zI 0), .null]))]) C rfl rfl in_X4 tyX4_ok nmX4 (by decide) q1097 rfl rfl hin rfl rfl rfl rfl (nlt rfl) rfl dX4_init_65 ?_
  refine z_aload_n C dX4_init_68 rfl 0 rfl ?_
  refine y_bipush C dX4_init_69 (by decide) ?_
  refine z_newa (atype := .int) (ty := .int) (t0 := 0) (m0 := 8) (a0 := (8, .inl (IA (fun _ => 0)))) C q245 rfl rfl (fun _ => rfl) (by decide) (by decide) (by decide) (Nat.le_of_ble_eq_true rfl) (Nat.le_of_ble_eq_true rfl) dX4_init_71 (fun q_71 => ?_)
  refine z_wsEq (ws' := [(q_71, AI G 8 (fun _ => 0)), (q_63, AI G 8 (fun _ => 0)), (q_55, AI G 8 (fun _ => 0)), (q_47, AI G 8 (fun _ => 0)), (q_39, AI G 7 (fun _ => 0)), (q_31, AI G 7 (fun _ => 0)), (q_23, AI G 7 (fun _ => 0)), (q_15, AI G 7 (fun _ => 0)), (q_7, AI G 7 (fun _ => 0)), (m, .inr (11, [.int (zI 0), .ref q_7, .ref q_15, .ref q_23, .ref q_31, .ref q_39, .int (zI 0), .int (zI 0), .ref q_47, .ref q_55, .ref q_63, .null, .null, .null, .int (zI 0), .int (zI 0), .int (zI 0), .int (zI 0), .int (zI 0), .null, .null, .null, .null, .null, .null, .null, .int (zI 0), .int (zI 0), .int (zI 0), .null, .int (zI 0), .int (zI 0), .null, .int (zI 0), .null]))]) rfl ?_
  refine z_putF (q := 9) (kf := 11) (ws' := [(q_71, AI G 8 (fun _ => 0)), (q_63, AI G 8 (fun _ => 0)), (q_55, AI G 8 (fun _ => 0)), (q_47, AI G 8 (fun _ => 0)), (q_39, AI G 7 (fun _ => 0)), (q_31, AI G 7 (fun _ => 0)), (q_23, AI G 7 (fun _ => 0)), (q_15, AI G 7 (fun _ => 0)), (q_7, AI G 7 (fun _ => 0)), (m, .inr (11, [.int (zI 0), .ref q_7, .ref q_15, .ref q_23, .ref q_31, .ref q_39, .int (zI 0), .int (zI 0), .ref q_47, .ref q_55, .ref q_63, .ref q_71, .null, .null, .int (zI 0), .int (zI 0), .int (zI 0), .int (zI 0), .int (zI 0), .null, .null, .null, .null, .null, .null, .null, .int (zI 0), .int (zI 0), .int (zI 0), .null, .int (zI 0), .int (zI 0), .null, .int (zI 0), .null]))]) C rfl rfl in_X4 tyX4_ok nmX4 (by decide) q1098 rfl rfl hin rfl rfl rfl rfl (nlt rfl) rfl dX4_init_73 ?_
  refine z_aload_n C dX4_init_76 rfl 0 rfl ?_
  refine y_bipush C dX4_init_77 (by decide) ?_
  refine z_newa (atype := .int) (ty := .int) (t0 := 0) (m0 := 8) (a0 := (8, .inl (IA (fun _ => 0)))) C q245 rfl rfl (fun _ => rfl) (by decide) (by decide) (by decide) (Nat.le_of_ble_eq_true rfl) (Nat.le_of_ble_eq_true rfl) dX4_init_79 (fun q_79 => ?_)
  refine z_wsEq (ws' := [(q_79, AI G 8 (fun _ => 0)), (q_71, AI G 8 (fun _ => 0)), (q_63, AI G 8 (fun _ => 0)), (q_55, AI G 8 (fun _ => 0)), (q_47, AI G 8 (fun _ => 0)), (q_39, AI G 7 (fun _ => 0)), (q_31, AI G 7 (fun _ => 0)), (q_23, AI G 7 (fun _ => 0)), (q_15, AI G 7 (fun _ => 0)), (q_7, AI G 7 (fun _ => 0)), (m, .inr (11, [.int (zI 0), .ref q_7, .ref q_15, .ref q_23, .ref q_31, .ref q_39, .int (zI 0), .int (zI 0), .ref q_47, .ref q_55, .ref q_63, .ref q_71, .null, .null, .int (zI 0), .int (zI 0), .int (zI 0), .int (zI 0), .int (zI 0), .null, .null, .null, .null, .null, .null, .null, .int (zI 0), .int (zI 0), .int (zI 0), .null, .int (zI 0), .int (zI 0), .null, .int (zI 0), .null]))]) rfl ?_
  refine z_putF (q := 10) (kf := 12) (ws' := [(q_79, AI G 8 (fun _ => 0)), (q_71, AI G 8 (fun _ => 0)), (q_63, AI G 8 (fun _ => 0)), (q_55, AI G 8 (fun _ => 0)), (q_47, AI G 8 (fun _ => 0)), (q_39, AI G 7 (fun _ => 0)), (q_31, AI G 7 (fun _ => 0)), (q_23, AI G 7 (fun _ => 0)), (q_15, AI G 7 (fun _ => 0)), (q_7, AI G 7 (fun _ => 0)), (m, .inr (11, [.int (zI 0), .ref q_7, .ref q_15, .ref q_23, .ref q_31, .ref q_39, .int (zI 0), .int (zI 0), .ref q_47, .ref q_55, .ref q_63, .ref q_71, .ref q_79, .null, .int (zI 0), .int (zI 0), .int (zI 0), .int (zI 0), .int (zI 0), .null, .null, .null, .null, .null, .null, .null, .int (zI 0), .int (zI 0), .int (zI 0), .null, .int (zI 0), .int (zI 0), .null, .int (zI 0), .null]))]) C rfl rfl in_X4 tyX4_ok nmX4 (by decide) q1099 rfl rfl hin rfl rfl rfl rfl (nlt rfl) rfl dX4_init_81 ?_
  refine z_aload_n C dX4_init_84 rfl 0 rfl ?_
  refine y_sipush C dX4_init_85 (by decide) ?_
  refine z_newa (atype := .long) (ty := .long) (t0 := 1) (m0 := 800) (a0 := (800, .inr (.inl (LA (fun _ => 0))))) C q1193 rfl rfl (fun _ => rfl) (by decide) (by decide) (by decide) (Nat.le_of_ble_eq_true rfl) (Nat.le_of_ble_eq_true rfl) dX4_init_88 (fun q_88 => ?_)
  refine z_wsEq (ws' := [(q_88, AL G 800 (fun _ => 0)), (q_79, AI G 8 (fun _ => 0)), (q_71, AI G 8 (fun _ => 0)), (q_63, AI G 8 (fun _ => 0)), (q_55, AI G 8 (fun _ => 0)), (q_47, AI G 8 (fun _ => 0)), (q_39, AI G 7 (fun _ => 0)), (q_31, AI G 7 (fun _ => 0)), (q_23, AI G 7 (fun _ => 0)), (q_15, AI G 7 (fun _ => 0)), (q_7, AI G 7 (fun _ => 0)), (m, .inr (11, [.int (zI 0), .ref q_7, .ref q_15, .ref q_23, .ref q_31, .ref q_39, .int (zI 0), .int (zI 0), .ref q_47, .ref q_55, .ref q_63, .ref q_71, .ref q_79, .null, .int (zI 0), .int (zI 0), .int (zI 0), .int (zI 0), .int (zI 0), .null, .null, .null, .null, .null, .null, .null, .int (zI 0), .int (zI 0), .int (zI 0), .null, .int (zI 0), .int (zI 0), .null, .int (zI 0), .null]))]) rfl ?_
  refine z_putF (q := 11) (kf := 13) (ws' := [(q_88, AL G 800 (fun _ => 0)), (q_79, AI G 8 (fun _ => 0)), (q_71, AI G 8 (fun _ => 0)), (q_63, AI G 8 (fun _ => 0)), (q_55, AI G 8 (fun _ => 0)), (q_47, AI G 8 (fun _ => 0)), (q_39, AI G 7 (fun _ => 0)), (q_31, AI G 7 (fun _ => 0)), (q_23, AI G 7 (fun _ => 0)), (q_15, AI G 7 (fun _ => 0)), (q_7, AI G 7 (fun _ => 0)), (m, .inr (11, [.int (zI 0), .ref q_7, .ref q_15, .ref q_23, .ref q_31, .ref q_39, .int (zI 0), .int (zI 0), .ref q_47, .ref q_55, .ref q_63, .ref q_71, .ref q_79, .ref q_88, .int (zI 0), .int (zI 0), .int (zI 0), .int (zI 0), .int (zI 0), .null, .null, .null, .null, .null, .null, .null, .int (zI 0), .int (zI 0), .int (zI 0), .null, .int (zI 0), .int (zI 0), .null, .int (zI 0), .null]))]) C rfl rfl in_X4 tyX4_ok nmX4 (by decide) q1100 rfl rfl hin rfl rfl rfl rfl (nlt rfl) rfl dX4_init_90 ?_
  refine z_aload_n C dX4_init_93 rfl 0 rfl ?_
  refine y_bipush C dX4_init_94 (by decide) ?_
  refine z_newa (atype := .int) (ty := .int) (t0 := 0) (m0 := 51) (a0 := (51, .inl (IA (fun _ => 0)))) C q245 rfl rfl (fun _ => rfl) (by decide) (by decide) (by decide) (Nat.le_of_ble_eq_true rfl) (Nat.le_of_ble_eq_true rfl) dX4_init_96 (fun q_96 => ?_)
  refine z_wsEq (ws' := [(q_96, AI G 51 (fun _ => 0)), (q_88, AL G 800 (fun _ => 0)), (q_79, AI G 8 (fun _ => 0)), (q_71, AI G 8 (fun _ => 0)), (q_63, AI G 8 (fun _ => 0)), (q_55, AI G 8 (fun _ => 0)), (q_47, AI G 8 (fun _ => 0)), (q_39, AI G 7 (fun _ => 0)), (q_31, AI G 7 (fun _ => 0)), (q_23, AI G 7 (fun _ => 0)), (q_15, AI G 7 (fun _ => 0)), (q_7, AI G 7 (fun _ => 0)), (m, .inr (11, [.int (zI 0), .ref q_7, .ref q_15, .ref q_23, .ref q_31, .ref q_39, .int (zI 0), .int (zI 0), .ref q_47, .ref q_55, .ref q_63, .ref q_71, .ref q_79, .ref q_88, .int (zI 0), .int (zI 0), .int (zI 0), .int (zI 0), .int (zI 0), .null, .null, .null, .null, .null, .null, .null, .int (zI 0), .int (zI 0), .int (zI 0), .null, .int (zI 0), .int (zI 0), .null, .int (zI 0), .null]))]) rfl ?_
  refine z_putF (q := 12) (kf := 19) (ws' := [(q_96, AI G 51 (fun _ => 0)), (q_88, AL G 800 (fun _ => 0)), (q_79, AI G 8 (fun _ => 0)), (q_71, AI G 8 (fun _ => 0)), (q_63, AI G 8 (fun _ => 0)), (q_55, AI G 8 (fun _ => 0)), (q_47, AI G 8 (fun _ => 0)), (q_39, AI G 7 (fun _ => 0)), (q_31, AI G 7 (fun _ => 0)), (q_23, AI G 7 (fun _ => 0)), (q_15, AI G 7 (fun _ => 0)), (q_7, AI G 7 (fun _ => 0)), (m, .inr (11, [.int (zI 0), .ref q_7, .ref q_15, .ref q_23, .ref q_31, .ref q_39, .int (zI 0), .int (zI 0), .ref q_47, .ref q_55, .ref q_63, .ref q_71, .ref q_79, .ref q_88, .int (zI 0), .int (zI 0), .int (zI 0), .int (zI 0), .int (zI 0), .ref q_96, .null, .null, .null, .null, .null, .null, .int (zI 0), .int (zI 0), .int (zI 0), .null, .int (zI 0), .int (zI 0), .null, .int (zI 0), .null]))]) C rfl rfl in_X4 tyX4_ok nmX4 (by decide) q1106 rfl rfl hin rfl rfl rfl rfl (nlt rfl) rfl dX4_init_98 ?_
  refine z_aload_n C dX4_init_101 rfl 0 rfl ?_
  refine y_bipush C dX4_init_102 (by decide) ?_
  refine z_newa (atype := .int) (ty := .int) (t0 := 0) (m0 := 51) (a0 := (51, .inl (IA (fun _ => 0)))) C q245 rfl rfl (fun _ => rfl) (by decide) (by decide) (by decide) (Nat.le_of_ble_eq_true rfl) (Nat.le_of_ble_eq_true rfl) dX4_init_104 (fun q_104 => ?_)
  refine z_wsEq (ws' := [(q_104, AI G 51 (fun _ => 0)), (q_96, AI G 51 (fun _ => 0)), (q_88, AL G 800 (fun _ => 0)), (q_79, AI G 8 (fun _ => 0)), (q_71, AI G 8 (fun _ => 0)), (q_63, AI G 8 (fun _ => 0)), (q_55, AI G 8 (fun _ => 0)), (q_47, AI G 8 (fun _ => 0)), (q_39, AI G 7 (fun _ => 0)), (q_31, AI G 7 (fun _ => 0)), (q_23, AI G 7 (fun _ => 0)), (q_15, AI G 7 (fun _ => 0)), (q_7, AI G 7 (fun _ => 0)), (m, .inr (11, [.int (zI 0), .ref q_7, .ref q_15, .ref q_23, .ref q_31, .ref q_39, .int (zI 0), .int (zI 0), .ref q_47, .ref q_55, .ref q_63, .ref q_71, .ref q_79, .ref q_88, .int (zI 0), .int (zI 0), .int (zI 0), .int (zI 0), .int (zI 0), .ref q_96, .null, .null, .null, .null, .null, .null, .int (zI 0), .int (zI 0), .int (zI 0), .null, .int (zI 0), .int (zI 0), .null, .int (zI 0), .null]))]) rfl ?_
  refine z_putF (q := 13) (kf := 20) (ws' := [(q_104, AI G 51 (fun _ => 0)), (q_96, AI G 51 (fun _ => 0)), (q_88, AL G 800 (fun _ => 0)), (q_79, AI G 8 (fun _ => 0)), (q_71, AI G 8 (fun _ => 0)), (q_63, AI G 8 (fun _ => 0)), (q_55, AI G 8 (fun _ => 0)), (q_47, AI G 8 (fun _ => 0)), (q_39, AI G 7 (fun _ => 0)), (q_31, AI G 7 (fun _ => 0)), (q_23, AI G 7 (fun _ => 0)), (q_15, AI G 7 (fun _ => 0)), (q_7, AI G 7 (fun _ => 0)), (m, .inr (11, [.int (zI 0), .ref q_7, .ref q_15, .ref q_23, .ref q_31, .ref q_39, .int (zI 0), .int (zI 0), .ref q_47, .ref q_55, .ref q_63, .ref q_71, .ref q_79, .ref q_88, .int (zI 0), .int (zI 0), .int (zI 0), .int (zI 0), .int (zI 0), .ref q_96, .ref q_104, .null, .null, .null, .null, .null, .int (zI 0), .int (zI 0), .int (zI 0), .null, .int (zI 0), .int (zI 0), .null, .int (zI 0), .null]))]) C rfl rfl in_X4 tyX4_ok nmX4 (by decide) q1107 rfl rfl hin rfl rfl rfl rfl (nlt rfl) rfl dX4_init_106 ?_
  refine z_aload_n C dX4_init_109 rfl 0 rfl ?_
  refine y_sipush C dX4_init_110 (by decide) ?_
  refine z_newa (atype := .int) (ty := .int) (t0 := 0) (m0 := 204) (a0 := (204, .inl (IA (fun _ => 0)))) C q245 rfl rfl (fun _ => rfl) (by decide) (by decide) (by decide) (Nat.le_of_ble_eq_true rfl) (Nat.le_of_ble_eq_true rfl) dX4_init_113 (fun q_113 => ?_)
  refine z_wsEq (ws' := [(q_113, AI G 204 (fun _ => 0)), (q_104, AI G 51 (fun _ => 0)), (q_96, AI G 51 (fun _ => 0)), (q_88, AL G 800 (fun _ => 0)), (q_79, AI G 8 (fun _ => 0)), (q_71, AI G 8 (fun _ => 0)), (q_63, AI G 8 (fun _ => 0)), (q_55, AI G 8 (fun _ => 0)), (q_47, AI G 8 (fun _ => 0)), (q_39, AI G 7 (fun _ => 0)), (q_31, AI G 7 (fun _ => 0)), (q_23, AI G 7 (fun _ => 0)), (q_15, AI G 7 (fun _ => 0)), (q_7, AI G 7 (fun _ => 0)), (m, .inr (11, [.int (zI 0), .ref q_7, .ref q_15, .ref q_23, .ref q_31, .ref q_39, .int (zI 0), .int (zI 0), .ref q_47, .ref q_55, .ref q_63, .ref q_71, .ref q_79, .ref q_88, .int (zI 0), .int (zI 0), .int (zI 0), .int (zI 0), .int (zI 0), .ref q_96, .ref q_104, .null, .null, .null, .null, .null, .int (zI 0), .int (zI 0), .int (zI 0), .null, .int (zI 0), .int (zI 0), .null, .int (zI 0), .null]))]) rfl ?_
  refine z_putF (q := 14) (kf := 21) (ws' := [(q_113, AI G 204 (fun _ => 0)), (q_104, AI G 51 (fun _ => 0)), (q_96, AI G 51 (fun _ => 0)), (q_88, AL G 800 (fun _ => 0)), (q_79, AI G 8 (fun _ => 0)), (q_71, AI G 8 (fun _ => 0)), (q_63, AI G 8 (fun _ => 0)), (q_55, AI G 8 (fun _ => 0)), (q_47, AI G 8 (fun _ => 0)), (q_39, AI G 7 (fun _ => 0)), (q_31, AI G 7 (fun _ => 0)), (q_23, AI G 7 (fun _ => 0)), (q_15, AI G 7 (fun _ => 0)), (q_7, AI G 7 (fun _ => 0)), (m, .inr (11, [.int (zI 0), .ref q_7, .ref q_15, .ref q_23, .ref q_31, .ref q_39, .int (zI 0), .int (zI 0), .ref q_47, .ref q_55, .ref q_63, .ref q_71, .ref q_79, .ref q_88, .int (zI 0), .int (zI 0), .int (zI 0), .int (zI 0), .int (zI 0), .ref q_96, .ref q_104, .ref q_113, .null, .null, .null, .null, .int (zI 0), .int (zI 0), .int (zI 0), .null, .int (zI 0), .int (zI 0), .null, .int (zI 0), .null]))]) C rfl rfl in_X4 tyX4_ok nmX4 (by decide) q1108 rfl rfl hin rfl rfl rfl rfl (nlt rfl) rfl dX4_init_115 ?_
  refine z_aload_n C dX4_init_118 rfl 0 rfl ?_
  refine y_bipush C dX4_init_119 (by decide) ?_
  refine z_newa (atype := .int) (ty := .int) (t0 := 0) (m0 := 38) (a0 := (38, .inl (IA (fun _ => 0)))) C q245 rfl rfl (fun _ => rfl) (by decide) (by decide) (by decide) (Nat.le_of_ble_eq_true rfl) (Nat.le_of_ble_eq_true rfl) dX4_init_121 (fun q_121 => ?_)
  refine z_wsEq (ws' := [(q_121, AI G 38 (fun _ => 0)), (q_113, AI G 204 (fun _ => 0)), (q_104, AI G 51 (fun _ => 0)), (q_96, AI G 51 (fun _ => 0)), (q_88, AL G 800 (fun _ => 0)), (q_79, AI G 8 (fun _ => 0)), (q_71, AI G 8 (fun _ => 0)), (q_63, AI G 8 (fun _ => 0)), (q_55, AI G 8 (fun _ => 0)), (q_47, AI G 8 (fun _ => 0)), (q_39, AI G 7 (fun _ => 0)), (q_31, AI G 7 (fun _ => 0)), (q_23, AI G 7 (fun _ => 0)), (q_15, AI G 7 (fun _ => 0)), (q_7, AI G 7 (fun _ => 0)), (m, .inr (11, [.int (zI 0), .ref q_7, .ref q_15, .ref q_23, .ref q_31, .ref q_39, .int (zI 0), .int (zI 0), .ref q_47, .ref q_55, .ref q_63, .ref q_71, .ref q_79, .ref q_88, .int (zI 0), .int (zI 0), .int (zI 0), .int (zI 0), .int (zI 0), .ref q_96, .ref q_104, .ref q_113, .null, .null, .null, .null, .int (zI 0), .int (zI 0), .int (zI 0), .null, .int (zI 0), .int (zI 0), .null, .int (zI 0), .null]))]) rfl ?_
  refine z_putF (q := 15) (kf := 22) (ws' := [(q_121, AI G 38 (fun _ => 0)), (q_113, AI G 204 (fun _ => 0)), (q_104, AI G 51 (fun _ => 0)), (q_96, AI G 51 (fun _ => 0)), (q_88, AL G 800 (fun _ => 0)), (q_79, AI G 8 (fun _ => 0)), (q_71, AI G 8 (fun _ => 0)), (q_63, AI G 8 (fun _ => 0)), (q_55, AI G 8 (fun _ => 0)), (q_47, AI G 8 (fun _ => 0)), (q_39, AI G 7 (fun _ => 0)), (q_31, AI G 7 (fun _ => 0)), (q_23, AI G 7 (fun _ => 0)), (q_15, AI G 7 (fun _ => 0)), (q_7, AI G 7 (fun _ => 0)), (m, .inr (11, [.int (zI 0), .ref q_7, .ref q_15, .ref q_23, .ref q_31, .ref q_39, .int (zI 0), .int (zI 0), .ref q_47, .ref q_55, .ref q_63, .ref q_71, .ref q_79, .ref q_88, .int (zI 0), .int (zI 0), .int (zI 0), .int (zI 0), .int (zI 0), .ref q_96, .ref q_104, .ref q_113, .ref q_121, .null, .null, .null, .int (zI 0), .int (zI 0), .int (zI 0), .null, .int (zI 0), .int (zI 0), .null, .int (zI 0), .null]))]) C rfl rfl in_X4 tyX4_ok nmX4 (by decide) q1109 rfl rfl hin rfl rfl rfl rfl (nlt rfl) rfl dX4_init_123 ?_
  refine z_aload_n C dX4_init_126 rfl 0 rfl ?_
  refine y_bipush C dX4_init_127 (by decide) ?_
  refine z_newa (atype := .int) (ty := .int) (t0 := 0) (m0 := 38) (a0 := (38, .inl (IA (fun _ => 0)))) C q245 rfl rfl (fun _ => rfl) (by decide) (by decide) (by decide) (Nat.le_of_ble_eq_true rfl) (Nat.le_of_ble_eq_true rfl) dX4_init_129 (fun q_129 => ?_)
  refine z_wsEq (ws' := [(q_129, AI G 38 (fun _ => 0)), (q_121, AI G 38 (fun _ => 0)), (q_113, AI G 204 (fun _ => 0)), (q_104, AI G 51 (fun _ => 0)), (q_96, AI G 51 (fun _ => 0)), (q_88, AL G 800 (fun _ => 0)), (q_79, AI G 8 (fun _ => 0)), (q_71, AI G 8 (fun _ => 0)), (q_63, AI G 8 (fun _ => 0)), (q_55, AI G 8 (fun _ => 0)), (q_47, AI G 8 (fun _ => 0)), (q_39, AI G 7 (fun _ => 0)), (q_31, AI G 7 (fun _ => 0)), (q_23, AI G 7 (fun _ => 0)), (q_15, AI G 7 (fun _ => 0)), (q_7, AI G 7 (fun _ => 0)), (m, .inr (11, [.int (zI 0), .ref q_7, .ref q_15, .ref q_23, .ref q_31, .ref q_39, .int (zI 0), .int (zI 0), .ref q_47, .ref q_55, .ref q_63, .ref q_71, .ref q_79, .ref q_88, .int (zI 0), .int (zI 0), .int (zI 0), .int (zI 0), .int (zI 0), .ref q_96, .ref q_104, .ref q_113, .ref q_121, .null, .null, .null, .int (zI 0), .int (zI 0), .int (zI 0), .null, .int (zI 0), .int (zI 0), .null, .int (zI 0), .null]))]) rfl ?_
  refine z_putF (q := 16) (kf := 23) (ws' := [(q_129, AI G 38 (fun _ => 0)), (q_121, AI G 38 (fun _ => 0)), (q_113, AI G 204 (fun _ => 0)), (q_104, AI G 51 (fun _ => 0)), (q_96, AI G 51 (fun _ => 0)), (q_88, AL G 800 (fun _ => 0)), (q_79, AI G 8 (fun _ => 0)), (q_71, AI G 8 (fun _ => 0)), (q_63, AI G 8 (fun _ => 0)), (q_55, AI G 8 (fun _ => 0)), (q_47, AI G 8 (fun _ => 0)), (q_39, AI G 7 (fun _ => 0)), (q_31, AI G 7 (fun _ => 0)), (q_23, AI G 7 (fun _ => 0)), (q_15, AI G 7 (fun _ => 0)), (q_7, AI G 7 (fun _ => 0)), (m, .inr (11, [.int (zI 0), .ref q_7, .ref q_15, .ref q_23, .ref q_31, .ref q_39, .int (zI 0), .int (zI 0), .ref q_47, .ref q_55, .ref q_63, .ref q_71, .ref q_79, .ref q_88, .int (zI 0), .int (zI 0), .int (zI 0), .int (zI 0), .int (zI 0), .ref q_96, .ref q_104, .ref q_113, .ref q_121, .ref q_129, .null, .null, .int (zI 0), .int (zI 0), .int (zI 0), .null, .int (zI 0), .int (zI 0), .null, .int (zI 0), .null]))]) C rfl rfl in_X4 tyX4_ok nmX4 (by decide) q1110 rfl rfl hin rfl rfl rfl rfl (nlt rfl) rfl dX4_init_131 ?_
  refine z_aload_n C dX4_init_134 rfl 0 rfl ?_
  refine y_bipush C dX4_init_135 (by decide) ?_
  refine z_newa (atype := .int) (ty := .int) (t0 := 0) (m0 := 38) (a0 := (38, .inl (IA (fun _ => 0)))) C q245 rfl rfl (fun _ => rfl) (by decide) (by decide) (by decide) (Nat.le_of_ble_eq_true rfl) (Nat.le_of_ble_eq_true rfl) dX4_init_137 (fun q_137 => ?_)
  refine z_wsEq (ws' := [(q_137, AI G 38 (fun _ => 0)), (q_129, AI G 38 (fun _ => 0)), (q_121, AI G 38 (fun _ => 0)), (q_113, AI G 204 (fun _ => 0)), (q_104, AI G 51 (fun _ => 0)), (q_96, AI G 51 (fun _ => 0)), (q_88, AL G 800 (fun _ => 0)), (q_79, AI G 8 (fun _ => 0)), (q_71, AI G 8 (fun _ => 0)), (q_63, AI G 8 (fun _ => 0)), (q_55, AI G 8 (fun _ => 0)), (q_47, AI G 8 (fun _ => 0)), (q_39, AI G 7 (fun _ => 0)), (q_31, AI G 7 (fun _ => 0)), (q_23, AI G 7 (fun _ => 0)), (q_15, AI G 7 (fun _ => 0)), (q_7, AI G 7 (fun _ => 0)), (m, .inr (11, [.int (zI 0), .ref q_7, .ref q_15, .ref q_23, .ref q_31, .ref q_39, .int (zI 0), .int (zI 0), .ref q_47, .ref q_55, .ref q_63, .ref q_71, .ref q_79, .ref q_88, .int (zI 0), .int (zI 0), .int (zI 0), .int (zI 0), .int (zI 0), .ref q_96, .ref q_104, .ref q_113, .ref q_121, .ref q_129, .null, .null, .int (zI 0), .int (zI 0), .int (zI 0), .null, .int (zI 0), .int (zI 0), .null, .int (zI 0), .null]))]) rfl ?_
  refine z_putF (q := 17) (kf := 24) (ws' := [(q_137, AI G 38 (fun _ => 0)), (q_129, AI G 38 (fun _ => 0)), (q_121, AI G 38 (fun _ => 0)), (q_113, AI G 204 (fun _ => 0)), (q_104, AI G 51 (fun _ => 0)), (q_96, AI G 51 (fun _ => 0)), (q_88, AL G 800 (fun _ => 0)), (q_79, AI G 8 (fun _ => 0)), (q_71, AI G 8 (fun _ => 0)), (q_63, AI G 8 (fun _ => 0)), (q_55, AI G 8 (fun _ => 0)), (q_47, AI G 8 (fun _ => 0)), (q_39, AI G 7 (fun _ => 0)), (q_31, AI G 7 (fun _ => 0)), (q_23, AI G 7 (fun _ => 0)), (q_15, AI G 7 (fun _ => 0)), (q_7, AI G 7 (fun _ => 0)), (m, .inr (11, [.int (zI 0), .ref q_7, .ref q_15, .ref q_23, .ref q_31, .ref q_39, .int (zI 0), .int (zI 0), .ref q_47, .ref q_55, .ref q_63, .ref q_71, .ref q_79, .ref q_88, .int (zI 0), .int (zI 0), .int (zI 0), .int (zI 0), .int (zI 0), .ref q_96, .ref q_104, .ref q_113, .ref q_121, .ref q_129, .ref q_137, .null, .int (zI 0), .int (zI 0), .int (zI 0), .null, .int (zI 0), .int (zI 0), .null, .int (zI 0), .null]))]) C rfl rfl in_X4 tyX4_ok nmX4 (by decide) q1111 rfl rfl hin rfl rfl rfl rfl (nlt rfl) rfl dX4_init_139 ?_
  refine z_aload_n C dX4_init_142 rfl 0 rfl ?_
  refine y_bipush C dX4_init_143 (by decide) ?_
  refine z_newa (atype := .int) (ty := .int) (t0 := 0) (m0 := 38) (a0 := (38, .inl (IA (fun _ => 0)))) C q245 rfl rfl (fun _ => rfl) (by decide) (by decide) (by decide) (Nat.le_of_ble_eq_true rfl) (Nat.le_of_ble_eq_true rfl) dX4_init_145 (fun q_145 => ?_)
  refine z_wsEq (ws' := [(q_145, AI G 38 (fun _ => 0)), (q_137, AI G 38 (fun _ => 0)), (q_129, AI G 38 (fun _ => 0)), (q_121, AI G 38 (fun _ => 0)), (q_113, AI G 204 (fun _ => 0)), (q_104, AI G 51 (fun _ => 0)), (q_96, AI G 51 (fun _ => 0)), (q_88, AL G 800 (fun _ => 0)), (q_79, AI G 8 (fun _ => 0)), (q_71, AI G 8 (fun _ => 0)), (q_63, AI G 8 (fun _ => 0)), (q_55, AI G 8 (fun _ => 0)), (q_47, AI G 8 (fun _ => 0)), (q_39, AI G 7 (fun _ => 0)), (q_31, AI G 7 (fun _ => 0)), (q_23, AI G 7 (fun _ => 0)), (q_15, AI G 7 (fun _ => 0)), (q_7, AI G 7 (fun _ => 0)), (m, .inr (11, [.int (zI 0), .ref q_7, .ref q_15, .ref q_23, .ref q_31, .ref q_39, .int (zI 0), .int (zI 0), .ref q_47, .ref q_55, .ref q_63, .ref q_71, .ref q_79, .ref q_88, .int (zI 0), .int (zI 0), .int (zI 0), .int (zI 0), .int (zI 0), .ref q_96, .ref q_104, .ref q_113, .ref q_121, .ref q_129, .ref q_137, .null, .int (zI 0), .int (zI 0), .int (zI 0), .null, .int (zI 0), .int (zI 0), .null, .int (zI 0), .null]))]) rfl ?_
  refine z_putF (q := 18) (kf := 25) (ws' := [(q_145, AI G 38 (fun _ => 0)), (q_137, AI G 38 (fun _ => 0)), (q_129, AI G 38 (fun _ => 0)), (q_121, AI G 38 (fun _ => 0)), (q_113, AI G 204 (fun _ => 0)), (q_104, AI G 51 (fun _ => 0)), (q_96, AI G 51 (fun _ => 0)), (q_88, AL G 800 (fun _ => 0)), (q_79, AI G 8 (fun _ => 0)), (q_71, AI G 8 (fun _ => 0)), (q_63, AI G 8 (fun _ => 0)), (q_55, AI G 8 (fun _ => 0)), (q_47, AI G 8 (fun _ => 0)), (q_39, AI G 7 (fun _ => 0)), (q_31, AI G 7 (fun _ => 0)), (q_23, AI G 7 (fun _ => 0)), (q_15, AI G 7 (fun _ => 0)), (q_7, AI G 7 (fun _ => 0)), (m, .inr (11, [.int (zI 0), .ref q_7, .ref q_15, .ref q_23, .ref q_31, .ref q_39, .int (zI 0), .int (zI 0), .ref q_47, .ref q_55, .ref q_63, .ref q_71, .ref q_79, .ref q_88, .int (zI 0), .int (zI 0), .int (zI 0), .int (zI 0), .int (zI 0), .ref q_96, .ref q_104, .ref q_113, .ref q_121, .ref q_129, .ref q_137, .ref q_145, .int (zI 0), .int (zI 0), .int (zI 0), .null, .int (zI 0), .int (zI 0), .null, .int (zI 0), .null]))]) C rfl rfl in_X4 tyX4_ok nmX4 (by decide) q1112 rfl rfl hin rfl rfl rfl rfl (nlt rfl) rfl dX4_init_147 ?_
  refine z_aload_n C dX4_init_150 rfl 0 rfl ?_
  refine y_iconst C dX4_init_151 ?_
  refine z_newa (atype := .int) (ty := .int) (t0 := 0) (m0 := 4) (a0 := (4, .inl (IA (fun _ => 0)))) C q245 rfl rfl (fun _ => rfl) (by decide) (by decide) (by decide) (Nat.le_of_ble_eq_true rfl) (Nat.le_of_ble_eq_true rfl) dX4_init_152 (fun q_152 => ?_)
  refine z_wsEq (ws' := [(q_152, AI G 4 (fun _ => 0)), (q_145, AI G 38 (fun _ => 0)), (q_137, AI G 38 (fun _ => 0)), (q_129, AI G 38 (fun _ => 0)), (q_121, AI G 38 (fun _ => 0)), (q_113, AI G 204 (fun _ => 0)), (q_104, AI G 51 (fun _ => 0)), (q_96, AI G 51 (fun _ => 0)), (q_88, AL G 800 (fun _ => 0)), (q_79, AI G 8 (fun _ => 0)), (q_71, AI G 8 (fun _ => 0)), (q_63, AI G 8 (fun _ => 0)), (q_55, AI G 8 (fun _ => 0)), (q_47, AI G 8 (fun _ => 0)), (q_39, AI G 7 (fun _ => 0)), (q_31, AI G 7 (fun _ => 0)), (q_23, AI G 7 (fun _ => 0)), (q_15, AI G 7 (fun _ => 0)), (q_7, AI G 7 (fun _ => 0)), (m, .inr (11, [.int (zI 0), .ref q_7, .ref q_15, .ref q_23, .ref q_31, .ref q_39, .int (zI 0), .int (zI 0), .ref q_47, .ref q_55, .ref q_63, .ref q_71, .ref q_79, .ref q_88, .int (zI 0), .int (zI 0), .int (zI 0), .int (zI 0), .int (zI 0), .ref q_96, .ref q_104, .ref q_113, .ref q_121, .ref q_129, .ref q_137, .ref q_145, .int (zI 0), .int (zI 0), .int (zI 0), .null, .int (zI 0), .int (zI 0), .null, .int (zI 0), .null]))]) rfl ?_
  refine z_putF (q := 19) (kf := 32) (ws' := [(q_152, AI G 4 (fun _ => 0)), (q_145, AI G 38 (fun _ => 0)), (q_137, AI G 38 (fun _ => 0)), (q_129, AI G 38 (fun _ => 0)), (q_121, AI G 38 (fun _ => 0)), (q_113, AI G 204 (fun _ => 0)), (q_104, AI G 51 (fun _ => 0)), (q_96, AI G 51 (fun _ => 0)), (q_88, AL G 800 (fun _ => 0)), (q_79, AI G 8 (fun _ => 0)), (q_71, AI G 8 (fun _ => 0)), (q_63, AI G 8 (fun _ => 0)), (q_55, AI G 8 (fun _ => 0)), (q_47, AI G 8 (fun _ => 0)), (q_39, AI G 7 (fun _ => 0)), (q_31, AI G 7 (fun _ => 0)), (q_23, AI G 7 (fun _ => 0)), (q_15, AI G 7 (fun _ => 0)), (q_7, AI G 7 (fun _ => 0)), (m, .inr (11, [.int (zI 0), .ref q_7, .ref q_15, .ref q_23, .ref q_31, .ref q_39, .int (zI 0), .int (zI 0), .ref q_47, .ref q_55, .ref q_63, .ref q_71, .ref q_79, .ref q_88, .int (zI 0), .int (zI 0), .int (zI 0), .int (zI 0), .int (zI 0), .ref q_96, .ref q_104, .ref q_113, .ref q_121, .ref q_129, .ref q_137, .ref q_145, .int (zI 0), .int (zI 0), .int (zI 0), .null, .int (zI 0), .int (zI 0), .ref q_152, .int (zI 0), .null]))]) C rfl rfl in_X4 tyX4_ok nmX4 (by decide) q1119 rfl rfl hin rfl rfl rfl rfl (nlt rfl) rfl dX4_init_154 ?_
  refine z_aload_n C dX4_init_157 rfl 0 rfl ?_
  refine y_bipush C dX4_init_158 (by decide) ?_
  refine z_newa (atype := .long) (ty := .long) (t0 := 1) (m0 := 100) (a0 := (100, .inr (.inl (LA (fun _ => 0))))) C q1193 rfl rfl (fun _ => rfl) (by decide) (by decide) (by decide) (Nat.le_of_ble_eq_true rfl) (Nat.le_of_ble_eq_true rfl) dX4_init_160 (fun q_160 => ?_)
  refine z_wsEq (ws' := [(q_160, AL G 100 (fun _ => 0)), (q_152, AI G 4 (fun _ => 0)), (q_145, AI G 38 (fun _ => 0)), (q_137, AI G 38 (fun _ => 0)), (q_129, AI G 38 (fun _ => 0)), (q_121, AI G 38 (fun _ => 0)), (q_113, AI G 204 (fun _ => 0)), (q_104, AI G 51 (fun _ => 0)), (q_96, AI G 51 (fun _ => 0)), (q_88, AL G 800 (fun _ => 0)), (q_79, AI G 8 (fun _ => 0)), (q_71, AI G 8 (fun _ => 0)), (q_63, AI G 8 (fun _ => 0)), (q_55, AI G 8 (fun _ => 0)), (q_47, AI G 8 (fun _ => 0)), (q_39, AI G 7 (fun _ => 0)), (q_31, AI G 7 (fun _ => 0)), (q_23, AI G 7 (fun _ => 0)), (q_15, AI G 7 (fun _ => 0)), (q_7, AI G 7 (fun _ => 0)), (m, .inr (11, [.int (zI 0), .ref q_7, .ref q_15, .ref q_23, .ref q_31, .ref q_39, .int (zI 0), .int (zI 0), .ref q_47, .ref q_55, .ref q_63, .ref q_71, .ref q_79, .ref q_88, .int (zI 0), .int (zI 0), .int (zI 0), .int (zI 0), .int (zI 0), .ref q_96, .ref q_104, .ref q_113, .ref q_121, .ref q_129, .ref q_137, .ref q_145, .int (zI 0), .int (zI 0), .int (zI 0), .null, .int (zI 0), .int (zI 0), .ref q_152, .int (zI 0), .null]))]) rfl ?_
  refine z_putF (q := 20) (kf := 34) (ws' := [(q_160, AL G 100 (fun _ => 0)), (q_152, AI G 4 (fun _ => 0)), (q_145, AI G 38 (fun _ => 0)), (q_137, AI G 38 (fun _ => 0)), (q_129, AI G 38 (fun _ => 0)), (q_121, AI G 38 (fun _ => 0)), (q_113, AI G 204 (fun _ => 0)), (q_104, AI G 51 (fun _ => 0)), (q_96, AI G 51 (fun _ => 0)), (q_88, AL G 800 (fun _ => 0)), (q_79, AI G 8 (fun _ => 0)), (q_71, AI G 8 (fun _ => 0)), (q_63, AI G 8 (fun _ => 0)), (q_55, AI G 8 (fun _ => 0)), (q_47, AI G 8 (fun _ => 0)), (q_39, AI G 7 (fun _ => 0)), (q_31, AI G 7 (fun _ => 0)), (q_23, AI G 7 (fun _ => 0)), (q_15, AI G 7 (fun _ => 0)), (q_7, AI G 7 (fun _ => 0)), (m, .inr (11, [.int (zI 0), .ref q_7, .ref q_15, .ref q_23, .ref q_31, .ref q_39, .int (zI 0), .int (zI 0), .ref q_47, .ref q_55, .ref q_63, .ref q_71, .ref q_79, .ref q_88, .int (zI 0), .int (zI 0), .int (zI 0), .int (zI 0), .int (zI 0), .ref q_96, .ref q_104, .ref q_113, .ref q_121, .ref q_129, .ref q_137, .ref q_145, .int (zI 0), .int (zI 0), .int (zI 0), .null, .int (zI 0), .int (zI 0), .ref q_152, .int (zI 0), .ref q_160]))]) C rfl rfl in_X4 tyX4_ok nmX4 (by decide) q1121 rfl rfl hin rfl rfl rfl rfl (nlt rfl) rfl dX4_init_162 ?_
  refine z_aload_n C dX4_init_165 rfl 0 rfl ?_
  refine y_iconst C dX4_init_166 ?_
  refine z_put (q := 20) (kf := 14) (ws' := [(q_160, AL G 100 (fun _ => 0)), (q_152, AI G 4 (fun _ => 0)), (q_145, AI G 38 (fun _ => 0)), (q_137, AI G 38 (fun _ => 0)), (q_129, AI G 38 (fun _ => 0)), (q_121, AI G 38 (fun _ => 0)), (q_113, AI G 204 (fun _ => 0)), (q_104, AI G 51 (fun _ => 0)), (q_96, AI G 51 (fun _ => 0)), (q_88, AL G 800 (fun _ => 0)), (q_79, AI G 8 (fun _ => 0)), (q_71, AI G 8 (fun _ => 0)), (q_63, AI G 8 (fun _ => 0)), (q_55, AI G 8 (fun _ => 0)), (q_47, AI G 8 (fun _ => 0)), (q_39, AI G 7 (fun _ => 0)), (q_31, AI G 7 (fun _ => 0)), (q_23, AI G 7 (fun _ => 0)), (q_15, AI G 7 (fun _ => 0)), (q_7, AI G 7 (fun _ => 0)), (m, .inr (11, [.int (zI 0), .ref q_7, .ref q_15, .ref q_23, .ref q_31, .ref q_39, .int (zI 0), .int (zI 0), .ref q_47, .ref q_55, .ref q_63, .ref q_71, .ref q_79, .ref q_88, .int (zI 0), .int (zI 0), .int (zI 0), .int (zI 0), .int (zI 0), .ref q_96, .ref q_104, .ref q_113, .ref q_121, .ref q_129, .ref q_137, .ref q_145, .int (zI 0), .int (zI 0), .int (zI 0), .null, .int (zI 0), .int (zI 0), .ref q_152, .int (zI 0), .ref q_160]))]) C rfl rfl in_X4 tyX4_ok nmX4 (by decide) q1101 rfl rfl rfl rfl rfl (nlt rfl) rfl dX4_init_167 ?_
  exact z_vret C hA hQ rfl (Nat.le_of_ble_eq_true rfl) (Nat.le_of_ble_eq_true rfl) ((q_7, q_15, q_23, q_31, q_39, q_47, q_55, q_63, q_71, q_79, q_88, q_96, q_104, q_113, q_121, q_129, q_137, q_145, q_152, q_160)) (trivial) (sb_e [20, 19, 18, 17, 16, 15, 14, 13, 12, 11, 10, 9, 8, 7, 6, 5, 4, 3, 2, 1, 0] rfl rfl) dX4_init_170

set_option maxHeartbeats 4000000 in
theorem ct_X2_init (l : Launch) (G : ZG) (a0 : Nat)  : CT l yX2_init cX2_init 1 none { frames := 1, cells := 4, slots := 28, locals := 12 } G [.ref a0] [(a0, .inr (8, [.null, .null, .null, .null, .int (zI 0), .int (zI 0), .int (zI 0)]))] (Qv G [(a0, .inr (8, [.null, .null, .null, .null, .int (zI 0), .int (zI 0), .int (zI 0)]))] (fun (u : Nat × Nat × Nat × Nat) => True) (fun u => [(a0, .inr (8, [.ref u.1, .ref u.2.1, .ref u.2.2.1, .ref u.2.2.2, .int (zI 0), .int (zI 0), .int (zI 0)])), (u.1, AQ G 4 7 (fun _ => none)), (u.2.1, AI G 7 (fun _ => 0)), (u.2.2.1, AI G 7 (fun _ => 0)), (u.2.2.2, AI G 7 (fun _ => 0))])) := by
  refine z_met (by decide) (Nat.le_of_ble_eq_true rfl) ?_
  intro X A hl0 hA C hQ hin
  subst hl0
  show Z X _ G 0 0 _ 0 [(0, .ref a0)] []
  refine z_aload_n C dX2_init_0 rfl 0 rfl ?_
  refine z_objInit C q834 q106 q107 (Nat.le_of_ble_eq_true rfl) (Nat.le_of_ble_eq_true rfl) dX2_init_1 ?_
  refine z_aload_n C dX2_init_4 rfl 0 rfl ?_
  refine y_bipush C dX2_init_5 (by decide) ?_
  refine z_newq (t0 := 4) (m0 := 7) C q835 C.gk.2.2.2.1 rfl (by decide) (by decide) (by decide) (Nat.le_of_ble_eq_true rfl) (Nat.le_of_ble_eq_true rfl) dX2_init_7 (fun q_7 => ?_)
  refine z_wsEq (ws' := [(q_7, AQ G 4 7 (fun _ => none)), (a0, .inr (8, [.null, .null, .null, .null, .int (zI 0), .int (zI 0), .int (zI 0)]))]) rfl ?_
  refine z_putF (q := 1) (kf := 0) (ws' := [(q_7, AQ G 4 7 (fun _ => none)), (a0, .inr (8, [.ref q_7, .null, .null, .null, .int (zI 0), .int (zI 0), .int (zI 0)]))]) C rfl rfl in_X2 tyX2_ok nmX2 (by decide) q837 rfl rfl hin rfl rfl rfl rfl (nlt rfl) rfl dX2_init_10 ?_
  refine z_aload_n C dX2_init_13 rfl 0 rfl ?_
  refine y_bipush C dX2_init_14 (by decide) ?_
  refine z_newa (atype := .int) (ty := .int) (t0 := 0) (m0 := 7) (a0 := (7, .inl (IA (fun _ => 0)))) C q245 rfl rfl (fun _ => rfl) (by decide) (by decide) (by decide) (Nat.le_of_ble_eq_true rfl) (Nat.le_of_ble_eq_true rfl) dX2_init_16 (fun q_16 => ?_)
  refine z_wsEq (ws' := [(q_16, AI G 7 (fun _ => 0)), (q_7, AQ G 4 7 (fun _ => none)), (a0, .inr (8, [.ref q_7, .null, .null, .null, .int (zI 0), .int (zI 0), .int (zI 0)]))]) rfl ?_
  refine z_putF (q := 2) (kf := 1) (ws' := [(q_16, AI G 7 (fun _ => 0)), (q_7, AQ G 4 7 (fun _ => none)), (a0, .inr (8, [.ref q_7, .ref q_16, .null, .null, .int (zI 0), .int (zI 0), .int (zI 0)]))]) C rfl rfl in_X2 tyX2_ok nmX2 (by decide) q839 rfl rfl hin rfl rfl rfl rfl (nlt rfl) rfl dX2_init_18 ?_
  refine z_aload_n C dX2_init_21 rfl 0 rfl ?_
  refine y_bipush C dX2_init_22 (by decide) ?_
  refine z_newa (atype := .int) (ty := .int) (t0 := 0) (m0 := 7) (a0 := (7, .inl (IA (fun _ => 0)))) C q245 rfl rfl (fun _ => rfl) (by decide) (by decide) (by decide) (Nat.le_of_ble_eq_true rfl) (Nat.le_of_ble_eq_true rfl) dX2_init_24 (fun q_24 => ?_)
  refine z_wsEq (ws' := [(q_24, AI G 7 (fun _ => 0)), (q_16, AI G 7 (fun _ => 0)), (q_7, AQ G 4 7 (fun _ => none)), (a0, .inr (8, [.ref q_7, .ref q_16, .null, .null, .int (zI 0), .int (zI 0), .int (zI 0)]))]) rfl ?_
  refine z_putF (q := 3) (kf := 2) (ws' := [(q_24, AI G 7 (fun _ => 0)), (q_16, AI G 7 (fun _ => 0)), (q_7, AQ G 4 7 (fun _ => none)), (a0, .inr (8, [.ref q_7, .ref q_16, .ref q_24, .null, .int (zI 0), .int (zI 0), .int (zI 0)]))]) C rfl rfl in_X2 tyX2_ok nmX2 (by decide) q841 rfl rfl hin rfl rfl rfl rfl (nlt rfl) rfl dX2_init_26 ?_
  refine z_aload_n C dX2_init_29 rfl 0 rfl ?_
  refine y_bipush C dX2_init_30 (by decide) ?_
  refine z_newa (atype := .int) (ty := .int) (t0 := 0) (m0 := 7) (a0 := (7, .inl (IA (fun _ => 0)))) C q245 rfl rfl (fun _ => rfl) (by decide) (by decide) (by decide) (Nat.le_of_ble_eq_true rfl) (Nat.le_of_ble_eq_true rfl) dX2_init_32 (fun q_32 => ?_)
  refine z_wsEq (ws' := [(q_32, AI G 7 (fun _ => 0)), (q_24, AI G 7 (fun _ => 0)), (q_16, AI G 7 (fun _ => 0)), (q_7, AQ G 4 7 (fun _ => none)), (a0, .inr (8, [.ref q_7, .ref q_16, .ref q_24, .null, .int (zI 0), .int (zI 0), .int (zI 0)]))]) rfl ?_
  refine z_putF (q := 4) (kf := 3) (ws' := [(q_32, AI G 7 (fun _ => 0)), (q_24, AI G 7 (fun _ => 0)), (q_16, AI G 7 (fun _ => 0)), (q_7, AQ G 4 7 (fun _ => none)), (a0, .inr (8, [.ref q_7, .ref q_16, .ref q_24, .ref q_32, .int (zI 0), .int (zI 0), .int (zI 0)]))]) C rfl rfl in_X2 tyX2_ok nmX2 (by decide) q843 rfl rfl hin rfl rfl rfl rfl (nlt rfl) rfl dX2_init_34 ?_
  exact z_vret C hA hQ rfl (Nat.le_of_ble_eq_true rfl) (Nat.le_of_ble_eq_true rfl) ((q_7, q_16, q_24, q_32)) (trivial) (sb_e [4, 3, 2, 1, 0] rfl rfl) dX2_init_37

set_option maxHeartbeats 4000000 in
theorem ct_X3_init (l : Launch) (G : ZG) (a : Nat) (v : Value)  : CT l yX3_init cX3_init 1 none { frames := 1, cells := 0, slots := 0, locals := 12 } G [.ref a] [(a, .inr (9, [v]))] (Qv G [(a, .inr (9, [v]))] (fun (u : Unit) => True) (fun u => [(a, .inr (9, [v]))])) := by
  refine z_met (by decide) (Nat.le_of_ble_eq_true rfl) ?_
  intro X A hl0 hA C hQ hin
  subst hl0
  show Z X _ G 0 0 _ 0 [(0, .ref a)] []
  refine z_aload_n C dX3_init_0 rfl 0 rfl ?_
  refine z_objInit C q875 q106 q107 (Nat.le_of_ble_eq_true rfl) (Nat.le_of_ble_eq_true rfl) dX3_init_1 ?_
  exact z_vret C hA hQ rfl (Nat.le_of_ble_eq_true rfl) (Nat.le_of_ble_eq_true rfl) (()) (trivial) (sb_e [0] rfl rfl) dX3_init_4

set_option maxHeartbeats 4000000 in
theorem ct_X8_init_0 (l : Launch) (G : ZG) (a : Nat) (f : Int)  : CT l yX8_init cX8_init 2 none { frames := 1, cells := 0, slots := 0, locals := 12 } G [.ref a, .int (zI f)] [(a, .inr (0, [.int (zI 0)]))] (Qv G [(a, .inr (0, [.int (zI 0)]))] (fun (u : Unit) => True) (fun u => [(a, .inr (0, [.int (zI f)]))])) := by
  refine z_met (by decide) (Nat.le_of_ble_eq_true rfl) ?_
  intro X A hl0 hA C hQ hin
  subst hl0
  show Z X _ G 0 0 _ 0 [(0, .ref a), (1, .int (zI f))] []
  refine z_aload_n C dX8_init_0 rfl 0 rfl ?_
  refine z_objInit C q314 q106 q107 (Nat.le_of_ble_eq_true rfl) (Nat.le_of_ble_eq_true rfl) dX8_init_1 ?_
  refine z_aload_n C dX8_init_4 rfl 0 rfl ?_
  refine z_iload_n C dX8_init_5 rfl 1 rfl ?_
  refine z_putF (q := 0) (kf := 0) (ws' := [(a, .inr (0, [.int (zI f)]))]) C rfl rfl in_X8 tyX8_ok nmX8 (by decide) q315 rfl rfl hin rfl rfl rfl rfl (nlt rfl) rfl dX8_init_6 ?_
  exact z_vret C hA hQ rfl (Nat.le_of_ble_eq_true rfl) (Nat.le_of_ble_eq_true rfl) (()) (trivial) (sb_e [0] rfl rfl) dX8_init_9

set_option maxHeartbeats 4000000 in
theorem ct_X8_init_1 (l : Launch) (G : ZG) (a : Nat) (f : Int)  : CT l yX8_init cX8_init 2 none { frames := 1, cells := 0, slots := 0, locals := 12 } G [.ref a, .int (zI f)] [(a, .inr (1, [.int (zI 0)]))] (Qv G [(a, .inr (1, [.int (zI 0)]))] (fun (u : Unit) => True) (fun u => [(a, .inr (1, [.int (zI f)]))])) := by
  refine z_met (by decide) (Nat.le_of_ble_eq_true rfl) ?_
  intro X A hl0 hA C hQ hin
  subst hl0
  show Z X _ G 0 0 _ 0 [(0, .ref a), (1, .int (zI f))] []
  refine z_aload_n C dX8_init_0 rfl 0 rfl ?_
  refine z_objInit C q314 q106 q107 (Nat.le_of_ble_eq_true rfl) (Nat.le_of_ble_eq_true rfl) dX8_init_1 ?_
  refine z_aload_n C dX8_init_4 rfl 0 rfl ?_
  refine z_iload_n C dX8_init_5 rfl 1 rfl ?_
  refine z_putF (q := 0) (kf := 0) (ws' := [(a, .inr (1, [.int (zI f)]))]) C rfl rfl in_X9 tyX9_ok nmX9 (by decide) q315 rfl rfl hin rfl rfl rfl rfl (nlt rfl) rfl dX8_init_6 ?_
  exact z_vret C hA hQ rfl (Nat.le_of_ble_eq_true rfl) (Nat.le_of_ble_eq_true rfl) (()) (trivial) (sb_e [0] rfl rfl) dX8_init_9

set_option maxHeartbeats 4000000 in
theorem ct_X8_init_2 (l : Launch) (G : ZG) (a : Nat) (f : Int)  : CT l yX8_init cX8_init 2 none { frames := 1, cells := 0, slots := 0, locals := 12 } G [.ref a, .int (zI f)] [(a, .inr (2, [.int (zI 0)]))] (Qv G [(a, .inr (2, [.int (zI 0)]))] (fun (u : Unit) => True) (fun u => [(a, .inr (2, [.int (zI f)]))])) := by
  refine z_met (by decide) (Nat.le_of_ble_eq_true rfl) ?_
  intro X A hl0 hA C hQ hin
  subst hl0
  show Z X _ G 0 0 _ 0 [(0, .ref a), (1, .int (zI f))] []
  refine z_aload_n C dX8_init_0 rfl 0 rfl ?_
  refine z_objInit C q314 q106 q107 (Nat.le_of_ble_eq_true rfl) (Nat.le_of_ble_eq_true rfl) dX8_init_1 ?_
  refine z_aload_n C dX8_init_4 rfl 0 rfl ?_
  refine z_iload_n C dX8_init_5 rfl 1 rfl ?_
  refine z_putF (q := 0) (kf := 0) (ws' := [(a, .inr (2, [.int (zI f)]))]) C rfl rfl in_X10 tyX10_ok nmX10 (by decide) q315 rfl rfl hin rfl rfl rfl rfl (nlt rfl) rfl dX8_init_6 ?_
  exact z_vret C hA hQ rfl (Nat.le_of_ble_eq_true rfl) (Nat.le_of_ble_eq_true rfl) (()) (trivial) (sb_e [0] rfl rfl) dX8_init_9

set_option maxHeartbeats 4000000 in
theorem ct_X8_init_3 (l : Launch) (G : ZG) (a : Nat) (f : Int)  : CT l yX8_init cX8_init 2 none { frames := 1, cells := 0, slots := 0, locals := 12 } G [.ref a, .int (zI f)] [(a, .inr (3, [.int (zI 0)]))] (Qv G [(a, .inr (3, [.int (zI 0)]))] (fun (u : Unit) => True) (fun u => [(a, .inr (3, [.int (zI f)]))])) := by
  refine z_met (by decide) (Nat.le_of_ble_eq_true rfl) ?_
  intro X A hl0 hA C hQ hin
  subst hl0
  show Z X _ G 0 0 _ 0 [(0, .ref a), (1, .int (zI f))] []
  refine z_aload_n C dX8_init_0 rfl 0 rfl ?_
  refine z_objInit C q314 q106 q107 (Nat.le_of_ble_eq_true rfl) (Nat.le_of_ble_eq_true rfl) dX8_init_1 ?_
  refine z_aload_n C dX8_init_4 rfl 0 rfl ?_
  refine z_iload_n C dX8_init_5 rfl 1 rfl ?_
  refine z_putF (q := 0) (kf := 0) (ws' := [(a, .inr (3, [.int (zI f)]))]) C rfl rfl in_X11 tyX11_ok nmX11 (by decide) q315 rfl rfl hin rfl rfl rfl rfl (nlt rfl) rfl dX8_init_6 ?_
  exact z_vret C hA hQ rfl (Nat.le_of_ble_eq_true rfl) (Nat.le_of_ble_eq_true rfl) (()) (trivial) (sb_e [0] rfl rfl) dX8_init_9

set_option maxHeartbeats 4000000 in
theorem ct_X8_init_4 (l : Launch) (G : ZG) (a : Nat) (f : Int)  : CT l yX8_init cX8_init 2 none { frames := 1, cells := 0, slots := 0, locals := 12 } G [.ref a, .int (zI f)] [(a, .inr (4, [.int (zI 0)]))] (Qv G [(a, .inr (4, [.int (zI 0)]))] (fun (u : Unit) => True) (fun u => [(a, .inr (4, [.int (zI f)]))])) := by
  refine z_met (by decide) (Nat.le_of_ble_eq_true rfl) ?_
  intro X A hl0 hA C hQ hin
  subst hl0
  show Z X _ G 0 0 _ 0 [(0, .ref a), (1, .int (zI f))] []
  refine z_aload_n C dX8_init_0 rfl 0 rfl ?_
  refine z_objInit C q314 q106 q107 (Nat.le_of_ble_eq_true rfl) (Nat.le_of_ble_eq_true rfl) dX8_init_1 ?_
  refine z_aload_n C dX8_init_4 rfl 0 rfl ?_
  refine z_iload_n C dX8_init_5 rfl 1 rfl ?_
  refine z_putF (q := 0) (kf := 0) (ws' := [(a, .inr (4, [.int (zI f)]))]) C rfl rfl in_X12 tyX12_ok nmX12 (by decide) q315 rfl rfl hin rfl rfl rfl rfl (nlt rfl) rfl dX8_init_6 ?_
  exact z_vret C hA hQ rfl (Nat.le_of_ble_eq_true rfl) (Nat.le_of_ble_eq_true rfl) (()) (trivial) (sb_e [0] rfl rfl) dX8_init_9

set_option maxHeartbeats 4000000 in
theorem ct_X8_init_5 (l : Launch) (G : ZG) (a : Nat) (f : Int)  : CT l yX8_init cX8_init 2 none { frames := 1, cells := 0, slots := 0, locals := 12 } G [.ref a, .int (zI f)] [(a, .inr (5, [.int (zI 0)]))] (Qv G [(a, .inr (5, [.int (zI 0)]))] (fun (u : Unit) => True) (fun u => [(a, .inr (5, [.int (zI f)]))])) := by
  refine z_met (by decide) (Nat.le_of_ble_eq_true rfl) ?_
  intro X A hl0 hA C hQ hin
  subst hl0
  show Z X _ G 0 0 _ 0 [(0, .ref a), (1, .int (zI f))] []
  refine z_aload_n C dX8_init_0 rfl 0 rfl ?_
  refine z_objInit C q314 q106 q107 (Nat.le_of_ble_eq_true rfl) (Nat.le_of_ble_eq_true rfl) dX8_init_1 ?_
  refine z_aload_n C dX8_init_4 rfl 0 rfl ?_
  refine z_iload_n C dX8_init_5 rfl 1 rfl ?_
  refine z_putF (q := 0) (kf := 0) (ws' := [(a, .inr (5, [.int (zI f)]))]) C rfl rfl in_X13 tyX13_ok nmX13 (by decide) q315 rfl rfl hin rfl rfl rfl rfl (nlt rfl) rfl dX8_init_6 ?_
  exact z_vret C hA hQ rfl (Nat.le_of_ble_eq_true rfl) (Nat.le_of_ble_eq_true rfl) (()) (trivial) (sb_e [0] rfl rfl) dX8_init_9

set_option maxHeartbeats 4000000 in
theorem ct_X8_init_6 (l : Launch) (G : ZG) (a : Nat) (f : Int)  : CT l yX8_init cX8_init 2 none { frames := 1, cells := 0, slots := 0, locals := 12 } G [.ref a, .int (zI f)] [(a, .inr (6, [.int (zI 0)]))] (Qv G [(a, .inr (6, [.int (zI 0)]))] (fun (u : Unit) => True) (fun u => [(a, .inr (6, [.int (zI f)]))])) := by
  refine z_met (by decide) (Nat.le_of_ble_eq_true rfl) ?_
  intro X A hl0 hA C hQ hin
  subst hl0
  show Z X _ G 0 0 _ 0 [(0, .ref a), (1, .int (zI f))] []
  refine z_aload_n C dX8_init_0 rfl 0 rfl ?_
  refine z_objInit C q314 q106 q107 (Nat.le_of_ble_eq_true rfl) (Nat.le_of_ble_eq_true rfl) dX8_init_1 ?_
  refine z_aload_n C dX8_init_4 rfl 0 rfl ?_
  refine z_iload_n C dX8_init_5 rfl 1 rfl ?_
  refine z_putF (q := 0) (kf := 0) (ws' := [(a, .inr (6, [.int (zI f)]))]) C rfl rfl in_X14 tyX14_ok nmX14 (by decide) q315 rfl rfl hin rfl rfl rfl rfl (nlt rfl) rfl dX8_init_6 ?_
  exact z_vret C hA hQ rfl (Nat.le_of_ble_eq_true rfl) (Nat.le_of_ble_eq_true rfl) (()) (trivial) (sb_e [0] rfl rfl) dX8_init_9

set_option maxHeartbeats 4000000 in
theorem ct_X8_init_7 (l : Launch) (G : ZG) (a : Nat) (f : Int)  : CT l yX8_init cX8_init 2 none { frames := 1, cells := 0, slots := 0, locals := 12 } G [.ref a, .int (zI f)] [(a, .inr (7, [.int (zI 0)]))] (Qv G [(a, .inr (7, [.int (zI 0)]))] (fun (u : Unit) => True) (fun u => [(a, .inr (7, [.int (zI f)]))])) := by
  refine z_met (by decide) (Nat.le_of_ble_eq_true rfl) ?_
  intro X A hl0 hA C hQ hin
  subst hl0
  show Z X _ G 0 0 _ 0 [(0, .ref a), (1, .int (zI f))] []
  refine z_aload_n C dX8_init_0 rfl 0 rfl ?_
  refine z_objInit C q314 q106 q107 (Nat.le_of_ble_eq_true rfl) (Nat.le_of_ble_eq_true rfl) dX8_init_1 ?_
  refine z_aload_n C dX8_init_4 rfl 0 rfl ?_
  refine z_iload_n C dX8_init_5 rfl 1 rfl ?_
  refine z_putF (q := 0) (kf := 0) (ws' := [(a, .inr (7, [.int (zI f)]))]) C rfl rfl in_X15 tyX15_ok nmX15 (by decide) q315 rfl rfl hin rfl rfl rfl rfl (nlt rfl) rfl dX8_init_6 ?_
  exact z_vret C hA hQ rfl (Nat.le_of_ble_eq_true rfl) (Nat.le_of_ble_eq_true rfl) (()) (trivial) (sb_e [0] rfl rfl) dX8_init_9

set_option maxHeartbeats 4000000 in
theorem ct_X9_init_1 (l : Launch) (G : ZG) (a : Nat) (f : Int)  : CT l yX9_init cX9_init 2 none { frames := 2, cells := 0, slots := 0, locals := 33 } G [.ref a, .int (zI f)] [(a, .inr (1, [.int (zI 0)]))] (Qv G [(a, .inr (1, [.int (zI 0)]))] (fun (u : Unit) => True) (fun u => [(a, .inr (1, [.int (zI f)]))])) := by
  refine z_met (by decide) (Nat.le_of_ble_eq_true rfl) ?_
  intro X A hl0 hA C hQ hin
  subst hl0
  show Z X _ G 0 0 _ 0 [(0, .ref a), (1, .int (zI f))] []
  refine z_aload_n C dX9_init_0 rfl 0 rfl ?_
  refine z_iload_n C dX9_init_1 rfl 1 rfl ?_
  refine z_v (ws' := fun u => [(a, .inr (1, [.int (zI f)]))]) C (z_runI (As := [.int (zI f)]) (rest := []) C (ct_X8_init_1 (zl X) G a f ) q313 q71 q333 q312 (sb_e [0] rfl rfl) (na := 1) (by decide +kernel) rfl (zrm rfl rfl (rfl) (rfl)) rfl (Nat.le_of_ble_eq_true rfl) dX9_init_2) (fun u => jn_e (wr := []) [0] [] [0] rfl rfl rfl (by decide) rfl rfl) (fun u hp_2 => ?_)
  exact z_vret C hA hQ rfl (Nat.le_of_ble_eq_true rfl) (Nat.le_of_ble_eq_true rfl) (()) (trivial) (sb_e [0] rfl rfl) dX9_init_5

set_option maxHeartbeats 4000000 in
theorem ct_X9_init_7 (l : Launch) (G : ZG) (a : Nat) (f : Int)  : CT l yX9_init cX9_init 2 none { frames := 2, cells := 0, slots := 0, locals := 33 } G [.ref a, .int (zI f)] [(a, .inr (7, [.int (zI 0)]))] (Qv G [(a, .inr (7, [.int (zI 0)]))] (fun (u : Unit) => True) (fun u => [(a, .inr (7, [.int (zI f)]))])) := by
  refine z_met (by decide) (Nat.le_of_ble_eq_true rfl) ?_
  intro X A hl0 hA C hQ hin
  subst hl0
  show Z X _ G 0 0 _ 0 [(0, .ref a), (1, .int (zI f))] []
  refine z_aload_n C dX9_init_0 rfl 0 rfl ?_
  refine z_iload_n C dX9_init_1 rfl 1 rfl ?_
  refine z_v (ws' := fun u => [(a, .inr (7, [.int (zI f)]))]) C (z_runI (As := [.int (zI f)]) (rest := []) C (ct_X8_init_7 (zl X) G a f ) q313 q71 q333 q312 (sb_e [0] rfl rfl) (na := 1) (by decide +kernel) rfl (zrm rfl rfl (rfl) (rfl)) rfl (Nat.le_of_ble_eq_true rfl) dX9_init_2) (fun u => jn_e (wr := []) [0] [] [0] rfl rfl rfl (by decide) rfl rfl) (fun u hp_2 => ?_)
  exact z_vret C hA hQ rfl (Nat.le_of_ble_eq_true rfl) (Nat.le_of_ble_eq_true rfl) (()) (trivial) (sb_e [0] rfl rfl) dX9_init_5

set_option maxHeartbeats 4000000 in
theorem ct_X10_init_2 (l : Launch) (G : ZG) (a : Nat) (f : Int)  : CT l yX10_init cX10_init 2 none { frames := 2, cells := 0, slots := 0, locals := 33 } G [.ref a, .int (zI f)] [(a, .inr (2, [.int (zI 0)]))] (Qv G [(a, .inr (2, [.int (zI 0)]))] (fun (u : Unit) => True) (fun u => [(a, .inr (2, [.int (zI f)]))])) := by
  refine z_met (by decide) (Nat.le_of_ble_eq_true rfl) ?_
  intro X A hl0 hA C hQ hin
  subst hl0
  show Z X _ G 0 0 _ 0 [(0, .ref a), (1, .int (zI f))] []
  refine z_aload_n C dX10_init_0 rfl 0 rfl ?_
  refine z_iload_n C dX10_init_1 rfl 1 rfl ?_
  refine z_v (ws' := fun u => [(a, .inr (2, [.int (zI f)]))]) C (z_runI (As := [.int (zI f)]) (rest := []) C (ct_X8_init_2 (zl X) G a f ) q313 q71 q341 q312 (sb_e [0] rfl rfl) (na := 1) (by decide +kernel) rfl (zrm rfl rfl (rfl) (rfl)) rfl (Nat.le_of_ble_eq_true rfl) dX10_init_2) (fun u => jn_e (wr := []) [0] [] [0] rfl rfl rfl (by decide) rfl rfl) (fun u hp_2 => ?_)
  exact z_vret C hA hQ rfl (Nat.le_of_ble_eq_true rfl) (Nat.le_of_ble_eq_true rfl) (()) (trivial) (sb_e [0] rfl rfl) dX10_init_5

set_option maxHeartbeats 4000000 in
theorem ct_X11_init_3 (l : Launch) (G : ZG) (a : Nat) (f : Int)  : CT l yX11_init cX11_init 2 none { frames := 2, cells := 0, slots := 0, locals := 33 } G [.ref a, .int (zI f)] [(a, .inr (3, [.int (zI 0)]))] (Qv G [(a, .inr (3, [.int (zI 0)]))] (fun (u : Unit) => True) (fun u => [(a, .inr (3, [.int (zI f)]))])) := by
  refine z_met (by decide) (Nat.le_of_ble_eq_true rfl) ?_
  intro X A hl0 hA C hQ hin
  subst hl0
  show Z X _ G 0 0 _ 0 [(0, .ref a), (1, .int (zI f))] []
  refine z_aload_n C dX11_init_0 rfl 0 rfl ?_
  refine z_iload_n C dX11_init_1 rfl 1 rfl ?_
  refine z_v (ws' := fun u => [(a, .inr (3, [.int (zI f)]))]) C (z_runI (As := [.int (zI f)]) (rest := []) C (ct_X8_init_3 (zl X) G a f ) q313 q71 q349 q312 (sb_e [0] rfl rfl) (na := 1) (by decide +kernel) rfl (zrm rfl rfl (rfl) (rfl)) rfl (Nat.le_of_ble_eq_true rfl) dX11_init_2) (fun u => jn_e (wr := []) [0] [] [0] rfl rfl rfl (by decide) rfl rfl) (fun u hp_2 => ?_)
  exact z_vret C hA hQ rfl (Nat.le_of_ble_eq_true rfl) (Nat.le_of_ble_eq_true rfl) (()) (trivial) (sb_e [0] rfl rfl) dX11_init_5

set_option maxHeartbeats 4000000 in
theorem ct_X11_init_6 (l : Launch) (G : ZG) (a : Nat) (f : Int)  : CT l yX11_init cX11_init 2 none { frames := 2, cells := 0, slots := 0, locals := 33 } G [.ref a, .int (zI f)] [(a, .inr (6, [.int (zI 0)]))] (Qv G [(a, .inr (6, [.int (zI 0)]))] (fun (u : Unit) => True) (fun u => [(a, .inr (6, [.int (zI f)]))])) := by
  refine z_met (by decide) (Nat.le_of_ble_eq_true rfl) ?_
  intro X A hl0 hA C hQ hin
  subst hl0
  show Z X _ G 0 0 _ 0 [(0, .ref a), (1, .int (zI f))] []
  refine z_aload_n C dX11_init_0 rfl 0 rfl ?_
  refine z_iload_n C dX11_init_1 rfl 1 rfl ?_
  refine z_v (ws' := fun u => [(a, .inr (6, [.int (zI f)]))]) C (z_runI (As := [.int (zI f)]) (rest := []) C (ct_X8_init_6 (zl X) G a f ) q313 q71 q349 q312 (sb_e [0] rfl rfl) (na := 1) (by decide +kernel) rfl (zrm rfl rfl (rfl) (rfl)) rfl (Nat.le_of_ble_eq_true rfl) dX11_init_2) (fun u => jn_e (wr := []) [0] [] [0] rfl rfl rfl (by decide) rfl rfl) (fun u hp_2 => ?_)
  exact z_vret C hA hQ rfl (Nat.le_of_ble_eq_true rfl) (Nat.le_of_ble_eq_true rfl) (()) (trivial) (sb_e [0] rfl rfl) dX11_init_5

set_option maxHeartbeats 4000000 in
theorem ct_X12_init_4 (l : Launch) (G : ZG) (a : Nat) (f : Int)  : CT l yX12_init cX12_init 2 none { frames := 2, cells := 0, slots := 0, locals := 33 } G [.ref a, .int (zI f)] [(a, .inr (4, [.int (zI 0)]))] (Qv G [(a, .inr (4, [.int (zI 0)]))] (fun (u : Unit) => True) (fun u => [(a, .inr (4, [.int (zI f)]))])) := by
  refine z_met (by decide) (Nat.le_of_ble_eq_true rfl) ?_
  intro X A hl0 hA C hQ hin
  subst hl0
  show Z X _ G 0 0 _ 0 [(0, .ref a), (1, .int (zI f))] []
  refine z_aload_n C dX12_init_0 rfl 0 rfl ?_
  refine z_iload_n C dX12_init_1 rfl 1 rfl ?_
  refine z_v (ws' := fun u => [(a, .inr (4, [.int (zI f)]))]) C (z_runI (As := [.int (zI f)]) (rest := []) C (ct_X8_init_4 (zl X) G a f ) q313 q71 q357 q312 (sb_e [0] rfl rfl) (na := 1) (by decide +kernel) rfl (zrm rfl rfl (rfl) (rfl)) rfl (Nat.le_of_ble_eq_true rfl) dX12_init_2) (fun u => jn_e (wr := []) [0] [] [0] rfl rfl rfl (by decide) rfl rfl) (fun u hp_2 => ?_)
  exact z_vret C hA hQ rfl (Nat.le_of_ble_eq_true rfl) (Nat.le_of_ble_eq_true rfl) (()) (trivial) (sb_e [0] rfl rfl) dX12_init_5

set_option maxHeartbeats 4000000 in
theorem ct_X13_init_5 (l : Launch) (G : ZG) (a : Nat) (f : Int)  : CT l yX13_init cX13_init 2 none { frames := 2, cells := 0, slots := 0, locals := 33 } G [.ref a, .int (zI f)] [(a, .inr (5, [.int (zI 0)]))] (Qv G [(a, .inr (5, [.int (zI 0)]))] (fun (u : Unit) => True) (fun u => [(a, .inr (5, [.int (zI f)]))])) := by
  refine z_met (by decide) (Nat.le_of_ble_eq_true rfl) ?_
  intro X A hl0 hA C hQ hin
  subst hl0
  show Z X _ G 0 0 _ 0 [(0, .ref a), (1, .int (zI f))] []
  refine z_aload_n C dX13_init_0 rfl 0 rfl ?_
  refine z_iload_n C dX13_init_1 rfl 1 rfl ?_
  refine z_v (ws' := fun u => [(a, .inr (5, [.int (zI f)]))]) C (z_runI (As := [.int (zI f)]) (rest := []) C (ct_X8_init_5 (zl X) G a f ) q313 q71 q365 q312 (sb_e [0] rfl rfl) (na := 1) (by decide +kernel) rfl (zrm rfl rfl (rfl) (rfl)) rfl (Nat.le_of_ble_eq_true rfl) dX13_init_2) (fun u => jn_e (wr := []) [0] [] [0] rfl rfl rfl (by decide) rfl rfl) (fun u hp_2 => ?_)
  exact z_vret C hA hQ rfl (Nat.le_of_ble_eq_true rfl) (Nat.le_of_ble_eq_true rfl) (()) (trivial) (sb_e [0] rfl rfl) dX13_init_5

set_option maxHeartbeats 4000000 in
theorem ct_X14_init_6 (l : Launch) (G : ZG) (a : Nat) (f : Int)  : CT l yX14_init cX14_init 2 none { frames := 3, cells := 0, slots := 0, locals := 54 } G [.ref a, .int (zI f)] [(a, .inr (6, [.int (zI 0)]))] (Qv G [(a, .inr (6, [.int (zI 0)]))] (fun (u : Unit) => True) (fun u => [(a, .inr (6, [.int (zI f)]))])) := by
  refine z_met (by decide) (Nat.le_of_ble_eq_true rfl) ?_
  intro X A hl0 hA C hQ hin
  subst hl0
  show Z X _ G 0 0 _ 0 [(0, .ref a), (1, .int (zI f))] []
  refine z_aload_n C dX14_init_0 rfl 0 rfl ?_
  refine z_iload_n C dX14_init_1 rfl 1 rfl ?_
  refine z_v (ws' := fun u => [(a, .inr (6, [.int (zI f)]))]) C (z_runI (As := [.int (zI f)]) (rest := []) C (ct_X11_init_6 (zl X) G a f ) q348 q74 q373 q347 (sb_e [0] rfl rfl) (na := 1) (by decide +kernel) rfl (zrm rfl rfl (rfl) (rfl)) rfl (Nat.le_of_ble_eq_true rfl) dX14_init_2) (fun u => jn_e (wr := []) [0] [] [0] rfl rfl rfl (by decide) rfl rfl) (fun u hp_2 => ?_)
  exact z_vret C hA hQ rfl (Nat.le_of_ble_eq_true rfl) (Nat.le_of_ble_eq_true rfl) (()) (trivial) (sb_e [0] rfl rfl) dX14_init_5

set_option maxHeartbeats 4000000 in
theorem ct_X15_init_7 (l : Launch) (G : ZG) (a : Nat) (f : Int)  : CT l yX15_init cX15_init 2 none { frames := 3, cells := 0, slots := 0, locals := 54 } G [.ref a, .int (zI f)] [(a, .inr (7, [.int (zI 0)]))] (Qv G [(a, .inr (7, [.int (zI 0)]))] (fun (u : Unit) => True) (fun u => [(a, .inr (7, [.int (zI f)]))])) := by
  refine z_met (by decide) (Nat.le_of_ble_eq_true rfl) ?_
  intro X A hl0 hA C hQ hin
  subst hl0
  show Z X _ G 0 0 _ 0 [(0, .ref a), (1, .int (zI f))] []
  refine z_aload_n C dX15_init_0 rfl 0 rfl ?_
  refine z_iload_n C dX15_init_1 rfl 1 rfl ?_
  refine z_v (ws' := fun u => [(a, .inr (7, [.int (zI f)]))]) C (z_runI (As := [.int (zI f)]) (rest := []) C (ct_X9_init_7 (zl X) G a f ) q332 q72 q381 q331 (sb_e [0] rfl rfl) (na := 1) (by decide +kernel) rfl (zrm rfl rfl (rfl) (rfl)) rfl (Nat.le_of_ble_eq_true rfl) dX15_init_2) (fun u => jn_e (wr := []) [0] [] [0] rfl rfl rfl (by decide) rfl rfl) (fun u hp_2 => ?_)
  exact z_vret C hA hQ rfl (Nat.le_of_ble_eq_true rfl) (Nat.le_of_ble_eq_true rfl) (()) (trivial) (sb_e [0] rfl rfl) dX15_init_5

set_option maxHeartbeats 4000000 in
theorem ct_X6_init (l : Launch) (G : ZG) (a : Nat) (c0 : Int) (p0 : Int)  : CT l yX6_init cX6_init 3 none { frames := 1, cells := 1, slots := 4, locals := 12 } G [.ref a, .int (zI c0), .int (zI p0)] [(a, .inr (13, [.int (zI 0), .int (zI 0), .null, .int (zI 0)]))] (Qv G [(a, .inr (13, [.int (zI 0), .int (zI 0), .null, .int (zI 0)]))] (fun (u : Nat) => True) (fun u => [(a, .inr (13, [.int (zI c0), .int (zI p0), .ref u, .int (zI 0)])), (u, AI G 4 (fun _ => 0))])) := by
  refine z_met (by decide) (Nat.le_of_ble_eq_true rfl) ?_
  intro X A hl0 hA C hQ hin
  subst hl0
  show Z X _ G 0 0 _ 0 [(0, .ref a), (1, .int (zI c0)), (2, .int (zI p0))] []
  refine z_aload_n C dX6_init_0 rfl 0 rfl ?_
  refine z_objInit C q227 q106 q107 (Nat.le_of_ble_eq_true rfl) (Nat.le_of_ble_eq_true rfl) dX6_init_1 ?_
  refine z_aload_n C dX6_init_4 rfl 0 rfl ?_
  refine y_iconst C dX6_init_5 ?_
  refine z_newa (atype := .int) (ty := .int) (t0 := 0) (m0 := 4) (a0 := (4, .inl (IA (fun _ => 0)))) C q245 rfl rfl (fun _ => rfl) (by decide) (by decide) (by decide) (Nat.le_of_ble_eq_true rfl) (Nat.le_of_ble_eq_true rfl) dX6_init_6 (fun q_6 => ?_)
  refine z_wsEq (ws' := [(q_6, AI G 4 (fun _ => 0)), (a, .inr (13, [.int (zI 0), .int (zI 0), .null, .int (zI 0)]))]) rfl ?_
  refine z_putF (q := 1) (kf := 2) (ws' := [(q_6, AI G 4 (fun _ => 0)), (a, .inr (13, [.int (zI 0), .int (zI 0), .ref q_6, .int (zI 0)]))]) C rfl rfl in_X6 tyX6_ok nmX6 (by decide) q233 rfl rfl hin rfl rfl rfl rfl (nlt rfl) rfl dX6_init_8 ?_
  refine z_aload_n C dX6_init_11 rfl 0 rfl ?_
  refine z_iload_n C dX6_init_12 rfl 1 rfl ?_
  refine z_putF (q := 1) (kf := 0) (ws' := [(q_6, AI G 4 (fun _ => 0)), (a, .inr (13, [.int (zI c0), .int (zI 0), .ref q_6, .int (zI 0)]))]) C rfl rfl in_X6 tyX6_ok nmX6 (by decide) q228 rfl rfl hin rfl rfl rfl rfl (nlt rfl) rfl dX6_init_13 ?_
  refine z_aload_n C dX6_init_16 rfl 0 rfl ?_
  refine z_iload_n C dX6_init_17 rfl 2 rfl ?_
  refine z_putF (q := 1) (kf := 1) (ws' := [(q_6, AI G 4 (fun _ => 0)), (a, .inr (13, [.int (zI c0), .int (zI p0), .ref q_6, .int (zI 0)]))]) C rfl rfl in_X6 tyX6_ok nmX6 (by decide) q231 rfl rfl hin rfl rfl rfl rfl (nlt rfl) rfl dX6_init_18 ?_
  exact z_vret C hA hQ rfl (Nat.le_of_ble_eq_true rfl) (Nat.le_of_ble_eq_true rfl) (q_6) (trivial) (sb_e [1, 0] rfl rfl) dX6_init_21

