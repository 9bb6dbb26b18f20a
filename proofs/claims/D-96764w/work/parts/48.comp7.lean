/-! THE COMPONENT, 7: horseOf -/
set_option maxRecDepth 100000
set_option maxHeartbeats 4000000 in
theorem ct_X1_horseOf (l : Launch) (G : ZG) (k : Nat) (f : Int) (hk8 : k < 8) : CT l yX1_horseOf cX1_horseOf 2 (some (.object "HiredByLonging$Horse")) { frames := 4, cells := 1, slots := 1, locals := 75 } G [.int (zI (k : Int)), .int (zI f)] [] (Qr G [] (fun (u : Unit) => True) (fun u ra => [(ra, .inr (k, [.int (zI f)]))])) := by
  refine z_met (by decide) (Nat.le_of_ble_eq_true rfl) ?_
  intro X A hl0 hA C hQ hin
  subst hl0
  show Z X _ G 0 0 _ 0 [(0, .int (zI (k : Int))), (1, .int (zI f))] []
  refine z_iload_n C dX1_horseOf_0 rfl 0 rfl ?_
  rcases (by omega : ((k : Int) < 0 ∨ 6 < (k : Int)) ∨ (k : Int) = 0 ∨ (k : Int) = 1 ∨ (k : Int) = 2 ∨ (k : Int) = 3 ∨ (k : Int) = 4 ∨ (k : Int) = 5 ∨ (k : Int) = 6) with sw_1 | sw_1 | sw_1 | sw_1 | sw_1 | sw_1 | sw_1 | sw_1
  · skip
    refine y_tabOut (tgt := 107) C (by omega) dX1_horseOf_1 sw_1 (by decide) ?_
    obtain rfl : k = 7 := by omega
    refine z_new (ci := 7) (fs := [.int (zI 0)]) C in_X15 tyX15_ok q376 q377 q78 rfl (fun j hj => by rcases (show j = 0 by omega) with rfl <;> rfl) (Nat.le_of_ble_eq_true rfl) (Nat.le_of_ble_eq_true rfl) dX1_horseOf_107 (fun q_107 => ?_)
    refine z_wsEq (ws' := [(q_107, .inr (7, [.int (zI 0)]))]) rfl ?_
    refine z_dup C dX1_horseOf_110 rfl ?_
    refine z_iload_n C dX1_horseOf_111 rfl 1 rfl ?_
    refine z_v (ws' := fun u => [(q_107, .inr (7, [.int (zI f)]))]) C (z_runI (As := [.int (zI f)]) (rest := [.ref q_107]) C (ct_X15_init_7 (zl X) G q_107 f ) q380 q78 q378 q379 (sb_e [0] rfl rfl) (na := 1) (by decide +kernel) rfl (zrm rfl rfl (rfl) (rfl)) rfl (Nat.le_of_ble_eq_true rfl) dX1_horseOf_112) (fun u => jn_e (wr := []) [0] [] [0] rfl rfl rfl (by decide) rfl rfl) (fun u hp_112 => ?_)
    exact z_aret C hA hQ rfl (Or.inl ⟨_, rfl⟩) (Nat.le_of_ble_eq_true rfl) (Nat.le_of_ble_eq_true rfl) (()) (trivial) (sb_e [0] rfl rfl) dX1_horseOf_115
  · skip
    refine y_tabIn (off := 43) (tgt := 44) C (by omega) dX1_horseOf_1 (by omega) (by rw [sw_1]; rfl) (by decide) ?_
    obtain rfl : k = 0 := by omega
    refine z_new (ci := 0) (fs := [.int (zI 0)]) C in_X8 tyX8_ok q309 q310 q71 rfl (fun j hj => by rcases (show j = 0 by omega) with rfl <;> rfl) (Nat.le_of_ble_eq_true rfl) (Nat.le_of_ble_eq_true rfl) dX1_horseOf_44 (fun q_44 => ?_)
    refine z_wsEq (ws' := [(q_44, .inr (0, [.int (zI 0)]))]) rfl ?_
    refine z_dup C dX1_horseOf_47 rfl ?_
    refine z_iload_n C dX1_horseOf_48 rfl 1 rfl ?_
    refine z_v (ws' := fun u => [(q_44, .inr (0, [.int (zI f)]))]) C (z_runI (As := [.int (zI f)]) (rest := [.ref q_44]) C (ct_X8_init_0 (zl X) G q_44 f ) q313 q71 q311 q312 (sb_e [0] rfl rfl) (na := 1) (by decide +kernel) rfl (zrm rfl rfl (rfl) (rfl)) rfl (Nat.le_of_ble_eq_true rfl) dX1_horseOf_49) (fun u => jn_e (wr := []) [0] [] [0] rfl rfl rfl (by decide) rfl rfl) (fun u hp_49 => ?_)
    exact z_aret C hA hQ rfl (Or.inl ⟨_, rfl⟩) (Nat.le_of_ble_eq_true rfl) (Nat.le_of_ble_eq_true rfl) (()) (trivial) (sb_e [0] rfl rfl) dX1_horseOf_52
  · skip
    refine y_tabIn (off := 52) (tgt := 53) C (by omega) dX1_horseOf_1 (by omega) (by rw [sw_1]; rfl) (by decide) ?_
    obtain rfl : k = 1 := by omega
    refine z_new (ci := 1) (fs := [.int (zI 0)]) C in_X9 tyX9_ok q328 q329 q72 rfl (fun j hj => by rcases (show j = 0 by omega) with rfl <;> rfl) (Nat.le_of_ble_eq_true rfl) (Nat.le_of_ble_eq_true rfl) dX1_horseOf_53 (fun q_53 => ?_)
    refine z_wsEq (ws' := [(q_53, .inr (1, [.int (zI 0)]))]) rfl ?_
    refine z_dup C dX1_horseOf_56 rfl ?_
    refine z_iload_n C dX1_horseOf_57 rfl 1 rfl ?_
    refine z_v (ws' := fun u => [(q_53, .inr (1, [.int (zI f)]))]) C (z_runI (As := [.int (zI f)]) (rest := [.ref q_53]) C (ct_X9_init_1 (zl X) G q_53 f ) q332 q72 q330 q331 (sb_e [0] rfl rfl) (na := 1) (by decide +kernel) rfl (zrm rfl rfl (rfl) (rfl)) rfl (Nat.le_of_ble_eq_true rfl) dX1_horseOf_58) (fun u => jn_e (wr := []) [0] [] [0] rfl rfl rfl (by decide) rfl rfl) (fun u hp_58 => ?_)
    exact z_aret C hA hQ rfl (Or.inl ⟨_, rfl⟩) (Nat.le_of_ble_eq_true rfl) (Nat.le_of_ble_eq_true rfl) (()) (trivial) (sb_e [0] rfl rfl) dX1_horseOf_61
  · skip
    refine y_tabIn (off := 61) (tgt := 62) C (by omega) dX1_horseOf_1 (by omega) (by rw [sw_1]; rfl) (by decide) ?_
    obtain rfl : k = 2 := by omega
    refine z_new (ci := 2) (fs := [.int (zI 0)]) C in_X10 tyX10_ok q336 q337 q73 rfl (fun j hj => by rcases (show j = 0 by omega) with rfl <;> rfl) (Nat.le_of_ble_eq_true rfl) (Nat.le_of_ble_eq_true rfl) dX1_horseOf_62 (fun q_62 => ?_)
    refine z_wsEq (ws' := [(q_62, .inr (2, [.int (zI 0)]))]) rfl ?_
    refine z_dup C dX1_horseOf_65 rfl ?_
    refine z_iload_n C dX1_horseOf_66 rfl 1 rfl ?_
    refine z_v (ws' := fun u => [(q_62, .inr (2, [.int (zI f)]))]) C (z_runI (As := [.int (zI f)]) (rest := [.ref q_62]) C (ct_X10_init_2 (zl X) G q_62 f ) q340 q73 q338 q339 (sb_e [0] rfl rfl) (na := 1) (by decide +kernel) rfl (zrm rfl rfl (rfl) (rfl)) rfl (Nat.le_of_ble_eq_true rfl) dX1_horseOf_67) (fun u => jn_e (wr := []) [0] [] [0] rfl rfl rfl (by decide) rfl rfl) (fun u hp_67 => ?_)
    exact z_aret C hA hQ rfl (Or.inl ⟨_, rfl⟩) (Nat.le_of_ble_eq_true rfl) (Nat.le_of_ble_eq_true rfl) (()) (trivial) (sb_e [0] rfl rfl) dX1_horseOf_70
  · skip
    refine y_tabIn (off := 70) (tgt := 71) C (by omega) dX1_horseOf_1 (by omega) (by rw [sw_1]; rfl) (by decide) ?_
    obtain rfl : k = 3 := by omega
    refine z_new (ci := 3) (fs := [.int (zI 0)]) C in_X11 tyX11_ok q344 q345 q74 rfl (fun j hj => by rcases (show j = 0 by omega) with rfl <;> rfl) (Nat.le_of_ble_eq_true rfl) (Nat.le_of_ble_eq_true rfl) dX1_horseOf_71 (fun q_71 => ?_)
    refine z_wsEq (ws' := [(q_71, .inr (3, [.int (zI 0)]))]) rfl ?_
    refine z_dup C dX1_horseOf_74 rfl ?_
    refine z_iload_n C dX1_horseOf_75 rfl 1 rfl ?_
    refine z_v (ws' := fun u => [(q_71, .inr (3, [.int (zI f)]))]) C (z_runI (As := [.int (zI f)]) (rest := [.ref q_71]) C (ct_X11_init_3 (zl X) G q_71 f ) q348 q74 q346 q347 (sb_e [0] rfl rfl) (na := 1) (by decide +kernel) rfl (zrm rfl rfl (rfl) (rfl)) rfl (Nat.le_of_ble_eq_true rfl) dX1_horseOf_76) (fun u => jn_e (wr := []) [0] [] [0] rfl rfl rfl (by decide) rfl rfl) (fun u hp_76 => ?_)
    exact z_aret C hA hQ rfl (Or.inl ⟨_, rfl⟩) (Nat.le_of_ble_eq_true rfl) (Nat.le_of_ble_eq_true rfl) (()) (trivial) (sb_e [0] rfl rfl) dX1_horseOf_79
  · skip
    refine y_tabIn (off := 79) (tgt := 80) C (by omega) dX1_horseOf_1 (by omega) (by rw [sw_1]; rfl) (by decide) ?_
    obtain rfl : k = 4 := by omega
    refine z_new (ci := 4) (fs := [.int (zI 0)]) C in_X12 tyX12_ok q352 q353 q75 rfl (fun j hj => by rcases (show j = 0 by omega) with rfl <;> rfl) (Nat.le_of_ble_eq_true rfl) (Nat.le_of_ble_eq_true rfl) dX1_horseOf_80 (fun q_80 => ?_)
    refine z_wsEq (ws' := [(q_80, .inr (4, [.int (zI 0)]))]) rfl ?_
    refine z_dup C dX1_horseOf_83 rfl ?_
    refine z_iload_n C dX1_horseOf_84 rfl 1 rfl ?_
    refine z_v (ws' := fun u => [(q_80, .inr (4, [.int (zI f)]))]) C (z_runI (As := [.int (zI f)]) (rest := [.ref q_80]) C (ct_X12_init_4 (zl X) G q_80 f ) q356 q75 q354 q355 (sb_e [0] rfl rfl) (na := 1) (by decide +kernel) rfl (zrm rfl rfl (rfl) (rfl)) rfl (Nat.le_of_ble_eq_true rfl) dX1_horseOf_85) (fun u => jn_e (wr := []) [0] [] [0] rfl rfl rfl (by decide) rfl rfl) (fun u hp_85 => ?_)
    exact z_aret C hA hQ rfl (Or.inl ⟨_, rfl⟩) (Nat.le_of_ble_eq_true rfl) (Nat.le_of_ble_eq_true rfl) (()) (trivial) (sb_e [0] rfl rfl) dX1_horseOf_88
  · skip
    refine y_tabIn (off := 88) (tgt := 89) C (by omega) dX1_horseOf_1 (by omega) (by rw [sw_1]; rfl) (by decide) ?_
    obtain rfl : k = 5 := by omega
    refine z_new (ci := 5) (fs := [.int (zI 0)]) C in_X13 tyX13_ok q360 q361 q76 rfl (fun j hj => by rcases (show j = 0 by omega) with rfl <;> rfl) (Nat.le_of_ble_eq_true rfl) (Nat.le_of_ble_eq_true rfl) dX1_horseOf_89 (fun q_89 => ?_)
    refine z_wsEq (ws' := [(q_89, .inr (5, [.int (zI 0)]))]) rfl ?_
    refine z_dup C dX1_horseOf_92 rfl ?_
    refine z_iload_n C dX1_horseOf_93 rfl 1 rfl ?_
    refine z_v (ws' := fun u => [(q_89, .inr (5, [.int (zI f)]))]) C (z_runI (As := [.int (zI f)]) (rest := [.ref q_89]) C (ct_X13_init_5 (zl X) G q_89 f ) q364 q76 q362 q363 (sb_e [0] rfl rfl) (na := 1) (by decide +kernel) rfl (zrm rfl rfl (rfl) (rfl)) rfl (Nat.le_of_ble_eq_true rfl) dX1_horseOf_94) (fun u => jn_e (wr := []) [0] [] [0] rfl rfl rfl (by decide) rfl rfl) (fun u hp_94 => ?_)
    exact z_aret C hA hQ rfl (Or.inl ⟨_, rfl⟩) (Nat.le_of_ble_eq_true rfl) (Nat.le_of_ble_eq_true rfl) (()) (trivial) (sb_e [0] rfl rfl) dX1_horseOf_97
  · skip
    refine y_tabIn (off := 97) (tgt := 98) C (by omega) dX1_horseOf_1 (by omega) (by rw [sw_1]; rfl) (by decide) ?_
    obtain rfl : k = 6 := by omega
    refine z_new (ci := 6) (fs := [.int (zI 0)]) C in_X14 tyX14_ok q368 q369 q77 rfl (fun j hj => by rcases (show j = 0 by omega) with rfl <;> rfl) (Nat.le_of_ble_eq_true rfl) (Nat.le_of_ble_eq_true rfl) dX1_horseOf_98 (fun q_98 => ?_)
    refine z_wsEq (ws' := [(q_98, .inr (6, [.int (zI 0)]))]) rfl ?_
    refine z_dup C dX1_horseOf_101 rfl ?_
    refine z_iload_n C dX1_horseOf_102 rfl 1 rfl ?_
    refine z_v (ws' := fun u => [(q_98, .inr (6, [.int (zI f)]))]) C (z_runI (As := [.int (zI f)]) (rest := [.ref q_98]) C (ct_X14_init_6 (zl X) G q_98 f ) q372 q77 q370 q371 (sb_e [0] rfl rfl) (na := 1) (by decide +kernel) rfl (zrm rfl rfl (rfl) (rfl)) rfl (Nat.le_of_ble_eq_true rfl) dX1_horseOf_103) (fun u => jn_e (wr := []) [0] [] [0] rfl rfl rfl (by decide) rfl rfl) (fun u hp_103 => ?_)
    exact z_aret C hA hQ rfl (Or.inl ⟨_, rfl⟩) (Nat.le_of_ble_eq_true rfl) (Nat.le_of_ble_eq_true rfl) (()) (trivial) (sb_e [0] rfl rfl) dX1_horseOf_106

