/-! THE COMPONENT, 5: horse, count, image, restore, has, chain -/
set_option maxRecDepth 100000
def oHorse (kd : Nat → Nat) (fg : Nat → Int) (hm : Nat → Int) (at_ : Nat → Int) (lg : Nat → Int) (n : Nat) (oa : Int) (h : Int) (what : Int) : Int := if (0 ≤ h ∧ h ≤ (n : Int) - 1) then (if what = 0 then (kd h.toNat : Int) else (if what = 1 then fg h.toNat else (if what = 2 then hm h.toNat else (if what = 3 then at_ h.toNat else (if what = 4 then lg h.toNat else (if what = 5 then goalZ (kd h.toNat) (hm h.toNat) (at_ h.toNat) oa else (if what = 6 then paceZ (kd h.toNat) (fg h.toNat) (lg h.toNat) else (if what = 7 then walkZ (kd h.toNat) else (-1))))))))) else -1
/-- the figure of a horse of any kind -/
theorem pool_fig {X : ZE} {Y : ZY} {G : ZG} {k n : Nat} {ws : va_W} {pc : Nat} {lv : List (Nat × Value)} {st : List Value} (C : CX X Y G) {a kd q idx : Nat} {f : Int} (hkd : kd < 8) (he : ws[q]? = some (a, .inr (kd, [.int (zI f)]))) (hl : Cond.fieldLink (zow Y) idx "HiredByLonging$Horse" "figure" "I" ∈ lw_all) (d : decode (zcc Y) pc = .ok (.getfield idx, 3)) (z : Z X Y G k n ws (pc + 3) lv (.int (zI f) :: st)) : Z X Y G k n ws pc lv (.ref a :: st) := by
  rcases (show kd = 0 ∨ kd = 1 ∨ kd = 2 ∨ kd = 3 ∨ kd = 4 ∨ kd = 5 ∨ kd = 6 ∨ kd = 7 by omega) with rfl | rfl | rfl | rfl | rfl | rfl | rfl | rfl
  · exact z_get (kf := 0) C he rfl in_X8 (by decide) hl (Or.inl rfl) rfl d z
  · exact z_get (kf := 0) C he rfl in_X9 (by decide) hl (Or.inl rfl) rfl d z
  · exact z_get (kf := 0) C he rfl in_X10 (by decide) hl (Or.inl rfl) rfl d z
  · exact z_get (kf := 0) C he rfl in_X11 (by decide) hl (Or.inl rfl) rfl d z
  · exact z_get (kf := 0) C he rfl in_X12 (by decide) hl (Or.inl rfl) rfl d z
  · exact z_get (kf := 0) C he rfl in_X13 (by decide) hl (Or.inl rfl) rfl d z
  · exact z_get (kf := 0) C he rfl in_X14 (by decide) hl (Or.inl rfl) rfl d z
  · exact z_get (kf := 0) C he rfl in_X15 (by decide) hl (Or.inl rfl) rfl d z
set_option maxHeartbeats 4000000 in
theorem ct_X1_horse (l : Launch) (G : ZG) (x : Nat) (b0 : Nat) (m0 : Nat) (tl : Nat) (le : Nat) (sh : Nat) (im : Int) (fw : Int) (fh : Int) (lo : Int) (a0 : Nat) (a1 : Nat) (a2 : Nat) (a3 : Nat) (a4 : Nat) (r : Nat → Option Nat) (hm : Nat → Int) (at_ : Nat → Int) (lg : Nat → Int) (n : Nat) (oa : Int) (dy : Int) (LP : List Nat) (hk : Nat → Nat) (hf : Nat → Int) (kd : Nat → Nat) (fg : Nat → Int) (h : Int) (what : Int) (hH : HR LP hk hf r n kd fg) (hL : LK n kd fg hm at_ lg oa) (rh : -2147483648 ≤ h ∧ h ≤ 2147483647) (rwhat : -2147483648 ≤ what ∧ what ≤ 2147483647) : CT l yX1_horse cX1_horse 4 (some .int) { frames := 4, cells := 0, slots := 0, locals := 79 } G [.ref x, .int (zI h), .int (zI what)] ([(x, .inr (10, [.ref a0, .ref b0, .ref m0, .int (zI im), .ref tl, .ref le, .int (zI fw), .int (zI fh), .int (zI lo), .ref sh])), (a0, .inr (8, [.ref a1, .ref a2, .ref a3, .ref a4, .int (zI (n : Int)), .int (zI oa), .int (zI dy)])), (a1, AQ G 4 7 r), (a2, AI G 7 hm), (a3, AI G 7 at_), (a4, AI G 7 lg)] ++ PL LP hk hf) (Qi G ([(x, .inr (10, [.ref a0, .ref b0, .ref m0, .int (zI im), .ref tl, .ref le, .int (zI fw), .int (zI fh), .int (zI lo), .ref sh])), (a0, .inr (8, [.ref a1, .ref a2, .ref a3, .ref a4, .int (zI (n : Int)), .int (zI oa), .int (zI dy)])), (a1, AQ G 4 7 r), (a2, AI G 7 hm), (a3, AI G 7 at_), (a4, AI G 7 lg)] ++ PL LP hk hf) (fun (r : Int32) (u : Unit) => r = zI (oHorse kd fg hm at_ lg n oa h what)) (fun u => ([(x, .inr (10, [.ref a0, .ref b0, .ref m0, .int (zI im), .ref tl, .ref le, .int (zI fw), .int (zI fh), .int (zI lo), .ref sh])), (a0, .inr (8, [.ref a1, .ref a2, .ref a3, .ref a4, .int (zI (n : Int)), .int (zI oa), .int (zI dy)])), (a1, AQ G 4 7 r), (a2, AI G 7 hm), (a3, AI G 7 at_), (a4, AI G 7 lg)] ++ PL LP hk hf))) := by
  refine z_met (by decide) (Nat.le_of_ble_eq_true rfl) ?_
  intro X A hl0 hA C hQ hin
  subst hl0
  obtain ⟨hn7, hoa, hLj⟩ := id hL
  show Z X _ G 0 0 _ 0 [(0, .ref x), (1, .int (zI h)), (2, .int (zI what))] []
  refine z_aload_n C dX1_horse_0 rfl 0 rfl ?_
  refine z_get (q := 0) (kf := 0) (v := .ref a0) C rfl rfl in_X1 (by decide) q880 (Or.inl rfl) rfl dX1_horse_1 ?_
  refine z_iload_n C dX1_horse_4 rfl 1 rfl ?_
  refine z_i C (z_runV (q := 1) (As := [.int (zI h)]) (rest := []) C (ct_X2_isHorse (zl X) G a0 a1 a2 a3 a4 n oa dy h (by first | assumption | omega) (by first | assumption | omega)) (lw_V q388 q389 q390 q59 q391) rfl rfl (sb_e [1] rfl rfl) (na := 1) (by decide +kernel) rfl (zrm rfl rfl (rfl) (rfl)) rfl (Nat.le_of_ble_eq_true rfl) dX1_horse_5) (fun u => jn_ro (sb_e [1] rfl rfl)) (fun r_5 u hp_5 => ?_)
  have hp_5 : r_5 = zI (bI (0 ≤ h ∧ h ≤ (n : Int) - 1)) := hp_5
  subst hp_5
  refine y_bne (tgt := 13) C dX1_horse_8 (by decide) (fun c_8 => ?_) (fun c_8 => ?_)
  · skip
    obtain ⟨j, rfl⟩ := Int.eq_ofNat_of_zero_le (show 0 ≤ h by omega)
    have hj : j < n := by omega
    obtain ⟨hk1, hf1, hm1, ha1, hl1⟩ := hLj j hj
    obtain ⟨y, hy1, hy2, hy3, hy4⟩ := hH j hj
    refine z_aload_n C dX1_horse_13 rfl 0 rfl ?_
    refine z_get (q := 0) (kf := 0) (v := .ref a0) C rfl rfl in_X1 (by decide) q880 (Or.inl rfl) rfl dX1_horse_14 ?_
    refine z_get (q := 1) (kf := 0) (v := .ref a1) C rfl rfl in_X2 (by decide) q838 (Or.inl rfl) rfl dX1_horse_17 ?_
    refine z_iload_n C dX1_horse_20 rfl 1 rfl ?_
    refine y_aldq (q := 2) (t0 := 4) (v := .ref y) C rfl rfl (by omega) (by decide) (by show va_rf (r j) = _; rw [hy1]; rfl) dX1_horse_21 ?_
    refine z_astore_n (lv' := [(3, .ref y), (0, .ref x), (1, .int (zI (j : Int))), (2, .int (zI what))]) C dX1_horse_22 rfl (nlt rfl) rfl ?_
    refine z_iload_n C dX1_horse_23 rfl 3 rfl ?_
    rcases (by omega : (what < 0 ∨ 7 < what) ∨ what = 0 ∨ what = 1 ∨ what = 2 ∨ what = 3 ∨ what = 4 ∨ what = 5 ∨ what = 6 ∨ what = 7) with sw_24 | sw_24 | sw_24 | sw_24 | sw_24 | sw_24 | sw_24 | sw_24 | sw_24
    · skip
      refine y_tabOut (tgt := 135) C (by omega) dX1_horse_24 sw_24 (by decide) ?_
      refine y_iconst C dX1_horse_135 ?_
      exact z_iret C hA hQ rfl (Nat.le_of_ble_eq_true rfl) (Nat.le_of_ble_eq_true rfl) (()) (congrArg zI (by unfold oHorse; (try simp only [zTN]); (repeat (first | rw [if_pos (by omega)] | rw [if_neg (by omega)])))) (sb_p [0, 1, 2, 3, 4, 5] rfl rfl) dX1_horse_136
    · skip
      refine y_tabIn (off := 48) (tgt := 72) C (by omega) dX1_horse_24 (by omega) (by rw [sw_24]; rfl) (by decide) ?_
      refine z_aload_n C dX1_horse_72 rfl 0 rfl ?_
      obtain ⟨q_73, hq_73⟩ := pl_at (E := [(x, .inr (10, [.ref a0, .ref b0, .ref m0, .int (zI im), .ref tl, .ref le, .int (zI fw), .int (zI fh), .int (zI lo), .ref sh])), (a0, .inr (8, [.ref a1, .ref a2, .ref a3, .ref a4, .int (zI (n : Int)), .int (zI oa), .int (zI dy)])), (a1, AQ G 4 7 r), (a2, AI G 7 hm), (a3, AI G 7 at_), (a4, AI G 7 lg)]) (hk := hk) (hf := hf) hy2
      rw [hy3, hy4] at hq_73
      refine dsp_kind C (kd := kd j) (f := fg j) hk1 hq_73 (C.ts _ q541)  (Nat.le_of_ble_eq_true rfl) (Nat.le_of_ble_eq_true rfl) (Nat.le_of_ble_eq_true rfl) (Nat.le_of_ble_eq_true rfl) (Nat.le_of_ble_eq_true rfl) dX1_horse_73 ?_
      exact z_iret C hA hQ rfl (Nat.le_of_ble_eq_true rfl) (Nat.le_of_ble_eq_true rfl) (()) (congrArg zI (by unfold oHorse; (try simp only [zTN]); (repeat (first | rw [if_pos (by omega)] | rw [if_neg (by omega)])))) (sb_p [0, 1, 2, 3, 4, 5] rfl rfl) dX1_horse_76
    · skip
      refine y_tabIn (off := 53) (tgt := 77) C (by omega) dX1_horse_24 (by omega) (by rw [sw_24]; rfl) (by decide) ?_
      refine z_aload_n C dX1_horse_77 rfl 0 rfl ?_
      obtain ⟨q_78, hq_78⟩ := pl_at (E := [(x, .inr (10, [.ref a0, .ref b0, .ref m0, .int (zI im), .ref tl, .ref le, .int (zI fw), .int (zI fh), .int (zI lo), .ref sh])), (a0, .inr (8, [.ref a1, .ref a2, .ref a3, .ref a4, .int (zI (n : Int)), .int (zI oa), .int (zI dy)])), (a1, AQ G 4 7 r), (a2, AI G 7 hm), (a3, AI G 7 at_), (a4, AI G 7 lg)]) (hk := hk) (hf := hf) hy2
      rw [hy4] at hq_78
      refine pool_fig C hk1 (hy3 ▸ hq_78) q324 dX1_horse_78 ?_
      exact z_iret C hA hQ rfl (Nat.le_of_ble_eq_true rfl) (Nat.le_of_ble_eq_true rfl) (()) (congrArg zI (by unfold oHorse; (try simp only [zTN]); (repeat (first | rw [if_pos (by omega)] | rw [if_neg (by omega)])))) (sb_p [0, 1, 2, 3, 4, 5] rfl rfl) dX1_horse_81
    · skip
      refine y_tabIn (off := 58) (tgt := 82) C (by omega) dX1_horse_24 (by omega) (by rw [sw_24]; rfl) (by decide) ?_
      refine z_aload_n C dX1_horse_82 rfl 1 rfl ?_
      refine z_get (q := 0) (kf := 0) (v := .ref a0) C rfl rfl in_X1 (by decide) q880 (Or.inl rfl) rfl dX1_horse_83 ?_
      refine z_get (q := 1) (kf := 1) (v := .ref a2) C rfl rfl in_X2 (by decide) q840 (Or.inl rfl) rfl dX1_horse_86 ?_
      refine z_iload_n C dX1_horse_89 rfl 2 rfl ?_
      refine y_iald (q := 3) (t0 := 0) (v := hm j) C rfl rfl (by omega) (by decide) rfl dX1_horse_90 ?_
      exact z_iret C hA hQ rfl (Nat.le_of_ble_eq_true rfl) (Nat.le_of_ble_eq_true rfl) (()) (congrArg zI (by unfold oHorse; (try simp only [zTN]); (repeat (first | rw [if_pos (by omega)] | rw [if_neg (by omega)])))) (sb_p [0, 1, 2, 3, 4, 5] rfl rfl) dX1_horse_91
    · skip
      refine y_tabIn (off := 68) (tgt := 92) C (by omega) dX1_horse_24 (by omega) (by rw [sw_24]; rfl) (by decide) ?_
      refine z_aload_n C dX1_horse_92 rfl 1 rfl ?_
      refine z_get (q := 0) (kf := 0) (v := .ref a0) C rfl rfl in_X1 (by decide) q880 (Or.inl rfl) rfl dX1_horse_93 ?_
      refine z_get (q := 1) (kf := 2) (v := .ref a3) C rfl rfl in_X2 (by decide) q842 (Or.inl rfl) rfl dX1_horse_96 ?_
      refine z_iload_n C dX1_horse_99 rfl 2 rfl ?_
      refine y_iald (q := 4) (t0 := 0) (v := at_ j) C rfl rfl (by omega) (by decide) rfl dX1_horse_100 ?_
      exact z_iret C hA hQ rfl (Nat.le_of_ble_eq_true rfl) (Nat.le_of_ble_eq_true rfl) (()) (congrArg zI (by unfold oHorse; (try simp only [zTN]); (repeat (first | rw [if_pos (by omega)] | rw [if_neg (by omega)])))) (sb_p [0, 1, 2, 3, 4, 5] rfl rfl) dX1_horse_101
    · skip
      refine y_tabIn (off := 78) (tgt := 102) C (by omega) dX1_horse_24 (by omega) (by rw [sw_24]; rfl) (by decide) ?_
      refine z_aload_n C dX1_horse_102 rfl 1 rfl ?_
      refine z_get (q := 0) (kf := 0) (v := .ref a0) C rfl rfl in_X1 (by decide) q880 (Or.inl rfl) rfl dX1_horse_103 ?_
      refine z_get (q := 1) (kf := 3) (v := .ref a4) C rfl rfl in_X2 (by decide) q844 (Or.inl rfl) rfl dX1_horse_106 ?_
      refine z_iload_n C dX1_horse_109 rfl 2 rfl ?_
      refine y_iald (q := 5) (t0 := 0) (v := lg j) C rfl rfl (by omega) (by decide) rfl dX1_horse_110 ?_
      exact z_iret C hA hQ rfl (Nat.le_of_ble_eq_true rfl) (Nat.le_of_ble_eq_true rfl) (()) (congrArg zI (by unfold oHorse; (try simp only [zTN]); (repeat (first | rw [if_pos (by omega)] | rw [if_neg (by omega)])))) (sb_p [0, 1, 2, 3, 4, 5] rfl rfl) dX1_horse_111
    · skip
      refine y_tabIn (off := 88) (tgt := 112) C (by omega) dX1_horse_24 (by omega) (by rw [sw_24]; rfl) (by decide) ?_
      refine z_aload_n C dX1_horse_112 rfl 1 rfl ?_
      refine z_get (q := 0) (kf := 0) (v := .ref a0) C rfl rfl in_X1 (by decide) q880 (Or.inl rfl) rfl dX1_horse_113 ?_
      refine z_iload_n C dX1_horse_116 rfl 2 rfl ?_
      refine z_i C (z_runV (q := 1) (As := [.int (zI (j : Int))]) (rest := []) C (ct_X2_goal (zl X) G a0 a1 a2 a3 a4 r hm at_ lg n oa dy LP hk hf kd fg j (by first | assumption | omega) (by first | assumption | omega) (by first | assumption | omega)) (lw_V q567 q408 q409 q59 q410) rfl rfl (sb_p [1, 2, 3, 4, 5] rfl rfl) (na := 1) (by decide +kernel) rfl (zrm rfl rfl (rfl) (rfl)) rfl (Nat.le_of_ble_eq_true rfl) dX1_horse_117) (fun u => jn_ro (sb_p [1, 2, 3, 4, 5] rfl rfl)) (fun r_117 u hp_117 => ?_)
      have hp_117 : r_117 = zI (goalZ (kd j) (hm j) (at_ j) oa) := hp_117
      subst hp_117
      exact z_iret C hA hQ rfl (Nat.le_of_ble_eq_true rfl) (Nat.le_of_ble_eq_true rfl) (()) (congrArg zI (by unfold oHorse; (try simp only [zTN]); (repeat (first | rw [if_pos (by omega)] | rw [if_neg (by omega)])))) (sb_p [0, 1, 2, 3, 4, 5] rfl rfl) dX1_horse_120
    · skip
      refine y_tabIn (off := 97) (tgt := 121) C (by omega) dX1_horse_24 (by omega) (by rw [sw_24]; rfl) (by decide) ?_
      refine z_aload_n C dX1_horse_121 rfl 1 rfl ?_
      refine z_get (q := 0) (kf := 0) (v := .ref a0) C rfl rfl in_X1 (by decide) q880 (Or.inl rfl) rfl dX1_horse_122 ?_
      refine z_iload_n C dX1_horse_125 rfl 2 rfl ?_
      refine z_i C (z_runV (q := 1) (As := [.int (zI (j : Int))]) (rest := []) C (ct_X2_pace (zl X) G a0 a1 a2 a3 a4 r hm at_ lg n oa dy LP hk hf kd fg j (by first | assumption | omega) (by first | assumption | omega) (by first | assumption | omega)) (lw_V q568 q439 q440 q59 q441) rfl rfl (sb_p [1, 2, 3, 4, 5] rfl rfl) (na := 1) (by decide +kernel) rfl (zrm rfl rfl (rfl) (rfl)) rfl (Nat.le_of_ble_eq_true rfl) dX1_horse_126) (fun u => jn_ro (sb_p [1, 2, 3, 4, 5] rfl rfl)) (fun r_126 u hp_126 => ?_)
      have hp_126 : r_126 = zI (paceZ (kd j) (fg j) (lg j)) := hp_126
      subst hp_126
      exact z_iret C hA hQ rfl (Nat.le_of_ble_eq_true rfl) (Nat.le_of_ble_eq_true rfl) (()) (congrArg zI (by unfold oHorse; (try simp only [zTN]); (repeat (first | rw [if_pos (by omega)] | rw [if_neg (by omega)])))) (sb_p [0, 1, 2, 3, 4, 5] rfl rfl) dX1_horse_129
    · skip
      refine y_tabIn (off := 106) (tgt := 130) C (by omega) dX1_horse_24 (by omega) (by rw [sw_24]; rfl) (by decide) ?_
      refine z_aload_n C dX1_horse_130 rfl 0 rfl ?_
      obtain ⟨q_131, hq_131⟩ := pl_at (E := [(x, .inr (10, [.ref a0, .ref b0, .ref m0, .int (zI im), .ref tl, .ref le, .int (zI fw), .int (zI fh), .int (zI lo), .ref sh])), (a0, .inr (8, [.ref a1, .ref a2, .ref a3, .ref a4, .int (zI (n : Int)), .int (zI oa), .int (zI dy)])), (a1, AQ G 4 7 r), (a2, AI G 7 hm), (a3, AI G 7 at_), (a4, AI G 7 lg)]) (hk := hk) (hf := hf) hy2
      rw [hy3, hy4] at hq_131
      refine dsp_walk C (kd := kd j) (f := fg j) hk1 hq_131 (gw_25 C.gk.2.1)  (Nat.le_of_ble_eq_true rfl) (Nat.le_of_ble_eq_true rfl) (Nat.le_of_ble_eq_true rfl) (Nat.le_of_ble_eq_true rfl) (Nat.le_of_ble_eq_true rfl) dX1_horse_131 ?_
      exact z_iret C hA hQ rfl (Nat.le_of_ble_eq_true rfl) (Nat.le_of_ble_eq_true rfl) (()) (congrArg zI (by unfold oHorse; (try simp only [zTN]); (repeat (first | rw [if_pos (by omega)] | rw [if_neg (by omega)])))) (sb_p [0, 1, 2, 3, 4, 5] rfl rfl) dX1_horse_134
  · skip
    refine y_iconst C dX1_horse_11 ?_
    exact z_iret C hA hQ rfl (Nat.le_of_ble_eq_true rfl) (Nat.le_of_ble_eq_true rfl) (()) (congrArg zI (by unfold oHorse; (try simp only [zTN]); (repeat (first | rw [if_pos (by omega)] | rw [if_neg (by omega)])))) (sb_p [0, 1, 2, 3, 4, 5] rfl rfl) dX1_horse_12

def paF (kd : Nat → Nat) (fg lg : Nat → Int) (j : Nat) : Int := paceZ (kd j) (fg j) (lg j)
def oCount (kd : Nat → Nat) (fg : Nat → Int) (hm : Nat → Int) (at_ : Nat → Int) (lg : Nat → Int) (n : Nat) (oa : Int) (dy : Int) (what : Int) : Int := if what = 0 then (n : Int) else (if what = 1 then oa else (if what = 2 then dy else (if what = 3 then sumL lg n else (if what = 4 then manyL kd hm at_ oa n else (if what = 5 then sumF (paF kd fg lg) n else (-1))))))
set_option maxHeartbeats 4000000 in
theorem ct_X1_count (l : Launch) (G : ZG) (x : Nat) (b0 : Nat) (m0 : Nat) (tl : Nat) (le : Nat) (sh : Nat) (im : Int) (fw : Int) (fh : Int) (lo : Int) (a0 : Nat) (a1 : Nat) (a2 : Nat) (a3 : Nat) (a4 : Nat) (r : Nat → Option Nat) (hm : Nat → Int) (at_ : Nat → Int) (lg : Nat → Int) (n : Nat) (oa : Int) (dy : Int) (LP : List Nat) (hk : Nat → Nat) (hf : Nat → Int) (kd : Nat → Nat) (fg : Nat → Int) (what : Int) (hH : HR LP hk hf r n kd fg) (hL : LK n kd fg hm at_ lg oa) (rwhat : -2147483648 ≤ what ∧ what ≤ 2147483647) : CT l yX1_count cX1_count 4 (some .int) { frames := 6, cells := 0, slots := 0, locals := 122 } G [.ref x, .int (zI what)] ([(x, .inr (10, [.ref a0, .ref b0, .ref m0, .int (zI im), .ref tl, .ref le, .int (zI fw), .int (zI fh), .int (zI lo), .ref sh])), (a0, .inr (8, [.ref a1, .ref a2, .ref a3, .ref a4, .int (zI (n : Int)), .int (zI oa), .int (zI dy)])), (a1, AQ G 4 7 r), (a2, AI G 7 hm), (a3, AI G 7 at_), (a4, AI G 7 lg)] ++ PL LP hk hf) (Qi G ([(x, .inr (10, [.ref a0, .ref b0, .ref m0, .int (zI im), .ref tl, .ref le, .int (zI fw), .int (zI fh), .int (zI lo), .ref sh])), (a0, .inr (8, [.ref a1, .ref a2, .ref a3, .ref a4, .int (zI (n : Int)), .int (zI oa), .int (zI dy)])), (a1, AQ G 4 7 r), (a2, AI G 7 hm), (a3, AI G 7 at_), (a4, AI G 7 lg)] ++ PL LP hk hf) (fun (r : Int32) (u : Unit) => r = zI (oCount kd fg hm at_ lg n oa dy what)) (fun u => ([(x, .inr (10, [.ref a0, .ref b0, .ref m0, .int (zI im), .ref tl, .ref le, .int (zI fw), .int (zI fh), .int (zI lo), .ref sh])), (a0, .inr (8, [.ref a1, .ref a2, .ref a3, .ref a4, .int (zI (n : Int)), .int (zI oa), .int (zI dy)])), (a1, AQ G 4 7 r), (a2, AI G 7 hm), (a3, AI G 7 at_), (a4, AI G 7 lg)] ++ PL LP hk hf))) := by
  refine z_met (by decide) (Nat.le_of_ble_eq_true rfl) ?_
  intro X A hl0 hA C hQ hin
  subst hl0
  obtain ⟨hn7, hoa, hLj⟩ := id hL
  show Z X _ G 0 0 _ 0 [(0, .ref x), (1, .int (zI what))] []
  refine y_iconst C dX1_count_0 ?_
  refine z_istore_n (lv' := [(2, .int (zI 0)), (0, .ref x), (1, .int (zI what))]) C dX1_count_1 rfl (nlt rfl) rfl ?_
  refine z_iload_n C dX1_count_2 rfl 2 rfl ?_
  rcases (by omega : (what < 0 ∨ 5 < what) ∨ what = 0 ∨ what = 1 ∨ what = 2 ∨ what = 3 ∨ what = 4 ∨ what = 5) with sw_3 | sw_3 | sw_3 | sw_3 | sw_3 | sw_3 | sw_3
  · skip
    refine y_tabOut (tgt := 112) C (by omega) dX1_count_3 sw_3 (by decide) ?_
    refine y_iconst C dX1_count_112 ?_
    exact z_iret C hA hQ rfl (Nat.le_of_ble_eq_true rfl) (Nat.le_of_ble_eq_true rfl) (()) (congrArg zI (by unfold oCount; (repeat (first | rw [if_pos (by omega)] | rw [if_neg (by omega)])))) (sb_p [0, 1, 2, 3, 4, 5] rfl rfl) dX1_count_113
  · skip
    refine y_tabIn (off := 37) (tgt := 40) C (by omega) dX1_count_3 (by omega) (by rw [sw_3]; rfl) (by decide) ?_
    refine z_aload_n C dX1_count_40 rfl 1 rfl ?_
    refine z_get (q := 0) (kf := 0) (v := .ref a0) C rfl rfl in_X1 (by decide) q880 (Or.inl rfl) rfl dX1_count_41 ?_
    refine z_get (q := 1) (kf := 4) (v := .int (zI (n : Int))) C rfl rfl in_X2 (by decide) q846 (Or.inl rfl) rfl dX1_count_44 ?_
    exact z_iret C hA hQ rfl (Nat.le_of_ble_eq_true rfl) (Nat.le_of_ble_eq_true rfl) (()) (congrArg zI (by unfold oCount; (repeat (first | rw [if_pos (by omega)] | rw [if_neg (by omega)])))) (sb_p [0, 1, 2, 3, 4, 5] rfl rfl) dX1_count_47
  · skip
    refine y_tabIn (off := 45) (tgt := 48) C (by omega) dX1_count_3 (by omega) (by rw [sw_3]; rfl) (by decide) ?_
    refine z_aload_n C dX1_count_48 rfl 1 rfl ?_
    refine z_get (q := 0) (kf := 0) (v := .ref a0) C rfl rfl in_X1 (by decide) q880 (Or.inl rfl) rfl dX1_count_49 ?_
    refine z_get (q := 1) (kf := 5) (v := .int (zI oa)) C rfl rfl in_X2 (by decide) q848 (Or.inl rfl) rfl dX1_count_52 ?_
    exact z_iret C hA hQ rfl (Nat.le_of_ble_eq_true rfl) (Nat.le_of_ble_eq_true rfl) (()) (congrArg zI (by unfold oCount; (repeat (first | rw [if_pos (by omega)] | rw [if_neg (by omega)])))) (sb_p [0, 1, 2, 3, 4, 5] rfl rfl) dX1_count_55
  · skip
    refine y_tabIn (off := 53) (tgt := 56) C (by omega) dX1_count_3 (by omega) (by rw [sw_3]; rfl) (by decide) ?_
    refine z_aload_n C dX1_count_56 rfl 1 rfl ?_
    refine z_get (q := 0) (kf := 0) (v := .ref a0) C rfl rfl in_X1 (by decide) q880 (Or.inl rfl) rfl dX1_count_57 ?_
    refine z_get (q := 1) (kf := 6) (v := .int (zI dy)) C rfl rfl in_X2 (by decide) q850 (Or.inl rfl) rfl dX1_count_60 ?_
    exact z_iret C hA hQ rfl (Nat.le_of_ble_eq_true rfl) (Nat.le_of_ble_eq_true rfl) (()) (congrArg zI (by unfold oCount; (repeat (first | rw [if_pos (by omega)] | rw [if_neg (by omega)])))) (sb_p [0, 1, 2, 3, 4, 5] rfl rfl) dX1_count_63
  · skip
    refine y_tabIn (off := 61) (tgt := 64) C (by omega) dX1_count_3 (by omega) (by rw [sw_3]; rfl) (by decide) ?_
    refine z_aload_n C dX1_count_64 rfl 1 rfl ?_
    refine z_get (q := 0) (kf := 0) (v := .ref a0) C rfl rfl in_X1 (by decide) q880 (Or.inl rfl) rfl dX1_count_65 ?_
    refine z_i C (z_runV (q := 1) (As := []) (rest := []) C (ct_X2_allLonging (zl X) G a0 a1 a2 a3 a4 lg n oa dy (by first | assumption | omega)) (lw_V q597 q598 q599 q59 q600) rfl rfl (sb_e [1, 5] rfl rfl) (na := 0) (by decide +kernel) rfl (zrm rfl rfl (rfl) (rfl)) rfl (Nat.le_of_ble_eq_true rfl) dX1_count_68) (fun u => jn_ro (sb_e [1, 5] rfl rfl)) (fun r_68 u hp_68 => ?_)
    have hp_68 : r_68 = zI (sumL lg n) := hp_68
    subst hp_68
    exact z_iret C hA hQ rfl (Nat.le_of_ble_eq_true rfl) (Nat.le_of_ble_eq_true rfl) (()) (congrArg zI (by unfold oCount; (repeat (first | rw [if_pos (by omega)] | rw [if_neg (by omega)])))) (sb_p [0, 1, 2, 3, 4, 5] rfl rfl) dX1_count_71
  · skip
    refine y_tabIn (off := 69) (tgt := 72) C (by omega) dX1_count_3 (by omega) (by rw [sw_3]; rfl) (by decide) ?_
    refine z_aload_n C dX1_count_72 rfl 1 rfl ?_
    refine z_get (q := 0) (kf := 0) (v := .ref a0) C rfl rfl in_X1 (by decide) q880 (Or.inl rfl) rfl dX1_count_73 ?_
    refine z_i C (z_runV (q := 1) (As := []) (rest := []) C (ct_X2_manyAtGoals (zl X) G a0 a1 a2 a3 a4 r hm at_ lg n oa dy LP hk hf kd fg (by first | assumption | omega) (by first | assumption | omega)) (lw_V q809 q810 q811 q59 q812) rfl rfl (sb_p [1, 2, 3, 4, 5] rfl rfl) (na := 0) (by decide +kernel) rfl (zrm rfl rfl (rfl) (rfl)) rfl (Nat.le_of_ble_eq_true rfl) dX1_count_76) (fun u => jn_ro (sb_p [1, 2, 3, 4, 5] rfl rfl)) (fun r_76 u hp_76 => ?_)
    have hp_76 : r_76 = zI (manyL kd hm at_ oa n) := hp_76
    subst hp_76
    exact z_iret C hA hQ rfl (Nat.le_of_ble_eq_true rfl) (Nat.le_of_ble_eq_true rfl) (()) (congrArg zI (by unfold oCount; (repeat (first | rw [if_pos (by omega)] | rw [if_neg (by omega)])))) (sb_p [0, 1, 2, 3, 4, 5] rfl rfl) dX1_count_79
  · skip
    refine y_tabIn (off := 77) (tgt := 80) C (by omega) dX1_count_3 (by omega) (by rw [sw_3]; rfl) (by decide) ?_
    refine y_iconst C dX1_count_80 ?_
    refine z_istore_n (lv' := [(3, .int (zI 0)), (2, .int (zI 0)), (0, .ref x), (1, .int (zI what))]) C dX1_count_81 rfl (nlt rfl) rfl ?_
    have L_82 : ∀ (tt : Nat) (i : Nat), (i ≤ n) → n - i = tt → Z X (cX1_count, 4, yX1_count.cls, (some .int), { frames := 6, cells := 0, slots := 0, locals := 122 }, A) G 0 0 ([(x, .inr (10, [.ref a0, .ref b0, .ref m0, .int (zI im), .ref tl, .ref le, .int (zI fw), .int (zI fh), .int (zI lo), .ref sh])), (a0, .inr (8, [.ref a1, .ref a2, .ref a3, .ref a4, .int (zI (n : Int)), .int (zI oa), .int (zI dy)])), (a1, AQ G 4 7 r), (a2, AI G 7 hm), (a3, AI G 7 at_), (a4, AI G 7 lg)] ++ PL LP hk hf) 82 [(3, .int (zI (i : Int))), (2, .int (zI (sumF (paF kd fg lg) i))), (0, .ref x)] [] := by
      intro tt
      induction tt using Nat.strongRecOn with
      | _ tt ih_82 =>
        intro i hi ht_82
        refine z_iload_n C dX1_count_82 rfl 0 rfl ?_
        refine z_aload_n C dX1_count_83 rfl 2 rfl ?_
        refine z_get (q := 0) (kf := 0) (v := .ref a0) C rfl rfl in_X1 (by decide) q880 (Or.inl rfl) rfl dX1_count_84 ?_
        refine z_get (q := 1) (kf := 4) (v := .int (zI (n : Int))) C rfl rfl in_X2 (by decide) q846 (Or.inl rfl) rfl dX1_count_87 ?_
        refine y_icmp_ge (tgt := 110) C (by omega) (by omega) dX1_count_90 (by decide) (fun c_90 => ?_) (fun c_90 => ?_)
        · skip
          rw [show (i : Nat) = n by omega]
          refine z_iload_n C dX1_count_110 rfl 1 rfl ?_
          exact z_iret C hA hQ rfl (Nat.le_of_ble_eq_true rfl) (Nat.le_of_ble_eq_true rfl) (()) (congrArg zI (by unfold oCount; (repeat (first | rw [if_pos (by omega)] | rw [if_neg (by omega)])))) (sb_p [0, 1, 2, 3, 4, 5] rfl rfl) dX1_count_111
        · skip
          refine z_iload_n C dX1_count_93 rfl 1 rfl ?_
          refine z_aload_n C dX1_count_94 rfl 2 rfl ?_
          refine z_get (q := 0) (kf := 0) (v := .ref a0) C rfl rfl in_X1 (by decide) q880 (Or.inl rfl) rfl dX1_count_95 ?_
          refine z_iload_n C dX1_count_98 rfl 0 rfl ?_
          refine z_i C (z_runV (q := 1) (As := [.int (zI (i : Int))]) (rest := [.int (zI (sumF (paF kd fg lg) i))]) C (ct_X2_pace (zl X) G a0 a1 a2 a3 a4 r hm at_ lg n oa dy LP hk hf kd fg i (by first | assumption | omega) (by first | assumption | omega) (by omega)) (lw_V q568 q439 q440 q59 q441) rfl rfl (sb_p [1, 2, 3, 4, 5] rfl rfl) (na := 1) (by decide +kernel) rfl (zrm rfl rfl (rfl) (rfl)) rfl (Nat.le_of_ble_eq_true rfl) dX1_count_99) (fun u => jn_ro (sb_p [1, 2, 3, 4, 5] rfl rfl)) (fun r_99 u hp_99 => ?_)
          have hp_99 : r_99 = zI (paceZ (kd i) (fg i) (lg i)) := hp_99
          subst hp_99
          refine y_iadd C dX1_count_102 ?_
          refine z_istore_n (lv' := [(2, .int (zI ((sumF (paF kd fg lg) i) + (paceZ (kd i) (fg i) (lg i))))), (3, .int (zI (i : Int))), (0, .ref x)]) C dX1_count_103 rfl (nlt rfl) rfl ?_
          refine y_iinc (lv' := [(3, .int (zI ((i : Int) + 1))), (2, .int (zI ((sumF (paF kd fg lg) i) + (paceZ (kd i) (fg i) (lg i))))), (0, .ref x)]) C dX1_count_104 (q := 1) rfl (nlt rfl) rfl ?_
          refine z_goto (tgt := 82) C dX1_count_107 (by decide) ?_
          rw [show sumF (paF kd fg lg) i + paceZ (kd i) (fg i) (lg i) = sumF (paF kd fg lg) (i + 1) from rfl]
          exact ih_82 _ (by omega) (i + 1) (by first | assumption | omega) rfl
    refine z_lv (lv' := [(3, .int (zI 0)), (2, .int (zI 0)), (0, .ref x)]) [0, 1, 2] rfl ?_
    exact L_82 _ 0 (by first | assumption | omega) rfl

set_option maxHeartbeats 4000000 in
theorem ct_X1_image (l : Launch) (G : ZG) (x : Nat) (b0 : Nat) (m0 : Nat) (tl : Nat) (le : Nat) (sh : Nat) (im : Int) (fw : Int) (fh : Int) (lo : Int) (a0 : Nat) (a1 : Nat) (a2 : Nat) (a3 : Nat) (a4 : Nat) (b1 : Nat) (b2 : Nat) (b3 : Nat) (b4 : Nat) (r : Nat → Option Nat) (hm : Nat → Int) (at_ : Nat → Int) (lg : Nat → Int) (n : Nat) (oa : Int) (dy : Int) (kr : Nat → Option Nat) (khm : Nat → Int) (kat : Nat → Int) (klg : Nat → Int) (kn : Nat) (koa : Int) (kdy : Int) (LP : List Nat) (hk : Nat → Nat) (hf : Nat → Int) (hK : PK LP hk hf) (hV : RV LP r) : CT l yX1_image cX1_image 1 (some .int) { frames := 3, cells := 0, slots := 0, locals := 60 } G [.ref x] ([(x, .inr (10, [.ref a0, .ref b0, .ref m0, .int (zI im), .ref tl, .ref le, .int (zI fw), .int (zI fh), .int (zI lo), .ref sh])), (a0, .inr (8, [.ref a1, .ref a2, .ref a3, .ref a4, .int (zI (n : Int)), .int (zI oa), .int (zI dy)])), (a1, AQ G 4 7 r), (a2, AI G 7 hm), (a3, AI G 7 at_), (a4, AI G 7 lg), (b0, .inr (8, [.ref b1, .ref b2, .ref b3, .ref b4, .int (zI (kn : Int)), .int (zI koa), .int (zI kdy)])), (b1, AQ G 4 7 kr), (b2, AI G 7 khm), (b3, AI G 7 kat), (b4, AI G 7 klg)] ++ PL LP hk hf) (Qi G ([(x, .inr (10, [.ref a0, .ref b0, .ref m0, .int (zI im), .ref tl, .ref le, .int (zI fw), .int (zI fh), .int (zI lo), .ref sh])), (a0, .inr (8, [.ref a1, .ref a2, .ref a3, .ref a4, .int (zI (n : Int)), .int (zI oa), .int (zI dy)])), (a1, AQ G 4 7 r), (a2, AI G 7 hm), (a3, AI G 7 at_), (a4, AI G 7 lg), (b0, .inr (8, [.ref b1, .ref b2, .ref b3, .ref b4, .int (zI (kn : Int)), .int (zI koa), .int (zI kdy)])), (b1, AQ G 4 7 kr), (b2, AI G 7 khm), (b3, AI G 7 kat), (b4, AI G 7 klg)] ++ PL LP hk hf) (fun (r : Int32) (u : Unit) => r = zI dy) (fun u => ([(x, .inr (10, [.ref a0, .ref b0, .ref m0, .int (zI 1), .ref tl, .ref le, .int (zI fw), .int (zI fh), .int (zI lo), .ref sh])), (a0, .inr (8, [.ref a1, .ref a2, .ref a3, .ref a4, .int (zI (n : Int)), .int (zI oa), .int (zI dy)])), (a1, AQ G 4 7 r), (a2, AI G 7 hm), (a3, AI G 7 at_), (a4, AI G 7 lg), (b0, .inr (8, [.ref b1, .ref b2, .ref b3, .ref b4, .int (zI (n : Int)), .int (zI oa), .int (zI dy)])), (b1, AQ G 4 7 r), (b2, AI G 7 hm), (b3, AI G 7 at_), (b4, AI G 7 lg)] ++ PL LP hk hf))) := by
  refine z_met (by decide) (Nat.le_of_ble_eq_true rfl) ?_
  intro X A hl0 hA C hQ hin
  subst hl0
  show Z X _ G 0 0 _ 0 [(0, .ref x)] []
  refine z_aload_n C dX1_image_0 rfl 0 rfl ?_
  refine z_get (q := 0) (kf := 1) (v := .ref b0) C rfl rfl in_X1 (by decide) q881 (Or.inl rfl) rfl dX1_image_1 ?_
  refine z_aload_n C dX1_image_4 rfl 0 rfl ?_
  refine z_get (q := 0) (kf := 0) (v := .ref a0) C rfl rfl in_X1 (by decide) q880 (Or.inl rfl) rfl dX1_image_5 ?_
  refine z_v (ws' := fun u => ([(x, .inr (10, [.ref a0, .ref b0, .ref m0, .int (zI im), .ref tl, .ref le, .int (zI fw), .int (zI fh), .int (zI lo), .ref sh])), (a0, .inr (8, [.ref a1, .ref a2, .ref a3, .ref a4, .int (zI (n : Int)), .int (zI oa), .int (zI dy)])), (a1, AQ G 4 7 r), (a2, AI G 7 hm), (a3, AI G 7 at_), (a4, AI G 7 lg), (b0, .inr (8, [.ref b1, .ref b2, .ref b3, .ref b4, .int (zI (n : Int)), .int (zI oa), .int (zI dy)])), (b1, AQ G 4 7 r), (b2, AI G 7 hm), (b3, AI G 7 at_), (b4, AI G 7 lg)] ++ PL LP hk hf)) C (z_runV (q := 6) (As := [.ref a0]) (rest := []) C (ct_X2_takes (zl X) G b0 b1 b2 b3 b4 a0 a1 a2 a3 a4 kr khm kat klg kn koa kdy r hm at_ lg n oa dy LP hk hf (by first | assumption | omega) (by first | assumption | omega)) (lw_V q285 q286 q287 q59 q288) rfl rfl (sb_p [6, 7, 8, 9, 10, 1, 2, 3, 4, 5] rfl rfl) (na := 1) (by decide +kernel) rfl (zrm rfl rfl (rfl) (rfl)) rfl (Nat.le_of_ble_eq_true rfl) dX1_image_8) (fun u => jn_p (Lr := [(x, .inr (10, [.ref a0, .ref b0, .ref m0, .int (zI im), .ref tl, .ref le, .int (zI fw), .int (zI fh), .int (zI lo), .ref sh]))]) [6, 7, 8, 9, 10, 1, 2, 3, 4, 5] [0] [0, 6, 7, 8, 9, 10, 1, 2, 3, 4, 5] rfl rfl rfl (by decide) rfl rfl) (fun u hp_8 => ?_)
  refine z_aload_n C dX1_image_11 rfl 0 rfl ?_
  refine y_iconst C dX1_image_12 ?_
  refine z_put (q := 0) (kf := 3) (ws' := ([(x, .inr (10, [.ref a0, .ref b0, .ref m0, .int (zI 1), .ref tl, .ref le, .int (zI fw), .int (zI fh), .int (zI lo), .ref sh])), (a0, .inr (8, [.ref a1, .ref a2, .ref a3, .ref a4, .int (zI (n : Int)), .int (zI oa), .int (zI dy)])), (a1, AQ G 4 7 r), (a2, AI G 7 hm), (a3, AI G 7 at_), (a4, AI G 7 lg), (b0, .inr (8, [.ref b1, .ref b2, .ref b3, .ref b4, .int (zI (n : Int)), .int (zI oa), .int (zI dy)])), (b1, AQ G 4 7 r), (b2, AI G 7 hm), (b3, AI G 7 at_), (b4, AI G 7 lg)] ++ PL LP hk hf)) C rfl rfl in_X1 tyX1_ok nmX1 (by decide) q883 rfl rfl rfl rfl rfl (nlt rfl) rfl dX1_image_13 ?_
  refine z_aload_n C dX1_image_16 rfl 0 rfl ?_
  refine z_get (q := 0) (kf := 0) (v := .ref a0) C rfl rfl in_X1 (by decide) q880 (Or.inl rfl) rfl dX1_image_17 ?_
  refine z_get (q := 1) (kf := 6) (v := .int (zI dy)) C rfl rfl in_X2 (by decide) q850 (Or.inl rfl) rfl dX1_image_20 ?_
  exact z_iret C hA hQ rfl (Nat.le_of_ble_eq_true rfl) (Nat.le_of_ble_eq_true rfl) (()) (rfl) (sb_p [0, 1, 2, 3, 4, 5, 6, 7, 8, 9, 10] rfl rfl) dX1_image_23

set_option maxHeartbeats 4000000 in
theorem ct_X1_restore (l : Launch) (G : ZG) (x : Nat) (b0 : Nat) (m0 : Nat) (tl : Nat) (le : Nat) (sh : Nat) (im : Int) (fw : Int) (fh : Int) (lo : Int) (a0 : Nat) (a1 : Nat) (a2 : Nat) (a3 : Nat) (a4 : Nat) (b1 : Nat) (b2 : Nat) (b3 : Nat) (b4 : Nat) (r : Nat → Option Nat) (hm : Nat → Int) (at_ : Nat → Int) (lg : Nat → Int) (n : Nat) (oa : Int) (dy : Int) (kr : Nat → Option Nat) (khm : Nat → Int) (kat : Nat → Int) (klg : Nat → Int) (kn : Nat) (koa : Int) (kdy : Int) (LP : List Nat) (hk : Nat → Nat) (hf : Nat → Int) (hK : PK LP hk hf) (hV : RV LP kr) (him : 0 ≤ im ∧ im ≤ 1) : CT l yX1_restore cX1_restore 1 (some .int) { frames := 3, cells := 0, slots := 0, locals := 60 } G [.ref x] ([(x, .inr (10, [.ref a0, .ref b0, .ref m0, .int (zI im), .ref tl, .ref le, .int (zI fw), .int (zI fh), .int (zI lo), .ref sh])), (a0, .inr (8, [.ref a1, .ref a2, .ref a3, .ref a4, .int (zI (n : Int)), .int (zI oa), .int (zI dy)])), (a1, AQ G 4 7 r), (a2, AI G 7 hm), (a3, AI G 7 at_), (a4, AI G 7 lg), (b0, .inr (8, [.ref b1, .ref b2, .ref b3, .ref b4, .int (zI (kn : Int)), .int (zI koa), .int (zI kdy)])), (b1, AQ G 4 7 kr), (b2, AI G 7 khm), (b3, AI G 7 kat), (b4, AI G 7 klg)] ++ PL LP hk hf) (Qi G ([(x, .inr (10, [.ref a0, .ref b0, .ref m0, .int (zI im), .ref tl, .ref le, .int (zI fw), .int (zI fh), .int (zI lo), .ref sh])), (a0, .inr (8, [.ref a1, .ref a2, .ref a3, .ref a4, .int (zI (n : Int)), .int (zI oa), .int (zI dy)])), (a1, AQ G 4 7 r), (a2, AI G 7 hm), (a3, AI G 7 at_), (a4, AI G 7 lg), (b0, .inr (8, [.ref b1, .ref b2, .ref b3, .ref b4, .int (zI (kn : Int)), .int (zI koa), .int (zI kdy)])), (b1, AQ G 4 7 kr), (b2, AI G 7 khm), (b3, AI G 7 kat), (b4, AI G 7 klg)] ++ PL LP hk hf) (fun (r : Int32) (u : Unit) => r = zI (if im = 0 then -3 else kdy)) (fun u => ([(x, .inr (10, [.ref a0, .ref b0, .ref m0, .int (zI im), .ref tl, .ref le, .int (zI fw), .int (zI fh), .int (zI lo), .ref sh])), (a0, .inr (8, [.ref a1, .ref a2, .ref a3, .ref a4, .int (zI ((if im = 0 then n else kn) : Int)), .int (zI (if im = 0 then oa else koa)), .int (zI (if im = 0 then dy else kdy))])), (a1, AQ G 4 7 (if im = 0 then r else kr)), (a2, AI G 7 (if im = 0 then hm else khm)), (a3, AI G 7 (if im = 0 then at_ else kat)), (a4, AI G 7 (if im = 0 then lg else klg)), (b0, .inr (8, [.ref b1, .ref b2, .ref b3, .ref b4, .int (zI (kn : Int)), .int (zI koa), .int (zI kdy)])), (b1, AQ G 4 7 kr), (b2, AI G 7 khm), (b3, AI G 7 kat), (b4, AI G 7 klg)] ++ PL LP hk hf))) := by
  refine z_met (by decide) (Nat.le_of_ble_eq_true rfl) ?_
  intro X A hl0 hA C hQ hin
  subst hl0
  show Z X _ G 0 0 _ 0 [(0, .ref x)] []
  refine z_aload_n C dX1_restore_0 rfl 0 rfl ?_
  refine z_get (q := 0) (kf := 3) (v := .int (zI im)) C rfl rfl in_X1 (by decide) q883 (Or.inl rfl) rfl dX1_restore_1 ?_
  refine y_if_ne (tgt := 10) C (by omega) dX1_restore_4 (by decide) (fun c_4 => ?_) (fun c_4 => ?_)
  · skip
    refine z_aload_n C dX1_restore_10 rfl 0 rfl ?_
    refine z_get (q := 0) (kf := 0) (v := .ref a0) C rfl rfl in_X1 (by decide) q880 (Or.inl rfl) rfl dX1_restore_11 ?_
    refine z_aload_n C dX1_restore_14 rfl 0 rfl ?_
    refine z_get (q := 0) (kf := 1) (v := .ref b0) C rfl rfl in_X1 (by decide) q881 (Or.inl rfl) rfl dX1_restore_15 ?_
    refine z_v (ws' := fun u => ([(x, .inr (10, [.ref a0, .ref b0, .ref m0, .int (zI im), .ref tl, .ref le, .int (zI fw), .int (zI fh), .int (zI lo), .ref sh])), (a0, .inr (8, [.ref a1, .ref a2, .ref a3, .ref a4, .int (zI (kn : Int)), .int (zI koa), .int (zI kdy)])), (a1, AQ G 4 7 kr), (a2, AI G 7 khm), (a3, AI G 7 kat), (a4, AI G 7 klg), (b0, .inr (8, [.ref b1, .ref b2, .ref b3, .ref b4, .int (zI (kn : Int)), .int (zI koa), .int (zI kdy)])), (b1, AQ G 4 7 kr), (b2, AI G 7 khm), (b3, AI G 7 kat), (b4, AI G 7 klg)] ++ PL LP hk hf)) C (z_runV (q := 1) (As := [.ref b0]) (rest := []) C (ct_X2_takes (zl X) G a0 a1 a2 a3 a4 b0 b1 b2 b3 b4 r hm at_ lg n oa dy kr khm kat klg kn koa kdy LP hk hf (by first | assumption | omega) (by first | assumption | omega)) (lw_V q285 q286 q287 q59 q288) rfl rfl (sb_p [1, 2, 3, 4, 5, 6, 7, 8, 9, 10] rfl rfl) (na := 1) (by decide +kernel) rfl (zrm rfl rfl (rfl) (rfl)) rfl (Nat.le_of_ble_eq_true rfl) dX1_restore_18) (fun u => jn_p (Lr := [(x, .inr (10, [.ref a0, .ref b0, .ref m0, .int (zI im), .ref tl, .ref le, .int (zI fw), .int (zI fh), .int (zI lo), .ref sh]))]) [1, 2, 3, 4, 5, 6, 7, 8, 9, 10] [0] [0, 1, 2, 3, 4, 5, 6, 7, 8, 9, 10] rfl rfl rfl (by decide) rfl rfl) (fun u hp_18 => ?_)
    refine z_aload_n C dX1_restore_21 rfl 0 rfl ?_
    refine z_get (q := 0) (kf := 0) (v := .ref a0) C rfl rfl in_X1 (by decide) q880 (Or.inl rfl) rfl dX1_restore_22 ?_
    refine z_get (q := 1) (kf := 6) (v := .int (zI kdy)) C rfl rfl in_X2 (by decide) q850 (Or.inl rfl) rfl dX1_restore_25 ?_
    refine z_wsEq (ws' := ([(x, .inr (10, [.ref a0, .ref b0, .ref m0, .int (zI im), .ref tl, .ref le, .int (zI fw), .int (zI fh), .int (zI lo), .ref sh])), (a0, .inr (8, [.ref a1, .ref a2, .ref a3, .ref a4, .int (zI ((if im = 0 then n else kn) : Int)), .int (zI (if im = 0 then oa else koa)), .int (zI (if im = 0 then dy else kdy))])), (a1, AQ G 4 7 (if im = 0 then r else kr)), (a2, AI G 7 (if im = 0 then hm else khm)), (a3, AI G 7 (if im = 0 then at_ else kat)), (a4, AI G 7 (if im = 0 then lg else klg)), (b0, .inr (8, [.ref b1, .ref b2, .ref b3, .ref b4, .int (zI (kn : Int)), .int (zI koa), .int (zI kdy)])), (b1, AQ G 4 7 kr), (b2, AI G 7 khm), (b3, AI G 7 kat), (b4, AI G 7 klg)] ++ PL LP hk hf)) (by simp only [if_neg c_4]) ?_
    exact z_iret C hA hQ rfl (Nat.le_of_ble_eq_true rfl) (Nat.le_of_ble_eq_true rfl) (()) (congrArg zI (by rw [if_neg c_4])) (sb_p [0, 1, 2, 3, 4, 5, 6, 7, 8, 9, 10] rfl rfl) dX1_restore_28
  · skip
    refine y_bipush C dX1_restore_7 (by decide) ?_
    refine z_wsEq (ws' := ([(x, .inr (10, [.ref a0, .ref b0, .ref m0, .int (zI im), .ref tl, .ref le, .int (zI fw), .int (zI fh), .int (zI lo), .ref sh])), (a0, .inr (8, [.ref a1, .ref a2, .ref a3, .ref a4, .int (zI ((if im = 0 then n else kn) : Int)), .int (zI (if im = 0 then oa else koa)), .int (zI (if im = 0 then dy else kdy))])), (a1, AQ G 4 7 (if im = 0 then r else kr)), (a2, AI G 7 (if im = 0 then hm else khm)), (a3, AI G 7 (if im = 0 then at_ else kat)), (a4, AI G 7 (if im = 0 then lg else klg)), (b0, .inr (8, [.ref b1, .ref b2, .ref b3, .ref b4, .int (zI (kn : Int)), .int (zI koa), .int (zI kdy)])), (b1, AQ G 4 7 kr), (b2, AI G 7 khm), (b3, AI G 7 kat), (b4, AI G 7 klg)] ++ PL LP hk hf)) (by simp only [if_pos c_4]) ?_
    exact z_iret C hA hQ rfl (Nat.le_of_ble_eq_true rfl) (Nat.le_of_ble_eq_true rfl) (()) (congrArg zI (by rw [if_pos c_4])) (sb_p [0, 1, 2, 3, 4, 5, 6, 7, 8, 9, 10] rfl rfl) dX1_restore_9

def hasQ (s k : Int32) : Int := if (s >>> (k &&& 31)) &&& zI 1 = zI 1 then 1 else 0
set_option maxHeartbeats 4000000 in
theorem ct_X1_has (l : Launch) (G : ZG) (s : Int32) (k : Int)  : CT l yX1_has cX1_has 2 (some .boolean) { frames := 0, cells := 0, slots := 0, locals := 0 } G [.int s, .int (zI k)] [] (Qi G [] (fun (r : Int32) (u : Unit) => r = zI (hasQ s (zI k))) (fun u => [])) := by
  refine z_met (by decide) (Nat.le_of_ble_eq_true rfl) ?_
  intro X A hl0 hA C hQ hin
  subst hl0
  show Z X _ G 0 0 _ 0 [(0, .int s), (1, .int (zI k))] []
  refine z_iload_n C dX1_has_0 rfl 0 rfl ?_
  refine z_iload_n C dX1_has_1 rfl 1 rfl ?_
  refine z_ishr C dX1_has_2 rfl ?_
  refine y_iconst C dX1_has_3 ?_
  refine z_iand C dX1_has_4 rfl ?_
  refine y_iconst C dX1_has_5 ?_
  refine z_icmp_ne (tgt := 13) C dX1_has_6 (by decide) (fun c_6 => ?_) (fun c_6 => ?_)
  · skip
    refine y_iconst C dX1_has_13 ?_
    exact z_zret C hA hQ rfl (Nat.le_of_ble_eq_true rfl) (Nat.le_of_ble_eq_true rfl) (()) (congrArg zI (by unfold hasQ; first | rw [if_pos c_6] | rw [if_neg c_6])) (rfl) (sb_e [] rfl rfl) dX1_has_14
  · skip
    refine y_iconst C dX1_has_9 ?_
    refine z_goto (tgt := 14) C dX1_has_10 (by decide) ?_
    exact z_zret C hA hQ rfl (Nat.le_of_ble_eq_true rfl) (Nat.le_of_ble_eq_true rfl) (()) (congrArg zI (by unfold hasQ; first | rw [if_pos c_6] | rw [if_neg c_6])) (rfl) (sb_e [] rfl rfl) dX1_has_14

