/-! THE COMPONENT, 9: keep -/
set_option maxRecDepth 100000
section UPS
variable {G : ZG} {ha hw ra rs rm kk : Nat → Nat} {rw_ kf : Nat → Int} {d j x y : Nat} {z : Int}
theorem upN_eq {f : Nat → Nat} : upN f d x d = x := if_pos rfl
theorem upN_ne {f : Nat → Nat} (h : ¬ j = d) : upN f d x j = f j := if_neg h
theorem hvF_up (h : ¬ j = d) : hvF (upN hw d x) ha ra j = hvF hw ha ra j := by unfold hvF; rw [upN_ne h]
theorem hvF_upH (h : ¬ j = d) : hvF (upN hw d x) (upN ha d y) ra j = hvF hw ha ra j := by unfold hvF; rw [upN_ne h, upN_ne h]
theorem hvF_upR (h : ¬ j = d) : hvF (upN hw d x) ha (upN ra d y) j = hvF hw ha ra j := by unfold hvF; rw [upN_ne h, upN_ne h]
theorem rw1_up (h : ¬ j = d) : RW1 G hw ra rs rm rw_ j = RW1 G (upN hw d x) ra rs rm rw_ j := by unfold RW1; rw [upN_ne h]
theorem KH.none {LP : List Nat} {hk : Nat → Nat} {hf : Nat → Int} (h : KH LP hk hf ha hw kk kf) (hx : ¬ x = 1) : KH LP hk hf ha (upN hw d x) (upN kk d y) (va_up kf d z) := by
  intro q hq h1
  by_cases c : q = d
  · subst c; rw [upN_eq] at h1; exact absurd h1 hx
  · rw [upN_ne c] at h1
    obtain ⟨a, b, e⟩ := h q hq h1
    exact ⟨a, b.trans (upN_ne c).symm, e.trans (up_ne c).symm⟩
theorem KH.put {LP : List Nat} {hk : Nat → Nat} {hf : Nat → Int} {q0 : Nat} (h : KH LP hk hf ha hw kk kf) (p : PX LP hk hf (q0 :: LP) (upN hk q0 y) (va_up hf q0 z)) : KH (q0 :: LP) (upN hk q0 y) (va_up hf q0 z) (upN ha d q0) (upN hw d 1) (upN kk d y) (va_up kf d z) := by
  intro q hq h1
  by_cases c : q = d
  · subst c; rw [upN_eq, upN_eq, upN_eq, up_eq, up_eq]; exact ⟨List.mem_cons_self, rfl, rfl⟩
  · rw [upN_ne c] at h1
    obtain ⟨a, b, e⟩ := (h.px p) q hq h1
    rw [upN_ne c, upN_ne c, up_ne c]
    exact ⟨a, b, e⟩
end UPS
set_option maxHeartbeats 4000000 in
theorem ct_X1_keep (l : Launch) (G : ZG) (x : Nat) (b0 : Nat) (m0 : Nat) (tl : Nat) (le : Nat) (sh : Nat) (im : Int) (fw : Int) (fh : Int) (lo : Int) (a0 : Nat) (sa : Nat → Nat) (ha : Nat → Nat) (ra : Nat → Nat) (sf : Nat → Option Nat) (hw : Nat → Nat) (kk : Nat → Nat) (rs : Nat → Nat) (rm : Nat → Nat) (kf : Nat → Int) (rw_ : Nat → Int) (LP : List Nat) (hk : Nat → Nat) (hf : Nat → Int) (d : Int) (what : Int) (k : Int) (f : Int) (hS : SK hw kk rs rm kf rw_) (hsf : ∀ q, q < 8 → sf q = some (sa q)) (hK : PK LP hk hf) (hKH : KH LP hk hf ha hw kk kf) (rd : -2147483648 ≤ d ∧ d ≤ 2147483647) (rwhat : -2147483648 ≤ what ∧ what ≤ 2147483647) (rk : -2147483648 ≤ k ∧ k ≤ 2147483647) (rf : -2147483648 ≤ f ∧ f ≤ 2147483647) : CT l yX1_keep cX1_keep 5 (some .int) { frames := 5, cells := 1, slots := 1, locals := 96 } G [.ref x, .int (zI d), .int (zI what), .int (zI k), .int (zI f)] ([(x, .inr (10, [.ref a0, .ref b0, .ref m0, .int (zI im), .ref tl, .ref le, .int (zI fw), .int (zI fh), .int (zI lo), .ref sh])), (sh, AQ G 7 8 sf)] ++ (SW G sa ha ra hw rs rm rw_ ++ PL LP hk hf)) (Qi G ([(x, .inr (10, [.ref a0, .ref b0, .ref m0, .int (zI im), .ref tl, .ref le, .int (zI fw), .int (zI fh), .int (zI lo), .ref sh])), (sh, AQ G 7 8 sf)] ++ (SW G sa ha ra hw rs rm rw_ ++ PL LP hk hf)) (fun (r : Int32) (u : (Nat → Nat) × List Nat × (Nat → Nat) × (Nat → Int)) => r = zI (oKeep d what k f) ∧ PX LP hk hf u.2.1 u.2.2.1 u.2.2.2 ∧ KH u.2.1 u.2.2.1 u.2.2.2 u.1 (if kpOk d what k f then upN hw d.toNat what.toNat else hw) (if kpOk d what k f then upN kk d.toNat (if what = 1 then k.toNat else 0) else kk) (if kpOk d what k f then va_up kf d.toNat (if what = 1 then f else 0) else kf)) (fun u => ([(x, .inr (10, [.ref a0, .ref b0, .ref m0, .int (zI im), .ref tl, .ref le, .int (zI fw), .int (zI fh), .int (zI lo), .ref sh])), (sh, AQ G 7 8 sf)] ++ (SW G sa u.1 ra (if kpOk d what k f then upN hw d.toNat what.toNat else hw) rs rm rw_ ++ PL u.2.1 u.2.2.1 u.2.2.2)))) := by
  refine z_met (by decide) (Nat.le_of_ble_eq_true rfl) ?_
  intro X A hl0 hA C hQ hin
  subst hl0
  show Z X _ G 0 0 _ 0 [(0, .ref x), (1, .int (zI d)), (2, .int (zI what)), (3, .int (zI k)), (4, .int (zI f))] []
  refine z_aload_n C dX1_keep_0 rfl 0 rfl ?_
  refine z_iload_n C dX1_keep_1 rfl 1 rfl ?_
  refine z_i C (z_runV (q := 0) (As := [.int (zI d)]) (rest := []) C (ct_X1_isShelf (zl X) G x b0 m0 tl le sh im fw fh lo a0 d (by first | assumption | omega)) (lw_V q184 q186 qs2 q58 q188) rfl rfl (sb_e [0] rfl rfl) (na := 1) (by decide +kernel) rfl (zrm rfl rfl (rfl) (rfl)) rfl (Nat.le_of_ble_eq_true rfl) dX1_keep_2) (fun u => jn_ro (sb_e [0] rfl rfl)) (fun r_2 u hp_2 => ?_)
  have hp_2 : r_2 = zI (bI (0 ≤ d ∧ d ≤ 7)) := hp_2
  subst hp_2
  refine y_beq (tgt := 40) C dX1_keep_5 (by decide) (fun c_5 => ?_) (fun c_5 => ?_)
  · skip
    refine y_iconst C dX1_keep_40 ?_
    have hno : ¬ kpOk d what k f := by
      simp only [kpOk]
      first
      | omega
      | (intro z; have z1 := z.2.2 trivial; omega)
    refine z_wsEq (ws' := ([(x, .inr (10, [.ref a0, .ref b0, .ref m0, .int (zI im), .ref tl, .ref le, .int (zI fw), .int (zI fh), .int (zI lo), .ref sh])), (sh, AQ G 7 8 sf)] ++ (SW G sa ha ra (if kpOk d what k f then upN hw d.toNat what.toNat else hw) rs rm rw_ ++ PL LP hk hf))) (by rw [if_neg hno]) ?_
    exact z_iret C hA hQ rfl (Nat.le_of_ble_eq_true rfl) (Nat.le_of_ble_eq_true rfl) ((ha, LP, hk, hf)) (⟨congrArg zI (by unfold oKeep; rw [if_neg hno]), PX.rfl hK, by rw [if_neg hno, if_neg hno, if_neg hno]; exact hKH⟩) (sb_p [0, 1] rfl rfl) dX1_keep_41
  · skip
    refine z_iload_n C dX1_keep_8 rfl 2 rfl ?_
    refine y_iconst C dX1_keep_9 ?_
    refine y_iconst C dX1_keep_10 ?_
    refine z_i C (z_runS (As := [.int (zI what), .int (zI 0), .int (zI 1)]) (rest := []) C (ct_X1_isIn (zl X) G what 0 1 (by first | assumption | omega) (by first | assumption | omega) (by first | assumption | omega)) (lw_S q189 q190 q58 q191) (sb_e [] rfl rfl) (na := 3) (by decide +kernel) rfl (zrm rfl rfl (rfl) (rfl)) rfl (Nat.le_of_ble_eq_true rfl) dX1_keep_11) (fun u => jn_ro (sb_e [] rfl rfl)) (fun r_11 u hp_11 => ?_)
    have hp_11 : r_11 = zI (bI (0 ≤ what ∧ what ≤ 1)) := hp_11
    subst hp_11
    refine y_beq (tgt := 40) C dX1_keep_14 (by decide) (fun c_14 => ?_) (fun c_14 => ?_)
    · skip
      refine y_iconst C dX1_keep_40 ?_
      have hno : ¬ kpOk d what k f := by
        simp only [kpOk]
        first
        | omega
        | (intro z; have z1 := z.2.2 trivial; omega)
      refine z_wsEq (ws' := ([(x, .inr (10, [.ref a0, .ref b0, .ref m0, .int (zI im), .ref tl, .ref le, .int (zI fw), .int (zI fh), .int (zI lo), .ref sh])), (sh, AQ G 7 8 sf)] ++ (SW G sa ha ra (if kpOk d what k f then upN hw d.toNat what.toNat else hw) rs rm rw_ ++ PL LP hk hf))) (by rw [if_neg hno]) ?_
      exact z_iret C hA hQ rfl (Nat.le_of_ble_eq_true rfl) (Nat.le_of_ble_eq_true rfl) ((ha, LP, hk, hf)) (⟨congrArg zI (by unfold oKeep; rw [if_neg hno]), PX.rfl hK, by rw [if_neg hno, if_neg hno, if_neg hno]; exact hKH⟩) (sb_p [0, 1] rfl rfl) dX1_keep_41
    · skip
      refine z_iload_n C dX1_keep_17 rfl 2 rfl ?_
      refine y_iconst C dX1_keep_18 ?_
      refine y_icmp_ne (tgt := 42) C (by omega) (by omega) dX1_keep_19 (by decide) (fun c_19 => ?_) (fun c_19 => ?_)
      · skip
        obtain rfl : what = (0 : Int) := by omega
        obtain ⟨e, rfl⟩ := Int.eq_ofNat_of_zero_le (show 0 ≤ d by omega)
        have he8 : e < 8 := by omega
        obtain ⟨hS1, hS2⟩ := id hS
        have hSe := hS1 e he8
        refine z_aload_n C dX1_keep_42 rfl 0 rfl ?_
        refine z_get (q := 0) (kf := 9) (v := .ref sh) C rfl rfl in_X1 (by decide) q889 (Or.inl rfl) rfl dX1_keep_43 ?_
        refine z_iload_n C dX1_keep_46 rfl 1 rfl ?_
        refine y_aldq (q := 1) (t0 := 7) (v := .ref (sa e)) C rfl rfl (by omega) (by decide) (by show va_rf (sf e) = _; rw [hsf e he8]; rfl) dX1_keep_47 ?_
        refine z_iload_n C dX1_keep_48 rfl 2 rfl ?_
        refine y_if_ne (tgt := 56) C (by omega) dX1_keep_49 (by decide) (fun c_49 => ?_) (fun c_49 => ?_)
        · skip
          exact absurd rfl c_49
        · skip
          refine z_null C dX1_keep_52 ?_
          refine z_goto (tgt := 62) C dX1_keep_53 (by decide) ?_
          refine z_shPut (L := [(x, .inr (10, [.ref a0, .ref b0, .ref m0, .int (zI im), .ref tl, .ref le, .int (zI fw), .int (zI fh), .int (zI lo), .ref sh])), (sh, AQ G 7 8 sf)]) (hw2 := upN hw e 0) (ha2 := ha) (ra2 := ra) C he8 (hvF_0 upN_eq).symm (Or.inl rfl) (fun j _ h2 => hvF_up h2) q876 dX1_keep_62 ?_
          refine z_sb (sb_rwNo (hw2 := upN hw e 0) (ra2 := ra) (rs2 := rs) (rm2 := rm) (rw2 := rw_) he8 (by rw [upN_eq]; decide) (fun j _ h2 => rw1_up h2)) ?_
          refine z_wsEq (ws' := ([(x, .inr (10, [.ref a0, .ref b0, .ref m0, .int (zI im), .ref tl, .ref le, .int (zI fw), .int (zI fh), .int (zI lo), .ref sh])), (sh, AQ G 7 8 sf)] ++ (SW G sa ha ra (upN hw e 0) rs rm rw_ ++ PL LP hk hf))) rfl ?_
          refine y_iconst C dX1_keep_65 ?_
          have hyes : kpOk (e : Int) (0 : Int) k f := by simp only [kpOk]; omega
          refine z_wsEq (ws' := ([(x, .inr (10, [.ref a0, .ref b0, .ref m0, .int (zI im), .ref tl, .ref le, .int (zI fw), .int (zI fh), .int (zI lo), .ref sh])), (sh, AQ G 7 8 sf)] ++ (SW G sa ha ra (if kpOk (e : Int) (0 : Int) k f then upN hw (e : Int).toNat (0 : Int).toNat else hw) rs rm rw_ ++ PL LP hk hf))) (by rw [if_pos hyes]; rfl) ?_
          exact z_iret C hA hQ rfl (Nat.le_of_ble_eq_true rfl) (Nat.le_of_ble_eq_true rfl) ((ha, LP, hk, hf)) (⟨congrArg zI (by unfold oKeep; rw [if_pos hyes]), PX.rfl hK, by rw [if_pos hyes, if_pos hyes, if_pos hyes]; exact KH.none hKH (by decide)⟩) (sb_p [0, 1] rfl rfl) dX1_keep_66
      · skip
        obtain rfl : what = (1 : Int) := by omega
        refine z_iload_n C dX1_keep_22 rfl 3 rfl ?_
        refine y_iconst C dX1_keep_23 ?_
        refine y_bipush C dX1_keep_24 (by decide) ?_
        refine z_i C (z_runS (As := [.int (zI k), .int (zI 0), .int (zI 7)]) (rest := []) C (ct_X1_isIn (zl X) G k 0 7 (by first | assumption | omega) (by first | assumption | omega) (by first | assumption | omega)) (lw_S q189 q190 q58 q191) (sb_e [] rfl rfl) (na := 3) (by decide +kernel) rfl (zrm rfl rfl (rfl) (rfl)) rfl (Nat.le_of_ble_eq_true rfl) dX1_keep_26) (fun u => jn_ro (sb_e [] rfl rfl)) (fun r_26 u hp_26 => ?_)
        have hp_26 : r_26 = zI (bI (0 ≤ k ∧ k ≤ 7)) := hp_26
        subst hp_26
        refine y_beq (tgt := 40) C dX1_keep_29 (by decide) (fun c_29 => ?_) (fun c_29 => ?_)
        · skip
          refine y_iconst C dX1_keep_40 ?_
          have hno : ¬ kpOk d (1 : Int) k f := by
            simp only [kpOk]
            first
            | omega
            | (intro z; have z1 := z.2.2 trivial; omega)
          refine z_wsEq (ws' := ([(x, .inr (10, [.ref a0, .ref b0, .ref m0, .int (zI im), .ref tl, .ref le, .int (zI fw), .int (zI fh), .int (zI lo), .ref sh])), (sh, AQ G 7 8 sf)] ++ (SW G sa ha ra (if kpOk d (1 : Int) k f then upN hw d.toNat (1 : Int).toNat else hw) rs rm rw_ ++ PL LP hk hf))) (by rw [if_neg hno]) ?_
          exact z_iret C hA hQ rfl (Nat.le_of_ble_eq_true rfl) (Nat.le_of_ble_eq_true rfl) ((ha, LP, hk, hf)) (⟨congrArg zI (by unfold oKeep; rw [if_neg hno]), PX.rfl hK, by rw [if_neg hno, if_neg hno, if_neg hno]; exact hKH⟩) (sb_p [0, 1] rfl rfl) dX1_keep_41
        · skip
          refine z_iload C dX1_keep_32 4 rfl ?_
          refine z_i C (z_runS (As := [.int (zI f)]) (rest := []) C (ct_X1_isNine (zl X) G f (by first | assumption | omega)) (lw_S q915 q916 q58 q917) (sb_e [] rfl rfl) (na := 1) (by decide +kernel) rfl (zrm rfl rfl (rfl) (rfl)) rfl (Nat.le_of_ble_eq_true rfl) dX1_keep_34) (fun u => jn_ro (sb_e [] rfl rfl)) (fun r_34 u hp_34 => ?_)
          have hp_34 : r_34 = zI (bI (0 ≤ f ∧ f ≤ 9)) := hp_34
          subst hp_34
          refine y_bne (tgt := 42) C dX1_keep_37 (by decide) (fun c_37 => ?_) (fun c_37 => ?_)
          · skip
            obtain ⟨e, rfl⟩ := Int.eq_ofNat_of_zero_le (show 0 ≤ d by omega)
            have he8 : e < 8 := by omega
            obtain ⟨hS1, hS2⟩ := id hS
            have hSe := hS1 e he8
            refine z_aload_n C dX1_keep_42 rfl 0 rfl ?_
            refine z_get (q := 0) (kf := 9) (v := .ref sh) C rfl rfl in_X1 (by decide) q889 (Or.inl rfl) rfl dX1_keep_43 ?_
            refine z_iload_n C dX1_keep_46 rfl 1 rfl ?_
            refine y_aldq (q := 1) (t0 := 7) (v := .ref (sa e)) C rfl rfl (by omega) (by decide) (by show va_rf (sf e) = _; rw [hsf e he8]; rfl) dX1_keep_47 ?_
            refine z_iload_n C dX1_keep_48 rfl 2 rfl ?_
            refine y_if_ne (tgt := 56) C (by omega) dX1_keep_49 (by decide) (fun c_49 => ?_) (fun c_49 => ?_)
            · skip
              obtain ⟨kN, rfl⟩ := Int.eq_ofNat_of_zero_le (show 0 ≤ k by omega)
              refine z_iload_n C dX1_keep_56 rfl 3 rfl ?_
              refine z_iload C dX1_keep_57 4 rfl ?_
              refine z_r (ws' := fun u a_59 => ([(a_59, .inr (kN, [.int (zI f)])), (x, .inr (10, [.ref a0, .ref b0, .ref m0, .int (zI im), .ref tl, .ref le, .int (zI fw), .int (zI fh), .int (zI lo), .ref sh])), (sh, AQ G 7 8 sf)] ++ (SW G sa ha ra hw rs rm rw_ ++ PL LP hk hf))) C (z_runS (As := [.int (zI (kN : Int)), .int (zI f)]) (rest := [.ref (sa e)]) C (ct_X1_horseOf (zl X) G kN f (by omega)) (lw_S q306 q307 q58 q308) (sb_e [] rfl rfl) (na := 2) (by decide +kernel) rfl (zrm rfl rfl (rfl) (rfl)) rfl (Nat.le_of_ble_eq_true rfl) dX1_keep_59) (fun u a_59 => jn_q (Lr := [(x, .inr (10, [.ref a0, .ref b0, .ref m0, .int (zI im), .ref tl, .ref le, .int (zI fw), .int (zI fh), .int (zI lo), .ref sh])), (sh, AQ G 7 8 sf)]) [] [0, 1] [2, 0, 1] rfl rfl rfl (by decide) rfl rfl) (fun u a_59 hp_59 => ?_)
              refine z_push (L := [(x, .inr (10, [.ref a0, .ref b0, .ref m0, .int (zI im), .ref tl, .ref le, .int (zI fw), .int (zI fh), .int (zI lo), .ref sh])), (sh, AQ G 7 8 sf)]) (M := SW G sa ha ra hw rs rm rw_) (k0 := kN) (f := f) (fun hnq => ?_)
              have hpx := PX.push hK hnq (k0 := kN) (f := f) (by omega) (by omega)
              refine z_shPut (L := [(x, .inr (10, [.ref a0, .ref b0, .ref m0, .int (zI im), .ref tl, .ref le, .int (zI fw), .int (zI fh), .int (zI lo), .ref sh])), (sh, AQ G 7 8 sf)]) (hw2 := upN hw e 1) (ha2 := upN ha e a_59) (ra2 := ra) C he8 (by rw [hvF_1 upN_eq, upN_eq]) (Or.inr ⟨_, rfl⟩) (fun j _ h2 => hvF_upH h2) q876 dX1_keep_62 ?_
              refine z_sb (sb_rwNo (hw2 := upN hw e 1) (ra2 := ra) (rs2 := rs) (rm2 := rm) (rw2 := rw_) he8 (by rw [upN_eq]; decide) (fun j _ h2 => rw1_up h2)) ?_
              refine z_wsEq (ws' := ([(x, .inr (10, [.ref a0, .ref b0, .ref m0, .int (zI im), .ref tl, .ref le, .int (zI fw), .int (zI fh), .int (zI lo), .ref sh])), (sh, AQ G 7 8 sf)] ++ (SW G sa (upN ha e a_59) ra (upN hw e 1) rs rm rw_ ++ PL (a_59 :: LP) (upN hk a_59 kN) (va_up hf a_59 f)))) rfl ?_
              refine y_iconst C dX1_keep_65 ?_
              have hyes : kpOk (e : Int) (1 : Int) (kN : Int) f := by simp only [kpOk]; omega
              refine z_wsEq (ws' := ([(x, .inr (10, [.ref a0, .ref b0, .ref m0, .int (zI im), .ref tl, .ref le, .int (zI fw), .int (zI fh), .int (zI lo), .ref sh])), (sh, AQ G 7 8 sf)] ++ (SW G sa (upN ha e a_59) ra (if kpOk (e : Int) (1 : Int) (kN : Int) f then upN hw (e : Int).toNat (1 : Int).toNat else hw) rs rm rw_ ++ PL (a_59 :: LP) (upN hk a_59 kN) (va_up hf a_59 f)))) (by rw [if_pos hyes]; rfl) ?_
              exact z_iret C hA hQ rfl (Nat.le_of_ble_eq_true rfl) (Nat.le_of_ble_eq_true rfl) (((upN ha e a_59), (a_59 :: LP), (upN hk a_59 kN), (va_up hf a_59 f))) (⟨congrArg zI (by unfold oKeep; rw [if_pos hyes]), hpx, by rw [if_pos hyes, if_pos hyes, if_pos hyes]; exact KH.put hKH hpx⟩) (sb_p [0, 1] rfl rfl) dX1_keep_66
            · skip
              exact absurd c_49 (by decide)
          · skip
            refine y_iconst C dX1_keep_40 ?_
            have hno : ¬ kpOk d (1 : Int) k f := by
              simp only [kpOk]
              first
              | omega
              | (intro z; have z1 := z.2.2 trivial; omega)
            refine z_wsEq (ws' := ([(x, .inr (10, [.ref a0, .ref b0, .ref m0, .int (zI im), .ref tl, .ref le, .int (zI fw), .int (zI fh), .int (zI lo), .ref sh])), (sh, AQ G 7 8 sf)] ++ (SW G sa ha ra (if kpOk d (1 : Int) k f then upN hw d.toNat (1 : Int).toNat else hw) rs rm rw_ ++ PL LP hk hf))) (by rw [if_neg hno]) ?_
            exact z_iret C hA hQ rfl (Nat.le_of_ble_eq_true rfl) (Nat.le_of_ble_eq_true rfl) ((ha, LP, hk, hf)) (⟨congrArg zI (by unfold oKeep; rw [if_neg hno]), PX.rfl hK, by rw [if_neg hno, if_neg hno, if_neg hno]; exact hKH⟩) (sb_p [0, 1] rfl rfl) dX1_keep_41

