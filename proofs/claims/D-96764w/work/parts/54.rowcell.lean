/-! A ROW OF ANY SORT -/
set_option maxRecDepth 100000
def rtid (s : Nat) : Nat := if s = 0 then 2 else if s = 1 then 3 else 0
def RWc (G : ZG) (s n : Nat) (f : Nat → Int) : va_E := .inl (G.2.2 (rtid s), n, .inl (IA f))
set_option maxHeartbeats 4000000 in
theorem ct_X1_sizeOf_s (l : Launch) (G : ZG) (s : Nat) (w : Nat) (n : Nat) (f : Nat → Int) (hs : s ≤ 2) (hn : n ≤ 100) : CT l yX1_sizeOf cX1_sizeOf 1 (some .int) { frames := 0, cells := 0, slots := 0, locals := 0 } G [.ref w] [(w, RWc G s n f)] (Qi G [(w, RWc G s n f)] (fun (r : Int32) (u : Unit) => r = zI (n : Int)) (fun u => [(w, RWc G s n f)])) := by
  rcases (show s = 0 ∨ s = 1 ∨ s = 2 by omega) with rfl | rfl | rfl
  · exact ct_X1_sizeOf_0 l G w n f hn
  · exact ct_X1_sizeOf_1 l G w n f hn
  · exact ct_X1_sizeOf_2 l G w n f hn
set_option maxHeartbeats 4000000 in
theorem ct_X1_elementOf_s (l : Launch) (G : ZG) (s : Nat) (w : Nat) (n : Nat) (f : Nat → Int) (k : Nat) (hs : s ≤ 2) (hn : n ≤ 100) (hk : k < n) : CT l yX1_elementOf cX1_elementOf 2 (some .int) { frames := 0, cells := 0, slots := 0, locals := 0 } G [.ref w, .int (zI (k : Int))] [(w, RWc G s n f)] (Qi G [(w, RWc G s n f)] (fun (r : Int32) (u : Unit) => r = zI (f k)) (fun u => [(w, RWc G s n f)])) := by
  rcases (show s = 0 ∨ s = 1 ∨ s = 2 by omega) with rfl | rfl | rfl
  · exact ct_X1_elementOf_0 l G w n f k hn hk
  · exact ct_X1_elementOf_1 l G w n f k hn hk
  · exact ct_X1_elementOf_2 l G w n f k hn hk
set_option maxHeartbeats 4000000 in
theorem ct_X1_leastElement_s (l : Launch) (G : ZG) (s : Nat) (w : Nat) (n : Nat) (f : Nat → Int) (hs : s ≤ 2) : CT l yX1_leastElement cX1_leastElement 1 (some .int) { frames := 0, cells := 0, slots := 0, locals := 0 } G [.ref w] [(w, RWc G s n f)] (Qi G [(w, RWc G s n f)] (fun (r : Int32) (u : Unit) => r = zI (skZ s)) (fun u => [(w, RWc G s n f)])) := by
  rcases (show s = 0 ∨ s = 1 ∨ s = 2 by omega) with rfl | rfl | rfl
  · exact ct_X1_leastElement_0 l G w n f 
  · exact ct_X1_leastElement_1 l G w n f 
  · exact ct_X1_leastElement_2 l G w n f 
set_option maxHeartbeats 4000000 in
theorem ct_X1_isSkipped_s (l : Launch) (G : ZG) (s : Nat) (w : Nat) (n : Nat) (f : Nat → Int) (k : Nat) (hs : s ≤ 2) (hn : n ≤ 100) (hk : k < n) (hr : -2147483648 ≤ f k ∧ f k ≤ 2147483647) : CT l yX1_isSkipped cX1_isSkipped 2 (some .boolean) { frames := 1, cells := 0, slots := 0, locals := 21 } G [.ref w, .int (zI (k : Int))] [(w, RWc G s n f)] (Qi G [(w, RWc G s n f)] (fun (r : Int32) (u : Unit) => r = zI (bI (f k = skZ s))) (fun u => [(w, RWc G s n f)])) := by
  rcases (show s = 0 ∨ s = 1 ∨ s = 2 by omega) with rfl | rfl | rfl
  · exact ct_X1_isSkipped_0 l G w n f k hn hk hr
  · exact ct_X1_isSkipped_1 l G w n f k hn hk hr
  · exact ct_X1_isSkipped_2 l G w n f k hn hk hr
set_option maxHeartbeats 4000000 in
theorem ct_X1_sortOf_s (l : Launch) (G : ZG) (s : Nat) (w : Nat) (n : Nat) (f : Nat → Int) (hs : s ≤ 2) : CT l yX1_sortOf cX1_sortOf 1 (some .int) { frames := 0, cells := 0, slots := 0, locals := 0 } G [.ref w] [(w, RWc G s n f)] (Qi G [(w, RWc G s n f)] (fun (r : Int32) (u : Unit) => r = zI (s : Int)) (fun u => [(w, RWc G s n f)])) := by
  rcases (show s = 0 ∨ s = 1 ∨ s = 2 by omega) with rfl | rfl | rfl
  · exact ct_X1_sortOf_0 l G w n f 
  · exact ct_X1_sortOf_1 l G w n f 
  · exact ct_X1_sortOf_2 l G w n f 
set_option maxHeartbeats 4000000 in
theorem ct_X1_wentSo_s (l : Launch) (G : ZG) (s : Nat) (x : Nat) (b0 : Nat) (m0 : Nat) (tl : Nat) (le : Nat) (sh : Nat) (im : Int) (fw : Int) (fh : Int) (lo : Int) (a0 : Nat) (m1 : Nat) (m2 : Nat) (m3 : Nat) (m4 : Nat) (r : Nat → Option Nat) (hm : Nat → Int) (at_ : Nat → Int) (lg : Nat → Int) (n : Nat) (oa : Int) (dy : Int) (LP : List Nat) (hk : Nat → Nat) (hf : Nat → Int) (kd : Nat → Nat) (fg : Nat → Int) (w : Nat) (nr : Nat) (j : Nat) (f : Nat → Int) (yard : Int) (hs : s ≤ 2) (hH : HR LP hk hf r n kd fg) (hL : LK n kd fg hm at_ lg oa) (hj : j < n) (hy : 0 ≤ yard ∧ yard ≤ 20) (hn : nr ≤ 100) (hr : ∀ k, -2147483648 ≤ f k ∧ f k ≤ 2147483647) : CT l yX1_wentSo cX1_wentSo 5 (some .boolean) { frames := 7, cells := 0, slots := 0, locals := 143 } G [.ref x, .ref w, .int (zI (j : Int)), .int (zI yard)] ([(x, .inr (10, [.ref a0, .ref b0, .ref m0, .int (zI im), .ref tl, .ref le, .int (zI fw), .int (zI fh), .int (zI lo), .ref sh])), (m0, .inr (8, [.ref m1, .ref m2, .ref m3, .ref m4, .int (zI (n : Int)), .int (zI oa), .int (zI dy)])), (m1, AQ G 4 7 r), (m2, AI G 7 hm), (m3, AI G 7 at_), (m4, AI G 7 lg), (w, RWc G s nr f)] ++ PL LP hk hf) (Qi G ([(x, .inr (10, [.ref a0, .ref b0, .ref m0, .int (zI im), .ref tl, .ref le, .int (zI fw), .int (zI fh), .int (zI lo), .ref sh])), (m0, .inr (8, [.ref m1, .ref m2, .ref m3, .ref m4, .int (zI (n : Int)), .int (zI oa), .int (zI dy)])), (m1, AQ G 4 7 r), (m2, AI G 7 hm), (m3, AI G 7 at_), (m4, AI G 7 lg), (w, RWc G s nr f)] ++ PL LP hk hf) (fun (r : Int32) (u : (Nat → Int) × (Nat → Int) × Int) => r = zI (rowB f (skZ s) kd fg hm oa n j yard at_ lg nr)) (fun u => ([(x, .inr (10, [.ref a0, .ref b0, .ref m0, .int (zI im), .ref tl, .ref le, .int (zI fw), .int (zI fh), .int (zI lo), .ref sh])), (m0, .inr (8, [.ref m1, .ref m2, .ref m3, .ref m4, .int (zI (n : Int)), .int (zI oa), .int (zI u.2.2)])), (m1, AQ G 4 7 r), (m2, AI G 7 hm), (m3, AI G 7 u.1), (m4, AI G 7 u.2.1), (w, RWc G s nr f)] ++ PL LP hk hf))) := by
  rcases (show s = 0 ∨ s = 1 ∨ s = 2 by omega) with rfl | rfl | rfl
  · exact ct_X1_wentSo_0 l G x b0 m0 tl le sh im fw fh lo a0 m1 m2 m3 m4 r hm at_ lg n oa dy LP hk hf kd fg w nr j f yard hH hL hj hy hn hr
  · exact ct_X1_wentSo_1 l G x b0 m0 tl le sh im fw fh lo a0 m1 m2 m3 m4 r hm at_ lg n oa dy LP hk hf kd fg w nr j f yard hH hL hj hy hn hr
  · exact ct_X1_wentSo_2 l G x b0 m0 tl le sh im fw fh lo a0 m1 m2 m3 m4 r hm at_ lg n oa dy LP hk hf kd fg w nr j f yard hH hL hj hy hn hr
