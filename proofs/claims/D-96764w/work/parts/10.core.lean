/-! MY LAYER OVER THE KIT: Z says "from pc, with any heap that holds the world ws, any frame with the locals lv and the stack st, the method goes on to its end" -/
set_option maxRecDepth 100000
abbrev ZE : Type := Program × Launch × Env × State × MethodId × Array Value × List Frame × Method × Code × (State → Prop)
abbrev ZY : Type := ByteArray × Nat × String × Option FieldType × Room × (Nat → Prop)
abbrev ZG : Type := (Nat → ClassId) × (Nat → Nat → Nat) × (Nat → ClassId)
abbrev zl (X : ZE) : Launch := X.2.1
abbrev zs (X : ZE) : State := X.2.2.2.1
abbrev zm (X : ZE) : MethodId := X.2.2.2.2.1
abbrev zar (X : ZE) : Array Value := X.2.2.2.2.2.1
abbrev zbl (X : ZE) : List Frame := X.2.2.2.2.2.2.1
abbrev zme (X : ZE) : Method := X.2.2.2.2.2.2.2.1
abbrev zc (X : ZE) : Code := X.2.2.2.2.2.2.2.2.1
abbrev zQ (X : ZE) : State → Prop := X.2.2.2.2.2.2.2.2.2
abbrev zcc (Y : ZY) : ByteArray := Y.1
abbrev znL (Y : ZY) : Nat := Y.2.1
abbrev zow (Y : ZY) : String := Y.2.2.1
abbrev zrt (Y : ZY) : Option FieldType := Y.2.2.2.1
abbrev zR (Y : ZY) : Room := Y.2.2.2.2.1
abbrev zA (Y : ZY) : Nat → Prop := Y.2.2.2.2.2
abbrev zD (G : ZG) : va_G := (G.1, G.2.1)
/-- the classes whose objects the worlds hold: the horses' kinds 0..7 first -/
abbrev CL : List vw_C := [(RX8, TX8, 1), (RX9, TX9, 1), (RX10, TX10, 1), (RX11, TX11, 1), (RX12, TX12, 1), (RX13, TX13, 1), (RX14, TX14, 1), (RX15, TX15, 1), (RX2, TX2, 7), (RX3, TX3, 1), (RX1, TX1, 10), (RX4, TX4, 35), (RX5, TX5, 2), (RX6, TX6, 4), (RX7, TX7, 7), (RX16, TX16, 7)]
/-- the array classes -/
abbrev TYS (d : Nat → ClassId) : List (ClassId × FieldType) := [(d 0, .int), (d 1, .long), (d 2, .byte), (d 3, .short), (d 4, .object RX8), (d 5, .object RX6), (d 6, .object RX2), (d 7, .object RX3)]
abbrev zT (G : ZG) : List (ClassId × FieldType) := TYS G.2.2

theorem zn_landsA {C : String} {x y : MethodName} {A A' : Array Value} {s U : State} (ha : s.vm.Alike U.vm) (hZ : (Cond.landsInDefault C x y).before A s = true) : (Cond.landsInDefault C x y).before A' U = true := by
  have h1 : (Cond.landsInDefault C x y).before A' (s.setVm U.vm) = true := by
    rw [Cond.landsInDefault_setVm (args := A) ha (State.methodFound?_setVm ha _ _ _)]
    exact hZ
  exact h1
theorem zn_lands {C : String} {x y : MethodName} {s U : State} (hW : s.WarmedH U.vm) (hZ : va_Nw (.landsInDefault C x y) s) : va_Nw (.landsInDefault C x y) U := zn_landsA hW.alike hZ
theorem zn_landsS {C : String} {x y : MethodName} {s U : State} (hv : s.vm = U.vm) (hZ : va_Nw (.landsInDefault C x y) s) : va_Nw (.landsInDefault C x y) U := zn_landsA (by rw [hv]; exact Vm.Alike.refl _) hZ
theorem zn_good {w : Cond} (hg : (w.onTables && w.keeps) = true) {s U : State} (hW : s.WarmedH U.vm) (hZ : va_Nw w s) : va_Nw w U := word_at hW (Or.inl hg) hZ

/-- the words that no list carries -/
def GW (U : State) : Prop :=
  va_Nw (.methodLinkNest "HiredByLonging$Land" 47 ⟨"HiredByLonging", "isIn", "(III)Z"⟩ "HiredByLonging") U ∧
  va_Nw (.methodLinkNest "HiredByLonging$LandReader" 28 ⟨"HiredByLonging", "isIn", "(III)Z"⟩ "HiredByLonging") U ∧
  va_Nw (.methodLinkNest "HiredByLonging" 307 ⟨"HiredByLonging$Land", "<init>", "()V"⟩ "HiredByLonging") U ∧
  va_Nw (.methodLinkNest "HiredByLonging" 308 ⟨"HiredByLonging$Shelf", "<init>", "()V"⟩ "HiredByLonging") U ∧
  va_Nw (.declares ⟨"HiredByLonging$Runs", "walk", "()I"⟩) U ∧
  va_Nw (.declares ⟨"HiredByLonging$Horse", "pace", "(I)I"⟩) U ∧
  va_Nw (.declares ⟨"HiredByLonging$Horse", "pines", "(I)I"⟩) U ∧
  va_Nw (.landsInDefault "HiredByLonging$Blind" ⟨"HiredByLonging$Horse", "walk", "()I"⟩ ⟨"HiredByLonging$Runs", "walk", "()I"⟩) U ∧
  va_Nw (.landsInDefault "HiredByLonging$Horse" ⟨"HiredByLonging$Horse", "walk", "()I"⟩ ⟨"HiredByLonging$Runs", "walk", "()I"⟩) U ∧
  va_Nw (.landsInDefault "HiredByLonging$Drowned" ⟨"HiredByLonging$Horse", "walk", "()I"⟩ ⟨"HiredByLonging$Runs", "walk", "()I"⟩) U ∧
  va_Nw (.landsInDefault "HiredByLonging$Foal" ⟨"HiredByLonging$Horse", "walk", "()I"⟩ ⟨"HiredByLonging$Runs", "walk", "()I"⟩) U ∧
  va_Nw (.landsInDefault "HiredByLonging$Two" ⟨"HiredByLonging$Two", "walk", "()I"⟩ ⟨"HiredByLonging$Runs", "walk", "()I"⟩) U ∧
  va_Nw (.landsInDefault "HiredByLonging$Two" ⟨"HiredByLonging$Horse", "walk", "()I"⟩ ⟨"HiredByLonging$Runs", "walk", "()I"⟩) U ∧
  va_Nw (.castable "HiredByLonging$Content" "HiredByLonging$Horse") U ∧
  va_Nw (.castable "HiredByLonging$Blind" "HiredByLonging$Horse") U ∧
  va_Nw (.castable "HiredByLonging$Two" "HiredByLonging$Horse") U ∧
  va_Nw (.castable "HiredByLonging$Drowned" "HiredByLonging$Horse") U ∧
  va_Nw (.castable "HiredByLonging$Foal" "HiredByLonging$Horse") U ∧
  va_Nw (.castable "HiredByLonging$Mare" "HiredByLonging$Horse") U ∧
  va_Nw (.castable "HiredByLonging$Gelding" "HiredByLonging$Horse") U ∧
  va_Nw (.sameMethod "HiredByLonging$Horse" "HiredByLonging$Runs" "walk" "()I") U ∧
  va_Nw (.sameMethod "HiredByLonging$Two" "HiredByLonging$Runs" "walk" "()I") U ∧
  va_Nw (.methodLink "HiredByLonging$Land" 91 ⟨"HiredByLonging$Horse", "walk", "()I"⟩) U ∧
  va_Nw (.methodLink "HiredByLonging$Content" 9 ⟨"HiredByLonging$Horse", "walk", "()I"⟩) U ∧
  va_Nw (.methodLink "HiredByLonging$Mare" 27 ⟨"HiredByLonging$Two", "walk", "()I"⟩) U ∧
  va_Nw (.methodLink "HiredByLonging" 164 ⟨"HiredByLonging$Horse", "walk", "()I"⟩) U
theorem GW.warm {s U : State} (hW : s.WarmedH U.vm) (h : GW s) : GW U := by
  unfold GW at h ⊢
  obtain ⟨h0, h1, h2, h3, h4, h5, h6, h7, h8, h9, h10, h11, h12, h13, h14, h15, h16, h17, h18, h19, h20, h21, h22, h23, h24, h25⟩ := h
  exact ⟨va_Nw.warmM hW h0, va_Nw.warmM hW h1, va_Nw.warmM hW h2, va_Nw.warmM hW h3, va_Nw.warmD hW h4, va_Nw.warmD hW h5, va_Nw.warmD hW h6, zn_lands hW h7, zn_lands hW h8, zn_lands hW h9, zn_lands hW h10, zn_lands hW h11, zn_lands hW h12, va_Nw.warmC hW h13, va_Nw.warmC hW h14, va_Nw.warmC hW h15, va_Nw.warmC hW h16, va_Nw.warmC hW h17, va_Nw.warmC hW h18, va_Nw.warmC hW h19, zn_good rfl hW h20, zn_good rfl hW h21, zn_good rfl hW h22, zn_good rfl hW h23, zn_good rfl hW h24, zn_good rfl hW h25⟩
theorem GW.same {s U : State} (hv : s.vm = U.vm) (h : GW s) : GW U := by
  unfold GW at h ⊢
  obtain ⟨h0, h1, h2, h3, h4, h5, h6, h7, h8, h9, h10, h11, h12, h13, h14, h15, h16, h17, h18, h19, h20, h21, h22, h23, h24, h25⟩ := h
  exact ⟨va_Nw.same rfl hv h0, va_Nw.same rfl hv h1, va_Nw.same rfl hv h2, va_Nw.same rfl hv h3, va_Nw.same rfl hv h4, va_Nw.same rfl hv h5, va_Nw.same rfl hv h6, zn_landsS hv h7, zn_landsS hv h8, zn_landsS hv h9, zn_landsS hv h10, zn_landsS hv h11, zn_landsS hv h12, va_Nw.same rfl hv h13, va_Nw.same rfl hv h14, va_Nw.same rfl hv h15, va_Nw.same rfl hv h16, va_Nw.same rfl hv h17, va_Nw.same rfl hv h18, va_Nw.same rfl hv h19, va_Nw.same rfl hv h20, va_Nw.same rfl hv h21, va_Nw.same rfl hv h22, va_Nw.same rfl hv h23, va_Nw.same rfl hv h24, va_Nw.same rfl hv h25⟩
theorem gw_0 {A : Array Value} {U : State} (h : GW U) : Cond.before (.methodLinkNest "HiredByLonging$Land" 47 ⟨"HiredByLonging", "isIn", "(III)Z"⟩ "HiredByLonging") A U = true := va_Nw.use rfl (show va_Nw _ U from (show _ ∧ _ from h).1)
theorem gw_1 {A : Array Value} {U : State} (h : GW U) : Cond.before (.methodLinkNest "HiredByLonging$LandReader" 28 ⟨"HiredByLonging", "isIn", "(III)Z"⟩ "HiredByLonging") A U = true := va_Nw.use rfl (show va_Nw _ U from (show _ ∧ _ from h).2.1)
theorem gw_2 {A : Array Value} {U : State} (h : GW U) : Cond.before (.methodLinkNest "HiredByLonging" 307 ⟨"HiredByLonging$Land", "<init>", "()V"⟩ "HiredByLonging") A U = true := va_Nw.use rfl (show va_Nw _ U from (show _ ∧ _ from h).2.2.1)
theorem gw_3 {A : Array Value} {U : State} (h : GW U) : Cond.before (.methodLinkNest "HiredByLonging" 308 ⟨"HiredByLonging$Shelf", "<init>", "()V"⟩ "HiredByLonging") A U = true := va_Nw.use rfl (show va_Nw _ U from (show _ ∧ _ from h).2.2.2.1)
theorem gw_4 {A : Array Value} {U : State} (h : GW U) : Cond.before (.declares ⟨"HiredByLonging$Runs", "walk", "()I"⟩) A U = true := va_Nw.use rfl (show va_Nw _ U from (show _ ∧ _ from h).2.2.2.2.1)
theorem gw_5 {A : Array Value} {U : State} (h : GW U) : Cond.before (.declares ⟨"HiredByLonging$Horse", "pace", "(I)I"⟩) A U = true := va_Nw.use rfl (show va_Nw _ U from (show _ ∧ _ from h).2.2.2.2.2.1)
theorem gw_6 {A : Array Value} {U : State} (h : GW U) : Cond.before (.declares ⟨"HiredByLonging$Horse", "pines", "(I)I"⟩) A U = true := va_Nw.use rfl (show va_Nw _ U from (show _ ∧ _ from h).2.2.2.2.2.2.1)
theorem gw_7 {A : Array Value} {U : State} (h : GW U) : Cond.before (.landsInDefault "HiredByLonging$Blind" ⟨"HiredByLonging$Horse", "walk", "()I"⟩ ⟨"HiredByLonging$Runs", "walk", "()I"⟩) A U = true := zn_landsA (Vm.Alike.refl _) (show va_Nw _ U from (show _ ∧ _ from h).2.2.2.2.2.2.2.1)
theorem gw_8 {A : Array Value} {U : State} (h : GW U) : Cond.before (.landsInDefault "HiredByLonging$Horse" ⟨"HiredByLonging$Horse", "walk", "()I"⟩ ⟨"HiredByLonging$Runs", "walk", "()I"⟩) A U = true := zn_landsA (Vm.Alike.refl _) (show va_Nw _ U from (show _ ∧ _ from h).2.2.2.2.2.2.2.2.1)
theorem gw_9 {A : Array Value} {U : State} (h : GW U) : Cond.before (.landsInDefault "HiredByLonging$Drowned" ⟨"HiredByLonging$Horse", "walk", "()I"⟩ ⟨"HiredByLonging$Runs", "walk", "()I"⟩) A U = true := zn_landsA (Vm.Alike.refl _) (show va_Nw _ U from (show _ ∧ _ from h).2.2.2.2.2.2.2.2.2.1)
theorem gw_10 {A : Array Value} {U : State} (h : GW U) : Cond.before (.landsInDefault "HiredByLonging$Foal" ⟨"HiredByLonging$Horse", "walk", "()I"⟩ ⟨"HiredByLonging$Runs", "walk", "()I"⟩) A U = true := zn_landsA (Vm.Alike.refl _) (show va_Nw _ U from (show _ ∧ _ from h).2.2.2.2.2.2.2.2.2.2.1)
theorem gw_11 {A : Array Value} {U : State} (h : GW U) : Cond.before (.landsInDefault "HiredByLonging$Two" ⟨"HiredByLonging$Two", "walk", "()I"⟩ ⟨"HiredByLonging$Runs", "walk", "()I"⟩) A U = true := zn_landsA (Vm.Alike.refl _) (show va_Nw _ U from (show _ ∧ _ from h).2.2.2.2.2.2.2.2.2.2.2.1)
theorem gw_12 {A : Array Value} {U : State} (h : GW U) : Cond.before (.landsInDefault "HiredByLonging$Two" ⟨"HiredByLonging$Horse", "walk", "()I"⟩ ⟨"HiredByLonging$Runs", "walk", "()I"⟩) A U = true := zn_landsA (Vm.Alike.refl _) (show va_Nw _ U from (show _ ∧ _ from h).2.2.2.2.2.2.2.2.2.2.2.2.1)
theorem gw_13 {A : Array Value} {U : State} (h : GW U) : Cond.before (.castable "HiredByLonging$Content" "HiredByLonging$Horse") A U = true := va_Nw.use rfl (show va_Nw _ U from (show _ ∧ _ from h).2.2.2.2.2.2.2.2.2.2.2.2.2.1)
theorem gw_14 {A : Array Value} {U : State} (h : GW U) : Cond.before (.castable "HiredByLonging$Blind" "HiredByLonging$Horse") A U = true := va_Nw.use rfl (show va_Nw _ U from (show _ ∧ _ from h).2.2.2.2.2.2.2.2.2.2.2.2.2.2.1)
theorem gw_15 {A : Array Value} {U : State} (h : GW U) : Cond.before (.castable "HiredByLonging$Two" "HiredByLonging$Horse") A U = true := va_Nw.use rfl (show va_Nw _ U from (show _ ∧ _ from h).2.2.2.2.2.2.2.2.2.2.2.2.2.2.2.1)
theorem gw_16 {A : Array Value} {U : State} (h : GW U) : Cond.before (.castable "HiredByLonging$Drowned" "HiredByLonging$Horse") A U = true := va_Nw.use rfl (show va_Nw _ U from (show _ ∧ _ from h).2.2.2.2.2.2.2.2.2.2.2.2.2.2.2.2.1)
theorem gw_17 {A : Array Value} {U : State} (h : GW U) : Cond.before (.castable "HiredByLonging$Foal" "HiredByLonging$Horse") A U = true := va_Nw.use rfl (show va_Nw _ U from (show _ ∧ _ from h).2.2.2.2.2.2.2.2.2.2.2.2.2.2.2.2.2.1)
theorem gw_18 {A : Array Value} {U : State} (h : GW U) : Cond.before (.castable "HiredByLonging$Mare" "HiredByLonging$Horse") A U = true := va_Nw.use rfl (show va_Nw _ U from (show _ ∧ _ from h).2.2.2.2.2.2.2.2.2.2.2.2.2.2.2.2.2.2.1)
theorem gw_19 {A : Array Value} {U : State} (h : GW U) : Cond.before (.castable "HiredByLonging$Gelding" "HiredByLonging$Horse") A U = true := va_Nw.use rfl (show va_Nw _ U from (show _ ∧ _ from h).2.2.2.2.2.2.2.2.2.2.2.2.2.2.2.2.2.2.2.1)
theorem gw_20 {A : Array Value} {U : State} (h : GW U) : Cond.before (.sameMethod "HiredByLonging$Horse" "HiredByLonging$Runs" "walk" "()I") A U = true := va_Nw.use rfl (show va_Nw _ U from (show _ ∧ _ from h).2.2.2.2.2.2.2.2.2.2.2.2.2.2.2.2.2.2.2.2.1)
theorem gw_21 {A : Array Value} {U : State} (h : GW U) : Cond.before (.sameMethod "HiredByLonging$Two" "HiredByLonging$Runs" "walk" "()I") A U = true := va_Nw.use rfl (show va_Nw _ U from (show _ ∧ _ from h).2.2.2.2.2.2.2.2.2.2.2.2.2.2.2.2.2.2.2.2.2.1)
theorem gw_22 {A : Array Value} {U : State} (h : GW U) : Cond.before (.methodLink "HiredByLonging$Land" 91 ⟨"HiredByLonging$Horse", "walk", "()I"⟩) A U = true := va_Nw.use rfl (show va_Nw _ U from (show _ ∧ _ from h).2.2.2.2.2.2.2.2.2.2.2.2.2.2.2.2.2.2.2.2.2.2.1)
theorem gw_23 {A : Array Value} {U : State} (h : GW U) : Cond.before (.methodLink "HiredByLonging$Content" 9 ⟨"HiredByLonging$Horse", "walk", "()I"⟩) A U = true := va_Nw.use rfl (show va_Nw _ U from (show _ ∧ _ from h).2.2.2.2.2.2.2.2.2.2.2.2.2.2.2.2.2.2.2.2.2.2.2.1)
theorem gw_24 {A : Array Value} {U : State} (h : GW U) : Cond.before (.methodLink "HiredByLonging$Mare" 27 ⟨"HiredByLonging$Two", "walk", "()I"⟩) A U = true := va_Nw.use rfl (show va_Nw _ U from (show _ ∧ _ from h).2.2.2.2.2.2.2.2.2.2.2.2.2.2.2.2.2.2.2.2.2.2.2.2.1)
theorem gw_25 {A : Array Value} {U : State} (h : GW U) : Cond.before (.methodLink "HiredByLonging" 164 ⟨"HiredByLonging$Horse", "walk", "()I"⟩) A U = true := va_Nw.use rfl (show va_Nw _ U from (show _ ∧ _ from h).2.2.2.2.2.2.2.2.2.2.2.2.2.2.2.2.2.2.2.2.2.2.2.2.2)
def GC (U : State) : Prop :=
  va_Nc "HiredByLonging$Horse" "[B" U ∧
  va_Nc "HiredByLonging$Horse" "[S" U ∧
  va_Nc "HiredByLonging$Horse" "[I" U ∧
  va_Nc "HiredByLonging$Content" "[B" U ∧
  va_Nc "HiredByLonging$Content" "[S" U ∧
  va_Nc "HiredByLonging$Content" "[I" U ∧
  va_Nc "HiredByLonging$Blind" "[B" U ∧
  va_Nc "HiredByLonging$Blind" "[S" U ∧
  va_Nc "HiredByLonging$Blind" "[I" U ∧
  va_Nc "HiredByLonging$Two" "[B" U ∧
  va_Nc "HiredByLonging$Two" "[S" U ∧
  va_Nc "HiredByLonging$Two" "[I" U ∧
  va_Nc "HiredByLonging$Drowned" "[B" U ∧
  va_Nc "HiredByLonging$Drowned" "[S" U ∧
  va_Nc "HiredByLonging$Drowned" "[I" U ∧
  va_Nc "HiredByLonging$Foal" "[B" U ∧
  va_Nc "HiredByLonging$Foal" "[S" U ∧
  va_Nc "HiredByLonging$Foal" "[I" U ∧
  va_Nc "HiredByLonging$Mare" "[B" U ∧
  va_Nc "HiredByLonging$Mare" "[S" U ∧
  va_Nc "HiredByLonging$Mare" "[I" U ∧
  va_Nc "HiredByLonging$Gelding" "[B" U ∧
  va_Nc "HiredByLonging$Gelding" "[S" U ∧
  va_Nc "HiredByLonging$Gelding" "[I" U ∧
  va_Nc "[B" "HiredByLonging$Horse" U ∧
  va_Nc "[B" "[S" U ∧
  va_Nc "[B" "[I" U ∧
  va_Nc "[S" "HiredByLonging$Horse" U ∧
  va_Nc "[S" "[B" U ∧
  va_Nc "[S" "[I" U ∧
  va_Nc "[I" "HiredByLonging$Horse" U ∧
  va_Nc "[I" "[B" U ∧
  va_Nc "[I" "[S" U
theorem GC.moved {s U : State} (hv : s.vm.Alike U.vm) (h : GC s) : GC U := by
  unfold GC at h ⊢
  obtain ⟨h0, h1, h2, h3, h4, h5, h6, h7, h8, h9, h10, h11, h12, h13, h14, h15, h16, h17, h18, h19, h20, h21, h22, h23, h24, h25, h26, h27, h28, h29, h30, h31, h32⟩ := h
  exact ⟨h0.moved hv, h1.moved hv, h2.moved hv, h3.moved hv, h4.moved hv, h5.moved hv, h6.moved hv, h7.moved hv, h8.moved hv, h9.moved hv, h10.moved hv, h11.moved hv, h12.moved hv, h13.moved hv, h14.moved hv, h15.moved hv, h16.moved hv, h17.moved hv, h18.moved hv, h19.moved hv, h20.moved hv, h21.moved hv, h22.moved hv, h23.moved hv, h24.moved hv, h25.moved hv, h26.moved hv, h27.moved hv, h28.moved hv, h29.moved hv, h30.moved hv, h31.moved hv, h32.moved hv⟩
theorem gc_0 {U : State} (h : GC U) : va_Nc "HiredByLonging$Horse" "[B" U := (show _ ∧ _ from h).1
theorem gc_1 {U : State} (h : GC U) : va_Nc "HiredByLonging$Horse" "[S" U := (show _ ∧ _ from h).2.1
theorem gc_2 {U : State} (h : GC U) : va_Nc "HiredByLonging$Horse" "[I" U := (show _ ∧ _ from h).2.2.1
theorem gc_3 {U : State} (h : GC U) : va_Nc "HiredByLonging$Content" "[B" U := (show _ ∧ _ from h).2.2.2.1
theorem gc_4 {U : State} (h : GC U) : va_Nc "HiredByLonging$Content" "[S" U := (show _ ∧ _ from h).2.2.2.2.1
theorem gc_5 {U : State} (h : GC U) : va_Nc "HiredByLonging$Content" "[I" U := (show _ ∧ _ from h).2.2.2.2.2.1
theorem gc_6 {U : State} (h : GC U) : va_Nc "HiredByLonging$Blind" "[B" U := (show _ ∧ _ from h).2.2.2.2.2.2.1
theorem gc_7 {U : State} (h : GC U) : va_Nc "HiredByLonging$Blind" "[S" U := (show _ ∧ _ from h).2.2.2.2.2.2.2.1
theorem gc_8 {U : State} (h : GC U) : va_Nc "HiredByLonging$Blind" "[I" U := (show _ ∧ _ from h).2.2.2.2.2.2.2.2.1
theorem gc_9 {U : State} (h : GC U) : va_Nc "HiredByLonging$Two" "[B" U := (show _ ∧ _ from h).2.2.2.2.2.2.2.2.2.1
theorem gc_10 {U : State} (h : GC U) : va_Nc "HiredByLonging$Two" "[S" U := (show _ ∧ _ from h).2.2.2.2.2.2.2.2.2.2.1
theorem gc_11 {U : State} (h : GC U) : va_Nc "HiredByLonging$Two" "[I" U := (show _ ∧ _ from h).2.2.2.2.2.2.2.2.2.2.2.1
theorem gc_12 {U : State} (h : GC U) : va_Nc "HiredByLonging$Drowned" "[B" U := (show _ ∧ _ from h).2.2.2.2.2.2.2.2.2.2.2.2.1
theorem gc_13 {U : State} (h : GC U) : va_Nc "HiredByLonging$Drowned" "[S" U := (show _ ∧ _ from h).2.2.2.2.2.2.2.2.2.2.2.2.2.1
theorem gc_14 {U : State} (h : GC U) : va_Nc "HiredByLonging$Drowned" "[I" U := (show _ ∧ _ from h).2.2.2.2.2.2.2.2.2.2.2.2.2.2.1
theorem gc_15 {U : State} (h : GC U) : va_Nc "HiredByLonging$Foal" "[B" U := (show _ ∧ _ from h).2.2.2.2.2.2.2.2.2.2.2.2.2.2.2.1
theorem gc_16 {U : State} (h : GC U) : va_Nc "HiredByLonging$Foal" "[S" U := (show _ ∧ _ from h).2.2.2.2.2.2.2.2.2.2.2.2.2.2.2.2.1
theorem gc_17 {U : State} (h : GC U) : va_Nc "HiredByLonging$Foal" "[I" U := (show _ ∧ _ from h).2.2.2.2.2.2.2.2.2.2.2.2.2.2.2.2.2.1
theorem gc_18 {U : State} (h : GC U) : va_Nc "HiredByLonging$Mare" "[B" U := (show _ ∧ _ from h).2.2.2.2.2.2.2.2.2.2.2.2.2.2.2.2.2.2.1
theorem gc_19 {U : State} (h : GC U) : va_Nc "HiredByLonging$Mare" "[S" U := (show _ ∧ _ from h).2.2.2.2.2.2.2.2.2.2.2.2.2.2.2.2.2.2.2.1
theorem gc_20 {U : State} (h : GC U) : va_Nc "HiredByLonging$Mare" "[I" U := (show _ ∧ _ from h).2.2.2.2.2.2.2.2.2.2.2.2.2.2.2.2.2.2.2.2.1
theorem gc_21 {U : State} (h : GC U) : va_Nc "HiredByLonging$Gelding" "[B" U := (show _ ∧ _ from h).2.2.2.2.2.2.2.2.2.2.2.2.2.2.2.2.2.2.2.2.2.1
theorem gc_22 {U : State} (h : GC U) : va_Nc "HiredByLonging$Gelding" "[S" U := (show _ ∧ _ from h).2.2.2.2.2.2.2.2.2.2.2.2.2.2.2.2.2.2.2.2.2.2.1
theorem gc_23 {U : State} (h : GC U) : va_Nc "HiredByLonging$Gelding" "[I" U := (show _ ∧ _ from h).2.2.2.2.2.2.2.2.2.2.2.2.2.2.2.2.2.2.2.2.2.2.2.1
theorem gc_24 {U : State} (h : GC U) : va_Nc "[B" "HiredByLonging$Horse" U := (show _ ∧ _ from h).2.2.2.2.2.2.2.2.2.2.2.2.2.2.2.2.2.2.2.2.2.2.2.2.1
theorem gc_25 {U : State} (h : GC U) : va_Nc "[B" "[S" U := (show _ ∧ _ from h).2.2.2.2.2.2.2.2.2.2.2.2.2.2.2.2.2.2.2.2.2.2.2.2.2.1
theorem gc_26 {U : State} (h : GC U) : va_Nc "[B" "[I" U := (show _ ∧ _ from h).2.2.2.2.2.2.2.2.2.2.2.2.2.2.2.2.2.2.2.2.2.2.2.2.2.2.1
theorem gc_27 {U : State} (h : GC U) : va_Nc "[S" "HiredByLonging$Horse" U := (show _ ∧ _ from h).2.2.2.2.2.2.2.2.2.2.2.2.2.2.2.2.2.2.2.2.2.2.2.2.2.2.2.1
theorem gc_28 {U : State} (h : GC U) : va_Nc "[S" "[B" U := (show _ ∧ _ from h).2.2.2.2.2.2.2.2.2.2.2.2.2.2.2.2.2.2.2.2.2.2.2.2.2.2.2.2.1
theorem gc_29 {U : State} (h : GC U) : va_Nc "[S" "[I" U := (show _ ∧ _ from h).2.2.2.2.2.2.2.2.2.2.2.2.2.2.2.2.2.2.2.2.2.2.2.2.2.2.2.2.2.1
theorem gc_30 {U : State} (h : GC U) : va_Nc "[I" "HiredByLonging$Horse" U := (show _ ∧ _ from h).2.2.2.2.2.2.2.2.2.2.2.2.2.2.2.2.2.2.2.2.2.2.2.2.2.2.2.2.2.2.1
theorem gc_31 {U : State} (h : GC U) : va_Nc "[I" "[B" U := (show _ ∧ _ from h).2.2.2.2.2.2.2.2.2.2.2.2.2.2.2.2.2.2.2.2.2.2.2.2.2.2.2.2.2.2.2.1
theorem gc_32 {U : State} (h : GC U) : va_Nc "[I" "[S" U := (show _ ∧ _ from h).2.2.2.2.2.2.2.2.2.2.2.2.2.2.2.2.2.2.2.2.2.2.2.2.2.2.2.2.2.2.2.2
/-- arrays of references can be made -/
def GO (U : State) : Prop := va_AO RX8 U ∧ va_AO RX6 U ∧ va_AO RX2 U ∧ va_AO RX3 U
theorem GO.moved {s U : State} (hv : s.vm.Alike U.vm) (h : GO s) : GO U := ⟨h.1.moved hv, h.2.1.moved hv, h.2.2.1.moved hv, h.2.2.2.moved hv⟩
/-- all that the tables say and that every method's start carries -/
def GK (G : ZG) (U : State) : Prop := va_K (zD G) CL (zT G) U ∧ GW U ∧ GC U ∧ GO U
theorem GK.warm {G : ZG} {s U : State} (hW : s.WarmedH U.vm) (h : GK G s) : GK G U := ⟨h.1.moved hW.alike, h.2.1.warm hW, h.2.2.1.moved hW.alike, h.2.2.2.moved hW.alike⟩
theorem GK.same {G : ZG} {s U : State} (hv : s.vm = U.vm) (h : GK G s) : GK G U := by
  have ha : s.vm.Alike U.vm := by rw [hv]; exact Vm.Alike.refl _
  exact ⟨h.1.moved ha, h.2.1.same hv, h.2.2.1.moved ha, h.2.2.2.moved ha⟩
/-- what holds all through a body -/
def CX (X : ZE) (Y : ZY) (G : ZG) : Prop :=
  X.1.tables.exec = Jvm.exec ∧ (zc X).code = zcc Y ∧ (zc X).maxLocals = znL Y ∧ (zs X).vm.findClass (zow Y) = some (zm X).cls ∧ (∀ w ∈ lw_all, w.before (zar X) (zs X) = true) ∧ (zme X).locks = false ∧ (zme X).sig.returnType = zrt Y ∧ (∀ q, (zs X).heap.size ≤ q → zA Y q) ∧ GK G (zs X)
theorem CX.x {X : ZE} {Y : ZY} {G : ZG} (C : CX X Y G) : X.1.tables.exec = Jvm.exec := C.1
theorem CX.b {X : ZE} {Y : ZY} {G : ZG} (C : CX X Y G) : (zc X).code = zcc Y := C.2.1
theorem CX.ml {X : ZE} {Y : ZY} {G : ZG} (C : CX X Y G) : (zc X).maxLocals = znL Y := C.2.2.1
theorem CX.own {X : ZE} {Y : ZY} {G : ZG} (C : CX X Y G) : (zs X).vm.findClass (zow Y) = some (zm X).cls := C.2.2.2.1
theorem CX.ts {X : ZE} {Y : ZY} {G : ZG} (C : CX X Y G) : ∀ w ∈ lw_all, w.before (zar X) (zs X) = true := C.2.2.2.2.1
theorem CX.lk {X : ZE} {Y : ZY} {G : ZG} (C : CX X Y G) : (zme X).locks = false := C.2.2.2.2.2.1
theorem CX.rt {X : ZE} {Y : ZY} {G : ZG} (C : CX X Y G) : (zme X).sig.returnType = zrt Y := C.2.2.2.2.2.2.1
theorem CX.hA {X : ZE} {Y : ZY} {G : ZG} (C : CX X Y G) : ∀ q, (zs X).heap.size ≤ q → zA Y q := C.2.2.2.2.2.2.2.1
theorem CX.gk {X : ZE} {Y : ZY} {G : ZG} (C : CX X Y G) : GK G (zs X) := C.2.2.2.2.2.2.2.2
theorem CX.K {X : ZE} {Y : ZY} {G : ZG} (C : CX X Y G) : va_K (zD G) CL (zT G) (zs X) := C.gk.1
abbrev zW (X : ZE) (Y : ZY) (H : Heap) (locs : List Loc) (k n : Nat) (g : JFrame) : Prop := W X.1 (zl X) X.2.2.1 (zR Y) (zs X) (zm X) (zar X) (zbl X) (zme X) (zc X) H locs k n (zQ X) g
def Z (X : ZE) (Y : ZY) (G : ZG) (k n : Nat) (ws : va_W) (pc : Nat) (lv : List (Nat × Value)) (st : List Value) : Prop :=
  ∀ (H : Heap) (locs : List Loc) (ls : Array Slot), va_P (zD G) CL ws H → va_D (zA Y) ws → va_S (zA Y) (zs X).heap H locs → lv_has ls (znL Y) lv → zW X Y H locs k n (F0 (zm X) pc ls st)
theorem zw_fm {ws ws' : va_W} {is : List Nat} (h : is.map (fun i => ws[i]?) = ws'.map some) : is.filterMap (fun i => ws[i]?) = ws' := by
  have e : is.filterMap (fun i => ws[i]?) = (is.map (fun i => ws[i]?)).filterMap id := by rw [List.filterMap_map]; rfl
  rw [e, h, List.filterMap_map]
  simp
section ZR
variable {X : ZE} {Y : ZY} {G : ZG} {k n : Nat} {ws : va_W} {pc : Nat} {lv : List (Nat × Value)} {st : List Value}
/-- fewer locals, in another order -/
theorem z_lv {lv' : List (Nat × Value)} (is : List Nat) (h : lv_pick lv is = lv') (z : Z X Y G k n ws pc lv' st) : Z X Y G k n ws pc lv st := fun H locs ls hP hD hS hl => z H locs ls hP hD hS (lv_sub hl is h)
/-- fewer cells, in another order -/
theorem z_ws {ws' : va_W} (is : List Nat) (h : is.map (fun i => ws[i]?) = ws'.map some) (hn : va_nd is = true) (z : Z X Y G k n ws' pc lv st) : Z X Y G k n ws pc lv st := fun H locs ls hP hD hS hl => z H locs ls (hP.sub is (zw_fm h)) (hD.sub is hn h) hS hl
theorem z_wide {k' n' : Nat} (h1 : k ≤ k') (h2 : n ≤ n') (z : Z X Y G k' n' ws pc lv st) : Z X Y G k n ws pc lv st := fun H locs ls hP hD hS hl => W.widen h1 h2 (z H locs ls hP hD hS hl)
theorem z_topi {x : Int32} (z : ∀ y : Int32, y = x → Z X Y G k n ws pc lv (.int y :: st)) : Z X Y G k n ws pc lv (.int x :: st) := z x rfl
theorem z_topl {x : Int64} (z : ∀ y : Int64, y = x → Z X Y G k n ws pc lv (.long y :: st)) : Z X Y G k n ws pc lv (.long x :: st) := z x rfl
theorem z_eqi {x y : Int32} (h : x = y) (z : Z X Y G k n ws pc lv (.int y :: st)) : Z X Y G k n ws pc lv (.int x :: st) := h ▸ z
theorem z_eql {x y : Int64} (h : x = y) (z : Z X Y G k n ws pc lv (.long y :: st)) : Z X Y G k n ws pc lv (.long x :: st) := h ▸ z

theorem z_iconst (C : CX X Y G) {c : Int} {v : Int32} (d : decode (zcc Y) pc = .ok (.iconst c, 1)) (hv : Int32.ofInt c = v) (z : Z X Y G k n ws (pc + 1) lv (.int v :: st)) : Z X Y G k n ws pc lv (st) := fun H locs ls hP hD hS hl => lv_iconst C.x C.b d hv (z H locs ls hP hD hS hl)
theorem z_bipush (C : CX X Y G) {c : Int} {v : Int32} (d : decode (zcc Y) pc = .ok (.bipush c, 2)) (hv : (Int8.ofInt c).toInt32 = v) (z : Z X Y G k n ws (pc + 2) lv (.int v :: st)) : Z X Y G k n ws pc lv (st) := fun H locs ls hP hD hS hl => lv_bipush C.x C.b d hv (z H locs ls hP hD hS hl)
theorem z_sipush (C : CX X Y G) {c : Int} {v : Int32} (d : decode (zcc Y) pc = .ok (.sipush c, 3)) (hv : (Int16.ofInt c).toInt32 = v) (z : Z X Y G k n ws (pc + 3) lv (.int v :: st)) : Z X Y G k n ws pc lv (st) := fun H locs ls hP hD hS hl => lv_sipush C.x C.b d hv (z H locs ls hP hD hS hl)
theorem z_lconst (C : CX X Y G) {c : Fin 2} {v : Int64} (d : decode (zcc Y) pc = .ok (.lconst c, 1)) (hv : Int64.ofNat (c : Nat) = v) (z : Z X Y G k n ws (pc + 1) lv (.long v :: st)) : Z X Y G k n ws pc lv (st) := fun H locs ls hP hD hS hl => lv_lconst C.x C.b d hv (z H locs ls hP hD hS hl)
theorem z_null (C : CX X Y G) (d : decode (zcc Y) pc = .ok (.aconst_null, 1)) (z : Z X Y G k n ws (pc + 1) lv (.null :: st)) : Z X Y G k n ws pc lv (st) := fun H locs ls hP hD hS hl => lv_null C.x C.b d (z H locs ls hP hD hS hl)
theorem z_ldc (C : CX X Y G) {i : Nat} {v : Int32} (hc : Cond.constant (zow Y) i v ∈ lw_all) (d : decode (zcc Y) pc = .ok (.ldc i, 2)) (z : Z X Y G k n ws (pc + 2) lv (.int v :: st)) : Z X Y G k n ws pc lv (st) := fun H locs ls hP hD hS hl => lv_ldc C.x C.b C.own (C.ts _ hc) d (z H locs ls hP hD hS hl)
theorem z_ldc2 (C : CX X Y G) {i : Nat} {v : Int64} (hc : Cond.constantLong (zow Y) i v ∈ lw_all) (d : decode (zcc Y) pc = .ok (.ldc2_w i, 3)) (z : Z X Y G k n ws (pc + 3) lv (.long v :: st)) : Z X Y G k n ws pc lv (st) := fun H locs ls hP hD hS hl => lv_ldc2 C.x C.b C.own (C.ts _ hc) d (z H locs ls hP hD hS hl)
theorem z_iload_n (C : CX X Y G) {j : Fin 4} {i : Nat} {x : Int32} (d : decode (zcc Y) pc = .ok (.iload_n j, 1)) (hi : (j : Nat) = i) (q : Nat) (hq : lv[q]? = some (i, .int x)) (z : Z X Y G k n ws (pc + 1) lv (.int x :: st)) : Z X Y G k n ws pc lv (st) := fun H locs ls hP hD hS hl => lv_iload_n C.x C.b d hi (lv_at hl q hq) (z H locs ls hP hD hS hl)
theorem z_iload (C : CX X Y G) {i : Nat} {x : Int32} (d : decode (zcc Y) pc = .ok (.iload i, 2)) (q : Nat) (hq : lv[q]? = some (i, .int x)) (z : Z X Y G k n ws (pc + 2) lv (.int x :: st)) : Z X Y G k n ws pc lv (st) := fun H locs ls hP hD hS hl => lv_iload C.x C.b d (lv_at hl q hq) (z H locs ls hP hD hS hl)
theorem z_lload_n (C : CX X Y G) {j : Fin 4} {i : Nat} {x : Int64} (d : decode (zcc Y) pc = .ok (.lload_n j, 1)) (hi : (j : Nat) = i) (q : Nat) (hq : lv[q]? = some (i, .long x)) (z : Z X Y G k n ws (pc + 1) lv (.long x :: st)) : Z X Y G k n ws pc lv (st) := fun H locs ls hP hD hS hl => lv_lload_n C.x C.b d hi (lv_at hl q hq) (z H locs ls hP hD hS hl)
theorem z_lload (C : CX X Y G) {i : Nat} {x : Int64} (d : decode (zcc Y) pc = .ok (.lload i, 2)) (q : Nat) (hq : lv[q]? = some (i, .long x)) (z : Z X Y G k n ws (pc + 2) lv (.long x :: st)) : Z X Y G k n ws pc lv (st) := fun H locs ls hP hD hS hl => lv_lload C.x C.b d (lv_at hl q hq) (z H locs ls hP hD hS hl)
theorem z_aload_n (C : CX X Y G) {j : Fin 4} {i : Nat} {x : Nat} (d : decode (zcc Y) pc = .ok (.aload_n j, 1)) (hi : (j : Nat) = i) (q : Nat) (hq : lv[q]? = some (i, .ref x)) (z : Z X Y G k n ws (pc + 1) lv (.ref x :: st)) : Z X Y G k n ws pc lv (st) := fun H locs ls hP hD hS hl => lv_aload_n C.x C.b d hi (lv_at hl q hq) (z H locs ls hP hD hS hl)
theorem z_aload (C : CX X Y G) {i : Nat} {x : Nat} (d : decode (zcc Y) pc = .ok (.aload i, 2)) (q : Nat) (hq : lv[q]? = some (i, .ref x)) (z : Z X Y G k n ws (pc + 2) lv (.ref x :: st)) : Z X Y G k n ws pc lv (st) := fun H locs ls hP hD hS hl => lv_aload C.x C.b d (lv_at hl q hq) (z H locs ls hP hD hS hl)
theorem z_aload_nN (C : CX X Y G) {j : Fin 4} {i : Nat} (d : decode (zcc Y) pc = .ok (.aload_n j, 1)) (hi : (j : Nat) = i) (q : Nat) (hq : lv[q]? = some (i, .null)) (z : Z X Y G k n ws (pc + 1) lv (.null :: st)) : Z X Y G k n ws pc lv (st) := fun H locs ls hP hD hS hl => lv_aload_nN C.x C.b d hi (lv_at hl q hq) (z H locs ls hP hD hS hl)
theorem z_aloadN (C : CX X Y G) {i : Nat} (d : decode (zcc Y) pc = .ok (.aload i, 2)) (q : Nat) (hq : lv[q]? = some (i, .null)) (z : Z X Y G k n ws (pc + 2) lv (.null :: st)) : Z X Y G k n ws pc lv (st) := fun H locs ls hP hD hS hl => lv_aloadN C.x C.b d (lv_at hl q hq) (z H locs ls hP hD hS hl)
theorem z_istore_n (C : CX X Y G) {j : Fin 4} {i : Nat} {x : Int32} {lv' : List (Nat × Value)} (d : decode (zcc Y) pc = .ok (.istore_n j, 1)) (hi : (j : Nat) = i) (hn : i < znL Y) (hf : (i, Value.int x) :: lv.filter (fun q => !(q.1 == i) && !(q.1 + 1 == i && q.2.category == 2)) = lv') (z : Z X Y G k n ws (pc + 1) lv' st) : Z X Y G k n ws pc lv (.int x :: st) := fun H locs ls hP hD hS hl => lv_istore_n C.x C.b d hi hl hn hf (fun ls hl => z H locs ls hP hD hS hl)
theorem z_istore (C : CX X Y G) {i : Nat} {x : Int32} {lv' : List (Nat × Value)} (d : decode (zcc Y) pc = .ok (.istore i, 2)) (hn : i < znL Y) (hf : (i, Value.int x) :: lv.filter (fun q => !(q.1 == i) && !(q.1 + 1 == i && q.2.category == 2)) = lv') (z : Z X Y G k n ws (pc + 2) lv' st) : Z X Y G k n ws pc lv (.int x :: st) := fun H locs ls hP hD hS hl => lv_istore C.x C.b d hl hn hf (fun ls hl => z H locs ls hP hD hS hl)
theorem z_lstore_n (C : CX X Y G) {j : Fin 4} {i : Nat} {x : Int64} {lv' : List (Nat × Value)} (d : decode (zcc Y) pc = .ok (.lstore_n j, 1)) (hi : (j : Nat) = i) (hn : i + 1 < znL Y) (hf : (i, Value.long x) :: lv.filter (fun q => !(q.1 == i) && (!(q.1 == i + 1) && !(q.1 + 1 == i && q.2.category == 2))) = lv') (z : Z X Y G k n ws (pc + 1) lv' st) : Z X Y G k n ws pc lv (.long x :: st) := fun H locs ls hP hD hS hl => lv_lstore_n C.x C.b d hi hl hn hf (fun ls hl => z H locs ls hP hD hS hl)
theorem z_lstore (C : CX X Y G) {i : Nat} {x : Int64} {lv' : List (Nat × Value)} (d : decode (zcc Y) pc = .ok (.lstore i, 2)) (hn : i + 1 < znL Y) (hf : (i, Value.long x) :: lv.filter (fun q => !(q.1 == i) && (!(q.1 == i + 1) && !(q.1 + 1 == i && q.2.category == 2))) = lv') (z : Z X Y G k n ws (pc + 2) lv' st) : Z X Y G k n ws pc lv (.long x :: st) := fun H locs ls hP hD hS hl => lv_lstore C.x C.b d hl hn hf (fun ls hl => z H locs ls hP hD hS hl)
theorem z_astore_n (C : CX X Y G) {j : Fin 4} {i : Nat} {x : Nat} {lv' : List (Nat × Value)} (d : decode (zcc Y) pc = .ok (.astore_n j, 1)) (hi : (j : Nat) = i) (hn : i < znL Y) (hf : (i, Value.ref x) :: lv.filter (fun q => !(q.1 == i) && !(q.1 + 1 == i && q.2.category == 2)) = lv') (z : Z X Y G k n ws (pc + 1) lv' st) : Z X Y G k n ws pc lv (.ref x :: st) := fun H locs ls hP hD hS hl => lv_astore_n C.x C.b d hi hl hn hf (fun ls hl => z H locs ls hP hD hS hl)
theorem z_astore (C : CX X Y G) {i : Nat} {x : Nat} {lv' : List (Nat × Value)} (d : decode (zcc Y) pc = .ok (.astore i, 2)) (hn : i < znL Y) (hf : (i, Value.ref x) :: lv.filter (fun q => !(q.1 == i) && !(q.1 + 1 == i && q.2.category == 2)) = lv') (z : Z X Y G k n ws (pc + 2) lv' st) : Z X Y G k n ws pc lv (.ref x :: st) := fun H locs ls hP hD hS hl => lv_astore C.x C.b d hl hn hf (fun ls hl => z H locs ls hP hD hS hl)
theorem z_astore_nN (C : CX X Y G) {j : Fin 4} {i : Nat}  {lv' : List (Nat × Value)} (d : decode (zcc Y) pc = .ok (.astore_n j, 1)) (hi : (j : Nat) = i) (hn : i < znL Y) (hf : (i, Value.null) :: lv.filter (fun q => !(q.1 == i) && !(q.1 + 1 == i && q.2.category == 2)) = lv') (z : Z X Y G k n ws (pc + 1) lv' st) : Z X Y G k n ws pc lv (.null :: st) := fun H locs ls hP hD hS hl => lv_astore_nN C.x C.b d hi hl hn hf (fun ls hl => z H locs ls hP hD hS hl)
theorem z_astoreN (C : CX X Y G) {i : Nat}  {lv' : List (Nat × Value)} (d : decode (zcc Y) pc = .ok (.astore i, 2)) (hn : i < znL Y) (hf : (i, Value.null) :: lv.filter (fun q => !(q.1 == i) && !(q.1 + 1 == i && q.2.category == 2)) = lv') (z : Z X Y G k n ws (pc + 2) lv' st) : Z X Y G k n ws pc lv (.null :: st) := fun H locs ls hP hD hS hl => lv_astoreN C.x C.b d hl hn hf (fun ls hl => z H locs ls hP hD hS hl)
theorem z_iinc (C : CX X Y G) {i q : Nat} {c : Int} {x v : Int32} {lv' : List (Nat × Value)} (d : decode (zcc Y) pc = .ok (.iinc i c, 3)) (hq : lv[q]? = some (i, .int x)) (hv : x + Int32.ofInt c = v) (hn : i < znL Y) (hf : (i, Value.int v) :: lv.filter (fun q => !(q.1 == i) && !(q.1 + 1 == i && q.2.category == 2)) = lv') (z : Z X Y G k n ws (pc + 3) lv' st) : Z X Y G k n ws pc lv st := fun H locs ls hP hD hS hl => lv_iinc C.x C.b d hl hq hv hn hf (fun ls hl => z H locs ls hP hD hS hl)
theorem z_iadd (C : CX X Y G) {x y v : Int32} (d : decode (zcc Y) pc = .ok (.iadd, 1)) (hv : x + y = v) (z : Z X Y G k n ws (pc + 1) lv (.int v :: st)) : Z X Y G k n ws pc lv (.int y :: .int x :: st) := fun H locs ls hP hD hS hl => lv_iadd C.x C.b d (hv.symm ▸ z H locs ls hP hD hS hl)
theorem z_isub (C : CX X Y G) {x y v : Int32} (d : decode (zcc Y) pc = .ok (.isub, 1)) (hv : x - y = v) (z : Z X Y G k n ws (pc + 1) lv (.int v :: st)) : Z X Y G k n ws pc lv (.int y :: .int x :: st) := fun H locs ls hP hD hS hl => lv_isub C.x C.b d (hv.symm ▸ z H locs ls hP hD hS hl)
theorem z_imul (C : CX X Y G) {x y v : Int32} (d : decode (zcc Y) pc = .ok (.imul, 1)) (hv : x * y = v) (z : Z X Y G k n ws (pc + 1) lv (.int v :: st)) : Z X Y G k n ws pc lv (.int y :: .int x :: st) := fun H locs ls hP hD hS hl => lv_imul C.x C.b d (hv.symm ▸ z H locs ls hP hD hS hl)
theorem z_iand (C : CX X Y G) {x y v : Int32} (d : decode (zcc Y) pc = .ok (.iand, 1)) (hv : x &&& y = v) (z : Z X Y G k n ws (pc + 1) lv (.int v :: st)) : Z X Y G k n ws pc lv (.int y :: .int x :: st) := fun H locs ls hP hD hS hl => lv_iand C.x C.b d (hv.symm ▸ z H locs ls hP hD hS hl)
theorem z_ior (C : CX X Y G) {x y v : Int32} (d : decode (zcc Y) pc = .ok (.ior, 1)) (hv : x ||| y = v) (z : Z X Y G k n ws (pc + 1) lv (.int v :: st)) : Z X Y G k n ws pc lv (.int y :: .int x :: st) := fun H locs ls hP hD hS hl => lv_ior C.x C.b d (hv.symm ▸ z H locs ls hP hD hS hl)
theorem z_ixor (C : CX X Y G) {x y v : Int32} (d : decode (zcc Y) pc = .ok (.ixor, 1)) (hv : x ^^^ y = v) (z : Z X Y G k n ws (pc + 1) lv (.int v :: st)) : Z X Y G k n ws pc lv (.int y :: .int x :: st) := fun H locs ls hP hD hS hl => lv_ixor C.x C.b d (hv.symm ▸ z H locs ls hP hD hS hl)
theorem z_ishl (C : CX X Y G) {x y v : Int32} (d : decode (zcc Y) pc = .ok (.ishl, 1)) (hv : x <<< (y &&& 31) = v) (z : Z X Y G k n ws (pc + 1) lv (.int v :: st)) : Z X Y G k n ws pc lv (.int y :: .int x :: st) := fun H locs ls hP hD hS hl => lv_ishl C.x C.b d (hv.symm ▸ z H locs ls hP hD hS hl)
theorem z_ishr (C : CX X Y G) {x y v : Int32} (d : decode (zcc Y) pc = .ok (.ishr, 1)) (hv : x >>> (y &&& 31) = v) (z : Z X Y G k n ws (pc + 1) lv (.int v :: st)) : Z X Y G k n ws pc lv (.int y :: .int x :: st) := fun H locs ls hP hD hS hl => lv_ishr C.x C.b d (hv.symm ▸ z H locs ls hP hD hS hl)
theorem z_idiv (C : CX X Y G) {x y v : Int32} (d : decode (zcc Y) pc = .ok (.idiv, 1)) (hne : ¬ y = 0) (hv : x / y = v) (z : Z X Y G k n ws (pc + 1) lv (.int v :: st)) : Z X Y G k n ws pc lv (.int y :: .int x :: st) := fun H locs ls hP hD hS hl => lv_idiv C.x C.b d hne (hv.symm ▸ z H locs ls hP hD hS hl)
theorem z_irem (C : CX X Y G) {x y v : Int32} (d : decode (zcc Y) pc = .ok (.irem, 1)) (hne : ¬ y = 0) (hv : x - x / y * y = v) (z : Z X Y G k n ws (pc + 1) lv (.int v :: st)) : Z X Y G k n ws pc lv (.int y :: .int x :: st) := fun H locs ls hP hD hS hl => lv_irem C.x C.b d hne (hv.symm ▸ z H locs ls hP hD hS hl)
theorem z_ladd (C : CX X Y G) {x y v : Int64} (d : decode (zcc Y) pc = .ok (.ladd, 1)) (hv : x + y = v) (z : Z X Y G k n ws (pc + 1) lv (.long v :: st)) : Z X Y G k n ws pc lv (.long y :: .long x :: st) := fun H locs ls hP hD hS hl => lv_ladd C.x C.b d (hv.symm ▸ z H locs ls hP hD hS hl)
theorem z_lsub (C : CX X Y G) {x y v : Int64} (d : decode (zcc Y) pc = .ok (.lsub, 1)) (hv : x - y = v) (z : Z X Y G k n ws (pc + 1) lv (.long v :: st)) : Z X Y G k n ws pc lv (.long y :: .long x :: st) := fun H locs ls hP hD hS hl => lv_lsub C.x C.b d (hv.symm ▸ z H locs ls hP hD hS hl)
theorem z_lmul (C : CX X Y G) {x y v : Int64} (d : decode (zcc Y) pc = .ok (.lmul, 1)) (hv : x * y = v) (z : Z X Y G k n ws (pc + 1) lv (.long v :: st)) : Z X Y G k n ws pc lv (.long y :: .long x :: st) := fun H locs ls hP hD hS hl => lv_lmul C.x C.b d (hv.symm ▸ z H locs ls hP hD hS hl)
theorem z_ldiv (C : CX X Y G) {x y v : Int64} (d : decode (zcc Y) pc = .ok (.ldiv, 1)) (hne : ¬ y = 0) (hv : x / y = v) (z : Z X Y G k n ws (pc + 1) lv (.long v :: st)) : Z X Y G k n ws pc lv (.long y :: .long x :: st) := fun H locs ls hP hD hS hl => lv_ldiv C.x C.b d hne (hv.symm ▸ z H locs ls hP hD hS hl)
theorem z_lrem (C : CX X Y G) {x y v : Int64} (d : decode (zcc Y) pc = .ok (.lrem, 1)) (hne : ¬ y = 0) (hv : x - x / y * y = v) (z : Z X Y G k n ws (pc + 1) lv (.long v :: st)) : Z X Y G k n ws pc lv (.long y :: .long x :: st) := fun H locs ls hP hD hS hl => lv_lrem C.x C.b d hne (hv.symm ▸ z H locs ls hP hD hS hl)
theorem z_ineg (C : CX X Y G) {x v : Int32} (d : decode (zcc Y) pc = .ok (.ineg, 1)) (hv : -x = v) (z : Z X Y G k n ws (pc + 1) lv (.int v :: st)) : Z X Y G k n ws pc lv (.int x :: st) := fun H locs ls hP hD hS hl => lv_ineg C.x C.b d (hv.symm ▸ z H locs ls hP hD hS hl)
theorem z_i2l (C : CX X Y G) {x : Int32} {v : Int64} (d : decode (zcc Y) pc = .ok (.i2l, 1)) (hv : x.toInt64 = v) (z : Z X Y G k n ws (pc + 1) lv (.long v :: st)) : Z X Y G k n ws pc lv (.int x :: st) := fun H locs ls hP hD hS hl => lv_i2l C.x C.b d hv (z H locs ls hP hD hS hl)
theorem z_l2i (C : CX X Y G) {x : Int64} {v : Int32} (d : decode (zcc Y) pc = .ok (.l2i, 1)) (hv : x.toInt32 = v) (z : Z X Y G k n ws (pc + 1) lv (.int v :: st)) : Z X Y G k n ws pc lv (.long x :: st) := fun H locs ls hP hD hS hl => lv_l2i C.x C.b d hv (z H locs ls hP hD hS hl)
theorem z_i2b (C : CX X Y G) {x v : Int32} (d : decode (zcc Y) pc = .ok (.i2b, 1)) (hv : x.toInt8.toInt32 = v) (z : Z X Y G k n ws (pc + 1) lv (.int v :: st)) : Z X Y G k n ws pc lv (.int x :: st) := fun H locs ls hP hD hS hl => lv_i2b C.x C.b d hv (z H locs ls hP hD hS hl)
theorem z_i2s (C : CX X Y G) {x v : Int32} (d : decode (zcc Y) pc = .ok (.i2s, 1)) (hv : x.toInt16.toInt32 = v) (z : Z X Y G k n ws (pc + 1) lv (.int v :: st)) : Z X Y G k n ws pc lv (.int x :: st) := fun H locs ls hP hD hS hl => lv_i2s C.x C.b d hv (z H locs ls hP hD hS hl)
theorem z_iushr (C : CX X Y G) {x y v : Int32} (d : decode (zcc Y) pc = .ok (.iushr, 1)) (hv : (x.toUInt32 >>> (y.toUInt32 &&& Int32.toUInt32 31)).toInt32 = v) (z : Z X Y G k n ws (pc + 1) lv (.int v :: st)) : Z X Y G k n ws pc lv (.int y :: .int x :: st) := fun H locs ls hP hD hS hl => lv_iushr C.x C.b d hv (z H locs ls hP hD hS hl)
theorem z_lcmp (C : CX X Y G) {x y : Int64} {v : Int32} (d : decode (zcc Y) pc = .ok (.lcmp, 1)) (hv : lg_cmp x y = v) (z : Z X Y G k n ws (pc + 1) lv (.int v :: st)) : Z X Y G k n ws pc lv (.long y :: .long x :: st) := fun H locs ls hP hD hS hl => W.lcmp C.x C.b d (hv.symm ▸ z H locs ls hP hD hS hl)
theorem z_dup (C : CX X Y G) {va : Value} (d : decode (zcc Y) pc = .ok (.dup, 1)) (hva : va.category = 1) (z : Z X Y G k n ws (pc + 1) lv (va :: va :: st)) : Z X Y G k n ws pc lv (va :: st) := fun H locs ls hP hD hS hl => lv_dup C.x C.b d hva (z H locs ls hP hD hS hl)
theorem z_pop (C : CX X Y G) {va : Value} (d : decode (zcc Y) pc = .ok (.pop, 1)) (hva : va.category = 1) (z : Z X Y G k n ws (pc + 1) lv (st)) : Z X Y G k n ws pc lv (va :: st) := fun H locs ls hP hD hS hl => lv_pop C.x C.b d hva (z H locs ls hP hD hS hl)
theorem z_dup_x1 (C : CX X Y G) {va vb : Value} (d : decode (zcc Y) pc = .ok (.dup_x1, 1)) (hva : va.category = 1) (hvb : vb.category = 1) (z : Z X Y G k n ws (pc + 1) lv (va :: vb :: va :: st)) : Z X Y G k n ws pc lv (va :: vb :: st) := fun H locs ls hP hD hS hl => lv_dup_x1 C.x C.b d hva hvb (z H locs ls hP hD hS hl)
theorem z_dup_x2 (C : CX X Y G) {va vb vd : Value} (d : decode (zcc Y) pc = .ok (.dup_x2, 1)) (hva : va.category = 1) (hvb : vb.category = 1) (hvd : vd.category = 1) (z : Z X Y G k n ws (pc + 1) lv (va :: vb :: vd :: va :: st)) : Z X Y G k n ws pc lv (va :: vb :: vd :: st) := fun H locs ls hP hD hS hl => lv_dup_x2 C.x C.b d hva hvb hvd (z H locs ls hP hD hS hl)
theorem z_dup2 (C : CX X Y G) {va vb : Value} (d : decode (zcc Y) pc = .ok (.dup2, 1)) (hva : va.category = 1) (hvb : vb.category = 1) (z : Z X Y G k n ws (pc + 1) lv (va :: vb :: va :: vb :: st)) : Z X Y G k n ws pc lv (va :: vb :: st) := fun H locs ls hP hD hS hl => lv_dup2_11 C.x C.b d hva hvb (z H locs ls hP hD hS hl)
theorem z_pop2 (C : CX X Y G) {va : Value} (d : decode (zcc Y) pc = .ok (.pop2, 1)) (hva : va.category = 2) (z : Z X Y G k n ws (pc + 1) lv (st)) : Z X Y G k n ws pc lv (va :: st) := fun H locs ls hP hD hS hl => lv_pop2_2 C.x C.b d hva (z H locs ls hP hD hS hl)
theorem z_if_eq (C : CX X Y G) {x : Int32} {off : Int} {tgt : Nat} (d : decode (zcc Y) pc = .ok (.ifCond .eq off, 3)) (ht : (pc : Int) + off = (tgt : Int)) (zt : x = 0 → Z X Y G k n ws tgt lv st) (zf : ¬ x = 0 → Z X Y G k n ws (pc + 3) lv st) : Z X Y G k n ws pc lv (.int x :: st) := fun H locs ls hP hD hS hl => lv_if_eq C.x C.b d ht (fun h => zt h H locs ls hP hD hS hl) (fun h => zf h H locs ls hP hD hS hl)
theorem z_icmp_eq (C : CX X Y G) {x y : Int32} {off : Int} {tgt : Nat} (d : decode (zcc Y) pc = .ok (.if_icmp .eq off, 3)) (ht : (pc : Int) + off = (tgt : Int)) (zt : x = y → Z X Y G k n ws tgt lv st) (zf : ¬ x = y → Z X Y G k n ws (pc + 3) lv st) : Z X Y G k n ws pc lv (.int y :: .int x :: st) := fun H locs ls hP hD hS hl => lv_icmp_eq C.x C.b d ht (fun h => zt h H locs ls hP hD hS hl) (fun h => zf h H locs ls hP hD hS hl)
theorem z_if_ne (C : CX X Y G) {x : Int32} {off : Int} {tgt : Nat} (d : decode (zcc Y) pc = .ok (.ifCond .ne off, 3)) (ht : (pc : Int) + off = (tgt : Int)) (zt : ¬ x = 0 → Z X Y G k n ws tgt lv st) (zf : x = 0 → Z X Y G k n ws (pc + 3) lv st) : Z X Y G k n ws pc lv (.int x :: st) := fun H locs ls hP hD hS hl => lv_if_ne C.x C.b d ht (fun h => zt h H locs ls hP hD hS hl) (fun h => zf h H locs ls hP hD hS hl)
theorem z_icmp_ne (C : CX X Y G) {x y : Int32} {off : Int} {tgt : Nat} (d : decode (zcc Y) pc = .ok (.if_icmp .ne off, 3)) (ht : (pc : Int) + off = (tgt : Int)) (zt : ¬ x = y → Z X Y G k n ws tgt lv st) (zf : x = y → Z X Y G k n ws (pc + 3) lv st) : Z X Y G k n ws pc lv (.int y :: .int x :: st) := fun H locs ls hP hD hS hl => lv_icmp_ne C.x C.b d ht (fun h => zt h H locs ls hP hD hS hl) (fun h => zf h H locs ls hP hD hS hl)
theorem z_if_lt (C : CX X Y G) {x : Int32} {off : Int} {tgt : Nat} (d : decode (zcc Y) pc = .ok (.ifCond .lt off, 3)) (ht : (pc : Int) + off = (tgt : Int)) (zt : x < 0 → Z X Y G k n ws tgt lv st) (zf : ¬ x < 0 → Z X Y G k n ws (pc + 3) lv st) : Z X Y G k n ws pc lv (.int x :: st) := fun H locs ls hP hD hS hl => lv_if_lt C.x C.b d ht (fun h => zt h H locs ls hP hD hS hl) (fun h => zf h H locs ls hP hD hS hl)
theorem z_icmp_lt (C : CX X Y G) {x y : Int32} {off : Int} {tgt : Nat} (d : decode (zcc Y) pc = .ok (.if_icmp .lt off, 3)) (ht : (pc : Int) + off = (tgt : Int)) (zt : x < y → Z X Y G k n ws tgt lv st) (zf : ¬ x < y → Z X Y G k n ws (pc + 3) lv st) : Z X Y G k n ws pc lv (.int y :: .int x :: st) := fun H locs ls hP hD hS hl => lv_icmp_lt C.x C.b d ht (fun h => zt h H locs ls hP hD hS hl) (fun h => zf h H locs ls hP hD hS hl)
theorem z_if_ge (C : CX X Y G) {x : Int32} {off : Int} {tgt : Nat} (d : decode (zcc Y) pc = .ok (.ifCond .ge off, 3)) (ht : (pc : Int) + off = (tgt : Int)) (zt : 0 ≤ x → Z X Y G k n ws tgt lv st) (zf : ¬ 0 ≤ x → Z X Y G k n ws (pc + 3) lv st) : Z X Y G k n ws pc lv (.int x :: st) := fun H locs ls hP hD hS hl => lv_if_ge C.x C.b d ht (fun h => zt h H locs ls hP hD hS hl) (fun h => zf h H locs ls hP hD hS hl)
theorem z_icmp_ge (C : CX X Y G) {x y : Int32} {off : Int} {tgt : Nat} (d : decode (zcc Y) pc = .ok (.if_icmp .ge off, 3)) (ht : (pc : Int) + off = (tgt : Int)) (zt : y ≤ x → Z X Y G k n ws tgt lv st) (zf : ¬ y ≤ x → Z X Y G k n ws (pc + 3) lv st) : Z X Y G k n ws pc lv (.int y :: .int x :: st) := fun H locs ls hP hD hS hl => lv_icmp_ge C.x C.b d ht (fun h => zt h H locs ls hP hD hS hl) (fun h => zf h H locs ls hP hD hS hl)
theorem z_if_gt (C : CX X Y G) {x : Int32} {off : Int} {tgt : Nat} (d : decode (zcc Y) pc = .ok (.ifCond .gt off, 3)) (ht : (pc : Int) + off = (tgt : Int)) (zt : 0 < x → Z X Y G k n ws tgt lv st) (zf : ¬ 0 < x → Z X Y G k n ws (pc + 3) lv st) : Z X Y G k n ws pc lv (.int x :: st) := fun H locs ls hP hD hS hl => lv_if_gt C.x C.b d ht (fun h => zt h H locs ls hP hD hS hl) (fun h => zf h H locs ls hP hD hS hl)
theorem z_icmp_gt (C : CX X Y G) {x y : Int32} {off : Int} {tgt : Nat} (d : decode (zcc Y) pc = .ok (.if_icmp .gt off, 3)) (ht : (pc : Int) + off = (tgt : Int)) (zt : y < x → Z X Y G k n ws tgt lv st) (zf : ¬ y < x → Z X Y G k n ws (pc + 3) lv st) : Z X Y G k n ws pc lv (.int y :: .int x :: st) := fun H locs ls hP hD hS hl => lv_icmp_gt C.x C.b d ht (fun h => zt h H locs ls hP hD hS hl) (fun h => zf h H locs ls hP hD hS hl)
theorem z_if_le (C : CX X Y G) {x : Int32} {off : Int} {tgt : Nat} (d : decode (zcc Y) pc = .ok (.ifCond .le off, 3)) (ht : (pc : Int) + off = (tgt : Int)) (zt : x ≤ 0 → Z X Y G k n ws tgt lv st) (zf : ¬ x ≤ 0 → Z X Y G k n ws (pc + 3) lv st) : Z X Y G k n ws pc lv (.int x :: st) := fun H locs ls hP hD hS hl => lv_if_le C.x C.b d ht (fun h => zt h H locs ls hP hD hS hl) (fun h => zf h H locs ls hP hD hS hl)
theorem z_icmp_le (C : CX X Y G) {x y : Int32} {off : Int} {tgt : Nat} (d : decode (zcc Y) pc = .ok (.if_icmp .le off, 3)) (ht : (pc : Int) + off = (tgt : Int)) (zt : x ≤ y → Z X Y G k n ws tgt lv st) (zf : ¬ x ≤ y → Z X Y G k n ws (pc + 3) lv st) : Z X Y G k n ws pc lv (.int y :: .int x :: st) := fun H locs ls hP hD hS hl => lv_icmp_le C.x C.b d ht (fun h => zt h H locs ls hP hD hS hl) (fun h => zf h H locs ls hP hD hS hl)
theorem z_goto (C : CX X Y G) {off : Int} {tgt : Nat} (d : decode (zcc Y) pc = .ok (.goto off, 3)) (ht : (pc : Int) + off = (tgt : Int)) (z : Z X Y G k n ws tgt lv st) : Z X Y G k n ws pc lv st := fun H locs ls hP hD hS hl => lv_goto C.x C.b d ht (z H locs ls hP hD hS hl)
theorem z_nonnull (C : CX X Y G) {x : Nat} {off : Int} {tgt : Nat} (d : decode (zcc Y) pc = .ok (.ifnonnull off, 3)) (ht : (pc : Int) + off = (tgt : Int)) (z : Z X Y G k n ws tgt lv st) : Z X Y G k n ws pc lv (.ref x :: st) := fun H locs ls hP hD hS hl => lv_ifnonnull C.x C.b d ht (z H locs ls hP hD hS hl)
theorem z_nonnullN (C : CX X Y G) {off : Int} (d : decode (zcc Y) pc = .ok (.ifnonnull off, 3)) (z : Z X Y G k n ws (pc + 3) lv st) : Z X Y G k n ws pc lv (.null :: st) := fun H locs ls hP hD hS hl => lv_ifnonnullN C.x C.b d (z H locs ls hP hD hS hl)
theorem z_ifnull (C : CX X Y G) {x : Nat} {off : Int} (d : decode (zcc Y) pc = .ok (.ifnull off, 3)) (z : Z X Y G k n ws (pc + 3) lv st) : Z X Y G k n ws pc lv (.ref x :: st) := fun H locs ls hP hD hS hl => lv_ifnull C.x C.b d (z H locs ls hP hD hS hl)
theorem z_ifnullN (C : CX X Y G) {off : Int} {tgt : Nat} (d : decode (zcc Y) pc = .ok (.ifnull off, 3)) (ht : (pc : Int) + off = (tgt : Int)) (z : Z X Y G k n ws tgt lv st) : Z X Y G k n ws pc lv (.null :: st) := fun H locs ls hP hD hS hl => lv_ifnullN C.x C.b d ht (z H locs ls hP hD hS hl)
theorem z_lookup (C : CX X Y G) {dflt : Int} {ps : Array (Int × Int)} {len : Nat} {x : Int32} {off : Int} {tgt : Nat} (d : decode (zcc Y) pc = .ok (.lookupswitch dflt ps, len)) (hp : (ps.toList.zip (ps.toList.drop 1)).all (fun (a, next) => a.1 < next.1) = true) (ho : Op.lookupswitch.offset ps.toList dflt x.toInt = off) (ht : (pc : Int) + off = (tgt : Int)) (z : Z X Y G k n ws tgt lv st) : Z X Y G k n ws pc lv (.int x :: st) := fun H locs ls hP hD hS hl => lv_lookup C.x C.b d hp ho ht (z H locs ls hP hD hS hl)
theorem z_tabOut (C : CX X Y G) {dflt lo hi : Int} {offs : Array Int} {len : Nat} {x : Int32} {tgt : Nat} (d : decode (zcc Y) pc = .ok (.tableswitch dflt lo hi offs, len)) (h : x.toInt < lo ∨ hi < x.toInt) (ht : (pc : Int) + dflt = (tgt : Int)) (z : Z X Y G k n ws tgt lv st) : Z X Y G k n ws pc lv (.int x :: st) := fun H locs ls hP hD hS hl => lv_tableOut C.x C.b d h ht (z H locs ls hP hD hS hl)
theorem z_tabIn (C : CX X Y G) {dflt lo hi : Int} {offs : Array Int} {len : Nat} {x : Int32} {off : Int} {tgt : Nat} (d : decode (zcc Y) pc = .ok (.tableswitch dflt lo hi offs, len)) (h1 : ¬ x.toInt < lo) (h2 : ¬ hi < x.toInt) (ho : offs[(x.toInt - lo).toNat]? = some off) (ht : (pc : Int) + off = (tgt : Int)) (z : Z X Y G k n ws tgt lv st) : Z X Y G k n ws pc lv (.int x :: st) := fun H locs ls hP hD hS hl => lv_tableIn C.x C.b d h1 h2 ho ht (z H locs ls hP hD hS hl)

theorem z_get (C : CX X Y G) {a ci N idx kf q : Nat} {ref Cn : String} {T : u_T} {fs : List Value} {v : Value} (he : ws[q]? = some (a, .inr (ci, fs))) (hc : CL[ci]? = some (Cn, T, N)) (hin : ∀ w ∈ u_ws Cn T N, w ∈ lw_all) (hk : kf < N) (hlink : Cond.fieldLink (zow Y) idx ref (T kf).2.1 (T kf).2.2.1 ∈ lw_all) (hsame : ref = (T kf).1 ∨ Cond.sameField ref (T kf).1 (T kf).2.1 (T kf).2.2.1 ∈ lw_all) (hv : fs[kf]? = some v) (d : decode (zcc Y) pc = .ok (.getfield idx, 3)) (z : Z X Y G k n ws (pc + 3) lv (v :: st)) : Z X Y G k n ws pc lv (.ref a :: st) := fun H locs ls hP hD hS hl =>
  va_get (D := zD G) (tys := zT G) (ci := ci) (v := v) (C := Cn) (T := T) (N := N) C.x C.b C.ts hin C.own C.K hP q he hc kf hk (C.ts _ hlink) (fun x hx => by
    rcases hsame with h | h
    · rw [h]; exact hx
    · exact u_same (C.ts _ h) x hx) hv d (z H locs ls hP hD hS hl)
theorem z_put (C : CX X Y G) {a ci N idx kf q : Nat} {ref Cn : String} {T : u_T} {fs : List Value} {v : Value} {ty : FieldType} {ws' : va_W} (he : ws[q]? = some (a, .inr (ci, fs))) (hc : CL[ci]? = some (Cn, T, N)) (hin : ∀ w ∈ u_ws Cn T N, w ∈ lw_all) {ty0 : Nat → FieldType} (hty : ∀ k, k < N → parseFieldDescriptor (T k).2.2.1 = some (ty0 k)) (hnm : ∀ a, a < N → ∀ b, b < N → a ≠ b → (T a).2.1 ≠ (T b).2.1) (hk : kf < N) (hlink : Cond.fieldLink (zow Y) idx ref (T kf).2.1 (T kf).2.2.1 ∈ lw_all) (hsame : ref = (T kf).1) (hfin : (T kf).2.2.2 = false) (hd : ty0 kf = ty) (hn : narrow ty v = v) (hfit : fits ty v = true) (hl0 : kf < fs.length) (hw : ws.set q (a, .inr (ci, fs.set kf v)) = ws') (d : decode (zcc Y) pc = .ok (.putfield idx, 3)) (z : Z X Y G k n ws' (pc + 3) lv st) : Z X Y G k n ws pc lv (v :: .ref a :: st) := fun H locs ls hP hD hS hl =>
  va_put (D := zD G) (tys := zT G) (ci := ci) (v := v) (ty := ty) (C := Cn) (T := T) (N := N) C.x C.b C.ts hin ty0 hty hnm C.own C.K hP hD hS q he hc kf hk (C.ts _ hlink) (fun x hx => by rw [hsame]; exact hx) hfin (by rw [hty kf hk, hd]) hn hfit hl0 d (fun H1 locs1 hP1 hD1 hS1 => z H1 locs1 ls (hw ▸ hP1) (hw ▸ hD1) hS1 hl)
theorem z_putF (C : CX X Y G) {a ci N idx kf q : Nat} {ref Cn : String} {T : u_T} {fs : List Value} {v : Value} {ty : FieldType} {ws' : va_W} (he : ws[q]? = some (a, .inr (ci, fs))) (hc : CL[ci]? = some (Cn, T, N)) (hin : ∀ w ∈ u_ws Cn T N, w ∈ lw_all) {ty0 : Nat → FieldType} (hty : ∀ k, k < N → parseFieldDescriptor (T k).2.2.1 = some (ty0 k)) (hnm : ∀ a, a < N → ∀ b, b < N → a ≠ b → (T a).2.1 ≠ (T b).2.1) (hk : kf < N) (hlink : Cond.fieldLink (zow Y) idx ref (T kf).2.1 (T kf).2.2.1 ∈ lw_all) (hsame : ref = (T kf).1) (hfin : (T kf).2.2.2 = true) (hin2 : (zme X).name = "<init>") (hdecl : (T kf).1 = zow Y) (hd : ty0 kf = ty) (hn : narrow ty v = v) (hfit : fits ty v = true) (hl0 : kf < fs.length) (hw : ws.set q (a, .inr (ci, fs.set kf v)) = ws') (d : decode (zcc Y) pc = .ok (.putfield idx, 3)) (z : Z X Y G k n ws' (pc + 3) lv st) : Z X Y G k n ws pc lv (v :: .ref a :: st) := fun H locs ls hP hD hS hl =>
  va_putF (D := zD G) (tys := zT G) (ci := ci) (v := v) (ty := ty) (C := Cn) (T := T) (N := N) C.x C.b C.ts hin ty0 hty hnm C.own C.K hP hD hS q he hc kf hk (C.ts _ hlink) (fun x hx => by rw [hsame]; exact hx) hfin hin2 hdecl (by rw [hty kf hk, hd]) hn hfit hl0 d (fun H1 locs1 hP1 hD1 hS1 => z H1 locs1 ls (hw ▸ hP1) (hw ▸ hD1) hS1 hl)

theorem z_iald (C : CX X Y G) {a m0 q t0 j : Nat} {cA : ClassId} {f : Nat → Int32} {i : Int32} {v : Int32} (he : ws[q]? = some (a, .inl (cA, m0, .inl f))) (ht : (zT G)[t0]? = some (cA, .int)) (hi : i = nI j) (hj : j < m0) (hm : m0 < 2147483648) (hv : f j = v) (d : decode (zcc Y) pc = .ok (.iaload, 1)) (z : Z X Y G k n ws (pc + 1) lv (.int v :: st)) : Z X Y G k n ws pc lv (.int i :: .ref a :: st) := fun H locs ls hP hD hS hl => va_iald (D := zD G) (tys := zT G) C.x C.b C.K hP q t0 he ht (i := i) (by rw [hi]; exact vp_in_nI hj hm) d (by rw [hi, nI_clamp (Nat.lt_trans hj hm), hv]; exact z H locs ls hP hD hS hl)
theorem z_bald (C : CX X Y G) {a m0 q t0 j : Nat} {cA : ClassId} {f : Nat → Int32} {i : Int32} {v : Int32} (he : ws[q]? = some (a, .inl (cA, m0, .inl f))) (ht : (zT G)[t0]? = some (cA, .byte)) (hi : i = nI j) (hj : j < m0) (hm : m0 < 2147483648) (hv : f j = v) (d : decode (zcc Y) pc = .ok (.baload, 1)) (z : Z X Y G k n ws (pc + 1) lv (.int v :: st)) : Z X Y G k n ws pc lv (.int i :: .ref a :: st) := fun H locs ls hP hD hS hl => va_bald (D := zD G) (tys := zT G) C.x C.b C.K hP q t0 he ht (i := i) (by rw [hi]; exact vp_in_nI hj hm) d (by rw [hi, nI_clamp (Nat.lt_trans hj hm), hv]; exact z H locs ls hP hD hS hl)
theorem z_sald (C : CX X Y G) {a m0 q t0 j : Nat} {cA : ClassId} {f : Nat → Int32} {i : Int32} {v : Int32} (he : ws[q]? = some (a, .inl (cA, m0, .inl f))) (ht : (zT G)[t0]? = some (cA, .short)) (hi : i = nI j) (hj : j < m0) (hm : m0 < 2147483648) (hv : f j = v) (d : decode (zcc Y) pc = .ok (.saload, 1)) (z : Z X Y G k n ws (pc + 1) lv (.int v :: st)) : Z X Y G k n ws pc lv (.int i :: .ref a :: st) := fun H locs ls hP hD hS hl => va_sald (D := zD G) (tys := zT G) C.x C.b C.K hP q t0 he ht (i := i) (by rw [hi]; exact vp_in_nI hj hm) d (by rw [hi, nI_clamp (Nat.lt_trans hj hm), hv]; exact z H locs ls hP hD hS hl)
theorem z_lald (C : CX X Y G) {a m0 q t0 j : Nat} {cA : ClassId} {f : Nat → Int64} {i : Int32} {v : Int64} (he : ws[q]? = some (a, .inl (cA, m0, .inr (.inl f)))) (ht : (zT G)[t0]? = some (cA, .long)) (hi : i = nI j) (hj : j < m0) (hm : m0 < 2147483648) (hv : f j = v) (d : decode (zcc Y) pc = .ok (.laload, 1)) (z : Z X Y G k n ws (pc + 1) lv (.long v :: st)) : Z X Y G k n ws pc lv (.int i :: .ref a :: st) := fun H locs ls hP hD hS hl => va_lald (D := zD G) (tys := zT G) C.x C.b C.K hP q t0 he ht (i := i) (by rw [hi]; exact vp_in_nI hj hm) d (by rw [hi, nI_clamp (Nat.lt_trans hj hm), hv]; exact z H locs ls hP hD hS hl)
theorem z_iast (C : CX X Y G) {a m0 q t0 j : Nat} {cA : ClassId} {f : Nat → Int32} {i : Int32} {x : Int32} {ws' : va_W} (he : ws[q]? = some (a, .inl (cA, m0, .inl f))) (ht : (zT G)[t0]? = some (cA, .int)) (hi : i = nI j) (hj : j < m0) (hm : m0 < 2147483648) (hw : ws.set q (a, .inl (cA, m0, .inl (upd f j x))) = ws') (d : decode (zcc Y) pc = .ok (.iastore, 1)) (z : Z X Y G k n ws' (pc + 1) lv st) : Z X Y G k n ws pc lv (.int x :: .int i :: .ref a :: st) := fun H locs ls hP hD hS hl => va_iast (D := zD G) (tys := zT G) C.x C.b C.K hP hD hS q t0 he ht (i := i) (by rw [hi]; exact vp_in_nI hj hm) d (by rw [hi, nI_clamp (Nat.lt_trans hj hm), hw]; exact fun H1 locs1 hP1 hD1 hS1 => z H1 locs1 ls hP1 hD1 hS1 hl)
theorem z_last (C : CX X Y G) {a m0 q t0 j : Nat} {cA : ClassId} {f : Nat → Int64} {i : Int32} {x : Int64} {ws' : va_W} (he : ws[q]? = some (a, .inl (cA, m0, .inr (.inl f)))) (ht : (zT G)[t0]? = some (cA, .long)) (hi : i = nI j) (hj : j < m0) (hm : m0 < 2147483648) (hw : ws.set q (a, .inl (cA, m0, .inr (.inl (vp_updL f j x)))) = ws') (d : decode (zcc Y) pc = .ok (.lastore, 1)) (z : Z X Y G k n ws' (pc + 1) lv st) : Z X Y G k n ws pc lv (.long x :: .int i :: .ref a :: st) := fun H locs ls hP hD hS hl => va_last (D := zD G) (tys := zT G) C.x C.b C.K hP hD hS q t0 he ht (i := i) (by rw [hi]; exact vp_in_nI hj hm) d (by rw [hi, nI_clamp (Nat.lt_trans hj hm), hw]; exact fun H1 locs1 hP1 hD1 hS1 => z H1 locs1 ls hP1 hD1 hS1 hl)
theorem z_bast (C : CX X Y G) {a m0 q t0 j : Nat} {cA : ClassId} {f : Nat → Int32} {i x v : Int32} {ws' : va_W} (he : ws[q]? = some (a, .inl (cA, m0, .inl f))) (ht : (zT G)[t0]? = some (cA, .byte)) (hi : i = nI j) (hj : j < m0) (hm : m0 < 2147483648) (hx : vp_nar .byte x = v) (hw : ws.set q (a, .inl (cA, m0, .inl (upd f j v))) = ws') (d : decode (zcc Y) pc = .ok (.bastore, 1)) (z : Z X Y G k n ws' (pc + 1) lv st) : Z X Y G k n ws pc lv (.int x :: .int i :: .ref a :: st) := fun H locs ls hP hD hS hl => va_bast (D := zD G) (tys := zT G) C.x C.b C.K hP hD hS q t0 he ht (i := i) (by rw [hi]; exact vp_in_nI hj hm) d (by rw [hi, nI_clamp (Nat.lt_trans hj hm), hx, hw]; exact fun H1 locs1 hP1 hD1 hS1 => z H1 locs1 ls hP1 hD1 hS1 hl)
theorem z_sast (C : CX X Y G) {a m0 q t0 j : Nat} {cA : ClassId} {f : Nat → Int32} {i x v : Int32} {ws' : va_W} (he : ws[q]? = some (a, .inl (cA, m0, .inl f))) (ht : (zT G)[t0]? = some (cA, .short)) (hi : i = nI j) (hj : j < m0) (hm : m0 < 2147483648) (hx : vp_nar .short x = v) (hw : ws.set q (a, .inl (cA, m0, .inl (upd f j v))) = ws') (d : decode (zcc Y) pc = .ok (.sastore, 1)) (z : Z X Y G k n ws' (pc + 1) lv st) : Z X Y G k n ws pc lv (.int x :: .int i :: .ref a :: st) := fun H locs ls hP hD hS hl => va_sast (D := zD G) (tys := zT G) C.x C.b C.K hP hD hS q t0 he ht (i := i) (by rw [hi]; exact vp_in_nI hj hm) d (by rw [hi, nI_clamp (Nat.lt_trans hj hm), hx, hw]; exact fun H1 locs1 hP1 hD1 hS1 => z H1 locs1 ls hP1 hD1 hS1 hl)
theorem z_alen (C : CX X Y G) {a q t0 : Nat} {cA : ClassId} {x : vp_A} {ty : FieldType} {v : Int32} (he : ws[q]? = some (a, .inl (cA, x))) (ht : (zT G)[t0]? = some (cA, ty)) (hv : nI x.1 = v) (d : decode (zcc Y) pc = .ok (.arraylength, 1)) (z : Z X Y G k n ws (pc + 1) lv (.int v :: st)) : Z X Y G k n ws pc lv (.ref a :: st) := fun H locs ls hP hD hS hl => va_alen (D := zD G) (tys := zT G) C.x C.b C.K hP q t0 he ht hv d (z H locs ls hP hD hS hl)
theorem z_aldq (C : CX X Y G) {a m0 q t0 j : Nat} {cA : ClassId} {Cn : String} {f : Nat → Option Nat} {i : Int32} {v : Value} (he : ws[q]? = some (a, .inl (cA, m0, .inr (.inr (.inr (.inr f)))))) (ht : (zT G)[t0]? = some (cA, .object Cn)) (hi : i = nI j) (hj : j < m0) (hm : m0 < 2147483648) (hv : va_rf (f j) = v) (d : decode (zcc Y) pc = .ok (.aaload, 1)) (z : Z X Y G k n ws (pc + 1) lv (v :: st)) : Z X Y G k n ws pc lv (.int i :: .ref a :: st) := fun H locs ls hP hD hS hl => va_aldq (D := zD G) (tys := zT G) C.x C.b C.K hP q t0 he ht (i := i) (by rw [hi]; exact vp_in_nI hj hm) d (by rw [hi, nI_clamp (Nat.lt_trans hj hm), hv]; exact z H locs ls hP hD hS hl)
theorem z_astq (C : CX X Y G) {a m0 q t0 qk ci v j : Nat} {cA : ClassId} {r : vw_C} {vs : List Value} {f : Nat → Option Nat} {i : Int32} {ws' : va_W} (he : ws[q]? = some (a, .inl (cA, m0, .inr (.inr (.inr (.inr f)))))) (ht : (zT G)[t0]? = some (cA, .object r.1)) (hv : ws[qk]? = some (v, .inr (ci, vs))) (hc : CL[ci]? = some r) (hi : i = nI j) (hj : j < m0) (hm : m0 < 2147483648) (hw : ws.set q (a, .inl (cA, m0, .inr (.inr (.inr (.inr (va_up f j (some v))))))) = ws') (d : decode (zcc Y) pc = .ok (.aastore, 1)) (z : Z X Y G k n ws' (pc + 1) lv st) : Z X Y G k n ws pc lv (.ref v :: .int i :: .ref a :: st) := fun H locs ls hP hD hS hl => va_astq (D := zD G) (tys := zT G) (r := r) C.x C.b C.K hP hD hS q t0 qk ci he ht hv hc (i := i) (by rw [hi]; exact vp_in_nI hj hm) d (by rw [hi, nI_clamp (Nat.lt_trans hj hm), hw]; exact fun H1 locs1 hP1 hD1 hS1 => z H1 locs1 ls hP1 hD1 hS1 hl)
/-- a new cell goes to the head of the world -/
theorem zw_front {G : ZG} {A : Nat → Prop} {ws : va_W} {x : Nat × va_E} {H : Heap} (hP : va_P (zD G) CL (ws ++ [x]) H) (hD : va_D A (ws ++ [x])) : va_P (zD G) CL (x :: ws) H ∧ va_D A (x :: ws) := by
  have key : ∀ (k : Nat) (q : Nat × va_E), (x :: ws)[k]? = some q → (ws ++ [x])[if k = 0 then ws.length else k - 1]? = some q := by
    intro k q hq
    cases k with
    | zero => simpa using hq
    | succ k =>
      have hk : ws[k]? = some q := by simpa using hq
      have hl := (List.getElem?_eq_some_iff.mp hk).1
      rw [if_neg (Nat.succ_ne_zero k), Nat.add_sub_cancel, List.getElem?_append_left hl]
      exact hk
  refine ⟨hP.by _ key, hD.by _ key ?_⟩
  intro i j hi hj e
  simp only [List.length_cons] at hi hj
  by_cases h1 : i = 0 <;> by_cases h2 : j = 0 <;> simp [h1, h2] at e <;> omega
theorem z_new (C : CX X Y G) {idx ci N : Nat} {Cn : String} {T : u_T} {ty : Nat → FieldType} {fs : List Value} (hin : ∀ w ∈ u_ws Cn T N, w ∈ lw_all) (hty : ∀ k, k < N → parseFieldDescriptor (T k).2.2.1 = some (ty k)) (hcl : Cond.classLink (zow Y) idx Cn ∈ lw_all) (hinst : Cond.instantiable Cn N ∈ lw_all) (hini : Cond.initialized Cn ∈ lw_all) (hc : CL[ci]? = some (Cn, T, N)) (hfs : ∀ j, j < N → defaultValue (ty j) = vp_V fs j) (hk : k + 1 ≤ (zR Y).cells) (hs : n + N ≤ (zR Y).slots) (d : decode (zcc Y) pc = .ok (.new idx, 3)) (z : ∀ q : Nat, Z X Y G (k + 1) (n + N) ((q, .inr (ci, fs)) :: ws) (pc + 3) lv (.ref q :: st)) : Z X Y G k n ws pc lv st := fun H locs ls hP hD hS hl =>
  va_new (D := zD G) (tys := zT G) (ci := ci) (fs := fs) (C := Cn) (T := T) (N := N) C.x C.b C.ts hin ty hty C.own (C.ts _ hcl) (C.ts _ hinst) (C.ts _ hini) C.K hP hD hS C.hA hc hfs hk hs d (fun q H1 hP1 hD1 hS1 => z q H1 locs ls (zw_front hP1 hD1).1 (zw_front hP1 hD1).2 hS1 hl)
theorem z_same_arr {s : State} {cA cB : ClassId} {ty : FieldType} (h1 : va_RA s cA ty) (h2 : va_RA s cB ty) : cA = cB := by
  cases ty with
  | object Cn =>
    obtain ⟨_, _, -, -, -, h3⟩ := h1
    obtain ⟨_, _, -, -, -, h4⟩ := h2
    exact Option.some.inj (h3.symm.trans h4)
  | _ => exact Option.some.inj (h1.symm.trans h2)
theorem z_newa (C : CX X Y G) {atype : ArrayType} {ty : FieldType} {t0 m0 : Nat} {cT : ClassId} {i : Int32} {a0 : vp_A} (harr : Cond.arrayClass (newarray.typeOf atype) ∈ lw_all) (hty : newarray.typeOf atype = ty) (ht : (zT G)[t0]? = some (cT, ty)) (ha : ∀ cA : ClassId, vp_cell cA a0 = arrV cA m0 (fun _ => defaultValue ty)) (hi : i = nI m0) (hm : m0 < 2147483648) (hb : m0 * componentBytes ty ≤ 536870912) (hk : k + 1 ≤ (zR Y).cells) (hs : n + m0 ≤ (zR Y).slots) (d : decode (zcc Y) pc = .ok (.newarray atype, 2)) (z : ∀ q : Nat, Z X Y G (k + 1) (n + m0) ((q, .inl (cT, a0)) :: ws) (pc + 2) lv (.ref q :: st)) : Z X Y G k n ws pc lv (.int i :: st) := fun H locs ls hP hD hS hl =>
  va_newa (D := zD G) (tys := zT G) (a0 := a0) C.x C.b (C.ts _ harr) hty C.K hP hD hS C.hA ha (n := i) (by rw [hi]; exact nI_pos hm) (by rw [hi]; exact nI_clamp hm) hb hk hs d (fun q cA H1 hK1 hP1 hD1 hS1 => by
    have e : cA = cT := z_same_arr (hK1.2 (zT G).length (cA, ty) (by simp)).2 (C.K.2 t0 _ ht).2
    subst e
    exact z q H1 locs ls (zw_front hP1 hD1).1 (zw_front hP1 hD1).2 hS1 hl)
theorem z_newq (C : CX X Y G) {Cn : String} {idx t0 m0 : Nat} {cT : ClassId} {i : Int32} (hcl : Cond.classLink (zow Y) idx Cn ∈ lw_all) (hov : va_AO Cn (zs X)) (ht : (zT G)[t0]? = some (cT, .object Cn)) (hi : i = nI m0) (hm : m0 < 2147483648) (hb : m0 * 4 ≤ 536870912) (hk : k + 1 ≤ (zR Y).cells) (hs : n + m0 ≤ (zR Y).slots) (d : decode (zcc Y) pc = .ok (.anewarray idx, 3)) (z : ∀ q : Nat, Z X Y G (k + 1) (n + m0) ((q, .inl (cT, m0, .inr (.inr (.inr (.inr (fun _ => none)))))) :: ws) (pc + 3) lv (.ref q :: st)) : Z X Y G k n ws pc lv (.int i :: st) := fun H locs ls hP hD hS hl =>
  va_newq (D := zD G) (tys := zT G) C.x C.b C.own (C.ts _ hcl) hov C.K hP hD hS C.hA (n := i) (by rw [hi]; exact nI_pos hm) (by rw [hi]; exact nI_clamp hm) hb hk hs d (fun q cA H1 hK1 hP1 hD1 hS1 => by
    have e : cA = cT := z_same_arr (hK1.2 (zT G).length (cA, .object Cn) (by simp)).2 (C.K.2 t0 _ ht).2
    subst e
    exact z q H1 locs ls (zw_front hP1 hD1).1 (zw_front hP1 hD1).2 hS1 hl)
theorem z_objInit (C : CX X Y G) {a idx : Nat} (hlink : Cond.methodLink (zow Y) idx Lib.objectInit ∈ lw_all) (hinst : Cond.instanceMethod Lib.objectInit ∈ lw_all) (hcode : Cond.code Lib.objectInit ⟨#[0xb1]⟩ 1 none ∈ lw_all) (hf : 1 ≤ (zR Y).frames) (hlo : (st.map fun v => v.category).sum + 12 ≤ (zR Y).locals) (d : decode (zcc Y) pc = .ok (.invokespecial idx, 3)) (z : Z X Y G k n ws (pc + 3) lv st) : Z X Y G k n ws pc lv (.ref a :: st) := fun H locs ls hP hD hS hl =>
  W.objInit (g := F0 (zm X) pc ls (.ref a :: st)) C.x C.b C.own (C.ts _ hlink) (C.ts _ hinst) (C.ts _ hcode) rfl (by rw [C.ml]; exact hl.1) rfl d hf (by show 2 * 0 + _ + 12 ≤ _; omega) (W.eq (g2 := F0 (zm X) (pc + 3) ls st) rfl (z H locs ls hP hD hS hl))
theorem z_min (C : CX X Y G) {idx : Nat} {x y v : Int32} (hlink : Cond.methodLink (zow Y) idx Lib.Math.min.name ∈ lw_all) (hstat : Cond.static Lib.Math.min.name ∈ lw_all) (hini : Cond.initialized "java/lang/Math" ∈ lw_all) (hcode : Cond.code Lib.Math.min.name Lib.Math.min.code 2 (some .int) ∈ lw_all) (hf : 1 ≤ (zR Y).frames) (hlo : (st.map fun v => v.category).sum + 13 ≤ (zR Y).locals) (hk : k ≤ (zR Y).cells) (hs : n ≤ (zR Y).slots) (hv : (if y < x then y else x) = v) (d : decode (zcc Y) pc = .ok (.invokestatic idx, 3)) (z : Z X Y G k n ws (pc + 3) lv (.int v :: st)) : Z X Y G k n ws pc lv (.int y :: .int x :: st) := fun H locs ls hP hD hS hl =>
  va_mmin C.x C.b (by rw [C.ml]; exact hl.1.symm) C.own (C.ts _ hlink) (C.ts _ hstat) (C.ts _ hini) (C.ts _ hcode) hf hlo hk hs d (by rw [hv]; exact z H locs ls hP hD hS hl)
theorem z_abs (C : CX X Y G) {idx : Nat} {x v : Int32} (hlink : Cond.methodLink (zow Y) idx Lib.Math.abs.name ∈ lw_all) (hstat : Cond.static Lib.Math.abs.name ∈ lw_all) (hini : Cond.initialized "java/lang/Math" ∈ lw_all) (hcode : Cond.code Lib.Math.abs.name Lib.Math.abs.code 1 (some .int) ∈ lw_all) (hf : 1 ≤ (zR Y).frames) (hlo : (st.map fun v => v.category).sum + 13 ≤ (zR Y).locals) (hk : k ≤ (zR Y).cells) (hs : n ≤ (zR Y).slots) (hv : (if 0 ≤ x then x else 0 - x) = v) (d : decode (zcc Y) pc = .ok (.invokestatic idx, 3)) (z : Z X Y G k n ws (pc + 3) lv (.int v :: st)) : Z X Y G k n ws pc lv (.int x :: st) := fun H locs ls hP hD hS hl =>
  va_mabs C.x C.b (by rw [C.ml]; exact hl.1.symm) C.own (C.ts _ hlink) (C.ts _ hstat) (C.ts _ hini) (C.ts _ hcode) hf hlo hk hs d (by rw [hv]; exact z H locs ls hP hD hS hl)
end ZR

