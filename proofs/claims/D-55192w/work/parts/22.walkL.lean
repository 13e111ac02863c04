/-! walks over the ghost heap: walkL -/
set_option maxRecDepth 100000
def gw_X6_init (E : gE) (post : Gh → Prop) (p0 : Nat) (p1 : Int32) (p2 : Int32) (G : Gh) : Prop := gK G p0 = 5 ∧ (∀ q1, gK G q1 = 0 → ∀ G2, G2 = gN G q1 6 0 → (gw_X7_init E (fun G3 => gMon G2 G3 → (∀ G4, G4 = gsR G3 p0 2 (some q1) → (∀ G5, G5 = gsI G4 p0 0 p1 → (∀ G6, G6 = gsI G5 p0 1 p2 → (post G6))))) q1 G2))
theorem hd_X6_init : yX6_init.cls ≠ "java/lang/invoke/MethodHandle" ∧ yX6_init.cls ≠ "java/lang/invoke/VarHandle" ∧ (parseMethodDescriptor yX6_init.desc).map (fun d => d.parameters.length) = some 2 := by decide +kernel
set_option maxHeartbeats 1000000 in
set_option maxRecDepth 100000 in
theorem gm_X6_init (l : Launch) (E : gE) (p0 : Nat) (p1 : Int32) (p2 : Int32) (post : Gh → Prop) (G : Gh) (hw : gw_X6_init E post p0 p1 p2 G) : gM l E yX6_init (ws_ yX6_init cX6_init 3 none) ({ frames := 2, cells := 1, slots := 0, locals := 50 } : Room) 1 0 [.ref p0, .int p1, .int p2] G (gpv post) := by
  refine gof (by decide) (Nat.le_of_ble_eq_true rfl) ?_
  intro p e s m below meth c A ls hx hb hr hlk hml hown hin hts hPF hA hG hl
  have hl : lv_has ls 3 [(0, .ref p0), (1, .int p1), (2, .int p2)] := hl
  unfold gw_X6_init at hw
  obtain ⟨G0, hG0⟩ : ∃ G0, G0 = G := ⟨_, rfl⟩
  have hG : gS E A G0 s.heap G s.heap [] := by rw [hG0]; exact hG
  rw [show gQ E A G (gpv post) = gQ E A G0 (gpv post) by rw [hG0]]
  have h0p0 := hw.1; rw [← hG0] at h0p0
  replace hw := hw.2
  refine lv_aload_n hx hb dX6_init_0 rfl (lv_at hl 0 rfl) ?_
  refine W.objInit hx hb hown (hts _ q862) (hts _ q105) (hts _ q106) (g := F0 m 1 ls (.ref p0 :: [])) rfl (hl.1.trans hml.symm) rfl dX6_init_1 (Nat.le_of_ble_eq_true rfl) (by (try simp only [List.map, va_rf_cat, gcat_i, gcat_r, gcat_l, gcat_d, gcat_f, gcat_n]); exact Nat.le_of_ble_eq_true rfl) ?_
  refine W.eq (g2 := F0 m 4 ls []) rfl ?_
  refine lv_aload_n hx hb dX6_init_4 rfl (lv_at hl 0 rfl) ?_
  refine gnew (ci := 6) hx hb hts (fun w hw => by cases hw) (fun _ => .int) (fun k hk => absurd hk (Nat.not_lt_zero k)) hown q863 q864 q83 hPF hG hA rfl (by decide) (by decide) gborn_X7 (Nat.le_of_ble_eq_true rfl) (Nat.le_of_ble_eq_true rfl) dX6_init_5 (fun q1 H h0q1 hG => ?_)
  replace hw := hw q1 h0q1
  obtain ⟨G2, eG2⟩ : ∃ z, z = gN G q1 6 0 := ⟨_, rfl⟩
  rw [← eG2] at hG
  replace hw := hw G2 eG2
  have hkq1 : gK G2 q1 = 6 := by rw [eG2]; exact gK_Nq
  refine lv_dup hx hb dX6_init_8 rfl ?_
  refine gc3v hA hG (va_runIN (As := []) (rest := [.ref q1, .ref p0]) ⟨hx, hb, hml, hown, hts⟩ (gm_X7_init l E q1 _ G2 hw _) ⟨va_cnB 0 hts (lw_meth q867) rfl rfl rfl (hPF.w q865 rfl) (hts _ q83) hd_X7_init ⟨Nat.le_of_ble_eq_true rfl, Nat.le_of_ble_eq_true rfl⟩, rfl, hts _ q866⟩ ⟨gblind, fun U hU hW => gpre hPF hA hG _ U hU hW⟩ rfl rfl hl.1 rfl (lv_room (Nat.le_of_ble_eq_true rfl)) dX6_init_9 ⟨(Nat.le_of_ble_eq_true rfl), (Nat.le_of_ble_eq_true rfl)⟩) (fun G3 H locs hw hmon hG => ?_)
  replace hw := hw hmon
  have hkq1 : gK G3 q1 = 6 := gK_mon hmon hkq1 (by decide)
  refine gp hx hb hts hown hPF hG 5 2 rfl in_X6 tyX6 tyX6_ok nmX6 (by decide) (by decide) (by decide) q877 (fun _ h9 => h9) rfl (gK_mon hG.1.2 h0p0 (by decide)) (v := va_rf (some q1)) (narrow_rf _) (fits_rf _ (by decide)) (G' := gsR G3 p0 2 (some q1)) rfl rfl grR_off (Nat.le_of_ble_eq_true rfl) (gFs_R 5 2 (fun _ _ _ => rfl)) dX6_init_12 (fun H locs hG => ?_)
  obtain ⟨G4, eG4⟩ : ∃ z, z = gsR G3 p0 2 (some q1) := ⟨_, rfl⟩
  rw [← eG4] at hG
  replace hw := hw G4 eG4
  have hkq1 : gK G4 q1 = 6 := by rw [eG4]; exact hkq1
  refine lv_aload_n hx hb dX6_init_15 rfl (lv_at hl 0 rfl) ?_
  refine lv_iload_n hx hb dX6_init_16 rfl (lv_at hl 1 rfl) ?_
  refine gpF hx hb hts hown hPF hG 5 0 rfl in_X6 tyX6 tyX6_ok nmX6 (by decide) (by decide) (by decide) q870 (fun _ h9 => h9) rfl hin.2 rfl (gK_mon hG.1.2 h0p0 (by decide)) (v := .int p1) rfl rfl (G' := gsI G4 p0 0 p1) rfl rfl grI_off (Nat.le_of_ble_eq_true rfl) (gFs_I 5 0 (fun _ _ _ => rfl)) dX6_init_17 (fun H locs hG => ?_)
  obtain ⟨G5, eG5⟩ : ∃ z, z = gsI G4 p0 0 p1 := ⟨_, rfl⟩
  rw [← eG5] at hG
  replace hw := hw G5 eG5
  have hkq1 : gK G5 q1 = 6 := by rw [eG5]; exact hkq1
  refine lv_aload_n hx hb dX6_init_20 rfl (lv_at hl 0 rfl) ?_
  refine lv_iload_n hx hb dX6_init_21 rfl (lv_at hl 2 rfl) ?_
  refine gp hx hb hts hown hPF hG 5 1 rfl in_X6 tyX6 tyX6_ok nmX6 (by decide) (by decide) (by decide) q873 (fun _ h9 => h9) rfl (gK_mon hG.1.2 h0p0 (by decide)) (v := .int p2) rfl rfl (G' := gsI G5 p0 1 p2) rfl rfl grI_off (Nat.le_of_ble_eq_true rfl) (gFs_I 5 1 (fun _ _ _ => rfl)) dX6_init_22 (fun H locs hG => ?_)
  obtain ⟨G6, eG6⟩ : ∃ z, z = gsI G5 p0 1 p2 := ⟨_, rfl⟩
  rw [← eG6] at hG
  replace hw := hw G6 eG6
  have hkq1 : gK G6 q1 = 6 := by rw [eG6]; exact hkq1
  exact gretv hx hb hr hlk hG hw (Nat.le_of_ble_eq_true rfl) (Nat.le_of_ble_eq_true rfl) dX6_init_25
def gw_X6_copy (E : gE) (post : Option Nat → Gh → Prop) (p0 : Nat) (G : Gh) : Prop := gK G p0 = 5 ∧ (∀ q1, gK G q1 = 0 → ∀ G2, G2 = gN G q1 5 0 → (gw_X6_init E (fun G3 => gMon G2 G3 → (∀ G4, G4 = gsR G3 q1 2 (gR G3 p0 2) → (post (some q1) G4))) q1 (gI G2 p0 0) (gI G2 p0 1) G2))
theorem hd_X6_copy : yX6_copy.cls = RX6 ∧ yX6_copy.cls ≠ "java/lang/invoke/MethodHandle" ∧ yX6_copy.cls ≠ "java/lang/invoke/VarHandle" ∧ (parseMethodDescriptor yX6_copy.desc).map (fun d => d.parameters.length) = some 0 := by decide +kernel
theorem hdn_X6_copy : yX6_copy.cls ≠ "java/lang/invoke/MethodHandle" ∧ yX6_copy.cls ≠ "java/lang/invoke/VarHandle" ∧ (parseMethodDescriptor yX6_copy.desc).map (fun d => d.parameters.length) = some 0 := hd_X6_copy.2
theorem hdu_X6_copy : RX6 ≠ "java/lang/invoke/MethodHandle" ∧ RX6 ≠ "java/lang/invoke/VarHandle" ∧ (parseMethodDescriptor yX6_copy.desc).map (fun d => d.parameters.length) = some 0 := by decide +kernel
theorem hds_X6_copy : yX6_copy.name ≠ "<init>" ∧ (parseMethodDescriptor yX6_copy.desc).map (fun d => d.parameters.length) = some 0 := by decide +kernel
set_option maxHeartbeats 1000000 in
set_option maxRecDepth 100000 in
theorem gm_X6_copy (l : Launch) (E : gE) (p0 : Nat) (post : Option Nat → Gh → Prop) (G : Gh) (hw : gw_X6_copy E post p0 G) : gM l E yX6_copy (ws_ yX6_copy cX6_copy 2 (some (.object "WillowPrinters$Lot"))) ({ frames := 3, cells := 2, slots := 3, locals := 72 } : Room) 2 3 [.ref p0] G (gpr post) := by
  refine gof (by decide) (Nat.le_of_ble_eq_true rfl) ?_
  intro p e s m below meth c A ls hx hb hr hlk hml hown hin hts hPF hA hG hl
  have hl : lv_has ls 2 [(0, .ref p0)] := hl
  unfold gw_X6_copy at hw
  obtain ⟨G0, hG0⟩ : ∃ G0, G0 = G := ⟨_, rfl⟩
  have hG : gS E A G0 s.heap G s.heap [] := by rw [hG0]; exact hG
  rw [show gQ E A G (gpr post) = gQ E A G0 (gpr post) by rw [hG0]]
  have h0p0 := hw.1; rw [← hG0] at h0p0
  replace hw := hw.2
  refine gnew (ci := 5) hx hb hts in_X6 tyX6 tyX6_ok hown q857 q858 q82 hPF hG hA rfl (by decide) (by decide) gborn_X6 (Nat.le_of_ble_eq_true rfl) (Nat.le_of_ble_eq_true rfl) dX6_copy_0 (fun q1 H h0q1 hG => ?_)
  replace hw := hw q1 h0q1
  obtain ⟨G2, eG2⟩ : ∃ z, z = gN G q1 5 0 := ⟨_, rfl⟩
  rw [← eG2] at hG
  replace hw := hw G2 eG2
  have hkq1 : gK G2 q1 = 5 := by rw [eG2]; exact gK_Nq
  refine lv_dup hx hb dX6_copy_3 rfl ?_
  refine lv_aload_n hx hb dX6_copy_4 rfl (lv_at hl 0 rfl) ?_
  refine gg hx hb hts hown hPF hG 5 0 rfl in_X6 (by decide) (by decide) (by decide) q870 (fun _ h9 => h9) (gC_of (gK_mon hG.1.2 h0p0 (by decide)) (by decide)) (v := .int (gI G2 p0 0)) rfl dX6_copy_5 ?_
  refine lv_aload_n hx hb dX6_copy_8 rfl (lv_at hl 0 rfl) ?_
  refine gg hx hb hts hown hPF hG 5 1 rfl in_X6 (by decide) (by decide) (by decide) q873 (fun _ h9 => h9) (gC_of (gK_mon hG.1.2 h0p0 (by decide)) (by decide)) (v := .int (gI G2 p0 1)) rfl dX6_copy_9 ?_
  refine gc3v hA hG (va_runI (As := [.int (gI G2 p0 0), .int (gI G2 p0 1)]) (rest := [.ref q1]) ⟨hx, hb, hml, hown, hts⟩ (gm_X6_init l E q1 (gI G2 p0 0) (gI G2 p0 1) _ G2 hw _) (cwI 2 hts (lw_meth q861) rfl rfl rfl (hts _ q82) (hts _ q859) (hts _ q860) rfl hd_X6_init ⟨Nat.le_of_ble_eq_true rfl, Nat.le_of_ble_eq_true rfl⟩) ⟨gblind, fun U hU hW => gpre hPF hA hG _ U hU hW⟩ rfl rfl hl.1 rfl (lv_room (Nat.le_of_ble_eq_true rfl)) dX6_copy_12 ⟨(Nat.le_of_ble_eq_true rfl), (Nat.le_of_ble_eq_true rfl)⟩) (fun G3 H locs hw hmon hG => ?_)
  replace hw := hw hmon
  have hkq1 : gK G3 q1 = 5 := gK_mon hmon hkq1 (by decide)
  refine lv_astore_n (i := 1) (lv' := [(1, .ref q1), (0, .ref p0)]) hx hb dX6_copy_15 rfl hl (by decide) rfl (fun ls hl => ?_)
  refine lv_aload_n hx hb dX6_copy_16 rfl (lv_at hl 0 rfl) ?_
  refine lv_aload_n hx hb dX6_copy_17 rfl (lv_at hl 1 rfl) ?_
  refine gg hx hb hts hown hPF hG 5 2 rfl in_X6 (by decide) (by decide) (by decide) q877 (fun _ h9 => h9) (gC_of (gK_mon hG.1.2 h0p0 (by decide)) (by decide)) (v := va_rf (gR G3 p0 2)) rfl dX6_copy_18 ?_
  refine gp hx hb hts hown hPF hG 5 2 rfl in_X6 tyX6 tyX6_ok nmX6 (by decide) (by decide) (by decide) q877 (fun _ h9 => h9) rfl hkq1 (v := va_rf (gR G3 p0 2)) (narrow_rf _) (fits_rf _ (by decide)) (G' := gsR G3 q1 2 (gR G3 p0 2)) rfl rfl grR_off (Nat.le_of_ble_eq_true rfl) (gFs_R 5 2 (fun _ _ _ => rfl)) dX6_copy_21 (fun H locs hG => ?_)
  obtain ⟨G4, eG4⟩ : ∃ z, z = gsR G3 q1 2 (gR G3 p0 2) := ⟨_, rfl⟩
  rw [← eG4] at hG
  replace hw := hw G4 eG4
  have hkq1 : gK G4 q1 = 5 := by rw [eG4]; exact hkq1
  refine lv_aload_n hx hb dX6_copy_24 rfl (lv_at hl 0 rfl) ?_
  exact gretr (v := (some q1)) hx hb hr hlk hG (Or.inl ⟨_, rfl⟩) hw (Nat.le_of_ble_eq_true rfl) (Nat.le_of_ble_eq_true rfl) dX6_copy_25
def gw_X6_kiln (E : gE) (post : Int32 → Gh → Prop) (p0 : Nat) (G : Gh) : Prop := gK G p0 = 5 ∧ (∃ q1, (gR G p0 2) = some q1 ∧ (gSt G q1 ∧ ((gK G q1 = 10 → (post (gI G q1 1) G)) ∧ (¬ gK G q1 = 10 → (post (-1) G)))))
theorem hd_X6_kiln : yX6_kiln.cls = RX6 ∧ yX6_kiln.cls ≠ "java/lang/invoke/MethodHandle" ∧ yX6_kiln.cls ≠ "java/lang/invoke/VarHandle" ∧ (parseMethodDescriptor yX6_kiln.desc).map (fun d => d.parameters.length) = some 0 := by decide +kernel
theorem hdn_X6_kiln : yX6_kiln.cls ≠ "java/lang/invoke/MethodHandle" ∧ yX6_kiln.cls ≠ "java/lang/invoke/VarHandle" ∧ (parseMethodDescriptor yX6_kiln.desc).map (fun d => d.parameters.length) = some 0 := hd_X6_kiln.2
theorem hdu_X6_kiln : RX6 ≠ "java/lang/invoke/MethodHandle" ∧ RX6 ≠ "java/lang/invoke/VarHandle" ∧ (parseMethodDescriptor yX6_kiln.desc).map (fun d => d.parameters.length) = some 0 := by decide +kernel
theorem hds_X6_kiln : yX6_kiln.name ≠ "<init>" ∧ (parseMethodDescriptor yX6_kiln.desc).map (fun d => d.parameters.length) = some 0 := by decide +kernel
set_option maxHeartbeats 1000000 in
set_option maxRecDepth 100000 in
theorem gm_X6_kiln (l : Launch) (E : gE) (p0 : Nat) (post : Int32 → Gh → Prop) (G : Gh) (hw : gw_X6_kiln E post p0 G) : gM l E yX6_kiln (ws_ yX6_kiln cX6_kiln 3 (some .int)) ({ frames := 0, cells := 0, slots := 0, locals := 0 } : Room) 0 0 [.ref p0] G (gpi post) := by
  refine gof (by decide) (Nat.le_of_ble_eq_true rfl) ?_
  intro p e s m below meth c A ls hx hb hr hlk hml hown hin hts hPF hA hG hl
  have hl : lv_has ls 3 [(0, .ref p0)] := hl
  unfold gw_X6_kiln at hw
  obtain ⟨G0, hG0⟩ : ∃ G0, G0 = G := ⟨_, rfl⟩
  have hG : gS E A G0 s.heap G s.heap [] := by rw [hG0]; exact hG
  rw [show gQ E A G (gpi post) = gQ E A G0 (gpi post) by rw [hG0]]
  have h0p0 := hw.1; rw [← hG0] at h0p0
  replace hw := hw.2
  refine lv_aload_n hx hb dX6_kiln_0 rfl (lv_at hl 0 rfl) ?_
  refine gg hx hb hts hown hPF hG 5 2 rfl in_X6 (by decide) (by decide) (by decide) q877 (fun _ h9 => h9) (gC_of (gK_mon hG.1.2 h0p0 (by decide)) (by decide)) (v := va_rf (gR G p0 2)) rfl dX6_kiln_1 ?_
  refine gt_n (i := 2) (lv' := [(2, va_rf (gR G p0 2)), (0, .ref p0)]) hx hb dX6_kiln_4 rfl hl (by decide) rfl (fun ls hl => ?_)
  refine ga_n hx hb dX6_kiln_5 rfl (lv_at hl 0 rfl) ?_
  obtain ⟨q1, hq1, hw⟩ := hw
  refine W.eq (g2 := F0 m 6 ls [.ref q1]) (by rw [hq1]; rfl) ?_
  have hS2 := hw.1
  replace hw := hw.2
  refine ginst10 hx hb hts hown q1257 hPF hG hS2 dX6_kiln_6 (fun hk3 => ?_) (fun hk3 => ?_)
  · replace hw := hw.1 hk3
    refine lv_if_eq (tgt := 24) hx hb dX6_kiln_9 (by decide) (fun c_ => absurd c_ (by decide)) (fun c_ => ?_)
    refine ga_n hx hb dX6_kiln_12 rfl (lv_at hl 0 rfl) ?_
    refine W.eq (g2 := F0 m 13 ls [.ref q1]) (by rw [hq1]; rfl) ?_
    refine va_castS hx hb hown (hts _ q1257) (hPF.K.1 10 _ rfl).2 (grecv hPF hG (gC_of hk3 (by decide)) (by decide) (by decide) rfl) dX6_kiln_13 ?_
    refine lv_astore_n (i := 1) (lv' := [(1, .ref q1), (2, va_rf (gR G p0 2)), (0, .ref p0)]) hx hb dX6_kiln_16 rfl hl (by decide) (by first | rfl | simp [List.filter, va_rf_cat, gcat_i, gcat_r, gcat_l, gcat_d, gcat_f, gcat_n]) (fun ls hl => ?_)
    refine lv_aload_n hx hb dX6_kiln_17 rfl (lv_at hl 0 rfl) ?_
    refine ggN hx hb hts hown hPF hG 10 1 rfl in_X12 (by decide) (by decide) (by decide) q1370 (fun _ h9 => h9) (gC_of hk3 (by decide)) (v := .int (gI G q1 1)) rfl dX6_kiln_18 ?_
    refine lv_goto (tgt := 25) hx hb dX6_kiln_21 (by decide) ?_
    exact greti hx hb hr hlk hG rfl hw (Nat.le_of_ble_eq_true rfl) (Nat.le_of_ble_eq_true rfl) dX6_kiln_25
  · replace hw := hw.2 hk3
    refine lv_if_eq (tgt := 24) hx hb dX6_kiln_9 (by decide) (fun c_ => ?_) (fun c_ => absurd c_ (by decide))
    refine lv_iconst (v := (-1)) hx hb dX6_kiln_24 (by decide) ?_
    exact greti hx hb hr hlk hG rfl hw (Nat.le_of_ble_eq_true rfl) (Nat.le_of_ble_eq_true rfl) dX6_kiln_25
def gw_X6_cone (E : gE) (post : Int32 → Gh → Prop) (p0 : Nat) (G : Gh) : Prop := gK G p0 = 5 ∧ (∃ q1, (gR G p0 2) = some q1 ∧ (gSt G q1 ∧ ((gK G q1 = 11 → (post (gI G q1 1) G)) ∧ (¬ gK G q1 = 11 → (gSt G q1 ∧ ((gK G q1 = 10 → (post (gI G q1 2) G)) ∧ (¬ gK G q1 = 10 → (post (-1) G))))))))
theorem hd_X6_cone : yX6_cone.cls = RX6 ∧ yX6_cone.cls ≠ "java/lang/invoke/MethodHandle" ∧ yX6_cone.cls ≠ "java/lang/invoke/VarHandle" ∧ (parseMethodDescriptor yX6_cone.desc).map (fun d => d.parameters.length) = some 0 := by decide +kernel
theorem hdn_X6_cone : yX6_cone.cls ≠ "java/lang/invoke/MethodHandle" ∧ yX6_cone.cls ≠ "java/lang/invoke/VarHandle" ∧ (parseMethodDescriptor yX6_cone.desc).map (fun d => d.parameters.length) = some 0 := hd_X6_cone.2
theorem hdu_X6_cone : RX6 ≠ "java/lang/invoke/MethodHandle" ∧ RX6 ≠ "java/lang/invoke/VarHandle" ∧ (parseMethodDescriptor yX6_cone.desc).map (fun d => d.parameters.length) = some 0 := by decide +kernel
theorem hds_X6_cone : yX6_cone.name ≠ "<init>" ∧ (parseMethodDescriptor yX6_cone.desc).map (fun d => d.parameters.length) = some 0 := by decide +kernel
set_option maxHeartbeats 1000000 in
set_option maxRecDepth 100000 in
theorem gm_X6_cone (l : Launch) (E : gE) (p0 : Nat) (post : Int32 → Gh → Prop) (G : Gh) (hw : gw_X6_cone E post p0 G) : gM l E yX6_cone (ws_ yX6_cone cX6_cone 3 (some .int)) ({ frames := 0, cells := 0, slots := 0, locals := 0 } : Room) 0 0 [.ref p0] G (gpi post) := by
  refine gof (by decide) (Nat.le_of_ble_eq_true rfl) ?_
  intro p e s m below meth c A ls hx hb hr hlk hml hown hin hts hPF hA hG hl
  have hl : lv_has ls 3 [(0, .ref p0)] := hl
  unfold gw_X6_cone at hw
  obtain ⟨G0, hG0⟩ : ∃ G0, G0 = G := ⟨_, rfl⟩
  have hG : gS E A G0 s.heap G s.heap [] := by rw [hG0]; exact hG
  rw [show gQ E A G (gpi post) = gQ E A G0 (gpi post) by rw [hG0]]
  have h0p0 := hw.1; rw [← hG0] at h0p0
  replace hw := hw.2
  refine lv_aload_n hx hb dX6_cone_0 rfl (lv_at hl 0 rfl) ?_
  refine gg hx hb hts hown hPF hG 5 2 rfl in_X6 (by decide) (by decide) (by decide) q877 (fun _ h9 => h9) (gC_of (gK_mon hG.1.2 h0p0 (by decide)) (by decide)) (v := va_rf (gR G p0 2)) rfl dX6_cone_1 ?_
  refine gt_n (i := 2) (lv' := [(2, va_rf (gR G p0 2)), (0, .ref p0)]) hx hb dX6_cone_4 rfl hl (by decide) rfl (fun ls hl => ?_)
  refine ga_n hx hb dX6_cone_5 rfl (lv_at hl 0 rfl) ?_
  obtain ⟨q1, hq1, hw⟩ := hw
  refine W.eq (g2 := F0 m 6 ls [.ref q1]) (by rw [hq1]; rfl) ?_
  have hS2 := hw.1
  replace hw := hw.2
  refine ginst11 hx hb hts hown q1262 hPF hG hS2 dX6_cone_6 (fun hk3 => ?_) (fun hk3 => ?_)
  · replace hw := hw.1 hk3
    refine lv_if_eq (tgt := 22) hx hb dX6_cone_9 (by decide) (fun c_ => absurd c_ (by decide)) (fun c_ => ?_)
    refine ga_n hx hb dX6_cone_12 rfl (lv_at hl 0 rfl) ?_
    refine W.eq (g2 := F0 m 13 ls [.ref q1]) (by rw [hq1]; rfl) ?_
    refine va_castS hx hb hown (hts _ q1262) (hPF.K.1 11 _ rfl).2 (grecv hPF hG (gC_of hk3 (by decide)) (by decide) (by decide) rfl) dX6_cone_13 ?_
    refine lv_astore_n (i := 1) (lv' := [(1, .ref q1), (2, va_rf (gR G p0 2)), (0, .ref p0)]) hx hb dX6_cone_16 rfl hl (by decide) (by first | rfl | simp [List.filter, va_rf_cat, gcat_i, gcat_r, gcat_l, gcat_d, gcat_f, gcat_n]) (fun ls hl => ?_)
    refine lv_aload_n hx hb dX6_cone_17 rfl (lv_at hl 0 rfl) ?_
    refine ggN hx hb hts hown hPF hG 11 1 rfl in_X13 (by decide) (by decide) (by decide) q1542 (fun _ h9 => h9) (gC_of hk3 (by decide)) (v := .int (gI G q1 1)) rfl dX6_cone_18 ?_
    exact greti hx hb hr hlk hG rfl hw (Nat.le_of_ble_eq_true rfl) (Nat.le_of_ble_eq_true rfl) dX6_cone_21
  · replace hw := hw.2 hk3
    refine lv_if_eq (tgt := 22) hx hb dX6_cone_9 (by decide) (fun c_ => ?_) (fun c_ => absurd c_ (by decide))
    refine lv_aload_n hx hb dX6_cone_22 rfl (lv_at hl 1 rfl) ?_
    refine gg hx hb hts hown hPF hG 5 2 rfl in_X6 (by decide) (by decide) (by decide) q877 (fun _ h9 => h9) (gC_of (gK_mon hG.1.2 h0p0 (by decide)) (by decide)) (v := va_rf (gR G p0 2)) rfl dX6_cone_23 ?_
    refine gt_n (i := 2) (lv' := [(2, va_rf (gR G p0 2)), (0, .ref p0)]) hx hb dX6_cone_26 rfl hl (by decide) (by first | rfl | simp [List.filter, va_rf_cat, gcat_i, gcat_r, gcat_l, gcat_d, gcat_f, gcat_n]) (fun ls hl => ?_)
    refine ga_n hx hb dX6_cone_27 rfl (lv_at hl 0 rfl) ?_
    refine W.eq (g2 := F0 m 28 ls [.ref q1]) (by rw [hq1]; rfl) ?_
    have hS4 := hw.1
    replace hw := hw.2
    refine ginst10 hx hb hts hown q1257 hPF hG hS4 dX6_cone_28 (fun hk5 => ?_) (fun hk5 => ?_)
    · replace hw := hw.1 hk5
      refine lv_if_eq (tgt := 46) hx hb dX6_cone_31 (by decide) (fun c_ => absurd c_ (by decide)) (fun c_ => ?_)
      refine ga_n hx hb dX6_cone_34 rfl (lv_at hl 0 rfl) ?_
      refine W.eq (g2 := F0 m 35 ls [.ref q1]) (by rw [hq1]; rfl) ?_
      refine va_castS hx hb hown (hts _ q1257) (hPF.K.1 10 _ rfl).2 (grecv hPF hG (gC_of hk5 (by decide)) (by decide) (by decide) rfl) dX6_cone_35 ?_
      refine lv_astore_n (i := 1) (lv' := [(1, .ref q1), (2, va_rf (gR G p0 2)), (0, .ref p0)]) hx hb dX6_cone_38 rfl hl (by decide) (by first | rfl | simp [List.filter, va_rf_cat, gcat_i, gcat_r, gcat_l, gcat_d, gcat_f, gcat_n]) (fun ls hl => ?_)
      refine lv_aload_n hx hb dX6_cone_39 rfl (lv_at hl 0 rfl) ?_
      refine ggN hx hb hts hown hPF hG 10 2 rfl in_X12 (by decide) (by decide) (by decide) q1372 (fun _ h9 => h9) (gC_of hk5 (by decide)) (v := .int (gI G q1 2)) rfl dX6_cone_40 ?_
      refine lv_goto (tgt := 47) hx hb dX6_cone_43 (by decide) ?_
      exact greti hx hb hr hlk hG rfl hw (Nat.le_of_ble_eq_true rfl) (Nat.le_of_ble_eq_true rfl) dX6_cone_47
    · replace hw := hw.2 hk5
      refine lv_if_eq (tgt := 46) hx hb dX6_cone_31 (by decide) (fun c_ => ?_) (fun c_ => absurd c_ (by decide))
      refine lv_iconst (v := (-1)) hx hb dX6_cone_46 (by decide) ?_
      exact greti hx hb hr hlk hG rfl hw (Nat.le_of_ble_eq_true rfl) (Nat.le_of_ble_eq_true rfl) dX6_cone_47
def gw_X6_hours (E : gE) (post : Int32 → Gh → Prop) (p0 : Nat) (G : Gh) : Prop := gK G p0 = 5 ∧ (∃ q1, (gR G p0 2) = some q1 ∧ (gSt G q1 ∧ ((gK G q1 = 10 → (post (gI G q1 3) G)) ∧ (¬ gK G q1 = 10 → (post (-1) G)))))
theorem hd_X6_hours : yX6_hours.cls = RX6 ∧ yX6_hours.cls ≠ "java/lang/invoke/MethodHandle" ∧ yX6_hours.cls ≠ "java/lang/invoke/VarHandle" ∧ (parseMethodDescriptor yX6_hours.desc).map (fun d => d.parameters.length) = some 0 := by decide +kernel
theorem hdn_X6_hours : yX6_hours.cls ≠ "java/lang/invoke/MethodHandle" ∧ yX6_hours.cls ≠ "java/lang/invoke/VarHandle" ∧ (parseMethodDescriptor yX6_hours.desc).map (fun d => d.parameters.length) = some 0 := hd_X6_hours.2
theorem hdu_X6_hours : RX6 ≠ "java/lang/invoke/MethodHandle" ∧ RX6 ≠ "java/lang/invoke/VarHandle" ∧ (parseMethodDescriptor yX6_hours.desc).map (fun d => d.parameters.length) = some 0 := by decide +kernel
theorem hds_X6_hours : yX6_hours.name ≠ "<init>" ∧ (parseMethodDescriptor yX6_hours.desc).map (fun d => d.parameters.length) = some 0 := by decide +kernel
set_option maxHeartbeats 1000000 in
set_option maxRecDepth 100000 in
theorem gm_X6_hours (l : Launch) (E : gE) (p0 : Nat) (post : Int32 → Gh → Prop) (G : Gh) (hw : gw_X6_hours E post p0 G) : gM l E yX6_hours (ws_ yX6_hours cX6_hours 3 (some .int)) ({ frames := 0, cells := 0, slots := 0, locals := 0 } : Room) 0 0 [.ref p0] G (gpi post) := by
  refine gof (by decide) (Nat.le_of_ble_eq_true rfl) ?_
  intro p e s m below meth c A ls hx hb hr hlk hml hown hin hts hPF hA hG hl
  have hl : lv_has ls 3 [(0, .ref p0)] := hl
  unfold gw_X6_hours at hw
  obtain ⟨G0, hG0⟩ : ∃ G0, G0 = G := ⟨_, rfl⟩
  have hG : gS E A G0 s.heap G s.heap [] := by rw [hG0]; exact hG
  rw [show gQ E A G (gpi post) = gQ E A G0 (gpi post) by rw [hG0]]
  have h0p0 := hw.1; rw [← hG0] at h0p0
  replace hw := hw.2
  refine lv_aload_n hx hb dX6_hours_0 rfl (lv_at hl 0 rfl) ?_
  refine gg hx hb hts hown hPF hG 5 2 rfl in_X6 (by decide) (by decide) (by decide) q877 (fun _ h9 => h9) (gC_of (gK_mon hG.1.2 h0p0 (by decide)) (by decide)) (v := va_rf (gR G p0 2)) rfl dX6_hours_1 ?_
  refine gt_n (i := 2) (lv' := [(2, va_rf (gR G p0 2)), (0, .ref p0)]) hx hb dX6_hours_4 rfl hl (by decide) rfl (fun ls hl => ?_)
  refine ga_n hx hb dX6_hours_5 rfl (lv_at hl 0 rfl) ?_
  obtain ⟨q1, hq1, hw⟩ := hw
  refine W.eq (g2 := F0 m 6 ls [.ref q1]) (by rw [hq1]; rfl) ?_
  have hS2 := hw.1
  replace hw := hw.2
  refine ginst10 hx hb hts hown q1257 hPF hG hS2 dX6_hours_6 (fun hk3 => ?_) (fun hk3 => ?_)
  · replace hw := hw.1 hk3
    refine lv_if_eq (tgt := 24) hx hb dX6_hours_9 (by decide) (fun c_ => absurd c_ (by decide)) (fun c_ => ?_)
    refine ga_n hx hb dX6_hours_12 rfl (lv_at hl 0 rfl) ?_
    refine W.eq (g2 := F0 m 13 ls [.ref q1]) (by rw [hq1]; rfl) ?_
    refine va_castS hx hb hown (hts _ q1257) (hPF.K.1 10 _ rfl).2 (grecv hPF hG (gC_of hk3 (by decide)) (by decide) (by decide) rfl) dX6_hours_13 ?_
    refine lv_astore_n (i := 1) (lv' := [(1, .ref q1), (2, va_rf (gR G p0 2)), (0, .ref p0)]) hx hb dX6_hours_16 rfl hl (by decide) (by first | rfl | simp [List.filter, va_rf_cat, gcat_i, gcat_r, gcat_l, gcat_d, gcat_f, gcat_n]) (fun ls hl => ?_)
    refine lv_aload_n hx hb dX6_hours_17 rfl (lv_at hl 0 rfl) ?_
    refine ggN hx hb hts hown hPF hG 10 3 rfl in_X12 (by decide) (by decide) (by decide) q1374 (fun _ h9 => h9) (gC_of hk3 (by decide)) (v := .int (gI G q1 3)) rfl dX6_hours_18 ?_
    refine lv_goto (tgt := 25) hx hb dX6_hours_21 (by decide) ?_
    exact greti hx hb hr hlk hG rfl hw (Nat.le_of_ble_eq_true rfl) (Nat.le_of_ble_eq_true rfl) dX6_hours_25
  · replace hw := hw.2 hk3
    refine lv_if_eq (tgt := 24) hx hb dX6_hours_9 (by decide) (fun c_ => ?_) (fun c_ => absurd c_ (by decide))
    refine lv_iconst (v := (-1)) hx hb dX6_hours_24 (by decide) ?_
    exact greti hx hb hr hlk hG rfl hw (Nat.le_of_ble_eq_true rfl) (Nat.le_of_ble_eq_true rfl) dX6_hours_25
def gw_X6_wouldChip (E : gE) (post : Int32 → Gh → Prop) (p0 : Nat) (p1 : Int32) (G : Gh) : Prop := gK G p0 = 5 ∧ (post (((gI G p0 1) * (if (0 : Int32) < ((if 0 ≤ (p1 - 6) then (p1 - 6) else 0 - (p1 - 6)) - 1) then ((if 0 ≤ (p1 - 6) then (p1 - 6) else 0 - (p1 - 6)) - 1) else (0 : Int32))) / 10) G)
theorem hd_X6_wouldChip : yX6_wouldChip.cls = RX6 ∧ yX6_wouldChip.cls ≠ "java/lang/invoke/MethodHandle" ∧ yX6_wouldChip.cls ≠ "java/lang/invoke/VarHandle" ∧ (parseMethodDescriptor yX6_wouldChip.desc).map (fun d => d.parameters.length) = some 1 := by decide +kernel
theorem hdn_X6_wouldChip : yX6_wouldChip.cls ≠ "java/lang/invoke/MethodHandle" ∧ yX6_wouldChip.cls ≠ "java/lang/invoke/VarHandle" ∧ (parseMethodDescriptor yX6_wouldChip.desc).map (fun d => d.parameters.length) = some 1 := hd_X6_wouldChip.2
theorem hdu_X6_wouldChip : RX6 ≠ "java/lang/invoke/MethodHandle" ∧ RX6 ≠ "java/lang/invoke/VarHandle" ∧ (parseMethodDescriptor yX6_wouldChip.desc).map (fun d => d.parameters.length) = some 1 := by decide +kernel
theorem hds_X6_wouldChip : yX6_wouldChip.name ≠ "<init>" ∧ (parseMethodDescriptor yX6_wouldChip.desc).map (fun d => d.parameters.length) = some 1 := by decide +kernel
set_option maxHeartbeats 1000000 in
set_option maxRecDepth 100000 in
theorem gm_X6_wouldChip (l : Launch) (E : gE) (p0 : Nat) (p1 : Int32) (post : Int32 → Gh → Prop) (G : Gh) (hw : gw_X6_wouldChip E post p0 p1 G) : gM l E yX6_wouldChip (ws_ yX6_wouldChip cX6_wouldChip 2 (some .int)) ({ frames := 1, cells := 0, slots := 0, locals := 40 } : Room) 0 0 [.ref p0, .int p1] G (gpi post) := by
  refine gof (by decide) (Nat.le_of_ble_eq_true rfl) ?_
  intro p e s m below meth c A ls hx hb hr hlk hml hown hin hts hPF hA hG hl
  have hl : lv_has ls 2 [(0, .ref p0), (1, .int p1)] := hl
  unfold gw_X6_wouldChip at hw
  obtain ⟨G0, hG0⟩ : ∃ G0, G0 = G := ⟨_, rfl⟩
  have hG : gS E A G0 s.heap G s.heap [] := by rw [hG0]; exact hG
  rw [show gQ E A G (gpi post) = gQ E A G0 (gpi post) by rw [hG0]]
  have h0p0 := hw.1; rw [← hG0] at h0p0
  replace hw := hw.2
  refine lv_aload_n hx hb dX6_wouldChip_0 rfl (lv_at hl 0 rfl) ?_
  refine gg hx hb hts hown hPF hG 5 1 rfl in_X6 (by decide) (by decide) (by decide) q873 (fun _ h9 => h9) (gC_of (gK_mon hG.1.2 h0p0 (by decide)) (by decide)) (v := .int (gI G p0 1)) rfl dX6_wouldChip_1 ?_
  refine lv_iconst (v := 0) hx hb dX6_wouldChip_4 (by decide) ?_
  refine lv_iload_n hx hb dX6_wouldChip_5 rfl (lv_at hl 1 rfl) ?_
  refine lv_bipush (v := 6) hx hb dX6_wouldChip_6 (by decide) ?_
  refine lv_isub hx hb dX6_wouldChip_8 ?_
  refine va_mabs (rest := [.int 0, .int (gI G p0 1)]) hx hb (hml.trans hl.1.symm) hown (hts _ q1396) (hts _ q1118) (hts _ q69) (hts _ q1119) (Nat.le_of_ble_eq_true rfl) (by (try simp only [List.map, va_rf_cat, gcat_i, gcat_r, gcat_l, gcat_d, gcat_f, gcat_n]); exact Nat.le_of_ble_eq_true rfl) (Nat.le_of_ble_eq_true rfl) (Nat.le_of_ble_eq_true rfl) dX6_wouldChip_9 ?_
  refine lv_iconst (v := 1) hx hb dX6_wouldChip_12 (by decide) ?_
  refine lv_isub hx hb dX6_wouldChip_13 ?_
  refine va_mmax (rest := [.int (gI G p0 1)]) hx hb (hml.trans hl.1.symm) hown (hts _ q1397) (hts _ q232) (hts _ q69) (hts _ q233) (Nat.le_of_ble_eq_true rfl) (by (try simp only [List.map, va_rf_cat, gcat_i, gcat_r, gcat_l, gcat_d, gcat_f, gcat_n]); exact Nat.le_of_ble_eq_true rfl) (Nat.le_of_ble_eq_true rfl) (Nat.le_of_ble_eq_true rfl) dX6_wouldChip_14 ?_
  refine lv_imul hx hb dX6_wouldChip_17 ?_
  refine lv_bipush (v := 10) hx hb dX6_wouldChip_18 (by decide) ?_
  refine lv_idiv hx hb dX6_wouldChip_20 (by decide) ?_
  exact greti hx hb hr hlk hG rfl hw (Nat.le_of_ble_eq_true rfl) (Nat.le_of_ble_eq_true rfl) dX6_wouldChip_21
def gw_X6_burn (E : gE) (post : Int32 → Gh → Prop) (p0 : Nat) (G : Gh) : Prop := gK G p0 = 5 ∧ (∃ q1, (gR G p0 2) = some q1 ∧ (gSt G q1 ∧ ((gK G q1 = 10 → (gw_X12_later E (fun r5 G4 => gMon G G4 → (∀ G6, G6 = gsR G4 p0 2 r5 → (∃ q7, (gR G6 p0 2) = some q7 ∧ (gSt G6 q7 ∧ ((gK G6 q7 = 11 → (gw_X6_wouldChip E (fun r11 G10 => gMon G6 G10 → (∀ G12, G12 = gsI G10 p0 1 ((gI G10 p0 1) - r11) → (post r11 G12))) p0 (gI G6 q7 1) G6)) ∧ (¬ gK G6 q7 = 11 → (post (-1) G6))))))) q1 G)) ∧ (¬ gK G q1 = 10 → (post (-1) G)))))
theorem hd_X6_burn : yX6_burn.cls = RX6 ∧ yX6_burn.cls ≠ "java/lang/invoke/MethodHandle" ∧ yX6_burn.cls ≠ "java/lang/invoke/VarHandle" ∧ (parseMethodDescriptor yX6_burn.desc).map (fun d => d.parameters.length) = some 0 := by decide +kernel
theorem hdn_X6_burn : yX6_burn.cls ≠ "java/lang/invoke/MethodHandle" ∧ yX6_burn.cls ≠ "java/lang/invoke/VarHandle" ∧ (parseMethodDescriptor yX6_burn.desc).map (fun d => d.parameters.length) = some 0 := hd_X6_burn.2
theorem hdu_X6_burn : RX6 ≠ "java/lang/invoke/MethodHandle" ∧ RX6 ≠ "java/lang/invoke/VarHandle" ∧ (parseMethodDescriptor yX6_burn.desc).map (fun d => d.parameters.length) = some 0 := by decide +kernel
theorem hds_X6_burn : yX6_burn.name ≠ "<init>" ∧ (parseMethodDescriptor yX6_burn.desc).map (fun d => d.parameters.length) = some 0 := by decide +kernel
set_option maxHeartbeats 1000000 in
set_option maxRecDepth 100000 in
theorem gm_X6_burn (l : Launch) (E : gE) (p0 : Nat) (post : Int32 → Gh → Prop) (G : Gh) (hw : gw_X6_burn E post p0 G) : gM l E yX6_burn (ws_ yX6_burn cX6_burn 4 (some .int)) ({ frames := 3, cells := 1, slots := 4, locals := 74 } : Room) 1 4 [.ref p0] G (gpi post) := by
  refine gof (by decide) (Nat.le_of_ble_eq_true rfl) ?_
  intro p e s m below meth c A ls hx hb hr hlk hml hown hin hts hPF hA hG hl
  have hl : lv_has ls 4 [(0, .ref p0)] := hl
  unfold gw_X6_burn at hw
  obtain ⟨G0, hG0⟩ : ∃ G0, G0 = G := ⟨_, rfl⟩
  have hG : gS E A G0 s.heap G s.heap [] := by rw [hG0]; exact hG
  rw [show gQ E A G (gpi post) = gQ E A G0 (gpi post) by rw [hG0]]
  have h0p0 := hw.1; rw [← hG0] at h0p0
  replace hw := hw.2
  refine lv_aload_n hx hb dX6_burn_0 rfl (lv_at hl 0 rfl) ?_
  refine gg hx hb hts hown hPF hG 5 2 rfl in_X6 (by decide) (by decide) (by decide) q877 (fun _ h9 => h9) (gC_of (gK_mon hG.1.2 h0p0 (by decide)) (by decide)) (v := va_rf (gR G p0 2)) rfl dX6_burn_1 ?_
  refine gt_n (i := 2) (lv' := [(2, va_rf (gR G p0 2)), (0, .ref p0)]) hx hb dX6_burn_4 rfl hl (by decide) rfl (fun ls hl => ?_)
  refine ga_n hx hb dX6_burn_5 rfl (lv_at hl 0 rfl) ?_
  obtain ⟨q1, hq1, hw⟩ := hw
  refine W.eq (g2 := F0 m 6 ls [.ref q1]) (by rw [hq1]; rfl) ?_
  have hS2 := hw.1
  replace hw := hw.2
  refine ginst10 hx hb hts hown q1257 hPF hG hS2 dX6_burn_6 (fun hk3 => ?_) (fun hk3 => ?_)
  · replace hw := hw.1 hk3
    refine lv_if_eq (tgt := 20) hx hb dX6_burn_9 (by decide) (fun c_ => absurd c_ (by decide)) (fun c_ => ?_)
    refine ga_n hx hb dX6_burn_12 rfl (lv_at hl 0 rfl) ?_
    refine W.eq (g2 := F0 m 13 ls [.ref q1]) (by rw [hq1]; rfl) ?_
    refine va_castS hx hb hown (hts _ q1257) (hPF.K.1 10 _ rfl).2 (grecv hPF hG (gC_of hk3 (by decide)) (by decide) (by decide) rfl) dX6_burn_13 ?_
    refine lv_astore_n (i := 1) (lv' := [(1, .ref q1), (2, va_rf (gR G p0 2)), (0, .ref p0)]) hx hb dX6_burn_16 rfl hl (by decide) (by first | rfl | simp [List.filter, va_rf_cat, gcat_i, gcat_r, gcat_l, gcat_d, gcat_f, gcat_n]) (fun ls hl => ?_)
    refine lv_goto (tgt := 22) hx hb dX6_burn_17 (by decide) ?_
    refine lv_aload_n hx hb dX6_burn_22 rfl (lv_at hl 2 rfl) ?_
    refine lv_aload_n hx hb dX6_burn_23 rfl (lv_at hl 0 rfl) ?_
    refine gc3r hA hG (va_runV (As := []) (rest := [.ref p0]) ⟨hx, hb, hml, hown, hts⟩ (gm_X12_later l E q1 _ G hw _) (cwV 0 hts (lw_V q1530 q1531 q1532 q94 q1533) rfl rfl rfl hd_X12_later ⟨Nat.le_of_ble_eq_true rfl, Nat.le_of_ble_eq_true rfl⟩) ⟨gblind, grecv hPF hG (gC_of hk3 (by decide)) (by decide) (by decide) rfl, fun U hU hW => gpre hPF hA hG _ U hU hW⟩ rfl rfl hl.1 rfl (lv_room (Nat.le_of_ble_eq_true rfl)) dX6_burn_24 ⟨(Nat.le_of_ble_eq_true rfl), (Nat.le_of_ble_eq_true rfl)⟩) (fun r5 G4 H locs hw hmon hG => ?_)
    replace hw := hw hmon
    have hk3 : gK G4 q1 = 10 := gK_mon hmon hk3 (by decide)
    refine gp hx hb hts hown hPF hG 5 2 rfl in_X6 tyX6 tyX6_ok nmX6 (by decide) (by decide) (by decide) q877 (fun _ h9 => h9) rfl (gK_mon hG.1.2 h0p0 (by decide)) (v := va_rf r5) (narrow_rf _) (fits_rf _ (by decide)) (G' := gsR G4 p0 2 r5) rfl rfl grR_off (Nat.le_of_ble_eq_true rfl) (gFs_R 5 2 (fun _ _ _ => rfl)) dX6_burn_27 (fun H locs hG => ?_)
    obtain ⟨G6, eG6⟩ : ∃ z, z = gsR G4 p0 2 r5 := ⟨_, rfl⟩
    rw [← eG6] at hG
    replace hw := hw G6 eG6
    have hk3 : gK G6 q1 = 10 := by rw [eG6]; exact hk3
    refine lv_aload_n hx hb dX6_burn_30 rfl (lv_at hl 2 rfl) ?_
    refine gg hx hb hts hown hPF hG 5 2 rfl in_X6 (by decide) (by decide) (by decide) q877 (fun _ h9 => h9) (gC_of (gK_mon hG.1.2 h0p0 (by decide)) (by decide)) (v := va_rf (gR G6 p0 2)) rfl dX6_burn_31 ?_
    refine gt_n (i := 3) (lv' := [(3, va_rf (gR G6 p0 2)), (1, .ref q1), (2, va_rf (gR G p0 2)), (0, .ref p0)]) hx hb dX6_burn_34 rfl hl (by decide) (by first | rfl | simp [List.filter, va_rf_cat, gcat_i, gcat_r, gcat_l, gcat_d, gcat_f, gcat_n]) (fun ls hl => ?_)
    refine ga_n hx hb dX6_burn_35 rfl (lv_at hl 0 rfl) ?_
    obtain ⟨q7, hq7, hw⟩ := hw
    refine W.eq (g2 := F0 m 36 ls [.ref q7]) (by rw [hq7]; rfl) ?_
    have hS8 := hw.1
    replace hw := hw.2
    refine ginst11 hx hb hts hown q1262 hPF hG hS8 dX6_burn_36 (fun hk9 => ?_) (fun hk9 => ?_)
    · replace hw := hw.1 hk9
      refine lv_if_eq (tgt := 50) hx hb dX6_burn_39 (by decide) (fun c_ => absurd c_ (by decide)) (fun c_ => ?_)
      refine ga_n hx hb dX6_burn_42 rfl (lv_at hl 0 rfl) ?_
      refine W.eq (g2 := F0 m 43 ls [.ref q7]) (by rw [hq7]; rfl) ?_
      refine va_castS hx hb hown (hts _ q1262) (hPF.K.1 11 _ rfl).2 (grecv hPF hG (gC_of hk9 (by decide)) (by decide) (by decide) rfl) dX6_burn_43 ?_
      refine lv_astore_n (i := 2) (lv' := [(2, .ref q7), (3, va_rf (gR G6 p0 2)), (1, .ref q1), (0, .ref p0)]) hx hb dX6_burn_46 rfl hl (by decide) (by first | rfl | simp [List.filter, va_rf_cat, gcat_i, gcat_r, gcat_l, gcat_d, gcat_f, gcat_n]) (fun ls hl => ?_)
      refine lv_goto (tgt := 52) hx hb dX6_burn_47 (by decide) ?_
      refine lv_aload_n hx hb dX6_burn_52 rfl (lv_at hl 3 rfl) ?_
      refine lv_aload_n hx hb dX6_burn_53 rfl (lv_at hl 0 rfl) ?_
      refine ggN hx hb hts hown hPF hG 11 1 rfl in_X13 (by decide) (by decide) (by decide) q1542 (fun _ h9 => h9) (gC_of hk9 (by decide)) (v := .int (gI G6 q7 1)) rfl dX6_burn_54 ?_
      refine gc3i hA hG (va_runV (As := [.int (gI G6 q7 1)]) (rest := []) ⟨hx, hb, hml, hown, hts⟩ (gm_X6_wouldChip l E p0 (gI G6 q7 1) _ G6 hw _) (cwV 1 hts (lw_V q1550 q1393 q1394 q82 q1395) rfl rfl rfl hd_X6_wouldChip ⟨Nat.le_of_ble_eq_true rfl, Nat.le_of_ble_eq_true rfl⟩) ⟨gblind, grecv hPF hG (gC_of (gK_mon hG.1.2 h0p0 (by decide)) (by decide)) (by decide) (by decide) rfl, fun U hU hW => gpre hPF hA hG _ U hU hW⟩ rfl rfl hl.1 rfl (lv_room (Nat.le_of_ble_eq_true rfl)) dX6_burn_57 ⟨(Nat.le_of_ble_eq_true rfl), (Nat.le_of_ble_eq_true rfl)⟩) (fun r11 G10 H locs hw hmon hG => ?_)
      replace hw := hw hmon
      have hk3 : gK G10 q1 = 10 := gK_mon hmon hk3 (by decide)
      have hk9 : gK G10 q7 = 11 := gK_mon hmon hk9 (by decide)
      refine lv_istore_n (i := 3) (lv' := [(3, .int r11), (2, .ref q7), (1, .ref q1), (0, .ref p0)]) hx hb dX6_burn_60 rfl hl (by decide) (by first | rfl | simp [List.filter, va_rf_cat, gcat_i, gcat_r, gcat_l, gcat_d, gcat_f, gcat_n]) (fun ls hl => ?_)
      refine lv_aload_n hx hb dX6_burn_61 rfl (lv_at hl 3 rfl) ?_
      refine lv_dup hx hb dX6_burn_62 rfl ?_
      refine gg hx hb hts hown hPF hG 5 1 rfl in_X6 (by decide) (by decide) (by decide) q873 (fun _ h9 => h9) (gC_of (gK_mon hG.1.2 h0p0 (by decide)) (by decide)) (v := .int (gI G10 p0 1)) rfl dX6_burn_63 ?_
      refine lv_iload_n hx hb dX6_burn_66 rfl (lv_at hl 0 rfl) ?_
      refine lv_isub hx hb dX6_burn_67 ?_
      refine gp hx hb hts hown hPF hG 5 1 rfl in_X6 tyX6 tyX6_ok nmX6 (by decide) (by decide) (by decide) q873 (fun _ h9 => h9) rfl (gK_mon hG.1.2 h0p0 (by decide)) (v := .int ((gI G10 p0 1) - r11)) rfl rfl (G' := gsI G10 p0 1 ((gI G10 p0 1) - r11)) rfl rfl grI_off (Nat.le_of_ble_eq_true rfl) (gFs_I 5 1 (fun _ _ _ => rfl)) dX6_burn_68 (fun H locs hG => ?_)
      obtain ⟨G12, eG12⟩ : ∃ z, z = gsI G10 p0 1 ((gI G10 p0 1) - r11) := ⟨_, rfl⟩
      rw [← eG12] at hG
      replace hw := hw G12 eG12
      have hk3 : gK G12 q1 = 10 := by rw [eG12]; exact hk3
      have hk9 : gK G12 q7 = 11 := by rw [eG12]; exact hk9
      refine lv_iload_n hx hb dX6_burn_71 rfl (lv_at hl 0 rfl) ?_
      exact greti hx hb hr hlk hG rfl hw (Nat.le_of_ble_eq_true rfl) (Nat.le_of_ble_eq_true rfl) dX6_burn_72
    · replace hw := hw.2 hk9
      refine lv_if_eq (tgt := 50) hx hb dX6_burn_39 (by decide) (fun c_ => ?_) (fun c_ => absurd c_ (by decide))
      refine lv_iconst (v := (-1)) hx hb dX6_burn_50 (by decide) ?_
      exact greti hx hb hr hlk hG rfl hw (Nat.le_of_ble_eq_true rfl) (Nat.le_of_ble_eq_true rfl) dX6_burn_51
  · replace hw := hw.2 hk3
    refine lv_if_eq (tgt := 20) hx hb dX6_burn_9 (by decide) (fun c_ => ?_) (fun c_ => absurd c_ (by decide))
    refine lv_iconst (v := (-1)) hx hb dX6_burn_20 (by decide) ?_
    exact greti hx hb hr hlk hG rfl hw (Nat.le_of_ble_eq_true rfl) (Nat.le_of_ble_eq_true rfl) dX6_burn_21
def gw_X10_check (E : gE) (post : Gh → Prop) (px : String → Nat → Gh → Prop) (p0 : Nat) (p1 : Nat) (G : Gh) : Prop := gK G p1 = 5 ∧ (∃ q1, (gR G p1 2) = some q1 ∧ (gSt G q1 ∧ ((¬ (some (eZ E (gStg G q1))) = (some p0) → (∃ k3, k3 < 4 ∧ (eZ E (gStg G q1)) = eZ E k3 ∧ (gw_X4_check E (fun G6 => gMon G G6 → (post G6)) px 0 1 (nI k3) G))) ∧ ((some (eZ E (gStg G q1))) = (some p0) → (∃ k7, k7 < 4 ∧ (eZ E (gStg G q1)) = eZ E k7 ∧ (gw_X4_check E (fun G10 => gMon G G10 → (post G10)) px 1 1 (nI k7) G))))))
theorem hd_X10_check : yX10_check.cls = RX10 ∧ yX10_check.cls ≠ "java/lang/invoke/MethodHandle" ∧ yX10_check.cls ≠ "java/lang/invoke/VarHandle" ∧ (parseMethodDescriptor yX10_check.desc).map (fun d => d.parameters.length) = some 1 := by decide +kernel
theorem hdn_X10_check : yX10_check.cls ≠ "java/lang/invoke/MethodHandle" ∧ yX10_check.cls ≠ "java/lang/invoke/VarHandle" ∧ (parseMethodDescriptor yX10_check.desc).map (fun d => d.parameters.length) = some 1 := hd_X10_check.2
theorem hdu_X10_check : RX10 ≠ "java/lang/invoke/MethodHandle" ∧ RX10 ≠ "java/lang/invoke/VarHandle" ∧ (parseMethodDescriptor yX10_check.desc).map (fun d => d.parameters.length) = some 1 := by decide +kernel
theorem hds_X10_check : yX10_check.name ≠ "<init>" ∧ (parseMethodDescriptor yX10_check.desc).map (fun d => d.parameters.length) = some 1 := by decide +kernel
set_option maxHeartbeats 1000000 in
set_option maxRecDepth 100000 in
theorem gm_X10_check (l : Launch) (hlt : l.stackTraces = false) (E : gE) (p0 : Nat) (p1 : Nat) (post : Gh → Prop) (px : String → Nat → Gh → Prop) (G : Gh) (hw : gw_X10_check E post px p0 p1 G) : gX l E yX10_check (ws_ yX10_check cX10_check 3 none) ({ frames := 5, cells := 1, slots := 8, locals := 122 } : Room) 1 8 [.ref p0, .ref p1] G (gpv post) px := by
  refine xof (by decide) (Nat.le_of_ble_eq_true rfl) ?_
  intro p e s m below meth c A ls hx hb hr hlk hml hown hin hts hPF hA htab hG hl
  have hl : lv_has ls 3 [(0, .ref p0), (1, .ref p1)] := hl
  unfold gw_X10_check at hw
  obtain ⟨G0, hG0⟩ : ∃ G0, G0 = G := ⟨_, rfl⟩
  have hG : gS E A G0 s.heap G s.heap [] := by rw [hG0]; exact hG
  rw [show gQ E A G (gpv post) = gQ E A G0 (gpv post) by rw [hG0]]
  rw [show gXC E A G px = gXC E A G0 px by rw [hG0]]
  have h0p1 := hw.1; rw [← hG0] at h0p1
  replace hw := hw.2
  refine lv_aload_n hx hb dX10_check_0 rfl (lv_at hl 1 rfl) ?_
  refine ggN hx hb hts hown hPF hG 5 2 rfl in_X6 (by decide) (by decide) (by decide) q878 (fun _ h9 => h9) (gC_of (gK_mon hG.1.2 h0p1 (by decide)) (by decide)) (v := va_rf (gR G p1 2)) rfl dX10_check_1 ?_
  obtain ⟨q1, hq1, hw⟩ := hw
  refine W.eq (g2 := F0 m 4 ls [.ref q1]) (by rw [hq1]; rfl) ?_
  have hS2 := hw.1
  replace hw := hw.2
  refine gdstage (rest := []) hx hb hml hts hown q1292 hPF hA hG hS2 hl.1 (lv_room (by (try simp only [List.map, va_rf_cat, gcat_i, gcat_r, gcat_l, gcat_d, gcat_f, gcat_n]); exact Nat.le_of_ble_eq_true rfl)) (Nat.le_of_ble_eq_true rfl) (Nat.le_of_ble_eq_true rfl) (Nat.le_of_ble_eq_true rfl) (Nat.le_of_ble_eq_true rfl) dX10_check_4 (fun H locs hG => ?_)
  refine lv_astore_n (i := 2) (lv' := [(2, .ref (eZ E (gStg G q1))), (0, .ref p0), (1, .ref p1)]) hx hb dX10_check_9 rfl hl (by decide) rfl (fun ls hl => ?_)
  refine lv_aload_n hx hb dX10_check_10 rfl (lv_at hl 0 rfl) ?_
  refine lv_aload_n hx hb dX10_check_11 rfl (lv_at hl 1 rfl) ?_
  refine lv_acmp_ne (rx := (some (eZ E (gStg G q1)))) (ry := (some p0)) (tgt := 19) hx hb dX10_check_12 (by decide) (fun c_ => ?_) (fun c_ => ?_)
  · replace hw := hw.1 c_
    refine lv_iconst (v := 0) hx hb dX10_check_19 (by decide) ?_
    refine lv_iconst (v := 1) hx hb dX10_check_20 (by decide) ?_
    refine lv_aload_n hx hb dX10_check_21 rfl (lv_at hl 0 rfl) ?_
    obtain ⟨k3, hk4, he5, hw⟩ := hw
    refine W.eq (g2 := F0 m 22 ls (.ref (eZ E k3) :: [.int 1, .int 0])) (by rw [he5]) ?_
    refine gordinal (rest := [.int 1, .int 0]) hx hb hml hts hown q1293 hPF hA hG hk4 hl.1 (lv_room (by (try simp only [List.map, va_rf_cat, gcat_i, gcat_r, gcat_l, gcat_d, gcat_f, gcat_n]); exact Nat.le_of_ble_eq_true rfl)) (Nat.le_of_ble_eq_true rfl) (Nat.le_of_ble_eq_true rfl) (Nat.le_of_ble_eq_true rfl) (Nat.le_of_ble_eq_true rfl) dX10_check_22 (fun H locs hG => ?_)
    refine xc3v hA hG (vx_runS (As := [.int 0, .int 1, .int (nI k3)]) (rest := []) ⟨hx, hb, hml, hown, hts⟩ (gm_X4_check l hlt E 0 1 (nI k3) _ _ G hw _) (va_cwS 3 hts (lw_S q1294 q658 q78 q659) rfl rfl rfl hd_X4_check ⟨Nat.le_of_ble_eq_true rfl, Nat.le_of_ble_eq_true rfl⟩) ⟨gblind, fun U hU hW => gpre hPF hA hG _ U hU hW⟩ rfl rfl hl.1 rfl (lv_room (Nat.le_of_ble_eq_true rfl)) dX10_check_25 ⟨(Nat.le_of_ble_eq_true rfl), (Nat.le_of_ble_eq_true rfl)⟩) (fun X ce q Gx H locs hw hmon hG hce hcv hcl => ?_) (fun G6 H locs hw hmon hG => ?_)
    · exact gleave hlk hG (fun x hx9 => (htab x hx9).elim) hce hcv hcl hw (Nat.le_of_ble_eq_true rfl) (Nat.le_of_ble_eq_true rfl)
    · replace hw := hw hmon
      exact xretv hx hb hr hlk hG hw (Nat.le_of_ble_eq_true rfl) (Nat.le_of_ble_eq_true rfl) dX10_check_28
  · replace hw := hw.2 c_
    refine lv_iconst (v := 1) hx hb dX10_check_15 (by decide) ?_
    refine lv_goto (tgt := 20) hx hb dX10_check_16 (by decide) ?_
    refine lv_iconst (v := 1) hx hb dX10_check_20 (by decide) ?_
    refine lv_aload_n hx hb dX10_check_21 rfl (lv_at hl 0 rfl) ?_
    obtain ⟨k7, hk8, he9, hw⟩ := hw
    refine W.eq (g2 := F0 m 22 ls (.ref (eZ E k7) :: [.int 1, .int 1])) (by rw [he9]) ?_
    refine gordinal (rest := [.int 1, .int 1]) hx hb hml hts hown q1293 hPF hA hG hk8 hl.1 (lv_room (by (try simp only [List.map, va_rf_cat, gcat_i, gcat_r, gcat_l, gcat_d, gcat_f, gcat_n]); exact Nat.le_of_ble_eq_true rfl)) (Nat.le_of_ble_eq_true rfl) (Nat.le_of_ble_eq_true rfl) (Nat.le_of_ble_eq_true rfl) (Nat.le_of_ble_eq_true rfl) dX10_check_22 (fun H locs hG => ?_)
    refine xc3v hA hG (vx_runS (As := [.int 1, .int 1, .int (nI k7)]) (rest := []) ⟨hx, hb, hml, hown, hts⟩ (gm_X4_check l hlt E 1 1 (nI k7) _ _ G hw _) (va_cwS 3 hts (lw_S q1294 q658 q78 q659) rfl rfl rfl hd_X4_check ⟨Nat.le_of_ble_eq_true rfl, Nat.le_of_ble_eq_true rfl⟩) ⟨gblind, fun U hU hW => gpre hPF hA hG _ U hU hW⟩ rfl rfl hl.1 rfl (lv_room (Nat.le_of_ble_eq_true rfl)) dX10_check_25 ⟨(Nat.le_of_ble_eq_true rfl), (Nat.le_of_ble_eq_true rfl)⟩) (fun X ce q Gx H locs hw hmon hG hce hcv hcl => ?_) (fun G10 H locs hw hmon hG => ?_)
    · exact gleave hlk hG (fun x hx9 => (htab x hx9).elim) hce hcv hcl hw (Nat.le_of_ble_eq_true rfl) (Nat.le_of_ble_eq_true rfl)
    · replace hw := hw hmon
      exact xretv hx hb hr hlk hG hw (Nat.le_of_ble_eq_true rfl) (Nat.le_of_ble_eq_true rfl) dX10_check_28
def gw_X5_can (E : gE) (post : Int32 → Gh → Prop) (p0 : Nat) (p1 : Nat) (G : Gh) : Prop := gK G p0 = 4 ∧ (gK G p1 = 5 ∧ ((80 < ((gI G p0 2) + (gI G p1 1)) → (post 0 G)) ∧ (¬ 80 < ((gI G p0 2) + (gI G p1 1)) → (post 1 G))))
theorem hd_X5_can : yX5_can.cls = RX5 ∧ yX5_can.cls ≠ "java/lang/invoke/MethodHandle" ∧ yX5_can.cls ≠ "java/lang/invoke/VarHandle" ∧ (parseMethodDescriptor yX5_can.desc).map (fun d => d.parameters.length) = some 1 := by decide +kernel
theorem hdn_X5_can : yX5_can.cls ≠ "java/lang/invoke/MethodHandle" ∧ yX5_can.cls ≠ "java/lang/invoke/VarHandle" ∧ (parseMethodDescriptor yX5_can.desc).map (fun d => d.parameters.length) = some 1 := hd_X5_can.2
theorem hdu_X5_can : RX5 ≠ "java/lang/invoke/MethodHandle" ∧ RX5 ≠ "java/lang/invoke/VarHandle" ∧ (parseMethodDescriptor yX5_can.desc).map (fun d => d.parameters.length) = some 1 := by decide +kernel
theorem hds_X5_can : yX5_can.name ≠ "<init>" ∧ (parseMethodDescriptor yX5_can.desc).map (fun d => d.parameters.length) = some 1 := by decide +kernel
set_option maxHeartbeats 1000000 in
set_option maxRecDepth 100000 in
theorem gm_X5_can (l : Launch) (E : gE) (p0 : Nat) (p1 : Nat) (post : Int32 → Gh → Prop) (G : Gh) (hw : gw_X5_can E post p0 p1 G) : gM l E yX5_can (ws_ yX5_can cX5_can 2 (some .boolean)) ({ frames := 0, cells := 0, slots := 0, locals := 0 } : Room) 0 0 [.ref p0, .ref p1] G (gpi post) := by
  refine gof (by decide) (Nat.le_of_ble_eq_true rfl) ?_
  intro p e s m below meth c A ls hx hb hr hlk hml hown hin hts hPF hA hG hl
  have hl : lv_has ls 2 [(0, .ref p0), (1, .ref p1)] := hl
  unfold gw_X5_can at hw
  obtain ⟨G0, hG0⟩ : ∃ G0, G0 = G := ⟨_, rfl⟩
  have hG : gS E A G0 s.heap G s.heap [] := by rw [hG0]; exact hG
  rw [show gQ E A G (gpi post) = gQ E A G0 (gpi post) by rw [hG0]]
  have h0p0 := hw.1; rw [← hG0] at h0p0
  replace hw := hw.2
  have h0p1 := hw.1; rw [← hG0] at h0p1
  replace hw := hw.2
  refine lv_aload_n hx hb dX5_can_0 rfl (lv_at hl 0 rfl) ?_
  refine gg hx hb hts hown hPF hG 4 2 rfl in_X5 (by decide) (by decide) (by decide) q775 (fun _ h9 => h9) (gC_of (gK_mon hG.1.2 h0p0 (by decide)) (by decide)) (v := .int (gI G p0 2)) rfl dX5_can_1 ?_
  refine lv_aload_n hx hb dX5_can_4 rfl (lv_at hl 1 rfl) ?_
  refine ggN hx hb hts hown hPF hG 5 1 rfl in_X6 (by decide) (by decide) (by decide) q874 (fun _ h9 => h9) (gC_of (gK_mon hG.1.2 h0p1 (by decide)) (by decide)) (v := .int (gI G p1 1)) rfl dX5_can_5 ?_
  refine lv_iadd hx hb dX5_can_8 ?_
  refine lv_bipush (v := 80) hx hb dX5_can_9 (by decide) ?_
  refine lv_icmp_gt (tgt := 18) hx hb dX5_can_11 (by decide) (fun c_ => ?_) (fun c_ => ?_)
  · replace hw := hw.1 c_
    refine lv_iconst (v := 0) hx hb dX5_can_18 (by decide) ?_
    exact greti hx hb hr hlk hG rfl hw (Nat.le_of_ble_eq_true rfl) (Nat.le_of_ble_eq_true rfl) dX5_can_19
  · replace hw := hw.2 c_
    refine lv_iconst (v := 1) hx hb dX5_can_14 (by decide) ?_
    refine lv_goto (tgt := 19) hx hb dX5_can_15 (by decide) ?_
    exact greti hx hb hr hlk hG rfl hw (Nat.le_of_ble_eq_true rfl) (Nat.le_of_ble_eq_true rfl) dX5_can_19
def gw_X1_lambda_account_15 (E : gE) (post : Int32 → Gh → Prop) (p0 : Nat) (G : Gh) : Prop := gK G p0 = 5 ∧ (∃ q1, (gR G p0 2) = some q1 ∧ (gSt G q1 ∧ ((gK G q1 = 11 → (post 1 G)) ∧ (¬ gK G q1 = 11 → (post 0 G)))))
theorem hd_X1_lambda_account_15 : yX1_lambda_account_15.cls ≠ "java/lang/invoke/MethodHandle" ∧ yX1_lambda_account_15.cls ≠ "java/lang/invoke/VarHandle" ∧ (parseMethodDescriptor yX1_lambda_account_15.desc).map (fun d => d.parameters.length) = some 1 := by decide +kernel
set_option maxHeartbeats 1000000 in
set_option maxRecDepth 100000 in
theorem gm_X1_lambda_account_15 (l : Launch) (E : gE) (p0 : Nat) (post : Int32 → Gh → Prop) (G : Gh) (hw : gw_X1_lambda_account_15 E post p0 G) : gM l E yX1_lambda_account_15 (ws_ yX1_lambda_account_15 cX1_lambda_account_15 1 (some .boolean)) ({ frames := 0, cells := 0, slots := 0, locals := 0 } : Room) 0 0 [.ref p0] G (gpi post) := by
  refine gof (by decide) (Nat.le_of_ble_eq_true rfl) ?_
  intro p e s m below meth c A ls hx hb hr hlk hml hown hin hts hPF hA hG hl
  have hl : lv_has ls 1 [(0, .ref p0)] := hl
  unfold gw_X1_lambda_account_15 at hw
  obtain ⟨G0, hG0⟩ : ∃ G0, G0 = G := ⟨_, rfl⟩
  have hG : gS E A G0 s.heap G s.heap [] := by rw [hG0]; exact hG
  rw [show gQ E A G (gpi post) = gQ E A G0 (gpi post) by rw [hG0]]
  have h0p0 := hw.1; rw [← hG0] at h0p0
  replace hw := hw.2
  refine lv_aload_n hx hb dX1_lambda_account_15_0 rfl (lv_at hl 0 rfl) ?_
  refine ggN hx hb hts hown hPF hG 5 2 rfl in_X6 (by decide) (by decide) (by decide) q880 (fun _ h9 => h9) (gC_of (gK_mon hG.1.2 h0p0 (by decide)) (by decide)) (v := va_rf (gR G p0 2)) rfl dX1_lambda_account_15_1 ?_
  obtain ⟨q1, hq1, hw⟩ := hw
  refine W.eq (g2 := F0 m 4 ls [.ref q1]) (by rw [hq1]; rfl) ?_
  have hS2 := hw.1
  replace hw := hw.2
  refine ginst11 hx hb hts hown q1676 hPF hG hS2 dX1_lambda_account_15_4 (fun hk3 => ?_) (fun hk3 => ?_)
  · replace hw := hw.1 hk3
    exact greti hx hb hr hlk hG rfl hw (Nat.le_of_ble_eq_true rfl) (Nat.le_of_ble_eq_true rfl) dX1_lambda_account_15_7
  · replace hw := hw.2 hk3
    exact greti hx hb hr hlk hG rfl hw (Nat.le_of_ble_eq_true rfl) (Nat.le_of_ble_eq_true rfl) dX1_lambda_account_15_7
def gw_X1_lambda_meanWell_16 (E : gE) (post : Int32 → Gh → Prop) (p0 : Nat) (G : Gh) : Prop := gK G p0 = 5 ∧ (∃ q1, (gR G p0 2) = some q1 ∧ (gSt G q1 ∧ ((gK G q1 = 6 → (post 0 G)) ∧ (¬ gK G q1 = 6 → (post 1 G)))))
theorem hd_X1_lambda_meanWell_16 : yX1_lambda_meanWell_16.cls ≠ "java/lang/invoke/MethodHandle" ∧ yX1_lambda_meanWell_16.cls ≠ "java/lang/invoke/VarHandle" ∧ (parseMethodDescriptor yX1_lambda_meanWell_16.desc).map (fun d => d.parameters.length) = some 1 := by decide +kernel
set_option maxHeartbeats 1000000 in
set_option maxRecDepth 100000 in
theorem gm_X1_lambda_meanWell_16 (l : Launch) (E : gE) (p0 : Nat) (post : Int32 → Gh → Prop) (G : Gh) (hw : gw_X1_lambda_meanWell_16 E post p0 G) : gM l E yX1_lambda_meanWell_16 (ws_ yX1_lambda_meanWell_16 cX1_lambda_meanWell_16 1 (some .boolean)) ({ frames := 0, cells := 0, slots := 0, locals := 0 } : Room) 0 0 [.ref p0] G (gpi post) := by
  refine gof (by decide) (Nat.le_of_ble_eq_true rfl) ?_
  intro p e s m below meth c A ls hx hb hr hlk hml hown hin hts hPF hA hG hl
  have hl : lv_has ls 1 [(0, .ref p0)] := hl
  unfold gw_X1_lambda_meanWell_16 at hw
  obtain ⟨G0, hG0⟩ : ∃ G0, G0 = G := ⟨_, rfl⟩
  have hG : gS E A G0 s.heap G s.heap [] := by rw [hG0]; exact hG
  rw [show gQ E A G (gpi post) = gQ E A G0 (gpi post) by rw [hG0]]
  have h0p0 := hw.1; rw [← hG0] at h0p0
  replace hw := hw.2
  refine lv_aload_n hx hb dX1_lambda_meanWell_16_0 rfl (lv_at hl 0 rfl) ?_
  refine ggN hx hb hts hown hPF hG 5 2 rfl in_X6 (by decide) (by decide) (by decide) q880 (fun _ h9 => h9) (gC_of (gK_mon hG.1.2 h0p0 (by decide)) (by decide)) (v := va_rf (gR G p0 2)) rfl dX1_lambda_meanWell_16_1 ?_
  obtain ⟨q1, hq1, hw⟩ := hw
  refine W.eq (g2 := F0 m 4 ls [.ref q1]) (by rw [hq1]; rfl) ?_
  have hS2 := hw.1
  replace hw := hw.2
  refine ginst6 hx hb hts hown q1713 hPF hG hS2 dX1_lambda_meanWell_16_4 (fun hk3 => ?_) (fun hk3 => ?_)
  · replace hw := hw.1 hk3
    refine lv_if_ne (tgt := 14) hx hb dX1_lambda_meanWell_16_7 (by decide) (fun c_ => ?_) (fun c_ => absurd c_ (by decide))
    refine lv_iconst (v := 0) hx hb dX1_lambda_meanWell_16_14 (by decide) ?_
    exact greti hx hb hr hlk hG rfl hw (Nat.le_of_ble_eq_true rfl) (Nat.le_of_ble_eq_true rfl) dX1_lambda_meanWell_16_15
  · replace hw := hw.2 hk3
    refine lv_if_ne (tgt := 14) hx hb dX1_lambda_meanWell_16_7 (by decide) (fun c_ => absurd c_ (by decide)) (fun c_ => ?_)
    refine lv_iconst (v := 1) hx hb dX1_lambda_meanWell_16_10 (by decide) ?_
    refine lv_goto (tgt := 15) hx hb dX1_lambda_meanWell_16_11 (by decide) ?_
    exact greti hx hb hr hlk hG rfl hw (Nat.le_of_ble_eq_true rfl) (Nat.le_of_ble_eq_true rfl) dX1_lambda_meanWell_16_15
def gw_X2_lambda_burning_3 (E : gE) (post : Int32 → Gh → Prop) (p0 : Nat) (G : Gh) : Prop := gK G p0 = 5 ∧ (∃ q1, (gR G p0 2) = some q1 ∧ (gSt G q1 ∧ ((gK G q1 = 10 → (post 1 G)) ∧ (¬ gK G q1 = 10 → (post 0 G)))))
theorem hd_X2_lambda_burning_3 : yX2_lambda_burning_3.cls ≠ "java/lang/invoke/MethodHandle" ∧ yX2_lambda_burning_3.cls ≠ "java/lang/invoke/VarHandle" ∧ (parseMethodDescriptor yX2_lambda_burning_3.desc).map (fun d => d.parameters.length) = some 1 := by decide +kernel
set_option maxHeartbeats 1000000 in
set_option maxRecDepth 100000 in
theorem gm_X2_lambda_burning_3 (l : Launch) (E : gE) (p0 : Nat) (post : Int32 → Gh → Prop) (G : Gh) (hw : gw_X2_lambda_burning_3 E post p0 G) : gM l E yX2_lambda_burning_3 (ws_ yX2_lambda_burning_3 cX2_lambda_burning_3 1 (some .boolean)) ({ frames := 0, cells := 0, slots := 0, locals := 0 } : Room) 0 0 [.ref p0] G (gpi post) := by
  refine gof (by decide) (Nat.le_of_ble_eq_true rfl) ?_
  intro p e s m below meth c A ls hx hb hr hlk hml hown hin hts hPF hA hG hl
  have hl : lv_has ls 1 [(0, .ref p0)] := hl
  unfold gw_X2_lambda_burning_3 at hw
  obtain ⟨G0, hG0⟩ : ∃ G0, G0 = G := ⟨_, rfl⟩
  have hG : gS E A G0 s.heap G s.heap [] := by rw [hG0]; exact hG
  rw [show gQ E A G (gpi post) = gQ E A G0 (gpi post) by rw [hG0]]
  have h0p0 := hw.1; rw [← hG0] at h0p0
  replace hw := hw.2
  refine lv_aload_n hx hb dX2_lambda_burning_3_0 rfl (lv_at hl 0 rfl) ?_
  refine ggN hx hb hts hown hPF hG 5 2 rfl in_X6 (by decide) (by decide) (by decide) q879 (fun _ h9 => h9) (gC_of (gK_mon hG.1.2 h0p0 (by decide)) (by decide)) (v := va_rf (gR G p0 2)) rfl dX2_lambda_burning_3_1 ?_
  obtain ⟨q1, hq1, hw⟩ := hw
  refine W.eq (g2 := F0 m 4 ls [.ref q1]) (by rw [hq1]; rfl) ?_
  have hS2 := hw.1
  replace hw := hw.2
  refine ginst10 hx hb hts hown q1360 hPF hG hS2 dX2_lambda_burning_3_4 (fun hk3 => ?_) (fun hk3 => ?_)
  · replace hw := hw.1 hk3
    exact greti hx hb hr hlk hG rfl hw (Nat.le_of_ble_eq_true rfl) (Nat.le_of_ble_eq_true rfl) dX2_lambda_burning_3_7
  · replace hw := hw.2 hk3
    exact greti hx hb hr hlk hG rfl hw (Nat.le_of_ble_eq_true rfl) (Nat.le_of_ble_eq_true rfl) dX2_lambda_burning_3_7
def gw_X2_lambda_platesOf_0 (E : gE) (post : Int32 → Gh → Prop) (p0 : Nat) (G : Gh) : Prop := gK G p0 = 5 ∧ (post (gI G p0 1) G)
theorem hd_X2_lambda_platesOf_0 : yX2_lambda_platesOf_0.cls ≠ "java/lang/invoke/MethodHandle" ∧ yX2_lambda_platesOf_0.cls ≠ "java/lang/invoke/VarHandle" ∧ (parseMethodDescriptor yX2_lambda_platesOf_0.desc).map (fun d => d.parameters.length) = some 1 := by decide +kernel
set_option maxHeartbeats 1000000 in
set_option maxRecDepth 100000 in
theorem gm_X2_lambda_platesOf_0 (l : Launch) (E : gE) (p0 : Nat) (post : Int32 → Gh → Prop) (G : Gh) (hw : gw_X2_lambda_platesOf_0 E post p0 G) : gM l E yX2_lambda_platesOf_0 (ws_ yX2_lambda_platesOf_0 cX2_lambda_platesOf_0 1 (some .int)) ({ frames := 0, cells := 0, slots := 0, locals := 0 } : Room) 0 0 [.ref p0] G (gpi post) := by
  refine gof (by decide) (Nat.le_of_ble_eq_true rfl) ?_
  intro p e s m below meth c A ls hx hb hr hlk hml hown hin hts hPF hA hG hl
  have hl : lv_has ls 1 [(0, .ref p0)] := hl
  unfold gw_X2_lambda_platesOf_0 at hw
  obtain ⟨G0, hG0⟩ : ∃ G0, G0 = G := ⟨_, rfl⟩
  have hG : gS E A G0 s.heap G s.heap [] := by rw [hG0]; exact hG
  rw [show gQ E A G (gpi post) = gQ E A G0 (gpi post) by rw [hG0]]
  have h0p0 := hw.1; rw [← hG0] at h0p0
  replace hw := hw.2
  refine lv_aload_n hx hb dX2_lambda_platesOf_0_0 rfl (lv_at hl 0 rfl) ?_
  refine ggN hx hb hts hown hPF hG 5 1 rfl in_X6 (by decide) (by decide) (by decide) q875 (fun _ h9 => h9) (gC_of (gK_mon hG.1.2 h0p0 (by decide)) (by decide)) (v := .int (gI G p0 1)) rfl dX2_lambda_platesOf_0_1 ?_
  exact greti hx hb hr hlk hG rfl hw (Nat.le_of_ble_eq_true rfl) (Nat.le_of_ble_eq_true rfl) dX2_lambda_platesOf_0_4
